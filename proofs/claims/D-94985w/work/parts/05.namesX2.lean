/-! BreathOnLoanModel -/
set_option maxRecDepth 100000
def RX2 : String := "BreathOnLoanModel"
def TX2 : u_T := fun k => match k with
  | 0 => ("BreathOnLoanModel", "a", "[I", true)
  | 1 => ("BreathOnLoanModel", "image", "[I", true)
  | 2 => ("BreathOnLoanModel", "texts", "[I", true)
  | 3 => ("BreathOnLoanModel", "tape", "[I", true)
  | 4 => ("BreathOnLoanModel", "taped", "I", false)
  | 5 => ("BreathOnLoanModel", "fault", "I", false)
  | 6 => ("BreathOnLoanModel", "faultPlace", "I", false)
  | 7 => ("BreathOnLoanModel", "at", "I", false)
  | 8 => ("BreathOnLoanModel", "place", "I", false)
  | 9 => ("BreathOnLoanModel", "token", "I", false)
  | 10 => ("BreathOnLoanModel", "number", "I", false)
  | 11 => ("BreathOnLoanModel", "word", "J", false)
  | 12 => ("BreathOnLoanModel", "text0", "I", false)
  | 13 => ("BreathOnLoanModel", "clauses", "I", false)
  | 14 => ("BreathOnLoanModel", "written", "I", false)
  | 15 => ("BreathOnLoanModel", "came", "I", false)
  | 16 => ("BreathOnLoanModel", "pile", "[I", true)
  | 17 => ("BreathOnLoanModel", "piled", "I", false)
  | 18 => ("BreathOnLoanModel", "opens", "I", false)
  | 19 => ("BreathOnLoanModel", "isWhole", "Z", false)
  | 20 => ("BreathOnLoanModel", "sort0", "I", false)
  | 21 => ("BreathOnLoanModel", "once", "I", false)
  | 22 => ("BreathOnLoanModel", "named", "[I", true)
  | 23 => ("BreathOnLoanModel", "values", "[J", true)
  | 24 => ("BreathOnLoanModel", "truth", "[Z", true)
  | 25 => ("BreathOnLoanModel", "shares", "[I", true)
  | 26 => ("BreathOnLoanModel", "left", "[I", true)
  | 27 => ("BreathOnLoanModel", "works", "[I", true)
  | 28 => ("BreathOnLoanModel", "gain", "I", false)
  | 29 => ("BreathOnLoanModel", "behind", "I", false)
  | 30 => ("BreathOnLoanModel", "smokes", "[I", true)
  | _ => ("BreathOnLoanModel", "costs", "[I", true)
def tyX2 : Nat → FieldType := fun k => match k with
  | 0 => .array .int
  | 1 => .array .int
  | 2 => .array .int
  | 3 => .array .int
  | 4 => .int
  | 5 => .int
  | 6 => .int
  | 7 => .int
  | 8 => .int
  | 9 => .int
  | 10 => .int
  | 11 => .long
  | 12 => .int
  | 13 => .int
  | 14 => .int
  | 15 => .int
  | 16 => .array .int
  | 17 => .int
  | 18 => .int
  | 19 => .boolean
  | 20 => .int
  | 21 => .int
  | 22 => .array .int
  | 23 => .array .long
  | 24 => .array .boolean
  | 25 => .array .int
  | 26 => .array .int
  | 27 => .array .int
  | 28 => .int
  | 29 => .int
  | 30 => .array .int
  | _ => .array .int
abbrev wsX20 : List Cond := u_ws RX2 TX2 32
set_option maxRecDepth 100000 in
theorem nmX2 : ∀ a, a < 32 → ∀ b, b < 32 → a ≠ b → (TX2 a).2.1 ≠ (TX2 b).2.1 := by decide +kernel
set_option maxRecDepth 100000 in
theorem tyX2_ok : ∀ k, k < 32 → parseFieldDescriptor (TX2 k).2.2.1 = some (tyX2 k) := by decide +kernel
abbrev cX2_init : ByteArray := prog_18_method_1_code
def yX2_init : MethodName := ⟨RX2, "<init>", "()V"⟩
def dkwX2_init_6 : List UInt8 := [180, 0, 13, 184, 0, 58, 177]
abbrev dktX2_init_6 : List UInt8 := dkwX2_init_6 ++ []
def dkwX2_init_5 : List UInt8 := [181, 0, 52, 42, 17, 0, 144, 188, 10, 181, 0, 55, 42, 180, 0, 7, 8, 2, 79, 42, 180, 0, 7, 42]
abbrev dktX2_init_5 : List UInt8 := dkwX2_init_5 ++ dktX2_init_6
def dkwX2_init_4 : List UInt8 := [17, 6, 128, 188, 10, 181, 0, 46, 42, 17, 6, 128, 188, 10, 181, 0, 49, 42, 16, 24, 188, 10]
abbrev dktX2_init_4 : List UInt8 := dkwX2_init_4 ++ dktX2_init_5
def dkwX2_init_3 : List UInt8 := [188, 11, 181, 0, 35, 42, 17, 1, 74, 188, 4, 181, 0, 39, 42, 16, 6, 188, 10, 181, 0, 43, 42]
abbrev dktX2_init_3 : List UInt8 := dkwX2_init_3 ++ dktX2_init_4
def dkwX2_init_2 : List UInt8 := [181, 0, 26, 42, 17, 0, 160, 188, 10, 181, 0, 29, 42, 16, 11, 188, 10, 181, 0, 32, 42, 17, 1, 74]
abbrev dktX2_init_2 : List UInt8 := dkwX2_init_2 ++ dktX2_init_3
def dkwX2_init_1 : List UInt8 := [17, 10, 160, 188, 10, 181, 0, 16, 42, 17, 1, 44, 188, 10, 181, 0, 19, 42, 2, 181, 0, 22, 42, 2]
abbrev dktX2_init_1 : List UInt8 := dkwX2_init_1 ++ dktX2_init_2
def dkwX2_init_0 : List UInt8 := [42, 183, 0, 1, 42, 17, 15, 50, 188, 10, 181, 0, 7, 42, 17, 15, 50, 188, 10, 181, 0, 13, 42]
abbrev dktX2_init_0 : List UInt8 := dkwX2_init_0 ++ dktX2_init_1
theorem dksX2_init_0 : cX2_init.data.toList.drop 0 = dktX2_init_0 := by decide +kernel
theorem dksX2_init_1 : cX2_init.data.toList.drop 23 = dktX2_init_1 := dk_seg dksX2_init_0 23 rfl rfl
theorem dksX2_init_2 : cX2_init.data.toList.drop 47 = dktX2_init_2 := dk_seg dksX2_init_1 24 rfl rfl
theorem dksX2_init_3 : cX2_init.data.toList.drop 71 = dktX2_init_3 := dk_seg dksX2_init_2 24 rfl rfl
theorem dksX2_init_4 : cX2_init.data.toList.drop 94 = dktX2_init_4 := dk_seg dksX2_init_3 23 rfl rfl
theorem dksX2_init_5 : cX2_init.data.toList.drop 116 = dktX2_init_5 := dk_seg dksX2_init_4 22 rfl rfl
theorem dksX2_init_6 : cX2_init.data.toList.drop 140 = dktX2_init_6 := dk_seg dksX2_init_5 24 rfl rfl
theorem dX2_init_0 : decode cX2_init 0 = .ok (.aload_n 0, 1) := dk_42 (dk_at dksX2_init_0 0 rfl rfl)
theorem dX2_init_1 : decode cX2_init 1 = .ok (.invokespecial 1, 3) := dk_183 0 1 (dk_at dksX2_init_0 1 rfl rfl)
theorem dX2_init_4 : decode cX2_init 4 = .ok (.aload_n 0, 1) := dk_42 (dk_at dksX2_init_0 4 rfl rfl)
theorem dX2_init_5 : decode cX2_init 5 = .ok (.sipush 3890, 3) := dk_17 15 50 (dk_at dksX2_init_0 5 rfl rfl)
theorem dX2_init_8 : decode cX2_init 8 = .ok (.newarray .int, 2) := dk_188_10 (dk_at dksX2_init_0 8 rfl rfl)
theorem dX2_init_10 : decode cX2_init 10 = .ok (.putfield 7, 3) := dk_181 0 7 (dk_at dksX2_init_0 10 rfl rfl)
theorem dX2_init_13 : decode cX2_init 13 = .ok (.aload_n 0, 1) := dk_42 (dk_at dksX2_init_0 13 rfl rfl)
theorem dX2_init_14 : decode cX2_init 14 = .ok (.sipush 3890, 3) := dk_17 15 50 (dk_at dksX2_init_0 14 rfl rfl)
theorem dX2_init_17 : decode cX2_init 17 = .ok (.newarray .int, 2) := dk_188_10 (dk_at dksX2_init_0 17 rfl rfl)
theorem dX2_init_19 : decode cX2_init 19 = .ok (.putfield 13, 3) := dk_181 0 13 (dk_at dksX2_init_0 19 rfl rfl)
theorem dX2_init_22 : decode cX2_init 22 = .ok (.aload_n 0, 1) := dk_42 (dk_at dksX2_init_0 22 rfl rfl)
theorem dX2_init_23 : decode cX2_init 23 = .ok (.sipush 2720, 3) := dk_17 10 160 (dk_at dksX2_init_1 0 rfl rfl)
theorem dX2_init_26 : decode cX2_init 26 = .ok (.newarray .int, 2) := dk_188_10 (dk_at dksX2_init_1 3 rfl rfl)
theorem dX2_init_28 : decode cX2_init 28 = .ok (.putfield 16, 3) := dk_181 0 16 (dk_at dksX2_init_1 5 rfl rfl)
theorem dX2_init_31 : decode cX2_init 31 = .ok (.aload_n 0, 1) := dk_42 (dk_at dksX2_init_1 8 rfl rfl)
theorem dX2_init_32 : decode cX2_init 32 = .ok (.sipush 300, 3) := dk_17 1 44 (dk_at dksX2_init_1 9 rfl rfl)
theorem dX2_init_35 : decode cX2_init 35 = .ok (.newarray .int, 2) := dk_188_10 (dk_at dksX2_init_1 12 rfl rfl)
theorem dX2_init_37 : decode cX2_init 37 = .ok (.putfield 19, 3) := dk_181 0 19 (dk_at dksX2_init_1 14 rfl rfl)
theorem dX2_init_40 : decode cX2_init 40 = .ok (.aload_n 0, 1) := dk_42 (dk_at dksX2_init_1 17 rfl rfl)
theorem dX2_init_41 : decode cX2_init 41 = .ok (.iconst (-1), 1) := dk_2 (dk_at dksX2_init_1 18 rfl rfl)
theorem dX2_init_42 : decode cX2_init 42 = .ok (.putfield 22, 3) := dk_181 0 22 (dk_at dksX2_init_1 19 rfl rfl)
theorem dX2_init_45 : decode cX2_init 45 = .ok (.aload_n 0, 1) := dk_42 (dk_at dksX2_init_1 22 rfl rfl)
theorem dX2_init_46 : decode cX2_init 46 = .ok (.iconst (-1), 1) := dk_2 (dk_at dksX2_init_1 23 rfl rfl)
theorem dX2_init_47 : decode cX2_init 47 = .ok (.putfield 26, 3) := dk_181 0 26 (dk_at dksX2_init_2 0 rfl rfl)
theorem dX2_init_50 : decode cX2_init 50 = .ok (.aload_n 0, 1) := dk_42 (dk_at dksX2_init_2 3 rfl rfl)
theorem dX2_init_51 : decode cX2_init 51 = .ok (.sipush 160, 3) := dk_17 0 160 (dk_at dksX2_init_2 4 rfl rfl)
theorem dX2_init_54 : decode cX2_init 54 = .ok (.newarray .int, 2) := dk_188_10 (dk_at dksX2_init_2 7 rfl rfl)
theorem dX2_init_56 : decode cX2_init 56 = .ok (.putfield 29, 3) := dk_181 0 29 (dk_at dksX2_init_2 9 rfl rfl)
theorem dX2_init_59 : decode cX2_init 59 = .ok (.aload_n 0, 1) := dk_42 (dk_at dksX2_init_2 12 rfl rfl)
theorem dX2_init_60 : decode cX2_init 60 = .ok (.bipush 11, 2) := dk_16 11 (dk_at dksX2_init_2 13 rfl rfl)
theorem dX2_init_62 : decode cX2_init 62 = .ok (.newarray .int, 2) := dk_188_10 (dk_at dksX2_init_2 15 rfl rfl)
theorem dX2_init_64 : decode cX2_init 64 = .ok (.putfield 32, 3) := dk_181 0 32 (dk_at dksX2_init_2 17 rfl rfl)
theorem dX2_init_67 : decode cX2_init 67 = .ok (.aload_n 0, 1) := dk_42 (dk_at dksX2_init_2 20 rfl rfl)
theorem dX2_init_68 : decode cX2_init 68 = .ok (.sipush 330, 3) := dk_17 1 74 (dk_at dksX2_init_2 21 rfl rfl)
theorem dX2_init_71 : decode cX2_init 71 = .ok (.newarray .long, 2) := dk_188_11 (dk_at dksX2_init_3 0 rfl rfl)
theorem dX2_init_73 : decode cX2_init 73 = .ok (.putfield 35, 3) := dk_181 0 35 (dk_at dksX2_init_3 2 rfl rfl)
theorem dX2_init_76 : decode cX2_init 76 = .ok (.aload_n 0, 1) := dk_42 (dk_at dksX2_init_3 5 rfl rfl)
theorem dX2_init_77 : decode cX2_init 77 = .ok (.sipush 330, 3) := dk_17 1 74 (dk_at dksX2_init_3 6 rfl rfl)
theorem dX2_init_80 : decode cX2_init 80 = .ok (.newarray .boolean, 2) := dk_188_4 (dk_at dksX2_init_3 9 rfl rfl)
theorem dX2_init_82 : decode cX2_init 82 = .ok (.putfield 39, 3) := dk_181 0 39 (dk_at dksX2_init_3 11 rfl rfl)
theorem dX2_init_85 : decode cX2_init 85 = .ok (.aload_n 0, 1) := dk_42 (dk_at dksX2_init_3 14 rfl rfl)
theorem dX2_init_86 : decode cX2_init 86 = .ok (.bipush 6, 2) := dk_16 6 (dk_at dksX2_init_3 15 rfl rfl)
theorem dX2_init_88 : decode cX2_init 88 = .ok (.newarray .int, 2) := dk_188_10 (dk_at dksX2_init_3 17 rfl rfl)
theorem dX2_init_90 : decode cX2_init 90 = .ok (.putfield 43, 3) := dk_181 0 43 (dk_at dksX2_init_3 19 rfl rfl)
theorem dX2_init_93 : decode cX2_init 93 = .ok (.aload_n 0, 1) := dk_42 (dk_at dksX2_init_3 22 rfl rfl)
theorem dX2_init_94 : decode cX2_init 94 = .ok (.sipush 1664, 3) := dk_17 6 128 (dk_at dksX2_init_4 0 rfl rfl)
theorem dX2_init_97 : decode cX2_init 97 = .ok (.newarray .int, 2) := dk_188_10 (dk_at dksX2_init_4 3 rfl rfl)
theorem dX2_init_99 : decode cX2_init 99 = .ok (.putfield 46, 3) := dk_181 0 46 (dk_at dksX2_init_4 5 rfl rfl)
theorem dX2_init_102 : decode cX2_init 102 = .ok (.aload_n 0, 1) := dk_42 (dk_at dksX2_init_4 8 rfl rfl)
theorem dX2_init_103 : decode cX2_init 103 = .ok (.sipush 1664, 3) := dk_17 6 128 (dk_at dksX2_init_4 9 rfl rfl)
theorem dX2_init_106 : decode cX2_init 106 = .ok (.newarray .int, 2) := dk_188_10 (dk_at dksX2_init_4 12 rfl rfl)
theorem dX2_init_108 : decode cX2_init 108 = .ok (.putfield 49, 3) := dk_181 0 49 (dk_at dksX2_init_4 14 rfl rfl)
theorem dX2_init_111 : decode cX2_init 111 = .ok (.aload_n 0, 1) := dk_42 (dk_at dksX2_init_4 17 rfl rfl)
theorem dX2_init_112 : decode cX2_init 112 = .ok (.bipush 24, 2) := dk_16 24 (dk_at dksX2_init_4 18 rfl rfl)
theorem dX2_init_114 : decode cX2_init 114 = .ok (.newarray .int, 2) := dk_188_10 (dk_at dksX2_init_4 20 rfl rfl)
theorem dX2_init_116 : decode cX2_init 116 = .ok (.putfield 52, 3) := dk_181 0 52 (dk_at dksX2_init_5 0 rfl rfl)
theorem dX2_init_119 : decode cX2_init 119 = .ok (.aload_n 0, 1) := dk_42 (dk_at dksX2_init_5 3 rfl rfl)
theorem dX2_init_120 : decode cX2_init 120 = .ok (.sipush 144, 3) := dk_17 0 144 (dk_at dksX2_init_5 4 rfl rfl)
theorem dX2_init_123 : decode cX2_init 123 = .ok (.newarray .int, 2) := dk_188_10 (dk_at dksX2_init_5 7 rfl rfl)
theorem dX2_init_125 : decode cX2_init 125 = .ok (.putfield 55, 3) := dk_181 0 55 (dk_at dksX2_init_5 9 rfl rfl)
theorem dX2_init_128 : decode cX2_init 128 = .ok (.aload_n 0, 1) := dk_42 (dk_at dksX2_init_5 12 rfl rfl)
theorem dX2_init_129 : decode cX2_init 129 = .ok (.getfield 7, 3) := dk_180 0 7 (dk_at dksX2_init_5 13 rfl rfl)
theorem dX2_init_132 : decode cX2_init 132 = .ok (.iconst 5, 1) := dk_8 (dk_at dksX2_init_5 16 rfl rfl)
theorem dX2_init_133 : decode cX2_init 133 = .ok (.iconst (-1), 1) := dk_2 (dk_at dksX2_init_5 17 rfl rfl)
theorem dX2_init_134 : decode cX2_init 134 = .ok (.iastore, 1) := dk_79 (dk_at dksX2_init_5 18 rfl rfl)
theorem dX2_init_135 : decode cX2_init 135 = .ok (.aload_n 0, 1) := dk_42 (dk_at dksX2_init_5 19 rfl rfl)
theorem dX2_init_136 : decode cX2_init 136 = .ok (.getfield 7, 3) := dk_180 0 7 (dk_at dksX2_init_5 20 rfl rfl)
theorem dX2_init_139 : decode cX2_init 139 = .ok (.aload_n 0, 1) := dk_42 (dk_at dksX2_init_5 23 rfl rfl)
theorem dX2_init_140 : decode cX2_init 140 = .ok (.getfield 13, 3) := dk_180 0 13 (dk_at dksX2_init_6 0 rfl rfl)
theorem dX2_init_143 : decode cX2_init 143 = .ok (.invokestatic 58, 3) := dk_184 0 58 (dk_at dksX2_init_6 3 rfl rfl)
theorem dX2_init_146 : decode cX2_init 146 = .ok (.return_, 1) := dk_177 (dk_at dksX2_init_6 6 rfl rfl)
abbrev cX2_copy : ByteArray := prog_18_method_2_code
def yX2_copy : MethodName := ⟨RX2, "copy", "([I[I)V"⟩
def dkwX2_copy_0 : List UInt8 := [3, 61, 28, 17, 15, 50, 162, 0, 15, 43, 28, 42, 28, 46, 79, 132, 2, 1, 167, 255, 240, 177]
abbrev dktX2_copy_0 : List UInt8 := dkwX2_copy_0 ++ []
theorem dksX2_copy_0 : cX2_copy.data.toList.drop 0 = dktX2_copy_0 := by decide +kernel
theorem dX2_copy_0 : decode cX2_copy 0 = .ok (.iconst 0, 1) := dk_3 (dk_at dksX2_copy_0 0 rfl rfl)
theorem dX2_copy_1 : decode cX2_copy 1 = .ok (.istore_n 2, 1) := dk_61 (dk_at dksX2_copy_0 1 rfl rfl)
theorem dX2_copy_2 : decode cX2_copy 2 = .ok (.iload_n 2, 1) := dk_28 (dk_at dksX2_copy_0 2 rfl rfl)
theorem dX2_copy_3 : decode cX2_copy 3 = .ok (.sipush 3890, 3) := dk_17 15 50 (dk_at dksX2_copy_0 3 rfl rfl)
theorem dX2_copy_6 : decode cX2_copy 6 = .ok (.if_icmp .ge 15, 3) := dk_162 0 15 (dk_at dksX2_copy_0 6 rfl rfl)
theorem dX2_copy_9 : decode cX2_copy 9 = .ok (.aload_n 1, 1) := dk_43 (dk_at dksX2_copy_0 9 rfl rfl)
theorem dX2_copy_10 : decode cX2_copy 10 = .ok (.iload_n 2, 1) := dk_28 (dk_at dksX2_copy_0 10 rfl rfl)
theorem dX2_copy_11 : decode cX2_copy 11 = .ok (.aload_n 0, 1) := dk_42 (dk_at dksX2_copy_0 11 rfl rfl)
theorem dX2_copy_12 : decode cX2_copy 12 = .ok (.iload_n 2, 1) := dk_28 (dk_at dksX2_copy_0 12 rfl rfl)
theorem dX2_copy_13 : decode cX2_copy 13 = .ok (.iaload, 1) := dk_46 (dk_at dksX2_copy_0 13 rfl rfl)
theorem dX2_copy_14 : decode cX2_copy 14 = .ok (.iastore, 1) := dk_79 (dk_at dksX2_copy_0 14 rfl rfl)
theorem dX2_copy_15 : decode cX2_copy 15 = .ok (.iinc 2 1, 3) := dk_132 2 1 (dk_at dksX2_copy_0 15 rfl rfl)
theorem dX2_copy_18 : decode cX2_copy 18 = .ok (.goto (-16), 3) := dk_167 255 240 (dk_at dksX2_copy_0 18 rfl rfl)
theorem dX2_copy_21 : decode cX2_copy 21 = .ok (.return_, 1) := dk_177 (dk_at dksX2_copy_0 21 rfl rfl)
abbrev cX2_blower : ByteArray := prog_18_method_15_code
def yX2_blower : MethodName := ⟨RX2, "blower", "(III)I"⟩
def dkwX2_blower_4 : List UInt8 := [92, 46, 4, 96, 79, 21, 4, 172]
abbrev dktX2_blower_4 : List UInt8 := dkwX2_blower_4 ++ []
def dkwX2_blower_3 : List UInt8 := [182, 0, 70, 42, 21, 4, 6, 3, 182, 0, 70, 42, 21, 4, 7, 3, 182, 0, 70, 42, 180, 0, 7, 3]
abbrev dktX2_blower_3 : List UInt8 := dkwX2_blower_3 ++ dktX2_blower_4
def dkwX2_blower_2 : List UInt8 := [46, 54, 4, 42, 21, 4, 3, 27, 182, 0, 70, 42, 21, 4, 4, 28, 182, 0, 70, 42, 21, 4, 5, 29]
abbrev dktX2_blower_2 : List UInt8 := dkwX2_blower_2 ++ dktX2_blower_3
def dkwX2_blower_1 : List UInt8 := [184, 0, 62, 153, 0, 14, 42, 180, 0, 7, 3, 46, 16, 6, 160, 0, 5, 2, 172, 42, 180, 0, 7, 3]
abbrev dktX2_blower_1 : List UInt8 := dkwX2_blower_1 ++ dktX2_blower_2
def dkwX2_blower_0 : List UInt8 := [27, 4, 16, 9, 184, 0, 62, 153, 0, 34, 28, 3, 6, 184, 0, 62, 153, 0, 25, 29, 3, 17, 3, 231]
abbrev dktX2_blower_0 : List UInt8 := dkwX2_blower_0 ++ dktX2_blower_1
theorem dksX2_blower_0 : cX2_blower.data.toList.drop 0 = dktX2_blower_0 := by decide +kernel
theorem dksX2_blower_1 : cX2_blower.data.toList.drop 24 = dktX2_blower_1 := dk_seg dksX2_blower_0 24 rfl rfl
theorem dksX2_blower_2 : cX2_blower.data.toList.drop 48 = dktX2_blower_2 := dk_seg dksX2_blower_1 24 rfl rfl
theorem dksX2_blower_3 : cX2_blower.data.toList.drop 72 = dktX2_blower_3 := dk_seg dksX2_blower_2 24 rfl rfl
theorem dksX2_blower_4 : cX2_blower.data.toList.drop 96 = dktX2_blower_4 := dk_seg dksX2_blower_3 24 rfl rfl
theorem dX2_blower_0 : decode cX2_blower 0 = .ok (.iload_n 1, 1) := dk_27 (dk_at dksX2_blower_0 0 rfl rfl)
theorem dX2_blower_1 : decode cX2_blower 1 = .ok (.iconst 1, 1) := dk_4 (dk_at dksX2_blower_0 1 rfl rfl)
theorem dX2_blower_2 : decode cX2_blower 2 = .ok (.bipush 9, 2) := dk_16 9 (dk_at dksX2_blower_0 2 rfl rfl)
theorem dX2_blower_4 : decode cX2_blower 4 = .ok (.invokestatic 62, 3) := dk_184 0 62 (dk_at dksX2_blower_0 4 rfl rfl)
theorem dX2_blower_7 : decode cX2_blower 7 = .ok (.ifCond .eq 34, 3) := dk_153 0 34 (dk_at dksX2_blower_0 7 rfl rfl)
theorem dX2_blower_10 : decode cX2_blower 10 = .ok (.iload_n 2, 1) := dk_28 (dk_at dksX2_blower_0 10 rfl rfl)
theorem dX2_blower_11 : decode cX2_blower 11 = .ok (.iconst 0, 1) := dk_3 (dk_at dksX2_blower_0 11 rfl rfl)
theorem dX2_blower_12 : decode cX2_blower 12 = .ok (.iconst 3, 1) := dk_6 (dk_at dksX2_blower_0 12 rfl rfl)
theorem dX2_blower_13 : decode cX2_blower 13 = .ok (.invokestatic 62, 3) := dk_184 0 62 (dk_at dksX2_blower_0 13 rfl rfl)
theorem dX2_blower_16 : decode cX2_blower 16 = .ok (.ifCond .eq 25, 3) := dk_153 0 25 (dk_at dksX2_blower_0 16 rfl rfl)
theorem dX2_blower_19 : decode cX2_blower 19 = .ok (.iload_n 3, 1) := dk_29 (dk_at dksX2_blower_0 19 rfl rfl)
theorem dX2_blower_20 : decode cX2_blower 20 = .ok (.iconst 0, 1) := dk_3 (dk_at dksX2_blower_0 20 rfl rfl)
theorem dX2_blower_21 : decode cX2_blower 21 = .ok (.sipush 999, 3) := dk_17 3 231 (dk_at dksX2_blower_0 21 rfl rfl)
theorem dX2_blower_24 : decode cX2_blower 24 = .ok (.invokestatic 62, 3) := dk_184 0 62 (dk_at dksX2_blower_1 0 rfl rfl)
theorem dX2_blower_27 : decode cX2_blower 27 = .ok (.ifCond .eq 14, 3) := dk_153 0 14 (dk_at dksX2_blower_1 3 rfl rfl)
theorem dX2_blower_30 : decode cX2_blower 30 = .ok (.aload_n 0, 1) := dk_42 (dk_at dksX2_blower_1 6 rfl rfl)
theorem dX2_blower_31 : decode cX2_blower 31 = .ok (.getfield 7, 3) := dk_180 0 7 (dk_at dksX2_blower_1 7 rfl rfl)
theorem dX2_blower_34 : decode cX2_blower 34 = .ok (.iconst 0, 1) := dk_3 (dk_at dksX2_blower_1 10 rfl rfl)
theorem dX2_blower_35 : decode cX2_blower 35 = .ok (.iaload, 1) := dk_46 (dk_at dksX2_blower_1 11 rfl rfl)
theorem dX2_blower_36 : decode cX2_blower 36 = .ok (.bipush 6, 2) := dk_16 6 (dk_at dksX2_blower_1 12 rfl rfl)
theorem dX2_blower_38 : decode cX2_blower 38 = .ok (.if_icmp .ne 5, 3) := dk_160 0 5 (dk_at dksX2_blower_1 14 rfl rfl)
theorem dX2_blower_41 : decode cX2_blower 41 = .ok (.iconst (-1), 1) := dk_2 (dk_at dksX2_blower_1 17 rfl rfl)
theorem dX2_blower_42 : decode cX2_blower 42 = .ok (.ireturn, 1) := dk_172 (dk_at dksX2_blower_1 18 rfl rfl)
theorem dX2_blower_43 : decode cX2_blower 43 = .ok (.aload_n 0, 1) := dk_42 (dk_at dksX2_blower_1 19 rfl rfl)
theorem dX2_blower_44 : decode cX2_blower 44 = .ok (.getfield 7, 3) := dk_180 0 7 (dk_at dksX2_blower_1 20 rfl rfl)
theorem dX2_blower_47 : decode cX2_blower 47 = .ok (.iconst 0, 1) := dk_3 (dk_at dksX2_blower_1 23 rfl rfl)
theorem dX2_blower_48 : decode cX2_blower 48 = .ok (.iaload, 1) := dk_46 (dk_at dksX2_blower_2 0 rfl rfl)
theorem dX2_blower_49 : decode cX2_blower 49 = .ok (.istore 4, 2) := dk_54 4 (dk_at dksX2_blower_2 1 rfl rfl)
theorem dX2_blower_51 : decode cX2_blower 51 = .ok (.aload_n 0, 1) := dk_42 (dk_at dksX2_blower_2 3 rfl rfl)
theorem dX2_blower_52 : decode cX2_blower 52 = .ok (.iload 4, 2) := dk_21 4 (dk_at dksX2_blower_2 4 rfl rfl)
theorem dX2_blower_54 : decode cX2_blower 54 = .ok (.iconst 0, 1) := dk_3 (dk_at dksX2_blower_2 6 rfl rfl)
theorem dX2_blower_55 : decode cX2_blower 55 = .ok (.iload_n 1, 1) := dk_27 (dk_at dksX2_blower_2 7 rfl rfl)
theorem dX2_blower_56 : decode cX2_blower 56 = .ok (.invokevirtual 70, 3) := dk_182 0 70 (dk_at dksX2_blower_2 8 rfl rfl)
theorem dX2_blower_59 : decode cX2_blower 59 = .ok (.aload_n 0, 1) := dk_42 (dk_at dksX2_blower_2 11 rfl rfl)
theorem dX2_blower_60 : decode cX2_blower 60 = .ok (.iload 4, 2) := dk_21 4 (dk_at dksX2_blower_2 12 rfl rfl)
theorem dX2_blower_62 : decode cX2_blower 62 = .ok (.iconst 1, 1) := dk_4 (dk_at dksX2_blower_2 14 rfl rfl)
theorem dX2_blower_63 : decode cX2_blower 63 = .ok (.iload_n 2, 1) := dk_28 (dk_at dksX2_blower_2 15 rfl rfl)
theorem dX2_blower_64 : decode cX2_blower 64 = .ok (.invokevirtual 70, 3) := dk_182 0 70 (dk_at dksX2_blower_2 16 rfl rfl)
theorem dX2_blower_67 : decode cX2_blower 67 = .ok (.aload_n 0, 1) := dk_42 (dk_at dksX2_blower_2 19 rfl rfl)
theorem dX2_blower_68 : decode cX2_blower 68 = .ok (.iload 4, 2) := dk_21 4 (dk_at dksX2_blower_2 20 rfl rfl)
theorem dX2_blower_70 : decode cX2_blower 70 = .ok (.iconst 2, 1) := dk_5 (dk_at dksX2_blower_2 22 rfl rfl)
theorem dX2_blower_71 : decode cX2_blower 71 = .ok (.iload_n 3, 1) := dk_29 (dk_at dksX2_blower_2 23 rfl rfl)
theorem dX2_blower_72 : decode cX2_blower 72 = .ok (.invokevirtual 70, 3) := dk_182 0 70 (dk_at dksX2_blower_3 0 rfl rfl)
theorem dX2_blower_75 : decode cX2_blower 75 = .ok (.aload_n 0, 1) := dk_42 (dk_at dksX2_blower_3 3 rfl rfl)
theorem dX2_blower_76 : decode cX2_blower 76 = .ok (.iload 4, 2) := dk_21 4 (dk_at dksX2_blower_3 4 rfl rfl)
theorem dX2_blower_78 : decode cX2_blower 78 = .ok (.iconst 3, 1) := dk_6 (dk_at dksX2_blower_3 6 rfl rfl)
theorem dX2_blower_79 : decode cX2_blower 79 = .ok (.iconst 0, 1) := dk_3 (dk_at dksX2_blower_3 7 rfl rfl)
theorem dX2_blower_80 : decode cX2_blower 80 = .ok (.invokevirtual 70, 3) := dk_182 0 70 (dk_at dksX2_blower_3 8 rfl rfl)
theorem dX2_blower_83 : decode cX2_blower 83 = .ok (.aload_n 0, 1) := dk_42 (dk_at dksX2_blower_3 11 rfl rfl)
theorem dX2_blower_84 : decode cX2_blower 84 = .ok (.iload 4, 2) := dk_21 4 (dk_at dksX2_blower_3 12 rfl rfl)
theorem dX2_blower_86 : decode cX2_blower 86 = .ok (.iconst 4, 1) := dk_7 (dk_at dksX2_blower_3 14 rfl rfl)
theorem dX2_blower_87 : decode cX2_blower 87 = .ok (.iconst 0, 1) := dk_3 (dk_at dksX2_blower_3 15 rfl rfl)
theorem dX2_blower_88 : decode cX2_blower 88 = .ok (.invokevirtual 70, 3) := dk_182 0 70 (dk_at dksX2_blower_3 16 rfl rfl)
theorem dX2_blower_91 : decode cX2_blower 91 = .ok (.aload_n 0, 1) := dk_42 (dk_at dksX2_blower_3 19 rfl rfl)
theorem dX2_blower_92 : decode cX2_blower 92 = .ok (.getfield 7, 3) := dk_180 0 7 (dk_at dksX2_blower_3 20 rfl rfl)
theorem dX2_blower_95 : decode cX2_blower 95 = .ok (.iconst 0, 1) := dk_3 (dk_at dksX2_blower_3 23 rfl rfl)
theorem dX2_blower_96 : decode cX2_blower 96 = .ok (.dup2, 1) := dk_92 (dk_at dksX2_blower_4 0 rfl rfl)
theorem dX2_blower_97 : decode cX2_blower 97 = .ok (.iaload, 1) := dk_46 (dk_at dksX2_blower_4 1 rfl rfl)
theorem dX2_blower_98 : decode cX2_blower 98 = .ok (.iconst 1, 1) := dk_4 (dk_at dksX2_blower_4 2 rfl rfl)
theorem dX2_blower_99 : decode cX2_blower 99 = .ok (.iadd, 1) := dk_96 (dk_at dksX2_blower_4 3 rfl rfl)
theorem dX2_blower_100 : decode cX2_blower 100 = .ok (.iastore, 1) := dk_79 (dk_at dksX2_blower_4 4 rfl rfl)
theorem dX2_blower_101 : decode cX2_blower 101 = .ok (.iload 4, 2) := dk_21 4 (dk_at dksX2_blower_4 5 rfl rfl)
theorem dX2_blower_103 : decode cX2_blower 103 = .ok (.ireturn, 1) := dk_172 (dk_at dksX2_blower_4 7 rfl rfl)
abbrev cX2_isIn : ByteArray := prog_18_method_3_code
def yX2_isIn : MethodName := ⟨RX2, "isIn", "(III)Z"⟩
def dkwX2_isIn_0 : List UInt8 := [26, 27, 161, 0, 12, 26, 28, 163, 0, 7, 4, 167, 0, 4, 3, 172]
abbrev dktX2_isIn_0 : List UInt8 := dkwX2_isIn_0 ++ []
theorem dksX2_isIn_0 : cX2_isIn.data.toList.drop 0 = dktX2_isIn_0 := by decide +kernel
theorem dX2_isIn_0 : decode cX2_isIn 0 = .ok (.iload_n 0, 1) := dk_26 (dk_at dksX2_isIn_0 0 rfl rfl)
theorem dX2_isIn_1 : decode cX2_isIn 1 = .ok (.iload_n 1, 1) := dk_27 (dk_at dksX2_isIn_0 1 rfl rfl)
theorem dX2_isIn_2 : decode cX2_isIn 2 = .ok (.if_icmp .lt 12, 3) := dk_161 0 12 (dk_at dksX2_isIn_0 2 rfl rfl)
theorem dX2_isIn_5 : decode cX2_isIn 5 = .ok (.iload_n 0, 1) := dk_26 (dk_at dksX2_isIn_0 5 rfl rfl)
theorem dX2_isIn_6 : decode cX2_isIn 6 = .ok (.iload_n 2, 1) := dk_28 (dk_at dksX2_isIn_0 6 rfl rfl)
theorem dX2_isIn_7 : decode cX2_isIn 7 = .ok (.if_icmp .gt 7, 3) := dk_163 0 7 (dk_at dksX2_isIn_0 7 rfl rfl)
theorem dX2_isIn_10 : decode cX2_isIn 10 = .ok (.iconst 1, 1) := dk_4 (dk_at dksX2_isIn_0 10 rfl rfl)
theorem dX2_isIn_11 : decode cX2_isIn 11 = .ok (.goto 4, 3) := dk_167 0 4 (dk_at dksX2_isIn_0 11 rfl rfl)
theorem dX2_isIn_14 : decode cX2_isIn 14 = .ok (.iconst 0, 1) := dk_3 (dk_at dksX2_isIn_0 14 rfl rfl)
theorem dX2_isIn_15 : decode cX2_isIn 15 = .ok (.ireturn, 1) := dk_172 (dk_at dksX2_isIn_0 15 rfl rfl)
abbrev cX2_set : ByteArray := prog_18_method_12_code
def yX2_set : MethodName := ⟨RX2, "set", "(III)V"⟩
def dkwX2_set_0 : List UInt8 := [42, 180, 0, 7, 16, 10, 8, 27, 104, 96, 28, 96, 29, 79, 177]
abbrev dktX2_set_0 : List UInt8 := dkwX2_set_0 ++ []
theorem dksX2_set_0 : cX2_set.data.toList.drop 0 = dktX2_set_0 := by decide +kernel
theorem dX2_set_0 : decode cX2_set 0 = .ok (.aload_n 0, 1) := dk_42 (dk_at dksX2_set_0 0 rfl rfl)
theorem dX2_set_1 : decode cX2_set 1 = .ok (.getfield 7, 3) := dk_180 0 7 (dk_at dksX2_set_0 1 rfl rfl)
theorem dX2_set_4 : decode cX2_set 4 = .ok (.bipush 10, 2) := dk_16 10 (dk_at dksX2_set_0 4 rfl rfl)
theorem dX2_set_6 : decode cX2_set 6 = .ok (.iconst 5, 1) := dk_8 (dk_at dksX2_set_0 6 rfl rfl)
theorem dX2_set_7 : decode cX2_set 7 = .ok (.iload_n 1, 1) := dk_27 (dk_at dksX2_set_0 7 rfl rfl)
theorem dX2_set_8 : decode cX2_set 8 = .ok (.imul, 1) := dk_104 (dk_at dksX2_set_0 8 rfl rfl)
theorem dX2_set_9 : decode cX2_set 9 = .ok (.iadd, 1) := dk_96 (dk_at dksX2_set_0 9 rfl rfl)
theorem dX2_set_10 : decode cX2_set 10 = .ok (.iload_n 2, 1) := dk_28 (dk_at dksX2_set_0 10 rfl rfl)
theorem dX2_set_11 : decode cX2_set 11 = .ok (.iadd, 1) := dk_96 (dk_at dksX2_set_0 11 rfl rfl)
theorem dX2_set_12 : decode cX2_set 12 = .ok (.iload_n 3, 1) := dk_29 (dk_at dksX2_set_0 12 rfl rfl)
theorem dX2_set_13 : decode cX2_set 13 = .ok (.iastore, 1) := dk_79 (dk_at dksX2_set_0 13 rfl rfl)
theorem dX2_set_14 : decode cX2_set 14 = .ok (.return_, 1) := dk_177 (dk_at dksX2_set_0 14 rfl rfl)
abbrev cX2_quarrel : ByteArray := prog_18_method_17_code
def yX2_quarrel : MethodName := ⟨RX2, "quarrel", "(IIZ)Z"⟩
def dkwX2_quarrel_1 : List UInt8 := [27, 28, 29, 182, 0, 82, 42, 28, 27, 29, 182, 0, 82, 4, 172]
abbrev dktX2_quarrel_1 : List UInt8 := dkwX2_quarrel_1 ++ []
def dkwX2_quarrel_0 : List UInt8 := [42, 27, 182, 0, 78, 153, 0, 16, 42, 28, 182, 0, 78, 153, 0, 8, 27, 28, 160, 0, 5, 3, 172, 42]
abbrev dktX2_quarrel_0 : List UInt8 := dkwX2_quarrel_0 ++ dktX2_quarrel_1
theorem dksX2_quarrel_0 : cX2_quarrel.data.toList.drop 0 = dktX2_quarrel_0 := by decide +kernel
theorem dksX2_quarrel_1 : cX2_quarrel.data.toList.drop 24 = dktX2_quarrel_1 := dk_seg dksX2_quarrel_0 24 rfl rfl
theorem dX2_quarrel_0 : decode cX2_quarrel 0 = .ok (.aload_n 0, 1) := dk_42 (dk_at dksX2_quarrel_0 0 rfl rfl)
theorem dX2_quarrel_1 : decode cX2_quarrel 1 = .ok (.iload_n 1, 1) := dk_27 (dk_at dksX2_quarrel_0 1 rfl rfl)
theorem dX2_quarrel_2 : decode cX2_quarrel 2 = .ok (.invokevirtual 78, 3) := dk_182 0 78 (dk_at dksX2_quarrel_0 2 rfl rfl)
theorem dX2_quarrel_5 : decode cX2_quarrel 5 = .ok (.ifCond .eq 16, 3) := dk_153 0 16 (dk_at dksX2_quarrel_0 5 rfl rfl)
theorem dX2_quarrel_8 : decode cX2_quarrel 8 = .ok (.aload_n 0, 1) := dk_42 (dk_at dksX2_quarrel_0 8 rfl rfl)
theorem dX2_quarrel_9 : decode cX2_quarrel 9 = .ok (.iload_n 2, 1) := dk_28 (dk_at dksX2_quarrel_0 9 rfl rfl)
theorem dX2_quarrel_10 : decode cX2_quarrel 10 = .ok (.invokevirtual 78, 3) := dk_182 0 78 (dk_at dksX2_quarrel_0 10 rfl rfl)
theorem dX2_quarrel_13 : decode cX2_quarrel 13 = .ok (.ifCond .eq 8, 3) := dk_153 0 8 (dk_at dksX2_quarrel_0 13 rfl rfl)
theorem dX2_quarrel_16 : decode cX2_quarrel 16 = .ok (.iload_n 1, 1) := dk_27 (dk_at dksX2_quarrel_0 16 rfl rfl)
theorem dX2_quarrel_17 : decode cX2_quarrel 17 = .ok (.iload_n 2, 1) := dk_28 (dk_at dksX2_quarrel_0 17 rfl rfl)
theorem dX2_quarrel_18 : decode cX2_quarrel 18 = .ok (.if_icmp .ne 5, 3) := dk_160 0 5 (dk_at dksX2_quarrel_0 18 rfl rfl)
theorem dX2_quarrel_21 : decode cX2_quarrel 21 = .ok (.iconst 0, 1) := dk_3 (dk_at dksX2_quarrel_0 21 rfl rfl)
theorem dX2_quarrel_22 : decode cX2_quarrel 22 = .ok (.ireturn, 1) := dk_172 (dk_at dksX2_quarrel_0 22 rfl rfl)
theorem dX2_quarrel_23 : decode cX2_quarrel 23 = .ok (.aload_n 0, 1) := dk_42 (dk_at dksX2_quarrel_0 23 rfl rfl)
theorem dX2_quarrel_24 : decode cX2_quarrel 24 = .ok (.iload_n 1, 1) := dk_27 (dk_at dksX2_quarrel_1 0 rfl rfl)
theorem dX2_quarrel_25 : decode cX2_quarrel 25 = .ok (.iload_n 2, 1) := dk_28 (dk_at dksX2_quarrel_1 1 rfl rfl)
theorem dX2_quarrel_26 : decode cX2_quarrel 26 = .ok (.iload_n 3, 1) := dk_29 (dk_at dksX2_quarrel_1 2 rfl rfl)
theorem dX2_quarrel_27 : decode cX2_quarrel 27 = .ok (.invokevirtual 82, 3) := dk_182 0 82 (dk_at dksX2_quarrel_1 3 rfl rfl)
theorem dX2_quarrel_30 : decode cX2_quarrel 30 = .ok (.aload_n 0, 1) := dk_42 (dk_at dksX2_quarrel_1 6 rfl rfl)
theorem dX2_quarrel_31 : decode cX2_quarrel 31 = .ok (.iload_n 2, 1) := dk_28 (dk_at dksX2_quarrel_1 7 rfl rfl)
theorem dX2_quarrel_32 : decode cX2_quarrel 32 = .ok (.iload_n 1, 1) := dk_27 (dk_at dksX2_quarrel_1 8 rfl rfl)
theorem dX2_quarrel_33 : decode cX2_quarrel 33 = .ok (.iload_n 3, 1) := dk_29 (dk_at dksX2_quarrel_1 9 rfl rfl)
theorem dX2_quarrel_34 : decode cX2_quarrel 34 = .ok (.invokevirtual 82, 3) := dk_182 0 82 (dk_at dksX2_quarrel_1 10 rfl rfl)
theorem dX2_quarrel_37 : decode cX2_quarrel 37 = .ok (.iconst 1, 1) := dk_4 (dk_at dksX2_quarrel_1 13 rfl rfl)
theorem dX2_quarrel_38 : decode cX2_quarrel 38 = .ok (.ireturn, 1) := dk_172 (dk_at dksX2_quarrel_1 14 rfl rfl)
abbrev cX2_isBlower : ByteArray := prog_18_method_7_code
def yX2_isBlower : MethodName := ⟨RX2, "isBlower", "(I)Z"⟩
def dkwX2_isBlower_0 : List UInt8 := [27, 3, 42, 180, 0, 7, 3, 46, 4, 100, 184, 0, 62, 172]
abbrev dktX2_isBlower_0 : List UInt8 := dkwX2_isBlower_0 ++ []
theorem dksX2_isBlower_0 : cX2_isBlower.data.toList.drop 0 = dktX2_isBlower_0 := by decide +kernel
theorem dX2_isBlower_0 : decode cX2_isBlower 0 = .ok (.iload_n 1, 1) := dk_27 (dk_at dksX2_isBlower_0 0 rfl rfl)
theorem dX2_isBlower_1 : decode cX2_isBlower 1 = .ok (.iconst 0, 1) := dk_3 (dk_at dksX2_isBlower_0 1 rfl rfl)
theorem dX2_isBlower_2 : decode cX2_isBlower 2 = .ok (.aload_n 0, 1) := dk_42 (dk_at dksX2_isBlower_0 2 rfl rfl)
theorem dX2_isBlower_3 : decode cX2_isBlower 3 = .ok (.getfield 7, 3) := dk_180 0 7 (dk_at dksX2_isBlower_0 3 rfl rfl)
theorem dX2_isBlower_6 : decode cX2_isBlower 6 = .ok (.iconst 0, 1) := dk_3 (dk_at dksX2_isBlower_0 6 rfl rfl)
theorem dX2_isBlower_7 : decode cX2_isBlower 7 = .ok (.iaload, 1) := dk_46 (dk_at dksX2_isBlower_0 7 rfl rfl)
theorem dX2_isBlower_8 : decode cX2_isBlower 8 = .ok (.iconst 1, 1) := dk_4 (dk_at dksX2_isBlower_0 8 rfl rfl)
theorem dX2_isBlower_9 : decode cX2_isBlower 9 = .ok (.isub, 1) := dk_100 (dk_at dksX2_isBlower_0 9 rfl rfl)
theorem dX2_isBlower_10 : decode cX2_isBlower 10 = .ok (.invokestatic 62, 3) := dk_184 0 62 (dk_at dksX2_isBlower_0 10 rfl rfl)
theorem dX2_isBlower_13 : decode cX2_isBlower 13 = .ok (.ireturn, 1) := dk_172 (dk_at dksX2_isBlower_0 13 rfl rfl)
abbrev cX2_part : ByteArray := prog_18_method_16_code
def yX2_part : MethodName := ⟨RX2, "part", "(IIZ)V"⟩
def dkwX2_part_1 : List UInt8 := [182, 0, 74, 4, 28, 120, 2, 130, 126, 182, 0, 70, 177]
abbrev dktX2_part_1 : List UInt8 := dkwX2_part_1 ++ []
def dkwX2_part_0 : List UInt8 := [42, 27, 7, 29, 153, 0, 16, 42, 27, 7, 182, 0, 74, 4, 28, 120, 128, 167, 0, 15, 42, 27, 7]
abbrev dktX2_part_0 : List UInt8 := dkwX2_part_0 ++ dktX2_part_1
theorem dksX2_part_0 : cX2_part.data.toList.drop 0 = dktX2_part_0 := by decide +kernel
theorem dksX2_part_1 : cX2_part.data.toList.drop 23 = dktX2_part_1 := dk_seg dksX2_part_0 23 rfl rfl
theorem dX2_part_0 : decode cX2_part 0 = .ok (.aload_n 0, 1) := dk_42 (dk_at dksX2_part_0 0 rfl rfl)
theorem dX2_part_1 : decode cX2_part 1 = .ok (.iload_n 1, 1) := dk_27 (dk_at dksX2_part_0 1 rfl rfl)
theorem dX2_part_2 : decode cX2_part 2 = .ok (.iconst 4, 1) := dk_7 (dk_at dksX2_part_0 2 rfl rfl)
theorem dX2_part_3 : decode cX2_part 3 = .ok (.iload_n 3, 1) := dk_29 (dk_at dksX2_part_0 3 rfl rfl)
theorem dX2_part_4 : decode cX2_part 4 = .ok (.ifCond .eq 16, 3) := dk_153 0 16 (dk_at dksX2_part_0 4 rfl rfl)
theorem dX2_part_7 : decode cX2_part 7 = .ok (.aload_n 0, 1) := dk_42 (dk_at dksX2_part_0 7 rfl rfl)
theorem dX2_part_8 : decode cX2_part 8 = .ok (.iload_n 1, 1) := dk_27 (dk_at dksX2_part_0 8 rfl rfl)
theorem dX2_part_9 : decode cX2_part 9 = .ok (.iconst 4, 1) := dk_7 (dk_at dksX2_part_0 9 rfl rfl)
theorem dX2_part_10 : decode cX2_part 10 = .ok (.invokevirtual 74, 3) := dk_182 0 74 (dk_at dksX2_part_0 10 rfl rfl)
theorem dX2_part_13 : decode cX2_part 13 = .ok (.iconst 1, 1) := dk_4 (dk_at dksX2_part_0 13 rfl rfl)
theorem dX2_part_14 : decode cX2_part 14 = .ok (.iload_n 2, 1) := dk_28 (dk_at dksX2_part_0 14 rfl rfl)
theorem dX2_part_15 : decode cX2_part 15 = .ok (.ishl, 1) := dk_120 (dk_at dksX2_part_0 15 rfl rfl)
theorem dX2_part_16 : decode cX2_part 16 = .ok (.ior, 1) := dk_128 (dk_at dksX2_part_0 16 rfl rfl)
theorem dX2_part_17 : decode cX2_part 17 = .ok (.goto 15, 3) := dk_167 0 15 (dk_at dksX2_part_0 17 rfl rfl)
theorem dX2_part_20 : decode cX2_part 20 = .ok (.aload_n 0, 1) := dk_42 (dk_at dksX2_part_0 20 rfl rfl)
theorem dX2_part_21 : decode cX2_part 21 = .ok (.iload_n 1, 1) := dk_27 (dk_at dksX2_part_0 21 rfl rfl)
theorem dX2_part_22 : decode cX2_part 22 = .ok (.iconst 4, 1) := dk_7 (dk_at dksX2_part_0 22 rfl rfl)
theorem dX2_part_23 : decode cX2_part 23 = .ok (.invokevirtual 74, 3) := dk_182 0 74 (dk_at dksX2_part_1 0 rfl rfl)
theorem dX2_part_26 : decode cX2_part 26 = .ok (.iconst 1, 1) := dk_4 (dk_at dksX2_part_1 3 rfl rfl)
theorem dX2_part_27 : decode cX2_part 27 = .ok (.iload_n 2, 1) := dk_28 (dk_at dksX2_part_1 4 rfl rfl)
theorem dX2_part_28 : decode cX2_part 28 = .ok (.ishl, 1) := dk_120 (dk_at dksX2_part_1 5 rfl rfl)
theorem dX2_part_29 : decode cX2_part 29 = .ok (.iconst (-1), 1) := dk_2 (dk_at dksX2_part_1 6 rfl rfl)
theorem dX2_part_30 : decode cX2_part 30 = .ok (.ixor, 1) := dk_130 (dk_at dksX2_part_1 7 rfl rfl)
theorem dX2_part_31 : decode cX2_part 31 = .ok (.iand, 1) := dk_126 (dk_at dksX2_part_1 8 rfl rfl)
theorem dX2_part_32 : decode cX2_part 32 = .ok (.invokevirtual 70, 3) := dk_182 0 70 (dk_at dksX2_part_1 9 rfl rfl)
theorem dX2_part_35 : decode cX2_part 35 = .ok (.return_, 1) := dk_177 (dk_at dksX2_part_1 12 rfl rfl)
abbrev cX2_get : ByteArray := prog_18_method_11_code
def yX2_get : MethodName := ⟨RX2, "get", "(II)I"⟩
def dkwX2_get_0 : List UInt8 := [42, 180, 0, 7, 16, 10, 8, 27, 104, 96, 28, 96, 46, 172]
abbrev dktX2_get_0 : List UInt8 := dkwX2_get_0 ++ []
theorem dksX2_get_0 : cX2_get.data.toList.drop 0 = dktX2_get_0 := by decide +kernel
theorem dX2_get_0 : decode cX2_get 0 = .ok (.aload_n 0, 1) := dk_42 (dk_at dksX2_get_0 0 rfl rfl)
theorem dX2_get_1 : decode cX2_get 1 = .ok (.getfield 7, 3) := dk_180 0 7 (dk_at dksX2_get_0 1 rfl rfl)
theorem dX2_get_4 : decode cX2_get 4 = .ok (.bipush 10, 2) := dk_16 10 (dk_at dksX2_get_0 4 rfl rfl)
theorem dX2_get_6 : decode cX2_get 6 = .ok (.iconst 5, 1) := dk_8 (dk_at dksX2_get_0 6 rfl rfl)
theorem dX2_get_7 : decode cX2_get 7 = .ok (.iload_n 1, 1) := dk_27 (dk_at dksX2_get_0 7 rfl rfl)
theorem dX2_get_8 : decode cX2_get 8 = .ok (.imul, 1) := dk_104 (dk_at dksX2_get_0 8 rfl rfl)
theorem dX2_get_9 : decode cX2_get 9 = .ok (.iadd, 1) := dk_96 (dk_at dksX2_get_0 9 rfl rfl)
theorem dX2_get_10 : decode cX2_get 10 = .ok (.iload_n 2, 1) := dk_28 (dk_at dksX2_get_0 10 rfl rfl)
theorem dX2_get_11 : decode cX2_get 11 = .ok (.iadd, 1) := dk_96 (dk_at dksX2_get_0 11 rfl rfl)
theorem dX2_get_12 : decode cX2_get 12 = .ok (.iaload, 1) := dk_46 (dk_at dksX2_get_0 12 rfl rfl)
theorem dX2_get_13 : decode cX2_get 13 = .ok (.ireturn, 1) := dk_172 (dk_at dksX2_get_0 13 rfl rfl)
abbrev cX2_kind : ByteArray := prog_18_method_18_code
def yX2_kind : MethodName := ⟨RX2, "kind", "(III)I"⟩
def dkwX2_kind_4 : List UInt8 := [96, 79, 42, 180, 0, 7, 4, 46, 4, 100, 172]
abbrev dktX2_kind_4 : List UInt8 := dkwX2_kind_4 ++ []
def dkwX2_kind_3 : List UInt8 := [21, 4, 4, 96, 28, 79, 42, 180, 0, 7, 21, 4, 5, 96, 29, 79, 42, 180, 0, 7, 4, 92, 46, 4]
abbrev dktX2_kind_3 : List UInt8 := dkwX2_kind_3 ++ dktX2_kind_4
def dkwX2_kind_2 : List UInt8 := [6, 42, 180, 0, 7, 4, 46, 104, 96, 54, 4, 42, 180, 0, 7, 21, 4, 27, 79, 42, 180, 0, 7]
abbrev dktX2_kind_2 : List UInt8 := dkwX2_kind_2 ++ dktX2_kind_3
def dkwX2_kind_1 : List UInt8 := [17, 3, 231, 184, 0, 62, 153, 0, 14, 42, 180, 0, 7, 4, 46, 16, 6, 160, 0, 5, 2, 172, 16, 40]
abbrev dktX2_kind_1 : List UInt8 := dkwX2_kind_1 ++ dktX2_kind_2
def dkwX2_kind_0 : List UInt8 := [27, 4, 16, 30, 184, 0, 62, 153, 0, 35, 28, 3, 16, 15, 184, 0, 62, 153, 0, 25, 29, 3]
abbrev dktX2_kind_0 : List UInt8 := dkwX2_kind_0 ++ dktX2_kind_1
theorem dksX2_kind_0 : cX2_kind.data.toList.drop 0 = dktX2_kind_0 := by decide +kernel
theorem dksX2_kind_1 : cX2_kind.data.toList.drop 22 = dktX2_kind_1 := dk_seg dksX2_kind_0 22 rfl rfl
theorem dksX2_kind_2 : cX2_kind.data.toList.drop 46 = dktX2_kind_2 := dk_seg dksX2_kind_1 24 rfl rfl
theorem dksX2_kind_3 : cX2_kind.data.toList.drop 69 = dktX2_kind_3 := dk_seg dksX2_kind_2 23 rfl rfl
theorem dksX2_kind_4 : cX2_kind.data.toList.drop 93 = dktX2_kind_4 := dk_seg dksX2_kind_3 24 rfl rfl
theorem dX2_kind_0 : decode cX2_kind 0 = .ok (.iload_n 1, 1) := dk_27 (dk_at dksX2_kind_0 0 rfl rfl)
theorem dX2_kind_1 : decode cX2_kind 1 = .ok (.iconst 1, 1) := dk_4 (dk_at dksX2_kind_0 1 rfl rfl)
theorem dX2_kind_2 : decode cX2_kind 2 = .ok (.bipush 30, 2) := dk_16 30 (dk_at dksX2_kind_0 2 rfl rfl)
theorem dX2_kind_4 : decode cX2_kind 4 = .ok (.invokestatic 62, 3) := dk_184 0 62 (dk_at dksX2_kind_0 4 rfl rfl)
theorem dX2_kind_7 : decode cX2_kind 7 = .ok (.ifCond .eq 35, 3) := dk_153 0 35 (dk_at dksX2_kind_0 7 rfl rfl)
theorem dX2_kind_10 : decode cX2_kind 10 = .ok (.iload_n 2, 1) := dk_28 (dk_at dksX2_kind_0 10 rfl rfl)
theorem dX2_kind_11 : decode cX2_kind 11 = .ok (.iconst 0, 1) := dk_3 (dk_at dksX2_kind_0 11 rfl rfl)
theorem dX2_kind_12 : decode cX2_kind 12 = .ok (.bipush 15, 2) := dk_16 15 (dk_at dksX2_kind_0 12 rfl rfl)
theorem dX2_kind_14 : decode cX2_kind 14 = .ok (.invokestatic 62, 3) := dk_184 0 62 (dk_at dksX2_kind_0 14 rfl rfl)
theorem dX2_kind_17 : decode cX2_kind 17 = .ok (.ifCond .eq 25, 3) := dk_153 0 25 (dk_at dksX2_kind_0 17 rfl rfl)
theorem dX2_kind_20 : decode cX2_kind 20 = .ok (.iload_n 3, 1) := dk_29 (dk_at dksX2_kind_0 20 rfl rfl)
theorem dX2_kind_21 : decode cX2_kind 21 = .ok (.iconst 0, 1) := dk_3 (dk_at dksX2_kind_0 21 rfl rfl)
theorem dX2_kind_22 : decode cX2_kind 22 = .ok (.sipush 999, 3) := dk_17 3 231 (dk_at dksX2_kind_1 0 rfl rfl)
theorem dX2_kind_25 : decode cX2_kind 25 = .ok (.invokestatic 62, 3) := dk_184 0 62 (dk_at dksX2_kind_1 3 rfl rfl)
theorem dX2_kind_28 : decode cX2_kind 28 = .ok (.ifCond .eq 14, 3) := dk_153 0 14 (dk_at dksX2_kind_1 6 rfl rfl)
theorem dX2_kind_31 : decode cX2_kind 31 = .ok (.aload_n 0, 1) := dk_42 (dk_at dksX2_kind_1 9 rfl rfl)
theorem dX2_kind_32 : decode cX2_kind 32 = .ok (.getfield 7, 3) := dk_180 0 7 (dk_at dksX2_kind_1 10 rfl rfl)
theorem dX2_kind_35 : decode cX2_kind 35 = .ok (.iconst 1, 1) := dk_4 (dk_at dksX2_kind_1 13 rfl rfl)
theorem dX2_kind_36 : decode cX2_kind 36 = .ok (.iaload, 1) := dk_46 (dk_at dksX2_kind_1 14 rfl rfl)
theorem dX2_kind_37 : decode cX2_kind 37 = .ok (.bipush 6, 2) := dk_16 6 (dk_at dksX2_kind_1 15 rfl rfl)
theorem dX2_kind_39 : decode cX2_kind 39 = .ok (.if_icmp .ne 5, 3) := dk_160 0 5 (dk_at dksX2_kind_1 17 rfl rfl)
theorem dX2_kind_42 : decode cX2_kind 42 = .ok (.iconst (-1), 1) := dk_2 (dk_at dksX2_kind_1 20 rfl rfl)
theorem dX2_kind_43 : decode cX2_kind 43 = .ok (.ireturn, 1) := dk_172 (dk_at dksX2_kind_1 21 rfl rfl)
theorem dX2_kind_44 : decode cX2_kind 44 = .ok (.bipush 40, 2) := dk_16 40 (dk_at dksX2_kind_1 22 rfl rfl)
theorem dX2_kind_46 : decode cX2_kind 46 = .ok (.iconst 3, 1) := dk_6 (dk_at dksX2_kind_2 0 rfl rfl)
theorem dX2_kind_47 : decode cX2_kind 47 = .ok (.aload_n 0, 1) := dk_42 (dk_at dksX2_kind_2 1 rfl rfl)
theorem dX2_kind_48 : decode cX2_kind 48 = .ok (.getfield 7, 3) := dk_180 0 7 (dk_at dksX2_kind_2 2 rfl rfl)
theorem dX2_kind_51 : decode cX2_kind 51 = .ok (.iconst 1, 1) := dk_4 (dk_at dksX2_kind_2 5 rfl rfl)
theorem dX2_kind_52 : decode cX2_kind 52 = .ok (.iaload, 1) := dk_46 (dk_at dksX2_kind_2 6 rfl rfl)
theorem dX2_kind_53 : decode cX2_kind 53 = .ok (.imul, 1) := dk_104 (dk_at dksX2_kind_2 7 rfl rfl)
theorem dX2_kind_54 : decode cX2_kind 54 = .ok (.iadd, 1) := dk_96 (dk_at dksX2_kind_2 8 rfl rfl)
theorem dX2_kind_55 : decode cX2_kind 55 = .ok (.istore 4, 2) := dk_54 4 (dk_at dksX2_kind_2 9 rfl rfl)
theorem dX2_kind_57 : decode cX2_kind 57 = .ok (.aload_n 0, 1) := dk_42 (dk_at dksX2_kind_2 11 rfl rfl)
theorem dX2_kind_58 : decode cX2_kind 58 = .ok (.getfield 7, 3) := dk_180 0 7 (dk_at dksX2_kind_2 12 rfl rfl)
theorem dX2_kind_61 : decode cX2_kind 61 = .ok (.iload 4, 2) := dk_21 4 (dk_at dksX2_kind_2 15 rfl rfl)
theorem dX2_kind_63 : decode cX2_kind 63 = .ok (.iload_n 1, 1) := dk_27 (dk_at dksX2_kind_2 17 rfl rfl)
theorem dX2_kind_64 : decode cX2_kind 64 = .ok (.iastore, 1) := dk_79 (dk_at dksX2_kind_2 18 rfl rfl)
theorem dX2_kind_65 : decode cX2_kind 65 = .ok (.aload_n 0, 1) := dk_42 (dk_at dksX2_kind_2 19 rfl rfl)
theorem dX2_kind_66 : decode cX2_kind 66 = .ok (.getfield 7, 3) := dk_180 0 7 (dk_at dksX2_kind_2 20 rfl rfl)
theorem dX2_kind_69 : decode cX2_kind 69 = .ok (.iload 4, 2) := dk_21 4 (dk_at dksX2_kind_3 0 rfl rfl)
theorem dX2_kind_71 : decode cX2_kind 71 = .ok (.iconst 1, 1) := dk_4 (dk_at dksX2_kind_3 2 rfl rfl)
theorem dX2_kind_72 : decode cX2_kind 72 = .ok (.iadd, 1) := dk_96 (dk_at dksX2_kind_3 3 rfl rfl)
theorem dX2_kind_73 : decode cX2_kind 73 = .ok (.iload_n 2, 1) := dk_28 (dk_at dksX2_kind_3 4 rfl rfl)
theorem dX2_kind_74 : decode cX2_kind 74 = .ok (.iastore, 1) := dk_79 (dk_at dksX2_kind_3 5 rfl rfl)
theorem dX2_kind_75 : decode cX2_kind 75 = .ok (.aload_n 0, 1) := dk_42 (dk_at dksX2_kind_3 6 rfl rfl)
theorem dX2_kind_76 : decode cX2_kind 76 = .ok (.getfield 7, 3) := dk_180 0 7 (dk_at dksX2_kind_3 7 rfl rfl)
theorem dX2_kind_79 : decode cX2_kind 79 = .ok (.iload 4, 2) := dk_21 4 (dk_at dksX2_kind_3 10 rfl rfl)
theorem dX2_kind_81 : decode cX2_kind 81 = .ok (.iconst 2, 1) := dk_5 (dk_at dksX2_kind_3 12 rfl rfl)
theorem dX2_kind_82 : decode cX2_kind 82 = .ok (.iadd, 1) := dk_96 (dk_at dksX2_kind_3 13 rfl rfl)
theorem dX2_kind_83 : decode cX2_kind 83 = .ok (.iload_n 3, 1) := dk_29 (dk_at dksX2_kind_3 14 rfl rfl)
theorem dX2_kind_84 : decode cX2_kind 84 = .ok (.iastore, 1) := dk_79 (dk_at dksX2_kind_3 15 rfl rfl)
theorem dX2_kind_85 : decode cX2_kind 85 = .ok (.aload_n 0, 1) := dk_42 (dk_at dksX2_kind_3 16 rfl rfl)
theorem dX2_kind_86 : decode cX2_kind 86 = .ok (.getfield 7, 3) := dk_180 0 7 (dk_at dksX2_kind_3 17 rfl rfl)
theorem dX2_kind_89 : decode cX2_kind 89 = .ok (.iconst 1, 1) := dk_4 (dk_at dksX2_kind_3 20 rfl rfl)
theorem dX2_kind_90 : decode cX2_kind 90 = .ok (.dup2, 1) := dk_92 (dk_at dksX2_kind_3 21 rfl rfl)
theorem dX2_kind_91 : decode cX2_kind 91 = .ok (.iaload, 1) := dk_46 (dk_at dksX2_kind_3 22 rfl rfl)
theorem dX2_kind_92 : decode cX2_kind 92 = .ok (.iconst 1, 1) := dk_4 (dk_at dksX2_kind_3 23 rfl rfl)
theorem dX2_kind_93 : decode cX2_kind 93 = .ok (.iadd, 1) := dk_96 (dk_at dksX2_kind_4 0 rfl rfl)
theorem dX2_kind_94 : decode cX2_kind 94 = .ok (.iastore, 1) := dk_79 (dk_at dksX2_kind_4 1 rfl rfl)
theorem dX2_kind_95 : decode cX2_kind 95 = .ok (.aload_n 0, 1) := dk_42 (dk_at dksX2_kind_4 2 rfl rfl)
theorem dX2_kind_96 : decode cX2_kind 96 = .ok (.getfield 7, 3) := dk_180 0 7 (dk_at dksX2_kind_4 3 rfl rfl)
theorem dX2_kind_99 : decode cX2_kind 99 = .ok (.iconst 1, 1) := dk_4 (dk_at dksX2_kind_4 6 rfl rfl)
theorem dX2_kind_100 : decode cX2_kind 100 = .ok (.iaload, 1) := dk_46 (dk_at dksX2_kind_4 7 rfl rfl)
theorem dX2_kind_101 : decode cX2_kind 101 = .ok (.iconst 1, 1) := dk_4 (dk_at dksX2_kind_4 8 rfl rfl)
theorem dX2_kind_102 : decode cX2_kind 102 = .ok (.isub, 1) := dk_100 (dk_at dksX2_kind_4 9 rfl rfl)
theorem dX2_kind_103 : decode cX2_kind 103 = .ok (.ireturn, 1) := dk_172 (dk_at dksX2_kind_4 10 rfl rfl)
abbrev cX2_feed : ByteArray := prog_18_method_20_code
def yX2_feed : MethodName := ⟨RX2, "feed", "(IIIII)I"⟩
def dkwX2_feed_2 : List UInt8 := [172]
abbrev dktX2_feed_2 : List UInt8 := dkwX2_feed_2 ++ []
def dkwX2_feed_1 : List UInt8 := [182, 0, 89, 42, 29, 182, 0, 89, 42, 21, 4, 182, 0, 89, 42, 21, 5, 182, 0, 89, 42, 180, 0, 86]
abbrev dktX2_feed_1 : List UInt8 := dkwX2_feed_1 ++ dktX2_feed_2
def dkwX2_feed_0 : List UInt8 := [42, 180, 0, 86, 16, 20, 96, 17, 1, 44, 164, 0, 5, 2, 172, 42, 27, 182, 0, 89, 42, 28]
abbrev dktX2_feed_0 : List UInt8 := dkwX2_feed_0 ++ dktX2_feed_1
theorem dksX2_feed_0 : cX2_feed.data.toList.drop 0 = dktX2_feed_0 := by decide +kernel
theorem dksX2_feed_1 : cX2_feed.data.toList.drop 22 = dktX2_feed_1 := dk_seg dksX2_feed_0 22 rfl rfl
theorem dksX2_feed_2 : cX2_feed.data.toList.drop 46 = dktX2_feed_2 := dk_seg dksX2_feed_1 24 rfl rfl
theorem dX2_feed_0 : decode cX2_feed 0 = .ok (.aload_n 0, 1) := dk_42 (dk_at dksX2_feed_0 0 rfl rfl)
theorem dX2_feed_1 : decode cX2_feed 1 = .ok (.getfield 86, 3) := dk_180 0 86 (dk_at dksX2_feed_0 1 rfl rfl)
theorem dX2_feed_4 : decode cX2_feed 4 = .ok (.bipush 20, 2) := dk_16 20 (dk_at dksX2_feed_0 4 rfl rfl)
theorem dX2_feed_6 : decode cX2_feed 6 = .ok (.iadd, 1) := dk_96 (dk_at dksX2_feed_0 6 rfl rfl)
theorem dX2_feed_7 : decode cX2_feed 7 = .ok (.sipush 300, 3) := dk_17 1 44 (dk_at dksX2_feed_0 7 rfl rfl)
theorem dX2_feed_10 : decode cX2_feed 10 = .ok (.if_icmp .le 5, 3) := dk_164 0 5 (dk_at dksX2_feed_0 10 rfl rfl)
theorem dX2_feed_13 : decode cX2_feed 13 = .ok (.iconst (-1), 1) := dk_2 (dk_at dksX2_feed_0 13 rfl rfl)
theorem dX2_feed_14 : decode cX2_feed 14 = .ok (.ireturn, 1) := dk_172 (dk_at dksX2_feed_0 14 rfl rfl)
theorem dX2_feed_15 : decode cX2_feed 15 = .ok (.aload_n 0, 1) := dk_42 (dk_at dksX2_feed_0 15 rfl rfl)
theorem dX2_feed_16 : decode cX2_feed 16 = .ok (.iload_n 1, 1) := dk_27 (dk_at dksX2_feed_0 16 rfl rfl)
theorem dX2_feed_17 : decode cX2_feed 17 = .ok (.invokevirtual 89, 3) := dk_182 0 89 (dk_at dksX2_feed_0 17 rfl rfl)
theorem dX2_feed_20 : decode cX2_feed 20 = .ok (.aload_n 0, 1) := dk_42 (dk_at dksX2_feed_0 20 rfl rfl)
theorem dX2_feed_21 : decode cX2_feed 21 = .ok (.iload_n 2, 1) := dk_28 (dk_at dksX2_feed_0 21 rfl rfl)
theorem dX2_feed_22 : decode cX2_feed 22 = .ok (.invokevirtual 89, 3) := dk_182 0 89 (dk_at dksX2_feed_1 0 rfl rfl)
theorem dX2_feed_25 : decode cX2_feed 25 = .ok (.aload_n 0, 1) := dk_42 (dk_at dksX2_feed_1 3 rfl rfl)
theorem dX2_feed_26 : decode cX2_feed 26 = .ok (.iload_n 3, 1) := dk_29 (dk_at dksX2_feed_1 4 rfl rfl)
theorem dX2_feed_27 : decode cX2_feed 27 = .ok (.invokevirtual 89, 3) := dk_182 0 89 (dk_at dksX2_feed_1 5 rfl rfl)
theorem dX2_feed_30 : decode cX2_feed 30 = .ok (.aload_n 0, 1) := dk_42 (dk_at dksX2_feed_1 8 rfl rfl)
theorem dX2_feed_31 : decode cX2_feed 31 = .ok (.iload 4, 2) := dk_21 4 (dk_at dksX2_feed_1 9 rfl rfl)
theorem dX2_feed_33 : decode cX2_feed 33 = .ok (.invokevirtual 89, 3) := dk_182 0 89 (dk_at dksX2_feed_1 11 rfl rfl)
theorem dX2_feed_36 : decode cX2_feed 36 = .ok (.aload_n 0, 1) := dk_42 (dk_at dksX2_feed_1 14 rfl rfl)
theorem dX2_feed_37 : decode cX2_feed 37 = .ok (.iload 5, 2) := dk_21 5 (dk_at dksX2_feed_1 15 rfl rfl)
theorem dX2_feed_39 : decode cX2_feed 39 = .ok (.invokevirtual 89, 3) := dk_182 0 89 (dk_at dksX2_feed_1 17 rfl rfl)
theorem dX2_feed_42 : decode cX2_feed 42 = .ok (.aload_n 0, 1) := dk_42 (dk_at dksX2_feed_1 20 rfl rfl)
theorem dX2_feed_43 : decode cX2_feed 43 = .ok (.getfield 86, 3) := dk_180 0 86 (dk_at dksX2_feed_1 21 rfl rfl)
theorem dX2_feed_46 : decode cX2_feed 46 = .ok (.ireturn, 1) := dk_172 (dk_at dksX2_feed_2 0 rfl rfl)
abbrev cX2_four : ByteArray := prog_18_method_19_code
def yX2_four : MethodName := ⟨RX2, "four", "(I)V"⟩
def dkwX2_four_1 : List UInt8 := [89, 180, 0, 86, 4, 96, 181, 0, 86, 132, 2, 248, 167, 255, 223, 177]
abbrev dktX2_four_1 : List UInt8 := dkwX2_four_1 ++ []
def dkwX2_four_0 : List UInt8 := [16, 24, 61, 28, 155, 0, 35, 42, 180, 0, 19, 42, 180, 0, 86, 27, 28, 122, 17, 0, 255, 126, 79, 42]
abbrev dktX2_four_0 : List UInt8 := dkwX2_four_0 ++ dktX2_four_1
theorem dksX2_four_0 : cX2_four.data.toList.drop 0 = dktX2_four_0 := by decide +kernel
theorem dksX2_four_1 : cX2_four.data.toList.drop 24 = dktX2_four_1 := dk_seg dksX2_four_0 24 rfl rfl
theorem dX2_four_0 : decode cX2_four 0 = .ok (.bipush 24, 2) := dk_16 24 (dk_at dksX2_four_0 0 rfl rfl)
theorem dX2_four_2 : decode cX2_four 2 = .ok (.istore_n 2, 1) := dk_61 (dk_at dksX2_four_0 2 rfl rfl)
theorem dX2_four_3 : decode cX2_four 3 = .ok (.iload_n 2, 1) := dk_28 (dk_at dksX2_four_0 3 rfl rfl)
theorem dX2_four_4 : decode cX2_four 4 = .ok (.ifCond .lt 35, 3) := dk_155 0 35 (dk_at dksX2_four_0 4 rfl rfl)
theorem dX2_four_7 : decode cX2_four 7 = .ok (.aload_n 0, 1) := dk_42 (dk_at dksX2_four_0 7 rfl rfl)
theorem dX2_four_8 : decode cX2_four 8 = .ok (.getfield 19, 3) := dk_180 0 19 (dk_at dksX2_four_0 8 rfl rfl)
theorem dX2_four_11 : decode cX2_four 11 = .ok (.aload_n 0, 1) := dk_42 (dk_at dksX2_four_0 11 rfl rfl)
theorem dX2_four_12 : decode cX2_four 12 = .ok (.getfield 86, 3) := dk_180 0 86 (dk_at dksX2_four_0 12 rfl rfl)
theorem dX2_four_15 : decode cX2_four 15 = .ok (.iload_n 1, 1) := dk_27 (dk_at dksX2_four_0 15 rfl rfl)
theorem dX2_four_16 : decode cX2_four 16 = .ok (.iload_n 2, 1) := dk_28 (dk_at dksX2_four_0 16 rfl rfl)
theorem dX2_four_17 : decode cX2_four 17 = .ok (.ishr, 1) := dk_122 (dk_at dksX2_four_0 17 rfl rfl)
theorem dX2_four_18 : decode cX2_four 18 = .ok (.sipush 255, 3) := dk_17 0 255 (dk_at dksX2_four_0 18 rfl rfl)
theorem dX2_four_21 : decode cX2_four 21 = .ok (.iand, 1) := dk_126 (dk_at dksX2_four_0 21 rfl rfl)
theorem dX2_four_22 : decode cX2_four 22 = .ok (.iastore, 1) := dk_79 (dk_at dksX2_four_0 22 rfl rfl)
theorem dX2_four_23 : decode cX2_four 23 = .ok (.aload_n 0, 1) := dk_42 (dk_at dksX2_four_0 23 rfl rfl)
theorem dX2_four_24 : decode cX2_four 24 = .ok (.dup, 1) := dk_89 (dk_at dksX2_four_1 0 rfl rfl)
theorem dX2_four_25 : decode cX2_four 25 = .ok (.getfield 86, 3) := dk_180 0 86 (dk_at dksX2_four_1 1 rfl rfl)
theorem dX2_four_28 : decode cX2_four 28 = .ok (.iconst 1, 1) := dk_4 (dk_at dksX2_four_1 4 rfl rfl)
theorem dX2_four_29 : decode cX2_four 29 = .ok (.iadd, 1) := dk_96 (dk_at dksX2_four_1 5 rfl rfl)
theorem dX2_four_30 : decode cX2_four 30 = .ok (.putfield 86, 3) := dk_181 0 86 (dk_at dksX2_four_1 6 rfl rfl)
theorem dX2_four_33 : decode cX2_four 33 = .ok (.iinc 2 (-8), 3) := dk_132 2 248 (dk_at dksX2_four_1 9 rfl rfl)
theorem dX2_four_36 : decode cX2_four 36 = .ok (.goto (-33), 3) := dk_167 255 223 (dk_at dksX2_four_1 12 rfl rfl)
theorem dX2_four_39 : decode cX2_four 39 = .ok (.return_, 1) := dk_177 (dk_at dksX2_four_1 15 rfl rfl)
abbrev cX2_end : ByteArray := prog_18_method_21_code
def yX2_end : MethodName := ⟨RX2, "end", "(I)I"⟩
def dkwX2_end_0 : List UInt8 := [27, 3, 42, 180, 0, 86, 184, 0, 62, 154, 0, 5, 2, 172, 42, 27, 181, 0, 86, 27, 172]
abbrev dktX2_end_0 : List UInt8 := dkwX2_end_0 ++ []
theorem dksX2_end_0 : cX2_end.data.toList.drop 0 = dktX2_end_0 := by decide +kernel
theorem dX2_end_0 : decode cX2_end 0 = .ok (.iload_n 1, 1) := dk_27 (dk_at dksX2_end_0 0 rfl rfl)
theorem dX2_end_1 : decode cX2_end 1 = .ok (.iconst 0, 1) := dk_3 (dk_at dksX2_end_0 1 rfl rfl)
theorem dX2_end_2 : decode cX2_end 2 = .ok (.aload_n 0, 1) := dk_42 (dk_at dksX2_end_0 2 rfl rfl)
theorem dX2_end_3 : decode cX2_end 3 = .ok (.getfield 86, 3) := dk_180 0 86 (dk_at dksX2_end_0 3 rfl rfl)
theorem dX2_end_6 : decode cX2_end 6 = .ok (.invokestatic 62, 3) := dk_184 0 62 (dk_at dksX2_end_0 6 rfl rfl)
theorem dX2_end_9 : decode cX2_end 9 = .ok (.ifCond .ne 5, 3) := dk_154 0 5 (dk_at dksX2_end_0 9 rfl rfl)
theorem dX2_end_12 : decode cX2_end 12 = .ok (.iconst (-1), 1) := dk_2 (dk_at dksX2_end_0 12 rfl rfl)
theorem dX2_end_13 : decode cX2_end 13 = .ok (.ireturn, 1) := dk_172 (dk_at dksX2_end_0 13 rfl rfl)
theorem dX2_end_14 : decode cX2_end 14 = .ok (.aload_n 0, 1) := dk_42 (dk_at dksX2_end_0 14 rfl rfl)
theorem dX2_end_15 : decode cX2_end 15 = .ok (.iload_n 1, 1) := dk_27 (dk_at dksX2_end_0 15 rfl rfl)
theorem dX2_end_16 : decode cX2_end 16 = .ok (.putfield 86, 3) := dk_181 0 86 (dk_at dksX2_end_0 16 rfl rfl)
theorem dX2_end_19 : decode cX2_end 19 = .ok (.iload_n 1, 1) := dk_27 (dk_at dksX2_end_0 19 rfl rfl)
theorem dX2_end_20 : decode cX2_end 20 = .ok (.ireturn, 1) := dk_172 (dk_at dksX2_end_0 20 rfl rfl)
abbrev cX2_text : ByteArray := prog_18_method_55_code
def yX2_text : MethodName := ⟨RX2, "text", "()I"⟩
def dkwX2_text_3 : List UInt8 := [4, 100, 172]
abbrev dktX2_text_3 : List UInt8 := dkwX2_text_3 ++ []
def dkwX2_text_2 : List UInt8 := [180, 0, 22, 153, 0, 5, 2, 172, 42, 180, 0, 7, 7, 92, 46, 4, 96, 79, 42, 180, 0, 7, 7, 46]
abbrev dktX2_text_2 : List UInt8 := dkwX2_text_2 ++ dktX2_text_3
def dkwX2_text_1 : List UInt8 := [180, 0, 22, 154, 0, 7, 2, 167, 0, 7, 42, 180, 0, 99, 181, 0, 26, 42, 3, 181, 0, 86, 42]
abbrev dktX2_text_1 : List UInt8 := dkwX2_text_1 ++ dktX2_text_2
def dkwX2_text_0 : List UInt8 := [42, 180, 0, 7, 7, 46, 7, 160, 0, 5, 2, 172, 42, 42, 182, 0, 245, 181, 0, 22, 42, 42]
abbrev dktX2_text_0 : List UInt8 := dkwX2_text_0 ++ dktX2_text_1
theorem dksX2_text_0 : cX2_text.data.toList.drop 0 = dktX2_text_0 := by decide +kernel
theorem dksX2_text_1 : cX2_text.data.toList.drop 22 = dktX2_text_1 := dk_seg dksX2_text_0 22 rfl rfl
theorem dksX2_text_2 : cX2_text.data.toList.drop 45 = dktX2_text_2 := dk_seg dksX2_text_1 23 rfl rfl
theorem dksX2_text_3 : cX2_text.data.toList.drop 69 = dktX2_text_3 := dk_seg dksX2_text_2 24 rfl rfl
theorem dX2_text_0 : decode cX2_text 0 = .ok (.aload_n 0, 1) := dk_42 (dk_at dksX2_text_0 0 rfl rfl)
theorem dX2_text_1 : decode cX2_text 1 = .ok (.getfield 7, 3) := dk_180 0 7 (dk_at dksX2_text_0 1 rfl rfl)
theorem dX2_text_4 : decode cX2_text 4 = .ok (.iconst 4, 1) := dk_7 (dk_at dksX2_text_0 4 rfl rfl)
theorem dX2_text_5 : decode cX2_text 5 = .ok (.iaload, 1) := dk_46 (dk_at dksX2_text_0 5 rfl rfl)
theorem dX2_text_6 : decode cX2_text 6 = .ok (.iconst 4, 1) := dk_7 (dk_at dksX2_text_0 6 rfl rfl)
theorem dX2_text_7 : decode cX2_text 7 = .ok (.if_icmp .ne 5, 3) := dk_160 0 5 (dk_at dksX2_text_0 7 rfl rfl)
theorem dX2_text_10 : decode cX2_text 10 = .ok (.iconst (-1), 1) := dk_2 (dk_at dksX2_text_0 10 rfl rfl)
theorem dX2_text_11 : decode cX2_text 11 = .ok (.ireturn, 1) := dk_172 (dk_at dksX2_text_0 11 rfl rfl)
theorem dX2_text_12 : decode cX2_text 12 = .ok (.aload_n 0, 1) := dk_42 (dk_at dksX2_text_0 12 rfl rfl)
theorem dX2_text_13 : decode cX2_text 13 = .ok (.aload_n 0, 1) := dk_42 (dk_at dksX2_text_0 13 rfl rfl)
theorem dX2_text_14 : decode cX2_text 14 = .ok (.invokevirtual 245, 3) := dk_182 0 245 (dk_at dksX2_text_0 14 rfl rfl)
theorem dX2_text_17 : decode cX2_text 17 = .ok (.putfield 22, 3) := dk_181 0 22 (dk_at dksX2_text_0 17 rfl rfl)
theorem dX2_text_20 : decode cX2_text 20 = .ok (.aload_n 0, 1) := dk_42 (dk_at dksX2_text_0 20 rfl rfl)
theorem dX2_text_21 : decode cX2_text 21 = .ok (.aload_n 0, 1) := dk_42 (dk_at dksX2_text_0 21 rfl rfl)
theorem dX2_text_22 : decode cX2_text 22 = .ok (.getfield 22, 3) := dk_180 0 22 (dk_at dksX2_text_1 0 rfl rfl)
theorem dX2_text_25 : decode cX2_text 25 = .ok (.ifCond .ne 7, 3) := dk_154 0 7 (dk_at dksX2_text_1 3 rfl rfl)
theorem dX2_text_28 : decode cX2_text 28 = .ok (.iconst (-1), 1) := dk_2 (dk_at dksX2_text_1 6 rfl rfl)
theorem dX2_text_29 : decode cX2_text 29 = .ok (.goto 7, 3) := dk_167 0 7 (dk_at dksX2_text_1 7 rfl rfl)
theorem dX2_text_32 : decode cX2_text 32 = .ok (.aload_n 0, 1) := dk_42 (dk_at dksX2_text_1 10 rfl rfl)
theorem dX2_text_33 : decode cX2_text 33 = .ok (.getfield 99, 3) := dk_180 0 99 (dk_at dksX2_text_1 11 rfl rfl)
theorem dX2_text_36 : decode cX2_text 36 = .ok (.putfield 26, 3) := dk_181 0 26 (dk_at dksX2_text_1 14 rfl rfl)
theorem dX2_text_39 : decode cX2_text 39 = .ok (.aload_n 0, 1) := dk_42 (dk_at dksX2_text_1 17 rfl rfl)
theorem dX2_text_40 : decode cX2_text 40 = .ok (.iconst 0, 1) := dk_3 (dk_at dksX2_text_1 18 rfl rfl)
theorem dX2_text_41 : decode cX2_text 41 = .ok (.putfield 86, 3) := dk_181 0 86 (dk_at dksX2_text_1 19 rfl rfl)
theorem dX2_text_44 : decode cX2_text 44 = .ok (.aload_n 0, 1) := dk_42 (dk_at dksX2_text_1 22 rfl rfl)
theorem dX2_text_45 : decode cX2_text 45 = .ok (.getfield 22, 3) := dk_180 0 22 (dk_at dksX2_text_2 0 rfl rfl)
theorem dX2_text_48 : decode cX2_text 48 = .ok (.ifCond .eq 5, 3) := dk_153 0 5 (dk_at dksX2_text_2 3 rfl rfl)
theorem dX2_text_51 : decode cX2_text 51 = .ok (.iconst (-1), 1) := dk_2 (dk_at dksX2_text_2 6 rfl rfl)
theorem dX2_text_52 : decode cX2_text 52 = .ok (.ireturn, 1) := dk_172 (dk_at dksX2_text_2 7 rfl rfl)
theorem dX2_text_53 : decode cX2_text 53 = .ok (.aload_n 0, 1) := dk_42 (dk_at dksX2_text_2 8 rfl rfl)
theorem dX2_text_54 : decode cX2_text 54 = .ok (.getfield 7, 3) := dk_180 0 7 (dk_at dksX2_text_2 9 rfl rfl)
theorem dX2_text_57 : decode cX2_text 57 = .ok (.iconst 4, 1) := dk_7 (dk_at dksX2_text_2 12 rfl rfl)
theorem dX2_text_58 : decode cX2_text 58 = .ok (.dup2, 1) := dk_92 (dk_at dksX2_text_2 13 rfl rfl)
theorem dX2_text_59 : decode cX2_text 59 = .ok (.iaload, 1) := dk_46 (dk_at dksX2_text_2 14 rfl rfl)
theorem dX2_text_60 : decode cX2_text 60 = .ok (.iconst 1, 1) := dk_4 (dk_at dksX2_text_2 15 rfl rfl)
theorem dX2_text_61 : decode cX2_text 61 = .ok (.iadd, 1) := dk_96 (dk_at dksX2_text_2 16 rfl rfl)
theorem dX2_text_62 : decode cX2_text 62 = .ok (.iastore, 1) := dk_79 (dk_at dksX2_text_2 17 rfl rfl)
theorem dX2_text_63 : decode cX2_text 63 = .ok (.aload_n 0, 1) := dk_42 (dk_at dksX2_text_2 18 rfl rfl)
theorem dX2_text_64 : decode cX2_text 64 = .ok (.getfield 7, 3) := dk_180 0 7 (dk_at dksX2_text_2 19 rfl rfl)
theorem dX2_text_67 : decode cX2_text 67 = .ok (.iconst 4, 1) := dk_7 (dk_at dksX2_text_2 22 rfl rfl)
theorem dX2_text_68 : decode cX2_text 68 = .ok (.iaload, 1) := dk_46 (dk_at dksX2_text_2 23 rfl rfl)
theorem dX2_text_69 : decode cX2_text 69 = .ok (.iconst 1, 1) := dk_4 (dk_at dksX2_text_3 0 rfl rfl)
theorem dX2_text_70 : decode cX2_text 70 = .ok (.isub, 1) := dk_100 (dk_at dksX2_text_3 1 rfl rfl)
theorem dX2_text_71 : decode cX2_text 71 = .ok (.ireturn, 1) := dk_172 (dk_at dksX2_text_3 2 rfl rfl)
abbrev cX2_readText : ByteArray := prog_18_method_54_code
def yX2_readText : MethodName := ⟨RX2, "readText", "()I"⟩
def dkwX2_readText_2 : List UInt8 := [42, 180, 0, 102, 153, 0, 17, 42, 182, 0, 242, 60, 27, 153, 0, 5, 27, 172, 167, 255, 238, 3, 172]
abbrev dktX2_readText_2 : List UInt8 := dkwX2_readText_2 ++ []
def dkwX2_readText_1 : List UInt8 := [42, 3, 181, 0, 130, 42, 3, 181, 0, 143, 42, 3, 181, 0, 233, 42, 3, 181, 0, 93, 42, 182, 0, 164]
abbrev dktX2_readText_1 : List UInt8 := dkwX2_readText_1 ++ dktX2_readText_2
def dkwX2_readText_0 : List UInt8 := [42, 17, 2, 168, 42, 180, 0, 7, 7, 46, 104, 181, 0, 127, 42, 180, 0, 16, 42, 180, 0, 127, 3, 79]
abbrev dktX2_readText_0 : List UInt8 := dkwX2_readText_0 ++ dktX2_readText_1
theorem dksX2_readText_0 : cX2_readText.data.toList.drop 0 = dktX2_readText_0 := by decide +kernel
theorem dksX2_readText_1 : cX2_readText.data.toList.drop 24 = dktX2_readText_1 := dk_seg dksX2_readText_0 24 rfl rfl
theorem dksX2_readText_2 : cX2_readText.data.toList.drop 48 = dktX2_readText_2 := dk_seg dksX2_readText_1 24 rfl rfl
theorem dX2_readText_0 : decode cX2_readText 0 = .ok (.aload_n 0, 1) := dk_42 (dk_at dksX2_readText_0 0 rfl rfl)
theorem dX2_readText_1 : decode cX2_readText 1 = .ok (.sipush 680, 3) := dk_17 2 168 (dk_at dksX2_readText_0 1 rfl rfl)
theorem dX2_readText_4 : decode cX2_readText 4 = .ok (.aload_n 0, 1) := dk_42 (dk_at dksX2_readText_0 4 rfl rfl)
theorem dX2_readText_5 : decode cX2_readText 5 = .ok (.getfield 7, 3) := dk_180 0 7 (dk_at dksX2_readText_0 5 rfl rfl)
theorem dX2_readText_8 : decode cX2_readText 8 = .ok (.iconst 4, 1) := dk_7 (dk_at dksX2_readText_0 8 rfl rfl)
theorem dX2_readText_9 : decode cX2_readText 9 = .ok (.iaload, 1) := dk_46 (dk_at dksX2_readText_0 9 rfl rfl)
theorem dX2_readText_10 : decode cX2_readText 10 = .ok (.imul, 1) := dk_104 (dk_at dksX2_readText_0 10 rfl rfl)
theorem dX2_readText_11 : decode cX2_readText 11 = .ok (.putfield 127, 3) := dk_181 0 127 (dk_at dksX2_readText_0 11 rfl rfl)
theorem dX2_readText_14 : decode cX2_readText 14 = .ok (.aload_n 0, 1) := dk_42 (dk_at dksX2_readText_0 14 rfl rfl)
theorem dX2_readText_15 : decode cX2_readText 15 = .ok (.getfield 16, 3) := dk_180 0 16 (dk_at dksX2_readText_0 15 rfl rfl)
theorem dX2_readText_18 : decode cX2_readText 18 = .ok (.aload_n 0, 1) := dk_42 (dk_at dksX2_readText_0 18 rfl rfl)
theorem dX2_readText_19 : decode cX2_readText 19 = .ok (.getfield 127, 3) := dk_180 0 127 (dk_at dksX2_readText_0 19 rfl rfl)
theorem dX2_readText_22 : decode cX2_readText 22 = .ok (.iconst 0, 1) := dk_3 (dk_at dksX2_readText_0 22 rfl rfl)
theorem dX2_readText_23 : decode cX2_readText 23 = .ok (.iastore, 1) := dk_79 (dk_at dksX2_readText_0 23 rfl rfl)
theorem dX2_readText_24 : decode cX2_readText 24 = .ok (.aload_n 0, 1) := dk_42 (dk_at dksX2_readText_1 0 rfl rfl)
theorem dX2_readText_25 : decode cX2_readText 25 = .ok (.iconst 0, 1) := dk_3 (dk_at dksX2_readText_1 1 rfl rfl)
theorem dX2_readText_26 : decode cX2_readText 26 = .ok (.putfield 130, 3) := dk_181 0 130 (dk_at dksX2_readText_1 2 rfl rfl)
theorem dX2_readText_29 : decode cX2_readText 29 = .ok (.aload_n 0, 1) := dk_42 (dk_at dksX2_readText_1 5 rfl rfl)
theorem dX2_readText_30 : decode cX2_readText 30 = .ok (.iconst 0, 1) := dk_3 (dk_at dksX2_readText_1 6 rfl rfl)
theorem dX2_readText_31 : decode cX2_readText 31 = .ok (.putfield 143, 3) := dk_181 0 143 (dk_at dksX2_readText_1 7 rfl rfl)
theorem dX2_readText_34 : decode cX2_readText 34 = .ok (.aload_n 0, 1) := dk_42 (dk_at dksX2_readText_1 10 rfl rfl)
theorem dX2_readText_35 : decode cX2_readText 35 = .ok (.iconst 0, 1) := dk_3 (dk_at dksX2_readText_1 11 rfl rfl)
theorem dX2_readText_36 : decode cX2_readText 36 = .ok (.putfield 233, 3) := dk_181 0 233 (dk_at dksX2_readText_1 12 rfl rfl)
theorem dX2_readText_39 : decode cX2_readText 39 = .ok (.aload_n 0, 1) := dk_42 (dk_at dksX2_readText_1 15 rfl rfl)
theorem dX2_readText_40 : decode cX2_readText 40 = .ok (.iconst 0, 1) := dk_3 (dk_at dksX2_readText_1 16 rfl rfl)
theorem dX2_readText_41 : decode cX2_readText 41 = .ok (.putfield 93, 3) := dk_181 0 93 (dk_at dksX2_readText_1 17 rfl rfl)
theorem dX2_readText_44 : decode cX2_readText 44 = .ok (.aload_n 0, 1) := dk_42 (dk_at dksX2_readText_1 20 rfl rfl)
theorem dX2_readText_45 : decode cX2_readText 45 = .ok (.invokevirtual 164, 3) := dk_182 0 164 (dk_at dksX2_readText_1 21 rfl rfl)
theorem dX2_readText_48 : decode cX2_readText 48 = .ok (.aload_n 0, 1) := dk_42 (dk_at dksX2_readText_2 0 rfl rfl)
theorem dX2_readText_49 : decode cX2_readText 49 = .ok (.getfield 102, 3) := dk_180 0 102 (dk_at dksX2_readText_2 1 rfl rfl)
theorem dX2_readText_52 : decode cX2_readText 52 = .ok (.ifCond .eq 17, 3) := dk_153 0 17 (dk_at dksX2_readText_2 4 rfl rfl)
theorem dX2_readText_55 : decode cX2_readText 55 = .ok (.aload_n 0, 1) := dk_42 (dk_at dksX2_readText_2 7 rfl rfl)
theorem dX2_readText_56 : decode cX2_readText 56 = .ok (.invokevirtual 242, 3) := dk_182 0 242 (dk_at dksX2_readText_2 8 rfl rfl)
theorem dX2_readText_59 : decode cX2_readText 59 = .ok (.istore_n 1, 1) := dk_60 (dk_at dksX2_readText_2 11 rfl rfl)
theorem dX2_readText_60 : decode cX2_readText 60 = .ok (.iload_n 1, 1) := dk_27 (dk_at dksX2_readText_2 12 rfl rfl)
theorem dX2_readText_61 : decode cX2_readText 61 = .ok (.ifCond .eq 5, 3) := dk_153 0 5 (dk_at dksX2_readText_2 13 rfl rfl)
theorem dX2_readText_64 : decode cX2_readText 64 = .ok (.iload_n 1, 1) := dk_27 (dk_at dksX2_readText_2 16 rfl rfl)
theorem dX2_readText_65 : decode cX2_readText 65 = .ok (.ireturn, 1) := dk_172 (dk_at dksX2_readText_2 17 rfl rfl)
theorem dX2_readText_66 : decode cX2_readText 66 = .ok (.goto (-18), 3) := dk_167 255 238 (dk_at dksX2_readText_2 18 rfl rfl)
theorem dX2_readText_69 : decode cX2_readText 69 = .ok (.iconst 0, 1) := dk_3 (dk_at dksX2_readText_2 21 rfl rfl)
theorem dX2_readText_70 : decode cX2_readText 70 = .ok (.ireturn, 1) := dk_172 (dk_at dksX2_readText_2 22 rfl rfl)
abbrev cX2_nextToken : ByteArray := prog_18_method_25_code
def yX2_nextToken : MethodName := ⟨RX2, "nextToken", "()V"⟩
def dkwX2_nextToken_17 : List UInt8 := [167, 0, 4, 8, 181, 0, 102, 177]
abbrev dktX2_nextToken_17 : List UInt8 := dkwX2_nextToken_17 ++ []
def dkwX2_nextToken_16 : List UInt8 := [16, 61, 160, 0, 28, 42, 89, 180, 0, 93, 4, 96, 181, 0, 93, 42, 27, 16, 60, 160, 0, 7, 7]
abbrev dktX2_nextToken_16 : List UInt8 := dkwX2_nextToken_16 ++ dktX2_nextToken_17
def dkwX2_nextToken_15 : List UInt8 := [6, 181, 0, 102, 27, 16, 60, 159, 0, 9, 27, 16, 62, 160, 0, 41, 42, 42, 180, 0, 93, 182, 0, 96]
abbrev dktX2_nextToken_15 : List UInt8 := dkwX2_nextToken_15 ++ dktX2_nextToken_16
def dkwX2_nextToken_14 : List UInt8 := [159, 0, 9, 27, 16, 58, 160, 0, 7, 4, 167, 0, 4, 3, 61, 42, 28, 153, 0, 7, 27, 167, 0, 4]
abbrev dktX2_nextToken_14 : List UInt8 := dkwX2_nextToken_14 ++ dktX2_nextToken_15
def dkwX2_nextToken_13 : List UInt8 := [159, 0, 33, 27, 16, 41, 159, 0, 27, 27, 16, 59, 159, 0, 21, 27, 16, 44, 159, 0, 15, 27, 16, 63]
abbrev dktX2_nextToken_13 : List UInt8 := dkwX2_nextToken_13 ++ dktX2_nextToken_14
def dkwX2_nextToken_12 : List UInt8 := [159, 0, 57, 27, 16, 45, 159, 0, 51, 27, 16, 42, 159, 0, 45, 27, 16, 47, 159, 0, 39, 27, 16, 40]
abbrev dktX2_nextToken_12 : List UInt8 := dkwX2_nextToken_12 ++ dktX2_nextToken_13
def dkwX2_nextToken_11 : List UInt8 := [159, 0, 81, 27, 16, 62, 159, 0, 75, 27, 16, 61, 159, 0, 69, 27, 16, 35, 159, 0, 63, 27, 16, 43]
abbrev dktX2_nextToken_11 : List UInt8 := dkwX2_nextToken_11 ++ dktX2_nextToken_12
def dkwX2_nextToken_10 : List UInt8 := [164, 0, 174, 42, 9, 181, 0, 115, 167, 0, 166, 42, 89, 180, 0, 93, 4, 96, 181, 0, 93, 27, 16, 60]
abbrev dktX2_nextToken_10 : List UInt8 := dkwX2_nextToken_10 ++ dktX2_nextToken_11
def dkwX2_nextToken_9 : List UInt8 := [42, 89, 180, 0, 93, 4, 96, 181, 0, 93, 167, 255, 197, 42, 180, 0, 93, 42, 180, 0, 99, 100, 16, 7]
abbrev dktX2_nextToken_9 : List UInt8 := dkwX2_nextToken_9 ++ dktX2_nextToken_10
def dkwX2_nextToken_8 : List UInt8 := [162, 0, 24, 42, 42, 180, 0, 115, 16, 8, 121, 42, 42, 180, 0, 93, 182, 0, 96, 133, 129, 181, 0, 115]
abbrev dktX2_nextToken_8 : List UInt8 := dkwX2_nextToken_8 ++ dktX2_nextToken_9
def dkwX2_nextToken_7 : List UInt8 := [180, 0, 93, 182, 0, 96, 184, 0, 112, 153, 0, 51, 42, 180, 0, 93, 42, 180, 0, 99, 100, 16, 7]
abbrev dktX2_nextToken_7 : List UInt8 := dkwX2_nextToken_7 ++ dktX2_nextToken_8
def dkwX2_nextToken_6 : List UInt8 := [167, 255, 200, 27, 184, 0, 112, 153, 0, 97, 42, 5, 181, 0, 102, 42, 9, 181, 0, 115, 42, 42]
abbrev dktX2_nextToken_6 : List UInt8 := dkwX2_nextToken_6 ++ dktX2_nextToken_7
def dkwX2_nextToken_5 : List UInt8 := [42, 180, 0, 93, 182, 0, 96, 96, 16, 48, 100, 181, 0, 108, 42, 89, 180, 0, 93, 4, 96, 181, 0, 93]
abbrev dktX2_nextToken_5 : List UInt8 := dkwX2_nextToken_5 ++ dktX2_nextToken_6
def dkwX2_nextToken_4 : List UInt8 := [184, 0, 105, 153, 1, 56, 42, 180, 0, 108, 18, 111, 162, 0, 26, 42, 16, 10, 42, 180, 0, 108, 104, 42]
abbrev dktX2_nextToken_4 : List UInt8 := dkwX2_nextToken_4 ++ dktX2_nextToken_5
def dkwX2_nextToken_3 : List UInt8 := [184, 0, 105, 153, 0, 72, 42, 4, 181, 0, 102, 42, 3, 181, 0, 108, 42, 42, 180, 0, 93, 182, 0, 96]
abbrev dktX2_nextToken_3 : List UInt8 := dkwX2_nextToken_3 ++ dktX2_nextToken_4
def dkwX2_nextToken_2 : List UInt8 := [42, 42, 180, 0, 93, 182, 0, 96, 60, 27, 156, 0, 11, 42, 3, 181, 0, 102, 167, 1, 87, 27]
abbrev dktX2_nextToken_2 : List UInt8 := dkwX2_nextToken_2 ++ dktX2_nextToken_3
def dkwX2_nextToken_1 : List UInt8 := [160, 0, 16, 42, 89, 180, 0, 93, 4, 96, 181, 0, 93, 167, 255, 220, 42, 42, 180, 0, 93, 181, 0, 99]
abbrev dktX2_nextToken_1 : List UInt8 := dkwX2_nextToken_1 ++ dktX2_nextToken_2
def dkwX2_nextToken_0 : List UInt8 := [42, 42, 180, 0, 93, 182, 0, 96, 16, 32, 159, 0, 16, 42, 42, 180, 0, 93, 182, 0, 96, 16, 10]
abbrev dktX2_nextToken_0 : List UInt8 := dkwX2_nextToken_0 ++ dktX2_nextToken_1
theorem dksX2_nextToken_0 : cX2_nextToken.data.toList.drop 0 = dktX2_nextToken_0 := by decide +kernel
theorem dksX2_nextToken_1 : cX2_nextToken.data.toList.drop 23 = dktX2_nextToken_1 := dk_seg dksX2_nextToken_0 23 rfl rfl
theorem dksX2_nextToken_2 : cX2_nextToken.data.toList.drop 47 = dktX2_nextToken_2 := dk_seg dksX2_nextToken_1 24 rfl rfl
theorem dksX2_nextToken_3 : cX2_nextToken.data.toList.drop 69 = dktX2_nextToken_3 := dk_seg dksX2_nextToken_2 22 rfl rfl
theorem dksX2_nextToken_4 : cX2_nextToken.data.toList.drop 93 = dktX2_nextToken_4 := dk_seg dksX2_nextToken_3 24 rfl rfl
theorem dksX2_nextToken_5 : cX2_nextToken.data.toList.drop 117 = dktX2_nextToken_5 := dk_seg dksX2_nextToken_4 24 rfl rfl
theorem dksX2_nextToken_6 : cX2_nextToken.data.toList.drop 141 = dktX2_nextToken_6 := dk_seg dksX2_nextToken_5 24 rfl rfl
theorem dksX2_nextToken_7 : cX2_nextToken.data.toList.drop 163 = dktX2_nextToken_7 := dk_seg dksX2_nextToken_6 22 rfl rfl
theorem dksX2_nextToken_8 : cX2_nextToken.data.toList.drop 186 = dktX2_nextToken_8 := dk_seg dksX2_nextToken_7 23 rfl rfl
theorem dksX2_nextToken_9 : cX2_nextToken.data.toList.drop 210 = dktX2_nextToken_9 := dk_seg dksX2_nextToken_8 24 rfl rfl
theorem dksX2_nextToken_10 : cX2_nextToken.data.toList.drop 234 = dktX2_nextToken_10 := dk_seg dksX2_nextToken_9 24 rfl rfl
theorem dksX2_nextToken_11 : cX2_nextToken.data.toList.drop 258 = dktX2_nextToken_11 := dk_seg dksX2_nextToken_10 24 rfl rfl
theorem dksX2_nextToken_12 : cX2_nextToken.data.toList.drop 282 = dktX2_nextToken_12 := dk_seg dksX2_nextToken_11 24 rfl rfl
theorem dksX2_nextToken_13 : cX2_nextToken.data.toList.drop 306 = dktX2_nextToken_13 := dk_seg dksX2_nextToken_12 24 rfl rfl
theorem dksX2_nextToken_14 : cX2_nextToken.data.toList.drop 330 = dktX2_nextToken_14 := dk_seg dksX2_nextToken_13 24 rfl rfl
theorem dksX2_nextToken_15 : cX2_nextToken.data.toList.drop 354 = dktX2_nextToken_15 := dk_seg dksX2_nextToken_14 24 rfl rfl
theorem dksX2_nextToken_16 : cX2_nextToken.data.toList.drop 378 = dktX2_nextToken_16 := dk_seg dksX2_nextToken_15 24 rfl rfl
theorem dksX2_nextToken_17 : cX2_nextToken.data.toList.drop 401 = dktX2_nextToken_17 := dk_seg dksX2_nextToken_16 23 rfl rfl
theorem dX2_nextToken_0 : decode cX2_nextToken 0 = .ok (.aload_n 0, 1) := dk_42 (dk_at dksX2_nextToken_0 0 rfl rfl)
theorem dX2_nextToken_1 : decode cX2_nextToken 1 = .ok (.aload_n 0, 1) := dk_42 (dk_at dksX2_nextToken_0 1 rfl rfl)
theorem dX2_nextToken_2 : decode cX2_nextToken 2 = .ok (.getfield 93, 3) := dk_180 0 93 (dk_at dksX2_nextToken_0 2 rfl rfl)
theorem dX2_nextToken_5 : decode cX2_nextToken 5 = .ok (.invokevirtual 96, 3) := dk_182 0 96 (dk_at dksX2_nextToken_0 5 rfl rfl)
theorem dX2_nextToken_8 : decode cX2_nextToken 8 = .ok (.bipush 32, 2) := dk_16 32 (dk_at dksX2_nextToken_0 8 rfl rfl)
theorem dX2_nextToken_10 : decode cX2_nextToken 10 = .ok (.if_icmp .eq 16, 3) := dk_159 0 16 (dk_at dksX2_nextToken_0 10 rfl rfl)
theorem dX2_nextToken_13 : decode cX2_nextToken 13 = .ok (.aload_n 0, 1) := dk_42 (dk_at dksX2_nextToken_0 13 rfl rfl)
theorem dX2_nextToken_14 : decode cX2_nextToken 14 = .ok (.aload_n 0, 1) := dk_42 (dk_at dksX2_nextToken_0 14 rfl rfl)
theorem dX2_nextToken_15 : decode cX2_nextToken 15 = .ok (.getfield 93, 3) := dk_180 0 93 (dk_at dksX2_nextToken_0 15 rfl rfl)
theorem dX2_nextToken_18 : decode cX2_nextToken 18 = .ok (.invokevirtual 96, 3) := dk_182 0 96 (dk_at dksX2_nextToken_0 18 rfl rfl)
theorem dX2_nextToken_21 : decode cX2_nextToken 21 = .ok (.bipush 10, 2) := dk_16 10 (dk_at dksX2_nextToken_0 21 rfl rfl)
theorem dX2_nextToken_23 : decode cX2_nextToken 23 = .ok (.if_icmp .ne 16, 3) := dk_160 0 16 (dk_at dksX2_nextToken_1 0 rfl rfl)
theorem dX2_nextToken_26 : decode cX2_nextToken 26 = .ok (.aload_n 0, 1) := dk_42 (dk_at dksX2_nextToken_1 3 rfl rfl)
theorem dX2_nextToken_27 : decode cX2_nextToken 27 = .ok (.dup, 1) := dk_89 (dk_at dksX2_nextToken_1 4 rfl rfl)
theorem dX2_nextToken_28 : decode cX2_nextToken 28 = .ok (.getfield 93, 3) := dk_180 0 93 (dk_at dksX2_nextToken_1 5 rfl rfl)
theorem dX2_nextToken_31 : decode cX2_nextToken 31 = .ok (.iconst 1, 1) := dk_4 (dk_at dksX2_nextToken_1 8 rfl rfl)
theorem dX2_nextToken_32 : decode cX2_nextToken 32 = .ok (.iadd, 1) := dk_96 (dk_at dksX2_nextToken_1 9 rfl rfl)
theorem dX2_nextToken_33 : decode cX2_nextToken 33 = .ok (.putfield 93, 3) := dk_181 0 93 (dk_at dksX2_nextToken_1 10 rfl rfl)
theorem dX2_nextToken_36 : decode cX2_nextToken 36 = .ok (.goto (-36), 3) := dk_167 255 220 (dk_at dksX2_nextToken_1 13 rfl rfl)
theorem dX2_nextToken_39 : decode cX2_nextToken 39 = .ok (.aload_n 0, 1) := dk_42 (dk_at dksX2_nextToken_1 16 rfl rfl)
theorem dX2_nextToken_40 : decode cX2_nextToken 40 = .ok (.aload_n 0, 1) := dk_42 (dk_at dksX2_nextToken_1 17 rfl rfl)
theorem dX2_nextToken_41 : decode cX2_nextToken 41 = .ok (.getfield 93, 3) := dk_180 0 93 (dk_at dksX2_nextToken_1 18 rfl rfl)
theorem dX2_nextToken_44 : decode cX2_nextToken 44 = .ok (.putfield 99, 3) := dk_181 0 99 (dk_at dksX2_nextToken_1 21 rfl rfl)
theorem dX2_nextToken_47 : decode cX2_nextToken 47 = .ok (.aload_n 0, 1) := dk_42 (dk_at dksX2_nextToken_2 0 rfl rfl)
theorem dX2_nextToken_48 : decode cX2_nextToken 48 = .ok (.aload_n 0, 1) := dk_42 (dk_at dksX2_nextToken_2 1 rfl rfl)
theorem dX2_nextToken_49 : decode cX2_nextToken 49 = .ok (.getfield 93, 3) := dk_180 0 93 (dk_at dksX2_nextToken_2 2 rfl rfl)
theorem dX2_nextToken_52 : decode cX2_nextToken 52 = .ok (.invokevirtual 96, 3) := dk_182 0 96 (dk_at dksX2_nextToken_2 5 rfl rfl)
theorem dX2_nextToken_55 : decode cX2_nextToken 55 = .ok (.istore_n 1, 1) := dk_60 (dk_at dksX2_nextToken_2 8 rfl rfl)
theorem dX2_nextToken_56 : decode cX2_nextToken 56 = .ok (.iload_n 1, 1) := dk_27 (dk_at dksX2_nextToken_2 9 rfl rfl)
theorem dX2_nextToken_57 : decode cX2_nextToken 57 = .ok (.ifCond .ge 11, 3) := dk_156 0 11 (dk_at dksX2_nextToken_2 10 rfl rfl)
theorem dX2_nextToken_60 : decode cX2_nextToken 60 = .ok (.aload_n 0, 1) := dk_42 (dk_at dksX2_nextToken_2 13 rfl rfl)
theorem dX2_nextToken_61 : decode cX2_nextToken 61 = .ok (.iconst 0, 1) := dk_3 (dk_at dksX2_nextToken_2 14 rfl rfl)
theorem dX2_nextToken_62 : decode cX2_nextToken 62 = .ok (.putfield 102, 3) := dk_181 0 102 (dk_at dksX2_nextToken_2 15 rfl rfl)
theorem dX2_nextToken_65 : decode cX2_nextToken 65 = .ok (.goto 343, 3) := dk_167 1 87 (dk_at dksX2_nextToken_2 18 rfl rfl)
theorem dX2_nextToken_68 : decode cX2_nextToken 68 = .ok (.iload_n 1, 1) := dk_27 (dk_at dksX2_nextToken_2 21 rfl rfl)
theorem dX2_nextToken_69 : decode cX2_nextToken 69 = .ok (.invokestatic 105, 3) := dk_184 0 105 (dk_at dksX2_nextToken_3 0 rfl rfl)
theorem dX2_nextToken_72 : decode cX2_nextToken 72 = .ok (.ifCond .eq 72, 3) := dk_153 0 72 (dk_at dksX2_nextToken_3 3 rfl rfl)
theorem dX2_nextToken_75 : decode cX2_nextToken 75 = .ok (.aload_n 0, 1) := dk_42 (dk_at dksX2_nextToken_3 6 rfl rfl)
theorem dX2_nextToken_76 : decode cX2_nextToken 76 = .ok (.iconst 1, 1) := dk_4 (dk_at dksX2_nextToken_3 7 rfl rfl)
theorem dX2_nextToken_77 : decode cX2_nextToken 77 = .ok (.putfield 102, 3) := dk_181 0 102 (dk_at dksX2_nextToken_3 8 rfl rfl)
theorem dX2_nextToken_80 : decode cX2_nextToken 80 = .ok (.aload_n 0, 1) := dk_42 (dk_at dksX2_nextToken_3 11 rfl rfl)
theorem dX2_nextToken_81 : decode cX2_nextToken 81 = .ok (.iconst 0, 1) := dk_3 (dk_at dksX2_nextToken_3 12 rfl rfl)
theorem dX2_nextToken_82 : decode cX2_nextToken 82 = .ok (.putfield 108, 3) := dk_181 0 108 (dk_at dksX2_nextToken_3 13 rfl rfl)
theorem dX2_nextToken_85 : decode cX2_nextToken 85 = .ok (.aload_n 0, 1) := dk_42 (dk_at dksX2_nextToken_3 16 rfl rfl)
theorem dX2_nextToken_86 : decode cX2_nextToken 86 = .ok (.aload_n 0, 1) := dk_42 (dk_at dksX2_nextToken_3 17 rfl rfl)
theorem dX2_nextToken_87 : decode cX2_nextToken 87 = .ok (.getfield 93, 3) := dk_180 0 93 (dk_at dksX2_nextToken_3 18 rfl rfl)
theorem dX2_nextToken_90 : decode cX2_nextToken 90 = .ok (.invokevirtual 96, 3) := dk_182 0 96 (dk_at dksX2_nextToken_3 21 rfl rfl)
theorem dX2_nextToken_93 : decode cX2_nextToken 93 = .ok (.invokestatic 105, 3) := dk_184 0 105 (dk_at dksX2_nextToken_4 0 rfl rfl)
theorem dX2_nextToken_96 : decode cX2_nextToken 96 = .ok (.ifCond .eq 312, 3) := dk_153 1 56 (dk_at dksX2_nextToken_4 3 rfl rfl)
theorem dX2_nextToken_99 : decode cX2_nextToken 99 = .ok (.aload_n 0, 1) := dk_42 (dk_at dksX2_nextToken_4 6 rfl rfl)
theorem dX2_nextToken_100 : decode cX2_nextToken 100 = .ok (.getfield 108, 3) := dk_180 0 108 (dk_at dksX2_nextToken_4 7 rfl rfl)
theorem dX2_nextToken_103 : decode cX2_nextToken 103 = .ok (.ldc 111, 2) := dk_18 111 (dk_at dksX2_nextToken_4 10 rfl rfl)
theorem dX2_nextToken_105 : decode cX2_nextToken 105 = .ok (.if_icmp .ge 26, 3) := dk_162 0 26 (dk_at dksX2_nextToken_4 12 rfl rfl)
theorem dX2_nextToken_108 : decode cX2_nextToken 108 = .ok (.aload_n 0, 1) := dk_42 (dk_at dksX2_nextToken_4 15 rfl rfl)
theorem dX2_nextToken_109 : decode cX2_nextToken 109 = .ok (.bipush 10, 2) := dk_16 10 (dk_at dksX2_nextToken_4 16 rfl rfl)
theorem dX2_nextToken_111 : decode cX2_nextToken 111 = .ok (.aload_n 0, 1) := dk_42 (dk_at dksX2_nextToken_4 18 rfl rfl)
theorem dX2_nextToken_112 : decode cX2_nextToken 112 = .ok (.getfield 108, 3) := dk_180 0 108 (dk_at dksX2_nextToken_4 19 rfl rfl)
theorem dX2_nextToken_115 : decode cX2_nextToken 115 = .ok (.imul, 1) := dk_104 (dk_at dksX2_nextToken_4 22 rfl rfl)
theorem dX2_nextToken_116 : decode cX2_nextToken 116 = .ok (.aload_n 0, 1) := dk_42 (dk_at dksX2_nextToken_4 23 rfl rfl)
theorem dX2_nextToken_117 : decode cX2_nextToken 117 = .ok (.aload_n 0, 1) := dk_42 (dk_at dksX2_nextToken_5 0 rfl rfl)
theorem dX2_nextToken_118 : decode cX2_nextToken 118 = .ok (.getfield 93, 3) := dk_180 0 93 (dk_at dksX2_nextToken_5 1 rfl rfl)
theorem dX2_nextToken_121 : decode cX2_nextToken 121 = .ok (.invokevirtual 96, 3) := dk_182 0 96 (dk_at dksX2_nextToken_5 4 rfl rfl)
theorem dX2_nextToken_124 : decode cX2_nextToken 124 = .ok (.iadd, 1) := dk_96 (dk_at dksX2_nextToken_5 7 rfl rfl)
theorem dX2_nextToken_125 : decode cX2_nextToken 125 = .ok (.bipush 48, 2) := dk_16 48 (dk_at dksX2_nextToken_5 8 rfl rfl)
theorem dX2_nextToken_127 : decode cX2_nextToken 127 = .ok (.isub, 1) := dk_100 (dk_at dksX2_nextToken_5 10 rfl rfl)
theorem dX2_nextToken_128 : decode cX2_nextToken 128 = .ok (.putfield 108, 3) := dk_181 0 108 (dk_at dksX2_nextToken_5 11 rfl rfl)
theorem dX2_nextToken_131 : decode cX2_nextToken 131 = .ok (.aload_n 0, 1) := dk_42 (dk_at dksX2_nextToken_5 14 rfl rfl)
theorem dX2_nextToken_132 : decode cX2_nextToken 132 = .ok (.dup, 1) := dk_89 (dk_at dksX2_nextToken_5 15 rfl rfl)
theorem dX2_nextToken_133 : decode cX2_nextToken 133 = .ok (.getfield 93, 3) := dk_180 0 93 (dk_at dksX2_nextToken_5 16 rfl rfl)
theorem dX2_nextToken_136 : decode cX2_nextToken 136 = .ok (.iconst 1, 1) := dk_4 (dk_at dksX2_nextToken_5 19 rfl rfl)
theorem dX2_nextToken_137 : decode cX2_nextToken 137 = .ok (.iadd, 1) := dk_96 (dk_at dksX2_nextToken_5 20 rfl rfl)
theorem dX2_nextToken_138 : decode cX2_nextToken 138 = .ok (.putfield 93, 3) := dk_181 0 93 (dk_at dksX2_nextToken_5 21 rfl rfl)
theorem dX2_nextToken_141 : decode cX2_nextToken 141 = .ok (.goto (-56), 3) := dk_167 255 200 (dk_at dksX2_nextToken_6 0 rfl rfl)
theorem dX2_nextToken_144 : decode cX2_nextToken 144 = .ok (.iload_n 1, 1) := dk_27 (dk_at dksX2_nextToken_6 3 rfl rfl)
theorem dX2_nextToken_145 : decode cX2_nextToken 145 = .ok (.invokestatic 112, 3) := dk_184 0 112 (dk_at dksX2_nextToken_6 4 rfl rfl)
theorem dX2_nextToken_148 : decode cX2_nextToken 148 = .ok (.ifCond .eq 97, 3) := dk_153 0 97 (dk_at dksX2_nextToken_6 7 rfl rfl)
theorem dX2_nextToken_151 : decode cX2_nextToken 151 = .ok (.aload_n 0, 1) := dk_42 (dk_at dksX2_nextToken_6 10 rfl rfl)
theorem dX2_nextToken_152 : decode cX2_nextToken 152 = .ok (.iconst 2, 1) := dk_5 (dk_at dksX2_nextToken_6 11 rfl rfl)
theorem dX2_nextToken_153 : decode cX2_nextToken 153 = .ok (.putfield 102, 3) := dk_181 0 102 (dk_at dksX2_nextToken_6 12 rfl rfl)
theorem dX2_nextToken_156 : decode cX2_nextToken 156 = .ok (.aload_n 0, 1) := dk_42 (dk_at dksX2_nextToken_6 15 rfl rfl)
theorem dX2_nextToken_157 : decode cX2_nextToken 157 = .ok (.lconst 0, 1) := dk_9 (dk_at dksX2_nextToken_6 16 rfl rfl)
theorem dX2_nextToken_158 : decode cX2_nextToken 158 = .ok (.putfield 115, 3) := dk_181 0 115 (dk_at dksX2_nextToken_6 17 rfl rfl)
theorem dX2_nextToken_161 : decode cX2_nextToken 161 = .ok (.aload_n 0, 1) := dk_42 (dk_at dksX2_nextToken_6 20 rfl rfl)
theorem dX2_nextToken_162 : decode cX2_nextToken 162 = .ok (.aload_n 0, 1) := dk_42 (dk_at dksX2_nextToken_6 21 rfl rfl)
theorem dX2_nextToken_163 : decode cX2_nextToken 163 = .ok (.getfield 93, 3) := dk_180 0 93 (dk_at dksX2_nextToken_7 0 rfl rfl)
theorem dX2_nextToken_166 : decode cX2_nextToken 166 = .ok (.invokevirtual 96, 3) := dk_182 0 96 (dk_at dksX2_nextToken_7 3 rfl rfl)
theorem dX2_nextToken_169 : decode cX2_nextToken 169 = .ok (.invokestatic 112, 3) := dk_184 0 112 (dk_at dksX2_nextToken_7 6 rfl rfl)
theorem dX2_nextToken_172 : decode cX2_nextToken 172 = .ok (.ifCond .eq 51, 3) := dk_153 0 51 (dk_at dksX2_nextToken_7 9 rfl rfl)
theorem dX2_nextToken_175 : decode cX2_nextToken 175 = .ok (.aload_n 0, 1) := dk_42 (dk_at dksX2_nextToken_7 12 rfl rfl)
theorem dX2_nextToken_176 : decode cX2_nextToken 176 = .ok (.getfield 93, 3) := dk_180 0 93 (dk_at dksX2_nextToken_7 13 rfl rfl)
theorem dX2_nextToken_179 : decode cX2_nextToken 179 = .ok (.aload_n 0, 1) := dk_42 (dk_at dksX2_nextToken_7 16 rfl rfl)
theorem dX2_nextToken_180 : decode cX2_nextToken 180 = .ok (.getfield 99, 3) := dk_180 0 99 (dk_at dksX2_nextToken_7 17 rfl rfl)
theorem dX2_nextToken_183 : decode cX2_nextToken 183 = .ok (.isub, 1) := dk_100 (dk_at dksX2_nextToken_7 20 rfl rfl)
theorem dX2_nextToken_184 : decode cX2_nextToken 184 = .ok (.bipush 7, 2) := dk_16 7 (dk_at dksX2_nextToken_7 21 rfl rfl)
theorem dX2_nextToken_186 : decode cX2_nextToken 186 = .ok (.if_icmp .ge 24, 3) := dk_162 0 24 (dk_at dksX2_nextToken_8 0 rfl rfl)
theorem dX2_nextToken_189 : decode cX2_nextToken 189 = .ok (.aload_n 0, 1) := dk_42 (dk_at dksX2_nextToken_8 3 rfl rfl)
theorem dX2_nextToken_190 : decode cX2_nextToken 190 = .ok (.aload_n 0, 1) := dk_42 (dk_at dksX2_nextToken_8 4 rfl rfl)
theorem dX2_nextToken_191 : decode cX2_nextToken 191 = .ok (.getfield 115, 3) := dk_180 0 115 (dk_at dksX2_nextToken_8 5 rfl rfl)
theorem dX2_nextToken_194 : decode cX2_nextToken 194 = .ok (.bipush 8, 2) := dk_16 8 (dk_at dksX2_nextToken_8 8 rfl rfl)
theorem dX2_nextToken_196 : decode cX2_nextToken 196 = .ok (.lshl, 1) := dk_121 (dk_at dksX2_nextToken_8 10 rfl rfl)
theorem dX2_nextToken_197 : decode cX2_nextToken 197 = .ok (.aload_n 0, 1) := dk_42 (dk_at dksX2_nextToken_8 11 rfl rfl)
theorem dX2_nextToken_198 : decode cX2_nextToken 198 = .ok (.aload_n 0, 1) := dk_42 (dk_at dksX2_nextToken_8 12 rfl rfl)
theorem dX2_nextToken_199 : decode cX2_nextToken 199 = .ok (.getfield 93, 3) := dk_180 0 93 (dk_at dksX2_nextToken_8 13 rfl rfl)
theorem dX2_nextToken_202 : decode cX2_nextToken 202 = .ok (.invokevirtual 96, 3) := dk_182 0 96 (dk_at dksX2_nextToken_8 16 rfl rfl)
theorem dX2_nextToken_205 : decode cX2_nextToken 205 = .ok (.i2l, 1) := dk_133 (dk_at dksX2_nextToken_8 19 rfl rfl)
theorem dX2_nextToken_206 : decode cX2_nextToken 206 = .ok (.lor, 1) := dk_129 (dk_at dksX2_nextToken_8 20 rfl rfl)
theorem dX2_nextToken_207 : decode cX2_nextToken 207 = .ok (.putfield 115, 3) := dk_181 0 115 (dk_at dksX2_nextToken_8 21 rfl rfl)
theorem dX2_nextToken_210 : decode cX2_nextToken 210 = .ok (.aload_n 0, 1) := dk_42 (dk_at dksX2_nextToken_9 0 rfl rfl)
theorem dX2_nextToken_211 : decode cX2_nextToken 211 = .ok (.dup, 1) := dk_89 (dk_at dksX2_nextToken_9 1 rfl rfl)
theorem dX2_nextToken_212 : decode cX2_nextToken 212 = .ok (.getfield 93, 3) := dk_180 0 93 (dk_at dksX2_nextToken_9 2 rfl rfl)
theorem dX2_nextToken_215 : decode cX2_nextToken 215 = .ok (.iconst 1, 1) := dk_4 (dk_at dksX2_nextToken_9 5 rfl rfl)
theorem dX2_nextToken_216 : decode cX2_nextToken 216 = .ok (.iadd, 1) := dk_96 (dk_at dksX2_nextToken_9 6 rfl rfl)
theorem dX2_nextToken_217 : decode cX2_nextToken 217 = .ok (.putfield 93, 3) := dk_181 0 93 (dk_at dksX2_nextToken_9 7 rfl rfl)
theorem dX2_nextToken_220 : decode cX2_nextToken 220 = .ok (.goto (-59), 3) := dk_167 255 197 (dk_at dksX2_nextToken_9 10 rfl rfl)
theorem dX2_nextToken_223 : decode cX2_nextToken 223 = .ok (.aload_n 0, 1) := dk_42 (dk_at dksX2_nextToken_9 13 rfl rfl)
theorem dX2_nextToken_224 : decode cX2_nextToken 224 = .ok (.getfield 93, 3) := dk_180 0 93 (dk_at dksX2_nextToken_9 14 rfl rfl)
theorem dX2_nextToken_227 : decode cX2_nextToken 227 = .ok (.aload_n 0, 1) := dk_42 (dk_at dksX2_nextToken_9 17 rfl rfl)
theorem dX2_nextToken_228 : decode cX2_nextToken 228 = .ok (.getfield 99, 3) := dk_180 0 99 (dk_at dksX2_nextToken_9 18 rfl rfl)
theorem dX2_nextToken_231 : decode cX2_nextToken 231 = .ok (.isub, 1) := dk_100 (dk_at dksX2_nextToken_9 21 rfl rfl)
theorem dX2_nextToken_232 : decode cX2_nextToken 232 = .ok (.bipush 7, 2) := dk_16 7 (dk_at dksX2_nextToken_9 22 rfl rfl)
theorem dX2_nextToken_234 : decode cX2_nextToken 234 = .ok (.if_icmp .le 174, 3) := dk_164 0 174 (dk_at dksX2_nextToken_10 0 rfl rfl)
theorem dX2_nextToken_237 : decode cX2_nextToken 237 = .ok (.aload_n 0, 1) := dk_42 (dk_at dksX2_nextToken_10 3 rfl rfl)
theorem dX2_nextToken_238 : decode cX2_nextToken 238 = .ok (.lconst 0, 1) := dk_9 (dk_at dksX2_nextToken_10 4 rfl rfl)
theorem dX2_nextToken_239 : decode cX2_nextToken 239 = .ok (.putfield 115, 3) := dk_181 0 115 (dk_at dksX2_nextToken_10 5 rfl rfl)
theorem dX2_nextToken_242 : decode cX2_nextToken 242 = .ok (.goto 166, 3) := dk_167 0 166 (dk_at dksX2_nextToken_10 8 rfl rfl)
theorem dX2_nextToken_245 : decode cX2_nextToken 245 = .ok (.aload_n 0, 1) := dk_42 (dk_at dksX2_nextToken_10 11 rfl rfl)
theorem dX2_nextToken_246 : decode cX2_nextToken 246 = .ok (.dup, 1) := dk_89 (dk_at dksX2_nextToken_10 12 rfl rfl)
theorem dX2_nextToken_247 : decode cX2_nextToken 247 = .ok (.getfield 93, 3) := dk_180 0 93 (dk_at dksX2_nextToken_10 13 rfl rfl)
theorem dX2_nextToken_250 : decode cX2_nextToken 250 = .ok (.iconst 1, 1) := dk_4 (dk_at dksX2_nextToken_10 16 rfl rfl)
theorem dX2_nextToken_251 : decode cX2_nextToken 251 = .ok (.iadd, 1) := dk_96 (dk_at dksX2_nextToken_10 17 rfl rfl)
theorem dX2_nextToken_252 : decode cX2_nextToken 252 = .ok (.putfield 93, 3) := dk_181 0 93 (dk_at dksX2_nextToken_10 18 rfl rfl)
theorem dX2_nextToken_255 : decode cX2_nextToken 255 = .ok (.iload_n 1, 1) := dk_27 (dk_at dksX2_nextToken_10 21 rfl rfl)
theorem dX2_nextToken_256 : decode cX2_nextToken 256 = .ok (.bipush 60, 2) := dk_16 60 (dk_at dksX2_nextToken_10 22 rfl rfl)
theorem dX2_nextToken_258 : decode cX2_nextToken 258 = .ok (.if_icmp .eq 81, 3) := dk_159 0 81 (dk_at dksX2_nextToken_11 0 rfl rfl)
theorem dX2_nextToken_261 : decode cX2_nextToken 261 = .ok (.iload_n 1, 1) := dk_27 (dk_at dksX2_nextToken_11 3 rfl rfl)
theorem dX2_nextToken_262 : decode cX2_nextToken 262 = .ok (.bipush 62, 2) := dk_16 62 (dk_at dksX2_nextToken_11 4 rfl rfl)
theorem dX2_nextToken_264 : decode cX2_nextToken 264 = .ok (.if_icmp .eq 75, 3) := dk_159 0 75 (dk_at dksX2_nextToken_11 6 rfl rfl)
theorem dX2_nextToken_267 : decode cX2_nextToken 267 = .ok (.iload_n 1, 1) := dk_27 (dk_at dksX2_nextToken_11 9 rfl rfl)
theorem dX2_nextToken_268 : decode cX2_nextToken 268 = .ok (.bipush 61, 2) := dk_16 61 (dk_at dksX2_nextToken_11 10 rfl rfl)
theorem dX2_nextToken_270 : decode cX2_nextToken 270 = .ok (.if_icmp .eq 69, 3) := dk_159 0 69 (dk_at dksX2_nextToken_11 12 rfl rfl)
theorem dX2_nextToken_273 : decode cX2_nextToken 273 = .ok (.iload_n 1, 1) := dk_27 (dk_at dksX2_nextToken_11 15 rfl rfl)
theorem dX2_nextToken_274 : decode cX2_nextToken 274 = .ok (.bipush 35, 2) := dk_16 35 (dk_at dksX2_nextToken_11 16 rfl rfl)
theorem dX2_nextToken_276 : decode cX2_nextToken 276 = .ok (.if_icmp .eq 63, 3) := dk_159 0 63 (dk_at dksX2_nextToken_11 18 rfl rfl)
theorem dX2_nextToken_279 : decode cX2_nextToken 279 = .ok (.iload_n 1, 1) := dk_27 (dk_at dksX2_nextToken_11 21 rfl rfl)
theorem dX2_nextToken_280 : decode cX2_nextToken 280 = .ok (.bipush 43, 2) := dk_16 43 (dk_at dksX2_nextToken_11 22 rfl rfl)
theorem dX2_nextToken_282 : decode cX2_nextToken 282 = .ok (.if_icmp .eq 57, 3) := dk_159 0 57 (dk_at dksX2_nextToken_12 0 rfl rfl)
theorem dX2_nextToken_285 : decode cX2_nextToken 285 = .ok (.iload_n 1, 1) := dk_27 (dk_at dksX2_nextToken_12 3 rfl rfl)
theorem dX2_nextToken_286 : decode cX2_nextToken 286 = .ok (.bipush 45, 2) := dk_16 45 (dk_at dksX2_nextToken_12 4 rfl rfl)
theorem dX2_nextToken_288 : decode cX2_nextToken 288 = .ok (.if_icmp .eq 51, 3) := dk_159 0 51 (dk_at dksX2_nextToken_12 6 rfl rfl)
theorem dX2_nextToken_291 : decode cX2_nextToken 291 = .ok (.iload_n 1, 1) := dk_27 (dk_at dksX2_nextToken_12 9 rfl rfl)
theorem dX2_nextToken_292 : decode cX2_nextToken 292 = .ok (.bipush 42, 2) := dk_16 42 (dk_at dksX2_nextToken_12 10 rfl rfl)
theorem dX2_nextToken_294 : decode cX2_nextToken 294 = .ok (.if_icmp .eq 45, 3) := dk_159 0 45 (dk_at dksX2_nextToken_12 12 rfl rfl)
theorem dX2_nextToken_297 : decode cX2_nextToken 297 = .ok (.iload_n 1, 1) := dk_27 (dk_at dksX2_nextToken_12 15 rfl rfl)
theorem dX2_nextToken_298 : decode cX2_nextToken 298 = .ok (.bipush 47, 2) := dk_16 47 (dk_at dksX2_nextToken_12 16 rfl rfl)
theorem dX2_nextToken_300 : decode cX2_nextToken 300 = .ok (.if_icmp .eq 39, 3) := dk_159 0 39 (dk_at dksX2_nextToken_12 18 rfl rfl)
theorem dX2_nextToken_303 : decode cX2_nextToken 303 = .ok (.iload_n 1, 1) := dk_27 (dk_at dksX2_nextToken_12 21 rfl rfl)
theorem dX2_nextToken_304 : decode cX2_nextToken 304 = .ok (.bipush 40, 2) := dk_16 40 (dk_at dksX2_nextToken_12 22 rfl rfl)
theorem dX2_nextToken_306 : decode cX2_nextToken 306 = .ok (.if_icmp .eq 33, 3) := dk_159 0 33 (dk_at dksX2_nextToken_13 0 rfl rfl)
theorem dX2_nextToken_309 : decode cX2_nextToken 309 = .ok (.iload_n 1, 1) := dk_27 (dk_at dksX2_nextToken_13 3 rfl rfl)
theorem dX2_nextToken_310 : decode cX2_nextToken 310 = .ok (.bipush 41, 2) := dk_16 41 (dk_at dksX2_nextToken_13 4 rfl rfl)
theorem dX2_nextToken_312 : decode cX2_nextToken 312 = .ok (.if_icmp .eq 27, 3) := dk_159 0 27 (dk_at dksX2_nextToken_13 6 rfl rfl)
theorem dX2_nextToken_315 : decode cX2_nextToken 315 = .ok (.iload_n 1, 1) := dk_27 (dk_at dksX2_nextToken_13 9 rfl rfl)
theorem dX2_nextToken_316 : decode cX2_nextToken 316 = .ok (.bipush 59, 2) := dk_16 59 (dk_at dksX2_nextToken_13 10 rfl rfl)
theorem dX2_nextToken_318 : decode cX2_nextToken 318 = .ok (.if_icmp .eq 21, 3) := dk_159 0 21 (dk_at dksX2_nextToken_13 12 rfl rfl)
theorem dX2_nextToken_321 : decode cX2_nextToken 321 = .ok (.iload_n 1, 1) := dk_27 (dk_at dksX2_nextToken_13 15 rfl rfl)
theorem dX2_nextToken_322 : decode cX2_nextToken 322 = .ok (.bipush 44, 2) := dk_16 44 (dk_at dksX2_nextToken_13 16 rfl rfl)
theorem dX2_nextToken_324 : decode cX2_nextToken 324 = .ok (.if_icmp .eq 15, 3) := dk_159 0 15 (dk_at dksX2_nextToken_13 18 rfl rfl)
theorem dX2_nextToken_327 : decode cX2_nextToken 327 = .ok (.iload_n 1, 1) := dk_27 (dk_at dksX2_nextToken_13 21 rfl rfl)
theorem dX2_nextToken_328 : decode cX2_nextToken 328 = .ok (.bipush 63, 2) := dk_16 63 (dk_at dksX2_nextToken_13 22 rfl rfl)
theorem dX2_nextToken_330 : decode cX2_nextToken 330 = .ok (.if_icmp .eq 9, 3) := dk_159 0 9 (dk_at dksX2_nextToken_14 0 rfl rfl)
theorem dX2_nextToken_333 : decode cX2_nextToken 333 = .ok (.iload_n 1, 1) := dk_27 (dk_at dksX2_nextToken_14 3 rfl rfl)
theorem dX2_nextToken_334 : decode cX2_nextToken 334 = .ok (.bipush 58, 2) := dk_16 58 (dk_at dksX2_nextToken_14 4 rfl rfl)
theorem dX2_nextToken_336 : decode cX2_nextToken 336 = .ok (.if_icmp .ne 7, 3) := dk_160 0 7 (dk_at dksX2_nextToken_14 6 rfl rfl)
theorem dX2_nextToken_339 : decode cX2_nextToken 339 = .ok (.iconst 1, 1) := dk_4 (dk_at dksX2_nextToken_14 9 rfl rfl)
theorem dX2_nextToken_340 : decode cX2_nextToken 340 = .ok (.goto 4, 3) := dk_167 0 4 (dk_at dksX2_nextToken_14 10 rfl rfl)
theorem dX2_nextToken_343 : decode cX2_nextToken 343 = .ok (.iconst 0, 1) := dk_3 (dk_at dksX2_nextToken_14 13 rfl rfl)
theorem dX2_nextToken_344 : decode cX2_nextToken 344 = .ok (.istore_n 2, 1) := dk_61 (dk_at dksX2_nextToken_14 14 rfl rfl)
theorem dX2_nextToken_345 : decode cX2_nextToken 345 = .ok (.aload_n 0, 1) := dk_42 (dk_at dksX2_nextToken_14 15 rfl rfl)
theorem dX2_nextToken_346 : decode cX2_nextToken 346 = .ok (.iload_n 2, 1) := dk_28 (dk_at dksX2_nextToken_14 16 rfl rfl)
theorem dX2_nextToken_347 : decode cX2_nextToken 347 = .ok (.ifCond .eq 7, 3) := dk_153 0 7 (dk_at dksX2_nextToken_14 17 rfl rfl)
theorem dX2_nextToken_350 : decode cX2_nextToken 350 = .ok (.iload_n 1, 1) := dk_27 (dk_at dksX2_nextToken_14 20 rfl rfl)
theorem dX2_nextToken_351 : decode cX2_nextToken 351 = .ok (.goto 4, 3) := dk_167 0 4 (dk_at dksX2_nextToken_14 21 rfl rfl)
theorem dX2_nextToken_354 : decode cX2_nextToken 354 = .ok (.iconst 3, 1) := dk_6 (dk_at dksX2_nextToken_15 0 rfl rfl)
theorem dX2_nextToken_355 : decode cX2_nextToken 355 = .ok (.putfield 102, 3) := dk_181 0 102 (dk_at dksX2_nextToken_15 1 rfl rfl)
theorem dX2_nextToken_358 : decode cX2_nextToken 358 = .ok (.iload_n 1, 1) := dk_27 (dk_at dksX2_nextToken_15 4 rfl rfl)
theorem dX2_nextToken_359 : decode cX2_nextToken 359 = .ok (.bipush 60, 2) := dk_16 60 (dk_at dksX2_nextToken_15 5 rfl rfl)
theorem dX2_nextToken_361 : decode cX2_nextToken 361 = .ok (.if_icmp .eq 9, 3) := dk_159 0 9 (dk_at dksX2_nextToken_15 7 rfl rfl)
theorem dX2_nextToken_364 : decode cX2_nextToken 364 = .ok (.iload_n 1, 1) := dk_27 (dk_at dksX2_nextToken_15 10 rfl rfl)
theorem dX2_nextToken_365 : decode cX2_nextToken 365 = .ok (.bipush 62, 2) := dk_16 62 (dk_at dksX2_nextToken_15 11 rfl rfl)
theorem dX2_nextToken_367 : decode cX2_nextToken 367 = .ok (.if_icmp .ne 41, 3) := dk_160 0 41 (dk_at dksX2_nextToken_15 13 rfl rfl)
theorem dX2_nextToken_370 : decode cX2_nextToken 370 = .ok (.aload_n 0, 1) := dk_42 (dk_at dksX2_nextToken_15 16 rfl rfl)
theorem dX2_nextToken_371 : decode cX2_nextToken 371 = .ok (.aload_n 0, 1) := dk_42 (dk_at dksX2_nextToken_15 17 rfl rfl)
theorem dX2_nextToken_372 : decode cX2_nextToken 372 = .ok (.getfield 93, 3) := dk_180 0 93 (dk_at dksX2_nextToken_15 18 rfl rfl)
theorem dX2_nextToken_375 : decode cX2_nextToken 375 = .ok (.invokevirtual 96, 3) := dk_182 0 96 (dk_at dksX2_nextToken_15 21 rfl rfl)
theorem dX2_nextToken_378 : decode cX2_nextToken 378 = .ok (.bipush 61, 2) := dk_16 61 (dk_at dksX2_nextToken_16 0 rfl rfl)
theorem dX2_nextToken_380 : decode cX2_nextToken 380 = .ok (.if_icmp .ne 28, 3) := dk_160 0 28 (dk_at dksX2_nextToken_16 2 rfl rfl)
theorem dX2_nextToken_383 : decode cX2_nextToken 383 = .ok (.aload_n 0, 1) := dk_42 (dk_at dksX2_nextToken_16 5 rfl rfl)
theorem dX2_nextToken_384 : decode cX2_nextToken 384 = .ok (.dup, 1) := dk_89 (dk_at dksX2_nextToken_16 6 rfl rfl)
theorem dX2_nextToken_385 : decode cX2_nextToken 385 = .ok (.getfield 93, 3) := dk_180 0 93 (dk_at dksX2_nextToken_16 7 rfl rfl)
theorem dX2_nextToken_388 : decode cX2_nextToken 388 = .ok (.iconst 1, 1) := dk_4 (dk_at dksX2_nextToken_16 10 rfl rfl)
theorem dX2_nextToken_389 : decode cX2_nextToken 389 = .ok (.iadd, 1) := dk_96 (dk_at dksX2_nextToken_16 11 rfl rfl)
theorem dX2_nextToken_390 : decode cX2_nextToken 390 = .ok (.putfield 93, 3) := dk_181 0 93 (dk_at dksX2_nextToken_16 12 rfl rfl)
theorem dX2_nextToken_393 : decode cX2_nextToken 393 = .ok (.aload_n 0, 1) := dk_42 (dk_at dksX2_nextToken_16 15 rfl rfl)
theorem dX2_nextToken_394 : decode cX2_nextToken 394 = .ok (.iload_n 1, 1) := dk_27 (dk_at dksX2_nextToken_16 16 rfl rfl)
theorem dX2_nextToken_395 : decode cX2_nextToken 395 = .ok (.bipush 60, 2) := dk_16 60 (dk_at dksX2_nextToken_16 17 rfl rfl)
theorem dX2_nextToken_397 : decode cX2_nextToken 397 = .ok (.if_icmp .ne 7, 3) := dk_160 0 7 (dk_at dksX2_nextToken_16 19 rfl rfl)
theorem dX2_nextToken_400 : decode cX2_nextToken 400 = .ok (.iconst 4, 1) := dk_7 (dk_at dksX2_nextToken_16 22 rfl rfl)
theorem dX2_nextToken_401 : decode cX2_nextToken 401 = .ok (.goto 4, 3) := dk_167 0 4 (dk_at dksX2_nextToken_17 0 rfl rfl)
theorem dX2_nextToken_404 : decode cX2_nextToken 404 = .ok (.iconst 5, 1) := dk_8 (dk_at dksX2_nextToken_17 3 rfl rfl)
theorem dX2_nextToken_405 : decode cX2_nextToken 405 = .ok (.putfield 102, 3) := dk_181 0 102 (dk_at dksX2_nextToken_17 4 rfl rfl)
theorem dX2_nextToken_408 : decode cX2_nextToken 408 = .ok (.return_, 1) := dk_177 (dk_at dksX2_nextToken_17 7 rfl rfl)
abbrev cX2_byteAt : ByteArray := prog_18_method_22_code
def yX2_byteAt : MethodName := ⟨RX2, "byteAt", "(I)I"⟩
def dkwX2_byteAt_0 : List UInt8 := [27, 42, 180, 0, 86, 162, 0, 12, 42, 180, 0, 19, 27, 46, 167, 0, 4, 2, 172]
abbrev dktX2_byteAt_0 : List UInt8 := dkwX2_byteAt_0 ++ []
theorem dksX2_byteAt_0 : cX2_byteAt.data.toList.drop 0 = dktX2_byteAt_0 := by decide +kernel
theorem dX2_byteAt_0 : decode cX2_byteAt 0 = .ok (.iload_n 1, 1) := dk_27 (dk_at dksX2_byteAt_0 0 rfl rfl)
theorem dX2_byteAt_1 : decode cX2_byteAt 1 = .ok (.aload_n 0, 1) := dk_42 (dk_at dksX2_byteAt_0 1 rfl rfl)
theorem dX2_byteAt_2 : decode cX2_byteAt 2 = .ok (.getfield 86, 3) := dk_180 0 86 (dk_at dksX2_byteAt_0 2 rfl rfl)
theorem dX2_byteAt_5 : decode cX2_byteAt 5 = .ok (.if_icmp .ge 12, 3) := dk_162 0 12 (dk_at dksX2_byteAt_0 5 rfl rfl)
theorem dX2_byteAt_8 : decode cX2_byteAt 8 = .ok (.aload_n 0, 1) := dk_42 (dk_at dksX2_byteAt_0 8 rfl rfl)
theorem dX2_byteAt_9 : decode cX2_byteAt 9 = .ok (.getfield 19, 3) := dk_180 0 19 (dk_at dksX2_byteAt_0 9 rfl rfl)
theorem dX2_byteAt_12 : decode cX2_byteAt 12 = .ok (.iload_n 1, 1) := dk_27 (dk_at dksX2_byteAt_0 12 rfl rfl)
theorem dX2_byteAt_13 : decode cX2_byteAt 13 = .ok (.iaload, 1) := dk_46 (dk_at dksX2_byteAt_0 13 rfl rfl)
theorem dX2_byteAt_14 : decode cX2_byteAt 14 = .ok (.goto 4, 3) := dk_167 0 4 (dk_at dksX2_byteAt_0 14 rfl rfl)
theorem dX2_byteAt_17 : decode cX2_byteAt 17 = .ok (.iconst (-1), 1) := dk_2 (dk_at dksX2_byteAt_0 17 rfl rfl)
theorem dX2_byteAt_18 : decode cX2_byteAt 18 = .ok (.ireturn, 1) := dk_172 (dk_at dksX2_byteAt_0 18 rfl rfl)
abbrev cX2_isDigit : ByteArray := prog_18_method_24_code
def yX2_isDigit : MethodName := ⟨RX2, "isDigit", "(I)Z"⟩
def dkwX2_isDigit_0 : List UInt8 := [26, 16, 48, 16, 57, 184, 0, 62, 172]
abbrev dktX2_isDigit_0 : List UInt8 := dkwX2_isDigit_0 ++ []
theorem dksX2_isDigit_0 : cX2_isDigit.data.toList.drop 0 = dktX2_isDigit_0 := by decide +kernel
theorem dX2_isDigit_0 : decode cX2_isDigit 0 = .ok (.iload_n 0, 1) := dk_26 (dk_at dksX2_isDigit_0 0 rfl rfl)
theorem dX2_isDigit_1 : decode cX2_isDigit 1 = .ok (.bipush 48, 2) := dk_16 48 (dk_at dksX2_isDigit_0 1 rfl rfl)
theorem dX2_isDigit_3 : decode cX2_isDigit 3 = .ok (.bipush 57, 2) := dk_16 57 (dk_at dksX2_isDigit_0 3 rfl rfl)
theorem dX2_isDigit_5 : decode cX2_isDigit 5 = .ok (.invokestatic 62, 3) := dk_184 0 62 (dk_at dksX2_isDigit_0 5 rfl rfl)
theorem dX2_isDigit_8 : decode cX2_isDigit 8 = .ok (.ireturn, 1) := dk_172 (dk_at dksX2_isDigit_0 8 rfl rfl)
abbrev cX2_isLetter : ByteArray := prog_18_method_23_code
def yX2_isLetter : MethodName := ⟨RX2, "isLetter", "(I)Z"⟩
def dkwX2_isLetter_1 : List UInt8 := [167, 0, 4, 3, 172]
abbrev dktX2_isLetter_1 : List UInt8 := dkwX2_isLetter_1 ++ []
def dkwX2_isLetter_0 : List UInt8 := [26, 16, 97, 16, 122, 184, 0, 62, 154, 0, 14, 26, 16, 65, 16, 90, 184, 0, 62, 153, 0, 7, 4]
abbrev dktX2_isLetter_0 : List UInt8 := dkwX2_isLetter_0 ++ dktX2_isLetter_1
theorem dksX2_isLetter_0 : cX2_isLetter.data.toList.drop 0 = dktX2_isLetter_0 := by decide +kernel
theorem dksX2_isLetter_1 : cX2_isLetter.data.toList.drop 23 = dktX2_isLetter_1 := dk_seg dksX2_isLetter_0 23 rfl rfl
theorem dX2_isLetter_0 : decode cX2_isLetter 0 = .ok (.iload_n 0, 1) := dk_26 (dk_at dksX2_isLetter_0 0 rfl rfl)
theorem dX2_isLetter_1 : decode cX2_isLetter 1 = .ok (.bipush 97, 2) := dk_16 97 (dk_at dksX2_isLetter_0 1 rfl rfl)
theorem dX2_isLetter_3 : decode cX2_isLetter 3 = .ok (.bipush 122, 2) := dk_16 122 (dk_at dksX2_isLetter_0 3 rfl rfl)
theorem dX2_isLetter_5 : decode cX2_isLetter 5 = .ok (.invokestatic 62, 3) := dk_184 0 62 (dk_at dksX2_isLetter_0 5 rfl rfl)
theorem dX2_isLetter_8 : decode cX2_isLetter 8 = .ok (.ifCond .ne 14, 3) := dk_154 0 14 (dk_at dksX2_isLetter_0 8 rfl rfl)
theorem dX2_isLetter_11 : decode cX2_isLetter 11 = .ok (.iload_n 0, 1) := dk_26 (dk_at dksX2_isLetter_0 11 rfl rfl)
theorem dX2_isLetter_12 : decode cX2_isLetter 12 = .ok (.bipush 65, 2) := dk_16 65 (dk_at dksX2_isLetter_0 12 rfl rfl)
theorem dX2_isLetter_14 : decode cX2_isLetter 14 = .ok (.bipush 90, 2) := dk_16 90 (dk_at dksX2_isLetter_0 14 rfl rfl)
theorem dX2_isLetter_16 : decode cX2_isLetter 16 = .ok (.invokestatic 62, 3) := dk_184 0 62 (dk_at dksX2_isLetter_0 16 rfl rfl)
theorem dX2_isLetter_19 : decode cX2_isLetter 19 = .ok (.ifCond .eq 7, 3) := dk_153 0 7 (dk_at dksX2_isLetter_0 19 rfl rfl)
theorem dX2_isLetter_22 : decode cX2_isLetter 22 = .ok (.iconst 1, 1) := dk_4 (dk_at dksX2_isLetter_0 22 rfl rfl)
theorem dX2_isLetter_23 : decode cX2_isLetter 23 = .ok (.goto 4, 3) := dk_167 0 4 (dk_at dksX2_isLetter_1 0 rfl rfl)
theorem dX2_isLetter_26 : decode cX2_isLetter 26 = .ok (.iconst 0, 1) := dk_3 (dk_at dksX2_isLetter_1 3 rfl rfl)
theorem dX2_isLetter_27 : decode cX2_isLetter 27 = .ok (.ireturn, 1) := dk_172 (dk_at dksX2_isLetter_1 4 rfl rfl)
abbrev cX2_clause : ByteArray := prog_18_method_53_code
def yX2_clause : MethodName := ⟨RX2, "clause", "()I"⟩
def dkwX2_clause_7 : List UInt8 := [96, 79, 42, 180, 0, 102, 16, 59, 159, 0, 5, 4, 172, 42, 182, 0, 164, 3, 172]
abbrev dktX2_clause_7 : List UInt8 := dkwX2_clause_7 ++ []
def dkwX2_clause_6 : List UInt8 := [79, 42, 180, 0, 16, 29, 5, 96, 42, 180, 0, 130, 79, 42, 180, 0, 16, 42, 180, 0, 127, 92, 46, 4]
abbrev dktX2_clause_6 : List UInt8 := dkwX2_clause_6 ++ dktX2_clause_7
def dkwX2_clause_5 : List UInt8 := [54, 5, 21, 5, 153, 0, 6, 21, 5, 172, 27, 7, 162, 0, 25, 42, 180, 0, 16, 29, 4, 96, 21, 4]
abbrev dktX2_clause_5 : List UInt8 := dkwX2_clause_5 ++ dktX2_clause_6
def dkwX2_clause_4 : List UInt8 := [180, 0, 130, 54, 4, 27, 7, 162, 0, 11, 42, 3, 182, 0, 236, 167, 0, 9, 42, 27, 29, 182, 0, 239]
abbrev dktX2_clause_4 : List UInt8 := dkwX2_clause_4 ++ dktX2_clause_5
def dkwX2_clause_3 : List UInt8 := [182, 0, 164, 42, 180, 0, 127, 4, 96, 6, 28, 104, 96, 62, 42, 180, 0, 16, 29, 27, 79, 42]
abbrev dktX2_clause_3 : List UInt8 := dkwX2_clause_3 ++ dktX2_clause_4
def dkwX2_clause_2 : List UInt8 := [172, 27, 7, 162, 0, 15, 42, 89, 180, 0, 233, 4, 27, 120, 128, 181, 0, 233, 42, 27, 181, 0, 218, 42]
abbrev dktX2_clause_2 : List UInt8 := dkwX2_clause_2 ++ dktX2_clause_3
def dkwX2_clause_1 : List UInt8 := [4, 160, 0, 5, 7, 172, 42, 180, 0, 16, 42, 180, 0, 127, 46, 61, 28, 16, 24, 160, 0, 6, 16, 6]
abbrev dktX2_clause_1 : List UInt8 := dkwX2_clause_1 ++ dktX2_clause_2
def dkwX2_clause_0 : List UInt8 := [42, 182, 0, 230, 60, 27, 156, 0, 5, 4, 172, 27, 7, 162, 0, 17, 42, 180, 0, 233, 27, 122, 4, 126]
abbrev dktX2_clause_0 : List UInt8 := dkwX2_clause_0 ++ dktX2_clause_1
theorem dksX2_clause_0 : cX2_clause.data.toList.drop 0 = dktX2_clause_0 := by decide +kernel
theorem dksX2_clause_1 : cX2_clause.data.toList.drop 24 = dktX2_clause_1 := dk_seg dksX2_clause_0 24 rfl rfl
theorem dksX2_clause_2 : cX2_clause.data.toList.drop 48 = dktX2_clause_2 := dk_seg dksX2_clause_1 24 rfl rfl
theorem dksX2_clause_3 : cX2_clause.data.toList.drop 72 = dktX2_clause_3 := dk_seg dksX2_clause_2 24 rfl rfl
theorem dksX2_clause_4 : cX2_clause.data.toList.drop 94 = dktX2_clause_4 := dk_seg dksX2_clause_3 22 rfl rfl
theorem dksX2_clause_5 : cX2_clause.data.toList.drop 118 = dktX2_clause_5 := dk_seg dksX2_clause_4 24 rfl rfl
theorem dksX2_clause_6 : cX2_clause.data.toList.drop 142 = dktX2_clause_6 := dk_seg dksX2_clause_5 24 rfl rfl
theorem dksX2_clause_7 : cX2_clause.data.toList.drop 166 = dktX2_clause_7 := dk_seg dksX2_clause_6 24 rfl rfl
theorem dX2_clause_0 : decode cX2_clause 0 = .ok (.aload_n 0, 1) := dk_42 (dk_at dksX2_clause_0 0 rfl rfl)
theorem dX2_clause_1 : decode cX2_clause 1 = .ok (.invokevirtual 230, 3) := dk_182 0 230 (dk_at dksX2_clause_0 1 rfl rfl)
theorem dX2_clause_4 : decode cX2_clause 4 = .ok (.istore_n 1, 1) := dk_60 (dk_at dksX2_clause_0 4 rfl rfl)
theorem dX2_clause_5 : decode cX2_clause 5 = .ok (.iload_n 1, 1) := dk_27 (dk_at dksX2_clause_0 5 rfl rfl)
theorem dX2_clause_6 : decode cX2_clause 6 = .ok (.ifCond .ge 5, 3) := dk_156 0 5 (dk_at dksX2_clause_0 6 rfl rfl)
theorem dX2_clause_9 : decode cX2_clause 9 = .ok (.iconst 1, 1) := dk_4 (dk_at dksX2_clause_0 9 rfl rfl)
theorem dX2_clause_10 : decode cX2_clause 10 = .ok (.ireturn, 1) := dk_172 (dk_at dksX2_clause_0 10 rfl rfl)
theorem dX2_clause_11 : decode cX2_clause 11 = .ok (.iload_n 1, 1) := dk_27 (dk_at dksX2_clause_0 11 rfl rfl)
theorem dX2_clause_12 : decode cX2_clause 12 = .ok (.iconst 4, 1) := dk_7 (dk_at dksX2_clause_0 12 rfl rfl)
theorem dX2_clause_13 : decode cX2_clause 13 = .ok (.if_icmp .ge 17, 3) := dk_162 0 17 (dk_at dksX2_clause_0 13 rfl rfl)
theorem dX2_clause_16 : decode cX2_clause 16 = .ok (.aload_n 0, 1) := dk_42 (dk_at dksX2_clause_0 16 rfl rfl)
theorem dX2_clause_17 : decode cX2_clause 17 = .ok (.getfield 233, 3) := dk_180 0 233 (dk_at dksX2_clause_0 17 rfl rfl)
theorem dX2_clause_20 : decode cX2_clause 20 = .ok (.iload_n 1, 1) := dk_27 (dk_at dksX2_clause_0 20 rfl rfl)
theorem dX2_clause_21 : decode cX2_clause 21 = .ok (.ishr, 1) := dk_122 (dk_at dksX2_clause_0 21 rfl rfl)
theorem dX2_clause_22 : decode cX2_clause 22 = .ok (.iconst 1, 1) := dk_4 (dk_at dksX2_clause_0 22 rfl rfl)
theorem dX2_clause_23 : decode cX2_clause 23 = .ok (.iand, 1) := dk_126 (dk_at dksX2_clause_0 23 rfl rfl)
theorem dX2_clause_24 : decode cX2_clause 24 = .ok (.iconst 1, 1) := dk_4 (dk_at dksX2_clause_1 0 rfl rfl)
theorem dX2_clause_25 : decode cX2_clause 25 = .ok (.if_icmp .ne 5, 3) := dk_160 0 5 (dk_at dksX2_clause_1 1 rfl rfl)
theorem dX2_clause_28 : decode cX2_clause 28 = .ok (.iconst 4, 1) := dk_7 (dk_at dksX2_clause_1 4 rfl rfl)
theorem dX2_clause_29 : decode cX2_clause 29 = .ok (.ireturn, 1) := dk_172 (dk_at dksX2_clause_1 5 rfl rfl)
theorem dX2_clause_30 : decode cX2_clause 30 = .ok (.aload_n 0, 1) := dk_42 (dk_at dksX2_clause_1 6 rfl rfl)
theorem dX2_clause_31 : decode cX2_clause 31 = .ok (.getfield 16, 3) := dk_180 0 16 (dk_at dksX2_clause_1 7 rfl rfl)
theorem dX2_clause_34 : decode cX2_clause 34 = .ok (.aload_n 0, 1) := dk_42 (dk_at dksX2_clause_1 10 rfl rfl)
theorem dX2_clause_35 : decode cX2_clause 35 = .ok (.getfield 127, 3) := dk_180 0 127 (dk_at dksX2_clause_1 11 rfl rfl)
theorem dX2_clause_38 : decode cX2_clause 38 = .ok (.iaload, 1) := dk_46 (dk_at dksX2_clause_1 14 rfl rfl)
theorem dX2_clause_39 : decode cX2_clause 39 = .ok (.istore_n 2, 1) := dk_61 (dk_at dksX2_clause_1 15 rfl rfl)
theorem dX2_clause_40 : decode cX2_clause 40 = .ok (.iload_n 2, 1) := dk_28 (dk_at dksX2_clause_1 16 rfl rfl)
theorem dX2_clause_41 : decode cX2_clause 41 = .ok (.bipush 24, 2) := dk_16 24 (dk_at dksX2_clause_1 17 rfl rfl)
theorem dX2_clause_43 : decode cX2_clause 43 = .ok (.if_icmp .ne 6, 3) := dk_160 0 6 (dk_at dksX2_clause_1 19 rfl rfl)
theorem dX2_clause_46 : decode cX2_clause 46 = .ok (.bipush 6, 2) := dk_16 6 (dk_at dksX2_clause_1 22 rfl rfl)
theorem dX2_clause_48 : decode cX2_clause 48 = .ok (.ireturn, 1) := dk_172 (dk_at dksX2_clause_2 0 rfl rfl)
theorem dX2_clause_49 : decode cX2_clause 49 = .ok (.iload_n 1, 1) := dk_27 (dk_at dksX2_clause_2 1 rfl rfl)
theorem dX2_clause_50 : decode cX2_clause 50 = .ok (.iconst 4, 1) := dk_7 (dk_at dksX2_clause_2 2 rfl rfl)
theorem dX2_clause_51 : decode cX2_clause 51 = .ok (.if_icmp .ge 15, 3) := dk_162 0 15 (dk_at dksX2_clause_2 3 rfl rfl)
theorem dX2_clause_54 : decode cX2_clause 54 = .ok (.aload_n 0, 1) := dk_42 (dk_at dksX2_clause_2 6 rfl rfl)
theorem dX2_clause_55 : decode cX2_clause 55 = .ok (.dup, 1) := dk_89 (dk_at dksX2_clause_2 7 rfl rfl)
theorem dX2_clause_56 : decode cX2_clause 56 = .ok (.getfield 233, 3) := dk_180 0 233 (dk_at dksX2_clause_2 8 rfl rfl)
theorem dX2_clause_59 : decode cX2_clause 59 = .ok (.iconst 1, 1) := dk_4 (dk_at dksX2_clause_2 11 rfl rfl)
theorem dX2_clause_60 : decode cX2_clause 60 = .ok (.iload_n 1, 1) := dk_27 (dk_at dksX2_clause_2 12 rfl rfl)
theorem dX2_clause_61 : decode cX2_clause 61 = .ok (.ishl, 1) := dk_120 (dk_at dksX2_clause_2 13 rfl rfl)
theorem dX2_clause_62 : decode cX2_clause 62 = .ok (.ior, 1) := dk_128 (dk_at dksX2_clause_2 14 rfl rfl)
theorem dX2_clause_63 : decode cX2_clause 63 = .ok (.putfield 233, 3) := dk_181 0 233 (dk_at dksX2_clause_2 15 rfl rfl)
theorem dX2_clause_66 : decode cX2_clause 66 = .ok (.aload_n 0, 1) := dk_42 (dk_at dksX2_clause_2 18 rfl rfl)
theorem dX2_clause_67 : decode cX2_clause 67 = .ok (.iload_n 1, 1) := dk_27 (dk_at dksX2_clause_2 19 rfl rfl)
theorem dX2_clause_68 : decode cX2_clause 68 = .ok (.putfield 218, 3) := dk_181 0 218 (dk_at dksX2_clause_2 20 rfl rfl)
theorem dX2_clause_71 : decode cX2_clause 71 = .ok (.aload_n 0, 1) := dk_42 (dk_at dksX2_clause_2 23 rfl rfl)
theorem dX2_clause_72 : decode cX2_clause 72 = .ok (.invokevirtual 164, 3) := dk_182 0 164 (dk_at dksX2_clause_3 0 rfl rfl)
theorem dX2_clause_75 : decode cX2_clause 75 = .ok (.aload_n 0, 1) := dk_42 (dk_at dksX2_clause_3 3 rfl rfl)
theorem dX2_clause_76 : decode cX2_clause 76 = .ok (.getfield 127, 3) := dk_180 0 127 (dk_at dksX2_clause_3 4 rfl rfl)
theorem dX2_clause_79 : decode cX2_clause 79 = .ok (.iconst 1, 1) := dk_4 (dk_at dksX2_clause_3 7 rfl rfl)
theorem dX2_clause_80 : decode cX2_clause 80 = .ok (.iadd, 1) := dk_96 (dk_at dksX2_clause_3 8 rfl rfl)
theorem dX2_clause_81 : decode cX2_clause 81 = .ok (.iconst 3, 1) := dk_6 (dk_at dksX2_clause_3 9 rfl rfl)
theorem dX2_clause_82 : decode cX2_clause 82 = .ok (.iload_n 2, 1) := dk_28 (dk_at dksX2_clause_3 10 rfl rfl)
theorem dX2_clause_83 : decode cX2_clause 83 = .ok (.imul, 1) := dk_104 (dk_at dksX2_clause_3 11 rfl rfl)
theorem dX2_clause_84 : decode cX2_clause 84 = .ok (.iadd, 1) := dk_96 (dk_at dksX2_clause_3 12 rfl rfl)
theorem dX2_clause_85 : decode cX2_clause 85 = .ok (.istore_n 3, 1) := dk_62 (dk_at dksX2_clause_3 13 rfl rfl)
theorem dX2_clause_86 : decode cX2_clause 86 = .ok (.aload_n 0, 1) := dk_42 (dk_at dksX2_clause_3 14 rfl rfl)
theorem dX2_clause_87 : decode cX2_clause 87 = .ok (.getfield 16, 3) := dk_180 0 16 (dk_at dksX2_clause_3 15 rfl rfl)
theorem dX2_clause_90 : decode cX2_clause 90 = .ok (.iload_n 3, 1) := dk_29 (dk_at dksX2_clause_3 18 rfl rfl)
theorem dX2_clause_91 : decode cX2_clause 91 = .ok (.iload_n 1, 1) := dk_27 (dk_at dksX2_clause_3 19 rfl rfl)
theorem dX2_clause_92 : decode cX2_clause 92 = .ok (.iastore, 1) := dk_79 (dk_at dksX2_clause_3 20 rfl rfl)
theorem dX2_clause_93 : decode cX2_clause 93 = .ok (.aload_n 0, 1) := dk_42 (dk_at dksX2_clause_3 21 rfl rfl)
theorem dX2_clause_94 : decode cX2_clause 94 = .ok (.getfield 130, 3) := dk_180 0 130 (dk_at dksX2_clause_4 0 rfl rfl)
theorem dX2_clause_97 : decode cX2_clause 97 = .ok (.istore 4, 2) := dk_54 4 (dk_at dksX2_clause_4 3 rfl rfl)
theorem dX2_clause_99 : decode cX2_clause 99 = .ok (.iload_n 1, 1) := dk_27 (dk_at dksX2_clause_4 5 rfl rfl)
theorem dX2_clause_100 : decode cX2_clause 100 = .ok (.iconst 4, 1) := dk_7 (dk_at dksX2_clause_4 6 rfl rfl)
theorem dX2_clause_101 : decode cX2_clause 101 = .ok (.if_icmp .ge 11, 3) := dk_162 0 11 (dk_at dksX2_clause_4 7 rfl rfl)
theorem dX2_clause_104 : decode cX2_clause 104 = .ok (.aload_n 0, 1) := dk_42 (dk_at dksX2_clause_4 10 rfl rfl)
theorem dX2_clause_105 : decode cX2_clause 105 = .ok (.iconst 0, 1) := dk_3 (dk_at dksX2_clause_4 11 rfl rfl)
theorem dX2_clause_106 : decode cX2_clause 106 = .ok (.invokevirtual 236, 3) := dk_182 0 236 (dk_at dksX2_clause_4 12 rfl rfl)
theorem dX2_clause_109 : decode cX2_clause 109 = .ok (.goto 9, 3) := dk_167 0 9 (dk_at dksX2_clause_4 15 rfl rfl)
theorem dX2_clause_112 : decode cX2_clause 112 = .ok (.aload_n 0, 1) := dk_42 (dk_at dksX2_clause_4 18 rfl rfl)
theorem dX2_clause_113 : decode cX2_clause 113 = .ok (.iload_n 1, 1) := dk_27 (dk_at dksX2_clause_4 19 rfl rfl)
theorem dX2_clause_114 : decode cX2_clause 114 = .ok (.iload_n 3, 1) := dk_29 (dk_at dksX2_clause_4 20 rfl rfl)
theorem dX2_clause_115 : decode cX2_clause 115 = .ok (.invokevirtual 239, 3) := dk_182 0 239 (dk_at dksX2_clause_4 21 rfl rfl)
theorem dX2_clause_118 : decode cX2_clause 118 = .ok (.istore 5, 2) := dk_54 5 (dk_at dksX2_clause_5 0 rfl rfl)
theorem dX2_clause_120 : decode cX2_clause 120 = .ok (.iload 5, 2) := dk_21 5 (dk_at dksX2_clause_5 2 rfl rfl)
theorem dX2_clause_122 : decode cX2_clause 122 = .ok (.ifCond .eq 6, 3) := dk_153 0 6 (dk_at dksX2_clause_5 4 rfl rfl)
theorem dX2_clause_125 : decode cX2_clause 125 = .ok (.iload 5, 2) := dk_21 5 (dk_at dksX2_clause_5 7 rfl rfl)
theorem dX2_clause_127 : decode cX2_clause 127 = .ok (.ireturn, 1) := dk_172 (dk_at dksX2_clause_5 9 rfl rfl)
theorem dX2_clause_128 : decode cX2_clause 128 = .ok (.iload_n 1, 1) := dk_27 (dk_at dksX2_clause_5 10 rfl rfl)
theorem dX2_clause_129 : decode cX2_clause 129 = .ok (.iconst 4, 1) := dk_7 (dk_at dksX2_clause_5 11 rfl rfl)
theorem dX2_clause_130 : decode cX2_clause 130 = .ok (.if_icmp .ge 25, 3) := dk_162 0 25 (dk_at dksX2_clause_5 12 rfl rfl)
theorem dX2_clause_133 : decode cX2_clause 133 = .ok (.aload_n 0, 1) := dk_42 (dk_at dksX2_clause_5 15 rfl rfl)
theorem dX2_clause_134 : decode cX2_clause 134 = .ok (.getfield 16, 3) := dk_180 0 16 (dk_at dksX2_clause_5 16 rfl rfl)
theorem dX2_clause_137 : decode cX2_clause 137 = .ok (.iload_n 3, 1) := dk_29 (dk_at dksX2_clause_5 19 rfl rfl)
theorem dX2_clause_138 : decode cX2_clause 138 = .ok (.iconst 1, 1) := dk_4 (dk_at dksX2_clause_5 20 rfl rfl)
theorem dX2_clause_139 : decode cX2_clause 139 = .ok (.iadd, 1) := dk_96 (dk_at dksX2_clause_5 21 rfl rfl)
theorem dX2_clause_140 : decode cX2_clause 140 = .ok (.iload 4, 2) := dk_21 4 (dk_at dksX2_clause_5 22 rfl rfl)
theorem dX2_clause_142 : decode cX2_clause 142 = .ok (.iastore, 1) := dk_79 (dk_at dksX2_clause_6 0 rfl rfl)
theorem dX2_clause_143 : decode cX2_clause 143 = .ok (.aload_n 0, 1) := dk_42 (dk_at dksX2_clause_6 1 rfl rfl)
theorem dX2_clause_144 : decode cX2_clause 144 = .ok (.getfield 16, 3) := dk_180 0 16 (dk_at dksX2_clause_6 2 rfl rfl)
theorem dX2_clause_147 : decode cX2_clause 147 = .ok (.iload_n 3, 1) := dk_29 (dk_at dksX2_clause_6 5 rfl rfl)
theorem dX2_clause_148 : decode cX2_clause 148 = .ok (.iconst 2, 1) := dk_5 (dk_at dksX2_clause_6 6 rfl rfl)
theorem dX2_clause_149 : decode cX2_clause 149 = .ok (.iadd, 1) := dk_96 (dk_at dksX2_clause_6 7 rfl rfl)
theorem dX2_clause_150 : decode cX2_clause 150 = .ok (.aload_n 0, 1) := dk_42 (dk_at dksX2_clause_6 8 rfl rfl)
theorem dX2_clause_151 : decode cX2_clause 151 = .ok (.getfield 130, 3) := dk_180 0 130 (dk_at dksX2_clause_6 9 rfl rfl)
theorem dX2_clause_154 : decode cX2_clause 154 = .ok (.iastore, 1) := dk_79 (dk_at dksX2_clause_6 12 rfl rfl)
theorem dX2_clause_155 : decode cX2_clause 155 = .ok (.aload_n 0, 1) := dk_42 (dk_at dksX2_clause_6 13 rfl rfl)
theorem dX2_clause_156 : decode cX2_clause 156 = .ok (.getfield 16, 3) := dk_180 0 16 (dk_at dksX2_clause_6 14 rfl rfl)
theorem dX2_clause_159 : decode cX2_clause 159 = .ok (.aload_n 0, 1) := dk_42 (dk_at dksX2_clause_6 17 rfl rfl)
theorem dX2_clause_160 : decode cX2_clause 160 = .ok (.getfield 127, 3) := dk_180 0 127 (dk_at dksX2_clause_6 18 rfl rfl)
theorem dX2_clause_163 : decode cX2_clause 163 = .ok (.dup2, 1) := dk_92 (dk_at dksX2_clause_6 21 rfl rfl)
theorem dX2_clause_164 : decode cX2_clause 164 = .ok (.iaload, 1) := dk_46 (dk_at dksX2_clause_6 22 rfl rfl)
theorem dX2_clause_165 : decode cX2_clause 165 = .ok (.iconst 1, 1) := dk_4 (dk_at dksX2_clause_6 23 rfl rfl)
theorem dX2_clause_166 : decode cX2_clause 166 = .ok (.iadd, 1) := dk_96 (dk_at dksX2_clause_7 0 rfl rfl)
theorem dX2_clause_167 : decode cX2_clause 167 = .ok (.iastore, 1) := dk_79 (dk_at dksX2_clause_7 1 rfl rfl)
theorem dX2_clause_168 : decode cX2_clause 168 = .ok (.aload_n 0, 1) := dk_42 (dk_at dksX2_clause_7 2 rfl rfl)
theorem dX2_clause_169 : decode cX2_clause 169 = .ok (.getfield 102, 3) := dk_180 0 102 (dk_at dksX2_clause_7 3 rfl rfl)
theorem dX2_clause_172 : decode cX2_clause 172 = .ok (.bipush 59, 2) := dk_16 59 (dk_at dksX2_clause_7 6 rfl rfl)
theorem dX2_clause_174 : decode cX2_clause 174 = .ok (.if_icmp .eq 5, 3) := dk_159 0 5 (dk_at dksX2_clause_7 8 rfl rfl)
theorem dX2_clause_177 : decode cX2_clause 177 = .ok (.iconst 1, 1) := dk_4 (dk_at dksX2_clause_7 11 rfl rfl)
theorem dX2_clause_178 : decode cX2_clause 178 = .ok (.ireturn, 1) := dk_172 (dk_at dksX2_clause_7 12 rfl rfl)
theorem dX2_clause_179 : decode cX2_clause 179 = .ok (.aload_n 0, 1) := dk_42 (dk_at dksX2_clause_7 13 rfl rfl)
theorem dX2_clause_180 : decode cX2_clause 180 = .ok (.invokevirtual 164, 3) := dk_182 0 164 (dk_at dksX2_clause_7 14 rfl rfl)
theorem dX2_clause_183 : decode cX2_clause 183 = .ok (.iconst 0, 1) := dk_3 (dk_at dksX2_clause_7 17 rfl rfl)
theorem dX2_clause_184 : decode cX2_clause 184 = .ok (.ireturn, 1) := dk_172 (dk_at dksX2_clause_7 18 rfl rfl)
abbrev cX2_sortOf : ByteArray := prog_18_method_49_code
def yX2_sortOf : MethodName := ⟨RX2, "sortOf", "()I"⟩
def dkwX2_sortOf_7 : List UInt8 := [167, 0, 4, 2, 172]
abbrev dktX2_sortOf_7 : List UInt8 := dkwX2_sortOf_7 ++ []
def dkwX2_sortOf_6 : List UInt8 := [167, 0, 27, 42, 16, 119, 16, 97, 16, 105, 16, 116, 184, 0, 207, 182, 0, 181, 153, 0, 8, 16, 6]
abbrev dktX2_sortOf_6 : List UInt8 := dkwX2_sortOf_6 ++ dktX2_sortOf_7
def dkwX2_sortOf_5 : List UInt8 := [153, 0, 5, 7, 172, 42, 16, 98, 16, 108, 16, 111, 16, 119, 184, 0, 207, 182, 0, 181, 153, 0, 7, 8]
abbrev dktX2_sortOf_5 : List UInt8 := dkwX2_sortOf_5 ++ dktX2_sortOf_6
def dkwX2_sortOf_4 : List UInt8 := [153, 0, 5, 6, 172, 42, 16, 98, 16, 101, 16, 103, 16, 105, 16, 110, 184, 0, 123, 182, 0, 181]
abbrev dktX2_sortOf_4 : List UInt8 := dkwX2_sortOf_4 ++ dktX2_sortOf_5
def dkwX2_sortOf_3 : List UInt8 := [153, 0, 5, 5, 172, 42, 16, 115, 16, 104, 16, 97, 16, 114, 16, 101, 184, 0, 123, 182, 0, 181]
abbrev dktX2_sortOf_3 : List UInt8 := dkwX2_sortOf_3 ++ dktX2_sortOf_4
def dkwX2_sortOf_2 : List UInt8 := [16, 105, 184, 0, 119, 16, 32, 121, 16, 116, 16, 116, 16, 108, 16, 101, 184, 0, 207, 129, 182, 0, 181]
abbrev dktX2_sortOf_2 : List UInt8 := dkwX2_sortOf_2 ++ dktX2_sortOf_3
def dkwX2_sortOf_1 : List UInt8 := [16, 99, 16, 111, 16, 115, 16, 116, 184, 0, 207, 182, 0, 181, 153, 0, 5, 4, 172, 42, 16, 98, 16, 114]
abbrev dktX2_sortOf_1 : List UInt8 := dkwX2_sortOf_1 ++ dktX2_sortOf_2
def dkwX2_sortOf_0 : List UInt8 := [42, 16, 115, 16, 109, 16, 111, 16, 107, 16, 101, 184, 0, 123, 182, 0, 181, 153, 0, 5, 3, 172, 42]
abbrev dktX2_sortOf_0 : List UInt8 := dkwX2_sortOf_0 ++ dktX2_sortOf_1
theorem dksX2_sortOf_0 : cX2_sortOf.data.toList.drop 0 = dktX2_sortOf_0 := by decide +kernel
theorem dksX2_sortOf_1 : cX2_sortOf.data.toList.drop 23 = dktX2_sortOf_1 := dk_seg dksX2_sortOf_0 23 rfl rfl
theorem dksX2_sortOf_2 : cX2_sortOf.data.toList.drop 47 = dktX2_sortOf_2 := dk_seg dksX2_sortOf_1 24 rfl rfl
theorem dksX2_sortOf_3 : cX2_sortOf.data.toList.drop 70 = dktX2_sortOf_3 := dk_seg dksX2_sortOf_2 23 rfl rfl
theorem dksX2_sortOf_4 : cX2_sortOf.data.toList.drop 92 = dktX2_sortOf_4 := dk_seg dksX2_sortOf_3 22 rfl rfl
theorem dksX2_sortOf_5 : cX2_sortOf.data.toList.drop 114 = dktX2_sortOf_5 := dk_seg dksX2_sortOf_4 22 rfl rfl
theorem dksX2_sortOf_6 : cX2_sortOf.data.toList.drop 138 = dktX2_sortOf_6 := dk_seg dksX2_sortOf_5 24 rfl rfl
theorem dksX2_sortOf_7 : cX2_sortOf.data.toList.drop 161 = dktX2_sortOf_7 := dk_seg dksX2_sortOf_6 23 rfl rfl
theorem dX2_sortOf_0 : decode cX2_sortOf 0 = .ok (.aload_n 0, 1) := dk_42 (dk_at dksX2_sortOf_0 0 rfl rfl)
theorem dX2_sortOf_1 : decode cX2_sortOf 1 = .ok (.bipush 115, 2) := dk_16 115 (dk_at dksX2_sortOf_0 1 rfl rfl)
theorem dX2_sortOf_3 : decode cX2_sortOf 3 = .ok (.bipush 109, 2) := dk_16 109 (dk_at dksX2_sortOf_0 3 rfl rfl)
theorem dX2_sortOf_5 : decode cX2_sortOf 5 = .ok (.bipush 111, 2) := dk_16 111 (dk_at dksX2_sortOf_0 5 rfl rfl)
theorem dX2_sortOf_7 : decode cX2_sortOf 7 = .ok (.bipush 107, 2) := dk_16 107 (dk_at dksX2_sortOf_0 7 rfl rfl)
theorem dX2_sortOf_9 : decode cX2_sortOf 9 = .ok (.bipush 101, 2) := dk_16 101 (dk_at dksX2_sortOf_0 9 rfl rfl)
theorem dX2_sortOf_11 : decode cX2_sortOf 11 = .ok (.invokestatic 123, 3) := dk_184 0 123 (dk_at dksX2_sortOf_0 11 rfl rfl)
theorem dX2_sortOf_14 : decode cX2_sortOf 14 = .ok (.invokevirtual 181, 3) := dk_182 0 181 (dk_at dksX2_sortOf_0 14 rfl rfl)
theorem dX2_sortOf_17 : decode cX2_sortOf 17 = .ok (.ifCond .eq 5, 3) := dk_153 0 5 (dk_at dksX2_sortOf_0 17 rfl rfl)
theorem dX2_sortOf_20 : decode cX2_sortOf 20 = .ok (.iconst 0, 1) := dk_3 (dk_at dksX2_sortOf_0 20 rfl rfl)
theorem dX2_sortOf_21 : decode cX2_sortOf 21 = .ok (.ireturn, 1) := dk_172 (dk_at dksX2_sortOf_0 21 rfl rfl)
theorem dX2_sortOf_22 : decode cX2_sortOf 22 = .ok (.aload_n 0, 1) := dk_42 (dk_at dksX2_sortOf_0 22 rfl rfl)
theorem dX2_sortOf_23 : decode cX2_sortOf 23 = .ok (.bipush 99, 2) := dk_16 99 (dk_at dksX2_sortOf_1 0 rfl rfl)
theorem dX2_sortOf_25 : decode cX2_sortOf 25 = .ok (.bipush 111, 2) := dk_16 111 (dk_at dksX2_sortOf_1 2 rfl rfl)
theorem dX2_sortOf_27 : decode cX2_sortOf 27 = .ok (.bipush 115, 2) := dk_16 115 (dk_at dksX2_sortOf_1 4 rfl rfl)
theorem dX2_sortOf_29 : decode cX2_sortOf 29 = .ok (.bipush 116, 2) := dk_16 116 (dk_at dksX2_sortOf_1 6 rfl rfl)
theorem dX2_sortOf_31 : decode cX2_sortOf 31 = .ok (.invokestatic 207, 3) := dk_184 0 207 (dk_at dksX2_sortOf_1 8 rfl rfl)
theorem dX2_sortOf_34 : decode cX2_sortOf 34 = .ok (.invokevirtual 181, 3) := dk_182 0 181 (dk_at dksX2_sortOf_1 11 rfl rfl)
theorem dX2_sortOf_37 : decode cX2_sortOf 37 = .ok (.ifCond .eq 5, 3) := dk_153 0 5 (dk_at dksX2_sortOf_1 14 rfl rfl)
theorem dX2_sortOf_40 : decode cX2_sortOf 40 = .ok (.iconst 1, 1) := dk_4 (dk_at dksX2_sortOf_1 17 rfl rfl)
theorem dX2_sortOf_41 : decode cX2_sortOf 41 = .ok (.ireturn, 1) := dk_172 (dk_at dksX2_sortOf_1 18 rfl rfl)
theorem dX2_sortOf_42 : decode cX2_sortOf 42 = .ok (.aload_n 0, 1) := dk_42 (dk_at dksX2_sortOf_1 19 rfl rfl)
theorem dX2_sortOf_43 : decode cX2_sortOf 43 = .ok (.bipush 98, 2) := dk_16 98 (dk_at dksX2_sortOf_1 20 rfl rfl)
theorem dX2_sortOf_45 : decode cX2_sortOf 45 = .ok (.bipush 114, 2) := dk_16 114 (dk_at dksX2_sortOf_1 22 rfl rfl)
theorem dX2_sortOf_47 : decode cX2_sortOf 47 = .ok (.bipush 105, 2) := dk_16 105 (dk_at dksX2_sortOf_2 0 rfl rfl)
theorem dX2_sortOf_49 : decode cX2_sortOf 49 = .ok (.invokestatic 119, 3) := dk_184 0 119 (dk_at dksX2_sortOf_2 2 rfl rfl)
theorem dX2_sortOf_52 : decode cX2_sortOf 52 = .ok (.bipush 32, 2) := dk_16 32 (dk_at dksX2_sortOf_2 5 rfl rfl)
theorem dX2_sortOf_54 : decode cX2_sortOf 54 = .ok (.lshl, 1) := dk_121 (dk_at dksX2_sortOf_2 7 rfl rfl)
theorem dX2_sortOf_55 : decode cX2_sortOf 55 = .ok (.bipush 116, 2) := dk_16 116 (dk_at dksX2_sortOf_2 8 rfl rfl)
theorem dX2_sortOf_57 : decode cX2_sortOf 57 = .ok (.bipush 116, 2) := dk_16 116 (dk_at dksX2_sortOf_2 10 rfl rfl)
theorem dX2_sortOf_59 : decode cX2_sortOf 59 = .ok (.bipush 108, 2) := dk_16 108 (dk_at dksX2_sortOf_2 12 rfl rfl)
theorem dX2_sortOf_61 : decode cX2_sortOf 61 = .ok (.bipush 101, 2) := dk_16 101 (dk_at dksX2_sortOf_2 14 rfl rfl)
theorem dX2_sortOf_63 : decode cX2_sortOf 63 = .ok (.invokestatic 207, 3) := dk_184 0 207 (dk_at dksX2_sortOf_2 16 rfl rfl)
theorem dX2_sortOf_66 : decode cX2_sortOf 66 = .ok (.lor, 1) := dk_129 (dk_at dksX2_sortOf_2 19 rfl rfl)
theorem dX2_sortOf_67 : decode cX2_sortOf 67 = .ok (.invokevirtual 181, 3) := dk_182 0 181 (dk_at dksX2_sortOf_2 20 rfl rfl)
theorem dX2_sortOf_70 : decode cX2_sortOf 70 = .ok (.ifCond .eq 5, 3) := dk_153 0 5 (dk_at dksX2_sortOf_3 0 rfl rfl)
theorem dX2_sortOf_73 : decode cX2_sortOf 73 = .ok (.iconst 2, 1) := dk_5 (dk_at dksX2_sortOf_3 3 rfl rfl)
theorem dX2_sortOf_74 : decode cX2_sortOf 74 = .ok (.ireturn, 1) := dk_172 (dk_at dksX2_sortOf_3 4 rfl rfl)
theorem dX2_sortOf_75 : decode cX2_sortOf 75 = .ok (.aload_n 0, 1) := dk_42 (dk_at dksX2_sortOf_3 5 rfl rfl)
theorem dX2_sortOf_76 : decode cX2_sortOf 76 = .ok (.bipush 115, 2) := dk_16 115 (dk_at dksX2_sortOf_3 6 rfl rfl)
theorem dX2_sortOf_78 : decode cX2_sortOf 78 = .ok (.bipush 104, 2) := dk_16 104 (dk_at dksX2_sortOf_3 8 rfl rfl)
theorem dX2_sortOf_80 : decode cX2_sortOf 80 = .ok (.bipush 97, 2) := dk_16 97 (dk_at dksX2_sortOf_3 10 rfl rfl)
theorem dX2_sortOf_82 : decode cX2_sortOf 82 = .ok (.bipush 114, 2) := dk_16 114 (dk_at dksX2_sortOf_3 12 rfl rfl)
theorem dX2_sortOf_84 : decode cX2_sortOf 84 = .ok (.bipush 101, 2) := dk_16 101 (dk_at dksX2_sortOf_3 14 rfl rfl)
theorem dX2_sortOf_86 : decode cX2_sortOf 86 = .ok (.invokestatic 123, 3) := dk_184 0 123 (dk_at dksX2_sortOf_3 16 rfl rfl)
theorem dX2_sortOf_89 : decode cX2_sortOf 89 = .ok (.invokevirtual 181, 3) := dk_182 0 181 (dk_at dksX2_sortOf_3 19 rfl rfl)
theorem dX2_sortOf_92 : decode cX2_sortOf 92 = .ok (.ifCond .eq 5, 3) := dk_153 0 5 (dk_at dksX2_sortOf_4 0 rfl rfl)
theorem dX2_sortOf_95 : decode cX2_sortOf 95 = .ok (.iconst 3, 1) := dk_6 (dk_at dksX2_sortOf_4 3 rfl rfl)
theorem dX2_sortOf_96 : decode cX2_sortOf 96 = .ok (.ireturn, 1) := dk_172 (dk_at dksX2_sortOf_4 4 rfl rfl)
theorem dX2_sortOf_97 : decode cX2_sortOf 97 = .ok (.aload_n 0, 1) := dk_42 (dk_at dksX2_sortOf_4 5 rfl rfl)
theorem dX2_sortOf_98 : decode cX2_sortOf 98 = .ok (.bipush 98, 2) := dk_16 98 (dk_at dksX2_sortOf_4 6 rfl rfl)
theorem dX2_sortOf_100 : decode cX2_sortOf 100 = .ok (.bipush 101, 2) := dk_16 101 (dk_at dksX2_sortOf_4 8 rfl rfl)
theorem dX2_sortOf_102 : decode cX2_sortOf 102 = .ok (.bipush 103, 2) := dk_16 103 (dk_at dksX2_sortOf_4 10 rfl rfl)
theorem dX2_sortOf_104 : decode cX2_sortOf 104 = .ok (.bipush 105, 2) := dk_16 105 (dk_at dksX2_sortOf_4 12 rfl rfl)
theorem dX2_sortOf_106 : decode cX2_sortOf 106 = .ok (.bipush 110, 2) := dk_16 110 (dk_at dksX2_sortOf_4 14 rfl rfl)
theorem dX2_sortOf_108 : decode cX2_sortOf 108 = .ok (.invokestatic 123, 3) := dk_184 0 123 (dk_at dksX2_sortOf_4 16 rfl rfl)
theorem dX2_sortOf_111 : decode cX2_sortOf 111 = .ok (.invokevirtual 181, 3) := dk_182 0 181 (dk_at dksX2_sortOf_4 19 rfl rfl)
theorem dX2_sortOf_114 : decode cX2_sortOf 114 = .ok (.ifCond .eq 5, 3) := dk_153 0 5 (dk_at dksX2_sortOf_5 0 rfl rfl)
theorem dX2_sortOf_117 : decode cX2_sortOf 117 = .ok (.iconst 4, 1) := dk_7 (dk_at dksX2_sortOf_5 3 rfl rfl)
theorem dX2_sortOf_118 : decode cX2_sortOf 118 = .ok (.ireturn, 1) := dk_172 (dk_at dksX2_sortOf_5 4 rfl rfl)
theorem dX2_sortOf_119 : decode cX2_sortOf 119 = .ok (.aload_n 0, 1) := dk_42 (dk_at dksX2_sortOf_5 5 rfl rfl)
theorem dX2_sortOf_120 : decode cX2_sortOf 120 = .ok (.bipush 98, 2) := dk_16 98 (dk_at dksX2_sortOf_5 6 rfl rfl)
theorem dX2_sortOf_122 : decode cX2_sortOf 122 = .ok (.bipush 108, 2) := dk_16 108 (dk_at dksX2_sortOf_5 8 rfl rfl)
theorem dX2_sortOf_124 : decode cX2_sortOf 124 = .ok (.bipush 111, 2) := dk_16 111 (dk_at dksX2_sortOf_5 10 rfl rfl)
theorem dX2_sortOf_126 : decode cX2_sortOf 126 = .ok (.bipush 119, 2) := dk_16 119 (dk_at dksX2_sortOf_5 12 rfl rfl)
theorem dX2_sortOf_128 : decode cX2_sortOf 128 = .ok (.invokestatic 207, 3) := dk_184 0 207 (dk_at dksX2_sortOf_5 14 rfl rfl)
theorem dX2_sortOf_131 : decode cX2_sortOf 131 = .ok (.invokevirtual 181, 3) := dk_182 0 181 (dk_at dksX2_sortOf_5 17 rfl rfl)
theorem dX2_sortOf_134 : decode cX2_sortOf 134 = .ok (.ifCond .eq 7, 3) := dk_153 0 7 (dk_at dksX2_sortOf_5 20 rfl rfl)
theorem dX2_sortOf_137 : decode cX2_sortOf 137 = .ok (.iconst 5, 1) := dk_8 (dk_at dksX2_sortOf_5 23 rfl rfl)
theorem dX2_sortOf_138 : decode cX2_sortOf 138 = .ok (.goto 27, 3) := dk_167 0 27 (dk_at dksX2_sortOf_6 0 rfl rfl)
theorem dX2_sortOf_141 : decode cX2_sortOf 141 = .ok (.aload_n 0, 1) := dk_42 (dk_at dksX2_sortOf_6 3 rfl rfl)
theorem dX2_sortOf_142 : decode cX2_sortOf 142 = .ok (.bipush 119, 2) := dk_16 119 (dk_at dksX2_sortOf_6 4 rfl rfl)
theorem dX2_sortOf_144 : decode cX2_sortOf 144 = .ok (.bipush 97, 2) := dk_16 97 (dk_at dksX2_sortOf_6 6 rfl rfl)
theorem dX2_sortOf_146 : decode cX2_sortOf 146 = .ok (.bipush 105, 2) := dk_16 105 (dk_at dksX2_sortOf_6 8 rfl rfl)
theorem dX2_sortOf_148 : decode cX2_sortOf 148 = .ok (.bipush 116, 2) := dk_16 116 (dk_at dksX2_sortOf_6 10 rfl rfl)
theorem dX2_sortOf_150 : decode cX2_sortOf 150 = .ok (.invokestatic 207, 3) := dk_184 0 207 (dk_at dksX2_sortOf_6 12 rfl rfl)
theorem dX2_sortOf_153 : decode cX2_sortOf 153 = .ok (.invokevirtual 181, 3) := dk_182 0 181 (dk_at dksX2_sortOf_6 15 rfl rfl)
theorem dX2_sortOf_156 : decode cX2_sortOf 156 = .ok (.ifCond .eq 8, 3) := dk_153 0 8 (dk_at dksX2_sortOf_6 18 rfl rfl)
theorem dX2_sortOf_159 : decode cX2_sortOf 159 = .ok (.bipush 6, 2) := dk_16 6 (dk_at dksX2_sortOf_6 21 rfl rfl)
theorem dX2_sortOf_161 : decode cX2_sortOf 161 = .ok (.goto 4, 3) := dk_167 0 4 (dk_at dksX2_sortOf_7 0 rfl rfl)
theorem dX2_sortOf_164 : decode cX2_sortOf 164 = .ok (.iconst (-1), 1) := dk_2 (dk_at dksX2_sortOf_7 3 rfl rfl)
theorem dX2_sortOf_165 : decode cX2_sortOf 165 = .ok (.ireturn, 1) := dk_172 (dk_at dksX2_sortOf_7 4 rfl rfl)
abbrev cX2_w5 : ByteArray := prog_18_method_27_code
def yX2_w5 : MethodName := ⟨RX2, "w5", "(IIIII)J"⟩
def dkwX2_w5_0 : List UInt8 := [26, 27, 28, 184, 0, 119, 16, 8, 121, 29, 133, 129, 16, 8, 121, 21, 4, 133, 129, 173]
abbrev dktX2_w5_0 : List UInt8 := dkwX2_w5_0 ++ []
theorem dksX2_w5_0 : cX2_w5.data.toList.drop 0 = dktX2_w5_0 := by decide +kernel
theorem dX2_w5_0 : decode cX2_w5 0 = .ok (.iload_n 0, 1) := dk_26 (dk_at dksX2_w5_0 0 rfl rfl)
theorem dX2_w5_1 : decode cX2_w5 1 = .ok (.iload_n 1, 1) := dk_27 (dk_at dksX2_w5_0 1 rfl rfl)
theorem dX2_w5_2 : decode cX2_w5 2 = .ok (.iload_n 2, 1) := dk_28 (dk_at dksX2_w5_0 2 rfl rfl)
theorem dX2_w5_3 : decode cX2_w5 3 = .ok (.invokestatic 119, 3) := dk_184 0 119 (dk_at dksX2_w5_0 3 rfl rfl)
theorem dX2_w5_6 : decode cX2_w5 6 = .ok (.bipush 8, 2) := dk_16 8 (dk_at dksX2_w5_0 6 rfl rfl)
theorem dX2_w5_8 : decode cX2_w5 8 = .ok (.lshl, 1) := dk_121 (dk_at dksX2_w5_0 8 rfl rfl)
theorem dX2_w5_9 : decode cX2_w5 9 = .ok (.iload_n 3, 1) := dk_29 (dk_at dksX2_w5_0 9 rfl rfl)
theorem dX2_w5_10 : decode cX2_w5 10 = .ok (.i2l, 1) := dk_133 (dk_at dksX2_w5_0 10 rfl rfl)
theorem dX2_w5_11 : decode cX2_w5 11 = .ok (.lor, 1) := dk_129 (dk_at dksX2_w5_0 11 rfl rfl)
theorem dX2_w5_12 : decode cX2_w5 12 = .ok (.bipush 8, 2) := dk_16 8 (dk_at dksX2_w5_0 12 rfl rfl)
theorem dX2_w5_14 : decode cX2_w5 14 = .ok (.lshl, 1) := dk_121 (dk_at dksX2_w5_0 14 rfl rfl)
theorem dX2_w5_15 : decode cX2_w5 15 = .ok (.iload 4, 2) := dk_21 4 (dk_at dksX2_w5_0 15 rfl rfl)
theorem dX2_w5_17 : decode cX2_w5 17 = .ok (.i2l, 1) := dk_133 (dk_at dksX2_w5_0 17 rfl rfl)
theorem dX2_w5_18 : decode cX2_w5 18 = .ok (.lor, 1) := dk_129 (dk_at dksX2_w5_0 18 rfl rfl)
theorem dX2_w5_19 : decode cX2_w5 19 = .ok (.lreturn, 1) := dk_173 (dk_at dksX2_w5_0 19 rfl rfl)
abbrev cX2_w3 : ByteArray := prog_18_method_26_code
def yX2_w3 : MethodName := ⟨RX2, "w3", "(III)J"⟩
def dkwX2_w3_0 : List UInt8 := [26, 133, 16, 8, 121, 27, 133, 129, 16, 8, 121, 28, 133, 129, 173]
abbrev dktX2_w3_0 : List UInt8 := dkwX2_w3_0 ++ []
theorem dksX2_w3_0 : cX2_w3.data.toList.drop 0 = dktX2_w3_0 := by decide +kernel
theorem dX2_w3_0 : decode cX2_w3 0 = .ok (.iload_n 0, 1) := dk_26 (dk_at dksX2_w3_0 0 rfl rfl)
theorem dX2_w3_1 : decode cX2_w3 1 = .ok (.i2l, 1) := dk_133 (dk_at dksX2_w3_0 1 rfl rfl)
theorem dX2_w3_2 : decode cX2_w3 2 = .ok (.bipush 8, 2) := dk_16 8 (dk_at dksX2_w3_0 2 rfl rfl)
theorem dX2_w3_4 : decode cX2_w3 4 = .ok (.lshl, 1) := dk_121 (dk_at dksX2_w3_0 4 rfl rfl)
theorem dX2_w3_5 : decode cX2_w3 5 = .ok (.iload_n 1, 1) := dk_27 (dk_at dksX2_w3_0 5 rfl rfl)
theorem dX2_w3_6 : decode cX2_w3 6 = .ok (.i2l, 1) := dk_133 (dk_at dksX2_w3_0 6 rfl rfl)
theorem dX2_w3_7 : decode cX2_w3 7 = .ok (.lor, 1) := dk_129 (dk_at dksX2_w3_0 7 rfl rfl)
theorem dX2_w3_8 : decode cX2_w3 8 = .ok (.bipush 8, 2) := dk_16 8 (dk_at dksX2_w3_0 8 rfl rfl)
theorem dX2_w3_10 : decode cX2_w3 10 = .ok (.lshl, 1) := dk_121 (dk_at dksX2_w3_0 10 rfl rfl)
theorem dX2_w3_11 : decode cX2_w3 11 = .ok (.iload_n 2, 1) := dk_28 (dk_at dksX2_w3_0 11 rfl rfl)
theorem dX2_w3_12 : decode cX2_w3 12 = .ok (.i2l, 1) := dk_133 (dk_at dksX2_w3_0 12 rfl rfl)
theorem dX2_w3_13 : decode cX2_w3 13 = .ok (.lor, 1) := dk_129 (dk_at dksX2_w3_0 13 rfl rfl)
theorem dX2_w3_14 : decode cX2_w3 14 = .ok (.lreturn, 1) := dk_173 (dk_at dksX2_w3_0 14 rfl rfl)
abbrev cX2_isWord : ByteArray := prog_18_method_30_code
def yX2_isWord : MethodName := ⟨RX2, "isWord", "(J)Z"⟩
def dkwX2_isWord_0 : List UInt8 := [42, 180, 0, 102, 5, 160, 0, 16, 42, 180, 0, 115, 31, 148, 154, 0, 7, 4, 167, 0, 4, 3, 172]
abbrev dktX2_isWord_0 : List UInt8 := dkwX2_isWord_0 ++ []
theorem dksX2_isWord_0 : cX2_isWord.data.toList.drop 0 = dktX2_isWord_0 := by decide +kernel
theorem dX2_isWord_0 : decode cX2_isWord 0 = .ok (.aload_n 0, 1) := dk_42 (dk_at dksX2_isWord_0 0 rfl rfl)
theorem dX2_isWord_1 : decode cX2_isWord 1 = .ok (.getfield 102, 3) := dk_180 0 102 (dk_at dksX2_isWord_0 1 rfl rfl)
theorem dX2_isWord_4 : decode cX2_isWord 4 = .ok (.iconst 2, 1) := dk_5 (dk_at dksX2_isWord_0 4 rfl rfl)
theorem dX2_isWord_5 : decode cX2_isWord 5 = .ok (.if_icmp .ne 16, 3) := dk_160 0 16 (dk_at dksX2_isWord_0 5 rfl rfl)
theorem dX2_isWord_8 : decode cX2_isWord 8 = .ok (.aload_n 0, 1) := dk_42 (dk_at dksX2_isWord_0 8 rfl rfl)
theorem dX2_isWord_9 : decode cX2_isWord 9 = .ok (.getfield 115, 3) := dk_180 0 115 (dk_at dksX2_isWord_0 9 rfl rfl)
theorem dX2_isWord_12 : decode cX2_isWord 12 = .ok (.lload_n 1, 1) := dk_31 (dk_at dksX2_isWord_0 12 rfl rfl)
theorem dX2_isWord_13 : decode cX2_isWord 13 = .ok (.lcmp, 1) := dk_148 (dk_at dksX2_isWord_0 13 rfl rfl)
theorem dX2_isWord_14 : decode cX2_isWord 14 = .ok (.ifCond .ne 7, 3) := dk_154 0 7 (dk_at dksX2_isWord_0 14 rfl rfl)
theorem dX2_isWord_17 : decode cX2_isWord 17 = .ok (.iconst 1, 1) := dk_4 (dk_at dksX2_isWord_0 17 rfl rfl)
theorem dX2_isWord_18 : decode cX2_isWord 18 = .ok (.goto 4, 3) := dk_167 0 4 (dk_at dksX2_isWord_0 18 rfl rfl)
theorem dX2_isWord_21 : decode cX2_isWord 21 = .ok (.iconst 0, 1) := dk_3 (dk_at dksX2_isWord_0 21 rfl rfl)
theorem dX2_isWord_22 : decode cX2_isWord 22 = .ok (.ireturn, 1) := dk_172 (dk_at dksX2_isWord_0 22 rfl rfl)
abbrev cX2_w4 : ByteArray := prog_18_method_28_code
def yX2_w4 : MethodName := ⟨RX2, "w4", "(IIII)J"⟩
def dkwX2_w4_0 : List UInt8 := [26, 27, 28, 184, 0, 119, 16, 8, 121, 29, 133, 129, 173]
abbrev dktX2_w4_0 : List UInt8 := dkwX2_w4_0 ++ []
theorem dksX2_w4_0 : cX2_w4.data.toList.drop 0 = dktX2_w4_0 := by decide +kernel
theorem dX2_w4_0 : decode cX2_w4 0 = .ok (.iload_n 0, 1) := dk_26 (dk_at dksX2_w4_0 0 rfl rfl)
theorem dX2_w4_1 : decode cX2_w4 1 = .ok (.iload_n 1, 1) := dk_27 (dk_at dksX2_w4_0 1 rfl rfl)
theorem dX2_w4_2 : decode cX2_w4 2 = .ok (.iload_n 2, 1) := dk_28 (dk_at dksX2_w4_0 2 rfl rfl)
theorem dX2_w4_3 : decode cX2_w4 3 = .ok (.invokestatic 119, 3) := dk_184 0 119 (dk_at dksX2_w4_0 3 rfl rfl)
theorem dX2_w4_6 : decode cX2_w4 6 = .ok (.bipush 8, 2) := dk_16 8 (dk_at dksX2_w4_0 6 rfl rfl)
theorem dX2_w4_8 : decode cX2_w4 8 = .ok (.lshl, 1) := dk_121 (dk_at dksX2_w4_0 8 rfl rfl)
theorem dX2_w4_9 : decode cX2_w4 9 = .ok (.iload_n 3, 1) := dk_29 (dk_at dksX2_w4_0 9 rfl rfl)
theorem dX2_w4_10 : decode cX2_w4 10 = .ok (.i2l, 1) := dk_133 (dk_at dksX2_w4_0 10 rfl rfl)
theorem dX2_w4_11 : decode cX2_w4 11 = .ok (.lor, 1) := dk_129 (dk_at dksX2_w4_0 11 rfl rfl)
theorem dX2_w4_12 : decode cX2_w4 12 = .ok (.lreturn, 1) := dk_173 (dk_at dksX2_w4_0 12 rfl rfl)
abbrev cX2_parsed : ByteArray := prog_18_method_45_code
def yX2_parsed : MethodName := ⟨RX2, "parsed", "(Z)I"⟩
def dkwX2_parsed_3 : List UInt8 := [3, 172]
abbrev dktX2_parsed_3 : List UInt8 := dkwX2_parsed_3 ++ []
def dkwX2_parsed_2 : List UInt8 := [182, 0, 153, 156, 0, 14, 27, 153, 0, 12, 42, 182, 0, 189, 154, 0, 5, 4, 172, 42, 4, 182, 0, 150]
abbrev dktX2_parsed_2 : List UInt8 := dkwX2_parsed_2 ++ dktX2_parsed_3
def dkwX2_parsed_1 : List UInt8 := [27, 182, 0, 201, 61, 167, 255, 239, 42, 27, 182, 0, 204, 62, 29, 153, 0, 5, 29, 172, 167, 255, 224, 42]
abbrev dktX2_parsed_1 : List UInt8 := dkwX2_parsed_1 ++ dktX2_parsed_2
def dkwX2_parsed_0 : List UInt8 := [42, 3, 181, 0, 133, 42, 3, 181, 0, 146, 4, 61, 28, 153, 0, 34, 42, 180, 0, 146, 153, 0, 12, 42]
abbrev dktX2_parsed_0 : List UInt8 := dkwX2_parsed_0 ++ dktX2_parsed_1
theorem dksX2_parsed_0 : cX2_parsed.data.toList.drop 0 = dktX2_parsed_0 := by decide +kernel
theorem dksX2_parsed_1 : cX2_parsed.data.toList.drop 24 = dktX2_parsed_1 := dk_seg dksX2_parsed_0 24 rfl rfl
theorem dksX2_parsed_2 : cX2_parsed.data.toList.drop 48 = dktX2_parsed_2 := dk_seg dksX2_parsed_1 24 rfl rfl
theorem dksX2_parsed_3 : cX2_parsed.data.toList.drop 72 = dktX2_parsed_3 := dk_seg dksX2_parsed_2 24 rfl rfl
theorem dX2_parsed_0 : decode cX2_parsed 0 = .ok (.aload_n 0, 1) := dk_42 (dk_at dksX2_parsed_0 0 rfl rfl)
theorem dX2_parsed_1 : decode cX2_parsed 1 = .ok (.iconst 0, 1) := dk_3 (dk_at dksX2_parsed_0 1 rfl rfl)
theorem dX2_parsed_2 : decode cX2_parsed 2 = .ok (.putfield 133, 3) := dk_181 0 133 (dk_at dksX2_parsed_0 2 rfl rfl)
theorem dX2_parsed_5 : decode cX2_parsed 5 = .ok (.aload_n 0, 1) := dk_42 (dk_at dksX2_parsed_0 5 rfl rfl)
theorem dX2_parsed_6 : decode cX2_parsed 6 = .ok (.iconst 0, 1) := dk_3 (dk_at dksX2_parsed_0 6 rfl rfl)
theorem dX2_parsed_7 : decode cX2_parsed 7 = .ok (.putfield 146, 3) := dk_181 0 146 (dk_at dksX2_parsed_0 7 rfl rfl)
theorem dX2_parsed_10 : decode cX2_parsed 10 = .ok (.iconst 1, 1) := dk_4 (dk_at dksX2_parsed_0 10 rfl rfl)
theorem dX2_parsed_11 : decode cX2_parsed 11 = .ok (.istore_n 2, 1) := dk_61 (dk_at dksX2_parsed_0 11 rfl rfl)
theorem dX2_parsed_12 : decode cX2_parsed 12 = .ok (.iload_n 2, 1) := dk_28 (dk_at dksX2_parsed_0 12 rfl rfl)
theorem dX2_parsed_13 : decode cX2_parsed 13 = .ok (.ifCond .eq 34, 3) := dk_153 0 34 (dk_at dksX2_parsed_0 13 rfl rfl)
theorem dX2_parsed_16 : decode cX2_parsed 16 = .ok (.aload_n 0, 1) := dk_42 (dk_at dksX2_parsed_0 16 rfl rfl)
theorem dX2_parsed_17 : decode cX2_parsed 17 = .ok (.getfield 146, 3) := dk_180 0 146 (dk_at dksX2_parsed_0 17 rfl rfl)
theorem dX2_parsed_20 : decode cX2_parsed 20 = .ok (.ifCond .eq 12, 3) := dk_153 0 12 (dk_at dksX2_parsed_0 20 rfl rfl)
theorem dX2_parsed_23 : decode cX2_parsed 23 = .ok (.aload_n 0, 1) := dk_42 (dk_at dksX2_parsed_0 23 rfl rfl)
theorem dX2_parsed_24 : decode cX2_parsed 24 = .ok (.iload_n 1, 1) := dk_27 (dk_at dksX2_parsed_1 0 rfl rfl)
theorem dX2_parsed_25 : decode cX2_parsed 25 = .ok (.invokevirtual 201, 3) := dk_182 0 201 (dk_at dksX2_parsed_1 1 rfl rfl)
theorem dX2_parsed_28 : decode cX2_parsed 28 = .ok (.istore_n 2, 1) := dk_61 (dk_at dksX2_parsed_1 4 rfl rfl)
theorem dX2_parsed_29 : decode cX2_parsed 29 = .ok (.goto (-17), 3) := dk_167 255 239 (dk_at dksX2_parsed_1 5 rfl rfl)
theorem dX2_parsed_32 : decode cX2_parsed 32 = .ok (.aload_n 0, 1) := dk_42 (dk_at dksX2_parsed_1 8 rfl rfl)
theorem dX2_parsed_33 : decode cX2_parsed 33 = .ok (.iload_n 1, 1) := dk_27 (dk_at dksX2_parsed_1 9 rfl rfl)
theorem dX2_parsed_34 : decode cX2_parsed 34 = .ok (.invokevirtual 204, 3) := dk_182 0 204 (dk_at dksX2_parsed_1 10 rfl rfl)
theorem dX2_parsed_37 : decode cX2_parsed 37 = .ok (.istore_n 3, 1) := dk_62 (dk_at dksX2_parsed_1 13 rfl rfl)
theorem dX2_parsed_38 : decode cX2_parsed 38 = .ok (.iload_n 3, 1) := dk_29 (dk_at dksX2_parsed_1 14 rfl rfl)
theorem dX2_parsed_39 : decode cX2_parsed 39 = .ok (.ifCond .eq 5, 3) := dk_153 0 5 (dk_at dksX2_parsed_1 15 rfl rfl)
theorem dX2_parsed_42 : decode cX2_parsed 42 = .ok (.iload_n 3, 1) := dk_29 (dk_at dksX2_parsed_1 18 rfl rfl)
theorem dX2_parsed_43 : decode cX2_parsed 43 = .ok (.ireturn, 1) := dk_172 (dk_at dksX2_parsed_1 19 rfl rfl)
theorem dX2_parsed_44 : decode cX2_parsed 44 = .ok (.goto (-32), 3) := dk_167 255 224 (dk_at dksX2_parsed_1 20 rfl rfl)
theorem dX2_parsed_47 : decode cX2_parsed 47 = .ok (.aload_n 0, 1) := dk_42 (dk_at dksX2_parsed_1 23 rfl rfl)
theorem dX2_parsed_48 : decode cX2_parsed 48 = .ok (.invokevirtual 153, 3) := dk_182 0 153 (dk_at dksX2_parsed_2 0 rfl rfl)
theorem dX2_parsed_51 : decode cX2_parsed 51 = .ok (.ifCond .ge 14, 3) := dk_156 0 14 (dk_at dksX2_parsed_2 3 rfl rfl)
theorem dX2_parsed_54 : decode cX2_parsed 54 = .ok (.iload_n 1, 1) := dk_27 (dk_at dksX2_parsed_2 6 rfl rfl)
theorem dX2_parsed_55 : decode cX2_parsed 55 = .ok (.ifCond .eq 12, 3) := dk_153 0 12 (dk_at dksX2_parsed_2 7 rfl rfl)
theorem dX2_parsed_58 : decode cX2_parsed 58 = .ok (.aload_n 0, 1) := dk_42 (dk_at dksX2_parsed_2 10 rfl rfl)
theorem dX2_parsed_59 : decode cX2_parsed 59 = .ok (.invokevirtual 189, 3) := dk_182 0 189 (dk_at dksX2_parsed_2 11 rfl rfl)
theorem dX2_parsed_62 : decode cX2_parsed 62 = .ok (.ifCond .ne 5, 3) := dk_154 0 5 (dk_at dksX2_parsed_2 14 rfl rfl)
theorem dX2_parsed_65 : decode cX2_parsed 65 = .ok (.iconst 1, 1) := dk_4 (dk_at dksX2_parsed_2 17 rfl rfl)
theorem dX2_parsed_66 : decode cX2_parsed 66 = .ok (.ireturn, 1) := dk_172 (dk_at dksX2_parsed_2 18 rfl rfl)
theorem dX2_parsed_67 : decode cX2_parsed 67 = .ok (.aload_n 0, 1) := dk_42 (dk_at dksX2_parsed_2 19 rfl rfl)
theorem dX2_parsed_68 : decode cX2_parsed 68 = .ok (.iconst 1, 1) := dk_4 (dk_at dksX2_parsed_2 20 rfl rfl)
theorem dX2_parsed_69 : decode cX2_parsed 69 = .ok (.invokevirtual 150, 3) := dk_182 0 150 (dk_at dksX2_parsed_2 21 rfl rfl)
theorem dX2_parsed_72 : decode cX2_parsed 72 = .ok (.iconst 0, 1) := dk_3 (dk_at dksX2_parsed_3 0 rfl rfl)
theorem dX2_parsed_73 : decode cX2_parsed 73 = .ok (.ireturn, 1) := dk_172 (dk_at dksX2_parsed_3 1 rfl rfl)
abbrev cX2_behindOne : ByteArray := prog_18_method_44_code
def yX2_behindOne : MethodName := ⟨RX2, "behindOne", "(Z)Z"⟩
def dkwX2_behindOne_8 : List UInt8 := [29, 21, 4, 4, 96, 79, 42, 3, 181, 0, 146, 167, 0, 5, 3, 172, 42, 182, 0, 164, 4, 172]
abbrev dktX2_behindOne_8 : List UInt8 := dkwX2_behindOne_8 ++ []
def dkwX2_behindOne_7 : List UInt8 := [180, 0, 102, 16, 58, 160, 0, 33, 21, 4, 16, 42, 160, 0, 26, 42, 4, 182, 0, 150, 42, 180, 0, 29]
abbrev dktX2_behindOne_7 : List UInt8 := dkwX2_behindOne_7 ++ dktX2_behindOne_8
def dkwX2_behindOne_6 : List UInt8 := [180, 0, 102, 16, 63, 160, 0, 17, 21, 4, 16, 41, 160, 0, 10, 42, 182, 0, 189, 154, 0, 19, 42]
abbrev dktX2_behindOne_6 : List UInt8 := dkwX2_behindOne_6 ++ dktX2_behindOne_7
def dkwX2_behindOne_5 : List UInt8 := [21, 4, 16, 43, 160, 0, 10, 42, 16, 23, 3, 182, 0, 139, 42, 182, 0, 173, 167, 0, 67, 42]
abbrev dktX2_behindOne_5 : List UInt8 := dkwX2_behindOne_5 ++ dktX2_behindOne_6
def dkwX2_behindOne_4 : List UInt8 := [182, 0, 150, 42, 89, 180, 0, 133, 4, 100, 181, 0, 133, 42, 89, 180, 0, 143, 4, 100, 181, 0, 143]
abbrev dktX2_behindOne_4 : List UInt8 := dkwX2_behindOne_4 ++ dktX2_behindOne_5
def dkwX2_behindOne_3 : List UInt8 := [16, 101, 16, 110, 16, 100, 184, 0, 119, 182, 0, 181, 153, 0, 56, 21, 4, 16, 43, 160, 0, 49, 42, 4]
abbrev dktX2_behindOne_3 : List UInt8 := dkwX2_behindOne_3 ++ dktX2_behindOne_4
def dkwX2_behindOne_2 : List UInt8 := [181, 0, 146, 167, 0, 152, 42, 180, 0, 102, 16, 41, 160, 0, 10, 21, 4, 16, 40, 159, 0, 26, 42]
abbrev dktX2_behindOne_2 : List UInt8 := dkwX2_behindOne_2 ++ dktX2_behindOne_3
def dkwX2_behindOne_1 : List UInt8 := [46, 54, 4, 28, 155, 0, 24, 42, 28, 184, 0, 136, 182, 0, 150, 42, 28, 182, 0, 161, 42, 3]
abbrev dktX2_behindOne_1 : List UInt8 := dkwX2_behindOne_1 ++ dktX2_behindOne_2
def dkwX2_behindOne_0 : List UInt8 := [42, 27, 182, 0, 198, 61, 42, 182, 0, 153, 62, 29, 156, 0, 7, 2, 167, 0, 9, 42, 180, 0, 29, 29]
abbrev dktX2_behindOne_0 : List UInt8 := dkwX2_behindOne_0 ++ dktX2_behindOne_1
theorem dksX2_behindOne_0 : cX2_behindOne.data.toList.drop 0 = dktX2_behindOne_0 := by decide +kernel
theorem dksX2_behindOne_1 : cX2_behindOne.data.toList.drop 24 = dktX2_behindOne_1 := dk_seg dksX2_behindOne_0 24 rfl rfl
theorem dksX2_behindOne_2 : cX2_behindOne.data.toList.drop 46 = dktX2_behindOne_2 := dk_seg dksX2_behindOne_1 22 rfl rfl
theorem dksX2_behindOne_3 : cX2_behindOne.data.toList.drop 69 = dktX2_behindOne_3 := dk_seg dksX2_behindOne_2 23 rfl rfl
theorem dksX2_behindOne_4 : cX2_behindOne.data.toList.drop 93 = dktX2_behindOne_4 := dk_seg dksX2_behindOne_3 24 rfl rfl
theorem dksX2_behindOne_5 : cX2_behindOne.data.toList.drop 116 = dktX2_behindOne_5 := dk_seg dksX2_behindOne_4 23 rfl rfl
theorem dksX2_behindOne_6 : cX2_behindOne.data.toList.drop 138 = dktX2_behindOne_6 := dk_seg dksX2_behindOne_5 22 rfl rfl
theorem dksX2_behindOne_7 : cX2_behindOne.data.toList.drop 161 = dktX2_behindOne_7 := dk_seg dksX2_behindOne_6 23 rfl rfl
theorem dksX2_behindOne_8 : cX2_behindOne.data.toList.drop 185 = dktX2_behindOne_8 := dk_seg dksX2_behindOne_7 24 rfl rfl
theorem dX2_behindOne_0 : decode cX2_behindOne 0 = .ok (.aload_n 0, 1) := dk_42 (dk_at dksX2_behindOne_0 0 rfl rfl)
theorem dX2_behindOne_1 : decode cX2_behindOne 1 = .ok (.iload_n 1, 1) := dk_27 (dk_at dksX2_behindOne_0 1 rfl rfl)
theorem dX2_behindOne_2 : decode cX2_behindOne 2 = .ok (.invokevirtual 198, 3) := dk_182 0 198 (dk_at dksX2_behindOne_0 2 rfl rfl)
theorem dX2_behindOne_5 : decode cX2_behindOne 5 = .ok (.istore_n 2, 1) := dk_61 (dk_at dksX2_behindOne_0 5 rfl rfl)
theorem dX2_behindOne_6 : decode cX2_behindOne 6 = .ok (.aload_n 0, 1) := dk_42 (dk_at dksX2_behindOne_0 6 rfl rfl)
theorem dX2_behindOne_7 : decode cX2_behindOne 7 = .ok (.invokevirtual 153, 3) := dk_182 0 153 (dk_at dksX2_behindOne_0 7 rfl rfl)
theorem dX2_behindOne_10 : decode cX2_behindOne 10 = .ok (.istore_n 3, 1) := dk_62 (dk_at dksX2_behindOne_0 10 rfl rfl)
theorem dX2_behindOne_11 : decode cX2_behindOne 11 = .ok (.iload_n 3, 1) := dk_29 (dk_at dksX2_behindOne_0 11 rfl rfl)
theorem dX2_behindOne_12 : decode cX2_behindOne 12 = .ok (.ifCond .ge 7, 3) := dk_156 0 7 (dk_at dksX2_behindOne_0 12 rfl rfl)
theorem dX2_behindOne_15 : decode cX2_behindOne 15 = .ok (.iconst (-1), 1) := dk_2 (dk_at dksX2_behindOne_0 15 rfl rfl)
theorem dX2_behindOne_16 : decode cX2_behindOne 16 = .ok (.goto 9, 3) := dk_167 0 9 (dk_at dksX2_behindOne_0 16 rfl rfl)
theorem dX2_behindOne_19 : decode cX2_behindOne 19 = .ok (.aload_n 0, 1) := dk_42 (dk_at dksX2_behindOne_0 19 rfl rfl)
theorem dX2_behindOne_20 : decode cX2_behindOne 20 = .ok (.getfield 29, 3) := dk_180 0 29 (dk_at dksX2_behindOne_0 20 rfl rfl)
theorem dX2_behindOne_23 : decode cX2_behindOne 23 = .ok (.iload_n 3, 1) := dk_29 (dk_at dksX2_behindOne_0 23 rfl rfl)
theorem dX2_behindOne_24 : decode cX2_behindOne 24 = .ok (.iaload, 1) := dk_46 (dk_at dksX2_behindOne_1 0 rfl rfl)
theorem dX2_behindOne_25 : decode cX2_behindOne 25 = .ok (.istore 4, 2) := dk_54 4 (dk_at dksX2_behindOne_1 1 rfl rfl)
theorem dX2_behindOne_27 : decode cX2_behindOne 27 = .ok (.iload_n 2, 1) := dk_28 (dk_at dksX2_behindOne_1 3 rfl rfl)
theorem dX2_behindOne_28 : decode cX2_behindOne 28 = .ok (.ifCond .lt 24, 3) := dk_155 0 24 (dk_at dksX2_behindOne_1 4 rfl rfl)
theorem dX2_behindOne_31 : decode cX2_behindOne 31 = .ok (.aload_n 0, 1) := dk_42 (dk_at dksX2_behindOne_1 7 rfl rfl)
theorem dX2_behindOne_32 : decode cX2_behindOne 32 = .ok (.iload_n 2, 1) := dk_28 (dk_at dksX2_behindOne_1 8 rfl rfl)
theorem dX2_behindOne_33 : decode cX2_behindOne 33 = .ok (.invokestatic 136, 3) := dk_184 0 136 (dk_at dksX2_behindOne_1 9 rfl rfl)
theorem dX2_behindOne_36 : decode cX2_behindOne 36 = .ok (.invokevirtual 150, 3) := dk_182 0 150 (dk_at dksX2_behindOne_1 12 rfl rfl)
theorem dX2_behindOne_39 : decode cX2_behindOne 39 = .ok (.aload_n 0, 1) := dk_42 (dk_at dksX2_behindOne_1 15 rfl rfl)
theorem dX2_behindOne_40 : decode cX2_behindOne 40 = .ok (.iload_n 2, 1) := dk_28 (dk_at dksX2_behindOne_1 16 rfl rfl)
theorem dX2_behindOne_41 : decode cX2_behindOne 41 = .ok (.invokevirtual 161, 3) := dk_182 0 161 (dk_at dksX2_behindOne_1 17 rfl rfl)
theorem dX2_behindOne_44 : decode cX2_behindOne 44 = .ok (.aload_n 0, 1) := dk_42 (dk_at dksX2_behindOne_1 20 rfl rfl)
theorem dX2_behindOne_45 : decode cX2_behindOne 45 = .ok (.iconst 0, 1) := dk_3 (dk_at dksX2_behindOne_1 21 rfl rfl)
theorem dX2_behindOne_46 : decode cX2_behindOne 46 = .ok (.putfield 146, 3) := dk_181 0 146 (dk_at dksX2_behindOne_2 0 rfl rfl)
theorem dX2_behindOne_49 : decode cX2_behindOne 49 = .ok (.goto 152, 3) := dk_167 0 152 (dk_at dksX2_behindOne_2 3 rfl rfl)
theorem dX2_behindOne_52 : decode cX2_behindOne 52 = .ok (.aload_n 0, 1) := dk_42 (dk_at dksX2_behindOne_2 6 rfl rfl)
theorem dX2_behindOne_53 : decode cX2_behindOne 53 = .ok (.getfield 102, 3) := dk_180 0 102 (dk_at dksX2_behindOne_2 7 rfl rfl)
theorem dX2_behindOne_56 : decode cX2_behindOne 56 = .ok (.bipush 41, 2) := dk_16 41 (dk_at dksX2_behindOne_2 10 rfl rfl)
theorem dX2_behindOne_58 : decode cX2_behindOne 58 = .ok (.if_icmp .ne 10, 3) := dk_160 0 10 (dk_at dksX2_behindOne_2 12 rfl rfl)
theorem dX2_behindOne_61 : decode cX2_behindOne 61 = .ok (.iload 4, 2) := dk_21 4 (dk_at dksX2_behindOne_2 15 rfl rfl)
theorem dX2_behindOne_63 : decode cX2_behindOne 63 = .ok (.bipush 40, 2) := dk_16 40 (dk_at dksX2_behindOne_2 17 rfl rfl)
theorem dX2_behindOne_65 : decode cX2_behindOne 65 = .ok (.if_icmp .eq 26, 3) := dk_159 0 26 (dk_at dksX2_behindOne_2 19 rfl rfl)
theorem dX2_behindOne_68 : decode cX2_behindOne 68 = .ok (.aload_n 0, 1) := dk_42 (dk_at dksX2_behindOne_2 22 rfl rfl)
theorem dX2_behindOne_69 : decode cX2_behindOne 69 = .ok (.bipush 101, 2) := dk_16 101 (dk_at dksX2_behindOne_3 0 rfl rfl)
theorem dX2_behindOne_71 : decode cX2_behindOne 71 = .ok (.bipush 110, 2) := dk_16 110 (dk_at dksX2_behindOne_3 2 rfl rfl)
theorem dX2_behindOne_73 : decode cX2_behindOne 73 = .ok (.bipush 100, 2) := dk_16 100 (dk_at dksX2_behindOne_3 4 rfl rfl)
theorem dX2_behindOne_75 : decode cX2_behindOne 75 = .ok (.invokestatic 119, 3) := dk_184 0 119 (dk_at dksX2_behindOne_3 6 rfl rfl)
theorem dX2_behindOne_78 : decode cX2_behindOne 78 = .ok (.invokevirtual 181, 3) := dk_182 0 181 (dk_at dksX2_behindOne_3 9 rfl rfl)
theorem dX2_behindOne_81 : decode cX2_behindOne 81 = .ok (.ifCond .eq 56, 3) := dk_153 0 56 (dk_at dksX2_behindOne_3 12 rfl rfl)
theorem dX2_behindOne_84 : decode cX2_behindOne 84 = .ok (.iload 4, 2) := dk_21 4 (dk_at dksX2_behindOne_3 15 rfl rfl)
theorem dX2_behindOne_86 : decode cX2_behindOne 86 = .ok (.bipush 43, 2) := dk_16 43 (dk_at dksX2_behindOne_3 17 rfl rfl)
theorem dX2_behindOne_88 : decode cX2_behindOne 88 = .ok (.if_icmp .ne 49, 3) := dk_160 0 49 (dk_at dksX2_behindOne_3 19 rfl rfl)
theorem dX2_behindOne_91 : decode cX2_behindOne 91 = .ok (.aload_n 0, 1) := dk_42 (dk_at dksX2_behindOne_3 22 rfl rfl)
theorem dX2_behindOne_92 : decode cX2_behindOne 92 = .ok (.iconst 1, 1) := dk_4 (dk_at dksX2_behindOne_3 23 rfl rfl)
theorem dX2_behindOne_93 : decode cX2_behindOne 93 = .ok (.invokevirtual 150, 3) := dk_182 0 150 (dk_at dksX2_behindOne_4 0 rfl rfl)
theorem dX2_behindOne_96 : decode cX2_behindOne 96 = .ok (.aload_n 0, 1) := dk_42 (dk_at dksX2_behindOne_4 3 rfl rfl)
theorem dX2_behindOne_97 : decode cX2_behindOne 97 = .ok (.dup, 1) := dk_89 (dk_at dksX2_behindOne_4 4 rfl rfl)
theorem dX2_behindOne_98 : decode cX2_behindOne 98 = .ok (.getfield 133, 3) := dk_180 0 133 (dk_at dksX2_behindOne_4 5 rfl rfl)
theorem dX2_behindOne_101 : decode cX2_behindOne 101 = .ok (.iconst 1, 1) := dk_4 (dk_at dksX2_behindOne_4 8 rfl rfl)
theorem dX2_behindOne_102 : decode cX2_behindOne 102 = .ok (.isub, 1) := dk_100 (dk_at dksX2_behindOne_4 9 rfl rfl)
theorem dX2_behindOne_103 : decode cX2_behindOne 103 = .ok (.putfield 133, 3) := dk_181 0 133 (dk_at dksX2_behindOne_4 10 rfl rfl)
theorem dX2_behindOne_106 : decode cX2_behindOne 106 = .ok (.aload_n 0, 1) := dk_42 (dk_at dksX2_behindOne_4 13 rfl rfl)
theorem dX2_behindOne_107 : decode cX2_behindOne 107 = .ok (.dup, 1) := dk_89 (dk_at dksX2_behindOne_4 14 rfl rfl)
theorem dX2_behindOne_108 : decode cX2_behindOne 108 = .ok (.getfield 143, 3) := dk_180 0 143 (dk_at dksX2_behindOne_4 15 rfl rfl)
theorem dX2_behindOne_111 : decode cX2_behindOne 111 = .ok (.iconst 1, 1) := dk_4 (dk_at dksX2_behindOne_4 18 rfl rfl)
theorem dX2_behindOne_112 : decode cX2_behindOne 112 = .ok (.isub, 1) := dk_100 (dk_at dksX2_behindOne_4 19 rfl rfl)
theorem dX2_behindOne_113 : decode cX2_behindOne 113 = .ok (.putfield 143, 3) := dk_181 0 143 (dk_at dksX2_behindOne_4 20 rfl rfl)
theorem dX2_behindOne_116 : decode cX2_behindOne 116 = .ok (.iload 4, 2) := dk_21 4 (dk_at dksX2_behindOne_5 0 rfl rfl)
theorem dX2_behindOne_118 : decode cX2_behindOne 118 = .ok (.bipush 43, 2) := dk_16 43 (dk_at dksX2_behindOne_5 2 rfl rfl)
theorem dX2_behindOne_120 : decode cX2_behindOne 120 = .ok (.if_icmp .ne 10, 3) := dk_160 0 10 (dk_at dksX2_behindOne_5 4 rfl rfl)
theorem dX2_behindOne_123 : decode cX2_behindOne 123 = .ok (.aload_n 0, 1) := dk_42 (dk_at dksX2_behindOne_5 7 rfl rfl)
theorem dX2_behindOne_124 : decode cX2_behindOne 124 = .ok (.bipush 23, 2) := dk_16 23 (dk_at dksX2_behindOne_5 8 rfl rfl)
theorem dX2_behindOne_126 : decode cX2_behindOne 126 = .ok (.iconst 0, 1) := dk_3 (dk_at dksX2_behindOne_5 10 rfl rfl)
theorem dX2_behindOne_127 : decode cX2_behindOne 127 = .ok (.invokevirtual 139, 3) := dk_182 0 139 (dk_at dksX2_behindOne_5 11 rfl rfl)
theorem dX2_behindOne_130 : decode cX2_behindOne 130 = .ok (.aload_n 0, 1) := dk_42 (dk_at dksX2_behindOne_5 14 rfl rfl)
theorem dX2_behindOne_131 : decode cX2_behindOne 131 = .ok (.invokevirtual 173, 3) := dk_182 0 173 (dk_at dksX2_behindOne_5 15 rfl rfl)
theorem dX2_behindOne_134 : decode cX2_behindOne 134 = .ok (.goto 67, 3) := dk_167 0 67 (dk_at dksX2_behindOne_5 18 rfl rfl)
theorem dX2_behindOne_137 : decode cX2_behindOne 137 = .ok (.aload_n 0, 1) := dk_42 (dk_at dksX2_behindOne_5 21 rfl rfl)
theorem dX2_behindOne_138 : decode cX2_behindOne 138 = .ok (.getfield 102, 3) := dk_180 0 102 (dk_at dksX2_behindOne_6 0 rfl rfl)
theorem dX2_behindOne_141 : decode cX2_behindOne 141 = .ok (.bipush 63, 2) := dk_16 63 (dk_at dksX2_behindOne_6 3 rfl rfl)
theorem dX2_behindOne_143 : decode cX2_behindOne 143 = .ok (.if_icmp .ne 17, 3) := dk_160 0 17 (dk_at dksX2_behindOne_6 5 rfl rfl)
theorem dX2_behindOne_146 : decode cX2_behindOne 146 = .ok (.iload 4, 2) := dk_21 4 (dk_at dksX2_behindOne_6 8 rfl rfl)
theorem dX2_behindOne_148 : decode cX2_behindOne 148 = .ok (.bipush 41, 2) := dk_16 41 (dk_at dksX2_behindOne_6 10 rfl rfl)
theorem dX2_behindOne_150 : decode cX2_behindOne 150 = .ok (.if_icmp .ne 10, 3) := dk_160 0 10 (dk_at dksX2_behindOne_6 12 rfl rfl)
theorem dX2_behindOne_153 : decode cX2_behindOne 153 = .ok (.aload_n 0, 1) := dk_42 (dk_at dksX2_behindOne_6 15 rfl rfl)
theorem dX2_behindOne_154 : decode cX2_behindOne 154 = .ok (.invokevirtual 189, 3) := dk_182 0 189 (dk_at dksX2_behindOne_6 16 rfl rfl)
theorem dX2_behindOne_157 : decode cX2_behindOne 157 = .ok (.ifCond .ne 19, 3) := dk_154 0 19 (dk_at dksX2_behindOne_6 19 rfl rfl)
theorem dX2_behindOne_160 : decode cX2_behindOne 160 = .ok (.aload_n 0, 1) := dk_42 (dk_at dksX2_behindOne_6 22 rfl rfl)
theorem dX2_behindOne_161 : decode cX2_behindOne 161 = .ok (.getfield 102, 3) := dk_180 0 102 (dk_at dksX2_behindOne_7 0 rfl rfl)
theorem dX2_behindOne_164 : decode cX2_behindOne 164 = .ok (.bipush 58, 2) := dk_16 58 (dk_at dksX2_behindOne_7 3 rfl rfl)
theorem dX2_behindOne_166 : decode cX2_behindOne 166 = .ok (.if_icmp .ne 33, 3) := dk_160 0 33 (dk_at dksX2_behindOne_7 5 rfl rfl)
theorem dX2_behindOne_169 : decode cX2_behindOne 169 = .ok (.iload 4, 2) := dk_21 4 (dk_at dksX2_behindOne_7 8 rfl rfl)
theorem dX2_behindOne_171 : decode cX2_behindOne 171 = .ok (.bipush 42, 2) := dk_16 42 (dk_at dksX2_behindOne_7 10 rfl rfl)
theorem dX2_behindOne_173 : decode cX2_behindOne 173 = .ok (.if_icmp .ne 26, 3) := dk_160 0 26 (dk_at dksX2_behindOne_7 12 rfl rfl)
theorem dX2_behindOne_176 : decode cX2_behindOne 176 = .ok (.aload_n 0, 1) := dk_42 (dk_at dksX2_behindOne_7 15 rfl rfl)
theorem dX2_behindOne_177 : decode cX2_behindOne 177 = .ok (.iconst 1, 1) := dk_4 (dk_at dksX2_behindOne_7 16 rfl rfl)
theorem dX2_behindOne_178 : decode cX2_behindOne 178 = .ok (.invokevirtual 150, 3) := dk_182 0 150 (dk_at dksX2_behindOne_7 17 rfl rfl)
theorem dX2_behindOne_181 : decode cX2_behindOne 181 = .ok (.aload_n 0, 1) := dk_42 (dk_at dksX2_behindOne_7 20 rfl rfl)
theorem dX2_behindOne_182 : decode cX2_behindOne 182 = .ok (.getfield 29, 3) := dk_180 0 29 (dk_at dksX2_behindOne_7 21 rfl rfl)
theorem dX2_behindOne_185 : decode cX2_behindOne 185 = .ok (.iload_n 3, 1) := dk_29 (dk_at dksX2_behindOne_8 0 rfl rfl)
theorem dX2_behindOne_186 : decode cX2_behindOne 186 = .ok (.iload 4, 2) := dk_21 4 (dk_at dksX2_behindOne_8 1 rfl rfl)
theorem dX2_behindOne_188 : decode cX2_behindOne 188 = .ok (.iconst 1, 1) := dk_4 (dk_at dksX2_behindOne_8 3 rfl rfl)
theorem dX2_behindOne_189 : decode cX2_behindOne 189 = .ok (.iadd, 1) := dk_96 (dk_at dksX2_behindOne_8 4 rfl rfl)
theorem dX2_behindOne_190 : decode cX2_behindOne 190 = .ok (.iastore, 1) := dk_79 (dk_at dksX2_behindOne_8 5 rfl rfl)
theorem dX2_behindOne_191 : decode cX2_behindOne 191 = .ok (.aload_n 0, 1) := dk_42 (dk_at dksX2_behindOne_8 6 rfl rfl)
theorem dX2_behindOne_192 : decode cX2_behindOne 192 = .ok (.iconst 0, 1) := dk_3 (dk_at dksX2_behindOne_8 7 rfl rfl)
theorem dX2_behindOne_193 : decode cX2_behindOne 193 = .ok (.putfield 146, 3) := dk_181 0 146 (dk_at dksX2_behindOne_8 8 rfl rfl)
theorem dX2_behindOne_196 : decode cX2_behindOne 196 = .ok (.goto 5, 3) := dk_167 0 5 (dk_at dksX2_behindOne_8 11 rfl rfl)
theorem dX2_behindOne_199 : decode cX2_behindOne 199 = .ok (.iconst 0, 1) := dk_3 (dk_at dksX2_behindOne_8 14 rfl rfl)
theorem dX2_behindOne_200 : decode cX2_behindOne 200 = .ok (.ireturn, 1) := dk_172 (dk_at dksX2_behindOne_8 15 rfl rfl)
theorem dX2_behindOne_201 : decode cX2_behindOne 201 = .ok (.aload_n 0, 1) := dk_42 (dk_at dksX2_behindOne_8 16 rfl rfl)
theorem dX2_behindOne_202 : decode cX2_behindOne 202 = .ok (.invokevirtual 164, 3) := dk_182 0 164 (dk_at dksX2_behindOne_8 17 rfl rfl)
theorem dX2_behindOne_205 : decode cX2_behindOne 205 = .ok (.iconst 1, 1) := dk_4 (dk_at dksX2_behindOne_8 20 rfl rfl)
theorem dX2_behindOne_206 : decode cX2_behindOne 206 = .ok (.ireturn, 1) := dk_172 (dk_at dksX2_behindOne_8 21 rfl rfl)
abbrev cX2_betweenOf : ByteArray := prog_18_method_43_code
def yX2_betweenOf : MethodName := ⟨RX2, "betweenOf", "(Z)I"⟩
def dkwX2_betweenOf_4 : List UInt8 := [5, 160, 0, 19, 42, 180, 0, 115, 20, 0, 196, 148, 154, 0, 8, 16, 22, 167, 0, 4, 2, 172]
abbrev dktX2_betweenOf_4 : List UInt8 := dkwX2_betweenOf_4 ++ []
def dkwX2_betweenOf_3 : List UInt8 := [16, 97, 16, 110, 16, 100, 184, 0, 119, 182, 0, 181, 153, 0, 8, 16, 21, 167, 0, 28, 42, 180, 0, 102]
abbrev dktX2_betweenOf_3 : List UInt8 := dkwX2_betweenOf_3 ++ dktX2_betweenOf_4
def dkwX2_betweenOf_2 : List UInt8 := [182, 0, 157, 16, 41, 159, 0, 5, 2, 172, 42, 182, 0, 189, 154, 0, 8, 42, 182, 0, 193, 172, 42]
abbrev dktX2_betweenOf_2 : List UInt8 := dkwX2_betweenOf_2 ++ dktX2_betweenOf_3
def dkwX2_betweenOf_1 : List UInt8 := [180, 0, 102, 16, 42, 160, 0, 5, 8, 172, 42, 180, 0, 102, 16, 47, 160, 0, 6, 16, 6, 172, 42, 27]
abbrev dktX2_betweenOf_1 : List UInt8 := dkwX2_betweenOf_1 ++ dktX2_betweenOf_2
def dkwX2_betweenOf_0 : List UInt8 := [42, 180, 0, 102, 16, 43, 160, 0, 5, 6, 172, 42, 180, 0, 102, 16, 45, 160, 0, 5, 7, 172, 42]
abbrev dktX2_betweenOf_0 : List UInt8 := dkwX2_betweenOf_0 ++ dktX2_betweenOf_1
theorem dksX2_betweenOf_0 : cX2_betweenOf.data.toList.drop 0 = dktX2_betweenOf_0 := by decide +kernel
theorem dksX2_betweenOf_1 : cX2_betweenOf.data.toList.drop 23 = dktX2_betweenOf_1 := dk_seg dksX2_betweenOf_0 23 rfl rfl
theorem dksX2_betweenOf_2 : cX2_betweenOf.data.toList.drop 47 = dktX2_betweenOf_2 := dk_seg dksX2_betweenOf_1 24 rfl rfl
theorem dksX2_betweenOf_3 : cX2_betweenOf.data.toList.drop 70 = dktX2_betweenOf_3 := dk_seg dksX2_betweenOf_2 23 rfl rfl
theorem dksX2_betweenOf_4 : cX2_betweenOf.data.toList.drop 94 = dktX2_betweenOf_4 := dk_seg dksX2_betweenOf_3 24 rfl rfl
theorem dX2_betweenOf_0 : decode cX2_betweenOf 0 = .ok (.aload_n 0, 1) := dk_42 (dk_at dksX2_betweenOf_0 0 rfl rfl)
theorem dX2_betweenOf_1 : decode cX2_betweenOf 1 = .ok (.getfield 102, 3) := dk_180 0 102 (dk_at dksX2_betweenOf_0 1 rfl rfl)
theorem dX2_betweenOf_4 : decode cX2_betweenOf 4 = .ok (.bipush 43, 2) := dk_16 43 (dk_at dksX2_betweenOf_0 4 rfl rfl)
theorem dX2_betweenOf_6 : decode cX2_betweenOf 6 = .ok (.if_icmp .ne 5, 3) := dk_160 0 5 (dk_at dksX2_betweenOf_0 6 rfl rfl)
theorem dX2_betweenOf_9 : decode cX2_betweenOf 9 = .ok (.iconst 3, 1) := dk_6 (dk_at dksX2_betweenOf_0 9 rfl rfl)
theorem dX2_betweenOf_10 : decode cX2_betweenOf 10 = .ok (.ireturn, 1) := dk_172 (dk_at dksX2_betweenOf_0 10 rfl rfl)
theorem dX2_betweenOf_11 : decode cX2_betweenOf 11 = .ok (.aload_n 0, 1) := dk_42 (dk_at dksX2_betweenOf_0 11 rfl rfl)
theorem dX2_betweenOf_12 : decode cX2_betweenOf 12 = .ok (.getfield 102, 3) := dk_180 0 102 (dk_at dksX2_betweenOf_0 12 rfl rfl)
theorem dX2_betweenOf_15 : decode cX2_betweenOf 15 = .ok (.bipush 45, 2) := dk_16 45 (dk_at dksX2_betweenOf_0 15 rfl rfl)
theorem dX2_betweenOf_17 : decode cX2_betweenOf 17 = .ok (.if_icmp .ne 5, 3) := dk_160 0 5 (dk_at dksX2_betweenOf_0 17 rfl rfl)
theorem dX2_betweenOf_20 : decode cX2_betweenOf 20 = .ok (.iconst 4, 1) := dk_7 (dk_at dksX2_betweenOf_0 20 rfl rfl)
theorem dX2_betweenOf_21 : decode cX2_betweenOf 21 = .ok (.ireturn, 1) := dk_172 (dk_at dksX2_betweenOf_0 21 rfl rfl)
theorem dX2_betweenOf_22 : decode cX2_betweenOf 22 = .ok (.aload_n 0, 1) := dk_42 (dk_at dksX2_betweenOf_0 22 rfl rfl)
theorem dX2_betweenOf_23 : decode cX2_betweenOf 23 = .ok (.getfield 102, 3) := dk_180 0 102 (dk_at dksX2_betweenOf_1 0 rfl rfl)
theorem dX2_betweenOf_26 : decode cX2_betweenOf 26 = .ok (.bipush 42, 2) := dk_16 42 (dk_at dksX2_betweenOf_1 3 rfl rfl)
theorem dX2_betweenOf_28 : decode cX2_betweenOf 28 = .ok (.if_icmp .ne 5, 3) := dk_160 0 5 (dk_at dksX2_betweenOf_1 5 rfl rfl)
theorem dX2_betweenOf_31 : decode cX2_betweenOf 31 = .ok (.iconst 5, 1) := dk_8 (dk_at dksX2_betweenOf_1 8 rfl rfl)
theorem dX2_betweenOf_32 : decode cX2_betweenOf 32 = .ok (.ireturn, 1) := dk_172 (dk_at dksX2_betweenOf_1 9 rfl rfl)
theorem dX2_betweenOf_33 : decode cX2_betweenOf 33 = .ok (.aload_n 0, 1) := dk_42 (dk_at dksX2_betweenOf_1 10 rfl rfl)
theorem dX2_betweenOf_34 : decode cX2_betweenOf 34 = .ok (.getfield 102, 3) := dk_180 0 102 (dk_at dksX2_betweenOf_1 11 rfl rfl)
theorem dX2_betweenOf_37 : decode cX2_betweenOf 37 = .ok (.bipush 47, 2) := dk_16 47 (dk_at dksX2_betweenOf_1 14 rfl rfl)
theorem dX2_betweenOf_39 : decode cX2_betweenOf 39 = .ok (.if_icmp .ne 6, 3) := dk_160 0 6 (dk_at dksX2_betweenOf_1 16 rfl rfl)
theorem dX2_betweenOf_42 : decode cX2_betweenOf 42 = .ok (.bipush 6, 2) := dk_16 6 (dk_at dksX2_betweenOf_1 19 rfl rfl)
theorem dX2_betweenOf_44 : decode cX2_betweenOf 44 = .ok (.ireturn, 1) := dk_172 (dk_at dksX2_betweenOf_1 21 rfl rfl)
theorem dX2_betweenOf_45 : decode cX2_betweenOf 45 = .ok (.aload_n 0, 1) := dk_42 (dk_at dksX2_betweenOf_1 22 rfl rfl)
theorem dX2_betweenOf_46 : decode cX2_betweenOf 46 = .ok (.iload_n 1, 1) := dk_27 (dk_at dksX2_betweenOf_1 23 rfl rfl)
theorem dX2_betweenOf_47 : decode cX2_betweenOf 47 = .ok (.invokevirtual 157, 3) := dk_182 0 157 (dk_at dksX2_betweenOf_2 0 rfl rfl)
theorem dX2_betweenOf_50 : decode cX2_betweenOf 50 = .ok (.bipush 41, 2) := dk_16 41 (dk_at dksX2_betweenOf_2 3 rfl rfl)
theorem dX2_betweenOf_52 : decode cX2_betweenOf 52 = .ok (.if_icmp .eq 5, 3) := dk_159 0 5 (dk_at dksX2_betweenOf_2 5 rfl rfl)
theorem dX2_betweenOf_55 : decode cX2_betweenOf 55 = .ok (.iconst (-1), 1) := dk_2 (dk_at dksX2_betweenOf_2 8 rfl rfl)
theorem dX2_betweenOf_56 : decode cX2_betweenOf 56 = .ok (.ireturn, 1) := dk_172 (dk_at dksX2_betweenOf_2 9 rfl rfl)
theorem dX2_betweenOf_57 : decode cX2_betweenOf 57 = .ok (.aload_n 0, 1) := dk_42 (dk_at dksX2_betweenOf_2 10 rfl rfl)
theorem dX2_betweenOf_58 : decode cX2_betweenOf 58 = .ok (.invokevirtual 189, 3) := dk_182 0 189 (dk_at dksX2_betweenOf_2 11 rfl rfl)
theorem dX2_betweenOf_61 : decode cX2_betweenOf 61 = .ok (.ifCond .ne 8, 3) := dk_154 0 8 (dk_at dksX2_betweenOf_2 14 rfl rfl)
theorem dX2_betweenOf_64 : decode cX2_betweenOf 64 = .ok (.aload_n 0, 1) := dk_42 (dk_at dksX2_betweenOf_2 17 rfl rfl)
theorem dX2_betweenOf_65 : decode cX2_betweenOf 65 = .ok (.invokevirtual 193, 3) := dk_182 0 193 (dk_at dksX2_betweenOf_2 18 rfl rfl)
theorem dX2_betweenOf_68 : decode cX2_betweenOf 68 = .ok (.ireturn, 1) := dk_172 (dk_at dksX2_betweenOf_2 21 rfl rfl)
theorem dX2_betweenOf_69 : decode cX2_betweenOf 69 = .ok (.aload_n 0, 1) := dk_42 (dk_at dksX2_betweenOf_2 22 rfl rfl)
theorem dX2_betweenOf_70 : decode cX2_betweenOf 70 = .ok (.bipush 97, 2) := dk_16 97 (dk_at dksX2_betweenOf_3 0 rfl rfl)
theorem dX2_betweenOf_72 : decode cX2_betweenOf 72 = .ok (.bipush 110, 2) := dk_16 110 (dk_at dksX2_betweenOf_3 2 rfl rfl)
theorem dX2_betweenOf_74 : decode cX2_betweenOf 74 = .ok (.bipush 100, 2) := dk_16 100 (dk_at dksX2_betweenOf_3 4 rfl rfl)
theorem dX2_betweenOf_76 : decode cX2_betweenOf 76 = .ok (.invokestatic 119, 3) := dk_184 0 119 (dk_at dksX2_betweenOf_3 6 rfl rfl)
theorem dX2_betweenOf_79 : decode cX2_betweenOf 79 = .ok (.invokevirtual 181, 3) := dk_182 0 181 (dk_at dksX2_betweenOf_3 9 rfl rfl)
theorem dX2_betweenOf_82 : decode cX2_betweenOf 82 = .ok (.ifCond .eq 8, 3) := dk_153 0 8 (dk_at dksX2_betweenOf_3 12 rfl rfl)
theorem dX2_betweenOf_85 : decode cX2_betweenOf 85 = .ok (.bipush 21, 2) := dk_16 21 (dk_at dksX2_betweenOf_3 15 rfl rfl)
theorem dX2_betweenOf_87 : decode cX2_betweenOf 87 = .ok (.goto 28, 3) := dk_167 0 28 (dk_at dksX2_betweenOf_3 17 rfl rfl)
theorem dX2_betweenOf_90 : decode cX2_betweenOf 90 = .ok (.aload_n 0, 1) := dk_42 (dk_at dksX2_betweenOf_3 20 rfl rfl)
theorem dX2_betweenOf_91 : decode cX2_betweenOf 91 = .ok (.getfield 102, 3) := dk_180 0 102 (dk_at dksX2_betweenOf_3 21 rfl rfl)
theorem dX2_betweenOf_94 : decode cX2_betweenOf 94 = .ok (.iconst 2, 1) := dk_5 (dk_at dksX2_betweenOf_4 0 rfl rfl)
theorem dX2_betweenOf_95 : decode cX2_betweenOf 95 = .ok (.if_icmp .ne 19, 3) := dk_160 0 19 (dk_at dksX2_betweenOf_4 1 rfl rfl)
theorem dX2_betweenOf_98 : decode cX2_betweenOf 98 = .ok (.aload_n 0, 1) := dk_42 (dk_at dksX2_betweenOf_4 4 rfl rfl)
theorem dX2_betweenOf_99 : decode cX2_betweenOf 99 = .ok (.getfield 115, 3) := dk_180 0 115 (dk_at dksX2_betweenOf_4 5 rfl rfl)
theorem dX2_betweenOf_102 : decode cX2_betweenOf 102 = .ok (.ldc2_w 196, 3) := dk_20 0 196 (dk_at dksX2_betweenOf_4 8 rfl rfl)
theorem dX2_betweenOf_105 : decode cX2_betweenOf 105 = .ok (.lcmp, 1) := dk_148 (dk_at dksX2_betweenOf_4 11 rfl rfl)
theorem dX2_betweenOf_106 : decode cX2_betweenOf 106 = .ok (.ifCond .ne 8, 3) := dk_154 0 8 (dk_at dksX2_betweenOf_4 12 rfl rfl)
theorem dX2_betweenOf_109 : decode cX2_betweenOf 109 = .ok (.bipush 22, 2) := dk_16 22 (dk_at dksX2_betweenOf_4 15 rfl rfl)
theorem dX2_betweenOf_111 : decode cX2_betweenOf 111 = .ok (.goto 4, 3) := dk_167 0 4 (dk_at dksX2_betweenOf_4 17 rfl rfl)
theorem dX2_betweenOf_114 : decode cX2_betweenOf 114 = .ok (.iconst (-1), 1) := dk_2 (dk_at dksX2_betweenOf_4 20 rfl rfl)
theorem dX2_betweenOf_115 : decode cX2_betweenOf 115 = .ok (.ireturn, 1) := dk_172 (dk_at dksX2_betweenOf_4 21 rfl rfl)
abbrev cX2_kindOpen : ByteArray := prog_18_method_37_code
def yX2_kindOpen : MethodName := ⟨RX2, "kindOpen", "(Z)I"⟩
def dkwX2_kindOpen_1 : List UInt8 := [167, 0, 5, 16, 40, 172]
abbrev dktX2_kindOpen_1 : List UInt8 := dkwX2_kindOpen_1 ++ []
def dkwX2_kindOpen_0 : List UInt8 := [42, 182, 0, 153, 61, 28, 155, 0, 12, 42, 180, 0, 29, 28, 46, 167, 0, 14, 27, 153, 0, 8, 16, 41]
abbrev dktX2_kindOpen_0 : List UInt8 := dkwX2_kindOpen_0 ++ dktX2_kindOpen_1
theorem dksX2_kindOpen_0 : cX2_kindOpen.data.toList.drop 0 = dktX2_kindOpen_0 := by decide +kernel
theorem dksX2_kindOpen_1 : cX2_kindOpen.data.toList.drop 24 = dktX2_kindOpen_1 := dk_seg dksX2_kindOpen_0 24 rfl rfl
theorem dX2_kindOpen_0 : decode cX2_kindOpen 0 = .ok (.aload_n 0, 1) := dk_42 (dk_at dksX2_kindOpen_0 0 rfl rfl)
theorem dX2_kindOpen_1 : decode cX2_kindOpen 1 = .ok (.invokevirtual 153, 3) := dk_182 0 153 (dk_at dksX2_kindOpen_0 1 rfl rfl)
theorem dX2_kindOpen_4 : decode cX2_kindOpen 4 = .ok (.istore_n 2, 1) := dk_61 (dk_at dksX2_kindOpen_0 4 rfl rfl)
theorem dX2_kindOpen_5 : decode cX2_kindOpen 5 = .ok (.iload_n 2, 1) := dk_28 (dk_at dksX2_kindOpen_0 5 rfl rfl)
theorem dX2_kindOpen_6 : decode cX2_kindOpen 6 = .ok (.ifCond .lt 12, 3) := dk_155 0 12 (dk_at dksX2_kindOpen_0 6 rfl rfl)
theorem dX2_kindOpen_9 : decode cX2_kindOpen 9 = .ok (.aload_n 0, 1) := dk_42 (dk_at dksX2_kindOpen_0 9 rfl rfl)
theorem dX2_kindOpen_10 : decode cX2_kindOpen 10 = .ok (.getfield 29, 3) := dk_180 0 29 (dk_at dksX2_kindOpen_0 10 rfl rfl)
theorem dX2_kindOpen_13 : decode cX2_kindOpen 13 = .ok (.iload_n 2, 1) := dk_28 (dk_at dksX2_kindOpen_0 13 rfl rfl)
theorem dX2_kindOpen_14 : decode cX2_kindOpen 14 = .ok (.iaload, 1) := dk_46 (dk_at dksX2_kindOpen_0 14 rfl rfl)
theorem dX2_kindOpen_15 : decode cX2_kindOpen 15 = .ok (.goto 14, 3) := dk_167 0 14 (dk_at dksX2_kindOpen_0 15 rfl rfl)
theorem dX2_kindOpen_18 : decode cX2_kindOpen 18 = .ok (.iload_n 1, 1) := dk_27 (dk_at dksX2_kindOpen_0 18 rfl rfl)
theorem dX2_kindOpen_19 : decode cX2_kindOpen 19 = .ok (.ifCond .eq 8, 3) := dk_153 0 8 (dk_at dksX2_kindOpen_0 19 rfl rfl)
theorem dX2_kindOpen_22 : decode cX2_kindOpen 22 = .ok (.bipush 41, 2) := dk_16 41 (dk_at dksX2_kindOpen_0 22 rfl rfl)
theorem dX2_kindOpen_24 : decode cX2_kindOpen 24 = .ok (.goto 5, 3) := dk_167 0 5 (dk_at dksX2_kindOpen_1 0 rfl rfl)
theorem dX2_kindOpen_27 : decode cX2_kindOpen 27 = .ok (.bipush 40, 2) := dk_16 40 (dk_at dksX2_kindOpen_1 3 rfl rfl)
theorem dX2_kindOpen_29 : decode cX2_kindOpen 29 = .ok (.ireturn, 1) := dk_172 (dk_at dksX2_kindOpen_1 5 rfl rfl)
abbrev cX2_marker : ByteArray := prog_18_method_36_code
def yX2_marker : MethodName := ⟨RX2, "marker", "()I"⟩
def dkwX2_marker_1 : List UInt8 := [132, 1, 255, 167, 255, 238, 27, 172]
abbrev dktX2_marker_1 : List UInt8 := dkwX2_marker_1 ++ []
def dkwX2_marker_0 : List UInt8 := [42, 180, 0, 133, 4, 100, 60, 27, 155, 0, 20, 42, 180, 0, 29, 27, 46, 16, 40, 162, 0, 9]
abbrev dktX2_marker_0 : List UInt8 := dkwX2_marker_0 ++ dktX2_marker_1
theorem dksX2_marker_0 : cX2_marker.data.toList.drop 0 = dktX2_marker_0 := by decide +kernel
theorem dksX2_marker_1 : cX2_marker.data.toList.drop 22 = dktX2_marker_1 := dk_seg dksX2_marker_0 22 rfl rfl
theorem dX2_marker_0 : decode cX2_marker 0 = .ok (.aload_n 0, 1) := dk_42 (dk_at dksX2_marker_0 0 rfl rfl)
theorem dX2_marker_1 : decode cX2_marker 1 = .ok (.getfield 133, 3) := dk_180 0 133 (dk_at dksX2_marker_0 1 rfl rfl)
theorem dX2_marker_4 : decode cX2_marker 4 = .ok (.iconst 1, 1) := dk_4 (dk_at dksX2_marker_0 4 rfl rfl)
theorem dX2_marker_5 : decode cX2_marker 5 = .ok (.isub, 1) := dk_100 (dk_at dksX2_marker_0 5 rfl rfl)
theorem dX2_marker_6 : decode cX2_marker 6 = .ok (.istore_n 1, 1) := dk_60 (dk_at dksX2_marker_0 6 rfl rfl)
theorem dX2_marker_7 : decode cX2_marker 7 = .ok (.iload_n 1, 1) := dk_27 (dk_at dksX2_marker_0 7 rfl rfl)
theorem dX2_marker_8 : decode cX2_marker 8 = .ok (.ifCond .lt 20, 3) := dk_155 0 20 (dk_at dksX2_marker_0 8 rfl rfl)
theorem dX2_marker_11 : decode cX2_marker 11 = .ok (.aload_n 0, 1) := dk_42 (dk_at dksX2_marker_0 11 rfl rfl)
theorem dX2_marker_12 : decode cX2_marker 12 = .ok (.getfield 29, 3) := dk_180 0 29 (dk_at dksX2_marker_0 12 rfl rfl)
theorem dX2_marker_15 : decode cX2_marker 15 = .ok (.iload_n 1, 1) := dk_27 (dk_at dksX2_marker_0 15 rfl rfl)
theorem dX2_marker_16 : decode cX2_marker 16 = .ok (.iaload, 1) := dk_46 (dk_at dksX2_marker_0 16 rfl rfl)
theorem dX2_marker_17 : decode cX2_marker 17 = .ok (.bipush 40, 2) := dk_16 40 (dk_at dksX2_marker_0 17 rfl rfl)
theorem dX2_marker_19 : decode cX2_marker 19 = .ok (.if_icmp .ge 9, 3) := dk_162 0 9 (dk_at dksX2_marker_0 19 rfl rfl)
theorem dX2_marker_22 : decode cX2_marker 22 = .ok (.iinc 1 (-1), 3) := dk_132 1 255 (dk_at dksX2_marker_1 0 rfl rfl)
theorem dX2_marker_25 : decode cX2_marker 25 = .ok (.goto (-18), 3) := dk_167 255 238 (dk_at dksX2_marker_1 3 rfl rfl)
theorem dX2_marker_28 : decode cX2_marker 28 = .ok (.iload_n 1, 1) := dk_27 (dk_at dksX2_marker_1 6 rfl rfl)
theorem dX2_marker_29 : decode cX2_marker 29 = .ok (.ireturn, 1) := dk_172 (dk_at dksX2_marker_1 7 rfl rfl)
abbrev cX2_isCompared : ByteArray := prog_18_method_38_code
def yX2_isCompared : MethodName := ⟨RX2, "isCompared", "()Z"⟩
def dkwX2_isCompared_2 : List UInt8 := [167, 0, 4, 3, 172]
abbrev dktX2_isCompared_2 : List UInt8 := dkwX2_isCompared_2 ++ []
def dkwX2_isCompared_1 : List UInt8 := [132, 1, 255, 167, 255, 236, 27, 155, 0, 20, 42, 180, 0, 29, 27, 46, 184, 0, 136, 7, 160, 0, 7, 4]
abbrev dktX2_isCompared_1 : List UInt8 := dkwX2_isCompared_1 ++ dktX2_isCompared_2
def dkwX2_isCompared_0 : List UInt8 := [42, 180, 0, 133, 4, 100, 60, 27, 155, 0, 22, 42, 180, 0, 29, 27, 46, 184, 0, 136, 7, 164, 0, 9]
abbrev dktX2_isCompared_0 : List UInt8 := dkwX2_isCompared_0 ++ dktX2_isCompared_1
theorem dksX2_isCompared_0 : cX2_isCompared.data.toList.drop 0 = dktX2_isCompared_0 := by decide +kernel
theorem dksX2_isCompared_1 : cX2_isCompared.data.toList.drop 24 = dktX2_isCompared_1 := dk_seg dksX2_isCompared_0 24 rfl rfl
theorem dksX2_isCompared_2 : cX2_isCompared.data.toList.drop 48 = dktX2_isCompared_2 := dk_seg dksX2_isCompared_1 24 rfl rfl
theorem dX2_isCompared_0 : decode cX2_isCompared 0 = .ok (.aload_n 0, 1) := dk_42 (dk_at dksX2_isCompared_0 0 rfl rfl)
theorem dX2_isCompared_1 : decode cX2_isCompared 1 = .ok (.getfield 133, 3) := dk_180 0 133 (dk_at dksX2_isCompared_0 1 rfl rfl)
theorem dX2_isCompared_4 : decode cX2_isCompared 4 = .ok (.iconst 1, 1) := dk_4 (dk_at dksX2_isCompared_0 4 rfl rfl)
theorem dX2_isCompared_5 : decode cX2_isCompared 5 = .ok (.isub, 1) := dk_100 (dk_at dksX2_isCompared_0 5 rfl rfl)
theorem dX2_isCompared_6 : decode cX2_isCompared 6 = .ok (.istore_n 1, 1) := dk_60 (dk_at dksX2_isCompared_0 6 rfl rfl)
theorem dX2_isCompared_7 : decode cX2_isCompared 7 = .ok (.iload_n 1, 1) := dk_27 (dk_at dksX2_isCompared_0 7 rfl rfl)
theorem dX2_isCompared_8 : decode cX2_isCompared 8 = .ok (.ifCond .lt 22, 3) := dk_155 0 22 (dk_at dksX2_isCompared_0 8 rfl rfl)
theorem dX2_isCompared_11 : decode cX2_isCompared 11 = .ok (.aload_n 0, 1) := dk_42 (dk_at dksX2_isCompared_0 11 rfl rfl)
theorem dX2_isCompared_12 : decode cX2_isCompared 12 = .ok (.getfield 29, 3) := dk_180 0 29 (dk_at dksX2_isCompared_0 12 rfl rfl)
theorem dX2_isCompared_15 : decode cX2_isCompared 15 = .ok (.iload_n 1, 1) := dk_27 (dk_at dksX2_isCompared_0 15 rfl rfl)
theorem dX2_isCompared_16 : decode cX2_isCompared 16 = .ok (.iaload, 1) := dk_46 (dk_at dksX2_isCompared_0 16 rfl rfl)
theorem dX2_isCompared_17 : decode cX2_isCompared 17 = .ok (.invokestatic 136, 3) := dk_184 0 136 (dk_at dksX2_isCompared_0 17 rfl rfl)
theorem dX2_isCompared_20 : decode cX2_isCompared 20 = .ok (.iconst 4, 1) := dk_7 (dk_at dksX2_isCompared_0 20 rfl rfl)
theorem dX2_isCompared_21 : decode cX2_isCompared 21 = .ok (.if_icmp .le 9, 3) := dk_164 0 9 (dk_at dksX2_isCompared_0 21 rfl rfl)
theorem dX2_isCompared_24 : decode cX2_isCompared 24 = .ok (.iinc 1 (-1), 3) := dk_132 1 255 (dk_at dksX2_isCompared_1 0 rfl rfl)
theorem dX2_isCompared_27 : decode cX2_isCompared 27 = .ok (.goto (-20), 3) := dk_167 255 236 (dk_at dksX2_isCompared_1 3 rfl rfl)
theorem dX2_isCompared_30 : decode cX2_isCompared 30 = .ok (.iload_n 1, 1) := dk_27 (dk_at dksX2_isCompared_1 6 rfl rfl)
theorem dX2_isCompared_31 : decode cX2_isCompared 31 = .ok (.ifCond .lt 20, 3) := dk_155 0 20 (dk_at dksX2_isCompared_1 7 rfl rfl)
theorem dX2_isCompared_34 : decode cX2_isCompared 34 = .ok (.aload_n 0, 1) := dk_42 (dk_at dksX2_isCompared_1 10 rfl rfl)
theorem dX2_isCompared_35 : decode cX2_isCompared 35 = .ok (.getfield 29, 3) := dk_180 0 29 (dk_at dksX2_isCompared_1 11 rfl rfl)
theorem dX2_isCompared_38 : decode cX2_isCompared 38 = .ok (.iload_n 1, 1) := dk_27 (dk_at dksX2_isCompared_1 14 rfl rfl)
theorem dX2_isCompared_39 : decode cX2_isCompared 39 = .ok (.iaload, 1) := dk_46 (dk_at dksX2_isCompared_1 15 rfl rfl)
theorem dX2_isCompared_40 : decode cX2_isCompared 40 = .ok (.invokestatic 136, 3) := dk_184 0 136 (dk_at dksX2_isCompared_1 16 rfl rfl)
theorem dX2_isCompared_43 : decode cX2_isCompared 43 = .ok (.iconst 4, 1) := dk_7 (dk_at dksX2_isCompared_1 19 rfl rfl)
theorem dX2_isCompared_44 : decode cX2_isCompared 44 = .ok (.if_icmp .ne 7, 3) := dk_160 0 7 (dk_at dksX2_isCompared_1 20 rfl rfl)
theorem dX2_isCompared_47 : decode cX2_isCompared 47 = .ok (.iconst 1, 1) := dk_4 (dk_at dksX2_isCompared_1 23 rfl rfl)
theorem dX2_isCompared_48 : decode cX2_isCompared 48 = .ok (.goto 4, 3) := dk_167 0 4 (dk_at dksX2_isCompared_2 0 rfl rfl)
theorem dX2_isCompared_51 : decode cX2_isCompared 51 = .ok (.iconst 0, 1) := dk_3 (dk_at dksX2_isCompared_2 3 rfl rfl)
theorem dX2_isCompared_52 : decode cX2_isCompared 52 = .ok (.ireturn, 1) := dk_172 (dk_at dksX2_isCompared_2 4 rfl rfl)
abbrev cX2_rank : ByteArray := prog_18_method_33_code
def yX2_rank : MethodName := ⟨RX2, "rank", "(I)I"⟩
def dkwX2_rank_3 : List UInt8 := [172]
abbrev dktX2_rank_3 : List UInt8 := dkwX2_rank_3 ++ []
def dkwX2_rank_2 : List UInt8 := [167, 0, 24, 26, 5, 160, 0, 8, 16, 7, 167, 0, 14, 26, 8, 161, 0, 8, 16, 6, 167, 0, 4, 8]
abbrev dktX2_rank_2 : List UInt8 := dkwX2_rank_2 ++ dktX2_rank_3
def dkwX2_rank_1 : List UInt8 := [160, 0, 7, 5, 167, 0, 44, 26, 16, 20, 160, 0, 7, 6, 167, 0, 34, 26, 16, 10, 161, 0, 7, 7]
abbrev dktX2_rank_1 : List UInt8 := dkwX2_rank_1 ++ dktX2_rank_2
def dkwX2_rank_0 : List UInt8 := [26, 16, 40, 161, 0, 7, 3, 167, 0, 64, 26, 16, 22, 160, 0, 7, 4, 167, 0, 54, 26, 16, 21]
abbrev dktX2_rank_0 : List UInt8 := dkwX2_rank_0 ++ dktX2_rank_1
theorem dksX2_rank_0 : cX2_rank.data.toList.drop 0 = dktX2_rank_0 := by decide +kernel
theorem dksX2_rank_1 : cX2_rank.data.toList.drop 23 = dktX2_rank_1 := dk_seg dksX2_rank_0 23 rfl rfl
theorem dksX2_rank_2 : cX2_rank.data.toList.drop 47 = dktX2_rank_2 := dk_seg dksX2_rank_1 24 rfl rfl
theorem dksX2_rank_3 : cX2_rank.data.toList.drop 71 = dktX2_rank_3 := dk_seg dksX2_rank_2 24 rfl rfl
theorem dX2_rank_0 : decode cX2_rank 0 = .ok (.iload_n 0, 1) := dk_26 (dk_at dksX2_rank_0 0 rfl rfl)
theorem dX2_rank_1 : decode cX2_rank 1 = .ok (.bipush 40, 2) := dk_16 40 (dk_at dksX2_rank_0 1 rfl rfl)
theorem dX2_rank_3 : decode cX2_rank 3 = .ok (.if_icmp .lt 7, 3) := dk_161 0 7 (dk_at dksX2_rank_0 3 rfl rfl)
theorem dX2_rank_6 : decode cX2_rank 6 = .ok (.iconst 0, 1) := dk_3 (dk_at dksX2_rank_0 6 rfl rfl)
theorem dX2_rank_7 : decode cX2_rank 7 = .ok (.goto 64, 3) := dk_167 0 64 (dk_at dksX2_rank_0 7 rfl rfl)
theorem dX2_rank_10 : decode cX2_rank 10 = .ok (.iload_n 0, 1) := dk_26 (dk_at dksX2_rank_0 10 rfl rfl)
theorem dX2_rank_11 : decode cX2_rank 11 = .ok (.bipush 22, 2) := dk_16 22 (dk_at dksX2_rank_0 11 rfl rfl)
theorem dX2_rank_13 : decode cX2_rank 13 = .ok (.if_icmp .ne 7, 3) := dk_160 0 7 (dk_at dksX2_rank_0 13 rfl rfl)
theorem dX2_rank_16 : decode cX2_rank 16 = .ok (.iconst 1, 1) := dk_4 (dk_at dksX2_rank_0 16 rfl rfl)
theorem dX2_rank_17 : decode cX2_rank 17 = .ok (.goto 54, 3) := dk_167 0 54 (dk_at dksX2_rank_0 17 rfl rfl)
theorem dX2_rank_20 : decode cX2_rank 20 = .ok (.iload_n 0, 1) := dk_26 (dk_at dksX2_rank_0 20 rfl rfl)
theorem dX2_rank_21 : decode cX2_rank 21 = .ok (.bipush 21, 2) := dk_16 21 (dk_at dksX2_rank_0 21 rfl rfl)
theorem dX2_rank_23 : decode cX2_rank 23 = .ok (.if_icmp .ne 7, 3) := dk_160 0 7 (dk_at dksX2_rank_1 0 rfl rfl)
theorem dX2_rank_26 : decode cX2_rank 26 = .ok (.iconst 2, 1) := dk_5 (dk_at dksX2_rank_1 3 rfl rfl)
theorem dX2_rank_27 : decode cX2_rank 27 = .ok (.goto 44, 3) := dk_167 0 44 (dk_at dksX2_rank_1 4 rfl rfl)
theorem dX2_rank_30 : decode cX2_rank 30 = .ok (.iload_n 0, 1) := dk_26 (dk_at dksX2_rank_1 7 rfl rfl)
theorem dX2_rank_31 : decode cX2_rank 31 = .ok (.bipush 20, 2) := dk_16 20 (dk_at dksX2_rank_1 8 rfl rfl)
theorem dX2_rank_33 : decode cX2_rank 33 = .ok (.if_icmp .ne 7, 3) := dk_160 0 7 (dk_at dksX2_rank_1 10 rfl rfl)
theorem dX2_rank_36 : decode cX2_rank 36 = .ok (.iconst 3, 1) := dk_6 (dk_at dksX2_rank_1 13 rfl rfl)
theorem dX2_rank_37 : decode cX2_rank 37 = .ok (.goto 34, 3) := dk_167 0 34 (dk_at dksX2_rank_1 14 rfl rfl)
theorem dX2_rank_40 : decode cX2_rank 40 = .ok (.iload_n 0, 1) := dk_26 (dk_at dksX2_rank_1 17 rfl rfl)
theorem dX2_rank_41 : decode cX2_rank 41 = .ok (.bipush 10, 2) := dk_16 10 (dk_at dksX2_rank_1 18 rfl rfl)
theorem dX2_rank_43 : decode cX2_rank 43 = .ok (.if_icmp .lt 7, 3) := dk_161 0 7 (dk_at dksX2_rank_1 20 rfl rfl)
theorem dX2_rank_46 : decode cX2_rank 46 = .ok (.iconst 4, 1) := dk_7 (dk_at dksX2_rank_1 23 rfl rfl)
theorem dX2_rank_47 : decode cX2_rank 47 = .ok (.goto 24, 3) := dk_167 0 24 (dk_at dksX2_rank_2 0 rfl rfl)
theorem dX2_rank_50 : decode cX2_rank 50 = .ok (.iload_n 0, 1) := dk_26 (dk_at dksX2_rank_2 3 rfl rfl)
theorem dX2_rank_51 : decode cX2_rank 51 = .ok (.iconst 2, 1) := dk_5 (dk_at dksX2_rank_2 4 rfl rfl)
theorem dX2_rank_52 : decode cX2_rank 52 = .ok (.if_icmp .ne 8, 3) := dk_160 0 8 (dk_at dksX2_rank_2 5 rfl rfl)
theorem dX2_rank_55 : decode cX2_rank 55 = .ok (.bipush 7, 2) := dk_16 7 (dk_at dksX2_rank_2 8 rfl rfl)
theorem dX2_rank_57 : decode cX2_rank 57 = .ok (.goto 14, 3) := dk_167 0 14 (dk_at dksX2_rank_2 10 rfl rfl)
theorem dX2_rank_60 : decode cX2_rank 60 = .ok (.iload_n 0, 1) := dk_26 (dk_at dksX2_rank_2 13 rfl rfl)
theorem dX2_rank_61 : decode cX2_rank 61 = .ok (.iconst 5, 1) := dk_8 (dk_at dksX2_rank_2 14 rfl rfl)
theorem dX2_rank_62 : decode cX2_rank 62 = .ok (.if_icmp .lt 8, 3) := dk_161 0 8 (dk_at dksX2_rank_2 15 rfl rfl)
theorem dX2_rank_65 : decode cX2_rank 65 = .ok (.bipush 6, 2) := dk_16 6 (dk_at dksX2_rank_2 18 rfl rfl)
theorem dX2_rank_67 : decode cX2_rank 67 = .ok (.goto 4, 3) := dk_167 0 4 (dk_at dksX2_rank_2 20 rfl rfl)
theorem dX2_rank_70 : decode cX2_rank 70 = .ok (.iconst 5, 1) := dk_8 (dk_at dksX2_rank_2 23 rfl rfl)
theorem dX2_rank_71 : decode cX2_rank 71 = .ok (.ireturn, 1) := dk_172 (dk_at dksX2_rank_3 0 rfl rfl)
abbrev cX2_compareOf : ByteArray := prog_18_method_42_code
def yX2_compareOf : MethodName := ⟨RX2, "compareOf", "()I"⟩
def dkwX2_compareOf_3 : List UInt8 := [180, 0, 102, 16, 35, 160, 0, 8, 16, 15, 167, 0, 4, 2, 172]
abbrev dktX2_compareOf_3 : List UInt8 := dkwX2_compareOf_3 ++ []
def dkwX2_compareOf_2 : List UInt8 := [160, 0, 8, 16, 13, 167, 0, 32, 42, 180, 0, 102, 16, 61, 160, 0, 8, 16, 14, 167, 0, 18, 42]
abbrev dktX2_compareOf_2 : List UInt8 := dkwX2_compareOf_2 ++ dktX2_compareOf_3
def dkwX2_compareOf_1 : List UInt8 := [167, 0, 59, 42, 180, 0, 102, 16, 62, 160, 0, 8, 16, 12, 167, 0, 45, 42, 180, 0, 102, 8]
abbrev dktX2_compareOf_1 : List UInt8 := dkwX2_compareOf_1 ++ dktX2_compareOf_2
def dkwX2_compareOf_0 : List UInt8 := [42, 180, 0, 102, 16, 60, 160, 0, 8, 16, 10, 167, 0, 72, 42, 180, 0, 102, 7, 160, 0, 8, 16, 11]
abbrev dktX2_compareOf_0 : List UInt8 := dkwX2_compareOf_0 ++ dktX2_compareOf_1
theorem dksX2_compareOf_0 : cX2_compareOf.data.toList.drop 0 = dktX2_compareOf_0 := by decide +kernel
theorem dksX2_compareOf_1 : cX2_compareOf.data.toList.drop 24 = dktX2_compareOf_1 := dk_seg dksX2_compareOf_0 24 rfl rfl
theorem dksX2_compareOf_2 : cX2_compareOf.data.toList.drop 46 = dktX2_compareOf_2 := dk_seg dksX2_compareOf_1 22 rfl rfl
theorem dksX2_compareOf_3 : cX2_compareOf.data.toList.drop 69 = dktX2_compareOf_3 := dk_seg dksX2_compareOf_2 23 rfl rfl
theorem dX2_compareOf_0 : decode cX2_compareOf 0 = .ok (.aload_n 0, 1) := dk_42 (dk_at dksX2_compareOf_0 0 rfl rfl)
theorem dX2_compareOf_1 : decode cX2_compareOf 1 = .ok (.getfield 102, 3) := dk_180 0 102 (dk_at dksX2_compareOf_0 1 rfl rfl)
theorem dX2_compareOf_4 : decode cX2_compareOf 4 = .ok (.bipush 60, 2) := dk_16 60 (dk_at dksX2_compareOf_0 4 rfl rfl)
theorem dX2_compareOf_6 : decode cX2_compareOf 6 = .ok (.if_icmp .ne 8, 3) := dk_160 0 8 (dk_at dksX2_compareOf_0 6 rfl rfl)
theorem dX2_compareOf_9 : decode cX2_compareOf 9 = .ok (.bipush 10, 2) := dk_16 10 (dk_at dksX2_compareOf_0 9 rfl rfl)
theorem dX2_compareOf_11 : decode cX2_compareOf 11 = .ok (.goto 72, 3) := dk_167 0 72 (dk_at dksX2_compareOf_0 11 rfl rfl)
theorem dX2_compareOf_14 : decode cX2_compareOf 14 = .ok (.aload_n 0, 1) := dk_42 (dk_at dksX2_compareOf_0 14 rfl rfl)
theorem dX2_compareOf_15 : decode cX2_compareOf 15 = .ok (.getfield 102, 3) := dk_180 0 102 (dk_at dksX2_compareOf_0 15 rfl rfl)
theorem dX2_compareOf_18 : decode cX2_compareOf 18 = .ok (.iconst 4, 1) := dk_7 (dk_at dksX2_compareOf_0 18 rfl rfl)
theorem dX2_compareOf_19 : decode cX2_compareOf 19 = .ok (.if_icmp .ne 8, 3) := dk_160 0 8 (dk_at dksX2_compareOf_0 19 rfl rfl)
theorem dX2_compareOf_22 : decode cX2_compareOf 22 = .ok (.bipush 11, 2) := dk_16 11 (dk_at dksX2_compareOf_0 22 rfl rfl)
theorem dX2_compareOf_24 : decode cX2_compareOf 24 = .ok (.goto 59, 3) := dk_167 0 59 (dk_at dksX2_compareOf_1 0 rfl rfl)
theorem dX2_compareOf_27 : decode cX2_compareOf 27 = .ok (.aload_n 0, 1) := dk_42 (dk_at dksX2_compareOf_1 3 rfl rfl)
theorem dX2_compareOf_28 : decode cX2_compareOf 28 = .ok (.getfield 102, 3) := dk_180 0 102 (dk_at dksX2_compareOf_1 4 rfl rfl)
theorem dX2_compareOf_31 : decode cX2_compareOf 31 = .ok (.bipush 62, 2) := dk_16 62 (dk_at dksX2_compareOf_1 7 rfl rfl)
theorem dX2_compareOf_33 : decode cX2_compareOf 33 = .ok (.if_icmp .ne 8, 3) := dk_160 0 8 (dk_at dksX2_compareOf_1 9 rfl rfl)
theorem dX2_compareOf_36 : decode cX2_compareOf 36 = .ok (.bipush 12, 2) := dk_16 12 (dk_at dksX2_compareOf_1 12 rfl rfl)
theorem dX2_compareOf_38 : decode cX2_compareOf 38 = .ok (.goto 45, 3) := dk_167 0 45 (dk_at dksX2_compareOf_1 14 rfl rfl)
theorem dX2_compareOf_41 : decode cX2_compareOf 41 = .ok (.aload_n 0, 1) := dk_42 (dk_at dksX2_compareOf_1 17 rfl rfl)
theorem dX2_compareOf_42 : decode cX2_compareOf 42 = .ok (.getfield 102, 3) := dk_180 0 102 (dk_at dksX2_compareOf_1 18 rfl rfl)
theorem dX2_compareOf_45 : decode cX2_compareOf 45 = .ok (.iconst 5, 1) := dk_8 (dk_at dksX2_compareOf_1 21 rfl rfl)
theorem dX2_compareOf_46 : decode cX2_compareOf 46 = .ok (.if_icmp .ne 8, 3) := dk_160 0 8 (dk_at dksX2_compareOf_2 0 rfl rfl)
theorem dX2_compareOf_49 : decode cX2_compareOf 49 = .ok (.bipush 13, 2) := dk_16 13 (dk_at dksX2_compareOf_2 3 rfl rfl)
theorem dX2_compareOf_51 : decode cX2_compareOf 51 = .ok (.goto 32, 3) := dk_167 0 32 (dk_at dksX2_compareOf_2 5 rfl rfl)
theorem dX2_compareOf_54 : decode cX2_compareOf 54 = .ok (.aload_n 0, 1) := dk_42 (dk_at dksX2_compareOf_2 8 rfl rfl)
theorem dX2_compareOf_55 : decode cX2_compareOf 55 = .ok (.getfield 102, 3) := dk_180 0 102 (dk_at dksX2_compareOf_2 9 rfl rfl)
theorem dX2_compareOf_58 : decode cX2_compareOf 58 = .ok (.bipush 61, 2) := dk_16 61 (dk_at dksX2_compareOf_2 12 rfl rfl)
theorem dX2_compareOf_60 : decode cX2_compareOf 60 = .ok (.if_icmp .ne 8, 3) := dk_160 0 8 (dk_at dksX2_compareOf_2 14 rfl rfl)
theorem dX2_compareOf_63 : decode cX2_compareOf 63 = .ok (.bipush 14, 2) := dk_16 14 (dk_at dksX2_compareOf_2 17 rfl rfl)
theorem dX2_compareOf_65 : decode cX2_compareOf 65 = .ok (.goto 18, 3) := dk_167 0 18 (dk_at dksX2_compareOf_2 19 rfl rfl)
theorem dX2_compareOf_68 : decode cX2_compareOf 68 = .ok (.aload_n 0, 1) := dk_42 (dk_at dksX2_compareOf_2 22 rfl rfl)
theorem dX2_compareOf_69 : decode cX2_compareOf 69 = .ok (.getfield 102, 3) := dk_180 0 102 (dk_at dksX2_compareOf_3 0 rfl rfl)
theorem dX2_compareOf_72 : decode cX2_compareOf 72 = .ok (.bipush 35, 2) := dk_16 35 (dk_at dksX2_compareOf_3 3 rfl rfl)
theorem dX2_compareOf_74 : decode cX2_compareOf 74 = .ok (.if_icmp .ne 8, 3) := dk_160 0 8 (dk_at dksX2_compareOf_3 5 rfl rfl)
theorem dX2_compareOf_77 : decode cX2_compareOf 77 = .ok (.bipush 15, 2) := dk_16 15 (dk_at dksX2_compareOf_3 8 rfl rfl)
theorem dX2_compareOf_79 : decode cX2_compareOf 79 = .ok (.goto 4, 3) := dk_167 0 4 (dk_at dksX2_compareOf_3 10 rfl rfl)
theorem dX2_compareOf_82 : decode cX2_compareOf 82 = .ok (.iconst (-1), 1) := dk_2 (dk_at dksX2_compareOf_3 13 rfl rfl)
theorem dX2_compareOf_83 : decode cX2_compareOf 83 = .ok (.ireturn, 1) := dk_172 (dk_at dksX2_compareOf_3 14 rfl rfl)
abbrev cX2_settle : ByteArray := prog_18_method_34_code
def yX2_settle : MethodName := ⟨RX2, "settle", "(I)V"⟩
def dkwX2_settle_3 : List UInt8 := [46, 16, 20, 160, 255, 183, 42, 89, 180, 0, 143, 4, 100, 181, 0, 143, 167, 255, 170, 177]
abbrev dktX2_settle_3 : List UInt8 := dkwX2_settle_3 ++ []
def dkwX2_settle_2 : List UInt8 := [182, 0, 139, 42, 180, 0, 29, 42, 180, 0, 133, 46, 5, 159, 0, 17, 42, 180, 0, 29, 42, 180, 0, 133]
abbrev dktX2_settle_2 : List UInt8 := dkwX2_settle_2 ++ dktX2_settle_3
def dkwX2_settle_1 : List UInt8 := [161, 0, 67, 42, 89, 180, 0, 133, 4, 100, 181, 0, 133, 42, 42, 180, 0, 29, 42, 180, 0, 133, 46, 3]
abbrev dktX2_settle_1 : List UInt8 := dkwX2_settle_1 ++ dktX2_settle_2
def dkwX2_settle_0 : List UInt8 := [42, 180, 0, 133, 158, 0, 85, 42, 180, 0, 29, 42, 180, 0, 133, 4, 100, 46, 184, 0, 136, 27]
abbrev dktX2_settle_0 : List UInt8 := dkwX2_settle_0 ++ dktX2_settle_1
theorem dksX2_settle_0 : cX2_settle.data.toList.drop 0 = dktX2_settle_0 := by decide +kernel
theorem dksX2_settle_1 : cX2_settle.data.toList.drop 22 = dktX2_settle_1 := dk_seg dksX2_settle_0 22 rfl rfl
theorem dksX2_settle_2 : cX2_settle.data.toList.drop 46 = dktX2_settle_2 := dk_seg dksX2_settle_1 24 rfl rfl
theorem dksX2_settle_3 : cX2_settle.data.toList.drop 70 = dktX2_settle_3 := dk_seg dksX2_settle_2 24 rfl rfl
theorem dX2_settle_0 : decode cX2_settle 0 = .ok (.aload_n 0, 1) := dk_42 (dk_at dksX2_settle_0 0 rfl rfl)
theorem dX2_settle_1 : decode cX2_settle 1 = .ok (.getfield 133, 3) := dk_180 0 133 (dk_at dksX2_settle_0 1 rfl rfl)
theorem dX2_settle_4 : decode cX2_settle 4 = .ok (.ifCond .le 85, 3) := dk_158 0 85 (dk_at dksX2_settle_0 4 rfl rfl)
theorem dX2_settle_7 : decode cX2_settle 7 = .ok (.aload_n 0, 1) := dk_42 (dk_at dksX2_settle_0 7 rfl rfl)
theorem dX2_settle_8 : decode cX2_settle 8 = .ok (.getfield 29, 3) := dk_180 0 29 (dk_at dksX2_settle_0 8 rfl rfl)
theorem dX2_settle_11 : decode cX2_settle 11 = .ok (.aload_n 0, 1) := dk_42 (dk_at dksX2_settle_0 11 rfl rfl)
theorem dX2_settle_12 : decode cX2_settle 12 = .ok (.getfield 133, 3) := dk_180 0 133 (dk_at dksX2_settle_0 12 rfl rfl)
theorem dX2_settle_15 : decode cX2_settle 15 = .ok (.iconst 1, 1) := dk_4 (dk_at dksX2_settle_0 15 rfl rfl)
theorem dX2_settle_16 : decode cX2_settle 16 = .ok (.isub, 1) := dk_100 (dk_at dksX2_settle_0 16 rfl rfl)
theorem dX2_settle_17 : decode cX2_settle 17 = .ok (.iaload, 1) := dk_46 (dk_at dksX2_settle_0 17 rfl rfl)
theorem dX2_settle_18 : decode cX2_settle 18 = .ok (.invokestatic 136, 3) := dk_184 0 136 (dk_at dksX2_settle_0 18 rfl rfl)
theorem dX2_settle_21 : decode cX2_settle 21 = .ok (.iload_n 1, 1) := dk_27 (dk_at dksX2_settle_0 21 rfl rfl)
theorem dX2_settle_22 : decode cX2_settle 22 = .ok (.if_icmp .lt 67, 3) := dk_161 0 67 (dk_at dksX2_settle_1 0 rfl rfl)
theorem dX2_settle_25 : decode cX2_settle 25 = .ok (.aload_n 0, 1) := dk_42 (dk_at dksX2_settle_1 3 rfl rfl)
theorem dX2_settle_26 : decode cX2_settle 26 = .ok (.dup, 1) := dk_89 (dk_at dksX2_settle_1 4 rfl rfl)
theorem dX2_settle_27 : decode cX2_settle 27 = .ok (.getfield 133, 3) := dk_180 0 133 (dk_at dksX2_settle_1 5 rfl rfl)
theorem dX2_settle_30 : decode cX2_settle 30 = .ok (.iconst 1, 1) := dk_4 (dk_at dksX2_settle_1 8 rfl rfl)
theorem dX2_settle_31 : decode cX2_settle 31 = .ok (.isub, 1) := dk_100 (dk_at dksX2_settle_1 9 rfl rfl)
theorem dX2_settle_32 : decode cX2_settle 32 = .ok (.putfield 133, 3) := dk_181 0 133 (dk_at dksX2_settle_1 10 rfl rfl)
theorem dX2_settle_35 : decode cX2_settle 35 = .ok (.aload_n 0, 1) := dk_42 (dk_at dksX2_settle_1 13 rfl rfl)
theorem dX2_settle_36 : decode cX2_settle 36 = .ok (.aload_n 0, 1) := dk_42 (dk_at dksX2_settle_1 14 rfl rfl)
theorem dX2_settle_37 : decode cX2_settle 37 = .ok (.getfield 29, 3) := dk_180 0 29 (dk_at dksX2_settle_1 15 rfl rfl)
theorem dX2_settle_40 : decode cX2_settle 40 = .ok (.aload_n 0, 1) := dk_42 (dk_at dksX2_settle_1 18 rfl rfl)
theorem dX2_settle_41 : decode cX2_settle 41 = .ok (.getfield 133, 3) := dk_180 0 133 (dk_at dksX2_settle_1 19 rfl rfl)
theorem dX2_settle_44 : decode cX2_settle 44 = .ok (.iaload, 1) := dk_46 (dk_at dksX2_settle_1 22 rfl rfl)
theorem dX2_settle_45 : decode cX2_settle 45 = .ok (.iconst 0, 1) := dk_3 (dk_at dksX2_settle_1 23 rfl rfl)
theorem dX2_settle_46 : decode cX2_settle 46 = .ok (.invokevirtual 139, 3) := dk_182 0 139 (dk_at dksX2_settle_2 0 rfl rfl)
theorem dX2_settle_49 : decode cX2_settle 49 = .ok (.aload_n 0, 1) := dk_42 (dk_at dksX2_settle_2 3 rfl rfl)
theorem dX2_settle_50 : decode cX2_settle 50 = .ok (.getfield 29, 3) := dk_180 0 29 (dk_at dksX2_settle_2 4 rfl rfl)
theorem dX2_settle_53 : decode cX2_settle 53 = .ok (.aload_n 0, 1) := dk_42 (dk_at dksX2_settle_2 7 rfl rfl)
theorem dX2_settle_54 : decode cX2_settle 54 = .ok (.getfield 133, 3) := dk_180 0 133 (dk_at dksX2_settle_2 8 rfl rfl)
theorem dX2_settle_57 : decode cX2_settle 57 = .ok (.iaload, 1) := dk_46 (dk_at dksX2_settle_2 11 rfl rfl)
theorem dX2_settle_58 : decode cX2_settle 58 = .ok (.iconst 2, 1) := dk_5 (dk_at dksX2_settle_2 12 rfl rfl)
theorem dX2_settle_59 : decode cX2_settle 59 = .ok (.if_icmp .eq 17, 3) := dk_159 0 17 (dk_at dksX2_settle_2 13 rfl rfl)
theorem dX2_settle_62 : decode cX2_settle 62 = .ok (.aload_n 0, 1) := dk_42 (dk_at dksX2_settle_2 16 rfl rfl)
theorem dX2_settle_63 : decode cX2_settle 63 = .ok (.getfield 29, 3) := dk_180 0 29 (dk_at dksX2_settle_2 17 rfl rfl)
theorem dX2_settle_66 : decode cX2_settle 66 = .ok (.aload_n 0, 1) := dk_42 (dk_at dksX2_settle_2 20 rfl rfl)
theorem dX2_settle_67 : decode cX2_settle 67 = .ok (.getfield 133, 3) := dk_180 0 133 (dk_at dksX2_settle_2 21 rfl rfl)
theorem dX2_settle_70 : decode cX2_settle 70 = .ok (.iaload, 1) := dk_46 (dk_at dksX2_settle_3 0 rfl rfl)
theorem dX2_settle_71 : decode cX2_settle 71 = .ok (.bipush 20, 2) := dk_16 20 (dk_at dksX2_settle_3 1 rfl rfl)
theorem dX2_settle_73 : decode cX2_settle 73 = .ok (.if_icmp .ne (-73), 3) := dk_160 255 183 (dk_at dksX2_settle_3 3 rfl rfl)
theorem dX2_settle_76 : decode cX2_settle 76 = .ok (.aload_n 0, 1) := dk_42 (dk_at dksX2_settle_3 6 rfl rfl)
theorem dX2_settle_77 : decode cX2_settle 77 = .ok (.dup, 1) := dk_89 (dk_at dksX2_settle_3 7 rfl rfl)
theorem dX2_settle_78 : decode cX2_settle 78 = .ok (.getfield 143, 3) := dk_180 0 143 (dk_at dksX2_settle_3 8 rfl rfl)
theorem dX2_settle_81 : decode cX2_settle 81 = .ok (.iconst 1, 1) := dk_4 (dk_at dksX2_settle_3 11 rfl rfl)
theorem dX2_settle_82 : decode cX2_settle 82 = .ok (.isub, 1) := dk_100 (dk_at dksX2_settle_3 12 rfl rfl)
theorem dX2_settle_83 : decode cX2_settle 83 = .ok (.putfield 143, 3) := dk_181 0 143 (dk_at dksX2_settle_3 13 rfl rfl)
theorem dX2_settle_86 : decode cX2_settle 86 = .ok (.goto (-86), 3) := dk_167 255 170 (dk_at dksX2_settle_3 16 rfl rfl)
theorem dX2_settle_89 : decode cX2_settle 89 = .ok (.return_, 1) := dk_177 (dk_at dksX2_settle_3 19 rfl rfl)
abbrev cX2_emit : ByteArray := prog_18_method_31_code
def yX2_emit : MethodName := ⟨RX2, "emit", "(II)V"⟩
def dkwX2_emit_2 : List UInt8 := [96, 181, 0, 130, 177]
abbrev dktX2_emit_2 : List UInt8 := dkwX2_emit_2 ++ []
def dkwX2_emit_1 : List UInt8 := [42, 180, 0, 127, 16, 75, 96, 5, 42, 180, 0, 130, 104, 96, 4, 96, 28, 79, 42, 89, 180, 0, 130, 4]
abbrev dktX2_emit_1 : List UInt8 := dkwX2_emit_1 ++ dktX2_emit_2
def dkwX2_emit_0 : List UInt8 := [42, 180, 0, 16, 42, 180, 0, 127, 16, 75, 96, 5, 42, 180, 0, 130, 104, 96, 27, 79, 42, 180, 0, 16]
abbrev dktX2_emit_0 : List UInt8 := dkwX2_emit_0 ++ dktX2_emit_1
theorem dksX2_emit_0 : cX2_emit.data.toList.drop 0 = dktX2_emit_0 := by decide +kernel
theorem dksX2_emit_1 : cX2_emit.data.toList.drop 24 = dktX2_emit_1 := dk_seg dksX2_emit_0 24 rfl rfl
theorem dksX2_emit_2 : cX2_emit.data.toList.drop 48 = dktX2_emit_2 := dk_seg dksX2_emit_1 24 rfl rfl
theorem dX2_emit_0 : decode cX2_emit 0 = .ok (.aload_n 0, 1) := dk_42 (dk_at dksX2_emit_0 0 rfl rfl)
theorem dX2_emit_1 : decode cX2_emit 1 = .ok (.getfield 16, 3) := dk_180 0 16 (dk_at dksX2_emit_0 1 rfl rfl)
theorem dX2_emit_4 : decode cX2_emit 4 = .ok (.aload_n 0, 1) := dk_42 (dk_at dksX2_emit_0 4 rfl rfl)
theorem dX2_emit_5 : decode cX2_emit 5 = .ok (.getfield 127, 3) := dk_180 0 127 (dk_at dksX2_emit_0 5 rfl rfl)
theorem dX2_emit_8 : decode cX2_emit 8 = .ok (.bipush 75, 2) := dk_16 75 (dk_at dksX2_emit_0 8 rfl rfl)
theorem dX2_emit_10 : decode cX2_emit 10 = .ok (.iadd, 1) := dk_96 (dk_at dksX2_emit_0 10 rfl rfl)
theorem dX2_emit_11 : decode cX2_emit 11 = .ok (.iconst 2, 1) := dk_5 (dk_at dksX2_emit_0 11 rfl rfl)
theorem dX2_emit_12 : decode cX2_emit 12 = .ok (.aload_n 0, 1) := dk_42 (dk_at dksX2_emit_0 12 rfl rfl)
theorem dX2_emit_13 : decode cX2_emit 13 = .ok (.getfield 130, 3) := dk_180 0 130 (dk_at dksX2_emit_0 13 rfl rfl)
theorem dX2_emit_16 : decode cX2_emit 16 = .ok (.imul, 1) := dk_104 (dk_at dksX2_emit_0 16 rfl rfl)
theorem dX2_emit_17 : decode cX2_emit 17 = .ok (.iadd, 1) := dk_96 (dk_at dksX2_emit_0 17 rfl rfl)
theorem dX2_emit_18 : decode cX2_emit 18 = .ok (.iload_n 1, 1) := dk_27 (dk_at dksX2_emit_0 18 rfl rfl)
theorem dX2_emit_19 : decode cX2_emit 19 = .ok (.iastore, 1) := dk_79 (dk_at dksX2_emit_0 19 rfl rfl)
theorem dX2_emit_20 : decode cX2_emit 20 = .ok (.aload_n 0, 1) := dk_42 (dk_at dksX2_emit_0 20 rfl rfl)
theorem dX2_emit_21 : decode cX2_emit 21 = .ok (.getfield 16, 3) := dk_180 0 16 (dk_at dksX2_emit_0 21 rfl rfl)
theorem dX2_emit_24 : decode cX2_emit 24 = .ok (.aload_n 0, 1) := dk_42 (dk_at dksX2_emit_1 0 rfl rfl)
theorem dX2_emit_25 : decode cX2_emit 25 = .ok (.getfield 127, 3) := dk_180 0 127 (dk_at dksX2_emit_1 1 rfl rfl)
theorem dX2_emit_28 : decode cX2_emit 28 = .ok (.bipush 75, 2) := dk_16 75 (dk_at dksX2_emit_1 4 rfl rfl)
theorem dX2_emit_30 : decode cX2_emit 30 = .ok (.iadd, 1) := dk_96 (dk_at dksX2_emit_1 6 rfl rfl)
theorem dX2_emit_31 : decode cX2_emit 31 = .ok (.iconst 2, 1) := dk_5 (dk_at dksX2_emit_1 7 rfl rfl)
theorem dX2_emit_32 : decode cX2_emit 32 = .ok (.aload_n 0, 1) := dk_42 (dk_at dksX2_emit_1 8 rfl rfl)
theorem dX2_emit_33 : decode cX2_emit 33 = .ok (.getfield 130, 3) := dk_180 0 130 (dk_at dksX2_emit_1 9 rfl rfl)
theorem dX2_emit_36 : decode cX2_emit 36 = .ok (.imul, 1) := dk_104 (dk_at dksX2_emit_1 12 rfl rfl)
theorem dX2_emit_37 : decode cX2_emit 37 = .ok (.iadd, 1) := dk_96 (dk_at dksX2_emit_1 13 rfl rfl)
theorem dX2_emit_38 : decode cX2_emit 38 = .ok (.iconst 1, 1) := dk_4 (dk_at dksX2_emit_1 14 rfl rfl)
theorem dX2_emit_39 : decode cX2_emit 39 = .ok (.iadd, 1) := dk_96 (dk_at dksX2_emit_1 15 rfl rfl)
theorem dX2_emit_40 : decode cX2_emit 40 = .ok (.iload_n 2, 1) := dk_28 (dk_at dksX2_emit_1 16 rfl rfl)
theorem dX2_emit_41 : decode cX2_emit 41 = .ok (.iastore, 1) := dk_79 (dk_at dksX2_emit_1 17 rfl rfl)
theorem dX2_emit_42 : decode cX2_emit 42 = .ok (.aload_n 0, 1) := dk_42 (dk_at dksX2_emit_1 18 rfl rfl)
theorem dX2_emit_43 : decode cX2_emit 43 = .ok (.dup, 1) := dk_89 (dk_at dksX2_emit_1 19 rfl rfl)
theorem dX2_emit_44 : decode cX2_emit 44 = .ok (.getfield 130, 3) := dk_180 0 130 (dk_at dksX2_emit_1 20 rfl rfl)
theorem dX2_emit_47 : decode cX2_emit 47 = .ok (.iconst 1, 1) := dk_4 (dk_at dksX2_emit_1 23 rfl rfl)
theorem dX2_emit_48 : decode cX2_emit 48 = .ok (.iadd, 1) := dk_96 (dk_at dksX2_emit_2 0 rfl rfl)
theorem dX2_emit_49 : decode cX2_emit 49 = .ok (.putfield 130, 3) := dk_181 0 130 (dk_at dksX2_emit_2 1 rfl rfl)
theorem dX2_emit_52 : decode cX2_emit 52 = .ok (.return_, 1) := dk_177 (dk_at dksX2_emit_2 4 rfl rfl)
abbrev cX2_push : ByteArray := prog_18_method_32_code
def yX2_push : MethodName := ⟨RX2, "push", "(I)V"⟩
def dkwX2_push_0 : List UInt8 := [42, 180, 0, 29, 42, 180, 0, 133, 27, 79, 42, 89, 180, 0, 133, 4, 96, 181, 0, 133, 177]
abbrev dktX2_push_0 : List UInt8 := dkwX2_push_0 ++ []
theorem dksX2_push_0 : cX2_push.data.toList.drop 0 = dktX2_push_0 := by decide +kernel
theorem dX2_push_0 : decode cX2_push 0 = .ok (.aload_n 0, 1) := dk_42 (dk_at dksX2_push_0 0 rfl rfl)
theorem dX2_push_1 : decode cX2_push 1 = .ok (.getfield 29, 3) := dk_180 0 29 (dk_at dksX2_push_0 1 rfl rfl)
theorem dX2_push_4 : decode cX2_push 4 = .ok (.aload_n 0, 1) := dk_42 (dk_at dksX2_push_0 4 rfl rfl)
theorem dX2_push_5 : decode cX2_push 5 = .ok (.getfield 133, 3) := dk_180 0 133 (dk_at dksX2_push_0 5 rfl rfl)
theorem dX2_push_8 : decode cX2_push 8 = .ok (.iload_n 1, 1) := dk_27 (dk_at dksX2_push_0 8 rfl rfl)
theorem dX2_push_9 : decode cX2_push 9 = .ok (.iastore, 1) := dk_79 (dk_at dksX2_push_0 9 rfl rfl)
theorem dX2_push_10 : decode cX2_push 10 = .ok (.aload_n 0, 1) := dk_42 (dk_at dksX2_push_0 10 rfl rfl)
theorem dX2_push_11 : decode cX2_push 11 = .ok (.dup, 1) := dk_89 (dk_at dksX2_push_0 11 rfl rfl)
theorem dX2_push_12 : decode cX2_push 12 = .ok (.getfield 133, 3) := dk_180 0 133 (dk_at dksX2_push_0 12 rfl rfl)
theorem dX2_push_15 : decode cX2_push 15 = .ok (.iconst 1, 1) := dk_4 (dk_at dksX2_push_0 15 rfl rfl)
theorem dX2_push_16 : decode cX2_push 16 = .ok (.iadd, 1) := dk_96 (dk_at dksX2_push_0 16 rfl rfl)
theorem dX2_push_17 : decode cX2_push 17 = .ok (.putfield 133, 3) := dk_181 0 133 (dk_at dksX2_push_0 17 rfl rfl)
theorem dX2_push_20 : decode cX2_push 20 = .ok (.return_, 1) := dk_177 (dk_at dksX2_push_0 20 rfl rfl)
abbrev cX2_whole : ByteArray := prog_18_method_35_code
def yX2_whole : MethodName := ⟨RX2, "whole", "()V"⟩
def dkwX2_whole_0 : List UInt8 := [42, 4, 181, 0, 146, 42, 16, 7, 182, 0, 150, 177]
abbrev dktX2_whole_0 : List UInt8 := dkwX2_whole_0 ++ []
theorem dksX2_whole_0 : cX2_whole.data.toList.drop 0 = dktX2_whole_0 := by decide +kernel
theorem dX2_whole_0 : decode cX2_whole 0 = .ok (.aload_n 0, 1) := dk_42 (dk_at dksX2_whole_0 0 rfl rfl)
theorem dX2_whole_1 : decode cX2_whole 1 = .ok (.iconst 1, 1) := dk_4 (dk_at dksX2_whole_0 1 rfl rfl)
theorem dX2_whole_2 : decode cX2_whole 2 = .ok (.putfield 146, 3) := dk_181 0 146 (dk_at dksX2_whole_0 2 rfl rfl)
theorem dX2_whole_5 : decode cX2_whole 5 = .ok (.aload_n 0, 1) := dk_42 (dk_at dksX2_whole_0 5 rfl rfl)
theorem dX2_whole_6 : decode cX2_whole 6 = .ok (.bipush 7, 2) := dk_16 7 (dk_at dksX2_whole_0 6 rfl rfl)
theorem dX2_whole_8 : decode cX2_whole 8 = .ok (.invokevirtual 150, 3) := dk_182 0 150 (dk_at dksX2_whole_0 8 rfl rfl)
theorem dX2_whole_11 : decode cX2_whole 11 = .ok (.return_, 1) := dk_177 (dk_at dksX2_whole_0 11 rfl rfl)
abbrev cX2_beginOne : ByteArray := prog_18_method_41_code
def yX2_beginOne : MethodName := ⟨RX2, "beginOne", "(Z)I"⟩
def dkwX2_beginOne_7 : List UInt8 := [153, 0, 20, 42, 27, 182, 0, 185, 153, 0, 12, 42, 16, 20, 182, 0, 176, 167, 0, 4, 4, 172]
abbrev dktX2_beginOne_7 : List UInt8 := dkwX2_beginOne_7 ++ []
def dkwX2_beginOne_6 : List UInt8 := [148, 154, 0, 10, 42, 16, 41, 182, 0, 176, 172, 42, 16, 110, 16, 111, 16, 116, 184, 0, 119, 182, 0, 181]
abbrev dktX2_beginOne_6 : List UInt8 := dkwX2_beginOne_6 ++ dktX2_beginOne_7
def dkwX2_beginOne_5 : List UInt8 := [160, 0, 9, 42, 5, 182, 0, 176, 172, 42, 180, 0, 102, 5, 160, 0, 21, 42, 180, 0, 115, 20, 0, 179]
abbrev dktX2_beginOne_5 : List UInt8 := dkwX2_beginOne_5 ++ dktX2_beginOne_6
def dkwX2_beginOne_4 : List UInt8 := [42, 180, 0, 102, 16, 40, 160, 0, 10, 42, 16, 40, 182, 0, 176, 172, 42, 180, 0, 102, 16, 45]
abbrev dktX2_beginOne_4 : List UInt8 := dkwX2_beginOne_4 ++ dktX2_beginOne_5
def dkwX2_beginOne_3 : List UInt8 := [160, 0, 10, 42, 180, 0, 108, 167, 0, 4, 28, 182, 0, 139, 42, 182, 0, 164, 42, 182, 0, 173, 3, 172]
abbrev dktX2_beginOne_3 : List UInt8 := dkwX2_beginOne_3 ++ dktX2_beginOne_4
def dkwX2_beginOne_2 : List UInt8 := [155, 0, 46, 42, 42, 180, 0, 102, 4, 160, 0, 7, 3, 167, 0, 4, 4, 42, 180, 0, 102, 4]
abbrev dktX2_beginOne_2 : List UInt8 := dkwX2_beginOne_2 ++ dktX2_beginOne_3
def dkwX2_beginOne_1 : List UInt8 := [61, 28, 155, 0, 13, 42, 28, 182, 0, 170, 154, 0, 5, 8, 172, 42, 180, 0, 102, 4, 159, 0, 7, 28]
abbrev dktX2_beginOne_1 : List UInt8 := dkwX2_beginOne_1 ++ dktX2_beginOne_2
def dkwX2_beginOne_0 : List UInt8 := [42, 180, 0, 102, 4, 160, 0, 15, 42, 180, 0, 108, 17, 39, 15, 164, 0, 5, 5, 172, 42, 182, 0, 167]
abbrev dktX2_beginOne_0 : List UInt8 := dkwX2_beginOne_0 ++ dktX2_beginOne_1
theorem dksX2_beginOne_0 : cX2_beginOne.data.toList.drop 0 = dktX2_beginOne_0 := by decide +kernel
theorem dksX2_beginOne_1 : cX2_beginOne.data.toList.drop 24 = dktX2_beginOne_1 := dk_seg dksX2_beginOne_0 24 rfl rfl
theorem dksX2_beginOne_2 : cX2_beginOne.data.toList.drop 48 = dktX2_beginOne_2 := dk_seg dksX2_beginOne_1 24 rfl rfl
theorem dksX2_beginOne_3 : cX2_beginOne.data.toList.drop 70 = dktX2_beginOne_3 := dk_seg dksX2_beginOne_2 22 rfl rfl
theorem dksX2_beginOne_4 : cX2_beginOne.data.toList.drop 94 = dktX2_beginOne_4 := dk_seg dksX2_beginOne_3 24 rfl rfl
theorem dksX2_beginOne_5 : cX2_beginOne.data.toList.drop 116 = dktX2_beginOne_5 := dk_seg dksX2_beginOne_4 22 rfl rfl
theorem dksX2_beginOne_6 : cX2_beginOne.data.toList.drop 140 = dktX2_beginOne_6 := dk_seg dksX2_beginOne_5 24 rfl rfl
theorem dksX2_beginOne_7 : cX2_beginOne.data.toList.drop 164 = dktX2_beginOne_7 := dk_seg dksX2_beginOne_6 24 rfl rfl
theorem dX2_beginOne_0 : decode cX2_beginOne 0 = .ok (.aload_n 0, 1) := dk_42 (dk_at dksX2_beginOne_0 0 rfl rfl)
theorem dX2_beginOne_1 : decode cX2_beginOne 1 = .ok (.getfield 102, 3) := dk_180 0 102 (dk_at dksX2_beginOne_0 1 rfl rfl)
theorem dX2_beginOne_4 : decode cX2_beginOne 4 = .ok (.iconst 1, 1) := dk_4 (dk_at dksX2_beginOne_0 4 rfl rfl)
theorem dX2_beginOne_5 : decode cX2_beginOne 5 = .ok (.if_icmp .ne 15, 3) := dk_160 0 15 (dk_at dksX2_beginOne_0 5 rfl rfl)
theorem dX2_beginOne_8 : decode cX2_beginOne 8 = .ok (.aload_n 0, 1) := dk_42 (dk_at dksX2_beginOne_0 8 rfl rfl)
theorem dX2_beginOne_9 : decode cX2_beginOne 9 = .ok (.getfield 108, 3) := dk_180 0 108 (dk_at dksX2_beginOne_0 9 rfl rfl)
theorem dX2_beginOne_12 : decode cX2_beginOne 12 = .ok (.sipush 9999, 3) := dk_17 39 15 (dk_at dksX2_beginOne_0 12 rfl rfl)
theorem dX2_beginOne_15 : decode cX2_beginOne 15 = .ok (.if_icmp .le 5, 3) := dk_164 0 5 (dk_at dksX2_beginOne_0 15 rfl rfl)
theorem dX2_beginOne_18 : decode cX2_beginOne 18 = .ok (.iconst 2, 1) := dk_5 (dk_at dksX2_beginOne_0 18 rfl rfl)
theorem dX2_beginOne_19 : decode cX2_beginOne 19 = .ok (.ireturn, 1) := dk_172 (dk_at dksX2_beginOne_0 19 rfl rfl)
theorem dX2_beginOne_20 : decode cX2_beginOne 20 = .ok (.aload_n 0, 1) := dk_42 (dk_at dksX2_beginOne_0 20 rfl rfl)
theorem dX2_beginOne_21 : decode cX2_beginOne 21 = .ok (.invokevirtual 167, 3) := dk_182 0 167 (dk_at dksX2_beginOne_0 21 rfl rfl)
theorem dX2_beginOne_24 : decode cX2_beginOne 24 = .ok (.istore_n 2, 1) := dk_61 (dk_at dksX2_beginOne_1 0 rfl rfl)
theorem dX2_beginOne_25 : decode cX2_beginOne 25 = .ok (.iload_n 2, 1) := dk_28 (dk_at dksX2_beginOne_1 1 rfl rfl)
theorem dX2_beginOne_26 : decode cX2_beginOne 26 = .ok (.ifCond .lt 13, 3) := dk_155 0 13 (dk_at dksX2_beginOne_1 2 rfl rfl)
theorem dX2_beginOne_29 : decode cX2_beginOne 29 = .ok (.aload_n 0, 1) := dk_42 (dk_at dksX2_beginOne_1 5 rfl rfl)
theorem dX2_beginOne_30 : decode cX2_beginOne 30 = .ok (.iload_n 2, 1) := dk_28 (dk_at dksX2_beginOne_1 6 rfl rfl)
theorem dX2_beginOne_31 : decode cX2_beginOne 31 = .ok (.invokevirtual 170, 3) := dk_182 0 170 (dk_at dksX2_beginOne_1 7 rfl rfl)
theorem dX2_beginOne_34 : decode cX2_beginOne 34 = .ok (.ifCond .ne 5, 3) := dk_154 0 5 (dk_at dksX2_beginOne_1 10 rfl rfl)
theorem dX2_beginOne_37 : decode cX2_beginOne 37 = .ok (.iconst 5, 1) := dk_8 (dk_at dksX2_beginOne_1 13 rfl rfl)
theorem dX2_beginOne_38 : decode cX2_beginOne 38 = .ok (.ireturn, 1) := dk_172 (dk_at dksX2_beginOne_1 14 rfl rfl)
theorem dX2_beginOne_39 : decode cX2_beginOne 39 = .ok (.aload_n 0, 1) := dk_42 (dk_at dksX2_beginOne_1 15 rfl rfl)
theorem dX2_beginOne_40 : decode cX2_beginOne 40 = .ok (.getfield 102, 3) := dk_180 0 102 (dk_at dksX2_beginOne_1 16 rfl rfl)
theorem dX2_beginOne_43 : decode cX2_beginOne 43 = .ok (.iconst 1, 1) := dk_4 (dk_at dksX2_beginOne_1 19 rfl rfl)
theorem dX2_beginOne_44 : decode cX2_beginOne 44 = .ok (.if_icmp .eq 7, 3) := dk_159 0 7 (dk_at dksX2_beginOne_1 20 rfl rfl)
theorem dX2_beginOne_47 : decode cX2_beginOne 47 = .ok (.iload_n 2, 1) := dk_28 (dk_at dksX2_beginOne_1 23 rfl rfl)
theorem dX2_beginOne_48 : decode cX2_beginOne 48 = .ok (.ifCond .lt 46, 3) := dk_155 0 46 (dk_at dksX2_beginOne_2 0 rfl rfl)
theorem dX2_beginOne_51 : decode cX2_beginOne 51 = .ok (.aload_n 0, 1) := dk_42 (dk_at dksX2_beginOne_2 3 rfl rfl)
theorem dX2_beginOne_52 : decode cX2_beginOne 52 = .ok (.aload_n 0, 1) := dk_42 (dk_at dksX2_beginOne_2 4 rfl rfl)
theorem dX2_beginOne_53 : decode cX2_beginOne 53 = .ok (.getfield 102, 3) := dk_180 0 102 (dk_at dksX2_beginOne_2 5 rfl rfl)
theorem dX2_beginOne_56 : decode cX2_beginOne 56 = .ok (.iconst 1, 1) := dk_4 (dk_at dksX2_beginOne_2 8 rfl rfl)
theorem dX2_beginOne_57 : decode cX2_beginOne 57 = .ok (.if_icmp .ne 7, 3) := dk_160 0 7 (dk_at dksX2_beginOne_2 9 rfl rfl)
theorem dX2_beginOne_60 : decode cX2_beginOne 60 = .ok (.iconst 0, 1) := dk_3 (dk_at dksX2_beginOne_2 12 rfl rfl)
theorem dX2_beginOne_61 : decode cX2_beginOne 61 = .ok (.goto 4, 3) := dk_167 0 4 (dk_at dksX2_beginOne_2 13 rfl rfl)
theorem dX2_beginOne_64 : decode cX2_beginOne 64 = .ok (.iconst 1, 1) := dk_4 (dk_at dksX2_beginOne_2 16 rfl rfl)
theorem dX2_beginOne_65 : decode cX2_beginOne 65 = .ok (.aload_n 0, 1) := dk_42 (dk_at dksX2_beginOne_2 17 rfl rfl)
theorem dX2_beginOne_66 : decode cX2_beginOne 66 = .ok (.getfield 102, 3) := dk_180 0 102 (dk_at dksX2_beginOne_2 18 rfl rfl)
theorem dX2_beginOne_69 : decode cX2_beginOne 69 = .ok (.iconst 1, 1) := dk_4 (dk_at dksX2_beginOne_2 21 rfl rfl)
theorem dX2_beginOne_70 : decode cX2_beginOne 70 = .ok (.if_icmp .ne 10, 3) := dk_160 0 10 (dk_at dksX2_beginOne_3 0 rfl rfl)
theorem dX2_beginOne_73 : decode cX2_beginOne 73 = .ok (.aload_n 0, 1) := dk_42 (dk_at dksX2_beginOne_3 3 rfl rfl)
theorem dX2_beginOne_74 : decode cX2_beginOne 74 = .ok (.getfield 108, 3) := dk_180 0 108 (dk_at dksX2_beginOne_3 4 rfl rfl)
theorem dX2_beginOne_77 : decode cX2_beginOne 77 = .ok (.goto 4, 3) := dk_167 0 4 (dk_at dksX2_beginOne_3 7 rfl rfl)
theorem dX2_beginOne_80 : decode cX2_beginOne 80 = .ok (.iload_n 2, 1) := dk_28 (dk_at dksX2_beginOne_3 10 rfl rfl)
theorem dX2_beginOne_81 : decode cX2_beginOne 81 = .ok (.invokevirtual 139, 3) := dk_182 0 139 (dk_at dksX2_beginOne_3 11 rfl rfl)
theorem dX2_beginOne_84 : decode cX2_beginOne 84 = .ok (.aload_n 0, 1) := dk_42 (dk_at dksX2_beginOne_3 14 rfl rfl)
theorem dX2_beginOne_85 : decode cX2_beginOne 85 = .ok (.invokevirtual 164, 3) := dk_182 0 164 (dk_at dksX2_beginOne_3 15 rfl rfl)
theorem dX2_beginOne_88 : decode cX2_beginOne 88 = .ok (.aload_n 0, 1) := dk_42 (dk_at dksX2_beginOne_3 18 rfl rfl)
theorem dX2_beginOne_89 : decode cX2_beginOne 89 = .ok (.invokevirtual 173, 3) := dk_182 0 173 (dk_at dksX2_beginOne_3 19 rfl rfl)
theorem dX2_beginOne_92 : decode cX2_beginOne 92 = .ok (.iconst 0, 1) := dk_3 (dk_at dksX2_beginOne_3 22 rfl rfl)
theorem dX2_beginOne_93 : decode cX2_beginOne 93 = .ok (.ireturn, 1) := dk_172 (dk_at dksX2_beginOne_3 23 rfl rfl)
theorem dX2_beginOne_94 : decode cX2_beginOne 94 = .ok (.aload_n 0, 1) := dk_42 (dk_at dksX2_beginOne_4 0 rfl rfl)
theorem dX2_beginOne_95 : decode cX2_beginOne 95 = .ok (.getfield 102, 3) := dk_180 0 102 (dk_at dksX2_beginOne_4 1 rfl rfl)
theorem dX2_beginOne_98 : decode cX2_beginOne 98 = .ok (.bipush 40, 2) := dk_16 40 (dk_at dksX2_beginOne_4 4 rfl rfl)
theorem dX2_beginOne_100 : decode cX2_beginOne 100 = .ok (.if_icmp .ne 10, 3) := dk_160 0 10 (dk_at dksX2_beginOne_4 6 rfl rfl)
theorem dX2_beginOne_103 : decode cX2_beginOne 103 = .ok (.aload_n 0, 1) := dk_42 (dk_at dksX2_beginOne_4 9 rfl rfl)
theorem dX2_beginOne_104 : decode cX2_beginOne 104 = .ok (.bipush 40, 2) := dk_16 40 (dk_at dksX2_beginOne_4 10 rfl rfl)
theorem dX2_beginOne_106 : decode cX2_beginOne 106 = .ok (.invokevirtual 176, 3) := dk_182 0 176 (dk_at dksX2_beginOne_4 12 rfl rfl)
theorem dX2_beginOne_109 : decode cX2_beginOne 109 = .ok (.ireturn, 1) := dk_172 (dk_at dksX2_beginOne_4 15 rfl rfl)
theorem dX2_beginOne_110 : decode cX2_beginOne 110 = .ok (.aload_n 0, 1) := dk_42 (dk_at dksX2_beginOne_4 16 rfl rfl)
theorem dX2_beginOne_111 : decode cX2_beginOne 111 = .ok (.getfield 102, 3) := dk_180 0 102 (dk_at dksX2_beginOne_4 17 rfl rfl)
theorem dX2_beginOne_114 : decode cX2_beginOne 114 = .ok (.bipush 45, 2) := dk_16 45 (dk_at dksX2_beginOne_4 20 rfl rfl)
theorem dX2_beginOne_116 : decode cX2_beginOne 116 = .ok (.if_icmp .ne 9, 3) := dk_160 0 9 (dk_at dksX2_beginOne_5 0 rfl rfl)
theorem dX2_beginOne_119 : decode cX2_beginOne 119 = .ok (.aload_n 0, 1) := dk_42 (dk_at dksX2_beginOne_5 3 rfl rfl)
theorem dX2_beginOne_120 : decode cX2_beginOne 120 = .ok (.iconst 2, 1) := dk_5 (dk_at dksX2_beginOne_5 4 rfl rfl)
theorem dX2_beginOne_121 : decode cX2_beginOne 121 = .ok (.invokevirtual 176, 3) := dk_182 0 176 (dk_at dksX2_beginOne_5 5 rfl rfl)
theorem dX2_beginOne_124 : decode cX2_beginOne 124 = .ok (.ireturn, 1) := dk_172 (dk_at dksX2_beginOne_5 8 rfl rfl)
theorem dX2_beginOne_125 : decode cX2_beginOne 125 = .ok (.aload_n 0, 1) := dk_42 (dk_at dksX2_beginOne_5 9 rfl rfl)
theorem dX2_beginOne_126 : decode cX2_beginOne 126 = .ok (.getfield 102, 3) := dk_180 0 102 (dk_at dksX2_beginOne_5 10 rfl rfl)
theorem dX2_beginOne_129 : decode cX2_beginOne 129 = .ok (.iconst 2, 1) := dk_5 (dk_at dksX2_beginOne_5 13 rfl rfl)
theorem dX2_beginOne_130 : decode cX2_beginOne 130 = .ok (.if_icmp .ne 21, 3) := dk_160 0 21 (dk_at dksX2_beginOne_5 14 rfl rfl)
theorem dX2_beginOne_133 : decode cX2_beginOne 133 = .ok (.aload_n 0, 1) := dk_42 (dk_at dksX2_beginOne_5 17 rfl rfl)
theorem dX2_beginOne_134 : decode cX2_beginOne 134 = .ok (.getfield 115, 3) := dk_180 0 115 (dk_at dksX2_beginOne_5 18 rfl rfl)
theorem dX2_beginOne_137 : decode cX2_beginOne 137 = .ok (.ldc2_w 179, 3) := dk_20 0 179 (dk_at dksX2_beginOne_5 21 rfl rfl)
theorem dX2_beginOne_140 : decode cX2_beginOne 140 = .ok (.lcmp, 1) := dk_148 (dk_at dksX2_beginOne_6 0 rfl rfl)
theorem dX2_beginOne_141 : decode cX2_beginOne 141 = .ok (.ifCond .ne 10, 3) := dk_154 0 10 (dk_at dksX2_beginOne_6 1 rfl rfl)
theorem dX2_beginOne_144 : decode cX2_beginOne 144 = .ok (.aload_n 0, 1) := dk_42 (dk_at dksX2_beginOne_6 4 rfl rfl)
theorem dX2_beginOne_145 : decode cX2_beginOne 145 = .ok (.bipush 41, 2) := dk_16 41 (dk_at dksX2_beginOne_6 5 rfl rfl)
theorem dX2_beginOne_147 : decode cX2_beginOne 147 = .ok (.invokevirtual 176, 3) := dk_182 0 176 (dk_at dksX2_beginOne_6 7 rfl rfl)
theorem dX2_beginOne_150 : decode cX2_beginOne 150 = .ok (.ireturn, 1) := dk_172 (dk_at dksX2_beginOne_6 10 rfl rfl)
theorem dX2_beginOne_151 : decode cX2_beginOne 151 = .ok (.aload_n 0, 1) := dk_42 (dk_at dksX2_beginOne_6 11 rfl rfl)
theorem dX2_beginOne_152 : decode cX2_beginOne 152 = .ok (.bipush 110, 2) := dk_16 110 (dk_at dksX2_beginOne_6 12 rfl rfl)
theorem dX2_beginOne_154 : decode cX2_beginOne 154 = .ok (.bipush 111, 2) := dk_16 111 (dk_at dksX2_beginOne_6 14 rfl rfl)
theorem dX2_beginOne_156 : decode cX2_beginOne 156 = .ok (.bipush 116, 2) := dk_16 116 (dk_at dksX2_beginOne_6 16 rfl rfl)
theorem dX2_beginOne_158 : decode cX2_beginOne 158 = .ok (.invokestatic 119, 3) := dk_184 0 119 (dk_at dksX2_beginOne_6 18 rfl rfl)
theorem dX2_beginOne_161 : decode cX2_beginOne 161 = .ok (.invokevirtual 181, 3) := dk_182 0 181 (dk_at dksX2_beginOne_6 21 rfl rfl)
theorem dX2_beginOne_164 : decode cX2_beginOne 164 = .ok (.ifCond .eq 20, 3) := dk_153 0 20 (dk_at dksX2_beginOne_7 0 rfl rfl)
theorem dX2_beginOne_167 : decode cX2_beginOne 167 = .ok (.aload_n 0, 1) := dk_42 (dk_at dksX2_beginOne_7 3 rfl rfl)
theorem dX2_beginOne_168 : decode cX2_beginOne 168 = .ok (.iload_n 1, 1) := dk_27 (dk_at dksX2_beginOne_7 4 rfl rfl)
theorem dX2_beginOne_169 : decode cX2_beginOne 169 = .ok (.invokevirtual 185, 3) := dk_182 0 185 (dk_at dksX2_beginOne_7 5 rfl rfl)
theorem dX2_beginOne_172 : decode cX2_beginOne 172 = .ok (.ifCond .eq 12, 3) := dk_153 0 12 (dk_at dksX2_beginOne_7 8 rfl rfl)
theorem dX2_beginOne_175 : decode cX2_beginOne 175 = .ok (.aload_n 0, 1) := dk_42 (dk_at dksX2_beginOne_7 11 rfl rfl)
theorem dX2_beginOne_176 : decode cX2_beginOne 176 = .ok (.bipush 20, 2) := dk_16 20 (dk_at dksX2_beginOne_7 12 rfl rfl)
theorem dX2_beginOne_178 : decode cX2_beginOne 178 = .ok (.invokevirtual 176, 3) := dk_182 0 176 (dk_at dksX2_beginOne_7 14 rfl rfl)
theorem dX2_beginOne_181 : decode cX2_beginOne 181 = .ok (.goto 4, 3) := dk_167 0 4 (dk_at dksX2_beginOne_7 17 rfl rfl)
theorem dX2_beginOne_184 : decode cX2_beginOne 184 = .ok (.iconst 1, 1) := dk_4 (dk_at dksX2_beginOne_7 20 rfl rfl)
theorem dX2_beginOne_185 : decode cX2_beginOne 185 = .ok (.ireturn, 1) := dk_172 (dk_at dksX2_beginOne_7 21 rfl rfl)
abbrev cX2_nameOf : ByteArray := prog_18_method_47_code
def yX2_nameOf : MethodName := ⟨RX2, "nameOf", "()I"⟩
def dkwX2_nameOf_11 : List UInt8 := [154, 0, 8, 16, 10, 167, 0, 4, 2, 172]
abbrev dktX2_nameOf_11 : List UInt8 := dkwX2_nameOf_11 ++ []
def dkwX2_nameOf_10 : List UInt8 := [153, 0, 8, 16, 9, 167, 0, 28, 42, 180, 0, 115, 16, 109, 16, 97, 16, 110, 16, 121, 184, 0, 207, 148]
abbrev dktX2_nameOf_10 : List UInt8 := dkwX2_nameOf_10 ++ dktX2_nameOf_11
def dkwX2_nameOf_9 : List UInt8 := [16, 97, 16, 116, 16, 104, 16, 115, 184, 0, 207, 129, 148, 154, 0, 6, 16, 8, 172, 42, 182, 0, 215]
abbrev dktX2_nameOf_9 : List UInt8 := dkwX2_nameOf_9 ++ dktX2_nameOf_10
def dkwX2_nameOf_8 : List UInt8 := [148, 154, 0, 6, 16, 7, 172, 42, 180, 0, 115, 16, 98, 16, 114, 16, 101, 184, 0, 119, 16, 32, 121]
abbrev dktX2_nameOf_8 : List UInt8 := dkwX2_nameOf_8 ++ dktX2_nameOf_9
def dkwX2_nameOf_7 : List UInt8 := [148, 154, 0, 6, 16, 6, 172, 42, 180, 0, 115, 16, 119, 16, 111, 16, 114, 16, 116, 16, 104, 184, 0, 123]
abbrev dktX2_nameOf_7 : List UInt8 := dkwX2_nameOf_7 ++ dktX2_nameOf_8
def dkwX2_nameOf_6 : List UInt8 := [184, 0, 207, 148, 154, 0, 5, 8, 172, 42, 180, 0, 115, 16, 119, 16, 97, 16, 110, 16, 116, 184, 0, 207]
abbrev dktX2_nameOf_6 : List UInt8 := dkwX2_nameOf_6 ++ dktX2_nameOf_7
def dkwX2_nameOf_5 : List UInt8 := [16, 115, 184, 0, 123, 148, 154, 0, 5, 7, 172, 42, 180, 0, 115, 16, 107, 16, 105, 16, 110, 16, 100]
abbrev dktX2_nameOf_5 : List UInt8 := dkwX2_nameOf_5 ++ dktX2_nameOf_6
def dkwX2_nameOf_4 : List UInt8 := [16, 101, 184, 0, 123, 148, 154, 0, 5, 6, 172, 42, 180, 0, 115, 16, 98, 16, 101, 16, 97, 16, 100]
abbrev dktX2_nameOf_4 : List UInt8 := dkwX2_nameOf_4 ++ dktX2_nameOf_5
def dkwX2_nameOf_3 : List UInt8 := [16, 115, 184, 0, 123, 148, 154, 0, 5, 5, 172, 42, 180, 0, 115, 16, 118, 16, 111, 16, 105, 16, 99]
abbrev dktX2_nameOf_3 : List UInt8 := dkwX2_nameOf_3 ++ dktX2_nameOf_4
def dkwX2_nameOf_2 : List UInt8 := [16, 114, 184, 0, 211, 148, 154, 0, 5, 4, 172, 42, 180, 0, 115, 16, 108, 16, 117, 16, 110, 16, 103]
abbrev dktX2_nameOf_2 : List UInt8 := dkwX2_nameOf_2 ++ dktX2_nameOf_3
def dkwX2_nameOf_1 : List UInt8 := [184, 0, 207, 148, 154, 0, 5, 3, 172, 42, 180, 0, 115, 16, 98, 16, 108, 16, 111, 16, 119, 16, 101]
abbrev dktX2_nameOf_1 : List UInt8 := dkwX2_nameOf_1 ++ dktX2_nameOf_2
def dkwX2_nameOf_0 : List UInt8 := [42, 180, 0, 102, 5, 159, 0, 5, 2, 172, 42, 180, 0, 115, 16, 104, 16, 111, 16, 117, 16, 114]
abbrev dktX2_nameOf_0 : List UInt8 := dkwX2_nameOf_0 ++ dktX2_nameOf_1
theorem dksX2_nameOf_0 : cX2_nameOf.data.toList.drop 0 = dktX2_nameOf_0 := by decide +kernel
theorem dksX2_nameOf_1 : cX2_nameOf.data.toList.drop 22 = dktX2_nameOf_1 := dk_seg dksX2_nameOf_0 22 rfl rfl
theorem dksX2_nameOf_2 : cX2_nameOf.data.toList.drop 45 = dktX2_nameOf_2 := dk_seg dksX2_nameOf_1 23 rfl rfl
theorem dksX2_nameOf_3 : cX2_nameOf.data.toList.drop 68 = dktX2_nameOf_3 := dk_seg dksX2_nameOf_2 23 rfl rfl
theorem dksX2_nameOf_4 : cX2_nameOf.data.toList.drop 91 = dktX2_nameOf_4 := dk_seg dksX2_nameOf_3 23 rfl rfl
theorem dksX2_nameOf_5 : cX2_nameOf.data.toList.drop 114 = dktX2_nameOf_5 := dk_seg dksX2_nameOf_4 23 rfl rfl
theorem dksX2_nameOf_6 : cX2_nameOf.data.toList.drop 137 = dktX2_nameOf_6 := dk_seg dksX2_nameOf_5 23 rfl rfl
theorem dksX2_nameOf_7 : cX2_nameOf.data.toList.drop 161 = dktX2_nameOf_7 := dk_seg dksX2_nameOf_6 24 rfl rfl
theorem dksX2_nameOf_8 : cX2_nameOf.data.toList.drop 185 = dktX2_nameOf_8 := dk_seg dksX2_nameOf_7 24 rfl rfl
theorem dksX2_nameOf_9 : cX2_nameOf.data.toList.drop 208 = dktX2_nameOf_9 := dk_seg dksX2_nameOf_8 23 rfl rfl
theorem dksX2_nameOf_10 : cX2_nameOf.data.toList.drop 231 = dktX2_nameOf_10 := dk_seg dksX2_nameOf_9 23 rfl rfl
theorem dksX2_nameOf_11 : cX2_nameOf.data.toList.drop 255 = dktX2_nameOf_11 := dk_seg dksX2_nameOf_10 24 rfl rfl
theorem dX2_nameOf_0 : decode cX2_nameOf 0 = .ok (.aload_n 0, 1) := dk_42 (dk_at dksX2_nameOf_0 0 rfl rfl)
theorem dX2_nameOf_1 : decode cX2_nameOf 1 = .ok (.getfield 102, 3) := dk_180 0 102 (dk_at dksX2_nameOf_0 1 rfl rfl)
theorem dX2_nameOf_4 : decode cX2_nameOf 4 = .ok (.iconst 2, 1) := dk_5 (dk_at dksX2_nameOf_0 4 rfl rfl)
theorem dX2_nameOf_5 : decode cX2_nameOf 5 = .ok (.if_icmp .eq 5, 3) := dk_159 0 5 (dk_at dksX2_nameOf_0 5 rfl rfl)
theorem dX2_nameOf_8 : decode cX2_nameOf 8 = .ok (.iconst (-1), 1) := dk_2 (dk_at dksX2_nameOf_0 8 rfl rfl)
theorem dX2_nameOf_9 : decode cX2_nameOf 9 = .ok (.ireturn, 1) := dk_172 (dk_at dksX2_nameOf_0 9 rfl rfl)
theorem dX2_nameOf_10 : decode cX2_nameOf 10 = .ok (.aload_n 0, 1) := dk_42 (dk_at dksX2_nameOf_0 10 rfl rfl)
theorem dX2_nameOf_11 : decode cX2_nameOf 11 = .ok (.getfield 115, 3) := dk_180 0 115 (dk_at dksX2_nameOf_0 11 rfl rfl)
theorem dX2_nameOf_14 : decode cX2_nameOf 14 = .ok (.bipush 104, 2) := dk_16 104 (dk_at dksX2_nameOf_0 14 rfl rfl)
theorem dX2_nameOf_16 : decode cX2_nameOf 16 = .ok (.bipush 111, 2) := dk_16 111 (dk_at dksX2_nameOf_0 16 rfl rfl)
theorem dX2_nameOf_18 : decode cX2_nameOf 18 = .ok (.bipush 117, 2) := dk_16 117 (dk_at dksX2_nameOf_0 18 rfl rfl)
theorem dX2_nameOf_20 : decode cX2_nameOf 20 = .ok (.bipush 114, 2) := dk_16 114 (dk_at dksX2_nameOf_0 20 rfl rfl)
theorem dX2_nameOf_22 : decode cX2_nameOf 22 = .ok (.invokestatic 207, 3) := dk_184 0 207 (dk_at dksX2_nameOf_1 0 rfl rfl)
theorem dX2_nameOf_25 : decode cX2_nameOf 25 = .ok (.lcmp, 1) := dk_148 (dk_at dksX2_nameOf_1 3 rfl rfl)
theorem dX2_nameOf_26 : decode cX2_nameOf 26 = .ok (.ifCond .ne 5, 3) := dk_154 0 5 (dk_at dksX2_nameOf_1 4 rfl rfl)
theorem dX2_nameOf_29 : decode cX2_nameOf 29 = .ok (.iconst 0, 1) := dk_3 (dk_at dksX2_nameOf_1 7 rfl rfl)
theorem dX2_nameOf_30 : decode cX2_nameOf 30 = .ok (.ireturn, 1) := dk_172 (dk_at dksX2_nameOf_1 8 rfl rfl)
theorem dX2_nameOf_31 : decode cX2_nameOf 31 = .ok (.aload_n 0, 1) := dk_42 (dk_at dksX2_nameOf_1 9 rfl rfl)
theorem dX2_nameOf_32 : decode cX2_nameOf 32 = .ok (.getfield 115, 3) := dk_180 0 115 (dk_at dksX2_nameOf_1 10 rfl rfl)
theorem dX2_nameOf_35 : decode cX2_nameOf 35 = .ok (.bipush 98, 2) := dk_16 98 (dk_at dksX2_nameOf_1 13 rfl rfl)
theorem dX2_nameOf_37 : decode cX2_nameOf 37 = .ok (.bipush 108, 2) := dk_16 108 (dk_at dksX2_nameOf_1 15 rfl rfl)
theorem dX2_nameOf_39 : decode cX2_nameOf 39 = .ok (.bipush 111, 2) := dk_16 111 (dk_at dksX2_nameOf_1 17 rfl rfl)
theorem dX2_nameOf_41 : decode cX2_nameOf 41 = .ok (.bipush 119, 2) := dk_16 119 (dk_at dksX2_nameOf_1 19 rfl rfl)
theorem dX2_nameOf_43 : decode cX2_nameOf 43 = .ok (.bipush 101, 2) := dk_16 101 (dk_at dksX2_nameOf_1 21 rfl rfl)
theorem dX2_nameOf_45 : decode cX2_nameOf 45 = .ok (.bipush 114, 2) := dk_16 114 (dk_at dksX2_nameOf_2 0 rfl rfl)
theorem dX2_nameOf_47 : decode cX2_nameOf 47 = .ok (.invokestatic 211, 3) := dk_184 0 211 (dk_at dksX2_nameOf_2 2 rfl rfl)
theorem dX2_nameOf_50 : decode cX2_nameOf 50 = .ok (.lcmp, 1) := dk_148 (dk_at dksX2_nameOf_2 5 rfl rfl)
theorem dX2_nameOf_51 : decode cX2_nameOf 51 = .ok (.ifCond .ne 5, 3) := dk_154 0 5 (dk_at dksX2_nameOf_2 6 rfl rfl)
theorem dX2_nameOf_54 : decode cX2_nameOf 54 = .ok (.iconst 1, 1) := dk_4 (dk_at dksX2_nameOf_2 9 rfl rfl)
theorem dX2_nameOf_55 : decode cX2_nameOf 55 = .ok (.ireturn, 1) := dk_172 (dk_at dksX2_nameOf_2 10 rfl rfl)
theorem dX2_nameOf_56 : decode cX2_nameOf 56 = .ok (.aload_n 0, 1) := dk_42 (dk_at dksX2_nameOf_2 11 rfl rfl)
theorem dX2_nameOf_57 : decode cX2_nameOf 57 = .ok (.getfield 115, 3) := dk_180 0 115 (dk_at dksX2_nameOf_2 12 rfl rfl)
theorem dX2_nameOf_60 : decode cX2_nameOf 60 = .ok (.bipush 108, 2) := dk_16 108 (dk_at dksX2_nameOf_2 15 rfl rfl)
theorem dX2_nameOf_62 : decode cX2_nameOf 62 = .ok (.bipush 117, 2) := dk_16 117 (dk_at dksX2_nameOf_2 17 rfl rfl)
theorem dX2_nameOf_64 : decode cX2_nameOf 64 = .ok (.bipush 110, 2) := dk_16 110 (dk_at dksX2_nameOf_2 19 rfl rfl)
theorem dX2_nameOf_66 : decode cX2_nameOf 66 = .ok (.bipush 103, 2) := dk_16 103 (dk_at dksX2_nameOf_2 21 rfl rfl)
theorem dX2_nameOf_68 : decode cX2_nameOf 68 = .ok (.bipush 115, 2) := dk_16 115 (dk_at dksX2_nameOf_3 0 rfl rfl)
theorem dX2_nameOf_70 : decode cX2_nameOf 70 = .ok (.invokestatic 123, 3) := dk_184 0 123 (dk_at dksX2_nameOf_3 2 rfl rfl)
theorem dX2_nameOf_73 : decode cX2_nameOf 73 = .ok (.lcmp, 1) := dk_148 (dk_at dksX2_nameOf_3 5 rfl rfl)
theorem dX2_nameOf_74 : decode cX2_nameOf 74 = .ok (.ifCond .ne 5, 3) := dk_154 0 5 (dk_at dksX2_nameOf_3 6 rfl rfl)
theorem dX2_nameOf_77 : decode cX2_nameOf 77 = .ok (.iconst 2, 1) := dk_5 (dk_at dksX2_nameOf_3 9 rfl rfl)
theorem dX2_nameOf_78 : decode cX2_nameOf 78 = .ok (.ireturn, 1) := dk_172 (dk_at dksX2_nameOf_3 10 rfl rfl)
theorem dX2_nameOf_79 : decode cX2_nameOf 79 = .ok (.aload_n 0, 1) := dk_42 (dk_at dksX2_nameOf_3 11 rfl rfl)
theorem dX2_nameOf_80 : decode cX2_nameOf 80 = .ok (.getfield 115, 3) := dk_180 0 115 (dk_at dksX2_nameOf_3 12 rfl rfl)
theorem dX2_nameOf_83 : decode cX2_nameOf 83 = .ok (.bipush 118, 2) := dk_16 118 (dk_at dksX2_nameOf_3 15 rfl rfl)
theorem dX2_nameOf_85 : decode cX2_nameOf 85 = .ok (.bipush 111, 2) := dk_16 111 (dk_at dksX2_nameOf_3 17 rfl rfl)
theorem dX2_nameOf_87 : decode cX2_nameOf 87 = .ok (.bipush 105, 2) := dk_16 105 (dk_at dksX2_nameOf_3 19 rfl rfl)
theorem dX2_nameOf_89 : decode cX2_nameOf 89 = .ok (.bipush 99, 2) := dk_16 99 (dk_at dksX2_nameOf_3 21 rfl rfl)
theorem dX2_nameOf_91 : decode cX2_nameOf 91 = .ok (.bipush 101, 2) := dk_16 101 (dk_at dksX2_nameOf_4 0 rfl rfl)
theorem dX2_nameOf_93 : decode cX2_nameOf 93 = .ok (.invokestatic 123, 3) := dk_184 0 123 (dk_at dksX2_nameOf_4 2 rfl rfl)
theorem dX2_nameOf_96 : decode cX2_nameOf 96 = .ok (.lcmp, 1) := dk_148 (dk_at dksX2_nameOf_4 5 rfl rfl)
theorem dX2_nameOf_97 : decode cX2_nameOf 97 = .ok (.ifCond .ne 5, 3) := dk_154 0 5 (dk_at dksX2_nameOf_4 6 rfl rfl)
theorem dX2_nameOf_100 : decode cX2_nameOf 100 = .ok (.iconst 3, 1) := dk_6 (dk_at dksX2_nameOf_4 9 rfl rfl)
theorem dX2_nameOf_101 : decode cX2_nameOf 101 = .ok (.ireturn, 1) := dk_172 (dk_at dksX2_nameOf_4 10 rfl rfl)
theorem dX2_nameOf_102 : decode cX2_nameOf 102 = .ok (.aload_n 0, 1) := dk_42 (dk_at dksX2_nameOf_4 11 rfl rfl)
theorem dX2_nameOf_103 : decode cX2_nameOf 103 = .ok (.getfield 115, 3) := dk_180 0 115 (dk_at dksX2_nameOf_4 12 rfl rfl)
theorem dX2_nameOf_106 : decode cX2_nameOf 106 = .ok (.bipush 98, 2) := dk_16 98 (dk_at dksX2_nameOf_4 15 rfl rfl)
theorem dX2_nameOf_108 : decode cX2_nameOf 108 = .ok (.bipush 101, 2) := dk_16 101 (dk_at dksX2_nameOf_4 17 rfl rfl)
theorem dX2_nameOf_110 : decode cX2_nameOf 110 = .ok (.bipush 97, 2) := dk_16 97 (dk_at dksX2_nameOf_4 19 rfl rfl)
theorem dX2_nameOf_112 : decode cX2_nameOf 112 = .ok (.bipush 100, 2) := dk_16 100 (dk_at dksX2_nameOf_4 21 rfl rfl)
theorem dX2_nameOf_114 : decode cX2_nameOf 114 = .ok (.bipush 115, 2) := dk_16 115 (dk_at dksX2_nameOf_5 0 rfl rfl)
theorem dX2_nameOf_116 : decode cX2_nameOf 116 = .ok (.invokestatic 123, 3) := dk_184 0 123 (dk_at dksX2_nameOf_5 2 rfl rfl)
theorem dX2_nameOf_119 : decode cX2_nameOf 119 = .ok (.lcmp, 1) := dk_148 (dk_at dksX2_nameOf_5 5 rfl rfl)
theorem dX2_nameOf_120 : decode cX2_nameOf 120 = .ok (.ifCond .ne 5, 3) := dk_154 0 5 (dk_at dksX2_nameOf_5 6 rfl rfl)
theorem dX2_nameOf_123 : decode cX2_nameOf 123 = .ok (.iconst 4, 1) := dk_7 (dk_at dksX2_nameOf_5 9 rfl rfl)
theorem dX2_nameOf_124 : decode cX2_nameOf 124 = .ok (.ireturn, 1) := dk_172 (dk_at dksX2_nameOf_5 10 rfl rfl)
theorem dX2_nameOf_125 : decode cX2_nameOf 125 = .ok (.aload_n 0, 1) := dk_42 (dk_at dksX2_nameOf_5 11 rfl rfl)
theorem dX2_nameOf_126 : decode cX2_nameOf 126 = .ok (.getfield 115, 3) := dk_180 0 115 (dk_at dksX2_nameOf_5 12 rfl rfl)
theorem dX2_nameOf_129 : decode cX2_nameOf 129 = .ok (.bipush 107, 2) := dk_16 107 (dk_at dksX2_nameOf_5 15 rfl rfl)
theorem dX2_nameOf_131 : decode cX2_nameOf 131 = .ok (.bipush 105, 2) := dk_16 105 (dk_at dksX2_nameOf_5 17 rfl rfl)
theorem dX2_nameOf_133 : decode cX2_nameOf 133 = .ok (.bipush 110, 2) := dk_16 110 (dk_at dksX2_nameOf_5 19 rfl rfl)
theorem dX2_nameOf_135 : decode cX2_nameOf 135 = .ok (.bipush 100, 2) := dk_16 100 (dk_at dksX2_nameOf_5 21 rfl rfl)
theorem dX2_nameOf_137 : decode cX2_nameOf 137 = .ok (.invokestatic 207, 3) := dk_184 0 207 (dk_at dksX2_nameOf_6 0 rfl rfl)
theorem dX2_nameOf_140 : decode cX2_nameOf 140 = .ok (.lcmp, 1) := dk_148 (dk_at dksX2_nameOf_6 3 rfl rfl)
theorem dX2_nameOf_141 : decode cX2_nameOf 141 = .ok (.ifCond .ne 5, 3) := dk_154 0 5 (dk_at dksX2_nameOf_6 4 rfl rfl)
theorem dX2_nameOf_144 : decode cX2_nameOf 144 = .ok (.iconst 5, 1) := dk_8 (dk_at dksX2_nameOf_6 7 rfl rfl)
theorem dX2_nameOf_145 : decode cX2_nameOf 145 = .ok (.ireturn, 1) := dk_172 (dk_at dksX2_nameOf_6 8 rfl rfl)
theorem dX2_nameOf_146 : decode cX2_nameOf 146 = .ok (.aload_n 0, 1) := dk_42 (dk_at dksX2_nameOf_6 9 rfl rfl)
theorem dX2_nameOf_147 : decode cX2_nameOf 147 = .ok (.getfield 115, 3) := dk_180 0 115 (dk_at dksX2_nameOf_6 10 rfl rfl)
theorem dX2_nameOf_150 : decode cX2_nameOf 150 = .ok (.bipush 119, 2) := dk_16 119 (dk_at dksX2_nameOf_6 13 rfl rfl)
theorem dX2_nameOf_152 : decode cX2_nameOf 152 = .ok (.bipush 97, 2) := dk_16 97 (dk_at dksX2_nameOf_6 15 rfl rfl)
theorem dX2_nameOf_154 : decode cX2_nameOf 154 = .ok (.bipush 110, 2) := dk_16 110 (dk_at dksX2_nameOf_6 17 rfl rfl)
theorem dX2_nameOf_156 : decode cX2_nameOf 156 = .ok (.bipush 116, 2) := dk_16 116 (dk_at dksX2_nameOf_6 19 rfl rfl)
theorem dX2_nameOf_158 : decode cX2_nameOf 158 = .ok (.invokestatic 207, 3) := dk_184 0 207 (dk_at dksX2_nameOf_6 21 rfl rfl)
theorem dX2_nameOf_161 : decode cX2_nameOf 161 = .ok (.lcmp, 1) := dk_148 (dk_at dksX2_nameOf_7 0 rfl rfl)
theorem dX2_nameOf_162 : decode cX2_nameOf 162 = .ok (.ifCond .ne 6, 3) := dk_154 0 6 (dk_at dksX2_nameOf_7 1 rfl rfl)
theorem dX2_nameOf_165 : decode cX2_nameOf 165 = .ok (.bipush 6, 2) := dk_16 6 (dk_at dksX2_nameOf_7 4 rfl rfl)
theorem dX2_nameOf_167 : decode cX2_nameOf 167 = .ok (.ireturn, 1) := dk_172 (dk_at dksX2_nameOf_7 6 rfl rfl)
theorem dX2_nameOf_168 : decode cX2_nameOf 168 = .ok (.aload_n 0, 1) := dk_42 (dk_at dksX2_nameOf_7 7 rfl rfl)
theorem dX2_nameOf_169 : decode cX2_nameOf 169 = .ok (.getfield 115, 3) := dk_180 0 115 (dk_at dksX2_nameOf_7 8 rfl rfl)
theorem dX2_nameOf_172 : decode cX2_nameOf 172 = .ok (.bipush 119, 2) := dk_16 119 (dk_at dksX2_nameOf_7 11 rfl rfl)
theorem dX2_nameOf_174 : decode cX2_nameOf 174 = .ok (.bipush 111, 2) := dk_16 111 (dk_at dksX2_nameOf_7 13 rfl rfl)
theorem dX2_nameOf_176 : decode cX2_nameOf 176 = .ok (.bipush 114, 2) := dk_16 114 (dk_at dksX2_nameOf_7 15 rfl rfl)
theorem dX2_nameOf_178 : decode cX2_nameOf 178 = .ok (.bipush 116, 2) := dk_16 116 (dk_at dksX2_nameOf_7 17 rfl rfl)
theorem dX2_nameOf_180 : decode cX2_nameOf 180 = .ok (.bipush 104, 2) := dk_16 104 (dk_at dksX2_nameOf_7 19 rfl rfl)
theorem dX2_nameOf_182 : decode cX2_nameOf 182 = .ok (.invokestatic 123, 3) := dk_184 0 123 (dk_at dksX2_nameOf_7 21 rfl rfl)
theorem dX2_nameOf_185 : decode cX2_nameOf 185 = .ok (.lcmp, 1) := dk_148 (dk_at dksX2_nameOf_8 0 rfl rfl)
theorem dX2_nameOf_186 : decode cX2_nameOf 186 = .ok (.ifCond .ne 6, 3) := dk_154 0 6 (dk_at dksX2_nameOf_8 1 rfl rfl)
theorem dX2_nameOf_189 : decode cX2_nameOf 189 = .ok (.bipush 7, 2) := dk_16 7 (dk_at dksX2_nameOf_8 4 rfl rfl)
theorem dX2_nameOf_191 : decode cX2_nameOf 191 = .ok (.ireturn, 1) := dk_172 (dk_at dksX2_nameOf_8 6 rfl rfl)
theorem dX2_nameOf_192 : decode cX2_nameOf 192 = .ok (.aload_n 0, 1) := dk_42 (dk_at dksX2_nameOf_8 7 rfl rfl)
theorem dX2_nameOf_193 : decode cX2_nameOf 193 = .ok (.getfield 115, 3) := dk_180 0 115 (dk_at dksX2_nameOf_8 8 rfl rfl)
theorem dX2_nameOf_196 : decode cX2_nameOf 196 = .ok (.bipush 98, 2) := dk_16 98 (dk_at dksX2_nameOf_8 11 rfl rfl)
theorem dX2_nameOf_198 : decode cX2_nameOf 198 = .ok (.bipush 114, 2) := dk_16 114 (dk_at dksX2_nameOf_8 13 rfl rfl)
theorem dX2_nameOf_200 : decode cX2_nameOf 200 = .ok (.bipush 101, 2) := dk_16 101 (dk_at dksX2_nameOf_8 15 rfl rfl)
theorem dX2_nameOf_202 : decode cX2_nameOf 202 = .ok (.invokestatic 119, 3) := dk_184 0 119 (dk_at dksX2_nameOf_8 17 rfl rfl)
theorem dX2_nameOf_205 : decode cX2_nameOf 205 = .ok (.bipush 32, 2) := dk_16 32 (dk_at dksX2_nameOf_8 20 rfl rfl)
theorem dX2_nameOf_207 : decode cX2_nameOf 207 = .ok (.lshl, 1) := dk_121 (dk_at dksX2_nameOf_8 22 rfl rfl)
theorem dX2_nameOf_208 : decode cX2_nameOf 208 = .ok (.bipush 97, 2) := dk_16 97 (dk_at dksX2_nameOf_9 0 rfl rfl)
theorem dX2_nameOf_210 : decode cX2_nameOf 210 = .ok (.bipush 116, 2) := dk_16 116 (dk_at dksX2_nameOf_9 2 rfl rfl)
theorem dX2_nameOf_212 : decode cX2_nameOf 212 = .ok (.bipush 104, 2) := dk_16 104 (dk_at dksX2_nameOf_9 4 rfl rfl)
theorem dX2_nameOf_214 : decode cX2_nameOf 214 = .ok (.bipush 115, 2) := dk_16 115 (dk_at dksX2_nameOf_9 6 rfl rfl)
theorem dX2_nameOf_216 : decode cX2_nameOf 216 = .ok (.invokestatic 207, 3) := dk_184 0 207 (dk_at dksX2_nameOf_9 8 rfl rfl)
theorem dX2_nameOf_219 : decode cX2_nameOf 219 = .ok (.lor, 1) := dk_129 (dk_at dksX2_nameOf_9 11 rfl rfl)
theorem dX2_nameOf_220 : decode cX2_nameOf 220 = .ok (.lcmp, 1) := dk_148 (dk_at dksX2_nameOf_9 12 rfl rfl)
theorem dX2_nameOf_221 : decode cX2_nameOf 221 = .ok (.ifCond .ne 6, 3) := dk_154 0 6 (dk_at dksX2_nameOf_9 13 rfl rfl)
theorem dX2_nameOf_224 : decode cX2_nameOf 224 = .ok (.bipush 8, 2) := dk_16 8 (dk_at dksX2_nameOf_9 16 rfl rfl)
theorem dX2_nameOf_226 : decode cX2_nameOf 226 = .ok (.ireturn, 1) := dk_172 (dk_at dksX2_nameOf_9 18 rfl rfl)
theorem dX2_nameOf_227 : decode cX2_nameOf 227 = .ok (.aload_n 0, 1) := dk_42 (dk_at dksX2_nameOf_9 19 rfl rfl)
theorem dX2_nameOf_228 : decode cX2_nameOf 228 = .ok (.invokevirtual 215, 3) := dk_182 0 215 (dk_at dksX2_nameOf_9 20 rfl rfl)
theorem dX2_nameOf_231 : decode cX2_nameOf 231 = .ok (.ifCond .eq 8, 3) := dk_153 0 8 (dk_at dksX2_nameOf_10 0 rfl rfl)
theorem dX2_nameOf_234 : decode cX2_nameOf 234 = .ok (.bipush 9, 2) := dk_16 9 (dk_at dksX2_nameOf_10 3 rfl rfl)
theorem dX2_nameOf_236 : decode cX2_nameOf 236 = .ok (.goto 28, 3) := dk_167 0 28 (dk_at dksX2_nameOf_10 5 rfl rfl)
theorem dX2_nameOf_239 : decode cX2_nameOf 239 = .ok (.aload_n 0, 1) := dk_42 (dk_at dksX2_nameOf_10 8 rfl rfl)
theorem dX2_nameOf_240 : decode cX2_nameOf 240 = .ok (.getfield 115, 3) := dk_180 0 115 (dk_at dksX2_nameOf_10 9 rfl rfl)
theorem dX2_nameOf_243 : decode cX2_nameOf 243 = .ok (.bipush 109, 2) := dk_16 109 (dk_at dksX2_nameOf_10 12 rfl rfl)
theorem dX2_nameOf_245 : decode cX2_nameOf 245 = .ok (.bipush 97, 2) := dk_16 97 (dk_at dksX2_nameOf_10 14 rfl rfl)
theorem dX2_nameOf_247 : decode cX2_nameOf 247 = .ok (.bipush 110, 2) := dk_16 110 (dk_at dksX2_nameOf_10 16 rfl rfl)
theorem dX2_nameOf_249 : decode cX2_nameOf 249 = .ok (.bipush 121, 2) := dk_16 121 (dk_at dksX2_nameOf_10 18 rfl rfl)
theorem dX2_nameOf_251 : decode cX2_nameOf 251 = .ok (.invokestatic 207, 3) := dk_184 0 207 (dk_at dksX2_nameOf_10 20 rfl rfl)
theorem dX2_nameOf_254 : decode cX2_nameOf 254 = .ok (.lcmp, 1) := dk_148 (dk_at dksX2_nameOf_10 23 rfl rfl)
theorem dX2_nameOf_255 : decode cX2_nameOf 255 = .ok (.ifCond .ne 8, 3) := dk_154 0 8 (dk_at dksX2_nameOf_11 0 rfl rfl)
theorem dX2_nameOf_258 : decode cX2_nameOf 258 = .ok (.bipush 10, 2) := dk_16 10 (dk_at dksX2_nameOf_11 3 rfl rfl)
theorem dX2_nameOf_260 : decode cX2_nameOf 260 = .ok (.goto 4, 3) := dk_167 0 4 (dk_at dksX2_nameOf_11 5 rfl rfl)
theorem dX2_nameOf_263 : decode cX2_nameOf 263 = .ok (.iconst (-1), 1) := dk_2 (dk_at dksX2_nameOf_11 8 rfl rfl)
theorem dX2_nameOf_264 : decode cX2_nameOf 264 = .ok (.ireturn, 1) := dk_172 (dk_at dksX2_nameOf_11 9 rfl rfl)
abbrev cX2_w6 : ByteArray := prog_18_method_29_code
def yX2_w6 : MethodName := ⟨RX2, "w6", "(IIIIII)J"⟩
def dkwX2_w6_0 : List UInt8 := [26, 27, 28, 29, 21, 4, 184, 0, 123, 16, 8, 121, 21, 5, 133, 129, 173]
abbrev dktX2_w6_0 : List UInt8 := dkwX2_w6_0 ++ []
theorem dksX2_w6_0 : cX2_w6.data.toList.drop 0 = dktX2_w6_0 := by decide +kernel
theorem dX2_w6_0 : decode cX2_w6 0 = .ok (.iload_n 0, 1) := dk_26 (dk_at dksX2_w6_0 0 rfl rfl)
theorem dX2_w6_1 : decode cX2_w6 1 = .ok (.iload_n 1, 1) := dk_27 (dk_at dksX2_w6_0 1 rfl rfl)
theorem dX2_w6_2 : decode cX2_w6 2 = .ok (.iload_n 2, 1) := dk_28 (dk_at dksX2_w6_0 2 rfl rfl)
theorem dX2_w6_3 : decode cX2_w6 3 = .ok (.iload_n 3, 1) := dk_29 (dk_at dksX2_w6_0 3 rfl rfl)
theorem dX2_w6_4 : decode cX2_w6 4 = .ok (.iload 4, 2) := dk_21 4 (dk_at dksX2_w6_0 4 rfl rfl)
theorem dX2_w6_6 : decode cX2_w6 6 = .ok (.invokestatic 123, 3) := dk_184 0 123 (dk_at dksX2_w6_0 6 rfl rfl)
theorem dX2_w6_9 : decode cX2_w6 9 = .ok (.bipush 8, 2) := dk_16 8 (dk_at dksX2_w6_0 9 rfl rfl)
theorem dX2_w6_11 : decode cX2_w6 11 = .ok (.lshl, 1) := dk_121 (dk_at dksX2_w6_0 11 rfl rfl)
theorem dX2_w6_12 : decode cX2_w6 12 = .ok (.iload 5, 2) := dk_21 5 (dk_at dksX2_w6_0 12 rfl rfl)
theorem dX2_w6_14 : decode cX2_w6 14 = .ok (.i2l, 1) := dk_133 (dk_at dksX2_w6_0 14 rfl rfl)
theorem dX2_w6_15 : decode cX2_w6 15 = .ok (.lor, 1) := dk_129 (dk_at dksX2_w6_0 15 rfl rfl)
theorem dX2_w6_16 : decode cX2_w6 16 = .ok (.lreturn, 1) := dk_173 (dk_at dksX2_w6_0 16 rfl rfl)
abbrev cX2_isQuarrels : ByteArray := prog_18_method_46_code
def yX2_isQuarrels : MethodName := ⟨RX2, "isQuarrels", "()Z"⟩
def dkwX2_isQuarrels_5 : List UInt8 := [42, 42, 180, 0, 99, 16, 7, 96, 182, 0, 96, 16, 115, 160, 0, 7, 4, 167, 0, 4, 3, 172]
abbrev dktX2_isQuarrels_5 : List UInt8 := dkwX2_isQuarrels_5 ++ []
def dkwX2_isQuarrels_4 : List UInt8 := [182, 0, 96, 16, 101, 160, 0, 39, 42, 42, 180, 0, 99, 16, 6, 96, 182, 0, 96, 16, 108, 160, 0, 23]
abbrev dktX2_isQuarrels_4 : List UInt8 := dkwX2_isQuarrels_4 ++ dktX2_isQuarrels_5
def dkwX2_isQuarrels_3 : List UInt8 := [3, 172, 42, 42, 180, 0, 99, 7, 96, 182, 0, 96, 16, 114, 160, 0, 54, 42, 42, 180, 0, 99, 8, 96]
abbrev dktX2_isQuarrels_3 : List UInt8 := dkwX2_isQuarrels_3 ++ dktX2_isQuarrels_4
def dkwX2_isQuarrels_2 : List UInt8 := [96, 182, 0, 96, 16, 97, 160, 0, 18, 42, 42, 180, 0, 99, 6, 96, 182, 0, 96, 16, 114, 159, 0, 5]
abbrev dktX2_isQuarrels_2 : List UInt8 := dkwX2_isQuarrels_2 ++ dktX2_isQuarrels_3
def dkwX2_isQuarrels_1 : List UInt8 := [160, 0, 48, 42, 42, 180, 0, 99, 4, 96, 182, 0, 96, 16, 117, 160, 0, 33, 42, 42, 180, 0, 99, 5]
abbrev dktX2_isQuarrels_1 : List UInt8 := dkwX2_isQuarrels_1 ++ dktX2_isQuarrels_2
def dkwX2_isQuarrels_0 : List UInt8 := [42, 180, 0, 93, 42, 180, 0, 99, 100, 16, 8, 160, 0, 61, 42, 42, 180, 0, 99, 182, 0, 96, 16, 113]
abbrev dktX2_isQuarrels_0 : List UInt8 := dkwX2_isQuarrels_0 ++ dktX2_isQuarrels_1
theorem dksX2_isQuarrels_0 : cX2_isQuarrels.data.toList.drop 0 = dktX2_isQuarrels_0 := by decide +kernel
theorem dksX2_isQuarrels_1 : cX2_isQuarrels.data.toList.drop 24 = dktX2_isQuarrels_1 := dk_seg dksX2_isQuarrels_0 24 rfl rfl
theorem dksX2_isQuarrels_2 : cX2_isQuarrels.data.toList.drop 48 = dktX2_isQuarrels_2 := dk_seg dksX2_isQuarrels_1 24 rfl rfl
theorem dksX2_isQuarrels_3 : cX2_isQuarrels.data.toList.drop 72 = dktX2_isQuarrels_3 := dk_seg dksX2_isQuarrels_2 24 rfl rfl
theorem dksX2_isQuarrels_4 : cX2_isQuarrels.data.toList.drop 96 = dktX2_isQuarrels_4 := dk_seg dksX2_isQuarrels_3 24 rfl rfl
theorem dksX2_isQuarrels_5 : cX2_isQuarrels.data.toList.drop 120 = dktX2_isQuarrels_5 := dk_seg dksX2_isQuarrels_4 24 rfl rfl
theorem dX2_isQuarrels_0 : decode cX2_isQuarrels 0 = .ok (.aload_n 0, 1) := dk_42 (dk_at dksX2_isQuarrels_0 0 rfl rfl)
theorem dX2_isQuarrels_1 : decode cX2_isQuarrels 1 = .ok (.getfield 93, 3) := dk_180 0 93 (dk_at dksX2_isQuarrels_0 1 rfl rfl)
theorem dX2_isQuarrels_4 : decode cX2_isQuarrels 4 = .ok (.aload_n 0, 1) := dk_42 (dk_at dksX2_isQuarrels_0 4 rfl rfl)
theorem dX2_isQuarrels_5 : decode cX2_isQuarrels 5 = .ok (.getfield 99, 3) := dk_180 0 99 (dk_at dksX2_isQuarrels_0 5 rfl rfl)
theorem dX2_isQuarrels_8 : decode cX2_isQuarrels 8 = .ok (.isub, 1) := dk_100 (dk_at dksX2_isQuarrels_0 8 rfl rfl)
theorem dX2_isQuarrels_9 : decode cX2_isQuarrels 9 = .ok (.bipush 8, 2) := dk_16 8 (dk_at dksX2_isQuarrels_0 9 rfl rfl)
theorem dX2_isQuarrels_11 : decode cX2_isQuarrels 11 = .ok (.if_icmp .ne 61, 3) := dk_160 0 61 (dk_at dksX2_isQuarrels_0 11 rfl rfl)
theorem dX2_isQuarrels_14 : decode cX2_isQuarrels 14 = .ok (.aload_n 0, 1) := dk_42 (dk_at dksX2_isQuarrels_0 14 rfl rfl)
theorem dX2_isQuarrels_15 : decode cX2_isQuarrels 15 = .ok (.aload_n 0, 1) := dk_42 (dk_at dksX2_isQuarrels_0 15 rfl rfl)
theorem dX2_isQuarrels_16 : decode cX2_isQuarrels 16 = .ok (.getfield 99, 3) := dk_180 0 99 (dk_at dksX2_isQuarrels_0 16 rfl rfl)
theorem dX2_isQuarrels_19 : decode cX2_isQuarrels 19 = .ok (.invokevirtual 96, 3) := dk_182 0 96 (dk_at dksX2_isQuarrels_0 19 rfl rfl)
theorem dX2_isQuarrels_22 : decode cX2_isQuarrels 22 = .ok (.bipush 113, 2) := dk_16 113 (dk_at dksX2_isQuarrels_0 22 rfl rfl)
theorem dX2_isQuarrels_24 : decode cX2_isQuarrels 24 = .ok (.if_icmp .ne 48, 3) := dk_160 0 48 (dk_at dksX2_isQuarrels_1 0 rfl rfl)
theorem dX2_isQuarrels_27 : decode cX2_isQuarrels 27 = .ok (.aload_n 0, 1) := dk_42 (dk_at dksX2_isQuarrels_1 3 rfl rfl)
theorem dX2_isQuarrels_28 : decode cX2_isQuarrels 28 = .ok (.aload_n 0, 1) := dk_42 (dk_at dksX2_isQuarrels_1 4 rfl rfl)
theorem dX2_isQuarrels_29 : decode cX2_isQuarrels 29 = .ok (.getfield 99, 3) := dk_180 0 99 (dk_at dksX2_isQuarrels_1 5 rfl rfl)
theorem dX2_isQuarrels_32 : decode cX2_isQuarrels 32 = .ok (.iconst 1, 1) := dk_4 (dk_at dksX2_isQuarrels_1 8 rfl rfl)
theorem dX2_isQuarrels_33 : decode cX2_isQuarrels 33 = .ok (.iadd, 1) := dk_96 (dk_at dksX2_isQuarrels_1 9 rfl rfl)
theorem dX2_isQuarrels_34 : decode cX2_isQuarrels 34 = .ok (.invokevirtual 96, 3) := dk_182 0 96 (dk_at dksX2_isQuarrels_1 10 rfl rfl)
theorem dX2_isQuarrels_37 : decode cX2_isQuarrels 37 = .ok (.bipush 117, 2) := dk_16 117 (dk_at dksX2_isQuarrels_1 13 rfl rfl)
theorem dX2_isQuarrels_39 : decode cX2_isQuarrels 39 = .ok (.if_icmp .ne 33, 3) := dk_160 0 33 (dk_at dksX2_isQuarrels_1 15 rfl rfl)
theorem dX2_isQuarrels_42 : decode cX2_isQuarrels 42 = .ok (.aload_n 0, 1) := dk_42 (dk_at dksX2_isQuarrels_1 18 rfl rfl)
theorem dX2_isQuarrels_43 : decode cX2_isQuarrels 43 = .ok (.aload_n 0, 1) := dk_42 (dk_at dksX2_isQuarrels_1 19 rfl rfl)
theorem dX2_isQuarrels_44 : decode cX2_isQuarrels 44 = .ok (.getfield 99, 3) := dk_180 0 99 (dk_at dksX2_isQuarrels_1 20 rfl rfl)
theorem dX2_isQuarrels_47 : decode cX2_isQuarrels 47 = .ok (.iconst 2, 1) := dk_5 (dk_at dksX2_isQuarrels_1 23 rfl rfl)
theorem dX2_isQuarrels_48 : decode cX2_isQuarrels 48 = .ok (.iadd, 1) := dk_96 (dk_at dksX2_isQuarrels_2 0 rfl rfl)
theorem dX2_isQuarrels_49 : decode cX2_isQuarrels 49 = .ok (.invokevirtual 96, 3) := dk_182 0 96 (dk_at dksX2_isQuarrels_2 1 rfl rfl)
theorem dX2_isQuarrels_52 : decode cX2_isQuarrels 52 = .ok (.bipush 97, 2) := dk_16 97 (dk_at dksX2_isQuarrels_2 4 rfl rfl)
theorem dX2_isQuarrels_54 : decode cX2_isQuarrels 54 = .ok (.if_icmp .ne 18, 3) := dk_160 0 18 (dk_at dksX2_isQuarrels_2 6 rfl rfl)
theorem dX2_isQuarrels_57 : decode cX2_isQuarrels 57 = .ok (.aload_n 0, 1) := dk_42 (dk_at dksX2_isQuarrels_2 9 rfl rfl)
theorem dX2_isQuarrels_58 : decode cX2_isQuarrels 58 = .ok (.aload_n 0, 1) := dk_42 (dk_at dksX2_isQuarrels_2 10 rfl rfl)
theorem dX2_isQuarrels_59 : decode cX2_isQuarrels 59 = .ok (.getfield 99, 3) := dk_180 0 99 (dk_at dksX2_isQuarrels_2 11 rfl rfl)
theorem dX2_isQuarrels_62 : decode cX2_isQuarrels 62 = .ok (.iconst 3, 1) := dk_6 (dk_at dksX2_isQuarrels_2 14 rfl rfl)
theorem dX2_isQuarrels_63 : decode cX2_isQuarrels 63 = .ok (.iadd, 1) := dk_96 (dk_at dksX2_isQuarrels_2 15 rfl rfl)
theorem dX2_isQuarrels_64 : decode cX2_isQuarrels 64 = .ok (.invokevirtual 96, 3) := dk_182 0 96 (dk_at dksX2_isQuarrels_2 16 rfl rfl)
theorem dX2_isQuarrels_67 : decode cX2_isQuarrels 67 = .ok (.bipush 114, 2) := dk_16 114 (dk_at dksX2_isQuarrels_2 19 rfl rfl)
theorem dX2_isQuarrels_69 : decode cX2_isQuarrels 69 = .ok (.if_icmp .eq 5, 3) := dk_159 0 5 (dk_at dksX2_isQuarrels_2 21 rfl rfl)
theorem dX2_isQuarrels_72 : decode cX2_isQuarrels 72 = .ok (.iconst 0, 1) := dk_3 (dk_at dksX2_isQuarrels_3 0 rfl rfl)
theorem dX2_isQuarrels_73 : decode cX2_isQuarrels 73 = .ok (.ireturn, 1) := dk_172 (dk_at dksX2_isQuarrels_3 1 rfl rfl)
theorem dX2_isQuarrels_74 : decode cX2_isQuarrels 74 = .ok (.aload_n 0, 1) := dk_42 (dk_at dksX2_isQuarrels_3 2 rfl rfl)
theorem dX2_isQuarrels_75 : decode cX2_isQuarrels 75 = .ok (.aload_n 0, 1) := dk_42 (dk_at dksX2_isQuarrels_3 3 rfl rfl)
theorem dX2_isQuarrels_76 : decode cX2_isQuarrels 76 = .ok (.getfield 99, 3) := dk_180 0 99 (dk_at dksX2_isQuarrels_3 4 rfl rfl)
theorem dX2_isQuarrels_79 : decode cX2_isQuarrels 79 = .ok (.iconst 4, 1) := dk_7 (dk_at dksX2_isQuarrels_3 7 rfl rfl)
theorem dX2_isQuarrels_80 : decode cX2_isQuarrels 80 = .ok (.iadd, 1) := dk_96 (dk_at dksX2_isQuarrels_3 8 rfl rfl)
theorem dX2_isQuarrels_81 : decode cX2_isQuarrels 81 = .ok (.invokevirtual 96, 3) := dk_182 0 96 (dk_at dksX2_isQuarrels_3 9 rfl rfl)
theorem dX2_isQuarrels_84 : decode cX2_isQuarrels 84 = .ok (.bipush 114, 2) := dk_16 114 (dk_at dksX2_isQuarrels_3 12 rfl rfl)
theorem dX2_isQuarrels_86 : decode cX2_isQuarrels 86 = .ok (.if_icmp .ne 54, 3) := dk_160 0 54 (dk_at dksX2_isQuarrels_3 14 rfl rfl)
theorem dX2_isQuarrels_89 : decode cX2_isQuarrels 89 = .ok (.aload_n 0, 1) := dk_42 (dk_at dksX2_isQuarrels_3 17 rfl rfl)
theorem dX2_isQuarrels_90 : decode cX2_isQuarrels 90 = .ok (.aload_n 0, 1) := dk_42 (dk_at dksX2_isQuarrels_3 18 rfl rfl)
theorem dX2_isQuarrels_91 : decode cX2_isQuarrels 91 = .ok (.getfield 99, 3) := dk_180 0 99 (dk_at dksX2_isQuarrels_3 19 rfl rfl)
theorem dX2_isQuarrels_94 : decode cX2_isQuarrels 94 = .ok (.iconst 5, 1) := dk_8 (dk_at dksX2_isQuarrels_3 22 rfl rfl)
theorem dX2_isQuarrels_95 : decode cX2_isQuarrels 95 = .ok (.iadd, 1) := dk_96 (dk_at dksX2_isQuarrels_3 23 rfl rfl)
theorem dX2_isQuarrels_96 : decode cX2_isQuarrels 96 = .ok (.invokevirtual 96, 3) := dk_182 0 96 (dk_at dksX2_isQuarrels_4 0 rfl rfl)
theorem dX2_isQuarrels_99 : decode cX2_isQuarrels 99 = .ok (.bipush 101, 2) := dk_16 101 (dk_at dksX2_isQuarrels_4 3 rfl rfl)
theorem dX2_isQuarrels_101 : decode cX2_isQuarrels 101 = .ok (.if_icmp .ne 39, 3) := dk_160 0 39 (dk_at dksX2_isQuarrels_4 5 rfl rfl)
theorem dX2_isQuarrels_104 : decode cX2_isQuarrels 104 = .ok (.aload_n 0, 1) := dk_42 (dk_at dksX2_isQuarrels_4 8 rfl rfl)
theorem dX2_isQuarrels_105 : decode cX2_isQuarrels 105 = .ok (.aload_n 0, 1) := dk_42 (dk_at dksX2_isQuarrels_4 9 rfl rfl)
theorem dX2_isQuarrels_106 : decode cX2_isQuarrels 106 = .ok (.getfield 99, 3) := dk_180 0 99 (dk_at dksX2_isQuarrels_4 10 rfl rfl)
theorem dX2_isQuarrels_109 : decode cX2_isQuarrels 109 = .ok (.bipush 6, 2) := dk_16 6 (dk_at dksX2_isQuarrels_4 13 rfl rfl)
theorem dX2_isQuarrels_111 : decode cX2_isQuarrels 111 = .ok (.iadd, 1) := dk_96 (dk_at dksX2_isQuarrels_4 15 rfl rfl)
theorem dX2_isQuarrels_112 : decode cX2_isQuarrels 112 = .ok (.invokevirtual 96, 3) := dk_182 0 96 (dk_at dksX2_isQuarrels_4 16 rfl rfl)
theorem dX2_isQuarrels_115 : decode cX2_isQuarrels 115 = .ok (.bipush 108, 2) := dk_16 108 (dk_at dksX2_isQuarrels_4 19 rfl rfl)
theorem dX2_isQuarrels_117 : decode cX2_isQuarrels 117 = .ok (.if_icmp .ne 23, 3) := dk_160 0 23 (dk_at dksX2_isQuarrels_4 21 rfl rfl)
theorem dX2_isQuarrels_120 : decode cX2_isQuarrels 120 = .ok (.aload_n 0, 1) := dk_42 (dk_at dksX2_isQuarrels_5 0 rfl rfl)
theorem dX2_isQuarrels_121 : decode cX2_isQuarrels 121 = .ok (.aload_n 0, 1) := dk_42 (dk_at dksX2_isQuarrels_5 1 rfl rfl)
theorem dX2_isQuarrels_122 : decode cX2_isQuarrels 122 = .ok (.getfield 99, 3) := dk_180 0 99 (dk_at dksX2_isQuarrels_5 2 rfl rfl)
theorem dX2_isQuarrels_125 : decode cX2_isQuarrels 125 = .ok (.bipush 7, 2) := dk_16 7 (dk_at dksX2_isQuarrels_5 5 rfl rfl)
theorem dX2_isQuarrels_127 : decode cX2_isQuarrels 127 = .ok (.iadd, 1) := dk_96 (dk_at dksX2_isQuarrels_5 7 rfl rfl)
theorem dX2_isQuarrels_128 : decode cX2_isQuarrels 128 = .ok (.invokevirtual 96, 3) := dk_182 0 96 (dk_at dksX2_isQuarrels_5 8 rfl rfl)
theorem dX2_isQuarrels_131 : decode cX2_isQuarrels 131 = .ok (.bipush 115, 2) := dk_16 115 (dk_at dksX2_isQuarrels_5 11 rfl rfl)
theorem dX2_isQuarrels_133 : decode cX2_isQuarrels 133 = .ok (.if_icmp .ne 7, 3) := dk_160 0 7 (dk_at dksX2_isQuarrels_5 13 rfl rfl)
theorem dX2_isQuarrels_136 : decode cX2_isQuarrels 136 = .ok (.iconst 1, 1) := dk_4 (dk_at dksX2_isQuarrels_5 16 rfl rfl)
theorem dX2_isQuarrels_137 : decode cX2_isQuarrels 137 = .ok (.goto 4, 3) := dk_167 0 4 (dk_at dksX2_isQuarrels_5 17 rfl rfl)
theorem dX2_isQuarrels_140 : decode cX2_isQuarrels 140 = .ok (.iconst 0, 1) := dk_3 (dk_at dksX2_isQuarrels_5 20 rfl rfl)
theorem dX2_isQuarrels_141 : decode cX2_isQuarrels 141 = .ok (.ireturn, 1) := dk_172 (dk_at dksX2_isQuarrels_5 21 rfl rfl)
abbrev cX2_isOf : ByteArray := prog_18_method_48_code
def yX2_isOf : MethodName := ⟨RX2, "isOf", "(I)Z"⟩
def dkwX2_isOf_4 : List UInt8 := [172]
abbrev dktX2_isOf_4 : List UInt8 := dkwX2_isOf_4 ++ []
def dkwX2_isOf_3 : List UInt8 := [160, 0, 7, 4, 167, 0, 20, 3, 167, 0, 16, 42, 180, 0, 218, 5, 160, 0, 7, 4, 167, 0, 4, 3]
abbrev dktX2_isOf_3 : List UInt8 := dkwX2_isOf_3 ++ dktX2_isOf_4
def dkwX2_isOf_2 : List UInt8 := [180, 0, 218, 6, 160, 0, 7, 4, 167, 0, 4, 3, 172, 27, 16, 8, 160, 0, 19, 42, 180, 0, 218, 6]
abbrev dktX2_isOf_2 : List UInt8 := dkwX2_isOf_2 ++ dktX2_isOf_3
def dkwX2_isOf_1 : List UInt8 := [160, 0, 7, 4, 167, 0, 4, 3, 172, 27, 16, 8, 162, 0, 25, 42, 180, 0, 218, 5, 159, 0, 11, 42]
abbrev dktX2_isOf_1 : List UInt8 := dkwX2_isOf_1 ++ dktX2_isOf_2
def dkwX2_isOf_0 : List UInt8 := [27, 154, 0, 5, 4, 172, 27, 8, 162, 0, 25, 42, 180, 0, 218, 4, 159, 0, 11, 42, 180, 0, 218, 6]
abbrev dktX2_isOf_0 : List UInt8 := dkwX2_isOf_0 ++ dktX2_isOf_1
theorem dksX2_isOf_0 : cX2_isOf.data.toList.drop 0 = dktX2_isOf_0 := by decide +kernel
theorem dksX2_isOf_1 : cX2_isOf.data.toList.drop 24 = dktX2_isOf_1 := dk_seg dksX2_isOf_0 24 rfl rfl
theorem dksX2_isOf_2 : cX2_isOf.data.toList.drop 48 = dktX2_isOf_2 := dk_seg dksX2_isOf_1 24 rfl rfl
theorem dksX2_isOf_3 : cX2_isOf.data.toList.drop 72 = dktX2_isOf_3 := dk_seg dksX2_isOf_2 24 rfl rfl
theorem dksX2_isOf_4 : cX2_isOf.data.toList.drop 96 = dktX2_isOf_4 := dk_seg dksX2_isOf_3 24 rfl rfl
theorem dX2_isOf_0 : decode cX2_isOf 0 = .ok (.iload_n 1, 1) := dk_27 (dk_at dksX2_isOf_0 0 rfl rfl)
theorem dX2_isOf_1 : decode cX2_isOf 1 = .ok (.ifCond .ne 5, 3) := dk_154 0 5 (dk_at dksX2_isOf_0 1 rfl rfl)
theorem dX2_isOf_4 : decode cX2_isOf 4 = .ok (.iconst 1, 1) := dk_4 (dk_at dksX2_isOf_0 4 rfl rfl)
theorem dX2_isOf_5 : decode cX2_isOf 5 = .ok (.ireturn, 1) := dk_172 (dk_at dksX2_isOf_0 5 rfl rfl)
theorem dX2_isOf_6 : decode cX2_isOf 6 = .ok (.iload_n 1, 1) := dk_27 (dk_at dksX2_isOf_0 6 rfl rfl)
theorem dX2_isOf_7 : decode cX2_isOf 7 = .ok (.iconst 5, 1) := dk_8 (dk_at dksX2_isOf_0 7 rfl rfl)
theorem dX2_isOf_8 : decode cX2_isOf 8 = .ok (.if_icmp .ge 25, 3) := dk_162 0 25 (dk_at dksX2_isOf_0 8 rfl rfl)
theorem dX2_isOf_11 : decode cX2_isOf 11 = .ok (.aload_n 0, 1) := dk_42 (dk_at dksX2_isOf_0 11 rfl rfl)
theorem dX2_isOf_12 : decode cX2_isOf 12 = .ok (.getfield 218, 3) := dk_180 0 218 (dk_at dksX2_isOf_0 12 rfl rfl)
theorem dX2_isOf_15 : decode cX2_isOf 15 = .ok (.iconst 1, 1) := dk_4 (dk_at dksX2_isOf_0 15 rfl rfl)
theorem dX2_isOf_16 : decode cX2_isOf 16 = .ok (.if_icmp .eq 11, 3) := dk_159 0 11 (dk_at dksX2_isOf_0 16 rfl rfl)
theorem dX2_isOf_19 : decode cX2_isOf 19 = .ok (.aload_n 0, 1) := dk_42 (dk_at dksX2_isOf_0 19 rfl rfl)
theorem dX2_isOf_20 : decode cX2_isOf 20 = .ok (.getfield 218, 3) := dk_180 0 218 (dk_at dksX2_isOf_0 20 rfl rfl)
theorem dX2_isOf_23 : decode cX2_isOf 23 = .ok (.iconst 3, 1) := dk_6 (dk_at dksX2_isOf_0 23 rfl rfl)
theorem dX2_isOf_24 : decode cX2_isOf 24 = .ok (.if_icmp .ne 7, 3) := dk_160 0 7 (dk_at dksX2_isOf_1 0 rfl rfl)
theorem dX2_isOf_27 : decode cX2_isOf 27 = .ok (.iconst 1, 1) := dk_4 (dk_at dksX2_isOf_1 3 rfl rfl)
theorem dX2_isOf_28 : decode cX2_isOf 28 = .ok (.goto 4, 3) := dk_167 0 4 (dk_at dksX2_isOf_1 4 rfl rfl)
theorem dX2_isOf_31 : decode cX2_isOf 31 = .ok (.iconst 0, 1) := dk_3 (dk_at dksX2_isOf_1 7 rfl rfl)
theorem dX2_isOf_32 : decode cX2_isOf 32 = .ok (.ireturn, 1) := dk_172 (dk_at dksX2_isOf_1 8 rfl rfl)
theorem dX2_isOf_33 : decode cX2_isOf 33 = .ok (.iload_n 1, 1) := dk_27 (dk_at dksX2_isOf_1 9 rfl rfl)
theorem dX2_isOf_34 : decode cX2_isOf 34 = .ok (.bipush 8, 2) := dk_16 8 (dk_at dksX2_isOf_1 10 rfl rfl)
theorem dX2_isOf_36 : decode cX2_isOf 36 = .ok (.if_icmp .ge 25, 3) := dk_162 0 25 (dk_at dksX2_isOf_1 12 rfl rfl)
theorem dX2_isOf_39 : decode cX2_isOf 39 = .ok (.aload_n 0, 1) := dk_42 (dk_at dksX2_isOf_1 15 rfl rfl)
theorem dX2_isOf_40 : decode cX2_isOf 40 = .ok (.getfield 218, 3) := dk_180 0 218 (dk_at dksX2_isOf_1 16 rfl rfl)
theorem dX2_isOf_43 : decode cX2_isOf 43 = .ok (.iconst 2, 1) := dk_5 (dk_at dksX2_isOf_1 19 rfl rfl)
theorem dX2_isOf_44 : decode cX2_isOf 44 = .ok (.if_icmp .eq 11, 3) := dk_159 0 11 (dk_at dksX2_isOf_1 20 rfl rfl)
theorem dX2_isOf_47 : decode cX2_isOf 47 = .ok (.aload_n 0, 1) := dk_42 (dk_at dksX2_isOf_1 23 rfl rfl)
theorem dX2_isOf_48 : decode cX2_isOf 48 = .ok (.getfield 218, 3) := dk_180 0 218 (dk_at dksX2_isOf_2 0 rfl rfl)
theorem dX2_isOf_51 : decode cX2_isOf 51 = .ok (.iconst 3, 1) := dk_6 (dk_at dksX2_isOf_2 3 rfl rfl)
theorem dX2_isOf_52 : decode cX2_isOf 52 = .ok (.if_icmp .ne 7, 3) := dk_160 0 7 (dk_at dksX2_isOf_2 4 rfl rfl)
theorem dX2_isOf_55 : decode cX2_isOf 55 = .ok (.iconst 1, 1) := dk_4 (dk_at dksX2_isOf_2 7 rfl rfl)
theorem dX2_isOf_56 : decode cX2_isOf 56 = .ok (.goto 4, 3) := dk_167 0 4 (dk_at dksX2_isOf_2 8 rfl rfl)
theorem dX2_isOf_59 : decode cX2_isOf 59 = .ok (.iconst 0, 1) := dk_3 (dk_at dksX2_isOf_2 11 rfl rfl)
theorem dX2_isOf_60 : decode cX2_isOf 60 = .ok (.ireturn, 1) := dk_172 (dk_at dksX2_isOf_2 12 rfl rfl)
theorem dX2_isOf_61 : decode cX2_isOf 61 = .ok (.iload_n 1, 1) := dk_27 (dk_at dksX2_isOf_2 13 rfl rfl)
theorem dX2_isOf_62 : decode cX2_isOf 62 = .ok (.bipush 8, 2) := dk_16 8 (dk_at dksX2_isOf_2 14 rfl rfl)
theorem dX2_isOf_64 : decode cX2_isOf 64 = .ok (.if_icmp .ne 19, 3) := dk_160 0 19 (dk_at dksX2_isOf_2 16 rfl rfl)
theorem dX2_isOf_67 : decode cX2_isOf 67 = .ok (.aload_n 0, 1) := dk_42 (dk_at dksX2_isOf_2 19 rfl rfl)
theorem dX2_isOf_68 : decode cX2_isOf 68 = .ok (.getfield 218, 3) := dk_180 0 218 (dk_at dksX2_isOf_2 20 rfl rfl)
theorem dX2_isOf_71 : decode cX2_isOf 71 = .ok (.iconst 3, 1) := dk_6 (dk_at dksX2_isOf_2 23 rfl rfl)
theorem dX2_isOf_72 : decode cX2_isOf 72 = .ok (.if_icmp .ne 7, 3) := dk_160 0 7 (dk_at dksX2_isOf_3 0 rfl rfl)
theorem dX2_isOf_75 : decode cX2_isOf 75 = .ok (.iconst 1, 1) := dk_4 (dk_at dksX2_isOf_3 3 rfl rfl)
theorem dX2_isOf_76 : decode cX2_isOf 76 = .ok (.goto 20, 3) := dk_167 0 20 (dk_at dksX2_isOf_3 4 rfl rfl)
theorem dX2_isOf_79 : decode cX2_isOf 79 = .ok (.iconst 0, 1) := dk_3 (dk_at dksX2_isOf_3 7 rfl rfl)
theorem dX2_isOf_80 : decode cX2_isOf 80 = .ok (.goto 16, 3) := dk_167 0 16 (dk_at dksX2_isOf_3 8 rfl rfl)
theorem dX2_isOf_83 : decode cX2_isOf 83 = .ok (.aload_n 0, 1) := dk_42 (dk_at dksX2_isOf_3 11 rfl rfl)
theorem dX2_isOf_84 : decode cX2_isOf 84 = .ok (.getfield 218, 3) := dk_180 0 218 (dk_at dksX2_isOf_3 12 rfl rfl)
theorem dX2_isOf_87 : decode cX2_isOf 87 = .ok (.iconst 2, 1) := dk_5 (dk_at dksX2_isOf_3 15 rfl rfl)
theorem dX2_isOf_88 : decode cX2_isOf 88 = .ok (.if_icmp .ne 7, 3) := dk_160 0 7 (dk_at dksX2_isOf_3 16 rfl rfl)
theorem dX2_isOf_91 : decode cX2_isOf 91 = .ok (.iconst 1, 1) := dk_4 (dk_at dksX2_isOf_3 19 rfl rfl)
theorem dX2_isOf_92 : decode cX2_isOf 92 = .ok (.goto 4, 3) := dk_167 0 4 (dk_at dksX2_isOf_3 20 rfl rfl)
theorem dX2_isOf_95 : decode cX2_isOf 95 = .ok (.iconst 0, 1) := dk_3 (dk_at dksX2_isOf_3 23 rfl rfl)
theorem dX2_isOf_96 : decode cX2_isOf 96 = .ok (.ireturn, 1) := dk_172 (dk_at dksX2_isOf_4 0 rfl rfl)
abbrev cX2_opensBy : ByteArray := prog_18_method_40_code
def yX2_opensBy : MethodName := ⟨RX2, "opensBy", "(I)I"⟩
def dkwX2_opensBy_1 : List UInt8 := [182, 0, 161, 42, 182, 0, 164, 3, 172]
abbrev dktX2_opensBy_1 : List UInt8 := dkwX2_opensBy_1 ++ []
def dkwX2_opensBy_0 : List UInt8 := [42, 180, 0, 143, 16, 8, 160, 0, 5, 6, 172, 42, 89, 180, 0, 143, 4, 96, 181, 0, 143, 42, 27]
abbrev dktX2_opensBy_0 : List UInt8 := dkwX2_opensBy_0 ++ dktX2_opensBy_1
theorem dksX2_opensBy_0 : cX2_opensBy.data.toList.drop 0 = dktX2_opensBy_0 := by decide +kernel
theorem dksX2_opensBy_1 : cX2_opensBy.data.toList.drop 23 = dktX2_opensBy_1 := dk_seg dksX2_opensBy_0 23 rfl rfl
theorem dX2_opensBy_0 : decode cX2_opensBy 0 = .ok (.aload_n 0, 1) := dk_42 (dk_at dksX2_opensBy_0 0 rfl rfl)
theorem dX2_opensBy_1 : decode cX2_opensBy 1 = .ok (.getfield 143, 3) := dk_180 0 143 (dk_at dksX2_opensBy_0 1 rfl rfl)
theorem dX2_opensBy_4 : decode cX2_opensBy 4 = .ok (.bipush 8, 2) := dk_16 8 (dk_at dksX2_opensBy_0 4 rfl rfl)
theorem dX2_opensBy_6 : decode cX2_opensBy 6 = .ok (.if_icmp .ne 5, 3) := dk_160 0 5 (dk_at dksX2_opensBy_0 6 rfl rfl)
theorem dX2_opensBy_9 : decode cX2_opensBy 9 = .ok (.iconst 3, 1) := dk_6 (dk_at dksX2_opensBy_0 9 rfl rfl)
theorem dX2_opensBy_10 : decode cX2_opensBy 10 = .ok (.ireturn, 1) := dk_172 (dk_at dksX2_opensBy_0 10 rfl rfl)
theorem dX2_opensBy_11 : decode cX2_opensBy 11 = .ok (.aload_n 0, 1) := dk_42 (dk_at dksX2_opensBy_0 11 rfl rfl)
theorem dX2_opensBy_12 : decode cX2_opensBy 12 = .ok (.dup, 1) := dk_89 (dk_at dksX2_opensBy_0 12 rfl rfl)
theorem dX2_opensBy_13 : decode cX2_opensBy 13 = .ok (.getfield 143, 3) := dk_180 0 143 (dk_at dksX2_opensBy_0 13 rfl rfl)
theorem dX2_opensBy_16 : decode cX2_opensBy 16 = .ok (.iconst 1, 1) := dk_4 (dk_at dksX2_opensBy_0 16 rfl rfl)
theorem dX2_opensBy_17 : decode cX2_opensBy 17 = .ok (.iadd, 1) := dk_96 (dk_at dksX2_opensBy_0 17 rfl rfl)
theorem dX2_opensBy_18 : decode cX2_opensBy 18 = .ok (.putfield 143, 3) := dk_181 0 143 (dk_at dksX2_opensBy_0 18 rfl rfl)
theorem dX2_opensBy_21 : decode cX2_opensBy 21 = .ok (.aload_n 0, 1) := dk_42 (dk_at dksX2_opensBy_0 21 rfl rfl)
theorem dX2_opensBy_22 : decode cX2_opensBy 22 = .ok (.iload_n 1, 1) := dk_27 (dk_at dksX2_opensBy_0 22 rfl rfl)
theorem dX2_opensBy_23 : decode cX2_opensBy 23 = .ok (.invokevirtual 161, 3) := dk_182 0 161 (dk_at dksX2_opensBy_1 0 rfl rfl)
theorem dX2_opensBy_26 : decode cX2_opensBy 26 = .ok (.aload_n 0, 1) := dk_42 (dk_at dksX2_opensBy_1 3 rfl rfl)
theorem dX2_opensBy_27 : decode cX2_opensBy 27 = .ok (.invokevirtual 164, 3) := dk_182 0 164 (dk_at dksX2_opensBy_1 4 rfl rfl)
theorem dX2_opensBy_30 : decode cX2_opensBy 30 = .ok (.iconst 0, 1) := dk_3 (dk_at dksX2_opensBy_1 7 rfl rfl)
theorem dX2_opensBy_31 : decode cX2_opensBy 31 = .ok (.ireturn, 1) := dk_172 (dk_at dksX2_opensBy_1 8 rfl rfl)
abbrev cX2_isAskAhead : ByteArray := prog_18_method_39_code
def yX2_isAskAhead : MethodName := ⟨RX2, "isAskAhead", "(Z)Z"⟩
def dkwX2_isAskAhead_2 : List UInt8 := [184, 0, 136, 4, 6, 184, 0, 62, 153, 0, 7, 4, 167, 0, 4, 3, 172]
abbrev dktX2_isAskAhead_2 : List UInt8 := dkwX2_isAskAhead_2 ++ []
def dkwX2_isAskAhead_1 : List UInt8 := [180, 0, 133, 4, 100, 46, 16, 41, 159, 0, 25, 42, 180, 0, 29, 42, 180, 0, 133, 4, 100, 46]
abbrev dktX2_isAskAhead_1 : List UInt8 := dkwX2_isAskAhead_1 ++ dktX2_isAskAhead_2
def dkwX2_isAskAhead_0 : List UInt8 := [42, 27, 182, 0, 157, 16, 41, 160, 0, 52, 42, 180, 0, 133, 153, 0, 41, 42, 180, 0, 29, 42]
abbrev dktX2_isAskAhead_0 : List UInt8 := dkwX2_isAskAhead_0 ++ dktX2_isAskAhead_1
theorem dksX2_isAskAhead_0 : cX2_isAskAhead.data.toList.drop 0 = dktX2_isAskAhead_0 := by decide +kernel
theorem dksX2_isAskAhead_1 : cX2_isAskAhead.data.toList.drop 22 = dktX2_isAskAhead_1 := dk_seg dksX2_isAskAhead_0 22 rfl rfl
theorem dksX2_isAskAhead_2 : cX2_isAskAhead.data.toList.drop 44 = dktX2_isAskAhead_2 := dk_seg dksX2_isAskAhead_1 22 rfl rfl
theorem dX2_isAskAhead_0 : decode cX2_isAskAhead 0 = .ok (.aload_n 0, 1) := dk_42 (dk_at dksX2_isAskAhead_0 0 rfl rfl)
theorem dX2_isAskAhead_1 : decode cX2_isAskAhead 1 = .ok (.iload_n 1, 1) := dk_27 (dk_at dksX2_isAskAhead_0 1 rfl rfl)
theorem dX2_isAskAhead_2 : decode cX2_isAskAhead 2 = .ok (.invokevirtual 157, 3) := dk_182 0 157 (dk_at dksX2_isAskAhead_0 2 rfl rfl)
theorem dX2_isAskAhead_5 : decode cX2_isAskAhead 5 = .ok (.bipush 41, 2) := dk_16 41 (dk_at dksX2_isAskAhead_0 5 rfl rfl)
theorem dX2_isAskAhead_7 : decode cX2_isAskAhead 7 = .ok (.if_icmp .ne 52, 3) := dk_160 0 52 (dk_at dksX2_isAskAhead_0 7 rfl rfl)
theorem dX2_isAskAhead_10 : decode cX2_isAskAhead 10 = .ok (.aload_n 0, 1) := dk_42 (dk_at dksX2_isAskAhead_0 10 rfl rfl)
theorem dX2_isAskAhead_11 : decode cX2_isAskAhead 11 = .ok (.getfield 133, 3) := dk_180 0 133 (dk_at dksX2_isAskAhead_0 11 rfl rfl)
theorem dX2_isAskAhead_14 : decode cX2_isAskAhead 14 = .ok (.ifCond .eq 41, 3) := dk_153 0 41 (dk_at dksX2_isAskAhead_0 14 rfl rfl)
theorem dX2_isAskAhead_17 : decode cX2_isAskAhead 17 = .ok (.aload_n 0, 1) := dk_42 (dk_at dksX2_isAskAhead_0 17 rfl rfl)
theorem dX2_isAskAhead_18 : decode cX2_isAskAhead 18 = .ok (.getfield 29, 3) := dk_180 0 29 (dk_at dksX2_isAskAhead_0 18 rfl rfl)
theorem dX2_isAskAhead_21 : decode cX2_isAskAhead 21 = .ok (.aload_n 0, 1) := dk_42 (dk_at dksX2_isAskAhead_0 21 rfl rfl)
theorem dX2_isAskAhead_22 : decode cX2_isAskAhead 22 = .ok (.getfield 133, 3) := dk_180 0 133 (dk_at dksX2_isAskAhead_1 0 rfl rfl)
theorem dX2_isAskAhead_25 : decode cX2_isAskAhead 25 = .ok (.iconst 1, 1) := dk_4 (dk_at dksX2_isAskAhead_1 3 rfl rfl)
theorem dX2_isAskAhead_26 : decode cX2_isAskAhead 26 = .ok (.isub, 1) := dk_100 (dk_at dksX2_isAskAhead_1 4 rfl rfl)
theorem dX2_isAskAhead_27 : decode cX2_isAskAhead 27 = .ok (.iaload, 1) := dk_46 (dk_at dksX2_isAskAhead_1 5 rfl rfl)
theorem dX2_isAskAhead_28 : decode cX2_isAskAhead 28 = .ok (.bipush 41, 2) := dk_16 41 (dk_at dksX2_isAskAhead_1 6 rfl rfl)
theorem dX2_isAskAhead_30 : decode cX2_isAskAhead 30 = .ok (.if_icmp .eq 25, 3) := dk_159 0 25 (dk_at dksX2_isAskAhead_1 8 rfl rfl)
theorem dX2_isAskAhead_33 : decode cX2_isAskAhead 33 = .ok (.aload_n 0, 1) := dk_42 (dk_at dksX2_isAskAhead_1 11 rfl rfl)
theorem dX2_isAskAhead_34 : decode cX2_isAskAhead 34 = .ok (.getfield 29, 3) := dk_180 0 29 (dk_at dksX2_isAskAhead_1 12 rfl rfl)
theorem dX2_isAskAhead_37 : decode cX2_isAskAhead 37 = .ok (.aload_n 0, 1) := dk_42 (dk_at dksX2_isAskAhead_1 15 rfl rfl)
theorem dX2_isAskAhead_38 : decode cX2_isAskAhead 38 = .ok (.getfield 133, 3) := dk_180 0 133 (dk_at dksX2_isAskAhead_1 16 rfl rfl)
theorem dX2_isAskAhead_41 : decode cX2_isAskAhead 41 = .ok (.iconst 1, 1) := dk_4 (dk_at dksX2_isAskAhead_1 19 rfl rfl)
theorem dX2_isAskAhead_42 : decode cX2_isAskAhead 42 = .ok (.isub, 1) := dk_100 (dk_at dksX2_isAskAhead_1 20 rfl rfl)
theorem dX2_isAskAhead_43 : decode cX2_isAskAhead 43 = .ok (.iaload, 1) := dk_46 (dk_at dksX2_isAskAhead_1 21 rfl rfl)
theorem dX2_isAskAhead_44 : decode cX2_isAskAhead 44 = .ok (.invokestatic 136, 3) := dk_184 0 136 (dk_at dksX2_isAskAhead_2 0 rfl rfl)
theorem dX2_isAskAhead_47 : decode cX2_isAskAhead 47 = .ok (.iconst 1, 1) := dk_4 (dk_at dksX2_isAskAhead_2 3 rfl rfl)
theorem dX2_isAskAhead_48 : decode cX2_isAskAhead 48 = .ok (.iconst 3, 1) := dk_6 (dk_at dksX2_isAskAhead_2 4 rfl rfl)
theorem dX2_isAskAhead_49 : decode cX2_isAskAhead 49 = .ok (.invokestatic 62, 3) := dk_184 0 62 (dk_at dksX2_isAskAhead_2 5 rfl rfl)
theorem dX2_isAskAhead_52 : decode cX2_isAskAhead 52 = .ok (.ifCond .eq 7, 3) := dk_153 0 7 (dk_at dksX2_isAskAhead_2 8 rfl rfl)
theorem dX2_isAskAhead_55 : decode cX2_isAskAhead 55 = .ok (.iconst 1, 1) := dk_4 (dk_at dksX2_isAskAhead_2 11 rfl rfl)
theorem dX2_isAskAhead_56 : decode cX2_isAskAhead 56 = .ok (.goto 4, 3) := dk_167 0 4 (dk_at dksX2_isAskAhead_2 12 rfl rfl)
theorem dX2_isAskAhead_59 : decode cX2_isAskAhead 59 = .ok (.iconst 0, 1) := dk_3 (dk_at dksX2_isAskAhead_2 15 rfl rfl)
theorem dX2_isAskAhead_60 : decode cX2_isAskAhead 60 = .ok (.ireturn, 1) := dk_172 (dk_at dksX2_isAskAhead_2 16 rfl rfl)
abbrev cX2_line : ByteArray := prog_18_method_52_code
def yX2_line : MethodName := ⟨RX2, "line", "(II)I"⟩
def dkwX2_line_1 : List UInt8 := [28, 4, 96, 4, 16, 99, 182, 0, 221, 167, 0, 8, 42, 28, 182, 0, 227, 172]
abbrev dktX2_line_1 : List UInt8 := dkwX2_line_1 ++ []
def dkwX2_line_0 : List UInt8 := [27, 7, 160, 0, 15, 42, 28, 4, 96, 3, 8, 182, 0, 221, 167, 0, 27, 27, 16, 6, 160, 0, 16, 42]
abbrev dktX2_line_0 : List UInt8 := dkwX2_line_0 ++ dktX2_line_1
theorem dksX2_line_0 : cX2_line.data.toList.drop 0 = dktX2_line_0 := by decide +kernel
theorem dksX2_line_1 : cX2_line.data.toList.drop 24 = dktX2_line_1 := dk_seg dksX2_line_0 24 rfl rfl
theorem dX2_line_0 : decode cX2_line 0 = .ok (.iload_n 1, 1) := dk_27 (dk_at dksX2_line_0 0 rfl rfl)
theorem dX2_line_1 : decode cX2_line 1 = .ok (.iconst 4, 1) := dk_7 (dk_at dksX2_line_0 1 rfl rfl)
theorem dX2_line_2 : decode cX2_line 2 = .ok (.if_icmp .ne 15, 3) := dk_160 0 15 (dk_at dksX2_line_0 2 rfl rfl)
theorem dX2_line_5 : decode cX2_line 5 = .ok (.aload_n 0, 1) := dk_42 (dk_at dksX2_line_0 5 rfl rfl)
theorem dX2_line_6 : decode cX2_line 6 = .ok (.iload_n 2, 1) := dk_28 (dk_at dksX2_line_0 6 rfl rfl)
theorem dX2_line_7 : decode cX2_line 7 = .ok (.iconst 1, 1) := dk_4 (dk_at dksX2_line_0 7 rfl rfl)
theorem dX2_line_8 : decode cX2_line 8 = .ok (.iadd, 1) := dk_96 (dk_at dksX2_line_0 8 rfl rfl)
theorem dX2_line_9 : decode cX2_line 9 = .ok (.iconst 0, 1) := dk_3 (dk_at dksX2_line_0 9 rfl rfl)
theorem dX2_line_10 : decode cX2_line 10 = .ok (.iconst 5, 1) := dk_8 (dk_at dksX2_line_0 10 rfl rfl)
theorem dX2_line_11 : decode cX2_line 11 = .ok (.invokevirtual 221, 3) := dk_182 0 221 (dk_at dksX2_line_0 11 rfl rfl)
theorem dX2_line_14 : decode cX2_line 14 = .ok (.goto 27, 3) := dk_167 0 27 (dk_at dksX2_line_0 14 rfl rfl)
theorem dX2_line_17 : decode cX2_line 17 = .ok (.iload_n 1, 1) := dk_27 (dk_at dksX2_line_0 17 rfl rfl)
theorem dX2_line_18 : decode cX2_line 18 = .ok (.bipush 6, 2) := dk_16 6 (dk_at dksX2_line_0 18 rfl rfl)
theorem dX2_line_20 : decode cX2_line 20 = .ok (.if_icmp .ne 16, 3) := dk_160 0 16 (dk_at dksX2_line_0 20 rfl rfl)
theorem dX2_line_23 : decode cX2_line 23 = .ok (.aload_n 0, 1) := dk_42 (dk_at dksX2_line_0 23 rfl rfl)
theorem dX2_line_24 : decode cX2_line 24 = .ok (.iload_n 2, 1) := dk_28 (dk_at dksX2_line_1 0 rfl rfl)
theorem dX2_line_25 : decode cX2_line 25 = .ok (.iconst 1, 1) := dk_4 (dk_at dksX2_line_1 1 rfl rfl)
theorem dX2_line_26 : decode cX2_line 26 = .ok (.iadd, 1) := dk_96 (dk_at dksX2_line_1 2 rfl rfl)
theorem dX2_line_27 : decode cX2_line 27 = .ok (.iconst 1, 1) := dk_4 (dk_at dksX2_line_1 3 rfl rfl)
theorem dX2_line_28 : decode cX2_line 28 = .ok (.bipush 99, 2) := dk_16 99 (dk_at dksX2_line_1 4 rfl rfl)
theorem dX2_line_30 : decode cX2_line 30 = .ok (.invokevirtual 221, 3) := dk_182 0 221 (dk_at dksX2_line_1 6 rfl rfl)
theorem dX2_line_33 : decode cX2_line 33 = .ok (.goto 8, 3) := dk_167 0 8 (dk_at dksX2_line_1 9 rfl rfl)
theorem dX2_line_36 : decode cX2_line 36 = .ok (.aload_n 0, 1) := dk_42 (dk_at dksX2_line_1 12 rfl rfl)
theorem dX2_line_37 : decode cX2_line 37 = .ok (.iload_n 2, 1) := dk_28 (dk_at dksX2_line_1 13 rfl rfl)
theorem dX2_line_38 : decode cX2_line 38 = .ok (.invokevirtual 227, 3) := dk_182 0 227 (dk_at dksX2_line_1 14 rfl rfl)
theorem dX2_line_41 : decode cX2_line 41 = .ok (.ireturn, 1) := dk_172 (dk_at dksX2_line_1 17 rfl rfl)
abbrev cX2_figure : ByteArray := prog_18_method_50_code
def yX2_figure : MethodName := ⟨RX2, "figure", "(III)I"⟩
def dkwX2_figure_1 : List UInt8 := [42, 180, 0, 16, 27, 42, 180, 0, 108, 79, 42, 182, 0, 164, 3, 172]
abbrev dktX2_figure_1 : List UInt8 := dkwX2_figure_1 ++ []
def dkwX2_figure_0 : List UInt8 := [42, 180, 0, 102, 4, 159, 0, 5, 4, 172, 42, 180, 0, 108, 28, 29, 184, 0, 62, 154, 0, 5, 5, 172]
abbrev dktX2_figure_0 : List UInt8 := dkwX2_figure_0 ++ dktX2_figure_1
theorem dksX2_figure_0 : cX2_figure.data.toList.drop 0 = dktX2_figure_0 := by decide +kernel
theorem dksX2_figure_1 : cX2_figure.data.toList.drop 24 = dktX2_figure_1 := dk_seg dksX2_figure_0 24 rfl rfl
theorem dX2_figure_0 : decode cX2_figure 0 = .ok (.aload_n 0, 1) := dk_42 (dk_at dksX2_figure_0 0 rfl rfl)
theorem dX2_figure_1 : decode cX2_figure 1 = .ok (.getfield 102, 3) := dk_180 0 102 (dk_at dksX2_figure_0 1 rfl rfl)
theorem dX2_figure_4 : decode cX2_figure 4 = .ok (.iconst 1, 1) := dk_4 (dk_at dksX2_figure_0 4 rfl rfl)
theorem dX2_figure_5 : decode cX2_figure 5 = .ok (.if_icmp .eq 5, 3) := dk_159 0 5 (dk_at dksX2_figure_0 5 rfl rfl)
theorem dX2_figure_8 : decode cX2_figure 8 = .ok (.iconst 1, 1) := dk_4 (dk_at dksX2_figure_0 8 rfl rfl)
theorem dX2_figure_9 : decode cX2_figure 9 = .ok (.ireturn, 1) := dk_172 (dk_at dksX2_figure_0 9 rfl rfl)
theorem dX2_figure_10 : decode cX2_figure 10 = .ok (.aload_n 0, 1) := dk_42 (dk_at dksX2_figure_0 10 rfl rfl)
theorem dX2_figure_11 : decode cX2_figure 11 = .ok (.getfield 108, 3) := dk_180 0 108 (dk_at dksX2_figure_0 11 rfl rfl)
theorem dX2_figure_14 : decode cX2_figure 14 = .ok (.iload_n 2, 1) := dk_28 (dk_at dksX2_figure_0 14 rfl rfl)
theorem dX2_figure_15 : decode cX2_figure 15 = .ok (.iload_n 3, 1) := dk_29 (dk_at dksX2_figure_0 15 rfl rfl)
theorem dX2_figure_16 : decode cX2_figure 16 = .ok (.invokestatic 62, 3) := dk_184 0 62 (dk_at dksX2_figure_0 16 rfl rfl)
theorem dX2_figure_19 : decode cX2_figure 19 = .ok (.ifCond .ne 5, 3) := dk_154 0 5 (dk_at dksX2_figure_0 19 rfl rfl)
theorem dX2_figure_22 : decode cX2_figure 22 = .ok (.iconst 2, 1) := dk_5 (dk_at dksX2_figure_0 22 rfl rfl)
theorem dX2_figure_23 : decode cX2_figure 23 = .ok (.ireturn, 1) := dk_172 (dk_at dksX2_figure_0 23 rfl rfl)
theorem dX2_figure_24 : decode cX2_figure 24 = .ok (.aload_n 0, 1) := dk_42 (dk_at dksX2_figure_1 0 rfl rfl)
theorem dX2_figure_25 : decode cX2_figure 25 = .ok (.getfield 16, 3) := dk_180 0 16 (dk_at dksX2_figure_1 1 rfl rfl)
theorem dX2_figure_28 : decode cX2_figure 28 = .ok (.iload_n 1, 1) := dk_27 (dk_at dksX2_figure_1 4 rfl rfl)
theorem dX2_figure_29 : decode cX2_figure 29 = .ok (.aload_n 0, 1) := dk_42 (dk_at dksX2_figure_1 5 rfl rfl)
theorem dX2_figure_30 : decode cX2_figure 30 = .ok (.getfield 108, 3) := dk_180 0 108 (dk_at dksX2_figure_1 6 rfl rfl)
theorem dX2_figure_33 : decode cX2_figure 33 = .ok (.iastore, 1) := dk_79 (dk_at dksX2_figure_1 9 rfl rfl)
theorem dX2_figure_34 : decode cX2_figure 34 = .ok (.aload_n 0, 1) := dk_42 (dk_at dksX2_figure_1 10 rfl rfl)
theorem dX2_figure_35 : decode cX2_figure 35 = .ok (.invokevirtual 164, 3) := dk_182 0 164 (dk_at dksX2_figure_1 11 rfl rfl)
theorem dX2_figure_38 : decode cX2_figure 38 = .ok (.iconst 0, 1) := dk_3 (dk_at dksX2_figure_1 14 rfl rfl)
theorem dX2_figure_39 : decode cX2_figure 39 = .ok (.ireturn, 1) := dk_172 (dk_at dksX2_figure_1 15 rfl rfl)
abbrev cX2_blown : ByteArray := prog_18_method_51_code
def yX2_blown : MethodName := ⟨RX2, "blown", "(I)I"⟩
def dkwX2_blown_5 : List UInt8 := [172]
abbrev dktX2_blown_5 : List UInt8 := dkwX2_blown_5 ++ []
def dkwX2_blown_4 : List UInt8 := [96, 4, 16, 9, 182, 0, 221, 61, 42, 180, 0, 16, 27, 5, 96, 92, 46, 16, 10, 29, 104, 96, 79, 28]
abbrev dktX2_blown_4 : List UInt8 := dkwX2_blown_4 ++ dktX2_blown_5
def dkwX2_blown_3 : List UInt8 := [182, 0, 181, 154, 0, 5, 4, 172, 42, 182, 0, 164, 42, 180, 0, 16, 27, 5, 96, 46, 62, 42, 27, 5]
abbrev dktX2_blown_3 : List UInt8 := dkwX2_blown_3 ++ dktX2_blown_4
def dkwX2_blown_2 : List UInt8 := [3, 8, 182, 0, 221, 61, 28, 153, 0, 5, 28, 172, 42, 16, 103, 16, 105, 16, 118, 16, 101, 184, 0, 207]
abbrev dktX2_blown_2 : List UInt8 := dkwX2_blown_2 ++ dktX2_blown_3
def dkwX2_blown_1 : List UInt8 := [160, 0, 14, 42, 180, 0, 115, 20, 0, 225, 148, 153, 0, 5, 4, 172, 42, 182, 0, 164, 42, 27, 5, 96]
abbrev dktX2_blown_1 : List UInt8 := dkwX2_blown_1 ++ dktX2_blown_2
def dkwX2_blown_0 : List UInt8 := [42, 27, 4, 96, 3, 16, 9, 182, 0, 221, 61, 28, 153, 0, 5, 28, 172, 42, 180, 0, 102, 5]
abbrev dktX2_blown_0 : List UInt8 := dkwX2_blown_0 ++ dktX2_blown_1
theorem dksX2_blown_0 : cX2_blown.data.toList.drop 0 = dktX2_blown_0 := by decide +kernel
theorem dksX2_blown_1 : cX2_blown.data.toList.drop 22 = dktX2_blown_1 := dk_seg dksX2_blown_0 22 rfl rfl
theorem dksX2_blown_2 : cX2_blown.data.toList.drop 46 = dktX2_blown_2 := dk_seg dksX2_blown_1 24 rfl rfl
theorem dksX2_blown_3 : cX2_blown.data.toList.drop 70 = dktX2_blown_3 := dk_seg dksX2_blown_2 24 rfl rfl
theorem dksX2_blown_4 : cX2_blown.data.toList.drop 94 = dktX2_blown_4 := dk_seg dksX2_blown_3 24 rfl rfl
theorem dksX2_blown_5 : cX2_blown.data.toList.drop 118 = dktX2_blown_5 := dk_seg dksX2_blown_4 24 rfl rfl
theorem dX2_blown_0 : decode cX2_blown 0 = .ok (.aload_n 0, 1) := dk_42 (dk_at dksX2_blown_0 0 rfl rfl)
theorem dX2_blown_1 : decode cX2_blown 1 = .ok (.iload_n 1, 1) := dk_27 (dk_at dksX2_blown_0 1 rfl rfl)
theorem dX2_blown_2 : decode cX2_blown 2 = .ok (.iconst 1, 1) := dk_4 (dk_at dksX2_blown_0 2 rfl rfl)
theorem dX2_blown_3 : decode cX2_blown 3 = .ok (.iadd, 1) := dk_96 (dk_at dksX2_blown_0 3 rfl rfl)
theorem dX2_blown_4 : decode cX2_blown 4 = .ok (.iconst 0, 1) := dk_3 (dk_at dksX2_blown_0 4 rfl rfl)
theorem dX2_blown_5 : decode cX2_blown 5 = .ok (.bipush 9, 2) := dk_16 9 (dk_at dksX2_blown_0 5 rfl rfl)
theorem dX2_blown_7 : decode cX2_blown 7 = .ok (.invokevirtual 221, 3) := dk_182 0 221 (dk_at dksX2_blown_0 7 rfl rfl)
theorem dX2_blown_10 : decode cX2_blown 10 = .ok (.istore_n 2, 1) := dk_61 (dk_at dksX2_blown_0 10 rfl rfl)
theorem dX2_blown_11 : decode cX2_blown 11 = .ok (.iload_n 2, 1) := dk_28 (dk_at dksX2_blown_0 11 rfl rfl)
theorem dX2_blown_12 : decode cX2_blown 12 = .ok (.ifCond .eq 5, 3) := dk_153 0 5 (dk_at dksX2_blown_0 12 rfl rfl)
theorem dX2_blown_15 : decode cX2_blown 15 = .ok (.iload_n 2, 1) := dk_28 (dk_at dksX2_blown_0 15 rfl rfl)
theorem dX2_blown_16 : decode cX2_blown 16 = .ok (.ireturn, 1) := dk_172 (dk_at dksX2_blown_0 16 rfl rfl)
theorem dX2_blown_17 : decode cX2_blown 17 = .ok (.aload_n 0, 1) := dk_42 (dk_at dksX2_blown_0 17 rfl rfl)
theorem dX2_blown_18 : decode cX2_blown 18 = .ok (.getfield 102, 3) := dk_180 0 102 (dk_at dksX2_blown_0 18 rfl rfl)
theorem dX2_blown_21 : decode cX2_blown 21 = .ok (.iconst 2, 1) := dk_5 (dk_at dksX2_blown_0 21 rfl rfl)
theorem dX2_blown_22 : decode cX2_blown 22 = .ok (.if_icmp .ne 14, 3) := dk_160 0 14 (dk_at dksX2_blown_1 0 rfl rfl)
theorem dX2_blown_25 : decode cX2_blown 25 = .ok (.aload_n 0, 1) := dk_42 (dk_at dksX2_blown_1 3 rfl rfl)
theorem dX2_blown_26 : decode cX2_blown 26 = .ok (.getfield 115, 3) := dk_180 0 115 (dk_at dksX2_blown_1 4 rfl rfl)
theorem dX2_blown_29 : decode cX2_blown 29 = .ok (.ldc2_w 225, 3) := dk_20 0 225 (dk_at dksX2_blown_1 7 rfl rfl)
theorem dX2_blown_32 : decode cX2_blown 32 = .ok (.lcmp, 1) := dk_148 (dk_at dksX2_blown_1 10 rfl rfl)
theorem dX2_blown_33 : decode cX2_blown 33 = .ok (.ifCond .eq 5, 3) := dk_153 0 5 (dk_at dksX2_blown_1 11 rfl rfl)
theorem dX2_blown_36 : decode cX2_blown 36 = .ok (.iconst 1, 1) := dk_4 (dk_at dksX2_blown_1 14 rfl rfl)
theorem dX2_blown_37 : decode cX2_blown 37 = .ok (.ireturn, 1) := dk_172 (dk_at dksX2_blown_1 15 rfl rfl)
theorem dX2_blown_38 : decode cX2_blown 38 = .ok (.aload_n 0, 1) := dk_42 (dk_at dksX2_blown_1 16 rfl rfl)
theorem dX2_blown_39 : decode cX2_blown 39 = .ok (.invokevirtual 164, 3) := dk_182 0 164 (dk_at dksX2_blown_1 17 rfl rfl)
theorem dX2_blown_42 : decode cX2_blown 42 = .ok (.aload_n 0, 1) := dk_42 (dk_at dksX2_blown_1 20 rfl rfl)
theorem dX2_blown_43 : decode cX2_blown 43 = .ok (.iload_n 1, 1) := dk_27 (dk_at dksX2_blown_1 21 rfl rfl)
theorem dX2_blown_44 : decode cX2_blown 44 = .ok (.iconst 2, 1) := dk_5 (dk_at dksX2_blown_1 22 rfl rfl)
theorem dX2_blown_45 : decode cX2_blown 45 = .ok (.iadd, 1) := dk_96 (dk_at dksX2_blown_1 23 rfl rfl)
theorem dX2_blown_46 : decode cX2_blown 46 = .ok (.iconst 0, 1) := dk_3 (dk_at dksX2_blown_2 0 rfl rfl)
theorem dX2_blown_47 : decode cX2_blown 47 = .ok (.iconst 5, 1) := dk_8 (dk_at dksX2_blown_2 1 rfl rfl)
theorem dX2_blown_48 : decode cX2_blown 48 = .ok (.invokevirtual 221, 3) := dk_182 0 221 (dk_at dksX2_blown_2 2 rfl rfl)
theorem dX2_blown_51 : decode cX2_blown 51 = .ok (.istore_n 2, 1) := dk_61 (dk_at dksX2_blown_2 5 rfl rfl)
theorem dX2_blown_52 : decode cX2_blown 52 = .ok (.iload_n 2, 1) := dk_28 (dk_at dksX2_blown_2 6 rfl rfl)
theorem dX2_blown_53 : decode cX2_blown 53 = .ok (.ifCond .eq 5, 3) := dk_153 0 5 (dk_at dksX2_blown_2 7 rfl rfl)
theorem dX2_blown_56 : decode cX2_blown 56 = .ok (.iload_n 2, 1) := dk_28 (dk_at dksX2_blown_2 10 rfl rfl)
theorem dX2_blown_57 : decode cX2_blown 57 = .ok (.ireturn, 1) := dk_172 (dk_at dksX2_blown_2 11 rfl rfl)
theorem dX2_blown_58 : decode cX2_blown 58 = .ok (.aload_n 0, 1) := dk_42 (dk_at dksX2_blown_2 12 rfl rfl)
theorem dX2_blown_59 : decode cX2_blown 59 = .ok (.bipush 103, 2) := dk_16 103 (dk_at dksX2_blown_2 13 rfl rfl)
theorem dX2_blown_61 : decode cX2_blown 61 = .ok (.bipush 105, 2) := dk_16 105 (dk_at dksX2_blown_2 15 rfl rfl)
theorem dX2_blown_63 : decode cX2_blown 63 = .ok (.bipush 118, 2) := dk_16 118 (dk_at dksX2_blown_2 17 rfl rfl)
theorem dX2_blown_65 : decode cX2_blown 65 = .ok (.bipush 101, 2) := dk_16 101 (dk_at dksX2_blown_2 19 rfl rfl)
theorem dX2_blown_67 : decode cX2_blown 67 = .ok (.invokestatic 207, 3) := dk_184 0 207 (dk_at dksX2_blown_2 21 rfl rfl)
theorem dX2_blown_70 : decode cX2_blown 70 = .ok (.invokevirtual 181, 3) := dk_182 0 181 (dk_at dksX2_blown_3 0 rfl rfl)
theorem dX2_blown_73 : decode cX2_blown 73 = .ok (.ifCond .ne 5, 3) := dk_154 0 5 (dk_at dksX2_blown_3 3 rfl rfl)
theorem dX2_blown_76 : decode cX2_blown 76 = .ok (.iconst 1, 1) := dk_4 (dk_at dksX2_blown_3 6 rfl rfl)
theorem dX2_blown_77 : decode cX2_blown 77 = .ok (.ireturn, 1) := dk_172 (dk_at dksX2_blown_3 7 rfl rfl)
theorem dX2_blown_78 : decode cX2_blown 78 = .ok (.aload_n 0, 1) := dk_42 (dk_at dksX2_blown_3 8 rfl rfl)
theorem dX2_blown_79 : decode cX2_blown 79 = .ok (.invokevirtual 164, 3) := dk_182 0 164 (dk_at dksX2_blown_3 9 rfl rfl)
theorem dX2_blown_82 : decode cX2_blown 82 = .ok (.aload_n 0, 1) := dk_42 (dk_at dksX2_blown_3 12 rfl rfl)
theorem dX2_blown_83 : decode cX2_blown 83 = .ok (.getfield 16, 3) := dk_180 0 16 (dk_at dksX2_blown_3 13 rfl rfl)
theorem dX2_blown_86 : decode cX2_blown 86 = .ok (.iload_n 1, 1) := dk_27 (dk_at dksX2_blown_3 16 rfl rfl)
theorem dX2_blown_87 : decode cX2_blown 87 = .ok (.iconst 2, 1) := dk_5 (dk_at dksX2_blown_3 17 rfl rfl)
theorem dX2_blown_88 : decode cX2_blown 88 = .ok (.iadd, 1) := dk_96 (dk_at dksX2_blown_3 18 rfl rfl)
theorem dX2_blown_89 : decode cX2_blown 89 = .ok (.iaload, 1) := dk_46 (dk_at dksX2_blown_3 19 rfl rfl)
theorem dX2_blown_90 : decode cX2_blown 90 = .ok (.istore_n 3, 1) := dk_62 (dk_at dksX2_blown_3 20 rfl rfl)
theorem dX2_blown_91 : decode cX2_blown 91 = .ok (.aload_n 0, 1) := dk_42 (dk_at dksX2_blown_3 21 rfl rfl)
theorem dX2_blown_92 : decode cX2_blown 92 = .ok (.iload_n 1, 1) := dk_27 (dk_at dksX2_blown_3 22 rfl rfl)
theorem dX2_blown_93 : decode cX2_blown 93 = .ok (.iconst 2, 1) := dk_5 (dk_at dksX2_blown_3 23 rfl rfl)
theorem dX2_blown_94 : decode cX2_blown 94 = .ok (.iadd, 1) := dk_96 (dk_at dksX2_blown_4 0 rfl rfl)
theorem dX2_blown_95 : decode cX2_blown 95 = .ok (.iconst 1, 1) := dk_4 (dk_at dksX2_blown_4 1 rfl rfl)
theorem dX2_blown_96 : decode cX2_blown 96 = .ok (.bipush 9, 2) := dk_16 9 (dk_at dksX2_blown_4 2 rfl rfl)
theorem dX2_blown_98 : decode cX2_blown 98 = .ok (.invokevirtual 221, 3) := dk_182 0 221 (dk_at dksX2_blown_4 4 rfl rfl)
theorem dX2_blown_101 : decode cX2_blown 101 = .ok (.istore_n 2, 1) := dk_61 (dk_at dksX2_blown_4 7 rfl rfl)
theorem dX2_blown_102 : decode cX2_blown 102 = .ok (.aload_n 0, 1) := dk_42 (dk_at dksX2_blown_4 8 rfl rfl)
theorem dX2_blown_103 : decode cX2_blown 103 = .ok (.getfield 16, 3) := dk_180 0 16 (dk_at dksX2_blown_4 9 rfl rfl)
theorem dX2_blown_106 : decode cX2_blown 106 = .ok (.iload_n 1, 1) := dk_27 (dk_at dksX2_blown_4 12 rfl rfl)
theorem dX2_blown_107 : decode cX2_blown 107 = .ok (.iconst 2, 1) := dk_5 (dk_at dksX2_blown_4 13 rfl rfl)
theorem dX2_blown_108 : decode cX2_blown 108 = .ok (.iadd, 1) := dk_96 (dk_at dksX2_blown_4 14 rfl rfl)
theorem dX2_blown_109 : decode cX2_blown 109 = .ok (.dup2, 1) := dk_92 (dk_at dksX2_blown_4 15 rfl rfl)
theorem dX2_blown_110 : decode cX2_blown 110 = .ok (.iaload, 1) := dk_46 (dk_at dksX2_blown_4 16 rfl rfl)
theorem dX2_blown_111 : decode cX2_blown 111 = .ok (.bipush 10, 2) := dk_16 10 (dk_at dksX2_blown_4 17 rfl rfl)
theorem dX2_blown_113 : decode cX2_blown 113 = .ok (.iload_n 3, 1) := dk_29 (dk_at dksX2_blown_4 19 rfl rfl)
theorem dX2_blown_114 : decode cX2_blown 114 = .ok (.imul, 1) := dk_104 (dk_at dksX2_blown_4 20 rfl rfl)
theorem dX2_blown_115 : decode cX2_blown 115 = .ok (.iadd, 1) := dk_96 (dk_at dksX2_blown_4 21 rfl rfl)
theorem dX2_blown_116 : decode cX2_blown 116 = .ok (.iastore, 1) := dk_79 (dk_at dksX2_blown_4 22 rfl rfl)
theorem dX2_blown_117 : decode cX2_blown 117 = .ok (.iload_n 2, 1) := dk_28 (dk_at dksX2_blown_4 23 rfl rfl)
theorem dX2_blown_118 : decode cX2_blown 118 = .ok (.ireturn, 1) := dk_172 (dk_at dksX2_blown_5 0 rfl rfl)
abbrev cX2_fault : ByteArray := prog_18_method_56_code
def yX2_fault : MethodName := ⟨RX2, "fault", "(I)I"⟩
def dkwX2_fault_1 : List UInt8 := [172]
abbrev dktX2_fault_1 : List UInt8 := dkwX2_fault_1 ++ []
def dkwX2_fault_0 : List UInt8 := [27, 154, 0, 10, 42, 180, 0, 22, 167, 0, 16, 27, 4, 160, 0, 10, 42, 180, 0, 26, 167, 0, 4, 2]
abbrev dktX2_fault_0 : List UInt8 := dkwX2_fault_0 ++ dktX2_fault_1
theorem dksX2_fault_0 : cX2_fault.data.toList.drop 0 = dktX2_fault_0 := by decide +kernel
theorem dksX2_fault_1 : cX2_fault.data.toList.drop 24 = dktX2_fault_1 := dk_seg dksX2_fault_0 24 rfl rfl
theorem dX2_fault_0 : decode cX2_fault 0 = .ok (.iload_n 1, 1) := dk_27 (dk_at dksX2_fault_0 0 rfl rfl)
theorem dX2_fault_1 : decode cX2_fault 1 = .ok (.ifCond .ne 10, 3) := dk_154 0 10 (dk_at dksX2_fault_0 1 rfl rfl)
theorem dX2_fault_4 : decode cX2_fault 4 = .ok (.aload_n 0, 1) := dk_42 (dk_at dksX2_fault_0 4 rfl rfl)
theorem dX2_fault_5 : decode cX2_fault 5 = .ok (.getfield 22, 3) := dk_180 0 22 (dk_at dksX2_fault_0 5 rfl rfl)
theorem dX2_fault_8 : decode cX2_fault 8 = .ok (.goto 16, 3) := dk_167 0 16 (dk_at dksX2_fault_0 8 rfl rfl)
theorem dX2_fault_11 : decode cX2_fault 11 = .ok (.iload_n 1, 1) := dk_27 (dk_at dksX2_fault_0 11 rfl rfl)
theorem dX2_fault_12 : decode cX2_fault 12 = .ok (.iconst 1, 1) := dk_4 (dk_at dksX2_fault_0 12 rfl rfl)
theorem dX2_fault_13 : decode cX2_fault 13 = .ok (.if_icmp .ne 10, 3) := dk_160 0 10 (dk_at dksX2_fault_0 13 rfl rfl)
theorem dX2_fault_16 : decode cX2_fault 16 = .ok (.aload_n 0, 1) := dk_42 (dk_at dksX2_fault_0 16 rfl rfl)
theorem dX2_fault_17 : decode cX2_fault 17 = .ok (.getfield 26, 3) := dk_180 0 26 (dk_at dksX2_fault_0 17 rfl rfl)
theorem dX2_fault_20 : decode cX2_fault 20 = .ok (.goto 4, 3) := dk_167 0 4 (dk_at dksX2_fault_0 20 rfl rfl)
theorem dX2_fault_23 : decode cX2_fault 23 = .ok (.iconst (-1), 1) := dk_2 (dk_at dksX2_fault_0 23 rfl rfl)
theorem dX2_fault_24 : decode cX2_fault 24 = .ok (.ireturn, 1) := dk_172 (dk_at dksX2_fault_1 0 rfl rfl)
abbrev cX2_by : ByteArray := prog_18_method_57_code
def yX2_by : MethodName := ⟨RX2, "by", "(I)Z"⟩
def dkwX2_by_1 : List UInt8 := [79, 4, 172]
abbrev dktX2_by_1 : List UInt8 := dkwX2_by_1 ++ []
def dkwX2_by_0 : List UInt8 := [27, 2, 42, 180, 0, 7, 7, 46, 4, 100, 184, 0, 62, 154, 0, 5, 3, 172, 42, 180, 0, 7, 8, 27]
abbrev dktX2_by_0 : List UInt8 := dkwX2_by_0 ++ dktX2_by_1
theorem dksX2_by_0 : cX2_by.data.toList.drop 0 = dktX2_by_0 := by decide +kernel
theorem dksX2_by_1 : cX2_by.data.toList.drop 24 = dktX2_by_1 := dk_seg dksX2_by_0 24 rfl rfl
theorem dX2_by_0 : decode cX2_by 0 = .ok (.iload_n 1, 1) := dk_27 (dk_at dksX2_by_0 0 rfl rfl)
theorem dX2_by_1 : decode cX2_by 1 = .ok (.iconst (-1), 1) := dk_2 (dk_at dksX2_by_0 1 rfl rfl)
theorem dX2_by_2 : decode cX2_by 2 = .ok (.aload_n 0, 1) := dk_42 (dk_at dksX2_by_0 2 rfl rfl)
theorem dX2_by_3 : decode cX2_by 3 = .ok (.getfield 7, 3) := dk_180 0 7 (dk_at dksX2_by_0 3 rfl rfl)
theorem dX2_by_6 : decode cX2_by 6 = .ok (.iconst 4, 1) := dk_7 (dk_at dksX2_by_0 6 rfl rfl)
theorem dX2_by_7 : decode cX2_by 7 = .ok (.iaload, 1) := dk_46 (dk_at dksX2_by_0 7 rfl rfl)
theorem dX2_by_8 : decode cX2_by 8 = .ok (.iconst 1, 1) := dk_4 (dk_at dksX2_by_0 8 rfl rfl)
theorem dX2_by_9 : decode cX2_by 9 = .ok (.isub, 1) := dk_100 (dk_at dksX2_by_0 9 rfl rfl)
theorem dX2_by_10 : decode cX2_by 10 = .ok (.invokestatic 62, 3) := dk_184 0 62 (dk_at dksX2_by_0 10 rfl rfl)
theorem dX2_by_13 : decode cX2_by 13 = .ok (.ifCond .ne 5, 3) := dk_154 0 5 (dk_at dksX2_by_0 13 rfl rfl)
theorem dX2_by_16 : decode cX2_by 16 = .ok (.iconst 0, 1) := dk_3 (dk_at dksX2_by_0 16 rfl rfl)
theorem dX2_by_17 : decode cX2_by 17 = .ok (.ireturn, 1) := dk_172 (dk_at dksX2_by_0 17 rfl rfl)
theorem dX2_by_18 : decode cX2_by 18 = .ok (.aload_n 0, 1) := dk_42 (dk_at dksX2_by_0 18 rfl rfl)
theorem dX2_by_19 : decode cX2_by 19 = .ok (.getfield 7, 3) := dk_180 0 7 (dk_at dksX2_by_0 19 rfl rfl)
theorem dX2_by_22 : decode cX2_by 22 = .ok (.iconst 5, 1) := dk_8 (dk_at dksX2_by_0 22 rfl rfl)
theorem dX2_by_23 : decode cX2_by 23 = .ok (.iload_n 1, 1) := dk_27 (dk_at dksX2_by_0 23 rfl rfl)
theorem dX2_by_24 : decode cX2_by 24 = .ok (.iastore, 1) := dk_79 (dk_at dksX2_by_1 0 rfl rfl)
theorem dX2_by_25 : decode cX2_by 25 = .ok (.iconst 1, 1) := dk_4 (dk_at dksX2_by_1 1 rfl rfl)
theorem dX2_by_26 : decode cX2_by 26 = .ok (.ireturn, 1) := dk_172 (dk_at dksX2_by_1 2 rfl rfl)
abbrev cX2_smoke : ByteArray := prog_18_method_69_code
def yX2_smoke : MethodName := ⟨RX2, "smoke", "(I)I"⟩
def dkwX2_smoke_0 : List UInt8 := [27, 184, 1, 31, 153, 0, 11, 42, 27, 182, 1, 34, 167, 0, 4, 2, 172]
abbrev dktX2_smoke_0 : List UInt8 := dkwX2_smoke_0 ++ []
theorem dksX2_smoke_0 : cX2_smoke.data.toList.drop 0 = dktX2_smoke_0 := by decide +kernel
theorem dX2_smoke_0 : decode cX2_smoke 0 = .ok (.iload_n 1, 1) := dk_27 (dk_at dksX2_smoke_0 0 rfl rfl)
theorem dX2_smoke_1 : decode cX2_smoke 1 = .ok (.invokestatic 287, 3) := dk_184 1 31 (dk_at dksX2_smoke_0 1 rfl rfl)
theorem dX2_smoke_4 : decode cX2_smoke 4 = .ok (.ifCond .eq 11, 3) := dk_153 0 11 (dk_at dksX2_smoke_0 4 rfl rfl)
theorem dX2_smoke_7 : decode cX2_smoke 7 = .ok (.aload_n 0, 1) := dk_42 (dk_at dksX2_smoke_0 7 rfl rfl)
theorem dX2_smoke_8 : decode cX2_smoke 8 = .ok (.iload_n 1, 1) := dk_27 (dk_at dksX2_smoke_0 8 rfl rfl)
theorem dX2_smoke_9 : decode cX2_smoke 9 = .ok (.invokevirtual 290, 3) := dk_182 1 34 (dk_at dksX2_smoke_0 9 rfl rfl)
theorem dX2_smoke_12 : decode cX2_smoke 12 = .ok (.goto 4, 3) := dk_167 0 4 (dk_at dksX2_smoke_0 12 rfl rfl)
theorem dX2_smoke_15 : decode cX2_smoke 15 = .ok (.iconst (-1), 1) := dk_2 (dk_at dksX2_smoke_0 15 rfl rfl)
theorem dX2_smoke_16 : decode cX2_smoke 16 = .ok (.ireturn, 1) := dk_172 (dk_at dksX2_smoke_0 16 rfl rfl)
abbrev cX2_isHour : ByteArray := prog_18_method_10_code
def yX2_isHour : MethodName := ⟨RX2, "isHour", "(I)Z"⟩
def dkwX2_isHour_0 : List UInt8 := [26, 3, 17, 3, 231, 184, 0, 62, 172]
abbrev dktX2_isHour_0 : List UInt8 := dkwX2_isHour_0 ++ []
theorem dksX2_isHour_0 : cX2_isHour.data.toList.drop 0 = dktX2_isHour_0 := by decide +kernel
theorem dX2_isHour_0 : decode cX2_isHour 0 = .ok (.iload_n 0, 1) := dk_26 (dk_at dksX2_isHour_0 0 rfl rfl)
theorem dX2_isHour_1 : decode cX2_isHour 1 = .ok (.iconst 0, 1) := dk_3 (dk_at dksX2_isHour_0 1 rfl rfl)
theorem dX2_isHour_2 : decode cX2_isHour 2 = .ok (.sipush 999, 3) := dk_17 3 231 (dk_at dksX2_isHour_0 2 rfl rfl)
theorem dX2_isHour_5 : decode cX2_isHour 5 = .ok (.invokestatic 62, 3) := dk_184 0 62 (dk_at dksX2_isHour_0 5 rfl rfl)
theorem dX2_isHour_8 : decode cX2_isHour 8 = .ok (.ireturn, 1) := dk_172 (dk_at dksX2_isHour_0 8 rfl rfl)
abbrev cX2_smokeIn : ByteArray := prog_18_method_63_code
def yX2_smokeIn : MethodName := ⟨RX2, "smokeIn", "(I)I"⟩
def dkwX2_smokeIn_0 : List UInt8 := [42, 180, 0, 32, 3, 27, 79, 42, 3, 16, 40, 16, 40, 182, 1, 15, 172]
abbrev dktX2_smokeIn_0 : List UInt8 := dkwX2_smokeIn_0 ++ []
theorem dksX2_smokeIn_0 : cX2_smokeIn.data.toList.drop 0 = dktX2_smokeIn_0 := by decide +kernel
theorem dX2_smokeIn_0 : decode cX2_smokeIn 0 = .ok (.aload_n 0, 1) := dk_42 (dk_at dksX2_smokeIn_0 0 rfl rfl)
theorem dX2_smokeIn_1 : decode cX2_smokeIn 1 = .ok (.getfield 32, 3) := dk_180 0 32 (dk_at dksX2_smokeIn_0 1 rfl rfl)
theorem dX2_smokeIn_4 : decode cX2_smokeIn 4 = .ok (.iconst 0, 1) := dk_3 (dk_at dksX2_smokeIn_0 4 rfl rfl)
theorem dX2_smokeIn_5 : decode cX2_smokeIn 5 = .ok (.iload_n 1, 1) := dk_27 (dk_at dksX2_smokeIn_0 5 rfl rfl)
theorem dX2_smokeIn_6 : decode cX2_smokeIn 6 = .ok (.iastore, 1) := dk_79 (dk_at dksX2_smokeIn_0 6 rfl rfl)
theorem dX2_smokeIn_7 : decode cX2_smokeIn 7 = .ok (.aload_n 0, 1) := dk_42 (dk_at dksX2_smokeIn_0 7 rfl rfl)
theorem dX2_smokeIn_8 : decode cX2_smokeIn 8 = .ok (.iconst 0, 1) := dk_3 (dk_at dksX2_smokeIn_0 8 rfl rfl)
theorem dX2_smokeIn_9 : decode cX2_smokeIn 9 = .ok (.bipush 40, 2) := dk_16 40 (dk_at dksX2_smokeIn_0 9 rfl rfl)
theorem dX2_smokeIn_11 : decode cX2_smokeIn 11 = .ok (.bipush 40, 2) := dk_16 40 (dk_at dksX2_smokeIn_0 11 rfl rfl)
theorem dX2_smokeIn_13 : decode cX2_smokeIn 13 = .ok (.invokevirtual 271, 3) := dk_182 1 15 (dk_at dksX2_smokeIn_0 13 rfl rfl)
theorem dX2_smokeIn_16 : decode cX2_smokeIn 16 = .ok (.ireturn, 1) := dk_172 (dk_at dksX2_smokeIn_0 16 rfl rfl)
abbrev cX2_sumOf : ByteArray := prog_18_method_62_code
def yX2_sumOf : MethodName := ⟨RX2, "sumOf", "(III)I"⟩
def dkwX2_sumOf_3 : List UInt8 := [180, 0, 35, 3, 47, 3, 28, 184, 1, 11, 172, 132, 4, 1, 167, 255, 177, 29, 172]
abbrev dktX2_sumOf_3 : List UInt8 := dkwX2_sumOf_3 ++ []
def dkwX2_sumOf_2 : List UInt8 := [4, 96, 6, 21, 4, 104, 96, 46, 27, 159, 0, 6, 167, 0, 21, 42, 21, 4, 182, 1, 8, 42]
abbrev dktX2_sumOf_2 : List UInt8 := dkwX2_sumOf_2 ++ dktX2_sumOf_3
def dkwX2_sumOf_1 : List UInt8 := [180, 0, 7, 8, 46, 104, 46, 162, 0, 56, 42, 180, 0, 16, 17, 2, 168, 42, 180, 0, 7, 8, 46, 104]
abbrev dktX2_sumOf_1 : List UInt8 := dkwX2_sumOf_1 ++ dktX2_sumOf_2
def dkwX2_sumOf_0 : List UInt8 := [3, 54, 4, 42, 180, 0, 7, 8, 46, 155, 0, 76, 21, 4, 42, 180, 0, 16, 17, 2, 168, 42]
abbrev dktX2_sumOf_0 : List UInt8 := dkwX2_sumOf_0 ++ dktX2_sumOf_1
theorem dksX2_sumOf_0 : cX2_sumOf.data.toList.drop 0 = dktX2_sumOf_0 := by decide +kernel
theorem dksX2_sumOf_1 : cX2_sumOf.data.toList.drop 22 = dktX2_sumOf_1 := dk_seg dksX2_sumOf_0 22 rfl rfl
theorem dksX2_sumOf_2 : cX2_sumOf.data.toList.drop 46 = dktX2_sumOf_2 := dk_seg dksX2_sumOf_1 24 rfl rfl
theorem dksX2_sumOf_3 : cX2_sumOf.data.toList.drop 68 = dktX2_sumOf_3 := dk_seg dksX2_sumOf_2 22 rfl rfl
theorem dX2_sumOf_0 : decode cX2_sumOf 0 = .ok (.iconst 0, 1) := dk_3 (dk_at dksX2_sumOf_0 0 rfl rfl)
theorem dX2_sumOf_1 : decode cX2_sumOf 1 = .ok (.istore 4, 2) := dk_54 4 (dk_at dksX2_sumOf_0 1 rfl rfl)
theorem dX2_sumOf_3 : decode cX2_sumOf 3 = .ok (.aload_n 0, 1) := dk_42 (dk_at dksX2_sumOf_0 3 rfl rfl)
theorem dX2_sumOf_4 : decode cX2_sumOf 4 = .ok (.getfield 7, 3) := dk_180 0 7 (dk_at dksX2_sumOf_0 4 rfl rfl)
theorem dX2_sumOf_7 : decode cX2_sumOf 7 = .ok (.iconst 5, 1) := dk_8 (dk_at dksX2_sumOf_0 7 rfl rfl)
theorem dX2_sumOf_8 : decode cX2_sumOf 8 = .ok (.iaload, 1) := dk_46 (dk_at dksX2_sumOf_0 8 rfl rfl)
theorem dX2_sumOf_9 : decode cX2_sumOf 9 = .ok (.ifCond .lt 76, 3) := dk_155 0 76 (dk_at dksX2_sumOf_0 9 rfl rfl)
theorem dX2_sumOf_12 : decode cX2_sumOf 12 = .ok (.iload 4, 2) := dk_21 4 (dk_at dksX2_sumOf_0 12 rfl rfl)
theorem dX2_sumOf_14 : decode cX2_sumOf 14 = .ok (.aload_n 0, 1) := dk_42 (dk_at dksX2_sumOf_0 14 rfl rfl)
theorem dX2_sumOf_15 : decode cX2_sumOf 15 = .ok (.getfield 16, 3) := dk_180 0 16 (dk_at dksX2_sumOf_0 15 rfl rfl)
theorem dX2_sumOf_18 : decode cX2_sumOf 18 = .ok (.sipush 680, 3) := dk_17 2 168 (dk_at dksX2_sumOf_0 18 rfl rfl)
theorem dX2_sumOf_21 : decode cX2_sumOf 21 = .ok (.aload_n 0, 1) := dk_42 (dk_at dksX2_sumOf_0 21 rfl rfl)
theorem dX2_sumOf_22 : decode cX2_sumOf 22 = .ok (.getfield 7, 3) := dk_180 0 7 (dk_at dksX2_sumOf_1 0 rfl rfl)
theorem dX2_sumOf_25 : decode cX2_sumOf 25 = .ok (.iconst 5, 1) := dk_8 (dk_at dksX2_sumOf_1 3 rfl rfl)
theorem dX2_sumOf_26 : decode cX2_sumOf 26 = .ok (.iaload, 1) := dk_46 (dk_at dksX2_sumOf_1 4 rfl rfl)
theorem dX2_sumOf_27 : decode cX2_sumOf 27 = .ok (.imul, 1) := dk_104 (dk_at dksX2_sumOf_1 5 rfl rfl)
theorem dX2_sumOf_28 : decode cX2_sumOf 28 = .ok (.iaload, 1) := dk_46 (dk_at dksX2_sumOf_1 6 rfl rfl)
theorem dX2_sumOf_29 : decode cX2_sumOf 29 = .ok (.if_icmp .ge 56, 3) := dk_162 0 56 (dk_at dksX2_sumOf_1 7 rfl rfl)
theorem dX2_sumOf_32 : decode cX2_sumOf 32 = .ok (.aload_n 0, 1) := dk_42 (dk_at dksX2_sumOf_1 10 rfl rfl)
theorem dX2_sumOf_33 : decode cX2_sumOf 33 = .ok (.getfield 16, 3) := dk_180 0 16 (dk_at dksX2_sumOf_1 11 rfl rfl)
theorem dX2_sumOf_36 : decode cX2_sumOf 36 = .ok (.sipush 680, 3) := dk_17 2 168 (dk_at dksX2_sumOf_1 14 rfl rfl)
theorem dX2_sumOf_39 : decode cX2_sumOf 39 = .ok (.aload_n 0, 1) := dk_42 (dk_at dksX2_sumOf_1 17 rfl rfl)
theorem dX2_sumOf_40 : decode cX2_sumOf 40 = .ok (.getfield 7, 3) := dk_180 0 7 (dk_at dksX2_sumOf_1 18 rfl rfl)
theorem dX2_sumOf_43 : decode cX2_sumOf 43 = .ok (.iconst 5, 1) := dk_8 (dk_at dksX2_sumOf_1 21 rfl rfl)
theorem dX2_sumOf_44 : decode cX2_sumOf 44 = .ok (.iaload, 1) := dk_46 (dk_at dksX2_sumOf_1 22 rfl rfl)
theorem dX2_sumOf_45 : decode cX2_sumOf 45 = .ok (.imul, 1) := dk_104 (dk_at dksX2_sumOf_1 23 rfl rfl)
theorem dX2_sumOf_46 : decode cX2_sumOf 46 = .ok (.iconst 1, 1) := dk_4 (dk_at dksX2_sumOf_2 0 rfl rfl)
theorem dX2_sumOf_47 : decode cX2_sumOf 47 = .ok (.iadd, 1) := dk_96 (dk_at dksX2_sumOf_2 1 rfl rfl)
theorem dX2_sumOf_48 : decode cX2_sumOf 48 = .ok (.iconst 3, 1) := dk_6 (dk_at dksX2_sumOf_2 2 rfl rfl)
theorem dX2_sumOf_49 : decode cX2_sumOf 49 = .ok (.iload 4, 2) := dk_21 4 (dk_at dksX2_sumOf_2 3 rfl rfl)
theorem dX2_sumOf_51 : decode cX2_sumOf 51 = .ok (.imul, 1) := dk_104 (dk_at dksX2_sumOf_2 5 rfl rfl)
theorem dX2_sumOf_52 : decode cX2_sumOf 52 = .ok (.iadd, 1) := dk_96 (dk_at dksX2_sumOf_2 6 rfl rfl)
theorem dX2_sumOf_53 : decode cX2_sumOf 53 = .ok (.iaload, 1) := dk_46 (dk_at dksX2_sumOf_2 7 rfl rfl)
theorem dX2_sumOf_54 : decode cX2_sumOf 54 = .ok (.iload_n 1, 1) := dk_27 (dk_at dksX2_sumOf_2 8 rfl rfl)
theorem dX2_sumOf_55 : decode cX2_sumOf 55 = .ok (.if_icmp .eq 6, 3) := dk_159 0 6 (dk_at dksX2_sumOf_2 9 rfl rfl)
theorem dX2_sumOf_58 : decode cX2_sumOf 58 = .ok (.goto 21, 3) := dk_167 0 21 (dk_at dksX2_sumOf_2 12 rfl rfl)
theorem dX2_sumOf_61 : decode cX2_sumOf 61 = .ok (.aload_n 0, 1) := dk_42 (dk_at dksX2_sumOf_2 15 rfl rfl)
theorem dX2_sumOf_62 : decode cX2_sumOf 62 = .ok (.iload 4, 2) := dk_21 4 (dk_at dksX2_sumOf_2 16 rfl rfl)
theorem dX2_sumOf_64 : decode cX2_sumOf 64 = .ok (.invokevirtual 264, 3) := dk_182 1 8 (dk_at dksX2_sumOf_2 18 rfl rfl)
theorem dX2_sumOf_67 : decode cX2_sumOf 67 = .ok (.aload_n 0, 1) := dk_42 (dk_at dksX2_sumOf_2 21 rfl rfl)
theorem dX2_sumOf_68 : decode cX2_sumOf 68 = .ok (.getfield 35, 3) := dk_180 0 35 (dk_at dksX2_sumOf_3 0 rfl rfl)
theorem dX2_sumOf_71 : decode cX2_sumOf 71 = .ok (.iconst 0, 1) := dk_3 (dk_at dksX2_sumOf_3 3 rfl rfl)
theorem dX2_sumOf_72 : decode cX2_sumOf 72 = .ok (.laload, 1) := dk_47 (dk_at dksX2_sumOf_3 4 rfl rfl)
theorem dX2_sumOf_73 : decode cX2_sumOf 73 = .ok (.iconst 0, 1) := dk_3 (dk_at dksX2_sumOf_3 5 rfl rfl)
theorem dX2_sumOf_74 : decode cX2_sumOf 74 = .ok (.iload_n 2, 1) := dk_28 (dk_at dksX2_sumOf_3 6 rfl rfl)
theorem dX2_sumOf_75 : decode cX2_sumOf 75 = .ok (.invokestatic 267, 3) := dk_184 1 11 (dk_at dksX2_sumOf_3 7 rfl rfl)
theorem dX2_sumOf_78 : decode cX2_sumOf 78 = .ok (.ireturn, 1) := dk_172 (dk_at dksX2_sumOf_3 10 rfl rfl)
theorem dX2_sumOf_79 : decode cX2_sumOf 79 = .ok (.iinc 4 1, 3) := dk_132 4 1 (dk_at dksX2_sumOf_3 11 rfl rfl)
theorem dX2_sumOf_82 : decode cX2_sumOf 82 = .ok (.goto (-79), 3) := dk_167 255 177 (dk_at dksX2_sumOf_3 14 rfl rfl)
theorem dX2_sumOf_85 : decode cX2_sumOf 85 = .ok (.iload_n 3, 1) := dk_29 (dk_at dksX2_sumOf_3 17 rfl rfl)
theorem dX2_sumOf_86 : decode cX2_sumOf 86 = .ok (.ireturn, 1) := dk_172 (dk_at dksX2_sumOf_3 18 rfl rfl)
abbrev cX2_work : ByteArray := prog_18_method_61_code
def yX2_work : MethodName := ⟨RX2, "work", "(I)V"⟩
def dkwX2_work_17 : List UInt8 := [21, 5, 51, 153, 0, 7, 4, 167, 0, 4, 3, 84, 132, 6, 1, 167, 254, 149, 177]
abbrev dktX2_work_17 : List UInt8 := dkwX2_work_17 ++ []
def dkwX2_work_16 : List UInt8 := [167, 0, 34, 3, 167, 0, 30, 42, 180, 0, 39, 21, 5, 4, 100, 51, 154, 0, 13, 42, 180, 0, 39]
abbrev dktX2_work_16 : List UInt8 := dkwX2_work_16 ++ dktX2_work_17
def dkwX2_work_15 : List UInt8 := [180, 0, 39, 21, 5, 4, 100, 51, 153, 0, 17, 42, 180, 0, 39, 21, 5, 51, 153, 0, 7, 4]
abbrev dktX2_work_15 : List UInt8 := dkwX2_work_15 ++ dktX2_work_16
def dkwX2_work_14 : List UInt8 := [167, 0, 79, 132, 5, 255, 42, 180, 0, 39, 21, 5, 4, 100, 21, 7, 16, 21, 160, 0, 33, 42]
abbrev dktX2_work_14 : List UInt8 := dkwX2_work_14 ++ dktX2_work_15
def dkwX2_work_13 : List UInt8 := [153, 0, 15, 42, 180, 0, 35, 21, 4, 4, 100, 47, 167, 0, 10, 42, 180, 0, 35, 21, 4, 47, 80]
abbrev dktX2_work_13 : List UInt8 := dkwX2_work_13 ++ dktX2_work_14
def dkwX2_work_12 : List UInt8 := [160, 0, 50, 132, 4, 255, 132, 5, 255, 42, 180, 0, 35, 21, 4, 4, 100, 42, 180, 0, 39, 21, 5, 51]
abbrev dktX2_work_12 : List UInt8 := dkwX2_work_12 ++ dktX2_work_13
def dkwX2_work_11 : List UInt8 := [180, 0, 39, 21, 5, 4, 100, 51, 154, 0, 7, 4, 167, 0, 4, 3, 84, 167, 0, 133, 21, 7, 16, 23]
abbrev dktX2_work_11 : List UInt8 := dkwX2_work_11 ++ dktX2_work_12
def dkwX2_work_10 : List UInt8 := [132, 5, 1, 167, 0, 169, 21, 7, 16, 20, 160, 0, 32, 42, 180, 0, 39, 21, 5, 4, 100, 42]
abbrev dktX2_work_10 : List UInt8 := dkwX2_work_10 ++ dktX2_work_11
def dkwX2_work_9 : List UInt8 := [21, 7, 42, 180, 0, 35, 21, 4, 47, 42, 180, 0, 35, 21, 4, 4, 96, 47, 184, 1, 4, 84]
abbrev dktX2_work_9 : List UInt8 := dkwX2_work_9 ++ dktX2_work_10
def dkwX2_work_8 : List UInt8 := [47, 184, 1, 0, 80, 167, 0, 213, 21, 7, 16, 20, 162, 0, 40, 132, 4, 254, 42, 180, 0, 39, 21, 5]
abbrev dktX2_work_8 : List UInt8 := dkwX2_work_8 ++ dktX2_work_9
def dkwX2_work_7 : List UInt8 := [180, 0, 35, 21, 4, 4, 100, 21, 7, 42, 180, 0, 35, 21, 4, 4, 100, 47, 42, 180, 0, 35, 21, 4]
abbrev dktX2_work_7 : List UInt8 := dkwX2_work_7 ++ dktX2_work_8
def dkwX2_work_6 : List UInt8 := [180, 0, 35, 21, 4, 4, 100, 47, 117, 80, 167, 1, 0, 21, 7, 16, 10, 162, 0, 39, 132, 4, 255, 42]
abbrev dktX2_work_6 : List UInt8 := dkwX2_work_6 ++ dktX2_work_7
def dkwX2_work_5 : List UInt8 := [80, 132, 4, 1, 167, 1, 28, 21, 7, 5, 160, 0, 25, 42, 180, 0, 35, 21, 4, 4, 100, 42]
abbrev dktX2_work_5 : List UInt8 := dkwX2_work_5 ++ dktX2_work_6
def dkwX2_work_4 : List UInt8 := [180, 0, 35, 21, 4, 21, 7, 154, 0, 9, 21, 8, 133, 167, 0, 11, 42, 180, 0, 32, 21, 8, 46, 133]
abbrev dktX2_work_4 : List UInt8 := dkwX2_work_4 ++ dktX2_work_5
def dkwX2_work_3 : List UInt8 := [54, 7, 42, 180, 0, 16, 29, 5, 21, 6, 104, 96, 4, 96, 46, 54, 8, 21, 7, 4, 163, 0, 35, 42]
abbrev dktX2_work_3 : List UInt8 := dkwX2_work_3 ++ dktX2_work_4
def dkwX2_work_2 : List UInt8 := [21, 6, 42, 180, 0, 16, 28, 5, 96, 46, 162, 1, 100, 42, 180, 0, 16, 29, 5, 21, 6, 104, 96, 46]
abbrev dktX2_work_2 : List UInt8 := dkwX2_work_2 ++ dktX2_work_3
def dkwX2_work_1 : List UInt8 := [8, 46, 104, 16, 75, 96, 62, 3, 54, 4, 3, 54, 5, 42, 180, 0, 16, 28, 4, 96, 46, 54, 6]
abbrev dktX2_work_1 : List UInt8 := dkwX2_work_1 ++ dktX2_work_2
def dkwX2_work_0 : List UInt8 := [17, 2, 168, 42, 180, 0, 7, 8, 46, 104, 4, 96, 6, 27, 104, 96, 61, 17, 2, 168, 42, 180, 0, 7]
abbrev dktX2_work_0 : List UInt8 := dkwX2_work_0 ++ dktX2_work_1
theorem dksX2_work_0 : cX2_work.data.toList.drop 0 = dktX2_work_0 := by decide +kernel
theorem dksX2_work_1 : cX2_work.data.toList.drop 24 = dktX2_work_1 := dk_seg dksX2_work_0 24 rfl rfl
theorem dksX2_work_2 : cX2_work.data.toList.drop 47 = dktX2_work_2 := dk_seg dksX2_work_1 23 rfl rfl
theorem dksX2_work_3 : cX2_work.data.toList.drop 71 = dktX2_work_3 := dk_seg dksX2_work_2 24 rfl rfl
theorem dksX2_work_4 : cX2_work.data.toList.drop 95 = dktX2_work_4 := dk_seg dksX2_work_3 24 rfl rfl
theorem dksX2_work_5 : cX2_work.data.toList.drop 119 = dktX2_work_5 := dk_seg dksX2_work_4 24 rfl rfl
theorem dksX2_work_6 : cX2_work.data.toList.drop 141 = dktX2_work_6 := dk_seg dksX2_work_5 22 rfl rfl
theorem dksX2_work_7 : cX2_work.data.toList.drop 165 = dktX2_work_7 := dk_seg dksX2_work_6 24 rfl rfl
theorem dksX2_work_8 : cX2_work.data.toList.drop 189 = dktX2_work_8 := dk_seg dksX2_work_7 24 rfl rfl
theorem dksX2_work_9 : cX2_work.data.toList.drop 213 = dktX2_work_9 := dk_seg dksX2_work_8 24 rfl rfl
theorem dksX2_work_10 : cX2_work.data.toList.drop 235 = dktX2_work_10 := dk_seg dksX2_work_9 22 rfl rfl
theorem dksX2_work_11 : cX2_work.data.toList.drop 257 = dktX2_work_11 := dk_seg dksX2_work_10 22 rfl rfl
theorem dksX2_work_12 : cX2_work.data.toList.drop 281 = dktX2_work_12 := dk_seg dksX2_work_11 24 rfl rfl
theorem dksX2_work_13 : cX2_work.data.toList.drop 305 = dktX2_work_13 := dk_seg dksX2_work_12 24 rfl rfl
theorem dksX2_work_14 : cX2_work.data.toList.drop 328 = dktX2_work_14 := dk_seg dksX2_work_13 23 rfl rfl
theorem dksX2_work_15 : cX2_work.data.toList.drop 350 = dktX2_work_15 := dk_seg dksX2_work_14 22 rfl rfl
theorem dksX2_work_16 : cX2_work.data.toList.drop 372 = dktX2_work_16 := dk_seg dksX2_work_15 22 rfl rfl
theorem dksX2_work_17 : cX2_work.data.toList.drop 395 = dktX2_work_17 := dk_seg dksX2_work_16 23 rfl rfl
theorem dX2_work_0 : decode cX2_work 0 = .ok (.sipush 680, 3) := dk_17 2 168 (dk_at dksX2_work_0 0 rfl rfl)
theorem dX2_work_3 : decode cX2_work 3 = .ok (.aload_n 0, 1) := dk_42 (dk_at dksX2_work_0 3 rfl rfl)
theorem dX2_work_4 : decode cX2_work 4 = .ok (.getfield 7, 3) := dk_180 0 7 (dk_at dksX2_work_0 4 rfl rfl)
theorem dX2_work_7 : decode cX2_work 7 = .ok (.iconst 5, 1) := dk_8 (dk_at dksX2_work_0 7 rfl rfl)
theorem dX2_work_8 : decode cX2_work 8 = .ok (.iaload, 1) := dk_46 (dk_at dksX2_work_0 8 rfl rfl)
theorem dX2_work_9 : decode cX2_work 9 = .ok (.imul, 1) := dk_104 (dk_at dksX2_work_0 9 rfl rfl)
theorem dX2_work_10 : decode cX2_work 10 = .ok (.iconst 1, 1) := dk_4 (dk_at dksX2_work_0 10 rfl rfl)
theorem dX2_work_11 : decode cX2_work 11 = .ok (.iadd, 1) := dk_96 (dk_at dksX2_work_0 11 rfl rfl)
theorem dX2_work_12 : decode cX2_work 12 = .ok (.iconst 3, 1) := dk_6 (dk_at dksX2_work_0 12 rfl rfl)
theorem dX2_work_13 : decode cX2_work 13 = .ok (.iload_n 1, 1) := dk_27 (dk_at dksX2_work_0 13 rfl rfl)
theorem dX2_work_14 : decode cX2_work 14 = .ok (.imul, 1) := dk_104 (dk_at dksX2_work_0 14 rfl rfl)
theorem dX2_work_15 : decode cX2_work 15 = .ok (.iadd, 1) := dk_96 (dk_at dksX2_work_0 15 rfl rfl)
theorem dX2_work_16 : decode cX2_work 16 = .ok (.istore_n 2, 1) := dk_61 (dk_at dksX2_work_0 16 rfl rfl)
theorem dX2_work_17 : decode cX2_work 17 = .ok (.sipush 680, 3) := dk_17 2 168 (dk_at dksX2_work_0 17 rfl rfl)
theorem dX2_work_20 : decode cX2_work 20 = .ok (.aload_n 0, 1) := dk_42 (dk_at dksX2_work_0 20 rfl rfl)
theorem dX2_work_21 : decode cX2_work 21 = .ok (.getfield 7, 3) := dk_180 0 7 (dk_at dksX2_work_0 21 rfl rfl)
theorem dX2_work_24 : decode cX2_work 24 = .ok (.iconst 5, 1) := dk_8 (dk_at dksX2_work_1 0 rfl rfl)
theorem dX2_work_25 : decode cX2_work 25 = .ok (.iaload, 1) := dk_46 (dk_at dksX2_work_1 1 rfl rfl)
theorem dX2_work_26 : decode cX2_work 26 = .ok (.imul, 1) := dk_104 (dk_at dksX2_work_1 2 rfl rfl)
theorem dX2_work_27 : decode cX2_work 27 = .ok (.bipush 75, 2) := dk_16 75 (dk_at dksX2_work_1 3 rfl rfl)
theorem dX2_work_29 : decode cX2_work 29 = .ok (.iadd, 1) := dk_96 (dk_at dksX2_work_1 5 rfl rfl)
theorem dX2_work_30 : decode cX2_work 30 = .ok (.istore_n 3, 1) := dk_62 (dk_at dksX2_work_1 6 rfl rfl)
theorem dX2_work_31 : decode cX2_work 31 = .ok (.iconst 0, 1) := dk_3 (dk_at dksX2_work_1 7 rfl rfl)
theorem dX2_work_32 : decode cX2_work 32 = .ok (.istore 4, 2) := dk_54 4 (dk_at dksX2_work_1 8 rfl rfl)
theorem dX2_work_34 : decode cX2_work 34 = .ok (.iconst 0, 1) := dk_3 (dk_at dksX2_work_1 10 rfl rfl)
theorem dX2_work_35 : decode cX2_work 35 = .ok (.istore 5, 2) := dk_54 5 (dk_at dksX2_work_1 11 rfl rfl)
theorem dX2_work_37 : decode cX2_work 37 = .ok (.aload_n 0, 1) := dk_42 (dk_at dksX2_work_1 13 rfl rfl)
theorem dX2_work_38 : decode cX2_work 38 = .ok (.getfield 16, 3) := dk_180 0 16 (dk_at dksX2_work_1 14 rfl rfl)
theorem dX2_work_41 : decode cX2_work 41 = .ok (.iload_n 2, 1) := dk_28 (dk_at dksX2_work_1 17 rfl rfl)
theorem dX2_work_42 : decode cX2_work 42 = .ok (.iconst 1, 1) := dk_4 (dk_at dksX2_work_1 18 rfl rfl)
theorem dX2_work_43 : decode cX2_work 43 = .ok (.iadd, 1) := dk_96 (dk_at dksX2_work_1 19 rfl rfl)
theorem dX2_work_44 : decode cX2_work 44 = .ok (.iaload, 1) := dk_46 (dk_at dksX2_work_1 20 rfl rfl)
theorem dX2_work_45 : decode cX2_work 45 = .ok (.istore 6, 2) := dk_54 6 (dk_at dksX2_work_1 21 rfl rfl)
theorem dX2_work_47 : decode cX2_work 47 = .ok (.iload 6, 2) := dk_21 6 (dk_at dksX2_work_2 0 rfl rfl)
theorem dX2_work_49 : decode cX2_work 49 = .ok (.aload_n 0, 1) := dk_42 (dk_at dksX2_work_2 2 rfl rfl)
theorem dX2_work_50 : decode cX2_work 50 = .ok (.getfield 16, 3) := dk_180 0 16 (dk_at dksX2_work_2 3 rfl rfl)
theorem dX2_work_53 : decode cX2_work 53 = .ok (.iload_n 2, 1) := dk_28 (dk_at dksX2_work_2 6 rfl rfl)
theorem dX2_work_54 : decode cX2_work 54 = .ok (.iconst 2, 1) := dk_5 (dk_at dksX2_work_2 7 rfl rfl)
theorem dX2_work_55 : decode cX2_work 55 = .ok (.iadd, 1) := dk_96 (dk_at dksX2_work_2 8 rfl rfl)
theorem dX2_work_56 : decode cX2_work 56 = .ok (.iaload, 1) := dk_46 (dk_at dksX2_work_2 9 rfl rfl)
theorem dX2_work_57 : decode cX2_work 57 = .ok (.if_icmp .ge 356, 3) := dk_162 1 100 (dk_at dksX2_work_2 10 rfl rfl)
theorem dX2_work_60 : decode cX2_work 60 = .ok (.aload_n 0, 1) := dk_42 (dk_at dksX2_work_2 13 rfl rfl)
theorem dX2_work_61 : decode cX2_work 61 = .ok (.getfield 16, 3) := dk_180 0 16 (dk_at dksX2_work_2 14 rfl rfl)
theorem dX2_work_64 : decode cX2_work 64 = .ok (.iload_n 3, 1) := dk_29 (dk_at dksX2_work_2 17 rfl rfl)
theorem dX2_work_65 : decode cX2_work 65 = .ok (.iconst 2, 1) := dk_5 (dk_at dksX2_work_2 18 rfl rfl)
theorem dX2_work_66 : decode cX2_work 66 = .ok (.iload 6, 2) := dk_21 6 (dk_at dksX2_work_2 19 rfl rfl)
theorem dX2_work_68 : decode cX2_work 68 = .ok (.imul, 1) := dk_104 (dk_at dksX2_work_2 21 rfl rfl)
theorem dX2_work_69 : decode cX2_work 69 = .ok (.iadd, 1) := dk_96 (dk_at dksX2_work_2 22 rfl rfl)
theorem dX2_work_70 : decode cX2_work 70 = .ok (.iaload, 1) := dk_46 (dk_at dksX2_work_2 23 rfl rfl)
theorem dX2_work_71 : decode cX2_work 71 = .ok (.istore 7, 2) := dk_54 7 (dk_at dksX2_work_3 0 rfl rfl)
theorem dX2_work_73 : decode cX2_work 73 = .ok (.aload_n 0, 1) := dk_42 (dk_at dksX2_work_3 2 rfl rfl)
theorem dX2_work_74 : decode cX2_work 74 = .ok (.getfield 16, 3) := dk_180 0 16 (dk_at dksX2_work_3 3 rfl rfl)
theorem dX2_work_77 : decode cX2_work 77 = .ok (.iload_n 3, 1) := dk_29 (dk_at dksX2_work_3 6 rfl rfl)
theorem dX2_work_78 : decode cX2_work 78 = .ok (.iconst 2, 1) := dk_5 (dk_at dksX2_work_3 7 rfl rfl)
theorem dX2_work_79 : decode cX2_work 79 = .ok (.iload 6, 2) := dk_21 6 (dk_at dksX2_work_3 8 rfl rfl)
theorem dX2_work_81 : decode cX2_work 81 = .ok (.imul, 1) := dk_104 (dk_at dksX2_work_3 10 rfl rfl)
theorem dX2_work_82 : decode cX2_work 82 = .ok (.iadd, 1) := dk_96 (dk_at dksX2_work_3 11 rfl rfl)
theorem dX2_work_83 : decode cX2_work 83 = .ok (.iconst 1, 1) := dk_4 (dk_at dksX2_work_3 12 rfl rfl)
theorem dX2_work_84 : decode cX2_work 84 = .ok (.iadd, 1) := dk_96 (dk_at dksX2_work_3 13 rfl rfl)
theorem dX2_work_85 : decode cX2_work 85 = .ok (.iaload, 1) := dk_46 (dk_at dksX2_work_3 14 rfl rfl)
theorem dX2_work_86 : decode cX2_work 86 = .ok (.istore 8, 2) := dk_54 8 (dk_at dksX2_work_3 15 rfl rfl)
theorem dX2_work_88 : decode cX2_work 88 = .ok (.iload 7, 2) := dk_21 7 (dk_at dksX2_work_3 17 rfl rfl)
theorem dX2_work_90 : decode cX2_work 90 = .ok (.iconst 1, 1) := dk_4 (dk_at dksX2_work_3 19 rfl rfl)
theorem dX2_work_91 : decode cX2_work 91 = .ok (.if_icmp .gt 35, 3) := dk_163 0 35 (dk_at dksX2_work_3 20 rfl rfl)
theorem dX2_work_94 : decode cX2_work 94 = .ok (.aload_n 0, 1) := dk_42 (dk_at dksX2_work_3 23 rfl rfl)
theorem dX2_work_95 : decode cX2_work 95 = .ok (.getfield 35, 3) := dk_180 0 35 (dk_at dksX2_work_4 0 rfl rfl)
theorem dX2_work_98 : decode cX2_work 98 = .ok (.iload 4, 2) := dk_21 4 (dk_at dksX2_work_4 3 rfl rfl)
theorem dX2_work_100 : decode cX2_work 100 = .ok (.iload 7, 2) := dk_21 7 (dk_at dksX2_work_4 5 rfl rfl)
theorem dX2_work_102 : decode cX2_work 102 = .ok (.ifCond .ne 9, 3) := dk_154 0 9 (dk_at dksX2_work_4 7 rfl rfl)
theorem dX2_work_105 : decode cX2_work 105 = .ok (.iload 8, 2) := dk_21 8 (dk_at dksX2_work_4 10 rfl rfl)
theorem dX2_work_107 : decode cX2_work 107 = .ok (.i2l, 1) := dk_133 (dk_at dksX2_work_4 12 rfl rfl)
theorem dX2_work_108 : decode cX2_work 108 = .ok (.goto 11, 3) := dk_167 0 11 (dk_at dksX2_work_4 13 rfl rfl)
theorem dX2_work_111 : decode cX2_work 111 = .ok (.aload_n 0, 1) := dk_42 (dk_at dksX2_work_4 16 rfl rfl)
theorem dX2_work_112 : decode cX2_work 112 = .ok (.getfield 32, 3) := dk_180 0 32 (dk_at dksX2_work_4 17 rfl rfl)
theorem dX2_work_115 : decode cX2_work 115 = .ok (.iload 8, 2) := dk_21 8 (dk_at dksX2_work_4 20 rfl rfl)
theorem dX2_work_117 : decode cX2_work 117 = .ok (.iaload, 1) := dk_46 (dk_at dksX2_work_4 22 rfl rfl)
theorem dX2_work_118 : decode cX2_work 118 = .ok (.i2l, 1) := dk_133 (dk_at dksX2_work_4 23 rfl rfl)
theorem dX2_work_119 : decode cX2_work 119 = .ok (.lastore, 1) := dk_80 (dk_at dksX2_work_5 0 rfl rfl)
theorem dX2_work_120 : decode cX2_work 120 = .ok (.iinc 4 1, 3) := dk_132 4 1 (dk_at dksX2_work_5 1 rfl rfl)
theorem dX2_work_123 : decode cX2_work 123 = .ok (.goto 284, 3) := dk_167 1 28 (dk_at dksX2_work_5 4 rfl rfl)
theorem dX2_work_126 : decode cX2_work 126 = .ok (.iload 7, 2) := dk_21 7 (dk_at dksX2_work_5 7 rfl rfl)
theorem dX2_work_128 : decode cX2_work 128 = .ok (.iconst 2, 1) := dk_5 (dk_at dksX2_work_5 9 rfl rfl)
theorem dX2_work_129 : decode cX2_work 129 = .ok (.if_icmp .ne 25, 3) := dk_160 0 25 (dk_at dksX2_work_5 10 rfl rfl)
theorem dX2_work_132 : decode cX2_work 132 = .ok (.aload_n 0, 1) := dk_42 (dk_at dksX2_work_5 13 rfl rfl)
theorem dX2_work_133 : decode cX2_work 133 = .ok (.getfield 35, 3) := dk_180 0 35 (dk_at dksX2_work_5 14 rfl rfl)
theorem dX2_work_136 : decode cX2_work 136 = .ok (.iload 4, 2) := dk_21 4 (dk_at dksX2_work_5 17 rfl rfl)
theorem dX2_work_138 : decode cX2_work 138 = .ok (.iconst 1, 1) := dk_4 (dk_at dksX2_work_5 19 rfl rfl)
theorem dX2_work_139 : decode cX2_work 139 = .ok (.isub, 1) := dk_100 (dk_at dksX2_work_5 20 rfl rfl)
theorem dX2_work_140 : decode cX2_work 140 = .ok (.aload_n 0, 1) := dk_42 (dk_at dksX2_work_5 21 rfl rfl)
theorem dX2_work_141 : decode cX2_work 141 = .ok (.getfield 35, 3) := dk_180 0 35 (dk_at dksX2_work_6 0 rfl rfl)
theorem dX2_work_144 : decode cX2_work 144 = .ok (.iload 4, 2) := dk_21 4 (dk_at dksX2_work_6 3 rfl rfl)
theorem dX2_work_146 : decode cX2_work 146 = .ok (.iconst 1, 1) := dk_4 (dk_at dksX2_work_6 5 rfl rfl)
theorem dX2_work_147 : decode cX2_work 147 = .ok (.isub, 1) := dk_100 (dk_at dksX2_work_6 6 rfl rfl)
theorem dX2_work_148 : decode cX2_work 148 = .ok (.laload, 1) := dk_47 (dk_at dksX2_work_6 7 rfl rfl)
theorem dX2_work_149 : decode cX2_work 149 = .ok (.lneg, 1) := dk_117 (dk_at dksX2_work_6 8 rfl rfl)
theorem dX2_work_150 : decode cX2_work 150 = .ok (.lastore, 1) := dk_80 (dk_at dksX2_work_6 9 rfl rfl)
theorem dX2_work_151 : decode cX2_work 151 = .ok (.goto 256, 3) := dk_167 1 0 (dk_at dksX2_work_6 10 rfl rfl)
theorem dX2_work_154 : decode cX2_work 154 = .ok (.iload 7, 2) := dk_21 7 (dk_at dksX2_work_6 13 rfl rfl)
theorem dX2_work_156 : decode cX2_work 156 = .ok (.bipush 10, 2) := dk_16 10 (dk_at dksX2_work_6 15 rfl rfl)
theorem dX2_work_158 : decode cX2_work 158 = .ok (.if_icmp .ge 39, 3) := dk_162 0 39 (dk_at dksX2_work_6 17 rfl rfl)
theorem dX2_work_161 : decode cX2_work 161 = .ok (.iinc 4 (-1), 3) := dk_132 4 255 (dk_at dksX2_work_6 20 rfl rfl)
theorem dX2_work_164 : decode cX2_work 164 = .ok (.aload_n 0, 1) := dk_42 (dk_at dksX2_work_6 23 rfl rfl)
theorem dX2_work_165 : decode cX2_work 165 = .ok (.getfield 35, 3) := dk_180 0 35 (dk_at dksX2_work_7 0 rfl rfl)
theorem dX2_work_168 : decode cX2_work 168 = .ok (.iload 4, 2) := dk_21 4 (dk_at dksX2_work_7 3 rfl rfl)
theorem dX2_work_170 : decode cX2_work 170 = .ok (.iconst 1, 1) := dk_4 (dk_at dksX2_work_7 5 rfl rfl)
theorem dX2_work_171 : decode cX2_work 171 = .ok (.isub, 1) := dk_100 (dk_at dksX2_work_7 6 rfl rfl)
theorem dX2_work_172 : decode cX2_work 172 = .ok (.iload 7, 2) := dk_21 7 (dk_at dksX2_work_7 7 rfl rfl)
theorem dX2_work_174 : decode cX2_work 174 = .ok (.aload_n 0, 1) := dk_42 (dk_at dksX2_work_7 9 rfl rfl)
theorem dX2_work_175 : decode cX2_work 175 = .ok (.getfield 35, 3) := dk_180 0 35 (dk_at dksX2_work_7 10 rfl rfl)
theorem dX2_work_178 : decode cX2_work 178 = .ok (.iload 4, 2) := dk_21 4 (dk_at dksX2_work_7 13 rfl rfl)
theorem dX2_work_180 : decode cX2_work 180 = .ok (.iconst 1, 1) := dk_4 (dk_at dksX2_work_7 15 rfl rfl)
theorem dX2_work_181 : decode cX2_work 181 = .ok (.isub, 1) := dk_100 (dk_at dksX2_work_7 16 rfl rfl)
theorem dX2_work_182 : decode cX2_work 182 = .ok (.laload, 1) := dk_47 (dk_at dksX2_work_7 17 rfl rfl)
theorem dX2_work_183 : decode cX2_work 183 = .ok (.aload_n 0, 1) := dk_42 (dk_at dksX2_work_7 18 rfl rfl)
theorem dX2_work_184 : decode cX2_work 184 = .ok (.getfield 35, 3) := dk_180 0 35 (dk_at dksX2_work_7 19 rfl rfl)
theorem dX2_work_187 : decode cX2_work 187 = .ok (.iload 4, 2) := dk_21 4 (dk_at dksX2_work_7 22 rfl rfl)
theorem dX2_work_189 : decode cX2_work 189 = .ok (.laload, 1) := dk_47 (dk_at dksX2_work_8 0 rfl rfl)
theorem dX2_work_190 : decode cX2_work 190 = .ok (.invokestatic 256, 3) := dk_184 1 0 (dk_at dksX2_work_8 1 rfl rfl)
theorem dX2_work_193 : decode cX2_work 193 = .ok (.lastore, 1) := dk_80 (dk_at dksX2_work_8 4 rfl rfl)
theorem dX2_work_194 : decode cX2_work 194 = .ok (.goto 213, 3) := dk_167 0 213 (dk_at dksX2_work_8 5 rfl rfl)
theorem dX2_work_197 : decode cX2_work 197 = .ok (.iload 7, 2) := dk_21 7 (dk_at dksX2_work_8 8 rfl rfl)
theorem dX2_work_199 : decode cX2_work 199 = .ok (.bipush 20, 2) := dk_16 20 (dk_at dksX2_work_8 10 rfl rfl)
theorem dX2_work_201 : decode cX2_work 201 = .ok (.if_icmp .ge 40, 3) := dk_162 0 40 (dk_at dksX2_work_8 12 rfl rfl)
theorem dX2_work_204 : decode cX2_work 204 = .ok (.iinc 4 (-2), 3) := dk_132 4 254 (dk_at dksX2_work_8 15 rfl rfl)
theorem dX2_work_207 : decode cX2_work 207 = .ok (.aload_n 0, 1) := dk_42 (dk_at dksX2_work_8 18 rfl rfl)
theorem dX2_work_208 : decode cX2_work 208 = .ok (.getfield 39, 3) := dk_180 0 39 (dk_at dksX2_work_8 19 rfl rfl)
theorem dX2_work_211 : decode cX2_work 211 = .ok (.iload 5, 2) := dk_21 5 (dk_at dksX2_work_8 22 rfl rfl)
theorem dX2_work_213 : decode cX2_work 213 = .ok (.iload 7, 2) := dk_21 7 (dk_at dksX2_work_9 0 rfl rfl)
theorem dX2_work_215 : decode cX2_work 215 = .ok (.aload_n 0, 1) := dk_42 (dk_at dksX2_work_9 2 rfl rfl)
theorem dX2_work_216 : decode cX2_work 216 = .ok (.getfield 35, 3) := dk_180 0 35 (dk_at dksX2_work_9 3 rfl rfl)
theorem dX2_work_219 : decode cX2_work 219 = .ok (.iload 4, 2) := dk_21 4 (dk_at dksX2_work_9 6 rfl rfl)
theorem dX2_work_221 : decode cX2_work 221 = .ok (.laload, 1) := dk_47 (dk_at dksX2_work_9 8 rfl rfl)
theorem dX2_work_222 : decode cX2_work 222 = .ok (.aload_n 0, 1) := dk_42 (dk_at dksX2_work_9 9 rfl rfl)
theorem dX2_work_223 : decode cX2_work 223 = .ok (.getfield 35, 3) := dk_180 0 35 (dk_at dksX2_work_9 10 rfl rfl)
theorem dX2_work_226 : decode cX2_work 226 = .ok (.iload 4, 2) := dk_21 4 (dk_at dksX2_work_9 13 rfl rfl)
theorem dX2_work_228 : decode cX2_work 228 = .ok (.iconst 1, 1) := dk_4 (dk_at dksX2_work_9 15 rfl rfl)
theorem dX2_work_229 : decode cX2_work 229 = .ok (.iadd, 1) := dk_96 (dk_at dksX2_work_9 16 rfl rfl)
theorem dX2_work_230 : decode cX2_work 230 = .ok (.laload, 1) := dk_47 (dk_at dksX2_work_9 17 rfl rfl)
theorem dX2_work_231 : decode cX2_work 231 = .ok (.invokestatic 260, 3) := dk_184 1 4 (dk_at dksX2_work_9 18 rfl rfl)
theorem dX2_work_234 : decode cX2_work 234 = .ok (.bastore, 1) := dk_84 (dk_at dksX2_work_9 21 rfl rfl)
theorem dX2_work_235 : decode cX2_work 235 = .ok (.iinc 5 1, 3) := dk_132 5 1 (dk_at dksX2_work_10 0 rfl rfl)
theorem dX2_work_238 : decode cX2_work 238 = .ok (.goto 169, 3) := dk_167 0 169 (dk_at dksX2_work_10 3 rfl rfl)
theorem dX2_work_241 : decode cX2_work 241 = .ok (.iload 7, 2) := dk_21 7 (dk_at dksX2_work_10 6 rfl rfl)
theorem dX2_work_243 : decode cX2_work 243 = .ok (.bipush 20, 2) := dk_16 20 (dk_at dksX2_work_10 8 rfl rfl)
theorem dX2_work_245 : decode cX2_work 245 = .ok (.if_icmp .ne 32, 3) := dk_160 0 32 (dk_at dksX2_work_10 10 rfl rfl)
theorem dX2_work_248 : decode cX2_work 248 = .ok (.aload_n 0, 1) := dk_42 (dk_at dksX2_work_10 13 rfl rfl)
theorem dX2_work_249 : decode cX2_work 249 = .ok (.getfield 39, 3) := dk_180 0 39 (dk_at dksX2_work_10 14 rfl rfl)
theorem dX2_work_252 : decode cX2_work 252 = .ok (.iload 5, 2) := dk_21 5 (dk_at dksX2_work_10 17 rfl rfl)
theorem dX2_work_254 : decode cX2_work 254 = .ok (.iconst 1, 1) := dk_4 (dk_at dksX2_work_10 19 rfl rfl)
theorem dX2_work_255 : decode cX2_work 255 = .ok (.isub, 1) := dk_100 (dk_at dksX2_work_10 20 rfl rfl)
theorem dX2_work_256 : decode cX2_work 256 = .ok (.aload_n 0, 1) := dk_42 (dk_at dksX2_work_10 21 rfl rfl)
theorem dX2_work_257 : decode cX2_work 257 = .ok (.getfield 39, 3) := dk_180 0 39 (dk_at dksX2_work_11 0 rfl rfl)
theorem dX2_work_260 : decode cX2_work 260 = .ok (.iload 5, 2) := dk_21 5 (dk_at dksX2_work_11 3 rfl rfl)
theorem dX2_work_262 : decode cX2_work 262 = .ok (.iconst 1, 1) := dk_4 (dk_at dksX2_work_11 5 rfl rfl)
theorem dX2_work_263 : decode cX2_work 263 = .ok (.isub, 1) := dk_100 (dk_at dksX2_work_11 6 rfl rfl)
theorem dX2_work_264 : decode cX2_work 264 = .ok (.baload, 1) := dk_51 (dk_at dksX2_work_11 7 rfl rfl)
theorem dX2_work_265 : decode cX2_work 265 = .ok (.ifCond .ne 7, 3) := dk_154 0 7 (dk_at dksX2_work_11 8 rfl rfl)
theorem dX2_work_268 : decode cX2_work 268 = .ok (.iconst 1, 1) := dk_4 (dk_at dksX2_work_11 11 rfl rfl)
theorem dX2_work_269 : decode cX2_work 269 = .ok (.goto 4, 3) := dk_167 0 4 (dk_at dksX2_work_11 12 rfl rfl)
theorem dX2_work_272 : decode cX2_work 272 = .ok (.iconst 0, 1) := dk_3 (dk_at dksX2_work_11 15 rfl rfl)
theorem dX2_work_273 : decode cX2_work 273 = .ok (.bastore, 1) := dk_84 (dk_at dksX2_work_11 16 rfl rfl)
theorem dX2_work_274 : decode cX2_work 274 = .ok (.goto 133, 3) := dk_167 0 133 (dk_at dksX2_work_11 17 rfl rfl)
theorem dX2_work_277 : decode cX2_work 277 = .ok (.iload 7, 2) := dk_21 7 (dk_at dksX2_work_11 20 rfl rfl)
theorem dX2_work_279 : decode cX2_work 279 = .ok (.bipush 23, 2) := dk_16 23 (dk_at dksX2_work_11 22 rfl rfl)
theorem dX2_work_281 : decode cX2_work 281 = .ok (.if_icmp .ne 50, 3) := dk_160 0 50 (dk_at dksX2_work_12 0 rfl rfl)
theorem dX2_work_284 : decode cX2_work 284 = .ok (.iinc 4 (-1), 3) := dk_132 4 255 (dk_at dksX2_work_12 3 rfl rfl)
theorem dX2_work_287 : decode cX2_work 287 = .ok (.iinc 5 (-1), 3) := dk_132 5 255 (dk_at dksX2_work_12 6 rfl rfl)
theorem dX2_work_290 : decode cX2_work 290 = .ok (.aload_n 0, 1) := dk_42 (dk_at dksX2_work_12 9 rfl rfl)
theorem dX2_work_291 : decode cX2_work 291 = .ok (.getfield 35, 3) := dk_180 0 35 (dk_at dksX2_work_12 10 rfl rfl)
theorem dX2_work_294 : decode cX2_work 294 = .ok (.iload 4, 2) := dk_21 4 (dk_at dksX2_work_12 13 rfl rfl)
theorem dX2_work_296 : decode cX2_work 296 = .ok (.iconst 1, 1) := dk_4 (dk_at dksX2_work_12 15 rfl rfl)
theorem dX2_work_297 : decode cX2_work 297 = .ok (.isub, 1) := dk_100 (dk_at dksX2_work_12 16 rfl rfl)
theorem dX2_work_298 : decode cX2_work 298 = .ok (.aload_n 0, 1) := dk_42 (dk_at dksX2_work_12 17 rfl rfl)
theorem dX2_work_299 : decode cX2_work 299 = .ok (.getfield 39, 3) := dk_180 0 39 (dk_at dksX2_work_12 18 rfl rfl)
theorem dX2_work_302 : decode cX2_work 302 = .ok (.iload 5, 2) := dk_21 5 (dk_at dksX2_work_12 21 rfl rfl)
theorem dX2_work_304 : decode cX2_work 304 = .ok (.baload, 1) := dk_51 (dk_at dksX2_work_12 23 rfl rfl)
theorem dX2_work_305 : decode cX2_work 305 = .ok (.ifCond .eq 15, 3) := dk_153 0 15 (dk_at dksX2_work_13 0 rfl rfl)
theorem dX2_work_308 : decode cX2_work 308 = .ok (.aload_n 0, 1) := dk_42 (dk_at dksX2_work_13 3 rfl rfl)
theorem dX2_work_309 : decode cX2_work 309 = .ok (.getfield 35, 3) := dk_180 0 35 (dk_at dksX2_work_13 4 rfl rfl)
theorem dX2_work_312 : decode cX2_work 312 = .ok (.iload 4, 2) := dk_21 4 (dk_at dksX2_work_13 7 rfl rfl)
theorem dX2_work_314 : decode cX2_work 314 = .ok (.iconst 1, 1) := dk_4 (dk_at dksX2_work_13 9 rfl rfl)
theorem dX2_work_315 : decode cX2_work 315 = .ok (.isub, 1) := dk_100 (dk_at dksX2_work_13 10 rfl rfl)
theorem dX2_work_316 : decode cX2_work 316 = .ok (.laload, 1) := dk_47 (dk_at dksX2_work_13 11 rfl rfl)
theorem dX2_work_317 : decode cX2_work 317 = .ok (.goto 10, 3) := dk_167 0 10 (dk_at dksX2_work_13 12 rfl rfl)
theorem dX2_work_320 : decode cX2_work 320 = .ok (.aload_n 0, 1) := dk_42 (dk_at dksX2_work_13 15 rfl rfl)
theorem dX2_work_321 : decode cX2_work 321 = .ok (.getfield 35, 3) := dk_180 0 35 (dk_at dksX2_work_13 16 rfl rfl)
theorem dX2_work_324 : decode cX2_work 324 = .ok (.iload 4, 2) := dk_21 4 (dk_at dksX2_work_13 19 rfl rfl)
theorem dX2_work_326 : decode cX2_work 326 = .ok (.laload, 1) := dk_47 (dk_at dksX2_work_13 21 rfl rfl)
theorem dX2_work_327 : decode cX2_work 327 = .ok (.lastore, 1) := dk_80 (dk_at dksX2_work_13 22 rfl rfl)
theorem dX2_work_328 : decode cX2_work 328 = .ok (.goto 79, 3) := dk_167 0 79 (dk_at dksX2_work_14 0 rfl rfl)
theorem dX2_work_331 : decode cX2_work 331 = .ok (.iinc 5 (-1), 3) := dk_132 5 255 (dk_at dksX2_work_14 3 rfl rfl)
theorem dX2_work_334 : decode cX2_work 334 = .ok (.aload_n 0, 1) := dk_42 (dk_at dksX2_work_14 6 rfl rfl)
theorem dX2_work_335 : decode cX2_work 335 = .ok (.getfield 39, 3) := dk_180 0 39 (dk_at dksX2_work_14 7 rfl rfl)
theorem dX2_work_338 : decode cX2_work 338 = .ok (.iload 5, 2) := dk_21 5 (dk_at dksX2_work_14 10 rfl rfl)
theorem dX2_work_340 : decode cX2_work 340 = .ok (.iconst 1, 1) := dk_4 (dk_at dksX2_work_14 12 rfl rfl)
theorem dX2_work_341 : decode cX2_work 341 = .ok (.isub, 1) := dk_100 (dk_at dksX2_work_14 13 rfl rfl)
theorem dX2_work_342 : decode cX2_work 342 = .ok (.iload 7, 2) := dk_21 7 (dk_at dksX2_work_14 14 rfl rfl)
theorem dX2_work_344 : decode cX2_work 344 = .ok (.bipush 21, 2) := dk_16 21 (dk_at dksX2_work_14 16 rfl rfl)
theorem dX2_work_346 : decode cX2_work 346 = .ok (.if_icmp .ne 33, 3) := dk_160 0 33 (dk_at dksX2_work_14 18 rfl rfl)
theorem dX2_work_349 : decode cX2_work 349 = .ok (.aload_n 0, 1) := dk_42 (dk_at dksX2_work_14 21 rfl rfl)
theorem dX2_work_350 : decode cX2_work 350 = .ok (.getfield 39, 3) := dk_180 0 39 (dk_at dksX2_work_15 0 rfl rfl)
theorem dX2_work_353 : decode cX2_work 353 = .ok (.iload 5, 2) := dk_21 5 (dk_at dksX2_work_15 3 rfl rfl)
theorem dX2_work_355 : decode cX2_work 355 = .ok (.iconst 1, 1) := dk_4 (dk_at dksX2_work_15 5 rfl rfl)
theorem dX2_work_356 : decode cX2_work 356 = .ok (.isub, 1) := dk_100 (dk_at dksX2_work_15 6 rfl rfl)
theorem dX2_work_357 : decode cX2_work 357 = .ok (.baload, 1) := dk_51 (dk_at dksX2_work_15 7 rfl rfl)
theorem dX2_work_358 : decode cX2_work 358 = .ok (.ifCond .eq 17, 3) := dk_153 0 17 (dk_at dksX2_work_15 8 rfl rfl)
theorem dX2_work_361 : decode cX2_work 361 = .ok (.aload_n 0, 1) := dk_42 (dk_at dksX2_work_15 11 rfl rfl)
theorem dX2_work_362 : decode cX2_work 362 = .ok (.getfield 39, 3) := dk_180 0 39 (dk_at dksX2_work_15 12 rfl rfl)
theorem dX2_work_365 : decode cX2_work 365 = .ok (.iload 5, 2) := dk_21 5 (dk_at dksX2_work_15 15 rfl rfl)
theorem dX2_work_367 : decode cX2_work 367 = .ok (.baload, 1) := dk_51 (dk_at dksX2_work_15 17 rfl rfl)
theorem dX2_work_368 : decode cX2_work 368 = .ok (.ifCond .eq 7, 3) := dk_153 0 7 (dk_at dksX2_work_15 18 rfl rfl)
theorem dX2_work_371 : decode cX2_work 371 = .ok (.iconst 1, 1) := dk_4 (dk_at dksX2_work_15 21 rfl rfl)
theorem dX2_work_372 : decode cX2_work 372 = .ok (.goto 34, 3) := dk_167 0 34 (dk_at dksX2_work_16 0 rfl rfl)
theorem dX2_work_375 : decode cX2_work 375 = .ok (.iconst 0, 1) := dk_3 (dk_at dksX2_work_16 3 rfl rfl)
theorem dX2_work_376 : decode cX2_work 376 = .ok (.goto 30, 3) := dk_167 0 30 (dk_at dksX2_work_16 4 rfl rfl)
theorem dX2_work_379 : decode cX2_work 379 = .ok (.aload_n 0, 1) := dk_42 (dk_at dksX2_work_16 7 rfl rfl)
theorem dX2_work_380 : decode cX2_work 380 = .ok (.getfield 39, 3) := dk_180 0 39 (dk_at dksX2_work_16 8 rfl rfl)
theorem dX2_work_383 : decode cX2_work 383 = .ok (.iload 5, 2) := dk_21 5 (dk_at dksX2_work_16 11 rfl rfl)
theorem dX2_work_385 : decode cX2_work 385 = .ok (.iconst 1, 1) := dk_4 (dk_at dksX2_work_16 13 rfl rfl)
theorem dX2_work_386 : decode cX2_work 386 = .ok (.isub, 1) := dk_100 (dk_at dksX2_work_16 14 rfl rfl)
theorem dX2_work_387 : decode cX2_work 387 = .ok (.baload, 1) := dk_51 (dk_at dksX2_work_16 15 rfl rfl)
theorem dX2_work_388 : decode cX2_work 388 = .ok (.ifCond .ne 13, 3) := dk_154 0 13 (dk_at dksX2_work_16 16 rfl rfl)
theorem dX2_work_391 : decode cX2_work 391 = .ok (.aload_n 0, 1) := dk_42 (dk_at dksX2_work_16 19 rfl rfl)
theorem dX2_work_392 : decode cX2_work 392 = .ok (.getfield 39, 3) := dk_180 0 39 (dk_at dksX2_work_16 20 rfl rfl)
theorem dX2_work_395 : decode cX2_work 395 = .ok (.iload 5, 2) := dk_21 5 (dk_at dksX2_work_17 0 rfl rfl)
theorem dX2_work_397 : decode cX2_work 397 = .ok (.baload, 1) := dk_51 (dk_at dksX2_work_17 2 rfl rfl)
theorem dX2_work_398 : decode cX2_work 398 = .ok (.ifCond .eq 7, 3) := dk_153 0 7 (dk_at dksX2_work_17 3 rfl rfl)
theorem dX2_work_401 : decode cX2_work 401 = .ok (.iconst 1, 1) := dk_4 (dk_at dksX2_work_17 6 rfl rfl)
theorem dX2_work_402 : decode cX2_work 402 = .ok (.goto 4, 3) := dk_167 0 4 (dk_at dksX2_work_17 7 rfl rfl)
theorem dX2_work_405 : decode cX2_work 405 = .ok (.iconst 0, 1) := dk_3 (dk_at dksX2_work_17 10 rfl rfl)
theorem dX2_work_406 : decode cX2_work 406 = .ok (.bastore, 1) := dk_84 (dk_at dksX2_work_17 11 rfl rfl)
theorem dX2_work_407 : decode cX2_work 407 = .ok (.iinc 6 1, 3) := dk_132 6 1 (dk_at dksX2_work_17 12 rfl rfl)
theorem dX2_work_410 : decode cX2_work 410 = .ok (.goto (-363), 3) := dk_167 254 149 (dk_at dksX2_work_17 15 rfl rfl)
theorem dX2_work_413 : decode cX2_work 413 = .ok (.return_, 1) := dk_177 (dk_at dksX2_work_17 18 rfl rfl)
abbrev cX2_two : ByteArray := prog_18_method_59_code
def yX2_two : MethodName := ⟨RX2, "two", "(IJJ)J"⟩
def dkwX2_two_3 : List UInt8 := [154, 0, 7, 9, 167, 0, 9, 31, 33, 109, 184, 0, 252, 173]
abbrev dktX2_two_3 : List UInt8 := dkwX2_two_3 ++ []
def dkwX2_two_2 : List UInt8 := [31, 33, 97, 184, 0, 252, 173, 31, 33, 101, 184, 0, 252, 173, 31, 33, 105, 184, 0, 252, 173, 33, 9, 148]
abbrev dktX2_two_2 : List UInt8 := dkwX2_two_2 ++ dktX2_two_3
def dkwX2_two_1 : List UInt8 := [170, 0, 0, 0, 0, 0, 48, 0, 0, 0, 3, 0, 0, 0, 5, 0, 0, 0, 27, 0, 0, 0, 34, 0, 0, 0, 41]
abbrev dktX2_two_1 : List UInt8 := dkwX2_two_1 ++ dktX2_two_2
def dkwX2_two_0 : List UInt8 := [26]
abbrev dktX2_two_0 : List UInt8 := dkwX2_two_0 ++ dktX2_two_1
theorem dksX2_two_0 : cX2_two.data.toList.drop 0 = dktX2_two_0 := by decide +kernel
theorem dksX2_two_1 : cX2_two.data.toList.drop 1 = dktX2_two_1 := dk_seg dksX2_two_0 1 rfl rfl
theorem dksX2_two_2 : cX2_two.data.toList.drop 28 = dktX2_two_2 := dk_seg dksX2_two_1 27 rfl rfl
theorem dksX2_two_3 : cX2_two.data.toList.drop 52 = dktX2_two_3 := dk_seg dksX2_two_2 24 rfl rfl
theorem dX2_two_0 : decode cX2_two 0 = .ok (.iload_n 0, 1) := dk_26 (dk_at dksX2_two_0 0 rfl rfl)
theorem dX2_two_1 : decode cX2_two 1 = .ok (.tableswitch 48 3 5 #[27, 34, 41], 27) := by decide +kernel
theorem dX2_two_28 : decode cX2_two 28 = .ok (.lload_n 1, 1) := dk_31 (dk_at dksX2_two_2 0 rfl rfl)
theorem dX2_two_29 : decode cX2_two 29 = .ok (.lload_n 3, 1) := dk_33 (dk_at dksX2_two_2 1 rfl rfl)
theorem dX2_two_30 : decode cX2_two 30 = .ok (.ladd, 1) := dk_97 (dk_at dksX2_two_2 2 rfl rfl)
theorem dX2_two_31 : decode cX2_two 31 = .ok (.invokestatic 252, 3) := dk_184 0 252 (dk_at dksX2_two_2 3 rfl rfl)
theorem dX2_two_34 : decode cX2_two 34 = .ok (.lreturn, 1) := dk_173 (dk_at dksX2_two_2 6 rfl rfl)
theorem dX2_two_35 : decode cX2_two 35 = .ok (.lload_n 1, 1) := dk_31 (dk_at dksX2_two_2 7 rfl rfl)
theorem dX2_two_36 : decode cX2_two 36 = .ok (.lload_n 3, 1) := dk_33 (dk_at dksX2_two_2 8 rfl rfl)
theorem dX2_two_37 : decode cX2_two 37 = .ok (.lsub, 1) := dk_101 (dk_at dksX2_two_2 9 rfl rfl)
theorem dX2_two_38 : decode cX2_two 38 = .ok (.invokestatic 252, 3) := dk_184 0 252 (dk_at dksX2_two_2 10 rfl rfl)
theorem dX2_two_41 : decode cX2_two 41 = .ok (.lreturn, 1) := dk_173 (dk_at dksX2_two_2 13 rfl rfl)
theorem dX2_two_42 : decode cX2_two 42 = .ok (.lload_n 1, 1) := dk_31 (dk_at dksX2_two_2 14 rfl rfl)
theorem dX2_two_43 : decode cX2_two 43 = .ok (.lload_n 3, 1) := dk_33 (dk_at dksX2_two_2 15 rfl rfl)
theorem dX2_two_44 : decode cX2_two 44 = .ok (.lmul, 1) := dk_105 (dk_at dksX2_two_2 16 rfl rfl)
theorem dX2_two_45 : decode cX2_two 45 = .ok (.invokestatic 252, 3) := dk_184 0 252 (dk_at dksX2_two_2 17 rfl rfl)
theorem dX2_two_48 : decode cX2_two 48 = .ok (.lreturn, 1) := dk_173 (dk_at dksX2_two_2 20 rfl rfl)
theorem dX2_two_49 : decode cX2_two 49 = .ok (.lload_n 3, 1) := dk_33 (dk_at dksX2_two_2 21 rfl rfl)
theorem dX2_two_50 : decode cX2_two 50 = .ok (.lconst 0, 1) := dk_9 (dk_at dksX2_two_2 22 rfl rfl)
theorem dX2_two_51 : decode cX2_two 51 = .ok (.lcmp, 1) := dk_148 (dk_at dksX2_two_2 23 rfl rfl)
theorem dX2_two_52 : decode cX2_two 52 = .ok (.ifCond .ne 7, 3) := dk_154 0 7 (dk_at dksX2_two_3 0 rfl rfl)
theorem dX2_two_55 : decode cX2_two 55 = .ok (.lconst 0, 1) := dk_9 (dk_at dksX2_two_3 3 rfl rfl)
theorem dX2_two_56 : decode cX2_two 56 = .ok (.goto 9, 3) := dk_167 0 9 (dk_at dksX2_two_3 4 rfl rfl)
theorem dX2_two_59 : decode cX2_two 59 = .ok (.lload_n 1, 1) := dk_31 (dk_at dksX2_two_3 7 rfl rfl)
theorem dX2_two_60 : decode cX2_two 60 = .ok (.lload_n 3, 1) := dk_33 (dk_at dksX2_two_3 8 rfl rfl)
theorem dX2_two_61 : decode cX2_two 61 = .ok (.ldiv, 1) := dk_109 (dk_at dksX2_two_3 9 rfl rfl)
theorem dX2_two_62 : decode cX2_two 62 = .ok (.invokestatic 252, 3) := dk_184 0 252 (dk_at dksX2_two_3 10 rfl rfl)
theorem dX2_two_65 : decode cX2_two 65 = .ok (.lreturn, 1) := dk_173 (dk_at dksX2_two_3 13 rfl rfl)
abbrev cX2_clip : ByteArray := prog_18_method_58_code
def yX2_clip : MethodName := ⟨RX2, "clip", "(J)J"⟩
def dkwX2_clip_1 : List UInt8 := [20, 0, 250, 167, 0, 4, 30, 173]
abbrev dktX2_clip_1 : List UInt8 := dkwX2_clip_1 ++ []
def dkwX2_clip_0 : List UInt8 := [30, 20, 0, 248, 148, 158, 0, 9, 20, 0, 248, 167, 0, 18, 30, 20, 0, 250, 148, 156, 0, 9]
abbrev dktX2_clip_0 : List UInt8 := dkwX2_clip_0 ++ dktX2_clip_1
theorem dksX2_clip_0 : cX2_clip.data.toList.drop 0 = dktX2_clip_0 := by decide +kernel
theorem dksX2_clip_1 : cX2_clip.data.toList.drop 22 = dktX2_clip_1 := dk_seg dksX2_clip_0 22 rfl rfl
theorem dX2_clip_0 : decode cX2_clip 0 = .ok (.lload_n 0, 1) := dk_30 (dk_at dksX2_clip_0 0 rfl rfl)
theorem dX2_clip_1 : decode cX2_clip 1 = .ok (.ldc2_w 248, 3) := dk_20 0 248 (dk_at dksX2_clip_0 1 rfl rfl)
theorem dX2_clip_4 : decode cX2_clip 4 = .ok (.lcmp, 1) := dk_148 (dk_at dksX2_clip_0 4 rfl rfl)
theorem dX2_clip_5 : decode cX2_clip 5 = .ok (.ifCond .le 9, 3) := dk_158 0 9 (dk_at dksX2_clip_0 5 rfl rfl)
theorem dX2_clip_8 : decode cX2_clip 8 = .ok (.ldc2_w 248, 3) := dk_20 0 248 (dk_at dksX2_clip_0 8 rfl rfl)
theorem dX2_clip_11 : decode cX2_clip 11 = .ok (.goto 18, 3) := dk_167 0 18 (dk_at dksX2_clip_0 11 rfl rfl)
theorem dX2_clip_14 : decode cX2_clip 14 = .ok (.lload_n 0, 1) := dk_30 (dk_at dksX2_clip_0 14 rfl rfl)
theorem dX2_clip_15 : decode cX2_clip 15 = .ok (.ldc2_w 250, 3) := dk_20 0 250 (dk_at dksX2_clip_0 15 rfl rfl)
theorem dX2_clip_18 : decode cX2_clip 18 = .ok (.lcmp, 1) := dk_148 (dk_at dksX2_clip_0 18 rfl rfl)
theorem dX2_clip_19 : decode cX2_clip 19 = .ok (.ifCond .ge 9, 3) := dk_156 0 9 (dk_at dksX2_clip_0 19 rfl rfl)
theorem dX2_clip_22 : decode cX2_clip 22 = .ok (.ldc2_w 250, 3) := dk_20 0 250 (dk_at dksX2_clip_1 0 rfl rfl)
theorem dX2_clip_25 : decode cX2_clip 25 = .ok (.goto 4, 3) := dk_167 0 4 (dk_at dksX2_clip_1 3 rfl rfl)
theorem dX2_clip_28 : decode cX2_clip 28 = .ok (.lload_n 0, 1) := dk_30 (dk_at dksX2_clip_1 6 rfl rfl)
theorem dX2_clip_29 : decode cX2_clip 29 = .ok (.lreturn, 1) := dk_173 (dk_at dksX2_clip_1 7 rfl rfl)
abbrev cX2_isAsked : ByteArray := prog_18_method_60_code
def yX2_isAsked : MethodName := ⟨RX2, "isAsked", "(IJJ)Z"⟩
def dkwX2_isAsked_4 : List UInt8 := [167, 0, 18, 3, 167, 0, 14, 31, 33, 148, 153, 0, 7, 4, 167, 0, 4, 3, 172]
abbrev dktX2_isAsked_4 : List UInt8 := dkwX2_isAsked_4 ++ []
def dkwX2_isAsked_3 : List UInt8 := [155, 0, 7, 4, 167, 0, 38, 3, 167, 0, 34, 26, 16, 14, 160, 0, 17, 31, 33, 148, 154, 0, 7, 4]
abbrev dktX2_isAsked_3 : List UInt8 := dkwX2_isAsked_3 ++ dktX2_isAsked_4
def dkwX2_isAsked_2 : List UInt8 := [33, 148, 158, 0, 7, 4, 167, 0, 58, 3, 167, 0, 54, 26, 16, 13, 160, 0, 17, 31, 33, 148]
abbrev dktX2_isAsked_2 : List UInt8 := dkwX2_isAsked_2 ++ dktX2_isAsked_3
def dkwX2_isAsked_1 : List UInt8 := [160, 0, 17, 31, 33, 148, 157, 0, 7, 4, 167, 0, 78, 3, 167, 0, 74, 26, 16, 12, 160, 0, 17, 31]
abbrev dktX2_isAsked_1 : List UInt8 := dkwX2_isAsked_1 ++ dktX2_isAsked_2
def dkwX2_isAsked_0 : List UInt8 := [26, 16, 10, 160, 0, 17, 31, 33, 148, 156, 0, 7, 4, 167, 0, 98, 3, 167, 0, 94, 26, 16, 11]
abbrev dktX2_isAsked_0 : List UInt8 := dkwX2_isAsked_0 ++ dktX2_isAsked_1
theorem dksX2_isAsked_0 : cX2_isAsked.data.toList.drop 0 = dktX2_isAsked_0 := by decide +kernel
theorem dksX2_isAsked_1 : cX2_isAsked.data.toList.drop 23 = dktX2_isAsked_1 := dk_seg dksX2_isAsked_0 23 rfl rfl
theorem dksX2_isAsked_2 : cX2_isAsked.data.toList.drop 47 = dktX2_isAsked_2 := dk_seg dksX2_isAsked_1 24 rfl rfl
theorem dksX2_isAsked_3 : cX2_isAsked.data.toList.drop 69 = dktX2_isAsked_3 := dk_seg dksX2_isAsked_2 22 rfl rfl
theorem dksX2_isAsked_4 : cX2_isAsked.data.toList.drop 93 = dktX2_isAsked_4 := dk_seg dksX2_isAsked_3 24 rfl rfl
theorem dX2_isAsked_0 : decode cX2_isAsked 0 = .ok (.iload_n 0, 1) := dk_26 (dk_at dksX2_isAsked_0 0 rfl rfl)
theorem dX2_isAsked_1 : decode cX2_isAsked 1 = .ok (.bipush 10, 2) := dk_16 10 (dk_at dksX2_isAsked_0 1 rfl rfl)
theorem dX2_isAsked_3 : decode cX2_isAsked 3 = .ok (.if_icmp .ne 17, 3) := dk_160 0 17 (dk_at dksX2_isAsked_0 3 rfl rfl)
theorem dX2_isAsked_6 : decode cX2_isAsked 6 = .ok (.lload_n 1, 1) := dk_31 (dk_at dksX2_isAsked_0 6 rfl rfl)
theorem dX2_isAsked_7 : decode cX2_isAsked 7 = .ok (.lload_n 3, 1) := dk_33 (dk_at dksX2_isAsked_0 7 rfl rfl)
theorem dX2_isAsked_8 : decode cX2_isAsked 8 = .ok (.lcmp, 1) := dk_148 (dk_at dksX2_isAsked_0 8 rfl rfl)
theorem dX2_isAsked_9 : decode cX2_isAsked 9 = .ok (.ifCond .ge 7, 3) := dk_156 0 7 (dk_at dksX2_isAsked_0 9 rfl rfl)
theorem dX2_isAsked_12 : decode cX2_isAsked 12 = .ok (.iconst 1, 1) := dk_4 (dk_at dksX2_isAsked_0 12 rfl rfl)
theorem dX2_isAsked_13 : decode cX2_isAsked 13 = .ok (.goto 98, 3) := dk_167 0 98 (dk_at dksX2_isAsked_0 13 rfl rfl)
theorem dX2_isAsked_16 : decode cX2_isAsked 16 = .ok (.iconst 0, 1) := dk_3 (dk_at dksX2_isAsked_0 16 rfl rfl)
theorem dX2_isAsked_17 : decode cX2_isAsked 17 = .ok (.goto 94, 3) := dk_167 0 94 (dk_at dksX2_isAsked_0 17 rfl rfl)
theorem dX2_isAsked_20 : decode cX2_isAsked 20 = .ok (.iload_n 0, 1) := dk_26 (dk_at dksX2_isAsked_0 20 rfl rfl)
theorem dX2_isAsked_21 : decode cX2_isAsked 21 = .ok (.bipush 11, 2) := dk_16 11 (dk_at dksX2_isAsked_0 21 rfl rfl)
theorem dX2_isAsked_23 : decode cX2_isAsked 23 = .ok (.if_icmp .ne 17, 3) := dk_160 0 17 (dk_at dksX2_isAsked_1 0 rfl rfl)
theorem dX2_isAsked_26 : decode cX2_isAsked 26 = .ok (.lload_n 1, 1) := dk_31 (dk_at dksX2_isAsked_1 3 rfl rfl)
theorem dX2_isAsked_27 : decode cX2_isAsked 27 = .ok (.lload_n 3, 1) := dk_33 (dk_at dksX2_isAsked_1 4 rfl rfl)
theorem dX2_isAsked_28 : decode cX2_isAsked 28 = .ok (.lcmp, 1) := dk_148 (dk_at dksX2_isAsked_1 5 rfl rfl)
theorem dX2_isAsked_29 : decode cX2_isAsked 29 = .ok (.ifCond .gt 7, 3) := dk_157 0 7 (dk_at dksX2_isAsked_1 6 rfl rfl)
theorem dX2_isAsked_32 : decode cX2_isAsked 32 = .ok (.iconst 1, 1) := dk_4 (dk_at dksX2_isAsked_1 9 rfl rfl)
theorem dX2_isAsked_33 : decode cX2_isAsked 33 = .ok (.goto 78, 3) := dk_167 0 78 (dk_at dksX2_isAsked_1 10 rfl rfl)
theorem dX2_isAsked_36 : decode cX2_isAsked 36 = .ok (.iconst 0, 1) := dk_3 (dk_at dksX2_isAsked_1 13 rfl rfl)
theorem dX2_isAsked_37 : decode cX2_isAsked 37 = .ok (.goto 74, 3) := dk_167 0 74 (dk_at dksX2_isAsked_1 14 rfl rfl)
theorem dX2_isAsked_40 : decode cX2_isAsked 40 = .ok (.iload_n 0, 1) := dk_26 (dk_at dksX2_isAsked_1 17 rfl rfl)
theorem dX2_isAsked_41 : decode cX2_isAsked 41 = .ok (.bipush 12, 2) := dk_16 12 (dk_at dksX2_isAsked_1 18 rfl rfl)
theorem dX2_isAsked_43 : decode cX2_isAsked 43 = .ok (.if_icmp .ne 17, 3) := dk_160 0 17 (dk_at dksX2_isAsked_1 20 rfl rfl)
theorem dX2_isAsked_46 : decode cX2_isAsked 46 = .ok (.lload_n 1, 1) := dk_31 (dk_at dksX2_isAsked_1 23 rfl rfl)
theorem dX2_isAsked_47 : decode cX2_isAsked 47 = .ok (.lload_n 3, 1) := dk_33 (dk_at dksX2_isAsked_2 0 rfl rfl)
theorem dX2_isAsked_48 : decode cX2_isAsked 48 = .ok (.lcmp, 1) := dk_148 (dk_at dksX2_isAsked_2 1 rfl rfl)
theorem dX2_isAsked_49 : decode cX2_isAsked 49 = .ok (.ifCond .le 7, 3) := dk_158 0 7 (dk_at dksX2_isAsked_2 2 rfl rfl)
theorem dX2_isAsked_52 : decode cX2_isAsked 52 = .ok (.iconst 1, 1) := dk_4 (dk_at dksX2_isAsked_2 5 rfl rfl)
theorem dX2_isAsked_53 : decode cX2_isAsked 53 = .ok (.goto 58, 3) := dk_167 0 58 (dk_at dksX2_isAsked_2 6 rfl rfl)
theorem dX2_isAsked_56 : decode cX2_isAsked 56 = .ok (.iconst 0, 1) := dk_3 (dk_at dksX2_isAsked_2 9 rfl rfl)
theorem dX2_isAsked_57 : decode cX2_isAsked 57 = .ok (.goto 54, 3) := dk_167 0 54 (dk_at dksX2_isAsked_2 10 rfl rfl)
theorem dX2_isAsked_60 : decode cX2_isAsked 60 = .ok (.iload_n 0, 1) := dk_26 (dk_at dksX2_isAsked_2 13 rfl rfl)
theorem dX2_isAsked_61 : decode cX2_isAsked 61 = .ok (.bipush 13, 2) := dk_16 13 (dk_at dksX2_isAsked_2 14 rfl rfl)
theorem dX2_isAsked_63 : decode cX2_isAsked 63 = .ok (.if_icmp .ne 17, 3) := dk_160 0 17 (dk_at dksX2_isAsked_2 16 rfl rfl)
theorem dX2_isAsked_66 : decode cX2_isAsked 66 = .ok (.lload_n 1, 1) := dk_31 (dk_at dksX2_isAsked_2 19 rfl rfl)
theorem dX2_isAsked_67 : decode cX2_isAsked 67 = .ok (.lload_n 3, 1) := dk_33 (dk_at dksX2_isAsked_2 20 rfl rfl)
theorem dX2_isAsked_68 : decode cX2_isAsked 68 = .ok (.lcmp, 1) := dk_148 (dk_at dksX2_isAsked_2 21 rfl rfl)
theorem dX2_isAsked_69 : decode cX2_isAsked 69 = .ok (.ifCond .lt 7, 3) := dk_155 0 7 (dk_at dksX2_isAsked_3 0 rfl rfl)
theorem dX2_isAsked_72 : decode cX2_isAsked 72 = .ok (.iconst 1, 1) := dk_4 (dk_at dksX2_isAsked_3 3 rfl rfl)
theorem dX2_isAsked_73 : decode cX2_isAsked 73 = .ok (.goto 38, 3) := dk_167 0 38 (dk_at dksX2_isAsked_3 4 rfl rfl)
theorem dX2_isAsked_76 : decode cX2_isAsked 76 = .ok (.iconst 0, 1) := dk_3 (dk_at dksX2_isAsked_3 7 rfl rfl)
theorem dX2_isAsked_77 : decode cX2_isAsked 77 = .ok (.goto 34, 3) := dk_167 0 34 (dk_at dksX2_isAsked_3 8 rfl rfl)
theorem dX2_isAsked_80 : decode cX2_isAsked 80 = .ok (.iload_n 0, 1) := dk_26 (dk_at dksX2_isAsked_3 11 rfl rfl)
theorem dX2_isAsked_81 : decode cX2_isAsked 81 = .ok (.bipush 14, 2) := dk_16 14 (dk_at dksX2_isAsked_3 12 rfl rfl)
theorem dX2_isAsked_83 : decode cX2_isAsked 83 = .ok (.if_icmp .ne 17, 3) := dk_160 0 17 (dk_at dksX2_isAsked_3 14 rfl rfl)
theorem dX2_isAsked_86 : decode cX2_isAsked 86 = .ok (.lload_n 1, 1) := dk_31 (dk_at dksX2_isAsked_3 17 rfl rfl)
theorem dX2_isAsked_87 : decode cX2_isAsked 87 = .ok (.lload_n 3, 1) := dk_33 (dk_at dksX2_isAsked_3 18 rfl rfl)
theorem dX2_isAsked_88 : decode cX2_isAsked 88 = .ok (.lcmp, 1) := dk_148 (dk_at dksX2_isAsked_3 19 rfl rfl)
theorem dX2_isAsked_89 : decode cX2_isAsked 89 = .ok (.ifCond .ne 7, 3) := dk_154 0 7 (dk_at dksX2_isAsked_3 20 rfl rfl)
theorem dX2_isAsked_92 : decode cX2_isAsked 92 = .ok (.iconst 1, 1) := dk_4 (dk_at dksX2_isAsked_3 23 rfl rfl)
theorem dX2_isAsked_93 : decode cX2_isAsked 93 = .ok (.goto 18, 3) := dk_167 0 18 (dk_at dksX2_isAsked_4 0 rfl rfl)
theorem dX2_isAsked_96 : decode cX2_isAsked 96 = .ok (.iconst 0, 1) := dk_3 (dk_at dksX2_isAsked_4 3 rfl rfl)
theorem dX2_isAsked_97 : decode cX2_isAsked 97 = .ok (.goto 14, 3) := dk_167 0 14 (dk_at dksX2_isAsked_4 4 rfl rfl)
theorem dX2_isAsked_100 : decode cX2_isAsked 100 = .ok (.lload_n 1, 1) := dk_31 (dk_at dksX2_isAsked_4 7 rfl rfl)
theorem dX2_isAsked_101 : decode cX2_isAsked 101 = .ok (.lload_n 3, 1) := dk_33 (dk_at dksX2_isAsked_4 8 rfl rfl)
theorem dX2_isAsked_102 : decode cX2_isAsked 102 = .ok (.lcmp, 1) := dk_148 (dk_at dksX2_isAsked_4 9 rfl rfl)
theorem dX2_isAsked_103 : decode cX2_isAsked 103 = .ok (.ifCond .eq 7, 3) := dk_153 0 7 (dk_at dksX2_isAsked_4 10 rfl rfl)
theorem dX2_isAsked_106 : decode cX2_isAsked 106 = .ok (.iconst 1, 1) := dk_4 (dk_at dksX2_isAsked_4 13 rfl rfl)
theorem dX2_isAsked_107 : decode cX2_isAsked 107 = .ok (.goto 4, 3) := dk_167 0 4 (dk_at dksX2_isAsked_4 14 rfl rfl)
theorem dX2_isAsked_110 : decode cX2_isAsked 110 = .ok (.iconst 0, 1) := dk_3 (dk_at dksX2_isAsked_4 17 rfl rfl)
theorem dX2_isAsked_111 : decode cX2_isAsked 111 = .ok (.ireturn, 1) := dk_172 (dk_at dksX2_isAsked_4 18 rfl rfl)
abbrev cX2_held : ByteArray := prog_18_method_4_code
def yX2_held : MethodName := ⟨RX2, "held", "(JII)I"⟩
def dkwX2_held_1 : List UInt8 := [172]
abbrev dktX2_held_1 : List UInt8 := dkwX2_held_1 ++ []
def dkwX2_held_0 : List UInt8 := [30, 28, 133, 148, 156, 0, 7, 28, 167, 0, 16, 30, 29, 133, 148, 158, 0, 7, 29, 167, 0, 5, 30, 136]
abbrev dktX2_held_0 : List UInt8 := dkwX2_held_0 ++ dktX2_held_1
theorem dksX2_held_0 : cX2_held.data.toList.drop 0 = dktX2_held_0 := by decide +kernel
theorem dksX2_held_1 : cX2_held.data.toList.drop 24 = dktX2_held_1 := dk_seg dksX2_held_0 24 rfl rfl
theorem dX2_held_0 : decode cX2_held 0 = .ok (.lload_n 0, 1) := dk_30 (dk_at dksX2_held_0 0 rfl rfl)
theorem dX2_held_1 : decode cX2_held 1 = .ok (.iload_n 2, 1) := dk_28 (dk_at dksX2_held_0 1 rfl rfl)
theorem dX2_held_2 : decode cX2_held 2 = .ok (.i2l, 1) := dk_133 (dk_at dksX2_held_0 2 rfl rfl)
theorem dX2_held_3 : decode cX2_held 3 = .ok (.lcmp, 1) := dk_148 (dk_at dksX2_held_0 3 rfl rfl)
theorem dX2_held_4 : decode cX2_held 4 = .ok (.ifCond .ge 7, 3) := dk_156 0 7 (dk_at dksX2_held_0 4 rfl rfl)
theorem dX2_held_7 : decode cX2_held 7 = .ok (.iload_n 2, 1) := dk_28 (dk_at dksX2_held_0 7 rfl rfl)
theorem dX2_held_8 : decode cX2_held 8 = .ok (.goto 16, 3) := dk_167 0 16 (dk_at dksX2_held_0 8 rfl rfl)
theorem dX2_held_11 : decode cX2_held 11 = .ok (.lload_n 0, 1) := dk_30 (dk_at dksX2_held_0 11 rfl rfl)
theorem dX2_held_12 : decode cX2_held 12 = .ok (.iload_n 3, 1) := dk_29 (dk_at dksX2_held_0 12 rfl rfl)
theorem dX2_held_13 : decode cX2_held 13 = .ok (.i2l, 1) := dk_133 (dk_at dksX2_held_0 13 rfl rfl)
theorem dX2_held_14 : decode cX2_held 14 = .ok (.lcmp, 1) := dk_148 (dk_at dksX2_held_0 14 rfl rfl)
theorem dX2_held_15 : decode cX2_held 15 = .ok (.ifCond .le 7, 3) := dk_158 0 7 (dk_at dksX2_held_0 15 rfl rfl)
theorem dX2_held_18 : decode cX2_held 18 = .ok (.iload_n 3, 1) := dk_29 (dk_at dksX2_held_0 18 rfl rfl)
theorem dX2_held_19 : decode cX2_held 19 = .ok (.goto 5, 3) := dk_167 0 5 (dk_at dksX2_held_0 19 rfl rfl)
theorem dX2_held_22 : decode cX2_held 22 = .ok (.lload_n 0, 1) := dk_30 (dk_at dksX2_held_0 22 rfl rfl)
theorem dX2_held_23 : decode cX2_held 23 = .ok (.l2i, 1) := dk_136 (dk_at dksX2_held_0 23 rfl rfl)
theorem dX2_held_24 : decode cX2_held 24 = .ok (.ireturn, 1) := dk_172 (dk_at dksX2_held_1 0 rfl rfl)
abbrev cX2_cost : ByteArray := prog_18_method_70_code
def yX2_cost : MethodName := ⟨RX2, "cost", "(II)I"⟩
def dkwX2_cost_1 : List UInt8 := [2, 172]
abbrev dktX2_cost_1 : List UInt8 := dkwX2_cost_1 ++ []
def dkwX2_cost_0 : List UInt8 := [42, 27, 182, 0, 78, 153, 0, 19, 28, 184, 1, 31, 153, 0, 12, 42, 27, 28, 182, 1, 37, 167, 0, 4]
abbrev dktX2_cost_0 : List UInt8 := dkwX2_cost_0 ++ dktX2_cost_1
theorem dksX2_cost_0 : cX2_cost.data.toList.drop 0 = dktX2_cost_0 := by decide +kernel
theorem dksX2_cost_1 : cX2_cost.data.toList.drop 24 = dktX2_cost_1 := dk_seg dksX2_cost_0 24 rfl rfl
theorem dX2_cost_0 : decode cX2_cost 0 = .ok (.aload_n 0, 1) := dk_42 (dk_at dksX2_cost_0 0 rfl rfl)
theorem dX2_cost_1 : decode cX2_cost 1 = .ok (.iload_n 1, 1) := dk_27 (dk_at dksX2_cost_0 1 rfl rfl)
theorem dX2_cost_2 : decode cX2_cost 2 = .ok (.invokevirtual 78, 3) := dk_182 0 78 (dk_at dksX2_cost_0 2 rfl rfl)
theorem dX2_cost_5 : decode cX2_cost 5 = .ok (.ifCond .eq 19, 3) := dk_153 0 19 (dk_at dksX2_cost_0 5 rfl rfl)
theorem dX2_cost_8 : decode cX2_cost 8 = .ok (.iload_n 2, 1) := dk_28 (dk_at dksX2_cost_0 8 rfl rfl)
theorem dX2_cost_9 : decode cX2_cost 9 = .ok (.invokestatic 287, 3) := dk_184 1 31 (dk_at dksX2_cost_0 9 rfl rfl)
theorem dX2_cost_12 : decode cX2_cost 12 = .ok (.ifCond .eq 12, 3) := dk_153 0 12 (dk_at dksX2_cost_0 12 rfl rfl)
theorem dX2_cost_15 : decode cX2_cost 15 = .ok (.aload_n 0, 1) := dk_42 (dk_at dksX2_cost_0 15 rfl rfl)
theorem dX2_cost_16 : decode cX2_cost 16 = .ok (.iload_n 1, 1) := dk_27 (dk_at dksX2_cost_0 16 rfl rfl)
theorem dX2_cost_17 : decode cX2_cost 17 = .ok (.iload_n 2, 1) := dk_28 (dk_at dksX2_cost_0 17 rfl rfl)
theorem dX2_cost_18 : decode cX2_cost 18 = .ok (.invokevirtual 293, 3) := dk_182 1 37 (dk_at dksX2_cost_0 18 rfl rfl)
theorem dX2_cost_21 : decode cX2_cost 21 = .ok (.goto 4, 3) := dk_167 0 4 (dk_at dksX2_cost_0 21 rfl rfl)
theorem dX2_cost_24 : decode cX2_cost 24 = .ok (.iconst (-1), 1) := dk_2 (dk_at dksX2_cost_1 0 rfl rfl)
theorem dX2_cost_25 : decode cX2_cost 25 = .ok (.ireturn, 1) := dk_172 (dk_at dksX2_cost_1 1 rfl rfl)
abbrev cX2_costOf : ByteArray := prog_18_method_65_code
def yX2_costOf : MethodName := ⟨RX2, "costOf", "(II)I"⟩
def dkwX2_costOf_0 : List UInt8 := [42, 27, 28, 182, 1, 18, 42, 4, 16, 99, 4, 182, 1, 15, 172]
abbrev dktX2_costOf_0 : List UInt8 := dkwX2_costOf_0 ++ []
theorem dksX2_costOf_0 : cX2_costOf.data.toList.drop 0 = dktX2_costOf_0 := by decide +kernel
theorem dX2_costOf_0 : decode cX2_costOf 0 = .ok (.aload_n 0, 1) := dk_42 (dk_at dksX2_costOf_0 0 rfl rfl)
theorem dX2_costOf_1 : decode cX2_costOf 1 = .ok (.iload_n 1, 1) := dk_27 (dk_at dksX2_costOf_0 1 rfl rfl)
theorem dX2_costOf_2 : decode cX2_costOf 2 = .ok (.iload_n 2, 1) := dk_28 (dk_at dksX2_costOf_0 2 rfl rfl)
theorem dX2_costOf_3 : decode cX2_costOf 3 = .ok (.invokevirtual 274, 3) := dk_182 1 18 (dk_at dksX2_costOf_0 3 rfl rfl)
theorem dX2_costOf_6 : decode cX2_costOf 6 = .ok (.aload_n 0, 1) := dk_42 (dk_at dksX2_costOf_0 6 rfl rfl)
theorem dX2_costOf_7 : decode cX2_costOf 7 = .ok (.iconst 1, 1) := dk_4 (dk_at dksX2_costOf_0 7 rfl rfl)
theorem dX2_costOf_8 : decode cX2_costOf 8 = .ok (.bipush 99, 2) := dk_16 99 (dk_at dksX2_costOf_0 8 rfl rfl)
theorem dX2_costOf_10 : decode cX2_costOf 10 = .ok (.iconst 1, 1) := dk_4 (dk_at dksX2_costOf_0 10 rfl rfl)
theorem dX2_costOf_11 : decode cX2_costOf 11 = .ok (.invokevirtual 271, 3) := dk_182 1 15 (dk_at dksX2_costOf_0 11 rfl rfl)
theorem dX2_costOf_14 : decode cX2_costOf 14 = .ok (.ireturn, 1) := dk_172 (dk_at dksX2_costOf_0 14 rfl rfl)
abbrev cX2_nameBlower : ByteArray := prog_18_method_64_code
def yX2_nameBlower : MethodName := ⟨RX2, "nameBlower", "(II)V"⟩
def dkwX2_nameBlower_2 : List UInt8 := [182, 0, 74, 79, 177]
abbrev dktX2_nameBlower_2 : List UInt8 := dkwX2_nameBlower_2 ++ []
def dkwX2_nameBlower_1 : List UInt8 := [182, 0, 74, 79, 42, 180, 0, 32, 6, 42, 27, 4, 182, 0, 74, 79, 42, 180, 0, 32, 7, 42, 27, 5]
abbrev dktX2_nameBlower_1 : List UInt8 := dkwX2_nameBlower_1 ++ dktX2_nameBlower_2
def dkwX2_nameBlower_0 : List UInt8 := [42, 180, 0, 32, 3, 28, 79, 42, 180, 0, 32, 4, 27, 79, 42, 180, 0, 32, 5, 42, 27, 3]
abbrev dktX2_nameBlower_0 : List UInt8 := dkwX2_nameBlower_0 ++ dktX2_nameBlower_1
theorem dksX2_nameBlower_0 : cX2_nameBlower.data.toList.drop 0 = dktX2_nameBlower_0 := by decide +kernel
theorem dksX2_nameBlower_1 : cX2_nameBlower.data.toList.drop 22 = dktX2_nameBlower_1 := dk_seg dksX2_nameBlower_0 22 rfl rfl
theorem dksX2_nameBlower_2 : cX2_nameBlower.data.toList.drop 46 = dktX2_nameBlower_2 := dk_seg dksX2_nameBlower_1 24 rfl rfl
theorem dX2_nameBlower_0 : decode cX2_nameBlower 0 = .ok (.aload_n 0, 1) := dk_42 (dk_at dksX2_nameBlower_0 0 rfl rfl)
theorem dX2_nameBlower_1 : decode cX2_nameBlower 1 = .ok (.getfield 32, 3) := dk_180 0 32 (dk_at dksX2_nameBlower_0 1 rfl rfl)
theorem dX2_nameBlower_4 : decode cX2_nameBlower 4 = .ok (.iconst 0, 1) := dk_3 (dk_at dksX2_nameBlower_0 4 rfl rfl)
theorem dX2_nameBlower_5 : decode cX2_nameBlower 5 = .ok (.iload_n 2, 1) := dk_28 (dk_at dksX2_nameBlower_0 5 rfl rfl)
theorem dX2_nameBlower_6 : decode cX2_nameBlower 6 = .ok (.iastore, 1) := dk_79 (dk_at dksX2_nameBlower_0 6 rfl rfl)
theorem dX2_nameBlower_7 : decode cX2_nameBlower 7 = .ok (.aload_n 0, 1) := dk_42 (dk_at dksX2_nameBlower_0 7 rfl rfl)
theorem dX2_nameBlower_8 : decode cX2_nameBlower 8 = .ok (.getfield 32, 3) := dk_180 0 32 (dk_at dksX2_nameBlower_0 8 rfl rfl)
theorem dX2_nameBlower_11 : decode cX2_nameBlower 11 = .ok (.iconst 1, 1) := dk_4 (dk_at dksX2_nameBlower_0 11 rfl rfl)
theorem dX2_nameBlower_12 : decode cX2_nameBlower 12 = .ok (.iload_n 1, 1) := dk_27 (dk_at dksX2_nameBlower_0 12 rfl rfl)
theorem dX2_nameBlower_13 : decode cX2_nameBlower 13 = .ok (.iastore, 1) := dk_79 (dk_at dksX2_nameBlower_0 13 rfl rfl)
theorem dX2_nameBlower_14 : decode cX2_nameBlower 14 = .ok (.aload_n 0, 1) := dk_42 (dk_at dksX2_nameBlower_0 14 rfl rfl)
theorem dX2_nameBlower_15 : decode cX2_nameBlower 15 = .ok (.getfield 32, 3) := dk_180 0 32 (dk_at dksX2_nameBlower_0 15 rfl rfl)
theorem dX2_nameBlower_18 : decode cX2_nameBlower 18 = .ok (.iconst 2, 1) := dk_5 (dk_at dksX2_nameBlower_0 18 rfl rfl)
theorem dX2_nameBlower_19 : decode cX2_nameBlower 19 = .ok (.aload_n 0, 1) := dk_42 (dk_at dksX2_nameBlower_0 19 rfl rfl)
theorem dX2_nameBlower_20 : decode cX2_nameBlower 20 = .ok (.iload_n 1, 1) := dk_27 (dk_at dksX2_nameBlower_0 20 rfl rfl)
theorem dX2_nameBlower_21 : decode cX2_nameBlower 21 = .ok (.iconst 0, 1) := dk_3 (dk_at dksX2_nameBlower_0 21 rfl rfl)
theorem dX2_nameBlower_22 : decode cX2_nameBlower 22 = .ok (.invokevirtual 74, 3) := dk_182 0 74 (dk_at dksX2_nameBlower_1 0 rfl rfl)
theorem dX2_nameBlower_25 : decode cX2_nameBlower 25 = .ok (.iastore, 1) := dk_79 (dk_at dksX2_nameBlower_1 3 rfl rfl)
theorem dX2_nameBlower_26 : decode cX2_nameBlower 26 = .ok (.aload_n 0, 1) := dk_42 (dk_at dksX2_nameBlower_1 4 rfl rfl)
theorem dX2_nameBlower_27 : decode cX2_nameBlower 27 = .ok (.getfield 32, 3) := dk_180 0 32 (dk_at dksX2_nameBlower_1 5 rfl rfl)
theorem dX2_nameBlower_30 : decode cX2_nameBlower 30 = .ok (.iconst 3, 1) := dk_6 (dk_at dksX2_nameBlower_1 8 rfl rfl)
theorem dX2_nameBlower_31 : decode cX2_nameBlower 31 = .ok (.aload_n 0, 1) := dk_42 (dk_at dksX2_nameBlower_1 9 rfl rfl)
theorem dX2_nameBlower_32 : decode cX2_nameBlower 32 = .ok (.iload_n 1, 1) := dk_27 (dk_at dksX2_nameBlower_1 10 rfl rfl)
theorem dX2_nameBlower_33 : decode cX2_nameBlower 33 = .ok (.iconst 1, 1) := dk_4 (dk_at dksX2_nameBlower_1 11 rfl rfl)
theorem dX2_nameBlower_34 : decode cX2_nameBlower 34 = .ok (.invokevirtual 74, 3) := dk_182 0 74 (dk_at dksX2_nameBlower_1 12 rfl rfl)
theorem dX2_nameBlower_37 : decode cX2_nameBlower 37 = .ok (.iastore, 1) := dk_79 (dk_at dksX2_nameBlower_1 15 rfl rfl)
theorem dX2_nameBlower_38 : decode cX2_nameBlower 38 = .ok (.aload_n 0, 1) := dk_42 (dk_at dksX2_nameBlower_1 16 rfl rfl)
theorem dX2_nameBlower_39 : decode cX2_nameBlower 39 = .ok (.getfield 32, 3) := dk_180 0 32 (dk_at dksX2_nameBlower_1 17 rfl rfl)
theorem dX2_nameBlower_42 : decode cX2_nameBlower 42 = .ok (.iconst 4, 1) := dk_7 (dk_at dksX2_nameBlower_1 20 rfl rfl)
theorem dX2_nameBlower_43 : decode cX2_nameBlower 43 = .ok (.aload_n 0, 1) := dk_42 (dk_at dksX2_nameBlower_1 21 rfl rfl)
theorem dX2_nameBlower_44 : decode cX2_nameBlower 44 = .ok (.iload_n 1, 1) := dk_27 (dk_at dksX2_nameBlower_1 22 rfl rfl)
theorem dX2_nameBlower_45 : decode cX2_nameBlower 45 = .ok (.iconst 2, 1) := dk_5 (dk_at dksX2_nameBlower_1 23 rfl rfl)
theorem dX2_nameBlower_46 : decode cX2_nameBlower 46 = .ok (.invokevirtual 74, 3) := dk_182 0 74 (dk_at dksX2_nameBlower_2 0 rfl rfl)
theorem dX2_nameBlower_49 : decode cX2_nameBlower 49 = .ok (.iastore, 1) := dk_79 (dk_at dksX2_nameBlower_2 3 rfl rfl)
theorem dX2_nameBlower_50 : decode cX2_nameBlower 50 = .ok (.return_, 1) := dk_177 (dk_at dksX2_nameBlower_2 4 rfl rfl)
abbrev cX2_undo : ByteArray := prog_18_method_72_code
def yX2_undo : MethodName := ⟨RX2, "undo", "()I"⟩
def dkwX2_undo_8 : List UInt8 := [46, 79, 132, 2, 1, 167, 255, 226, 42, 180, 0, 7, 16, 6, 46, 172]
abbrev dktX2_undo_8 : List UInt8 := dkwX2_undo_8 ++ []
def dkwX2_undo_7 : List UInt8 := [16, 100, 162, 0, 30, 42, 180, 0, 7, 17, 0, 150, 28, 96, 42, 180, 0, 7, 27, 16, 16, 96, 28, 96]
abbrev dktX2_undo_7 : List UInt8 := dkwX2_undo_7 ++ dktX2_undo_8
def dkwX2_undo_6 : List UInt8 := [180, 0, 7, 3, 46, 162, 0, 16, 42, 28, 6, 3, 182, 0, 70, 132, 2, 1, 167, 255, 236, 3, 61, 28]
abbrev dktX2_undo_6 : List UInt8 := dkwX2_undo_6 ++ dktX2_undo_7
def dkwX2_undo_5 : List UInt8 := [96, 28, 96, 46, 182, 0, 70, 132, 2, 1, 167, 255, 208, 42, 180, 0, 7, 27, 6, 96, 46, 61, 28, 42]
abbrev dktX2_undo_5 : List UInt8 := dkwX2_undo_5 ++ dktX2_undo_6
def dkwX2_undo_4 : List UInt8 := [5, 42, 180, 0, 7, 27, 7, 96, 28, 96, 46, 182, 0, 70, 42, 28, 6, 42, 180, 0, 7, 27, 16, 10]
abbrev dktX2_undo_4 : List UInt8 := dkwX2_undo_4 ++ dktX2_undo_5
def dkwX2_undo_3 : List UInt8 := [180, 0, 7, 27, 5, 96, 46, 79, 3, 61, 28, 42, 180, 0, 7, 27, 6, 96, 46, 162, 0, 42, 42, 28]
abbrev dktX2_undo_3 : List UInt8 := dkwX2_undo_3 ++ dktX2_undo_4
def dkwX2_undo_2 : List UInt8 := [27, 46, 79, 42, 180, 0, 7, 5, 42, 180, 0, 7, 27, 4, 96, 46, 79, 42, 180, 0, 7, 16, 9, 42]
abbrev dktX2_undo_2 : List UInt8 := dkwX2_undo_2 ++ dktX2_undo_3
def dkwX2_undo_1 : List UInt8 := [17, 1, 154, 16, 116, 42, 180, 0, 7, 16, 6, 46, 104, 96, 60, 42, 180, 0, 7, 6, 42, 180, 0, 7]
abbrev dktX2_undo_1 : List UInt8 := dkwX2_undo_1 ++ dktX2_undo_2
def dkwX2_undo_0 : List UInt8 := [42, 180, 0, 7, 16, 6, 46, 154, 0, 5, 2, 172, 42, 180, 0, 7, 16, 6, 92, 46, 4, 100, 79]
abbrev dktX2_undo_0 : List UInt8 := dkwX2_undo_0 ++ dktX2_undo_1
theorem dksX2_undo_0 : cX2_undo.data.toList.drop 0 = dktX2_undo_0 := by decide +kernel
theorem dksX2_undo_1 : cX2_undo.data.toList.drop 23 = dktX2_undo_1 := dk_seg dksX2_undo_0 23 rfl rfl
theorem dksX2_undo_2 : cX2_undo.data.toList.drop 47 = dktX2_undo_2 := dk_seg dksX2_undo_1 24 rfl rfl
theorem dksX2_undo_3 : cX2_undo.data.toList.drop 71 = dktX2_undo_3 := dk_seg dksX2_undo_2 24 rfl rfl
theorem dksX2_undo_4 : cX2_undo.data.toList.drop 95 = dktX2_undo_4 := dk_seg dksX2_undo_3 24 rfl rfl
theorem dksX2_undo_5 : cX2_undo.data.toList.drop 119 = dktX2_undo_5 := dk_seg dksX2_undo_4 24 rfl rfl
theorem dksX2_undo_6 : cX2_undo.data.toList.drop 143 = dktX2_undo_6 := dk_seg dksX2_undo_5 24 rfl rfl
theorem dksX2_undo_7 : cX2_undo.data.toList.drop 167 = dktX2_undo_7 := dk_seg dksX2_undo_6 24 rfl rfl
theorem dksX2_undo_8 : cX2_undo.data.toList.drop 191 = dktX2_undo_8 := dk_seg dksX2_undo_7 24 rfl rfl
theorem dX2_undo_0 : decode cX2_undo 0 = .ok (.aload_n 0, 1) := dk_42 (dk_at dksX2_undo_0 0 rfl rfl)
theorem dX2_undo_1 : decode cX2_undo 1 = .ok (.getfield 7, 3) := dk_180 0 7 (dk_at dksX2_undo_0 1 rfl rfl)
theorem dX2_undo_4 : decode cX2_undo 4 = .ok (.bipush 6, 2) := dk_16 6 (dk_at dksX2_undo_0 4 rfl rfl)
theorem dX2_undo_6 : decode cX2_undo 6 = .ok (.iaload, 1) := dk_46 (dk_at dksX2_undo_0 6 rfl rfl)
theorem dX2_undo_7 : decode cX2_undo 7 = .ok (.ifCond .ne 5, 3) := dk_154 0 5 (dk_at dksX2_undo_0 7 rfl rfl)
theorem dX2_undo_10 : decode cX2_undo 10 = .ok (.iconst (-1), 1) := dk_2 (dk_at dksX2_undo_0 10 rfl rfl)
theorem dX2_undo_11 : decode cX2_undo 11 = .ok (.ireturn, 1) := dk_172 (dk_at dksX2_undo_0 11 rfl rfl)
theorem dX2_undo_12 : decode cX2_undo 12 = .ok (.aload_n 0, 1) := dk_42 (dk_at dksX2_undo_0 12 rfl rfl)
theorem dX2_undo_13 : decode cX2_undo 13 = .ok (.getfield 7, 3) := dk_180 0 7 (dk_at dksX2_undo_0 13 rfl rfl)
theorem dX2_undo_16 : decode cX2_undo 16 = .ok (.bipush 6, 2) := dk_16 6 (dk_at dksX2_undo_0 16 rfl rfl)
theorem dX2_undo_18 : decode cX2_undo 18 = .ok (.dup2, 1) := dk_92 (dk_at dksX2_undo_0 18 rfl rfl)
theorem dX2_undo_19 : decode cX2_undo 19 = .ok (.iaload, 1) := dk_46 (dk_at dksX2_undo_0 19 rfl rfl)
theorem dX2_undo_20 : decode cX2_undo 20 = .ok (.iconst 1, 1) := dk_4 (dk_at dksX2_undo_0 20 rfl rfl)
theorem dX2_undo_21 : decode cX2_undo 21 = .ok (.isub, 1) := dk_100 (dk_at dksX2_undo_0 21 rfl rfl)
theorem dX2_undo_22 : decode cX2_undo 22 = .ok (.iastore, 1) := dk_79 (dk_at dksX2_undo_0 22 rfl rfl)
theorem dX2_undo_23 : decode cX2_undo 23 = .ok (.sipush 410, 3) := dk_17 1 154 (dk_at dksX2_undo_1 0 rfl rfl)
theorem dX2_undo_26 : decode cX2_undo 26 = .ok (.bipush 116, 2) := dk_16 116 (dk_at dksX2_undo_1 3 rfl rfl)
theorem dX2_undo_28 : decode cX2_undo 28 = .ok (.aload_n 0, 1) := dk_42 (dk_at dksX2_undo_1 5 rfl rfl)
theorem dX2_undo_29 : decode cX2_undo 29 = .ok (.getfield 7, 3) := dk_180 0 7 (dk_at dksX2_undo_1 6 rfl rfl)
theorem dX2_undo_32 : decode cX2_undo 32 = .ok (.bipush 6, 2) := dk_16 6 (dk_at dksX2_undo_1 9 rfl rfl)
theorem dX2_undo_34 : decode cX2_undo 34 = .ok (.iaload, 1) := dk_46 (dk_at dksX2_undo_1 11 rfl rfl)
theorem dX2_undo_35 : decode cX2_undo 35 = .ok (.imul, 1) := dk_104 (dk_at dksX2_undo_1 12 rfl rfl)
theorem dX2_undo_36 : decode cX2_undo 36 = .ok (.iadd, 1) := dk_96 (dk_at dksX2_undo_1 13 rfl rfl)
theorem dX2_undo_37 : decode cX2_undo 37 = .ok (.istore_n 1, 1) := dk_60 (dk_at dksX2_undo_1 14 rfl rfl)
theorem dX2_undo_38 : decode cX2_undo 38 = .ok (.aload_n 0, 1) := dk_42 (dk_at dksX2_undo_1 15 rfl rfl)
theorem dX2_undo_39 : decode cX2_undo 39 = .ok (.getfield 7, 3) := dk_180 0 7 (dk_at dksX2_undo_1 16 rfl rfl)
theorem dX2_undo_42 : decode cX2_undo 42 = .ok (.iconst 3, 1) := dk_6 (dk_at dksX2_undo_1 19 rfl rfl)
theorem dX2_undo_43 : decode cX2_undo 43 = .ok (.aload_n 0, 1) := dk_42 (dk_at dksX2_undo_1 20 rfl rfl)
theorem dX2_undo_44 : decode cX2_undo 44 = .ok (.getfield 7, 3) := dk_180 0 7 (dk_at dksX2_undo_1 21 rfl rfl)
theorem dX2_undo_47 : decode cX2_undo 47 = .ok (.iload_n 1, 1) := dk_27 (dk_at dksX2_undo_2 0 rfl rfl)
theorem dX2_undo_48 : decode cX2_undo 48 = .ok (.iaload, 1) := dk_46 (dk_at dksX2_undo_2 1 rfl rfl)
theorem dX2_undo_49 : decode cX2_undo 49 = .ok (.iastore, 1) := dk_79 (dk_at dksX2_undo_2 2 rfl rfl)
theorem dX2_undo_50 : decode cX2_undo 50 = .ok (.aload_n 0, 1) := dk_42 (dk_at dksX2_undo_2 3 rfl rfl)
theorem dX2_undo_51 : decode cX2_undo 51 = .ok (.getfield 7, 3) := dk_180 0 7 (dk_at dksX2_undo_2 4 rfl rfl)
theorem dX2_undo_54 : decode cX2_undo 54 = .ok (.iconst 2, 1) := dk_5 (dk_at dksX2_undo_2 7 rfl rfl)
theorem dX2_undo_55 : decode cX2_undo 55 = .ok (.aload_n 0, 1) := dk_42 (dk_at dksX2_undo_2 8 rfl rfl)
theorem dX2_undo_56 : decode cX2_undo 56 = .ok (.getfield 7, 3) := dk_180 0 7 (dk_at dksX2_undo_2 9 rfl rfl)
theorem dX2_undo_59 : decode cX2_undo 59 = .ok (.iload_n 1, 1) := dk_27 (dk_at dksX2_undo_2 12 rfl rfl)
theorem dX2_undo_60 : decode cX2_undo 60 = .ok (.iconst 1, 1) := dk_4 (dk_at dksX2_undo_2 13 rfl rfl)
theorem dX2_undo_61 : decode cX2_undo 61 = .ok (.iadd, 1) := dk_96 (dk_at dksX2_undo_2 14 rfl rfl)
theorem dX2_undo_62 : decode cX2_undo 62 = .ok (.iaload, 1) := dk_46 (dk_at dksX2_undo_2 15 rfl rfl)
theorem dX2_undo_63 : decode cX2_undo 63 = .ok (.iastore, 1) := dk_79 (dk_at dksX2_undo_2 16 rfl rfl)
theorem dX2_undo_64 : decode cX2_undo 64 = .ok (.aload_n 0, 1) := dk_42 (dk_at dksX2_undo_2 17 rfl rfl)
theorem dX2_undo_65 : decode cX2_undo 65 = .ok (.getfield 7, 3) := dk_180 0 7 (dk_at dksX2_undo_2 18 rfl rfl)
theorem dX2_undo_68 : decode cX2_undo 68 = .ok (.bipush 9, 2) := dk_16 9 (dk_at dksX2_undo_2 21 rfl rfl)
theorem dX2_undo_70 : decode cX2_undo 70 = .ok (.aload_n 0, 1) := dk_42 (dk_at dksX2_undo_2 23 rfl rfl)
theorem dX2_undo_71 : decode cX2_undo 71 = .ok (.getfield 7, 3) := dk_180 0 7 (dk_at dksX2_undo_3 0 rfl rfl)
theorem dX2_undo_74 : decode cX2_undo 74 = .ok (.iload_n 1, 1) := dk_27 (dk_at dksX2_undo_3 3 rfl rfl)
theorem dX2_undo_75 : decode cX2_undo 75 = .ok (.iconst 2, 1) := dk_5 (dk_at dksX2_undo_3 4 rfl rfl)
theorem dX2_undo_76 : decode cX2_undo 76 = .ok (.iadd, 1) := dk_96 (dk_at dksX2_undo_3 5 rfl rfl)
theorem dX2_undo_77 : decode cX2_undo 77 = .ok (.iaload, 1) := dk_46 (dk_at dksX2_undo_3 6 rfl rfl)
theorem dX2_undo_78 : decode cX2_undo 78 = .ok (.iastore, 1) := dk_79 (dk_at dksX2_undo_3 7 rfl rfl)
theorem dX2_undo_79 : decode cX2_undo 79 = .ok (.iconst 0, 1) := dk_3 (dk_at dksX2_undo_3 8 rfl rfl)
theorem dX2_undo_80 : decode cX2_undo 80 = .ok (.istore_n 2, 1) := dk_61 (dk_at dksX2_undo_3 9 rfl rfl)
theorem dX2_undo_81 : decode cX2_undo 81 = .ok (.iload_n 2, 1) := dk_28 (dk_at dksX2_undo_3 10 rfl rfl)
theorem dX2_undo_82 : decode cX2_undo 82 = .ok (.aload_n 0, 1) := dk_42 (dk_at dksX2_undo_3 11 rfl rfl)
theorem dX2_undo_83 : decode cX2_undo 83 = .ok (.getfield 7, 3) := dk_180 0 7 (dk_at dksX2_undo_3 12 rfl rfl)
theorem dX2_undo_86 : decode cX2_undo 86 = .ok (.iload_n 1, 1) := dk_27 (dk_at dksX2_undo_3 15 rfl rfl)
theorem dX2_undo_87 : decode cX2_undo 87 = .ok (.iconst 3, 1) := dk_6 (dk_at dksX2_undo_3 16 rfl rfl)
theorem dX2_undo_88 : decode cX2_undo 88 = .ok (.iadd, 1) := dk_96 (dk_at dksX2_undo_3 17 rfl rfl)
theorem dX2_undo_89 : decode cX2_undo 89 = .ok (.iaload, 1) := dk_46 (dk_at dksX2_undo_3 18 rfl rfl)
theorem dX2_undo_90 : decode cX2_undo 90 = .ok (.if_icmp .ge 42, 3) := dk_162 0 42 (dk_at dksX2_undo_3 19 rfl rfl)
theorem dX2_undo_93 : decode cX2_undo 93 = .ok (.aload_n 0, 1) := dk_42 (dk_at dksX2_undo_3 22 rfl rfl)
theorem dX2_undo_94 : decode cX2_undo 94 = .ok (.iload_n 2, 1) := dk_28 (dk_at dksX2_undo_3 23 rfl rfl)
theorem dX2_undo_95 : decode cX2_undo 95 = .ok (.iconst 2, 1) := dk_5 (dk_at dksX2_undo_4 0 rfl rfl)
theorem dX2_undo_96 : decode cX2_undo 96 = .ok (.aload_n 0, 1) := dk_42 (dk_at dksX2_undo_4 1 rfl rfl)
theorem dX2_undo_97 : decode cX2_undo 97 = .ok (.getfield 7, 3) := dk_180 0 7 (dk_at dksX2_undo_4 2 rfl rfl)
theorem dX2_undo_100 : decode cX2_undo 100 = .ok (.iload_n 1, 1) := dk_27 (dk_at dksX2_undo_4 5 rfl rfl)
theorem dX2_undo_101 : decode cX2_undo 101 = .ok (.iconst 4, 1) := dk_7 (dk_at dksX2_undo_4 6 rfl rfl)
theorem dX2_undo_102 : decode cX2_undo 102 = .ok (.iadd, 1) := dk_96 (dk_at dksX2_undo_4 7 rfl rfl)
theorem dX2_undo_103 : decode cX2_undo 103 = .ok (.iload_n 2, 1) := dk_28 (dk_at dksX2_undo_4 8 rfl rfl)
theorem dX2_undo_104 : decode cX2_undo 104 = .ok (.iadd, 1) := dk_96 (dk_at dksX2_undo_4 9 rfl rfl)
theorem dX2_undo_105 : decode cX2_undo 105 = .ok (.iaload, 1) := dk_46 (dk_at dksX2_undo_4 10 rfl rfl)
theorem dX2_undo_106 : decode cX2_undo 106 = .ok (.invokevirtual 70, 3) := dk_182 0 70 (dk_at dksX2_undo_4 11 rfl rfl)
theorem dX2_undo_109 : decode cX2_undo 109 = .ok (.aload_n 0, 1) := dk_42 (dk_at dksX2_undo_4 14 rfl rfl)
theorem dX2_undo_110 : decode cX2_undo 110 = .ok (.iload_n 2, 1) := dk_28 (dk_at dksX2_undo_4 15 rfl rfl)
theorem dX2_undo_111 : decode cX2_undo 111 = .ok (.iconst 3, 1) := dk_6 (dk_at dksX2_undo_4 16 rfl rfl)
theorem dX2_undo_112 : decode cX2_undo 112 = .ok (.aload_n 0, 1) := dk_42 (dk_at dksX2_undo_4 17 rfl rfl)
theorem dX2_undo_113 : decode cX2_undo 113 = .ok (.getfield 7, 3) := dk_180 0 7 (dk_at dksX2_undo_4 18 rfl rfl)
theorem dX2_undo_116 : decode cX2_undo 116 = .ok (.iload_n 1, 1) := dk_27 (dk_at dksX2_undo_4 21 rfl rfl)
theorem dX2_undo_117 : decode cX2_undo 117 = .ok (.bipush 10, 2) := dk_16 10 (dk_at dksX2_undo_4 22 rfl rfl)
theorem dX2_undo_119 : decode cX2_undo 119 = .ok (.iadd, 1) := dk_96 (dk_at dksX2_undo_5 0 rfl rfl)
theorem dX2_undo_120 : decode cX2_undo 120 = .ok (.iload_n 2, 1) := dk_28 (dk_at dksX2_undo_5 1 rfl rfl)
theorem dX2_undo_121 : decode cX2_undo 121 = .ok (.iadd, 1) := dk_96 (dk_at dksX2_undo_5 2 rfl rfl)
theorem dX2_undo_122 : decode cX2_undo 122 = .ok (.iaload, 1) := dk_46 (dk_at dksX2_undo_5 3 rfl rfl)
theorem dX2_undo_123 : decode cX2_undo 123 = .ok (.invokevirtual 70, 3) := dk_182 0 70 (dk_at dksX2_undo_5 4 rfl rfl)
theorem dX2_undo_126 : decode cX2_undo 126 = .ok (.iinc 2 1, 3) := dk_132 2 1 (dk_at dksX2_undo_5 7 rfl rfl)
theorem dX2_undo_129 : decode cX2_undo 129 = .ok (.goto (-48), 3) := dk_167 255 208 (dk_at dksX2_undo_5 10 rfl rfl)
theorem dX2_undo_132 : decode cX2_undo 132 = .ok (.aload_n 0, 1) := dk_42 (dk_at dksX2_undo_5 13 rfl rfl)
theorem dX2_undo_133 : decode cX2_undo 133 = .ok (.getfield 7, 3) := dk_180 0 7 (dk_at dksX2_undo_5 14 rfl rfl)
theorem dX2_undo_136 : decode cX2_undo 136 = .ok (.iload_n 1, 1) := dk_27 (dk_at dksX2_undo_5 17 rfl rfl)
theorem dX2_undo_137 : decode cX2_undo 137 = .ok (.iconst 3, 1) := dk_6 (dk_at dksX2_undo_5 18 rfl rfl)
theorem dX2_undo_138 : decode cX2_undo 138 = .ok (.iadd, 1) := dk_96 (dk_at dksX2_undo_5 19 rfl rfl)
theorem dX2_undo_139 : decode cX2_undo 139 = .ok (.iaload, 1) := dk_46 (dk_at dksX2_undo_5 20 rfl rfl)
theorem dX2_undo_140 : decode cX2_undo 140 = .ok (.istore_n 2, 1) := dk_61 (dk_at dksX2_undo_5 21 rfl rfl)
theorem dX2_undo_141 : decode cX2_undo 141 = .ok (.iload_n 2, 1) := dk_28 (dk_at dksX2_undo_5 22 rfl rfl)
theorem dX2_undo_142 : decode cX2_undo 142 = .ok (.aload_n 0, 1) := dk_42 (dk_at dksX2_undo_5 23 rfl rfl)
theorem dX2_undo_143 : decode cX2_undo 143 = .ok (.getfield 7, 3) := dk_180 0 7 (dk_at dksX2_undo_6 0 rfl rfl)
theorem dX2_undo_146 : decode cX2_undo 146 = .ok (.iconst 0, 1) := dk_3 (dk_at dksX2_undo_6 3 rfl rfl)
theorem dX2_undo_147 : decode cX2_undo 147 = .ok (.iaload, 1) := dk_46 (dk_at dksX2_undo_6 4 rfl rfl)
theorem dX2_undo_148 : decode cX2_undo 148 = .ok (.if_icmp .ge 16, 3) := dk_162 0 16 (dk_at dksX2_undo_6 5 rfl rfl)
theorem dX2_undo_151 : decode cX2_undo 151 = .ok (.aload_n 0, 1) := dk_42 (dk_at dksX2_undo_6 8 rfl rfl)
theorem dX2_undo_152 : decode cX2_undo 152 = .ok (.iload_n 2, 1) := dk_28 (dk_at dksX2_undo_6 9 rfl rfl)
theorem dX2_undo_153 : decode cX2_undo 153 = .ok (.iconst 3, 1) := dk_6 (dk_at dksX2_undo_6 10 rfl rfl)
theorem dX2_undo_154 : decode cX2_undo 154 = .ok (.iconst 0, 1) := dk_3 (dk_at dksX2_undo_6 11 rfl rfl)
theorem dX2_undo_155 : decode cX2_undo 155 = .ok (.invokevirtual 70, 3) := dk_182 0 70 (dk_at dksX2_undo_6 12 rfl rfl)
theorem dX2_undo_158 : decode cX2_undo 158 = .ok (.iinc 2 1, 3) := dk_132 2 1 (dk_at dksX2_undo_6 15 rfl rfl)
theorem dX2_undo_161 : decode cX2_undo 161 = .ok (.goto (-20), 3) := dk_167 255 236 (dk_at dksX2_undo_6 18 rfl rfl)
theorem dX2_undo_164 : decode cX2_undo 164 = .ok (.iconst 0, 1) := dk_3 (dk_at dksX2_undo_6 21 rfl rfl)
theorem dX2_undo_165 : decode cX2_undo 165 = .ok (.istore_n 2, 1) := dk_61 (dk_at dksX2_undo_6 22 rfl rfl)
theorem dX2_undo_166 : decode cX2_undo 166 = .ok (.iload_n 2, 1) := dk_28 (dk_at dksX2_undo_6 23 rfl rfl)
theorem dX2_undo_167 : decode cX2_undo 167 = .ok (.bipush 100, 2) := dk_16 100 (dk_at dksX2_undo_7 0 rfl rfl)
theorem dX2_undo_169 : decode cX2_undo 169 = .ok (.if_icmp .ge 30, 3) := dk_162 0 30 (dk_at dksX2_undo_7 2 rfl rfl)
theorem dX2_undo_172 : decode cX2_undo 172 = .ok (.aload_n 0, 1) := dk_42 (dk_at dksX2_undo_7 5 rfl rfl)
theorem dX2_undo_173 : decode cX2_undo 173 = .ok (.getfield 7, 3) := dk_180 0 7 (dk_at dksX2_undo_7 6 rfl rfl)
theorem dX2_undo_176 : decode cX2_undo 176 = .ok (.sipush 150, 3) := dk_17 0 150 (dk_at dksX2_undo_7 9 rfl rfl)
theorem dX2_undo_179 : decode cX2_undo 179 = .ok (.iload_n 2, 1) := dk_28 (dk_at dksX2_undo_7 12 rfl rfl)
theorem dX2_undo_180 : decode cX2_undo 180 = .ok (.iadd, 1) := dk_96 (dk_at dksX2_undo_7 13 rfl rfl)
theorem dX2_undo_181 : decode cX2_undo 181 = .ok (.aload_n 0, 1) := dk_42 (dk_at dksX2_undo_7 14 rfl rfl)
theorem dX2_undo_182 : decode cX2_undo 182 = .ok (.getfield 7, 3) := dk_180 0 7 (dk_at dksX2_undo_7 15 rfl rfl)
theorem dX2_undo_185 : decode cX2_undo 185 = .ok (.iload_n 1, 1) := dk_27 (dk_at dksX2_undo_7 18 rfl rfl)
theorem dX2_undo_186 : decode cX2_undo 186 = .ok (.bipush 16, 2) := dk_16 16 (dk_at dksX2_undo_7 19 rfl rfl)
theorem dX2_undo_188 : decode cX2_undo 188 = .ok (.iadd, 1) := dk_96 (dk_at dksX2_undo_7 21 rfl rfl)
theorem dX2_undo_189 : decode cX2_undo 189 = .ok (.iload_n 2, 1) := dk_28 (dk_at dksX2_undo_7 22 rfl rfl)
theorem dX2_undo_190 : decode cX2_undo 190 = .ok (.iadd, 1) := dk_96 (dk_at dksX2_undo_7 23 rfl rfl)
theorem dX2_undo_191 : decode cX2_undo 191 = .ok (.iaload, 1) := dk_46 (dk_at dksX2_undo_8 0 rfl rfl)
theorem dX2_undo_192 : decode cX2_undo 192 = .ok (.iastore, 1) := dk_79 (dk_at dksX2_undo_8 1 rfl rfl)
theorem dX2_undo_193 : decode cX2_undo 193 = .ok (.iinc 2 1, 3) := dk_132 2 1 (dk_at dksX2_undo_8 2 rfl rfl)
theorem dX2_undo_196 : decode cX2_undo 196 = .ok (.goto (-30), 3) := dk_167 255 226 (dk_at dksX2_undo_8 5 rfl rfl)
theorem dX2_undo_199 : decode cX2_undo 199 = .ok (.aload_n 0, 1) := dk_42 (dk_at dksX2_undo_8 8 rfl rfl)
theorem dX2_undo_200 : decode cX2_undo 200 = .ok (.getfield 7, 3) := dk_180 0 7 (dk_at dksX2_undo_8 9 rfl rfl)
theorem dX2_undo_203 : decode cX2_undo 203 = .ok (.bipush 6, 2) := dk_16 6 (dk_at dksX2_undo_8 12 rfl rfl)
theorem dX2_undo_205 : decode cX2_undo 205 = .ok (.iaload, 1) := dk_46 (dk_at dksX2_undo_8 14 rfl rfl)
theorem dX2_undo_206 : decode cX2_undo 206 = .ok (.ireturn, 1) := dk_172 (dk_at dksX2_undo_8 15 rfl rfl)
abbrev cX2_begin : ByteArray := prog_18_method_73_code
def yX2_begin : MethodName := ⟨RX2, "begin", "(I)I"⟩
def dkwX2_begin_3 : List UInt8 := [5, 92, 46, 4, 96, 79, 42, 180, 0, 7, 5, 46, 4, 100, 172]
abbrev dktX2_begin_3 : List UInt8 := dkwX2_begin_3 ++ []
def dkwX2_begin_2 : List UInt8 := [16, 10, 162, 0, 18, 42, 180, 0, 7, 28, 29, 96, 3, 79, 132, 3, 1, 167, 255, 238, 42, 180, 0, 7]
abbrev dktX2_begin_2 : List UInt8 := dkwX2_begin_2 ++ dktX2_begin_3
def dkwX2_begin_1 : List UInt8 := [182, 1, 43, 42, 180, 0, 7, 5, 46, 184, 0, 66, 61, 42, 180, 0, 7, 28, 27, 79, 4, 62, 29]
abbrev dktX2_begin_1 : List UInt8 := dkwX2_begin_1 ++ dktX2_begin_2
def dkwX2_begin_0 : List UInt8 := [42, 27, 182, 1, 40, 153, 0, 14, 42, 180, 0, 7, 5, 46, 16, 10, 160, 0, 5, 2, 172, 42]
abbrev dktX2_begin_0 : List UInt8 := dkwX2_begin_0 ++ dktX2_begin_1
theorem dksX2_begin_0 : cX2_begin.data.toList.drop 0 = dktX2_begin_0 := by decide +kernel
theorem dksX2_begin_1 : cX2_begin.data.toList.drop 22 = dktX2_begin_1 := dk_seg dksX2_begin_0 22 rfl rfl
theorem dksX2_begin_2 : cX2_begin.data.toList.drop 45 = dktX2_begin_2 := dk_seg dksX2_begin_1 23 rfl rfl
theorem dksX2_begin_3 : cX2_begin.data.toList.drop 69 = dktX2_begin_3 := dk_seg dksX2_begin_2 24 rfl rfl
theorem dX2_begin_0 : decode cX2_begin 0 = .ok (.aload_n 0, 1) := dk_42 (dk_at dksX2_begin_0 0 rfl rfl)
theorem dX2_begin_1 : decode cX2_begin 1 = .ok (.iload_n 1, 1) := dk_27 (dk_at dksX2_begin_0 1 rfl rfl)
theorem dX2_begin_2 : decode cX2_begin 2 = .ok (.invokevirtual 296, 3) := dk_182 1 40 (dk_at dksX2_begin_0 2 rfl rfl)
theorem dX2_begin_5 : decode cX2_begin 5 = .ok (.ifCond .eq 14, 3) := dk_153 0 14 (dk_at dksX2_begin_0 5 rfl rfl)
theorem dX2_begin_8 : decode cX2_begin 8 = .ok (.aload_n 0, 1) := dk_42 (dk_at dksX2_begin_0 8 rfl rfl)
theorem dX2_begin_9 : decode cX2_begin 9 = .ok (.getfield 7, 3) := dk_180 0 7 (dk_at dksX2_begin_0 9 rfl rfl)
theorem dX2_begin_12 : decode cX2_begin 12 = .ok (.iconst 2, 1) := dk_5 (dk_at dksX2_begin_0 12 rfl rfl)
theorem dX2_begin_13 : decode cX2_begin 13 = .ok (.iaload, 1) := dk_46 (dk_at dksX2_begin_0 13 rfl rfl)
theorem dX2_begin_14 : decode cX2_begin 14 = .ok (.bipush 10, 2) := dk_16 10 (dk_at dksX2_begin_0 14 rfl rfl)
theorem dX2_begin_16 : decode cX2_begin 16 = .ok (.if_icmp .ne 5, 3) := dk_160 0 5 (dk_at dksX2_begin_0 16 rfl rfl)
theorem dX2_begin_19 : decode cX2_begin 19 = .ok (.iconst (-1), 1) := dk_2 (dk_at dksX2_begin_0 19 rfl rfl)
theorem dX2_begin_20 : decode cX2_begin 20 = .ok (.ireturn, 1) := dk_172 (dk_at dksX2_begin_0 20 rfl rfl)
theorem dX2_begin_21 : decode cX2_begin 21 = .ok (.aload_n 0, 1) := dk_42 (dk_at dksX2_begin_0 21 rfl rfl)
theorem dX2_begin_22 : decode cX2_begin 22 = .ok (.invokevirtual 299, 3) := dk_182 1 43 (dk_at dksX2_begin_1 0 rfl rfl)
theorem dX2_begin_25 : decode cX2_begin 25 = .ok (.aload_n 0, 1) := dk_42 (dk_at dksX2_begin_1 3 rfl rfl)
theorem dX2_begin_26 : decode cX2_begin 26 = .ok (.getfield 7, 3) := dk_180 0 7 (dk_at dksX2_begin_1 4 rfl rfl)
theorem dX2_begin_29 : decode cX2_begin 29 = .ok (.iconst 2, 1) := dk_5 (dk_at dksX2_begin_1 7 rfl rfl)
theorem dX2_begin_30 : decode cX2_begin 30 = .ok (.iaload, 1) := dk_46 (dk_at dksX2_begin_1 8 rfl rfl)
theorem dX2_begin_31 : decode cX2_begin 31 = .ok (.invokestatic 66, 3) := dk_184 0 66 (dk_at dksX2_begin_1 9 rfl rfl)
theorem dX2_begin_34 : decode cX2_begin 34 = .ok (.istore_n 2, 1) := dk_61 (dk_at dksX2_begin_1 12 rfl rfl)
theorem dX2_begin_35 : decode cX2_begin 35 = .ok (.aload_n 0, 1) := dk_42 (dk_at dksX2_begin_1 13 rfl rfl)
theorem dX2_begin_36 : decode cX2_begin 36 = .ok (.getfield 7, 3) := dk_180 0 7 (dk_at dksX2_begin_1 14 rfl rfl)
theorem dX2_begin_39 : decode cX2_begin 39 = .ok (.iload_n 2, 1) := dk_28 (dk_at dksX2_begin_1 17 rfl rfl)
theorem dX2_begin_40 : decode cX2_begin 40 = .ok (.iload_n 1, 1) := dk_27 (dk_at dksX2_begin_1 18 rfl rfl)
theorem dX2_begin_41 : decode cX2_begin 41 = .ok (.iastore, 1) := dk_79 (dk_at dksX2_begin_1 19 rfl rfl)
theorem dX2_begin_42 : decode cX2_begin 42 = .ok (.iconst 1, 1) := dk_4 (dk_at dksX2_begin_1 20 rfl rfl)
theorem dX2_begin_43 : decode cX2_begin 43 = .ok (.istore_n 3, 1) := dk_62 (dk_at dksX2_begin_1 21 rfl rfl)
theorem dX2_begin_44 : decode cX2_begin 44 = .ok (.iload_n 3, 1) := dk_29 (dk_at dksX2_begin_1 22 rfl rfl)
theorem dX2_begin_45 : decode cX2_begin 45 = .ok (.bipush 10, 2) := dk_16 10 (dk_at dksX2_begin_2 0 rfl rfl)
theorem dX2_begin_47 : decode cX2_begin 47 = .ok (.if_icmp .ge 18, 3) := dk_162 0 18 (dk_at dksX2_begin_2 2 rfl rfl)
theorem dX2_begin_50 : decode cX2_begin 50 = .ok (.aload_n 0, 1) := dk_42 (dk_at dksX2_begin_2 5 rfl rfl)
theorem dX2_begin_51 : decode cX2_begin 51 = .ok (.getfield 7, 3) := dk_180 0 7 (dk_at dksX2_begin_2 6 rfl rfl)
theorem dX2_begin_54 : decode cX2_begin 54 = .ok (.iload_n 2, 1) := dk_28 (dk_at dksX2_begin_2 9 rfl rfl)
theorem dX2_begin_55 : decode cX2_begin 55 = .ok (.iload_n 3, 1) := dk_29 (dk_at dksX2_begin_2 10 rfl rfl)
theorem dX2_begin_56 : decode cX2_begin 56 = .ok (.iadd, 1) := dk_96 (dk_at dksX2_begin_2 11 rfl rfl)
theorem dX2_begin_57 : decode cX2_begin 57 = .ok (.iconst 0, 1) := dk_3 (dk_at dksX2_begin_2 12 rfl rfl)
theorem dX2_begin_58 : decode cX2_begin 58 = .ok (.iastore, 1) := dk_79 (dk_at dksX2_begin_2 13 rfl rfl)
theorem dX2_begin_59 : decode cX2_begin 59 = .ok (.iinc 3 1, 3) := dk_132 3 1 (dk_at dksX2_begin_2 14 rfl rfl)
theorem dX2_begin_62 : decode cX2_begin 62 = .ok (.goto (-18), 3) := dk_167 255 238 (dk_at dksX2_begin_2 17 rfl rfl)
theorem dX2_begin_65 : decode cX2_begin 65 = .ok (.aload_n 0, 1) := dk_42 (dk_at dksX2_begin_2 20 rfl rfl)
theorem dX2_begin_66 : decode cX2_begin 66 = .ok (.getfield 7, 3) := dk_180 0 7 (dk_at dksX2_begin_2 21 rfl rfl)
theorem dX2_begin_69 : decode cX2_begin 69 = .ok (.iconst 2, 1) := dk_5 (dk_at dksX2_begin_3 0 rfl rfl)
theorem dX2_begin_70 : decode cX2_begin 70 = .ok (.dup2, 1) := dk_92 (dk_at dksX2_begin_3 1 rfl rfl)
theorem dX2_begin_71 : decode cX2_begin 71 = .ok (.iaload, 1) := dk_46 (dk_at dksX2_begin_3 2 rfl rfl)
theorem dX2_begin_72 : decode cX2_begin 72 = .ok (.iconst 1, 1) := dk_4 (dk_at dksX2_begin_3 3 rfl rfl)
theorem dX2_begin_73 : decode cX2_begin 73 = .ok (.iadd, 1) := dk_96 (dk_at dksX2_begin_3 4 rfl rfl)
theorem dX2_begin_74 : decode cX2_begin 74 = .ok (.iastore, 1) := dk_79 (dk_at dksX2_begin_3 5 rfl rfl)
theorem dX2_begin_75 : decode cX2_begin 75 = .ok (.aload_n 0, 1) := dk_42 (dk_at dksX2_begin_3 6 rfl rfl)
theorem dX2_begin_76 : decode cX2_begin 76 = .ok (.getfield 7, 3) := dk_180 0 7 (dk_at dksX2_begin_3 7 rfl rfl)
theorem dX2_begin_79 : decode cX2_begin 79 = .ok (.iconst 2, 1) := dk_5 (dk_at dksX2_begin_3 10 rfl rfl)
theorem dX2_begin_80 : decode cX2_begin 80 = .ok (.iaload, 1) := dk_46 (dk_at dksX2_begin_3 11 rfl rfl)
theorem dX2_begin_81 : decode cX2_begin 81 = .ok (.iconst 1, 1) := dk_4 (dk_at dksX2_begin_3 12 rfl rfl)
theorem dX2_begin_82 : decode cX2_begin 82 = .ok (.isub, 1) := dk_100 (dk_at dksX2_begin_3 13 rfl rfl)
theorem dX2_begin_83 : decode cX2_begin 83 = .ok (.ireturn, 1) := dk_172 (dk_at dksX2_begin_3 14 rfl rfl)
abbrev cX2_isKind : ByteArray := prog_18_method_8_code
def yX2_isKind : MethodName := ⟨RX2, "isKind", "(I)Z"⟩
def dkwX2_isKind_0 : List UInt8 := [27, 3, 42, 180, 0, 7, 4, 46, 4, 100, 184, 0, 62, 172]
abbrev dktX2_isKind_0 : List UInt8 := dkwX2_isKind_0 ++ []
theorem dksX2_isKind_0 : cX2_isKind.data.toList.drop 0 = dktX2_isKind_0 := by decide +kernel
theorem dX2_isKind_0 : decode cX2_isKind 0 = .ok (.iload_n 1, 1) := dk_27 (dk_at dksX2_isKind_0 0 rfl rfl)
theorem dX2_isKind_1 : decode cX2_isKind 1 = .ok (.iconst 0, 1) := dk_3 (dk_at dksX2_isKind_0 1 rfl rfl)
theorem dX2_isKind_2 : decode cX2_isKind 2 = .ok (.aload_n 0, 1) := dk_42 (dk_at dksX2_isKind_0 2 rfl rfl)
theorem dX2_isKind_3 : decode cX2_isKind 3 = .ok (.getfield 7, 3) := dk_180 0 7 (dk_at dksX2_isKind_0 3 rfl rfl)
theorem dX2_isKind_6 : decode cX2_isKind 6 = .ok (.iconst 1, 1) := dk_4 (dk_at dksX2_isKind_0 6 rfl rfl)
theorem dX2_isKind_7 : decode cX2_isKind 7 = .ok (.iaload, 1) := dk_46 (dk_at dksX2_isKind_0 7 rfl rfl)
theorem dX2_isKind_8 : decode cX2_isKind 8 = .ok (.iconst 1, 1) := dk_4 (dk_at dksX2_isKind_0 8 rfl rfl)
theorem dX2_isKind_9 : decode cX2_isKind 9 = .ok (.isub, 1) := dk_100 (dk_at dksX2_isKind_0 9 rfl rfl)
theorem dX2_isKind_10 : decode cX2_isKind 10 = .ok (.invokestatic 62, 3) := dk_184 0 62 (dk_at dksX2_isKind_0 10 rfl rfl)
theorem dX2_isKind_13 : decode cX2_isKind 13 = .ok (.ireturn, 1) := dk_172 (dk_at dksX2_isKind_0 13 rfl rfl)
abbrev cX2_keep : ByteArray := prog_18_method_71_code
def yX2_keep : MethodName := ⟨RX2, "keep", "()V"⟩
def dkwX2_keep_9 : List UInt8 := [167, 255, 226, 42, 180, 0, 7, 16, 6, 92, 46, 4, 96, 79, 177]
abbrev dktX2_keep_9 : List UInt8 := dkwX2_keep_9 ++ []
def dkwX2_keep_8 : List UInt8 := [180, 0, 7, 27, 16, 16, 96, 28, 96, 42, 180, 0, 7, 17, 0, 150, 28, 96, 46, 79, 132, 2, 1]
abbrev dktX2_keep_8 : List UInt8 := dkwX2_keep_8 ++ dktX2_keep_9
def dkwX2_keep_7 : List UInt8 := [96, 42, 28, 6, 182, 0, 74, 79, 132, 2, 1, 167, 255, 214, 3, 61, 28, 16, 100, 162, 0, 30, 42]
abbrev dktX2_keep_7 : List UInt8 := dkwX2_keep_7 ++ dktX2_keep_8
def dkwX2_keep_6 : List UInt8 := [180, 0, 7, 27, 7, 96, 28, 96, 42, 28, 5, 182, 0, 74, 79, 42, 180, 0, 7, 27, 16, 10, 96, 28]
abbrev dktX2_keep_6 : List UInt8 := dkwX2_keep_6 ++ dktX2_keep_7
def dkwX2_keep_5 : List UInt8 := [180, 0, 7, 27, 6, 96, 42, 180, 0, 7, 3, 46, 79, 3, 61, 28, 16, 6, 162, 0, 42, 42]
abbrev dktX2_keep_5 : List UInt8 := dkwX2_keep_5 ++ dktX2_keep_6
def dkwX2_keep_4 : List UInt8 := [96, 42, 180, 0, 7, 5, 46, 79, 42, 180, 0, 7, 27, 5, 96, 42, 180, 0, 7, 16, 9, 46, 79, 42]
abbrev dktX2_keep_4 : List UInt8 := dkwX2_keep_4 ++ dktX2_keep_5
def dkwX2_keep_3 : List UInt8 := [16, 6, 46, 104, 96, 60, 42, 180, 0, 7, 27, 42, 180, 0, 7, 6, 46, 79, 42, 180, 0, 7, 27, 4]
abbrev dktX2_keep_3 : List UInt8 := dkwX2_keep_3 ++ dktX2_keep_4
def dkwX2_keep_2 : List UInt8 := [167, 255, 226, 42, 180, 0, 7, 16, 6, 92, 46, 4, 100, 79, 17, 1, 154, 16, 116, 42, 180, 0, 7]
abbrev dktX2_keep_2 : List UInt8 := dkwX2_keep_2 ++ dktX2_keep_3
def dkwX2_keep_1 : List UInt8 := [180, 0, 7, 17, 1, 154, 27, 96, 42, 180, 0, 7, 17, 2, 14, 27, 96, 46, 79, 132, 1, 1]
abbrev dktX2_keep_1 : List UInt8 := dkwX2_keep_1 ++ dktX2_keep_2
def dkwX2_keep_0 : List UInt8 := [42, 180, 0, 7, 16, 6, 46, 16, 30, 160, 0, 49, 3, 60, 27, 17, 13, 36, 162, 0, 29, 42]
abbrev dktX2_keep_0 : List UInt8 := dkwX2_keep_0 ++ dktX2_keep_1
theorem dksX2_keep_0 : cX2_keep.data.toList.drop 0 = dktX2_keep_0 := by decide +kernel
theorem dksX2_keep_1 : cX2_keep.data.toList.drop 22 = dktX2_keep_1 := dk_seg dksX2_keep_0 22 rfl rfl
theorem dksX2_keep_2 : cX2_keep.data.toList.drop 44 = dktX2_keep_2 := dk_seg dksX2_keep_1 22 rfl rfl
theorem dksX2_keep_3 : cX2_keep.data.toList.drop 67 = dktX2_keep_3 := dk_seg dksX2_keep_2 23 rfl rfl
theorem dksX2_keep_4 : cX2_keep.data.toList.drop 91 = dktX2_keep_4 := dk_seg dksX2_keep_3 24 rfl rfl
theorem dksX2_keep_5 : cX2_keep.data.toList.drop 115 = dktX2_keep_5 := dk_seg dksX2_keep_4 24 rfl rfl
theorem dksX2_keep_6 : cX2_keep.data.toList.drop 137 = dktX2_keep_6 := dk_seg dksX2_keep_5 22 rfl rfl
theorem dksX2_keep_7 : cX2_keep.data.toList.drop 161 = dktX2_keep_7 := dk_seg dksX2_keep_6 24 rfl rfl
theorem dksX2_keep_8 : cX2_keep.data.toList.drop 184 = dktX2_keep_8 := dk_seg dksX2_keep_7 23 rfl rfl
theorem dksX2_keep_9 : cX2_keep.data.toList.drop 207 = dktX2_keep_9 := dk_seg dksX2_keep_8 23 rfl rfl
theorem dX2_keep_0 : decode cX2_keep 0 = .ok (.aload_n 0, 1) := dk_42 (dk_at dksX2_keep_0 0 rfl rfl)
theorem dX2_keep_1 : decode cX2_keep 1 = .ok (.getfield 7, 3) := dk_180 0 7 (dk_at dksX2_keep_0 1 rfl rfl)
theorem dX2_keep_4 : decode cX2_keep 4 = .ok (.bipush 6, 2) := dk_16 6 (dk_at dksX2_keep_0 4 rfl rfl)
theorem dX2_keep_6 : decode cX2_keep 6 = .ok (.iaload, 1) := dk_46 (dk_at dksX2_keep_0 6 rfl rfl)
theorem dX2_keep_7 : decode cX2_keep 7 = .ok (.bipush 30, 2) := dk_16 30 (dk_at dksX2_keep_0 7 rfl rfl)
theorem dX2_keep_9 : decode cX2_keep 9 = .ok (.if_icmp .ne 49, 3) := dk_160 0 49 (dk_at dksX2_keep_0 9 rfl rfl)
theorem dX2_keep_12 : decode cX2_keep 12 = .ok (.iconst 0, 1) := dk_3 (dk_at dksX2_keep_0 12 rfl rfl)
theorem dX2_keep_13 : decode cX2_keep 13 = .ok (.istore_n 1, 1) := dk_60 (dk_at dksX2_keep_0 13 rfl rfl)
theorem dX2_keep_14 : decode cX2_keep 14 = .ok (.iload_n 1, 1) := dk_27 (dk_at dksX2_keep_0 14 rfl rfl)
theorem dX2_keep_15 : decode cX2_keep 15 = .ok (.sipush 3364, 3) := dk_17 13 36 (dk_at dksX2_keep_0 15 rfl rfl)
theorem dX2_keep_18 : decode cX2_keep 18 = .ok (.if_icmp .ge 29, 3) := dk_162 0 29 (dk_at dksX2_keep_0 18 rfl rfl)
theorem dX2_keep_21 : decode cX2_keep 21 = .ok (.aload_n 0, 1) := dk_42 (dk_at dksX2_keep_0 21 rfl rfl)
theorem dX2_keep_22 : decode cX2_keep 22 = .ok (.getfield 7, 3) := dk_180 0 7 (dk_at dksX2_keep_1 0 rfl rfl)
theorem dX2_keep_25 : decode cX2_keep 25 = .ok (.sipush 410, 3) := dk_17 1 154 (dk_at dksX2_keep_1 3 rfl rfl)
theorem dX2_keep_28 : decode cX2_keep 28 = .ok (.iload_n 1, 1) := dk_27 (dk_at dksX2_keep_1 6 rfl rfl)
theorem dX2_keep_29 : decode cX2_keep 29 = .ok (.iadd, 1) := dk_96 (dk_at dksX2_keep_1 7 rfl rfl)
theorem dX2_keep_30 : decode cX2_keep 30 = .ok (.aload_n 0, 1) := dk_42 (dk_at dksX2_keep_1 8 rfl rfl)
theorem dX2_keep_31 : decode cX2_keep 31 = .ok (.getfield 7, 3) := dk_180 0 7 (dk_at dksX2_keep_1 9 rfl rfl)
theorem dX2_keep_34 : decode cX2_keep 34 = .ok (.sipush 526, 3) := dk_17 2 14 (dk_at dksX2_keep_1 12 rfl rfl)
theorem dX2_keep_37 : decode cX2_keep 37 = .ok (.iload_n 1, 1) := dk_27 (dk_at dksX2_keep_1 15 rfl rfl)
theorem dX2_keep_38 : decode cX2_keep 38 = .ok (.iadd, 1) := dk_96 (dk_at dksX2_keep_1 16 rfl rfl)
theorem dX2_keep_39 : decode cX2_keep 39 = .ok (.iaload, 1) := dk_46 (dk_at dksX2_keep_1 17 rfl rfl)
theorem dX2_keep_40 : decode cX2_keep 40 = .ok (.iastore, 1) := dk_79 (dk_at dksX2_keep_1 18 rfl rfl)
theorem dX2_keep_41 : decode cX2_keep 41 = .ok (.iinc 1 1, 3) := dk_132 1 1 (dk_at dksX2_keep_1 19 rfl rfl)
theorem dX2_keep_44 : decode cX2_keep 44 = .ok (.goto (-30), 3) := dk_167 255 226 (dk_at dksX2_keep_2 0 rfl rfl)
theorem dX2_keep_47 : decode cX2_keep 47 = .ok (.aload_n 0, 1) := dk_42 (dk_at dksX2_keep_2 3 rfl rfl)
theorem dX2_keep_48 : decode cX2_keep 48 = .ok (.getfield 7, 3) := dk_180 0 7 (dk_at dksX2_keep_2 4 rfl rfl)
theorem dX2_keep_51 : decode cX2_keep 51 = .ok (.bipush 6, 2) := dk_16 6 (dk_at dksX2_keep_2 7 rfl rfl)
theorem dX2_keep_53 : decode cX2_keep 53 = .ok (.dup2, 1) := dk_92 (dk_at dksX2_keep_2 9 rfl rfl)
theorem dX2_keep_54 : decode cX2_keep 54 = .ok (.iaload, 1) := dk_46 (dk_at dksX2_keep_2 10 rfl rfl)
theorem dX2_keep_55 : decode cX2_keep 55 = .ok (.iconst 1, 1) := dk_4 (dk_at dksX2_keep_2 11 rfl rfl)
theorem dX2_keep_56 : decode cX2_keep 56 = .ok (.isub, 1) := dk_100 (dk_at dksX2_keep_2 12 rfl rfl)
theorem dX2_keep_57 : decode cX2_keep 57 = .ok (.iastore, 1) := dk_79 (dk_at dksX2_keep_2 13 rfl rfl)
theorem dX2_keep_58 : decode cX2_keep 58 = .ok (.sipush 410, 3) := dk_17 1 154 (dk_at dksX2_keep_2 14 rfl rfl)
theorem dX2_keep_61 : decode cX2_keep 61 = .ok (.bipush 116, 2) := dk_16 116 (dk_at dksX2_keep_2 17 rfl rfl)
theorem dX2_keep_63 : decode cX2_keep 63 = .ok (.aload_n 0, 1) := dk_42 (dk_at dksX2_keep_2 19 rfl rfl)
theorem dX2_keep_64 : decode cX2_keep 64 = .ok (.getfield 7, 3) := dk_180 0 7 (dk_at dksX2_keep_2 20 rfl rfl)
theorem dX2_keep_67 : decode cX2_keep 67 = .ok (.bipush 6, 2) := dk_16 6 (dk_at dksX2_keep_3 0 rfl rfl)
theorem dX2_keep_69 : decode cX2_keep 69 = .ok (.iaload, 1) := dk_46 (dk_at dksX2_keep_3 2 rfl rfl)
theorem dX2_keep_70 : decode cX2_keep 70 = .ok (.imul, 1) := dk_104 (dk_at dksX2_keep_3 3 rfl rfl)
theorem dX2_keep_71 : decode cX2_keep 71 = .ok (.iadd, 1) := dk_96 (dk_at dksX2_keep_3 4 rfl rfl)
theorem dX2_keep_72 : decode cX2_keep 72 = .ok (.istore_n 1, 1) := dk_60 (dk_at dksX2_keep_3 5 rfl rfl)
theorem dX2_keep_73 : decode cX2_keep 73 = .ok (.aload_n 0, 1) := dk_42 (dk_at dksX2_keep_3 6 rfl rfl)
theorem dX2_keep_74 : decode cX2_keep 74 = .ok (.getfield 7, 3) := dk_180 0 7 (dk_at dksX2_keep_3 7 rfl rfl)
theorem dX2_keep_77 : decode cX2_keep 77 = .ok (.iload_n 1, 1) := dk_27 (dk_at dksX2_keep_3 10 rfl rfl)
theorem dX2_keep_78 : decode cX2_keep 78 = .ok (.aload_n 0, 1) := dk_42 (dk_at dksX2_keep_3 11 rfl rfl)
theorem dX2_keep_79 : decode cX2_keep 79 = .ok (.getfield 7, 3) := dk_180 0 7 (dk_at dksX2_keep_3 12 rfl rfl)
theorem dX2_keep_82 : decode cX2_keep 82 = .ok (.iconst 3, 1) := dk_6 (dk_at dksX2_keep_3 15 rfl rfl)
theorem dX2_keep_83 : decode cX2_keep 83 = .ok (.iaload, 1) := dk_46 (dk_at dksX2_keep_3 16 rfl rfl)
theorem dX2_keep_84 : decode cX2_keep 84 = .ok (.iastore, 1) := dk_79 (dk_at dksX2_keep_3 17 rfl rfl)
theorem dX2_keep_85 : decode cX2_keep 85 = .ok (.aload_n 0, 1) := dk_42 (dk_at dksX2_keep_3 18 rfl rfl)
theorem dX2_keep_86 : decode cX2_keep 86 = .ok (.getfield 7, 3) := dk_180 0 7 (dk_at dksX2_keep_3 19 rfl rfl)
theorem dX2_keep_89 : decode cX2_keep 89 = .ok (.iload_n 1, 1) := dk_27 (dk_at dksX2_keep_3 22 rfl rfl)
theorem dX2_keep_90 : decode cX2_keep 90 = .ok (.iconst 1, 1) := dk_4 (dk_at dksX2_keep_3 23 rfl rfl)
theorem dX2_keep_91 : decode cX2_keep 91 = .ok (.iadd, 1) := dk_96 (dk_at dksX2_keep_4 0 rfl rfl)
theorem dX2_keep_92 : decode cX2_keep 92 = .ok (.aload_n 0, 1) := dk_42 (dk_at dksX2_keep_4 1 rfl rfl)
theorem dX2_keep_93 : decode cX2_keep 93 = .ok (.getfield 7, 3) := dk_180 0 7 (dk_at dksX2_keep_4 2 rfl rfl)
theorem dX2_keep_96 : decode cX2_keep 96 = .ok (.iconst 2, 1) := dk_5 (dk_at dksX2_keep_4 5 rfl rfl)
theorem dX2_keep_97 : decode cX2_keep 97 = .ok (.iaload, 1) := dk_46 (dk_at dksX2_keep_4 6 rfl rfl)
theorem dX2_keep_98 : decode cX2_keep 98 = .ok (.iastore, 1) := dk_79 (dk_at dksX2_keep_4 7 rfl rfl)
theorem dX2_keep_99 : decode cX2_keep 99 = .ok (.aload_n 0, 1) := dk_42 (dk_at dksX2_keep_4 8 rfl rfl)
theorem dX2_keep_100 : decode cX2_keep 100 = .ok (.getfield 7, 3) := dk_180 0 7 (dk_at dksX2_keep_4 9 rfl rfl)
theorem dX2_keep_103 : decode cX2_keep 103 = .ok (.iload_n 1, 1) := dk_27 (dk_at dksX2_keep_4 12 rfl rfl)
theorem dX2_keep_104 : decode cX2_keep 104 = .ok (.iconst 2, 1) := dk_5 (dk_at dksX2_keep_4 13 rfl rfl)
theorem dX2_keep_105 : decode cX2_keep 105 = .ok (.iadd, 1) := dk_96 (dk_at dksX2_keep_4 14 rfl rfl)
theorem dX2_keep_106 : decode cX2_keep 106 = .ok (.aload_n 0, 1) := dk_42 (dk_at dksX2_keep_4 15 rfl rfl)
theorem dX2_keep_107 : decode cX2_keep 107 = .ok (.getfield 7, 3) := dk_180 0 7 (dk_at dksX2_keep_4 16 rfl rfl)
theorem dX2_keep_110 : decode cX2_keep 110 = .ok (.bipush 9, 2) := dk_16 9 (dk_at dksX2_keep_4 19 rfl rfl)
theorem dX2_keep_112 : decode cX2_keep 112 = .ok (.iaload, 1) := dk_46 (dk_at dksX2_keep_4 21 rfl rfl)
theorem dX2_keep_113 : decode cX2_keep 113 = .ok (.iastore, 1) := dk_79 (dk_at dksX2_keep_4 22 rfl rfl)
theorem dX2_keep_114 : decode cX2_keep 114 = .ok (.aload_n 0, 1) := dk_42 (dk_at dksX2_keep_4 23 rfl rfl)
theorem dX2_keep_115 : decode cX2_keep 115 = .ok (.getfield 7, 3) := dk_180 0 7 (dk_at dksX2_keep_5 0 rfl rfl)
theorem dX2_keep_118 : decode cX2_keep 118 = .ok (.iload_n 1, 1) := dk_27 (dk_at dksX2_keep_5 3 rfl rfl)
theorem dX2_keep_119 : decode cX2_keep 119 = .ok (.iconst 3, 1) := dk_6 (dk_at dksX2_keep_5 4 rfl rfl)
theorem dX2_keep_120 : decode cX2_keep 120 = .ok (.iadd, 1) := dk_96 (dk_at dksX2_keep_5 5 rfl rfl)
theorem dX2_keep_121 : decode cX2_keep 121 = .ok (.aload_n 0, 1) := dk_42 (dk_at dksX2_keep_5 6 rfl rfl)
theorem dX2_keep_122 : decode cX2_keep 122 = .ok (.getfield 7, 3) := dk_180 0 7 (dk_at dksX2_keep_5 7 rfl rfl)
theorem dX2_keep_125 : decode cX2_keep 125 = .ok (.iconst 0, 1) := dk_3 (dk_at dksX2_keep_5 10 rfl rfl)
theorem dX2_keep_126 : decode cX2_keep 126 = .ok (.iaload, 1) := dk_46 (dk_at dksX2_keep_5 11 rfl rfl)
theorem dX2_keep_127 : decode cX2_keep 127 = .ok (.iastore, 1) := dk_79 (dk_at dksX2_keep_5 12 rfl rfl)
theorem dX2_keep_128 : decode cX2_keep 128 = .ok (.iconst 0, 1) := dk_3 (dk_at dksX2_keep_5 13 rfl rfl)
theorem dX2_keep_129 : decode cX2_keep 129 = .ok (.istore_n 2, 1) := dk_61 (dk_at dksX2_keep_5 14 rfl rfl)
theorem dX2_keep_130 : decode cX2_keep 130 = .ok (.iload_n 2, 1) := dk_28 (dk_at dksX2_keep_5 15 rfl rfl)
theorem dX2_keep_131 : decode cX2_keep 131 = .ok (.bipush 6, 2) := dk_16 6 (dk_at dksX2_keep_5 16 rfl rfl)
theorem dX2_keep_133 : decode cX2_keep 133 = .ok (.if_icmp .ge 42, 3) := dk_162 0 42 (dk_at dksX2_keep_5 18 rfl rfl)
theorem dX2_keep_136 : decode cX2_keep 136 = .ok (.aload_n 0, 1) := dk_42 (dk_at dksX2_keep_5 21 rfl rfl)
theorem dX2_keep_137 : decode cX2_keep 137 = .ok (.getfield 7, 3) := dk_180 0 7 (dk_at dksX2_keep_6 0 rfl rfl)
theorem dX2_keep_140 : decode cX2_keep 140 = .ok (.iload_n 1, 1) := dk_27 (dk_at dksX2_keep_6 3 rfl rfl)
theorem dX2_keep_141 : decode cX2_keep 141 = .ok (.iconst 4, 1) := dk_7 (dk_at dksX2_keep_6 4 rfl rfl)
theorem dX2_keep_142 : decode cX2_keep 142 = .ok (.iadd, 1) := dk_96 (dk_at dksX2_keep_6 5 rfl rfl)
theorem dX2_keep_143 : decode cX2_keep 143 = .ok (.iload_n 2, 1) := dk_28 (dk_at dksX2_keep_6 6 rfl rfl)
theorem dX2_keep_144 : decode cX2_keep 144 = .ok (.iadd, 1) := dk_96 (dk_at dksX2_keep_6 7 rfl rfl)
theorem dX2_keep_145 : decode cX2_keep 145 = .ok (.aload_n 0, 1) := dk_42 (dk_at dksX2_keep_6 8 rfl rfl)
theorem dX2_keep_146 : decode cX2_keep 146 = .ok (.iload_n 2, 1) := dk_28 (dk_at dksX2_keep_6 9 rfl rfl)
theorem dX2_keep_147 : decode cX2_keep 147 = .ok (.iconst 2, 1) := dk_5 (dk_at dksX2_keep_6 10 rfl rfl)
theorem dX2_keep_148 : decode cX2_keep 148 = .ok (.invokevirtual 74, 3) := dk_182 0 74 (dk_at dksX2_keep_6 11 rfl rfl)
theorem dX2_keep_151 : decode cX2_keep 151 = .ok (.iastore, 1) := dk_79 (dk_at dksX2_keep_6 14 rfl rfl)
theorem dX2_keep_152 : decode cX2_keep 152 = .ok (.aload_n 0, 1) := dk_42 (dk_at dksX2_keep_6 15 rfl rfl)
theorem dX2_keep_153 : decode cX2_keep 153 = .ok (.getfield 7, 3) := dk_180 0 7 (dk_at dksX2_keep_6 16 rfl rfl)
theorem dX2_keep_156 : decode cX2_keep 156 = .ok (.iload_n 1, 1) := dk_27 (dk_at dksX2_keep_6 19 rfl rfl)
theorem dX2_keep_157 : decode cX2_keep 157 = .ok (.bipush 10, 2) := dk_16 10 (dk_at dksX2_keep_6 20 rfl rfl)
theorem dX2_keep_159 : decode cX2_keep 159 = .ok (.iadd, 1) := dk_96 (dk_at dksX2_keep_6 22 rfl rfl)
theorem dX2_keep_160 : decode cX2_keep 160 = .ok (.iload_n 2, 1) := dk_28 (dk_at dksX2_keep_6 23 rfl rfl)
theorem dX2_keep_161 : decode cX2_keep 161 = .ok (.iadd, 1) := dk_96 (dk_at dksX2_keep_7 0 rfl rfl)
theorem dX2_keep_162 : decode cX2_keep 162 = .ok (.aload_n 0, 1) := dk_42 (dk_at dksX2_keep_7 1 rfl rfl)
theorem dX2_keep_163 : decode cX2_keep 163 = .ok (.iload_n 2, 1) := dk_28 (dk_at dksX2_keep_7 2 rfl rfl)
theorem dX2_keep_164 : decode cX2_keep 164 = .ok (.iconst 3, 1) := dk_6 (dk_at dksX2_keep_7 3 rfl rfl)
theorem dX2_keep_165 : decode cX2_keep 165 = .ok (.invokevirtual 74, 3) := dk_182 0 74 (dk_at dksX2_keep_7 4 rfl rfl)
theorem dX2_keep_168 : decode cX2_keep 168 = .ok (.iastore, 1) := dk_79 (dk_at dksX2_keep_7 7 rfl rfl)
theorem dX2_keep_169 : decode cX2_keep 169 = .ok (.iinc 2 1, 3) := dk_132 2 1 (dk_at dksX2_keep_7 8 rfl rfl)
theorem dX2_keep_172 : decode cX2_keep 172 = .ok (.goto (-42), 3) := dk_167 255 214 (dk_at dksX2_keep_7 11 rfl rfl)
theorem dX2_keep_175 : decode cX2_keep 175 = .ok (.iconst 0, 1) := dk_3 (dk_at dksX2_keep_7 14 rfl rfl)
theorem dX2_keep_176 : decode cX2_keep 176 = .ok (.istore_n 2, 1) := dk_61 (dk_at dksX2_keep_7 15 rfl rfl)
theorem dX2_keep_177 : decode cX2_keep 177 = .ok (.iload_n 2, 1) := dk_28 (dk_at dksX2_keep_7 16 rfl rfl)
theorem dX2_keep_178 : decode cX2_keep 178 = .ok (.bipush 100, 2) := dk_16 100 (dk_at dksX2_keep_7 17 rfl rfl)
theorem dX2_keep_180 : decode cX2_keep 180 = .ok (.if_icmp .ge 30, 3) := dk_162 0 30 (dk_at dksX2_keep_7 19 rfl rfl)
theorem dX2_keep_183 : decode cX2_keep 183 = .ok (.aload_n 0, 1) := dk_42 (dk_at dksX2_keep_7 22 rfl rfl)
theorem dX2_keep_184 : decode cX2_keep 184 = .ok (.getfield 7, 3) := dk_180 0 7 (dk_at dksX2_keep_8 0 rfl rfl)
theorem dX2_keep_187 : decode cX2_keep 187 = .ok (.iload_n 1, 1) := dk_27 (dk_at dksX2_keep_8 3 rfl rfl)
theorem dX2_keep_188 : decode cX2_keep 188 = .ok (.bipush 16, 2) := dk_16 16 (dk_at dksX2_keep_8 4 rfl rfl)
theorem dX2_keep_190 : decode cX2_keep 190 = .ok (.iadd, 1) := dk_96 (dk_at dksX2_keep_8 6 rfl rfl)
theorem dX2_keep_191 : decode cX2_keep 191 = .ok (.iload_n 2, 1) := dk_28 (dk_at dksX2_keep_8 7 rfl rfl)
theorem dX2_keep_192 : decode cX2_keep 192 = .ok (.iadd, 1) := dk_96 (dk_at dksX2_keep_8 8 rfl rfl)
theorem dX2_keep_193 : decode cX2_keep 193 = .ok (.aload_n 0, 1) := dk_42 (dk_at dksX2_keep_8 9 rfl rfl)
theorem dX2_keep_194 : decode cX2_keep 194 = .ok (.getfield 7, 3) := dk_180 0 7 (dk_at dksX2_keep_8 10 rfl rfl)
theorem dX2_keep_197 : decode cX2_keep 197 = .ok (.sipush 150, 3) := dk_17 0 150 (dk_at dksX2_keep_8 13 rfl rfl)
theorem dX2_keep_200 : decode cX2_keep 200 = .ok (.iload_n 2, 1) := dk_28 (dk_at dksX2_keep_8 16 rfl rfl)
theorem dX2_keep_201 : decode cX2_keep 201 = .ok (.iadd, 1) := dk_96 (dk_at dksX2_keep_8 17 rfl rfl)
theorem dX2_keep_202 : decode cX2_keep 202 = .ok (.iaload, 1) := dk_46 (dk_at dksX2_keep_8 18 rfl rfl)
theorem dX2_keep_203 : decode cX2_keep 203 = .ok (.iastore, 1) := dk_79 (dk_at dksX2_keep_8 19 rfl rfl)
theorem dX2_keep_204 : decode cX2_keep 204 = .ok (.iinc 2 1, 3) := dk_132 2 1 (dk_at dksX2_keep_8 20 rfl rfl)
theorem dX2_keep_207 : decode cX2_keep 207 = .ok (.goto (-30), 3) := dk_167 255 226 (dk_at dksX2_keep_9 0 rfl rfl)
theorem dX2_keep_210 : decode cX2_keep 210 = .ok (.aload_n 0, 1) := dk_42 (dk_at dksX2_keep_9 3 rfl rfl)
theorem dX2_keep_211 : decode cX2_keep 211 = .ok (.getfield 7, 3) := dk_180 0 7 (dk_at dksX2_keep_9 4 rfl rfl)
theorem dX2_keep_214 : decode cX2_keep 214 = .ok (.bipush 6, 2) := dk_16 6 (dk_at dksX2_keep_9 7 rfl rfl)
theorem dX2_keep_216 : decode cX2_keep 216 = .ok (.dup2, 1) := dk_92 (dk_at dksX2_keep_9 9 rfl rfl)
theorem dX2_keep_217 : decode cX2_keep 217 = .ok (.iaload, 1) := dk_46 (dk_at dksX2_keep_9 10 rfl rfl)
theorem dX2_keep_218 : decode cX2_keep 218 = .ok (.iconst 1, 1) := dk_4 (dk_at dksX2_keep_9 11 rfl rfl)
theorem dX2_keep_219 : decode cX2_keep 219 = .ok (.iadd, 1) := dk_96 (dk_at dksX2_keep_9 12 rfl rfl)
theorem dX2_keep_220 : decode cX2_keep 220 = .ok (.iastore, 1) := dk_79 (dk_at dksX2_keep_9 13 rfl rfl)
theorem dX2_keep_221 : decode cX2_keep 221 = .ok (.return_, 1) := dk_177 (dk_at dksX2_keep_9 14 rfl rfl)
abbrev cX2_pieceAt : ByteArray := prog_18_method_13_code
def yX2_pieceAt : MethodName := ⟨RX2, "pieceAt", "(I)I"⟩
def dkwX2_pieceAt_0 : List UInt8 := [17, 0, 150, 16, 10, 26, 104, 96, 172]
abbrev dktX2_pieceAt_0 : List UInt8 := dkwX2_pieceAt_0 ++ []
theorem dksX2_pieceAt_0 : cX2_pieceAt.data.toList.drop 0 = dktX2_pieceAt_0 := by decide +kernel
theorem dX2_pieceAt_0 : decode cX2_pieceAt 0 = .ok (.sipush 150, 3) := dk_17 0 150 (dk_at dksX2_pieceAt_0 0 rfl rfl)
theorem dX2_pieceAt_3 : decode cX2_pieceAt 3 = .ok (.bipush 10, 2) := dk_16 10 (dk_at dksX2_pieceAt_0 3 rfl rfl)
theorem dX2_pieceAt_5 : decode cX2_pieceAt 5 = .ok (.iload_n 0, 1) := dk_26 (dk_at dksX2_pieceAt_0 5 rfl rfl)
theorem dX2_pieceAt_6 : decode cX2_pieceAt 6 = .ok (.imul, 1) := dk_104 (dk_at dksX2_pieceAt_0 6 rfl rfl)
theorem dX2_pieceAt_7 : decode cX2_pieceAt 7 = .ok (.iadd, 1) := dk_96 (dk_at dksX2_pieceAt_0 7 rfl rfl)
theorem dX2_pieceAt_8 : decode cX2_pieceAt 8 = .ok (.ireturn, 1) := dk_172 (dk_at dksX2_pieceAt_0 8 rfl rfl)
abbrev cX2_blow : ByteArray := prog_18_method_76_code
def yX2_blow : MethodName := ⟨RX2, "blow", "(III)I"⟩
def dkwX2_blow_15 : List UInt8 := [79, 42, 180, 0, 7, 21, 5, 4, 96, 46, 172]
abbrev dktX2_blow_15 : List UInt8 := dkwX2_blow_15 ++ []
def dkwX2_blow_14 : List UInt8 := [42, 180, 0, 7, 21, 5, 5, 96, 46, 21, 7, 160, 0, 12, 21, 8, 153, 0, 7, 4, 167, 0, 4, 5]
abbrev dktX2_blow_14 : List UInt8 := dkwX2_blow_14 ++ dktX2_blow_15
def dkwX2_blow_13 : List UInt8 := [54, 8, 42, 180, 0, 7, 21, 5, 5, 96, 46, 21, 7, 161, 0, 36, 42, 180, 0, 7, 21, 5, 4, 96]
abbrev dktX2_blow_13 : List UInt8 := dkwX2_blow_13 ++ dktX2_blow_14
def dkwX2_blow_12 : List UInt8 := [21, 5, 46, 104, 96, 4, 96, 46, 42, 27, 182, 1, 52, 2, 130, 126, 154, 0, 7, 4, 167, 0, 4, 3]
abbrev dktX2_blow_12 : List UInt8 := dkwX2_blow_12 ++ dktX2_blow_13
def dkwX2_blow_11 : List UInt8 := [6, 42, 180, 0, 7, 21, 5, 46, 104, 96, 46, 54, 7, 42, 180, 0, 7, 16, 40, 6, 42, 180, 0, 7]
abbrev dktX2_blow_11 : List UInt8 := dkwX2_blow_11 ++ dktX2_blow_12
def dkwX2_blow_10 : List UInt8 := [42, 180, 0, 7, 6, 46, 79, 42, 180, 0, 7, 16, 9, 92, 46, 4, 96, 79, 42, 180, 0, 7, 16, 40]
abbrev dktX2_blow_10 : List UInt8 := dkwX2_blow_10 ++ dktX2_blow_11
def dkwX2_blow_9 : List UInt8 := [21, 6, 4, 96, 28, 79, 42, 180, 0, 7, 21, 6, 5, 96, 29, 79, 42, 180, 0, 7, 21, 6, 6, 96]
abbrev dktX2_blow_9 : List UInt8 := dkwX2_blow_9 ++ dktX2_blow_10
def dkwX2_blow_8 : List UInt8 := [42, 180, 0, 7, 16, 9, 46, 104, 96, 54, 6, 42, 180, 0, 7, 21, 6, 27, 79, 42, 180, 0, 7]
abbrev dktX2_blow_8 : List UInt8 := dkwX2_blow_8 ++ dktX2_blow_9
def dkwX2_blow_7 : List UInt8 := [92, 46, 29, 96, 79, 42, 180, 0, 7, 21, 5, 7, 96, 28, 96, 92, 46, 29, 96, 79, 17, 0, 250, 7]
abbrev dktX2_blow_7 : List UInt8 := dkwX2_blow_7 ++ dktX2_blow_8
def dkwX2_blow_6 : List UInt8 := [28, 6, 182, 0, 74, 29, 96, 182, 0, 70, 27, 184, 0, 66, 54, 5, 42, 180, 0, 7, 21, 5, 5, 96]
abbrev dktX2_blow_6 : List UInt8 := dkwX2_blow_6 ++ dktX2_blow_7
def dkwX2_blow_5 : List UInt8 := [172, 42, 182, 1, 43, 42, 28, 5, 42, 28, 5, 182, 0, 74, 21, 4, 100, 182, 0, 70, 42, 28, 6, 42]
abbrev dktX2_blow_5 : List UInt8 := dkwX2_blow_5 ++ dktX2_blow_6
def dkwX2_blow_4 : List UInt8 := [42, 180, 0, 7, 6, 46, 182, 1, 37, 104, 54, 4, 21, 4, 42, 28, 5, 182, 0, 74, 164, 0, 5, 2]
abbrev dktX2_blow_4 : List UInt8 := dkwX2_blow_4 ++ dktX2_blow_5
def dkwX2_blow_3 : List UInt8 := [42, 182, 1, 49, 29, 96, 42, 42, 180, 0, 7, 6, 46, 182, 1, 34, 164, 0, 5, 2, 172, 29, 42, 28]
abbrev dktX2_blow_3 : List UInt8 := dkwX2_blow_3 ++ dktX2_blow_4
def dkwX2_blow_2 : List UInt8 := [16, 40, 160, 0, 5, 2, 172, 42, 28, 6, 182, 0, 74, 29, 96, 42, 28, 3, 182, 0, 74, 163, 0, 22]
abbrev dktX2_blow_2 : List UInt8 := dkwX2_blow_2 ++ dktX2_blow_3
def dkwX2_blow_1 : List UInt8 := [153, 0, 29, 42, 180, 0, 7, 27, 184, 0, 66, 4, 96, 46, 154, 0, 15, 42, 180, 0, 7, 16, 9, 46]
abbrev dktX2_blow_1 : List UInt8 := dkwX2_blow_1 ++ dktX2_blow_2
def dkwX2_blow_0 : List UInt8 := [42, 27, 182, 1, 46, 153, 0, 47, 42, 28, 182, 0, 78, 153, 0, 39, 29, 4, 16, 9, 184, 0, 62]
abbrev dktX2_blow_0 : List UInt8 := dkwX2_blow_0 ++ dktX2_blow_1
theorem dksX2_blow_0 : cX2_blow.data.toList.drop 0 = dktX2_blow_0 := by decide +kernel
theorem dksX2_blow_1 : cX2_blow.data.toList.drop 23 = dktX2_blow_1 := dk_seg dksX2_blow_0 23 rfl rfl
theorem dksX2_blow_2 : cX2_blow.data.toList.drop 47 = dktX2_blow_2 := dk_seg dksX2_blow_1 24 rfl rfl
theorem dksX2_blow_3 : cX2_blow.data.toList.drop 71 = dktX2_blow_3 := dk_seg dksX2_blow_2 24 rfl rfl
theorem dksX2_blow_4 : cX2_blow.data.toList.drop 95 = dktX2_blow_4 := dk_seg dksX2_blow_3 24 rfl rfl
theorem dksX2_blow_5 : cX2_blow.data.toList.drop 119 = dktX2_blow_5 := dk_seg dksX2_blow_4 24 rfl rfl
theorem dksX2_blow_6 : cX2_blow.data.toList.drop 143 = dktX2_blow_6 := dk_seg dksX2_blow_5 24 rfl rfl
theorem dksX2_blow_7 : cX2_blow.data.toList.drop 167 = dktX2_blow_7 := dk_seg dksX2_blow_6 24 rfl rfl
theorem dksX2_blow_8 : cX2_blow.data.toList.drop 191 = dktX2_blow_8 := dk_seg dksX2_blow_7 24 rfl rfl
theorem dksX2_blow_9 : cX2_blow.data.toList.drop 214 = dktX2_blow_9 := dk_seg dksX2_blow_8 23 rfl rfl
theorem dksX2_blow_10 : cX2_blow.data.toList.drop 238 = dktX2_blow_10 := dk_seg dksX2_blow_9 24 rfl rfl
theorem dksX2_blow_11 : cX2_blow.data.toList.drop 262 = dktX2_blow_11 := dk_seg dksX2_blow_10 24 rfl rfl
theorem dksX2_blow_12 : cX2_blow.data.toList.drop 286 = dktX2_blow_12 := dk_seg dksX2_blow_11 24 rfl rfl
theorem dksX2_blow_13 : cX2_blow.data.toList.drop 310 = dktX2_blow_13 := dk_seg dksX2_blow_12 24 rfl rfl
theorem dksX2_blow_14 : cX2_blow.data.toList.drop 334 = dktX2_blow_14 := dk_seg dksX2_blow_13 24 rfl rfl
theorem dksX2_blow_15 : cX2_blow.data.toList.drop 358 = dktX2_blow_15 := dk_seg dksX2_blow_14 24 rfl rfl
theorem dX2_blow_0 : decode cX2_blow 0 = .ok (.aload_n 0, 1) := dk_42 (dk_at dksX2_blow_0 0 rfl rfl)
theorem dX2_blow_1 : decode cX2_blow 1 = .ok (.iload_n 1, 1) := dk_27 (dk_at dksX2_blow_0 1 rfl rfl)
theorem dX2_blow_2 : decode cX2_blow 2 = .ok (.invokevirtual 302, 3) := dk_182 1 46 (dk_at dksX2_blow_0 2 rfl rfl)
theorem dX2_blow_5 : decode cX2_blow 5 = .ok (.ifCond .eq 47, 3) := dk_153 0 47 (dk_at dksX2_blow_0 5 rfl rfl)
theorem dX2_blow_8 : decode cX2_blow 8 = .ok (.aload_n 0, 1) := dk_42 (dk_at dksX2_blow_0 8 rfl rfl)
theorem dX2_blow_9 : decode cX2_blow 9 = .ok (.iload_n 2, 1) := dk_28 (dk_at dksX2_blow_0 9 rfl rfl)
theorem dX2_blow_10 : decode cX2_blow 10 = .ok (.invokevirtual 78, 3) := dk_182 0 78 (dk_at dksX2_blow_0 10 rfl rfl)
theorem dX2_blow_13 : decode cX2_blow 13 = .ok (.ifCond .eq 39, 3) := dk_153 0 39 (dk_at dksX2_blow_0 13 rfl rfl)
theorem dX2_blow_16 : decode cX2_blow 16 = .ok (.iload_n 3, 1) := dk_29 (dk_at dksX2_blow_0 16 rfl rfl)
theorem dX2_blow_17 : decode cX2_blow 17 = .ok (.iconst 1, 1) := dk_4 (dk_at dksX2_blow_0 17 rfl rfl)
theorem dX2_blow_18 : decode cX2_blow 18 = .ok (.bipush 9, 2) := dk_16 9 (dk_at dksX2_blow_0 18 rfl rfl)
theorem dX2_blow_20 : decode cX2_blow 20 = .ok (.invokestatic 62, 3) := dk_184 0 62 (dk_at dksX2_blow_0 20 rfl rfl)
theorem dX2_blow_23 : decode cX2_blow 23 = .ok (.ifCond .eq 29, 3) := dk_153 0 29 (dk_at dksX2_blow_1 0 rfl rfl)
theorem dX2_blow_26 : decode cX2_blow 26 = .ok (.aload_n 0, 1) := dk_42 (dk_at dksX2_blow_1 3 rfl rfl)
theorem dX2_blow_27 : decode cX2_blow 27 = .ok (.getfield 7, 3) := dk_180 0 7 (dk_at dksX2_blow_1 4 rfl rfl)
theorem dX2_blow_30 : decode cX2_blow 30 = .ok (.iload_n 1, 1) := dk_27 (dk_at dksX2_blow_1 7 rfl rfl)
theorem dX2_blow_31 : decode cX2_blow 31 = .ok (.invokestatic 66, 3) := dk_184 0 66 (dk_at dksX2_blow_1 8 rfl rfl)
theorem dX2_blow_34 : decode cX2_blow 34 = .ok (.iconst 1, 1) := dk_4 (dk_at dksX2_blow_1 11 rfl rfl)
theorem dX2_blow_35 : decode cX2_blow 35 = .ok (.iadd, 1) := dk_96 (dk_at dksX2_blow_1 12 rfl rfl)
theorem dX2_blow_36 : decode cX2_blow 36 = .ok (.iaload, 1) := dk_46 (dk_at dksX2_blow_1 13 rfl rfl)
theorem dX2_blow_37 : decode cX2_blow 37 = .ok (.ifCond .ne 15, 3) := dk_154 0 15 (dk_at dksX2_blow_1 14 rfl rfl)
theorem dX2_blow_40 : decode cX2_blow 40 = .ok (.aload_n 0, 1) := dk_42 (dk_at dksX2_blow_1 17 rfl rfl)
theorem dX2_blow_41 : decode cX2_blow 41 = .ok (.getfield 7, 3) := dk_180 0 7 (dk_at dksX2_blow_1 18 rfl rfl)
theorem dX2_blow_44 : decode cX2_blow 44 = .ok (.bipush 9, 2) := dk_16 9 (dk_at dksX2_blow_1 21 rfl rfl)
theorem dX2_blow_46 : decode cX2_blow 46 = .ok (.iaload, 1) := dk_46 (dk_at dksX2_blow_1 23 rfl rfl)
theorem dX2_blow_47 : decode cX2_blow 47 = .ok (.bipush 40, 2) := dk_16 40 (dk_at dksX2_blow_2 0 rfl rfl)
theorem dX2_blow_49 : decode cX2_blow 49 = .ok (.if_icmp .ne 5, 3) := dk_160 0 5 (dk_at dksX2_blow_2 2 rfl rfl)
theorem dX2_blow_52 : decode cX2_blow 52 = .ok (.iconst (-1), 1) := dk_2 (dk_at dksX2_blow_2 5 rfl rfl)
theorem dX2_blow_53 : decode cX2_blow 53 = .ok (.ireturn, 1) := dk_172 (dk_at dksX2_blow_2 6 rfl rfl)
theorem dX2_blow_54 : decode cX2_blow 54 = .ok (.aload_n 0, 1) := dk_42 (dk_at dksX2_blow_2 7 rfl rfl)
theorem dX2_blow_55 : decode cX2_blow 55 = .ok (.iload_n 2, 1) := dk_28 (dk_at dksX2_blow_2 8 rfl rfl)
theorem dX2_blow_56 : decode cX2_blow 56 = .ok (.iconst 3, 1) := dk_6 (dk_at dksX2_blow_2 9 rfl rfl)
theorem dX2_blow_57 : decode cX2_blow 57 = .ok (.invokevirtual 74, 3) := dk_182 0 74 (dk_at dksX2_blow_2 10 rfl rfl)
theorem dX2_blow_60 : decode cX2_blow 60 = .ok (.iload_n 3, 1) := dk_29 (dk_at dksX2_blow_2 13 rfl rfl)
theorem dX2_blow_61 : decode cX2_blow 61 = .ok (.iadd, 1) := dk_96 (dk_at dksX2_blow_2 14 rfl rfl)
theorem dX2_blow_62 : decode cX2_blow 62 = .ok (.aload_n 0, 1) := dk_42 (dk_at dksX2_blow_2 15 rfl rfl)
theorem dX2_blow_63 : decode cX2_blow 63 = .ok (.iload_n 2, 1) := dk_28 (dk_at dksX2_blow_2 16 rfl rfl)
theorem dX2_blow_64 : decode cX2_blow 64 = .ok (.iconst 0, 1) := dk_3 (dk_at dksX2_blow_2 17 rfl rfl)
theorem dX2_blow_65 : decode cX2_blow 65 = .ok (.invokevirtual 74, 3) := dk_182 0 74 (dk_at dksX2_blow_2 18 rfl rfl)
theorem dX2_blow_68 : decode cX2_blow 68 = .ok (.if_icmp .gt 22, 3) := dk_163 0 22 (dk_at dksX2_blow_2 21 rfl rfl)
theorem dX2_blow_71 : decode cX2_blow 71 = .ok (.aload_n 0, 1) := dk_42 (dk_at dksX2_blow_3 0 rfl rfl)
theorem dX2_blow_72 : decode cX2_blow 72 = .ok (.invokevirtual 305, 3) := dk_182 1 49 (dk_at dksX2_blow_3 1 rfl rfl)
theorem dX2_blow_75 : decode cX2_blow 75 = .ok (.iload_n 3, 1) := dk_29 (dk_at dksX2_blow_3 4 rfl rfl)
theorem dX2_blow_76 : decode cX2_blow 76 = .ok (.iadd, 1) := dk_96 (dk_at dksX2_blow_3 5 rfl rfl)
theorem dX2_blow_77 : decode cX2_blow 77 = .ok (.aload_n 0, 1) := dk_42 (dk_at dksX2_blow_3 6 rfl rfl)
theorem dX2_blow_78 : decode cX2_blow 78 = .ok (.aload_n 0, 1) := dk_42 (dk_at dksX2_blow_3 7 rfl rfl)
theorem dX2_blow_79 : decode cX2_blow 79 = .ok (.getfield 7, 3) := dk_180 0 7 (dk_at dksX2_blow_3 8 rfl rfl)
theorem dX2_blow_82 : decode cX2_blow 82 = .ok (.iconst 3, 1) := dk_6 (dk_at dksX2_blow_3 11 rfl rfl)
theorem dX2_blow_83 : decode cX2_blow 83 = .ok (.iaload, 1) := dk_46 (dk_at dksX2_blow_3 12 rfl rfl)
theorem dX2_blow_84 : decode cX2_blow 84 = .ok (.invokevirtual 290, 3) := dk_182 1 34 (dk_at dksX2_blow_3 13 rfl rfl)
theorem dX2_blow_87 : decode cX2_blow 87 = .ok (.if_icmp .le 5, 3) := dk_164 0 5 (dk_at dksX2_blow_3 16 rfl rfl)
theorem dX2_blow_90 : decode cX2_blow 90 = .ok (.iconst (-1), 1) := dk_2 (dk_at dksX2_blow_3 19 rfl rfl)
theorem dX2_blow_91 : decode cX2_blow 91 = .ok (.ireturn, 1) := dk_172 (dk_at dksX2_blow_3 20 rfl rfl)
theorem dX2_blow_92 : decode cX2_blow 92 = .ok (.iload_n 3, 1) := dk_29 (dk_at dksX2_blow_3 21 rfl rfl)
theorem dX2_blow_93 : decode cX2_blow 93 = .ok (.aload_n 0, 1) := dk_42 (dk_at dksX2_blow_3 22 rfl rfl)
theorem dX2_blow_94 : decode cX2_blow 94 = .ok (.iload_n 2, 1) := dk_28 (dk_at dksX2_blow_3 23 rfl rfl)
theorem dX2_blow_95 : decode cX2_blow 95 = .ok (.aload_n 0, 1) := dk_42 (dk_at dksX2_blow_4 0 rfl rfl)
theorem dX2_blow_96 : decode cX2_blow 96 = .ok (.getfield 7, 3) := dk_180 0 7 (dk_at dksX2_blow_4 1 rfl rfl)
theorem dX2_blow_99 : decode cX2_blow 99 = .ok (.iconst 3, 1) := dk_6 (dk_at dksX2_blow_4 4 rfl rfl)
theorem dX2_blow_100 : decode cX2_blow 100 = .ok (.iaload, 1) := dk_46 (dk_at dksX2_blow_4 5 rfl rfl)
theorem dX2_blow_101 : decode cX2_blow 101 = .ok (.invokevirtual 293, 3) := dk_182 1 37 (dk_at dksX2_blow_4 6 rfl rfl)
theorem dX2_blow_104 : decode cX2_blow 104 = .ok (.imul, 1) := dk_104 (dk_at dksX2_blow_4 9 rfl rfl)
theorem dX2_blow_105 : decode cX2_blow 105 = .ok (.istore 4, 2) := dk_54 4 (dk_at dksX2_blow_4 10 rfl rfl)
theorem dX2_blow_107 : decode cX2_blow 107 = .ok (.iload 4, 2) := dk_21 4 (dk_at dksX2_blow_4 12 rfl rfl)
theorem dX2_blow_109 : decode cX2_blow 109 = .ok (.aload_n 0, 1) := dk_42 (dk_at dksX2_blow_4 14 rfl rfl)
theorem dX2_blow_110 : decode cX2_blow 110 = .ok (.iload_n 2, 1) := dk_28 (dk_at dksX2_blow_4 15 rfl rfl)
theorem dX2_blow_111 : decode cX2_blow 111 = .ok (.iconst 2, 1) := dk_5 (dk_at dksX2_blow_4 16 rfl rfl)
theorem dX2_blow_112 : decode cX2_blow 112 = .ok (.invokevirtual 74, 3) := dk_182 0 74 (dk_at dksX2_blow_4 17 rfl rfl)
theorem dX2_blow_115 : decode cX2_blow 115 = .ok (.if_icmp .le 5, 3) := dk_164 0 5 (dk_at dksX2_blow_4 20 rfl rfl)
theorem dX2_blow_118 : decode cX2_blow 118 = .ok (.iconst (-1), 1) := dk_2 (dk_at dksX2_blow_4 23 rfl rfl)
theorem dX2_blow_119 : decode cX2_blow 119 = .ok (.ireturn, 1) := dk_172 (dk_at dksX2_blow_5 0 rfl rfl)
theorem dX2_blow_120 : decode cX2_blow 120 = .ok (.aload_n 0, 1) := dk_42 (dk_at dksX2_blow_5 1 rfl rfl)
theorem dX2_blow_121 : decode cX2_blow 121 = .ok (.invokevirtual 299, 3) := dk_182 1 43 (dk_at dksX2_blow_5 2 rfl rfl)
theorem dX2_blow_124 : decode cX2_blow 124 = .ok (.aload_n 0, 1) := dk_42 (dk_at dksX2_blow_5 5 rfl rfl)
theorem dX2_blow_125 : decode cX2_blow 125 = .ok (.iload_n 2, 1) := dk_28 (dk_at dksX2_blow_5 6 rfl rfl)
theorem dX2_blow_126 : decode cX2_blow 126 = .ok (.iconst 2, 1) := dk_5 (dk_at dksX2_blow_5 7 rfl rfl)
theorem dX2_blow_127 : decode cX2_blow 127 = .ok (.aload_n 0, 1) := dk_42 (dk_at dksX2_blow_5 8 rfl rfl)
theorem dX2_blow_128 : decode cX2_blow 128 = .ok (.iload_n 2, 1) := dk_28 (dk_at dksX2_blow_5 9 rfl rfl)
theorem dX2_blow_129 : decode cX2_blow 129 = .ok (.iconst 2, 1) := dk_5 (dk_at dksX2_blow_5 10 rfl rfl)
theorem dX2_blow_130 : decode cX2_blow 130 = .ok (.invokevirtual 74, 3) := dk_182 0 74 (dk_at dksX2_blow_5 11 rfl rfl)
theorem dX2_blow_133 : decode cX2_blow 133 = .ok (.iload 4, 2) := dk_21 4 (dk_at dksX2_blow_5 14 rfl rfl)
theorem dX2_blow_135 : decode cX2_blow 135 = .ok (.isub, 1) := dk_100 (dk_at dksX2_blow_5 16 rfl rfl)
theorem dX2_blow_136 : decode cX2_blow 136 = .ok (.invokevirtual 70, 3) := dk_182 0 70 (dk_at dksX2_blow_5 17 rfl rfl)
theorem dX2_blow_139 : decode cX2_blow 139 = .ok (.aload_n 0, 1) := dk_42 (dk_at dksX2_blow_5 20 rfl rfl)
theorem dX2_blow_140 : decode cX2_blow 140 = .ok (.iload_n 2, 1) := dk_28 (dk_at dksX2_blow_5 21 rfl rfl)
theorem dX2_blow_141 : decode cX2_blow 141 = .ok (.iconst 3, 1) := dk_6 (dk_at dksX2_blow_5 22 rfl rfl)
theorem dX2_blow_142 : decode cX2_blow 142 = .ok (.aload_n 0, 1) := dk_42 (dk_at dksX2_blow_5 23 rfl rfl)
theorem dX2_blow_143 : decode cX2_blow 143 = .ok (.iload_n 2, 1) := dk_28 (dk_at dksX2_blow_6 0 rfl rfl)
theorem dX2_blow_144 : decode cX2_blow 144 = .ok (.iconst 3, 1) := dk_6 (dk_at dksX2_blow_6 1 rfl rfl)
theorem dX2_blow_145 : decode cX2_blow 145 = .ok (.invokevirtual 74, 3) := dk_182 0 74 (dk_at dksX2_blow_6 2 rfl rfl)
theorem dX2_blow_148 : decode cX2_blow 148 = .ok (.iload_n 3, 1) := dk_29 (dk_at dksX2_blow_6 5 rfl rfl)
theorem dX2_blow_149 : decode cX2_blow 149 = .ok (.iadd, 1) := dk_96 (dk_at dksX2_blow_6 6 rfl rfl)
theorem dX2_blow_150 : decode cX2_blow 150 = .ok (.invokevirtual 70, 3) := dk_182 0 70 (dk_at dksX2_blow_6 7 rfl rfl)
theorem dX2_blow_153 : decode cX2_blow 153 = .ok (.iload_n 1, 1) := dk_27 (dk_at dksX2_blow_6 10 rfl rfl)
theorem dX2_blow_154 : decode cX2_blow 154 = .ok (.invokestatic 66, 3) := dk_184 0 66 (dk_at dksX2_blow_6 11 rfl rfl)
theorem dX2_blow_157 : decode cX2_blow 157 = .ok (.istore 5, 2) := dk_54 5 (dk_at dksX2_blow_6 14 rfl rfl)
theorem dX2_blow_159 : decode cX2_blow 159 = .ok (.aload_n 0, 1) := dk_42 (dk_at dksX2_blow_6 16 rfl rfl)
theorem dX2_blow_160 : decode cX2_blow 160 = .ok (.getfield 7, 3) := dk_180 0 7 (dk_at dksX2_blow_6 17 rfl rfl)
theorem dX2_blow_163 : decode cX2_blow 163 = .ok (.iload 5, 2) := dk_21 5 (dk_at dksX2_blow_6 20 rfl rfl)
theorem dX2_blow_165 : decode cX2_blow 165 = .ok (.iconst 2, 1) := dk_5 (dk_at dksX2_blow_6 22 rfl rfl)
theorem dX2_blow_166 : decode cX2_blow 166 = .ok (.iadd, 1) := dk_96 (dk_at dksX2_blow_6 23 rfl rfl)
theorem dX2_blow_167 : decode cX2_blow 167 = .ok (.dup2, 1) := dk_92 (dk_at dksX2_blow_7 0 rfl rfl)
theorem dX2_blow_168 : decode cX2_blow 168 = .ok (.iaload, 1) := dk_46 (dk_at dksX2_blow_7 1 rfl rfl)
theorem dX2_blow_169 : decode cX2_blow 169 = .ok (.iload_n 3, 1) := dk_29 (dk_at dksX2_blow_7 2 rfl rfl)
theorem dX2_blow_170 : decode cX2_blow 170 = .ok (.iadd, 1) := dk_96 (dk_at dksX2_blow_7 3 rfl rfl)
theorem dX2_blow_171 : decode cX2_blow 171 = .ok (.iastore, 1) := dk_79 (dk_at dksX2_blow_7 4 rfl rfl)
theorem dX2_blow_172 : decode cX2_blow 172 = .ok (.aload_n 0, 1) := dk_42 (dk_at dksX2_blow_7 5 rfl rfl)
theorem dX2_blow_173 : decode cX2_blow 173 = .ok (.getfield 7, 3) := dk_180 0 7 (dk_at dksX2_blow_7 6 rfl rfl)
theorem dX2_blow_176 : decode cX2_blow 176 = .ok (.iload 5, 2) := dk_21 5 (dk_at dksX2_blow_7 9 rfl rfl)
theorem dX2_blow_178 : decode cX2_blow 178 = .ok (.iconst 4, 1) := dk_7 (dk_at dksX2_blow_7 11 rfl rfl)
theorem dX2_blow_179 : decode cX2_blow 179 = .ok (.iadd, 1) := dk_96 (dk_at dksX2_blow_7 12 rfl rfl)
theorem dX2_blow_180 : decode cX2_blow 180 = .ok (.iload_n 2, 1) := dk_28 (dk_at dksX2_blow_7 13 rfl rfl)
theorem dX2_blow_181 : decode cX2_blow 181 = .ok (.iadd, 1) := dk_96 (dk_at dksX2_blow_7 14 rfl rfl)
theorem dX2_blow_182 : decode cX2_blow 182 = .ok (.dup2, 1) := dk_92 (dk_at dksX2_blow_7 15 rfl rfl)
theorem dX2_blow_183 : decode cX2_blow 183 = .ok (.iaload, 1) := dk_46 (dk_at dksX2_blow_7 16 rfl rfl)
theorem dX2_blow_184 : decode cX2_blow 184 = .ok (.iload_n 3, 1) := dk_29 (dk_at dksX2_blow_7 17 rfl rfl)
theorem dX2_blow_185 : decode cX2_blow 185 = .ok (.iadd, 1) := dk_96 (dk_at dksX2_blow_7 18 rfl rfl)
theorem dX2_blow_186 : decode cX2_blow 186 = .ok (.iastore, 1) := dk_79 (dk_at dksX2_blow_7 19 rfl rfl)
theorem dX2_blow_187 : decode cX2_blow 187 = .ok (.sipush 250, 3) := dk_17 0 250 (dk_at dksX2_blow_7 20 rfl rfl)
theorem dX2_blow_190 : decode cX2_blow 190 = .ok (.iconst 4, 1) := dk_7 (dk_at dksX2_blow_7 23 rfl rfl)
theorem dX2_blow_191 : decode cX2_blow 191 = .ok (.aload_n 0, 1) := dk_42 (dk_at dksX2_blow_8 0 rfl rfl)
theorem dX2_blow_192 : decode cX2_blow 192 = .ok (.getfield 7, 3) := dk_180 0 7 (dk_at dksX2_blow_8 1 rfl rfl)
theorem dX2_blow_195 : decode cX2_blow 195 = .ok (.bipush 9, 2) := dk_16 9 (dk_at dksX2_blow_8 4 rfl rfl)
theorem dX2_blow_197 : decode cX2_blow 197 = .ok (.iaload, 1) := dk_46 (dk_at dksX2_blow_8 6 rfl rfl)
theorem dX2_blow_198 : decode cX2_blow 198 = .ok (.imul, 1) := dk_104 (dk_at dksX2_blow_8 7 rfl rfl)
theorem dX2_blow_199 : decode cX2_blow 199 = .ok (.iadd, 1) := dk_96 (dk_at dksX2_blow_8 8 rfl rfl)
theorem dX2_blow_200 : decode cX2_blow 200 = .ok (.istore 6, 2) := dk_54 6 (dk_at dksX2_blow_8 9 rfl rfl)
theorem dX2_blow_202 : decode cX2_blow 202 = .ok (.aload_n 0, 1) := dk_42 (dk_at dksX2_blow_8 11 rfl rfl)
theorem dX2_blow_203 : decode cX2_blow 203 = .ok (.getfield 7, 3) := dk_180 0 7 (dk_at dksX2_blow_8 12 rfl rfl)
theorem dX2_blow_206 : decode cX2_blow 206 = .ok (.iload 6, 2) := dk_21 6 (dk_at dksX2_blow_8 15 rfl rfl)
theorem dX2_blow_208 : decode cX2_blow 208 = .ok (.iload_n 1, 1) := dk_27 (dk_at dksX2_blow_8 17 rfl rfl)
theorem dX2_blow_209 : decode cX2_blow 209 = .ok (.iastore, 1) := dk_79 (dk_at dksX2_blow_8 18 rfl rfl)
theorem dX2_blow_210 : decode cX2_blow 210 = .ok (.aload_n 0, 1) := dk_42 (dk_at dksX2_blow_8 19 rfl rfl)
theorem dX2_blow_211 : decode cX2_blow 211 = .ok (.getfield 7, 3) := dk_180 0 7 (dk_at dksX2_blow_8 20 rfl rfl)
theorem dX2_blow_214 : decode cX2_blow 214 = .ok (.iload 6, 2) := dk_21 6 (dk_at dksX2_blow_9 0 rfl rfl)
theorem dX2_blow_216 : decode cX2_blow 216 = .ok (.iconst 1, 1) := dk_4 (dk_at dksX2_blow_9 2 rfl rfl)
theorem dX2_blow_217 : decode cX2_blow 217 = .ok (.iadd, 1) := dk_96 (dk_at dksX2_blow_9 3 rfl rfl)
theorem dX2_blow_218 : decode cX2_blow 218 = .ok (.iload_n 2, 1) := dk_28 (dk_at dksX2_blow_9 4 rfl rfl)
theorem dX2_blow_219 : decode cX2_blow 219 = .ok (.iastore, 1) := dk_79 (dk_at dksX2_blow_9 5 rfl rfl)
theorem dX2_blow_220 : decode cX2_blow 220 = .ok (.aload_n 0, 1) := dk_42 (dk_at dksX2_blow_9 6 rfl rfl)
theorem dX2_blow_221 : decode cX2_blow 221 = .ok (.getfield 7, 3) := dk_180 0 7 (dk_at dksX2_blow_9 7 rfl rfl)
theorem dX2_blow_224 : decode cX2_blow 224 = .ok (.iload 6, 2) := dk_21 6 (dk_at dksX2_blow_9 10 rfl rfl)
theorem dX2_blow_226 : decode cX2_blow 226 = .ok (.iconst 2, 1) := dk_5 (dk_at dksX2_blow_9 12 rfl rfl)
theorem dX2_blow_227 : decode cX2_blow 227 = .ok (.iadd, 1) := dk_96 (dk_at dksX2_blow_9 13 rfl rfl)
theorem dX2_blow_228 : decode cX2_blow 228 = .ok (.iload_n 3, 1) := dk_29 (dk_at dksX2_blow_9 14 rfl rfl)
theorem dX2_blow_229 : decode cX2_blow 229 = .ok (.iastore, 1) := dk_79 (dk_at dksX2_blow_9 15 rfl rfl)
theorem dX2_blow_230 : decode cX2_blow 230 = .ok (.aload_n 0, 1) := dk_42 (dk_at dksX2_blow_9 16 rfl rfl)
theorem dX2_blow_231 : decode cX2_blow 231 = .ok (.getfield 7, 3) := dk_180 0 7 (dk_at dksX2_blow_9 17 rfl rfl)
theorem dX2_blow_234 : decode cX2_blow 234 = .ok (.iload 6, 2) := dk_21 6 (dk_at dksX2_blow_9 20 rfl rfl)
theorem dX2_blow_236 : decode cX2_blow 236 = .ok (.iconst 3, 1) := dk_6 (dk_at dksX2_blow_9 22 rfl rfl)
theorem dX2_blow_237 : decode cX2_blow 237 = .ok (.iadd, 1) := dk_96 (dk_at dksX2_blow_9 23 rfl rfl)
theorem dX2_blow_238 : decode cX2_blow 238 = .ok (.aload_n 0, 1) := dk_42 (dk_at dksX2_blow_10 0 rfl rfl)
theorem dX2_blow_239 : decode cX2_blow 239 = .ok (.getfield 7, 3) := dk_180 0 7 (dk_at dksX2_blow_10 1 rfl rfl)
theorem dX2_blow_242 : decode cX2_blow 242 = .ok (.iconst 3, 1) := dk_6 (dk_at dksX2_blow_10 4 rfl rfl)
theorem dX2_blow_243 : decode cX2_blow 243 = .ok (.iaload, 1) := dk_46 (dk_at dksX2_blow_10 5 rfl rfl)
theorem dX2_blow_244 : decode cX2_blow 244 = .ok (.iastore, 1) := dk_79 (dk_at dksX2_blow_10 6 rfl rfl)
theorem dX2_blow_245 : decode cX2_blow 245 = .ok (.aload_n 0, 1) := dk_42 (dk_at dksX2_blow_10 7 rfl rfl)
theorem dX2_blow_246 : decode cX2_blow 246 = .ok (.getfield 7, 3) := dk_180 0 7 (dk_at dksX2_blow_10 8 rfl rfl)
theorem dX2_blow_249 : decode cX2_blow 249 = .ok (.bipush 9, 2) := dk_16 9 (dk_at dksX2_blow_10 11 rfl rfl)
theorem dX2_blow_251 : decode cX2_blow 251 = .ok (.dup2, 1) := dk_92 (dk_at dksX2_blow_10 13 rfl rfl)
theorem dX2_blow_252 : decode cX2_blow 252 = .ok (.iaload, 1) := dk_46 (dk_at dksX2_blow_10 14 rfl rfl)
theorem dX2_blow_253 : decode cX2_blow 253 = .ok (.iconst 1, 1) := dk_4 (dk_at dksX2_blow_10 15 rfl rfl)
theorem dX2_blow_254 : decode cX2_blow 254 = .ok (.iadd, 1) := dk_96 (dk_at dksX2_blow_10 16 rfl rfl)
theorem dX2_blow_255 : decode cX2_blow 255 = .ok (.iastore, 1) := dk_79 (dk_at dksX2_blow_10 17 rfl rfl)
theorem dX2_blow_256 : decode cX2_blow 256 = .ok (.aload_n 0, 1) := dk_42 (dk_at dksX2_blow_10 18 rfl rfl)
theorem dX2_blow_257 : decode cX2_blow 257 = .ok (.getfield 7, 3) := dk_180 0 7 (dk_at dksX2_blow_10 19 rfl rfl)
theorem dX2_blow_260 : decode cX2_blow 260 = .ok (.bipush 40, 2) := dk_16 40 (dk_at dksX2_blow_10 22 rfl rfl)
theorem dX2_blow_262 : decode cX2_blow 262 = .ok (.iconst 3, 1) := dk_6 (dk_at dksX2_blow_11 0 rfl rfl)
theorem dX2_blow_263 : decode cX2_blow 263 = .ok (.aload_n 0, 1) := dk_42 (dk_at dksX2_blow_11 1 rfl rfl)
theorem dX2_blow_264 : decode cX2_blow 264 = .ok (.getfield 7, 3) := dk_180 0 7 (dk_at dksX2_blow_11 2 rfl rfl)
theorem dX2_blow_267 : decode cX2_blow 267 = .ok (.iload 5, 2) := dk_21 5 (dk_at dksX2_blow_11 5 rfl rfl)
theorem dX2_blow_269 : decode cX2_blow 269 = .ok (.iaload, 1) := dk_46 (dk_at dksX2_blow_11 7 rfl rfl)
theorem dX2_blow_270 : decode cX2_blow 270 = .ok (.imul, 1) := dk_104 (dk_at dksX2_blow_11 8 rfl rfl)
theorem dX2_blow_271 : decode cX2_blow 271 = .ok (.iadd, 1) := dk_96 (dk_at dksX2_blow_11 9 rfl rfl)
theorem dX2_blow_272 : decode cX2_blow 272 = .ok (.iaload, 1) := dk_46 (dk_at dksX2_blow_11 10 rfl rfl)
theorem dX2_blow_273 : decode cX2_blow 273 = .ok (.istore 7, 2) := dk_54 7 (dk_at dksX2_blow_11 11 rfl rfl)
theorem dX2_blow_275 : decode cX2_blow 275 = .ok (.aload_n 0, 1) := dk_42 (dk_at dksX2_blow_11 13 rfl rfl)
theorem dX2_blow_276 : decode cX2_blow 276 = .ok (.getfield 7, 3) := dk_180 0 7 (dk_at dksX2_blow_11 14 rfl rfl)
theorem dX2_blow_279 : decode cX2_blow 279 = .ok (.bipush 40, 2) := dk_16 40 (dk_at dksX2_blow_11 17 rfl rfl)
theorem dX2_blow_281 : decode cX2_blow 281 = .ok (.iconst 3, 1) := dk_6 (dk_at dksX2_blow_11 19 rfl rfl)
theorem dX2_blow_282 : decode cX2_blow 282 = .ok (.aload_n 0, 1) := dk_42 (dk_at dksX2_blow_11 20 rfl rfl)
theorem dX2_blow_283 : decode cX2_blow 283 = .ok (.getfield 7, 3) := dk_180 0 7 (dk_at dksX2_blow_11 21 rfl rfl)
theorem dX2_blow_286 : decode cX2_blow 286 = .ok (.iload 5, 2) := dk_21 5 (dk_at dksX2_blow_12 0 rfl rfl)
theorem dX2_blow_288 : decode cX2_blow 288 = .ok (.iaload, 1) := dk_46 (dk_at dksX2_blow_12 2 rfl rfl)
theorem dX2_blow_289 : decode cX2_blow 289 = .ok (.imul, 1) := dk_104 (dk_at dksX2_blow_12 3 rfl rfl)
theorem dX2_blow_290 : decode cX2_blow 290 = .ok (.iadd, 1) := dk_96 (dk_at dksX2_blow_12 4 rfl rfl)
theorem dX2_blow_291 : decode cX2_blow 291 = .ok (.iconst 1, 1) := dk_4 (dk_at dksX2_blow_12 5 rfl rfl)
theorem dX2_blow_292 : decode cX2_blow 292 = .ok (.iadd, 1) := dk_96 (dk_at dksX2_blow_12 6 rfl rfl)
theorem dX2_blow_293 : decode cX2_blow 293 = .ok (.iaload, 1) := dk_46 (dk_at dksX2_blow_12 7 rfl rfl)
theorem dX2_blow_294 : decode cX2_blow 294 = .ok (.aload_n 0, 1) := dk_42 (dk_at dksX2_blow_12 8 rfl rfl)
theorem dX2_blow_295 : decode cX2_blow 295 = .ok (.iload_n 1, 1) := dk_27 (dk_at dksX2_blow_12 9 rfl rfl)
theorem dX2_blow_296 : decode cX2_blow 296 = .ok (.invokevirtual 308, 3) := dk_182 1 52 (dk_at dksX2_blow_12 10 rfl rfl)
theorem dX2_blow_299 : decode cX2_blow 299 = .ok (.iconst (-1), 1) := dk_2 (dk_at dksX2_blow_12 13 rfl rfl)
theorem dX2_blow_300 : decode cX2_blow 300 = .ok (.ixor, 1) := dk_130 (dk_at dksX2_blow_12 14 rfl rfl)
theorem dX2_blow_301 : decode cX2_blow 301 = .ok (.iand, 1) := dk_126 (dk_at dksX2_blow_12 15 rfl rfl)
theorem dX2_blow_302 : decode cX2_blow 302 = .ok (.ifCond .ne 7, 3) := dk_154 0 7 (dk_at dksX2_blow_12 16 rfl rfl)
theorem dX2_blow_305 : decode cX2_blow 305 = .ok (.iconst 1, 1) := dk_4 (dk_at dksX2_blow_12 19 rfl rfl)
theorem dX2_blow_306 : decode cX2_blow 306 = .ok (.goto 4, 3) := dk_167 0 4 (dk_at dksX2_blow_12 20 rfl rfl)
theorem dX2_blow_309 : decode cX2_blow 309 = .ok (.iconst 0, 1) := dk_3 (dk_at dksX2_blow_12 23 rfl rfl)
theorem dX2_blow_310 : decode cX2_blow 310 = .ok (.istore 8, 2) := dk_54 8 (dk_at dksX2_blow_13 0 rfl rfl)
theorem dX2_blow_312 : decode cX2_blow 312 = .ok (.aload_n 0, 1) := dk_42 (dk_at dksX2_blow_13 2 rfl rfl)
theorem dX2_blow_313 : decode cX2_blow 313 = .ok (.getfield 7, 3) := dk_180 0 7 (dk_at dksX2_blow_13 3 rfl rfl)
theorem dX2_blow_316 : decode cX2_blow 316 = .ok (.iload 5, 2) := dk_21 5 (dk_at dksX2_blow_13 6 rfl rfl)
theorem dX2_blow_318 : decode cX2_blow 318 = .ok (.iconst 2, 1) := dk_5 (dk_at dksX2_blow_13 8 rfl rfl)
theorem dX2_blow_319 : decode cX2_blow 319 = .ok (.iadd, 1) := dk_96 (dk_at dksX2_blow_13 9 rfl rfl)
theorem dX2_blow_320 : decode cX2_blow 320 = .ok (.iaload, 1) := dk_46 (dk_at dksX2_blow_13 10 rfl rfl)
theorem dX2_blow_321 : decode cX2_blow 321 = .ok (.iload 7, 2) := dk_21 7 (dk_at dksX2_blow_13 11 rfl rfl)
theorem dX2_blow_323 : decode cX2_blow 323 = .ok (.if_icmp .lt 36, 3) := dk_161 0 36 (dk_at dksX2_blow_13 13 rfl rfl)
theorem dX2_blow_326 : decode cX2_blow 326 = .ok (.aload_n 0, 1) := dk_42 (dk_at dksX2_blow_13 16 rfl rfl)
theorem dX2_blow_327 : decode cX2_blow 327 = .ok (.getfield 7, 3) := dk_180 0 7 (dk_at dksX2_blow_13 17 rfl rfl)
theorem dX2_blow_330 : decode cX2_blow 330 = .ok (.iload 5, 2) := dk_21 5 (dk_at dksX2_blow_13 20 rfl rfl)
theorem dX2_blow_332 : decode cX2_blow 332 = .ok (.iconst 1, 1) := dk_4 (dk_at dksX2_blow_13 22 rfl rfl)
theorem dX2_blow_333 : decode cX2_blow 333 = .ok (.iadd, 1) := dk_96 (dk_at dksX2_blow_13 23 rfl rfl)
theorem dX2_blow_334 : decode cX2_blow 334 = .ok (.aload_n 0, 1) := dk_42 (dk_at dksX2_blow_14 0 rfl rfl)
theorem dX2_blow_335 : decode cX2_blow 335 = .ok (.getfield 7, 3) := dk_180 0 7 (dk_at dksX2_blow_14 1 rfl rfl)
theorem dX2_blow_338 : decode cX2_blow 338 = .ok (.iload 5, 2) := dk_21 5 (dk_at dksX2_blow_14 4 rfl rfl)
theorem dX2_blow_340 : decode cX2_blow 340 = .ok (.iconst 2, 1) := dk_5 (dk_at dksX2_blow_14 6 rfl rfl)
theorem dX2_blow_341 : decode cX2_blow 341 = .ok (.iadd, 1) := dk_96 (dk_at dksX2_blow_14 7 rfl rfl)
theorem dX2_blow_342 : decode cX2_blow 342 = .ok (.iaload, 1) := dk_46 (dk_at dksX2_blow_14 8 rfl rfl)
theorem dX2_blow_343 : decode cX2_blow 343 = .ok (.iload 7, 2) := dk_21 7 (dk_at dksX2_blow_14 9 rfl rfl)
theorem dX2_blow_345 : decode cX2_blow 345 = .ok (.if_icmp .ne 12, 3) := dk_160 0 12 (dk_at dksX2_blow_14 11 rfl rfl)
theorem dX2_blow_348 : decode cX2_blow 348 = .ok (.iload 8, 2) := dk_21 8 (dk_at dksX2_blow_14 14 rfl rfl)
theorem dX2_blow_350 : decode cX2_blow 350 = .ok (.ifCond .eq 7, 3) := dk_153 0 7 (dk_at dksX2_blow_14 16 rfl rfl)
theorem dX2_blow_353 : decode cX2_blow 353 = .ok (.iconst 1, 1) := dk_4 (dk_at dksX2_blow_14 19 rfl rfl)
theorem dX2_blow_354 : decode cX2_blow 354 = .ok (.goto 4, 3) := dk_167 0 4 (dk_at dksX2_blow_14 20 rfl rfl)
theorem dX2_blow_357 : decode cX2_blow 357 = .ok (.iconst 2, 1) := dk_5 (dk_at dksX2_blow_14 23 rfl rfl)
theorem dX2_blow_358 : decode cX2_blow 358 = .ok (.iastore, 1) := dk_79 (dk_at dksX2_blow_15 0 rfl rfl)
theorem dX2_blow_359 : decode cX2_blow 359 = .ok (.aload_n 0, 1) := dk_42 (dk_at dksX2_blow_15 1 rfl rfl)
theorem dX2_blow_360 : decode cX2_blow 360 = .ok (.getfield 7, 3) := dk_180 0 7 (dk_at dksX2_blow_15 2 rfl rfl)
theorem dX2_blow_363 : decode cX2_blow 363 = .ok (.iload 5, 2) := dk_21 5 (dk_at dksX2_blow_15 5 rfl rfl)
theorem dX2_blow_365 : decode cX2_blow 365 = .ok (.iconst 1, 1) := dk_4 (dk_at dksX2_blow_15 7 rfl rfl)
theorem dX2_blow_366 : decode cX2_blow 366 = .ok (.iadd, 1) := dk_96 (dk_at dksX2_blow_15 8 rfl rfl)
theorem dX2_blow_367 : decode cX2_blow 367 = .ok (.iaload, 1) := dk_46 (dk_at dksX2_blow_15 9 rfl rfl)
theorem dX2_blow_368 : decode cX2_blow 368 = .ok (.ireturn, 1) := dk_172 (dk_at dksX2_blow_15 10 rfl rfl)
abbrev cX2_isPiece : ByteArray := prog_18_method_9_code
def yX2_isPiece : MethodName := ⟨RX2, "isPiece", "(I)Z"⟩
def dkwX2_isPiece_0 : List UInt8 := [27, 3, 42, 180, 0, 7, 5, 46, 4, 100, 184, 0, 62, 172]
abbrev dktX2_isPiece_0 : List UInt8 := dkwX2_isPiece_0 ++ []
theorem dksX2_isPiece_0 : cX2_isPiece.data.toList.drop 0 = dktX2_isPiece_0 := by decide +kernel
theorem dX2_isPiece_0 : decode cX2_isPiece 0 = .ok (.iload_n 1, 1) := dk_27 (dk_at dksX2_isPiece_0 0 rfl rfl)
theorem dX2_isPiece_1 : decode cX2_isPiece 1 = .ok (.iconst 0, 1) := dk_3 (dk_at dksX2_isPiece_0 1 rfl rfl)
theorem dX2_isPiece_2 : decode cX2_isPiece 2 = .ok (.aload_n 0, 1) := dk_42 (dk_at dksX2_isPiece_0 2 rfl rfl)
theorem dX2_isPiece_3 : decode cX2_isPiece 3 = .ok (.getfield 7, 3) := dk_180 0 7 (dk_at dksX2_isPiece_0 3 rfl rfl)
theorem dX2_isPiece_6 : decode cX2_isPiece 6 = .ok (.iconst 2, 1) := dk_5 (dk_at dksX2_isPiece_0 6 rfl rfl)
theorem dX2_isPiece_7 : decode cX2_isPiece 7 = .ok (.iaload, 1) := dk_46 (dk_at dksX2_isPiece_0 7 rfl rfl)
theorem dX2_isPiece_8 : decode cX2_isPiece 8 = .ok (.iconst 1, 1) := dk_4 (dk_at dksX2_isPiece_0 8 rfl rfl)
theorem dX2_isPiece_9 : decode cX2_isPiece 9 = .ok (.isub, 1) := dk_100 (dk_at dksX2_isPiece_0 9 rfl rfl)
theorem dX2_isPiece_10 : decode cX2_isPiece 10 = .ok (.invokestatic 62, 3) := dk_184 0 62 (dk_at dksX2_isPiece_0 10 rfl rfl)
theorem dX2_isPiece_13 : decode cX2_isPiece 13 = .ok (.ireturn, 1) := dk_172 (dk_at dksX2_isPiece_0 13 rfl rfl)
abbrev cX2_givenByAll : ByteArray := prog_18_method_75_code
def yX2_givenByAll : MethodName := ⟨RX2, "givenByAll", "()I"⟩
def dkwX2_givenByAll_1 : List UInt8 := [132, 2, 1, 167, 255, 234, 27, 172]
abbrev dktX2_givenByAll_1 : List UInt8 := dkwX2_givenByAll_1 ++ []
def dkwX2_givenByAll_0 : List UInt8 := [3, 60, 3, 61, 28, 42, 180, 0, 7, 3, 46, 162, 0, 18, 27, 42, 28, 6, 182, 0, 74, 96, 60]
abbrev dktX2_givenByAll_0 : List UInt8 := dkwX2_givenByAll_0 ++ dktX2_givenByAll_1
theorem dksX2_givenByAll_0 : cX2_givenByAll.data.toList.drop 0 = dktX2_givenByAll_0 := by decide +kernel
theorem dksX2_givenByAll_1 : cX2_givenByAll.data.toList.drop 23 = dktX2_givenByAll_1 := dk_seg dksX2_givenByAll_0 23 rfl rfl
theorem dX2_givenByAll_0 : decode cX2_givenByAll 0 = .ok (.iconst 0, 1) := dk_3 (dk_at dksX2_givenByAll_0 0 rfl rfl)
theorem dX2_givenByAll_1 : decode cX2_givenByAll 1 = .ok (.istore_n 1, 1) := dk_60 (dk_at dksX2_givenByAll_0 1 rfl rfl)
theorem dX2_givenByAll_2 : decode cX2_givenByAll 2 = .ok (.iconst 0, 1) := dk_3 (dk_at dksX2_givenByAll_0 2 rfl rfl)
theorem dX2_givenByAll_3 : decode cX2_givenByAll 3 = .ok (.istore_n 2, 1) := dk_61 (dk_at dksX2_givenByAll_0 3 rfl rfl)
theorem dX2_givenByAll_4 : decode cX2_givenByAll 4 = .ok (.iload_n 2, 1) := dk_28 (dk_at dksX2_givenByAll_0 4 rfl rfl)
theorem dX2_givenByAll_5 : decode cX2_givenByAll 5 = .ok (.aload_n 0, 1) := dk_42 (dk_at dksX2_givenByAll_0 5 rfl rfl)
theorem dX2_givenByAll_6 : decode cX2_givenByAll 6 = .ok (.getfield 7, 3) := dk_180 0 7 (dk_at dksX2_givenByAll_0 6 rfl rfl)
theorem dX2_givenByAll_9 : decode cX2_givenByAll 9 = .ok (.iconst 0, 1) := dk_3 (dk_at dksX2_givenByAll_0 9 rfl rfl)
theorem dX2_givenByAll_10 : decode cX2_givenByAll 10 = .ok (.iaload, 1) := dk_46 (dk_at dksX2_givenByAll_0 10 rfl rfl)
theorem dX2_givenByAll_11 : decode cX2_givenByAll 11 = .ok (.if_icmp .ge 18, 3) := dk_162 0 18 (dk_at dksX2_givenByAll_0 11 rfl rfl)
theorem dX2_givenByAll_14 : decode cX2_givenByAll 14 = .ok (.iload_n 1, 1) := dk_27 (dk_at dksX2_givenByAll_0 14 rfl rfl)
theorem dX2_givenByAll_15 : decode cX2_givenByAll 15 = .ok (.aload_n 0, 1) := dk_42 (dk_at dksX2_givenByAll_0 15 rfl rfl)
theorem dX2_givenByAll_16 : decode cX2_givenByAll 16 = .ok (.iload_n 2, 1) := dk_28 (dk_at dksX2_givenByAll_0 16 rfl rfl)
theorem dX2_givenByAll_17 : decode cX2_givenByAll 17 = .ok (.iconst 3, 1) := dk_6 (dk_at dksX2_givenByAll_0 17 rfl rfl)
theorem dX2_givenByAll_18 : decode cX2_givenByAll 18 = .ok (.invokevirtual 74, 3) := dk_182 0 74 (dk_at dksX2_givenByAll_0 18 rfl rfl)
theorem dX2_givenByAll_21 : decode cX2_givenByAll 21 = .ok (.iadd, 1) := dk_96 (dk_at dksX2_givenByAll_0 21 rfl rfl)
theorem dX2_givenByAll_22 : decode cX2_givenByAll 22 = .ok (.istore_n 1, 1) := dk_60 (dk_at dksX2_givenByAll_0 22 rfl rfl)
theorem dX2_givenByAll_23 : decode cX2_givenByAll 23 = .ok (.iinc 2 1, 3) := dk_132 2 1 (dk_at dksX2_givenByAll_1 0 rfl rfl)
theorem dX2_givenByAll_26 : decode cX2_givenByAll 26 = .ok (.goto (-22), 3) := dk_167 255 234 (dk_at dksX2_givenByAll_1 3 rfl rfl)
theorem dX2_givenByAll_29 : decode cX2_givenByAll 29 = .ok (.iload_n 1, 1) := dk_27 (dk_at dksX2_givenByAll_1 6 rfl rfl)
theorem dX2_givenByAll_30 : decode cX2_givenByAll 30 = .ok (.ireturn, 1) := dk_172 (dk_at dksX2_givenByAll_1 7 rfl rfl)
abbrev cX2_voicesOf : ByteArray := prog_18_method_74_code
def yX2_voicesOf : MethodName := ⟨RX2, "voicesOf", "(I)I"⟩
def dkwX2_voicesOf_1 : List UInt8 := [4, 42, 29, 4, 182, 0, 74, 120, 167, 0, 4, 3, 128, 61, 132, 3, 1, 167, 255, 219, 28, 172]
abbrev dktX2_voicesOf_1 : List UInt8 := dkwX2_voicesOf_1 ++ []
def dkwX2_voicesOf_0 : List UInt8 := [3, 61, 3, 62, 29, 42, 180, 0, 7, 3, 46, 162, 0, 33, 28, 42, 27, 29, 182, 1, 24, 158, 0, 14]
abbrev dktX2_voicesOf_0 : List UInt8 := dkwX2_voicesOf_0 ++ dktX2_voicesOf_1
theorem dksX2_voicesOf_0 : cX2_voicesOf.data.toList.drop 0 = dktX2_voicesOf_0 := by decide +kernel
theorem dksX2_voicesOf_1 : cX2_voicesOf.data.toList.drop 24 = dktX2_voicesOf_1 := dk_seg dksX2_voicesOf_0 24 rfl rfl
theorem dX2_voicesOf_0 : decode cX2_voicesOf 0 = .ok (.iconst 0, 1) := dk_3 (dk_at dksX2_voicesOf_0 0 rfl rfl)
theorem dX2_voicesOf_1 : decode cX2_voicesOf 1 = .ok (.istore_n 2, 1) := dk_61 (dk_at dksX2_voicesOf_0 1 rfl rfl)
theorem dX2_voicesOf_2 : decode cX2_voicesOf 2 = .ok (.iconst 0, 1) := dk_3 (dk_at dksX2_voicesOf_0 2 rfl rfl)
theorem dX2_voicesOf_3 : decode cX2_voicesOf 3 = .ok (.istore_n 3, 1) := dk_62 (dk_at dksX2_voicesOf_0 3 rfl rfl)
theorem dX2_voicesOf_4 : decode cX2_voicesOf 4 = .ok (.iload_n 3, 1) := dk_29 (dk_at dksX2_voicesOf_0 4 rfl rfl)
theorem dX2_voicesOf_5 : decode cX2_voicesOf 5 = .ok (.aload_n 0, 1) := dk_42 (dk_at dksX2_voicesOf_0 5 rfl rfl)
theorem dX2_voicesOf_6 : decode cX2_voicesOf 6 = .ok (.getfield 7, 3) := dk_180 0 7 (dk_at dksX2_voicesOf_0 6 rfl rfl)
theorem dX2_voicesOf_9 : decode cX2_voicesOf 9 = .ok (.iconst 0, 1) := dk_3 (dk_at dksX2_voicesOf_0 9 rfl rfl)
theorem dX2_voicesOf_10 : decode cX2_voicesOf 10 = .ok (.iaload, 1) := dk_46 (dk_at dksX2_voicesOf_0 10 rfl rfl)
theorem dX2_voicesOf_11 : decode cX2_voicesOf 11 = .ok (.if_icmp .ge 33, 3) := dk_162 0 33 (dk_at dksX2_voicesOf_0 11 rfl rfl)
theorem dX2_voicesOf_14 : decode cX2_voicesOf 14 = .ok (.iload_n 2, 1) := dk_28 (dk_at dksX2_voicesOf_0 14 rfl rfl)
theorem dX2_voicesOf_15 : decode cX2_voicesOf 15 = .ok (.aload_n 0, 1) := dk_42 (dk_at dksX2_voicesOf_0 15 rfl rfl)
theorem dX2_voicesOf_16 : decode cX2_voicesOf 16 = .ok (.iload_n 1, 1) := dk_27 (dk_at dksX2_voicesOf_0 16 rfl rfl)
theorem dX2_voicesOf_17 : decode cX2_voicesOf 17 = .ok (.iload_n 3, 1) := dk_29 (dk_at dksX2_voicesOf_0 17 rfl rfl)
theorem dX2_voicesOf_18 : decode cX2_voicesOf 18 = .ok (.invokevirtual 280, 3) := dk_182 1 24 (dk_at dksX2_voicesOf_0 18 rfl rfl)
theorem dX2_voicesOf_21 : decode cX2_voicesOf 21 = .ok (.ifCond .le 14, 3) := dk_158 0 14 (dk_at dksX2_voicesOf_0 21 rfl rfl)
theorem dX2_voicesOf_24 : decode cX2_voicesOf 24 = .ok (.iconst 1, 1) := dk_4 (dk_at dksX2_voicesOf_1 0 rfl rfl)
theorem dX2_voicesOf_25 : decode cX2_voicesOf 25 = .ok (.aload_n 0, 1) := dk_42 (dk_at dksX2_voicesOf_1 1 rfl rfl)
theorem dX2_voicesOf_26 : decode cX2_voicesOf 26 = .ok (.iload_n 3, 1) := dk_29 (dk_at dksX2_voicesOf_1 2 rfl rfl)
theorem dX2_voicesOf_27 : decode cX2_voicesOf 27 = .ok (.iconst 1, 1) := dk_4 (dk_at dksX2_voicesOf_1 3 rfl rfl)
theorem dX2_voicesOf_28 : decode cX2_voicesOf 28 = .ok (.invokevirtual 74, 3) := dk_182 0 74 (dk_at dksX2_voicesOf_1 4 rfl rfl)
theorem dX2_voicesOf_31 : decode cX2_voicesOf 31 = .ok (.ishl, 1) := dk_120 (dk_at dksX2_voicesOf_1 7 rfl rfl)
theorem dX2_voicesOf_32 : decode cX2_voicesOf 32 = .ok (.goto 4, 3) := dk_167 0 4 (dk_at dksX2_voicesOf_1 8 rfl rfl)
theorem dX2_voicesOf_35 : decode cX2_voicesOf 35 = .ok (.iconst 0, 1) := dk_3 (dk_at dksX2_voicesOf_1 11 rfl rfl)
theorem dX2_voicesOf_36 : decode cX2_voicesOf 36 = .ok (.ior, 1) := dk_128 (dk_at dksX2_voicesOf_1 12 rfl rfl)
theorem dX2_voicesOf_37 : decode cX2_voicesOf 37 = .ok (.istore_n 2, 1) := dk_61 (dk_at dksX2_voicesOf_1 13 rfl rfl)
theorem dX2_voicesOf_38 : decode cX2_voicesOf 38 = .ok (.iinc 3 1, 3) := dk_132 3 1 (dk_at dksX2_voicesOf_1 14 rfl rfl)
theorem dX2_voicesOf_41 : decode cX2_voicesOf 41 = .ok (.goto (-37), 3) := dk_167 255 219 (dk_at dksX2_voicesOf_1 17 rfl rfl)
theorem dX2_voicesOf_44 : decode cX2_voicesOf 44 = .ok (.iload_n 2, 1) := dk_28 (dk_at dksX2_voicesOf_1 20 rfl rfl)
theorem dX2_voicesOf_45 : decode cX2_voicesOf 45 = .ok (.ireturn, 1) := dk_172 (dk_at dksX2_voicesOf_1 21 rfl rfl)
abbrev cX2_gave : ByteArray := prog_18_method_14_code
def yX2_gave : MethodName := ⟨RX2, "gave", "(II)I"⟩
def dkwX2_gave_0 : List UInt8 := [42, 180, 0, 7, 27, 184, 0, 66, 7, 96, 28, 96, 46, 172]
abbrev dktX2_gave_0 : List UInt8 := dkwX2_gave_0 ++ []
theorem dksX2_gave_0 : cX2_gave.data.toList.drop 0 = dktX2_gave_0 := by decide +kernel
theorem dX2_gave_0 : decode cX2_gave 0 = .ok (.aload_n 0, 1) := dk_42 (dk_at dksX2_gave_0 0 rfl rfl)
theorem dX2_gave_1 : decode cX2_gave 1 = .ok (.getfield 7, 3) := dk_180 0 7 (dk_at dksX2_gave_0 1 rfl rfl)
theorem dX2_gave_4 : decode cX2_gave 4 = .ok (.iload_n 1, 1) := dk_27 (dk_at dksX2_gave_0 4 rfl rfl)
theorem dX2_gave_5 : decode cX2_gave 5 = .ok (.invokestatic 66, 3) := dk_184 0 66 (dk_at dksX2_gave_0 5 rfl rfl)
theorem dX2_gave_8 : decode cX2_gave 8 = .ok (.iconst 4, 1) := dk_7 (dk_at dksX2_gave_0 8 rfl rfl)
theorem dX2_gave_9 : decode cX2_gave 9 = .ok (.iadd, 1) := dk_96 (dk_at dksX2_gave_0 9 rfl rfl)
theorem dX2_gave_10 : decode cX2_gave 10 = .ok (.iload_n 2, 1) := dk_28 (dk_at dksX2_gave_0 10 rfl rfl)
theorem dX2_gave_11 : decode cX2_gave 11 = .ok (.iadd, 1) := dk_96 (dk_at dksX2_gave_0 11 rfl rfl)
theorem dX2_gave_12 : decode cX2_gave 12 = .ok (.iaload, 1) := dk_46 (dk_at dksX2_gave_0 12 rfl rfl)
theorem dX2_gave_13 : decode cX2_gave 13 = .ok (.ireturn, 1) := dk_172 (dk_at dksX2_gave_0 13 rfl rfl)
abbrev cX2_later : ByteArray := prog_18_method_77_code
def yX2_later : MethodName := ⟨RX2, "later", "(I)I"⟩
def dkwX2_later_3 : List UInt8 := [167, 255, 213, 42, 180, 0, 7, 6, 46, 172]
abbrev dktX2_later_3 : List UInt8 := dkwX2_later_3 ++ []
def dkwX2_later_2 : List UInt8 := [62, 29, 16, 6, 162, 0, 16, 42, 29, 6, 3, 182, 0, 70, 132, 3, 1, 167, 255, 240, 132, 2, 1]
abbrev dktX2_later_2 : List UInt8 := dkwX2_later_2 ++ dktX2_later_3
def dkwX2_later_1 : List UInt8 := [2, 172, 3, 61, 28, 27, 162, 0, 44, 42, 182, 1, 43, 42, 180, 0, 7, 6, 92, 46, 4, 96, 79, 3]
abbrev dktX2_later_1 : List UInt8 := dkwX2_later_1 ++ dktX2_later_2
def dkwX2_later_0 : List UInt8 := [27, 4, 16, 99, 184, 0, 62, 153, 0, 17, 42, 180, 0, 7, 6, 46, 27, 96, 17, 3, 231, 164, 0, 5]
abbrev dktX2_later_0 : List UInt8 := dkwX2_later_0 ++ dktX2_later_1
theorem dksX2_later_0 : cX2_later.data.toList.drop 0 = dktX2_later_0 := by decide +kernel
theorem dksX2_later_1 : cX2_later.data.toList.drop 24 = dktX2_later_1 := dk_seg dksX2_later_0 24 rfl rfl
theorem dksX2_later_2 : cX2_later.data.toList.drop 48 = dktX2_later_2 := dk_seg dksX2_later_1 24 rfl rfl
theorem dksX2_later_3 : cX2_later.data.toList.drop 71 = dktX2_later_3 := dk_seg dksX2_later_2 23 rfl rfl
theorem dX2_later_0 : decode cX2_later 0 = .ok (.iload_n 1, 1) := dk_27 (dk_at dksX2_later_0 0 rfl rfl)
theorem dX2_later_1 : decode cX2_later 1 = .ok (.iconst 1, 1) := dk_4 (dk_at dksX2_later_0 1 rfl rfl)
theorem dX2_later_2 : decode cX2_later 2 = .ok (.bipush 99, 2) := dk_16 99 (dk_at dksX2_later_0 2 rfl rfl)
theorem dX2_later_4 : decode cX2_later 4 = .ok (.invokestatic 62, 3) := dk_184 0 62 (dk_at dksX2_later_0 4 rfl rfl)
theorem dX2_later_7 : decode cX2_later 7 = .ok (.ifCond .eq 17, 3) := dk_153 0 17 (dk_at dksX2_later_0 7 rfl rfl)
theorem dX2_later_10 : decode cX2_later 10 = .ok (.aload_n 0, 1) := dk_42 (dk_at dksX2_later_0 10 rfl rfl)
theorem dX2_later_11 : decode cX2_later 11 = .ok (.getfield 7, 3) := dk_180 0 7 (dk_at dksX2_later_0 11 rfl rfl)
theorem dX2_later_14 : decode cX2_later 14 = .ok (.iconst 3, 1) := dk_6 (dk_at dksX2_later_0 14 rfl rfl)
theorem dX2_later_15 : decode cX2_later 15 = .ok (.iaload, 1) := dk_46 (dk_at dksX2_later_0 15 rfl rfl)
theorem dX2_later_16 : decode cX2_later 16 = .ok (.iload_n 1, 1) := dk_27 (dk_at dksX2_later_0 16 rfl rfl)
theorem dX2_later_17 : decode cX2_later 17 = .ok (.iadd, 1) := dk_96 (dk_at dksX2_later_0 17 rfl rfl)
theorem dX2_later_18 : decode cX2_later 18 = .ok (.sipush 999, 3) := dk_17 3 231 (dk_at dksX2_later_0 18 rfl rfl)
theorem dX2_later_21 : decode cX2_later 21 = .ok (.if_icmp .le 5, 3) := dk_164 0 5 (dk_at dksX2_later_0 21 rfl rfl)
theorem dX2_later_24 : decode cX2_later 24 = .ok (.iconst (-1), 1) := dk_2 (dk_at dksX2_later_1 0 rfl rfl)
theorem dX2_later_25 : decode cX2_later 25 = .ok (.ireturn, 1) := dk_172 (dk_at dksX2_later_1 1 rfl rfl)
theorem dX2_later_26 : decode cX2_later 26 = .ok (.iconst 0, 1) := dk_3 (dk_at dksX2_later_1 2 rfl rfl)
theorem dX2_later_27 : decode cX2_later 27 = .ok (.istore_n 2, 1) := dk_61 (dk_at dksX2_later_1 3 rfl rfl)
theorem dX2_later_28 : decode cX2_later 28 = .ok (.iload_n 2, 1) := dk_28 (dk_at dksX2_later_1 4 rfl rfl)
theorem dX2_later_29 : decode cX2_later 29 = .ok (.iload_n 1, 1) := dk_27 (dk_at dksX2_later_1 5 rfl rfl)
theorem dX2_later_30 : decode cX2_later 30 = .ok (.if_icmp .ge 44, 3) := dk_162 0 44 (dk_at dksX2_later_1 6 rfl rfl)
theorem dX2_later_33 : decode cX2_later 33 = .ok (.aload_n 0, 1) := dk_42 (dk_at dksX2_later_1 9 rfl rfl)
theorem dX2_later_34 : decode cX2_later 34 = .ok (.invokevirtual 299, 3) := dk_182 1 43 (dk_at dksX2_later_1 10 rfl rfl)
theorem dX2_later_37 : decode cX2_later 37 = .ok (.aload_n 0, 1) := dk_42 (dk_at dksX2_later_1 13 rfl rfl)
theorem dX2_later_38 : decode cX2_later 38 = .ok (.getfield 7, 3) := dk_180 0 7 (dk_at dksX2_later_1 14 rfl rfl)
theorem dX2_later_41 : decode cX2_later 41 = .ok (.iconst 3, 1) := dk_6 (dk_at dksX2_later_1 17 rfl rfl)
theorem dX2_later_42 : decode cX2_later 42 = .ok (.dup2, 1) := dk_92 (dk_at dksX2_later_1 18 rfl rfl)
theorem dX2_later_43 : decode cX2_later 43 = .ok (.iaload, 1) := dk_46 (dk_at dksX2_later_1 19 rfl rfl)
theorem dX2_later_44 : decode cX2_later 44 = .ok (.iconst 1, 1) := dk_4 (dk_at dksX2_later_1 20 rfl rfl)
theorem dX2_later_45 : decode cX2_later 45 = .ok (.iadd, 1) := dk_96 (dk_at dksX2_later_1 21 rfl rfl)
theorem dX2_later_46 : decode cX2_later 46 = .ok (.iastore, 1) := dk_79 (dk_at dksX2_later_1 22 rfl rfl)
theorem dX2_later_47 : decode cX2_later 47 = .ok (.iconst 0, 1) := dk_3 (dk_at dksX2_later_1 23 rfl rfl)
theorem dX2_later_48 : decode cX2_later 48 = .ok (.istore_n 3, 1) := dk_62 (dk_at dksX2_later_2 0 rfl rfl)
theorem dX2_later_49 : decode cX2_later 49 = .ok (.iload_n 3, 1) := dk_29 (dk_at dksX2_later_2 1 rfl rfl)
theorem dX2_later_50 : decode cX2_later 50 = .ok (.bipush 6, 2) := dk_16 6 (dk_at dksX2_later_2 2 rfl rfl)
theorem dX2_later_52 : decode cX2_later 52 = .ok (.if_icmp .ge 16, 3) := dk_162 0 16 (dk_at dksX2_later_2 4 rfl rfl)
theorem dX2_later_55 : decode cX2_later 55 = .ok (.aload_n 0, 1) := dk_42 (dk_at dksX2_later_2 7 rfl rfl)
theorem dX2_later_56 : decode cX2_later 56 = .ok (.iload_n 3, 1) := dk_29 (dk_at dksX2_later_2 8 rfl rfl)
theorem dX2_later_57 : decode cX2_later 57 = .ok (.iconst 3, 1) := dk_6 (dk_at dksX2_later_2 9 rfl rfl)
theorem dX2_later_58 : decode cX2_later 58 = .ok (.iconst 0, 1) := dk_3 (dk_at dksX2_later_2 10 rfl rfl)
theorem dX2_later_59 : decode cX2_later 59 = .ok (.invokevirtual 70, 3) := dk_182 0 70 (dk_at dksX2_later_2 11 rfl rfl)
theorem dX2_later_62 : decode cX2_later 62 = .ok (.iinc 3 1, 3) := dk_132 3 1 (dk_at dksX2_later_2 14 rfl rfl)
theorem dX2_later_65 : decode cX2_later 65 = .ok (.goto (-16), 3) := dk_167 255 240 (dk_at dksX2_later_2 17 rfl rfl)
theorem dX2_later_68 : decode cX2_later 68 = .ok (.iinc 2 1, 3) := dk_132 2 1 (dk_at dksX2_later_2 20 rfl rfl)
theorem dX2_later_71 : decode cX2_later 71 = .ok (.goto (-43), 3) := dk_167 255 213 (dk_at dksX2_later_3 0 rfl rfl)
theorem dX2_later_74 : decode cX2_later 74 = .ok (.aload_n 0, 1) := dk_42 (dk_at dksX2_later_3 3 rfl rfl)
theorem dX2_later_75 : decode cX2_later 75 = .ok (.getfield 7, 3) := dk_180 0 7 (dk_at dksX2_later_3 4 rfl rfl)
theorem dX2_later_78 : decode cX2_later 78 = .ok (.iconst 3, 1) := dk_6 (dk_at dksX2_later_3 7 rfl rfl)
theorem dX2_later_79 : decode cX2_later 79 = .ok (.iaload, 1) := dk_46 (dk_at dksX2_later_3 8 rfl rfl)
theorem dX2_later_80 : decode cX2_later 80 = .ok (.ireturn, 1) := dk_172 (dk_at dksX2_later_3 9 rfl rfl)
abbrev cX2_sell : ByteArray := prog_18_method_78_code
def yX2_sell : MethodName := ⟨RX2, "sell", "(I)I"⟩
def dkwX2_sell_9 : List UInt8 := [132, 4, 1, 167, 255, 154, 29, 172]
abbrev dktX2_sell_9 : List UInt8 := dkwX2_sell_9 ++ []
def dkwX2_sell_8 : List UInt8 := [54, 5, 42, 21, 4, 5, 42, 21, 4, 5, 182, 0, 74, 21, 5, 96, 182, 0, 70, 29, 21, 5, 96, 62]
abbrev dktX2_sell_8 : List UInt8 := dkwX2_sell_8 ++ dktX2_sell_9
def dkwX2_sell_7 : List UInt8 := [5, 182, 0, 74, 21, 5, 96, 17, 3, 231, 164, 0, 16, 17, 3, 231, 42, 21, 4, 5, 182, 0, 74, 100]
abbrev dktX2_sell_7 : List UInt8 := dkwX2_sell_7 ++ dktX2_sell_8
def dkwX2_sell_6 : List UInt8 := [184, 0, 66, 46, 104, 96, 5, 96, 46, 42, 180, 0, 43, 21, 4, 46, 104, 28, 108, 54, 5, 42, 21, 4]
abbrev dktX2_sell_6 : List UInt8 := dkwX2_sell_6 ++ dktX2_sell_7
def dkwX2_sell_5 : List UInt8 := [180, 0, 7, 3, 46, 162, 0, 97, 28, 158, 0, 93, 42, 180, 0, 7, 16, 40, 6, 42, 180, 0, 7, 27]
abbrev dktX2_sell_5 : List UInt8 := dkwX2_sell_5 ++ dktX2_sell_6
def dkwX2_sell_4 : List UInt8 := [28, 42, 180, 0, 43, 29, 46, 96, 61, 132, 3, 1, 167, 255, 209, 3, 62, 3, 54, 4, 21, 4, 42]
abbrev dktX2_sell_4 : List UInt8 := dkwX2_sell_4 ++ dktX2_sell_5
def dkwX2_sell_3 : List UInt8 := [180, 0, 43, 29, 42, 27, 29, 182, 1, 24, 158, 0, 12, 42, 27, 29, 182, 1, 55, 167, 0, 4, 3, 79]
abbrev dktX2_sell_3 : List UInt8 := dkwX2_sell_3 ++ dktX2_sell_4
def dkwX2_sell_2 : List UInt8 := [27, 184, 0, 66, 6, 96, 4, 79, 3, 61, 3, 62, 29, 42, 180, 0, 7, 3, 46, 162, 0, 43, 42]
abbrev dktX2_sell_2 : List UInt8 := dkwX2_sell_2 ++ dktX2_sell_3
def dkwX2_sell_1 : List UInt8 := [180, 0, 7, 27, 184, 0, 66, 6, 96, 46, 4, 160, 0, 5, 2, 172, 42, 182, 1, 43, 42, 180, 0, 7]
abbrev dktX2_sell_1 : List UInt8 := dkwX2_sell_1 ++ dktX2_sell_2
def dkwX2_sell_0 : List UInt8 := [42, 27, 182, 1, 46, 153, 0, 33, 42, 180, 0, 7, 27, 184, 0, 66, 4, 96, 46, 4, 160, 0, 18, 42]
abbrev dktX2_sell_0 : List UInt8 := dkwX2_sell_0 ++ dktX2_sell_1
theorem dksX2_sell_0 : cX2_sell.data.toList.drop 0 = dktX2_sell_0 := by decide +kernel
theorem dksX2_sell_1 : cX2_sell.data.toList.drop 24 = dktX2_sell_1 := dk_seg dksX2_sell_0 24 rfl rfl
theorem dksX2_sell_2 : cX2_sell.data.toList.drop 48 = dktX2_sell_2 := dk_seg dksX2_sell_1 24 rfl rfl
theorem dksX2_sell_3 : cX2_sell.data.toList.drop 71 = dktX2_sell_3 := dk_seg dksX2_sell_2 23 rfl rfl
theorem dksX2_sell_4 : cX2_sell.data.toList.drop 95 = dktX2_sell_4 := dk_seg dksX2_sell_3 24 rfl rfl
theorem dksX2_sell_5 : cX2_sell.data.toList.drop 118 = dktX2_sell_5 := dk_seg dksX2_sell_4 23 rfl rfl
theorem dksX2_sell_6 : cX2_sell.data.toList.drop 142 = dktX2_sell_6 := dk_seg dksX2_sell_5 24 rfl rfl
theorem dksX2_sell_7 : cX2_sell.data.toList.drop 166 = dktX2_sell_7 := dk_seg dksX2_sell_6 24 rfl rfl
theorem dksX2_sell_8 : cX2_sell.data.toList.drop 190 = dktX2_sell_8 := dk_seg dksX2_sell_7 24 rfl rfl
theorem dksX2_sell_9 : cX2_sell.data.toList.drop 214 = dktX2_sell_9 := dk_seg dksX2_sell_8 24 rfl rfl
theorem dX2_sell_0 : decode cX2_sell 0 = .ok (.aload_n 0, 1) := dk_42 (dk_at dksX2_sell_0 0 rfl rfl)
theorem dX2_sell_1 : decode cX2_sell 1 = .ok (.iload_n 1, 1) := dk_27 (dk_at dksX2_sell_0 1 rfl rfl)
theorem dX2_sell_2 : decode cX2_sell 2 = .ok (.invokevirtual 302, 3) := dk_182 1 46 (dk_at dksX2_sell_0 2 rfl rfl)
theorem dX2_sell_5 : decode cX2_sell 5 = .ok (.ifCond .eq 33, 3) := dk_153 0 33 (dk_at dksX2_sell_0 5 rfl rfl)
theorem dX2_sell_8 : decode cX2_sell 8 = .ok (.aload_n 0, 1) := dk_42 (dk_at dksX2_sell_0 8 rfl rfl)
theorem dX2_sell_9 : decode cX2_sell 9 = .ok (.getfield 7, 3) := dk_180 0 7 (dk_at dksX2_sell_0 9 rfl rfl)
theorem dX2_sell_12 : decode cX2_sell 12 = .ok (.iload_n 1, 1) := dk_27 (dk_at dksX2_sell_0 12 rfl rfl)
theorem dX2_sell_13 : decode cX2_sell 13 = .ok (.invokestatic 66, 3) := dk_184 0 66 (dk_at dksX2_sell_0 13 rfl rfl)
theorem dX2_sell_16 : decode cX2_sell 16 = .ok (.iconst 1, 1) := dk_4 (dk_at dksX2_sell_0 16 rfl rfl)
theorem dX2_sell_17 : decode cX2_sell 17 = .ok (.iadd, 1) := dk_96 (dk_at dksX2_sell_0 17 rfl rfl)
theorem dX2_sell_18 : decode cX2_sell 18 = .ok (.iaload, 1) := dk_46 (dk_at dksX2_sell_0 18 rfl rfl)
theorem dX2_sell_19 : decode cX2_sell 19 = .ok (.iconst 1, 1) := dk_4 (dk_at dksX2_sell_0 19 rfl rfl)
theorem dX2_sell_20 : decode cX2_sell 20 = .ok (.if_icmp .ne 18, 3) := dk_160 0 18 (dk_at dksX2_sell_0 20 rfl rfl)
theorem dX2_sell_23 : decode cX2_sell 23 = .ok (.aload_n 0, 1) := dk_42 (dk_at dksX2_sell_0 23 rfl rfl)
theorem dX2_sell_24 : decode cX2_sell 24 = .ok (.getfield 7, 3) := dk_180 0 7 (dk_at dksX2_sell_1 0 rfl rfl)
theorem dX2_sell_27 : decode cX2_sell 27 = .ok (.iload_n 1, 1) := dk_27 (dk_at dksX2_sell_1 3 rfl rfl)
theorem dX2_sell_28 : decode cX2_sell 28 = .ok (.invokestatic 66, 3) := dk_184 0 66 (dk_at dksX2_sell_1 4 rfl rfl)
theorem dX2_sell_31 : decode cX2_sell 31 = .ok (.iconst 3, 1) := dk_6 (dk_at dksX2_sell_1 7 rfl rfl)
theorem dX2_sell_32 : decode cX2_sell 32 = .ok (.iadd, 1) := dk_96 (dk_at dksX2_sell_1 8 rfl rfl)
theorem dX2_sell_33 : decode cX2_sell 33 = .ok (.iaload, 1) := dk_46 (dk_at dksX2_sell_1 9 rfl rfl)
theorem dX2_sell_34 : decode cX2_sell 34 = .ok (.iconst 1, 1) := dk_4 (dk_at dksX2_sell_1 10 rfl rfl)
theorem dX2_sell_35 : decode cX2_sell 35 = .ok (.if_icmp .ne 5, 3) := dk_160 0 5 (dk_at dksX2_sell_1 11 rfl rfl)
theorem dX2_sell_38 : decode cX2_sell 38 = .ok (.iconst (-1), 1) := dk_2 (dk_at dksX2_sell_1 14 rfl rfl)
theorem dX2_sell_39 : decode cX2_sell 39 = .ok (.ireturn, 1) := dk_172 (dk_at dksX2_sell_1 15 rfl rfl)
theorem dX2_sell_40 : decode cX2_sell 40 = .ok (.aload_n 0, 1) := dk_42 (dk_at dksX2_sell_1 16 rfl rfl)
theorem dX2_sell_41 : decode cX2_sell 41 = .ok (.invokevirtual 299, 3) := dk_182 1 43 (dk_at dksX2_sell_1 17 rfl rfl)
theorem dX2_sell_44 : decode cX2_sell 44 = .ok (.aload_n 0, 1) := dk_42 (dk_at dksX2_sell_1 20 rfl rfl)
theorem dX2_sell_45 : decode cX2_sell 45 = .ok (.getfield 7, 3) := dk_180 0 7 (dk_at dksX2_sell_1 21 rfl rfl)
theorem dX2_sell_48 : decode cX2_sell 48 = .ok (.iload_n 1, 1) := dk_27 (dk_at dksX2_sell_2 0 rfl rfl)
theorem dX2_sell_49 : decode cX2_sell 49 = .ok (.invokestatic 66, 3) := dk_184 0 66 (dk_at dksX2_sell_2 1 rfl rfl)
theorem dX2_sell_52 : decode cX2_sell 52 = .ok (.iconst 3, 1) := dk_6 (dk_at dksX2_sell_2 4 rfl rfl)
theorem dX2_sell_53 : decode cX2_sell 53 = .ok (.iadd, 1) := dk_96 (dk_at dksX2_sell_2 5 rfl rfl)
theorem dX2_sell_54 : decode cX2_sell 54 = .ok (.iconst 1, 1) := dk_4 (dk_at dksX2_sell_2 6 rfl rfl)
theorem dX2_sell_55 : decode cX2_sell 55 = .ok (.iastore, 1) := dk_79 (dk_at dksX2_sell_2 7 rfl rfl)
theorem dX2_sell_56 : decode cX2_sell 56 = .ok (.iconst 0, 1) := dk_3 (dk_at dksX2_sell_2 8 rfl rfl)
theorem dX2_sell_57 : decode cX2_sell 57 = .ok (.istore_n 2, 1) := dk_61 (dk_at dksX2_sell_2 9 rfl rfl)
theorem dX2_sell_58 : decode cX2_sell 58 = .ok (.iconst 0, 1) := dk_3 (dk_at dksX2_sell_2 10 rfl rfl)
theorem dX2_sell_59 : decode cX2_sell 59 = .ok (.istore_n 3, 1) := dk_62 (dk_at dksX2_sell_2 11 rfl rfl)
theorem dX2_sell_60 : decode cX2_sell 60 = .ok (.iload_n 3, 1) := dk_29 (dk_at dksX2_sell_2 12 rfl rfl)
theorem dX2_sell_61 : decode cX2_sell 61 = .ok (.aload_n 0, 1) := dk_42 (dk_at dksX2_sell_2 13 rfl rfl)
theorem dX2_sell_62 : decode cX2_sell 62 = .ok (.getfield 7, 3) := dk_180 0 7 (dk_at dksX2_sell_2 14 rfl rfl)
theorem dX2_sell_65 : decode cX2_sell 65 = .ok (.iconst 0, 1) := dk_3 (dk_at dksX2_sell_2 17 rfl rfl)
theorem dX2_sell_66 : decode cX2_sell 66 = .ok (.iaload, 1) := dk_46 (dk_at dksX2_sell_2 18 rfl rfl)
theorem dX2_sell_67 : decode cX2_sell 67 = .ok (.if_icmp .ge 43, 3) := dk_162 0 43 (dk_at dksX2_sell_2 19 rfl rfl)
theorem dX2_sell_70 : decode cX2_sell 70 = .ok (.aload_n 0, 1) := dk_42 (dk_at dksX2_sell_2 22 rfl rfl)
theorem dX2_sell_71 : decode cX2_sell 71 = .ok (.getfield 43, 3) := dk_180 0 43 (dk_at dksX2_sell_3 0 rfl rfl)
theorem dX2_sell_74 : decode cX2_sell 74 = .ok (.iload_n 3, 1) := dk_29 (dk_at dksX2_sell_3 3 rfl rfl)
theorem dX2_sell_75 : decode cX2_sell 75 = .ok (.aload_n 0, 1) := dk_42 (dk_at dksX2_sell_3 4 rfl rfl)
theorem dX2_sell_76 : decode cX2_sell 76 = .ok (.iload_n 1, 1) := dk_27 (dk_at dksX2_sell_3 5 rfl rfl)
theorem dX2_sell_77 : decode cX2_sell 77 = .ok (.iload_n 3, 1) := dk_29 (dk_at dksX2_sell_3 6 rfl rfl)
theorem dX2_sell_78 : decode cX2_sell 78 = .ok (.invokevirtual 280, 3) := dk_182 1 24 (dk_at dksX2_sell_3 7 rfl rfl)
theorem dX2_sell_81 : decode cX2_sell 81 = .ok (.ifCond .le 12, 3) := dk_158 0 12 (dk_at dksX2_sell_3 10 rfl rfl)
theorem dX2_sell_84 : decode cX2_sell 84 = .ok (.aload_n 0, 1) := dk_42 (dk_at dksX2_sell_3 13 rfl rfl)
theorem dX2_sell_85 : decode cX2_sell 85 = .ok (.iload_n 1, 1) := dk_27 (dk_at dksX2_sell_3 14 rfl rfl)
theorem dX2_sell_86 : decode cX2_sell 86 = .ok (.iload_n 3, 1) := dk_29 (dk_at dksX2_sell_3 15 rfl rfl)
theorem dX2_sell_87 : decode cX2_sell 87 = .ok (.invokevirtual 311, 3) := dk_182 1 55 (dk_at dksX2_sell_3 16 rfl rfl)
theorem dX2_sell_90 : decode cX2_sell 90 = .ok (.goto 4, 3) := dk_167 0 4 (dk_at dksX2_sell_3 19 rfl rfl)
theorem dX2_sell_93 : decode cX2_sell 93 = .ok (.iconst 0, 1) := dk_3 (dk_at dksX2_sell_3 22 rfl rfl)
theorem dX2_sell_94 : decode cX2_sell 94 = .ok (.iastore, 1) := dk_79 (dk_at dksX2_sell_3 23 rfl rfl)
theorem dX2_sell_95 : decode cX2_sell 95 = .ok (.iload_n 2, 1) := dk_28 (dk_at dksX2_sell_4 0 rfl rfl)
theorem dX2_sell_96 : decode cX2_sell 96 = .ok (.aload_n 0, 1) := dk_42 (dk_at dksX2_sell_4 1 rfl rfl)
theorem dX2_sell_97 : decode cX2_sell 97 = .ok (.getfield 43, 3) := dk_180 0 43 (dk_at dksX2_sell_4 2 rfl rfl)
theorem dX2_sell_100 : decode cX2_sell 100 = .ok (.iload_n 3, 1) := dk_29 (dk_at dksX2_sell_4 5 rfl rfl)
theorem dX2_sell_101 : decode cX2_sell 101 = .ok (.iaload, 1) := dk_46 (dk_at dksX2_sell_4 6 rfl rfl)
theorem dX2_sell_102 : decode cX2_sell 102 = .ok (.iadd, 1) := dk_96 (dk_at dksX2_sell_4 7 rfl rfl)
theorem dX2_sell_103 : decode cX2_sell 103 = .ok (.istore_n 2, 1) := dk_61 (dk_at dksX2_sell_4 8 rfl rfl)
theorem dX2_sell_104 : decode cX2_sell 104 = .ok (.iinc 3 1, 3) := dk_132 3 1 (dk_at dksX2_sell_4 9 rfl rfl)
theorem dX2_sell_107 : decode cX2_sell 107 = .ok (.goto (-47), 3) := dk_167 255 209 (dk_at dksX2_sell_4 12 rfl rfl)
theorem dX2_sell_110 : decode cX2_sell 110 = .ok (.iconst 0, 1) := dk_3 (dk_at dksX2_sell_4 15 rfl rfl)
theorem dX2_sell_111 : decode cX2_sell 111 = .ok (.istore_n 3, 1) := dk_62 (dk_at dksX2_sell_4 16 rfl rfl)
theorem dX2_sell_112 : decode cX2_sell 112 = .ok (.iconst 0, 1) := dk_3 (dk_at dksX2_sell_4 17 rfl rfl)
theorem dX2_sell_113 : decode cX2_sell 113 = .ok (.istore 4, 2) := dk_54 4 (dk_at dksX2_sell_4 18 rfl rfl)
theorem dX2_sell_115 : decode cX2_sell 115 = .ok (.iload 4, 2) := dk_21 4 (dk_at dksX2_sell_4 20 rfl rfl)
theorem dX2_sell_117 : decode cX2_sell 117 = .ok (.aload_n 0, 1) := dk_42 (dk_at dksX2_sell_4 22 rfl rfl)
theorem dX2_sell_118 : decode cX2_sell 118 = .ok (.getfield 7, 3) := dk_180 0 7 (dk_at dksX2_sell_5 0 rfl rfl)
theorem dX2_sell_121 : decode cX2_sell 121 = .ok (.iconst 0, 1) := dk_3 (dk_at dksX2_sell_5 3 rfl rfl)
theorem dX2_sell_122 : decode cX2_sell 122 = .ok (.iaload, 1) := dk_46 (dk_at dksX2_sell_5 4 rfl rfl)
theorem dX2_sell_123 : decode cX2_sell 123 = .ok (.if_icmp .ge 97, 3) := dk_162 0 97 (dk_at dksX2_sell_5 5 rfl rfl)
theorem dX2_sell_126 : decode cX2_sell 126 = .ok (.iload_n 2, 1) := dk_28 (dk_at dksX2_sell_5 8 rfl rfl)
theorem dX2_sell_127 : decode cX2_sell 127 = .ok (.ifCond .le 93, 3) := dk_158 0 93 (dk_at dksX2_sell_5 9 rfl rfl)
theorem dX2_sell_130 : decode cX2_sell 130 = .ok (.aload_n 0, 1) := dk_42 (dk_at dksX2_sell_5 12 rfl rfl)
theorem dX2_sell_131 : decode cX2_sell 131 = .ok (.getfield 7, 3) := dk_180 0 7 (dk_at dksX2_sell_5 13 rfl rfl)
theorem dX2_sell_134 : decode cX2_sell 134 = .ok (.bipush 40, 2) := dk_16 40 (dk_at dksX2_sell_5 16 rfl rfl)
theorem dX2_sell_136 : decode cX2_sell 136 = .ok (.iconst 3, 1) := dk_6 (dk_at dksX2_sell_5 18 rfl rfl)
theorem dX2_sell_137 : decode cX2_sell 137 = .ok (.aload_n 0, 1) := dk_42 (dk_at dksX2_sell_5 19 rfl rfl)
theorem dX2_sell_138 : decode cX2_sell 138 = .ok (.getfield 7, 3) := dk_180 0 7 (dk_at dksX2_sell_5 20 rfl rfl)
theorem dX2_sell_141 : decode cX2_sell 141 = .ok (.iload_n 1, 1) := dk_27 (dk_at dksX2_sell_5 23 rfl rfl)
theorem dX2_sell_142 : decode cX2_sell 142 = .ok (.invokestatic 66, 3) := dk_184 0 66 (dk_at dksX2_sell_6 0 rfl rfl)
theorem dX2_sell_145 : decode cX2_sell 145 = .ok (.iaload, 1) := dk_46 (dk_at dksX2_sell_6 3 rfl rfl)
theorem dX2_sell_146 : decode cX2_sell 146 = .ok (.imul, 1) := dk_104 (dk_at dksX2_sell_6 4 rfl rfl)
theorem dX2_sell_147 : decode cX2_sell 147 = .ok (.iadd, 1) := dk_96 (dk_at dksX2_sell_6 5 rfl rfl)
theorem dX2_sell_148 : decode cX2_sell 148 = .ok (.iconst 2, 1) := dk_5 (dk_at dksX2_sell_6 6 rfl rfl)
theorem dX2_sell_149 : decode cX2_sell 149 = .ok (.iadd, 1) := dk_96 (dk_at dksX2_sell_6 7 rfl rfl)
theorem dX2_sell_150 : decode cX2_sell 150 = .ok (.iaload, 1) := dk_46 (dk_at dksX2_sell_6 8 rfl rfl)
theorem dX2_sell_151 : decode cX2_sell 151 = .ok (.aload_n 0, 1) := dk_42 (dk_at dksX2_sell_6 9 rfl rfl)
theorem dX2_sell_152 : decode cX2_sell 152 = .ok (.getfield 43, 3) := dk_180 0 43 (dk_at dksX2_sell_6 10 rfl rfl)
theorem dX2_sell_155 : decode cX2_sell 155 = .ok (.iload 4, 2) := dk_21 4 (dk_at dksX2_sell_6 13 rfl rfl)
theorem dX2_sell_157 : decode cX2_sell 157 = .ok (.iaload, 1) := dk_46 (dk_at dksX2_sell_6 15 rfl rfl)
theorem dX2_sell_158 : decode cX2_sell 158 = .ok (.imul, 1) := dk_104 (dk_at dksX2_sell_6 16 rfl rfl)
theorem dX2_sell_159 : decode cX2_sell 159 = .ok (.iload_n 2, 1) := dk_28 (dk_at dksX2_sell_6 17 rfl rfl)
theorem dX2_sell_160 : decode cX2_sell 160 = .ok (.idiv, 1) := dk_108 (dk_at dksX2_sell_6 18 rfl rfl)
theorem dX2_sell_161 : decode cX2_sell 161 = .ok (.istore 5, 2) := dk_54 5 (dk_at dksX2_sell_6 19 rfl rfl)
theorem dX2_sell_163 : decode cX2_sell 163 = .ok (.aload_n 0, 1) := dk_42 (dk_at dksX2_sell_6 21 rfl rfl)
theorem dX2_sell_164 : decode cX2_sell 164 = .ok (.iload 4, 2) := dk_21 4 (dk_at dksX2_sell_6 22 rfl rfl)
theorem dX2_sell_166 : decode cX2_sell 166 = .ok (.iconst 2, 1) := dk_5 (dk_at dksX2_sell_7 0 rfl rfl)
theorem dX2_sell_167 : decode cX2_sell 167 = .ok (.invokevirtual 74, 3) := dk_182 0 74 (dk_at dksX2_sell_7 1 rfl rfl)
theorem dX2_sell_170 : decode cX2_sell 170 = .ok (.iload 5, 2) := dk_21 5 (dk_at dksX2_sell_7 4 rfl rfl)
theorem dX2_sell_172 : decode cX2_sell 172 = .ok (.iadd, 1) := dk_96 (dk_at dksX2_sell_7 6 rfl rfl)
theorem dX2_sell_173 : decode cX2_sell 173 = .ok (.sipush 999, 3) := dk_17 3 231 (dk_at dksX2_sell_7 7 rfl rfl)
theorem dX2_sell_176 : decode cX2_sell 176 = .ok (.if_icmp .le 16, 3) := dk_164 0 16 (dk_at dksX2_sell_7 10 rfl rfl)
theorem dX2_sell_179 : decode cX2_sell 179 = .ok (.sipush 999, 3) := dk_17 3 231 (dk_at dksX2_sell_7 13 rfl rfl)
theorem dX2_sell_182 : decode cX2_sell 182 = .ok (.aload_n 0, 1) := dk_42 (dk_at dksX2_sell_7 16 rfl rfl)
theorem dX2_sell_183 : decode cX2_sell 183 = .ok (.iload 4, 2) := dk_21 4 (dk_at dksX2_sell_7 17 rfl rfl)
theorem dX2_sell_185 : decode cX2_sell 185 = .ok (.iconst 2, 1) := dk_5 (dk_at dksX2_sell_7 19 rfl rfl)
theorem dX2_sell_186 : decode cX2_sell 186 = .ok (.invokevirtual 74, 3) := dk_182 0 74 (dk_at dksX2_sell_7 20 rfl rfl)
theorem dX2_sell_189 : decode cX2_sell 189 = .ok (.isub, 1) := dk_100 (dk_at dksX2_sell_7 23 rfl rfl)
theorem dX2_sell_190 : decode cX2_sell 190 = .ok (.istore 5, 2) := dk_54 5 (dk_at dksX2_sell_8 0 rfl rfl)
theorem dX2_sell_192 : decode cX2_sell 192 = .ok (.aload_n 0, 1) := dk_42 (dk_at dksX2_sell_8 2 rfl rfl)
theorem dX2_sell_193 : decode cX2_sell 193 = .ok (.iload 4, 2) := dk_21 4 (dk_at dksX2_sell_8 3 rfl rfl)
theorem dX2_sell_195 : decode cX2_sell 195 = .ok (.iconst 2, 1) := dk_5 (dk_at dksX2_sell_8 5 rfl rfl)
theorem dX2_sell_196 : decode cX2_sell 196 = .ok (.aload_n 0, 1) := dk_42 (dk_at dksX2_sell_8 6 rfl rfl)
theorem dX2_sell_197 : decode cX2_sell 197 = .ok (.iload 4, 2) := dk_21 4 (dk_at dksX2_sell_8 7 rfl rfl)
theorem dX2_sell_199 : decode cX2_sell 199 = .ok (.iconst 2, 1) := dk_5 (dk_at dksX2_sell_8 9 rfl rfl)
theorem dX2_sell_200 : decode cX2_sell 200 = .ok (.invokevirtual 74, 3) := dk_182 0 74 (dk_at dksX2_sell_8 10 rfl rfl)
theorem dX2_sell_203 : decode cX2_sell 203 = .ok (.iload 5, 2) := dk_21 5 (dk_at dksX2_sell_8 13 rfl rfl)
theorem dX2_sell_205 : decode cX2_sell 205 = .ok (.iadd, 1) := dk_96 (dk_at dksX2_sell_8 15 rfl rfl)
theorem dX2_sell_206 : decode cX2_sell 206 = .ok (.invokevirtual 70, 3) := dk_182 0 70 (dk_at dksX2_sell_8 16 rfl rfl)
theorem dX2_sell_209 : decode cX2_sell 209 = .ok (.iload_n 3, 1) := dk_29 (dk_at dksX2_sell_8 19 rfl rfl)
theorem dX2_sell_210 : decode cX2_sell 210 = .ok (.iload 5, 2) := dk_21 5 (dk_at dksX2_sell_8 20 rfl rfl)
theorem dX2_sell_212 : decode cX2_sell 212 = .ok (.iadd, 1) := dk_96 (dk_at dksX2_sell_8 22 rfl rfl)
theorem dX2_sell_213 : decode cX2_sell 213 = .ok (.istore_n 3, 1) := dk_62 (dk_at dksX2_sell_8 23 rfl rfl)
theorem dX2_sell_214 : decode cX2_sell 214 = .ok (.iinc 4 1, 3) := dk_132 4 1 (dk_at dksX2_sell_9 0 rfl rfl)
theorem dX2_sell_217 : decode cX2_sell 217 = .ok (.goto (-102), 3) := dk_167 255 154 (dk_at dksX2_sell_9 3 rfl rfl)
theorem dX2_sell_220 : decode cX2_sell 220 = .ok (.iload_n 3, 1) := dk_29 (dk_at dksX2_sell_9 6 rfl rfl)
theorem dX2_sell_221 : decode cX2_sell 221 = .ok (.ireturn, 1) := dk_172 (dk_at dksX2_sell_9 7 rfl rfl)
abbrev cX2_shareOf : ByteArray := prog_18_method_67_code
def yX2_shareOf : MethodName := ⟨RX2, "shareOf", "(II)I"⟩
def dkwX2_shareOf_2 : List UInt8 := [182, 1, 15, 172]
abbrev dktX2_shareOf_2 : List UInt8 := dkwX2_shareOf_2 ++ []
def dkwX2_shareOf_1 : List UInt8 := [42, 180, 0, 32, 16, 8, 42, 27, 28, 182, 1, 24, 79, 42, 6, 16, 99, 42, 180, 0, 32, 16, 8, 46]
abbrev dktX2_shareOf_1 : List UInt8 := dkwX2_shareOf_1 ++ dktX2_shareOf_2
def dkwX2_shareOf_0 : List UInt8 := [42, 28, 42, 180, 0, 7, 6, 46, 182, 1, 18, 42, 42, 180, 0, 7, 27, 184, 0, 66, 46, 182, 1, 21]
abbrev dktX2_shareOf_0 : List UInt8 := dkwX2_shareOf_0 ++ dktX2_shareOf_1
theorem dksX2_shareOf_0 : cX2_shareOf.data.toList.drop 0 = dktX2_shareOf_0 := by decide +kernel
theorem dksX2_shareOf_1 : cX2_shareOf.data.toList.drop 24 = dktX2_shareOf_1 := dk_seg dksX2_shareOf_0 24 rfl rfl
theorem dksX2_shareOf_2 : cX2_shareOf.data.toList.drop 48 = dktX2_shareOf_2 := dk_seg dksX2_shareOf_1 24 rfl rfl
theorem dX2_shareOf_0 : decode cX2_shareOf 0 = .ok (.aload_n 0, 1) := dk_42 (dk_at dksX2_shareOf_0 0 rfl rfl)
theorem dX2_shareOf_1 : decode cX2_shareOf 1 = .ok (.iload_n 2, 1) := dk_28 (dk_at dksX2_shareOf_0 1 rfl rfl)
theorem dX2_shareOf_2 : decode cX2_shareOf 2 = .ok (.aload_n 0, 1) := dk_42 (dk_at dksX2_shareOf_0 2 rfl rfl)
theorem dX2_shareOf_3 : decode cX2_shareOf 3 = .ok (.getfield 7, 3) := dk_180 0 7 (dk_at dksX2_shareOf_0 3 rfl rfl)
theorem dX2_shareOf_6 : decode cX2_shareOf 6 = .ok (.iconst 3, 1) := dk_6 (dk_at dksX2_shareOf_0 6 rfl rfl)
theorem dX2_shareOf_7 : decode cX2_shareOf 7 = .ok (.iaload, 1) := dk_46 (dk_at dksX2_shareOf_0 7 rfl rfl)
theorem dX2_shareOf_8 : decode cX2_shareOf 8 = .ok (.invokevirtual 274, 3) := dk_182 1 18 (dk_at dksX2_shareOf_0 8 rfl rfl)
theorem dX2_shareOf_11 : decode cX2_shareOf 11 = .ok (.aload_n 0, 1) := dk_42 (dk_at dksX2_shareOf_0 11 rfl rfl)
theorem dX2_shareOf_12 : decode cX2_shareOf 12 = .ok (.aload_n 0, 1) := dk_42 (dk_at dksX2_shareOf_0 12 rfl rfl)
theorem dX2_shareOf_13 : decode cX2_shareOf 13 = .ok (.getfield 7, 3) := dk_180 0 7 (dk_at dksX2_shareOf_0 13 rfl rfl)
theorem dX2_shareOf_16 : decode cX2_shareOf 16 = .ok (.iload_n 1, 1) := dk_27 (dk_at dksX2_shareOf_0 16 rfl rfl)
theorem dX2_shareOf_17 : decode cX2_shareOf 17 = .ok (.invokestatic 66, 3) := dk_184 0 66 (dk_at dksX2_shareOf_0 17 rfl rfl)
theorem dX2_shareOf_20 : decode cX2_shareOf 20 = .ok (.iaload, 1) := dk_46 (dk_at dksX2_shareOf_0 20 rfl rfl)
theorem dX2_shareOf_21 : decode cX2_shareOf 21 = .ok (.invokevirtual 277, 3) := dk_182 1 21 (dk_at dksX2_shareOf_0 21 rfl rfl)
theorem dX2_shareOf_24 : decode cX2_shareOf 24 = .ok (.aload_n 0, 1) := dk_42 (dk_at dksX2_shareOf_1 0 rfl rfl)
theorem dX2_shareOf_25 : decode cX2_shareOf 25 = .ok (.getfield 32, 3) := dk_180 0 32 (dk_at dksX2_shareOf_1 1 rfl rfl)
theorem dX2_shareOf_28 : decode cX2_shareOf 28 = .ok (.bipush 8, 2) := dk_16 8 (dk_at dksX2_shareOf_1 4 rfl rfl)
theorem dX2_shareOf_30 : decode cX2_shareOf 30 = .ok (.aload_n 0, 1) := dk_42 (dk_at dksX2_shareOf_1 6 rfl rfl)
theorem dX2_shareOf_31 : decode cX2_shareOf 31 = .ok (.iload_n 1, 1) := dk_27 (dk_at dksX2_shareOf_1 7 rfl rfl)
theorem dX2_shareOf_32 : decode cX2_shareOf 32 = .ok (.iload_n 2, 1) := dk_28 (dk_at dksX2_shareOf_1 8 rfl rfl)
theorem dX2_shareOf_33 : decode cX2_shareOf 33 = .ok (.invokevirtual 280, 3) := dk_182 1 24 (dk_at dksX2_shareOf_1 9 rfl rfl)
theorem dX2_shareOf_36 : decode cX2_shareOf 36 = .ok (.iastore, 1) := dk_79 (dk_at dksX2_shareOf_1 12 rfl rfl)
theorem dX2_shareOf_37 : decode cX2_shareOf 37 = .ok (.aload_n 0, 1) := dk_42 (dk_at dksX2_shareOf_1 13 rfl rfl)
theorem dX2_shareOf_38 : decode cX2_shareOf 38 = .ok (.iconst 3, 1) := dk_6 (dk_at dksX2_shareOf_1 14 rfl rfl)
theorem dX2_shareOf_39 : decode cX2_shareOf 39 = .ok (.bipush 99, 2) := dk_16 99 (dk_at dksX2_shareOf_1 15 rfl rfl)
theorem dX2_shareOf_41 : decode cX2_shareOf 41 = .ok (.aload_n 0, 1) := dk_42 (dk_at dksX2_shareOf_1 17 rfl rfl)
theorem dX2_shareOf_42 : decode cX2_shareOf 42 = .ok (.getfield 32, 3) := dk_180 0 32 (dk_at dksX2_shareOf_1 18 rfl rfl)
theorem dX2_shareOf_45 : decode cX2_shareOf 45 = .ok (.bipush 8, 2) := dk_16 8 (dk_at dksX2_shareOf_1 21 rfl rfl)
theorem dX2_shareOf_47 : decode cX2_shareOf 47 = .ok (.iaload, 1) := dk_46 (dk_at dksX2_shareOf_1 23 rfl rfl)
theorem dX2_shareOf_48 : decode cX2_shareOf 48 = .ok (.invokevirtual 271, 3) := dk_182 1 15 (dk_at dksX2_shareOf_2 0 rfl rfl)
theorem dX2_shareOf_51 : decode cX2_shareOf 51 = .ok (.ireturn, 1) := dk_172 (dk_at dksX2_shareOf_2 3 rfl rfl)
abbrev cX2_nameKind : ByteArray := prog_18_method_66_code
def yX2_nameKind : MethodName := ⟨RX2, "nameKind", "(I)V"⟩
def dkwX2_nameKind_1 : List UInt8 := [79, 42, 180, 0, 32, 16, 7, 42, 180, 0, 7, 16, 40, 6, 27, 104, 96, 5, 96, 46, 79, 177]
abbrev dktX2_nameKind_1 : List UInt8 := dkwX2_nameKind_1 ++ []
def dkwX2_nameKind_0 : List UInt8 := [42, 180, 0, 32, 8, 27, 79, 42, 180, 0, 32, 16, 6, 42, 180, 0, 7, 16, 40, 6, 27, 104, 96, 46]
abbrev dktX2_nameKind_0 : List UInt8 := dkwX2_nameKind_0 ++ dktX2_nameKind_1
theorem dksX2_nameKind_0 : cX2_nameKind.data.toList.drop 0 = dktX2_nameKind_0 := by decide +kernel
theorem dksX2_nameKind_1 : cX2_nameKind.data.toList.drop 24 = dktX2_nameKind_1 := dk_seg dksX2_nameKind_0 24 rfl rfl
theorem dX2_nameKind_0 : decode cX2_nameKind 0 = .ok (.aload_n 0, 1) := dk_42 (dk_at dksX2_nameKind_0 0 rfl rfl)
theorem dX2_nameKind_1 : decode cX2_nameKind 1 = .ok (.getfield 32, 3) := dk_180 0 32 (dk_at dksX2_nameKind_0 1 rfl rfl)
theorem dX2_nameKind_4 : decode cX2_nameKind 4 = .ok (.iconst 5, 1) := dk_8 (dk_at dksX2_nameKind_0 4 rfl rfl)
theorem dX2_nameKind_5 : decode cX2_nameKind 5 = .ok (.iload_n 1, 1) := dk_27 (dk_at dksX2_nameKind_0 5 rfl rfl)
theorem dX2_nameKind_6 : decode cX2_nameKind 6 = .ok (.iastore, 1) := dk_79 (dk_at dksX2_nameKind_0 6 rfl rfl)
theorem dX2_nameKind_7 : decode cX2_nameKind 7 = .ok (.aload_n 0, 1) := dk_42 (dk_at dksX2_nameKind_0 7 rfl rfl)
theorem dX2_nameKind_8 : decode cX2_nameKind 8 = .ok (.getfield 32, 3) := dk_180 0 32 (dk_at dksX2_nameKind_0 8 rfl rfl)
theorem dX2_nameKind_11 : decode cX2_nameKind 11 = .ok (.bipush 6, 2) := dk_16 6 (dk_at dksX2_nameKind_0 11 rfl rfl)
theorem dX2_nameKind_13 : decode cX2_nameKind 13 = .ok (.aload_n 0, 1) := dk_42 (dk_at dksX2_nameKind_0 13 rfl rfl)
theorem dX2_nameKind_14 : decode cX2_nameKind 14 = .ok (.getfield 7, 3) := dk_180 0 7 (dk_at dksX2_nameKind_0 14 rfl rfl)
theorem dX2_nameKind_17 : decode cX2_nameKind 17 = .ok (.bipush 40, 2) := dk_16 40 (dk_at dksX2_nameKind_0 17 rfl rfl)
theorem dX2_nameKind_19 : decode cX2_nameKind 19 = .ok (.iconst 3, 1) := dk_6 (dk_at dksX2_nameKind_0 19 rfl rfl)
theorem dX2_nameKind_20 : decode cX2_nameKind 20 = .ok (.iload_n 1, 1) := dk_27 (dk_at dksX2_nameKind_0 20 rfl rfl)
theorem dX2_nameKind_21 : decode cX2_nameKind 21 = .ok (.imul, 1) := dk_104 (dk_at dksX2_nameKind_0 21 rfl rfl)
theorem dX2_nameKind_22 : decode cX2_nameKind 22 = .ok (.iadd, 1) := dk_96 (dk_at dksX2_nameKind_0 22 rfl rfl)
theorem dX2_nameKind_23 : decode cX2_nameKind 23 = .ok (.iaload, 1) := dk_46 (dk_at dksX2_nameKind_0 23 rfl rfl)
theorem dX2_nameKind_24 : decode cX2_nameKind 24 = .ok (.iastore, 1) := dk_79 (dk_at dksX2_nameKind_1 0 rfl rfl)
theorem dX2_nameKind_25 : decode cX2_nameKind 25 = .ok (.aload_n 0, 1) := dk_42 (dk_at dksX2_nameKind_1 1 rfl rfl)
theorem dX2_nameKind_26 : decode cX2_nameKind 26 = .ok (.getfield 32, 3) := dk_180 0 32 (dk_at dksX2_nameKind_1 2 rfl rfl)
theorem dX2_nameKind_29 : decode cX2_nameKind 29 = .ok (.bipush 7, 2) := dk_16 7 (dk_at dksX2_nameKind_1 5 rfl rfl)
theorem dX2_nameKind_31 : decode cX2_nameKind 31 = .ok (.aload_n 0, 1) := dk_42 (dk_at dksX2_nameKind_1 7 rfl rfl)
theorem dX2_nameKind_32 : decode cX2_nameKind 32 = .ok (.getfield 7, 3) := dk_180 0 7 (dk_at dksX2_nameKind_1 8 rfl rfl)
theorem dX2_nameKind_35 : decode cX2_nameKind 35 = .ok (.bipush 40, 2) := dk_16 40 (dk_at dksX2_nameKind_1 11 rfl rfl)
theorem dX2_nameKind_37 : decode cX2_nameKind 37 = .ok (.iconst 3, 1) := dk_6 (dk_at dksX2_nameKind_1 13 rfl rfl)
theorem dX2_nameKind_38 : decode cX2_nameKind 38 = .ok (.iload_n 1, 1) := dk_27 (dk_at dksX2_nameKind_1 14 rfl rfl)
theorem dX2_nameKind_39 : decode cX2_nameKind 39 = .ok (.imul, 1) := dk_104 (dk_at dksX2_nameKind_1 15 rfl rfl)
theorem dX2_nameKind_40 : decode cX2_nameKind 40 = .ok (.iadd, 1) := dk_96 (dk_at dksX2_nameKind_1 16 rfl rfl)
theorem dX2_nameKind_41 : decode cX2_nameKind 41 = .ok (.iconst 2, 1) := dk_5 (dk_at dksX2_nameKind_1 17 rfl rfl)
theorem dX2_nameKind_42 : decode cX2_nameKind 42 = .ok (.iadd, 1) := dk_96 (dk_at dksX2_nameKind_1 18 rfl rfl)
theorem dX2_nameKind_43 : decode cX2_nameKind 43 = .ok (.iaload, 1) := dk_46 (dk_at dksX2_nameKind_1 19 rfl rfl)
theorem dX2_nameKind_44 : decode cX2_nameKind 44 = .ok (.iastore, 1) := dk_79 (dk_at dksX2_nameKind_1 20 rfl rfl)
theorem dX2_nameKind_45 : decode cX2_nameKind 45 = .ok (.return_, 1) := dk_177 (dk_at dksX2_nameKind_1 21 rfl rfl)
abbrev cX2_played : ByteArray := prog_18_method_80_code
def yX2_played : MethodName := ⟨RX2, "played", "(I)I"⟩
def dkwX2_played_2 : List UInt8 := [182, 1, 67, 154, 0, 5, 28, 172, 132, 2, 1, 167, 255, 219, 2, 172]
abbrev dktX2_played_2 : List UInt8 := dkwX2_played_2 ++ []
def dkwX2_played_1 : List UInt8 := [180, 0, 16, 17, 2, 168, 27, 104, 46, 162, 0, 29, 42, 17, 2, 168, 27, 104, 4, 96, 6, 28, 104, 96]
abbrev dktX2_played_1 : List UInt8 := dkwX2_played_1 ++ dktX2_played_2
def dkwX2_played_0 : List UInt8 := [27, 3, 42, 180, 0, 7, 7, 46, 4, 100, 184, 0, 62, 154, 0, 6, 16, 254, 172, 3, 61, 28, 42]
abbrev dktX2_played_0 : List UInt8 := dkwX2_played_0 ++ dktX2_played_1
theorem dksX2_played_0 : cX2_played.data.toList.drop 0 = dktX2_played_0 := by decide +kernel
theorem dksX2_played_1 : cX2_played.data.toList.drop 23 = dktX2_played_1 := dk_seg dksX2_played_0 23 rfl rfl
theorem dksX2_played_2 : cX2_played.data.toList.drop 47 = dktX2_played_2 := dk_seg dksX2_played_1 24 rfl rfl
theorem dX2_played_0 : decode cX2_played 0 = .ok (.iload_n 1, 1) := dk_27 (dk_at dksX2_played_0 0 rfl rfl)
theorem dX2_played_1 : decode cX2_played 1 = .ok (.iconst 0, 1) := dk_3 (dk_at dksX2_played_0 1 rfl rfl)
theorem dX2_played_2 : decode cX2_played 2 = .ok (.aload_n 0, 1) := dk_42 (dk_at dksX2_played_0 2 rfl rfl)
theorem dX2_played_3 : decode cX2_played 3 = .ok (.getfield 7, 3) := dk_180 0 7 (dk_at dksX2_played_0 3 rfl rfl)
theorem dX2_played_6 : decode cX2_played 6 = .ok (.iconst 4, 1) := dk_7 (dk_at dksX2_played_0 6 rfl rfl)
theorem dX2_played_7 : decode cX2_played 7 = .ok (.iaload, 1) := dk_46 (dk_at dksX2_played_0 7 rfl rfl)
theorem dX2_played_8 : decode cX2_played 8 = .ok (.iconst 1, 1) := dk_4 (dk_at dksX2_played_0 8 rfl rfl)
theorem dX2_played_9 : decode cX2_played 9 = .ok (.isub, 1) := dk_100 (dk_at dksX2_played_0 9 rfl rfl)
theorem dX2_played_10 : decode cX2_played 10 = .ok (.invokestatic 62, 3) := dk_184 0 62 (dk_at dksX2_played_0 10 rfl rfl)
theorem dX2_played_13 : decode cX2_played 13 = .ok (.ifCond .ne 6, 3) := dk_154 0 6 (dk_at dksX2_played_0 13 rfl rfl)
theorem dX2_played_16 : decode cX2_played 16 = .ok (.bipush (-2), 2) := dk_16 254 (dk_at dksX2_played_0 16 rfl rfl)
theorem dX2_played_18 : decode cX2_played 18 = .ok (.ireturn, 1) := dk_172 (dk_at dksX2_played_0 18 rfl rfl)
theorem dX2_played_19 : decode cX2_played 19 = .ok (.iconst 0, 1) := dk_3 (dk_at dksX2_played_0 19 rfl rfl)
theorem dX2_played_20 : decode cX2_played 20 = .ok (.istore_n 2, 1) := dk_61 (dk_at dksX2_played_0 20 rfl rfl)
theorem dX2_played_21 : decode cX2_played 21 = .ok (.iload_n 2, 1) := dk_28 (dk_at dksX2_played_0 21 rfl rfl)
theorem dX2_played_22 : decode cX2_played 22 = .ok (.aload_n 0, 1) := dk_42 (dk_at dksX2_played_0 22 rfl rfl)
theorem dX2_played_23 : decode cX2_played 23 = .ok (.getfield 16, 3) := dk_180 0 16 (dk_at dksX2_played_1 0 rfl rfl)
theorem dX2_played_26 : decode cX2_played 26 = .ok (.sipush 680, 3) := dk_17 2 168 (dk_at dksX2_played_1 3 rfl rfl)
theorem dX2_played_29 : decode cX2_played 29 = .ok (.iload_n 1, 1) := dk_27 (dk_at dksX2_played_1 6 rfl rfl)
theorem dX2_played_30 : decode cX2_played 30 = .ok (.imul, 1) := dk_104 (dk_at dksX2_played_1 7 rfl rfl)
theorem dX2_played_31 : decode cX2_played 31 = .ok (.iaload, 1) := dk_46 (dk_at dksX2_played_1 8 rfl rfl)
theorem dX2_played_32 : decode cX2_played 32 = .ok (.if_icmp .ge 29, 3) := dk_162 0 29 (dk_at dksX2_played_1 9 rfl rfl)
theorem dX2_played_35 : decode cX2_played 35 = .ok (.aload_n 0, 1) := dk_42 (dk_at dksX2_played_1 12 rfl rfl)
theorem dX2_played_36 : decode cX2_played 36 = .ok (.sipush 680, 3) := dk_17 2 168 (dk_at dksX2_played_1 13 rfl rfl)
theorem dX2_played_39 : decode cX2_played 39 = .ok (.iload_n 1, 1) := dk_27 (dk_at dksX2_played_1 16 rfl rfl)
theorem dX2_played_40 : decode cX2_played 40 = .ok (.imul, 1) := dk_104 (dk_at dksX2_played_1 17 rfl rfl)
theorem dX2_played_41 : decode cX2_played 41 = .ok (.iconst 1, 1) := dk_4 (dk_at dksX2_played_1 18 rfl rfl)
theorem dX2_played_42 : decode cX2_played 42 = .ok (.iadd, 1) := dk_96 (dk_at dksX2_played_1 19 rfl rfl)
theorem dX2_played_43 : decode cX2_played 43 = .ok (.iconst 3, 1) := dk_6 (dk_at dksX2_played_1 20 rfl rfl)
theorem dX2_played_44 : decode cX2_played 44 = .ok (.iload_n 2, 1) := dk_28 (dk_at dksX2_played_1 21 rfl rfl)
theorem dX2_played_45 : decode cX2_played 45 = .ok (.imul, 1) := dk_104 (dk_at dksX2_played_1 22 rfl rfl)
theorem dX2_played_46 : decode cX2_played 46 = .ok (.iadd, 1) := dk_96 (dk_at dksX2_played_1 23 rfl rfl)
theorem dX2_played_47 : decode cX2_played 47 = .ok (.invokevirtual 323, 3) := dk_182 1 67 (dk_at dksX2_played_2 0 rfl rfl)
theorem dX2_played_50 : decode cX2_played 50 = .ok (.ifCond .ne 5, 3) := dk_154 0 5 (dk_at dksX2_played_2 3 rfl rfl)
theorem dX2_played_53 : decode cX2_played 53 = .ok (.iload_n 2, 1) := dk_28 (dk_at dksX2_played_2 6 rfl rfl)
theorem dX2_played_54 : decode cX2_played 54 = .ok (.ireturn, 1) := dk_172 (dk_at dksX2_played_2 7 rfl rfl)
theorem dX2_played_55 : decode cX2_played 55 = .ok (.iinc 2 1, 3) := dk_132 2 1 (dk_at dksX2_played_2 8 rfl rfl)
theorem dX2_played_58 : decode cX2_played 58 = .ok (.goto (-37), 3) := dk_167 255 219 (dk_at dksX2_played_2 11 rfl rfl)
theorem dX2_played_61 : decode cX2_played 61 = .ok (.iconst (-1), 1) := dk_2 (dk_at dksX2_played_2 14 rfl rfl)
theorem dX2_played_62 : decode cX2_played 62 = .ok (.ireturn, 1) := dk_172 (dk_at dksX2_played_2 15 rfl rfl)
abbrev cX2_isPlayed : ByteArray := prog_18_method_79_code
def yX2_isPlayed : MethodName := ⟨RX2, "isPlayed", "(I)Z"⟩
def dkwX2_isPlayed_5 : List UInt8 := [96, 46, 182, 1, 64, 155, 0, 7, 4, 167, 0, 4, 3, 172, 4, 172]
abbrev dktX2_isPlayed_5 : List UInt8 := dkwX2_isPlayed_5 ++ []
def dkwX2_isPlayed_4 : List UInt8 := [96, 46, 16, 10, 112, 182, 1, 61, 155, 0, 7, 4, 167, 0, 4, 3, 172, 42, 42, 180, 0, 16, 27, 4]
abbrev dktX2_isPlayed_4 : List UInt8 := dkwX2_isPlayed_4 ++ dktX2_isPlayed_5
def dkwX2_isPlayed_3 : List UInt8 := [180, 0, 16, 27, 4, 96, 46, 42, 180, 0, 16, 27, 5, 96, 46, 16, 10, 108, 42, 180, 0, 16, 27, 5]
abbrev dktX2_isPlayed_3 : List UInt8 := dkwX2_isPlayed_3 ++ dktX2_isPlayed_4
def dkwX2_isPlayed_2 : List UInt8 := [42, 42, 180, 0, 16, 27, 4, 96, 46, 182, 1, 58, 155, 0, 7, 4, 167, 0, 4, 3, 172, 42, 42]
abbrev dktX2_isPlayed_2 : List UInt8 := dkwX2_isPlayed_2 ++ dktX2_isPlayed_3
def dkwX2_isPlayed_1 : List UInt8 := [170, 0, 0, 0, 0, 111, 0, 0, 0, 4, 0, 0, 0, 6, 0, 0, 0, 26, 0, 0, 0, 47, 0, 0, 0, 90]
abbrev dktX2_isPlayed_1 : List UInt8 := dkwX2_isPlayed_1 ++ dktX2_isPlayed_2
def dkwX2_isPlayed_0 : List UInt8 := [42, 180, 0, 16, 27, 46]
abbrev dktX2_isPlayed_0 : List UInt8 := dkwX2_isPlayed_0 ++ dktX2_isPlayed_1
theorem dksX2_isPlayed_0 : cX2_isPlayed.data.toList.drop 0 = dktX2_isPlayed_0 := by decide +kernel
theorem dksX2_isPlayed_1 : cX2_isPlayed.data.toList.drop 6 = dktX2_isPlayed_1 := dk_seg dksX2_isPlayed_0 6 rfl rfl
theorem dksX2_isPlayed_2 : cX2_isPlayed.data.toList.drop 32 = dktX2_isPlayed_2 := dk_seg dksX2_isPlayed_1 26 rfl rfl
theorem dksX2_isPlayed_3 : cX2_isPlayed.data.toList.drop 55 = dktX2_isPlayed_3 := dk_seg dksX2_isPlayed_2 23 rfl rfl
theorem dksX2_isPlayed_4 : cX2_isPlayed.data.toList.drop 79 = dktX2_isPlayed_4 := dk_seg dksX2_isPlayed_3 24 rfl rfl
theorem dksX2_isPlayed_5 : cX2_isPlayed.data.toList.drop 103 = dktX2_isPlayed_5 := dk_seg dksX2_isPlayed_4 24 rfl rfl
theorem dX2_isPlayed_0 : decode cX2_isPlayed 0 = .ok (.aload_n 0, 1) := dk_42 (dk_at dksX2_isPlayed_0 0 rfl rfl)
theorem dX2_isPlayed_1 : decode cX2_isPlayed 1 = .ok (.getfield 16, 3) := dk_180 0 16 (dk_at dksX2_isPlayed_0 1 rfl rfl)
theorem dX2_isPlayed_4 : decode cX2_isPlayed 4 = .ok (.iload_n 1, 1) := dk_27 (dk_at dksX2_isPlayed_0 4 rfl rfl)
theorem dX2_isPlayed_5 : decode cX2_isPlayed 5 = .ok (.iaload, 1) := dk_46 (dk_at dksX2_isPlayed_0 5 rfl rfl)
theorem dX2_isPlayed_6 : decode cX2_isPlayed 6 = .ok (.tableswitch 111 4 6 #[26, 47, 90], 26) := by decide +kernel
theorem dX2_isPlayed_32 : decode cX2_isPlayed 32 = .ok (.aload_n 0, 1) := dk_42 (dk_at dksX2_isPlayed_2 0 rfl rfl)
theorem dX2_isPlayed_33 : decode cX2_isPlayed 33 = .ok (.aload_n 0, 1) := dk_42 (dk_at dksX2_isPlayed_2 1 rfl rfl)
theorem dX2_isPlayed_34 : decode cX2_isPlayed 34 = .ok (.getfield 16, 3) := dk_180 0 16 (dk_at dksX2_isPlayed_2 2 rfl rfl)
theorem dX2_isPlayed_37 : decode cX2_isPlayed 37 = .ok (.iload_n 1, 1) := dk_27 (dk_at dksX2_isPlayed_2 5 rfl rfl)
theorem dX2_isPlayed_38 : decode cX2_isPlayed 38 = .ok (.iconst 1, 1) := dk_4 (dk_at dksX2_isPlayed_2 6 rfl rfl)
theorem dX2_isPlayed_39 : decode cX2_isPlayed 39 = .ok (.iadd, 1) := dk_96 (dk_at dksX2_isPlayed_2 7 rfl rfl)
theorem dX2_isPlayed_40 : decode cX2_isPlayed 40 = .ok (.iaload, 1) := dk_46 (dk_at dksX2_isPlayed_2 8 rfl rfl)
theorem dX2_isPlayed_41 : decode cX2_isPlayed 41 = .ok (.invokevirtual 314, 3) := dk_182 1 58 (dk_at dksX2_isPlayed_2 9 rfl rfl)
theorem dX2_isPlayed_44 : decode cX2_isPlayed 44 = .ok (.ifCond .lt 7, 3) := dk_155 0 7 (dk_at dksX2_isPlayed_2 12 rfl rfl)
theorem dX2_isPlayed_47 : decode cX2_isPlayed 47 = .ok (.iconst 1, 1) := dk_4 (dk_at dksX2_isPlayed_2 15 rfl rfl)
theorem dX2_isPlayed_48 : decode cX2_isPlayed 48 = .ok (.goto 4, 3) := dk_167 0 4 (dk_at dksX2_isPlayed_2 16 rfl rfl)
theorem dX2_isPlayed_51 : decode cX2_isPlayed 51 = .ok (.iconst 0, 1) := dk_3 (dk_at dksX2_isPlayed_2 19 rfl rfl)
theorem dX2_isPlayed_52 : decode cX2_isPlayed 52 = .ok (.ireturn, 1) := dk_172 (dk_at dksX2_isPlayed_2 20 rfl rfl)
theorem dX2_isPlayed_53 : decode cX2_isPlayed 53 = .ok (.aload_n 0, 1) := dk_42 (dk_at dksX2_isPlayed_2 21 rfl rfl)
theorem dX2_isPlayed_54 : decode cX2_isPlayed 54 = .ok (.aload_n 0, 1) := dk_42 (dk_at dksX2_isPlayed_2 22 rfl rfl)
theorem dX2_isPlayed_55 : decode cX2_isPlayed 55 = .ok (.getfield 16, 3) := dk_180 0 16 (dk_at dksX2_isPlayed_3 0 rfl rfl)
theorem dX2_isPlayed_58 : decode cX2_isPlayed 58 = .ok (.iload_n 1, 1) := dk_27 (dk_at dksX2_isPlayed_3 3 rfl rfl)
theorem dX2_isPlayed_59 : decode cX2_isPlayed 59 = .ok (.iconst 1, 1) := dk_4 (dk_at dksX2_isPlayed_3 4 rfl rfl)
theorem dX2_isPlayed_60 : decode cX2_isPlayed 60 = .ok (.iadd, 1) := dk_96 (dk_at dksX2_isPlayed_3 5 rfl rfl)
theorem dX2_isPlayed_61 : decode cX2_isPlayed 61 = .ok (.iaload, 1) := dk_46 (dk_at dksX2_isPlayed_3 6 rfl rfl)
theorem dX2_isPlayed_62 : decode cX2_isPlayed 62 = .ok (.aload_n 0, 1) := dk_42 (dk_at dksX2_isPlayed_3 7 rfl rfl)
theorem dX2_isPlayed_63 : decode cX2_isPlayed 63 = .ok (.getfield 16, 3) := dk_180 0 16 (dk_at dksX2_isPlayed_3 8 rfl rfl)
theorem dX2_isPlayed_66 : decode cX2_isPlayed 66 = .ok (.iload_n 1, 1) := dk_27 (dk_at dksX2_isPlayed_3 11 rfl rfl)
theorem dX2_isPlayed_67 : decode cX2_isPlayed 67 = .ok (.iconst 2, 1) := dk_5 (dk_at dksX2_isPlayed_3 12 rfl rfl)
theorem dX2_isPlayed_68 : decode cX2_isPlayed 68 = .ok (.iadd, 1) := dk_96 (dk_at dksX2_isPlayed_3 13 rfl rfl)
theorem dX2_isPlayed_69 : decode cX2_isPlayed 69 = .ok (.iaload, 1) := dk_46 (dk_at dksX2_isPlayed_3 14 rfl rfl)
theorem dX2_isPlayed_70 : decode cX2_isPlayed 70 = .ok (.bipush 10, 2) := dk_16 10 (dk_at dksX2_isPlayed_3 15 rfl rfl)
theorem dX2_isPlayed_72 : decode cX2_isPlayed 72 = .ok (.idiv, 1) := dk_108 (dk_at dksX2_isPlayed_3 17 rfl rfl)
theorem dX2_isPlayed_73 : decode cX2_isPlayed 73 = .ok (.aload_n 0, 1) := dk_42 (dk_at dksX2_isPlayed_3 18 rfl rfl)
theorem dX2_isPlayed_74 : decode cX2_isPlayed 74 = .ok (.getfield 16, 3) := dk_180 0 16 (dk_at dksX2_isPlayed_3 19 rfl rfl)
theorem dX2_isPlayed_77 : decode cX2_isPlayed 77 = .ok (.iload_n 1, 1) := dk_27 (dk_at dksX2_isPlayed_3 22 rfl rfl)
theorem dX2_isPlayed_78 : decode cX2_isPlayed 78 = .ok (.iconst 2, 1) := dk_5 (dk_at dksX2_isPlayed_3 23 rfl rfl)
theorem dX2_isPlayed_79 : decode cX2_isPlayed 79 = .ok (.iadd, 1) := dk_96 (dk_at dksX2_isPlayed_4 0 rfl rfl)
theorem dX2_isPlayed_80 : decode cX2_isPlayed 80 = .ok (.iaload, 1) := dk_46 (dk_at dksX2_isPlayed_4 1 rfl rfl)
theorem dX2_isPlayed_81 : decode cX2_isPlayed 81 = .ok (.bipush 10, 2) := dk_16 10 (dk_at dksX2_isPlayed_4 2 rfl rfl)
theorem dX2_isPlayed_83 : decode cX2_isPlayed 83 = .ok (.irem, 1) := dk_112 (dk_at dksX2_isPlayed_4 4 rfl rfl)
theorem dX2_isPlayed_84 : decode cX2_isPlayed 84 = .ok (.invokevirtual 317, 3) := dk_182 1 61 (dk_at dksX2_isPlayed_4 5 rfl rfl)
theorem dX2_isPlayed_87 : decode cX2_isPlayed 87 = .ok (.ifCond .lt 7, 3) := dk_155 0 7 (dk_at dksX2_isPlayed_4 8 rfl rfl)
theorem dX2_isPlayed_90 : decode cX2_isPlayed 90 = .ok (.iconst 1, 1) := dk_4 (dk_at dksX2_isPlayed_4 11 rfl rfl)
theorem dX2_isPlayed_91 : decode cX2_isPlayed 91 = .ok (.goto 4, 3) := dk_167 0 4 (dk_at dksX2_isPlayed_4 12 rfl rfl)
theorem dX2_isPlayed_94 : decode cX2_isPlayed 94 = .ok (.iconst 0, 1) := dk_3 (dk_at dksX2_isPlayed_4 15 rfl rfl)
theorem dX2_isPlayed_95 : decode cX2_isPlayed 95 = .ok (.ireturn, 1) := dk_172 (dk_at dksX2_isPlayed_4 16 rfl rfl)
theorem dX2_isPlayed_96 : decode cX2_isPlayed 96 = .ok (.aload_n 0, 1) := dk_42 (dk_at dksX2_isPlayed_4 17 rfl rfl)
theorem dX2_isPlayed_97 : decode cX2_isPlayed 97 = .ok (.aload_n 0, 1) := dk_42 (dk_at dksX2_isPlayed_4 18 rfl rfl)
theorem dX2_isPlayed_98 : decode cX2_isPlayed 98 = .ok (.getfield 16, 3) := dk_180 0 16 (dk_at dksX2_isPlayed_4 19 rfl rfl)
theorem dX2_isPlayed_101 : decode cX2_isPlayed 101 = .ok (.iload_n 1, 1) := dk_27 (dk_at dksX2_isPlayed_4 22 rfl rfl)
theorem dX2_isPlayed_102 : decode cX2_isPlayed 102 = .ok (.iconst 1, 1) := dk_4 (dk_at dksX2_isPlayed_4 23 rfl rfl)
theorem dX2_isPlayed_103 : decode cX2_isPlayed 103 = .ok (.iadd, 1) := dk_96 (dk_at dksX2_isPlayed_5 0 rfl rfl)
theorem dX2_isPlayed_104 : decode cX2_isPlayed 104 = .ok (.iaload, 1) := dk_46 (dk_at dksX2_isPlayed_5 1 rfl rfl)
theorem dX2_isPlayed_105 : decode cX2_isPlayed 105 = .ok (.invokevirtual 320, 3) := dk_182 1 64 (dk_at dksX2_isPlayed_5 2 rfl rfl)
theorem dX2_isPlayed_108 : decode cX2_isPlayed 108 = .ok (.ifCond .lt 7, 3) := dk_155 0 7 (dk_at dksX2_isPlayed_5 5 rfl rfl)
theorem dX2_isPlayed_111 : decode cX2_isPlayed 111 = .ok (.iconst 1, 1) := dk_4 (dk_at dksX2_isPlayed_5 8 rfl rfl)
theorem dX2_isPlayed_112 : decode cX2_isPlayed 112 = .ok (.goto 4, 3) := dk_167 0 4 (dk_at dksX2_isPlayed_5 9 rfl rfl)
theorem dX2_isPlayed_115 : decode cX2_isPlayed 115 = .ok (.iconst 0, 1) := dk_3 (dk_at dksX2_isPlayed_5 12 rfl rfl)
theorem dX2_isPlayed_116 : decode cX2_isPlayed 116 = .ok (.ireturn, 1) := dk_172 (dk_at dksX2_isPlayed_5 13 rfl rfl)
theorem dX2_isPlayed_117 : decode cX2_isPlayed 117 = .ok (.iconst 1, 1) := dk_4 (dk_at dksX2_isPlayed_5 14 rfl rfl)
theorem dX2_isPlayed_118 : decode cX2_isPlayed 118 = .ok (.ireturn, 1) := dk_172 (dk_at dksX2_isPlayed_5 15 rfl rfl)
abbrev cX2_of : ByteArray := prog_18_method_81_code
def yX2_of : MethodName := ⟨RX2, "of", "(II)I"⟩
def dkwX2_of_1 : List UInt8 := [167, 0, 4, 2, 172]
abbrev dktX2_of_1 : List UInt8 := dkwX2_of_1 ++ []
def dkwX2_of_0 : List UInt8 := [42, 27, 182, 0, 78, 153, 0, 21, 28, 3, 7, 184, 0, 62, 153, 0, 12, 42, 27, 28, 182, 0, 74]
abbrev dktX2_of_0 : List UInt8 := dkwX2_of_0 ++ dktX2_of_1
theorem dksX2_of_0 : cX2_of.data.toList.drop 0 = dktX2_of_0 := by decide +kernel
theorem dksX2_of_1 : cX2_of.data.toList.drop 23 = dktX2_of_1 := dk_seg dksX2_of_0 23 rfl rfl
theorem dX2_of_0 : decode cX2_of 0 = .ok (.aload_n 0, 1) := dk_42 (dk_at dksX2_of_0 0 rfl rfl)
theorem dX2_of_1 : decode cX2_of 1 = .ok (.iload_n 1, 1) := dk_27 (dk_at dksX2_of_0 1 rfl rfl)
theorem dX2_of_2 : decode cX2_of 2 = .ok (.invokevirtual 78, 3) := dk_182 0 78 (dk_at dksX2_of_0 2 rfl rfl)
theorem dX2_of_5 : decode cX2_of 5 = .ok (.ifCond .eq 21, 3) := dk_153 0 21 (dk_at dksX2_of_0 5 rfl rfl)
theorem dX2_of_8 : decode cX2_of 8 = .ok (.iload_n 2, 1) := dk_28 (dk_at dksX2_of_0 8 rfl rfl)
theorem dX2_of_9 : decode cX2_of 9 = .ok (.iconst 0, 1) := dk_3 (dk_at dksX2_of_0 9 rfl rfl)
theorem dX2_of_10 : decode cX2_of 10 = .ok (.iconst 4, 1) := dk_7 (dk_at dksX2_of_0 10 rfl rfl)
theorem dX2_of_11 : decode cX2_of 11 = .ok (.invokestatic 62, 3) := dk_184 0 62 (dk_at dksX2_of_0 11 rfl rfl)
theorem dX2_of_14 : decode cX2_of 14 = .ok (.ifCond .eq 12, 3) := dk_153 0 12 (dk_at dksX2_of_0 14 rfl rfl)
theorem dX2_of_17 : decode cX2_of 17 = .ok (.aload_n 0, 1) := dk_42 (dk_at dksX2_of_0 17 rfl rfl)
theorem dX2_of_18 : decode cX2_of 18 = .ok (.iload_n 1, 1) := dk_27 (dk_at dksX2_of_0 18 rfl rfl)
theorem dX2_of_19 : decode cX2_of 19 = .ok (.iload_n 2, 1) := dk_28 (dk_at dksX2_of_0 19 rfl rfl)
theorem dX2_of_20 : decode cX2_of 20 = .ok (.invokevirtual 74, 3) := dk_182 0 74 (dk_at dksX2_of_0 20 rfl rfl)
theorem dX2_of_23 : decode cX2_of 23 = .ok (.goto 4, 3) := dk_167 0 4 (dk_at dksX2_of_1 0 rfl rfl)
theorem dX2_of_26 : decode cX2_of 26 = .ok (.iconst (-1), 1) := dk_2 (dk_at dksX2_of_1 3 rfl rfl)
theorem dX2_of_27 : decode cX2_of 27 = .ok (.ireturn, 1) := dk_172 (dk_at dksX2_of_1 4 rfl rfl)
abbrev cX2_piece : ByteArray := prog_18_method_82_code
def yX2_piece : MethodName := ⟨RX2, "piece", "(II)I"⟩
def dkwX2_piece_2 : List UInt8 := [182, 1, 24, 167, 0, 4, 2, 172]
abbrev dktX2_piece_2 : List UInt8 := dkwX2_piece_2 ++ []
def dkwX2_piece_1 : List UInt8 := [184, 0, 66, 28, 96, 46, 172, 42, 28, 16, 10, 100, 182, 0, 78, 153, 0, 15, 42, 27, 28, 16, 10, 100]
abbrev dktX2_piece_1 : List UInt8 := dkwX2_piece_1 ++ dktX2_piece_2
def dkwX2_piece_0 : List UInt8 := [42, 27, 182, 1, 46, 154, 0, 5, 2, 172, 28, 3, 6, 184, 0, 62, 153, 0, 15, 42, 180, 0, 7, 27]
abbrev dktX2_piece_0 : List UInt8 := dkwX2_piece_0 ++ dktX2_piece_1
theorem dksX2_piece_0 : cX2_piece.data.toList.drop 0 = dktX2_piece_0 := by decide +kernel
theorem dksX2_piece_1 : cX2_piece.data.toList.drop 24 = dktX2_piece_1 := dk_seg dksX2_piece_0 24 rfl rfl
theorem dksX2_piece_2 : cX2_piece.data.toList.drop 48 = dktX2_piece_2 := dk_seg dksX2_piece_1 24 rfl rfl
theorem dX2_piece_0 : decode cX2_piece 0 = .ok (.aload_n 0, 1) := dk_42 (dk_at dksX2_piece_0 0 rfl rfl)
theorem dX2_piece_1 : decode cX2_piece 1 = .ok (.iload_n 1, 1) := dk_27 (dk_at dksX2_piece_0 1 rfl rfl)
theorem dX2_piece_2 : decode cX2_piece 2 = .ok (.invokevirtual 302, 3) := dk_182 1 46 (dk_at dksX2_piece_0 2 rfl rfl)
theorem dX2_piece_5 : decode cX2_piece 5 = .ok (.ifCond .ne 5, 3) := dk_154 0 5 (dk_at dksX2_piece_0 5 rfl rfl)
theorem dX2_piece_8 : decode cX2_piece 8 = .ok (.iconst (-1), 1) := dk_2 (dk_at dksX2_piece_0 8 rfl rfl)
theorem dX2_piece_9 : decode cX2_piece 9 = .ok (.ireturn, 1) := dk_172 (dk_at dksX2_piece_0 9 rfl rfl)
theorem dX2_piece_10 : decode cX2_piece 10 = .ok (.iload_n 2, 1) := dk_28 (dk_at dksX2_piece_0 10 rfl rfl)
theorem dX2_piece_11 : decode cX2_piece 11 = .ok (.iconst 0, 1) := dk_3 (dk_at dksX2_piece_0 11 rfl rfl)
theorem dX2_piece_12 : decode cX2_piece 12 = .ok (.iconst 3, 1) := dk_6 (dk_at dksX2_piece_0 12 rfl rfl)
theorem dX2_piece_13 : decode cX2_piece 13 = .ok (.invokestatic 62, 3) := dk_184 0 62 (dk_at dksX2_piece_0 13 rfl rfl)
theorem dX2_piece_16 : decode cX2_piece 16 = .ok (.ifCond .eq 15, 3) := dk_153 0 15 (dk_at dksX2_piece_0 16 rfl rfl)
theorem dX2_piece_19 : decode cX2_piece 19 = .ok (.aload_n 0, 1) := dk_42 (dk_at dksX2_piece_0 19 rfl rfl)
theorem dX2_piece_20 : decode cX2_piece 20 = .ok (.getfield 7, 3) := dk_180 0 7 (dk_at dksX2_piece_0 20 rfl rfl)
theorem dX2_piece_23 : decode cX2_piece 23 = .ok (.iload_n 1, 1) := dk_27 (dk_at dksX2_piece_0 23 rfl rfl)
theorem dX2_piece_24 : decode cX2_piece 24 = .ok (.invokestatic 66, 3) := dk_184 0 66 (dk_at dksX2_piece_1 0 rfl rfl)
theorem dX2_piece_27 : decode cX2_piece 27 = .ok (.iload_n 2, 1) := dk_28 (dk_at dksX2_piece_1 3 rfl rfl)
theorem dX2_piece_28 : decode cX2_piece 28 = .ok (.iadd, 1) := dk_96 (dk_at dksX2_piece_1 4 rfl rfl)
theorem dX2_piece_29 : decode cX2_piece 29 = .ok (.iaload, 1) := dk_46 (dk_at dksX2_piece_1 5 rfl rfl)
theorem dX2_piece_30 : decode cX2_piece 30 = .ok (.ireturn, 1) := dk_172 (dk_at dksX2_piece_1 6 rfl rfl)
theorem dX2_piece_31 : decode cX2_piece 31 = .ok (.aload_n 0, 1) := dk_42 (dk_at dksX2_piece_1 7 rfl rfl)
theorem dX2_piece_32 : decode cX2_piece 32 = .ok (.iload_n 2, 1) := dk_28 (dk_at dksX2_piece_1 8 rfl rfl)
theorem dX2_piece_33 : decode cX2_piece 33 = .ok (.bipush 10, 2) := dk_16 10 (dk_at dksX2_piece_1 9 rfl rfl)
theorem dX2_piece_35 : decode cX2_piece 35 = .ok (.isub, 1) := dk_100 (dk_at dksX2_piece_1 11 rfl rfl)
theorem dX2_piece_36 : decode cX2_piece 36 = .ok (.invokevirtual 78, 3) := dk_182 0 78 (dk_at dksX2_piece_1 12 rfl rfl)
theorem dX2_piece_39 : decode cX2_piece 39 = .ok (.ifCond .eq 15, 3) := dk_153 0 15 (dk_at dksX2_piece_1 15 rfl rfl)
theorem dX2_piece_42 : decode cX2_piece 42 = .ok (.aload_n 0, 1) := dk_42 (dk_at dksX2_piece_1 18 rfl rfl)
theorem dX2_piece_43 : decode cX2_piece 43 = .ok (.iload_n 1, 1) := dk_27 (dk_at dksX2_piece_1 19 rfl rfl)
theorem dX2_piece_44 : decode cX2_piece 44 = .ok (.iload_n 2, 1) := dk_28 (dk_at dksX2_piece_1 20 rfl rfl)
theorem dX2_piece_45 : decode cX2_piece 45 = .ok (.bipush 10, 2) := dk_16 10 (dk_at dksX2_piece_1 21 rfl rfl)
theorem dX2_piece_47 : decode cX2_piece 47 = .ok (.isub, 1) := dk_100 (dk_at dksX2_piece_1 23 rfl rfl)
theorem dX2_piece_48 : decode cX2_piece 48 = .ok (.invokevirtual 280, 3) := dk_182 1 24 (dk_at dksX2_piece_2 0 rfl rfl)
theorem dX2_piece_51 : decode cX2_piece 51 = .ok (.goto 4, 3) := dk_167 0 4 (dk_at dksX2_piece_2 3 rfl rfl)
theorem dX2_piece_54 : decode cX2_piece 54 = .ok (.iconst (-1), 1) := dk_2 (dk_at dksX2_piece_2 6 rfl rfl)
theorem dX2_piece_55 : decode cX2_piece 55 = .ok (.ireturn, 1) := dk_172 (dk_at dksX2_piece_2 7 rfl rfl)
abbrev cX2_bubble : ByteArray := prog_18_method_83_code
def yX2_bubble : MethodName := ⟨RX2, "bubble", "(II)I"⟩
def dkwX2_bubble_2 : List UInt8 := [104, 96, 28, 96, 46, 167, 0, 4, 2, 172]
abbrev dktX2_bubble_2 : List UInt8 := dkwX2_bubble_2 ++ []
def dkwX2_bubble_1 : List UInt8 := [184, 0, 62, 153, 0, 29, 28, 3, 6, 184, 0, 62, 153, 0, 20, 42, 180, 0, 7, 17, 0, 250, 7, 27]
abbrev dktX2_bubble_1 : List UInt8 := dkwX2_bubble_1 ++ dktX2_bubble_2
def dkwX2_bubble_0 : List UInt8 := [27, 2, 160, 0, 11, 42, 180, 0, 7, 16, 9, 46, 172, 27, 3, 42, 180, 0, 7, 16, 9, 46, 4, 100]
abbrev dktX2_bubble_0 : List UInt8 := dkwX2_bubble_0 ++ dktX2_bubble_1
theorem dksX2_bubble_0 : cX2_bubble.data.toList.drop 0 = dktX2_bubble_0 := by decide +kernel
theorem dksX2_bubble_1 : cX2_bubble.data.toList.drop 24 = dktX2_bubble_1 := dk_seg dksX2_bubble_0 24 rfl rfl
theorem dksX2_bubble_2 : cX2_bubble.data.toList.drop 48 = dktX2_bubble_2 := dk_seg dksX2_bubble_1 24 rfl rfl
theorem dX2_bubble_0 : decode cX2_bubble 0 = .ok (.iload_n 1, 1) := dk_27 (dk_at dksX2_bubble_0 0 rfl rfl)
theorem dX2_bubble_1 : decode cX2_bubble 1 = .ok (.iconst (-1), 1) := dk_2 (dk_at dksX2_bubble_0 1 rfl rfl)
theorem dX2_bubble_2 : decode cX2_bubble 2 = .ok (.if_icmp .ne 11, 3) := dk_160 0 11 (dk_at dksX2_bubble_0 2 rfl rfl)
theorem dX2_bubble_5 : decode cX2_bubble 5 = .ok (.aload_n 0, 1) := dk_42 (dk_at dksX2_bubble_0 5 rfl rfl)
theorem dX2_bubble_6 : decode cX2_bubble 6 = .ok (.getfield 7, 3) := dk_180 0 7 (dk_at dksX2_bubble_0 6 rfl rfl)
theorem dX2_bubble_9 : decode cX2_bubble 9 = .ok (.bipush 9, 2) := dk_16 9 (dk_at dksX2_bubble_0 9 rfl rfl)
theorem dX2_bubble_11 : decode cX2_bubble 11 = .ok (.iaload, 1) := dk_46 (dk_at dksX2_bubble_0 11 rfl rfl)
theorem dX2_bubble_12 : decode cX2_bubble 12 = .ok (.ireturn, 1) := dk_172 (dk_at dksX2_bubble_0 12 rfl rfl)
theorem dX2_bubble_13 : decode cX2_bubble 13 = .ok (.iload_n 1, 1) := dk_27 (dk_at dksX2_bubble_0 13 rfl rfl)
theorem dX2_bubble_14 : decode cX2_bubble 14 = .ok (.iconst 0, 1) := dk_3 (dk_at dksX2_bubble_0 14 rfl rfl)
theorem dX2_bubble_15 : decode cX2_bubble 15 = .ok (.aload_n 0, 1) := dk_42 (dk_at dksX2_bubble_0 15 rfl rfl)
theorem dX2_bubble_16 : decode cX2_bubble 16 = .ok (.getfield 7, 3) := dk_180 0 7 (dk_at dksX2_bubble_0 16 rfl rfl)
theorem dX2_bubble_19 : decode cX2_bubble 19 = .ok (.bipush 9, 2) := dk_16 9 (dk_at dksX2_bubble_0 19 rfl rfl)
theorem dX2_bubble_21 : decode cX2_bubble 21 = .ok (.iaload, 1) := dk_46 (dk_at dksX2_bubble_0 21 rfl rfl)
theorem dX2_bubble_22 : decode cX2_bubble 22 = .ok (.iconst 1, 1) := dk_4 (dk_at dksX2_bubble_0 22 rfl rfl)
theorem dX2_bubble_23 : decode cX2_bubble 23 = .ok (.isub, 1) := dk_100 (dk_at dksX2_bubble_0 23 rfl rfl)
theorem dX2_bubble_24 : decode cX2_bubble 24 = .ok (.invokestatic 62, 3) := dk_184 0 62 (dk_at dksX2_bubble_1 0 rfl rfl)
theorem dX2_bubble_27 : decode cX2_bubble 27 = .ok (.ifCond .eq 29, 3) := dk_153 0 29 (dk_at dksX2_bubble_1 3 rfl rfl)
theorem dX2_bubble_30 : decode cX2_bubble 30 = .ok (.iload_n 2, 1) := dk_28 (dk_at dksX2_bubble_1 6 rfl rfl)
theorem dX2_bubble_31 : decode cX2_bubble 31 = .ok (.iconst 0, 1) := dk_3 (dk_at dksX2_bubble_1 7 rfl rfl)
theorem dX2_bubble_32 : decode cX2_bubble 32 = .ok (.iconst 3, 1) := dk_6 (dk_at dksX2_bubble_1 8 rfl rfl)
theorem dX2_bubble_33 : decode cX2_bubble 33 = .ok (.invokestatic 62, 3) := dk_184 0 62 (dk_at dksX2_bubble_1 9 rfl rfl)
theorem dX2_bubble_36 : decode cX2_bubble 36 = .ok (.ifCond .eq 20, 3) := dk_153 0 20 (dk_at dksX2_bubble_1 12 rfl rfl)
theorem dX2_bubble_39 : decode cX2_bubble 39 = .ok (.aload_n 0, 1) := dk_42 (dk_at dksX2_bubble_1 15 rfl rfl)
theorem dX2_bubble_40 : decode cX2_bubble 40 = .ok (.getfield 7, 3) := dk_180 0 7 (dk_at dksX2_bubble_1 16 rfl rfl)
theorem dX2_bubble_43 : decode cX2_bubble 43 = .ok (.sipush 250, 3) := dk_17 0 250 (dk_at dksX2_bubble_1 19 rfl rfl)
theorem dX2_bubble_46 : decode cX2_bubble 46 = .ok (.iconst 4, 1) := dk_7 (dk_at dksX2_bubble_1 22 rfl rfl)
theorem dX2_bubble_47 : decode cX2_bubble 47 = .ok (.iload_n 1, 1) := dk_27 (dk_at dksX2_bubble_1 23 rfl rfl)
theorem dX2_bubble_48 : decode cX2_bubble 48 = .ok (.imul, 1) := dk_104 (dk_at dksX2_bubble_2 0 rfl rfl)
theorem dX2_bubble_49 : decode cX2_bubble 49 = .ok (.iadd, 1) := dk_96 (dk_at dksX2_bubble_2 1 rfl rfl)
theorem dX2_bubble_50 : decode cX2_bubble 50 = .ok (.iload_n 2, 1) := dk_28 (dk_at dksX2_bubble_2 2 rfl rfl)
theorem dX2_bubble_51 : decode cX2_bubble 51 = .ok (.iadd, 1) := dk_96 (dk_at dksX2_bubble_2 3 rfl rfl)
theorem dX2_bubble_52 : decode cX2_bubble 52 = .ok (.iaload, 1) := dk_46 (dk_at dksX2_bubble_2 4 rfl rfl)
theorem dX2_bubble_53 : decode cX2_bubble 53 = .ok (.goto 4, 3) := dk_167 0 4 (dk_at dksX2_bubble_2 5 rfl rfl)
theorem dX2_bubble_56 : decode cX2_bubble 56 = .ok (.iconst (-1), 1) := dk_2 (dk_at dksX2_bubble_2 8 rfl rfl)
theorem dX2_bubble_57 : decode cX2_bubble 57 = .ok (.ireturn, 1) := dk_172 (dk_at dksX2_bubble_2 9 rfl rfl)
abbrev cX2_odds : ByteArray := prog_18_method_85_code
def yX2_odds : MethodName := ⟨RX2, "odds", "(II)J"⟩
def dkwX2_odds_5 : List UInt8 := [33, 22, 5, 184, 1, 77, 109, 173]
abbrev dktX2_odds_5 : List UInt8 := dkwX2_odds_5 ++ []
def dkwX2_odds_4 : List UInt8 := [22, 5, 20, 1, 75, 105, 55, 5, 132, 7, 1, 167, 255, 189, 28, 154, 0, 7, 33, 167, 0, 5, 22, 5]
abbrev dktX2_odds_4 : List UInt8 := dkwX2_odds_4 ++ dktX2_odds_5
def dkwX2_odds_3 : List UInt8 := [4, 96, 46, 4, 159, 0, 7, 20, 1, 70, 173, 33, 16, 10, 42, 21, 7, 182, 1, 72, 100, 133, 105, 66]
abbrev dktX2_odds_3 : List UInt8 := dkwX2_odds_3 ++ dktX2_odds_4
def dkwX2_odds_2 : List UInt8 := [162, 0, 62, 27, 21, 7, 184, 1, 27, 154, 0, 6, 167, 0, 44, 42, 180, 0, 7, 21, 7, 184, 0, 66]
abbrev dktX2_odds_2 : List UInt8 := dkwX2_odds_2 ++ dktX2_odds_3
def dkwX2_odds_1 : List UInt8 := [154, 0, 7, 20, 1, 70, 173, 10, 66, 10, 55, 5, 3, 54, 7, 21, 7, 42, 180, 0, 7, 5, 46]
abbrev dktX2_odds_1 : List UInt8 := dkwX2_odds_1 ++ dktX2_odds_2
def dkwX2_odds_0 : List UInt8 := [27, 3, 4, 42, 180, 0, 7, 5, 46, 120, 4, 100, 184, 0, 62, 153, 0, 12, 28, 3, 4, 184, 0, 62]
abbrev dktX2_odds_0 : List UInt8 := dkwX2_odds_0 ++ dktX2_odds_1
theorem dksX2_odds_0 : cX2_odds.data.toList.drop 0 = dktX2_odds_0 := by decide +kernel
theorem dksX2_odds_1 : cX2_odds.data.toList.drop 24 = dktX2_odds_1 := dk_seg dksX2_odds_0 24 rfl rfl
theorem dksX2_odds_2 : cX2_odds.data.toList.drop 47 = dktX2_odds_2 := dk_seg dksX2_odds_1 23 rfl rfl
theorem dksX2_odds_3 : cX2_odds.data.toList.drop 71 = dktX2_odds_3 := dk_seg dksX2_odds_2 24 rfl rfl
theorem dksX2_odds_4 : cX2_odds.data.toList.drop 95 = dktX2_odds_4 := dk_seg dksX2_odds_3 24 rfl rfl
theorem dksX2_odds_5 : cX2_odds.data.toList.drop 119 = dktX2_odds_5 := dk_seg dksX2_odds_4 24 rfl rfl
theorem dX2_odds_0 : decode cX2_odds 0 = .ok (.iload_n 1, 1) := dk_27 (dk_at dksX2_odds_0 0 rfl rfl)
theorem dX2_odds_1 : decode cX2_odds 1 = .ok (.iconst 0, 1) := dk_3 (dk_at dksX2_odds_0 1 rfl rfl)
theorem dX2_odds_2 : decode cX2_odds 2 = .ok (.iconst 1, 1) := dk_4 (dk_at dksX2_odds_0 2 rfl rfl)
theorem dX2_odds_3 : decode cX2_odds 3 = .ok (.aload_n 0, 1) := dk_42 (dk_at dksX2_odds_0 3 rfl rfl)
theorem dX2_odds_4 : decode cX2_odds 4 = .ok (.getfield 7, 3) := dk_180 0 7 (dk_at dksX2_odds_0 4 rfl rfl)
theorem dX2_odds_7 : decode cX2_odds 7 = .ok (.iconst 2, 1) := dk_5 (dk_at dksX2_odds_0 7 rfl rfl)
theorem dX2_odds_8 : decode cX2_odds 8 = .ok (.iaload, 1) := dk_46 (dk_at dksX2_odds_0 8 rfl rfl)
theorem dX2_odds_9 : decode cX2_odds 9 = .ok (.ishl, 1) := dk_120 (dk_at dksX2_odds_0 9 rfl rfl)
theorem dX2_odds_10 : decode cX2_odds 10 = .ok (.iconst 1, 1) := dk_4 (dk_at dksX2_odds_0 10 rfl rfl)
theorem dX2_odds_11 : decode cX2_odds 11 = .ok (.isub, 1) := dk_100 (dk_at dksX2_odds_0 11 rfl rfl)
theorem dX2_odds_12 : decode cX2_odds 12 = .ok (.invokestatic 62, 3) := dk_184 0 62 (dk_at dksX2_odds_0 12 rfl rfl)
theorem dX2_odds_15 : decode cX2_odds 15 = .ok (.ifCond .eq 12, 3) := dk_153 0 12 (dk_at dksX2_odds_0 15 rfl rfl)
theorem dX2_odds_18 : decode cX2_odds 18 = .ok (.iload_n 2, 1) := dk_28 (dk_at dksX2_odds_0 18 rfl rfl)
theorem dX2_odds_19 : decode cX2_odds 19 = .ok (.iconst 0, 1) := dk_3 (dk_at dksX2_odds_0 19 rfl rfl)
theorem dX2_odds_20 : decode cX2_odds 20 = .ok (.iconst 1, 1) := dk_4 (dk_at dksX2_odds_0 20 rfl rfl)
theorem dX2_odds_21 : decode cX2_odds 21 = .ok (.invokestatic 62, 3) := dk_184 0 62 (dk_at dksX2_odds_0 21 rfl rfl)
theorem dX2_odds_24 : decode cX2_odds 24 = .ok (.ifCond .ne 7, 3) := dk_154 0 7 (dk_at dksX2_odds_1 0 rfl rfl)
theorem dX2_odds_27 : decode cX2_odds 27 = .ok (.ldc2_w 326, 3) := dk_20 1 70 (dk_at dksX2_odds_1 3 rfl rfl)
theorem dX2_odds_30 : decode cX2_odds 30 = .ok (.lreturn, 1) := dk_173 (dk_at dksX2_odds_1 6 rfl rfl)
theorem dX2_odds_31 : decode cX2_odds 31 = .ok (.lconst 1, 1) := dk_10 (dk_at dksX2_odds_1 7 rfl rfl)
theorem dX2_odds_32 : decode cX2_odds 32 = .ok (.lstore_n 3, 1) := dk_66 (dk_at dksX2_odds_1 8 rfl rfl)
theorem dX2_odds_33 : decode cX2_odds 33 = .ok (.lconst 1, 1) := dk_10 (dk_at dksX2_odds_1 9 rfl rfl)
theorem dX2_odds_34 : decode cX2_odds 34 = .ok (.lstore 5, 2) := dk_55 5 (dk_at dksX2_odds_1 10 rfl rfl)
theorem dX2_odds_36 : decode cX2_odds 36 = .ok (.iconst 0, 1) := dk_3 (dk_at dksX2_odds_1 12 rfl rfl)
theorem dX2_odds_37 : decode cX2_odds 37 = .ok (.istore 7, 2) := dk_54 7 (dk_at dksX2_odds_1 13 rfl rfl)
theorem dX2_odds_39 : decode cX2_odds 39 = .ok (.iload 7, 2) := dk_21 7 (dk_at dksX2_odds_1 15 rfl rfl)
theorem dX2_odds_41 : decode cX2_odds 41 = .ok (.aload_n 0, 1) := dk_42 (dk_at dksX2_odds_1 17 rfl rfl)
theorem dX2_odds_42 : decode cX2_odds 42 = .ok (.getfield 7, 3) := dk_180 0 7 (dk_at dksX2_odds_1 18 rfl rfl)
theorem dX2_odds_45 : decode cX2_odds 45 = .ok (.iconst 2, 1) := dk_5 (dk_at dksX2_odds_1 21 rfl rfl)
theorem dX2_odds_46 : decode cX2_odds 46 = .ok (.iaload, 1) := dk_46 (dk_at dksX2_odds_1 22 rfl rfl)
theorem dX2_odds_47 : decode cX2_odds 47 = .ok (.if_icmp .ge 62, 3) := dk_162 0 62 (dk_at dksX2_odds_2 0 rfl rfl)
theorem dX2_odds_50 : decode cX2_odds 50 = .ok (.iload_n 1, 1) := dk_27 (dk_at dksX2_odds_2 3 rfl rfl)
theorem dX2_odds_51 : decode cX2_odds 51 = .ok (.iload 7, 2) := dk_21 7 (dk_at dksX2_odds_2 4 rfl rfl)
theorem dX2_odds_53 : decode cX2_odds 53 = .ok (.invokestatic 283, 3) := dk_184 1 27 (dk_at dksX2_odds_2 6 rfl rfl)
theorem dX2_odds_56 : decode cX2_odds 56 = .ok (.ifCond .ne 6, 3) := dk_154 0 6 (dk_at dksX2_odds_2 9 rfl rfl)
theorem dX2_odds_59 : decode cX2_odds 59 = .ok (.goto 44, 3) := dk_167 0 44 (dk_at dksX2_odds_2 12 rfl rfl)
theorem dX2_odds_62 : decode cX2_odds 62 = .ok (.aload_n 0, 1) := dk_42 (dk_at dksX2_odds_2 15 rfl rfl)
theorem dX2_odds_63 : decode cX2_odds 63 = .ok (.getfield 7, 3) := dk_180 0 7 (dk_at dksX2_odds_2 16 rfl rfl)
theorem dX2_odds_66 : decode cX2_odds 66 = .ok (.iload 7, 2) := dk_21 7 (dk_at dksX2_odds_2 19 rfl rfl)
theorem dX2_odds_68 : decode cX2_odds 68 = .ok (.invokestatic 66, 3) := dk_184 0 66 (dk_at dksX2_odds_2 21 rfl rfl)
theorem dX2_odds_71 : decode cX2_odds 71 = .ok (.iconst 1, 1) := dk_4 (dk_at dksX2_odds_3 0 rfl rfl)
theorem dX2_odds_72 : decode cX2_odds 72 = .ok (.iadd, 1) := dk_96 (dk_at dksX2_odds_3 1 rfl rfl)
theorem dX2_odds_73 : decode cX2_odds 73 = .ok (.iaload, 1) := dk_46 (dk_at dksX2_odds_3 2 rfl rfl)
theorem dX2_odds_74 : decode cX2_odds 74 = .ok (.iconst 1, 1) := dk_4 (dk_at dksX2_odds_3 3 rfl rfl)
theorem dX2_odds_75 : decode cX2_odds 75 = .ok (.if_icmp .eq 7, 3) := dk_159 0 7 (dk_at dksX2_odds_3 4 rfl rfl)
theorem dX2_odds_78 : decode cX2_odds 78 = .ok (.ldc2_w 326, 3) := dk_20 1 70 (dk_at dksX2_odds_3 7 rfl rfl)
theorem dX2_odds_81 : decode cX2_odds 81 = .ok (.lreturn, 1) := dk_173 (dk_at dksX2_odds_3 10 rfl rfl)
theorem dX2_odds_82 : decode cX2_odds 82 = .ok (.lload_n 3, 1) := dk_33 (dk_at dksX2_odds_3 11 rfl rfl)
theorem dX2_odds_83 : decode cX2_odds 83 = .ok (.bipush 10, 2) := dk_16 10 (dk_at dksX2_odds_3 12 rfl rfl)
theorem dX2_odds_85 : decode cX2_odds 85 = .ok (.aload_n 0, 1) := dk_42 (dk_at dksX2_odds_3 14 rfl rfl)
theorem dX2_odds_86 : decode cX2_odds 86 = .ok (.iload 7, 2) := dk_21 7 (dk_at dksX2_odds_3 15 rfl rfl)
theorem dX2_odds_88 : decode cX2_odds 88 = .ok (.invokevirtual 328, 3) := dk_182 1 72 (dk_at dksX2_odds_3 17 rfl rfl)
theorem dX2_odds_91 : decode cX2_odds 91 = .ok (.isub, 1) := dk_100 (dk_at dksX2_odds_3 20 rfl rfl)
theorem dX2_odds_92 : decode cX2_odds 92 = .ok (.i2l, 1) := dk_133 (dk_at dksX2_odds_3 21 rfl rfl)
theorem dX2_odds_93 : decode cX2_odds 93 = .ok (.lmul, 1) := dk_105 (dk_at dksX2_odds_3 22 rfl rfl)
theorem dX2_odds_94 : decode cX2_odds 94 = .ok (.lstore_n 3, 1) := dk_66 (dk_at dksX2_odds_3 23 rfl rfl)
theorem dX2_odds_95 : decode cX2_odds 95 = .ok (.lload 5, 2) := dk_22 5 (dk_at dksX2_odds_4 0 rfl rfl)
theorem dX2_odds_97 : decode cX2_odds 97 = .ok (.ldc2_w 331, 3) := dk_20 1 75 (dk_at dksX2_odds_4 2 rfl rfl)
theorem dX2_odds_100 : decode cX2_odds 100 = .ok (.lmul, 1) := dk_105 (dk_at dksX2_odds_4 5 rfl rfl)
theorem dX2_odds_101 : decode cX2_odds 101 = .ok (.lstore 5, 2) := dk_55 5 (dk_at dksX2_odds_4 6 rfl rfl)
theorem dX2_odds_103 : decode cX2_odds 103 = .ok (.iinc 7 1, 3) := dk_132 7 1 (dk_at dksX2_odds_4 8 rfl rfl)
theorem dX2_odds_106 : decode cX2_odds 106 = .ok (.goto (-67), 3) := dk_167 255 189 (dk_at dksX2_odds_4 11 rfl rfl)
theorem dX2_odds_109 : decode cX2_odds 109 = .ok (.iload_n 2, 1) := dk_28 (dk_at dksX2_odds_4 14 rfl rfl)
theorem dX2_odds_110 : decode cX2_odds 110 = .ok (.ifCond .ne 7, 3) := dk_154 0 7 (dk_at dksX2_odds_4 15 rfl rfl)
theorem dX2_odds_113 : decode cX2_odds 113 = .ok (.lload_n 3, 1) := dk_33 (dk_at dksX2_odds_4 18 rfl rfl)
theorem dX2_odds_114 : decode cX2_odds 114 = .ok (.goto 5, 3) := dk_167 0 5 (dk_at dksX2_odds_4 19 rfl rfl)
theorem dX2_odds_117 : decode cX2_odds 117 = .ok (.lload 5, 2) := dk_22 5 (dk_at dksX2_odds_4 22 rfl rfl)
theorem dX2_odds_119 : decode cX2_odds 119 = .ok (.lload_n 3, 1) := dk_33 (dk_at dksX2_odds_5 0 rfl rfl)
theorem dX2_odds_120 : decode cX2_odds 120 = .ok (.lload 5, 2) := dk_22 5 (dk_at dksX2_odds_5 1 rfl rfl)
theorem dX2_odds_122 : decode cX2_odds 122 = .ok (.invokestatic 333, 3) := dk_184 1 77 (dk_at dksX2_odds_5 3 rfl rfl)
theorem dX2_odds_125 : decode cX2_odds 125 = .ok (.ldiv, 1) := dk_109 (dk_at dksX2_odds_5 6 rfl rfl)
theorem dX2_odds_126 : decode cX2_odds 126 = .ok (.lreturn, 1) := dk_173 (dk_at dksX2_odds_5 7 rfl rfl)
abbrev cX2_has : ByteArray := prog_18_method_5_code
def yX2_has : MethodName := ⟨RX2, "has", "(II)Z"⟩
def dkwX2_has_0 : List UInt8 := [26, 27, 122, 4, 126, 4, 160, 0, 7, 4, 167, 0, 4, 3, 172]
abbrev dktX2_has_0 : List UInt8 := dkwX2_has_0 ++ []
theorem dksX2_has_0 : cX2_has.data.toList.drop 0 = dktX2_has_0 := by decide +kernel
theorem dX2_has_0 : decode cX2_has 0 = .ok (.iload_n 0, 1) := dk_26 (dk_at dksX2_has_0 0 rfl rfl)
theorem dX2_has_1 : decode cX2_has 1 = .ok (.iload_n 1, 1) := dk_27 (dk_at dksX2_has_0 1 rfl rfl)
theorem dX2_has_2 : decode cX2_has 2 = .ok (.ishr, 1) := dk_122 (dk_at dksX2_has_0 2 rfl rfl)
theorem dX2_has_3 : decode cX2_has 3 = .ok (.iconst 1, 1) := dk_4 (dk_at dksX2_has_0 3 rfl rfl)
theorem dX2_has_4 : decode cX2_has 4 = .ok (.iand, 1) := dk_126 (dk_at dksX2_has_0 4 rfl rfl)
theorem dX2_has_5 : decode cX2_has 5 = .ok (.iconst 1, 1) := dk_4 (dk_at dksX2_has_0 5 rfl rfl)
theorem dX2_has_6 : decode cX2_has 6 = .ok (.if_icmp .ne 7, 3) := dk_160 0 7 (dk_at dksX2_has_0 6 rfl rfl)
theorem dX2_has_9 : decode cX2_has 9 = .ok (.iconst 1, 1) := dk_4 (dk_at dksX2_has_0 9 rfl rfl)
theorem dX2_has_10 : decode cX2_has 10 = .ok (.goto 4, 3) := dk_167 0 4 (dk_at dksX2_has_0 10 rfl rfl)
theorem dX2_has_13 : decode cX2_has 13 = .ok (.iconst 0, 1) := dk_3 (dk_at dksX2_has_0 13 rfl rfl)
theorem dX2_has_14 : decode cX2_has 14 = .ok (.ireturn, 1) := dk_172 (dk_at dksX2_has_0 14 rfl rfl)
abbrev cX2_brittleOf : ByteArray := prog_18_method_68_code
def yX2_brittleOf : MethodName := ⟨RX2, "brittleOf", "(I)I"⟩
def dkwX2_brittleOf_5 : List UInt8 := [3, 96, 79, 132, 3, 1, 167, 255, 211, 132, 2, 1, 167, 255, 170, 42, 5, 16, 10, 3, 182, 1, 15, 172]
abbrev dktX2_brittleOf_5 : List UInt8 := dkwX2_brittleOf_5 ++ []
def dkwX2_brittleOf_4 : List UInt8 := [29, 182, 1, 24, 158, 0, 20, 42, 28, 7, 182, 0, 74, 29, 184, 1, 27, 153, 0, 7, 4, 167, 0, 4]
abbrev dktX2_brittleOf_4 : List UInt8 := dkwX2_brittleOf_4 ++ dktX2_brittleOf_5
def dkwX2_brittleOf_3 : List UInt8 := [16, 10, 92, 46, 4, 96, 79, 3, 62, 29, 28, 162, 0, 46, 42, 180, 0, 32, 16, 9, 92, 46, 42, 27]
abbrev dktX2_brittleOf_3 : List UInt8 := dkwX2_brittleOf_3 ++ dktX2_brittleOf_4
def dkwX2_brittleOf_2 : List UInt8 := [180, 0, 7, 3, 46, 162, 0, 82, 42, 27, 28, 182, 1, 24, 154, 0, 6, 167, 0, 64, 42, 180, 0, 32]
abbrev dktX2_brittleOf_2 : List UInt8 := dkwX2_brittleOf_2 ++ dktX2_brittleOf_3
def dkwX2_brittleOf_1 : List UInt8 := [182, 1, 21, 42, 180, 0, 32, 16, 9, 3, 79, 42, 180, 0, 32, 16, 10, 3, 79, 3, 61, 28, 42]
abbrev dktX2_brittleOf_1 : List UInt8 := dkwX2_brittleOf_1 ++ dktX2_brittleOf_2
def dkwX2_brittleOf_0 : List UInt8 := [42, 180, 0, 32, 3, 42, 180, 0, 7, 6, 46, 79, 42, 42, 180, 0, 7, 27, 184, 0, 66, 46]
abbrev dktX2_brittleOf_0 : List UInt8 := dkwX2_brittleOf_0 ++ dktX2_brittleOf_1
theorem dksX2_brittleOf_0 : cX2_brittleOf.data.toList.drop 0 = dktX2_brittleOf_0 := by decide +kernel
theorem dksX2_brittleOf_1 : cX2_brittleOf.data.toList.drop 22 = dktX2_brittleOf_1 := dk_seg dksX2_brittleOf_0 22 rfl rfl
theorem dksX2_brittleOf_2 : cX2_brittleOf.data.toList.drop 45 = dktX2_brittleOf_2 := dk_seg dksX2_brittleOf_1 23 rfl rfl
theorem dksX2_brittleOf_3 : cX2_brittleOf.data.toList.drop 69 = dktX2_brittleOf_3 := dk_seg dksX2_brittleOf_2 24 rfl rfl
theorem dksX2_brittleOf_4 : cX2_brittleOf.data.toList.drop 93 = dktX2_brittleOf_4 := dk_seg dksX2_brittleOf_3 24 rfl rfl
theorem dksX2_brittleOf_5 : cX2_brittleOf.data.toList.drop 117 = dktX2_brittleOf_5 := dk_seg dksX2_brittleOf_4 24 rfl rfl
theorem dX2_brittleOf_0 : decode cX2_brittleOf 0 = .ok (.aload_n 0, 1) := dk_42 (dk_at dksX2_brittleOf_0 0 rfl rfl)
theorem dX2_brittleOf_1 : decode cX2_brittleOf 1 = .ok (.getfield 32, 3) := dk_180 0 32 (dk_at dksX2_brittleOf_0 1 rfl rfl)
theorem dX2_brittleOf_4 : decode cX2_brittleOf 4 = .ok (.iconst 0, 1) := dk_3 (dk_at dksX2_brittleOf_0 4 rfl rfl)
theorem dX2_brittleOf_5 : decode cX2_brittleOf 5 = .ok (.aload_n 0, 1) := dk_42 (dk_at dksX2_brittleOf_0 5 rfl rfl)
theorem dX2_brittleOf_6 : decode cX2_brittleOf 6 = .ok (.getfield 7, 3) := dk_180 0 7 (dk_at dksX2_brittleOf_0 6 rfl rfl)
theorem dX2_brittleOf_9 : decode cX2_brittleOf 9 = .ok (.iconst 3, 1) := dk_6 (dk_at dksX2_brittleOf_0 9 rfl rfl)
theorem dX2_brittleOf_10 : decode cX2_brittleOf 10 = .ok (.iaload, 1) := dk_46 (dk_at dksX2_brittleOf_0 10 rfl rfl)
theorem dX2_brittleOf_11 : decode cX2_brittleOf 11 = .ok (.iastore, 1) := dk_79 (dk_at dksX2_brittleOf_0 11 rfl rfl)
theorem dX2_brittleOf_12 : decode cX2_brittleOf 12 = .ok (.aload_n 0, 1) := dk_42 (dk_at dksX2_brittleOf_0 12 rfl rfl)
theorem dX2_brittleOf_13 : decode cX2_brittleOf 13 = .ok (.aload_n 0, 1) := dk_42 (dk_at dksX2_brittleOf_0 13 rfl rfl)
theorem dX2_brittleOf_14 : decode cX2_brittleOf 14 = .ok (.getfield 7, 3) := dk_180 0 7 (dk_at dksX2_brittleOf_0 14 rfl rfl)
theorem dX2_brittleOf_17 : decode cX2_brittleOf 17 = .ok (.iload_n 1, 1) := dk_27 (dk_at dksX2_brittleOf_0 17 rfl rfl)
theorem dX2_brittleOf_18 : decode cX2_brittleOf 18 = .ok (.invokestatic 66, 3) := dk_184 0 66 (dk_at dksX2_brittleOf_0 18 rfl rfl)
theorem dX2_brittleOf_21 : decode cX2_brittleOf 21 = .ok (.iaload, 1) := dk_46 (dk_at dksX2_brittleOf_0 21 rfl rfl)
theorem dX2_brittleOf_22 : decode cX2_brittleOf 22 = .ok (.invokevirtual 277, 3) := dk_182 1 21 (dk_at dksX2_brittleOf_1 0 rfl rfl)
theorem dX2_brittleOf_25 : decode cX2_brittleOf 25 = .ok (.aload_n 0, 1) := dk_42 (dk_at dksX2_brittleOf_1 3 rfl rfl)
theorem dX2_brittleOf_26 : decode cX2_brittleOf 26 = .ok (.getfield 32, 3) := dk_180 0 32 (dk_at dksX2_brittleOf_1 4 rfl rfl)
theorem dX2_brittleOf_29 : decode cX2_brittleOf 29 = .ok (.bipush 9, 2) := dk_16 9 (dk_at dksX2_brittleOf_1 7 rfl rfl)
theorem dX2_brittleOf_31 : decode cX2_brittleOf 31 = .ok (.iconst 0, 1) := dk_3 (dk_at dksX2_brittleOf_1 9 rfl rfl)
theorem dX2_brittleOf_32 : decode cX2_brittleOf 32 = .ok (.iastore, 1) := dk_79 (dk_at dksX2_brittleOf_1 10 rfl rfl)
theorem dX2_brittleOf_33 : decode cX2_brittleOf 33 = .ok (.aload_n 0, 1) := dk_42 (dk_at dksX2_brittleOf_1 11 rfl rfl)
theorem dX2_brittleOf_34 : decode cX2_brittleOf 34 = .ok (.getfield 32, 3) := dk_180 0 32 (dk_at dksX2_brittleOf_1 12 rfl rfl)
theorem dX2_brittleOf_37 : decode cX2_brittleOf 37 = .ok (.bipush 10, 2) := dk_16 10 (dk_at dksX2_brittleOf_1 15 rfl rfl)
theorem dX2_brittleOf_39 : decode cX2_brittleOf 39 = .ok (.iconst 0, 1) := dk_3 (dk_at dksX2_brittleOf_1 17 rfl rfl)
theorem dX2_brittleOf_40 : decode cX2_brittleOf 40 = .ok (.iastore, 1) := dk_79 (dk_at dksX2_brittleOf_1 18 rfl rfl)
theorem dX2_brittleOf_41 : decode cX2_brittleOf 41 = .ok (.iconst 0, 1) := dk_3 (dk_at dksX2_brittleOf_1 19 rfl rfl)
theorem dX2_brittleOf_42 : decode cX2_brittleOf 42 = .ok (.istore_n 2, 1) := dk_61 (dk_at dksX2_brittleOf_1 20 rfl rfl)
theorem dX2_brittleOf_43 : decode cX2_brittleOf 43 = .ok (.iload_n 2, 1) := dk_28 (dk_at dksX2_brittleOf_1 21 rfl rfl)
theorem dX2_brittleOf_44 : decode cX2_brittleOf 44 = .ok (.aload_n 0, 1) := dk_42 (dk_at dksX2_brittleOf_1 22 rfl rfl)
theorem dX2_brittleOf_45 : decode cX2_brittleOf 45 = .ok (.getfield 7, 3) := dk_180 0 7 (dk_at dksX2_brittleOf_2 0 rfl rfl)
theorem dX2_brittleOf_48 : decode cX2_brittleOf 48 = .ok (.iconst 0, 1) := dk_3 (dk_at dksX2_brittleOf_2 3 rfl rfl)
theorem dX2_brittleOf_49 : decode cX2_brittleOf 49 = .ok (.iaload, 1) := dk_46 (dk_at dksX2_brittleOf_2 4 rfl rfl)
theorem dX2_brittleOf_50 : decode cX2_brittleOf 50 = .ok (.if_icmp .ge 82, 3) := dk_162 0 82 (dk_at dksX2_brittleOf_2 5 rfl rfl)
theorem dX2_brittleOf_53 : decode cX2_brittleOf 53 = .ok (.aload_n 0, 1) := dk_42 (dk_at dksX2_brittleOf_2 8 rfl rfl)
theorem dX2_brittleOf_54 : decode cX2_brittleOf 54 = .ok (.iload_n 1, 1) := dk_27 (dk_at dksX2_brittleOf_2 9 rfl rfl)
theorem dX2_brittleOf_55 : decode cX2_brittleOf 55 = .ok (.iload_n 2, 1) := dk_28 (dk_at dksX2_brittleOf_2 10 rfl rfl)
theorem dX2_brittleOf_56 : decode cX2_brittleOf 56 = .ok (.invokevirtual 280, 3) := dk_182 1 24 (dk_at dksX2_brittleOf_2 11 rfl rfl)
theorem dX2_brittleOf_59 : decode cX2_brittleOf 59 = .ok (.ifCond .ne 6, 3) := dk_154 0 6 (dk_at dksX2_brittleOf_2 14 rfl rfl)
theorem dX2_brittleOf_62 : decode cX2_brittleOf 62 = .ok (.goto 64, 3) := dk_167 0 64 (dk_at dksX2_brittleOf_2 17 rfl rfl)
theorem dX2_brittleOf_65 : decode cX2_brittleOf 65 = .ok (.aload_n 0, 1) := dk_42 (dk_at dksX2_brittleOf_2 20 rfl rfl)
theorem dX2_brittleOf_66 : decode cX2_brittleOf 66 = .ok (.getfield 32, 3) := dk_180 0 32 (dk_at dksX2_brittleOf_2 21 rfl rfl)
theorem dX2_brittleOf_69 : decode cX2_brittleOf 69 = .ok (.bipush 10, 2) := dk_16 10 (dk_at dksX2_brittleOf_3 0 rfl rfl)
theorem dX2_brittleOf_71 : decode cX2_brittleOf 71 = .ok (.dup2, 1) := dk_92 (dk_at dksX2_brittleOf_3 2 rfl rfl)
theorem dX2_brittleOf_72 : decode cX2_brittleOf 72 = .ok (.iaload, 1) := dk_46 (dk_at dksX2_brittleOf_3 3 rfl rfl)
theorem dX2_brittleOf_73 : decode cX2_brittleOf 73 = .ok (.iconst 1, 1) := dk_4 (dk_at dksX2_brittleOf_3 4 rfl rfl)
theorem dX2_brittleOf_74 : decode cX2_brittleOf 74 = .ok (.iadd, 1) := dk_96 (dk_at dksX2_brittleOf_3 5 rfl rfl)
theorem dX2_brittleOf_75 : decode cX2_brittleOf 75 = .ok (.iastore, 1) := dk_79 (dk_at dksX2_brittleOf_3 6 rfl rfl)
theorem dX2_brittleOf_76 : decode cX2_brittleOf 76 = .ok (.iconst 0, 1) := dk_3 (dk_at dksX2_brittleOf_3 7 rfl rfl)
theorem dX2_brittleOf_77 : decode cX2_brittleOf 77 = .ok (.istore_n 3, 1) := dk_62 (dk_at dksX2_brittleOf_3 8 rfl rfl)
theorem dX2_brittleOf_78 : decode cX2_brittleOf 78 = .ok (.iload_n 3, 1) := dk_29 (dk_at dksX2_brittleOf_3 9 rfl rfl)
theorem dX2_brittleOf_79 : decode cX2_brittleOf 79 = .ok (.iload_n 2, 1) := dk_28 (dk_at dksX2_brittleOf_3 10 rfl rfl)
theorem dX2_brittleOf_80 : decode cX2_brittleOf 80 = .ok (.if_icmp .ge 46, 3) := dk_162 0 46 (dk_at dksX2_brittleOf_3 11 rfl rfl)
theorem dX2_brittleOf_83 : decode cX2_brittleOf 83 = .ok (.aload_n 0, 1) := dk_42 (dk_at dksX2_brittleOf_3 14 rfl rfl)
theorem dX2_brittleOf_84 : decode cX2_brittleOf 84 = .ok (.getfield 32, 3) := dk_180 0 32 (dk_at dksX2_brittleOf_3 15 rfl rfl)
theorem dX2_brittleOf_87 : decode cX2_brittleOf 87 = .ok (.bipush 9, 2) := dk_16 9 (dk_at dksX2_brittleOf_3 18 rfl rfl)
theorem dX2_brittleOf_89 : decode cX2_brittleOf 89 = .ok (.dup2, 1) := dk_92 (dk_at dksX2_brittleOf_3 20 rfl rfl)
theorem dX2_brittleOf_90 : decode cX2_brittleOf 90 = .ok (.iaload, 1) := dk_46 (dk_at dksX2_brittleOf_3 21 rfl rfl)
theorem dX2_brittleOf_91 : decode cX2_brittleOf 91 = .ok (.aload_n 0, 1) := dk_42 (dk_at dksX2_brittleOf_3 22 rfl rfl)
theorem dX2_brittleOf_92 : decode cX2_brittleOf 92 = .ok (.iload_n 1, 1) := dk_27 (dk_at dksX2_brittleOf_3 23 rfl rfl)
theorem dX2_brittleOf_93 : decode cX2_brittleOf 93 = .ok (.iload_n 3, 1) := dk_29 (dk_at dksX2_brittleOf_4 0 rfl rfl)
theorem dX2_brittleOf_94 : decode cX2_brittleOf 94 = .ok (.invokevirtual 280, 3) := dk_182 1 24 (dk_at dksX2_brittleOf_4 1 rfl rfl)
theorem dX2_brittleOf_97 : decode cX2_brittleOf 97 = .ok (.ifCond .le 20, 3) := dk_158 0 20 (dk_at dksX2_brittleOf_4 4 rfl rfl)
theorem dX2_brittleOf_100 : decode cX2_brittleOf 100 = .ok (.aload_n 0, 1) := dk_42 (dk_at dksX2_brittleOf_4 7 rfl rfl)
theorem dX2_brittleOf_101 : decode cX2_brittleOf 101 = .ok (.iload_n 2, 1) := dk_28 (dk_at dksX2_brittleOf_4 8 rfl rfl)
theorem dX2_brittleOf_102 : decode cX2_brittleOf 102 = .ok (.iconst 4, 1) := dk_7 (dk_at dksX2_brittleOf_4 9 rfl rfl)
theorem dX2_brittleOf_103 : decode cX2_brittleOf 103 = .ok (.invokevirtual 74, 3) := dk_182 0 74 (dk_at dksX2_brittleOf_4 10 rfl rfl)
theorem dX2_brittleOf_106 : decode cX2_brittleOf 106 = .ok (.iload_n 3, 1) := dk_29 (dk_at dksX2_brittleOf_4 13 rfl rfl)
theorem dX2_brittleOf_107 : decode cX2_brittleOf 107 = .ok (.invokestatic 283, 3) := dk_184 1 27 (dk_at dksX2_brittleOf_4 14 rfl rfl)
theorem dX2_brittleOf_110 : decode cX2_brittleOf 110 = .ok (.ifCond .eq 7, 3) := dk_153 0 7 (dk_at dksX2_brittleOf_4 17 rfl rfl)
theorem dX2_brittleOf_113 : decode cX2_brittleOf 113 = .ok (.iconst 1, 1) := dk_4 (dk_at dksX2_brittleOf_4 20 rfl rfl)
theorem dX2_brittleOf_114 : decode cX2_brittleOf 114 = .ok (.goto 4, 3) := dk_167 0 4 (dk_at dksX2_brittleOf_4 21 rfl rfl)
theorem dX2_brittleOf_117 : decode cX2_brittleOf 117 = .ok (.iconst 0, 1) := dk_3 (dk_at dksX2_brittleOf_5 0 rfl rfl)
theorem dX2_brittleOf_118 : decode cX2_brittleOf 118 = .ok (.iadd, 1) := dk_96 (dk_at dksX2_brittleOf_5 1 rfl rfl)
theorem dX2_brittleOf_119 : decode cX2_brittleOf 119 = .ok (.iastore, 1) := dk_79 (dk_at dksX2_brittleOf_5 2 rfl rfl)
theorem dX2_brittleOf_120 : decode cX2_brittleOf 120 = .ok (.iinc 3 1, 3) := dk_132 3 1 (dk_at dksX2_brittleOf_5 3 rfl rfl)
theorem dX2_brittleOf_123 : decode cX2_brittleOf 123 = .ok (.goto (-45), 3) := dk_167 255 211 (dk_at dksX2_brittleOf_5 6 rfl rfl)
theorem dX2_brittleOf_126 : decode cX2_brittleOf 126 = .ok (.iinc 2 1, 3) := dk_132 2 1 (dk_at dksX2_brittleOf_5 9 rfl rfl)
theorem dX2_brittleOf_129 : decode cX2_brittleOf 129 = .ok (.goto (-86), 3) := dk_167 255 170 (dk_at dksX2_brittleOf_5 12 rfl rfl)
theorem dX2_brittleOf_132 : decode cX2_brittleOf 132 = .ok (.aload_n 0, 1) := dk_42 (dk_at dksX2_brittleOf_5 15 rfl rfl)
theorem dX2_brittleOf_133 : decode cX2_brittleOf 133 = .ok (.iconst 2, 1) := dk_5 (dk_at dksX2_brittleOf_5 16 rfl rfl)
theorem dX2_brittleOf_134 : decode cX2_brittleOf 134 = .ok (.bipush 10, 2) := dk_16 10 (dk_at dksX2_brittleOf_5 17 rfl rfl)
theorem dX2_brittleOf_136 : decode cX2_brittleOf 136 = .ok (.iconst 0, 1) := dk_3 (dk_at dksX2_brittleOf_5 19 rfl rfl)
theorem dX2_brittleOf_137 : decode cX2_brittleOf 137 = .ok (.invokevirtual 271, 3) := dk_182 1 15 (dk_at dksX2_brittleOf_5 20 rfl rfl)
theorem dX2_brittleOf_140 : decode cX2_brittleOf 140 = .ok (.ireturn, 1) := dk_172 (dk_at dksX2_brittleOf_5 23 rfl rfl)
abbrev cX2_common : ByteArray := prog_18_method_84_code
def yX2_common : MethodName := ⟨RX2, "common", "(JJ)J"⟩
def dkwX2_common_1 : List UInt8 := [22, 8, 55, 6, 167, 255, 234, 22, 4, 173]
abbrev dktX2_common_1 : List UInt8 := dkwX2_common_1 ++ []
def dkwX2_common_0 : List UInt8 := [30, 55, 4, 32, 55, 6, 22, 6, 9, 148, 153, 0, 21, 22, 4, 22, 6, 113, 55, 8, 22, 6, 55, 4]
abbrev dktX2_common_0 : List UInt8 := dkwX2_common_0 ++ dktX2_common_1
theorem dksX2_common_0 : cX2_common.data.toList.drop 0 = dktX2_common_0 := by decide +kernel
theorem dksX2_common_1 : cX2_common.data.toList.drop 24 = dktX2_common_1 := dk_seg dksX2_common_0 24 rfl rfl
theorem dX2_common_0 : decode cX2_common 0 = .ok (.lload_n 0, 1) := dk_30 (dk_at dksX2_common_0 0 rfl rfl)
theorem dX2_common_1 : decode cX2_common 1 = .ok (.lstore 4, 2) := dk_55 4 (dk_at dksX2_common_0 1 rfl rfl)
theorem dX2_common_3 : decode cX2_common 3 = .ok (.lload_n 2, 1) := dk_32 (dk_at dksX2_common_0 3 rfl rfl)
theorem dX2_common_4 : decode cX2_common 4 = .ok (.lstore 6, 2) := dk_55 6 (dk_at dksX2_common_0 4 rfl rfl)
theorem dX2_common_6 : decode cX2_common 6 = .ok (.lload 6, 2) := dk_22 6 (dk_at dksX2_common_0 6 rfl rfl)
theorem dX2_common_8 : decode cX2_common 8 = .ok (.lconst 0, 1) := dk_9 (dk_at dksX2_common_0 8 rfl rfl)
theorem dX2_common_9 : decode cX2_common 9 = .ok (.lcmp, 1) := dk_148 (dk_at dksX2_common_0 9 rfl rfl)
theorem dX2_common_10 : decode cX2_common 10 = .ok (.ifCond .eq 21, 3) := dk_153 0 21 (dk_at dksX2_common_0 10 rfl rfl)
theorem dX2_common_13 : decode cX2_common 13 = .ok (.lload 4, 2) := dk_22 4 (dk_at dksX2_common_0 13 rfl rfl)
theorem dX2_common_15 : decode cX2_common 15 = .ok (.lload 6, 2) := dk_22 6 (dk_at dksX2_common_0 15 rfl rfl)
theorem dX2_common_17 : decode cX2_common 17 = .ok (.lrem, 1) := dk_113 (dk_at dksX2_common_0 17 rfl rfl)
theorem dX2_common_18 : decode cX2_common 18 = .ok (.lstore 8, 2) := dk_55 8 (dk_at dksX2_common_0 18 rfl rfl)
theorem dX2_common_20 : decode cX2_common 20 = .ok (.lload 6, 2) := dk_22 6 (dk_at dksX2_common_0 20 rfl rfl)
theorem dX2_common_22 : decode cX2_common 22 = .ok (.lstore 4, 2) := dk_55 4 (dk_at dksX2_common_0 22 rfl rfl)
theorem dX2_common_24 : decode cX2_common 24 = .ok (.lload 8, 2) := dk_22 8 (dk_at dksX2_common_1 0 rfl rfl)
theorem dX2_common_26 : decode cX2_common 26 = .ok (.lstore 6, 2) := dk_55 6 (dk_at dksX2_common_1 2 rfl rfl)
theorem dX2_common_28 : decode cX2_common 28 = .ok (.goto (-22), 3) := dk_167 255 234 (dk_at dksX2_common_1 4 rfl rfl)
theorem dX2_common_31 : decode cX2_common 31 = .ok (.lload 4, 2) := dk_22 4 (dk_at dksX2_common_1 7 rfl rfl)
theorem dX2_common_33 : decode cX2_common 33 = .ok (.lreturn, 1) := dk_173 (dk_at dksX2_common_1 9 rfl rfl)
abbrev cX2_plan : ByteArray := prog_18_method_90_code
def yX2_plan : MethodName := ⟨RX2, "plan", "(III)I"⟩
def dkwX2_plan_10 : List UInt8 := [42, 180, 0, 49, 3, 46, 162, 0, 14, 42, 27, 21, 4, 29, 182, 1, 107, 167, 0, 6, 19, 1, 102, 172]
abbrev dktX2_plan_10 : List UInt8 := dkwX2_plan_10 ++ []
def dkwX2_plan_9 : List UInt8 := [160, 0, 10, 42, 180, 0, 46, 3, 46, 172, 29, 16, 254, 160, 0, 10, 42, 180, 0, 49, 3, 46, 172, 29]
abbrev dktX2_plan_9 : List UInt8 := dkwX2_plan_9 ++ dktX2_plan_10
def dkwX2_plan_8 : List UInt8 := [21, 6, 27, 21, 4, 182, 1, 103, 132, 6, 255, 167, 255, 237, 132, 5, 255, 167, 255, 213, 29, 2]
abbrev dktX2_plan_8 : List UInt8 := dkwX2_plan_8 ++ dktX2_plan_9
def dkwX2_plan_7 : List UInt8 := [155, 0, 44, 21, 5, 27, 2, 130, 126, 154, 0, 29, 21, 4, 54, 6, 21, 6, 155, 0, 20, 42, 21, 5]
abbrev dktX2_plan_7 : List UInt8 := dkwX2_plan_7 ++ dktX2_plan_8
def dkwX2_plan_6 : List UInt8 := [21, 5, 96, 182, 1, 37, 79, 132, 6, 1, 167, 255, 214, 132, 5, 1, 167, 255, 178, 27, 54, 5, 21, 5]
abbrev dktX2_plan_6 : List UInt8 := dkwX2_plan_6 ++ dktX2_plan_7
def dkwX2_plan_5 : List UInt8 := [162, 0, 37, 42, 180, 0, 55, 16, 6, 21, 5, 104, 21, 6, 96, 42, 21, 6, 42, 180, 0, 7, 6, 46]
abbrev dktX2_plan_5 : List UInt8 := dkwX2_plan_5 ++ dktX2_plan_6
def dkwX2_plan_4 : List UInt8 := [180, 0, 7, 6, 46, 21, 5, 96, 182, 1, 34, 79, 3, 54, 6, 21, 6, 42, 180, 0, 7, 3, 46]
abbrev dktX2_plan_4 : List UInt8 := dkwX2_plan_4 ++ dktX2_plan_5
def dkwX2_plan_3 : List UInt8 := [167, 0, 4, 28, 54, 4, 3, 54, 5, 21, 5, 21, 4, 162, 0, 77, 42, 180, 0, 52, 21, 5, 42, 42]
abbrev dktX2_plan_3 : List UInt8 := dkwX2_plan_3 ++ dktX2_plan_4
def dkwX2_plan_2 : List UInt8 := [180, 0, 7, 6, 46, 28, 96, 17, 3, 232, 164, 0, 16, 17, 3, 232, 42, 180, 0, 7, 6, 46, 100]
abbrev dktX2_plan_2 : List UInt8 := dkwX2_plan_2 ++ dktX2_plan_3
def dkwX2_plan_1 : List UInt8 := [163, 0, 19, 28, 4, 16, 24, 184, 0, 62, 153, 0, 9, 29, 16, 254, 162, 0, 7, 19, 1, 102, 172, 42]
abbrev dktX2_plan_1 : List UInt8 := dkwX2_plan_1 ++ dktX2_plan_2
def dkwX2_plan_0 : List UInt8 := [27, 3, 4, 42, 180, 0, 7, 4, 46, 120, 4, 100, 184, 0, 62, 153, 0, 27, 27, 184, 1, 99, 7]
abbrev dktX2_plan_0 : List UInt8 := dkwX2_plan_0 ++ dktX2_plan_1
theorem dksX2_plan_0 : cX2_plan.data.toList.drop 0 = dktX2_plan_0 := by decide +kernel
theorem dksX2_plan_1 : cX2_plan.data.toList.drop 23 = dktX2_plan_1 := dk_seg dksX2_plan_0 23 rfl rfl
theorem dksX2_plan_2 : cX2_plan.data.toList.drop 47 = dktX2_plan_2 := dk_seg dksX2_plan_1 24 rfl rfl
theorem dksX2_plan_3 : cX2_plan.data.toList.drop 70 = dktX2_plan_3 := dk_seg dksX2_plan_2 23 rfl rfl
theorem dksX2_plan_4 : cX2_plan.data.toList.drop 94 = dktX2_plan_4 := dk_seg dksX2_plan_3 24 rfl rfl
theorem dksX2_plan_5 : cX2_plan.data.toList.drop 117 = dktX2_plan_5 := dk_seg dksX2_plan_4 23 rfl rfl
theorem dksX2_plan_6 : cX2_plan.data.toList.drop 141 = dktX2_plan_6 := dk_seg dksX2_plan_5 24 rfl rfl
theorem dksX2_plan_7 : cX2_plan.data.toList.drop 165 = dktX2_plan_7 := dk_seg dksX2_plan_6 24 rfl rfl
theorem dksX2_plan_8 : cX2_plan.data.toList.drop 189 = dktX2_plan_8 := dk_seg dksX2_plan_7 24 rfl rfl
theorem dksX2_plan_9 : cX2_plan.data.toList.drop 211 = dktX2_plan_9 := dk_seg dksX2_plan_8 22 rfl rfl
theorem dksX2_plan_10 : cX2_plan.data.toList.drop 235 = dktX2_plan_10 := dk_seg dksX2_plan_9 24 rfl rfl
theorem dX2_plan_0 : decode cX2_plan 0 = .ok (.iload_n 1, 1) := dk_27 (dk_at dksX2_plan_0 0 rfl rfl)
theorem dX2_plan_1 : decode cX2_plan 1 = .ok (.iconst 0, 1) := dk_3 (dk_at dksX2_plan_0 1 rfl rfl)
theorem dX2_plan_2 : decode cX2_plan 2 = .ok (.iconst 1, 1) := dk_4 (dk_at dksX2_plan_0 2 rfl rfl)
theorem dX2_plan_3 : decode cX2_plan 3 = .ok (.aload_n 0, 1) := dk_42 (dk_at dksX2_plan_0 3 rfl rfl)
theorem dX2_plan_4 : decode cX2_plan 4 = .ok (.getfield 7, 3) := dk_180 0 7 (dk_at dksX2_plan_0 4 rfl rfl)
theorem dX2_plan_7 : decode cX2_plan 7 = .ok (.iconst 1, 1) := dk_4 (dk_at dksX2_plan_0 7 rfl rfl)
theorem dX2_plan_8 : decode cX2_plan 8 = .ok (.iaload, 1) := dk_46 (dk_at dksX2_plan_0 8 rfl rfl)
theorem dX2_plan_9 : decode cX2_plan 9 = .ok (.ishl, 1) := dk_120 (dk_at dksX2_plan_0 9 rfl rfl)
theorem dX2_plan_10 : decode cX2_plan 10 = .ok (.iconst 1, 1) := dk_4 (dk_at dksX2_plan_0 10 rfl rfl)
theorem dX2_plan_11 : decode cX2_plan 11 = .ok (.isub, 1) := dk_100 (dk_at dksX2_plan_0 11 rfl rfl)
theorem dX2_plan_12 : decode cX2_plan 12 = .ok (.invokestatic 62, 3) := dk_184 0 62 (dk_at dksX2_plan_0 12 rfl rfl)
theorem dX2_plan_15 : decode cX2_plan 15 = .ok (.ifCond .eq 27, 3) := dk_153 0 27 (dk_at dksX2_plan_0 15 rfl rfl)
theorem dX2_plan_18 : decode cX2_plan 18 = .ok (.iload_n 1, 1) := dk_27 (dk_at dksX2_plan_0 18 rfl rfl)
theorem dX2_plan_19 : decode cX2_plan 19 = .ok (.invokestatic 355, 3) := dk_184 1 99 (dk_at dksX2_plan_0 19 rfl rfl)
theorem dX2_plan_22 : decode cX2_plan 22 = .ok (.iconst 4, 1) := dk_7 (dk_at dksX2_plan_0 22 rfl rfl)
theorem dX2_plan_23 : decode cX2_plan 23 = .ok (.if_icmp .gt 19, 3) := dk_163 0 19 (dk_at dksX2_plan_1 0 rfl rfl)
theorem dX2_plan_26 : decode cX2_plan 26 = .ok (.iload_n 2, 1) := dk_28 (dk_at dksX2_plan_1 3 rfl rfl)
theorem dX2_plan_27 : decode cX2_plan 27 = .ok (.iconst 1, 1) := dk_4 (dk_at dksX2_plan_1 4 rfl rfl)
theorem dX2_plan_28 : decode cX2_plan 28 = .ok (.bipush 24, 2) := dk_16 24 (dk_at dksX2_plan_1 5 rfl rfl)
theorem dX2_plan_30 : decode cX2_plan 30 = .ok (.invokestatic 62, 3) := dk_184 0 62 (dk_at dksX2_plan_1 7 rfl rfl)
theorem dX2_plan_33 : decode cX2_plan 33 = .ok (.ifCond .eq 9, 3) := dk_153 0 9 (dk_at dksX2_plan_1 10 rfl rfl)
theorem dX2_plan_36 : decode cX2_plan 36 = .ok (.iload_n 3, 1) := dk_29 (dk_at dksX2_plan_1 13 rfl rfl)
theorem dX2_plan_37 : decode cX2_plan 37 = .ok (.bipush (-2), 2) := dk_16 254 (dk_at dksX2_plan_1 14 rfl rfl)
theorem dX2_plan_39 : decode cX2_plan 39 = .ok (.if_icmp .ge 7, 3) := dk_162 0 7 (dk_at dksX2_plan_1 16 rfl rfl)
theorem dX2_plan_42 : decode cX2_plan 42 = .ok (.ldc_w 358, 3) := dk_19 1 102 (dk_at dksX2_plan_1 19 rfl rfl)
theorem dX2_plan_45 : decode cX2_plan 45 = .ok (.ireturn, 1) := dk_172 (dk_at dksX2_plan_1 22 rfl rfl)
theorem dX2_plan_46 : decode cX2_plan 46 = .ok (.aload_n 0, 1) := dk_42 (dk_at dksX2_plan_1 23 rfl rfl)
theorem dX2_plan_47 : decode cX2_plan 47 = .ok (.getfield 7, 3) := dk_180 0 7 (dk_at dksX2_plan_2 0 rfl rfl)
theorem dX2_plan_50 : decode cX2_plan 50 = .ok (.iconst 3, 1) := dk_6 (dk_at dksX2_plan_2 3 rfl rfl)
theorem dX2_plan_51 : decode cX2_plan 51 = .ok (.iaload, 1) := dk_46 (dk_at dksX2_plan_2 4 rfl rfl)
theorem dX2_plan_52 : decode cX2_plan 52 = .ok (.iload_n 2, 1) := dk_28 (dk_at dksX2_plan_2 5 rfl rfl)
theorem dX2_plan_53 : decode cX2_plan 53 = .ok (.iadd, 1) := dk_96 (dk_at dksX2_plan_2 6 rfl rfl)
theorem dX2_plan_54 : decode cX2_plan 54 = .ok (.sipush 1000, 3) := dk_17 3 232 (dk_at dksX2_plan_2 7 rfl rfl)
theorem dX2_plan_57 : decode cX2_plan 57 = .ok (.if_icmp .le 16, 3) := dk_164 0 16 (dk_at dksX2_plan_2 10 rfl rfl)
theorem dX2_plan_60 : decode cX2_plan 60 = .ok (.sipush 1000, 3) := dk_17 3 232 (dk_at dksX2_plan_2 13 rfl rfl)
theorem dX2_plan_63 : decode cX2_plan 63 = .ok (.aload_n 0, 1) := dk_42 (dk_at dksX2_plan_2 16 rfl rfl)
theorem dX2_plan_64 : decode cX2_plan 64 = .ok (.getfield 7, 3) := dk_180 0 7 (dk_at dksX2_plan_2 17 rfl rfl)
theorem dX2_plan_67 : decode cX2_plan 67 = .ok (.iconst 3, 1) := dk_6 (dk_at dksX2_plan_2 20 rfl rfl)
theorem dX2_plan_68 : decode cX2_plan 68 = .ok (.iaload, 1) := dk_46 (dk_at dksX2_plan_2 21 rfl rfl)
theorem dX2_plan_69 : decode cX2_plan 69 = .ok (.isub, 1) := dk_100 (dk_at dksX2_plan_2 22 rfl rfl)
theorem dX2_plan_70 : decode cX2_plan 70 = .ok (.goto 4, 3) := dk_167 0 4 (dk_at dksX2_plan_3 0 rfl rfl)
theorem dX2_plan_73 : decode cX2_plan 73 = .ok (.iload_n 2, 1) := dk_28 (dk_at dksX2_plan_3 3 rfl rfl)
theorem dX2_plan_74 : decode cX2_plan 74 = .ok (.istore 4, 2) := dk_54 4 (dk_at dksX2_plan_3 4 rfl rfl)
theorem dX2_plan_76 : decode cX2_plan 76 = .ok (.iconst 0, 1) := dk_3 (dk_at dksX2_plan_3 6 rfl rfl)
theorem dX2_plan_77 : decode cX2_plan 77 = .ok (.istore 5, 2) := dk_54 5 (dk_at dksX2_plan_3 7 rfl rfl)
theorem dX2_plan_79 : decode cX2_plan 79 = .ok (.iload 5, 2) := dk_21 5 (dk_at dksX2_plan_3 9 rfl rfl)
theorem dX2_plan_81 : decode cX2_plan 81 = .ok (.iload 4, 2) := dk_21 4 (dk_at dksX2_plan_3 11 rfl rfl)
theorem dX2_plan_83 : decode cX2_plan 83 = .ok (.if_icmp .ge 77, 3) := dk_162 0 77 (dk_at dksX2_plan_3 13 rfl rfl)
theorem dX2_plan_86 : decode cX2_plan 86 = .ok (.aload_n 0, 1) := dk_42 (dk_at dksX2_plan_3 16 rfl rfl)
theorem dX2_plan_87 : decode cX2_plan 87 = .ok (.getfield 52, 3) := dk_180 0 52 (dk_at dksX2_plan_3 17 rfl rfl)
theorem dX2_plan_90 : decode cX2_plan 90 = .ok (.iload 5, 2) := dk_21 5 (dk_at dksX2_plan_3 20 rfl rfl)
theorem dX2_plan_92 : decode cX2_plan 92 = .ok (.aload_n 0, 1) := dk_42 (dk_at dksX2_plan_3 22 rfl rfl)
theorem dX2_plan_93 : decode cX2_plan 93 = .ok (.aload_n 0, 1) := dk_42 (dk_at dksX2_plan_3 23 rfl rfl)
theorem dX2_plan_94 : decode cX2_plan 94 = .ok (.getfield 7, 3) := dk_180 0 7 (dk_at dksX2_plan_4 0 rfl rfl)
theorem dX2_plan_97 : decode cX2_plan 97 = .ok (.iconst 3, 1) := dk_6 (dk_at dksX2_plan_4 3 rfl rfl)
theorem dX2_plan_98 : decode cX2_plan 98 = .ok (.iaload, 1) := dk_46 (dk_at dksX2_plan_4 4 rfl rfl)
theorem dX2_plan_99 : decode cX2_plan 99 = .ok (.iload 5, 2) := dk_21 5 (dk_at dksX2_plan_4 5 rfl rfl)
theorem dX2_plan_101 : decode cX2_plan 101 = .ok (.iadd, 1) := dk_96 (dk_at dksX2_plan_4 7 rfl rfl)
theorem dX2_plan_102 : decode cX2_plan 102 = .ok (.invokevirtual 290, 3) := dk_182 1 34 (dk_at dksX2_plan_4 8 rfl rfl)
theorem dX2_plan_105 : decode cX2_plan 105 = .ok (.iastore, 1) := dk_79 (dk_at dksX2_plan_4 11 rfl rfl)
theorem dX2_plan_106 : decode cX2_plan 106 = .ok (.iconst 0, 1) := dk_3 (dk_at dksX2_plan_4 12 rfl rfl)
theorem dX2_plan_107 : decode cX2_plan 107 = .ok (.istore 6, 2) := dk_54 6 (dk_at dksX2_plan_4 13 rfl rfl)
theorem dX2_plan_109 : decode cX2_plan 109 = .ok (.iload 6, 2) := dk_21 6 (dk_at dksX2_plan_4 15 rfl rfl)
theorem dX2_plan_111 : decode cX2_plan 111 = .ok (.aload_n 0, 1) := dk_42 (dk_at dksX2_plan_4 17 rfl rfl)
theorem dX2_plan_112 : decode cX2_plan 112 = .ok (.getfield 7, 3) := dk_180 0 7 (dk_at dksX2_plan_4 18 rfl rfl)
theorem dX2_plan_115 : decode cX2_plan 115 = .ok (.iconst 0, 1) := dk_3 (dk_at dksX2_plan_4 21 rfl rfl)
theorem dX2_plan_116 : decode cX2_plan 116 = .ok (.iaload, 1) := dk_46 (dk_at dksX2_plan_4 22 rfl rfl)
theorem dX2_plan_117 : decode cX2_plan 117 = .ok (.if_icmp .ge 37, 3) := dk_162 0 37 (dk_at dksX2_plan_5 0 rfl rfl)
theorem dX2_plan_120 : decode cX2_plan 120 = .ok (.aload_n 0, 1) := dk_42 (dk_at dksX2_plan_5 3 rfl rfl)
theorem dX2_plan_121 : decode cX2_plan 121 = .ok (.getfield 55, 3) := dk_180 0 55 (dk_at dksX2_plan_5 4 rfl rfl)
theorem dX2_plan_124 : decode cX2_plan 124 = .ok (.bipush 6, 2) := dk_16 6 (dk_at dksX2_plan_5 7 rfl rfl)
theorem dX2_plan_126 : decode cX2_plan 126 = .ok (.iload 5, 2) := dk_21 5 (dk_at dksX2_plan_5 9 rfl rfl)
theorem dX2_plan_128 : decode cX2_plan 128 = .ok (.imul, 1) := dk_104 (dk_at dksX2_plan_5 11 rfl rfl)
theorem dX2_plan_129 : decode cX2_plan 129 = .ok (.iload 6, 2) := dk_21 6 (dk_at dksX2_plan_5 12 rfl rfl)
theorem dX2_plan_131 : decode cX2_plan 131 = .ok (.iadd, 1) := dk_96 (dk_at dksX2_plan_5 14 rfl rfl)
theorem dX2_plan_132 : decode cX2_plan 132 = .ok (.aload_n 0, 1) := dk_42 (dk_at dksX2_plan_5 15 rfl rfl)
theorem dX2_plan_133 : decode cX2_plan 133 = .ok (.iload 6, 2) := dk_21 6 (dk_at dksX2_plan_5 16 rfl rfl)
theorem dX2_plan_135 : decode cX2_plan 135 = .ok (.aload_n 0, 1) := dk_42 (dk_at dksX2_plan_5 18 rfl rfl)
theorem dX2_plan_136 : decode cX2_plan 136 = .ok (.getfield 7, 3) := dk_180 0 7 (dk_at dksX2_plan_5 19 rfl rfl)
theorem dX2_plan_139 : decode cX2_plan 139 = .ok (.iconst 3, 1) := dk_6 (dk_at dksX2_plan_5 22 rfl rfl)
theorem dX2_plan_140 : decode cX2_plan 140 = .ok (.iaload, 1) := dk_46 (dk_at dksX2_plan_5 23 rfl rfl)
theorem dX2_plan_141 : decode cX2_plan 141 = .ok (.iload 5, 2) := dk_21 5 (dk_at dksX2_plan_6 0 rfl rfl)
theorem dX2_plan_143 : decode cX2_plan 143 = .ok (.iadd, 1) := dk_96 (dk_at dksX2_plan_6 2 rfl rfl)
theorem dX2_plan_144 : decode cX2_plan 144 = .ok (.invokevirtual 293, 3) := dk_182 1 37 (dk_at dksX2_plan_6 3 rfl rfl)
theorem dX2_plan_147 : decode cX2_plan 147 = .ok (.iastore, 1) := dk_79 (dk_at dksX2_plan_6 6 rfl rfl)
theorem dX2_plan_148 : decode cX2_plan 148 = .ok (.iinc 6 1, 3) := dk_132 6 1 (dk_at dksX2_plan_6 7 rfl rfl)
theorem dX2_plan_151 : decode cX2_plan 151 = .ok (.goto (-42), 3) := dk_167 255 214 (dk_at dksX2_plan_6 10 rfl rfl)
theorem dX2_plan_154 : decode cX2_plan 154 = .ok (.iinc 5 1, 3) := dk_132 5 1 (dk_at dksX2_plan_6 13 rfl rfl)
theorem dX2_plan_157 : decode cX2_plan 157 = .ok (.goto (-78), 3) := dk_167 255 178 (dk_at dksX2_plan_6 16 rfl rfl)
theorem dX2_plan_160 : decode cX2_plan 160 = .ok (.iload_n 1, 1) := dk_27 (dk_at dksX2_plan_6 19 rfl rfl)
theorem dX2_plan_161 : decode cX2_plan 161 = .ok (.istore 5, 2) := dk_54 5 (dk_at dksX2_plan_6 20 rfl rfl)
theorem dX2_plan_163 : decode cX2_plan 163 = .ok (.iload 5, 2) := dk_21 5 (dk_at dksX2_plan_6 22 rfl rfl)
theorem dX2_plan_165 : decode cX2_plan 165 = .ok (.ifCond .lt 44, 3) := dk_155 0 44 (dk_at dksX2_plan_7 0 rfl rfl)
theorem dX2_plan_168 : decode cX2_plan 168 = .ok (.iload 5, 2) := dk_21 5 (dk_at dksX2_plan_7 3 rfl rfl)
theorem dX2_plan_170 : decode cX2_plan 170 = .ok (.iload_n 1, 1) := dk_27 (dk_at dksX2_plan_7 5 rfl rfl)
theorem dX2_plan_171 : decode cX2_plan 171 = .ok (.iconst (-1), 1) := dk_2 (dk_at dksX2_plan_7 6 rfl rfl)
theorem dX2_plan_172 : decode cX2_plan 172 = .ok (.ixor, 1) := dk_130 (dk_at dksX2_plan_7 7 rfl rfl)
theorem dX2_plan_173 : decode cX2_plan 173 = .ok (.iand, 1) := dk_126 (dk_at dksX2_plan_7 8 rfl rfl)
theorem dX2_plan_174 : decode cX2_plan 174 = .ok (.ifCond .ne 29, 3) := dk_154 0 29 (dk_at dksX2_plan_7 9 rfl rfl)
theorem dX2_plan_177 : decode cX2_plan 177 = .ok (.iload 4, 2) := dk_21 4 (dk_at dksX2_plan_7 12 rfl rfl)
theorem dX2_plan_179 : decode cX2_plan 179 = .ok (.istore 6, 2) := dk_54 6 (dk_at dksX2_plan_7 14 rfl rfl)
theorem dX2_plan_181 : decode cX2_plan 181 = .ok (.iload 6, 2) := dk_21 6 (dk_at dksX2_plan_7 16 rfl rfl)
theorem dX2_plan_183 : decode cX2_plan 183 = .ok (.ifCond .lt 20, 3) := dk_155 0 20 (dk_at dksX2_plan_7 18 rfl rfl)
theorem dX2_plan_186 : decode cX2_plan 186 = .ok (.aload_n 0, 1) := dk_42 (dk_at dksX2_plan_7 21 rfl rfl)
theorem dX2_plan_187 : decode cX2_plan 187 = .ok (.iload 5, 2) := dk_21 5 (dk_at dksX2_plan_7 22 rfl rfl)
theorem dX2_plan_189 : decode cX2_plan 189 = .ok (.iload 6, 2) := dk_21 6 (dk_at dksX2_plan_8 0 rfl rfl)
theorem dX2_plan_191 : decode cX2_plan 191 = .ok (.iload_n 1, 1) := dk_27 (dk_at dksX2_plan_8 2 rfl rfl)
theorem dX2_plan_192 : decode cX2_plan 192 = .ok (.iload 4, 2) := dk_21 4 (dk_at dksX2_plan_8 3 rfl rfl)
theorem dX2_plan_194 : decode cX2_plan 194 = .ok (.invokevirtual 359, 3) := dk_182 1 103 (dk_at dksX2_plan_8 5 rfl rfl)
theorem dX2_plan_197 : decode cX2_plan 197 = .ok (.iinc 6 (-1), 3) := dk_132 6 255 (dk_at dksX2_plan_8 8 rfl rfl)
theorem dX2_plan_200 : decode cX2_plan 200 = .ok (.goto (-19), 3) := dk_167 255 237 (dk_at dksX2_plan_8 11 rfl rfl)
theorem dX2_plan_203 : decode cX2_plan 203 = .ok (.iinc 5 (-1), 3) := dk_132 5 255 (dk_at dksX2_plan_8 14 rfl rfl)
theorem dX2_plan_206 : decode cX2_plan 206 = .ok (.goto (-43), 3) := dk_167 255 213 (dk_at dksX2_plan_8 17 rfl rfl)
theorem dX2_plan_209 : decode cX2_plan 209 = .ok (.iload_n 3, 1) := dk_29 (dk_at dksX2_plan_8 20 rfl rfl)
theorem dX2_plan_210 : decode cX2_plan 210 = .ok (.iconst (-1), 1) := dk_2 (dk_at dksX2_plan_8 21 rfl rfl)
theorem dX2_plan_211 : decode cX2_plan 211 = .ok (.if_icmp .ne 10, 3) := dk_160 0 10 (dk_at dksX2_plan_9 0 rfl rfl)
theorem dX2_plan_214 : decode cX2_plan 214 = .ok (.aload_n 0, 1) := dk_42 (dk_at dksX2_plan_9 3 rfl rfl)
theorem dX2_plan_215 : decode cX2_plan 215 = .ok (.getfield 46, 3) := dk_180 0 46 (dk_at dksX2_plan_9 4 rfl rfl)
theorem dX2_plan_218 : decode cX2_plan 218 = .ok (.iconst 0, 1) := dk_3 (dk_at dksX2_plan_9 7 rfl rfl)
theorem dX2_plan_219 : decode cX2_plan 219 = .ok (.iaload, 1) := dk_46 (dk_at dksX2_plan_9 8 rfl rfl)
theorem dX2_plan_220 : decode cX2_plan 220 = .ok (.ireturn, 1) := dk_172 (dk_at dksX2_plan_9 9 rfl rfl)
theorem dX2_plan_221 : decode cX2_plan 221 = .ok (.iload_n 3, 1) := dk_29 (dk_at dksX2_plan_9 10 rfl rfl)
theorem dX2_plan_222 : decode cX2_plan 222 = .ok (.bipush (-2), 2) := dk_16 254 (dk_at dksX2_plan_9 11 rfl rfl)
theorem dX2_plan_224 : decode cX2_plan 224 = .ok (.if_icmp .ne 10, 3) := dk_160 0 10 (dk_at dksX2_plan_9 13 rfl rfl)
theorem dX2_plan_227 : decode cX2_plan 227 = .ok (.aload_n 0, 1) := dk_42 (dk_at dksX2_plan_9 16 rfl rfl)
theorem dX2_plan_228 : decode cX2_plan 228 = .ok (.getfield 49, 3) := dk_180 0 49 (dk_at dksX2_plan_9 17 rfl rfl)
theorem dX2_plan_231 : decode cX2_plan 231 = .ok (.iconst 0, 1) := dk_3 (dk_at dksX2_plan_9 20 rfl rfl)
theorem dX2_plan_232 : decode cX2_plan 232 = .ok (.iaload, 1) := dk_46 (dk_at dksX2_plan_9 21 rfl rfl)
theorem dX2_plan_233 : decode cX2_plan 233 = .ok (.ireturn, 1) := dk_172 (dk_at dksX2_plan_9 22 rfl rfl)
theorem dX2_plan_234 : decode cX2_plan 234 = .ok (.iload_n 3, 1) := dk_29 (dk_at dksX2_plan_9 23 rfl rfl)
theorem dX2_plan_235 : decode cX2_plan 235 = .ok (.aload_n 0, 1) := dk_42 (dk_at dksX2_plan_10 0 rfl rfl)
theorem dX2_plan_236 : decode cX2_plan 236 = .ok (.getfield 49, 3) := dk_180 0 49 (dk_at dksX2_plan_10 1 rfl rfl)
theorem dX2_plan_239 : decode cX2_plan 239 = .ok (.iconst 0, 1) := dk_3 (dk_at dksX2_plan_10 4 rfl rfl)
theorem dX2_plan_240 : decode cX2_plan 240 = .ok (.iaload, 1) := dk_46 (dk_at dksX2_plan_10 5 rfl rfl)
theorem dX2_plan_241 : decode cX2_plan 241 = .ok (.if_icmp .ge 14, 3) := dk_162 0 14 (dk_at dksX2_plan_10 6 rfl rfl)
theorem dX2_plan_244 : decode cX2_plan 244 = .ok (.aload_n 0, 1) := dk_42 (dk_at dksX2_plan_10 9 rfl rfl)
theorem dX2_plan_245 : decode cX2_plan 245 = .ok (.iload_n 1, 1) := dk_27 (dk_at dksX2_plan_10 10 rfl rfl)
theorem dX2_plan_246 : decode cX2_plan 246 = .ok (.iload 4, 2) := dk_21 4 (dk_at dksX2_plan_10 11 rfl rfl)
theorem dX2_plan_248 : decode cX2_plan 248 = .ok (.iload_n 3, 1) := dk_29 (dk_at dksX2_plan_10 13 rfl rfl)
theorem dX2_plan_249 : decode cX2_plan 249 = .ok (.invokevirtual 363, 3) := dk_182 1 107 (dk_at dksX2_plan_10 14 rfl rfl)
theorem dX2_plan_252 : decode cX2_plan 252 = .ok (.goto 6, 3) := dk_167 0 6 (dk_at dksX2_plan_10 17 rfl rfl)
theorem dX2_plan_255 : decode cX2_plan 255 = .ok (.ldc_w 358, 3) := dk_19 1 102 (dk_at dksX2_plan_10 20 rfl rfl)
theorem dX2_plan_258 : decode cX2_plan 258 = .ok (.ireturn, 1) := dk_172 (dk_at dksX2_plan_10 23 rfl rfl)
abbrev cX2_bits : ByteArray := prog_18_method_6_code
def yX2_bits : MethodName := ⟨RX2, "bits", "(I)I"⟩
def dkwX2_bits_1 : List UInt8 := [27, 172]
abbrev dktX2_bits_1 : List UInt8 := dkwX2_bits_1 ++ []
def dkwX2_bits_0 : List UInt8 := [3, 60, 3, 61, 28, 16, 10, 162, 0, 17, 27, 26, 28, 122, 4, 126, 96, 60, 132, 2, 1, 167, 255, 239]
abbrev dktX2_bits_0 : List UInt8 := dkwX2_bits_0 ++ dktX2_bits_1
theorem dksX2_bits_0 : cX2_bits.data.toList.drop 0 = dktX2_bits_0 := by decide +kernel
theorem dksX2_bits_1 : cX2_bits.data.toList.drop 24 = dktX2_bits_1 := dk_seg dksX2_bits_0 24 rfl rfl
theorem dX2_bits_0 : decode cX2_bits 0 = .ok (.iconst 0, 1) := dk_3 (dk_at dksX2_bits_0 0 rfl rfl)
theorem dX2_bits_1 : decode cX2_bits 1 = .ok (.istore_n 1, 1) := dk_60 (dk_at dksX2_bits_0 1 rfl rfl)
theorem dX2_bits_2 : decode cX2_bits 2 = .ok (.iconst 0, 1) := dk_3 (dk_at dksX2_bits_0 2 rfl rfl)
theorem dX2_bits_3 : decode cX2_bits 3 = .ok (.istore_n 2, 1) := dk_61 (dk_at dksX2_bits_0 3 rfl rfl)
theorem dX2_bits_4 : decode cX2_bits 4 = .ok (.iload_n 2, 1) := dk_28 (dk_at dksX2_bits_0 4 rfl rfl)
theorem dX2_bits_5 : decode cX2_bits 5 = .ok (.bipush 10, 2) := dk_16 10 (dk_at dksX2_bits_0 5 rfl rfl)
theorem dX2_bits_7 : decode cX2_bits 7 = .ok (.if_icmp .ge 17, 3) := dk_162 0 17 (dk_at dksX2_bits_0 7 rfl rfl)
theorem dX2_bits_10 : decode cX2_bits 10 = .ok (.iload_n 1, 1) := dk_27 (dk_at dksX2_bits_0 10 rfl rfl)
theorem dX2_bits_11 : decode cX2_bits 11 = .ok (.iload_n 0, 1) := dk_26 (dk_at dksX2_bits_0 11 rfl rfl)
theorem dX2_bits_12 : decode cX2_bits 12 = .ok (.iload_n 2, 1) := dk_28 (dk_at dksX2_bits_0 12 rfl rfl)
theorem dX2_bits_13 : decode cX2_bits 13 = .ok (.ishr, 1) := dk_122 (dk_at dksX2_bits_0 13 rfl rfl)
theorem dX2_bits_14 : decode cX2_bits 14 = .ok (.iconst 1, 1) := dk_4 (dk_at dksX2_bits_0 14 rfl rfl)
theorem dX2_bits_15 : decode cX2_bits 15 = .ok (.iand, 1) := dk_126 (dk_at dksX2_bits_0 15 rfl rfl)
theorem dX2_bits_16 : decode cX2_bits 16 = .ok (.iadd, 1) := dk_96 (dk_at dksX2_bits_0 16 rfl rfl)
theorem dX2_bits_17 : decode cX2_bits 17 = .ok (.istore_n 1, 1) := dk_60 (dk_at dksX2_bits_0 17 rfl rfl)
theorem dX2_bits_18 : decode cX2_bits 18 = .ok (.iinc 2 1, 3) := dk_132 2 1 (dk_at dksX2_bits_0 18 rfl rfl)
theorem dX2_bits_21 : decode cX2_bits 21 = .ok (.goto (-17), 3) := dk_167 255 239 (dk_at dksX2_bits_0 21 rfl rfl)
theorem dX2_bits_24 : decode cX2_bits 24 = .ok (.iload_n 1, 1) := dk_27 (dk_at dksX2_bits_1 0 rfl rfl)
theorem dX2_bits_25 : decode cX2_bits 25 = .ok (.ireturn, 1) := dk_172 (dk_at dksX2_bits_1 1 rfl rfl)
abbrev cX2_reckon : ByteArray := prog_18_method_89_code
def yX2_reckon : MethodName := ⟨RX2, "reckon", "(IIII)V"⟩
def dkwX2_reckon_6 : List UInt8 := [132, 6, 1, 167, 255, 138, 177]
abbrev dktX2_reckon_6 : List UInt8 := dkwX2_reckon_6 ++ []
def dkwX2_reckon_5 : List UInt8 := [161, 0, 6, 167, 0, 21, 42, 180, 0, 46, 21, 5, 21, 7, 79, 42, 180, 0, 49, 21, 5, 21, 8, 79]
abbrev dktX2_reckon_5 : List UInt8 := dkwX2_reckon_5 ++ dktX2_reckon_6
def dkwX2_reckon_4 : List UInt8 := [161, 0, 48, 21, 7, 42, 180, 0, 46, 21, 5, 46, 160, 0, 18, 21, 8, 42, 180, 0, 49, 21, 5, 46]
abbrev dktX2_reckon_4 : List UInt8 := dkwX2_reckon_4 ++ dktX2_reckon_5
def dkwX2_reckon_3 : List UInt8 := [120, 128, 104, 42, 180, 1, 84, 96, 46, 4, 96, 54, 8, 21, 7, 42, 180, 0, 46, 21, 5, 46]
abbrev dktX2_reckon_3 : List UInt8 := dkwX2_reckon_3 ++ dktX2_reckon_4
def dkwX2_reckon_2 : List UInt8 := [21, 7, 19, 1, 94, 160, 0, 6, 167, 0, 86, 42, 180, 0, 49, 16, 26, 27, 4, 21, 6, 16, 100, 108]
abbrev dktX2_reckon_2 : List UInt8 := dkwX2_reckon_2 ++ dktX2_reckon_3
def dkwX2_reckon_1 : List UInt8 := [3, 54, 6, 21, 6, 17, 2, 88, 162, 0, 116, 42, 27, 28, 21, 6, 29, 21, 4, 182, 1, 95, 54, 7]
abbrev dktX2_reckon_1 : List UInt8 := dkwX2_reckon_1 ++ dktX2_reckon_2
def dkwX2_reckon_0 : List UInt8 := [16, 26, 27, 104, 28, 96, 54, 5, 42, 180, 0, 46, 21, 5, 3, 79, 42, 180, 0, 49, 21, 5, 3, 79]
abbrev dktX2_reckon_0 : List UInt8 := dkwX2_reckon_0 ++ dktX2_reckon_1
theorem dksX2_reckon_0 : cX2_reckon.data.toList.drop 0 = dktX2_reckon_0 := by decide +kernel
theorem dksX2_reckon_1 : cX2_reckon.data.toList.drop 24 = dktX2_reckon_1 := dk_seg dksX2_reckon_0 24 rfl rfl
theorem dksX2_reckon_2 : cX2_reckon.data.toList.drop 48 = dktX2_reckon_2 := dk_seg dksX2_reckon_1 24 rfl rfl
theorem dksX2_reckon_3 : cX2_reckon.data.toList.drop 72 = dktX2_reckon_3 := dk_seg dksX2_reckon_2 24 rfl rfl
theorem dksX2_reckon_4 : cX2_reckon.data.toList.drop 94 = dktX2_reckon_4 := dk_seg dksX2_reckon_3 22 rfl rfl
theorem dksX2_reckon_5 : cX2_reckon.data.toList.drop 118 = dktX2_reckon_5 := dk_seg dksX2_reckon_4 24 rfl rfl
theorem dksX2_reckon_6 : cX2_reckon.data.toList.drop 142 = dktX2_reckon_6 := dk_seg dksX2_reckon_5 24 rfl rfl
theorem dX2_reckon_0 : decode cX2_reckon 0 = .ok (.bipush 26, 2) := dk_16 26 (dk_at dksX2_reckon_0 0 rfl rfl)
theorem dX2_reckon_2 : decode cX2_reckon 2 = .ok (.iload_n 1, 1) := dk_27 (dk_at dksX2_reckon_0 2 rfl rfl)
theorem dX2_reckon_3 : decode cX2_reckon 3 = .ok (.imul, 1) := dk_104 (dk_at dksX2_reckon_0 3 rfl rfl)
theorem dX2_reckon_4 : decode cX2_reckon 4 = .ok (.iload_n 2, 1) := dk_28 (dk_at dksX2_reckon_0 4 rfl rfl)
theorem dX2_reckon_5 : decode cX2_reckon 5 = .ok (.iadd, 1) := dk_96 (dk_at dksX2_reckon_0 5 rfl rfl)
theorem dX2_reckon_6 : decode cX2_reckon 6 = .ok (.istore 5, 2) := dk_54 5 (dk_at dksX2_reckon_0 6 rfl rfl)
theorem dX2_reckon_8 : decode cX2_reckon 8 = .ok (.aload_n 0, 1) := dk_42 (dk_at dksX2_reckon_0 8 rfl rfl)
theorem dX2_reckon_9 : decode cX2_reckon 9 = .ok (.getfield 46, 3) := dk_180 0 46 (dk_at dksX2_reckon_0 9 rfl rfl)
theorem dX2_reckon_12 : decode cX2_reckon 12 = .ok (.iload 5, 2) := dk_21 5 (dk_at dksX2_reckon_0 12 rfl rfl)
theorem dX2_reckon_14 : decode cX2_reckon 14 = .ok (.iconst 0, 1) := dk_3 (dk_at dksX2_reckon_0 14 rfl rfl)
theorem dX2_reckon_15 : decode cX2_reckon 15 = .ok (.iastore, 1) := dk_79 (dk_at dksX2_reckon_0 15 rfl rfl)
theorem dX2_reckon_16 : decode cX2_reckon 16 = .ok (.aload_n 0, 1) := dk_42 (dk_at dksX2_reckon_0 16 rfl rfl)
theorem dX2_reckon_17 : decode cX2_reckon 17 = .ok (.getfield 49, 3) := dk_180 0 49 (dk_at dksX2_reckon_0 17 rfl rfl)
theorem dX2_reckon_20 : decode cX2_reckon 20 = .ok (.iload 5, 2) := dk_21 5 (dk_at dksX2_reckon_0 20 rfl rfl)
theorem dX2_reckon_22 : decode cX2_reckon 22 = .ok (.iconst 0, 1) := dk_3 (dk_at dksX2_reckon_0 22 rfl rfl)
theorem dX2_reckon_23 : decode cX2_reckon 23 = .ok (.iastore, 1) := dk_79 (dk_at dksX2_reckon_0 23 rfl rfl)
theorem dX2_reckon_24 : decode cX2_reckon 24 = .ok (.iconst 0, 1) := dk_3 (dk_at dksX2_reckon_1 0 rfl rfl)
theorem dX2_reckon_25 : decode cX2_reckon 25 = .ok (.istore 6, 2) := dk_54 6 (dk_at dksX2_reckon_1 1 rfl rfl)
theorem dX2_reckon_27 : decode cX2_reckon 27 = .ok (.iload 6, 2) := dk_21 6 (dk_at dksX2_reckon_1 3 rfl rfl)
theorem dX2_reckon_29 : decode cX2_reckon 29 = .ok (.sipush 600, 3) := dk_17 2 88 (dk_at dksX2_reckon_1 5 rfl rfl)
theorem dX2_reckon_32 : decode cX2_reckon 32 = .ok (.if_icmp .ge 116, 3) := dk_162 0 116 (dk_at dksX2_reckon_1 8 rfl rfl)
theorem dX2_reckon_35 : decode cX2_reckon 35 = .ok (.aload_n 0, 1) := dk_42 (dk_at dksX2_reckon_1 11 rfl rfl)
theorem dX2_reckon_36 : decode cX2_reckon 36 = .ok (.iload_n 1, 1) := dk_27 (dk_at dksX2_reckon_1 12 rfl rfl)
theorem dX2_reckon_37 : decode cX2_reckon 37 = .ok (.iload_n 2, 1) := dk_28 (dk_at dksX2_reckon_1 13 rfl rfl)
theorem dX2_reckon_38 : decode cX2_reckon 38 = .ok (.iload 6, 2) := dk_21 6 (dk_at dksX2_reckon_1 14 rfl rfl)
theorem dX2_reckon_40 : decode cX2_reckon 40 = .ok (.iload_n 3, 1) := dk_29 (dk_at dksX2_reckon_1 16 rfl rfl)
theorem dX2_reckon_41 : decode cX2_reckon 41 = .ok (.iload 4, 2) := dk_21 4 (dk_at dksX2_reckon_1 17 rfl rfl)
theorem dX2_reckon_43 : decode cX2_reckon 43 = .ok (.invokevirtual 351, 3) := dk_182 1 95 (dk_at dksX2_reckon_1 19 rfl rfl)
theorem dX2_reckon_46 : decode cX2_reckon 46 = .ok (.istore 7, 2) := dk_54 7 (dk_at dksX2_reckon_1 22 rfl rfl)
theorem dX2_reckon_48 : decode cX2_reckon 48 = .ok (.iload 7, 2) := dk_21 7 (dk_at dksX2_reckon_2 0 rfl rfl)
theorem dX2_reckon_50 : decode cX2_reckon 50 = .ok (.ldc_w 350, 3) := dk_19 1 94 (dk_at dksX2_reckon_2 2 rfl rfl)
theorem dX2_reckon_53 : decode cX2_reckon 53 = .ok (.if_icmp .ne 6, 3) := dk_160 0 6 (dk_at dksX2_reckon_2 5 rfl rfl)
theorem dX2_reckon_56 : decode cX2_reckon 56 = .ok (.goto 86, 3) := dk_167 0 86 (dk_at dksX2_reckon_2 8 rfl rfl)
theorem dX2_reckon_59 : decode cX2_reckon 59 = .ok (.aload_n 0, 1) := dk_42 (dk_at dksX2_reckon_2 11 rfl rfl)
theorem dX2_reckon_60 : decode cX2_reckon 60 = .ok (.getfield 49, 3) := dk_180 0 49 (dk_at dksX2_reckon_2 12 rfl rfl)
theorem dX2_reckon_63 : decode cX2_reckon 63 = .ok (.bipush 26, 2) := dk_16 26 (dk_at dksX2_reckon_2 15 rfl rfl)
theorem dX2_reckon_65 : decode cX2_reckon 65 = .ok (.iload_n 1, 1) := dk_27 (dk_at dksX2_reckon_2 17 rfl rfl)
theorem dX2_reckon_66 : decode cX2_reckon 66 = .ok (.iconst 1, 1) := dk_4 (dk_at dksX2_reckon_2 18 rfl rfl)
theorem dX2_reckon_67 : decode cX2_reckon 67 = .ok (.iload 6, 2) := dk_21 6 (dk_at dksX2_reckon_2 19 rfl rfl)
theorem dX2_reckon_69 : decode cX2_reckon 69 = .ok (.bipush 100, 2) := dk_16 100 (dk_at dksX2_reckon_2 21 rfl rfl)
theorem dX2_reckon_71 : decode cX2_reckon 71 = .ok (.idiv, 1) := dk_108 (dk_at dksX2_reckon_2 23 rfl rfl)
theorem dX2_reckon_72 : decode cX2_reckon 72 = .ok (.ishl, 1) := dk_120 (dk_at dksX2_reckon_3 0 rfl rfl)
theorem dX2_reckon_73 : decode cX2_reckon 73 = .ok (.ior, 1) := dk_128 (dk_at dksX2_reckon_3 1 rfl rfl)
theorem dX2_reckon_74 : decode cX2_reckon 74 = .ok (.imul, 1) := dk_104 (dk_at dksX2_reckon_3 2 rfl rfl)
theorem dX2_reckon_75 : decode cX2_reckon 75 = .ok (.aload_n 0, 1) := dk_42 (dk_at dksX2_reckon_3 3 rfl rfl)
theorem dX2_reckon_76 : decode cX2_reckon 76 = .ok (.getfield 340, 3) := dk_180 1 84 (dk_at dksX2_reckon_3 4 rfl rfl)
theorem dX2_reckon_79 : decode cX2_reckon 79 = .ok (.iadd, 1) := dk_96 (dk_at dksX2_reckon_3 7 rfl rfl)
theorem dX2_reckon_80 : decode cX2_reckon 80 = .ok (.iaload, 1) := dk_46 (dk_at dksX2_reckon_3 8 rfl rfl)
theorem dX2_reckon_81 : decode cX2_reckon 81 = .ok (.iconst 1, 1) := dk_4 (dk_at dksX2_reckon_3 9 rfl rfl)
theorem dX2_reckon_82 : decode cX2_reckon 82 = .ok (.iadd, 1) := dk_96 (dk_at dksX2_reckon_3 10 rfl rfl)
theorem dX2_reckon_83 : decode cX2_reckon 83 = .ok (.istore 8, 2) := dk_54 8 (dk_at dksX2_reckon_3 11 rfl rfl)
theorem dX2_reckon_85 : decode cX2_reckon 85 = .ok (.iload 7, 2) := dk_21 7 (dk_at dksX2_reckon_3 13 rfl rfl)
theorem dX2_reckon_87 : decode cX2_reckon 87 = .ok (.aload_n 0, 1) := dk_42 (dk_at dksX2_reckon_3 15 rfl rfl)
theorem dX2_reckon_88 : decode cX2_reckon 88 = .ok (.getfield 46, 3) := dk_180 0 46 (dk_at dksX2_reckon_3 16 rfl rfl)
theorem dX2_reckon_91 : decode cX2_reckon 91 = .ok (.iload 5, 2) := dk_21 5 (dk_at dksX2_reckon_3 19 rfl rfl)
theorem dX2_reckon_93 : decode cX2_reckon 93 = .ok (.iaload, 1) := dk_46 (dk_at dksX2_reckon_3 21 rfl rfl)
theorem dX2_reckon_94 : decode cX2_reckon 94 = .ok (.if_icmp .lt 48, 3) := dk_161 0 48 (dk_at dksX2_reckon_4 0 rfl rfl)
theorem dX2_reckon_97 : decode cX2_reckon 97 = .ok (.iload 7, 2) := dk_21 7 (dk_at dksX2_reckon_4 3 rfl rfl)
theorem dX2_reckon_99 : decode cX2_reckon 99 = .ok (.aload_n 0, 1) := dk_42 (dk_at dksX2_reckon_4 5 rfl rfl)
theorem dX2_reckon_100 : decode cX2_reckon 100 = .ok (.getfield 46, 3) := dk_180 0 46 (dk_at dksX2_reckon_4 6 rfl rfl)
theorem dX2_reckon_103 : decode cX2_reckon 103 = .ok (.iload 5, 2) := dk_21 5 (dk_at dksX2_reckon_4 9 rfl rfl)
theorem dX2_reckon_105 : decode cX2_reckon 105 = .ok (.iaload, 1) := dk_46 (dk_at dksX2_reckon_4 11 rfl rfl)
theorem dX2_reckon_106 : decode cX2_reckon 106 = .ok (.if_icmp .ne 18, 3) := dk_160 0 18 (dk_at dksX2_reckon_4 12 rfl rfl)
theorem dX2_reckon_109 : decode cX2_reckon 109 = .ok (.iload 8, 2) := dk_21 8 (dk_at dksX2_reckon_4 15 rfl rfl)
theorem dX2_reckon_111 : decode cX2_reckon 111 = .ok (.aload_n 0, 1) := dk_42 (dk_at dksX2_reckon_4 17 rfl rfl)
theorem dX2_reckon_112 : decode cX2_reckon 112 = .ok (.getfield 49, 3) := dk_180 0 49 (dk_at dksX2_reckon_4 18 rfl rfl)
theorem dX2_reckon_115 : decode cX2_reckon 115 = .ok (.iload 5, 2) := dk_21 5 (dk_at dksX2_reckon_4 21 rfl rfl)
theorem dX2_reckon_117 : decode cX2_reckon 117 = .ok (.iaload, 1) := dk_46 (dk_at dksX2_reckon_4 23 rfl rfl)
theorem dX2_reckon_118 : decode cX2_reckon 118 = .ok (.if_icmp .lt 6, 3) := dk_161 0 6 (dk_at dksX2_reckon_5 0 rfl rfl)
theorem dX2_reckon_121 : decode cX2_reckon 121 = .ok (.goto 21, 3) := dk_167 0 21 (dk_at dksX2_reckon_5 3 rfl rfl)
theorem dX2_reckon_124 : decode cX2_reckon 124 = .ok (.aload_n 0, 1) := dk_42 (dk_at dksX2_reckon_5 6 rfl rfl)
theorem dX2_reckon_125 : decode cX2_reckon 125 = .ok (.getfield 46, 3) := dk_180 0 46 (dk_at dksX2_reckon_5 7 rfl rfl)
theorem dX2_reckon_128 : decode cX2_reckon 128 = .ok (.iload 5, 2) := dk_21 5 (dk_at dksX2_reckon_5 10 rfl rfl)
theorem dX2_reckon_130 : decode cX2_reckon 130 = .ok (.iload 7, 2) := dk_21 7 (dk_at dksX2_reckon_5 12 rfl rfl)
theorem dX2_reckon_132 : decode cX2_reckon 132 = .ok (.iastore, 1) := dk_79 (dk_at dksX2_reckon_5 14 rfl rfl)
theorem dX2_reckon_133 : decode cX2_reckon 133 = .ok (.aload_n 0, 1) := dk_42 (dk_at dksX2_reckon_5 15 rfl rfl)
theorem dX2_reckon_134 : decode cX2_reckon 134 = .ok (.getfield 49, 3) := dk_180 0 49 (dk_at dksX2_reckon_5 16 rfl rfl)
theorem dX2_reckon_137 : decode cX2_reckon 137 = .ok (.iload 5, 2) := dk_21 5 (dk_at dksX2_reckon_5 19 rfl rfl)
theorem dX2_reckon_139 : decode cX2_reckon 139 = .ok (.iload 8, 2) := dk_21 8 (dk_at dksX2_reckon_5 21 rfl rfl)
theorem dX2_reckon_141 : decode cX2_reckon 141 = .ok (.iastore, 1) := dk_79 (dk_at dksX2_reckon_5 23 rfl rfl)
theorem dX2_reckon_142 : decode cX2_reckon 142 = .ok (.iinc 6 1, 3) := dk_132 6 1 (dk_at dksX2_reckon_6 0 rfl rfl)
theorem dX2_reckon_145 : decode cX2_reckon 145 = .ok (.goto (-118), 3) := dk_167 255 138 (dk_at dksX2_reckon_6 3 rfl rfl)
theorem dX2_reckon_148 : decode cX2_reckon 148 = .ok (.return_, 1) := dk_177 (dk_at dksX2_reckon_6 6 rfl rfl)
abbrev cX2_by_2 : ByteArray := prog_18_method_88_code
def yX2_by_2 : MethodName := ⟨RX2, "by", "(IIIII)I"⟩
def dkwX2_by_2_3 : List UInt8 := [180, 1, 84, 96, 46, 96, 172]
abbrev dktX2_by_2_3 : List UInt8 := dkwX2_by_2_3 ++ []
def dkwX2_by_2_2 : List UInt8 := [19, 1, 94, 172, 42, 180, 1, 81, 42, 180, 0, 46, 16, 26, 27, 4, 21, 6, 120, 128, 104, 42]
abbrev dktX2_by_2_2 : List UInt8 := dkwX2_by_2_2 ++ dktX2_by_2_3
def dkwX2_by_2_1 : List UInt8 := [112, 182, 1, 87, 153, 0, 19, 42, 21, 6, 29, 16, 100, 112, 28, 21, 5, 182, 1, 90, 154, 0, 7]
abbrev dktX2_by_2_1 : List UInt8 := dkwX2_by_2_1 ++ dktX2_by_2_2
def dkwX2_by_2_0 : List UInt8 := [29, 16, 100, 108, 54, 6, 21, 4, 27, 2, 130, 126, 21, 6, 184, 1, 27, 153, 0, 30, 42, 29, 16, 100]
abbrev dktX2_by_2_0 : List UInt8 := dkwX2_by_2_0 ++ dktX2_by_2_1
theorem dksX2_by_2_0 : cX2_by_2.data.toList.drop 0 = dktX2_by_2_0 := by decide +kernel
theorem dksX2_by_2_1 : cX2_by_2.data.toList.drop 24 = dktX2_by_2_1 := dk_seg dksX2_by_2_0 24 rfl rfl
theorem dksX2_by_2_2 : cX2_by_2.data.toList.drop 47 = dktX2_by_2_2 := dk_seg dksX2_by_2_1 23 rfl rfl
theorem dksX2_by_2_3 : cX2_by_2.data.toList.drop 69 = dktX2_by_2_3 := dk_seg dksX2_by_2_2 22 rfl rfl
theorem dX2_by_2_0 : decode cX2_by_2 0 = .ok (.iload_n 3, 1) := dk_29 (dk_at dksX2_by_2_0 0 rfl rfl)
theorem dX2_by_2_1 : decode cX2_by_2 1 = .ok (.bipush 100, 2) := dk_16 100 (dk_at dksX2_by_2_0 1 rfl rfl)
theorem dX2_by_2_3 : decode cX2_by_2 3 = .ok (.idiv, 1) := dk_108 (dk_at dksX2_by_2_0 3 rfl rfl)
theorem dX2_by_2_4 : decode cX2_by_2 4 = .ok (.istore 6, 2) := dk_54 6 (dk_at dksX2_by_2_0 4 rfl rfl)
theorem dX2_by_2_6 : decode cX2_by_2 6 = .ok (.iload 4, 2) := dk_21 4 (dk_at dksX2_by_2_0 6 rfl rfl)
theorem dX2_by_2_8 : decode cX2_by_2 8 = .ok (.iload_n 1, 1) := dk_27 (dk_at dksX2_by_2_0 8 rfl rfl)
theorem dX2_by_2_9 : decode cX2_by_2 9 = .ok (.iconst (-1), 1) := dk_2 (dk_at dksX2_by_2_0 9 rfl rfl)
theorem dX2_by_2_10 : decode cX2_by_2 10 = .ok (.ixor, 1) := dk_130 (dk_at dksX2_by_2_0 10 rfl rfl)
theorem dX2_by_2_11 : decode cX2_by_2 11 = .ok (.iand, 1) := dk_126 (dk_at dksX2_by_2_0 11 rfl rfl)
theorem dX2_by_2_12 : decode cX2_by_2 12 = .ok (.iload 6, 2) := dk_21 6 (dk_at dksX2_by_2_0 12 rfl rfl)
theorem dX2_by_2_14 : decode cX2_by_2 14 = .ok (.invokestatic 283, 3) := dk_184 1 27 (dk_at dksX2_by_2_0 14 rfl rfl)
theorem dX2_by_2_17 : decode cX2_by_2 17 = .ok (.ifCond .eq 30, 3) := dk_153 0 30 (dk_at dksX2_by_2_0 17 rfl rfl)
theorem dX2_by_2_20 : decode cX2_by_2 20 = .ok (.aload_n 0, 1) := dk_42 (dk_at dksX2_by_2_0 20 rfl rfl)
theorem dX2_by_2_21 : decode cX2_by_2 21 = .ok (.iload_n 3, 1) := dk_29 (dk_at dksX2_by_2_0 21 rfl rfl)
theorem dX2_by_2_22 : decode cX2_by_2 22 = .ok (.bipush 100, 2) := dk_16 100 (dk_at dksX2_by_2_0 22 rfl rfl)
theorem dX2_by_2_24 : decode cX2_by_2 24 = .ok (.irem, 1) := dk_112 (dk_at dksX2_by_2_1 0 rfl rfl)
theorem dX2_by_2_25 : decode cX2_by_2 25 = .ok (.invokevirtual 343, 3) := dk_182 1 87 (dk_at dksX2_by_2_1 1 rfl rfl)
theorem dX2_by_2_28 : decode cX2_by_2 28 = .ok (.ifCond .eq 19, 3) := dk_153 0 19 (dk_at dksX2_by_2_1 4 rfl rfl)
theorem dX2_by_2_31 : decode cX2_by_2 31 = .ok (.aload_n 0, 1) := dk_42 (dk_at dksX2_by_2_1 7 rfl rfl)
theorem dX2_by_2_32 : decode cX2_by_2 32 = .ok (.iload 6, 2) := dk_21 6 (dk_at dksX2_by_2_1 8 rfl rfl)
theorem dX2_by_2_34 : decode cX2_by_2 34 = .ok (.iload_n 3, 1) := dk_29 (dk_at dksX2_by_2_1 10 rfl rfl)
theorem dX2_by_2_35 : decode cX2_by_2 35 = .ok (.bipush 100, 2) := dk_16 100 (dk_at dksX2_by_2_1 11 rfl rfl)
theorem dX2_by_2_37 : decode cX2_by_2 37 = .ok (.irem, 1) := dk_112 (dk_at dksX2_by_2_1 13 rfl rfl)
theorem dX2_by_2_38 : decode cX2_by_2 38 = .ok (.iload_n 2, 1) := dk_28 (dk_at dksX2_by_2_1 14 rfl rfl)
theorem dX2_by_2_39 : decode cX2_by_2 39 = .ok (.iload 5, 2) := dk_21 5 (dk_at dksX2_by_2_1 15 rfl rfl)
theorem dX2_by_2_41 : decode cX2_by_2 41 = .ok (.invokevirtual 346, 3) := dk_182 1 90 (dk_at dksX2_by_2_1 17 rfl rfl)
theorem dX2_by_2_44 : decode cX2_by_2 44 = .ok (.ifCond .ne 7, 3) := dk_154 0 7 (dk_at dksX2_by_2_1 20 rfl rfl)
theorem dX2_by_2_47 : decode cX2_by_2 47 = .ok (.ldc_w 350, 3) := dk_19 1 94 (dk_at dksX2_by_2_2 0 rfl rfl)
theorem dX2_by_2_50 : decode cX2_by_2 50 = .ok (.ireturn, 1) := dk_172 (dk_at dksX2_by_2_2 3 rfl rfl)
theorem dX2_by_2_51 : decode cX2_by_2 51 = .ok (.aload_n 0, 1) := dk_42 (dk_at dksX2_by_2_2 4 rfl rfl)
theorem dX2_by_2_52 : decode cX2_by_2 52 = .ok (.getfield 337, 3) := dk_180 1 81 (dk_at dksX2_by_2_2 5 rfl rfl)
theorem dX2_by_2_55 : decode cX2_by_2 55 = .ok (.aload_n 0, 1) := dk_42 (dk_at dksX2_by_2_2 8 rfl rfl)
theorem dX2_by_2_56 : decode cX2_by_2 56 = .ok (.getfield 46, 3) := dk_180 0 46 (dk_at dksX2_by_2_2 9 rfl rfl)
theorem dX2_by_2_59 : decode cX2_by_2 59 = .ok (.bipush 26, 2) := dk_16 26 (dk_at dksX2_by_2_2 12 rfl rfl)
theorem dX2_by_2_61 : decode cX2_by_2 61 = .ok (.iload_n 1, 1) := dk_27 (dk_at dksX2_by_2_2 14 rfl rfl)
theorem dX2_by_2_62 : decode cX2_by_2 62 = .ok (.iconst 1, 1) := dk_4 (dk_at dksX2_by_2_2 15 rfl rfl)
theorem dX2_by_2_63 : decode cX2_by_2 63 = .ok (.iload 6, 2) := dk_21 6 (dk_at dksX2_by_2_2 16 rfl rfl)
theorem dX2_by_2_65 : decode cX2_by_2 65 = .ok (.ishl, 1) := dk_120 (dk_at dksX2_by_2_2 18 rfl rfl)
theorem dX2_by_2_66 : decode cX2_by_2 66 = .ok (.ior, 1) := dk_128 (dk_at dksX2_by_2_2 19 rfl rfl)
theorem dX2_by_2_67 : decode cX2_by_2 67 = .ok (.imul, 1) := dk_104 (dk_at dksX2_by_2_2 20 rfl rfl)
theorem dX2_by_2_68 : decode cX2_by_2 68 = .ok (.aload_n 0, 1) := dk_42 (dk_at dksX2_by_2_2 21 rfl rfl)
theorem dX2_by_2_69 : decode cX2_by_2 69 = .ok (.getfield 340, 3) := dk_180 1 84 (dk_at dksX2_by_2_3 0 rfl rfl)
theorem dX2_by_2_72 : decode cX2_by_2 72 = .ok (.iadd, 1) := dk_96 (dk_at dksX2_by_2_3 3 rfl rfl)
theorem dX2_by_2_73 : decode cX2_by_2 73 = .ok (.iaload, 1) := dk_46 (dk_at dksX2_by_2_3 4 rfl rfl)
theorem dX2_by_2_74 : decode cX2_by_2 74 = .ok (.iadd, 1) := dk_96 (dk_at dksX2_by_2_3 5 rfl rfl)
theorem dX2_by_2_75 : decode cX2_by_2 75 = .ok (.ireturn, 1) := dk_172 (dk_at dksX2_by_2_3 6 rfl rfl)
abbrev cX2_isTeam : ByteArray := prog_18_method_87_code
def yX2_isTeam : MethodName := ⟨RX2, "isTeam", "(I)Z"⟩
def dkwX2_isTeam_1 : List UInt8 := [4, 167, 0, 4, 3, 172]
abbrev dktX2_isTeam_1 : List UInt8 := dkwX2_isTeam_1 ++ []
def dkwX2_isTeam_0 : List UInt8 := [27, 16, 10, 108, 27, 16, 10, 112, 163, 0, 20, 27, 16, 10, 112, 42, 180, 0, 7, 3, 46, 162, 0, 7]
abbrev dktX2_isTeam_0 : List UInt8 := dkwX2_isTeam_0 ++ dktX2_isTeam_1
theorem dksX2_isTeam_0 : cX2_isTeam.data.toList.drop 0 = dktX2_isTeam_0 := by decide +kernel
theorem dksX2_isTeam_1 : cX2_isTeam.data.toList.drop 24 = dktX2_isTeam_1 := dk_seg dksX2_isTeam_0 24 rfl rfl
theorem dX2_isTeam_0 : decode cX2_isTeam 0 = .ok (.iload_n 1, 1) := dk_27 (dk_at dksX2_isTeam_0 0 rfl rfl)
theorem dX2_isTeam_1 : decode cX2_isTeam 1 = .ok (.bipush 10, 2) := dk_16 10 (dk_at dksX2_isTeam_0 1 rfl rfl)
theorem dX2_isTeam_3 : decode cX2_isTeam 3 = .ok (.idiv, 1) := dk_108 (dk_at dksX2_isTeam_0 3 rfl rfl)
theorem dX2_isTeam_4 : decode cX2_isTeam 4 = .ok (.iload_n 1, 1) := dk_27 (dk_at dksX2_isTeam_0 4 rfl rfl)
theorem dX2_isTeam_5 : decode cX2_isTeam 5 = .ok (.bipush 10, 2) := dk_16 10 (dk_at dksX2_isTeam_0 5 rfl rfl)
theorem dX2_isTeam_7 : decode cX2_isTeam 7 = .ok (.irem, 1) := dk_112 (dk_at dksX2_isTeam_0 7 rfl rfl)
theorem dX2_isTeam_8 : decode cX2_isTeam 8 = .ok (.if_icmp .gt 20, 3) := dk_163 0 20 (dk_at dksX2_isTeam_0 8 rfl rfl)
theorem dX2_isTeam_11 : decode cX2_isTeam 11 = .ok (.iload_n 1, 1) := dk_27 (dk_at dksX2_isTeam_0 11 rfl rfl)
theorem dX2_isTeam_12 : decode cX2_isTeam 12 = .ok (.bipush 10, 2) := dk_16 10 (dk_at dksX2_isTeam_0 12 rfl rfl)
theorem dX2_isTeam_14 : decode cX2_isTeam 14 = .ok (.irem, 1) := dk_112 (dk_at dksX2_isTeam_0 14 rfl rfl)
theorem dX2_isTeam_15 : decode cX2_isTeam 15 = .ok (.aload_n 0, 1) := dk_42 (dk_at dksX2_isTeam_0 15 rfl rfl)
theorem dX2_isTeam_16 : decode cX2_isTeam 16 = .ok (.getfield 7, 3) := dk_180 0 7 (dk_at dksX2_isTeam_0 16 rfl rfl)
theorem dX2_isTeam_19 : decode cX2_isTeam 19 = .ok (.iconst 0, 1) := dk_3 (dk_at dksX2_isTeam_0 19 rfl rfl)
theorem dX2_isTeam_20 : decode cX2_isTeam 20 = .ok (.iaload, 1) := dk_46 (dk_at dksX2_isTeam_0 20 rfl rfl)
theorem dX2_isTeam_21 : decode cX2_isTeam 21 = .ok (.if_icmp .ge 7, 3) := dk_162 0 7 (dk_at dksX2_isTeam_0 21 rfl rfl)
theorem dX2_isTeam_24 : decode cX2_isTeam 24 = .ok (.iconst 1, 1) := dk_4 (dk_at dksX2_isTeam_1 0 rfl rfl)
theorem dX2_isTeam_25 : decode cX2_isTeam 25 = .ok (.goto 4, 3) := dk_167 0 4 (dk_at dksX2_isTeam_1 1 rfl rfl)
theorem dX2_isTeam_28 : decode cX2_isTeam 28 = .ok (.iconst 0, 1) := dk_3 (dk_at dksX2_isTeam_1 4 rfl rfl)
theorem dX2_isTeam_29 : decode cX2_isTeam 29 = .ok (.ireturn, 1) := dk_172 (dk_at dksX2_isTeam_1 5 rfl rfl)
abbrev cX2_isDone : ByteArray := prog_18_method_86_code
def yX2_isDone : MethodName := ⟨RX2, "isDone", "(IIII)Z"⟩
def dkwX2_isDone_12 : List UInt8 := [3, 172, 132, 9, 1, 167, 255, 20, 3, 172]
abbrev dktX2_isDone_12 : List UInt8 := dkwX2_isDone_12 ++ []
def dkwX2_isDone_11 : List UInt8 := [180, 0, 7, 16, 40, 6, 27, 104, 96, 4, 96, 46, 21, 8, 2, 130, 126, 154, 0, 7, 4, 167, 0, 4]
abbrev dktX2_isDone_11 : List UInt8 := dkwX2_isDone_11 ++ dktX2_isDone_12
def dkwX2_isDone_10 : List UInt8 := [54, 8, 21, 7, 21, 10, 100, 54, 7, 42, 21, 9, 4, 96, 181, 1, 84, 21, 7, 154, 0, 30, 42]
abbrev dktX2_isDone_10 : List UInt8 := dkwX2_isDone_10 ++ dktX2_isDone_11
def dkwX2_isDone_9 : List UInt8 := [21, 8, 21, 10, 21, 11, 164, 0, 15, 4, 42, 21, 6, 4, 182, 0, 74, 120, 167, 0, 4, 3, 128]
abbrev dktX2_isDone_9 : List UInt8 := dkwX2_isDone_9 ++ dktX2_isDone_10
def dkwX2_isDone_8 : List UInt8 := [21, 8, 21, 11, 158, 0, 15, 4, 42, 21, 5, 4, 182, 0, 74, 120, 167, 0, 4, 3, 128, 54, 8]
abbrev dktX2_isDone_8 : List UInt8 := dkwX2_isDone_8 ++ dktX2_isDone_9
def dkwX2_isDone_7 : List UInt8 := [21, 10, 21, 11, 100, 42, 180, 0, 55, 16, 6, 21, 9, 104, 21, 6, 96, 46, 104, 96, 100, 181, 1, 81]
abbrev dktX2_isDone_7 : List UInt8 := dkwX2_isDone_7 ++ dktX2_isDone_8
def dkwX2_isDone_6 : List UInt8 := [54, 11, 42, 89, 180, 1, 81, 21, 11, 42, 180, 0, 55, 16, 6, 21, 9, 104, 21, 5, 96, 46, 104]
abbrev dktX2_isDone_6 : List UInt8 := dkwX2_isDone_6 ++ dktX2_isDone_7
def dkwX2_isDone_5 : List UInt8 := [21, 10, 42, 21, 5, 3, 182, 0, 74, 164, 0, 13, 42, 21, 5, 3, 182, 0, 74, 167, 0, 5, 21, 10]
abbrev dktX2_isDone_5 : List UInt8 := dkwX2_isDone_5 ++ dktX2_isDone_6
def dkwX2_isDone_4 : List UInt8 := [164, 0, 12, 42, 180, 0, 52, 21, 9, 46, 54, 10, 21, 10, 21, 7, 164, 0, 7, 21, 7, 54, 10]
abbrev dktX2_isDone_4 : List UInt8 := dkwX2_isDone_4 ++ dktX2_isDone_5
def dkwX2_isDone_3 : List UInt8 := [167, 0, 10, 42, 21, 6, 3, 182, 0, 74, 96, 54, 10, 21, 10, 42, 180, 0, 52, 21, 9, 46]
abbrev dktX2_isDone_3 : List UInt8 := dkwX2_isDone_3 ++ dktX2_isDone_4
def dkwX2_isDone_2 : List UInt8 := [54, 9, 21, 9, 21, 4, 162, 0, 235, 42, 21, 5, 3, 182, 0, 74, 21, 6, 21, 5, 160, 0, 7, 3]
abbrev dktX2_isDone_2 : List UInt8 := dkwX2_isDone_2 ++ dktX2_isDone_3
def dkwX2_isDone_1 : List UInt8 := [54, 7, 3, 54, 8, 42, 42, 180, 0, 7, 16, 40, 6, 27, 104, 96, 5, 96, 46, 181, 1, 81, 29]
abbrev dktX2_isDone_1 : List UInt8 := dkwX2_isDone_1 ++ dktX2_isDone_2
def dkwX2_isDone_0 : List UInt8 := [28, 16, 10, 108, 54, 5, 28, 16, 10, 112, 54, 6, 42, 180, 0, 7, 16, 40, 6, 27, 104, 96, 46]
abbrev dktX2_isDone_0 : List UInt8 := dkwX2_isDone_0 ++ dktX2_isDone_1
theorem dksX2_isDone_0 : cX2_isDone.data.toList.drop 0 = dktX2_isDone_0 := by decide +kernel
theorem dksX2_isDone_1 : cX2_isDone.data.toList.drop 23 = dktX2_isDone_1 := dk_seg dksX2_isDone_0 23 rfl rfl
theorem dksX2_isDone_2 : cX2_isDone.data.toList.drop 46 = dktX2_isDone_2 := dk_seg dksX2_isDone_1 23 rfl rfl
theorem dksX2_isDone_3 : cX2_isDone.data.toList.drop 70 = dktX2_isDone_3 := dk_seg dksX2_isDone_2 24 rfl rfl
theorem dksX2_isDone_4 : cX2_isDone.data.toList.drop 92 = dktX2_isDone_4 := dk_seg dksX2_isDone_3 22 rfl rfl
theorem dksX2_isDone_5 : cX2_isDone.data.toList.drop 115 = dktX2_isDone_5 := dk_seg dksX2_isDone_4 23 rfl rfl
theorem dksX2_isDone_6 : cX2_isDone.data.toList.drop 139 = dktX2_isDone_6 := dk_seg dksX2_isDone_5 24 rfl rfl
theorem dksX2_isDone_7 : cX2_isDone.data.toList.drop 162 = dktX2_isDone_7 := dk_seg dksX2_isDone_6 23 rfl rfl
theorem dksX2_isDone_8 : cX2_isDone.data.toList.drop 186 = dktX2_isDone_8 := dk_seg dksX2_isDone_7 24 rfl rfl
theorem dksX2_isDone_9 : cX2_isDone.data.toList.drop 209 = dktX2_isDone_9 := dk_seg dksX2_isDone_8 23 rfl rfl
theorem dksX2_isDone_10 : cX2_isDone.data.toList.drop 232 = dktX2_isDone_10 := dk_seg dksX2_isDone_9 23 rfl rfl
theorem dksX2_isDone_11 : cX2_isDone.data.toList.drop 255 = dktX2_isDone_11 := dk_seg dksX2_isDone_10 23 rfl rfl
theorem dksX2_isDone_12 : cX2_isDone.data.toList.drop 279 = dktX2_isDone_12 := dk_seg dksX2_isDone_11 24 rfl rfl
theorem dX2_isDone_0 : decode cX2_isDone 0 = .ok (.iload_n 2, 1) := dk_28 (dk_at dksX2_isDone_0 0 rfl rfl)
theorem dX2_isDone_1 : decode cX2_isDone 1 = .ok (.bipush 10, 2) := dk_16 10 (dk_at dksX2_isDone_0 1 rfl rfl)
theorem dX2_isDone_3 : decode cX2_isDone 3 = .ok (.idiv, 1) := dk_108 (dk_at dksX2_isDone_0 3 rfl rfl)
theorem dX2_isDone_4 : decode cX2_isDone 4 = .ok (.istore 5, 2) := dk_54 5 (dk_at dksX2_isDone_0 4 rfl rfl)
theorem dX2_isDone_6 : decode cX2_isDone 6 = .ok (.iload_n 2, 1) := dk_28 (dk_at dksX2_isDone_0 6 rfl rfl)
theorem dX2_isDone_7 : decode cX2_isDone 7 = .ok (.bipush 10, 2) := dk_16 10 (dk_at dksX2_isDone_0 7 rfl rfl)
theorem dX2_isDone_9 : decode cX2_isDone 9 = .ok (.irem, 1) := dk_112 (dk_at dksX2_isDone_0 9 rfl rfl)
theorem dX2_isDone_10 : decode cX2_isDone 10 = .ok (.istore 6, 2) := dk_54 6 (dk_at dksX2_isDone_0 10 rfl rfl)
theorem dX2_isDone_12 : decode cX2_isDone 12 = .ok (.aload_n 0, 1) := dk_42 (dk_at dksX2_isDone_0 12 rfl rfl)
theorem dX2_isDone_13 : decode cX2_isDone 13 = .ok (.getfield 7, 3) := dk_180 0 7 (dk_at dksX2_isDone_0 13 rfl rfl)
theorem dX2_isDone_16 : decode cX2_isDone 16 = .ok (.bipush 40, 2) := dk_16 40 (dk_at dksX2_isDone_0 16 rfl rfl)
theorem dX2_isDone_18 : decode cX2_isDone 18 = .ok (.iconst 3, 1) := dk_6 (dk_at dksX2_isDone_0 18 rfl rfl)
theorem dX2_isDone_19 : decode cX2_isDone 19 = .ok (.iload_n 1, 1) := dk_27 (dk_at dksX2_isDone_0 19 rfl rfl)
theorem dX2_isDone_20 : decode cX2_isDone 20 = .ok (.imul, 1) := dk_104 (dk_at dksX2_isDone_0 20 rfl rfl)
theorem dX2_isDone_21 : decode cX2_isDone 21 = .ok (.iadd, 1) := dk_96 (dk_at dksX2_isDone_0 21 rfl rfl)
theorem dX2_isDone_22 : decode cX2_isDone 22 = .ok (.iaload, 1) := dk_46 (dk_at dksX2_isDone_0 22 rfl rfl)
theorem dX2_isDone_23 : decode cX2_isDone 23 = .ok (.istore 7, 2) := dk_54 7 (dk_at dksX2_isDone_1 0 rfl rfl)
theorem dX2_isDone_25 : decode cX2_isDone 25 = .ok (.iconst 0, 1) := dk_3 (dk_at dksX2_isDone_1 2 rfl rfl)
theorem dX2_isDone_26 : decode cX2_isDone 26 = .ok (.istore 8, 2) := dk_54 8 (dk_at dksX2_isDone_1 3 rfl rfl)
theorem dX2_isDone_28 : decode cX2_isDone 28 = .ok (.aload_n 0, 1) := dk_42 (dk_at dksX2_isDone_1 5 rfl rfl)
theorem dX2_isDone_29 : decode cX2_isDone 29 = .ok (.aload_n 0, 1) := dk_42 (dk_at dksX2_isDone_1 6 rfl rfl)
theorem dX2_isDone_30 : decode cX2_isDone 30 = .ok (.getfield 7, 3) := dk_180 0 7 (dk_at dksX2_isDone_1 7 rfl rfl)
theorem dX2_isDone_33 : decode cX2_isDone 33 = .ok (.bipush 40, 2) := dk_16 40 (dk_at dksX2_isDone_1 10 rfl rfl)
theorem dX2_isDone_35 : decode cX2_isDone 35 = .ok (.iconst 3, 1) := dk_6 (dk_at dksX2_isDone_1 12 rfl rfl)
theorem dX2_isDone_36 : decode cX2_isDone 36 = .ok (.iload_n 1, 1) := dk_27 (dk_at dksX2_isDone_1 13 rfl rfl)
theorem dX2_isDone_37 : decode cX2_isDone 37 = .ok (.imul, 1) := dk_104 (dk_at dksX2_isDone_1 14 rfl rfl)
theorem dX2_isDone_38 : decode cX2_isDone 38 = .ok (.iadd, 1) := dk_96 (dk_at dksX2_isDone_1 15 rfl rfl)
theorem dX2_isDone_39 : decode cX2_isDone 39 = .ok (.iconst 2, 1) := dk_5 (dk_at dksX2_isDone_1 16 rfl rfl)
theorem dX2_isDone_40 : decode cX2_isDone 40 = .ok (.iadd, 1) := dk_96 (dk_at dksX2_isDone_1 17 rfl rfl)
theorem dX2_isDone_41 : decode cX2_isDone 41 = .ok (.iaload, 1) := dk_46 (dk_at dksX2_isDone_1 18 rfl rfl)
theorem dX2_isDone_42 : decode cX2_isDone 42 = .ok (.putfield 337, 3) := dk_181 1 81 (dk_at dksX2_isDone_1 19 rfl rfl)
theorem dX2_isDone_45 : decode cX2_isDone 45 = .ok (.iload_n 3, 1) := dk_29 (dk_at dksX2_isDone_1 22 rfl rfl)
theorem dX2_isDone_46 : decode cX2_isDone 46 = .ok (.istore 9, 2) := dk_54 9 (dk_at dksX2_isDone_2 0 rfl rfl)
theorem dX2_isDone_48 : decode cX2_isDone 48 = .ok (.iload 9, 2) := dk_21 9 (dk_at dksX2_isDone_2 2 rfl rfl)
theorem dX2_isDone_50 : decode cX2_isDone 50 = .ok (.iload 4, 2) := dk_21 4 (dk_at dksX2_isDone_2 4 rfl rfl)
theorem dX2_isDone_52 : decode cX2_isDone 52 = .ok (.if_icmp .ge 235, 3) := dk_162 0 235 (dk_at dksX2_isDone_2 6 rfl rfl)
theorem dX2_isDone_55 : decode cX2_isDone 55 = .ok (.aload_n 0, 1) := dk_42 (dk_at dksX2_isDone_2 9 rfl rfl)
theorem dX2_isDone_56 : decode cX2_isDone 56 = .ok (.iload 5, 2) := dk_21 5 (dk_at dksX2_isDone_2 10 rfl rfl)
theorem dX2_isDone_58 : decode cX2_isDone 58 = .ok (.iconst 0, 1) := dk_3 (dk_at dksX2_isDone_2 12 rfl rfl)
theorem dX2_isDone_59 : decode cX2_isDone 59 = .ok (.invokevirtual 74, 3) := dk_182 0 74 (dk_at dksX2_isDone_2 13 rfl rfl)
theorem dX2_isDone_62 : decode cX2_isDone 62 = .ok (.iload 6, 2) := dk_21 6 (dk_at dksX2_isDone_2 16 rfl rfl)
theorem dX2_isDone_64 : decode cX2_isDone 64 = .ok (.iload 5, 2) := dk_21 5 (dk_at dksX2_isDone_2 18 rfl rfl)
theorem dX2_isDone_66 : decode cX2_isDone 66 = .ok (.if_icmp .ne 7, 3) := dk_160 0 7 (dk_at dksX2_isDone_2 20 rfl rfl)
theorem dX2_isDone_69 : decode cX2_isDone 69 = .ok (.iconst 0, 1) := dk_3 (dk_at dksX2_isDone_2 23 rfl rfl)
theorem dX2_isDone_70 : decode cX2_isDone 70 = .ok (.goto 10, 3) := dk_167 0 10 (dk_at dksX2_isDone_3 0 rfl rfl)
theorem dX2_isDone_73 : decode cX2_isDone 73 = .ok (.aload_n 0, 1) := dk_42 (dk_at dksX2_isDone_3 3 rfl rfl)
theorem dX2_isDone_74 : decode cX2_isDone 74 = .ok (.iload 6, 2) := dk_21 6 (dk_at dksX2_isDone_3 4 rfl rfl)
theorem dX2_isDone_76 : decode cX2_isDone 76 = .ok (.iconst 0, 1) := dk_3 (dk_at dksX2_isDone_3 6 rfl rfl)
theorem dX2_isDone_77 : decode cX2_isDone 77 = .ok (.invokevirtual 74, 3) := dk_182 0 74 (dk_at dksX2_isDone_3 7 rfl rfl)
theorem dX2_isDone_80 : decode cX2_isDone 80 = .ok (.iadd, 1) := dk_96 (dk_at dksX2_isDone_3 10 rfl rfl)
theorem dX2_isDone_81 : decode cX2_isDone 81 = .ok (.istore 10, 2) := dk_54 10 (dk_at dksX2_isDone_3 11 rfl rfl)
theorem dX2_isDone_83 : decode cX2_isDone 83 = .ok (.iload 10, 2) := dk_21 10 (dk_at dksX2_isDone_3 13 rfl rfl)
theorem dX2_isDone_85 : decode cX2_isDone 85 = .ok (.aload_n 0, 1) := dk_42 (dk_at dksX2_isDone_3 15 rfl rfl)
theorem dX2_isDone_86 : decode cX2_isDone 86 = .ok (.getfield 52, 3) := dk_180 0 52 (dk_at dksX2_isDone_3 16 rfl rfl)
theorem dX2_isDone_89 : decode cX2_isDone 89 = .ok (.iload 9, 2) := dk_21 9 (dk_at dksX2_isDone_3 19 rfl rfl)
theorem dX2_isDone_91 : decode cX2_isDone 91 = .ok (.iaload, 1) := dk_46 (dk_at dksX2_isDone_3 21 rfl rfl)
theorem dX2_isDone_92 : decode cX2_isDone 92 = .ok (.if_icmp .le 12, 3) := dk_164 0 12 (dk_at dksX2_isDone_4 0 rfl rfl)
theorem dX2_isDone_95 : decode cX2_isDone 95 = .ok (.aload_n 0, 1) := dk_42 (dk_at dksX2_isDone_4 3 rfl rfl)
theorem dX2_isDone_96 : decode cX2_isDone 96 = .ok (.getfield 52, 3) := dk_180 0 52 (dk_at dksX2_isDone_4 4 rfl rfl)
theorem dX2_isDone_99 : decode cX2_isDone 99 = .ok (.iload 9, 2) := dk_21 9 (dk_at dksX2_isDone_4 7 rfl rfl)
theorem dX2_isDone_101 : decode cX2_isDone 101 = .ok (.iaload, 1) := dk_46 (dk_at dksX2_isDone_4 9 rfl rfl)
theorem dX2_isDone_102 : decode cX2_isDone 102 = .ok (.istore 10, 2) := dk_54 10 (dk_at dksX2_isDone_4 10 rfl rfl)
theorem dX2_isDone_104 : decode cX2_isDone 104 = .ok (.iload 10, 2) := dk_21 10 (dk_at dksX2_isDone_4 12 rfl rfl)
theorem dX2_isDone_106 : decode cX2_isDone 106 = .ok (.iload 7, 2) := dk_21 7 (dk_at dksX2_isDone_4 14 rfl rfl)
theorem dX2_isDone_108 : decode cX2_isDone 108 = .ok (.if_icmp .le 7, 3) := dk_164 0 7 (dk_at dksX2_isDone_4 16 rfl rfl)
theorem dX2_isDone_111 : decode cX2_isDone 111 = .ok (.iload 7, 2) := dk_21 7 (dk_at dksX2_isDone_4 19 rfl rfl)
theorem dX2_isDone_113 : decode cX2_isDone 113 = .ok (.istore 10, 2) := dk_54 10 (dk_at dksX2_isDone_4 21 rfl rfl)
theorem dX2_isDone_115 : decode cX2_isDone 115 = .ok (.iload 10, 2) := dk_21 10 (dk_at dksX2_isDone_5 0 rfl rfl)
theorem dX2_isDone_117 : decode cX2_isDone 117 = .ok (.aload_n 0, 1) := dk_42 (dk_at dksX2_isDone_5 2 rfl rfl)
theorem dX2_isDone_118 : decode cX2_isDone 118 = .ok (.iload 5, 2) := dk_21 5 (dk_at dksX2_isDone_5 3 rfl rfl)
theorem dX2_isDone_120 : decode cX2_isDone 120 = .ok (.iconst 0, 1) := dk_3 (dk_at dksX2_isDone_5 5 rfl rfl)
theorem dX2_isDone_121 : decode cX2_isDone 121 = .ok (.invokevirtual 74, 3) := dk_182 0 74 (dk_at dksX2_isDone_5 6 rfl rfl)
theorem dX2_isDone_124 : decode cX2_isDone 124 = .ok (.if_icmp .le 13, 3) := dk_164 0 13 (dk_at dksX2_isDone_5 9 rfl rfl)
theorem dX2_isDone_127 : decode cX2_isDone 127 = .ok (.aload_n 0, 1) := dk_42 (dk_at dksX2_isDone_5 12 rfl rfl)
theorem dX2_isDone_128 : decode cX2_isDone 128 = .ok (.iload 5, 2) := dk_21 5 (dk_at dksX2_isDone_5 13 rfl rfl)
theorem dX2_isDone_130 : decode cX2_isDone 130 = .ok (.iconst 0, 1) := dk_3 (dk_at dksX2_isDone_5 15 rfl rfl)
theorem dX2_isDone_131 : decode cX2_isDone 131 = .ok (.invokevirtual 74, 3) := dk_182 0 74 (dk_at dksX2_isDone_5 16 rfl rfl)
theorem dX2_isDone_134 : decode cX2_isDone 134 = .ok (.goto 5, 3) := dk_167 0 5 (dk_at dksX2_isDone_5 19 rfl rfl)
theorem dX2_isDone_137 : decode cX2_isDone 137 = .ok (.iload 10, 2) := dk_21 10 (dk_at dksX2_isDone_5 22 rfl rfl)
theorem dX2_isDone_139 : decode cX2_isDone 139 = .ok (.istore 11, 2) := dk_54 11 (dk_at dksX2_isDone_6 0 rfl rfl)
theorem dX2_isDone_141 : decode cX2_isDone 141 = .ok (.aload_n 0, 1) := dk_42 (dk_at dksX2_isDone_6 2 rfl rfl)
theorem dX2_isDone_142 : decode cX2_isDone 142 = .ok (.dup, 1) := dk_89 (dk_at dksX2_isDone_6 3 rfl rfl)
theorem dX2_isDone_143 : decode cX2_isDone 143 = .ok (.getfield 337, 3) := dk_180 1 81 (dk_at dksX2_isDone_6 4 rfl rfl)
theorem dX2_isDone_146 : decode cX2_isDone 146 = .ok (.iload 11, 2) := dk_21 11 (dk_at dksX2_isDone_6 7 rfl rfl)
theorem dX2_isDone_148 : decode cX2_isDone 148 = .ok (.aload_n 0, 1) := dk_42 (dk_at dksX2_isDone_6 9 rfl rfl)
theorem dX2_isDone_149 : decode cX2_isDone 149 = .ok (.getfield 55, 3) := dk_180 0 55 (dk_at dksX2_isDone_6 10 rfl rfl)
theorem dX2_isDone_152 : decode cX2_isDone 152 = .ok (.bipush 6, 2) := dk_16 6 (dk_at dksX2_isDone_6 13 rfl rfl)
theorem dX2_isDone_154 : decode cX2_isDone 154 = .ok (.iload 9, 2) := dk_21 9 (dk_at dksX2_isDone_6 15 rfl rfl)
theorem dX2_isDone_156 : decode cX2_isDone 156 = .ok (.imul, 1) := dk_104 (dk_at dksX2_isDone_6 17 rfl rfl)
theorem dX2_isDone_157 : decode cX2_isDone 157 = .ok (.iload 5, 2) := dk_21 5 (dk_at dksX2_isDone_6 18 rfl rfl)
theorem dX2_isDone_159 : decode cX2_isDone 159 = .ok (.iadd, 1) := dk_96 (dk_at dksX2_isDone_6 20 rfl rfl)
theorem dX2_isDone_160 : decode cX2_isDone 160 = .ok (.iaload, 1) := dk_46 (dk_at dksX2_isDone_6 21 rfl rfl)
theorem dX2_isDone_161 : decode cX2_isDone 161 = .ok (.imul, 1) := dk_104 (dk_at dksX2_isDone_6 22 rfl rfl)
theorem dX2_isDone_162 : decode cX2_isDone 162 = .ok (.iload 10, 2) := dk_21 10 (dk_at dksX2_isDone_7 0 rfl rfl)
theorem dX2_isDone_164 : decode cX2_isDone 164 = .ok (.iload 11, 2) := dk_21 11 (dk_at dksX2_isDone_7 2 rfl rfl)
theorem dX2_isDone_166 : decode cX2_isDone 166 = .ok (.isub, 1) := dk_100 (dk_at dksX2_isDone_7 4 rfl rfl)
theorem dX2_isDone_167 : decode cX2_isDone 167 = .ok (.aload_n 0, 1) := dk_42 (dk_at dksX2_isDone_7 5 rfl rfl)
theorem dX2_isDone_168 : decode cX2_isDone 168 = .ok (.getfield 55, 3) := dk_180 0 55 (dk_at dksX2_isDone_7 6 rfl rfl)
theorem dX2_isDone_171 : decode cX2_isDone 171 = .ok (.bipush 6, 2) := dk_16 6 (dk_at dksX2_isDone_7 9 rfl rfl)
theorem dX2_isDone_173 : decode cX2_isDone 173 = .ok (.iload 9, 2) := dk_21 9 (dk_at dksX2_isDone_7 11 rfl rfl)
theorem dX2_isDone_175 : decode cX2_isDone 175 = .ok (.imul, 1) := dk_104 (dk_at dksX2_isDone_7 13 rfl rfl)
theorem dX2_isDone_176 : decode cX2_isDone 176 = .ok (.iload 6, 2) := dk_21 6 (dk_at dksX2_isDone_7 14 rfl rfl)
theorem dX2_isDone_178 : decode cX2_isDone 178 = .ok (.iadd, 1) := dk_96 (dk_at dksX2_isDone_7 16 rfl rfl)
theorem dX2_isDone_179 : decode cX2_isDone 179 = .ok (.iaload, 1) := dk_46 (dk_at dksX2_isDone_7 17 rfl rfl)
theorem dX2_isDone_180 : decode cX2_isDone 180 = .ok (.imul, 1) := dk_104 (dk_at dksX2_isDone_7 18 rfl rfl)
theorem dX2_isDone_181 : decode cX2_isDone 181 = .ok (.iadd, 1) := dk_96 (dk_at dksX2_isDone_7 19 rfl rfl)
theorem dX2_isDone_182 : decode cX2_isDone 182 = .ok (.isub, 1) := dk_100 (dk_at dksX2_isDone_7 20 rfl rfl)
theorem dX2_isDone_183 : decode cX2_isDone 183 = .ok (.putfield 337, 3) := dk_181 1 81 (dk_at dksX2_isDone_7 21 rfl rfl)
theorem dX2_isDone_186 : decode cX2_isDone 186 = .ok (.iload 8, 2) := dk_21 8 (dk_at dksX2_isDone_8 0 rfl rfl)
theorem dX2_isDone_188 : decode cX2_isDone 188 = .ok (.iload 11, 2) := dk_21 11 (dk_at dksX2_isDone_8 2 rfl rfl)
theorem dX2_isDone_190 : decode cX2_isDone 190 = .ok (.ifCond .le 15, 3) := dk_158 0 15 (dk_at dksX2_isDone_8 4 rfl rfl)
theorem dX2_isDone_193 : decode cX2_isDone 193 = .ok (.iconst 1, 1) := dk_4 (dk_at dksX2_isDone_8 7 rfl rfl)
theorem dX2_isDone_194 : decode cX2_isDone 194 = .ok (.aload_n 0, 1) := dk_42 (dk_at dksX2_isDone_8 8 rfl rfl)
theorem dX2_isDone_195 : decode cX2_isDone 195 = .ok (.iload 5, 2) := dk_21 5 (dk_at dksX2_isDone_8 9 rfl rfl)
theorem dX2_isDone_197 : decode cX2_isDone 197 = .ok (.iconst 1, 1) := dk_4 (dk_at dksX2_isDone_8 11 rfl rfl)
theorem dX2_isDone_198 : decode cX2_isDone 198 = .ok (.invokevirtual 74, 3) := dk_182 0 74 (dk_at dksX2_isDone_8 12 rfl rfl)
theorem dX2_isDone_201 : decode cX2_isDone 201 = .ok (.ishl, 1) := dk_120 (dk_at dksX2_isDone_8 15 rfl rfl)
theorem dX2_isDone_202 : decode cX2_isDone 202 = .ok (.goto 4, 3) := dk_167 0 4 (dk_at dksX2_isDone_8 16 rfl rfl)
theorem dX2_isDone_205 : decode cX2_isDone 205 = .ok (.iconst 0, 1) := dk_3 (dk_at dksX2_isDone_8 19 rfl rfl)
theorem dX2_isDone_206 : decode cX2_isDone 206 = .ok (.ior, 1) := dk_128 (dk_at dksX2_isDone_8 20 rfl rfl)
theorem dX2_isDone_207 : decode cX2_isDone 207 = .ok (.istore 8, 2) := dk_54 8 (dk_at dksX2_isDone_8 21 rfl rfl)
theorem dX2_isDone_209 : decode cX2_isDone 209 = .ok (.iload 8, 2) := dk_21 8 (dk_at dksX2_isDone_9 0 rfl rfl)
theorem dX2_isDone_211 : decode cX2_isDone 211 = .ok (.iload 10, 2) := dk_21 10 (dk_at dksX2_isDone_9 2 rfl rfl)
theorem dX2_isDone_213 : decode cX2_isDone 213 = .ok (.iload 11, 2) := dk_21 11 (dk_at dksX2_isDone_9 4 rfl rfl)
theorem dX2_isDone_215 : decode cX2_isDone 215 = .ok (.if_icmp .le 15, 3) := dk_164 0 15 (dk_at dksX2_isDone_9 6 rfl rfl)
theorem dX2_isDone_218 : decode cX2_isDone 218 = .ok (.iconst 1, 1) := dk_4 (dk_at dksX2_isDone_9 9 rfl rfl)
theorem dX2_isDone_219 : decode cX2_isDone 219 = .ok (.aload_n 0, 1) := dk_42 (dk_at dksX2_isDone_9 10 rfl rfl)
theorem dX2_isDone_220 : decode cX2_isDone 220 = .ok (.iload 6, 2) := dk_21 6 (dk_at dksX2_isDone_9 11 rfl rfl)
theorem dX2_isDone_222 : decode cX2_isDone 222 = .ok (.iconst 1, 1) := dk_4 (dk_at dksX2_isDone_9 13 rfl rfl)
theorem dX2_isDone_223 : decode cX2_isDone 223 = .ok (.invokevirtual 74, 3) := dk_182 0 74 (dk_at dksX2_isDone_9 14 rfl rfl)
theorem dX2_isDone_226 : decode cX2_isDone 226 = .ok (.ishl, 1) := dk_120 (dk_at dksX2_isDone_9 17 rfl rfl)
theorem dX2_isDone_227 : decode cX2_isDone 227 = .ok (.goto 4, 3) := dk_167 0 4 (dk_at dksX2_isDone_9 18 rfl rfl)
theorem dX2_isDone_230 : decode cX2_isDone 230 = .ok (.iconst 0, 1) := dk_3 (dk_at dksX2_isDone_9 21 rfl rfl)
theorem dX2_isDone_231 : decode cX2_isDone 231 = .ok (.ior, 1) := dk_128 (dk_at dksX2_isDone_9 22 rfl rfl)
theorem dX2_isDone_232 : decode cX2_isDone 232 = .ok (.istore 8, 2) := dk_54 8 (dk_at dksX2_isDone_10 0 rfl rfl)
theorem dX2_isDone_234 : decode cX2_isDone 234 = .ok (.iload 7, 2) := dk_21 7 (dk_at dksX2_isDone_10 2 rfl rfl)
theorem dX2_isDone_236 : decode cX2_isDone 236 = .ok (.iload 10, 2) := dk_21 10 (dk_at dksX2_isDone_10 4 rfl rfl)
theorem dX2_isDone_238 : decode cX2_isDone 238 = .ok (.isub, 1) := dk_100 (dk_at dksX2_isDone_10 6 rfl rfl)
theorem dX2_isDone_239 : decode cX2_isDone 239 = .ok (.istore 7, 2) := dk_54 7 (dk_at dksX2_isDone_10 7 rfl rfl)
theorem dX2_isDone_241 : decode cX2_isDone 241 = .ok (.aload_n 0, 1) := dk_42 (dk_at dksX2_isDone_10 9 rfl rfl)
theorem dX2_isDone_242 : decode cX2_isDone 242 = .ok (.iload 9, 2) := dk_21 9 (dk_at dksX2_isDone_10 10 rfl rfl)
theorem dX2_isDone_244 : decode cX2_isDone 244 = .ok (.iconst 1, 1) := dk_4 (dk_at dksX2_isDone_10 12 rfl rfl)
theorem dX2_isDone_245 : decode cX2_isDone 245 = .ok (.iadd, 1) := dk_96 (dk_at dksX2_isDone_10 13 rfl rfl)
theorem dX2_isDone_246 : decode cX2_isDone 246 = .ok (.putfield 340, 3) := dk_181 1 84 (dk_at dksX2_isDone_10 14 rfl rfl)
theorem dX2_isDone_249 : decode cX2_isDone 249 = .ok (.iload 7, 2) := dk_21 7 (dk_at dksX2_isDone_10 17 rfl rfl)
theorem dX2_isDone_251 : decode cX2_isDone 251 = .ok (.ifCond .ne 30, 3) := dk_154 0 30 (dk_at dksX2_isDone_10 19 rfl rfl)
theorem dX2_isDone_254 : decode cX2_isDone 254 = .ok (.aload_n 0, 1) := dk_42 (dk_at dksX2_isDone_10 22 rfl rfl)
theorem dX2_isDone_255 : decode cX2_isDone 255 = .ok (.getfield 7, 3) := dk_180 0 7 (dk_at dksX2_isDone_11 0 rfl rfl)
theorem dX2_isDone_258 : decode cX2_isDone 258 = .ok (.bipush 40, 2) := dk_16 40 (dk_at dksX2_isDone_11 3 rfl rfl)
theorem dX2_isDone_260 : decode cX2_isDone 260 = .ok (.iconst 3, 1) := dk_6 (dk_at dksX2_isDone_11 5 rfl rfl)
theorem dX2_isDone_261 : decode cX2_isDone 261 = .ok (.iload_n 1, 1) := dk_27 (dk_at dksX2_isDone_11 6 rfl rfl)
theorem dX2_isDone_262 : decode cX2_isDone 262 = .ok (.imul, 1) := dk_104 (dk_at dksX2_isDone_11 7 rfl rfl)
theorem dX2_isDone_263 : decode cX2_isDone 263 = .ok (.iadd, 1) := dk_96 (dk_at dksX2_isDone_11 8 rfl rfl)
theorem dX2_isDone_264 : decode cX2_isDone 264 = .ok (.iconst 1, 1) := dk_4 (dk_at dksX2_isDone_11 9 rfl rfl)
theorem dX2_isDone_265 : decode cX2_isDone 265 = .ok (.iadd, 1) := dk_96 (dk_at dksX2_isDone_11 10 rfl rfl)
theorem dX2_isDone_266 : decode cX2_isDone 266 = .ok (.iaload, 1) := dk_46 (dk_at dksX2_isDone_11 11 rfl rfl)
theorem dX2_isDone_267 : decode cX2_isDone 267 = .ok (.iload 8, 2) := dk_21 8 (dk_at dksX2_isDone_11 12 rfl rfl)
theorem dX2_isDone_269 : decode cX2_isDone 269 = .ok (.iconst (-1), 1) := dk_2 (dk_at dksX2_isDone_11 14 rfl rfl)
theorem dX2_isDone_270 : decode cX2_isDone 270 = .ok (.ixor, 1) := dk_130 (dk_at dksX2_isDone_11 15 rfl rfl)
theorem dX2_isDone_271 : decode cX2_isDone 271 = .ok (.iand, 1) := dk_126 (dk_at dksX2_isDone_11 16 rfl rfl)
theorem dX2_isDone_272 : decode cX2_isDone 272 = .ok (.ifCond .ne 7, 3) := dk_154 0 7 (dk_at dksX2_isDone_11 17 rfl rfl)
theorem dX2_isDone_275 : decode cX2_isDone 275 = .ok (.iconst 1, 1) := dk_4 (dk_at dksX2_isDone_11 20 rfl rfl)
theorem dX2_isDone_276 : decode cX2_isDone 276 = .ok (.goto 4, 3) := dk_167 0 4 (dk_at dksX2_isDone_11 21 rfl rfl)
theorem dX2_isDone_279 : decode cX2_isDone 279 = .ok (.iconst 0, 1) := dk_3 (dk_at dksX2_isDone_12 0 rfl rfl)
theorem dX2_isDone_280 : decode cX2_isDone 280 = .ok (.ireturn, 1) := dk_172 (dk_at dksX2_isDone_12 1 rfl rfl)
theorem dX2_isDone_281 : decode cX2_isDone 281 = .ok (.iinc 9 1, 3) := dk_132 9 1 (dk_at dksX2_isDone_12 2 rfl rfl)
theorem dX2_isDone_284 : decode cX2_isDone 284 = .ok (.goto (-236), 3) := dk_167 255 20 (dk_at dksX2_isDone_12 5 rfl rfl)
theorem dX2_isDone_287 : decode cX2_isDone 287 = .ok (.iconst 0, 1) := dk_3 (dk_at dksX2_isDone_12 8 rfl rfl)
theorem dX2_isDone_288 : decode cX2_isDone 288 = .ok (.ireturn, 1) := dk_172 (dk_at dksX2_isDone_12 9 rfl rfl)
abbrev cX2_workOf : ByteArray := prog_18_method_91_code
def yX2_workOf : MethodName := ⟨RX2, "workOf", "(III)I"⟩
def dkwX2_workOf_5 : List UInt8 := [21, 6, 172]
abbrev dktX2_workOf_5 : List UInt8 := dkwX2_workOf_5 ++ []
def dkwX2_workOf_4 : List UInt8 := [21, 4, 4, 21, 6, 16, 100, 108, 120, 128, 54, 4, 42, 180, 1, 84, 54, 5, 132, 7, 1, 167, 255, 153]
abbrev dktX2_workOf_4 : List UInt8 := dkwX2_workOf_4 ++ dktX2_workOf_5
def dkwX2_workOf_3 : List UInt8 := [180, 1, 84, 96, 46, 4, 96, 42, 180, 0, 49, 21, 8, 46, 159, 0, 9, 132, 6, 1, 167, 255, 196]
abbrev dktX2_workOf_3 : List UInt8 := dkwX2_workOf_3 ++ dktX2_workOf_4
def dkwX2_workOf_2 : List UInt8 := [21, 8, 46, 160, 0, 38, 42, 180, 0, 49, 16, 26, 21, 4, 4, 21, 6, 16, 100, 108, 120, 128, 104, 42]
abbrev dktX2_workOf_2 : List UInt8 := dkwX2_workOf_2 ++ dktX2_workOf_3
def dkwX2_workOf_1 : List UInt8 := [21, 5, 96, 54, 8, 3, 54, 6, 42, 21, 4, 21, 5, 21, 6, 27, 28, 182, 1, 95, 42, 180, 0, 46]
abbrev dktX2_workOf_1 : List UInt8 := dkwX2_workOf_1 ++ dktX2_workOf_2
def dkwX2_workOf_0 : List UInt8 := [3, 54, 4, 3, 54, 5, 3, 54, 6, 3, 54, 7, 21, 7, 29, 163, 0, 103, 16, 26, 21, 4, 104]
abbrev dktX2_workOf_0 : List UInt8 := dkwX2_workOf_0 ++ dktX2_workOf_1
theorem dksX2_workOf_0 : cX2_workOf.data.toList.drop 0 = dktX2_workOf_0 := by decide +kernel
theorem dksX2_workOf_1 : cX2_workOf.data.toList.drop 23 = dktX2_workOf_1 := dk_seg dksX2_workOf_0 23 rfl rfl
theorem dksX2_workOf_2 : cX2_workOf.data.toList.drop 47 = dktX2_workOf_2 := dk_seg dksX2_workOf_1 24 rfl rfl
theorem dksX2_workOf_3 : cX2_workOf.data.toList.drop 71 = dktX2_workOf_3 := dk_seg dksX2_workOf_2 24 rfl rfl
theorem dksX2_workOf_4 : cX2_workOf.data.toList.drop 94 = dktX2_workOf_4 := dk_seg dksX2_workOf_3 23 rfl rfl
theorem dksX2_workOf_5 : cX2_workOf.data.toList.drop 118 = dktX2_workOf_5 := dk_seg dksX2_workOf_4 24 rfl rfl
theorem dX2_workOf_0 : decode cX2_workOf 0 = .ok (.iconst 0, 1) := dk_3 (dk_at dksX2_workOf_0 0 rfl rfl)
theorem dX2_workOf_1 : decode cX2_workOf 1 = .ok (.istore 4, 2) := dk_54 4 (dk_at dksX2_workOf_0 1 rfl rfl)
theorem dX2_workOf_3 : decode cX2_workOf 3 = .ok (.iconst 0, 1) := dk_3 (dk_at dksX2_workOf_0 3 rfl rfl)
theorem dX2_workOf_4 : decode cX2_workOf 4 = .ok (.istore 5, 2) := dk_54 5 (dk_at dksX2_workOf_0 4 rfl rfl)
theorem dX2_workOf_6 : decode cX2_workOf 6 = .ok (.iconst 0, 1) := dk_3 (dk_at dksX2_workOf_0 6 rfl rfl)
theorem dX2_workOf_7 : decode cX2_workOf 7 = .ok (.istore 6, 2) := dk_54 6 (dk_at dksX2_workOf_0 7 rfl rfl)
theorem dX2_workOf_9 : decode cX2_workOf 9 = .ok (.iconst 0, 1) := dk_3 (dk_at dksX2_workOf_0 9 rfl rfl)
theorem dX2_workOf_10 : decode cX2_workOf 10 = .ok (.istore 7, 2) := dk_54 7 (dk_at dksX2_workOf_0 10 rfl rfl)
theorem dX2_workOf_12 : decode cX2_workOf 12 = .ok (.iload 7, 2) := dk_21 7 (dk_at dksX2_workOf_0 12 rfl rfl)
theorem dX2_workOf_14 : decode cX2_workOf 14 = .ok (.iload_n 3, 1) := dk_29 (dk_at dksX2_workOf_0 14 rfl rfl)
theorem dX2_workOf_15 : decode cX2_workOf 15 = .ok (.if_icmp .gt 103, 3) := dk_163 0 103 (dk_at dksX2_workOf_0 15 rfl rfl)
theorem dX2_workOf_18 : decode cX2_workOf 18 = .ok (.bipush 26, 2) := dk_16 26 (dk_at dksX2_workOf_0 18 rfl rfl)
theorem dX2_workOf_20 : decode cX2_workOf 20 = .ok (.iload 4, 2) := dk_21 4 (dk_at dksX2_workOf_0 20 rfl rfl)
theorem dX2_workOf_22 : decode cX2_workOf 22 = .ok (.imul, 1) := dk_104 (dk_at dksX2_workOf_0 22 rfl rfl)
theorem dX2_workOf_23 : decode cX2_workOf 23 = .ok (.iload 5, 2) := dk_21 5 (dk_at dksX2_workOf_1 0 rfl rfl)
theorem dX2_workOf_25 : decode cX2_workOf 25 = .ok (.iadd, 1) := dk_96 (dk_at dksX2_workOf_1 2 rfl rfl)
theorem dX2_workOf_26 : decode cX2_workOf 26 = .ok (.istore 8, 2) := dk_54 8 (dk_at dksX2_workOf_1 3 rfl rfl)
theorem dX2_workOf_28 : decode cX2_workOf 28 = .ok (.iconst 0, 1) := dk_3 (dk_at dksX2_workOf_1 5 rfl rfl)
theorem dX2_workOf_29 : decode cX2_workOf 29 = .ok (.istore 6, 2) := dk_54 6 (dk_at dksX2_workOf_1 6 rfl rfl)
theorem dX2_workOf_31 : decode cX2_workOf 31 = .ok (.aload_n 0, 1) := dk_42 (dk_at dksX2_workOf_1 8 rfl rfl)
theorem dX2_workOf_32 : decode cX2_workOf 32 = .ok (.iload 4, 2) := dk_21 4 (dk_at dksX2_workOf_1 9 rfl rfl)
theorem dX2_workOf_34 : decode cX2_workOf 34 = .ok (.iload 5, 2) := dk_21 5 (dk_at dksX2_workOf_1 11 rfl rfl)
theorem dX2_workOf_36 : decode cX2_workOf 36 = .ok (.iload 6, 2) := dk_21 6 (dk_at dksX2_workOf_1 13 rfl rfl)
theorem dX2_workOf_38 : decode cX2_workOf 38 = .ok (.iload_n 1, 1) := dk_27 (dk_at dksX2_workOf_1 15 rfl rfl)
theorem dX2_workOf_39 : decode cX2_workOf 39 = .ok (.iload_n 2, 1) := dk_28 (dk_at dksX2_workOf_1 16 rfl rfl)
theorem dX2_workOf_40 : decode cX2_workOf 40 = .ok (.invokevirtual 351, 3) := dk_182 1 95 (dk_at dksX2_workOf_1 17 rfl rfl)
theorem dX2_workOf_43 : decode cX2_workOf 43 = .ok (.aload_n 0, 1) := dk_42 (dk_at dksX2_workOf_1 20 rfl rfl)
theorem dX2_workOf_44 : decode cX2_workOf 44 = .ok (.getfield 46, 3) := dk_180 0 46 (dk_at dksX2_workOf_1 21 rfl rfl)
theorem dX2_workOf_47 : decode cX2_workOf 47 = .ok (.iload 8, 2) := dk_21 8 (dk_at dksX2_workOf_2 0 rfl rfl)
theorem dX2_workOf_49 : decode cX2_workOf 49 = .ok (.iaload, 1) := dk_46 (dk_at dksX2_workOf_2 2 rfl rfl)
theorem dX2_workOf_50 : decode cX2_workOf 50 = .ok (.if_icmp .ne 38, 3) := dk_160 0 38 (dk_at dksX2_workOf_2 3 rfl rfl)
theorem dX2_workOf_53 : decode cX2_workOf 53 = .ok (.aload_n 0, 1) := dk_42 (dk_at dksX2_workOf_2 6 rfl rfl)
theorem dX2_workOf_54 : decode cX2_workOf 54 = .ok (.getfield 49, 3) := dk_180 0 49 (dk_at dksX2_workOf_2 7 rfl rfl)
theorem dX2_workOf_57 : decode cX2_workOf 57 = .ok (.bipush 26, 2) := dk_16 26 (dk_at dksX2_workOf_2 10 rfl rfl)
theorem dX2_workOf_59 : decode cX2_workOf 59 = .ok (.iload 4, 2) := dk_21 4 (dk_at dksX2_workOf_2 12 rfl rfl)
theorem dX2_workOf_61 : decode cX2_workOf 61 = .ok (.iconst 1, 1) := dk_4 (dk_at dksX2_workOf_2 14 rfl rfl)
theorem dX2_workOf_62 : decode cX2_workOf 62 = .ok (.iload 6, 2) := dk_21 6 (dk_at dksX2_workOf_2 15 rfl rfl)
theorem dX2_workOf_64 : decode cX2_workOf 64 = .ok (.bipush 100, 2) := dk_16 100 (dk_at dksX2_workOf_2 17 rfl rfl)
theorem dX2_workOf_66 : decode cX2_workOf 66 = .ok (.idiv, 1) := dk_108 (dk_at dksX2_workOf_2 19 rfl rfl)
theorem dX2_workOf_67 : decode cX2_workOf 67 = .ok (.ishl, 1) := dk_120 (dk_at dksX2_workOf_2 20 rfl rfl)
theorem dX2_workOf_68 : decode cX2_workOf 68 = .ok (.ior, 1) := dk_128 (dk_at dksX2_workOf_2 21 rfl rfl)
theorem dX2_workOf_69 : decode cX2_workOf 69 = .ok (.imul, 1) := dk_104 (dk_at dksX2_workOf_2 22 rfl rfl)
theorem dX2_workOf_70 : decode cX2_workOf 70 = .ok (.aload_n 0, 1) := dk_42 (dk_at dksX2_workOf_2 23 rfl rfl)
theorem dX2_workOf_71 : decode cX2_workOf 71 = .ok (.getfield 340, 3) := dk_180 1 84 (dk_at dksX2_workOf_3 0 rfl rfl)
theorem dX2_workOf_74 : decode cX2_workOf 74 = .ok (.iadd, 1) := dk_96 (dk_at dksX2_workOf_3 3 rfl rfl)
theorem dX2_workOf_75 : decode cX2_workOf 75 = .ok (.iaload, 1) := dk_46 (dk_at dksX2_workOf_3 4 rfl rfl)
theorem dX2_workOf_76 : decode cX2_workOf 76 = .ok (.iconst 1, 1) := dk_4 (dk_at dksX2_workOf_3 5 rfl rfl)
theorem dX2_workOf_77 : decode cX2_workOf 77 = .ok (.iadd, 1) := dk_96 (dk_at dksX2_workOf_3 6 rfl rfl)
theorem dX2_workOf_78 : decode cX2_workOf 78 = .ok (.aload_n 0, 1) := dk_42 (dk_at dksX2_workOf_3 7 rfl rfl)
theorem dX2_workOf_79 : decode cX2_workOf 79 = .ok (.getfield 49, 3) := dk_180 0 49 (dk_at dksX2_workOf_3 8 rfl rfl)
theorem dX2_workOf_82 : decode cX2_workOf 82 = .ok (.iload 8, 2) := dk_21 8 (dk_at dksX2_workOf_3 11 rfl rfl)
theorem dX2_workOf_84 : decode cX2_workOf 84 = .ok (.iaload, 1) := dk_46 (dk_at dksX2_workOf_3 13 rfl rfl)
theorem dX2_workOf_85 : decode cX2_workOf 85 = .ok (.if_icmp .eq 9, 3) := dk_159 0 9 (dk_at dksX2_workOf_3 14 rfl rfl)
theorem dX2_workOf_88 : decode cX2_workOf 88 = .ok (.iinc 6 1, 3) := dk_132 6 1 (dk_at dksX2_workOf_3 17 rfl rfl)
theorem dX2_workOf_91 : decode cX2_workOf 91 = .ok (.goto (-60), 3) := dk_167 255 196 (dk_at dksX2_workOf_3 20 rfl rfl)
theorem dX2_workOf_94 : decode cX2_workOf 94 = .ok (.iload 4, 2) := dk_21 4 (dk_at dksX2_workOf_4 0 rfl rfl)
theorem dX2_workOf_96 : decode cX2_workOf 96 = .ok (.iconst 1, 1) := dk_4 (dk_at dksX2_workOf_4 2 rfl rfl)
theorem dX2_workOf_97 : decode cX2_workOf 97 = .ok (.iload 6, 2) := dk_21 6 (dk_at dksX2_workOf_4 3 rfl rfl)
theorem dX2_workOf_99 : decode cX2_workOf 99 = .ok (.bipush 100, 2) := dk_16 100 (dk_at dksX2_workOf_4 5 rfl rfl)
theorem dX2_workOf_101 : decode cX2_workOf 101 = .ok (.idiv, 1) := dk_108 (dk_at dksX2_workOf_4 7 rfl rfl)
theorem dX2_workOf_102 : decode cX2_workOf 102 = .ok (.ishl, 1) := dk_120 (dk_at dksX2_workOf_4 8 rfl rfl)
theorem dX2_workOf_103 : decode cX2_workOf 103 = .ok (.ior, 1) := dk_128 (dk_at dksX2_workOf_4 9 rfl rfl)
theorem dX2_workOf_104 : decode cX2_workOf 104 = .ok (.istore 4, 2) := dk_54 4 (dk_at dksX2_workOf_4 10 rfl rfl)
theorem dX2_workOf_106 : decode cX2_workOf 106 = .ok (.aload_n 0, 1) := dk_42 (dk_at dksX2_workOf_4 12 rfl rfl)
theorem dX2_workOf_107 : decode cX2_workOf 107 = .ok (.getfield 340, 3) := dk_180 1 84 (dk_at dksX2_workOf_4 13 rfl rfl)
theorem dX2_workOf_110 : decode cX2_workOf 110 = .ok (.istore 5, 2) := dk_54 5 (dk_at dksX2_workOf_4 16 rfl rfl)
theorem dX2_workOf_112 : decode cX2_workOf 112 = .ok (.iinc 7 1, 3) := dk_132 7 1 (dk_at dksX2_workOf_4 18 rfl rfl)
theorem dX2_workOf_115 : decode cX2_workOf 115 = .ok (.goto (-103), 3) := dk_167 255 153 (dk_at dksX2_workOf_4 21 rfl rfl)
theorem dX2_workOf_118 : decode cX2_workOf 118 = .ok (.iload 6, 2) := dk_21 6 (dk_at dksX2_workOf_5 0 rfl rfl)
theorem dX2_workOf_120 : decode cX2_workOf 120 = .ok (.ireturn, 1) := dk_172 (dk_at dksX2_workOf_5 2 rfl rfl)
abbrev cX2_seen : ByteArray := prog_18_method_92_code
def yX2_seen : MethodName := ⟨RX2, "seen", "(I)I"⟩
def dkwX2_seen_3 : List UInt8 := [180, 0, 7, 16, 7, 46, 172]
abbrev dktX2_seen_3 : List UInt8 := dkwX2_seen_3 ++ []
def dkwX2_seen_2 : List UInt8 := [42, 180, 0, 7, 16, 7, 46, 96, 27, 79, 42, 180, 0, 7, 16, 7, 92, 46, 4, 96, 79, 42]
abbrev dktX2_seen_2 : List UInt8 := dkwX2_seen_2 ++ dktX2_seen_3
def dkwX2_seen_1 : List UInt8 := [153, 0, 15, 42, 180, 0, 7, 16, 7, 46, 16, 8, 160, 0, 6, 16, 254, 172, 42, 180, 0, 7, 16, 60]
abbrev dktX2_seen_1 : List UInt8 := dkwX2_seen_1 ++ dktX2_seen_2
def dkwX2_seen_0 : List UInt8 := [27, 2, 160, 0, 13, 42, 180, 0, 7, 16, 7, 3, 79, 3, 172, 27, 3, 16, 40, 184, 0, 62]
abbrev dktX2_seen_0 : List UInt8 := dkwX2_seen_0 ++ dktX2_seen_1
theorem dksX2_seen_0 : cX2_seen.data.toList.drop 0 = dktX2_seen_0 := by decide +kernel
theorem dksX2_seen_1 : cX2_seen.data.toList.drop 22 = dktX2_seen_1 := dk_seg dksX2_seen_0 22 rfl rfl
theorem dksX2_seen_2 : cX2_seen.data.toList.drop 46 = dktX2_seen_2 := dk_seg dksX2_seen_1 24 rfl rfl
theorem dksX2_seen_3 : cX2_seen.data.toList.drop 68 = dktX2_seen_3 := dk_seg dksX2_seen_2 22 rfl rfl
theorem dX2_seen_0 : decode cX2_seen 0 = .ok (.iload_n 1, 1) := dk_27 (dk_at dksX2_seen_0 0 rfl rfl)
theorem dX2_seen_1 : decode cX2_seen 1 = .ok (.iconst (-1), 1) := dk_2 (dk_at dksX2_seen_0 1 rfl rfl)
theorem dX2_seen_2 : decode cX2_seen 2 = .ok (.if_icmp .ne 13, 3) := dk_160 0 13 (dk_at dksX2_seen_0 2 rfl rfl)
theorem dX2_seen_5 : decode cX2_seen 5 = .ok (.aload_n 0, 1) := dk_42 (dk_at dksX2_seen_0 5 rfl rfl)
theorem dX2_seen_6 : decode cX2_seen 6 = .ok (.getfield 7, 3) := dk_180 0 7 (dk_at dksX2_seen_0 6 rfl rfl)
theorem dX2_seen_9 : decode cX2_seen 9 = .ok (.bipush 7, 2) := dk_16 7 (dk_at dksX2_seen_0 9 rfl rfl)
theorem dX2_seen_11 : decode cX2_seen 11 = .ok (.iconst 0, 1) := dk_3 (dk_at dksX2_seen_0 11 rfl rfl)
theorem dX2_seen_12 : decode cX2_seen 12 = .ok (.iastore, 1) := dk_79 (dk_at dksX2_seen_0 12 rfl rfl)
theorem dX2_seen_13 : decode cX2_seen 13 = .ok (.iconst 0, 1) := dk_3 (dk_at dksX2_seen_0 13 rfl rfl)
theorem dX2_seen_14 : decode cX2_seen 14 = .ok (.ireturn, 1) := dk_172 (dk_at dksX2_seen_0 14 rfl rfl)
theorem dX2_seen_15 : decode cX2_seen 15 = .ok (.iload_n 1, 1) := dk_27 (dk_at dksX2_seen_0 15 rfl rfl)
theorem dX2_seen_16 : decode cX2_seen 16 = .ok (.iconst 0, 1) := dk_3 (dk_at dksX2_seen_0 16 rfl rfl)
theorem dX2_seen_17 : decode cX2_seen 17 = .ok (.bipush 40, 2) := dk_16 40 (dk_at dksX2_seen_0 17 rfl rfl)
theorem dX2_seen_19 : decode cX2_seen 19 = .ok (.invokestatic 62, 3) := dk_184 0 62 (dk_at dksX2_seen_0 19 rfl rfl)
theorem dX2_seen_22 : decode cX2_seen 22 = .ok (.ifCond .eq 15, 3) := dk_153 0 15 (dk_at dksX2_seen_1 0 rfl rfl)
theorem dX2_seen_25 : decode cX2_seen 25 = .ok (.aload_n 0, 1) := dk_42 (dk_at dksX2_seen_1 3 rfl rfl)
theorem dX2_seen_26 : decode cX2_seen 26 = .ok (.getfield 7, 3) := dk_180 0 7 (dk_at dksX2_seen_1 4 rfl rfl)
theorem dX2_seen_29 : decode cX2_seen 29 = .ok (.bipush 7, 2) := dk_16 7 (dk_at dksX2_seen_1 7 rfl rfl)
theorem dX2_seen_31 : decode cX2_seen 31 = .ok (.iaload, 1) := dk_46 (dk_at dksX2_seen_1 9 rfl rfl)
theorem dX2_seen_32 : decode cX2_seen 32 = .ok (.bipush 8, 2) := dk_16 8 (dk_at dksX2_seen_1 10 rfl rfl)
theorem dX2_seen_34 : decode cX2_seen 34 = .ok (.if_icmp .ne 6, 3) := dk_160 0 6 (dk_at dksX2_seen_1 12 rfl rfl)
theorem dX2_seen_37 : decode cX2_seen 37 = .ok (.bipush (-2), 2) := dk_16 254 (dk_at dksX2_seen_1 15 rfl rfl)
theorem dX2_seen_39 : decode cX2_seen 39 = .ok (.ireturn, 1) := dk_172 (dk_at dksX2_seen_1 17 rfl rfl)
theorem dX2_seen_40 : decode cX2_seen 40 = .ok (.aload_n 0, 1) := dk_42 (dk_at dksX2_seen_1 18 rfl rfl)
theorem dX2_seen_41 : decode cX2_seen 41 = .ok (.getfield 7, 3) := dk_180 0 7 (dk_at dksX2_seen_1 19 rfl rfl)
theorem dX2_seen_44 : decode cX2_seen 44 = .ok (.bipush 60, 2) := dk_16 60 (dk_at dksX2_seen_1 22 rfl rfl)
theorem dX2_seen_46 : decode cX2_seen 46 = .ok (.aload_n 0, 1) := dk_42 (dk_at dksX2_seen_2 0 rfl rfl)
theorem dX2_seen_47 : decode cX2_seen 47 = .ok (.getfield 7, 3) := dk_180 0 7 (dk_at dksX2_seen_2 1 rfl rfl)
theorem dX2_seen_50 : decode cX2_seen 50 = .ok (.bipush 7, 2) := dk_16 7 (dk_at dksX2_seen_2 4 rfl rfl)
theorem dX2_seen_52 : decode cX2_seen 52 = .ok (.iaload, 1) := dk_46 (dk_at dksX2_seen_2 6 rfl rfl)
theorem dX2_seen_53 : decode cX2_seen 53 = .ok (.iadd, 1) := dk_96 (dk_at dksX2_seen_2 7 rfl rfl)
theorem dX2_seen_54 : decode cX2_seen 54 = .ok (.iload_n 1, 1) := dk_27 (dk_at dksX2_seen_2 8 rfl rfl)
theorem dX2_seen_55 : decode cX2_seen 55 = .ok (.iastore, 1) := dk_79 (dk_at dksX2_seen_2 9 rfl rfl)
theorem dX2_seen_56 : decode cX2_seen 56 = .ok (.aload_n 0, 1) := dk_42 (dk_at dksX2_seen_2 10 rfl rfl)
theorem dX2_seen_57 : decode cX2_seen 57 = .ok (.getfield 7, 3) := dk_180 0 7 (dk_at dksX2_seen_2 11 rfl rfl)
theorem dX2_seen_60 : decode cX2_seen 60 = .ok (.bipush 7, 2) := dk_16 7 (dk_at dksX2_seen_2 14 rfl rfl)
theorem dX2_seen_62 : decode cX2_seen 62 = .ok (.dup2, 1) := dk_92 (dk_at dksX2_seen_2 16 rfl rfl)
theorem dX2_seen_63 : decode cX2_seen 63 = .ok (.iaload, 1) := dk_46 (dk_at dksX2_seen_2 17 rfl rfl)
theorem dX2_seen_64 : decode cX2_seen 64 = .ok (.iconst 1, 1) := dk_4 (dk_at dksX2_seen_2 18 rfl rfl)
theorem dX2_seen_65 : decode cX2_seen 65 = .ok (.iadd, 1) := dk_96 (dk_at dksX2_seen_2 19 rfl rfl)
theorem dX2_seen_66 : decode cX2_seen 66 = .ok (.iastore, 1) := dk_79 (dk_at dksX2_seen_2 20 rfl rfl)
theorem dX2_seen_67 : decode cX2_seen 67 = .ok (.aload_n 0, 1) := dk_42 (dk_at dksX2_seen_2 21 rfl rfl)
theorem dX2_seen_68 : decode cX2_seen 68 = .ok (.getfield 7, 3) := dk_180 0 7 (dk_at dksX2_seen_3 0 rfl rfl)
theorem dX2_seen_71 : decode cX2_seen 71 = .ok (.bipush 7, 2) := dk_16 7 (dk_at dksX2_seen_3 3 rfl rfl)
theorem dX2_seen_73 : decode cX2_seen 73 = .ok (.iaload, 1) := dk_46 (dk_at dksX2_seen_3 5 rfl rfl)
theorem dX2_seen_74 : decode cX2_seen 74 = .ok (.ireturn, 1) := dk_172 (dk_at dksX2_seen_3 6 rfl rfl)
abbrev cX2_whose : ByteArray := prog_18_method_94_code
def yX2_whose : MethodName := ⟨RX2, "whose", "(I)I"⟩
def dkwX2_whose_3 : List UInt8 := [160, 0, 7, 28, 167, 0, 4, 2, 172]
abbrev dktX2_whose_3 : List UInt8 := dkwX2_whose_3 ++ []
def dkwX2_whose_2 : List UInt8 := [154, 0, 6, 167, 0, 13, 28, 27, 160, 0, 5, 29, 172, 132, 2, 1, 132, 3, 1, 167, 255, 202, 27, 2]
abbrev dktX2_whose_2 : List UInt8 := dkwX2_whose_2 ++ dktX2_whose_3
def dkwX2_whose_1 : List UInt8 := [180, 0, 7, 16, 7, 46, 158, 0, 38, 29, 184, 1, 99, 6, 163, 0, 24, 42, 29, 182, 1, 110]
abbrev dktX2_whose_1 : List UInt8 := dkwX2_whose_1 ++ dktX2_whose_2
def dkwX2_whose_0 : List UInt8 := [27, 2, 162, 0, 5, 2, 172, 3, 61, 4, 62, 29, 4, 42, 180, 0, 7, 3, 46, 120, 162, 0, 48, 42]
abbrev dktX2_whose_0 : List UInt8 := dkwX2_whose_0 ++ dktX2_whose_1
theorem dksX2_whose_0 : cX2_whose.data.toList.drop 0 = dktX2_whose_0 := by decide +kernel
theorem dksX2_whose_1 : cX2_whose.data.toList.drop 24 = dktX2_whose_1 := dk_seg dksX2_whose_0 24 rfl rfl
theorem dksX2_whose_2 : cX2_whose.data.toList.drop 46 = dktX2_whose_2 := dk_seg dksX2_whose_1 22 rfl rfl
theorem dksX2_whose_3 : cX2_whose.data.toList.drop 70 = dktX2_whose_3 := dk_seg dksX2_whose_2 24 rfl rfl
theorem dX2_whose_0 : decode cX2_whose 0 = .ok (.iload_n 1, 1) := dk_27 (dk_at dksX2_whose_0 0 rfl rfl)
theorem dX2_whose_1 : decode cX2_whose 1 = .ok (.iconst (-1), 1) := dk_2 (dk_at dksX2_whose_0 1 rfl rfl)
theorem dX2_whose_2 : decode cX2_whose 2 = .ok (.if_icmp .ge 5, 3) := dk_162 0 5 (dk_at dksX2_whose_0 2 rfl rfl)
theorem dX2_whose_5 : decode cX2_whose 5 = .ok (.iconst (-1), 1) := dk_2 (dk_at dksX2_whose_0 5 rfl rfl)
theorem dX2_whose_6 : decode cX2_whose 6 = .ok (.ireturn, 1) := dk_172 (dk_at dksX2_whose_0 6 rfl rfl)
theorem dX2_whose_7 : decode cX2_whose 7 = .ok (.iconst 0, 1) := dk_3 (dk_at dksX2_whose_0 7 rfl rfl)
theorem dX2_whose_8 : decode cX2_whose 8 = .ok (.istore_n 2, 1) := dk_61 (dk_at dksX2_whose_0 8 rfl rfl)
theorem dX2_whose_9 : decode cX2_whose 9 = .ok (.iconst 1, 1) := dk_4 (dk_at dksX2_whose_0 9 rfl rfl)
theorem dX2_whose_10 : decode cX2_whose 10 = .ok (.istore_n 3, 1) := dk_62 (dk_at dksX2_whose_0 10 rfl rfl)
theorem dX2_whose_11 : decode cX2_whose 11 = .ok (.iload_n 3, 1) := dk_29 (dk_at dksX2_whose_0 11 rfl rfl)
theorem dX2_whose_12 : decode cX2_whose 12 = .ok (.iconst 1, 1) := dk_4 (dk_at dksX2_whose_0 12 rfl rfl)
theorem dX2_whose_13 : decode cX2_whose 13 = .ok (.aload_n 0, 1) := dk_42 (dk_at dksX2_whose_0 13 rfl rfl)
theorem dX2_whose_14 : decode cX2_whose 14 = .ok (.getfield 7, 3) := dk_180 0 7 (dk_at dksX2_whose_0 14 rfl rfl)
theorem dX2_whose_17 : decode cX2_whose 17 = .ok (.iconst 0, 1) := dk_3 (dk_at dksX2_whose_0 17 rfl rfl)
theorem dX2_whose_18 : decode cX2_whose 18 = .ok (.iaload, 1) := dk_46 (dk_at dksX2_whose_0 18 rfl rfl)
theorem dX2_whose_19 : decode cX2_whose 19 = .ok (.ishl, 1) := dk_120 (dk_at dksX2_whose_0 19 rfl rfl)
theorem dX2_whose_20 : decode cX2_whose 20 = .ok (.if_icmp .ge 48, 3) := dk_162 0 48 (dk_at dksX2_whose_0 20 rfl rfl)
theorem dX2_whose_23 : decode cX2_whose 23 = .ok (.aload_n 0, 1) := dk_42 (dk_at dksX2_whose_0 23 rfl rfl)
theorem dX2_whose_24 : decode cX2_whose 24 = .ok (.getfield 7, 3) := dk_180 0 7 (dk_at dksX2_whose_1 0 rfl rfl)
theorem dX2_whose_27 : decode cX2_whose 27 = .ok (.bipush 7, 2) := dk_16 7 (dk_at dksX2_whose_1 3 rfl rfl)
theorem dX2_whose_29 : decode cX2_whose 29 = .ok (.iaload, 1) := dk_46 (dk_at dksX2_whose_1 5 rfl rfl)
theorem dX2_whose_30 : decode cX2_whose 30 = .ok (.ifCond .le 38, 3) := dk_158 0 38 (dk_at dksX2_whose_1 6 rfl rfl)
theorem dX2_whose_33 : decode cX2_whose 33 = .ok (.iload_n 3, 1) := dk_29 (dk_at dksX2_whose_1 9 rfl rfl)
theorem dX2_whose_34 : decode cX2_whose 34 = .ok (.invokestatic 355, 3) := dk_184 1 99 (dk_at dksX2_whose_1 10 rfl rfl)
theorem dX2_whose_37 : decode cX2_whose 37 = .ok (.iconst 3, 1) := dk_6 (dk_at dksX2_whose_1 13 rfl rfl)
theorem dX2_whose_38 : decode cX2_whose 38 = .ok (.if_icmp .gt 24, 3) := dk_163 0 24 (dk_at dksX2_whose_1 14 rfl rfl)
theorem dX2_whose_41 : decode cX2_whose 41 = .ok (.aload_n 0, 1) := dk_42 (dk_at dksX2_whose_1 17 rfl rfl)
theorem dX2_whose_42 : decode cX2_whose 42 = .ok (.iload_n 3, 1) := dk_29 (dk_at dksX2_whose_1 18 rfl rfl)
theorem dX2_whose_43 : decode cX2_whose 43 = .ok (.invokevirtual 366, 3) := dk_182 1 110 (dk_at dksX2_whose_1 19 rfl rfl)
theorem dX2_whose_46 : decode cX2_whose 46 = .ok (.ifCond .ne 6, 3) := dk_154 0 6 (dk_at dksX2_whose_2 0 rfl rfl)
theorem dX2_whose_49 : decode cX2_whose 49 = .ok (.goto 13, 3) := dk_167 0 13 (dk_at dksX2_whose_2 3 rfl rfl)
theorem dX2_whose_52 : decode cX2_whose 52 = .ok (.iload_n 2, 1) := dk_28 (dk_at dksX2_whose_2 6 rfl rfl)
theorem dX2_whose_53 : decode cX2_whose 53 = .ok (.iload_n 1, 1) := dk_27 (dk_at dksX2_whose_2 7 rfl rfl)
theorem dX2_whose_54 : decode cX2_whose 54 = .ok (.if_icmp .ne 5, 3) := dk_160 0 5 (dk_at dksX2_whose_2 8 rfl rfl)
theorem dX2_whose_57 : decode cX2_whose 57 = .ok (.iload_n 3, 1) := dk_29 (dk_at dksX2_whose_2 11 rfl rfl)
theorem dX2_whose_58 : decode cX2_whose 58 = .ok (.ireturn, 1) := dk_172 (dk_at dksX2_whose_2 12 rfl rfl)
theorem dX2_whose_59 : decode cX2_whose 59 = .ok (.iinc 2 1, 3) := dk_132 2 1 (dk_at dksX2_whose_2 13 rfl rfl)
theorem dX2_whose_62 : decode cX2_whose 62 = .ok (.iinc 3 1, 3) := dk_132 3 1 (dk_at dksX2_whose_2 16 rfl rfl)
theorem dX2_whose_65 : decode cX2_whose 65 = .ok (.goto (-54), 3) := dk_167 255 202 (dk_at dksX2_whose_2 19 rfl rfl)
theorem dX2_whose_68 : decode cX2_whose 68 = .ok (.iload_n 1, 1) := dk_27 (dk_at dksX2_whose_2 22 rfl rfl)
theorem dX2_whose_69 : decode cX2_whose 69 = .ok (.iconst (-1), 1) := dk_2 (dk_at dksX2_whose_2 23 rfl rfl)
theorem dX2_whose_70 : decode cX2_whose 70 = .ok (.if_icmp .ne 7, 3) := dk_160 0 7 (dk_at dksX2_whose_3 0 rfl rfl)
theorem dX2_whose_73 : decode cX2_whose 73 = .ok (.iload_n 2, 1) := dk_28 (dk_at dksX2_whose_3 3 rfl rfl)
theorem dX2_whose_74 : decode cX2_whose 74 = .ok (.goto 4, 3) := dk_167 0 4 (dk_at dksX2_whose_3 4 rfl rfl)
theorem dX2_whose_77 : decode cX2_whose 77 = .ok (.iconst (-1), 1) := dk_2 (dk_at dksX2_whose_3 7 rfl rfl)
theorem dX2_whose_78 : decode cX2_whose 78 = .ok (.ireturn, 1) := dk_172 (dk_at dksX2_whose_3 8 rfl rfl)
abbrev cX2_canBe : ByteArray := prog_18_method_93_code
def yX2_canBe : MethodName := ⟨RX2, "canBe", "(I)Z"⟩
def dkwX2_canBe_6 : List UInt8 := [132, 4, 1, 167, 255, 210, 4, 172]
abbrev dktX2_canBe_6 : List UInt8 := dkwX2_canBe_6 ++ []
def dkwX2_canBe_5 : List UInt8 := [21, 4, 184, 1, 27, 153, 0, 18, 29, 42, 21, 4, 3, 182, 0, 74, 100, 28, 161, 0, 5, 3, 172]
abbrev dktX2_canBe_5 : List UInt8 := dkwX2_canBe_5 ++ dktX2_canBe_6
def dkwX2_canBe_4 : List UInt8 := [172, 3, 54, 4, 21, 4, 42, 180, 0, 7, 3, 46, 162, 0, 41, 27, 184, 1, 99, 4, 164, 0, 33, 27]
abbrev dktX2_canBe_4 : List UInt8 := dkwX2_canBe_4 ++ dktX2_canBe_5
def dkwX2_canBe_3 : List UInt8 := [21, 4, 3, 182, 0, 74, 167, 0, 4, 3, 96, 62, 132, 4, 1, 167, 255, 219, 29, 28, 162, 0, 5, 3]
abbrev dktX2_canBe_3 : List UInt8 := dkwX2_canBe_3 ++ dktX2_canBe_4
def dkwX2_canBe_2 : List UInt8 := [54, 4, 21, 4, 42, 180, 0, 7, 3, 46, 162, 0, 32, 29, 27, 21, 4, 184, 1, 27, 153, 0, 13, 42]
abbrev dktX2_canBe_2 : List UInt8 := dkwX2_canBe_2 ++ dktX2_canBe_3
def dkwX2_canBe_1 : List UInt8 := [28, 164, 0, 13, 42, 180, 0, 7, 16, 60, 29, 96, 46, 61, 132, 3, 1, 167, 255, 219, 3, 62, 3]
abbrev dktX2_canBe_1 : List UInt8 := dkwX2_canBe_1 ++ dktX2_canBe_2
def dkwX2_canBe_0 : List UInt8 := [3, 61, 3, 62, 29, 42, 180, 0, 7, 16, 7, 46, 162, 0, 32, 42, 180, 0, 7, 16, 60, 29, 96, 46]
abbrev dktX2_canBe_0 : List UInt8 := dkwX2_canBe_0 ++ dktX2_canBe_1
theorem dksX2_canBe_0 : cX2_canBe.data.toList.drop 0 = dktX2_canBe_0 := by decide +kernel
theorem dksX2_canBe_1 : cX2_canBe.data.toList.drop 24 = dktX2_canBe_1 := dk_seg dksX2_canBe_0 24 rfl rfl
theorem dksX2_canBe_2 : cX2_canBe.data.toList.drop 47 = dktX2_canBe_2 := dk_seg dksX2_canBe_1 23 rfl rfl
theorem dksX2_canBe_3 : cX2_canBe.data.toList.drop 71 = dktX2_canBe_3 := dk_seg dksX2_canBe_2 24 rfl rfl
theorem dksX2_canBe_4 : cX2_canBe.data.toList.drop 95 = dktX2_canBe_4 := dk_seg dksX2_canBe_3 24 rfl rfl
theorem dksX2_canBe_5 : cX2_canBe.data.toList.drop 119 = dktX2_canBe_5 := dk_seg dksX2_canBe_4 24 rfl rfl
theorem dksX2_canBe_6 : cX2_canBe.data.toList.drop 142 = dktX2_canBe_6 := dk_seg dksX2_canBe_5 23 rfl rfl
theorem dX2_canBe_0 : decode cX2_canBe 0 = .ok (.iconst 0, 1) := dk_3 (dk_at dksX2_canBe_0 0 rfl rfl)
theorem dX2_canBe_1 : decode cX2_canBe 1 = .ok (.istore_n 2, 1) := dk_61 (dk_at dksX2_canBe_0 1 rfl rfl)
theorem dX2_canBe_2 : decode cX2_canBe 2 = .ok (.iconst 0, 1) := dk_3 (dk_at dksX2_canBe_0 2 rfl rfl)
theorem dX2_canBe_3 : decode cX2_canBe 3 = .ok (.istore_n 3, 1) := dk_62 (dk_at dksX2_canBe_0 3 rfl rfl)
theorem dX2_canBe_4 : decode cX2_canBe 4 = .ok (.iload_n 3, 1) := dk_29 (dk_at dksX2_canBe_0 4 rfl rfl)
theorem dX2_canBe_5 : decode cX2_canBe 5 = .ok (.aload_n 0, 1) := dk_42 (dk_at dksX2_canBe_0 5 rfl rfl)
theorem dX2_canBe_6 : decode cX2_canBe 6 = .ok (.getfield 7, 3) := dk_180 0 7 (dk_at dksX2_canBe_0 6 rfl rfl)
theorem dX2_canBe_9 : decode cX2_canBe 9 = .ok (.bipush 7, 2) := dk_16 7 (dk_at dksX2_canBe_0 9 rfl rfl)
theorem dX2_canBe_11 : decode cX2_canBe 11 = .ok (.iaload, 1) := dk_46 (dk_at dksX2_canBe_0 11 rfl rfl)
theorem dX2_canBe_12 : decode cX2_canBe 12 = .ok (.if_icmp .ge 32, 3) := dk_162 0 32 (dk_at dksX2_canBe_0 12 rfl rfl)
theorem dX2_canBe_15 : decode cX2_canBe 15 = .ok (.aload_n 0, 1) := dk_42 (dk_at dksX2_canBe_0 15 rfl rfl)
theorem dX2_canBe_16 : decode cX2_canBe 16 = .ok (.getfield 7, 3) := dk_180 0 7 (dk_at dksX2_canBe_0 16 rfl rfl)
theorem dX2_canBe_19 : decode cX2_canBe 19 = .ok (.bipush 60, 2) := dk_16 60 (dk_at dksX2_canBe_0 19 rfl rfl)
theorem dX2_canBe_21 : decode cX2_canBe 21 = .ok (.iload_n 3, 1) := dk_29 (dk_at dksX2_canBe_0 21 rfl rfl)
theorem dX2_canBe_22 : decode cX2_canBe 22 = .ok (.iadd, 1) := dk_96 (dk_at dksX2_canBe_0 22 rfl rfl)
theorem dX2_canBe_23 : decode cX2_canBe 23 = .ok (.iaload, 1) := dk_46 (dk_at dksX2_canBe_0 23 rfl rfl)
theorem dX2_canBe_24 : decode cX2_canBe 24 = .ok (.iload_n 2, 1) := dk_28 (dk_at dksX2_canBe_1 0 rfl rfl)
theorem dX2_canBe_25 : decode cX2_canBe 25 = .ok (.if_icmp .le 13, 3) := dk_164 0 13 (dk_at dksX2_canBe_1 1 rfl rfl)
theorem dX2_canBe_28 : decode cX2_canBe 28 = .ok (.aload_n 0, 1) := dk_42 (dk_at dksX2_canBe_1 4 rfl rfl)
theorem dX2_canBe_29 : decode cX2_canBe 29 = .ok (.getfield 7, 3) := dk_180 0 7 (dk_at dksX2_canBe_1 5 rfl rfl)
theorem dX2_canBe_32 : decode cX2_canBe 32 = .ok (.bipush 60, 2) := dk_16 60 (dk_at dksX2_canBe_1 8 rfl rfl)
theorem dX2_canBe_34 : decode cX2_canBe 34 = .ok (.iload_n 3, 1) := dk_29 (dk_at dksX2_canBe_1 10 rfl rfl)
theorem dX2_canBe_35 : decode cX2_canBe 35 = .ok (.iadd, 1) := dk_96 (dk_at dksX2_canBe_1 11 rfl rfl)
theorem dX2_canBe_36 : decode cX2_canBe 36 = .ok (.iaload, 1) := dk_46 (dk_at dksX2_canBe_1 12 rfl rfl)
theorem dX2_canBe_37 : decode cX2_canBe 37 = .ok (.istore_n 2, 1) := dk_61 (dk_at dksX2_canBe_1 13 rfl rfl)
theorem dX2_canBe_38 : decode cX2_canBe 38 = .ok (.iinc 3 1, 3) := dk_132 3 1 (dk_at dksX2_canBe_1 14 rfl rfl)
theorem dX2_canBe_41 : decode cX2_canBe 41 = .ok (.goto (-37), 3) := dk_167 255 219 (dk_at dksX2_canBe_1 17 rfl rfl)
theorem dX2_canBe_44 : decode cX2_canBe 44 = .ok (.iconst 0, 1) := dk_3 (dk_at dksX2_canBe_1 20 rfl rfl)
theorem dX2_canBe_45 : decode cX2_canBe 45 = .ok (.istore_n 3, 1) := dk_62 (dk_at dksX2_canBe_1 21 rfl rfl)
theorem dX2_canBe_46 : decode cX2_canBe 46 = .ok (.iconst 0, 1) := dk_3 (dk_at dksX2_canBe_1 22 rfl rfl)
theorem dX2_canBe_47 : decode cX2_canBe 47 = .ok (.istore 4, 2) := dk_54 4 (dk_at dksX2_canBe_2 0 rfl rfl)
theorem dX2_canBe_49 : decode cX2_canBe 49 = .ok (.iload 4, 2) := dk_21 4 (dk_at dksX2_canBe_2 2 rfl rfl)
theorem dX2_canBe_51 : decode cX2_canBe 51 = .ok (.aload_n 0, 1) := dk_42 (dk_at dksX2_canBe_2 4 rfl rfl)
theorem dX2_canBe_52 : decode cX2_canBe 52 = .ok (.getfield 7, 3) := dk_180 0 7 (dk_at dksX2_canBe_2 5 rfl rfl)
theorem dX2_canBe_55 : decode cX2_canBe 55 = .ok (.iconst 0, 1) := dk_3 (dk_at dksX2_canBe_2 8 rfl rfl)
theorem dX2_canBe_56 : decode cX2_canBe 56 = .ok (.iaload, 1) := dk_46 (dk_at dksX2_canBe_2 9 rfl rfl)
theorem dX2_canBe_57 : decode cX2_canBe 57 = .ok (.if_icmp .ge 32, 3) := dk_162 0 32 (dk_at dksX2_canBe_2 10 rfl rfl)
theorem dX2_canBe_60 : decode cX2_canBe 60 = .ok (.iload_n 3, 1) := dk_29 (dk_at dksX2_canBe_2 13 rfl rfl)
theorem dX2_canBe_61 : decode cX2_canBe 61 = .ok (.iload_n 1, 1) := dk_27 (dk_at dksX2_canBe_2 14 rfl rfl)
theorem dX2_canBe_62 : decode cX2_canBe 62 = .ok (.iload 4, 2) := dk_21 4 (dk_at dksX2_canBe_2 15 rfl rfl)
theorem dX2_canBe_64 : decode cX2_canBe 64 = .ok (.invokestatic 283, 3) := dk_184 1 27 (dk_at dksX2_canBe_2 17 rfl rfl)
theorem dX2_canBe_67 : decode cX2_canBe 67 = .ok (.ifCond .eq 13, 3) := dk_153 0 13 (dk_at dksX2_canBe_2 20 rfl rfl)
theorem dX2_canBe_70 : decode cX2_canBe 70 = .ok (.aload_n 0, 1) := dk_42 (dk_at dksX2_canBe_2 23 rfl rfl)
theorem dX2_canBe_71 : decode cX2_canBe 71 = .ok (.iload 4, 2) := dk_21 4 (dk_at dksX2_canBe_3 0 rfl rfl)
theorem dX2_canBe_73 : decode cX2_canBe 73 = .ok (.iconst 0, 1) := dk_3 (dk_at dksX2_canBe_3 2 rfl rfl)
theorem dX2_canBe_74 : decode cX2_canBe 74 = .ok (.invokevirtual 74, 3) := dk_182 0 74 (dk_at dksX2_canBe_3 3 rfl rfl)
theorem dX2_canBe_77 : decode cX2_canBe 77 = .ok (.goto 4, 3) := dk_167 0 4 (dk_at dksX2_canBe_3 6 rfl rfl)
theorem dX2_canBe_80 : decode cX2_canBe 80 = .ok (.iconst 0, 1) := dk_3 (dk_at dksX2_canBe_3 9 rfl rfl)
theorem dX2_canBe_81 : decode cX2_canBe 81 = .ok (.iadd, 1) := dk_96 (dk_at dksX2_canBe_3 10 rfl rfl)
theorem dX2_canBe_82 : decode cX2_canBe 82 = .ok (.istore_n 3, 1) := dk_62 (dk_at dksX2_canBe_3 11 rfl rfl)
theorem dX2_canBe_83 : decode cX2_canBe 83 = .ok (.iinc 4 1, 3) := dk_132 4 1 (dk_at dksX2_canBe_3 12 rfl rfl)
theorem dX2_canBe_86 : decode cX2_canBe 86 = .ok (.goto (-37), 3) := dk_167 255 219 (dk_at dksX2_canBe_3 15 rfl rfl)
theorem dX2_canBe_89 : decode cX2_canBe 89 = .ok (.iload_n 3, 1) := dk_29 (dk_at dksX2_canBe_3 18 rfl rfl)
theorem dX2_canBe_90 : decode cX2_canBe 90 = .ok (.iload_n 2, 1) := dk_28 (dk_at dksX2_canBe_3 19 rfl rfl)
theorem dX2_canBe_91 : decode cX2_canBe 91 = .ok (.if_icmp .ge 5, 3) := dk_162 0 5 (dk_at dksX2_canBe_3 20 rfl rfl)
theorem dX2_canBe_94 : decode cX2_canBe 94 = .ok (.iconst 0, 1) := dk_3 (dk_at dksX2_canBe_3 23 rfl rfl)
theorem dX2_canBe_95 : decode cX2_canBe 95 = .ok (.ireturn, 1) := dk_172 (dk_at dksX2_canBe_4 0 rfl rfl)
theorem dX2_canBe_96 : decode cX2_canBe 96 = .ok (.iconst 0, 1) := dk_3 (dk_at dksX2_canBe_4 1 rfl rfl)
theorem dX2_canBe_97 : decode cX2_canBe 97 = .ok (.istore 4, 2) := dk_54 4 (dk_at dksX2_canBe_4 2 rfl rfl)
theorem dX2_canBe_99 : decode cX2_canBe 99 = .ok (.iload 4, 2) := dk_21 4 (dk_at dksX2_canBe_4 4 rfl rfl)
theorem dX2_canBe_101 : decode cX2_canBe 101 = .ok (.aload_n 0, 1) := dk_42 (dk_at dksX2_canBe_4 6 rfl rfl)
theorem dX2_canBe_102 : decode cX2_canBe 102 = .ok (.getfield 7, 3) := dk_180 0 7 (dk_at dksX2_canBe_4 7 rfl rfl)
theorem dX2_canBe_105 : decode cX2_canBe 105 = .ok (.iconst 0, 1) := dk_3 (dk_at dksX2_canBe_4 10 rfl rfl)
theorem dX2_canBe_106 : decode cX2_canBe 106 = .ok (.iaload, 1) := dk_46 (dk_at dksX2_canBe_4 11 rfl rfl)
theorem dX2_canBe_107 : decode cX2_canBe 107 = .ok (.if_icmp .ge 41, 3) := dk_162 0 41 (dk_at dksX2_canBe_4 12 rfl rfl)
theorem dX2_canBe_110 : decode cX2_canBe 110 = .ok (.iload_n 1, 1) := dk_27 (dk_at dksX2_canBe_4 15 rfl rfl)
theorem dX2_canBe_111 : decode cX2_canBe 111 = .ok (.invokestatic 355, 3) := dk_184 1 99 (dk_at dksX2_canBe_4 16 rfl rfl)
theorem dX2_canBe_114 : decode cX2_canBe 114 = .ok (.iconst 1, 1) := dk_4 (dk_at dksX2_canBe_4 19 rfl rfl)
theorem dX2_canBe_115 : decode cX2_canBe 115 = .ok (.if_icmp .le 33, 3) := dk_164 0 33 (dk_at dksX2_canBe_4 20 rfl rfl)
theorem dX2_canBe_118 : decode cX2_canBe 118 = .ok (.iload_n 1, 1) := dk_27 (dk_at dksX2_canBe_4 23 rfl rfl)
theorem dX2_canBe_119 : decode cX2_canBe 119 = .ok (.iload 4, 2) := dk_21 4 (dk_at dksX2_canBe_5 0 rfl rfl)
theorem dX2_canBe_121 : decode cX2_canBe 121 = .ok (.invokestatic 283, 3) := dk_184 1 27 (dk_at dksX2_canBe_5 2 rfl rfl)
theorem dX2_canBe_124 : decode cX2_canBe 124 = .ok (.ifCond .eq 18, 3) := dk_153 0 18 (dk_at dksX2_canBe_5 5 rfl rfl)
theorem dX2_canBe_127 : decode cX2_canBe 127 = .ok (.iload_n 3, 1) := dk_29 (dk_at dksX2_canBe_5 8 rfl rfl)
theorem dX2_canBe_128 : decode cX2_canBe 128 = .ok (.aload_n 0, 1) := dk_42 (dk_at dksX2_canBe_5 9 rfl rfl)
theorem dX2_canBe_129 : decode cX2_canBe 129 = .ok (.iload 4, 2) := dk_21 4 (dk_at dksX2_canBe_5 10 rfl rfl)
theorem dX2_canBe_131 : decode cX2_canBe 131 = .ok (.iconst 0, 1) := dk_3 (dk_at dksX2_canBe_5 12 rfl rfl)
theorem dX2_canBe_132 : decode cX2_canBe 132 = .ok (.invokevirtual 74, 3) := dk_182 0 74 (dk_at dksX2_canBe_5 13 rfl rfl)
theorem dX2_canBe_135 : decode cX2_canBe 135 = .ok (.isub, 1) := dk_100 (dk_at dksX2_canBe_5 16 rfl rfl)
theorem dX2_canBe_136 : decode cX2_canBe 136 = .ok (.iload_n 2, 1) := dk_28 (dk_at dksX2_canBe_5 17 rfl rfl)
theorem dX2_canBe_137 : decode cX2_canBe 137 = .ok (.if_icmp .lt 5, 3) := dk_161 0 5 (dk_at dksX2_canBe_5 18 rfl rfl)
theorem dX2_canBe_140 : decode cX2_canBe 140 = .ok (.iconst 0, 1) := dk_3 (dk_at dksX2_canBe_5 21 rfl rfl)
theorem dX2_canBe_141 : decode cX2_canBe 141 = .ok (.ireturn, 1) := dk_172 (dk_at dksX2_canBe_5 22 rfl rfl)
theorem dX2_canBe_142 : decode cX2_canBe 142 = .ok (.iinc 4 1, 3) := dk_132 4 1 (dk_at dksX2_canBe_6 0 rfl rfl)
theorem dX2_canBe_145 : decode cX2_canBe 145 = .ok (.goto (-46), 3) := dk_167 255 210 (dk_at dksX2_canBe_6 3 rfl rfl)
theorem dX2_canBe_148 : decode cX2_canBe 148 = .ok (.iconst 1, 1) := dk_4 (dk_at dksX2_canBe_6 6 rfl rfl)
theorem dX2_canBe_149 : decode cX2_canBe 149 = .ok (.ireturn, 1) := dk_172 (dk_at dksX2_canBe_6 7 rfl rfl)
abbrev cX2_tell : ByteArray := prog_18_method_95_code
def yX2_tell : MethodName := ⟨RX2, "tell", "(IIII)I"⟩
def dkwX2_tell_5 : List UInt8 := [180, 0, 7, 16, 8, 46, 172]
abbrev dktX2_tell_5 : List UInt8 := dkwX2_tell_5 ++ []
def dkwX2_tell_4 : List UInt8 := [42, 180, 0, 7, 21, 5, 6, 96, 21, 4, 79, 42, 180, 0, 7, 16, 8, 92, 46, 4, 96, 79, 42]
abbrev dktX2_tell_4 : List UInt8 := dkwX2_tell_4 ++ dktX2_tell_5
def dkwX2_tell_3 : List UInt8 := [21, 5, 27, 79, 42, 180, 0, 7, 21, 5, 4, 96, 28, 79, 42, 180, 0, 7, 21, 5, 5, 96, 29, 79]
abbrev dktX2_tell_3 : List UInt8 := dkwX2_tell_3 ++ dktX2_tell_4
def dkwX2_tell_2 : List UInt8 := [160, 0, 5, 2, 172, 16, 70, 7, 42, 180, 0, 7, 16, 8, 46, 104, 96, 54, 5, 42, 180, 0, 7]
abbrev dktX2_tell_2 : List UInt8 := dkwX2_tell_2 ++ dktX2_tell_3
def dkwX2_tell_1 : List UInt8 := [184, 0, 62, 153, 0, 23, 21, 4, 184, 1, 31, 153, 0, 15, 42, 180, 0, 7, 16, 8, 46, 16, 20]
abbrev dktX2_tell_1 : List UInt8 := dkwX2_tell_1 ++ dktX2_tell_2
def dkwX2_tell_0 : List UInt8 := [42, 27, 182, 0, 78, 153, 0, 43, 28, 3, 16, 9, 184, 0, 62, 153, 0, 33, 29, 4, 16, 9]
abbrev dktX2_tell_0 : List UInt8 := dkwX2_tell_0 ++ dktX2_tell_1
theorem dksX2_tell_0 : cX2_tell.data.toList.drop 0 = dktX2_tell_0 := by decide +kernel
theorem dksX2_tell_1 : cX2_tell.data.toList.drop 22 = dktX2_tell_1 := dk_seg dksX2_tell_0 22 rfl rfl
theorem dksX2_tell_2 : cX2_tell.data.toList.drop 45 = dktX2_tell_2 := dk_seg dksX2_tell_1 23 rfl rfl
theorem dksX2_tell_3 : cX2_tell.data.toList.drop 68 = dktX2_tell_3 := dk_seg dksX2_tell_2 23 rfl rfl
theorem dksX2_tell_4 : cX2_tell.data.toList.drop 92 = dktX2_tell_4 := dk_seg dksX2_tell_3 24 rfl rfl
theorem dksX2_tell_5 : cX2_tell.data.toList.drop 115 = dktX2_tell_5 := dk_seg dksX2_tell_4 23 rfl rfl
theorem dX2_tell_0 : decode cX2_tell 0 = .ok (.aload_n 0, 1) := dk_42 (dk_at dksX2_tell_0 0 rfl rfl)
theorem dX2_tell_1 : decode cX2_tell 1 = .ok (.iload_n 1, 1) := dk_27 (dk_at dksX2_tell_0 1 rfl rfl)
theorem dX2_tell_2 : decode cX2_tell 2 = .ok (.invokevirtual 78, 3) := dk_182 0 78 (dk_at dksX2_tell_0 2 rfl rfl)
theorem dX2_tell_5 : decode cX2_tell 5 = .ok (.ifCond .eq 43, 3) := dk_153 0 43 (dk_at dksX2_tell_0 5 rfl rfl)
theorem dX2_tell_8 : decode cX2_tell 8 = .ok (.iload_n 2, 1) := dk_28 (dk_at dksX2_tell_0 8 rfl rfl)
theorem dX2_tell_9 : decode cX2_tell 9 = .ok (.iconst 0, 1) := dk_3 (dk_at dksX2_tell_0 9 rfl rfl)
theorem dX2_tell_10 : decode cX2_tell 10 = .ok (.bipush 9, 2) := dk_16 9 (dk_at dksX2_tell_0 10 rfl rfl)
theorem dX2_tell_12 : decode cX2_tell 12 = .ok (.invokestatic 62, 3) := dk_184 0 62 (dk_at dksX2_tell_0 12 rfl rfl)
theorem dX2_tell_15 : decode cX2_tell 15 = .ok (.ifCond .eq 33, 3) := dk_153 0 33 (dk_at dksX2_tell_0 15 rfl rfl)
theorem dX2_tell_18 : decode cX2_tell 18 = .ok (.iload_n 3, 1) := dk_29 (dk_at dksX2_tell_0 18 rfl rfl)
theorem dX2_tell_19 : decode cX2_tell 19 = .ok (.iconst 1, 1) := dk_4 (dk_at dksX2_tell_0 19 rfl rfl)
theorem dX2_tell_20 : decode cX2_tell 20 = .ok (.bipush 9, 2) := dk_16 9 (dk_at dksX2_tell_0 20 rfl rfl)
theorem dX2_tell_22 : decode cX2_tell 22 = .ok (.invokestatic 62, 3) := dk_184 0 62 (dk_at dksX2_tell_1 0 rfl rfl)
theorem dX2_tell_25 : decode cX2_tell 25 = .ok (.ifCond .eq 23, 3) := dk_153 0 23 (dk_at dksX2_tell_1 3 rfl rfl)
theorem dX2_tell_28 : decode cX2_tell 28 = .ok (.iload 4, 2) := dk_21 4 (dk_at dksX2_tell_1 6 rfl rfl)
theorem dX2_tell_30 : decode cX2_tell 30 = .ok (.invokestatic 287, 3) := dk_184 1 31 (dk_at dksX2_tell_1 8 rfl rfl)
theorem dX2_tell_33 : decode cX2_tell 33 = .ok (.ifCond .eq 15, 3) := dk_153 0 15 (dk_at dksX2_tell_1 11 rfl rfl)
theorem dX2_tell_36 : decode cX2_tell 36 = .ok (.aload_n 0, 1) := dk_42 (dk_at dksX2_tell_1 14 rfl rfl)
theorem dX2_tell_37 : decode cX2_tell 37 = .ok (.getfield 7, 3) := dk_180 0 7 (dk_at dksX2_tell_1 15 rfl rfl)
theorem dX2_tell_40 : decode cX2_tell 40 = .ok (.bipush 8, 2) := dk_16 8 (dk_at dksX2_tell_1 18 rfl rfl)
theorem dX2_tell_42 : decode cX2_tell 42 = .ok (.iaload, 1) := dk_46 (dk_at dksX2_tell_1 20 rfl rfl)
theorem dX2_tell_43 : decode cX2_tell 43 = .ok (.bipush 20, 2) := dk_16 20 (dk_at dksX2_tell_1 21 rfl rfl)
theorem dX2_tell_45 : decode cX2_tell 45 = .ok (.if_icmp .ne 5, 3) := dk_160 0 5 (dk_at dksX2_tell_2 0 rfl rfl)
theorem dX2_tell_48 : decode cX2_tell 48 = .ok (.iconst (-1), 1) := dk_2 (dk_at dksX2_tell_2 3 rfl rfl)
theorem dX2_tell_49 : decode cX2_tell 49 = .ok (.ireturn, 1) := dk_172 (dk_at dksX2_tell_2 4 rfl rfl)
theorem dX2_tell_50 : decode cX2_tell 50 = .ok (.bipush 70, 2) := dk_16 70 (dk_at dksX2_tell_2 5 rfl rfl)
theorem dX2_tell_52 : decode cX2_tell 52 = .ok (.iconst 4, 1) := dk_7 (dk_at dksX2_tell_2 7 rfl rfl)
theorem dX2_tell_53 : decode cX2_tell 53 = .ok (.aload_n 0, 1) := dk_42 (dk_at dksX2_tell_2 8 rfl rfl)
theorem dX2_tell_54 : decode cX2_tell 54 = .ok (.getfield 7, 3) := dk_180 0 7 (dk_at dksX2_tell_2 9 rfl rfl)
theorem dX2_tell_57 : decode cX2_tell 57 = .ok (.bipush 8, 2) := dk_16 8 (dk_at dksX2_tell_2 12 rfl rfl)
theorem dX2_tell_59 : decode cX2_tell 59 = .ok (.iaload, 1) := dk_46 (dk_at dksX2_tell_2 14 rfl rfl)
theorem dX2_tell_60 : decode cX2_tell 60 = .ok (.imul, 1) := dk_104 (dk_at dksX2_tell_2 15 rfl rfl)
theorem dX2_tell_61 : decode cX2_tell 61 = .ok (.iadd, 1) := dk_96 (dk_at dksX2_tell_2 16 rfl rfl)
theorem dX2_tell_62 : decode cX2_tell 62 = .ok (.istore 5, 2) := dk_54 5 (dk_at dksX2_tell_2 17 rfl rfl)
theorem dX2_tell_64 : decode cX2_tell 64 = .ok (.aload_n 0, 1) := dk_42 (dk_at dksX2_tell_2 19 rfl rfl)
theorem dX2_tell_65 : decode cX2_tell 65 = .ok (.getfield 7, 3) := dk_180 0 7 (dk_at dksX2_tell_2 20 rfl rfl)
theorem dX2_tell_68 : decode cX2_tell 68 = .ok (.iload 5, 2) := dk_21 5 (dk_at dksX2_tell_3 0 rfl rfl)
theorem dX2_tell_70 : decode cX2_tell 70 = .ok (.iload_n 1, 1) := dk_27 (dk_at dksX2_tell_3 2 rfl rfl)
theorem dX2_tell_71 : decode cX2_tell 71 = .ok (.iastore, 1) := dk_79 (dk_at dksX2_tell_3 3 rfl rfl)
theorem dX2_tell_72 : decode cX2_tell 72 = .ok (.aload_n 0, 1) := dk_42 (dk_at dksX2_tell_3 4 rfl rfl)
theorem dX2_tell_73 : decode cX2_tell 73 = .ok (.getfield 7, 3) := dk_180 0 7 (dk_at dksX2_tell_3 5 rfl rfl)
theorem dX2_tell_76 : decode cX2_tell 76 = .ok (.iload 5, 2) := dk_21 5 (dk_at dksX2_tell_3 8 rfl rfl)
theorem dX2_tell_78 : decode cX2_tell 78 = .ok (.iconst 1, 1) := dk_4 (dk_at dksX2_tell_3 10 rfl rfl)
theorem dX2_tell_79 : decode cX2_tell 79 = .ok (.iadd, 1) := dk_96 (dk_at dksX2_tell_3 11 rfl rfl)
theorem dX2_tell_80 : decode cX2_tell 80 = .ok (.iload_n 2, 1) := dk_28 (dk_at dksX2_tell_3 12 rfl rfl)
theorem dX2_tell_81 : decode cX2_tell 81 = .ok (.iastore, 1) := dk_79 (dk_at dksX2_tell_3 13 rfl rfl)
theorem dX2_tell_82 : decode cX2_tell 82 = .ok (.aload_n 0, 1) := dk_42 (dk_at dksX2_tell_3 14 rfl rfl)
theorem dX2_tell_83 : decode cX2_tell 83 = .ok (.getfield 7, 3) := dk_180 0 7 (dk_at dksX2_tell_3 15 rfl rfl)
theorem dX2_tell_86 : decode cX2_tell 86 = .ok (.iload 5, 2) := dk_21 5 (dk_at dksX2_tell_3 18 rfl rfl)
theorem dX2_tell_88 : decode cX2_tell 88 = .ok (.iconst 2, 1) := dk_5 (dk_at dksX2_tell_3 20 rfl rfl)
theorem dX2_tell_89 : decode cX2_tell 89 = .ok (.iadd, 1) := dk_96 (dk_at dksX2_tell_3 21 rfl rfl)
theorem dX2_tell_90 : decode cX2_tell 90 = .ok (.iload_n 3, 1) := dk_29 (dk_at dksX2_tell_3 22 rfl rfl)
theorem dX2_tell_91 : decode cX2_tell 91 = .ok (.iastore, 1) := dk_79 (dk_at dksX2_tell_3 23 rfl rfl)
theorem dX2_tell_92 : decode cX2_tell 92 = .ok (.aload_n 0, 1) := dk_42 (dk_at dksX2_tell_4 0 rfl rfl)
theorem dX2_tell_93 : decode cX2_tell 93 = .ok (.getfield 7, 3) := dk_180 0 7 (dk_at dksX2_tell_4 1 rfl rfl)
theorem dX2_tell_96 : decode cX2_tell 96 = .ok (.iload 5, 2) := dk_21 5 (dk_at dksX2_tell_4 4 rfl rfl)
theorem dX2_tell_98 : decode cX2_tell 98 = .ok (.iconst 3, 1) := dk_6 (dk_at dksX2_tell_4 6 rfl rfl)
theorem dX2_tell_99 : decode cX2_tell 99 = .ok (.iadd, 1) := dk_96 (dk_at dksX2_tell_4 7 rfl rfl)
theorem dX2_tell_100 : decode cX2_tell 100 = .ok (.iload 4, 2) := dk_21 4 (dk_at dksX2_tell_4 8 rfl rfl)
theorem dX2_tell_102 : decode cX2_tell 102 = .ok (.iastore, 1) := dk_79 (dk_at dksX2_tell_4 10 rfl rfl)
theorem dX2_tell_103 : decode cX2_tell 103 = .ok (.aload_n 0, 1) := dk_42 (dk_at dksX2_tell_4 11 rfl rfl)
theorem dX2_tell_104 : decode cX2_tell 104 = .ok (.getfield 7, 3) := dk_180 0 7 (dk_at dksX2_tell_4 12 rfl rfl)
theorem dX2_tell_107 : decode cX2_tell 107 = .ok (.bipush 8, 2) := dk_16 8 (dk_at dksX2_tell_4 15 rfl rfl)
theorem dX2_tell_109 : decode cX2_tell 109 = .ok (.dup2, 1) := dk_92 (dk_at dksX2_tell_4 17 rfl rfl)
theorem dX2_tell_110 : decode cX2_tell 110 = .ok (.iaload, 1) := dk_46 (dk_at dksX2_tell_4 18 rfl rfl)
theorem dX2_tell_111 : decode cX2_tell 111 = .ok (.iconst 1, 1) := dk_4 (dk_at dksX2_tell_4 19 rfl rfl)
theorem dX2_tell_112 : decode cX2_tell 112 = .ok (.iadd, 1) := dk_96 (dk_at dksX2_tell_4 20 rfl rfl)
theorem dX2_tell_113 : decode cX2_tell 113 = .ok (.iastore, 1) := dk_79 (dk_at dksX2_tell_4 21 rfl rfl)
theorem dX2_tell_114 : decode cX2_tell 114 = .ok (.aload_n 0, 1) := dk_42 (dk_at dksX2_tell_4 22 rfl rfl)
theorem dX2_tell_115 : decode cX2_tell 115 = .ok (.getfield 7, 3) := dk_180 0 7 (dk_at dksX2_tell_5 0 rfl rfl)
theorem dX2_tell_118 : decode cX2_tell 118 = .ok (.bipush 8, 2) := dk_16 8 (dk_at dksX2_tell_5 3 rfl rfl)
theorem dX2_tell_120 : decode cX2_tell 120 = .ok (.iaload, 1) := dk_46 (dk_at dksX2_tell_5 5 rfl rfl)
theorem dX2_tell_121 : decode cX2_tell 121 = .ok (.ireturn, 1) := dk_172 (dk_at dksX2_tell_5 6 rfl rfl)
abbrev cX2_liars : ByteArray := prog_18_method_96_code
def yX2_liars : MethodName := ⟨RX2, "liars", "()I"⟩
def dkwX2_liars_11 : List UInt8 := [172]
abbrev dktX2_liars_11 : List UInt8 := dkwX2_liars_11 ++ []
def dkwX2_liars_10 : List UInt8 := [158, 0, 14, 4, 42, 180, 0, 7, 29, 46, 120, 167, 0, 4, 3, 128, 60, 132, 2, 1, 167, 255, 3, 27]
abbrev dktX2_liars_10 : List UInt8 := dkwX2_liars_10 ++ dktX2_liars_11
def dkwX2_liars_9 : List UInt8 := [180, 0, 7, 21, 6, 5, 96, 46, 167, 0, 4, 3, 100, 54, 4, 132, 5, 1, 167, 255, 157, 27, 21, 4]
abbrev dktX2_liars_9 : List UInt8 := dkwX2_liars_9 ++ dktX2_liars_10
def dkwX2_liars_8 : List UInt8 := [160, 0, 35, 42, 180, 0, 7, 21, 6, 6, 96, 46, 42, 180, 0, 7, 29, 6, 96, 46, 160, 0, 15, 42]
abbrev dktX2_liars_8 : List UInt8 := dkwX2_liars_8 ++ dktX2_liars_9
def dkwX2_liars_7 : List UInt8 := [42, 180, 0, 7, 29, 46, 160, 0, 53, 42, 180, 0, 7, 21, 6, 46, 42, 180, 0, 7, 29, 4, 96, 46]
abbrev dktX2_liars_7 : List UInt8 := dkwX2_liars_7 ++ dktX2_liars_8
def dkwX2_liars_6 : List UInt8 := [162, 0, 93, 17, 0, 250, 7, 21, 5, 104, 96, 54, 6, 21, 4, 42, 180, 0, 7, 21, 6, 4, 96, 46]
abbrev dktX2_liars_6 : List UInt8 := dkwX2_liars_6 ++ dktX2_liars_7
def dkwX2_liars_5 : List UInt8 := [3, 96, 54, 4, 132, 5, 1, 167, 255, 158, 3, 54, 5, 21, 5, 42, 180, 0, 7, 16, 9, 46]
abbrev dktX2_liars_5 : List UInt8 := dkwX2_liars_5 ++ dktX2_liars_6
def dkwX2_liars_4 : List UInt8 := [46, 42, 180, 0, 7, 29, 6, 96, 46, 160, 0, 15, 42, 180, 0, 7, 21, 6, 5, 96, 46, 167, 0, 4]
abbrev dktX2_liars_4 : List UInt8 := dkwX2_liars_4 ++ dktX2_liars_5
def dkwX2_liars_3 : List UInt8 := [21, 6, 4, 96, 46, 42, 180, 0, 7, 29, 4, 96, 46, 160, 0, 35, 42, 180, 0, 7, 21, 6, 6, 96]
abbrev dktX2_liars_3 : List UInt8 := dkwX2_liars_3 ++ dktX2_liars_4
def dkwX2_liars_2 : List UInt8 := [54, 6, 21, 4, 42, 180, 0, 7, 21, 6, 46, 42, 180, 0, 7, 29, 46, 160, 0, 55, 42, 180, 0, 7]
abbrev dktX2_liars_2 : List UInt8 := dkwX2_liars_2 ++ dktX2_liars_3
def dkwX2_liars_1 : List UInt8 := [54, 4, 3, 54, 5, 21, 5, 42, 180, 0, 7, 16, 8, 46, 162, 0, 92, 16, 70, 7, 21, 5, 104, 96]
abbrev dktX2_liars_1 : List UInt8 := dkwX2_liars_1 ++ dktX2_liars_2
def dkwX2_liars_0 : List UInt8 := [3, 60, 3, 61, 28, 42, 180, 0, 7, 16, 8, 46, 162, 0, 248, 16, 70, 7, 28, 104, 96, 62, 3]
abbrev dktX2_liars_0 : List UInt8 := dkwX2_liars_0 ++ dktX2_liars_1
theorem dksX2_liars_0 : cX2_liars.data.toList.drop 0 = dktX2_liars_0 := by decide +kernel
theorem dksX2_liars_1 : cX2_liars.data.toList.drop 23 = dktX2_liars_1 := dk_seg dksX2_liars_0 23 rfl rfl
theorem dksX2_liars_2 : cX2_liars.data.toList.drop 47 = dktX2_liars_2 := dk_seg dksX2_liars_1 24 rfl rfl
theorem dksX2_liars_3 : cX2_liars.data.toList.drop 71 = dktX2_liars_3 := dk_seg dksX2_liars_2 24 rfl rfl
theorem dksX2_liars_4 : cX2_liars.data.toList.drop 95 = dktX2_liars_4 := dk_seg dksX2_liars_3 24 rfl rfl
theorem dksX2_liars_5 : cX2_liars.data.toList.drop 119 = dktX2_liars_5 := dk_seg dksX2_liars_4 24 rfl rfl
theorem dksX2_liars_6 : cX2_liars.data.toList.drop 141 = dktX2_liars_6 := dk_seg dksX2_liars_5 22 rfl rfl
theorem dksX2_liars_7 : cX2_liars.data.toList.drop 165 = dktX2_liars_7 := dk_seg dksX2_liars_6 24 rfl rfl
theorem dksX2_liars_8 : cX2_liars.data.toList.drop 189 = dktX2_liars_8 := dk_seg dksX2_liars_7 24 rfl rfl
theorem dksX2_liars_9 : cX2_liars.data.toList.drop 213 = dktX2_liars_9 := dk_seg dksX2_liars_8 24 rfl rfl
theorem dksX2_liars_10 : cX2_liars.data.toList.drop 237 = dktX2_liars_10 := dk_seg dksX2_liars_9 24 rfl rfl
theorem dksX2_liars_11 : cX2_liars.data.toList.drop 261 = dktX2_liars_11 := dk_seg dksX2_liars_10 24 rfl rfl
theorem dX2_liars_0 : decode cX2_liars 0 = .ok (.iconst 0, 1) := dk_3 (dk_at dksX2_liars_0 0 rfl rfl)
theorem dX2_liars_1 : decode cX2_liars 1 = .ok (.istore_n 1, 1) := dk_60 (dk_at dksX2_liars_0 1 rfl rfl)
theorem dX2_liars_2 : decode cX2_liars 2 = .ok (.iconst 0, 1) := dk_3 (dk_at dksX2_liars_0 2 rfl rfl)
theorem dX2_liars_3 : decode cX2_liars 3 = .ok (.istore_n 2, 1) := dk_61 (dk_at dksX2_liars_0 3 rfl rfl)
theorem dX2_liars_4 : decode cX2_liars 4 = .ok (.iload_n 2, 1) := dk_28 (dk_at dksX2_liars_0 4 rfl rfl)
theorem dX2_liars_5 : decode cX2_liars 5 = .ok (.aload_n 0, 1) := dk_42 (dk_at dksX2_liars_0 5 rfl rfl)
theorem dX2_liars_6 : decode cX2_liars 6 = .ok (.getfield 7, 3) := dk_180 0 7 (dk_at dksX2_liars_0 6 rfl rfl)
theorem dX2_liars_9 : decode cX2_liars 9 = .ok (.bipush 8, 2) := dk_16 8 (dk_at dksX2_liars_0 9 rfl rfl)
theorem dX2_liars_11 : decode cX2_liars 11 = .ok (.iaload, 1) := dk_46 (dk_at dksX2_liars_0 11 rfl rfl)
theorem dX2_liars_12 : decode cX2_liars 12 = .ok (.if_icmp .ge 248, 3) := dk_162 0 248 (dk_at dksX2_liars_0 12 rfl rfl)
theorem dX2_liars_15 : decode cX2_liars 15 = .ok (.bipush 70, 2) := dk_16 70 (dk_at dksX2_liars_0 15 rfl rfl)
theorem dX2_liars_17 : decode cX2_liars 17 = .ok (.iconst 4, 1) := dk_7 (dk_at dksX2_liars_0 17 rfl rfl)
theorem dX2_liars_18 : decode cX2_liars 18 = .ok (.iload_n 2, 1) := dk_28 (dk_at dksX2_liars_0 18 rfl rfl)
theorem dX2_liars_19 : decode cX2_liars 19 = .ok (.imul, 1) := dk_104 (dk_at dksX2_liars_0 19 rfl rfl)
theorem dX2_liars_20 : decode cX2_liars 20 = .ok (.iadd, 1) := dk_96 (dk_at dksX2_liars_0 20 rfl rfl)
theorem dX2_liars_21 : decode cX2_liars 21 = .ok (.istore_n 3, 1) := dk_62 (dk_at dksX2_liars_0 21 rfl rfl)
theorem dX2_liars_22 : decode cX2_liars 22 = .ok (.iconst 0, 1) := dk_3 (dk_at dksX2_liars_0 22 rfl rfl)
theorem dX2_liars_23 : decode cX2_liars 23 = .ok (.istore 4, 2) := dk_54 4 (dk_at dksX2_liars_1 0 rfl rfl)
theorem dX2_liars_25 : decode cX2_liars 25 = .ok (.iconst 0, 1) := dk_3 (dk_at dksX2_liars_1 2 rfl rfl)
theorem dX2_liars_26 : decode cX2_liars 26 = .ok (.istore 5, 2) := dk_54 5 (dk_at dksX2_liars_1 3 rfl rfl)
theorem dX2_liars_28 : decode cX2_liars 28 = .ok (.iload 5, 2) := dk_21 5 (dk_at dksX2_liars_1 5 rfl rfl)
theorem dX2_liars_30 : decode cX2_liars 30 = .ok (.aload_n 0, 1) := dk_42 (dk_at dksX2_liars_1 7 rfl rfl)
theorem dX2_liars_31 : decode cX2_liars 31 = .ok (.getfield 7, 3) := dk_180 0 7 (dk_at dksX2_liars_1 8 rfl rfl)
theorem dX2_liars_34 : decode cX2_liars 34 = .ok (.bipush 8, 2) := dk_16 8 (dk_at dksX2_liars_1 11 rfl rfl)
theorem dX2_liars_36 : decode cX2_liars 36 = .ok (.iaload, 1) := dk_46 (dk_at dksX2_liars_1 13 rfl rfl)
theorem dX2_liars_37 : decode cX2_liars 37 = .ok (.if_icmp .ge 92, 3) := dk_162 0 92 (dk_at dksX2_liars_1 14 rfl rfl)
theorem dX2_liars_40 : decode cX2_liars 40 = .ok (.bipush 70, 2) := dk_16 70 (dk_at dksX2_liars_1 17 rfl rfl)
theorem dX2_liars_42 : decode cX2_liars 42 = .ok (.iconst 4, 1) := dk_7 (dk_at dksX2_liars_1 19 rfl rfl)
theorem dX2_liars_43 : decode cX2_liars 43 = .ok (.iload 5, 2) := dk_21 5 (dk_at dksX2_liars_1 20 rfl rfl)
theorem dX2_liars_45 : decode cX2_liars 45 = .ok (.imul, 1) := dk_104 (dk_at dksX2_liars_1 22 rfl rfl)
theorem dX2_liars_46 : decode cX2_liars 46 = .ok (.iadd, 1) := dk_96 (dk_at dksX2_liars_1 23 rfl rfl)
theorem dX2_liars_47 : decode cX2_liars 47 = .ok (.istore 6, 2) := dk_54 6 (dk_at dksX2_liars_2 0 rfl rfl)
theorem dX2_liars_49 : decode cX2_liars 49 = .ok (.iload 4, 2) := dk_21 4 (dk_at dksX2_liars_2 2 rfl rfl)
theorem dX2_liars_51 : decode cX2_liars 51 = .ok (.aload_n 0, 1) := dk_42 (dk_at dksX2_liars_2 4 rfl rfl)
theorem dX2_liars_52 : decode cX2_liars 52 = .ok (.getfield 7, 3) := dk_180 0 7 (dk_at dksX2_liars_2 5 rfl rfl)
theorem dX2_liars_55 : decode cX2_liars 55 = .ok (.iload 6, 2) := dk_21 6 (dk_at dksX2_liars_2 8 rfl rfl)
theorem dX2_liars_57 : decode cX2_liars 57 = .ok (.iaload, 1) := dk_46 (dk_at dksX2_liars_2 10 rfl rfl)
theorem dX2_liars_58 : decode cX2_liars 58 = .ok (.aload_n 0, 1) := dk_42 (dk_at dksX2_liars_2 11 rfl rfl)
theorem dX2_liars_59 : decode cX2_liars 59 = .ok (.getfield 7, 3) := dk_180 0 7 (dk_at dksX2_liars_2 12 rfl rfl)
theorem dX2_liars_62 : decode cX2_liars 62 = .ok (.iload_n 3, 1) := dk_29 (dk_at dksX2_liars_2 15 rfl rfl)
theorem dX2_liars_63 : decode cX2_liars 63 = .ok (.iaload, 1) := dk_46 (dk_at dksX2_liars_2 16 rfl rfl)
theorem dX2_liars_64 : decode cX2_liars 64 = .ok (.if_icmp .ne 55, 3) := dk_160 0 55 (dk_at dksX2_liars_2 17 rfl rfl)
theorem dX2_liars_67 : decode cX2_liars 67 = .ok (.aload_n 0, 1) := dk_42 (dk_at dksX2_liars_2 20 rfl rfl)
theorem dX2_liars_68 : decode cX2_liars 68 = .ok (.getfield 7, 3) := dk_180 0 7 (dk_at dksX2_liars_2 21 rfl rfl)
theorem dX2_liars_71 : decode cX2_liars 71 = .ok (.iload 6, 2) := dk_21 6 (dk_at dksX2_liars_3 0 rfl rfl)
theorem dX2_liars_73 : decode cX2_liars 73 = .ok (.iconst 1, 1) := dk_4 (dk_at dksX2_liars_3 2 rfl rfl)
theorem dX2_liars_74 : decode cX2_liars 74 = .ok (.iadd, 1) := dk_96 (dk_at dksX2_liars_3 3 rfl rfl)
theorem dX2_liars_75 : decode cX2_liars 75 = .ok (.iaload, 1) := dk_46 (dk_at dksX2_liars_3 4 rfl rfl)
theorem dX2_liars_76 : decode cX2_liars 76 = .ok (.aload_n 0, 1) := dk_42 (dk_at dksX2_liars_3 5 rfl rfl)
theorem dX2_liars_77 : decode cX2_liars 77 = .ok (.getfield 7, 3) := dk_180 0 7 (dk_at dksX2_liars_3 6 rfl rfl)
theorem dX2_liars_80 : decode cX2_liars 80 = .ok (.iload_n 3, 1) := dk_29 (dk_at dksX2_liars_3 9 rfl rfl)
theorem dX2_liars_81 : decode cX2_liars 81 = .ok (.iconst 1, 1) := dk_4 (dk_at dksX2_liars_3 10 rfl rfl)
theorem dX2_liars_82 : decode cX2_liars 82 = .ok (.iadd, 1) := dk_96 (dk_at dksX2_liars_3 11 rfl rfl)
theorem dX2_liars_83 : decode cX2_liars 83 = .ok (.iaload, 1) := dk_46 (dk_at dksX2_liars_3 12 rfl rfl)
theorem dX2_liars_84 : decode cX2_liars 84 = .ok (.if_icmp .ne 35, 3) := dk_160 0 35 (dk_at dksX2_liars_3 13 rfl rfl)
theorem dX2_liars_87 : decode cX2_liars 87 = .ok (.aload_n 0, 1) := dk_42 (dk_at dksX2_liars_3 16 rfl rfl)
theorem dX2_liars_88 : decode cX2_liars 88 = .ok (.getfield 7, 3) := dk_180 0 7 (dk_at dksX2_liars_3 17 rfl rfl)
theorem dX2_liars_91 : decode cX2_liars 91 = .ok (.iload 6, 2) := dk_21 6 (dk_at dksX2_liars_3 20 rfl rfl)
theorem dX2_liars_93 : decode cX2_liars 93 = .ok (.iconst 3, 1) := dk_6 (dk_at dksX2_liars_3 22 rfl rfl)
theorem dX2_liars_94 : decode cX2_liars 94 = .ok (.iadd, 1) := dk_96 (dk_at dksX2_liars_3 23 rfl rfl)
theorem dX2_liars_95 : decode cX2_liars 95 = .ok (.iaload, 1) := dk_46 (dk_at dksX2_liars_4 0 rfl rfl)
theorem dX2_liars_96 : decode cX2_liars 96 = .ok (.aload_n 0, 1) := dk_42 (dk_at dksX2_liars_4 1 rfl rfl)
theorem dX2_liars_97 : decode cX2_liars 97 = .ok (.getfield 7, 3) := dk_180 0 7 (dk_at dksX2_liars_4 2 rfl rfl)
theorem dX2_liars_100 : decode cX2_liars 100 = .ok (.iload_n 3, 1) := dk_29 (dk_at dksX2_liars_4 5 rfl rfl)
theorem dX2_liars_101 : decode cX2_liars 101 = .ok (.iconst 3, 1) := dk_6 (dk_at dksX2_liars_4 6 rfl rfl)
theorem dX2_liars_102 : decode cX2_liars 102 = .ok (.iadd, 1) := dk_96 (dk_at dksX2_liars_4 7 rfl rfl)
theorem dX2_liars_103 : decode cX2_liars 103 = .ok (.iaload, 1) := dk_46 (dk_at dksX2_liars_4 8 rfl rfl)
theorem dX2_liars_104 : decode cX2_liars 104 = .ok (.if_icmp .ne 15, 3) := dk_160 0 15 (dk_at dksX2_liars_4 9 rfl rfl)
theorem dX2_liars_107 : decode cX2_liars 107 = .ok (.aload_n 0, 1) := dk_42 (dk_at dksX2_liars_4 12 rfl rfl)
theorem dX2_liars_108 : decode cX2_liars 108 = .ok (.getfield 7, 3) := dk_180 0 7 (dk_at dksX2_liars_4 13 rfl rfl)
theorem dX2_liars_111 : decode cX2_liars 111 = .ok (.iload 6, 2) := dk_21 6 (dk_at dksX2_liars_4 16 rfl rfl)
theorem dX2_liars_113 : decode cX2_liars 113 = .ok (.iconst 2, 1) := dk_5 (dk_at dksX2_liars_4 18 rfl rfl)
theorem dX2_liars_114 : decode cX2_liars 114 = .ok (.iadd, 1) := dk_96 (dk_at dksX2_liars_4 19 rfl rfl)
theorem dX2_liars_115 : decode cX2_liars 115 = .ok (.iaload, 1) := dk_46 (dk_at dksX2_liars_4 20 rfl rfl)
theorem dX2_liars_116 : decode cX2_liars 116 = .ok (.goto 4, 3) := dk_167 0 4 (dk_at dksX2_liars_4 21 rfl rfl)
theorem dX2_liars_119 : decode cX2_liars 119 = .ok (.iconst 0, 1) := dk_3 (dk_at dksX2_liars_5 0 rfl rfl)
theorem dX2_liars_120 : decode cX2_liars 120 = .ok (.iadd, 1) := dk_96 (dk_at dksX2_liars_5 1 rfl rfl)
theorem dX2_liars_121 : decode cX2_liars 121 = .ok (.istore 4, 2) := dk_54 4 (dk_at dksX2_liars_5 2 rfl rfl)
theorem dX2_liars_123 : decode cX2_liars 123 = .ok (.iinc 5 1, 3) := dk_132 5 1 (dk_at dksX2_liars_5 4 rfl rfl)
theorem dX2_liars_126 : decode cX2_liars 126 = .ok (.goto (-98), 3) := dk_167 255 158 (dk_at dksX2_liars_5 7 rfl rfl)
theorem dX2_liars_129 : decode cX2_liars 129 = .ok (.iconst 0, 1) := dk_3 (dk_at dksX2_liars_5 10 rfl rfl)
theorem dX2_liars_130 : decode cX2_liars 130 = .ok (.istore 5, 2) := dk_54 5 (dk_at dksX2_liars_5 11 rfl rfl)
theorem dX2_liars_132 : decode cX2_liars 132 = .ok (.iload 5, 2) := dk_21 5 (dk_at dksX2_liars_5 13 rfl rfl)
theorem dX2_liars_134 : decode cX2_liars 134 = .ok (.aload_n 0, 1) := dk_42 (dk_at dksX2_liars_5 15 rfl rfl)
theorem dX2_liars_135 : decode cX2_liars 135 = .ok (.getfield 7, 3) := dk_180 0 7 (dk_at dksX2_liars_5 16 rfl rfl)
theorem dX2_liars_138 : decode cX2_liars 138 = .ok (.bipush 9, 2) := dk_16 9 (dk_at dksX2_liars_5 19 rfl rfl)
theorem dX2_liars_140 : decode cX2_liars 140 = .ok (.iaload, 1) := dk_46 (dk_at dksX2_liars_5 21 rfl rfl)
theorem dX2_liars_141 : decode cX2_liars 141 = .ok (.if_icmp .ge 93, 3) := dk_162 0 93 (dk_at dksX2_liars_6 0 rfl rfl)
theorem dX2_liars_144 : decode cX2_liars 144 = .ok (.sipush 250, 3) := dk_17 0 250 (dk_at dksX2_liars_6 3 rfl rfl)
theorem dX2_liars_147 : decode cX2_liars 147 = .ok (.iconst 4, 1) := dk_7 (dk_at dksX2_liars_6 6 rfl rfl)
theorem dX2_liars_148 : decode cX2_liars 148 = .ok (.iload 5, 2) := dk_21 5 (dk_at dksX2_liars_6 7 rfl rfl)
theorem dX2_liars_150 : decode cX2_liars 150 = .ok (.imul, 1) := dk_104 (dk_at dksX2_liars_6 9 rfl rfl)
theorem dX2_liars_151 : decode cX2_liars 151 = .ok (.iadd, 1) := dk_96 (dk_at dksX2_liars_6 10 rfl rfl)
theorem dX2_liars_152 : decode cX2_liars 152 = .ok (.istore 6, 2) := dk_54 6 (dk_at dksX2_liars_6 11 rfl rfl)
theorem dX2_liars_154 : decode cX2_liars 154 = .ok (.iload 4, 2) := dk_21 4 (dk_at dksX2_liars_6 13 rfl rfl)
theorem dX2_liars_156 : decode cX2_liars 156 = .ok (.aload_n 0, 1) := dk_42 (dk_at dksX2_liars_6 15 rfl rfl)
theorem dX2_liars_157 : decode cX2_liars 157 = .ok (.getfield 7, 3) := dk_180 0 7 (dk_at dksX2_liars_6 16 rfl rfl)
theorem dX2_liars_160 : decode cX2_liars 160 = .ok (.iload 6, 2) := dk_21 6 (dk_at dksX2_liars_6 19 rfl rfl)
theorem dX2_liars_162 : decode cX2_liars 162 = .ok (.iconst 1, 1) := dk_4 (dk_at dksX2_liars_6 21 rfl rfl)
theorem dX2_liars_163 : decode cX2_liars 163 = .ok (.iadd, 1) := dk_96 (dk_at dksX2_liars_6 22 rfl rfl)
theorem dX2_liars_164 : decode cX2_liars 164 = .ok (.iaload, 1) := dk_46 (dk_at dksX2_liars_6 23 rfl rfl)
theorem dX2_liars_165 : decode cX2_liars 165 = .ok (.aload_n 0, 1) := dk_42 (dk_at dksX2_liars_7 0 rfl rfl)
theorem dX2_liars_166 : decode cX2_liars 166 = .ok (.getfield 7, 3) := dk_180 0 7 (dk_at dksX2_liars_7 1 rfl rfl)
theorem dX2_liars_169 : decode cX2_liars 169 = .ok (.iload_n 3, 1) := dk_29 (dk_at dksX2_liars_7 4 rfl rfl)
theorem dX2_liars_170 : decode cX2_liars 170 = .ok (.iaload, 1) := dk_46 (dk_at dksX2_liars_7 5 rfl rfl)
theorem dX2_liars_171 : decode cX2_liars 171 = .ok (.if_icmp .ne 53, 3) := dk_160 0 53 (dk_at dksX2_liars_7 6 rfl rfl)
theorem dX2_liars_174 : decode cX2_liars 174 = .ok (.aload_n 0, 1) := dk_42 (dk_at dksX2_liars_7 9 rfl rfl)
theorem dX2_liars_175 : decode cX2_liars 175 = .ok (.getfield 7, 3) := dk_180 0 7 (dk_at dksX2_liars_7 10 rfl rfl)
theorem dX2_liars_178 : decode cX2_liars 178 = .ok (.iload 6, 2) := dk_21 6 (dk_at dksX2_liars_7 13 rfl rfl)
theorem dX2_liars_180 : decode cX2_liars 180 = .ok (.iaload, 1) := dk_46 (dk_at dksX2_liars_7 15 rfl rfl)
theorem dX2_liars_181 : decode cX2_liars 181 = .ok (.aload_n 0, 1) := dk_42 (dk_at dksX2_liars_7 16 rfl rfl)
theorem dX2_liars_182 : decode cX2_liars 182 = .ok (.getfield 7, 3) := dk_180 0 7 (dk_at dksX2_liars_7 17 rfl rfl)
theorem dX2_liars_185 : decode cX2_liars 185 = .ok (.iload_n 3, 1) := dk_29 (dk_at dksX2_liars_7 20 rfl rfl)
theorem dX2_liars_186 : decode cX2_liars 186 = .ok (.iconst 1, 1) := dk_4 (dk_at dksX2_liars_7 21 rfl rfl)
theorem dX2_liars_187 : decode cX2_liars 187 = .ok (.iadd, 1) := dk_96 (dk_at dksX2_liars_7 22 rfl rfl)
theorem dX2_liars_188 : decode cX2_liars 188 = .ok (.iaload, 1) := dk_46 (dk_at dksX2_liars_7 23 rfl rfl)
theorem dX2_liars_189 : decode cX2_liars 189 = .ok (.if_icmp .ne 35, 3) := dk_160 0 35 (dk_at dksX2_liars_8 0 rfl rfl)
theorem dX2_liars_192 : decode cX2_liars 192 = .ok (.aload_n 0, 1) := dk_42 (dk_at dksX2_liars_8 3 rfl rfl)
theorem dX2_liars_193 : decode cX2_liars 193 = .ok (.getfield 7, 3) := dk_180 0 7 (dk_at dksX2_liars_8 4 rfl rfl)
theorem dX2_liars_196 : decode cX2_liars 196 = .ok (.iload 6, 2) := dk_21 6 (dk_at dksX2_liars_8 7 rfl rfl)
theorem dX2_liars_198 : decode cX2_liars 198 = .ok (.iconst 3, 1) := dk_6 (dk_at dksX2_liars_8 9 rfl rfl)
theorem dX2_liars_199 : decode cX2_liars 199 = .ok (.iadd, 1) := dk_96 (dk_at dksX2_liars_8 10 rfl rfl)
theorem dX2_liars_200 : decode cX2_liars 200 = .ok (.iaload, 1) := dk_46 (dk_at dksX2_liars_8 11 rfl rfl)
theorem dX2_liars_201 : decode cX2_liars 201 = .ok (.aload_n 0, 1) := dk_42 (dk_at dksX2_liars_8 12 rfl rfl)
theorem dX2_liars_202 : decode cX2_liars 202 = .ok (.getfield 7, 3) := dk_180 0 7 (dk_at dksX2_liars_8 13 rfl rfl)
theorem dX2_liars_205 : decode cX2_liars 205 = .ok (.iload_n 3, 1) := dk_29 (dk_at dksX2_liars_8 16 rfl rfl)
theorem dX2_liars_206 : decode cX2_liars 206 = .ok (.iconst 3, 1) := dk_6 (dk_at dksX2_liars_8 17 rfl rfl)
theorem dX2_liars_207 : decode cX2_liars 207 = .ok (.iadd, 1) := dk_96 (dk_at dksX2_liars_8 18 rfl rfl)
theorem dX2_liars_208 : decode cX2_liars 208 = .ok (.iaload, 1) := dk_46 (dk_at dksX2_liars_8 19 rfl rfl)
theorem dX2_liars_209 : decode cX2_liars 209 = .ok (.if_icmp .ne 15, 3) := dk_160 0 15 (dk_at dksX2_liars_8 20 rfl rfl)
theorem dX2_liars_212 : decode cX2_liars 212 = .ok (.aload_n 0, 1) := dk_42 (dk_at dksX2_liars_8 23 rfl rfl)
theorem dX2_liars_213 : decode cX2_liars 213 = .ok (.getfield 7, 3) := dk_180 0 7 (dk_at dksX2_liars_9 0 rfl rfl)
theorem dX2_liars_216 : decode cX2_liars 216 = .ok (.iload 6, 2) := dk_21 6 (dk_at dksX2_liars_9 3 rfl rfl)
theorem dX2_liars_218 : decode cX2_liars 218 = .ok (.iconst 2, 1) := dk_5 (dk_at dksX2_liars_9 5 rfl rfl)
theorem dX2_liars_219 : decode cX2_liars 219 = .ok (.iadd, 1) := dk_96 (dk_at dksX2_liars_9 6 rfl rfl)
theorem dX2_liars_220 : decode cX2_liars 220 = .ok (.iaload, 1) := dk_46 (dk_at dksX2_liars_9 7 rfl rfl)
theorem dX2_liars_221 : decode cX2_liars 221 = .ok (.goto 4, 3) := dk_167 0 4 (dk_at dksX2_liars_9 8 rfl rfl)
theorem dX2_liars_224 : decode cX2_liars 224 = .ok (.iconst 0, 1) := dk_3 (dk_at dksX2_liars_9 11 rfl rfl)
theorem dX2_liars_225 : decode cX2_liars 225 = .ok (.isub, 1) := dk_100 (dk_at dksX2_liars_9 12 rfl rfl)
theorem dX2_liars_226 : decode cX2_liars 226 = .ok (.istore 4, 2) := dk_54 4 (dk_at dksX2_liars_9 13 rfl rfl)
theorem dX2_liars_228 : decode cX2_liars 228 = .ok (.iinc 5 1, 3) := dk_132 5 1 (dk_at dksX2_liars_9 15 rfl rfl)
theorem dX2_liars_231 : decode cX2_liars 231 = .ok (.goto (-99), 3) := dk_167 255 157 (dk_at dksX2_liars_9 18 rfl rfl)
theorem dX2_liars_234 : decode cX2_liars 234 = .ok (.iload_n 1, 1) := dk_27 (dk_at dksX2_liars_9 21 rfl rfl)
theorem dX2_liars_235 : decode cX2_liars 235 = .ok (.iload 4, 2) := dk_21 4 (dk_at dksX2_liars_9 22 rfl rfl)
theorem dX2_liars_237 : decode cX2_liars 237 = .ok (.ifCond .le 14, 3) := dk_158 0 14 (dk_at dksX2_liars_10 0 rfl rfl)
theorem dX2_liars_240 : decode cX2_liars 240 = .ok (.iconst 1, 1) := dk_4 (dk_at dksX2_liars_10 3 rfl rfl)
theorem dX2_liars_241 : decode cX2_liars 241 = .ok (.aload_n 0, 1) := dk_42 (dk_at dksX2_liars_10 4 rfl rfl)
theorem dX2_liars_242 : decode cX2_liars 242 = .ok (.getfield 7, 3) := dk_180 0 7 (dk_at dksX2_liars_10 5 rfl rfl)
theorem dX2_liars_245 : decode cX2_liars 245 = .ok (.iload_n 3, 1) := dk_29 (dk_at dksX2_liars_10 8 rfl rfl)
theorem dX2_liars_246 : decode cX2_liars 246 = .ok (.iaload, 1) := dk_46 (dk_at dksX2_liars_10 9 rfl rfl)
theorem dX2_liars_247 : decode cX2_liars 247 = .ok (.ishl, 1) := dk_120 (dk_at dksX2_liars_10 10 rfl rfl)
theorem dX2_liars_248 : decode cX2_liars 248 = .ok (.goto 4, 3) := dk_167 0 4 (dk_at dksX2_liars_10 11 rfl rfl)
theorem dX2_liars_251 : decode cX2_liars 251 = .ok (.iconst 0, 1) := dk_3 (dk_at dksX2_liars_10 14 rfl rfl)
theorem dX2_liars_252 : decode cX2_liars 252 = .ok (.ior, 1) := dk_128 (dk_at dksX2_liars_10 15 rfl rfl)
theorem dX2_liars_253 : decode cX2_liars 253 = .ok (.istore_n 1, 1) := dk_60 (dk_at dksX2_liars_10 16 rfl rfl)
theorem dX2_liars_254 : decode cX2_liars 254 = .ok (.iinc 2 1, 3) := dk_132 2 1 (dk_at dksX2_liars_10 17 rfl rfl)
theorem dX2_liars_257 : decode cX2_liars 257 = .ok (.goto (-253), 3) := dk_167 255 3 (dk_at dksX2_liars_10 20 rfl rfl)
theorem dX2_liars_260 : decode cX2_liars 260 = .ok (.iload_n 1, 1) := dk_27 (dk_at dksX2_liars_10 23 rfl rfl)
theorem dX2_liars_261 : decode cX2_liars 261 = .ok (.ireturn, 1) := dk_172 (dk_at dksX2_liars_11 0 rfl rfl)
abbrev cX2_coughs : ByteArray := prog_18_method_97_code
def yX2_coughs : MethodName := ⟨RX2, "coughs", "(IIII)I"⟩
def dkwX2_coughs_5 : List UInt8 := [132, 8, 1, 167, 255, 201, 132, 7, 1, 167, 255, 186, 21, 6, 172]
abbrev dktX2_coughs_5 : List UInt8 := dkwX2_coughs_5 ++ []
def dkwX2_coughs_4 : List UInt8 := [167, 0, 4, 3, 96, 54, 6, 21, 5, 17, 0, 181, 104, 16, 37, 96, 17, 117, 151, 112, 54, 5]
abbrev dktX2_coughs_4 : List UInt8 := dkwX2_coughs_4 ++ dktX2_coughs_5
def dkwX2_coughs_3 : List UInt8 := [3, 46, 162, 0, 50, 21, 6, 21, 8, 21, 4, 160, 0, 16, 21, 5, 16, 10, 112, 29, 162, 0, 7, 4]
abbrev dktX2_coughs_3 : List UInt8 := dkwX2_coughs_3 ++ dktX2_coughs_4
def dkwX2_coughs_2 : List UInt8 := [96, 54, 5, 3, 54, 6, 3, 54, 7, 21, 7, 28, 162, 0, 70, 3, 54, 8, 21, 8, 42, 180, 0, 7]
abbrev dktX2_coughs_2 : List UInt8 := dkwX2_coughs_2 ++ dktX2_coughs_3
def dkwX2_coughs_1 : List UInt8 := [16, 10, 184, 0, 62, 153, 0, 12, 42, 21, 4, 182, 0, 78, 154, 0, 5, 2, 172, 27, 16, 7, 104, 8]
abbrev dktX2_coughs_1 : List UInt8 := dkwX2_coughs_1 ++ dktX2_coughs_2
def dkwX2_coughs_0 : List UInt8 := [27, 3, 17, 39, 15, 184, 0, 62, 153, 0, 32, 28, 4, 16, 30, 184, 0, 62, 153, 0, 22, 29, 4]
abbrev dktX2_coughs_0 : List UInt8 := dkwX2_coughs_0 ++ dktX2_coughs_1
theorem dksX2_coughs_0 : cX2_coughs.data.toList.drop 0 = dktX2_coughs_0 := by decide +kernel
theorem dksX2_coughs_1 : cX2_coughs.data.toList.drop 23 = dktX2_coughs_1 := dk_seg dksX2_coughs_0 23 rfl rfl
theorem dksX2_coughs_2 : cX2_coughs.data.toList.drop 47 = dktX2_coughs_2 := dk_seg dksX2_coughs_1 24 rfl rfl
theorem dksX2_coughs_3 : cX2_coughs.data.toList.drop 71 = dktX2_coughs_3 := dk_seg dksX2_coughs_2 24 rfl rfl
theorem dksX2_coughs_4 : cX2_coughs.data.toList.drop 95 = dktX2_coughs_4 := dk_seg dksX2_coughs_3 24 rfl rfl
theorem dksX2_coughs_5 : cX2_coughs.data.toList.drop 117 = dktX2_coughs_5 := dk_seg dksX2_coughs_4 22 rfl rfl
theorem dX2_coughs_0 : decode cX2_coughs 0 = .ok (.iload_n 1, 1) := dk_27 (dk_at dksX2_coughs_0 0 rfl rfl)
theorem dX2_coughs_1 : decode cX2_coughs 1 = .ok (.iconst 0, 1) := dk_3 (dk_at dksX2_coughs_0 1 rfl rfl)
theorem dX2_coughs_2 : decode cX2_coughs 2 = .ok (.sipush 9999, 3) := dk_17 39 15 (dk_at dksX2_coughs_0 2 rfl rfl)
theorem dX2_coughs_5 : decode cX2_coughs 5 = .ok (.invokestatic 62, 3) := dk_184 0 62 (dk_at dksX2_coughs_0 5 rfl rfl)
theorem dX2_coughs_8 : decode cX2_coughs 8 = .ok (.ifCond .eq 32, 3) := dk_153 0 32 (dk_at dksX2_coughs_0 8 rfl rfl)
theorem dX2_coughs_11 : decode cX2_coughs 11 = .ok (.iload_n 2, 1) := dk_28 (dk_at dksX2_coughs_0 11 rfl rfl)
theorem dX2_coughs_12 : decode cX2_coughs 12 = .ok (.iconst 1, 1) := dk_4 (dk_at dksX2_coughs_0 12 rfl rfl)
theorem dX2_coughs_13 : decode cX2_coughs 13 = .ok (.bipush 30, 2) := dk_16 30 (dk_at dksX2_coughs_0 13 rfl rfl)
theorem dX2_coughs_15 : decode cX2_coughs 15 = .ok (.invokestatic 62, 3) := dk_184 0 62 (dk_at dksX2_coughs_0 15 rfl rfl)
theorem dX2_coughs_18 : decode cX2_coughs 18 = .ok (.ifCond .eq 22, 3) := dk_153 0 22 (dk_at dksX2_coughs_0 18 rfl rfl)
theorem dX2_coughs_21 : decode cX2_coughs 21 = .ok (.iload_n 3, 1) := dk_29 (dk_at dksX2_coughs_0 21 rfl rfl)
theorem dX2_coughs_22 : decode cX2_coughs 22 = .ok (.iconst 1, 1) := dk_4 (dk_at dksX2_coughs_0 22 rfl rfl)
theorem dX2_coughs_23 : decode cX2_coughs 23 = .ok (.bipush 10, 2) := dk_16 10 (dk_at dksX2_coughs_1 0 rfl rfl)
theorem dX2_coughs_25 : decode cX2_coughs 25 = .ok (.invokestatic 62, 3) := dk_184 0 62 (dk_at dksX2_coughs_1 2 rfl rfl)
theorem dX2_coughs_28 : decode cX2_coughs 28 = .ok (.ifCond .eq 12, 3) := dk_153 0 12 (dk_at dksX2_coughs_1 5 rfl rfl)
theorem dX2_coughs_31 : decode cX2_coughs 31 = .ok (.aload_n 0, 1) := dk_42 (dk_at dksX2_coughs_1 8 rfl rfl)
theorem dX2_coughs_32 : decode cX2_coughs 32 = .ok (.iload 4, 2) := dk_21 4 (dk_at dksX2_coughs_1 9 rfl rfl)
theorem dX2_coughs_34 : decode cX2_coughs 34 = .ok (.invokevirtual 78, 3) := dk_182 0 78 (dk_at dksX2_coughs_1 11 rfl rfl)
theorem dX2_coughs_37 : decode cX2_coughs 37 = .ok (.ifCond .ne 5, 3) := dk_154 0 5 (dk_at dksX2_coughs_1 14 rfl rfl)
theorem dX2_coughs_40 : decode cX2_coughs 40 = .ok (.iconst (-1), 1) := dk_2 (dk_at dksX2_coughs_1 17 rfl rfl)
theorem dX2_coughs_41 : decode cX2_coughs 41 = .ok (.ireturn, 1) := dk_172 (dk_at dksX2_coughs_1 18 rfl rfl)
theorem dX2_coughs_42 : decode cX2_coughs 42 = .ok (.iload_n 1, 1) := dk_27 (dk_at dksX2_coughs_1 19 rfl rfl)
theorem dX2_coughs_43 : decode cX2_coughs 43 = .ok (.bipush 7, 2) := dk_16 7 (dk_at dksX2_coughs_1 20 rfl rfl)
theorem dX2_coughs_45 : decode cX2_coughs 45 = .ok (.imul, 1) := dk_104 (dk_at dksX2_coughs_1 22 rfl rfl)
theorem dX2_coughs_46 : decode cX2_coughs 46 = .ok (.iconst 5, 1) := dk_8 (dk_at dksX2_coughs_1 23 rfl rfl)
theorem dX2_coughs_47 : decode cX2_coughs 47 = .ok (.iadd, 1) := dk_96 (dk_at dksX2_coughs_2 0 rfl rfl)
theorem dX2_coughs_48 : decode cX2_coughs 48 = .ok (.istore 5, 2) := dk_54 5 (dk_at dksX2_coughs_2 1 rfl rfl)
theorem dX2_coughs_50 : decode cX2_coughs 50 = .ok (.iconst 0, 1) := dk_3 (dk_at dksX2_coughs_2 3 rfl rfl)
theorem dX2_coughs_51 : decode cX2_coughs 51 = .ok (.istore 6, 2) := dk_54 6 (dk_at dksX2_coughs_2 4 rfl rfl)
theorem dX2_coughs_53 : decode cX2_coughs 53 = .ok (.iconst 0, 1) := dk_3 (dk_at dksX2_coughs_2 6 rfl rfl)
theorem dX2_coughs_54 : decode cX2_coughs 54 = .ok (.istore 7, 2) := dk_54 7 (dk_at dksX2_coughs_2 7 rfl rfl)
theorem dX2_coughs_56 : decode cX2_coughs 56 = .ok (.iload 7, 2) := dk_21 7 (dk_at dksX2_coughs_2 9 rfl rfl)
theorem dX2_coughs_58 : decode cX2_coughs 58 = .ok (.iload_n 2, 1) := dk_28 (dk_at dksX2_coughs_2 11 rfl rfl)
theorem dX2_coughs_59 : decode cX2_coughs 59 = .ok (.if_icmp .ge 70, 3) := dk_162 0 70 (dk_at dksX2_coughs_2 12 rfl rfl)
theorem dX2_coughs_62 : decode cX2_coughs 62 = .ok (.iconst 0, 1) := dk_3 (dk_at dksX2_coughs_2 15 rfl rfl)
theorem dX2_coughs_63 : decode cX2_coughs 63 = .ok (.istore 8, 2) := dk_54 8 (dk_at dksX2_coughs_2 16 rfl rfl)
theorem dX2_coughs_65 : decode cX2_coughs 65 = .ok (.iload 8, 2) := dk_21 8 (dk_at dksX2_coughs_2 18 rfl rfl)
theorem dX2_coughs_67 : decode cX2_coughs 67 = .ok (.aload_n 0, 1) := dk_42 (dk_at dksX2_coughs_2 20 rfl rfl)
theorem dX2_coughs_68 : decode cX2_coughs 68 = .ok (.getfield 7, 3) := dk_180 0 7 (dk_at dksX2_coughs_2 21 rfl rfl)
theorem dX2_coughs_71 : decode cX2_coughs 71 = .ok (.iconst 0, 1) := dk_3 (dk_at dksX2_coughs_3 0 rfl rfl)
theorem dX2_coughs_72 : decode cX2_coughs 72 = .ok (.iaload, 1) := dk_46 (dk_at dksX2_coughs_3 1 rfl rfl)
theorem dX2_coughs_73 : decode cX2_coughs 73 = .ok (.if_icmp .ge 50, 3) := dk_162 0 50 (dk_at dksX2_coughs_3 2 rfl rfl)
theorem dX2_coughs_76 : decode cX2_coughs 76 = .ok (.iload 6, 2) := dk_21 6 (dk_at dksX2_coughs_3 5 rfl rfl)
theorem dX2_coughs_78 : decode cX2_coughs 78 = .ok (.iload 8, 2) := dk_21 8 (dk_at dksX2_coughs_3 7 rfl rfl)
theorem dX2_coughs_80 : decode cX2_coughs 80 = .ok (.iload 4, 2) := dk_21 4 (dk_at dksX2_coughs_3 9 rfl rfl)
theorem dX2_coughs_82 : decode cX2_coughs 82 = .ok (.if_icmp .ne 16, 3) := dk_160 0 16 (dk_at dksX2_coughs_3 11 rfl rfl)
theorem dX2_coughs_85 : decode cX2_coughs 85 = .ok (.iload 5, 2) := dk_21 5 (dk_at dksX2_coughs_3 14 rfl rfl)
theorem dX2_coughs_87 : decode cX2_coughs 87 = .ok (.bipush 10, 2) := dk_16 10 (dk_at dksX2_coughs_3 16 rfl rfl)
theorem dX2_coughs_89 : decode cX2_coughs 89 = .ok (.irem, 1) := dk_112 (dk_at dksX2_coughs_3 18 rfl rfl)
theorem dX2_coughs_90 : decode cX2_coughs 90 = .ok (.iload_n 3, 1) := dk_29 (dk_at dksX2_coughs_3 19 rfl rfl)
theorem dX2_coughs_91 : decode cX2_coughs 91 = .ok (.if_icmp .ge 7, 3) := dk_162 0 7 (dk_at dksX2_coughs_3 20 rfl rfl)
theorem dX2_coughs_94 : decode cX2_coughs 94 = .ok (.iconst 1, 1) := dk_4 (dk_at dksX2_coughs_3 23 rfl rfl)
theorem dX2_coughs_95 : decode cX2_coughs 95 = .ok (.goto 4, 3) := dk_167 0 4 (dk_at dksX2_coughs_4 0 rfl rfl)
theorem dX2_coughs_98 : decode cX2_coughs 98 = .ok (.iconst 0, 1) := dk_3 (dk_at dksX2_coughs_4 3 rfl rfl)
theorem dX2_coughs_99 : decode cX2_coughs 99 = .ok (.iadd, 1) := dk_96 (dk_at dksX2_coughs_4 4 rfl rfl)
theorem dX2_coughs_100 : decode cX2_coughs 100 = .ok (.istore 6, 2) := dk_54 6 (dk_at dksX2_coughs_4 5 rfl rfl)
theorem dX2_coughs_102 : decode cX2_coughs 102 = .ok (.iload 5, 2) := dk_21 5 (dk_at dksX2_coughs_4 7 rfl rfl)
theorem dX2_coughs_104 : decode cX2_coughs 104 = .ok (.sipush 181, 3) := dk_17 0 181 (dk_at dksX2_coughs_4 9 rfl rfl)
theorem dX2_coughs_107 : decode cX2_coughs 107 = .ok (.imul, 1) := dk_104 (dk_at dksX2_coughs_4 12 rfl rfl)
theorem dX2_coughs_108 : decode cX2_coughs 108 = .ok (.bipush 37, 2) := dk_16 37 (dk_at dksX2_coughs_4 13 rfl rfl)
theorem dX2_coughs_110 : decode cX2_coughs 110 = .ok (.iadd, 1) := dk_96 (dk_at dksX2_coughs_4 15 rfl rfl)
theorem dX2_coughs_111 : decode cX2_coughs 111 = .ok (.sipush 30103, 3) := dk_17 117 151 (dk_at dksX2_coughs_4 16 rfl rfl)
theorem dX2_coughs_114 : decode cX2_coughs 114 = .ok (.irem, 1) := dk_112 (dk_at dksX2_coughs_4 19 rfl rfl)
theorem dX2_coughs_115 : decode cX2_coughs 115 = .ok (.istore 5, 2) := dk_54 5 (dk_at dksX2_coughs_4 20 rfl rfl)
theorem dX2_coughs_117 : decode cX2_coughs 117 = .ok (.iinc 8 1, 3) := dk_132 8 1 (dk_at dksX2_coughs_5 0 rfl rfl)
theorem dX2_coughs_120 : decode cX2_coughs 120 = .ok (.goto (-55), 3) := dk_167 255 201 (dk_at dksX2_coughs_5 3 rfl rfl)
theorem dX2_coughs_123 : decode cX2_coughs 123 = .ok (.iinc 7 1, 3) := dk_132 7 1 (dk_at dksX2_coughs_5 6 rfl rfl)
theorem dX2_coughs_126 : decode cX2_coughs 126 = .ok (.goto (-70), 3) := dk_167 255 186 (dk_at dksX2_coughs_5 9 rfl rfl)
theorem dX2_coughs_129 : decode cX2_coughs 129 = .ok (.iload 6, 2) := dk_21 6 (dk_at dksX2_coughs_5 12 rfl rfl)
theorem dX2_coughs_131 : decode cX2_coughs 131 = .ok (.ireturn, 1) := dk_172 (dk_at dksX2_coughs_5 14 rfl rfl)
abbrev cX2_image : ByteArray := prog_18_method_98_code
def yX2_image : MethodName := ⟨RX2, "image", "()I"⟩
def dkwX2_image_0 : List UInt8 := [42, 180, 0, 7, 42, 180, 0, 13, 184, 0, 58, 42, 180, 0, 7, 6, 46, 172]
abbrev dktX2_image_0 : List UInt8 := dkwX2_image_0 ++ []
theorem dksX2_image_0 : cX2_image.data.toList.drop 0 = dktX2_image_0 := by decide +kernel
theorem dX2_image_0 : decode cX2_image 0 = .ok (.aload_n 0, 1) := dk_42 (dk_at dksX2_image_0 0 rfl rfl)
theorem dX2_image_1 : decode cX2_image 1 = .ok (.getfield 7, 3) := dk_180 0 7 (dk_at dksX2_image_0 1 rfl rfl)
theorem dX2_image_4 : decode cX2_image 4 = .ok (.aload_n 0, 1) := dk_42 (dk_at dksX2_image_0 4 rfl rfl)
theorem dX2_image_5 : decode cX2_image 5 = .ok (.getfield 13, 3) := dk_180 0 13 (dk_at dksX2_image_0 5 rfl rfl)
theorem dX2_image_8 : decode cX2_image 8 = .ok (.invokestatic 58, 3) := dk_184 0 58 (dk_at dksX2_image_0 8 rfl rfl)
theorem dX2_image_11 : decode cX2_image 11 = .ok (.aload_n 0, 1) := dk_42 (dk_at dksX2_image_0 11 rfl rfl)
theorem dX2_image_12 : decode cX2_image 12 = .ok (.getfield 7, 3) := dk_180 0 7 (dk_at dksX2_image_0 12 rfl rfl)
theorem dX2_image_15 : decode cX2_image 15 = .ok (.iconst 3, 1) := dk_6 (dk_at dksX2_image_0 15 rfl rfl)
theorem dX2_image_16 : decode cX2_image 16 = .ok (.iaload, 1) := dk_46 (dk_at dksX2_image_0 16 rfl rfl)
theorem dX2_image_17 : decode cX2_image 17 = .ok (.ireturn, 1) := dk_172 (dk_at dksX2_image_0 17 rfl rfl)
abbrev cX2_back : ByteArray := prog_18_method_99_code
def yX2_back : MethodName := ⟨RX2, "back", "()I"⟩
def dkwX2_back_0 : List UInt8 := [42, 180, 0, 13, 42, 180, 0, 7, 184, 0, 58, 42, 180, 0, 7, 6, 46, 172]
abbrev dktX2_back_0 : List UInt8 := dkwX2_back_0 ++ []
theorem dksX2_back_0 : cX2_back.data.toList.drop 0 = dktX2_back_0 := by decide +kernel
theorem dX2_back_0 : decode cX2_back 0 = .ok (.aload_n 0, 1) := dk_42 (dk_at dksX2_back_0 0 rfl rfl)
theorem dX2_back_1 : decode cX2_back 1 = .ok (.getfield 13, 3) := dk_180 0 13 (dk_at dksX2_back_0 1 rfl rfl)
theorem dX2_back_4 : decode cX2_back 4 = .ok (.aload_n 0, 1) := dk_42 (dk_at dksX2_back_0 4 rfl rfl)
theorem dX2_back_5 : decode cX2_back 5 = .ok (.getfield 7, 3) := dk_180 0 7 (dk_at dksX2_back_0 5 rfl rfl)
theorem dX2_back_8 : decode cX2_back 8 = .ok (.invokestatic 58, 3) := dk_184 0 58 (dk_at dksX2_back_0 8 rfl rfl)
theorem dX2_back_11 : decode cX2_back 11 = .ok (.aload_n 0, 1) := dk_42 (dk_at dksX2_back_0 11 rfl rfl)
theorem dX2_back_12 : decode cX2_back 12 = .ok (.getfield 7, 3) := dk_180 0 7 (dk_at dksX2_back_0 12 rfl rfl)
theorem dX2_back_15 : decode cX2_back 15 = .ok (.iconst 3, 1) := dk_6 (dk_at dksX2_back_0 15 rfl rfl)
theorem dX2_back_16 : decode cX2_back 16 = .ok (.iaload, 1) := dk_46 (dk_at dksX2_back_0 16 rfl rfl)
theorem dX2_back_17 : decode cX2_back 17 = .ok (.ireturn, 1) := dk_172 (dk_at dksX2_back_0 17 rfl rfl)
abbrev cX2_about : ByteArray := prog_18_method_100_code
def yX2_about : MethodName := ⟨RX2, "about", "(I)I"⟩
def dkwX2_about_5 : List UInt8 := [167, 0, 5, 16, 254, 172]
abbrev dktX2_about_5 : List UInt8 := dkwX2_about_5 ++ []
def dkwX2_about_4 : List UInt8 := [153, 0, 12, 42, 180, 0, 7, 27, 46, 167, 0, 18, 27, 16, 9, 160, 0, 10, 42, 180, 0, 86]
abbrev dktX2_about_4 : List UInt8 := dkwX2_about_4 ++ dktX2_about_5
def dkwX2_about_3 : List UInt8 := [180, 0, 7, 16, 40, 6, 27, 16, 20, 100, 104, 96, 4, 96, 46, 96, 172, 27, 3, 16, 8, 184, 0, 62]
abbrev dktX2_about_3 : List UInt8 := dkwX2_about_3 ++ dktX2_about_4
def dkwX2_about_2 : List UInt8 := [184, 0, 62, 153, 0, 38, 16, 100, 42, 180, 0, 7, 16, 40, 6, 27, 16, 20, 100, 104, 96, 46, 104, 42]
abbrev dktX2_about_2 : List UInt8 := dkwX2_about_2 ++ dktX2_about_3
def dkwX2_about_1 : List UInt8 := [6, 27, 16, 10, 100, 104, 96, 5, 96, 46, 172, 27, 16, 20, 16, 19, 42, 180, 0, 7, 4, 46, 96]
abbrev dktX2_about_1 : List UInt8 := dkwX2_about_1 ++ dktX2_about_2
def dkwX2_about_0 : List UInt8 := [27, 16, 10, 16, 9, 42, 180, 0, 7, 4, 46, 96, 184, 0, 62, 153, 0, 20, 42, 180, 0, 7, 16, 40]
abbrev dktX2_about_0 : List UInt8 := dkwX2_about_0 ++ dktX2_about_1
theorem dksX2_about_0 : cX2_about.data.toList.drop 0 = dktX2_about_0 := by decide +kernel
theorem dksX2_about_1 : cX2_about.data.toList.drop 24 = dktX2_about_1 := dk_seg dksX2_about_0 24 rfl rfl
theorem dksX2_about_2 : cX2_about.data.toList.drop 47 = dktX2_about_2 := dk_seg dksX2_about_1 23 rfl rfl
theorem dksX2_about_3 : cX2_about.data.toList.drop 71 = dktX2_about_3 := dk_seg dksX2_about_2 24 rfl rfl
theorem dksX2_about_4 : cX2_about.data.toList.drop 95 = dktX2_about_4 := dk_seg dksX2_about_3 24 rfl rfl
theorem dksX2_about_5 : cX2_about.data.toList.drop 117 = dktX2_about_5 := dk_seg dksX2_about_4 22 rfl rfl
theorem dX2_about_0 : decode cX2_about 0 = .ok (.iload_n 1, 1) := dk_27 (dk_at dksX2_about_0 0 rfl rfl)
theorem dX2_about_1 : decode cX2_about 1 = .ok (.bipush 10, 2) := dk_16 10 (dk_at dksX2_about_0 1 rfl rfl)
theorem dX2_about_3 : decode cX2_about 3 = .ok (.bipush 9, 2) := dk_16 9 (dk_at dksX2_about_0 3 rfl rfl)
theorem dX2_about_5 : decode cX2_about 5 = .ok (.aload_n 0, 1) := dk_42 (dk_at dksX2_about_0 5 rfl rfl)
theorem dX2_about_6 : decode cX2_about 6 = .ok (.getfield 7, 3) := dk_180 0 7 (dk_at dksX2_about_0 6 rfl rfl)
theorem dX2_about_9 : decode cX2_about 9 = .ok (.iconst 1, 1) := dk_4 (dk_at dksX2_about_0 9 rfl rfl)
theorem dX2_about_10 : decode cX2_about 10 = .ok (.iaload, 1) := dk_46 (dk_at dksX2_about_0 10 rfl rfl)
theorem dX2_about_11 : decode cX2_about 11 = .ok (.iadd, 1) := dk_96 (dk_at dksX2_about_0 11 rfl rfl)
theorem dX2_about_12 : decode cX2_about 12 = .ok (.invokestatic 62, 3) := dk_184 0 62 (dk_at dksX2_about_0 12 rfl rfl)
theorem dX2_about_15 : decode cX2_about 15 = .ok (.ifCond .eq 20, 3) := dk_153 0 20 (dk_at dksX2_about_0 15 rfl rfl)
theorem dX2_about_18 : decode cX2_about 18 = .ok (.aload_n 0, 1) := dk_42 (dk_at dksX2_about_0 18 rfl rfl)
theorem dX2_about_19 : decode cX2_about 19 = .ok (.getfield 7, 3) := dk_180 0 7 (dk_at dksX2_about_0 19 rfl rfl)
theorem dX2_about_22 : decode cX2_about 22 = .ok (.bipush 40, 2) := dk_16 40 (dk_at dksX2_about_0 22 rfl rfl)
theorem dX2_about_24 : decode cX2_about 24 = .ok (.iconst 3, 1) := dk_6 (dk_at dksX2_about_1 0 rfl rfl)
theorem dX2_about_25 : decode cX2_about 25 = .ok (.iload_n 1, 1) := dk_27 (dk_at dksX2_about_1 1 rfl rfl)
theorem dX2_about_26 : decode cX2_about 26 = .ok (.bipush 10, 2) := dk_16 10 (dk_at dksX2_about_1 2 rfl rfl)
theorem dX2_about_28 : decode cX2_about 28 = .ok (.isub, 1) := dk_100 (dk_at dksX2_about_1 4 rfl rfl)
theorem dX2_about_29 : decode cX2_about 29 = .ok (.imul, 1) := dk_104 (dk_at dksX2_about_1 5 rfl rfl)
theorem dX2_about_30 : decode cX2_about 30 = .ok (.iadd, 1) := dk_96 (dk_at dksX2_about_1 6 rfl rfl)
theorem dX2_about_31 : decode cX2_about 31 = .ok (.iconst 2, 1) := dk_5 (dk_at dksX2_about_1 7 rfl rfl)
theorem dX2_about_32 : decode cX2_about 32 = .ok (.iadd, 1) := dk_96 (dk_at dksX2_about_1 8 rfl rfl)
theorem dX2_about_33 : decode cX2_about 33 = .ok (.iaload, 1) := dk_46 (dk_at dksX2_about_1 9 rfl rfl)
theorem dX2_about_34 : decode cX2_about 34 = .ok (.ireturn, 1) := dk_172 (dk_at dksX2_about_1 10 rfl rfl)
theorem dX2_about_35 : decode cX2_about 35 = .ok (.iload_n 1, 1) := dk_27 (dk_at dksX2_about_1 11 rfl rfl)
theorem dX2_about_36 : decode cX2_about 36 = .ok (.bipush 20, 2) := dk_16 20 (dk_at dksX2_about_1 12 rfl rfl)
theorem dX2_about_38 : decode cX2_about 38 = .ok (.bipush 19, 2) := dk_16 19 (dk_at dksX2_about_1 14 rfl rfl)
theorem dX2_about_40 : decode cX2_about 40 = .ok (.aload_n 0, 1) := dk_42 (dk_at dksX2_about_1 16 rfl rfl)
theorem dX2_about_41 : decode cX2_about 41 = .ok (.getfield 7, 3) := dk_180 0 7 (dk_at dksX2_about_1 17 rfl rfl)
theorem dX2_about_44 : decode cX2_about 44 = .ok (.iconst 1, 1) := dk_4 (dk_at dksX2_about_1 20 rfl rfl)
theorem dX2_about_45 : decode cX2_about 45 = .ok (.iaload, 1) := dk_46 (dk_at dksX2_about_1 21 rfl rfl)
theorem dX2_about_46 : decode cX2_about 46 = .ok (.iadd, 1) := dk_96 (dk_at dksX2_about_1 22 rfl rfl)
theorem dX2_about_47 : decode cX2_about 47 = .ok (.invokestatic 62, 3) := dk_184 0 62 (dk_at dksX2_about_2 0 rfl rfl)
theorem dX2_about_50 : decode cX2_about 50 = .ok (.ifCond .eq 38, 3) := dk_153 0 38 (dk_at dksX2_about_2 3 rfl rfl)
theorem dX2_about_53 : decode cX2_about 53 = .ok (.bipush 100, 2) := dk_16 100 (dk_at dksX2_about_2 6 rfl rfl)
theorem dX2_about_55 : decode cX2_about 55 = .ok (.aload_n 0, 1) := dk_42 (dk_at dksX2_about_2 8 rfl rfl)
theorem dX2_about_56 : decode cX2_about 56 = .ok (.getfield 7, 3) := dk_180 0 7 (dk_at dksX2_about_2 9 rfl rfl)
theorem dX2_about_59 : decode cX2_about 59 = .ok (.bipush 40, 2) := dk_16 40 (dk_at dksX2_about_2 12 rfl rfl)
theorem dX2_about_61 : decode cX2_about 61 = .ok (.iconst 3, 1) := dk_6 (dk_at dksX2_about_2 14 rfl rfl)
theorem dX2_about_62 : decode cX2_about 62 = .ok (.iload_n 1, 1) := dk_27 (dk_at dksX2_about_2 15 rfl rfl)
theorem dX2_about_63 : decode cX2_about 63 = .ok (.bipush 20, 2) := dk_16 20 (dk_at dksX2_about_2 16 rfl rfl)
theorem dX2_about_65 : decode cX2_about 65 = .ok (.isub, 1) := dk_100 (dk_at dksX2_about_2 18 rfl rfl)
theorem dX2_about_66 : decode cX2_about 66 = .ok (.imul, 1) := dk_104 (dk_at dksX2_about_2 19 rfl rfl)
theorem dX2_about_67 : decode cX2_about 67 = .ok (.iadd, 1) := dk_96 (dk_at dksX2_about_2 20 rfl rfl)
theorem dX2_about_68 : decode cX2_about 68 = .ok (.iaload, 1) := dk_46 (dk_at dksX2_about_2 21 rfl rfl)
theorem dX2_about_69 : decode cX2_about 69 = .ok (.imul, 1) := dk_104 (dk_at dksX2_about_2 22 rfl rfl)
theorem dX2_about_70 : decode cX2_about 70 = .ok (.aload_n 0, 1) := dk_42 (dk_at dksX2_about_2 23 rfl rfl)
theorem dX2_about_71 : decode cX2_about 71 = .ok (.getfield 7, 3) := dk_180 0 7 (dk_at dksX2_about_3 0 rfl rfl)
theorem dX2_about_74 : decode cX2_about 74 = .ok (.bipush 40, 2) := dk_16 40 (dk_at dksX2_about_3 3 rfl rfl)
theorem dX2_about_76 : decode cX2_about 76 = .ok (.iconst 3, 1) := dk_6 (dk_at dksX2_about_3 5 rfl rfl)
theorem dX2_about_77 : decode cX2_about 77 = .ok (.iload_n 1, 1) := dk_27 (dk_at dksX2_about_3 6 rfl rfl)
theorem dX2_about_78 : decode cX2_about 78 = .ok (.bipush 20, 2) := dk_16 20 (dk_at dksX2_about_3 7 rfl rfl)
theorem dX2_about_80 : decode cX2_about 80 = .ok (.isub, 1) := dk_100 (dk_at dksX2_about_3 9 rfl rfl)
theorem dX2_about_81 : decode cX2_about 81 = .ok (.imul, 1) := dk_104 (dk_at dksX2_about_3 10 rfl rfl)
theorem dX2_about_82 : decode cX2_about 82 = .ok (.iadd, 1) := dk_96 (dk_at dksX2_about_3 11 rfl rfl)
theorem dX2_about_83 : decode cX2_about 83 = .ok (.iconst 1, 1) := dk_4 (dk_at dksX2_about_3 12 rfl rfl)
theorem dX2_about_84 : decode cX2_about 84 = .ok (.iadd, 1) := dk_96 (dk_at dksX2_about_3 13 rfl rfl)
theorem dX2_about_85 : decode cX2_about 85 = .ok (.iaload, 1) := dk_46 (dk_at dksX2_about_3 14 rfl rfl)
theorem dX2_about_86 : decode cX2_about 86 = .ok (.iadd, 1) := dk_96 (dk_at dksX2_about_3 15 rfl rfl)
theorem dX2_about_87 : decode cX2_about 87 = .ok (.ireturn, 1) := dk_172 (dk_at dksX2_about_3 16 rfl rfl)
theorem dX2_about_88 : decode cX2_about 88 = .ok (.iload_n 1, 1) := dk_27 (dk_at dksX2_about_3 17 rfl rfl)
theorem dX2_about_89 : decode cX2_about 89 = .ok (.iconst 0, 1) := dk_3 (dk_at dksX2_about_3 18 rfl rfl)
theorem dX2_about_90 : decode cX2_about 90 = .ok (.bipush 8, 2) := dk_16 8 (dk_at dksX2_about_3 19 rfl rfl)
theorem dX2_about_92 : decode cX2_about 92 = .ok (.invokestatic 62, 3) := dk_184 0 62 (dk_at dksX2_about_3 21 rfl rfl)
theorem dX2_about_95 : decode cX2_about 95 = .ok (.ifCond .eq 12, 3) := dk_153 0 12 (dk_at dksX2_about_4 0 rfl rfl)
theorem dX2_about_98 : decode cX2_about 98 = .ok (.aload_n 0, 1) := dk_42 (dk_at dksX2_about_4 3 rfl rfl)
theorem dX2_about_99 : decode cX2_about 99 = .ok (.getfield 7, 3) := dk_180 0 7 (dk_at dksX2_about_4 4 rfl rfl)
theorem dX2_about_102 : decode cX2_about 102 = .ok (.iload_n 1, 1) := dk_27 (dk_at dksX2_about_4 7 rfl rfl)
theorem dX2_about_103 : decode cX2_about 103 = .ok (.iaload, 1) := dk_46 (dk_at dksX2_about_4 8 rfl rfl)
theorem dX2_about_104 : decode cX2_about 104 = .ok (.goto 18, 3) := dk_167 0 18 (dk_at dksX2_about_4 9 rfl rfl)
theorem dX2_about_107 : decode cX2_about 107 = .ok (.iload_n 1, 1) := dk_27 (dk_at dksX2_about_4 12 rfl rfl)
theorem dX2_about_108 : decode cX2_about 108 = .ok (.bipush 9, 2) := dk_16 9 (dk_at dksX2_about_4 13 rfl rfl)
theorem dX2_about_110 : decode cX2_about 110 = .ok (.if_icmp .ne 10, 3) := dk_160 0 10 (dk_at dksX2_about_4 15 rfl rfl)
theorem dX2_about_113 : decode cX2_about 113 = .ok (.aload_n 0, 1) := dk_42 (dk_at dksX2_about_4 18 rfl rfl)
theorem dX2_about_114 : decode cX2_about 114 = .ok (.getfield 86, 3) := dk_180 0 86 (dk_at dksX2_about_4 19 rfl rfl)
theorem dX2_about_117 : decode cX2_about 117 = .ok (.goto 5, 3) := dk_167 0 5 (dk_at dksX2_about_5 0 rfl rfl)
theorem dX2_about_120 : decode cX2_about 120 = .ok (.bipush (-2), 2) := dk_16 254 (dk_at dksX2_about_5 3 rfl rfl)
theorem dX2_about_122 : decode cX2_about 122 = .ok (.ireturn, 1) := dk_172 (dk_at dksX2_about_5 5 rfl rfl)
theorem q99 : (Jvm.Cond.initialized "BreathOnLoanModel") ∈ lw_all := lw_g (lw_at lw_m1 4 rfl) rfl
theorem q594 : (Jvm.Cond.selects "BreathOnLoanModel" ({ cls := "java/lang/Object", name := "getClass", desc := "()Ljava/lang/Class;" } : Jvm.MethodName) ({ cls := "java/lang/Object", name := "getClass", desc := "()Ljava/lang/Class;" } : Jvm.MethodName)) ∈ lw_all := lw_g (lw_at lw_m3 19 rfl) rfl
theorem q1121 : (Jvm.Cond.instantiable "BreathOnLoanModel" (32 : Nat)) ∈ lw_all := lw_g (lw_at lw_m5 66 rfl) rfl
theorem q1123 : (Jvm.Cond.instanceMethod ({ cls := "BreathOnLoanModel", name := "<init>", desc := "()V" } : Jvm.MethodName)) ∈ lw_all := lw_g (lw_at lw_m5 68 rfl) rfl
theorem q1124 : (Jvm.Cond.code ({ cls := "BreathOnLoanModel", name := "<init>", desc := "()V" } : Jvm.MethodName) prog_18_method_1_code (1 : Nat) (Option.none : Option Jvm.ClassFile.FieldType)) ∈ lw_all := lw_g (lw_at lw_m5 69 rfl) rfl
theorem q1125 : (Jvm.Cond.methodLink "BreathOnLoanModel" (1 : Nat) ({ cls := "java/lang/Object", name := "<init>", desc := "()V" } : Jvm.MethodName)) ∈ lw_all := lw_g (lw_at lw_m5 70 rfl) rfl
theorem q1126 : (Jvm.Cond.methodLink "BreathOnLoanModel" (58 : Nat) ({ cls := "BreathOnLoanModel", name := "copy", desc := "([I[I)V" } : Jvm.MethodName)) ∈ lw_all := lw_g (lw_at lw_m5 71 rfl) rfl
theorem q1127 : (Jvm.Cond.static ({ cls := "BreathOnLoanModel", name := "copy", desc := "([I[I)V" } : Jvm.MethodName)) ∈ lw_all := lw_g (lw_at lw_m5 72 rfl) rfl
theorem q1128 : (Jvm.Cond.code ({ cls := "BreathOnLoanModel", name := "copy", desc := "([I[I)V" } : Jvm.MethodName) prog_18_method_2_code (3 : Nat) (Option.none : Option Jvm.ClassFile.FieldType)) ∈ lw_all := lw_g (lw_at lw_m5 73 rfl) rfl
theorem q1129 : (Jvm.Cond.fieldLink "BreathOnLoanModel" (7 : Nat) "BreathOnLoanModel" "a" "[I") ∈ lw_all := lw_g (lw_at lw_m5 74 rfl) rfl
theorem q1130 : (Jvm.Cond.fieldLink "BreathOnLoanModel" (13 : Nat) "BreathOnLoanModel" "image" "[I") ∈ lw_all := lw_g (lw_at lw_m5 75 rfl) rfl
theorem q1131 : (Jvm.Cond.fieldLink "BreathOnLoanModel" (16 : Nat) "BreathOnLoanModel" "texts" "[I") ∈ lw_all := lw_g (lw_at lw_m5 76 rfl) rfl
theorem q1132 : (Jvm.Cond.fieldLink "BreathOnLoanModel" (19 : Nat) "BreathOnLoanModel" "tape" "[I") ∈ lw_all := lw_g (lw_at lw_m5 77 rfl) rfl
theorem q1133 : (Jvm.Cond.fieldLink "BreathOnLoanModel" (86 : Nat) "BreathOnLoanModel" "taped" "I") ∈ lw_all := lw_g (lw_at lw_m5 78 rfl) rfl
theorem q1134 : (Jvm.Cond.fieldLink "BreathOnLoanModel" (22 : Nat) "BreathOnLoanModel" "fault" "I") ∈ lw_all := lw_g (lw_at lw_m5 79 rfl) rfl
theorem q1135 : (Jvm.Cond.fieldLink "BreathOnLoanModel" (26 : Nat) "BreathOnLoanModel" "faultPlace" "I") ∈ lw_all := lw_g (lw_at lw_m5 80 rfl) rfl
theorem q1136 : (Jvm.Cond.fieldLink "BreathOnLoanModel" (93 : Nat) "BreathOnLoanModel" "at" "I") ∈ lw_all := lw_g (lw_at lw_m5 81 rfl) rfl
theorem q1137 : (Jvm.Cond.fieldLink "BreathOnLoanModel" (99 : Nat) "BreathOnLoanModel" "place" "I") ∈ lw_all := lw_g (lw_at lw_m5 82 rfl) rfl
theorem q1138 : (Jvm.Cond.fieldLink "BreathOnLoanModel" (102 : Nat) "BreathOnLoanModel" "token" "I") ∈ lw_all := lw_g (lw_at lw_m5 83 rfl) rfl
theorem q1139 : (Jvm.Cond.fieldLink "BreathOnLoanModel" (108 : Nat) "BreathOnLoanModel" "number" "I") ∈ lw_all := lw_g (lw_at lw_m5 84 rfl) rfl
theorem q1140 : (Jvm.Cond.fieldLink "BreathOnLoanModel" (115 : Nat) "BreathOnLoanModel" "word" "J") ∈ lw_all := lw_g (lw_at lw_m5 85 rfl) rfl
theorem q1141 : (Jvm.Cond.fieldLink "BreathOnLoanModel" (127 : Nat) "BreathOnLoanModel" "text0" "I") ∈ lw_all := lw_g (lw_at lw_m5 86 rfl) rfl
theorem q1142 : (Jvm.Cond.fieldLink "BreathOnLoanModel" (130 : Nat) "BreathOnLoanModel" "written" "I") ∈ lw_all := lw_g (lw_at lw_m5 87 rfl) rfl
theorem q1143 : (Jvm.Cond.fieldLink "BreathOnLoanModel" (29 : Nat) "BreathOnLoanModel" "pile" "[I") ∈ lw_all := lw_g (lw_at lw_m5 88 rfl) rfl
theorem q1144 : (Jvm.Cond.fieldLink "BreathOnLoanModel" (133 : Nat) "BreathOnLoanModel" "piled" "I") ∈ lw_all := lw_g (lw_at lw_m5 89 rfl) rfl
theorem q1145 : (Jvm.Cond.fieldLink "BreathOnLoanModel" (143 : Nat) "BreathOnLoanModel" "opens" "I") ∈ lw_all := lw_g (lw_at lw_m5 90 rfl) rfl
theorem q1146 : (Jvm.Cond.fieldLink "BreathOnLoanModel" (146 : Nat) "BreathOnLoanModel" "isWhole" "Z") ∈ lw_all := lw_g (lw_at lw_m5 91 rfl) rfl
theorem q1147 : (Jvm.Cond.fieldLink "BreathOnLoanModel" (218 : Nat) "BreathOnLoanModel" "sort0" "I") ∈ lw_all := lw_g (lw_at lw_m5 92 rfl) rfl
theorem q1148 : (Jvm.Cond.fieldLink "BreathOnLoanModel" (233 : Nat) "BreathOnLoanModel" "once" "I") ∈ lw_all := lw_g (lw_at lw_m5 93 rfl) rfl
theorem q1149 : (Jvm.Cond.fieldLink "BreathOnLoanModel" (32 : Nat) "BreathOnLoanModel" "named" "[I") ∈ lw_all := lw_g (lw_at lw_m5 94 rfl) rfl
theorem q1150 : (Jvm.Cond.fieldLink "BreathOnLoanModel" (35 : Nat) "BreathOnLoanModel" "values" "[J") ∈ lw_all := lw_g (lw_at lw_m5 95 rfl) rfl
theorem q1151 : (Jvm.Cond.fieldLink "BreathOnLoanModel" (39 : Nat) "BreathOnLoanModel" "truth" "[Z") ∈ lw_all := lw_g (lw_at lw_m5 96 rfl) rfl
theorem q1152 : (Jvm.Cond.fieldLink "BreathOnLoanModel" (43 : Nat) "BreathOnLoanModel" "shares" "[I") ∈ lw_all := lw_g (lw_at lw_m5 97 rfl) rfl
theorem q1153 : (Jvm.Cond.fieldLink "BreathOnLoanModel" (46 : Nat) "BreathOnLoanModel" "left" "[I") ∈ lw_all := lw_g (lw_at lw_m5 98 rfl) rfl
theorem q1154 : (Jvm.Cond.fieldLink "BreathOnLoanModel" (49 : Nat) "BreathOnLoanModel" "works" "[I") ∈ lw_all := lw_g (lw_at lw_m5 99 rfl) rfl
theorem q1155 : (Jvm.Cond.fieldLink "BreathOnLoanModel" (337 : Nat) "BreathOnLoanModel" "gain" "I") ∈ lw_all := lw_g (lw_at lw_m5 100 rfl) rfl
theorem q1156 : (Jvm.Cond.fieldLink "BreathOnLoanModel" (340 : Nat) "BreathOnLoanModel" "behind" "I") ∈ lw_all := lw_g (lw_at lw_m5 101 rfl) rfl
theorem q1157 : (Jvm.Cond.fieldLink "BreathOnLoanModel" (52 : Nat) "BreathOnLoanModel" "smokes" "[I") ∈ lw_all := lw_g (lw_at lw_m5 102 rfl) rfl
theorem q1158 : (Jvm.Cond.fieldLink "BreathOnLoanModel" (55 : Nat) "BreathOnLoanModel" "costs" "[I") ∈ lw_all := lw_g (lw_at lw_m5 103 rfl) rfl
theorem q1159 : (Jvm.Cond.laysFinal "BreathOnLoanModel" "BreathOnLoanModel" "a" "[I") ∈ lw_all := lw_g (lw_at lw_m5 104 rfl) rfl
theorem q1160 : (Jvm.Cond.soleField "BreathOnLoanModel" "a") ∈ lw_all := lw_g (lw_at lw_m5 105 rfl) rfl
theorem q1161 : (Jvm.Cond.laysFinal "BreathOnLoanModel" "BreathOnLoanModel" "image" "[I") ∈ lw_all := lw_g (lw_at lw_m5 106 rfl) rfl
theorem q1162 : (Jvm.Cond.soleField "BreathOnLoanModel" "image") ∈ lw_all := lw_g (lw_at lw_m5 107 rfl) rfl
theorem q1163 : (Jvm.Cond.laysFinal "BreathOnLoanModel" "BreathOnLoanModel" "texts" "[I") ∈ lw_all := lw_g (lw_at lw_m5 108 rfl) rfl
theorem q1164 : (Jvm.Cond.soleField "BreathOnLoanModel" "texts") ∈ lw_all := lw_g (lw_at lw_m5 109 rfl) rfl
theorem q1165 : (Jvm.Cond.laysFinal "BreathOnLoanModel" "BreathOnLoanModel" "tape" "[I") ∈ lw_all := lw_g (lw_at lw_m5 110 rfl) rfl
theorem q1166 : (Jvm.Cond.soleField "BreathOnLoanModel" "tape") ∈ lw_all := lw_g (lw_at lw_m5 111 rfl) rfl
theorem q1167 : (Jvm.Cond.lays "BreathOnLoanModel" "BreathOnLoanModel" "taped" "I") ∈ lw_all := lw_g (lw_at lw_m5 112 rfl) rfl
theorem q1168 : (Jvm.Cond.soleField "BreathOnLoanModel" "taped") ∈ lw_all := lw_g (lw_at lw_m5 113 rfl) rfl
theorem q1169 : (Jvm.Cond.lays "BreathOnLoanModel" "BreathOnLoanModel" "fault" "I") ∈ lw_all := lw_g (lw_at lw_m5 114 rfl) rfl
theorem q1170 : (Jvm.Cond.soleField "BreathOnLoanModel" "fault") ∈ lw_all := lw_g (lw_at lw_m5 115 rfl) rfl
theorem q1171 : (Jvm.Cond.lays "BreathOnLoanModel" "BreathOnLoanModel" "faultPlace" "I") ∈ lw_all := lw_g (lw_at lw_m5 116 rfl) rfl
theorem q1172 : (Jvm.Cond.soleField "BreathOnLoanModel" "faultPlace") ∈ lw_all := lw_g (lw_at lw_m5 117 rfl) rfl
theorem q1173 : (Jvm.Cond.lays "BreathOnLoanModel" "BreathOnLoanModel" "at" "I") ∈ lw_all := lw_g (lw_at lw_m5 118 rfl) rfl
theorem q1174 : (Jvm.Cond.soleField "BreathOnLoanModel" "at") ∈ lw_all := lw_g (lw_at lw_m5 119 rfl) rfl
theorem q1175 : (Jvm.Cond.lays "BreathOnLoanModel" "BreathOnLoanModel" "place" "I") ∈ lw_all := lw_g (lw_at lw_m5 120 rfl) rfl
theorem q1176 : (Jvm.Cond.soleField "BreathOnLoanModel" "place") ∈ lw_all := lw_g (lw_at lw_m5 121 rfl) rfl
theorem q1177 : (Jvm.Cond.lays "BreathOnLoanModel" "BreathOnLoanModel" "token" "I") ∈ lw_all := lw_g (lw_at lw_m5 122 rfl) rfl
theorem q1178 : (Jvm.Cond.soleField "BreathOnLoanModel" "token") ∈ lw_all := lw_g (lw_at lw_m5 123 rfl) rfl
theorem q1179 : (Jvm.Cond.lays "BreathOnLoanModel" "BreathOnLoanModel" "number" "I") ∈ lw_all := lw_g (lw_at lw_m5 124 rfl) rfl
theorem q1180 : (Jvm.Cond.soleField "BreathOnLoanModel" "number") ∈ lw_all := lw_g (lw_at lw_m5 125 rfl) rfl
theorem q1181 : (Jvm.Cond.lays "BreathOnLoanModel" "BreathOnLoanModel" "word" "J") ∈ lw_all := lw_g (lw_at lw_m5 126 rfl) rfl
theorem q1182 : (Jvm.Cond.soleField "BreathOnLoanModel" "word") ∈ lw_all := lw_g (lw_at lw_m5 127 rfl) rfl
theorem q1183 : (Jvm.Cond.lays "BreathOnLoanModel" "BreathOnLoanModel" "text0" "I") ∈ lw_all := lw_g (lw_at lw_m5 128 rfl) rfl
theorem q1184 : (Jvm.Cond.soleField "BreathOnLoanModel" "text0") ∈ lw_all := lw_g (lw_at lw_m5 129 rfl) rfl
theorem q1185 : (Jvm.Cond.lays "BreathOnLoanModel" "BreathOnLoanModel" "clauses" "I") ∈ lw_all := lw_g (lw_at lw_m5 130 rfl) rfl
theorem q1186 : (Jvm.Cond.soleField "BreathOnLoanModel" "clauses") ∈ lw_all := lw_g (lw_at lw_m5 131 rfl) rfl
theorem q1187 : (Jvm.Cond.lays "BreathOnLoanModel" "BreathOnLoanModel" "written" "I") ∈ lw_all := lw_g (lw_at lw_m5 132 rfl) rfl
theorem q1188 : (Jvm.Cond.soleField "BreathOnLoanModel" "written") ∈ lw_all := lw_g (lw_at lw_m5 133 rfl) rfl
theorem q1189 : (Jvm.Cond.lays "BreathOnLoanModel" "BreathOnLoanModel" "came" "I") ∈ lw_all := lw_g (lw_at lw_m5 134 rfl) rfl
theorem q1190 : (Jvm.Cond.soleField "BreathOnLoanModel" "came") ∈ lw_all := lw_g (lw_at lw_m5 135 rfl) rfl
theorem q1191 : (Jvm.Cond.laysFinal "BreathOnLoanModel" "BreathOnLoanModel" "pile" "[I") ∈ lw_all := lw_g (lw_at lw_m5 136 rfl) rfl
theorem q1192 : (Jvm.Cond.soleField "BreathOnLoanModel" "pile") ∈ lw_all := lw_g (lw_at lw_m5 137 rfl) rfl
theorem q1193 : (Jvm.Cond.lays "BreathOnLoanModel" "BreathOnLoanModel" "piled" "I") ∈ lw_all := lw_g (lw_at lw_m5 138 rfl) rfl
theorem q1194 : (Jvm.Cond.soleField "BreathOnLoanModel" "piled") ∈ lw_all := lw_g (lw_at lw_m5 139 rfl) rfl
theorem q1195 : (Jvm.Cond.lays "BreathOnLoanModel" "BreathOnLoanModel" "opens" "I") ∈ lw_all := lw_g (lw_at lw_m5 140 rfl) rfl
theorem q1196 : (Jvm.Cond.soleField "BreathOnLoanModel" "opens") ∈ lw_all := lw_g (lw_at lw_m5 141 rfl) rfl
theorem q1197 : (Jvm.Cond.lays "BreathOnLoanModel" "BreathOnLoanModel" "isWhole" "Z") ∈ lw_all := lw_g (lw_at lw_m5 142 rfl) rfl
theorem q1198 : (Jvm.Cond.soleField "BreathOnLoanModel" "isWhole") ∈ lw_all := lw_g (lw_at lw_m5 143 rfl) rfl
theorem q1199 : (Jvm.Cond.lays "BreathOnLoanModel" "BreathOnLoanModel" "sort0" "I") ∈ lw_all := lw_g (lw_at lw_m5 144 rfl) rfl
theorem q1200 : (Jvm.Cond.soleField "BreathOnLoanModel" "sort0") ∈ lw_all := lw_g (lw_at lw_m5 145 rfl) rfl
theorem q1201 : (Jvm.Cond.lays "BreathOnLoanModel" "BreathOnLoanModel" "once" "I") ∈ lw_all := lw_g (lw_at lw_m5 146 rfl) rfl
theorem q1202 : (Jvm.Cond.soleField "BreathOnLoanModel" "once") ∈ lw_all := lw_g (lw_at lw_m5 147 rfl) rfl
theorem q1203 : (Jvm.Cond.laysFinal "BreathOnLoanModel" "BreathOnLoanModel" "named" "[I") ∈ lw_all := lw_g (lw_at lw_m5 148 rfl) rfl
theorem q1204 : (Jvm.Cond.soleField "BreathOnLoanModel" "named") ∈ lw_all := lw_g (lw_at lw_m5 149 rfl) rfl
theorem q1205 : (Jvm.Cond.laysFinal "BreathOnLoanModel" "BreathOnLoanModel" "values" "[J") ∈ lw_all := lw_g (lw_at lw_m5 150 rfl) rfl
theorem q1206 : (Jvm.Cond.soleField "BreathOnLoanModel" "values") ∈ lw_all := lw_g (lw_at lw_m5 151 rfl) rfl
theorem q1207 : (Jvm.Cond.laysFinal "BreathOnLoanModel" "BreathOnLoanModel" "truth" "[Z") ∈ lw_all := lw_g (lw_at lw_m5 152 rfl) rfl
theorem q1208 : (Jvm.Cond.soleField "BreathOnLoanModel" "truth") ∈ lw_all := lw_g (lw_at lw_m5 153 rfl) rfl
theorem q1209 : (Jvm.Cond.laysFinal "BreathOnLoanModel" "BreathOnLoanModel" "shares" "[I") ∈ lw_all := lw_g (lw_at lw_m5 154 rfl) rfl
theorem q1210 : (Jvm.Cond.soleField "BreathOnLoanModel" "shares") ∈ lw_all := lw_g (lw_at lw_m5 155 rfl) rfl
theorem q1211 : (Jvm.Cond.laysFinal "BreathOnLoanModel" "BreathOnLoanModel" "left" "[I") ∈ lw_all := lw_g (lw_at lw_m5 156 rfl) rfl
theorem q1212 : (Jvm.Cond.soleField "BreathOnLoanModel" "left") ∈ lw_all := lw_g (lw_at lw_m5 157 rfl) rfl
theorem q1213 : (Jvm.Cond.laysFinal "BreathOnLoanModel" "BreathOnLoanModel" "works" "[I") ∈ lw_all := lw_g (lw_at lw_m5 158 rfl) rfl
theorem q1214 : (Jvm.Cond.soleField "BreathOnLoanModel" "works") ∈ lw_all := lw_g (lw_at lw_m5 159 rfl) rfl
theorem q1215 : (Jvm.Cond.lays "BreathOnLoanModel" "BreathOnLoanModel" "gain" "I") ∈ lw_all := lw_g (lw_at lw_m5 160 rfl) rfl
theorem q1216 : (Jvm.Cond.soleField "BreathOnLoanModel" "gain") ∈ lw_all := lw_g (lw_at lw_m5 161 rfl) rfl
theorem q1217 : (Jvm.Cond.lays "BreathOnLoanModel" "BreathOnLoanModel" "behind" "I") ∈ lw_all := lw_g (lw_at lw_m5 162 rfl) rfl
theorem q1218 : (Jvm.Cond.soleField "BreathOnLoanModel" "behind") ∈ lw_all := lw_g (lw_at lw_m5 163 rfl) rfl
theorem q1219 : (Jvm.Cond.laysFinal "BreathOnLoanModel" "BreathOnLoanModel" "smokes" "[I") ∈ lw_all := lw_g (lw_at lw_m5 164 rfl) rfl
theorem q1220 : (Jvm.Cond.soleField "BreathOnLoanModel" "smokes") ∈ lw_all := lw_g (lw_at lw_m5 165 rfl) rfl
theorem q1221 : (Jvm.Cond.laysFinal "BreathOnLoanModel" "BreathOnLoanModel" "costs" "[I") ∈ lw_all := lw_g (lw_at lw_m5 166 rfl) rfl
theorem q1222 : (Jvm.Cond.soleField "BreathOnLoanModel" "costs") ∈ lw_all := lw_g (lw_at lw_m5 167 rfl) rfl
theorem q1223 : (Jvm.Cond.superclass "BreathOnLoanModel" "java/lang/Object") ∈ lw_all := lw_g (lw_at lw_m5 168 rfl) rfl
theorem q1227 : (Jvm.Cond.instanceMethod ({ cls := "BreathOnLoanModel", name := "blower", desc := "(III)I" } : Jvm.MethodName)) ∈ lw_all := lw_g (lw_at lw_m5 172 rfl) rfl
theorem q1228 : (Jvm.Cond.selects "BreathOnLoanModel" ({ cls := "BreathOnLoanModel", name := "blower", desc := "(III)I" } : Jvm.MethodName) ({ cls := "BreathOnLoanModel", name := "blower", desc := "(III)I" } : Jvm.MethodName)) ∈ lw_all := lw_g (lw_at lw_m5 173 rfl) rfl
theorem q1229 : (Jvm.Cond.code ({ cls := "BreathOnLoanModel", name := "blower", desc := "(III)I" } : Jvm.MethodName) prog_18_method_15_code (5 : Nat) (Option.some Jvm.ClassFile.FieldType.int)) ∈ lw_all := lw_g (lw_at lw_m5 174 rfl) rfl
theorem q1230 : (Jvm.Cond.methodLink "BreathOnLoanModel" (62 : Nat) ({ cls := "BreathOnLoanModel", name := "isIn", desc := "(III)Z" } : Jvm.MethodName)) ∈ lw_all := lw_g (lw_at lw_m5 175 rfl) rfl
theorem q1231 : (Jvm.Cond.static ({ cls := "BreathOnLoanModel", name := "isIn", desc := "(III)Z" } : Jvm.MethodName)) ∈ lw_all := lw_g (lw_at lw_m5 176 rfl) rfl
theorem q1232 : (Jvm.Cond.code ({ cls := "BreathOnLoanModel", name := "isIn", desc := "(III)Z" } : Jvm.MethodName) prog_18_method_3_code (3 : Nat) (Option.some Jvm.ClassFile.FieldType.boolean)) ∈ lw_all := lw_g (lw_at lw_m5 177 rfl) rfl
theorem q1233 : (Jvm.Cond.methodLink "BreathOnLoanModel" (70 : Nat) ({ cls := "BreathOnLoanModel", name := "set", desc := "(III)V" } : Jvm.MethodName)) ∈ lw_all := lw_g (lw_at lw_m5 178 rfl) rfl
theorem q1234 : (Jvm.Cond.privateMethod ({ cls := "BreathOnLoanModel", name := "set", desc := "(III)V" } : Jvm.MethodName)) ∈ lw_tbl := lw_at lw_m5 179 rfl
theorem q1235 : (Jvm.Cond.instanceMethod ({ cls := "BreathOnLoanModel", name := "set", desc := "(III)V" } : Jvm.MethodName)) ∈ lw_all := lw_g (lw_at lw_m5 180 rfl) rfl
theorem q1236 : (Jvm.Cond.code ({ cls := "BreathOnLoanModel", name := "set", desc := "(III)V" } : Jvm.MethodName) prog_18_method_12_code (4 : Nat) (Option.none : Option Jvm.ClassFile.FieldType)) ∈ lw_all := lw_g (lw_at lw_m5 181 rfl) rfl
theorem q1238 : (Jvm.Cond.instanceMethod ({ cls := "BreathOnLoanModel", name := "quarrel", desc := "(IIZ)Z" } : Jvm.MethodName)) ∈ lw_all := lw_g (lw_at lw_m5 183 rfl) rfl
theorem q1239 : (Jvm.Cond.selects "BreathOnLoanModel" ({ cls := "BreathOnLoanModel", name := "quarrel", desc := "(IIZ)Z" } : Jvm.MethodName) ({ cls := "BreathOnLoanModel", name := "quarrel", desc := "(IIZ)Z" } : Jvm.MethodName)) ∈ lw_all := lw_g (lw_at lw_m5 184 rfl) rfl
theorem q1240 : (Jvm.Cond.code ({ cls := "BreathOnLoanModel", name := "quarrel", desc := "(IIZ)Z" } : Jvm.MethodName) prog_18_method_17_code (4 : Nat) (Option.some Jvm.ClassFile.FieldType.boolean)) ∈ lw_all := lw_g (lw_at lw_m5 185 rfl) rfl
theorem q1241 : (Jvm.Cond.methodLink "BreathOnLoanModel" (78 : Nat) ({ cls := "BreathOnLoanModel", name := "isBlower", desc := "(I)Z" } : Jvm.MethodName)) ∈ lw_all := lw_g (lw_at lw_m5 186 rfl) rfl
theorem q1242 : (Jvm.Cond.privateMethod ({ cls := "BreathOnLoanModel", name := "isBlower", desc := "(I)Z" } : Jvm.MethodName)) ∈ lw_tbl := lw_at lw_m5 187 rfl
theorem q1243 : (Jvm.Cond.instanceMethod ({ cls := "BreathOnLoanModel", name := "isBlower", desc := "(I)Z" } : Jvm.MethodName)) ∈ lw_all := lw_g (lw_at lw_m5 188 rfl) rfl
theorem q1244 : (Jvm.Cond.code ({ cls := "BreathOnLoanModel", name := "isBlower", desc := "(I)Z" } : Jvm.MethodName) prog_18_method_7_code (2 : Nat) (Option.some Jvm.ClassFile.FieldType.boolean)) ∈ lw_all := lw_g (lw_at lw_m5 189 rfl) rfl
theorem q1245 : (Jvm.Cond.methodLink "BreathOnLoanModel" (82 : Nat) ({ cls := "BreathOnLoanModel", name := "part", desc := "(IIZ)V" } : Jvm.MethodName)) ∈ lw_all := lw_g (lw_at lw_m5 190 rfl) rfl
theorem q1246 : (Jvm.Cond.privateMethod ({ cls := "BreathOnLoanModel", name := "part", desc := "(IIZ)V" } : Jvm.MethodName)) ∈ lw_tbl := lw_at lw_m5 191 rfl
theorem q1247 : (Jvm.Cond.instanceMethod ({ cls := "BreathOnLoanModel", name := "part", desc := "(IIZ)V" } : Jvm.MethodName)) ∈ lw_all := lw_g (lw_at lw_m5 192 rfl) rfl
theorem q1248 : (Jvm.Cond.code ({ cls := "BreathOnLoanModel", name := "part", desc := "(IIZ)V" } : Jvm.MethodName) prog_18_method_16_code (4 : Nat) (Option.none : Option Jvm.ClassFile.FieldType)) ∈ lw_all := lw_g (lw_at lw_m5 193 rfl) rfl
theorem q1249 : (Jvm.Cond.methodLink "BreathOnLoanModel" (74 : Nat) ({ cls := "BreathOnLoanModel", name := "get", desc := "(II)I" } : Jvm.MethodName)) ∈ lw_all := lw_g (lw_at lw_m5 194 rfl) rfl
theorem q1250 : (Jvm.Cond.privateMethod ({ cls := "BreathOnLoanModel", name := "get", desc := "(II)I" } : Jvm.MethodName)) ∈ lw_tbl := lw_at lw_m5 195 rfl
theorem q1251 : (Jvm.Cond.instanceMethod ({ cls := "BreathOnLoanModel", name := "get", desc := "(II)I" } : Jvm.MethodName)) ∈ lw_all := lw_g (lw_at lw_m5 196 rfl) rfl
theorem q1252 : (Jvm.Cond.code ({ cls := "BreathOnLoanModel", name := "get", desc := "(II)I" } : Jvm.MethodName) prog_18_method_11_code (3 : Nat) (Option.some Jvm.ClassFile.FieldType.int)) ∈ lw_all := lw_g (lw_at lw_m5 197 rfl) rfl
theorem q1254 : (Jvm.Cond.instanceMethod ({ cls := "BreathOnLoanModel", name := "kind", desc := "(III)I" } : Jvm.MethodName)) ∈ lw_all := lw_g (lw_at lw_m5 199 rfl) rfl
theorem q1255 : (Jvm.Cond.selects "BreathOnLoanModel" ({ cls := "BreathOnLoanModel", name := "kind", desc := "(III)I" } : Jvm.MethodName) ({ cls := "BreathOnLoanModel", name := "kind", desc := "(III)I" } : Jvm.MethodName)) ∈ lw_all := lw_g (lw_at lw_m5 200 rfl) rfl
theorem q1256 : (Jvm.Cond.code ({ cls := "BreathOnLoanModel", name := "kind", desc := "(III)I" } : Jvm.MethodName) prog_18_method_18_code (5 : Nat) (Option.some Jvm.ClassFile.FieldType.int)) ∈ lw_all := lw_g (lw_at lw_m5 201 rfl) rfl
theorem q1258 : (Jvm.Cond.instanceMethod ({ cls := "BreathOnLoanModel", name := "feed", desc := "(IIIII)I" } : Jvm.MethodName)) ∈ lw_all := lw_g (lw_at lw_m5 203 rfl) rfl
theorem q1259 : (Jvm.Cond.selects "BreathOnLoanModel" ({ cls := "BreathOnLoanModel", name := "feed", desc := "(IIIII)I" } : Jvm.MethodName) ({ cls := "BreathOnLoanModel", name := "feed", desc := "(IIIII)I" } : Jvm.MethodName)) ∈ lw_all := lw_g (lw_at lw_m5 204 rfl) rfl
theorem q1260 : (Jvm.Cond.code ({ cls := "BreathOnLoanModel", name := "feed", desc := "(IIIII)I" } : Jvm.MethodName) prog_18_method_20_code (6 : Nat) (Option.some Jvm.ClassFile.FieldType.int)) ∈ lw_all := lw_g (lw_at lw_m5 205 rfl) rfl
theorem q1261 : (Jvm.Cond.methodLink "BreathOnLoanModel" (89 : Nat) ({ cls := "BreathOnLoanModel", name := "four", desc := "(I)V" } : Jvm.MethodName)) ∈ lw_all := lw_g (lw_at lw_m5 206 rfl) rfl
theorem q1262 : (Jvm.Cond.privateMethod ({ cls := "BreathOnLoanModel", name := "four", desc := "(I)V" } : Jvm.MethodName)) ∈ lw_tbl := lw_at lw_m5 207 rfl
theorem q1263 : (Jvm.Cond.instanceMethod ({ cls := "BreathOnLoanModel", name := "four", desc := "(I)V" } : Jvm.MethodName)) ∈ lw_all := lw_g (lw_at lw_m5 208 rfl) rfl
theorem q1264 : (Jvm.Cond.code ({ cls := "BreathOnLoanModel", name := "four", desc := "(I)V" } : Jvm.MethodName) prog_18_method_19_code (3 : Nat) (Option.none : Option Jvm.ClassFile.FieldType)) ∈ lw_all := lw_g (lw_at lw_m5 209 rfl) rfl
theorem q1266 : (Jvm.Cond.instanceMethod ({ cls := "BreathOnLoanModel", name := "end", desc := "(I)I" } : Jvm.MethodName)) ∈ lw_all := lw_g (lw_at lw_m5 211 rfl) rfl
theorem q1267 : (Jvm.Cond.selects "BreathOnLoanModel" ({ cls := "BreathOnLoanModel", name := "end", desc := "(I)I" } : Jvm.MethodName) ({ cls := "BreathOnLoanModel", name := "end", desc := "(I)I" } : Jvm.MethodName)) ∈ lw_all := lw_g (lw_at lw_m5 212 rfl) rfl
theorem q1268 : (Jvm.Cond.code ({ cls := "BreathOnLoanModel", name := "end", desc := "(I)I" } : Jvm.MethodName) prog_18_method_21_code (2 : Nat) (Option.some Jvm.ClassFile.FieldType.int)) ∈ lw_all := lw_g (lw_at lw_m5 213 rfl) rfl
theorem q1270 : (Jvm.Cond.instanceMethod ({ cls := "BreathOnLoanModel", name := "text", desc := "()I" } : Jvm.MethodName)) ∈ lw_all := lw_g (lw_at lw_m5 215 rfl) rfl
theorem q1271 : (Jvm.Cond.selects "BreathOnLoanModel" ({ cls := "BreathOnLoanModel", name := "text", desc := "()I" } : Jvm.MethodName) ({ cls := "BreathOnLoanModel", name := "text", desc := "()I" } : Jvm.MethodName)) ∈ lw_all := lw_g (lw_at lw_m5 216 rfl) rfl
theorem q1272 : (Jvm.Cond.code ({ cls := "BreathOnLoanModel", name := "text", desc := "()I" } : Jvm.MethodName) prog_18_method_55_code (1 : Nat) (Option.some Jvm.ClassFile.FieldType.int)) ∈ lw_all := lw_g (lw_at lw_m5 217 rfl) rfl
theorem q1273 : (Jvm.Cond.methodLink "BreathOnLoanModel" (245 : Nat) ({ cls := "BreathOnLoanModel", name := "readText", desc := "()I" } : Jvm.MethodName)) ∈ lw_all := lw_g (lw_at lw_m5 218 rfl) rfl
theorem q1274 : (Jvm.Cond.privateMethod ({ cls := "BreathOnLoanModel", name := "readText", desc := "()I" } : Jvm.MethodName)) ∈ lw_tbl := lw_at lw_m5 219 rfl
theorem q1275 : (Jvm.Cond.instanceMethod ({ cls := "BreathOnLoanModel", name := "readText", desc := "()I" } : Jvm.MethodName)) ∈ lw_all := lw_g (lw_at lw_m5 220 rfl) rfl
theorem q1276 : (Jvm.Cond.code ({ cls := "BreathOnLoanModel", name := "readText", desc := "()I" } : Jvm.MethodName) prog_18_method_54_code (2 : Nat) (Option.some Jvm.ClassFile.FieldType.int)) ∈ lw_all := lw_g (lw_at lw_m5 221 rfl) rfl
theorem q1277 : (Jvm.Cond.methodLink "BreathOnLoanModel" (164 : Nat) ({ cls := "BreathOnLoanModel", name := "nextToken", desc := "()V" } : Jvm.MethodName)) ∈ lw_all := lw_g (lw_at lw_m5 222 rfl) rfl
theorem q1278 : (Jvm.Cond.privateMethod ({ cls := "BreathOnLoanModel", name := "nextToken", desc := "()V" } : Jvm.MethodName)) ∈ lw_tbl := lw_at lw_m5 223 rfl
theorem q1279 : (Jvm.Cond.instanceMethod ({ cls := "BreathOnLoanModel", name := "nextToken", desc := "()V" } : Jvm.MethodName)) ∈ lw_all := lw_g (lw_at lw_m5 224 rfl) rfl
theorem q1280 : (Jvm.Cond.code ({ cls := "BreathOnLoanModel", name := "nextToken", desc := "()V" } : Jvm.MethodName) prog_18_method_25_code (3 : Nat) (Option.none : Option Jvm.ClassFile.FieldType)) ∈ lw_all := lw_g (lw_at lw_m5 225 rfl) rfl
theorem q1281 : (Jvm.Cond.methodLink "BreathOnLoanModel" (96 : Nat) ({ cls := "BreathOnLoanModel", name := "byteAt", desc := "(I)I" } : Jvm.MethodName)) ∈ lw_all := lw_g (lw_at lw_m5 226 rfl) rfl
theorem q1282 : (Jvm.Cond.privateMethod ({ cls := "BreathOnLoanModel", name := "byteAt", desc := "(I)I" } : Jvm.MethodName)) ∈ lw_tbl := lw_at lw_m5 227 rfl
theorem q1283 : (Jvm.Cond.instanceMethod ({ cls := "BreathOnLoanModel", name := "byteAt", desc := "(I)I" } : Jvm.MethodName)) ∈ lw_all := lw_g (lw_at lw_m5 228 rfl) rfl
theorem q1284 : (Jvm.Cond.code ({ cls := "BreathOnLoanModel", name := "byteAt", desc := "(I)I" } : Jvm.MethodName) prog_18_method_22_code (2 : Nat) (Option.some Jvm.ClassFile.FieldType.int)) ∈ lw_all := lw_g (lw_at lw_m5 229 rfl) rfl
theorem q1285 : (Jvm.Cond.methodLink "BreathOnLoanModel" (105 : Nat) ({ cls := "BreathOnLoanModel", name := "isDigit", desc := "(I)Z" } : Jvm.MethodName)) ∈ lw_all := lw_g (lw_at lw_m5 230 rfl) rfl
theorem q1286 : (Jvm.Cond.static ({ cls := "BreathOnLoanModel", name := "isDigit", desc := "(I)Z" } : Jvm.MethodName)) ∈ lw_all := lw_g (lw_at lw_m5 231 rfl) rfl
theorem q1287 : (Jvm.Cond.code ({ cls := "BreathOnLoanModel", name := "isDigit", desc := "(I)Z" } : Jvm.MethodName) prog_18_method_24_code (1 : Nat) (Option.some Jvm.ClassFile.FieldType.boolean)) ∈ lw_all := lw_g (lw_at lw_m5 232 rfl) rfl
theorem q1288 : (Jvm.Cond.constant "BreathOnLoanModel" (111 : Nat) (100000 : Int32)) ∈ lw_all := lw_g (lw_at lw_m5 233 rfl) rfl
theorem q1289 : (Jvm.Cond.methodLink "BreathOnLoanModel" (112 : Nat) ({ cls := "BreathOnLoanModel", name := "isLetter", desc := "(I)Z" } : Jvm.MethodName)) ∈ lw_all := lw_g (lw_at lw_m5 234 rfl) rfl
theorem q1290 : (Jvm.Cond.static ({ cls := "BreathOnLoanModel", name := "isLetter", desc := "(I)Z" } : Jvm.MethodName)) ∈ lw_all := lw_g (lw_at lw_m5 235 rfl) rfl
theorem q1291 : (Jvm.Cond.code ({ cls := "BreathOnLoanModel", name := "isLetter", desc := "(I)Z" } : Jvm.MethodName) prog_18_method_23_code (1 : Nat) (Option.some Jvm.ClassFile.FieldType.boolean)) ∈ lw_all := lw_g (lw_at lw_m5 236 rfl) rfl
theorem q1292 : (Jvm.Cond.methodLink "BreathOnLoanModel" (242 : Nat) ({ cls := "BreathOnLoanModel", name := "clause", desc := "()I" } : Jvm.MethodName)) ∈ lw_all := lw_g (lw_at lw_m5 237 rfl) rfl
theorem q1293 : (Jvm.Cond.privateMethod ({ cls := "BreathOnLoanModel", name := "clause", desc := "()I" } : Jvm.MethodName)) ∈ lw_tbl := lw_at lw_m5 238 rfl
theorem q1294 : (Jvm.Cond.instanceMethod ({ cls := "BreathOnLoanModel", name := "clause", desc := "()I" } : Jvm.MethodName)) ∈ lw_all := lw_g (lw_at lw_m5 239 rfl) rfl
theorem q1295 : (Jvm.Cond.code ({ cls := "BreathOnLoanModel", name := "clause", desc := "()I" } : Jvm.MethodName) prog_18_method_53_code (6 : Nat) (Option.some Jvm.ClassFile.FieldType.int)) ∈ lw_all := lw_g (lw_at lw_m6 0 rfl) rfl
theorem q1296 : (Jvm.Cond.methodLink "BreathOnLoanModel" (230 : Nat) ({ cls := "BreathOnLoanModel", name := "sortOf", desc := "()I" } : Jvm.MethodName)) ∈ lw_all := lw_g (lw_at lw_m6 1 rfl) rfl
theorem q1297 : (Jvm.Cond.privateMethod ({ cls := "BreathOnLoanModel", name := "sortOf", desc := "()I" } : Jvm.MethodName)) ∈ lw_tbl := lw_at lw_m6 2 rfl
theorem q1298 : (Jvm.Cond.instanceMethod ({ cls := "BreathOnLoanModel", name := "sortOf", desc := "()I" } : Jvm.MethodName)) ∈ lw_all := lw_g (lw_at lw_m6 3 rfl) rfl
theorem q1299 : (Jvm.Cond.code ({ cls := "BreathOnLoanModel", name := "sortOf", desc := "()I" } : Jvm.MethodName) prog_18_method_49_code (1 : Nat) (Option.some Jvm.ClassFile.FieldType.int)) ∈ lw_all := lw_g (lw_at lw_m6 4 rfl) rfl
theorem q1300 : (Jvm.Cond.methodLink "BreathOnLoanModel" (123 : Nat) ({ cls := "BreathOnLoanModel", name := "w5", desc := "(IIIII)J" } : Jvm.MethodName)) ∈ lw_all := lw_g (lw_at lw_m6 5 rfl) rfl
theorem q1301 : (Jvm.Cond.static ({ cls := "BreathOnLoanModel", name := "w5", desc := "(IIIII)J" } : Jvm.MethodName)) ∈ lw_all := lw_g (lw_at lw_m6 6 rfl) rfl
theorem q1302 : (Jvm.Cond.code ({ cls := "BreathOnLoanModel", name := "w5", desc := "(IIIII)J" } : Jvm.MethodName) prog_18_method_27_code (5 : Nat) (Option.some Jvm.ClassFile.FieldType.long)) ∈ lw_all := lw_g (lw_at lw_m6 7 rfl) rfl
theorem q1303 : (Jvm.Cond.methodLink "BreathOnLoanModel" (119 : Nat) ({ cls := "BreathOnLoanModel", name := "w3", desc := "(III)J" } : Jvm.MethodName)) ∈ lw_all := lw_g (lw_at lw_m6 8 rfl) rfl
theorem q1304 : (Jvm.Cond.static ({ cls := "BreathOnLoanModel", name := "w3", desc := "(III)J" } : Jvm.MethodName)) ∈ lw_all := lw_g (lw_at lw_m6 9 rfl) rfl
theorem q1305 : (Jvm.Cond.code ({ cls := "BreathOnLoanModel", name := "w3", desc := "(III)J" } : Jvm.MethodName) prog_18_method_26_code (3 : Nat) (Option.some Jvm.ClassFile.FieldType.long)) ∈ lw_all := lw_g (lw_at lw_m6 10 rfl) rfl
theorem q1306 : (Jvm.Cond.methodLink "BreathOnLoanModel" (181 : Nat) ({ cls := "BreathOnLoanModel", name := "isWord", desc := "(J)Z" } : Jvm.MethodName)) ∈ lw_all := lw_g (lw_at lw_m6 11 rfl) rfl
theorem q1307 : (Jvm.Cond.privateMethod ({ cls := "BreathOnLoanModel", name := "isWord", desc := "(J)Z" } : Jvm.MethodName)) ∈ lw_tbl := lw_at lw_m6 12 rfl
theorem q1308 : (Jvm.Cond.instanceMethod ({ cls := "BreathOnLoanModel", name := "isWord", desc := "(J)Z" } : Jvm.MethodName)) ∈ lw_all := lw_g (lw_at lw_m6 13 rfl) rfl
theorem q1309 : (Jvm.Cond.code ({ cls := "BreathOnLoanModel", name := "isWord", desc := "(J)Z" } : Jvm.MethodName) prog_18_method_30_code (3 : Nat) (Option.some Jvm.ClassFile.FieldType.boolean)) ∈ lw_all := lw_g (lw_at lw_m6 14 rfl) rfl
theorem q1310 : (Jvm.Cond.methodLink "BreathOnLoanModel" (207 : Nat) ({ cls := "BreathOnLoanModel", name := "w4", desc := "(IIII)J" } : Jvm.MethodName)) ∈ lw_all := lw_g (lw_at lw_m6 15 rfl) rfl
theorem q1311 : (Jvm.Cond.static ({ cls := "BreathOnLoanModel", name := "w4", desc := "(IIII)J" } : Jvm.MethodName)) ∈ lw_all := lw_g (lw_at lw_m6 16 rfl) rfl
theorem q1312 : (Jvm.Cond.code ({ cls := "BreathOnLoanModel", name := "w4", desc := "(IIII)J" } : Jvm.MethodName) prog_18_method_28_code (4 : Nat) (Option.some Jvm.ClassFile.FieldType.long)) ∈ lw_all := lw_g (lw_at lw_m6 17 rfl) rfl
theorem q1313 : (Jvm.Cond.methodLink "BreathOnLoanModel" (236 : Nat) ({ cls := "BreathOnLoanModel", name := "parsed", desc := "(Z)I" } : Jvm.MethodName)) ∈ lw_all := lw_g (lw_at lw_m6 18 rfl) rfl
theorem q1314 : (Jvm.Cond.privateMethod ({ cls := "BreathOnLoanModel", name := "parsed", desc := "(Z)I" } : Jvm.MethodName)) ∈ lw_tbl := lw_at lw_m6 19 rfl
theorem q1315 : (Jvm.Cond.instanceMethod ({ cls := "BreathOnLoanModel", name := "parsed", desc := "(Z)I" } : Jvm.MethodName)) ∈ lw_all := lw_g (lw_at lw_m6 20 rfl) rfl
theorem q1316 : (Jvm.Cond.code ({ cls := "BreathOnLoanModel", name := "parsed", desc := "(Z)I" } : Jvm.MethodName) prog_18_method_45_code (4 : Nat) (Option.some Jvm.ClassFile.FieldType.int)) ∈ lw_all := lw_g (lw_at lw_m6 21 rfl) rfl
theorem q1317 : (Jvm.Cond.methodLink "BreathOnLoanModel" (201 : Nat) ({ cls := "BreathOnLoanModel", name := "behindOne", desc := "(Z)Z" } : Jvm.MethodName)) ∈ lw_all := lw_g (lw_at lw_m6 22 rfl) rfl
theorem q1318 : (Jvm.Cond.privateMethod ({ cls := "BreathOnLoanModel", name := "behindOne", desc := "(Z)Z" } : Jvm.MethodName)) ∈ lw_tbl := lw_at lw_m6 23 rfl
theorem q1319 : (Jvm.Cond.instanceMethod ({ cls := "BreathOnLoanModel", name := "behindOne", desc := "(Z)Z" } : Jvm.MethodName)) ∈ lw_all := lw_g (lw_at lw_m6 24 rfl) rfl
theorem q1320 : (Jvm.Cond.code ({ cls := "BreathOnLoanModel", name := "behindOne", desc := "(Z)Z" } : Jvm.MethodName) prog_18_method_44_code (5 : Nat) (Option.some Jvm.ClassFile.FieldType.boolean)) ∈ lw_all := lw_g (lw_at lw_m6 25 rfl) rfl
theorem q1321 : (Jvm.Cond.methodLink "BreathOnLoanModel" (198 : Nat) ({ cls := "BreathOnLoanModel", name := "betweenOf", desc := "(Z)I" } : Jvm.MethodName)) ∈ lw_all := lw_g (lw_at lw_m6 26 rfl) rfl
theorem q1322 : (Jvm.Cond.privateMethod ({ cls := "BreathOnLoanModel", name := "betweenOf", desc := "(Z)I" } : Jvm.MethodName)) ∈ lw_tbl := lw_at lw_m6 27 rfl
theorem q1323 : (Jvm.Cond.instanceMethod ({ cls := "BreathOnLoanModel", name := "betweenOf", desc := "(Z)I" } : Jvm.MethodName)) ∈ lw_all := lw_g (lw_at lw_m6 28 rfl) rfl
theorem q1324 : (Jvm.Cond.code ({ cls := "BreathOnLoanModel", name := "betweenOf", desc := "(Z)I" } : Jvm.MethodName) prog_18_method_43_code (2 : Nat) (Option.some Jvm.ClassFile.FieldType.int)) ∈ lw_all := lw_g (lw_at lw_m6 29 rfl) rfl
theorem q1325 : (Jvm.Cond.methodLink "BreathOnLoanModel" (157 : Nat) ({ cls := "BreathOnLoanModel", name := "kindOpen", desc := "(Z)I" } : Jvm.MethodName)) ∈ lw_all := lw_g (lw_at lw_m6 30 rfl) rfl
theorem q1326 : (Jvm.Cond.privateMethod ({ cls := "BreathOnLoanModel", name := "kindOpen", desc := "(Z)I" } : Jvm.MethodName)) ∈ lw_tbl := lw_at lw_m6 31 rfl
theorem q1327 : (Jvm.Cond.instanceMethod ({ cls := "BreathOnLoanModel", name := "kindOpen", desc := "(Z)I" } : Jvm.MethodName)) ∈ lw_all := lw_g (lw_at lw_m6 32 rfl) rfl
theorem q1328 : (Jvm.Cond.code ({ cls := "BreathOnLoanModel", name := "kindOpen", desc := "(Z)I" } : Jvm.MethodName) prog_18_method_37_code (3 : Nat) (Option.some Jvm.ClassFile.FieldType.int)) ∈ lw_all := lw_g (lw_at lw_m6 33 rfl) rfl
theorem q1329 : (Jvm.Cond.methodLink "BreathOnLoanModel" (153 : Nat) ({ cls := "BreathOnLoanModel", name := "marker", desc := "()I" } : Jvm.MethodName)) ∈ lw_all := lw_g (lw_at lw_m6 34 rfl) rfl
theorem q1330 : (Jvm.Cond.privateMethod ({ cls := "BreathOnLoanModel", name := "marker", desc := "()I" } : Jvm.MethodName)) ∈ lw_tbl := lw_at lw_m6 35 rfl
theorem q1331 : (Jvm.Cond.instanceMethod ({ cls := "BreathOnLoanModel", name := "marker", desc := "()I" } : Jvm.MethodName)) ∈ lw_all := lw_g (lw_at lw_m6 36 rfl) rfl
theorem q1332 : (Jvm.Cond.code ({ cls := "BreathOnLoanModel", name := "marker", desc := "()I" } : Jvm.MethodName) prog_18_method_36_code (2 : Nat) (Option.some Jvm.ClassFile.FieldType.int)) ∈ lw_all := lw_g (lw_at lw_m6 37 rfl) rfl
theorem q1333 : (Jvm.Cond.methodLink "BreathOnLoanModel" (189 : Nat) ({ cls := "BreathOnLoanModel", name := "isCompared", desc := "()Z" } : Jvm.MethodName)) ∈ lw_all := lw_g (lw_at lw_m6 38 rfl) rfl
theorem q1334 : (Jvm.Cond.privateMethod ({ cls := "BreathOnLoanModel", name := "isCompared", desc := "()Z" } : Jvm.MethodName)) ∈ lw_tbl := lw_at lw_m6 39 rfl
theorem q1335 : (Jvm.Cond.instanceMethod ({ cls := "BreathOnLoanModel", name := "isCompared", desc := "()Z" } : Jvm.MethodName)) ∈ lw_all := lw_g (lw_at lw_m6 40 rfl) rfl
theorem q1336 : (Jvm.Cond.code ({ cls := "BreathOnLoanModel", name := "isCompared", desc := "()Z" } : Jvm.MethodName) prog_18_method_38_code (2 : Nat) (Option.some Jvm.ClassFile.FieldType.boolean)) ∈ lw_all := lw_g (lw_at lw_m6 41 rfl) rfl
theorem q1337 : (Jvm.Cond.methodLink "BreathOnLoanModel" (136 : Nat) ({ cls := "BreathOnLoanModel", name := "rank", desc := "(I)I" } : Jvm.MethodName)) ∈ lw_all := lw_g (lw_at lw_m6 42 rfl) rfl
theorem q1338 : (Jvm.Cond.static ({ cls := "BreathOnLoanModel", name := "rank", desc := "(I)I" } : Jvm.MethodName)) ∈ lw_all := lw_g (lw_at lw_m6 43 rfl) rfl
theorem q1339 : (Jvm.Cond.code ({ cls := "BreathOnLoanModel", name := "rank", desc := "(I)I" } : Jvm.MethodName) prog_18_method_33_code (1 : Nat) (Option.some Jvm.ClassFile.FieldType.int)) ∈ lw_all := lw_g (lw_at lw_m6 44 rfl) rfl
theorem q1340 : (Jvm.Cond.methodLink "BreathOnLoanModel" (193 : Nat) ({ cls := "BreathOnLoanModel", name := "compareOf", desc := "()I" } : Jvm.MethodName)) ∈ lw_all := lw_g (lw_at lw_m6 45 rfl) rfl
theorem q1341 : (Jvm.Cond.privateMethod ({ cls := "BreathOnLoanModel", name := "compareOf", desc := "()I" } : Jvm.MethodName)) ∈ lw_tbl := lw_at lw_m6 46 rfl
theorem q1342 : (Jvm.Cond.instanceMethod ({ cls := "BreathOnLoanModel", name := "compareOf", desc := "()I" } : Jvm.MethodName)) ∈ lw_all := lw_g (lw_at lw_m6 47 rfl) rfl
theorem q1343 : (Jvm.Cond.code ({ cls := "BreathOnLoanModel", name := "compareOf", desc := "()I" } : Jvm.MethodName) prog_18_method_42_code (1 : Nat) (Option.some Jvm.ClassFile.FieldType.int)) ∈ lw_all := lw_g (lw_at lw_m6 48 rfl) rfl
theorem q1344 : (Jvm.Cond.constantLong "BreathOnLoanModel" (196 : Nat) (28530 : Int64)) ∈ lw_all := lw_g (lw_at lw_m6 49 rfl) rfl
theorem q1345 : (Jvm.Cond.methodLink "BreathOnLoanModel" (150 : Nat) ({ cls := "BreathOnLoanModel", name := "settle", desc := "(I)V" } : Jvm.MethodName)) ∈ lw_all := lw_g (lw_at lw_m6 50 rfl) rfl
theorem q1346 : (Jvm.Cond.privateMethod ({ cls := "BreathOnLoanModel", name := "settle", desc := "(I)V" } : Jvm.MethodName)) ∈ lw_tbl := lw_at lw_m6 51 rfl
theorem q1347 : (Jvm.Cond.instanceMethod ({ cls := "BreathOnLoanModel", name := "settle", desc := "(I)V" } : Jvm.MethodName)) ∈ lw_all := lw_g (lw_at lw_m6 52 rfl) rfl
theorem q1348 : (Jvm.Cond.code ({ cls := "BreathOnLoanModel", name := "settle", desc := "(I)V" } : Jvm.MethodName) prog_18_method_34_code (2 : Nat) (Option.none : Option Jvm.ClassFile.FieldType)) ∈ lw_all := lw_g (lw_at lw_m6 53 rfl) rfl
theorem q1349 : (Jvm.Cond.methodLink "BreathOnLoanModel" (139 : Nat) ({ cls := "BreathOnLoanModel", name := "emit", desc := "(II)V" } : Jvm.MethodName)) ∈ lw_all := lw_g (lw_at lw_m6 54 rfl) rfl
theorem q1350 : (Jvm.Cond.privateMethod ({ cls := "BreathOnLoanModel", name := "emit", desc := "(II)V" } : Jvm.MethodName)) ∈ lw_tbl := lw_at lw_m6 55 rfl
theorem q1351 : (Jvm.Cond.instanceMethod ({ cls := "BreathOnLoanModel", name := "emit", desc := "(II)V" } : Jvm.MethodName)) ∈ lw_all := lw_g (lw_at lw_m6 56 rfl) rfl
theorem q1352 : (Jvm.Cond.code ({ cls := "BreathOnLoanModel", name := "emit", desc := "(II)V" } : Jvm.MethodName) prog_18_method_31_code (3 : Nat) (Option.none : Option Jvm.ClassFile.FieldType)) ∈ lw_all := lw_g (lw_at lw_m6 57 rfl) rfl
theorem q1353 : (Jvm.Cond.methodLink "BreathOnLoanModel" (161 : Nat) ({ cls := "BreathOnLoanModel", name := "push", desc := "(I)V" } : Jvm.MethodName)) ∈ lw_all := lw_g (lw_at lw_m6 58 rfl) rfl
theorem q1354 : (Jvm.Cond.privateMethod ({ cls := "BreathOnLoanModel", name := "push", desc := "(I)V" } : Jvm.MethodName)) ∈ lw_tbl := lw_at lw_m6 59 rfl
theorem q1355 : (Jvm.Cond.instanceMethod ({ cls := "BreathOnLoanModel", name := "push", desc := "(I)V" } : Jvm.MethodName)) ∈ lw_all := lw_g (lw_at lw_m6 60 rfl) rfl
theorem q1356 : (Jvm.Cond.code ({ cls := "BreathOnLoanModel", name := "push", desc := "(I)V" } : Jvm.MethodName) prog_18_method_32_code (2 : Nat) (Option.none : Option Jvm.ClassFile.FieldType)) ∈ lw_all := lw_g (lw_at lw_m6 61 rfl) rfl
theorem q1357 : (Jvm.Cond.methodLink "BreathOnLoanModel" (173 : Nat) ({ cls := "BreathOnLoanModel", name := "whole", desc := "()V" } : Jvm.MethodName)) ∈ lw_all := lw_g (lw_at lw_m6 62 rfl) rfl
theorem q1358 : (Jvm.Cond.privateMethod ({ cls := "BreathOnLoanModel", name := "whole", desc := "()V" } : Jvm.MethodName)) ∈ lw_tbl := lw_at lw_m6 63 rfl
theorem q1359 : (Jvm.Cond.instanceMethod ({ cls := "BreathOnLoanModel", name := "whole", desc := "()V" } : Jvm.MethodName)) ∈ lw_all := lw_g (lw_at lw_m6 64 rfl) rfl
theorem q1360 : (Jvm.Cond.code ({ cls := "BreathOnLoanModel", name := "whole", desc := "()V" } : Jvm.MethodName) prog_18_method_35_code (1 : Nat) (Option.none : Option Jvm.ClassFile.FieldType)) ∈ lw_all := lw_g (lw_at lw_m6 65 rfl) rfl
theorem q1361 : (Jvm.Cond.methodLink "BreathOnLoanModel" (204 : Nat) ({ cls := "BreathOnLoanModel", name := "beginOne", desc := "(Z)I" } : Jvm.MethodName)) ∈ lw_all := lw_g (lw_at lw_m6 66 rfl) rfl
theorem q1362 : (Jvm.Cond.privateMethod ({ cls := "BreathOnLoanModel", name := "beginOne", desc := "(Z)I" } : Jvm.MethodName)) ∈ lw_tbl := lw_at lw_m6 67 rfl
theorem q1363 : (Jvm.Cond.instanceMethod ({ cls := "BreathOnLoanModel", name := "beginOne", desc := "(Z)I" } : Jvm.MethodName)) ∈ lw_all := lw_g (lw_at lw_m6 68 rfl) rfl
theorem q1364 : (Jvm.Cond.code ({ cls := "BreathOnLoanModel", name := "beginOne", desc := "(Z)I" } : Jvm.MethodName) prog_18_method_41_code (3 : Nat) (Option.some Jvm.ClassFile.FieldType.int)) ∈ lw_all := lw_g (lw_at lw_m6 69 rfl) rfl
theorem q1365 : (Jvm.Cond.methodLink "BreathOnLoanModel" (167 : Nat) ({ cls := "BreathOnLoanModel", name := "nameOf", desc := "()I" } : Jvm.MethodName)) ∈ lw_all := lw_g (lw_at lw_m6 70 rfl) rfl
theorem q1366 : (Jvm.Cond.privateMethod ({ cls := "BreathOnLoanModel", name := "nameOf", desc := "()I" } : Jvm.MethodName)) ∈ lw_tbl := lw_at lw_m6 71 rfl
theorem q1367 : (Jvm.Cond.instanceMethod ({ cls := "BreathOnLoanModel", name := "nameOf", desc := "()I" } : Jvm.MethodName)) ∈ lw_all := lw_g (lw_at lw_m6 72 rfl) rfl
theorem q1368 : (Jvm.Cond.code ({ cls := "BreathOnLoanModel", name := "nameOf", desc := "()I" } : Jvm.MethodName) prog_18_method_47_code (1 : Nat) (Option.some Jvm.ClassFile.FieldType.int)) ∈ lw_all := lw_g (lw_at lw_m6 73 rfl) rfl
theorem q1369 : (Jvm.Cond.methodLink "BreathOnLoanModel" (211 : Nat) ({ cls := "BreathOnLoanModel", name := "w6", desc := "(IIIIII)J" } : Jvm.MethodName)) ∈ lw_all := lw_g (lw_at lw_m6 74 rfl) rfl
theorem q1370 : (Jvm.Cond.static ({ cls := "BreathOnLoanModel", name := "w6", desc := "(IIIIII)J" } : Jvm.MethodName)) ∈ lw_all := lw_g (lw_at lw_m6 75 rfl) rfl
theorem q1371 : (Jvm.Cond.code ({ cls := "BreathOnLoanModel", name := "w6", desc := "(IIIIII)J" } : Jvm.MethodName) prog_18_method_29_code (6 : Nat) (Option.some Jvm.ClassFile.FieldType.long)) ∈ lw_all := lw_g (lw_at lw_m6 76 rfl) rfl
theorem q1372 : (Jvm.Cond.methodLink "BreathOnLoanModel" (215 : Nat) ({ cls := "BreathOnLoanModel", name := "isQuarrels", desc := "()Z" } : Jvm.MethodName)) ∈ lw_all := lw_g (lw_at lw_m6 77 rfl) rfl
theorem q1373 : (Jvm.Cond.privateMethod ({ cls := "BreathOnLoanModel", name := "isQuarrels", desc := "()Z" } : Jvm.MethodName)) ∈ lw_tbl := lw_at lw_m6 78 rfl
theorem q1374 : (Jvm.Cond.instanceMethod ({ cls := "BreathOnLoanModel", name := "isQuarrels", desc := "()Z" } : Jvm.MethodName)) ∈ lw_all := lw_g (lw_at lw_m6 79 rfl) rfl
theorem q1375 : (Jvm.Cond.code ({ cls := "BreathOnLoanModel", name := "isQuarrels", desc := "()Z" } : Jvm.MethodName) prog_18_method_46_code (1 : Nat) (Option.some Jvm.ClassFile.FieldType.boolean)) ∈ lw_all := lw_g (lw_at lw_m6 80 rfl) rfl
theorem q1376 : (Jvm.Cond.methodLink "BreathOnLoanModel" (170 : Nat) ({ cls := "BreathOnLoanModel", name := "isOf", desc := "(I)Z" } : Jvm.MethodName)) ∈ lw_all := lw_g (lw_at lw_m6 81 rfl) rfl
theorem q1377 : (Jvm.Cond.privateMethod ({ cls := "BreathOnLoanModel", name := "isOf", desc := "(I)Z" } : Jvm.MethodName)) ∈ lw_tbl := lw_at lw_m6 82 rfl
theorem q1378 : (Jvm.Cond.instanceMethod ({ cls := "BreathOnLoanModel", name := "isOf", desc := "(I)Z" } : Jvm.MethodName)) ∈ lw_all := lw_g (lw_at lw_m6 83 rfl) rfl
theorem q1379 : (Jvm.Cond.code ({ cls := "BreathOnLoanModel", name := "isOf", desc := "(I)Z" } : Jvm.MethodName) prog_18_method_48_code (2 : Nat) (Option.some Jvm.ClassFile.FieldType.boolean)) ∈ lw_all := lw_g (lw_at lw_m6 84 rfl) rfl
theorem q1380 : (Jvm.Cond.methodLink "BreathOnLoanModel" (176 : Nat) ({ cls := "BreathOnLoanModel", name := "opensBy", desc := "(I)I" } : Jvm.MethodName)) ∈ lw_all := lw_g (lw_at lw_m6 85 rfl) rfl
theorem q1381 : (Jvm.Cond.privateMethod ({ cls := "BreathOnLoanModel", name := "opensBy", desc := "(I)I" } : Jvm.MethodName)) ∈ lw_tbl := lw_at lw_m6 86 rfl
theorem q1382 : (Jvm.Cond.instanceMethod ({ cls := "BreathOnLoanModel", name := "opensBy", desc := "(I)I" } : Jvm.MethodName)) ∈ lw_all := lw_g (lw_at lw_m6 87 rfl) rfl
theorem q1383 : (Jvm.Cond.code ({ cls := "BreathOnLoanModel", name := "opensBy", desc := "(I)I" } : Jvm.MethodName) prog_18_method_40_code (2 : Nat) (Option.some Jvm.ClassFile.FieldType.int)) ∈ lw_all := lw_g (lw_at lw_m6 88 rfl) rfl
theorem q1384 : (Jvm.Cond.constantLong "BreathOnLoanModel" (179 : Nat) (26982 : Int64)) ∈ lw_all := lw_g (lw_at lw_m6 89 rfl) rfl
theorem q1385 : (Jvm.Cond.methodLink "BreathOnLoanModel" (185 : Nat) ({ cls := "BreathOnLoanModel", name := "isAskAhead", desc := "(Z)Z" } : Jvm.MethodName)) ∈ lw_all := lw_g (lw_at lw_m6 90 rfl) rfl
theorem q1386 : (Jvm.Cond.privateMethod ({ cls := "BreathOnLoanModel", name := "isAskAhead", desc := "(Z)Z" } : Jvm.MethodName)) ∈ lw_tbl := lw_at lw_m6 91 rfl
theorem q1387 : (Jvm.Cond.instanceMethod ({ cls := "BreathOnLoanModel", name := "isAskAhead", desc := "(Z)Z" } : Jvm.MethodName)) ∈ lw_all := lw_g (lw_at lw_m6 92 rfl) rfl
theorem q1388 : (Jvm.Cond.code ({ cls := "BreathOnLoanModel", name := "isAskAhead", desc := "(Z)Z" } : Jvm.MethodName) prog_18_method_39_code (2 : Nat) (Option.some Jvm.ClassFile.FieldType.boolean)) ∈ lw_all := lw_g (lw_at lw_m6 93 rfl) rfl
theorem q1389 : (Jvm.Cond.methodLink "BreathOnLoanModel" (239 : Nat) ({ cls := "BreathOnLoanModel", name := "line", desc := "(II)I" } : Jvm.MethodName)) ∈ lw_all := lw_g (lw_at lw_m6 94 rfl) rfl
theorem q1390 : (Jvm.Cond.privateMethod ({ cls := "BreathOnLoanModel", name := "line", desc := "(II)I" } : Jvm.MethodName)) ∈ lw_tbl := lw_at lw_m6 95 rfl
theorem q1391 : (Jvm.Cond.instanceMethod ({ cls := "BreathOnLoanModel", name := "line", desc := "(II)I" } : Jvm.MethodName)) ∈ lw_all := lw_g (lw_at lw_m6 96 rfl) rfl
theorem q1392 : (Jvm.Cond.code ({ cls := "BreathOnLoanModel", name := "line", desc := "(II)I" } : Jvm.MethodName) prog_18_method_52_code (3 : Nat) (Option.some Jvm.ClassFile.FieldType.int)) ∈ lw_all := lw_g (lw_at lw_m6 97 rfl) rfl
theorem q1393 : (Jvm.Cond.methodLink "BreathOnLoanModel" (221 : Nat) ({ cls := "BreathOnLoanModel", name := "figure", desc := "(III)I" } : Jvm.MethodName)) ∈ lw_all := lw_g (lw_at lw_m6 98 rfl) rfl
theorem q1394 : (Jvm.Cond.privateMethod ({ cls := "BreathOnLoanModel", name := "figure", desc := "(III)I" } : Jvm.MethodName)) ∈ lw_tbl := lw_at lw_m6 99 rfl
theorem q1395 : (Jvm.Cond.instanceMethod ({ cls := "BreathOnLoanModel", name := "figure", desc := "(III)I" } : Jvm.MethodName)) ∈ lw_all := lw_g (lw_at lw_m6 100 rfl) rfl
theorem q1396 : (Jvm.Cond.code ({ cls := "BreathOnLoanModel", name := "figure", desc := "(III)I" } : Jvm.MethodName) prog_18_method_50_code (4 : Nat) (Option.some Jvm.ClassFile.FieldType.int)) ∈ lw_all := lw_g (lw_at lw_m6 101 rfl) rfl
theorem q1397 : (Jvm.Cond.methodLink "BreathOnLoanModel" (227 : Nat) ({ cls := "BreathOnLoanModel", name := "blown", desc := "(I)I" } : Jvm.MethodName)) ∈ lw_all := lw_g (lw_at lw_m6 102 rfl) rfl
theorem q1398 : (Jvm.Cond.privateMethod ({ cls := "BreathOnLoanModel", name := "blown", desc := "(I)I" } : Jvm.MethodName)) ∈ lw_tbl := lw_at lw_m6 103 rfl
theorem q1399 : (Jvm.Cond.instanceMethod ({ cls := "BreathOnLoanModel", name := "blown", desc := "(I)I" } : Jvm.MethodName)) ∈ lw_all := lw_g (lw_at lw_m6 104 rfl) rfl
theorem q1400 : (Jvm.Cond.code ({ cls := "BreathOnLoanModel", name := "blown", desc := "(I)I" } : Jvm.MethodName) prog_18_method_51_code (4 : Nat) (Option.some Jvm.ClassFile.FieldType.int)) ∈ lw_all := lw_g (lw_at lw_m6 105 rfl) rfl
theorem q1401 : (Jvm.Cond.constantLong "BreathOnLoanModel" (225 : Nat) (25209 : Int64)) ∈ lw_all := lw_g (lw_at lw_m6 106 rfl) rfl
theorem q1403 : (Jvm.Cond.instanceMethod ({ cls := "BreathOnLoanModel", name := "fault", desc := "(I)I" } : Jvm.MethodName)) ∈ lw_all := lw_g (lw_at lw_m6 108 rfl) rfl
theorem q1404 : (Jvm.Cond.selects "BreathOnLoanModel" ({ cls := "BreathOnLoanModel", name := "fault", desc := "(I)I" } : Jvm.MethodName) ({ cls := "BreathOnLoanModel", name := "fault", desc := "(I)I" } : Jvm.MethodName)) ∈ lw_all := lw_g (lw_at lw_m6 109 rfl) rfl
theorem q1405 : (Jvm.Cond.code ({ cls := "BreathOnLoanModel", name := "fault", desc := "(I)I" } : Jvm.MethodName) prog_18_method_56_code (2 : Nat) (Option.some Jvm.ClassFile.FieldType.int)) ∈ lw_all := lw_g (lw_at lw_m6 110 rfl) rfl
theorem q1407 : (Jvm.Cond.instanceMethod ({ cls := "BreathOnLoanModel", name := "by", desc := "(I)Z" } : Jvm.MethodName)) ∈ lw_all := lw_g (lw_at lw_m6 112 rfl) rfl
theorem q1408 : (Jvm.Cond.selects "BreathOnLoanModel" ({ cls := "BreathOnLoanModel", name := "by", desc := "(I)Z" } : Jvm.MethodName) ({ cls := "BreathOnLoanModel", name := "by", desc := "(I)Z" } : Jvm.MethodName)) ∈ lw_all := lw_g (lw_at lw_m6 113 rfl) rfl
theorem q1409 : (Jvm.Cond.code ({ cls := "BreathOnLoanModel", name := "by", desc := "(I)Z" } : Jvm.MethodName) prog_18_method_57_code (2 : Nat) (Option.some Jvm.ClassFile.FieldType.boolean)) ∈ lw_all := lw_g (lw_at lw_m6 114 rfl) rfl
theorem q1411 : (Jvm.Cond.instanceMethod ({ cls := "BreathOnLoanModel", name := "smoke", desc := "(I)I" } : Jvm.MethodName)) ∈ lw_all := lw_g (lw_at lw_m6 116 rfl) rfl
theorem q1412 : (Jvm.Cond.selects "BreathOnLoanModel" ({ cls := "BreathOnLoanModel", name := "smoke", desc := "(I)I" } : Jvm.MethodName) ({ cls := "BreathOnLoanModel", name := "smoke", desc := "(I)I" } : Jvm.MethodName)) ∈ lw_all := lw_g (lw_at lw_m6 117 rfl) rfl
theorem q1413 : (Jvm.Cond.code ({ cls := "BreathOnLoanModel", name := "smoke", desc := "(I)I" } : Jvm.MethodName) prog_18_method_69_code (2 : Nat) (Option.some Jvm.ClassFile.FieldType.int)) ∈ lw_all := lw_g (lw_at lw_m6 118 rfl) rfl
theorem q1414 : (Jvm.Cond.methodLink "BreathOnLoanModel" (287 : Nat) ({ cls := "BreathOnLoanModel", name := "isHour", desc := "(I)Z" } : Jvm.MethodName)) ∈ lw_all := lw_g (lw_at lw_m6 119 rfl) rfl
theorem q1415 : (Jvm.Cond.static ({ cls := "BreathOnLoanModel", name := "isHour", desc := "(I)Z" } : Jvm.MethodName)) ∈ lw_all := lw_g (lw_at lw_m6 120 rfl) rfl
theorem q1416 : (Jvm.Cond.code ({ cls := "BreathOnLoanModel", name := "isHour", desc := "(I)Z" } : Jvm.MethodName) prog_18_method_10_code (1 : Nat) (Option.some Jvm.ClassFile.FieldType.boolean)) ∈ lw_all := lw_g (lw_at lw_m6 121 rfl) rfl
theorem q1417 : (Jvm.Cond.methodLink "BreathOnLoanModel" (290 : Nat) ({ cls := "BreathOnLoanModel", name := "smokeIn", desc := "(I)I" } : Jvm.MethodName)) ∈ lw_all := lw_g (lw_at lw_m6 122 rfl) rfl
theorem q1418 : (Jvm.Cond.privateMethod ({ cls := "BreathOnLoanModel", name := "smokeIn", desc := "(I)I" } : Jvm.MethodName)) ∈ lw_tbl := lw_at lw_m6 123 rfl
theorem q1419 : (Jvm.Cond.instanceMethod ({ cls := "BreathOnLoanModel", name := "smokeIn", desc := "(I)I" } : Jvm.MethodName)) ∈ lw_all := lw_g (lw_at lw_m6 124 rfl) rfl
theorem q1420 : (Jvm.Cond.code ({ cls := "BreathOnLoanModel", name := "smokeIn", desc := "(I)I" } : Jvm.MethodName) prog_18_method_63_code (2 : Nat) (Option.some Jvm.ClassFile.FieldType.int)) ∈ lw_all := lw_g (lw_at lw_m6 125 rfl) rfl
theorem q1421 : (Jvm.Cond.methodLink "BreathOnLoanModel" (271 : Nat) ({ cls := "BreathOnLoanModel", name := "sumOf", desc := "(III)I" } : Jvm.MethodName)) ∈ lw_all := lw_g (lw_at lw_m6 126 rfl) rfl
theorem q1422 : (Jvm.Cond.privateMethod ({ cls := "BreathOnLoanModel", name := "sumOf", desc := "(III)I" } : Jvm.MethodName)) ∈ lw_tbl := lw_at lw_m6 127 rfl
theorem q1423 : (Jvm.Cond.instanceMethod ({ cls := "BreathOnLoanModel", name := "sumOf", desc := "(III)I" } : Jvm.MethodName)) ∈ lw_all := lw_g (lw_at lw_m6 128 rfl) rfl
theorem q1424 : (Jvm.Cond.code ({ cls := "BreathOnLoanModel", name := "sumOf", desc := "(III)I" } : Jvm.MethodName) prog_18_method_62_code (5 : Nat) (Option.some Jvm.ClassFile.FieldType.int)) ∈ lw_all := lw_g (lw_at lw_m6 129 rfl) rfl
theorem q1425 : (Jvm.Cond.methodLink "BreathOnLoanModel" (264 : Nat) ({ cls := "BreathOnLoanModel", name := "work", desc := "(I)V" } : Jvm.MethodName)) ∈ lw_all := lw_g (lw_at lw_m6 130 rfl) rfl
theorem q1426 : (Jvm.Cond.privateMethod ({ cls := "BreathOnLoanModel", name := "work", desc := "(I)V" } : Jvm.MethodName)) ∈ lw_tbl := lw_at lw_m6 131 rfl
theorem q1427 : (Jvm.Cond.instanceMethod ({ cls := "BreathOnLoanModel", name := "work", desc := "(I)V" } : Jvm.MethodName)) ∈ lw_all := lw_g (lw_at lw_m6 132 rfl) rfl
theorem q1428 : (Jvm.Cond.code ({ cls := "BreathOnLoanModel", name := "work", desc := "(I)V" } : Jvm.MethodName) prog_18_method_61_code (9 : Nat) (Option.none : Option Jvm.ClassFile.FieldType)) ∈ lw_all := lw_g (lw_at lw_m6 133 rfl) rfl
theorem q1429 : (Jvm.Cond.methodLink "BreathOnLoanModel" (256 : Nat) ({ cls := "BreathOnLoanModel", name := "two", desc := "(IJJ)J" } : Jvm.MethodName)) ∈ lw_all := lw_g (lw_at lw_m6 134 rfl) rfl
theorem q1430 : (Jvm.Cond.static ({ cls := "BreathOnLoanModel", name := "two", desc := "(IJJ)J" } : Jvm.MethodName)) ∈ lw_all := lw_g (lw_at lw_m6 135 rfl) rfl
theorem q1431 : (Jvm.Cond.code ({ cls := "BreathOnLoanModel", name := "two", desc := "(IJJ)J" } : Jvm.MethodName) prog_18_method_59_code (5 : Nat) (Option.some Jvm.ClassFile.FieldType.long)) ∈ lw_all := lw_g (lw_at lw_m6 136 rfl) rfl
theorem q1432 : (Jvm.Cond.methodLink "BreathOnLoanModel" (252 : Nat) ({ cls := "BreathOnLoanModel", name := "clip", desc := "(J)J" } : Jvm.MethodName)) ∈ lw_all := lw_g (lw_at lw_m6 137 rfl) rfl
theorem q1433 : (Jvm.Cond.static ({ cls := "BreathOnLoanModel", name := "clip", desc := "(J)J" } : Jvm.MethodName)) ∈ lw_all := lw_g (lw_at lw_m6 138 rfl) rfl
theorem q1434 : (Jvm.Cond.code ({ cls := "BreathOnLoanModel", name := "clip", desc := "(J)J" } : Jvm.MethodName) prog_18_method_58_code (2 : Nat) (Option.some Jvm.ClassFile.FieldType.long)) ∈ lw_all := lw_g (lw_at lw_m6 139 rfl) rfl
theorem q1435 : (Jvm.Cond.constantLong "BreathOnLoanModel" (248 : Nat) (1000000 : Int64)) ∈ lw_all := lw_g (lw_at lw_m6 140 rfl) rfl
theorem q1436 : (Jvm.Cond.constantLong "BreathOnLoanModel" (250 : Nat) (-1000000 : Int64)) ∈ lw_all := lw_g (lw_at lw_m6 141 rfl) rfl
theorem q1437 : (Jvm.Cond.methodLink "BreathOnLoanModel" (260 : Nat) ({ cls := "BreathOnLoanModel", name := "isAsked", desc := "(IJJ)Z" } : Jvm.MethodName)) ∈ lw_all := lw_g (lw_at lw_m6 142 rfl) rfl
theorem q1438 : (Jvm.Cond.static ({ cls := "BreathOnLoanModel", name := "isAsked", desc := "(IJJ)Z" } : Jvm.MethodName)) ∈ lw_all := lw_g (lw_at lw_m6 143 rfl) rfl
theorem q1439 : (Jvm.Cond.code ({ cls := "BreathOnLoanModel", name := "isAsked", desc := "(IJJ)Z" } : Jvm.MethodName) prog_18_method_60_code (5 : Nat) (Option.some Jvm.ClassFile.FieldType.boolean)) ∈ lw_all := lw_g (lw_at lw_m6 144 rfl) rfl
theorem q1440 : (Jvm.Cond.methodLink "BreathOnLoanModel" (267 : Nat) ({ cls := "BreathOnLoanModel", name := "held", desc := "(JII)I" } : Jvm.MethodName)) ∈ lw_all := lw_g (lw_at lw_m6 145 rfl) rfl
theorem q1441 : (Jvm.Cond.static ({ cls := "BreathOnLoanModel", name := "held", desc := "(JII)I" } : Jvm.MethodName)) ∈ lw_all := lw_g (lw_at lw_m6 146 rfl) rfl
theorem q1442 : (Jvm.Cond.code ({ cls := "BreathOnLoanModel", name := "held", desc := "(JII)I" } : Jvm.MethodName) prog_18_method_4_code (4 : Nat) (Option.some Jvm.ClassFile.FieldType.int)) ∈ lw_all := lw_g (lw_at lw_m6 147 rfl) rfl
theorem q1444 : (Jvm.Cond.instanceMethod ({ cls := "BreathOnLoanModel", name := "cost", desc := "(II)I" } : Jvm.MethodName)) ∈ lw_all := lw_g (lw_at lw_m6 149 rfl) rfl
theorem q1445 : (Jvm.Cond.selects "BreathOnLoanModel" ({ cls := "BreathOnLoanModel", name := "cost", desc := "(II)I" } : Jvm.MethodName) ({ cls := "BreathOnLoanModel", name := "cost", desc := "(II)I" } : Jvm.MethodName)) ∈ lw_all := lw_g (lw_at lw_m6 150 rfl) rfl
theorem q1446 : (Jvm.Cond.code ({ cls := "BreathOnLoanModel", name := "cost", desc := "(II)I" } : Jvm.MethodName) prog_18_method_70_code (3 : Nat) (Option.some Jvm.ClassFile.FieldType.int)) ∈ lw_all := lw_g (lw_at lw_m6 151 rfl) rfl
theorem q1447 : (Jvm.Cond.methodLink "BreathOnLoanModel" (293 : Nat) ({ cls := "BreathOnLoanModel", name := "costOf", desc := "(II)I" } : Jvm.MethodName)) ∈ lw_all := lw_g (lw_at lw_m6 152 rfl) rfl
theorem q1448 : (Jvm.Cond.privateMethod ({ cls := "BreathOnLoanModel", name := "costOf", desc := "(II)I" } : Jvm.MethodName)) ∈ lw_tbl := lw_at lw_m6 153 rfl
theorem q1449 : (Jvm.Cond.instanceMethod ({ cls := "BreathOnLoanModel", name := "costOf", desc := "(II)I" } : Jvm.MethodName)) ∈ lw_all := lw_g (lw_at lw_m6 154 rfl) rfl
theorem q1450 : (Jvm.Cond.code ({ cls := "BreathOnLoanModel", name := "costOf", desc := "(II)I" } : Jvm.MethodName) prog_18_method_65_code (3 : Nat) (Option.some Jvm.ClassFile.FieldType.int)) ∈ lw_all := lw_g (lw_at lw_m6 155 rfl) rfl
theorem q1451 : (Jvm.Cond.methodLink "BreathOnLoanModel" (274 : Nat) ({ cls := "BreathOnLoanModel", name := "nameBlower", desc := "(II)V" } : Jvm.MethodName)) ∈ lw_all := lw_g (lw_at lw_m6 156 rfl) rfl
theorem q1452 : (Jvm.Cond.privateMethod ({ cls := "BreathOnLoanModel", name := "nameBlower", desc := "(II)V" } : Jvm.MethodName)) ∈ lw_tbl := lw_at lw_m6 157 rfl
theorem q1453 : (Jvm.Cond.instanceMethod ({ cls := "BreathOnLoanModel", name := "nameBlower", desc := "(II)V" } : Jvm.MethodName)) ∈ lw_all := lw_g (lw_at lw_m6 158 rfl) rfl
theorem q1454 : (Jvm.Cond.code ({ cls := "BreathOnLoanModel", name := "nameBlower", desc := "(II)V" } : Jvm.MethodName) prog_18_method_64_code (3 : Nat) (Option.none : Option Jvm.ClassFile.FieldType)) ∈ lw_all := lw_g (lw_at lw_m6 159 rfl) rfl
theorem q1456 : (Jvm.Cond.instanceMethod ({ cls := "BreathOnLoanModel", name := "undo", desc := "()I" } : Jvm.MethodName)) ∈ lw_all := lw_g (lw_at lw_m6 161 rfl) rfl
theorem q1457 : (Jvm.Cond.selects "BreathOnLoanModel" ({ cls := "BreathOnLoanModel", name := "undo", desc := "()I" } : Jvm.MethodName) ({ cls := "BreathOnLoanModel", name := "undo", desc := "()I" } : Jvm.MethodName)) ∈ lw_all := lw_g (lw_at lw_m6 162 rfl) rfl
theorem q1458 : (Jvm.Cond.code ({ cls := "BreathOnLoanModel", name := "undo", desc := "()I" } : Jvm.MethodName) prog_18_method_72_code (3 : Nat) (Option.some Jvm.ClassFile.FieldType.int)) ∈ lw_all := lw_g (lw_at lw_m6 163 rfl) rfl
theorem q1460 : (Jvm.Cond.instanceMethod ({ cls := "BreathOnLoanModel", name := "begin", desc := "(I)I" } : Jvm.MethodName)) ∈ lw_all := lw_g (lw_at lw_m6 165 rfl) rfl
theorem q1461 : (Jvm.Cond.selects "BreathOnLoanModel" ({ cls := "BreathOnLoanModel", name := "begin", desc := "(I)I" } : Jvm.MethodName) ({ cls := "BreathOnLoanModel", name := "begin", desc := "(I)I" } : Jvm.MethodName)) ∈ lw_all := lw_g (lw_at lw_m6 166 rfl) rfl
theorem q1462 : (Jvm.Cond.code ({ cls := "BreathOnLoanModel", name := "begin", desc := "(I)I" } : Jvm.MethodName) prog_18_method_73_code (4 : Nat) (Option.some Jvm.ClassFile.FieldType.int)) ∈ lw_all := lw_g (lw_at lw_m6 167 rfl) rfl
theorem q1463 : (Jvm.Cond.methodLink "BreathOnLoanModel" (296 : Nat) ({ cls := "BreathOnLoanModel", name := "isKind", desc := "(I)Z" } : Jvm.MethodName)) ∈ lw_all := lw_g (lw_at lw_m6 168 rfl) rfl
theorem q1464 : (Jvm.Cond.privateMethod ({ cls := "BreathOnLoanModel", name := "isKind", desc := "(I)Z" } : Jvm.MethodName)) ∈ lw_tbl := lw_at lw_m6 169 rfl
theorem q1465 : (Jvm.Cond.instanceMethod ({ cls := "BreathOnLoanModel", name := "isKind", desc := "(I)Z" } : Jvm.MethodName)) ∈ lw_all := lw_g (lw_at lw_m6 170 rfl) rfl
theorem q1466 : (Jvm.Cond.code ({ cls := "BreathOnLoanModel", name := "isKind", desc := "(I)Z" } : Jvm.MethodName) prog_18_method_8_code (2 : Nat) (Option.some Jvm.ClassFile.FieldType.boolean)) ∈ lw_all := lw_g (lw_at lw_m6 171 rfl) rfl
theorem q1467 : (Jvm.Cond.methodLink "BreathOnLoanModel" (299 : Nat) ({ cls := "BreathOnLoanModel", name := "keep", desc := "()V" } : Jvm.MethodName)) ∈ lw_all := lw_g (lw_at lw_m6 172 rfl) rfl
theorem q1468 : (Jvm.Cond.privateMethod ({ cls := "BreathOnLoanModel", name := "keep", desc := "()V" } : Jvm.MethodName)) ∈ lw_tbl := lw_at lw_m6 173 rfl
theorem q1469 : (Jvm.Cond.instanceMethod ({ cls := "BreathOnLoanModel", name := "keep", desc := "()V" } : Jvm.MethodName)) ∈ lw_all := lw_g (lw_at lw_m6 174 rfl) rfl
theorem q1470 : (Jvm.Cond.code ({ cls := "BreathOnLoanModel", name := "keep", desc := "()V" } : Jvm.MethodName) prog_18_method_71_code (3 : Nat) (Option.none : Option Jvm.ClassFile.FieldType)) ∈ lw_all := lw_g (lw_at lw_m6 175 rfl) rfl
theorem q1471 : (Jvm.Cond.methodLink "BreathOnLoanModel" (66 : Nat) ({ cls := "BreathOnLoanModel", name := "pieceAt", desc := "(I)I" } : Jvm.MethodName)) ∈ lw_all := lw_g (lw_at lw_m6 176 rfl) rfl
theorem q1472 : (Jvm.Cond.static ({ cls := "BreathOnLoanModel", name := "pieceAt", desc := "(I)I" } : Jvm.MethodName)) ∈ lw_all := lw_g (lw_at lw_m6 177 rfl) rfl
theorem q1473 : (Jvm.Cond.code ({ cls := "BreathOnLoanModel", name := "pieceAt", desc := "(I)I" } : Jvm.MethodName) prog_18_method_13_code (1 : Nat) (Option.some Jvm.ClassFile.FieldType.int)) ∈ lw_all := lw_g (lw_at lw_m6 178 rfl) rfl
theorem q1475 : (Jvm.Cond.instanceMethod ({ cls := "BreathOnLoanModel", name := "blow", desc := "(III)I" } : Jvm.MethodName)) ∈ lw_all := lw_g (lw_at lw_m6 180 rfl) rfl
theorem q1476 : (Jvm.Cond.selects "BreathOnLoanModel" ({ cls := "BreathOnLoanModel", name := "blow", desc := "(III)I" } : Jvm.MethodName) ({ cls := "BreathOnLoanModel", name := "blow", desc := "(III)I" } : Jvm.MethodName)) ∈ lw_all := lw_g (lw_at lw_m6 181 rfl) rfl
theorem q1477 : (Jvm.Cond.code ({ cls := "BreathOnLoanModel", name := "blow", desc := "(III)I" } : Jvm.MethodName) prog_18_method_76_code (9 : Nat) (Option.some Jvm.ClassFile.FieldType.int)) ∈ lw_all := lw_g (lw_at lw_m6 182 rfl) rfl
theorem q1478 : (Jvm.Cond.methodLink "BreathOnLoanModel" (302 : Nat) ({ cls := "BreathOnLoanModel", name := "isPiece", desc := "(I)Z" } : Jvm.MethodName)) ∈ lw_all := lw_g (lw_at lw_m6 183 rfl) rfl
theorem q1479 : (Jvm.Cond.privateMethod ({ cls := "BreathOnLoanModel", name := "isPiece", desc := "(I)Z" } : Jvm.MethodName)) ∈ lw_tbl := lw_at lw_m6 184 rfl
theorem q1480 : (Jvm.Cond.instanceMethod ({ cls := "BreathOnLoanModel", name := "isPiece", desc := "(I)Z" } : Jvm.MethodName)) ∈ lw_all := lw_g (lw_at lw_m6 185 rfl) rfl
theorem q1481 : (Jvm.Cond.code ({ cls := "BreathOnLoanModel", name := "isPiece", desc := "(I)Z" } : Jvm.MethodName) prog_18_method_9_code (2 : Nat) (Option.some Jvm.ClassFile.FieldType.boolean)) ∈ lw_all := lw_g (lw_at lw_m6 186 rfl) rfl
theorem q1482 : (Jvm.Cond.methodLink "BreathOnLoanModel" (305 : Nat) ({ cls := "BreathOnLoanModel", name := "givenByAll", desc := "()I" } : Jvm.MethodName)) ∈ lw_all := lw_g (lw_at lw_m6 187 rfl) rfl
theorem q1483 : (Jvm.Cond.privateMethod ({ cls := "BreathOnLoanModel", name := "givenByAll", desc := "()I" } : Jvm.MethodName)) ∈ lw_tbl := lw_at lw_m6 188 rfl
theorem q1484 : (Jvm.Cond.instanceMethod ({ cls := "BreathOnLoanModel", name := "givenByAll", desc := "()I" } : Jvm.MethodName)) ∈ lw_all := lw_g (lw_at lw_m6 189 rfl) rfl
theorem q1485 : (Jvm.Cond.code ({ cls := "BreathOnLoanModel", name := "givenByAll", desc := "()I" } : Jvm.MethodName) prog_18_method_75_code (3 : Nat) (Option.some Jvm.ClassFile.FieldType.int)) ∈ lw_all := lw_g (lw_at lw_m6 190 rfl) rfl
theorem q1486 : (Jvm.Cond.methodLink "BreathOnLoanModel" (308 : Nat) ({ cls := "BreathOnLoanModel", name := "voicesOf", desc := "(I)I" } : Jvm.MethodName)) ∈ lw_all := lw_g (lw_at lw_m6 191 rfl) rfl
theorem q1487 : (Jvm.Cond.privateMethod ({ cls := "BreathOnLoanModel", name := "voicesOf", desc := "(I)I" } : Jvm.MethodName)) ∈ lw_tbl := lw_at lw_m6 192 rfl
theorem q1488 : (Jvm.Cond.instanceMethod ({ cls := "BreathOnLoanModel", name := "voicesOf", desc := "(I)I" } : Jvm.MethodName)) ∈ lw_all := lw_g (lw_at lw_m6 193 rfl) rfl
theorem q1489 : (Jvm.Cond.code ({ cls := "BreathOnLoanModel", name := "voicesOf", desc := "(I)I" } : Jvm.MethodName) prog_18_method_74_code (4 : Nat) (Option.some Jvm.ClassFile.FieldType.int)) ∈ lw_all := lw_g (lw_at lw_m6 194 rfl) rfl
theorem q1490 : (Jvm.Cond.methodLink "BreathOnLoanModel" (280 : Nat) ({ cls := "BreathOnLoanModel", name := "gave", desc := "(II)I" } : Jvm.MethodName)) ∈ lw_all := lw_g (lw_at lw_m6 195 rfl) rfl
theorem q1491 : (Jvm.Cond.privateMethod ({ cls := "BreathOnLoanModel", name := "gave", desc := "(II)I" } : Jvm.MethodName)) ∈ lw_tbl := lw_at lw_m6 196 rfl
theorem q1492 : (Jvm.Cond.instanceMethod ({ cls := "BreathOnLoanModel", name := "gave", desc := "(II)I" } : Jvm.MethodName)) ∈ lw_all := lw_g (lw_at lw_m6 197 rfl) rfl
theorem q1493 : (Jvm.Cond.code ({ cls := "BreathOnLoanModel", name := "gave", desc := "(II)I" } : Jvm.MethodName) prog_18_method_14_code (3 : Nat) (Option.some Jvm.ClassFile.FieldType.int)) ∈ lw_all := lw_g (lw_at lw_m6 198 rfl) rfl
theorem q1495 : (Jvm.Cond.instanceMethod ({ cls := "BreathOnLoanModel", name := "later", desc := "(I)I" } : Jvm.MethodName)) ∈ lw_all := lw_g (lw_at lw_m6 200 rfl) rfl
theorem q1496 : (Jvm.Cond.selects "BreathOnLoanModel" ({ cls := "BreathOnLoanModel", name := "later", desc := "(I)I" } : Jvm.MethodName) ({ cls := "BreathOnLoanModel", name := "later", desc := "(I)I" } : Jvm.MethodName)) ∈ lw_all := lw_g (lw_at lw_m6 201 rfl) rfl
theorem q1497 : (Jvm.Cond.code ({ cls := "BreathOnLoanModel", name := "later", desc := "(I)I" } : Jvm.MethodName) prog_18_method_77_code (4 : Nat) (Option.some Jvm.ClassFile.FieldType.int)) ∈ lw_all := lw_g (lw_at lw_m6 202 rfl) rfl
theorem q1499 : (Jvm.Cond.instanceMethod ({ cls := "BreathOnLoanModel", name := "sell", desc := "(I)I" } : Jvm.MethodName)) ∈ lw_all := lw_g (lw_at lw_m6 204 rfl) rfl
theorem q1500 : (Jvm.Cond.selects "BreathOnLoanModel" ({ cls := "BreathOnLoanModel", name := "sell", desc := "(I)I" } : Jvm.MethodName) ({ cls := "BreathOnLoanModel", name := "sell", desc := "(I)I" } : Jvm.MethodName)) ∈ lw_all := lw_g (lw_at lw_m6 205 rfl) rfl
theorem q1501 : (Jvm.Cond.code ({ cls := "BreathOnLoanModel", name := "sell", desc := "(I)I" } : Jvm.MethodName) prog_18_method_78_code (6 : Nat) (Option.some Jvm.ClassFile.FieldType.int)) ∈ lw_all := lw_g (lw_at lw_m6 206 rfl) rfl
theorem q1502 : (Jvm.Cond.methodLink "BreathOnLoanModel" (311 : Nat) ({ cls := "BreathOnLoanModel", name := "shareOf", desc := "(II)I" } : Jvm.MethodName)) ∈ lw_all := lw_g (lw_at lw_m6 207 rfl) rfl
theorem q1503 : (Jvm.Cond.privateMethod ({ cls := "BreathOnLoanModel", name := "shareOf", desc := "(II)I" } : Jvm.MethodName)) ∈ lw_tbl := lw_at lw_m6 208 rfl
theorem q1504 : (Jvm.Cond.instanceMethod ({ cls := "BreathOnLoanModel", name := "shareOf", desc := "(II)I" } : Jvm.MethodName)) ∈ lw_all := lw_g (lw_at lw_m6 209 rfl) rfl
theorem q1505 : (Jvm.Cond.code ({ cls := "BreathOnLoanModel", name := "shareOf", desc := "(II)I" } : Jvm.MethodName) prog_18_method_67_code (3 : Nat) (Option.some Jvm.ClassFile.FieldType.int)) ∈ lw_all := lw_g (lw_at lw_m6 210 rfl) rfl
theorem q1506 : (Jvm.Cond.methodLink "BreathOnLoanModel" (277 : Nat) ({ cls := "BreathOnLoanModel", name := "nameKind", desc := "(I)V" } : Jvm.MethodName)) ∈ lw_all := lw_g (lw_at lw_m6 211 rfl) rfl
theorem q1507 : (Jvm.Cond.privateMethod ({ cls := "BreathOnLoanModel", name := "nameKind", desc := "(I)V" } : Jvm.MethodName)) ∈ lw_tbl := lw_at lw_m6 212 rfl
theorem q1508 : (Jvm.Cond.instanceMethod ({ cls := "BreathOnLoanModel", name := "nameKind", desc := "(I)V" } : Jvm.MethodName)) ∈ lw_all := lw_g (lw_at lw_m6 213 rfl) rfl
theorem q1509 : (Jvm.Cond.code ({ cls := "BreathOnLoanModel", name := "nameKind", desc := "(I)V" } : Jvm.MethodName) prog_18_method_66_code (2 : Nat) (Option.none : Option Jvm.ClassFile.FieldType)) ∈ lw_all := lw_g (lw_at lw_m6 214 rfl) rfl
theorem q1511 : (Jvm.Cond.instanceMethod ({ cls := "BreathOnLoanModel", name := "played", desc := "(I)I" } : Jvm.MethodName)) ∈ lw_all := lw_g (lw_at lw_m6 216 rfl) rfl
theorem q1512 : (Jvm.Cond.selects "BreathOnLoanModel" ({ cls := "BreathOnLoanModel", name := "played", desc := "(I)I" } : Jvm.MethodName) ({ cls := "BreathOnLoanModel", name := "played", desc := "(I)I" } : Jvm.MethodName)) ∈ lw_all := lw_g (lw_at lw_m6 217 rfl) rfl
theorem q1513 : (Jvm.Cond.code ({ cls := "BreathOnLoanModel", name := "played", desc := "(I)I" } : Jvm.MethodName) prog_18_method_80_code (3 : Nat) (Option.some Jvm.ClassFile.FieldType.int)) ∈ lw_all := lw_g (lw_at lw_m6 218 rfl) rfl
theorem q1514 : (Jvm.Cond.methodLink "BreathOnLoanModel" (323 : Nat) ({ cls := "BreathOnLoanModel", name := "isPlayed", desc := "(I)Z" } : Jvm.MethodName)) ∈ lw_all := lw_g (lw_at lw_m6 219 rfl) rfl
theorem q1515 : (Jvm.Cond.privateMethod ({ cls := "BreathOnLoanModel", name := "isPlayed", desc := "(I)Z" } : Jvm.MethodName)) ∈ lw_tbl := lw_at lw_m6 220 rfl
theorem q1516 : (Jvm.Cond.instanceMethod ({ cls := "BreathOnLoanModel", name := "isPlayed", desc := "(I)Z" } : Jvm.MethodName)) ∈ lw_all := lw_g (lw_at lw_m6 221 rfl) rfl
theorem q1517 : (Jvm.Cond.code ({ cls := "BreathOnLoanModel", name := "isPlayed", desc := "(I)Z" } : Jvm.MethodName) prog_18_method_79_code (2 : Nat) (Option.some Jvm.ClassFile.FieldType.boolean)) ∈ lw_all := lw_g (lw_at lw_m6 222 rfl) rfl
theorem q1518 : (Jvm.Cond.methodLink "BreathOnLoanModel" (314 : Nat) ({ cls := "BreathOnLoanModel", name := "begin", desc := "(I)I" } : Jvm.MethodName)) ∈ lw_all := lw_g (lw_at lw_m6 223 rfl) rfl
theorem q1519 : (Jvm.Cond.methodLink "BreathOnLoanModel" (317 : Nat) ({ cls := "BreathOnLoanModel", name := "blow", desc := "(III)I" } : Jvm.MethodName)) ∈ lw_all := lw_g (lw_at lw_m6 224 rfl) rfl
theorem q1520 : (Jvm.Cond.methodLink "BreathOnLoanModel" (320 : Nat) ({ cls := "BreathOnLoanModel", name := "later", desc := "(I)I" } : Jvm.MethodName)) ∈ lw_all := lw_g (lw_at lw_m6 225 rfl) rfl
theorem q1522 : (Jvm.Cond.instanceMethod ({ cls := "BreathOnLoanModel", name := "of", desc := "(II)I" } : Jvm.MethodName)) ∈ lw_all := lw_g (lw_at lw_m6 227 rfl) rfl
theorem q1523 : (Jvm.Cond.selects "BreathOnLoanModel" ({ cls := "BreathOnLoanModel", name := "of", desc := "(II)I" } : Jvm.MethodName) ({ cls := "BreathOnLoanModel", name := "of", desc := "(II)I" } : Jvm.MethodName)) ∈ lw_all := lw_g (lw_at lw_m6 228 rfl) rfl
theorem q1524 : (Jvm.Cond.code ({ cls := "BreathOnLoanModel", name := "of", desc := "(II)I" } : Jvm.MethodName) prog_18_method_81_code (3 : Nat) (Option.some Jvm.ClassFile.FieldType.int)) ∈ lw_all := lw_g (lw_at lw_m6 229 rfl) rfl
theorem q1526 : (Jvm.Cond.instanceMethod ({ cls := "BreathOnLoanModel", name := "piece", desc := "(II)I" } : Jvm.MethodName)) ∈ lw_all := lw_g (lw_at lw_m6 231 rfl) rfl
theorem q1527 : (Jvm.Cond.selects "BreathOnLoanModel" ({ cls := "BreathOnLoanModel", name := "piece", desc := "(II)I" } : Jvm.MethodName) ({ cls := "BreathOnLoanModel", name := "piece", desc := "(II)I" } : Jvm.MethodName)) ∈ lw_all := lw_g (lw_at lw_m6 232 rfl) rfl
theorem q1528 : (Jvm.Cond.code ({ cls := "BreathOnLoanModel", name := "piece", desc := "(II)I" } : Jvm.MethodName) prog_18_method_82_code (3 : Nat) (Option.some Jvm.ClassFile.FieldType.int)) ∈ lw_all := lw_g (lw_at lw_m6 233 rfl) rfl
theorem q1530 : (Jvm.Cond.instanceMethod ({ cls := "BreathOnLoanModel", name := "bubble", desc := "(II)I" } : Jvm.MethodName)) ∈ lw_all := lw_g (lw_at lw_m6 235 rfl) rfl
theorem q1531 : (Jvm.Cond.selects "BreathOnLoanModel" ({ cls := "BreathOnLoanModel", name := "bubble", desc := "(II)I" } : Jvm.MethodName) ({ cls := "BreathOnLoanModel", name := "bubble", desc := "(II)I" } : Jvm.MethodName)) ∈ lw_all := lw_g (lw_at lw_m6 236 rfl) rfl
theorem q1532 : (Jvm.Cond.code ({ cls := "BreathOnLoanModel", name := "bubble", desc := "(II)I" } : Jvm.MethodName) prog_18_method_83_code (3 : Nat) (Option.some Jvm.ClassFile.FieldType.int)) ∈ lw_all := lw_g (lw_at lw_m6 237 rfl) rfl
theorem q1534 : (Jvm.Cond.instanceMethod ({ cls := "BreathOnLoanModel", name := "odds", desc := "(II)J" } : Jvm.MethodName)) ∈ lw_all := lw_g (lw_at lw_m6 239 rfl) rfl
theorem q1535 : (Jvm.Cond.selects "BreathOnLoanModel" ({ cls := "BreathOnLoanModel", name := "odds", desc := "(II)J" } : Jvm.MethodName) ({ cls := "BreathOnLoanModel", name := "odds", desc := "(II)J" } : Jvm.MethodName)) ∈ lw_all := lw_g (lw_at lw_m7 0 rfl) rfl
theorem q1536 : (Jvm.Cond.code ({ cls := "BreathOnLoanModel", name := "odds", desc := "(II)J" } : Jvm.MethodName) prog_18_method_85_code (8 : Nat) (Option.some Jvm.ClassFile.FieldType.long)) ∈ lw_all := lw_g (lw_at lw_m7 1 rfl) rfl
theorem q1537 : (Jvm.Cond.constantLong "BreathOnLoanModel" (326 : Nat) (-1 : Int64)) ∈ lw_all := lw_g (lw_at lw_m7 2 rfl) rfl
theorem q1538 : (Jvm.Cond.methodLink "BreathOnLoanModel" (283 : Nat) ({ cls := "BreathOnLoanModel", name := "has", desc := "(II)Z" } : Jvm.MethodName)) ∈ lw_all := lw_g (lw_at lw_m7 3 rfl) rfl
theorem q1539 : (Jvm.Cond.static ({ cls := "BreathOnLoanModel", name := "has", desc := "(II)Z" } : Jvm.MethodName)) ∈ lw_all := lw_g (lw_at lw_m7 4 rfl) rfl
theorem q1540 : (Jvm.Cond.code ({ cls := "BreathOnLoanModel", name := "has", desc := "(II)Z" } : Jvm.MethodName) prog_18_method_5_code (2 : Nat) (Option.some Jvm.ClassFile.FieldType.boolean)) ∈ lw_all := lw_g (lw_at lw_m7 5 rfl) rfl
theorem q1541 : (Jvm.Cond.methodLink "BreathOnLoanModel" (328 : Nat) ({ cls := "BreathOnLoanModel", name := "brittleOf", desc := "(I)I" } : Jvm.MethodName)) ∈ lw_all := lw_g (lw_at lw_m7 6 rfl) rfl
theorem q1542 : (Jvm.Cond.privateMethod ({ cls := "BreathOnLoanModel", name := "brittleOf", desc := "(I)I" } : Jvm.MethodName)) ∈ lw_tbl := lw_at lw_m7 7 rfl
theorem q1543 : (Jvm.Cond.instanceMethod ({ cls := "BreathOnLoanModel", name := "brittleOf", desc := "(I)I" } : Jvm.MethodName)) ∈ lw_all := lw_g (lw_at lw_m7 8 rfl) rfl
theorem q1544 : (Jvm.Cond.code ({ cls := "BreathOnLoanModel", name := "brittleOf", desc := "(I)I" } : Jvm.MethodName) prog_18_method_68_code (4 : Nat) (Option.some Jvm.ClassFile.FieldType.int)) ∈ lw_all := lw_g (lw_at lw_m7 9 rfl) rfl
theorem q1545 : (Jvm.Cond.constantLong "BreathOnLoanModel" (331 : Nat) (10 : Int64)) ∈ lw_all := lw_g (lw_at lw_m7 10 rfl) rfl
theorem q1546 : (Jvm.Cond.methodLink "BreathOnLoanModel" (333 : Nat) ({ cls := "BreathOnLoanModel", name := "common", desc := "(JJ)J" } : Jvm.MethodName)) ∈ lw_all := lw_g (lw_at lw_m7 11 rfl) rfl
theorem q1547 : (Jvm.Cond.static ({ cls := "BreathOnLoanModel", name := "common", desc := "(JJ)J" } : Jvm.MethodName)) ∈ lw_all := lw_g (lw_at lw_m7 12 rfl) rfl
theorem q1548 : (Jvm.Cond.code ({ cls := "BreathOnLoanModel", name := "common", desc := "(JJ)J" } : Jvm.MethodName) prog_18_method_84_code (10 : Nat) (Option.some Jvm.ClassFile.FieldType.long)) ∈ lw_all := lw_g (lw_at lw_m7 13 rfl) rfl
theorem q1550 : (Jvm.Cond.instanceMethod ({ cls := "BreathOnLoanModel", name := "plan", desc := "(III)I" } : Jvm.MethodName)) ∈ lw_all := lw_g (lw_at lw_m7 15 rfl) rfl
theorem q1551 : (Jvm.Cond.selects "BreathOnLoanModel" ({ cls := "BreathOnLoanModel", name := "plan", desc := "(III)I" } : Jvm.MethodName) ({ cls := "BreathOnLoanModel", name := "plan", desc := "(III)I" } : Jvm.MethodName)) ∈ lw_all := lw_g (lw_at lw_m7 16 rfl) rfl
theorem q1552 : (Jvm.Cond.code ({ cls := "BreathOnLoanModel", name := "plan", desc := "(III)I" } : Jvm.MethodName) prog_18_method_90_code (7 : Nat) (Option.some Jvm.ClassFile.FieldType.int)) ∈ lw_all := lw_g (lw_at lw_m7 17 rfl) rfl
theorem q1553 : (Jvm.Cond.methodLink "BreathOnLoanModel" (355 : Nat) ({ cls := "BreathOnLoanModel", name := "bits", desc := "(I)I" } : Jvm.MethodName)) ∈ lw_all := lw_g (lw_at lw_m7 18 rfl) rfl
theorem q1554 : (Jvm.Cond.static ({ cls := "BreathOnLoanModel", name := "bits", desc := "(I)I" } : Jvm.MethodName)) ∈ lw_all := lw_g (lw_at lw_m7 19 rfl) rfl
theorem q1555 : (Jvm.Cond.code ({ cls := "BreathOnLoanModel", name := "bits", desc := "(I)I" } : Jvm.MethodName) prog_18_method_6_code (3 : Nat) (Option.some Jvm.ClassFile.FieldType.int)) ∈ lw_all := lw_g (lw_at lw_m7 20 rfl) rfl
theorem q1556 : (Jvm.Cond.constant "BreathOnLoanModel" (358 : Nat) (-1000000 : Int32)) ∈ lw_all := lw_g (lw_at lw_m7 21 rfl) rfl
theorem q1557 : (Jvm.Cond.methodLink "BreathOnLoanModel" (359 : Nat) ({ cls := "BreathOnLoanModel", name := "reckon", desc := "(IIII)V" } : Jvm.MethodName)) ∈ lw_all := lw_g (lw_at lw_m7 22 rfl) rfl
theorem q1558 : (Jvm.Cond.privateMethod ({ cls := "BreathOnLoanModel", name := "reckon", desc := "(IIII)V" } : Jvm.MethodName)) ∈ lw_tbl := lw_at lw_m7 23 rfl
theorem q1559 : (Jvm.Cond.instanceMethod ({ cls := "BreathOnLoanModel", name := "reckon", desc := "(IIII)V" } : Jvm.MethodName)) ∈ lw_all := lw_g (lw_at lw_m7 24 rfl) rfl
theorem q1560 : (Jvm.Cond.code ({ cls := "BreathOnLoanModel", name := "reckon", desc := "(IIII)V" } : Jvm.MethodName) prog_18_method_89_code (9 : Nat) (Option.none : Option Jvm.ClassFile.FieldType)) ∈ lw_all := lw_g (lw_at lw_m7 25 rfl) rfl
theorem q1561 : (Jvm.Cond.methodLink "BreathOnLoanModel" (351 : Nat) ({ cls := "BreathOnLoanModel", name := "by", desc := "(IIIII)I" } : Jvm.MethodName)) ∈ lw_all := lw_g (lw_at lw_m7 26 rfl) rfl
theorem q1562 : (Jvm.Cond.privateMethod ({ cls := "BreathOnLoanModel", name := "by", desc := "(IIIII)I" } : Jvm.MethodName)) ∈ lw_tbl := lw_at lw_m7 27 rfl
theorem q1563 : (Jvm.Cond.instanceMethod ({ cls := "BreathOnLoanModel", name := "by", desc := "(IIIII)I" } : Jvm.MethodName)) ∈ lw_all := lw_g (lw_at lw_m7 28 rfl) rfl
theorem q1564 : (Jvm.Cond.code ({ cls := "BreathOnLoanModel", name := "by", desc := "(IIIII)I" } : Jvm.MethodName) prog_18_method_88_code (7 : Nat) (Option.some Jvm.ClassFile.FieldType.int)) ∈ lw_all := lw_g (lw_at lw_m7 29 rfl) rfl
theorem q1565 : (Jvm.Cond.methodLink "BreathOnLoanModel" (343 : Nat) ({ cls := "BreathOnLoanModel", name := "isTeam", desc := "(I)Z" } : Jvm.MethodName)) ∈ lw_all := lw_g (lw_at lw_m7 30 rfl) rfl
theorem q1566 : (Jvm.Cond.privateMethod ({ cls := "BreathOnLoanModel", name := "isTeam", desc := "(I)Z" } : Jvm.MethodName)) ∈ lw_tbl := lw_at lw_m7 31 rfl
theorem q1567 : (Jvm.Cond.instanceMethod ({ cls := "BreathOnLoanModel", name := "isTeam", desc := "(I)Z" } : Jvm.MethodName)) ∈ lw_all := lw_g (lw_at lw_m7 32 rfl) rfl
theorem q1568 : (Jvm.Cond.code ({ cls := "BreathOnLoanModel", name := "isTeam", desc := "(I)Z" } : Jvm.MethodName) prog_18_method_87_code (2 : Nat) (Option.some Jvm.ClassFile.FieldType.boolean)) ∈ lw_all := lw_g (lw_at lw_m7 33 rfl) rfl
theorem q1569 : (Jvm.Cond.methodLink "BreathOnLoanModel" (346 : Nat) ({ cls := "BreathOnLoanModel", name := "isDone", desc := "(IIII)Z" } : Jvm.MethodName)) ∈ lw_all := lw_g (lw_at lw_m7 34 rfl) rfl
theorem q1570 : (Jvm.Cond.privateMethod ({ cls := "BreathOnLoanModel", name := "isDone", desc := "(IIII)Z" } : Jvm.MethodName)) ∈ lw_tbl := lw_at lw_m7 35 rfl
theorem q1571 : (Jvm.Cond.instanceMethod ({ cls := "BreathOnLoanModel", name := "isDone", desc := "(IIII)Z" } : Jvm.MethodName)) ∈ lw_all := lw_g (lw_at lw_m7 36 rfl) rfl
theorem q1572 : (Jvm.Cond.code ({ cls := "BreathOnLoanModel", name := "isDone", desc := "(IIII)Z" } : Jvm.MethodName) prog_18_method_86_code (12 : Nat) (Option.some Jvm.ClassFile.FieldType.boolean)) ∈ lw_all := lw_g (lw_at lw_m7 37 rfl) rfl
theorem q1573 : (Jvm.Cond.constant "BreathOnLoanModel" (350 : Nat) (-100000000 : Int32)) ∈ lw_all := lw_g (lw_at lw_m7 38 rfl) rfl
theorem q1574 : (Jvm.Cond.methodLink "BreathOnLoanModel" (363 : Nat) ({ cls := "BreathOnLoanModel", name := "workOf", desc := "(III)I" } : Jvm.MethodName)) ∈ lw_all := lw_g (lw_at lw_m7 39 rfl) rfl
theorem q1575 : (Jvm.Cond.privateMethod ({ cls := "BreathOnLoanModel", name := "workOf", desc := "(III)I" } : Jvm.MethodName)) ∈ lw_tbl := lw_at lw_m7 40 rfl
theorem q1576 : (Jvm.Cond.instanceMethod ({ cls := "BreathOnLoanModel", name := "workOf", desc := "(III)I" } : Jvm.MethodName)) ∈ lw_all := lw_g (lw_at lw_m7 41 rfl) rfl
theorem q1577 : (Jvm.Cond.code ({ cls := "BreathOnLoanModel", name := "workOf", desc := "(III)I" } : Jvm.MethodName) prog_18_method_91_code (9 : Nat) (Option.some Jvm.ClassFile.FieldType.int)) ∈ lw_all := lw_g (lw_at lw_m7 42 rfl) rfl
theorem q1579 : (Jvm.Cond.instanceMethod ({ cls := "BreathOnLoanModel", name := "seen", desc := "(I)I" } : Jvm.MethodName)) ∈ lw_all := lw_g (lw_at lw_m7 44 rfl) rfl
theorem q1580 : (Jvm.Cond.selects "BreathOnLoanModel" ({ cls := "BreathOnLoanModel", name := "seen", desc := "(I)I" } : Jvm.MethodName) ({ cls := "BreathOnLoanModel", name := "seen", desc := "(I)I" } : Jvm.MethodName)) ∈ lw_all := lw_g (lw_at lw_m7 45 rfl) rfl
theorem q1581 : (Jvm.Cond.code ({ cls := "BreathOnLoanModel", name := "seen", desc := "(I)I" } : Jvm.MethodName) prog_18_method_92_code (2 : Nat) (Option.some Jvm.ClassFile.FieldType.int)) ∈ lw_all := lw_g (lw_at lw_m7 46 rfl) rfl
theorem q1583 : (Jvm.Cond.instanceMethod ({ cls := "BreathOnLoanModel", name := "whose", desc := "(I)I" } : Jvm.MethodName)) ∈ lw_all := lw_g (lw_at lw_m7 48 rfl) rfl
theorem q1584 : (Jvm.Cond.selects "BreathOnLoanModel" ({ cls := "BreathOnLoanModel", name := "whose", desc := "(I)I" } : Jvm.MethodName) ({ cls := "BreathOnLoanModel", name := "whose", desc := "(I)I" } : Jvm.MethodName)) ∈ lw_all := lw_g (lw_at lw_m7 49 rfl) rfl
theorem q1585 : (Jvm.Cond.code ({ cls := "BreathOnLoanModel", name := "whose", desc := "(I)I" } : Jvm.MethodName) prog_18_method_94_code (4 : Nat) (Option.some Jvm.ClassFile.FieldType.int)) ∈ lw_all := lw_g (lw_at lw_m7 50 rfl) rfl
theorem q1586 : (Jvm.Cond.methodLink "BreathOnLoanModel" (366 : Nat) ({ cls := "BreathOnLoanModel", name := "canBe", desc := "(I)Z" } : Jvm.MethodName)) ∈ lw_all := lw_g (lw_at lw_m7 51 rfl) rfl
theorem q1587 : (Jvm.Cond.privateMethod ({ cls := "BreathOnLoanModel", name := "canBe", desc := "(I)Z" } : Jvm.MethodName)) ∈ lw_tbl := lw_at lw_m7 52 rfl
theorem q1588 : (Jvm.Cond.instanceMethod ({ cls := "BreathOnLoanModel", name := "canBe", desc := "(I)Z" } : Jvm.MethodName)) ∈ lw_all := lw_g (lw_at lw_m7 53 rfl) rfl
theorem q1589 : (Jvm.Cond.code ({ cls := "BreathOnLoanModel", name := "canBe", desc := "(I)Z" } : Jvm.MethodName) prog_18_method_93_code (5 : Nat) (Option.some Jvm.ClassFile.FieldType.boolean)) ∈ lw_all := lw_g (lw_at lw_m7 54 rfl) rfl
theorem q1591 : (Jvm.Cond.instanceMethod ({ cls := "BreathOnLoanModel", name := "tell", desc := "(IIII)I" } : Jvm.MethodName)) ∈ lw_all := lw_g (lw_at lw_m7 56 rfl) rfl
theorem q1592 : (Jvm.Cond.selects "BreathOnLoanModel" ({ cls := "BreathOnLoanModel", name := "tell", desc := "(IIII)I" } : Jvm.MethodName) ({ cls := "BreathOnLoanModel", name := "tell", desc := "(IIII)I" } : Jvm.MethodName)) ∈ lw_all := lw_g (lw_at lw_m7 57 rfl) rfl
theorem q1593 : (Jvm.Cond.code ({ cls := "BreathOnLoanModel", name := "tell", desc := "(IIII)I" } : Jvm.MethodName) prog_18_method_95_code (6 : Nat) (Option.some Jvm.ClassFile.FieldType.int)) ∈ lw_all := lw_g (lw_at lw_m7 58 rfl) rfl
theorem q1595 : (Jvm.Cond.instanceMethod ({ cls := "BreathOnLoanModel", name := "liars", desc := "()I" } : Jvm.MethodName)) ∈ lw_all := lw_g (lw_at lw_m7 60 rfl) rfl
theorem q1596 : (Jvm.Cond.selects "BreathOnLoanModel" ({ cls := "BreathOnLoanModel", name := "liars", desc := "()I" } : Jvm.MethodName) ({ cls := "BreathOnLoanModel", name := "liars", desc := "()I" } : Jvm.MethodName)) ∈ lw_all := lw_g (lw_at lw_m7 61 rfl) rfl
theorem q1597 : (Jvm.Cond.code ({ cls := "BreathOnLoanModel", name := "liars", desc := "()I" } : Jvm.MethodName) prog_18_method_96_code (7 : Nat) (Option.some Jvm.ClassFile.FieldType.int)) ∈ lw_all := lw_g (lw_at lw_m7 62 rfl) rfl
theorem q1599 : (Jvm.Cond.instanceMethod ({ cls := "BreathOnLoanModel", name := "coughs", desc := "(IIII)I" } : Jvm.MethodName)) ∈ lw_all := lw_g (lw_at lw_m7 64 rfl) rfl
theorem q1600 : (Jvm.Cond.selects "BreathOnLoanModel" ({ cls := "BreathOnLoanModel", name := "coughs", desc := "(IIII)I" } : Jvm.MethodName) ({ cls := "BreathOnLoanModel", name := "coughs", desc := "(IIII)I" } : Jvm.MethodName)) ∈ lw_all := lw_g (lw_at lw_m7 65 rfl) rfl
theorem q1601 : (Jvm.Cond.code ({ cls := "BreathOnLoanModel", name := "coughs", desc := "(IIII)I" } : Jvm.MethodName) prog_18_method_97_code (9 : Nat) (Option.some Jvm.ClassFile.FieldType.int)) ∈ lw_all := lw_g (lw_at lw_m7 66 rfl) rfl
theorem q1603 : (Jvm.Cond.instanceMethod ({ cls := "BreathOnLoanModel", name := "image", desc := "()I" } : Jvm.MethodName)) ∈ lw_all := lw_g (lw_at lw_m7 68 rfl) rfl
theorem q1604 : (Jvm.Cond.selects "BreathOnLoanModel" ({ cls := "BreathOnLoanModel", name := "image", desc := "()I" } : Jvm.MethodName) ({ cls := "BreathOnLoanModel", name := "image", desc := "()I" } : Jvm.MethodName)) ∈ lw_all := lw_g (lw_at lw_m7 69 rfl) rfl
theorem q1605 : (Jvm.Cond.code ({ cls := "BreathOnLoanModel", name := "image", desc := "()I" } : Jvm.MethodName) prog_18_method_98_code (1 : Nat) (Option.some Jvm.ClassFile.FieldType.int)) ∈ lw_all := lw_g (lw_at lw_m7 70 rfl) rfl
theorem q1607 : (Jvm.Cond.instanceMethod ({ cls := "BreathOnLoanModel", name := "back", desc := "()I" } : Jvm.MethodName)) ∈ lw_all := lw_g (lw_at lw_m7 72 rfl) rfl
theorem q1608 : (Jvm.Cond.selects "BreathOnLoanModel" ({ cls := "BreathOnLoanModel", name := "back", desc := "()I" } : Jvm.MethodName) ({ cls := "BreathOnLoanModel", name := "back", desc := "()I" } : Jvm.MethodName)) ∈ lw_all := lw_g (lw_at lw_m7 73 rfl) rfl
theorem q1609 : (Jvm.Cond.code ({ cls := "BreathOnLoanModel", name := "back", desc := "()I" } : Jvm.MethodName) prog_18_method_99_code (1 : Nat) (Option.some Jvm.ClassFile.FieldType.int)) ∈ lw_all := lw_g (lw_at lw_m7 74 rfl) rfl
theorem q1611 : (Jvm.Cond.instanceMethod ({ cls := "BreathOnLoanModel", name := "about", desc := "(I)I" } : Jvm.MethodName)) ∈ lw_all := lw_g (lw_at lw_m7 76 rfl) rfl
theorem q1612 : (Jvm.Cond.selects "BreathOnLoanModel" ({ cls := "BreathOnLoanModel", name := "about", desc := "(I)I" } : Jvm.MethodName) ({ cls := "BreathOnLoanModel", name := "about", desc := "(I)I" } : Jvm.MethodName)) ∈ lw_all := lw_g (lw_at lw_m7 77 rfl) rfl
theorem q1613 : (Jvm.Cond.code ({ cls := "BreathOnLoanModel", name := "about", desc := "(I)I" } : Jvm.MethodName) prog_18_method_100_code (2 : Nat) (Option.some Jvm.ClassFile.FieldType.int)) ∈ lw_all := lw_g (lw_at lw_m7 78 rfl) rfl
theorem q1621 : (Jvm.Cond.castable "BreathOnLoanModel" "java/lang/Object") ∈ lw_tbl := lw_at lw_m7 86 rfl
theorem in_X2 : ∀ w ∈ wsX20, w ∈ lw_all := lw_in wsX20 [1159, 1161, 1163, 1165, 1167, 1169, 1171, 1173, 1175, 1177, 1179, 1181, 1183, 1185, 1187, 1189, 1191, 1193, 1195, 1197, 1199, 1201, 1203, 1205, 1207, 1209, 1211, 1213, 1215, 1217, 1219, 1221] (by decide +kernel) (by decide +kernel)
