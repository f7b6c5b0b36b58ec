/-! BreathOnLoan$State -/
set_option maxRecDepth 100000
def RX1 : String := "BreathOnLoan$State"
def TX1 : u_T := fun k => match k with
  | 0 => ("BreathOnLoan$State", "n", "[I", true)
  | 1 => ("BreathOnLoan$State", "row", "[I", true)
  | 2 => ("BreathOnLoan$State", "seen", "[I", true)
  | 3 => ("BreathOnLoan$State", "blower", "[[I", true)
  | 4 => ("BreathOnLoan$State", "kind", "[[I", true)
  | 5 => ("BreathOnLoan$State", "told", "[[I", true)
  | 6 => ("BreathOnLoan$State", "step", "[[I", true)
  | _ => ("BreathOnLoan$State", "text", "[LBreathOnLoan$Text;", true)
def tyX1 : Nat → FieldType := fun k => match k with
  | 0 => .array .int
  | 1 => .array .int
  | 2 => .array .int
  | 3 => .array (.array .int)
  | 4 => .array (.array .int)
  | 5 => .array (.array .int)
  | 6 => .array (.array .int)
  | _ => .array (.object "BreathOnLoan$Text")
abbrev wsX10 : List Cond := u_ws RX1 TX1 8
theorem nmX1 : ∀ a, a < 8 → ∀ b, b < 8 → a ≠ b → (TX1 a).2.1 ≠ (TX1 b).2.1 := by decide +kernel
theorem tyX1_ok : ∀ k, k < 8 → parseFieldDescriptor (TX1 k).2.2.1 = some (tyX1 k) := by decide +kernel
abbrev cX1_init : ByteArray := prog_12_method_1_code
def yX1_init : MethodName := ⟨RX1, "<init>", "()V"⟩
def dkwX1_init_3 : List UInt8 := [181, 0, 32, 42, 7, 189, 0, 35, 181, 0, 37, 42, 180, 0, 9, 6, 2, 79, 177]
abbrev dktX1_init_3 : List UInt8 := dkwX1_init_3 ++ []
def dkwX1_init_2 : List UInt8 := [181, 0, 26, 42, 16, 20, 7, 197, 0, 21, 2, 181, 0, 29, 42, 16, 30, 17, 1, 19, 197, 0, 21, 2]
abbrev dktX1_init_2 : List UInt8 := dkwX1_init_2 ++ dktX1_init_3
def dkwX1_init_1 : List UInt8 := [188, 10, 181, 0, 18, 42, 16, 6, 6, 197, 0, 21, 2, 181, 0, 23, 42, 16, 6, 6, 197, 0, 21, 2]
abbrev dktX1_init_1 : List UInt8 := dkwX1_init_1 ++ dktX1_init_2
def dkwX1_init_0 : List UInt8 := [42, 183, 0, 3, 42, 16, 7, 188, 10, 181, 0, 9, 42, 17, 1, 19, 188, 10, 181, 0, 15, 42, 16, 8]
abbrev dktX1_init_0 : List UInt8 := dkwX1_init_0 ++ dktX1_init_1
theorem dksX1_init_0 : cX1_init.data.toList.drop 0 = dktX1_init_0 := by decide +kernel
theorem dksX1_init_1 : cX1_init.data.toList.drop 24 = dktX1_init_1 := dk_seg dksX1_init_0 24 rfl rfl
theorem dksX1_init_2 : cX1_init.data.toList.drop 48 = dktX1_init_2 := dk_seg dksX1_init_1 24 rfl rfl
theorem dksX1_init_3 : cX1_init.data.toList.drop 72 = dktX1_init_3 := dk_seg dksX1_init_2 24 rfl rfl
theorem dX1_init_0 : decode cX1_init 0 = .ok (.aload_n 0, 1) := dk_42 (dk_at dksX1_init_0 0 rfl rfl)
theorem dX1_init_1 : decode cX1_init 1 = .ok (.invokespecial 3, 3) := dk_183 0 3 (dk_at dksX1_init_0 1 rfl rfl)
theorem dX1_init_4 : decode cX1_init 4 = .ok (.aload_n 0, 1) := dk_42 (dk_at dksX1_init_0 4 rfl rfl)
theorem dX1_init_5 : decode cX1_init 5 = .ok (.bipush 7, 2) := dk_16 7 (dk_at dksX1_init_0 5 rfl rfl)
theorem dX1_init_7 : decode cX1_init 7 = .ok (.newarray .int, 2) := dk_188_10 (dk_at dksX1_init_0 7 rfl rfl)
theorem dX1_init_9 : decode cX1_init 9 = .ok (.putfield 9, 3) := dk_181 0 9 (dk_at dksX1_init_0 9 rfl rfl)
theorem dX1_init_12 : decode cX1_init 12 = .ok (.aload_n 0, 1) := dk_42 (dk_at dksX1_init_0 12 rfl rfl)
theorem dX1_init_13 : decode cX1_init 13 = .ok (.sipush 275, 3) := dk_17 1 19 (dk_at dksX1_init_0 13 rfl rfl)
theorem dX1_init_16 : decode cX1_init 16 = .ok (.newarray .int, 2) := dk_188_10 (dk_at dksX1_init_0 16 rfl rfl)
theorem dX1_init_18 : decode cX1_init 18 = .ok (.putfield 15, 3) := dk_181 0 15 (dk_at dksX1_init_0 18 rfl rfl)
theorem dX1_init_21 : decode cX1_init 21 = .ok (.aload_n 0, 1) := dk_42 (dk_at dksX1_init_0 21 rfl rfl)
theorem dX1_init_22 : decode cX1_init 22 = .ok (.bipush 8, 2) := dk_16 8 (dk_at dksX1_init_0 22 rfl rfl)
theorem dX1_init_24 : decode cX1_init 24 = .ok (.newarray .int, 2) := dk_188_10 (dk_at dksX1_init_1 0 rfl rfl)
theorem dX1_init_26 : decode cX1_init 26 = .ok (.putfield 18, 3) := dk_181 0 18 (dk_at dksX1_init_1 2 rfl rfl)
theorem dX1_init_29 : decode cX1_init 29 = .ok (.aload_n 0, 1) := dk_42 (dk_at dksX1_init_1 5 rfl rfl)
theorem dX1_init_30 : decode cX1_init 30 = .ok (.bipush 6, 2) := dk_16 6 (dk_at dksX1_init_1 6 rfl rfl)
theorem dX1_init_32 : decode cX1_init 32 = .ok (.iconst 3, 1) := dk_6 (dk_at dksX1_init_1 8 rfl rfl)
theorem dX1_init_33 : decode cX1_init 33 = .ok (.multianewarray 21 2, 4) := by decide +kernel
theorem dX1_init_37 : decode cX1_init 37 = .ok (.putfield 23, 3) := dk_181 0 23 (dk_at dksX1_init_1 13 rfl rfl)
theorem dX1_init_40 : decode cX1_init 40 = .ok (.aload_n 0, 1) := dk_42 (dk_at dksX1_init_1 16 rfl rfl)
theorem dX1_init_41 : decode cX1_init 41 = .ok (.bipush 6, 2) := dk_16 6 (dk_at dksX1_init_1 17 rfl rfl)
theorem dX1_init_43 : decode cX1_init 43 = .ok (.iconst 3, 1) := dk_6 (dk_at dksX1_init_1 19 rfl rfl)
theorem dX1_init_44 : decode cX1_init 44 = .ok (.multianewarray 21 2, 4) := by decide +kernel
theorem dX1_init_48 : decode cX1_init 48 = .ok (.putfield 26, 3) := dk_181 0 26 (dk_at dksX1_init_2 0 rfl rfl)
theorem dX1_init_51 : decode cX1_init 51 = .ok (.aload_n 0, 1) := dk_42 (dk_at dksX1_init_2 3 rfl rfl)
theorem dX1_init_52 : decode cX1_init 52 = .ok (.bipush 20, 2) := dk_16 20 (dk_at dksX1_init_2 4 rfl rfl)
theorem dX1_init_54 : decode cX1_init 54 = .ok (.iconst 4, 1) := dk_7 (dk_at dksX1_init_2 6 rfl rfl)
theorem dX1_init_55 : decode cX1_init 55 = .ok (.multianewarray 21 2, 4) := by decide +kernel
theorem dX1_init_59 : decode cX1_init 59 = .ok (.putfield 29, 3) := dk_181 0 29 (dk_at dksX1_init_2 11 rfl rfl)
theorem dX1_init_62 : decode cX1_init 62 = .ok (.aload_n 0, 1) := dk_42 (dk_at dksX1_init_2 14 rfl rfl)
theorem dX1_init_63 : decode cX1_init 63 = .ok (.bipush 30, 2) := dk_16 30 (dk_at dksX1_init_2 15 rfl rfl)
theorem dX1_init_65 : decode cX1_init 65 = .ok (.sipush 275, 3) := dk_17 1 19 (dk_at dksX1_init_2 17 rfl rfl)
theorem dX1_init_68 : decode cX1_init 68 = .ok (.multianewarray 21 2, 4) := by decide +kernel
theorem dX1_init_72 : decode cX1_init 72 = .ok (.putfield 32, 3) := dk_181 0 32 (dk_at dksX1_init_3 0 rfl rfl)
theorem dX1_init_75 : decode cX1_init 75 = .ok (.aload_n 0, 1) := dk_42 (dk_at dksX1_init_3 3 rfl rfl)
theorem dX1_init_76 : decode cX1_init 76 = .ok (.iconst 4, 1) := dk_7 (dk_at dksX1_init_3 4 rfl rfl)
theorem dX1_init_77 : decode cX1_init 77 = .ok (.anewarray 35, 3) := dk_189 0 35 (dk_at dksX1_init_3 5 rfl rfl)
theorem dX1_init_80 : decode cX1_init 80 = .ok (.putfield 37, 3) := dk_181 0 37 (dk_at dksX1_init_3 8 rfl rfl)
theorem dX1_init_83 : decode cX1_init 83 = .ok (.aload_n 0, 1) := dk_42 (dk_at dksX1_init_3 11 rfl rfl)
theorem dX1_init_84 : decode cX1_init 84 = .ok (.getfield 9, 3) := dk_180 0 9 (dk_at dksX1_init_3 12 rfl rfl)
theorem dX1_init_87 : decode cX1_init 87 = .ok (.iconst 3, 1) := dk_6 (dk_at dksX1_init_3 15 rfl rfl)
theorem dX1_init_88 : decode cX1_init 88 = .ok (.iconst (-1), 1) := dk_2 (dk_at dksX1_init_3 16 rfl rfl)
theorem dX1_init_89 : decode cX1_init 89 = .ok (.iastore, 1) := dk_79 (dk_at dksX1_init_3 17 rfl rfl)
theorem dX1_init_90 : decode cX1_init 90 = .ok (.return_, 1) := dk_177 (dk_at dksX1_init_3 18 rfl rfl)
abbrev cX1_be : ByteArray := prog_12_method_4_code
def yX1_be : MethodName := ⟨RX1, "be", "(LBreathOnLoan$State;)V"⟩
def dkwX1_be_4 : List UInt8 := [177]
abbrev dktX1_be_4 : List UInt8 := dkwX1_be_4 ++ []
def dkwX1_be_3 : List UInt8 := [180, 0, 32, 42, 180, 0, 32, 184, 0, 51, 43, 180, 0, 37, 3, 42, 180, 0, 37, 3, 7, 184, 0, 41]
abbrev dktX1_be_3 : List UInt8 := dkwX1_be_3 ++ dktX1_be_4
def dkwX1_be_2 : List UInt8 := [180, 0, 26, 42, 180, 0, 26, 184, 0, 51, 43, 180, 0, 29, 42, 180, 0, 29, 184, 0, 51, 43]
abbrev dktX1_be_2 : List UInt8 := dkwX1_be_2 ++ dktX1_be_3
def dkwX1_be_1 : List UInt8 := [180, 0, 18, 42, 180, 0, 18, 184, 0, 47, 43, 180, 0, 23, 42, 180, 0, 23, 184, 0, 51, 43]
abbrev dktX1_be_1 : List UInt8 := dkwX1_be_1 ++ dktX1_be_2
def dkwX1_be_0 : List UInt8 := [43, 180, 0, 9, 42, 180, 0, 9, 184, 0, 47, 43, 180, 0, 15, 42, 180, 0, 15, 184, 0, 47, 43]
abbrev dktX1_be_0 : List UInt8 := dkwX1_be_0 ++ dktX1_be_1
theorem dksX1_be_0 : cX1_be.data.toList.drop 0 = dktX1_be_0 := by decide +kernel
theorem dksX1_be_1 : cX1_be.data.toList.drop 23 = dktX1_be_1 := dk_seg dksX1_be_0 23 rfl rfl
theorem dksX1_be_2 : cX1_be.data.toList.drop 45 = dktX1_be_2 := dk_seg dksX1_be_1 22 rfl rfl
theorem dksX1_be_3 : cX1_be.data.toList.drop 67 = dktX1_be_3 := dk_seg dksX1_be_2 22 rfl rfl
theorem dksX1_be_4 : cX1_be.data.toList.drop 91 = dktX1_be_4 := dk_seg dksX1_be_3 24 rfl rfl
theorem dX1_be_0 : decode cX1_be 0 = .ok (.aload_n 1, 1) := dk_43 (dk_at dksX1_be_0 0 rfl rfl)
theorem dX1_be_1 : decode cX1_be 1 = .ok (.getfield 9, 3) := dk_180 0 9 (dk_at dksX1_be_0 1 rfl rfl)
theorem dX1_be_4 : decode cX1_be 4 = .ok (.aload_n 0, 1) := dk_42 (dk_at dksX1_be_0 4 rfl rfl)
theorem dX1_be_5 : decode cX1_be 5 = .ok (.getfield 9, 3) := dk_180 0 9 (dk_at dksX1_be_0 5 rfl rfl)
theorem dX1_be_8 : decode cX1_be 8 = .ok (.invokestatic 47, 3) := dk_184 0 47 (dk_at dksX1_be_0 8 rfl rfl)
theorem dX1_be_11 : decode cX1_be 11 = .ok (.aload_n 1, 1) := dk_43 (dk_at dksX1_be_0 11 rfl rfl)
theorem dX1_be_12 : decode cX1_be 12 = .ok (.getfield 15, 3) := dk_180 0 15 (dk_at dksX1_be_0 12 rfl rfl)
theorem dX1_be_15 : decode cX1_be 15 = .ok (.aload_n 0, 1) := dk_42 (dk_at dksX1_be_0 15 rfl rfl)
theorem dX1_be_16 : decode cX1_be 16 = .ok (.getfield 15, 3) := dk_180 0 15 (dk_at dksX1_be_0 16 rfl rfl)
theorem dX1_be_19 : decode cX1_be 19 = .ok (.invokestatic 47, 3) := dk_184 0 47 (dk_at dksX1_be_0 19 rfl rfl)
theorem dX1_be_22 : decode cX1_be 22 = .ok (.aload_n 1, 1) := dk_43 (dk_at dksX1_be_0 22 rfl rfl)
theorem dX1_be_23 : decode cX1_be 23 = .ok (.getfield 18, 3) := dk_180 0 18 (dk_at dksX1_be_1 0 rfl rfl)
theorem dX1_be_26 : decode cX1_be 26 = .ok (.aload_n 0, 1) := dk_42 (dk_at dksX1_be_1 3 rfl rfl)
theorem dX1_be_27 : decode cX1_be 27 = .ok (.getfield 18, 3) := dk_180 0 18 (dk_at dksX1_be_1 4 rfl rfl)
theorem dX1_be_30 : decode cX1_be 30 = .ok (.invokestatic 47, 3) := dk_184 0 47 (dk_at dksX1_be_1 7 rfl rfl)
theorem dX1_be_33 : decode cX1_be 33 = .ok (.aload_n 1, 1) := dk_43 (dk_at dksX1_be_1 10 rfl rfl)
theorem dX1_be_34 : decode cX1_be 34 = .ok (.getfield 23, 3) := dk_180 0 23 (dk_at dksX1_be_1 11 rfl rfl)
theorem dX1_be_37 : decode cX1_be 37 = .ok (.aload_n 0, 1) := dk_42 (dk_at dksX1_be_1 14 rfl rfl)
theorem dX1_be_38 : decode cX1_be 38 = .ok (.getfield 23, 3) := dk_180 0 23 (dk_at dksX1_be_1 15 rfl rfl)
theorem dX1_be_41 : decode cX1_be 41 = .ok (.invokestatic 51, 3) := dk_184 0 51 (dk_at dksX1_be_1 18 rfl rfl)
theorem dX1_be_44 : decode cX1_be 44 = .ok (.aload_n 1, 1) := dk_43 (dk_at dksX1_be_1 21 rfl rfl)
theorem dX1_be_45 : decode cX1_be 45 = .ok (.getfield 26, 3) := dk_180 0 26 (dk_at dksX1_be_2 0 rfl rfl)
theorem dX1_be_48 : decode cX1_be 48 = .ok (.aload_n 0, 1) := dk_42 (dk_at dksX1_be_2 3 rfl rfl)
theorem dX1_be_49 : decode cX1_be 49 = .ok (.getfield 26, 3) := dk_180 0 26 (dk_at dksX1_be_2 4 rfl rfl)
theorem dX1_be_52 : decode cX1_be 52 = .ok (.invokestatic 51, 3) := dk_184 0 51 (dk_at dksX1_be_2 7 rfl rfl)
theorem dX1_be_55 : decode cX1_be 55 = .ok (.aload_n 1, 1) := dk_43 (dk_at dksX1_be_2 10 rfl rfl)
theorem dX1_be_56 : decode cX1_be 56 = .ok (.getfield 29, 3) := dk_180 0 29 (dk_at dksX1_be_2 11 rfl rfl)
theorem dX1_be_59 : decode cX1_be 59 = .ok (.aload_n 0, 1) := dk_42 (dk_at dksX1_be_2 14 rfl rfl)
theorem dX1_be_60 : decode cX1_be 60 = .ok (.getfield 29, 3) := dk_180 0 29 (dk_at dksX1_be_2 15 rfl rfl)
theorem dX1_be_63 : decode cX1_be 63 = .ok (.invokestatic 51, 3) := dk_184 0 51 (dk_at dksX1_be_2 18 rfl rfl)
theorem dX1_be_66 : decode cX1_be 66 = .ok (.aload_n 1, 1) := dk_43 (dk_at dksX1_be_2 21 rfl rfl)
theorem dX1_be_67 : decode cX1_be 67 = .ok (.getfield 32, 3) := dk_180 0 32 (dk_at dksX1_be_3 0 rfl rfl)
theorem dX1_be_70 : decode cX1_be 70 = .ok (.aload_n 0, 1) := dk_42 (dk_at dksX1_be_3 3 rfl rfl)
theorem dX1_be_71 : decode cX1_be 71 = .ok (.getfield 32, 3) := dk_180 0 32 (dk_at dksX1_be_3 4 rfl rfl)
theorem dX1_be_74 : decode cX1_be 74 = .ok (.invokestatic 51, 3) := dk_184 0 51 (dk_at dksX1_be_3 7 rfl rfl)
theorem dX1_be_77 : decode cX1_be 77 = .ok (.aload_n 1, 1) := dk_43 (dk_at dksX1_be_3 10 rfl rfl)
theorem dX1_be_78 : decode cX1_be 78 = .ok (.getfield 37, 3) := dk_180 0 37 (dk_at dksX1_be_3 11 rfl rfl)
theorem dX1_be_81 : decode cX1_be 81 = .ok (.iconst 0, 1) := dk_3 (dk_at dksX1_be_3 14 rfl rfl)
theorem dX1_be_82 : decode cX1_be 82 = .ok (.aload_n 0, 1) := dk_42 (dk_at dksX1_be_3 15 rfl rfl)
theorem dX1_be_83 : decode cX1_be 83 = .ok (.getfield 37, 3) := dk_180 0 37 (dk_at dksX1_be_3 16 rfl rfl)
theorem dX1_be_86 : decode cX1_be 86 = .ok (.iconst 0, 1) := dk_3 (dk_at dksX1_be_3 19 rfl rfl)
theorem dX1_be_87 : decode cX1_be 87 = .ok (.iconst 4, 1) := dk_7 (dk_at dksX1_be_3 20 rfl rfl)
theorem dX1_be_88 : decode cX1_be 88 = .ok (.invokestatic 41, 3) := dk_184 0 41 (dk_at dksX1_be_3 21 rfl rfl)
theorem dX1_be_91 : decode cX1_be 91 = .ok (.return_, 1) := dk_177 (dk_at dksX1_be_4 0 rfl rfl)
abbrev cX1_copy : ByteArray := prog_12_method_2_code
def yX1_copy : MethodName := ⟨RX1, "copy", "([I[I)V"⟩
def dkwX1_copy_0 : List UInt8 := [42, 3, 43, 3, 42, 190, 184, 0, 41, 177]
abbrev dktX1_copy_0 : List UInt8 := dkwX1_copy_0 ++ []
theorem dksX1_copy_0 : cX1_copy.data.toList.drop 0 = dktX1_copy_0 := by decide +kernel
theorem dX1_copy_0 : decode cX1_copy 0 = .ok (.aload_n 0, 1) := dk_42 (dk_at dksX1_copy_0 0 rfl rfl)
theorem dX1_copy_1 : decode cX1_copy 1 = .ok (.iconst 0, 1) := dk_3 (dk_at dksX1_copy_0 1 rfl rfl)
theorem dX1_copy_2 : decode cX1_copy 2 = .ok (.aload_n 1, 1) := dk_43 (dk_at dksX1_copy_0 2 rfl rfl)
theorem dX1_copy_3 : decode cX1_copy 3 = .ok (.iconst 0, 1) := dk_3 (dk_at dksX1_copy_0 3 rfl rfl)
theorem dX1_copy_4 : decode cX1_copy 4 = .ok (.aload_n 0, 1) := dk_42 (dk_at dksX1_copy_0 4 rfl rfl)
theorem dX1_copy_5 : decode cX1_copy 5 = .ok (.arraylength, 1) := dk_190 (dk_at dksX1_copy_0 5 rfl rfl)
theorem dX1_copy_6 : decode cX1_copy 6 = .ok (.invokestatic 41, 3) := dk_184 0 41 (dk_at dksX1_copy_0 6 rfl rfl)
theorem dX1_copy_9 : decode cX1_copy 9 = .ok (.return_, 1) := dk_177 (dk_at dksX1_copy_0 9 rfl rfl)
abbrev cX1_copy_2 : ByteArray := prog_12_method_3_code
def yX1_copy_2 : MethodName := ⟨RX1, "copy", "([[I[[I)V"⟩
def dkwX1_copy_2_0 : List UInt8 := [3, 61, 28, 42, 190, 162, 0, 18, 42, 28, 50, 43, 28, 50, 184, 0, 47, 132, 2, 1, 167, 255, 238, 177]
abbrev dktX1_copy_2_0 : List UInt8 := dkwX1_copy_2_0 ++ []
theorem dksX1_copy_2_0 : cX1_copy_2.data.toList.drop 0 = dktX1_copy_2_0 := by decide +kernel
theorem dX1_copy_2_0 : decode cX1_copy_2 0 = .ok (.iconst 0, 1) := dk_3 (dk_at dksX1_copy_2_0 0 rfl rfl)
theorem dX1_copy_2_1 : decode cX1_copy_2 1 = .ok (.istore_n 2, 1) := dk_61 (dk_at dksX1_copy_2_0 1 rfl rfl)
theorem dX1_copy_2_2 : decode cX1_copy_2 2 = .ok (.iload_n 2, 1) := dk_28 (dk_at dksX1_copy_2_0 2 rfl rfl)
theorem dX1_copy_2_3 : decode cX1_copy_2 3 = .ok (.aload_n 0, 1) := dk_42 (dk_at dksX1_copy_2_0 3 rfl rfl)
theorem dX1_copy_2_4 : decode cX1_copy_2 4 = .ok (.arraylength, 1) := dk_190 (dk_at dksX1_copy_2_0 4 rfl rfl)
theorem dX1_copy_2_5 : decode cX1_copy_2 5 = .ok (.if_icmp .ge 18, 3) := dk_162 0 18 (dk_at dksX1_copy_2_0 5 rfl rfl)
theorem dX1_copy_2_8 : decode cX1_copy_2 8 = .ok (.aload_n 0, 1) := dk_42 (dk_at dksX1_copy_2_0 8 rfl rfl)
theorem dX1_copy_2_9 : decode cX1_copy_2 9 = .ok (.iload_n 2, 1) := dk_28 (dk_at dksX1_copy_2_0 9 rfl rfl)
theorem dX1_copy_2_10 : decode cX1_copy_2 10 = .ok (.aaload, 1) := dk_50 (dk_at dksX1_copy_2_0 10 rfl rfl)
theorem dX1_copy_2_11 : decode cX1_copy_2 11 = .ok (.aload_n 1, 1) := dk_43 (dk_at dksX1_copy_2_0 11 rfl rfl)
theorem dX1_copy_2_12 : decode cX1_copy_2 12 = .ok (.iload_n 2, 1) := dk_28 (dk_at dksX1_copy_2_0 12 rfl rfl)
theorem dX1_copy_2_13 : decode cX1_copy_2 13 = .ok (.aaload, 1) := dk_50 (dk_at dksX1_copy_2_0 13 rfl rfl)
theorem dX1_copy_2_14 : decode cX1_copy_2 14 = .ok (.invokestatic 47, 3) := dk_184 0 47 (dk_at dksX1_copy_2_0 14 rfl rfl)
theorem dX1_copy_2_17 : decode cX1_copy_2 17 = .ok (.iinc 2 1, 3) := dk_132 2 1 (dk_at dksX1_copy_2_0 17 rfl rfl)
theorem dX1_copy_2_20 : decode cX1_copy_2 20 = .ok (.goto (-18), 3) := dk_167 255 238 (dk_at dksX1_copy_2_0 20 rfl rfl)
theorem dX1_copy_2_23 : decode cX1_copy_2 23 = .ok (.return_, 1) := dk_177 (dk_at dksX1_copy_2_0 23 rfl rfl)
abbrev cX1_keeps : ByteArray := prog_12_method_5_code
def yX1_keeps : MethodName := ⟨RX1, "keeps", "()V"⟩
def dkwX1_keeps_3 : List UInt8 := [180, 0, 9, 7, 92, 46, 4, 96, 79, 177]
abbrev dktX1_keeps_3 : List UInt8 := dkwX1_keeps_3 ++ []
def dkwX1_keeps_2 : List UInt8 := [46, 4, 100, 79, 42, 180, 0, 15, 42, 180, 0, 32, 42, 180, 0, 9, 7, 46, 50, 184, 0, 47, 42]
abbrev dktX1_keeps_2 : List UInt8 := dkwX1_keeps_2 ++ dktX1_keeps_3
def dkwX1_keeps_1 : List UInt8 := [50, 42, 180, 0, 32, 27, 4, 100, 50, 184, 0, 47, 132, 1, 1, 167, 255, 230, 42, 180, 0, 9, 7, 92]
abbrev dktX1_keeps_1 : List UInt8 := dkwX1_keeps_1 ++ dktX1_keeps_2
def dkwX1_keeps_0 : List UInt8 := [42, 180, 0, 9, 7, 46, 16, 30, 160, 0, 44, 4, 60, 27, 16, 30, 162, 0, 26, 42, 180, 0, 32, 27]
abbrev dktX1_keeps_0 : List UInt8 := dkwX1_keeps_0 ++ dktX1_keeps_1
theorem dksX1_keeps_0 : cX1_keeps.data.toList.drop 0 = dktX1_keeps_0 := by decide +kernel
theorem dksX1_keeps_1 : cX1_keeps.data.toList.drop 24 = dktX1_keeps_1 := dk_seg dksX1_keeps_0 24 rfl rfl
theorem dksX1_keeps_2 : cX1_keeps.data.toList.drop 48 = dktX1_keeps_2 := dk_seg dksX1_keeps_1 24 rfl rfl
theorem dksX1_keeps_3 : cX1_keeps.data.toList.drop 71 = dktX1_keeps_3 := dk_seg dksX1_keeps_2 23 rfl rfl
theorem dX1_keeps_0 : decode cX1_keeps 0 = .ok (.aload_n 0, 1) := dk_42 (dk_at dksX1_keeps_0 0 rfl rfl)
theorem dX1_keeps_1 : decode cX1_keeps 1 = .ok (.getfield 9, 3) := dk_180 0 9 (dk_at dksX1_keeps_0 1 rfl rfl)
theorem dX1_keeps_4 : decode cX1_keeps 4 = .ok (.iconst 4, 1) := dk_7 (dk_at dksX1_keeps_0 4 rfl rfl)
theorem dX1_keeps_5 : decode cX1_keeps 5 = .ok (.iaload, 1) := dk_46 (dk_at dksX1_keeps_0 5 rfl rfl)
theorem dX1_keeps_6 : decode cX1_keeps 6 = .ok (.bipush 30, 2) := dk_16 30 (dk_at dksX1_keeps_0 6 rfl rfl)
theorem dX1_keeps_8 : decode cX1_keeps 8 = .ok (.if_icmp .ne 44, 3) := dk_160 0 44 (dk_at dksX1_keeps_0 8 rfl rfl)
theorem dX1_keeps_11 : decode cX1_keeps 11 = .ok (.iconst 1, 1) := dk_4 (dk_at dksX1_keeps_0 11 rfl rfl)
theorem dX1_keeps_12 : decode cX1_keeps 12 = .ok (.istore_n 1, 1) := dk_60 (dk_at dksX1_keeps_0 12 rfl rfl)
theorem dX1_keeps_13 : decode cX1_keeps 13 = .ok (.iload_n 1, 1) := dk_27 (dk_at dksX1_keeps_0 13 rfl rfl)
theorem dX1_keeps_14 : decode cX1_keeps 14 = .ok (.bipush 30, 2) := dk_16 30 (dk_at dksX1_keeps_0 14 rfl rfl)
theorem dX1_keeps_16 : decode cX1_keeps 16 = .ok (.if_icmp .ge 26, 3) := dk_162 0 26 (dk_at dksX1_keeps_0 16 rfl rfl)
theorem dX1_keeps_19 : decode cX1_keeps 19 = .ok (.aload_n 0, 1) := dk_42 (dk_at dksX1_keeps_0 19 rfl rfl)
theorem dX1_keeps_20 : decode cX1_keeps 20 = .ok (.getfield 32, 3) := dk_180 0 32 (dk_at dksX1_keeps_0 20 rfl rfl)
theorem dX1_keeps_23 : decode cX1_keeps 23 = .ok (.iload_n 1, 1) := dk_27 (dk_at dksX1_keeps_0 23 rfl rfl)
theorem dX1_keeps_24 : decode cX1_keeps 24 = .ok (.aaload, 1) := dk_50 (dk_at dksX1_keeps_1 0 rfl rfl)
theorem dX1_keeps_25 : decode cX1_keeps 25 = .ok (.aload_n 0, 1) := dk_42 (dk_at dksX1_keeps_1 1 rfl rfl)
theorem dX1_keeps_26 : decode cX1_keeps 26 = .ok (.getfield 32, 3) := dk_180 0 32 (dk_at dksX1_keeps_1 2 rfl rfl)
theorem dX1_keeps_29 : decode cX1_keeps 29 = .ok (.iload_n 1, 1) := dk_27 (dk_at dksX1_keeps_1 5 rfl rfl)
theorem dX1_keeps_30 : decode cX1_keeps 30 = .ok (.iconst 1, 1) := dk_4 (dk_at dksX1_keeps_1 6 rfl rfl)
theorem dX1_keeps_31 : decode cX1_keeps 31 = .ok (.isub, 1) := dk_100 (dk_at dksX1_keeps_1 7 rfl rfl)
theorem dX1_keeps_32 : decode cX1_keeps 32 = .ok (.aaload, 1) := dk_50 (dk_at dksX1_keeps_1 8 rfl rfl)
theorem dX1_keeps_33 : decode cX1_keeps 33 = .ok (.invokestatic 47, 3) := dk_184 0 47 (dk_at dksX1_keeps_1 9 rfl rfl)
theorem dX1_keeps_36 : decode cX1_keeps 36 = .ok (.iinc 1 1, 3) := dk_132 1 1 (dk_at dksX1_keeps_1 12 rfl rfl)
theorem dX1_keeps_39 : decode cX1_keeps 39 = .ok (.goto (-26), 3) := dk_167 255 230 (dk_at dksX1_keeps_1 15 rfl rfl)
theorem dX1_keeps_42 : decode cX1_keeps 42 = .ok (.aload_n 0, 1) := dk_42 (dk_at dksX1_keeps_1 18 rfl rfl)
theorem dX1_keeps_43 : decode cX1_keeps 43 = .ok (.getfield 9, 3) := dk_180 0 9 (dk_at dksX1_keeps_1 19 rfl rfl)
theorem dX1_keeps_46 : decode cX1_keeps 46 = .ok (.iconst 4, 1) := dk_7 (dk_at dksX1_keeps_1 22 rfl rfl)
theorem dX1_keeps_47 : decode cX1_keeps 47 = .ok (.dup2, 1) := dk_92 (dk_at dksX1_keeps_1 23 rfl rfl)
theorem dX1_keeps_48 : decode cX1_keeps 48 = .ok (.iaload, 1) := dk_46 (dk_at dksX1_keeps_2 0 rfl rfl)
theorem dX1_keeps_49 : decode cX1_keeps 49 = .ok (.iconst 1, 1) := dk_4 (dk_at dksX1_keeps_2 1 rfl rfl)
theorem dX1_keeps_50 : decode cX1_keeps 50 = .ok (.isub, 1) := dk_100 (dk_at dksX1_keeps_2 2 rfl rfl)
theorem dX1_keeps_51 : decode cX1_keeps 51 = .ok (.iastore, 1) := dk_79 (dk_at dksX1_keeps_2 3 rfl rfl)
theorem dX1_keeps_52 : decode cX1_keeps 52 = .ok (.aload_n 0, 1) := dk_42 (dk_at dksX1_keeps_2 4 rfl rfl)
theorem dX1_keeps_53 : decode cX1_keeps 53 = .ok (.getfield 15, 3) := dk_180 0 15 (dk_at dksX1_keeps_2 5 rfl rfl)
theorem dX1_keeps_56 : decode cX1_keeps 56 = .ok (.aload_n 0, 1) := dk_42 (dk_at dksX1_keeps_2 8 rfl rfl)
theorem dX1_keeps_57 : decode cX1_keeps 57 = .ok (.getfield 32, 3) := dk_180 0 32 (dk_at dksX1_keeps_2 9 rfl rfl)
theorem dX1_keeps_60 : decode cX1_keeps 60 = .ok (.aload_n 0, 1) := dk_42 (dk_at dksX1_keeps_2 12 rfl rfl)
theorem dX1_keeps_61 : decode cX1_keeps 61 = .ok (.getfield 9, 3) := dk_180 0 9 (dk_at dksX1_keeps_2 13 rfl rfl)
theorem dX1_keeps_64 : decode cX1_keeps 64 = .ok (.iconst 4, 1) := dk_7 (dk_at dksX1_keeps_2 16 rfl rfl)
theorem dX1_keeps_65 : decode cX1_keeps 65 = .ok (.iaload, 1) := dk_46 (dk_at dksX1_keeps_2 17 rfl rfl)
theorem dX1_keeps_66 : decode cX1_keeps 66 = .ok (.aaload, 1) := dk_50 (dk_at dksX1_keeps_2 18 rfl rfl)
theorem dX1_keeps_67 : decode cX1_keeps 67 = .ok (.invokestatic 47, 3) := dk_184 0 47 (dk_at dksX1_keeps_2 19 rfl rfl)
theorem dX1_keeps_70 : decode cX1_keeps 70 = .ok (.aload_n 0, 1) := dk_42 (dk_at dksX1_keeps_2 22 rfl rfl)
theorem dX1_keeps_71 : decode cX1_keeps 71 = .ok (.getfield 9, 3) := dk_180 0 9 (dk_at dksX1_keeps_3 0 rfl rfl)
theorem dX1_keeps_74 : decode cX1_keeps 74 = .ok (.iconst 4, 1) := dk_7 (dk_at dksX1_keeps_3 3 rfl rfl)
theorem dX1_keeps_75 : decode cX1_keeps 75 = .ok (.dup2, 1) := dk_92 (dk_at dksX1_keeps_3 4 rfl rfl)
theorem dX1_keeps_76 : decode cX1_keeps 76 = .ok (.iaload, 1) := dk_46 (dk_at dksX1_keeps_3 5 rfl rfl)
theorem dX1_keeps_77 : decode cX1_keeps 77 = .ok (.iconst 1, 1) := dk_4 (dk_at dksX1_keeps_3 6 rfl rfl)
theorem dX1_keeps_78 : decode cX1_keeps 78 = .ok (.iadd, 1) := dk_96 (dk_at dksX1_keeps_3 7 rfl rfl)
theorem dX1_keeps_79 : decode cX1_keeps 79 = .ok (.iastore, 1) := dk_79 (dk_at dksX1_keeps_3 8 rfl rfl)
theorem dX1_keeps_80 : decode cX1_keeps 80 = .ok (.return_, 1) := dk_177 (dk_at dksX1_keeps_3 9 rfl rfl)
theorem q97 : (Jvm.Cond.initialized "BreathOnLoan$State") ∈ lw_all := lw_g (lw_at lw_m1 2 rfl) rfl
theorem q138 : (Jvm.Cond.instantiable "BreathOnLoan$State" (8 : Nat)) ∈ lw_all := lw_g (lw_at lw_m1 43 rfl) rfl
theorem q140 : (Jvm.Cond.instanceMethod ({ cls := "BreathOnLoan$State", name := "<init>", desc := "()V" } : Jvm.MethodName)) ∈ lw_all := lw_g (lw_at lw_m1 45 rfl) rfl
theorem q141 : (Jvm.Cond.code ({ cls := "BreathOnLoan$State", name := "<init>", desc := "()V" } : Jvm.MethodName) prog_12_method_1_code (1 : Nat) (Option.none : Option Jvm.ClassFile.FieldType)) ∈ lw_all := lw_g (lw_at lw_m1 46 rfl) rfl
theorem q142 : (Jvm.Cond.methodLink "BreathOnLoan$State" (3 : Nat) ({ cls := "java/lang/Object", name := "<init>", desc := "()V" } : Jvm.MethodName)) ∈ lw_all := lw_g (lw_at lw_m1 47 rfl) rfl
theorem q143 : (Jvm.Cond.classLink "BreathOnLoan$State" (21 : Nat) "[[I") ∈ lw_all := lw_g (lw_at lw_m1 48 rfl) rfl
theorem q145 : (Jvm.Cond.classLink "BreathOnLoan$State" (35 : Nat) "BreathOnLoan$Text") ∈ lw_all := lw_g (lw_at lw_m1 50 rfl) rfl
theorem q147 : (Jvm.Cond.fieldLink "BreathOnLoan$State" (9 : Nat) "BreathOnLoan$State" "n" "[I") ∈ lw_all := lw_g (lw_at lw_m1 52 rfl) rfl
theorem q149 : (Jvm.Cond.fieldLink "BreathOnLoan$State" (15 : Nat) "BreathOnLoan$State" "row" "[I") ∈ lw_all := lw_g (lw_at lw_m1 54 rfl) rfl
theorem q151 : (Jvm.Cond.fieldLink "BreathOnLoan$State" (18 : Nat) "BreathOnLoan$State" "seen" "[I") ∈ lw_all := lw_g (lw_at lw_m1 56 rfl) rfl
theorem q153 : (Jvm.Cond.fieldLink "BreathOnLoan$State" (23 : Nat) "BreathOnLoan$State" "blower" "[[I") ∈ lw_all := lw_g (lw_at lw_m1 58 rfl) rfl
theorem q155 : (Jvm.Cond.fieldLink "BreathOnLoan$State" (26 : Nat) "BreathOnLoan$State" "kind" "[[I") ∈ lw_all := lw_g (lw_at lw_m1 60 rfl) rfl
theorem q157 : (Jvm.Cond.fieldLink "BreathOnLoan$State" (29 : Nat) "BreathOnLoan$State" "told" "[[I") ∈ lw_all := lw_g (lw_at lw_m1 62 rfl) rfl
theorem q159 : (Jvm.Cond.fieldLink "BreathOnLoan$State" (32 : Nat) "BreathOnLoan$State" "step" "[[I") ∈ lw_all := lw_g (lw_at lw_m1 64 rfl) rfl
theorem q161 : (Jvm.Cond.fieldLink "BreathOnLoan$State" (37 : Nat) "BreathOnLoan$State" "text" "[LBreathOnLoan$Text;") ∈ lw_all := lw_g (lw_at lw_m1 66 rfl) rfl
theorem q163 : (Jvm.Cond.laysFinal "BreathOnLoan$State" "BreathOnLoan$State" "n" "[I") ∈ lw_all := lw_g (lw_at lw_m1 68 rfl) rfl
theorem q164 : (Jvm.Cond.soleField "BreathOnLoan$State" "n") ∈ lw_all := lw_g (lw_at lw_m1 69 rfl) rfl
theorem q165 : (Jvm.Cond.laysFinal "BreathOnLoan$State" "BreathOnLoan$State" "row" "[I") ∈ lw_all := lw_g (lw_at lw_m1 70 rfl) rfl
theorem q166 : (Jvm.Cond.soleField "BreathOnLoan$State" "row") ∈ lw_all := lw_g (lw_at lw_m1 71 rfl) rfl
theorem q167 : (Jvm.Cond.laysFinal "BreathOnLoan$State" "BreathOnLoan$State" "seen" "[I") ∈ lw_all := lw_g (lw_at lw_m1 72 rfl) rfl
theorem q168 : (Jvm.Cond.soleField "BreathOnLoan$State" "seen") ∈ lw_all := lw_g (lw_at lw_m1 73 rfl) rfl
theorem q169 : (Jvm.Cond.laysFinal "BreathOnLoan$State" "BreathOnLoan$State" "blower" "[[I") ∈ lw_all := lw_g (lw_at lw_m1 74 rfl) rfl
theorem q170 : (Jvm.Cond.soleField "BreathOnLoan$State" "blower") ∈ lw_all := lw_g (lw_at lw_m1 75 rfl) rfl
theorem q171 : (Jvm.Cond.laysFinal "BreathOnLoan$State" "BreathOnLoan$State" "kind" "[[I") ∈ lw_all := lw_g (lw_at lw_m1 76 rfl) rfl
theorem q172 : (Jvm.Cond.soleField "BreathOnLoan$State" "kind") ∈ lw_all := lw_g (lw_at lw_m1 77 rfl) rfl
theorem q173 : (Jvm.Cond.laysFinal "BreathOnLoan$State" "BreathOnLoan$State" "told" "[[I") ∈ lw_all := lw_g (lw_at lw_m1 78 rfl) rfl
theorem q174 : (Jvm.Cond.soleField "BreathOnLoan$State" "told") ∈ lw_all := lw_g (lw_at lw_m1 79 rfl) rfl
theorem q175 : (Jvm.Cond.laysFinal "BreathOnLoan$State" "BreathOnLoan$State" "step" "[[I") ∈ lw_all := lw_g (lw_at lw_m1 80 rfl) rfl
theorem q176 : (Jvm.Cond.soleField "BreathOnLoan$State" "step") ∈ lw_all := lw_g (lw_at lw_m1 81 rfl) rfl
theorem q177 : (Jvm.Cond.laysFinal "BreathOnLoan$State" "BreathOnLoan$State" "text" "[LBreathOnLoan$Text;") ∈ lw_all := lw_g (lw_at lw_m1 82 rfl) rfl
theorem q178 : (Jvm.Cond.soleField "BreathOnLoan$State" "text") ∈ lw_all := lw_g (lw_at lw_m1 83 rfl) rfl
theorem q179 : (Jvm.Cond.superclass "BreathOnLoan$State" "java/lang/Object") ∈ lw_all := lw_g (lw_at lw_m1 84 rfl) rfl
theorem q185 : (Jvm.Cond.instanceMethod ({ cls := "BreathOnLoan$State", name := "be", desc := "(LBreathOnLoan$State;)V" } : Jvm.MethodName)) ∈ lw_all := lw_g (lw_at lw_m1 90 rfl) rfl
theorem q186 : (Jvm.Cond.selects "BreathOnLoan$State" ({ cls := "BreathOnLoan$State", name := "be", desc := "(LBreathOnLoan$State;)V" } : Jvm.MethodName) ({ cls := "BreathOnLoan$State", name := "be", desc := "(LBreathOnLoan$State;)V" } : Jvm.MethodName)) ∈ lw_all := lw_g (lw_at lw_m1 91 rfl) rfl
theorem q187 : (Jvm.Cond.code ({ cls := "BreathOnLoan$State", name := "be", desc := "(LBreathOnLoan$State;)V" } : Jvm.MethodName) prog_12_method_4_code (2 : Nat) (Option.none : Option Jvm.ClassFile.FieldType)) ∈ lw_all := lw_g (lw_at lw_m1 92 rfl) rfl
theorem q188 : (Jvm.Cond.methodLink "BreathOnLoan$State" (47 : Nat) ({ cls := "BreathOnLoan$State", name := "copy", desc := "([I[I)V" } : Jvm.MethodName)) ∈ lw_all := lw_g (lw_at lw_m1 93 rfl) rfl
theorem q189 : (Jvm.Cond.static ({ cls := "BreathOnLoan$State", name := "copy", desc := "([I[I)V" } : Jvm.MethodName)) ∈ lw_all := lw_g (lw_at lw_m1 94 rfl) rfl
theorem q190 : (Jvm.Cond.code ({ cls := "BreathOnLoan$State", name := "copy", desc := "([I[I)V" } : Jvm.MethodName) prog_12_method_2_code (2 : Nat) (Option.none : Option Jvm.ClassFile.FieldType)) ∈ lw_all := lw_g (lw_at lw_m1 95 rfl) rfl
theorem q191 : (Jvm.Cond.methodLink "BreathOnLoan$State" (41 : Nat) ({ cls := "java/lang/System", name := "arraycopy", desc := "(Ljava/lang/Object;ILjava/lang/Object;II)V" } : Jvm.MethodName)) ∈ lw_all := lw_g (lw_at lw_m1 96 rfl) rfl
theorem q194 : (Jvm.Cond.methodLink "BreathOnLoan$State" (51 : Nat) ({ cls := "BreathOnLoan$State", name := "copy", desc := "([[I[[I)V" } : Jvm.MethodName)) ∈ lw_all := lw_g (lw_at lw_m1 99 rfl) rfl
theorem q195 : (Jvm.Cond.static ({ cls := "BreathOnLoan$State", name := "copy", desc := "([[I[[I)V" } : Jvm.MethodName)) ∈ lw_all := lw_g (lw_at lw_m1 100 rfl) rfl
theorem q196 : (Jvm.Cond.code ({ cls := "BreathOnLoan$State", name := "copy", desc := "([[I[[I)V" } : Jvm.MethodName) prog_12_method_3_code (3 : Nat) (Option.none : Option Jvm.ClassFile.FieldType)) ∈ lw_all := lw_g (lw_at lw_m1 101 rfl) rfl
theorem q590 : (Jvm.Cond.selects "BreathOnLoan$State" ({ cls := "java/lang/Object", name := "getClass", desc := "()Ljava/lang/Class;" } : Jvm.MethodName) ({ cls := "java/lang/Object", name := "getClass", desc := "()Ljava/lang/Class;" } : Jvm.MethodName)) ∈ lw_all := lw_g (lw_at lw_m3 15 rfl) rfl
theorem q931 : (Jvm.Cond.instanceMethod ({ cls := "BreathOnLoan$State", name := "keeps", desc := "()V" } : Jvm.MethodName)) ∈ lw_all := lw_g (lw_at lw_m4 116 rfl) rfl
theorem q932 : (Jvm.Cond.selects "BreathOnLoan$State" ({ cls := "BreathOnLoan$State", name := "keeps", desc := "()V" } : Jvm.MethodName) ({ cls := "BreathOnLoan$State", name := "keeps", desc := "()V" } : Jvm.MethodName)) ∈ lw_all := lw_g (lw_at lw_m4 117 rfl) rfl
theorem q933 : (Jvm.Cond.code ({ cls := "BreathOnLoan$State", name := "keeps", desc := "()V" } : Jvm.MethodName) prog_12_method_5_code (2 : Nat) (Option.none : Option Jvm.ClassFile.FieldType)) ∈ lw_all := lw_g (lw_at lw_m4 118 rfl) rfl
theorem q1620 : (Jvm.Cond.castable "BreathOnLoan$State" "java/lang/Object") ∈ lw_tbl := lw_at lw_m7 85 rfl
theorem in_X1 : ∀ w ∈ wsX10, w ∈ lw_all := lw_in wsX10 [163, 165, 167, 169, 171, 173, 175, 177] (by decide +kernel) (by decide +kernel)
/-! BreathOnLoan$Tokens -/
set_option maxRecDepth 100000
def RX3 : String := "BreathOnLoan$Tokens"
def TX3 : u_T := fun k => match k with
  | 0 => ("BreathOnLoan$Tokens", "text", "[B", true)
  | 1 => ("BreathOnLoan$Tokens", "size", "I", true)
  | 2 => ("BreathOnLoan$Tokens", "at", "I", false)
  | 3 => ("BreathOnLoan$Tokens", "token", "I", false)
  | 4 => ("BreathOnLoan$Tokens", "sort", "I", false)
  | 5 => ("BreathOnLoan$Tokens", "number", "I", false)
  | 6 => ("BreathOnLoan$Tokens", "open", "I", false)
  | _ => ("BreathOnLoan$Tokens", "kind", "I", false)
def tyX3 : Nat → FieldType := fun k => match k with
  | 0 => .array .byte
  | 1 => .int
  | 2 => .int
  | 3 => .int
  | 4 => .int
  | 5 => .int
  | 6 => .int
  | _ => .int
abbrev wsX30 : List Cond := u_ws RX3 TX3 8
theorem nmX3 : ∀ a, a < 8 → ∀ b, b < 8 → a ≠ b → (TX3 a).2.1 ≠ (TX3 b).2.1 := by decide +kernel
theorem tyX3_ok : ∀ k, k < 8 → parseFieldDescriptor (TX3 k).2.2.1 = some (tyX3 k) := by decide +kernel
abbrev cX3_init : ByteArray := prog_15_method_1_code
def yX3_init : MethodName := ⟨RX3, "<init>", "([BI)V"⟩
def dkwX3_init_0 : List UInt8 := [42, 183, 0, 3, 42, 43, 181, 0, 9, 42, 28, 181, 0, 15, 177]
abbrev dktX3_init_0 : List UInt8 := dkwX3_init_0 ++ []
theorem dksX3_init_0 : cX3_init.data.toList.drop 0 = dktX3_init_0 := by decide +kernel
theorem dX3_init_0 : decode cX3_init 0 = .ok (.aload_n 0, 1) := dk_42 (dk_at dksX3_init_0 0 rfl rfl)
theorem dX3_init_1 : decode cX3_init 1 = .ok (.invokespecial 3, 3) := dk_183 0 3 (dk_at dksX3_init_0 1 rfl rfl)
theorem dX3_init_4 : decode cX3_init 4 = .ok (.aload_n 0, 1) := dk_42 (dk_at dksX3_init_0 4 rfl rfl)
theorem dX3_init_5 : decode cX3_init 5 = .ok (.aload_n 1, 1) := dk_43 (dk_at dksX3_init_0 5 rfl rfl)
theorem dX3_init_6 : decode cX3_init 6 = .ok (.putfield 9, 3) := dk_181 0 9 (dk_at dksX3_init_0 6 rfl rfl)
theorem dX3_init_9 : decode cX3_init 9 = .ok (.aload_n 0, 1) := dk_42 (dk_at dksX3_init_0 9 rfl rfl)
theorem dX3_init_10 : decode cX3_init 10 = .ok (.iload_n 2, 1) := dk_28 (dk_at dksX3_init_0 10 rfl rfl)
theorem dX3_init_11 : decode cX3_init 11 = .ok (.putfield 15, 3) := dk_181 0 15 (dk_at dksX3_init_0 11 rfl rfl)
theorem dX3_init_14 : decode cX3_init 14 = .ok (.return_, 1) := dk_177 (dk_at dksX3_init_0 14 rfl rfl)
abbrev cX3_read : ByteArray := prog_15_method_10_code
def yX3_read : MethodName := ⟨RX3, "read", "()LBreathOnLoan$Text;"⟩
def dkwX3_read_7 : List UInt8 := [182, 0, 111, 43, 89, 180, 0, 90, 4, 96, 181, 0, 90, 167, 255, 92, 43, 176]
abbrev dktX3_read_7 : List UInt8 := dkwX3_read_7 ++ []
def dkwX3_read_6 : List UInt8 := [182, 0, 101, 87, 167, 0, 16, 43, 180, 0, 86, 42, 180, 0, 83, 42, 182, 0, 107, 83, 42, 16, 59]
abbrev dktX3_read_6 : List UInt8 := dkwX3_read_6 ++ dktX3_read_7
def dkwX3_read_5 : List UInt8 := [3, 61, 42, 182, 0, 74, 28, 153, 0, 22, 43, 180, 0, 93, 42, 43, 180, 0, 90, 182, 0, 97]
abbrev dktX3_read_5 : List UInt8 := dkwX3_read_5 ++ dktX3_read_6
def dkwX3_read_4 : List UInt8 := [160, 0, 10, 42, 16, 6, 182, 0, 70, 191, 42, 180, 0, 25, 17, 0, 203, 164, 0, 7, 4, 167, 0, 4]
abbrev dktX3_read_4 : List UInt8 := dkwX3_read_4 ++ dktX3_read_5
def dkwX3_read_3 : List UInt8 := [180, 0, 86, 42, 180, 0, 83, 50, 198, 0, 9, 42, 7, 182, 0, 70, 191, 43, 180, 0, 90, 16, 24]
abbrev dktX3_read_3 : List UInt8 := dkwX3_read_3 ++ dktX3_read_4
def dkwX3_read_2 : List UInt8 := [191, 42, 42, 180, 0, 25, 17, 0, 200, 100, 181, 0, 83, 42, 180, 0, 25, 17, 0, 203, 163, 0, 21, 43]
abbrev dktX3_read_2 : List UInt8 := dkwX3_read_2 ++ dktX3_read_3
def dkwX3_read_1 : List UInt8 := [180, 0, 25, 17, 0, 200, 161, 0, 13, 42, 180, 0, 25, 17, 0, 206, 164, 0, 9, 42, 4, 182, 0, 70]
abbrev dktX3_read_1 : List UInt8 := dkwX3_read_1 ++ dktX3_read_2
def dkwX3_read_0 : List UInt8 := [187, 0, 80, 89, 183, 0, 82, 76, 42, 182, 0, 74, 42, 180, 0, 25, 17, 1, 45, 159, 0, 160, 42]
abbrev dktX3_read_0 : List UInt8 := dkwX3_read_0 ++ dktX3_read_1
theorem dksX3_read_0 : cX3_read.data.toList.drop 0 = dktX3_read_0 := by decide +kernel
theorem dksX3_read_1 : cX3_read.data.toList.drop 23 = dktX3_read_1 := dk_seg dksX3_read_0 23 rfl rfl
theorem dksX3_read_2 : cX3_read.data.toList.drop 47 = dktX3_read_2 := dk_seg dksX3_read_1 24 rfl rfl
theorem dksX3_read_3 : cX3_read.data.toList.drop 71 = dktX3_read_3 := dk_seg dksX3_read_2 24 rfl rfl
theorem dksX3_read_4 : cX3_read.data.toList.drop 94 = dktX3_read_4 := dk_seg dksX3_read_3 23 rfl rfl
theorem dksX3_read_5 : cX3_read.data.toList.drop 118 = dktX3_read_5 := dk_seg dksX3_read_4 24 rfl rfl
theorem dksX3_read_6 : cX3_read.data.toList.drop 140 = dktX3_read_6 := dk_seg dksX3_read_5 22 rfl rfl
theorem dksX3_read_7 : cX3_read.data.toList.drop 163 = dktX3_read_7 := dk_seg dksX3_read_6 23 rfl rfl
theorem dX3_read_0 : decode cX3_read 0 = .ok (.new 80, 3) := dk_187 0 80 (dk_at dksX3_read_0 0 rfl rfl)
theorem dX3_read_3 : decode cX3_read 3 = .ok (.dup, 1) := dk_89 (dk_at dksX3_read_0 3 rfl rfl)
theorem dX3_read_4 : decode cX3_read 4 = .ok (.invokespecial 82, 3) := dk_183 0 82 (dk_at dksX3_read_0 4 rfl rfl)
theorem dX3_read_7 : decode cX3_read 7 = .ok (.astore_n 1, 1) := dk_76 (dk_at dksX3_read_0 7 rfl rfl)
theorem dX3_read_8 : decode cX3_read 8 = .ok (.aload_n 0, 1) := dk_42 (dk_at dksX3_read_0 8 rfl rfl)
theorem dX3_read_9 : decode cX3_read 9 = .ok (.invokevirtual 74, 3) := dk_182 0 74 (dk_at dksX3_read_0 9 rfl rfl)
theorem dX3_read_12 : decode cX3_read 12 = .ok (.aload_n 0, 1) := dk_42 (dk_at dksX3_read_0 12 rfl rfl)
theorem dX3_read_13 : decode cX3_read 13 = .ok (.getfield 25, 3) := dk_180 0 25 (dk_at dksX3_read_0 13 rfl rfl)
theorem dX3_read_16 : decode cX3_read 16 = .ok (.sipush 301, 3) := dk_17 1 45 (dk_at dksX3_read_0 16 rfl rfl)
theorem dX3_read_19 : decode cX3_read 19 = .ok (.if_icmp .eq 160, 3) := dk_159 0 160 (dk_at dksX3_read_0 19 rfl rfl)
theorem dX3_read_22 : decode cX3_read 22 = .ok (.aload_n 0, 1) := dk_42 (dk_at dksX3_read_0 22 rfl rfl)
theorem dX3_read_23 : decode cX3_read 23 = .ok (.getfield 25, 3) := dk_180 0 25 (dk_at dksX3_read_1 0 rfl rfl)
theorem dX3_read_26 : decode cX3_read 26 = .ok (.sipush 200, 3) := dk_17 0 200 (dk_at dksX3_read_1 3 rfl rfl)
theorem dX3_read_29 : decode cX3_read 29 = .ok (.if_icmp .lt 13, 3) := dk_161 0 13 (dk_at dksX3_read_1 6 rfl rfl)
theorem dX3_read_32 : decode cX3_read 32 = .ok (.aload_n 0, 1) := dk_42 (dk_at dksX3_read_1 9 rfl rfl)
theorem dX3_read_33 : decode cX3_read 33 = .ok (.getfield 25, 3) := dk_180 0 25 (dk_at dksX3_read_1 10 rfl rfl)
theorem dX3_read_36 : decode cX3_read 36 = .ok (.sipush 206, 3) := dk_17 0 206 (dk_at dksX3_read_1 13 rfl rfl)
theorem dX3_read_39 : decode cX3_read 39 = .ok (.if_icmp .le 9, 3) := dk_164 0 9 (dk_at dksX3_read_1 16 rfl rfl)
theorem dX3_read_42 : decode cX3_read 42 = .ok (.aload_n 0, 1) := dk_42 (dk_at dksX3_read_1 19 rfl rfl)
theorem dX3_read_43 : decode cX3_read 43 = .ok (.iconst 1, 1) := dk_4 (dk_at dksX3_read_1 20 rfl rfl)
theorem dX3_read_44 : decode cX3_read 44 = .ok (.invokevirtual 70, 3) := dk_182 0 70 (dk_at dksX3_read_1 21 rfl rfl)
theorem dX3_read_47 : decode cX3_read 47 = .ok (.athrow, 1) := dk_191 (dk_at dksX3_read_2 0 rfl rfl)
theorem dX3_read_48 : decode cX3_read 48 = .ok (.aload_n 0, 1) := dk_42 (dk_at dksX3_read_2 1 rfl rfl)
theorem dX3_read_49 : decode cX3_read 49 = .ok (.aload_n 0, 1) := dk_42 (dk_at dksX3_read_2 2 rfl rfl)
theorem dX3_read_50 : decode cX3_read 50 = .ok (.getfield 25, 3) := dk_180 0 25 (dk_at dksX3_read_2 3 rfl rfl)
theorem dX3_read_53 : decode cX3_read 53 = .ok (.sipush 200, 3) := dk_17 0 200 (dk_at dksX3_read_2 6 rfl rfl)
theorem dX3_read_56 : decode cX3_read 56 = .ok (.isub, 1) := dk_100 (dk_at dksX3_read_2 9 rfl rfl)
theorem dX3_read_57 : decode cX3_read 57 = .ok (.putfield 83, 3) := dk_181 0 83 (dk_at dksX3_read_2 10 rfl rfl)
theorem dX3_read_60 : decode cX3_read 60 = .ok (.aload_n 0, 1) := dk_42 (dk_at dksX3_read_2 13 rfl rfl)
theorem dX3_read_61 : decode cX3_read 61 = .ok (.getfield 25, 3) := dk_180 0 25 (dk_at dksX3_read_2 14 rfl rfl)
theorem dX3_read_64 : decode cX3_read 64 = .ok (.sipush 203, 3) := dk_17 0 203 (dk_at dksX3_read_2 17 rfl rfl)
theorem dX3_read_67 : decode cX3_read 67 = .ok (.if_icmp .gt 21, 3) := dk_163 0 21 (dk_at dksX3_read_2 20 rfl rfl)
theorem dX3_read_70 : decode cX3_read 70 = .ok (.aload_n 1, 1) := dk_43 (dk_at dksX3_read_2 23 rfl rfl)
theorem dX3_read_71 : decode cX3_read 71 = .ok (.getfield 86, 3) := dk_180 0 86 (dk_at dksX3_read_3 0 rfl rfl)
theorem dX3_read_74 : decode cX3_read 74 = .ok (.aload_n 0, 1) := dk_42 (dk_at dksX3_read_3 3 rfl rfl)
theorem dX3_read_75 : decode cX3_read 75 = .ok (.getfield 83, 3) := dk_180 0 83 (dk_at dksX3_read_3 4 rfl rfl)
theorem dX3_read_78 : decode cX3_read 78 = .ok (.aaload, 1) := dk_50 (dk_at dksX3_read_3 7 rfl rfl)
theorem dX3_read_79 : decode cX3_read 79 = .ok (.ifnull 9, 3) := dk_198 0 9 (dk_at dksX3_read_3 8 rfl rfl)
theorem dX3_read_82 : decode cX3_read 82 = .ok (.aload_n 0, 1) := dk_42 (dk_at dksX3_read_3 11 rfl rfl)
theorem dX3_read_83 : decode cX3_read 83 = .ok (.iconst 4, 1) := dk_7 (dk_at dksX3_read_3 12 rfl rfl)
theorem dX3_read_84 : decode cX3_read 84 = .ok (.invokevirtual 70, 3) := dk_182 0 70 (dk_at dksX3_read_3 13 rfl rfl)
theorem dX3_read_87 : decode cX3_read 87 = .ok (.athrow, 1) := dk_191 (dk_at dksX3_read_3 16 rfl rfl)
theorem dX3_read_88 : decode cX3_read 88 = .ok (.aload_n 1, 1) := dk_43 (dk_at dksX3_read_3 17 rfl rfl)
theorem dX3_read_89 : decode cX3_read 89 = .ok (.getfield 90, 3) := dk_180 0 90 (dk_at dksX3_read_3 18 rfl rfl)
theorem dX3_read_92 : decode cX3_read 92 = .ok (.bipush 24, 2) := dk_16 24 (dk_at dksX3_read_3 21 rfl rfl)
theorem dX3_read_94 : decode cX3_read 94 = .ok (.if_icmp .ne 10, 3) := dk_160 0 10 (dk_at dksX3_read_4 0 rfl rfl)
theorem dX3_read_97 : decode cX3_read 97 = .ok (.aload_n 0, 1) := dk_42 (dk_at dksX3_read_4 3 rfl rfl)
theorem dX3_read_98 : decode cX3_read 98 = .ok (.bipush 6, 2) := dk_16 6 (dk_at dksX3_read_4 4 rfl rfl)
theorem dX3_read_100 : decode cX3_read 100 = .ok (.invokevirtual 70, 3) := dk_182 0 70 (dk_at dksX3_read_4 6 rfl rfl)
theorem dX3_read_103 : decode cX3_read 103 = .ok (.athrow, 1) := dk_191 (dk_at dksX3_read_4 9 rfl rfl)
theorem dX3_read_104 : decode cX3_read 104 = .ok (.aload_n 0, 1) := dk_42 (dk_at dksX3_read_4 10 rfl rfl)
theorem dX3_read_105 : decode cX3_read 105 = .ok (.getfield 25, 3) := dk_180 0 25 (dk_at dksX3_read_4 11 rfl rfl)
theorem dX3_read_108 : decode cX3_read 108 = .ok (.sipush 203, 3) := dk_17 0 203 (dk_at dksX3_read_4 14 rfl rfl)
theorem dX3_read_111 : decode cX3_read 111 = .ok (.if_icmp .le 7, 3) := dk_164 0 7 (dk_at dksX3_read_4 17 rfl rfl)
theorem dX3_read_114 : decode cX3_read 114 = .ok (.iconst 1, 1) := dk_4 (dk_at dksX3_read_4 20 rfl rfl)
theorem dX3_read_115 : decode cX3_read 115 = .ok (.goto 4, 3) := dk_167 0 4 (dk_at dksX3_read_4 21 rfl rfl)
theorem dX3_read_118 : decode cX3_read 118 = .ok (.iconst 0, 1) := dk_3 (dk_at dksX3_read_5 0 rfl rfl)
theorem dX3_read_119 : decode cX3_read 119 = .ok (.istore_n 2, 1) := dk_61 (dk_at dksX3_read_5 1 rfl rfl)
theorem dX3_read_120 : decode cX3_read 120 = .ok (.aload_n 0, 1) := dk_42 (dk_at dksX3_read_5 2 rfl rfl)
theorem dX3_read_121 : decode cX3_read 121 = .ok (.invokevirtual 74, 3) := dk_182 0 74 (dk_at dksX3_read_5 3 rfl rfl)
theorem dX3_read_124 : decode cX3_read 124 = .ok (.iload_n 2, 1) := dk_28 (dk_at dksX3_read_5 6 rfl rfl)
theorem dX3_read_125 : decode cX3_read 125 = .ok (.ifCond .eq 22, 3) := dk_153 0 22 (dk_at dksX3_read_5 7 rfl rfl)
theorem dX3_read_128 : decode cX3_read 128 = .ok (.aload_n 1, 1) := dk_43 (dk_at dksX3_read_5 10 rfl rfl)
theorem dX3_read_129 : decode cX3_read 129 = .ok (.getfield 93, 3) := dk_180 0 93 (dk_at dksX3_read_5 11 rfl rfl)
theorem dX3_read_132 : decode cX3_read 132 = .ok (.aload_n 0, 1) := dk_42 (dk_at dksX3_read_5 14 rfl rfl)
theorem dX3_read_133 : decode cX3_read 133 = .ok (.aload_n 1, 1) := dk_43 (dk_at dksX3_read_5 15 rfl rfl)
theorem dX3_read_134 : decode cX3_read 134 = .ok (.getfield 90, 3) := dk_180 0 90 (dk_at dksX3_read_5 16 rfl rfl)
theorem dX3_read_137 : decode cX3_read 137 = .ok (.invokevirtual 97, 3) := dk_182 0 97 (dk_at dksX3_read_5 19 rfl rfl)
theorem dX3_read_140 : decode cX3_read 140 = .ok (.invokevirtual 101, 3) := dk_182 0 101 (dk_at dksX3_read_6 0 rfl rfl)
theorem dX3_read_143 : decode cX3_read 143 = .ok (.pop, 1) := dk_87 (dk_at dksX3_read_6 3 rfl rfl)
theorem dX3_read_144 : decode cX3_read 144 = .ok (.goto 16, 3) := dk_167 0 16 (dk_at dksX3_read_6 4 rfl rfl)
theorem dX3_read_147 : decode cX3_read 147 = .ok (.aload_n 1, 1) := dk_43 (dk_at dksX3_read_6 7 rfl rfl)
theorem dX3_read_148 : decode cX3_read 148 = .ok (.getfield 86, 3) := dk_180 0 86 (dk_at dksX3_read_6 8 rfl rfl)
theorem dX3_read_151 : decode cX3_read 151 = .ok (.aload_n 0, 1) := dk_42 (dk_at dksX3_read_6 11 rfl rfl)
theorem dX3_read_152 : decode cX3_read 152 = .ok (.getfield 83, 3) := dk_180 0 83 (dk_at dksX3_read_6 12 rfl rfl)
theorem dX3_read_155 : decode cX3_read 155 = .ok (.aload_n 0, 1) := dk_42 (dk_at dksX3_read_6 15 rfl rfl)
theorem dX3_read_156 : decode cX3_read 156 = .ok (.invokevirtual 107, 3) := dk_182 0 107 (dk_at dksX3_read_6 16 rfl rfl)
theorem dX3_read_159 : decode cX3_read 159 = .ok (.aastore, 1) := dk_83 (dk_at dksX3_read_6 19 rfl rfl)
theorem dX3_read_160 : decode cX3_read 160 = .ok (.aload_n 0, 1) := dk_42 (dk_at dksX3_read_6 20 rfl rfl)
theorem dX3_read_161 : decode cX3_read 161 = .ok (.bipush 59, 2) := dk_16 59 (dk_at dksX3_read_6 21 rfl rfl)
theorem dX3_read_163 : decode cX3_read 163 = .ok (.invokevirtual 111, 3) := dk_182 0 111 (dk_at dksX3_read_7 0 rfl rfl)
theorem dX3_read_166 : decode cX3_read 166 = .ok (.aload_n 1, 1) := dk_43 (dk_at dksX3_read_7 3 rfl rfl)
theorem dX3_read_167 : decode cX3_read 167 = .ok (.dup, 1) := dk_89 (dk_at dksX3_read_7 4 rfl rfl)
theorem dX3_read_168 : decode cX3_read 168 = .ok (.getfield 90, 3) := dk_180 0 90 (dk_at dksX3_read_7 5 rfl rfl)
theorem dX3_read_171 : decode cX3_read 171 = .ok (.iconst 1, 1) := dk_4 (dk_at dksX3_read_7 8 rfl rfl)
theorem dX3_read_172 : decode cX3_read 172 = .ok (.iadd, 1) := dk_96 (dk_at dksX3_read_7 9 rfl rfl)
theorem dX3_read_173 : decode cX3_read 173 = .ok (.putfield 90, 3) := dk_181 0 90 (dk_at dksX3_read_7 10 rfl rfl)
theorem dX3_read_176 : decode cX3_read 176 = .ok (.goto (-164), 3) := dk_167 255 92 (dk_at dksX3_read_7 13 rfl rfl)
theorem dX3_read_179 : decode cX3_read 179 = .ok (.aload_n 1, 1) := dk_43 (dk_at dksX3_read_7 16 rfl rfl)
theorem dX3_read_180 : decode cX3_read 180 = .ok (.areturn, 1) := dk_176 (dk_at dksX3_read_7 17 rfl rfl)
abbrev cX3_next : ByteArray := prog_15_method_4_code
def yX3_next : MethodName := ⟨RX3, "next", "()V"⟩
def dkwX3_next_17 : List UInt8 := [4, 96, 181, 0, 19, 177]
abbrev dktX3_next_17 : List UInt8 := dkwX3_next_17 ++ []
def dkwX3_next_16 : List UInt8 := [42, 27, 16, 60, 160, 0, 9, 17, 1, 47, 167, 0, 6, 17, 1, 48, 181, 0, 25, 42, 89, 180, 0, 19]
abbrev dktX3_next_16 : List UInt8 := dkwX3_next_16 ++ dktX3_next_17
def dkwX3_next_15 : List UInt8 := [180, 0, 19, 42, 180, 0, 15, 162, 0, 46, 42, 180, 0, 9, 42, 180, 0, 19, 51, 16, 61, 160, 0, 32]
abbrev dktX3_next_15 : List UInt8 := dkwX3_next_15 ++ dktX3_next_16
def dkwX3_next_14 : List UInt8 := [42, 27, 181, 0, 25, 132, 2, 1, 167, 255, 229, 27, 16, 60, 159, 0, 9, 27, 16, 62, 160, 0, 57, 42]
abbrev dktX3_next_14 : List UInt8 := dkwX3_next_14 ++ dktX3_next_15
def dkwX3_next_13 : List UInt8 := [181, 0, 25, 3, 61, 28, 18, 53, 182, 0, 55, 162, 0, 24, 18, 53, 28, 182, 0, 61, 27, 160, 0, 8]
abbrev dktX3_next_13 : List UInt8 := dkwX3_next_13 ++ dktX3_next_14
def dkwX3_next_12 : List UInt8 := [42, 180, 0, 9, 42, 180, 0, 19, 51, 60, 42, 89, 180, 0, 19, 4, 96, 181, 0, 19, 42, 17, 1, 46]
abbrev dktX3_next_12 : List UInt8 := dkwX3_next_12 ++ dktX3_next_13
def dkwX3_next_11 : List UInt8 := [51, 96, 16, 48, 100, 184, 0, 47, 181, 0, 43, 42, 89, 180, 0, 19, 4, 96, 181, 0, 19, 167, 255, 191]
abbrev dktX3_next_11 : List UInt8 := dkwX3_next_11 ++ dktX3_next_12
def dkwX3_next_10 : List UInt8 := [184, 0, 40, 153, 0, 170, 42, 18, 46, 16, 10, 42, 180, 0, 43, 104, 42, 180, 0, 9, 42, 180, 0, 19]
abbrev dktX3_next_10 : List UInt8 := dkwX3_next_10 ++ dktX3_next_11
def dkwX3_next_9 : List UInt8 := [181, 0, 43, 42, 180, 0, 19, 42, 180, 0, 15, 162, 0, 185, 42, 180, 0, 9, 42, 180, 0, 19, 51]
abbrev dktX3_next_9 : List UInt8 := dkwX3_next_9 ++ dktX3_next_10
def dkwX3_next_8 : List UInt8 := [42, 180, 0, 9, 42, 180, 0, 19, 51, 184, 0, 40, 153, 0, 83, 42, 17, 1, 44, 181, 0, 25, 42, 3]
abbrev dktX3_next_8 : List UInt8 := dkwX3_next_8 ++ dktX3_next_9
def dkwX3_next_7 : List UInt8 := [182, 0, 36, 153, 0, 12, 42, 17, 0, 200, 27, 96, 181, 0, 25, 132, 1, 1, 167, 255, 224, 167, 0, 223]
abbrev dktX3_next_7 : List UInt8 := dkwX3_next_7 ++ dktX3_next_8
def dkwX3_next_6 : List UInt8 := [17, 1, 46, 181, 0, 25, 3, 60, 27, 178, 0, 32, 190, 162, 0, 30, 42, 178, 0, 32, 27, 50]
abbrev dktX3_next_6 : List UInt8 := dkwX3_next_6 ++ dktX3_next_7
def dkwX3_next_5 : List UInt8 := [180, 0, 19, 51, 184, 0, 28, 153, 0, 16, 42, 89, 180, 0, 19, 4, 96, 181, 0, 19, 167, 255, 220, 42]
abbrev dktX3_next_5 : List UInt8 := dkwX3_next_5 ++ dktX3_next_6
def dkwX3_next_4 : List UInt8 := [184, 0, 28, 153, 0, 89, 42, 180, 0, 19, 42, 180, 0, 15, 162, 0, 31, 42, 180, 0, 9, 42]
abbrev dktX3_next_4 : List UInt8 := dkwX3_next_4 ++ dktX3_next_5
def dkwX3_next_3 : List UInt8 := [160, 0, 13, 42, 17, 1, 45, 181, 0, 25, 167, 1, 68, 42, 180, 0, 9, 42, 180, 0, 19, 51]
abbrev dktX3_next_3 : List UInt8 := dkwX3_next_3 ++ dktX3_next_4
def dkwX3_next_2 : List UInt8 := [181, 0, 19, 167, 255, 207, 42, 42, 180, 0, 19, 181, 0, 22, 42, 180, 0, 19, 42, 180, 0, 15]
abbrev dktX3_next_2 : List UInt8 := dkwX3_next_2 ++ dktX3_next_3
def dkwX3_next_1 : List UInt8 := [159, 0, 17, 42, 180, 0, 9, 42, 180, 0, 19, 51, 16, 10, 160, 0, 16, 42, 89, 180, 0, 19, 4, 96]
abbrev dktX3_next_1 : List UInt8 := dkwX3_next_1 ++ dktX3_next_2
def dkwX3_next_0 : List UInt8 := [42, 180, 0, 19, 42, 180, 0, 15, 162, 0, 44, 42, 180, 0, 9, 42, 180, 0, 19, 51, 16, 32]
abbrev dktX3_next_0 : List UInt8 := dkwX3_next_0 ++ dktX3_next_1
theorem dksX3_next_0 : cX3_next.data.toList.drop 0 = dktX3_next_0 := by decide +kernel
theorem dksX3_next_1 : cX3_next.data.toList.drop 22 = dktX3_next_1 := dk_seg dksX3_next_0 22 rfl rfl
theorem dksX3_next_2 : cX3_next.data.toList.drop 46 = dktX3_next_2 := dk_seg dksX3_next_1 24 rfl rfl
theorem dksX3_next_3 : cX3_next.data.toList.drop 68 = dktX3_next_3 := dk_seg dksX3_next_2 22 rfl rfl
theorem dksX3_next_4 : cX3_next.data.toList.drop 90 = dktX3_next_4 := dk_seg dksX3_next_3 22 rfl rfl
theorem dksX3_next_5 : cX3_next.data.toList.drop 112 = dktX3_next_5 := dk_seg dksX3_next_4 22 rfl rfl
theorem dksX3_next_6 : cX3_next.data.toList.drop 136 = dktX3_next_6 := dk_seg dksX3_next_5 24 rfl rfl
theorem dksX3_next_7 : cX3_next.data.toList.drop 158 = dktX3_next_7 := dk_seg dksX3_next_6 22 rfl rfl
theorem dksX3_next_8 : cX3_next.data.toList.drop 182 = dktX3_next_8 := dk_seg dksX3_next_7 24 rfl rfl
theorem dksX3_next_9 : cX3_next.data.toList.drop 206 = dktX3_next_9 := dk_seg dksX3_next_8 24 rfl rfl
theorem dksX3_next_10 : cX3_next.data.toList.drop 229 = dktX3_next_10 := dk_seg dksX3_next_9 23 rfl rfl
theorem dksX3_next_11 : cX3_next.data.toList.drop 253 = dktX3_next_11 := dk_seg dksX3_next_10 24 rfl rfl
theorem dksX3_next_12 : cX3_next.data.toList.drop 277 = dktX3_next_12 := dk_seg dksX3_next_11 24 rfl rfl
theorem dksX3_next_13 : cX3_next.data.toList.drop 301 = dktX3_next_13 := dk_seg dksX3_next_12 24 rfl rfl
theorem dksX3_next_14 : cX3_next.data.toList.drop 325 = dktX3_next_14 := dk_seg dksX3_next_13 24 rfl rfl
theorem dksX3_next_15 : cX3_next.data.toList.drop 349 = dktX3_next_15 := dk_seg dksX3_next_14 24 rfl rfl
theorem dksX3_next_16 : cX3_next.data.toList.drop 373 = dktX3_next_16 := dk_seg dksX3_next_15 24 rfl rfl
theorem dksX3_next_17 : cX3_next.data.toList.drop 397 = dktX3_next_17 := dk_seg dksX3_next_16 24 rfl rfl
theorem dX3_next_0 : decode cX3_next 0 = .ok (.aload_n 0, 1) := dk_42 (dk_at dksX3_next_0 0 rfl rfl)
theorem dX3_next_1 : decode cX3_next 1 = .ok (.getfield 19, 3) := dk_180 0 19 (dk_at dksX3_next_0 1 rfl rfl)
theorem dX3_next_4 : decode cX3_next 4 = .ok (.aload_n 0, 1) := dk_42 (dk_at dksX3_next_0 4 rfl rfl)
theorem dX3_next_5 : decode cX3_next 5 = .ok (.getfield 15, 3) := dk_180 0 15 (dk_at dksX3_next_0 5 rfl rfl)
theorem dX3_next_8 : decode cX3_next 8 = .ok (.if_icmp .ge 44, 3) := dk_162 0 44 (dk_at dksX3_next_0 8 rfl rfl)
theorem dX3_next_11 : decode cX3_next 11 = .ok (.aload_n 0, 1) := dk_42 (dk_at dksX3_next_0 11 rfl rfl)
theorem dX3_next_12 : decode cX3_next 12 = .ok (.getfield 9, 3) := dk_180 0 9 (dk_at dksX3_next_0 12 rfl rfl)
theorem dX3_next_15 : decode cX3_next 15 = .ok (.aload_n 0, 1) := dk_42 (dk_at dksX3_next_0 15 rfl rfl)
theorem dX3_next_16 : decode cX3_next 16 = .ok (.getfield 19, 3) := dk_180 0 19 (dk_at dksX3_next_0 16 rfl rfl)
theorem dX3_next_19 : decode cX3_next 19 = .ok (.baload, 1) := dk_51 (dk_at dksX3_next_0 19 rfl rfl)
theorem dX3_next_20 : decode cX3_next 20 = .ok (.bipush 32, 2) := dk_16 32 (dk_at dksX3_next_0 20 rfl rfl)
theorem dX3_next_22 : decode cX3_next 22 = .ok (.if_icmp .eq 17, 3) := dk_159 0 17 (dk_at dksX3_next_1 0 rfl rfl)
theorem dX3_next_25 : decode cX3_next 25 = .ok (.aload_n 0, 1) := dk_42 (dk_at dksX3_next_1 3 rfl rfl)
theorem dX3_next_26 : decode cX3_next 26 = .ok (.getfield 9, 3) := dk_180 0 9 (dk_at dksX3_next_1 4 rfl rfl)
theorem dX3_next_29 : decode cX3_next 29 = .ok (.aload_n 0, 1) := dk_42 (dk_at dksX3_next_1 7 rfl rfl)
theorem dX3_next_30 : decode cX3_next 30 = .ok (.getfield 19, 3) := dk_180 0 19 (dk_at dksX3_next_1 8 rfl rfl)
theorem dX3_next_33 : decode cX3_next 33 = .ok (.baload, 1) := dk_51 (dk_at dksX3_next_1 11 rfl rfl)
theorem dX3_next_34 : decode cX3_next 34 = .ok (.bipush 10, 2) := dk_16 10 (dk_at dksX3_next_1 12 rfl rfl)
theorem dX3_next_36 : decode cX3_next 36 = .ok (.if_icmp .ne 16, 3) := dk_160 0 16 (dk_at dksX3_next_1 14 rfl rfl)
theorem dX3_next_39 : decode cX3_next 39 = .ok (.aload_n 0, 1) := dk_42 (dk_at dksX3_next_1 17 rfl rfl)
theorem dX3_next_40 : decode cX3_next 40 = .ok (.dup, 1) := dk_89 (dk_at dksX3_next_1 18 rfl rfl)
theorem dX3_next_41 : decode cX3_next 41 = .ok (.getfield 19, 3) := dk_180 0 19 (dk_at dksX3_next_1 19 rfl rfl)
theorem dX3_next_44 : decode cX3_next 44 = .ok (.iconst 1, 1) := dk_4 (dk_at dksX3_next_1 22 rfl rfl)
theorem dX3_next_45 : decode cX3_next 45 = .ok (.iadd, 1) := dk_96 (dk_at dksX3_next_1 23 rfl rfl)
theorem dX3_next_46 : decode cX3_next 46 = .ok (.putfield 19, 3) := dk_181 0 19 (dk_at dksX3_next_2 0 rfl rfl)
theorem dX3_next_49 : decode cX3_next 49 = .ok (.goto (-49), 3) := dk_167 255 207 (dk_at dksX3_next_2 3 rfl rfl)
theorem dX3_next_52 : decode cX3_next 52 = .ok (.aload_n 0, 1) := dk_42 (dk_at dksX3_next_2 6 rfl rfl)
theorem dX3_next_53 : decode cX3_next 53 = .ok (.aload_n 0, 1) := dk_42 (dk_at dksX3_next_2 7 rfl rfl)
theorem dX3_next_54 : decode cX3_next 54 = .ok (.getfield 19, 3) := dk_180 0 19 (dk_at dksX3_next_2 8 rfl rfl)
theorem dX3_next_57 : decode cX3_next 57 = .ok (.putfield 22, 3) := dk_181 0 22 (dk_at dksX3_next_2 11 rfl rfl)
theorem dX3_next_60 : decode cX3_next 60 = .ok (.aload_n 0, 1) := dk_42 (dk_at dksX3_next_2 14 rfl rfl)
theorem dX3_next_61 : decode cX3_next 61 = .ok (.getfield 19, 3) := dk_180 0 19 (dk_at dksX3_next_2 15 rfl rfl)
theorem dX3_next_64 : decode cX3_next 64 = .ok (.aload_n 0, 1) := dk_42 (dk_at dksX3_next_2 18 rfl rfl)
theorem dX3_next_65 : decode cX3_next 65 = .ok (.getfield 15, 3) := dk_180 0 15 (dk_at dksX3_next_2 19 rfl rfl)
theorem dX3_next_68 : decode cX3_next 68 = .ok (.if_icmp .ne 13, 3) := dk_160 0 13 (dk_at dksX3_next_3 0 rfl rfl)
theorem dX3_next_71 : decode cX3_next 71 = .ok (.aload_n 0, 1) := dk_42 (dk_at dksX3_next_3 3 rfl rfl)
theorem dX3_next_72 : decode cX3_next 72 = .ok (.sipush 301, 3) := dk_17 1 45 (dk_at dksX3_next_3 4 rfl rfl)
theorem dX3_next_75 : decode cX3_next 75 = .ok (.putfield 25, 3) := dk_181 0 25 (dk_at dksX3_next_3 7 rfl rfl)
theorem dX3_next_78 : decode cX3_next 78 = .ok (.goto 324, 3) := dk_167 1 68 (dk_at dksX3_next_3 10 rfl rfl)
theorem dX3_next_81 : decode cX3_next 81 = .ok (.aload_n 0, 1) := dk_42 (dk_at dksX3_next_3 13 rfl rfl)
theorem dX3_next_82 : decode cX3_next 82 = .ok (.getfield 9, 3) := dk_180 0 9 (dk_at dksX3_next_3 14 rfl rfl)
theorem dX3_next_85 : decode cX3_next 85 = .ok (.aload_n 0, 1) := dk_42 (dk_at dksX3_next_3 17 rfl rfl)
theorem dX3_next_86 : decode cX3_next 86 = .ok (.getfield 19, 3) := dk_180 0 19 (dk_at dksX3_next_3 18 rfl rfl)
theorem dX3_next_89 : decode cX3_next 89 = .ok (.baload, 1) := dk_51 (dk_at dksX3_next_3 21 rfl rfl)
theorem dX3_next_90 : decode cX3_next 90 = .ok (.invokestatic 28, 3) := dk_184 0 28 (dk_at dksX3_next_4 0 rfl rfl)
theorem dX3_next_93 : decode cX3_next 93 = .ok (.ifCond .eq 89, 3) := dk_153 0 89 (dk_at dksX3_next_4 3 rfl rfl)
theorem dX3_next_96 : decode cX3_next 96 = .ok (.aload_n 0, 1) := dk_42 (dk_at dksX3_next_4 6 rfl rfl)
theorem dX3_next_97 : decode cX3_next 97 = .ok (.getfield 19, 3) := dk_180 0 19 (dk_at dksX3_next_4 7 rfl rfl)
theorem dX3_next_100 : decode cX3_next 100 = .ok (.aload_n 0, 1) := dk_42 (dk_at dksX3_next_4 10 rfl rfl)
theorem dX3_next_101 : decode cX3_next 101 = .ok (.getfield 15, 3) := dk_180 0 15 (dk_at dksX3_next_4 11 rfl rfl)
theorem dX3_next_104 : decode cX3_next 104 = .ok (.if_icmp .ge 31, 3) := dk_162 0 31 (dk_at dksX3_next_4 14 rfl rfl)
theorem dX3_next_107 : decode cX3_next 107 = .ok (.aload_n 0, 1) := dk_42 (dk_at dksX3_next_4 17 rfl rfl)
theorem dX3_next_108 : decode cX3_next 108 = .ok (.getfield 9, 3) := dk_180 0 9 (dk_at dksX3_next_4 18 rfl rfl)
theorem dX3_next_111 : decode cX3_next 111 = .ok (.aload_n 0, 1) := dk_42 (dk_at dksX3_next_4 21 rfl rfl)
theorem dX3_next_112 : decode cX3_next 112 = .ok (.getfield 19, 3) := dk_180 0 19 (dk_at dksX3_next_5 0 rfl rfl)
theorem dX3_next_115 : decode cX3_next 115 = .ok (.baload, 1) := dk_51 (dk_at dksX3_next_5 3 rfl rfl)
theorem dX3_next_116 : decode cX3_next 116 = .ok (.invokestatic 28, 3) := dk_184 0 28 (dk_at dksX3_next_5 4 rfl rfl)
theorem dX3_next_119 : decode cX3_next 119 = .ok (.ifCond .eq 16, 3) := dk_153 0 16 (dk_at dksX3_next_5 7 rfl rfl)
theorem dX3_next_122 : decode cX3_next 122 = .ok (.aload_n 0, 1) := dk_42 (dk_at dksX3_next_5 10 rfl rfl)
theorem dX3_next_123 : decode cX3_next 123 = .ok (.dup, 1) := dk_89 (dk_at dksX3_next_5 11 rfl rfl)
theorem dX3_next_124 : decode cX3_next 124 = .ok (.getfield 19, 3) := dk_180 0 19 (dk_at dksX3_next_5 12 rfl rfl)
theorem dX3_next_127 : decode cX3_next 127 = .ok (.iconst 1, 1) := dk_4 (dk_at dksX3_next_5 15 rfl rfl)
theorem dX3_next_128 : decode cX3_next 128 = .ok (.iadd, 1) := dk_96 (dk_at dksX3_next_5 16 rfl rfl)
theorem dX3_next_129 : decode cX3_next 129 = .ok (.putfield 19, 3) := dk_181 0 19 (dk_at dksX3_next_5 17 rfl rfl)
theorem dX3_next_132 : decode cX3_next 132 = .ok (.goto (-36), 3) := dk_167 255 220 (dk_at dksX3_next_5 20 rfl rfl)
theorem dX3_next_135 : decode cX3_next 135 = .ok (.aload_n 0, 1) := dk_42 (dk_at dksX3_next_5 23 rfl rfl)
theorem dX3_next_136 : decode cX3_next 136 = .ok (.sipush 302, 3) := dk_17 1 46 (dk_at dksX3_next_6 0 rfl rfl)
theorem dX3_next_139 : decode cX3_next 139 = .ok (.putfield 25, 3) := dk_181 0 25 (dk_at dksX3_next_6 3 rfl rfl)
theorem dX3_next_142 : decode cX3_next 142 = .ok (.iconst 0, 1) := dk_3 (dk_at dksX3_next_6 6 rfl rfl)
theorem dX3_next_143 : decode cX3_next 143 = .ok (.istore_n 1, 1) := dk_60 (dk_at dksX3_next_6 7 rfl rfl)
theorem dX3_next_144 : decode cX3_next 144 = .ok (.iload_n 1, 1) := dk_27 (dk_at dksX3_next_6 8 rfl rfl)
theorem dX3_next_145 : decode cX3_next 145 = .ok (.getstatic 32, 3) := dk_178 0 32 (dk_at dksX3_next_6 9 rfl rfl)
theorem dX3_next_148 : decode cX3_next 148 = .ok (.arraylength, 1) := dk_190 (dk_at dksX3_next_6 12 rfl rfl)
theorem dX3_next_149 : decode cX3_next 149 = .ok (.if_icmp .ge 30, 3) := dk_162 0 30 (dk_at dksX3_next_6 13 rfl rfl)
theorem dX3_next_152 : decode cX3_next 152 = .ok (.aload_n 0, 1) := dk_42 (dk_at dksX3_next_6 16 rfl rfl)
theorem dX3_next_153 : decode cX3_next 153 = .ok (.getstatic 32, 3) := dk_178 0 32 (dk_at dksX3_next_6 17 rfl rfl)
theorem dX3_next_156 : decode cX3_next 156 = .ok (.iload_n 1, 1) := dk_27 (dk_at dksX3_next_6 20 rfl rfl)
theorem dX3_next_157 : decode cX3_next 157 = .ok (.aaload, 1) := dk_50 (dk_at dksX3_next_6 21 rfl rfl)
theorem dX3_next_158 : decode cX3_next 158 = .ok (.invokevirtual 36, 3) := dk_182 0 36 (dk_at dksX3_next_7 0 rfl rfl)
theorem dX3_next_161 : decode cX3_next 161 = .ok (.ifCond .eq 12, 3) := dk_153 0 12 (dk_at dksX3_next_7 3 rfl rfl)
theorem dX3_next_164 : decode cX3_next 164 = .ok (.aload_n 0, 1) := dk_42 (dk_at dksX3_next_7 6 rfl rfl)
theorem dX3_next_165 : decode cX3_next 165 = .ok (.sipush 200, 3) := dk_17 0 200 (dk_at dksX3_next_7 7 rfl rfl)
theorem dX3_next_168 : decode cX3_next 168 = .ok (.iload_n 1, 1) := dk_27 (dk_at dksX3_next_7 10 rfl rfl)
theorem dX3_next_169 : decode cX3_next 169 = .ok (.iadd, 1) := dk_96 (dk_at dksX3_next_7 11 rfl rfl)
theorem dX3_next_170 : decode cX3_next 170 = .ok (.putfield 25, 3) := dk_181 0 25 (dk_at dksX3_next_7 12 rfl rfl)
theorem dX3_next_173 : decode cX3_next 173 = .ok (.iinc 1 1, 3) := dk_132 1 1 (dk_at dksX3_next_7 15 rfl rfl)
theorem dX3_next_176 : decode cX3_next 176 = .ok (.goto (-32), 3) := dk_167 255 224 (dk_at dksX3_next_7 18 rfl rfl)
theorem dX3_next_179 : decode cX3_next 179 = .ok (.goto 223, 3) := dk_167 0 223 (dk_at dksX3_next_7 21 rfl rfl)
theorem dX3_next_182 : decode cX3_next 182 = .ok (.aload_n 0, 1) := dk_42 (dk_at dksX3_next_8 0 rfl rfl)
theorem dX3_next_183 : decode cX3_next 183 = .ok (.getfield 9, 3) := dk_180 0 9 (dk_at dksX3_next_8 1 rfl rfl)
theorem dX3_next_186 : decode cX3_next 186 = .ok (.aload_n 0, 1) := dk_42 (dk_at dksX3_next_8 4 rfl rfl)
theorem dX3_next_187 : decode cX3_next 187 = .ok (.getfield 19, 3) := dk_180 0 19 (dk_at dksX3_next_8 5 rfl rfl)
theorem dX3_next_190 : decode cX3_next 190 = .ok (.baload, 1) := dk_51 (dk_at dksX3_next_8 8 rfl rfl)
theorem dX3_next_191 : decode cX3_next 191 = .ok (.invokestatic 40, 3) := dk_184 0 40 (dk_at dksX3_next_8 9 rfl rfl)
theorem dX3_next_194 : decode cX3_next 194 = .ok (.ifCond .eq 83, 3) := dk_153 0 83 (dk_at dksX3_next_8 12 rfl rfl)
theorem dX3_next_197 : decode cX3_next 197 = .ok (.aload_n 0, 1) := dk_42 (dk_at dksX3_next_8 15 rfl rfl)
theorem dX3_next_198 : decode cX3_next 198 = .ok (.sipush 300, 3) := dk_17 1 44 (dk_at dksX3_next_8 16 rfl rfl)
theorem dX3_next_201 : decode cX3_next 201 = .ok (.putfield 25, 3) := dk_181 0 25 (dk_at dksX3_next_8 19 rfl rfl)
theorem dX3_next_204 : decode cX3_next 204 = .ok (.aload_n 0, 1) := dk_42 (dk_at dksX3_next_8 22 rfl rfl)
theorem dX3_next_205 : decode cX3_next 205 = .ok (.iconst 0, 1) := dk_3 (dk_at dksX3_next_8 23 rfl rfl)
theorem dX3_next_206 : decode cX3_next 206 = .ok (.putfield 43, 3) := dk_181 0 43 (dk_at dksX3_next_9 0 rfl rfl)
theorem dX3_next_209 : decode cX3_next 209 = .ok (.aload_n 0, 1) := dk_42 (dk_at dksX3_next_9 3 rfl rfl)
theorem dX3_next_210 : decode cX3_next 210 = .ok (.getfield 19, 3) := dk_180 0 19 (dk_at dksX3_next_9 4 rfl rfl)
theorem dX3_next_213 : decode cX3_next 213 = .ok (.aload_n 0, 1) := dk_42 (dk_at dksX3_next_9 7 rfl rfl)
theorem dX3_next_214 : decode cX3_next 214 = .ok (.getfield 15, 3) := dk_180 0 15 (dk_at dksX3_next_9 8 rfl rfl)
theorem dX3_next_217 : decode cX3_next 217 = .ok (.if_icmp .ge 185, 3) := dk_162 0 185 (dk_at dksX3_next_9 11 rfl rfl)
theorem dX3_next_220 : decode cX3_next 220 = .ok (.aload_n 0, 1) := dk_42 (dk_at dksX3_next_9 14 rfl rfl)
theorem dX3_next_221 : decode cX3_next 221 = .ok (.getfield 9, 3) := dk_180 0 9 (dk_at dksX3_next_9 15 rfl rfl)
theorem dX3_next_224 : decode cX3_next 224 = .ok (.aload_n 0, 1) := dk_42 (dk_at dksX3_next_9 18 rfl rfl)
theorem dX3_next_225 : decode cX3_next 225 = .ok (.getfield 19, 3) := dk_180 0 19 (dk_at dksX3_next_9 19 rfl rfl)
theorem dX3_next_228 : decode cX3_next 228 = .ok (.baload, 1) := dk_51 (dk_at dksX3_next_9 22 rfl rfl)
theorem dX3_next_229 : decode cX3_next 229 = .ok (.invokestatic 40, 3) := dk_184 0 40 (dk_at dksX3_next_10 0 rfl rfl)
theorem dX3_next_232 : decode cX3_next 232 = .ok (.ifCond .eq 170, 3) := dk_153 0 170 (dk_at dksX3_next_10 3 rfl rfl)
theorem dX3_next_235 : decode cX3_next 235 = .ok (.aload_n 0, 1) := dk_42 (dk_at dksX3_next_10 6 rfl rfl)
theorem dX3_next_236 : decode cX3_next 236 = .ok (.ldc 46, 2) := dk_18 46 (dk_at dksX3_next_10 7 rfl rfl)
theorem dX3_next_238 : decode cX3_next 238 = .ok (.bipush 10, 2) := dk_16 10 (dk_at dksX3_next_10 9 rfl rfl)
theorem dX3_next_240 : decode cX3_next 240 = .ok (.aload_n 0, 1) := dk_42 (dk_at dksX3_next_10 11 rfl rfl)
theorem dX3_next_241 : decode cX3_next 241 = .ok (.getfield 43, 3) := dk_180 0 43 (dk_at dksX3_next_10 12 rfl rfl)
theorem dX3_next_244 : decode cX3_next 244 = .ok (.imul, 1) := dk_104 (dk_at dksX3_next_10 15 rfl rfl)
theorem dX3_next_245 : decode cX3_next 245 = .ok (.aload_n 0, 1) := dk_42 (dk_at dksX3_next_10 16 rfl rfl)
theorem dX3_next_246 : decode cX3_next 246 = .ok (.getfield 9, 3) := dk_180 0 9 (dk_at dksX3_next_10 17 rfl rfl)
theorem dX3_next_249 : decode cX3_next 249 = .ok (.aload_n 0, 1) := dk_42 (dk_at dksX3_next_10 20 rfl rfl)
theorem dX3_next_250 : decode cX3_next 250 = .ok (.getfield 19, 3) := dk_180 0 19 (dk_at dksX3_next_10 21 rfl rfl)
theorem dX3_next_253 : decode cX3_next 253 = .ok (.baload, 1) := dk_51 (dk_at dksX3_next_11 0 rfl rfl)
theorem dX3_next_254 : decode cX3_next 254 = .ok (.iadd, 1) := dk_96 (dk_at dksX3_next_11 1 rfl rfl)
theorem dX3_next_255 : decode cX3_next 255 = .ok (.bipush 48, 2) := dk_16 48 (dk_at dksX3_next_11 2 rfl rfl)
theorem dX3_next_257 : decode cX3_next 257 = .ok (.isub, 1) := dk_100 (dk_at dksX3_next_11 4 rfl rfl)
theorem dX3_next_258 : decode cX3_next 258 = .ok (.invokestatic 47, 3) := dk_184 0 47 (dk_at dksX3_next_11 5 rfl rfl)
theorem dX3_next_261 : decode cX3_next 261 = .ok (.putfield 43, 3) := dk_181 0 43 (dk_at dksX3_next_11 8 rfl rfl)
theorem dX3_next_264 : decode cX3_next 264 = .ok (.aload_n 0, 1) := dk_42 (dk_at dksX3_next_11 11 rfl rfl)
theorem dX3_next_265 : decode cX3_next 265 = .ok (.dup, 1) := dk_89 (dk_at dksX3_next_11 12 rfl rfl)
theorem dX3_next_266 : decode cX3_next 266 = .ok (.getfield 19, 3) := dk_180 0 19 (dk_at dksX3_next_11 13 rfl rfl)
theorem dX3_next_269 : decode cX3_next 269 = .ok (.iconst 1, 1) := dk_4 (dk_at dksX3_next_11 16 rfl rfl)
theorem dX3_next_270 : decode cX3_next 270 = .ok (.iadd, 1) := dk_96 (dk_at dksX3_next_11 17 rfl rfl)
theorem dX3_next_271 : decode cX3_next 271 = .ok (.putfield 19, 3) := dk_181 0 19 (dk_at dksX3_next_11 18 rfl rfl)
theorem dX3_next_274 : decode cX3_next 274 = .ok (.goto (-65), 3) := dk_167 255 191 (dk_at dksX3_next_11 21 rfl rfl)
theorem dX3_next_277 : decode cX3_next 277 = .ok (.aload_n 0, 1) := dk_42 (dk_at dksX3_next_12 0 rfl rfl)
theorem dX3_next_278 : decode cX3_next 278 = .ok (.getfield 9, 3) := dk_180 0 9 (dk_at dksX3_next_12 1 rfl rfl)
theorem dX3_next_281 : decode cX3_next 281 = .ok (.aload_n 0, 1) := dk_42 (dk_at dksX3_next_12 4 rfl rfl)
theorem dX3_next_282 : decode cX3_next 282 = .ok (.getfield 19, 3) := dk_180 0 19 (dk_at dksX3_next_12 5 rfl rfl)
theorem dX3_next_285 : decode cX3_next 285 = .ok (.baload, 1) := dk_51 (dk_at dksX3_next_12 8 rfl rfl)
theorem dX3_next_286 : decode cX3_next 286 = .ok (.istore_n 1, 1) := dk_60 (dk_at dksX3_next_12 9 rfl rfl)
theorem dX3_next_287 : decode cX3_next 287 = .ok (.aload_n 0, 1) := dk_42 (dk_at dksX3_next_12 10 rfl rfl)
theorem dX3_next_288 : decode cX3_next 288 = .ok (.dup, 1) := dk_89 (dk_at dksX3_next_12 11 rfl rfl)
theorem dX3_next_289 : decode cX3_next 289 = .ok (.getfield 19, 3) := dk_180 0 19 (dk_at dksX3_next_12 12 rfl rfl)
theorem dX3_next_292 : decode cX3_next 292 = .ok (.iconst 1, 1) := dk_4 (dk_at dksX3_next_12 15 rfl rfl)
theorem dX3_next_293 : decode cX3_next 293 = .ok (.iadd, 1) := dk_96 (dk_at dksX3_next_12 16 rfl rfl)
theorem dX3_next_294 : decode cX3_next 294 = .ok (.putfield 19, 3) := dk_181 0 19 (dk_at dksX3_next_12 17 rfl rfl)
theorem dX3_next_297 : decode cX3_next 297 = .ok (.aload_n 0, 1) := dk_42 (dk_at dksX3_next_12 20 rfl rfl)
theorem dX3_next_298 : decode cX3_next 298 = .ok (.sipush 302, 3) := dk_17 1 46 (dk_at dksX3_next_12 21 rfl rfl)
theorem dX3_next_301 : decode cX3_next 301 = .ok (.putfield 25, 3) := dk_181 0 25 (dk_at dksX3_next_13 0 rfl rfl)
theorem dX3_next_304 : decode cX3_next 304 = .ok (.iconst 0, 1) := dk_3 (dk_at dksX3_next_13 3 rfl rfl)
theorem dX3_next_305 : decode cX3_next 305 = .ok (.istore_n 2, 1) := dk_61 (dk_at dksX3_next_13 4 rfl rfl)
theorem dX3_next_306 : decode cX3_next 306 = .ok (.iload_n 2, 1) := dk_28 (dk_at dksX3_next_13 5 rfl rfl)
theorem dX3_next_307 : decode cX3_next 307 = .ok (.ldc 53, 2) := dk_18 53 (dk_at dksX3_next_13 6 rfl rfl)
theorem dX3_next_309 : decode cX3_next 309 = .ok (.invokevirtual 55, 3) := dk_182 0 55 (dk_at dksX3_next_13 8 rfl rfl)
theorem dX3_next_312 : decode cX3_next 312 = .ok (.if_icmp .ge 24, 3) := dk_162 0 24 (dk_at dksX3_next_13 11 rfl rfl)
theorem dX3_next_315 : decode cX3_next 315 = .ok (.ldc 53, 2) := dk_18 53 (dk_at dksX3_next_13 14 rfl rfl)
theorem dX3_next_317 : decode cX3_next 317 = .ok (.iload_n 2, 1) := dk_28 (dk_at dksX3_next_13 16 rfl rfl)
theorem dX3_next_318 : decode cX3_next 318 = .ok (.invokevirtual 61, 3) := dk_182 0 61 (dk_at dksX3_next_13 17 rfl rfl)
theorem dX3_next_321 : decode cX3_next 321 = .ok (.iload_n 1, 1) := dk_27 (dk_at dksX3_next_13 20 rfl rfl)
theorem dX3_next_322 : decode cX3_next 322 = .ok (.if_icmp .ne 8, 3) := dk_160 0 8 (dk_at dksX3_next_13 21 rfl rfl)
theorem dX3_next_325 : decode cX3_next 325 = .ok (.aload_n 0, 1) := dk_42 (dk_at dksX3_next_14 0 rfl rfl)
theorem dX3_next_326 : decode cX3_next 326 = .ok (.iload_n 1, 1) := dk_27 (dk_at dksX3_next_14 1 rfl rfl)
theorem dX3_next_327 : decode cX3_next 327 = .ok (.putfield 25, 3) := dk_181 0 25 (dk_at dksX3_next_14 2 rfl rfl)
theorem dX3_next_330 : decode cX3_next 330 = .ok (.iinc 2 1, 3) := dk_132 2 1 (dk_at dksX3_next_14 5 rfl rfl)
theorem dX3_next_333 : decode cX3_next 333 = .ok (.goto (-27), 3) := dk_167 255 229 (dk_at dksX3_next_14 8 rfl rfl)
theorem dX3_next_336 : decode cX3_next 336 = .ok (.iload_n 1, 1) := dk_27 (dk_at dksX3_next_14 11 rfl rfl)
theorem dX3_next_337 : decode cX3_next 337 = .ok (.bipush 60, 2) := dk_16 60 (dk_at dksX3_next_14 12 rfl rfl)
theorem dX3_next_339 : decode cX3_next 339 = .ok (.if_icmp .eq 9, 3) := dk_159 0 9 (dk_at dksX3_next_14 14 rfl rfl)
theorem dX3_next_342 : decode cX3_next 342 = .ok (.iload_n 1, 1) := dk_27 (dk_at dksX3_next_14 17 rfl rfl)
theorem dX3_next_343 : decode cX3_next 343 = .ok (.bipush 62, 2) := dk_16 62 (dk_at dksX3_next_14 18 rfl rfl)
theorem dX3_next_345 : decode cX3_next 345 = .ok (.if_icmp .ne 57, 3) := dk_160 0 57 (dk_at dksX3_next_14 20 rfl rfl)
theorem dX3_next_348 : decode cX3_next 348 = .ok (.aload_n 0, 1) := dk_42 (dk_at dksX3_next_14 23 rfl rfl)
theorem dX3_next_349 : decode cX3_next 349 = .ok (.getfield 19, 3) := dk_180 0 19 (dk_at dksX3_next_15 0 rfl rfl)
theorem dX3_next_352 : decode cX3_next 352 = .ok (.aload_n 0, 1) := dk_42 (dk_at dksX3_next_15 3 rfl rfl)
theorem dX3_next_353 : decode cX3_next 353 = .ok (.getfield 15, 3) := dk_180 0 15 (dk_at dksX3_next_15 4 rfl rfl)
theorem dX3_next_356 : decode cX3_next 356 = .ok (.if_icmp .ge 46, 3) := dk_162 0 46 (dk_at dksX3_next_15 7 rfl rfl)
theorem dX3_next_359 : decode cX3_next 359 = .ok (.aload_n 0, 1) := dk_42 (dk_at dksX3_next_15 10 rfl rfl)
theorem dX3_next_360 : decode cX3_next 360 = .ok (.getfield 9, 3) := dk_180 0 9 (dk_at dksX3_next_15 11 rfl rfl)
theorem dX3_next_363 : decode cX3_next 363 = .ok (.aload_n 0, 1) := dk_42 (dk_at dksX3_next_15 14 rfl rfl)
theorem dX3_next_364 : decode cX3_next 364 = .ok (.getfield 19, 3) := dk_180 0 19 (dk_at dksX3_next_15 15 rfl rfl)
theorem dX3_next_367 : decode cX3_next 367 = .ok (.baload, 1) := dk_51 (dk_at dksX3_next_15 18 rfl rfl)
theorem dX3_next_368 : decode cX3_next 368 = .ok (.bipush 61, 2) := dk_16 61 (dk_at dksX3_next_15 19 rfl rfl)
theorem dX3_next_370 : decode cX3_next 370 = .ok (.if_icmp .ne 32, 3) := dk_160 0 32 (dk_at dksX3_next_15 21 rfl rfl)
theorem dX3_next_373 : decode cX3_next 373 = .ok (.aload_n 0, 1) := dk_42 (dk_at dksX3_next_16 0 rfl rfl)
theorem dX3_next_374 : decode cX3_next 374 = .ok (.iload_n 1, 1) := dk_27 (dk_at dksX3_next_16 1 rfl rfl)
theorem dX3_next_375 : decode cX3_next 375 = .ok (.bipush 60, 2) := dk_16 60 (dk_at dksX3_next_16 2 rfl rfl)
theorem dX3_next_377 : decode cX3_next 377 = .ok (.if_icmp .ne 9, 3) := dk_160 0 9 (dk_at dksX3_next_16 4 rfl rfl)
theorem dX3_next_380 : decode cX3_next 380 = .ok (.sipush 303, 3) := dk_17 1 47 (dk_at dksX3_next_16 7 rfl rfl)
theorem dX3_next_383 : decode cX3_next 383 = .ok (.goto 6, 3) := dk_167 0 6 (dk_at dksX3_next_16 10 rfl rfl)
theorem dX3_next_386 : decode cX3_next 386 = .ok (.sipush 304, 3) := dk_17 1 48 (dk_at dksX3_next_16 13 rfl rfl)
theorem dX3_next_389 : decode cX3_next 389 = .ok (.putfield 25, 3) := dk_181 0 25 (dk_at dksX3_next_16 16 rfl rfl)
theorem dX3_next_392 : decode cX3_next 392 = .ok (.aload_n 0, 1) := dk_42 (dk_at dksX3_next_16 19 rfl rfl)
theorem dX3_next_393 : decode cX3_next 393 = .ok (.dup, 1) := dk_89 (dk_at dksX3_next_16 20 rfl rfl)
theorem dX3_next_394 : decode cX3_next 394 = .ok (.getfield 19, 3) := dk_180 0 19 (dk_at dksX3_next_16 21 rfl rfl)
theorem dX3_next_397 : decode cX3_next 397 = .ok (.iconst 1, 1) := dk_4 (dk_at dksX3_next_17 0 rfl rfl)
theorem dX3_next_398 : decode cX3_next 398 = .ok (.iadd, 1) := dk_96 (dk_at dksX3_next_17 1 rfl rfl)
theorem dX3_next_399 : decode cX3_next 399 = .ok (.putfield 19, 3) := dk_181 0 19 (dk_at dksX3_next_17 2 rfl rfl)
theorem dX3_next_402 : decode cX3_next 402 = .ok (.return_, 1) := dk_177 (dk_at dksX3_next_17 5 rfl rfl)
abbrev cX3_isLetter : ByteArray := prog_15_method_2_code
def yX3_isLetter : MethodName := ⟨RX3, "isLetter", "(I)Z"⟩
def dkwX3_isLetter_1 : List UInt8 := [4, 167, 0, 4, 3, 172]
abbrev dktX3_isLetter_1 : List UInt8 := dkwX3_isLetter_1 ++ []
def dkwX3_isLetter_0 : List UInt8 := [26, 16, 97, 161, 0, 9, 26, 16, 122, 164, 0, 15, 26, 16, 65, 161, 0, 13, 26, 16, 90, 163, 0, 7]
abbrev dktX3_isLetter_0 : List UInt8 := dkwX3_isLetter_0 ++ dktX3_isLetter_1
theorem dksX3_isLetter_0 : cX3_isLetter.data.toList.drop 0 = dktX3_isLetter_0 := by decide +kernel
theorem dksX3_isLetter_1 : cX3_isLetter.data.toList.drop 24 = dktX3_isLetter_1 := dk_seg dksX3_isLetter_0 24 rfl rfl
theorem dX3_isLetter_0 : decode cX3_isLetter 0 = .ok (.iload_n 0, 1) := dk_26 (dk_at dksX3_isLetter_0 0 rfl rfl)
theorem dX3_isLetter_1 : decode cX3_isLetter 1 = .ok (.bipush 97, 2) := dk_16 97 (dk_at dksX3_isLetter_0 1 rfl rfl)
theorem dX3_isLetter_3 : decode cX3_isLetter 3 = .ok (.if_icmp .lt 9, 3) := dk_161 0 9 (dk_at dksX3_isLetter_0 3 rfl rfl)
theorem dX3_isLetter_6 : decode cX3_isLetter 6 = .ok (.iload_n 0, 1) := dk_26 (dk_at dksX3_isLetter_0 6 rfl rfl)
theorem dX3_isLetter_7 : decode cX3_isLetter 7 = .ok (.bipush 122, 2) := dk_16 122 (dk_at dksX3_isLetter_0 7 rfl rfl)
theorem dX3_isLetter_9 : decode cX3_isLetter 9 = .ok (.if_icmp .le 15, 3) := dk_164 0 15 (dk_at dksX3_isLetter_0 9 rfl rfl)
theorem dX3_isLetter_12 : decode cX3_isLetter 12 = .ok (.iload_n 0, 1) := dk_26 (dk_at dksX3_isLetter_0 12 rfl rfl)
theorem dX3_isLetter_13 : decode cX3_isLetter 13 = .ok (.bipush 65, 2) := dk_16 65 (dk_at dksX3_isLetter_0 13 rfl rfl)
theorem dX3_isLetter_15 : decode cX3_isLetter 15 = .ok (.if_icmp .lt 13, 3) := dk_161 0 13 (dk_at dksX3_isLetter_0 15 rfl rfl)
theorem dX3_isLetter_18 : decode cX3_isLetter 18 = .ok (.iload_n 0, 1) := dk_26 (dk_at dksX3_isLetter_0 18 rfl rfl)
theorem dX3_isLetter_19 : decode cX3_isLetter 19 = .ok (.bipush 90, 2) := dk_16 90 (dk_at dksX3_isLetter_0 19 rfl rfl)
theorem dX3_isLetter_21 : decode cX3_isLetter 21 = .ok (.if_icmp .gt 7, 3) := dk_163 0 7 (dk_at dksX3_isLetter_0 21 rfl rfl)
theorem dX3_isLetter_24 : decode cX3_isLetter 24 = .ok (.iconst 1, 1) := dk_4 (dk_at dksX3_isLetter_1 0 rfl rfl)
theorem dX3_isLetter_25 : decode cX3_isLetter 25 = .ok (.goto 4, 3) := dk_167 0 4 (dk_at dksX3_isLetter_1 1 rfl rfl)
theorem dX3_isLetter_28 : decode cX3_isLetter 28 = .ok (.iconst 0, 1) := dk_3 (dk_at dksX3_isLetter_1 4 rfl rfl)
theorem dX3_isLetter_29 : decode cX3_isLetter 29 = .ok (.ireturn, 1) := dk_172 (dk_at dksX3_isLetter_1 5 rfl rfl)
abbrev cX3_isWord : ByteArray := prog_15_method_5_code
def yX3_isWord : MethodName := ⟨RX3, "isWord", "(Ljava/lang/String;)Z"⟩
def dkwX3_isWord_2 : List UInt8 := [159, 0, 5, 3, 172, 132, 2, 1, 167, 255, 224, 4, 172]
abbrev dktX3_isWord_2 : List UInt8 := dkwX3_isWord_2 ++ []
def dkwX3_isWord_1 : List UInt8 := [182, 0, 55, 162, 0, 30, 42, 180, 0, 9, 42, 180, 0, 22, 28, 96, 51, 43, 28, 182, 0, 61]
abbrev dktX3_isWord_1 : List UInt8 := dkwX3_isWord_1 ++ dktX3_isWord_2
def dkwX3_isWord_0 : List UInt8 := [42, 180, 0, 19, 42, 180, 0, 22, 100, 43, 182, 0, 55, 159, 0, 5, 3, 172, 3, 61, 28, 43]
abbrev dktX3_isWord_0 : List UInt8 := dkwX3_isWord_0 ++ dktX3_isWord_1
theorem dksX3_isWord_0 : cX3_isWord.data.toList.drop 0 = dktX3_isWord_0 := by decide +kernel
theorem dksX3_isWord_1 : cX3_isWord.data.toList.drop 22 = dktX3_isWord_1 := dk_seg dksX3_isWord_0 22 rfl rfl
theorem dksX3_isWord_2 : cX3_isWord.data.toList.drop 44 = dktX3_isWord_2 := dk_seg dksX3_isWord_1 22 rfl rfl
theorem dX3_isWord_0 : decode cX3_isWord 0 = .ok (.aload_n 0, 1) := dk_42 (dk_at dksX3_isWord_0 0 rfl rfl)
theorem dX3_isWord_1 : decode cX3_isWord 1 = .ok (.getfield 19, 3) := dk_180 0 19 (dk_at dksX3_isWord_0 1 rfl rfl)
theorem dX3_isWord_4 : decode cX3_isWord 4 = .ok (.aload_n 0, 1) := dk_42 (dk_at dksX3_isWord_0 4 rfl rfl)
theorem dX3_isWord_5 : decode cX3_isWord 5 = .ok (.getfield 22, 3) := dk_180 0 22 (dk_at dksX3_isWord_0 5 rfl rfl)
theorem dX3_isWord_8 : decode cX3_isWord 8 = .ok (.isub, 1) := dk_100 (dk_at dksX3_isWord_0 8 rfl rfl)
theorem dX3_isWord_9 : decode cX3_isWord 9 = .ok (.aload_n 1, 1) := dk_43 (dk_at dksX3_isWord_0 9 rfl rfl)
theorem dX3_isWord_10 : decode cX3_isWord 10 = .ok (.invokevirtual 55, 3) := dk_182 0 55 (dk_at dksX3_isWord_0 10 rfl rfl)
theorem dX3_isWord_13 : decode cX3_isWord 13 = .ok (.if_icmp .eq 5, 3) := dk_159 0 5 (dk_at dksX3_isWord_0 13 rfl rfl)
theorem dX3_isWord_16 : decode cX3_isWord 16 = .ok (.iconst 0, 1) := dk_3 (dk_at dksX3_isWord_0 16 rfl rfl)
theorem dX3_isWord_17 : decode cX3_isWord 17 = .ok (.ireturn, 1) := dk_172 (dk_at dksX3_isWord_0 17 rfl rfl)
theorem dX3_isWord_18 : decode cX3_isWord 18 = .ok (.iconst 0, 1) := dk_3 (dk_at dksX3_isWord_0 18 rfl rfl)
theorem dX3_isWord_19 : decode cX3_isWord 19 = .ok (.istore_n 2, 1) := dk_61 (dk_at dksX3_isWord_0 19 rfl rfl)
theorem dX3_isWord_20 : decode cX3_isWord 20 = .ok (.iload_n 2, 1) := dk_28 (dk_at dksX3_isWord_0 20 rfl rfl)
theorem dX3_isWord_21 : decode cX3_isWord 21 = .ok (.aload_n 1, 1) := dk_43 (dk_at dksX3_isWord_0 21 rfl rfl)
theorem dX3_isWord_22 : decode cX3_isWord 22 = .ok (.invokevirtual 55, 3) := dk_182 0 55 (dk_at dksX3_isWord_1 0 rfl rfl)
theorem dX3_isWord_25 : decode cX3_isWord 25 = .ok (.if_icmp .ge 30, 3) := dk_162 0 30 (dk_at dksX3_isWord_1 3 rfl rfl)
theorem dX3_isWord_28 : decode cX3_isWord 28 = .ok (.aload_n 0, 1) := dk_42 (dk_at dksX3_isWord_1 6 rfl rfl)
theorem dX3_isWord_29 : decode cX3_isWord 29 = .ok (.getfield 9, 3) := dk_180 0 9 (dk_at dksX3_isWord_1 7 rfl rfl)
theorem dX3_isWord_32 : decode cX3_isWord 32 = .ok (.aload_n 0, 1) := dk_42 (dk_at dksX3_isWord_1 10 rfl rfl)
theorem dX3_isWord_33 : decode cX3_isWord 33 = .ok (.getfield 22, 3) := dk_180 0 22 (dk_at dksX3_isWord_1 11 rfl rfl)
theorem dX3_isWord_36 : decode cX3_isWord 36 = .ok (.iload_n 2, 1) := dk_28 (dk_at dksX3_isWord_1 14 rfl rfl)
theorem dX3_isWord_37 : decode cX3_isWord 37 = .ok (.iadd, 1) := dk_96 (dk_at dksX3_isWord_1 15 rfl rfl)
theorem dX3_isWord_38 : decode cX3_isWord 38 = .ok (.baload, 1) := dk_51 (dk_at dksX3_isWord_1 16 rfl rfl)
theorem dX3_isWord_39 : decode cX3_isWord 39 = .ok (.aload_n 1, 1) := dk_43 (dk_at dksX3_isWord_1 17 rfl rfl)
theorem dX3_isWord_40 : decode cX3_isWord 40 = .ok (.iload_n 2, 1) := dk_28 (dk_at dksX3_isWord_1 18 rfl rfl)
theorem dX3_isWord_41 : decode cX3_isWord 41 = .ok (.invokevirtual 61, 3) := dk_182 0 61 (dk_at dksX3_isWord_1 19 rfl rfl)
theorem dX3_isWord_44 : decode cX3_isWord 44 = .ok (.if_icmp .eq 5, 3) := dk_159 0 5 (dk_at dksX3_isWord_2 0 rfl rfl)
theorem dX3_isWord_47 : decode cX3_isWord 47 = .ok (.iconst 0, 1) := dk_3 (dk_at dksX3_isWord_2 3 rfl rfl)
theorem dX3_isWord_48 : decode cX3_isWord 48 = .ok (.ireturn, 1) := dk_172 (dk_at dksX3_isWord_2 4 rfl rfl)
theorem dX3_isWord_49 : decode cX3_isWord 49 = .ok (.iinc 2 1, 3) := dk_132 2 1 (dk_at dksX3_isWord_2 5 rfl rfl)
theorem dX3_isWord_52 : decode cX3_isWord 52 = .ok (.goto (-32), 3) := dk_167 255 224 (dk_at dksX3_isWord_2 8 rfl rfl)
theorem dX3_isWord_55 : decode cX3_isWord 55 = .ok (.iconst 1, 1) := dk_4 (dk_at dksX3_isWord_2 11 rfl rfl)
theorem dX3_isWord_56 : decode cX3_isWord 56 = .ok (.ireturn, 1) := dk_172 (dk_at dksX3_isWord_2 12 rfl rfl)
abbrev cX3_isDigit : ByteArray := prog_15_method_3_code
def yX3_isDigit : MethodName := ⟨RX3, "isDigit", "(I)Z"⟩
def dkwX3_isDigit_0 : List UInt8 := [26, 16, 48, 161, 0, 13, 26, 16, 57, 163, 0, 7, 4, 167, 0, 4, 3, 172]
abbrev dktX3_isDigit_0 : List UInt8 := dkwX3_isDigit_0 ++ []
theorem dksX3_isDigit_0 : cX3_isDigit.data.toList.drop 0 = dktX3_isDigit_0 := by decide +kernel
theorem dX3_isDigit_0 : decode cX3_isDigit 0 = .ok (.iload_n 0, 1) := dk_26 (dk_at dksX3_isDigit_0 0 rfl rfl)
theorem dX3_isDigit_1 : decode cX3_isDigit 1 = .ok (.bipush 48, 2) := dk_16 48 (dk_at dksX3_isDigit_0 1 rfl rfl)
theorem dX3_isDigit_3 : decode cX3_isDigit 3 = .ok (.if_icmp .lt 13, 3) := dk_161 0 13 (dk_at dksX3_isDigit_0 3 rfl rfl)
theorem dX3_isDigit_6 : decode cX3_isDigit 6 = .ok (.iload_n 0, 1) := dk_26 (dk_at dksX3_isDigit_0 6 rfl rfl)
theorem dX3_isDigit_7 : decode cX3_isDigit 7 = .ok (.bipush 57, 2) := dk_16 57 (dk_at dksX3_isDigit_0 7 rfl rfl)
theorem dX3_isDigit_9 : decode cX3_isDigit 9 = .ok (.if_icmp .gt 7, 3) := dk_163 0 7 (dk_at dksX3_isDigit_0 9 rfl rfl)
theorem dX3_isDigit_12 : decode cX3_isDigit 12 = .ok (.iconst 1, 1) := dk_4 (dk_at dksX3_isDigit_0 12 rfl rfl)
theorem dX3_isDigit_13 : decode cX3_isDigit 13 = .ok (.goto 4, 3) := dk_167 0 4 (dk_at dksX3_isDigit_0 13 rfl rfl)
theorem dX3_isDigit_16 : decode cX3_isDigit 16 = .ok (.iconst 0, 1) := dk_3 (dk_at dksX3_isDigit_0 16 rfl rfl)
theorem dX3_isDigit_17 : decode cX3_isDigit 17 = .ok (.ireturn, 1) := dk_172 (dk_at dksX3_isDigit_0 17 rfl rfl)
abbrev cX3_wrong : ByteArray := prog_15_method_6_code
def yX3_wrong : MethodName := ⟨RX3, "wrong", "(I)LBreathOnLoan$Wrong;"⟩
def dkwX3_wrong_0 : List UInt8 := [187, 0, 65, 89, 27, 42, 180, 0, 22, 183, 0, 67, 176]
abbrev dktX3_wrong_0 : List UInt8 := dkwX3_wrong_0 ++ []
theorem dksX3_wrong_0 : cX3_wrong.data.toList.drop 0 = dktX3_wrong_0 := by decide +kernel
theorem dX3_wrong_0 : decode cX3_wrong 0 = .ok (.new 65, 3) := dk_187 0 65 (dk_at dksX3_wrong_0 0 rfl rfl)
theorem dX3_wrong_3 : decode cX3_wrong 3 = .ok (.dup, 1) := dk_89 (dk_at dksX3_wrong_0 3 rfl rfl)
theorem dX3_wrong_4 : decode cX3_wrong 4 = .ok (.iload_n 1, 1) := dk_27 (dk_at dksX3_wrong_0 4 rfl rfl)
theorem dX3_wrong_5 : decode cX3_wrong 5 = .ok (.aload_n 0, 1) := dk_42 (dk_at dksX3_wrong_0 5 rfl rfl)
theorem dX3_wrong_6 : decode cX3_wrong 6 = .ok (.getfield 22, 3) := dk_180 0 22 (dk_at dksX3_wrong_0 6 rfl rfl)
theorem dX3_wrong_9 : decode cX3_wrong 9 = .ok (.invokespecial 67, 3) := dk_183 0 67 (dk_at dksX3_wrong_0 9 rfl rfl)
theorem dX3_wrong_12 : decode cX3_wrong 12 = .ok (.areturn, 1) := dk_176 (dk_at dksX3_wrong_0 12 rfl rfl)
abbrev cX3_doing : ByteArray := prog_15_method_11_code
def yX3_doing : MethodName := ⟨RX3, "doing", "(I)LBreathOnLoan$Doing;"⟩
def dkwX3_doing_4 : List UInt8 := [21, 4, 42, 4, 16, 9, 182, 0, 115, 27, 183, 0, 119, 176]
abbrev dktX3_doing_4 : List UInt8 := dkwX3_doing_4 ++ []
def dkwX3_doing_3 : List UInt8 := [182, 0, 111, 42, 3, 8, 182, 0, 115, 54, 4, 42, 17, 0, 208, 182, 0, 111, 187, 0, 117, 89, 28, 29]
abbrev dktX3_doing_3 : List UInt8 := dkwX3_doing_3 ++ dktX3_doing_4
def dkwX3_doing_2 : List UInt8 := [17, 0, 205, 159, 0, 16, 187, 0, 117, 89, 28, 29, 2, 3, 27, 183, 0, 119, 176, 42, 17, 0, 207]
abbrev dktX3_doing_2 : List UInt8 := dkwX3_doing_2 ++ dktX3_doing_3
def dkwX3_doing_1 : List UInt8 := [167, 0, 21, 42, 3, 28, 17, 0, 204, 160, 0, 7, 8, 167, 0, 5, 16, 9, 182, 0, 115, 62, 28]
abbrev dktX3_doing_1 : List UInt8 := dkwX3_doing_1 ++ dktX3_doing_2
def dkwX3_doing_0 : List UInt8 := [17, 0, 200, 42, 180, 0, 83, 96, 61, 28, 17, 0, 206, 160, 0, 13, 42, 4, 16, 99, 182, 0, 115]
abbrev dktX3_doing_0 : List UInt8 := dkwX3_doing_0 ++ dktX3_doing_1
theorem dksX3_doing_0 : cX3_doing.data.toList.drop 0 = dktX3_doing_0 := by decide +kernel
theorem dksX3_doing_1 : cX3_doing.data.toList.drop 23 = dktX3_doing_1 := dk_seg dksX3_doing_0 23 rfl rfl
theorem dksX3_doing_2 : cX3_doing.data.toList.drop 46 = dktX3_doing_2 := dk_seg dksX3_doing_1 23 rfl rfl
theorem dksX3_doing_3 : cX3_doing.data.toList.drop 69 = dktX3_doing_3 := dk_seg dksX3_doing_2 23 rfl rfl
theorem dksX3_doing_4 : cX3_doing.data.toList.drop 93 = dktX3_doing_4 := dk_seg dksX3_doing_3 24 rfl rfl
theorem dX3_doing_0 : decode cX3_doing 0 = .ok (.sipush 200, 3) := dk_17 0 200 (dk_at dksX3_doing_0 0 rfl rfl)
theorem dX3_doing_3 : decode cX3_doing 3 = .ok (.aload_n 0, 1) := dk_42 (dk_at dksX3_doing_0 3 rfl rfl)
theorem dX3_doing_4 : decode cX3_doing 4 = .ok (.getfield 83, 3) := dk_180 0 83 (dk_at dksX3_doing_0 4 rfl rfl)
theorem dX3_doing_7 : decode cX3_doing 7 = .ok (.iadd, 1) := dk_96 (dk_at dksX3_doing_0 7 rfl rfl)
theorem dX3_doing_8 : decode cX3_doing 8 = .ok (.istore_n 2, 1) := dk_61 (dk_at dksX3_doing_0 8 rfl rfl)
theorem dX3_doing_9 : decode cX3_doing 9 = .ok (.iload_n 2, 1) := dk_28 (dk_at dksX3_doing_0 9 rfl rfl)
theorem dX3_doing_10 : decode cX3_doing 10 = .ok (.sipush 206, 3) := dk_17 0 206 (dk_at dksX3_doing_0 10 rfl rfl)
theorem dX3_doing_13 : decode cX3_doing 13 = .ok (.if_icmp .ne 13, 3) := dk_160 0 13 (dk_at dksX3_doing_0 13 rfl rfl)
theorem dX3_doing_16 : decode cX3_doing 16 = .ok (.aload_n 0, 1) := dk_42 (dk_at dksX3_doing_0 16 rfl rfl)
theorem dX3_doing_17 : decode cX3_doing 17 = .ok (.iconst 1, 1) := dk_4 (dk_at dksX3_doing_0 17 rfl rfl)
theorem dX3_doing_18 : decode cX3_doing 18 = .ok (.bipush 99, 2) := dk_16 99 (dk_at dksX3_doing_0 18 rfl rfl)
theorem dX3_doing_20 : decode cX3_doing 20 = .ok (.invokevirtual 115, 3) := dk_182 0 115 (dk_at dksX3_doing_0 20 rfl rfl)
theorem dX3_doing_23 : decode cX3_doing 23 = .ok (.goto 21, 3) := dk_167 0 21 (dk_at dksX3_doing_1 0 rfl rfl)
theorem dX3_doing_26 : decode cX3_doing 26 = .ok (.aload_n 0, 1) := dk_42 (dk_at dksX3_doing_1 3 rfl rfl)
theorem dX3_doing_27 : decode cX3_doing 27 = .ok (.iconst 0, 1) := dk_3 (dk_at dksX3_doing_1 4 rfl rfl)
theorem dX3_doing_28 : decode cX3_doing 28 = .ok (.iload_n 2, 1) := dk_28 (dk_at dksX3_doing_1 5 rfl rfl)
theorem dX3_doing_29 : decode cX3_doing 29 = .ok (.sipush 204, 3) := dk_17 0 204 (dk_at dksX3_doing_1 6 rfl rfl)
theorem dX3_doing_32 : decode cX3_doing 32 = .ok (.if_icmp .ne 7, 3) := dk_160 0 7 (dk_at dksX3_doing_1 9 rfl rfl)
theorem dX3_doing_35 : decode cX3_doing 35 = .ok (.iconst 5, 1) := dk_8 (dk_at dksX3_doing_1 12 rfl rfl)
theorem dX3_doing_36 : decode cX3_doing 36 = .ok (.goto 5, 3) := dk_167 0 5 (dk_at dksX3_doing_1 13 rfl rfl)
theorem dX3_doing_39 : decode cX3_doing 39 = .ok (.bipush 9, 2) := dk_16 9 (dk_at dksX3_doing_1 16 rfl rfl)
theorem dX3_doing_41 : decode cX3_doing 41 = .ok (.invokevirtual 115, 3) := dk_182 0 115 (dk_at dksX3_doing_1 18 rfl rfl)
theorem dX3_doing_44 : decode cX3_doing 44 = .ok (.istore_n 3, 1) := dk_62 (dk_at dksX3_doing_1 21 rfl rfl)
theorem dX3_doing_45 : decode cX3_doing 45 = .ok (.iload_n 2, 1) := dk_28 (dk_at dksX3_doing_1 22 rfl rfl)
theorem dX3_doing_46 : decode cX3_doing 46 = .ok (.sipush 205, 3) := dk_17 0 205 (dk_at dksX3_doing_2 0 rfl rfl)
theorem dX3_doing_49 : decode cX3_doing 49 = .ok (.if_icmp .eq 16, 3) := dk_159 0 16 (dk_at dksX3_doing_2 3 rfl rfl)
theorem dX3_doing_52 : decode cX3_doing 52 = .ok (.new 117, 3) := dk_187 0 117 (dk_at dksX3_doing_2 6 rfl rfl)
theorem dX3_doing_55 : decode cX3_doing 55 = .ok (.dup, 1) := dk_89 (dk_at dksX3_doing_2 9 rfl rfl)
theorem dX3_doing_56 : decode cX3_doing 56 = .ok (.iload_n 2, 1) := dk_28 (dk_at dksX3_doing_2 10 rfl rfl)
theorem dX3_doing_57 : decode cX3_doing 57 = .ok (.iload_n 3, 1) := dk_29 (dk_at dksX3_doing_2 11 rfl rfl)
theorem dX3_doing_58 : decode cX3_doing 58 = .ok (.iconst (-1), 1) := dk_2 (dk_at dksX3_doing_2 12 rfl rfl)
theorem dX3_doing_59 : decode cX3_doing 59 = .ok (.iconst 0, 1) := dk_3 (dk_at dksX3_doing_2 13 rfl rfl)
theorem dX3_doing_60 : decode cX3_doing 60 = .ok (.iload_n 1, 1) := dk_27 (dk_at dksX3_doing_2 14 rfl rfl)
theorem dX3_doing_61 : decode cX3_doing 61 = .ok (.invokespecial 119, 3) := dk_183 0 119 (dk_at dksX3_doing_2 15 rfl rfl)
theorem dX3_doing_64 : decode cX3_doing 64 = .ok (.areturn, 1) := dk_176 (dk_at dksX3_doing_2 18 rfl rfl)
theorem dX3_doing_65 : decode cX3_doing 65 = .ok (.aload_n 0, 1) := dk_42 (dk_at dksX3_doing_2 19 rfl rfl)
theorem dX3_doing_66 : decode cX3_doing 66 = .ok (.sipush 207, 3) := dk_17 0 207 (dk_at dksX3_doing_2 20 rfl rfl)
theorem dX3_doing_69 : decode cX3_doing 69 = .ok (.invokevirtual 111, 3) := dk_182 0 111 (dk_at dksX3_doing_3 0 rfl rfl)
theorem dX3_doing_72 : decode cX3_doing 72 = .ok (.aload_n 0, 1) := dk_42 (dk_at dksX3_doing_3 3 rfl rfl)
theorem dX3_doing_73 : decode cX3_doing 73 = .ok (.iconst 0, 1) := dk_3 (dk_at dksX3_doing_3 4 rfl rfl)
theorem dX3_doing_74 : decode cX3_doing 74 = .ok (.iconst 5, 1) := dk_8 (dk_at dksX3_doing_3 5 rfl rfl)
theorem dX3_doing_75 : decode cX3_doing 75 = .ok (.invokevirtual 115, 3) := dk_182 0 115 (dk_at dksX3_doing_3 6 rfl rfl)
theorem dX3_doing_78 : decode cX3_doing 78 = .ok (.istore 4, 2) := dk_54 4 (dk_at dksX3_doing_3 9 rfl rfl)
theorem dX3_doing_80 : decode cX3_doing 80 = .ok (.aload_n 0, 1) := dk_42 (dk_at dksX3_doing_3 11 rfl rfl)
theorem dX3_doing_81 : decode cX3_doing 81 = .ok (.sipush 208, 3) := dk_17 0 208 (dk_at dksX3_doing_3 12 rfl rfl)
theorem dX3_doing_84 : decode cX3_doing 84 = .ok (.invokevirtual 111, 3) := dk_182 0 111 (dk_at dksX3_doing_3 15 rfl rfl)
theorem dX3_doing_87 : decode cX3_doing 87 = .ok (.new 117, 3) := dk_187 0 117 (dk_at dksX3_doing_3 18 rfl rfl)
theorem dX3_doing_90 : decode cX3_doing 90 = .ok (.dup, 1) := dk_89 (dk_at dksX3_doing_3 21 rfl rfl)
theorem dX3_doing_91 : decode cX3_doing 91 = .ok (.iload_n 2, 1) := dk_28 (dk_at dksX3_doing_3 22 rfl rfl)
theorem dX3_doing_92 : decode cX3_doing 92 = .ok (.iload_n 3, 1) := dk_29 (dk_at dksX3_doing_3 23 rfl rfl)
theorem dX3_doing_93 : decode cX3_doing 93 = .ok (.iload 4, 2) := dk_21 4 (dk_at dksX3_doing_4 0 rfl rfl)
theorem dX3_doing_95 : decode cX3_doing 95 = .ok (.aload_n 0, 1) := dk_42 (dk_at dksX3_doing_4 2 rfl rfl)
theorem dX3_doing_96 : decode cX3_doing 96 = .ok (.iconst 1, 1) := dk_4 (dk_at dksX3_doing_4 3 rfl rfl)
theorem dX3_doing_97 : decode cX3_doing 97 = .ok (.bipush 9, 2) := dk_16 9 (dk_at dksX3_doing_4 4 rfl rfl)
theorem dX3_doing_99 : decode cX3_doing 99 = .ok (.invokevirtual 115, 3) := dk_182 0 115 (dk_at dksX3_doing_4 6 rfl rfl)
theorem dX3_doing_102 : decode cX3_doing 102 = .ok (.iload_n 1, 1) := dk_27 (dk_at dksX3_doing_4 9 rfl rfl)
theorem dX3_doing_103 : decode cX3_doing 103 = .ok (.invokespecial 119, 3) := dk_183 0 119 (dk_at dksX3_doing_4 10 rfl rfl)
theorem dX3_doing_106 : decode cX3_doing 106 = .ok (.areturn, 1) := dk_176 (dk_at dksX3_doing_4 13 rfl rfl)
abbrev cX3_number : ByteArray := prog_15_method_8_code
def yX3_number : MethodName := ⟨RX3, "number", "(II)I"⟩
def dkwX3_number_2 : List UInt8 := [172]
abbrev dktX3_number_2 : List UInt8 := dkwX3_number_2 ++ []
def dkwX3_number_1 : List UInt8 := [42, 180, 0, 43, 28, 164, 0, 9, 42, 5, 182, 0, 70, 191, 42, 180, 0, 43, 62, 42, 182, 0, 74, 29]
abbrev dktX3_number_1 : List UInt8 := dkwX3_number_1 ++ dktX3_number_2
def dkwX3_number_0 : List UInt8 := [42, 180, 0, 25, 17, 1, 44, 159, 0, 9, 42, 4, 182, 0, 70, 191, 42, 180, 0, 43, 27, 161, 0, 11]
abbrev dktX3_number_0 : List UInt8 := dkwX3_number_0 ++ dktX3_number_1
theorem dksX3_number_0 : cX3_number.data.toList.drop 0 = dktX3_number_0 := by decide +kernel
theorem dksX3_number_1 : cX3_number.data.toList.drop 24 = dktX3_number_1 := dk_seg dksX3_number_0 24 rfl rfl
theorem dksX3_number_2 : cX3_number.data.toList.drop 48 = dktX3_number_2 := dk_seg dksX3_number_1 24 rfl rfl
theorem dX3_number_0 : decode cX3_number 0 = .ok (.aload_n 0, 1) := dk_42 (dk_at dksX3_number_0 0 rfl rfl)
theorem dX3_number_1 : decode cX3_number 1 = .ok (.getfield 25, 3) := dk_180 0 25 (dk_at dksX3_number_0 1 rfl rfl)
theorem dX3_number_4 : decode cX3_number 4 = .ok (.sipush 300, 3) := dk_17 1 44 (dk_at dksX3_number_0 4 rfl rfl)
theorem dX3_number_7 : decode cX3_number 7 = .ok (.if_icmp .eq 9, 3) := dk_159 0 9 (dk_at dksX3_number_0 7 rfl rfl)
theorem dX3_number_10 : decode cX3_number 10 = .ok (.aload_n 0, 1) := dk_42 (dk_at dksX3_number_0 10 rfl rfl)
theorem dX3_number_11 : decode cX3_number 11 = .ok (.iconst 1, 1) := dk_4 (dk_at dksX3_number_0 11 rfl rfl)
theorem dX3_number_12 : decode cX3_number 12 = .ok (.invokevirtual 70, 3) := dk_182 0 70 (dk_at dksX3_number_0 12 rfl rfl)
theorem dX3_number_15 : decode cX3_number 15 = .ok (.athrow, 1) := dk_191 (dk_at dksX3_number_0 15 rfl rfl)
theorem dX3_number_16 : decode cX3_number 16 = .ok (.aload_n 0, 1) := dk_42 (dk_at dksX3_number_0 16 rfl rfl)
theorem dX3_number_17 : decode cX3_number 17 = .ok (.getfield 43, 3) := dk_180 0 43 (dk_at dksX3_number_0 17 rfl rfl)
theorem dX3_number_20 : decode cX3_number 20 = .ok (.iload_n 1, 1) := dk_27 (dk_at dksX3_number_0 20 rfl rfl)
theorem dX3_number_21 : decode cX3_number 21 = .ok (.if_icmp .lt 11, 3) := dk_161 0 11 (dk_at dksX3_number_0 21 rfl rfl)
theorem dX3_number_24 : decode cX3_number 24 = .ok (.aload_n 0, 1) := dk_42 (dk_at dksX3_number_1 0 rfl rfl)
theorem dX3_number_25 : decode cX3_number 25 = .ok (.getfield 43, 3) := dk_180 0 43 (dk_at dksX3_number_1 1 rfl rfl)
theorem dX3_number_28 : decode cX3_number 28 = .ok (.iload_n 2, 1) := dk_28 (dk_at dksX3_number_1 4 rfl rfl)
theorem dX3_number_29 : decode cX3_number 29 = .ok (.if_icmp .le 9, 3) := dk_164 0 9 (dk_at dksX3_number_1 5 rfl rfl)
theorem dX3_number_32 : decode cX3_number 32 = .ok (.aload_n 0, 1) := dk_42 (dk_at dksX3_number_1 8 rfl rfl)
theorem dX3_number_33 : decode cX3_number 33 = .ok (.iconst 2, 1) := dk_5 (dk_at dksX3_number_1 9 rfl rfl)
theorem dX3_number_34 : decode cX3_number 34 = .ok (.invokevirtual 70, 3) := dk_182 0 70 (dk_at dksX3_number_1 10 rfl rfl)
theorem dX3_number_37 : decode cX3_number 37 = .ok (.athrow, 1) := dk_191 (dk_at dksX3_number_1 13 rfl rfl)
theorem dX3_number_38 : decode cX3_number 38 = .ok (.aload_n 0, 1) := dk_42 (dk_at dksX3_number_1 14 rfl rfl)
theorem dX3_number_39 : decode cX3_number 39 = .ok (.getfield 43, 3) := dk_180 0 43 (dk_at dksX3_number_1 15 rfl rfl)
theorem dX3_number_42 : decode cX3_number 42 = .ok (.istore_n 3, 1) := dk_62 (dk_at dksX3_number_1 18 rfl rfl)
theorem dX3_number_43 : decode cX3_number 43 = .ok (.aload_n 0, 1) := dk_42 (dk_at dksX3_number_1 19 rfl rfl)
theorem dX3_number_44 : decode cX3_number 44 = .ok (.invokevirtual 74, 3) := dk_182 0 74 (dk_at dksX3_number_1 20 rfl rfl)
theorem dX3_number_47 : decode cX3_number 47 = .ok (.iload_n 3, 1) := dk_29 (dk_at dksX3_number_1 23 rfl rfl)
theorem dX3_number_48 : decode cX3_number 48 = .ok (.ireturn, 1) := dk_172 (dk_at dksX3_number_2 0 rfl rfl)
abbrev cX3_want : ByteArray := prog_15_method_7_code
def yX3_want : MethodName := ⟨RX3, "want", "(I)V"⟩
def dkwX3_want_0 : List UInt8 := [42, 180, 0, 25, 27, 159, 0, 9, 42, 4, 182, 0, 70, 191, 42, 182, 0, 74, 177]
abbrev dktX3_want_0 : List UInt8 := dkwX3_want_0 ++ []
theorem dksX3_want_0 : cX3_want.data.toList.drop 0 = dktX3_want_0 := by decide +kernel
theorem dX3_want_0 : decode cX3_want 0 = .ok (.aload_n 0, 1) := dk_42 (dk_at dksX3_want_0 0 rfl rfl)
theorem dX3_want_1 : decode cX3_want 1 = .ok (.getfield 25, 3) := dk_180 0 25 (dk_at dksX3_want_0 1 rfl rfl)
theorem dX3_want_4 : decode cX3_want 4 = .ok (.iload_n 1, 1) := dk_27 (dk_at dksX3_want_0 4 rfl rfl)
theorem dX3_want_5 : decode cX3_want 5 = .ok (.if_icmp .eq 9, 3) := dk_159 0 9 (dk_at dksX3_want_0 5 rfl rfl)
theorem dX3_want_8 : decode cX3_want 8 = .ok (.aload_n 0, 1) := dk_42 (dk_at dksX3_want_0 8 rfl rfl)
theorem dX3_want_9 : decode cX3_want 9 = .ok (.iconst 1, 1) := dk_4 (dk_at dksX3_want_0 9 rfl rfl)
theorem dX3_want_10 : decode cX3_want 10 = .ok (.invokevirtual 70, 3) := dk_182 0 70 (dk_at dksX3_want_0 10 rfl rfl)
theorem dX3_want_13 : decode cX3_want 13 = .ok (.athrow, 1) := dk_191 (dk_at dksX3_want_0 13 rfl rfl)
theorem dX3_want_14 : decode cX3_want 14 = .ok (.aload_n 0, 1) := dk_42 (dk_at dksX3_want_0 14 rfl rfl)
theorem dX3_want_15 : decode cX3_want 15 = .ok (.invokevirtual 74, 3) := dk_182 0 74 (dk_at dksX3_want_0 15 rfl rfl)
theorem dX3_want_18 : decode cX3_want 18 = .ok (.return_, 1) := dk_177 (dk_at dksX3_want_0 18 rfl rfl)
abbrev cX3_sum : ByteArray := prog_15_method_15_code
def yX3_sum : MethodName := ⟨RX3, "sum", "()LBreathOnLoan$Sum;"⟩
def dkwX3_sum_2 : List UInt8 := [182, 0, 164, 167, 255, 220, 43, 182, 0, 167, 176]
abbrev dktX3_sum_2 : List UInt8 := dkwX3_sum_2 ++ []
def dkwX3_sum_1 : List UInt8 := [180, 0, 25, 16, 45, 160, 0, 24, 42, 180, 0, 25, 61, 42, 182, 0, 74, 43, 28, 42, 182, 0, 158]
abbrev dktX3_sum_1 : List UInt8 := dkwX3_sum_1 ++ dktX3_sum_2
def dkwX3_sum_0 : List UInt8 := [187, 0, 156, 89, 42, 182, 0, 158, 183, 0, 161, 76, 42, 180, 0, 25, 16, 43, 159, 0, 12, 42]
abbrev dktX3_sum_0 : List UInt8 := dkwX3_sum_0 ++ dktX3_sum_1
theorem dksX3_sum_0 : cX3_sum.data.toList.drop 0 = dktX3_sum_0 := by decide +kernel
theorem dksX3_sum_1 : cX3_sum.data.toList.drop 22 = dktX3_sum_1 := dk_seg dksX3_sum_0 22 rfl rfl
theorem dksX3_sum_2 : cX3_sum.data.toList.drop 45 = dktX3_sum_2 := dk_seg dksX3_sum_1 23 rfl rfl
theorem dX3_sum_0 : decode cX3_sum 0 = .ok (.new 156, 3) := dk_187 0 156 (dk_at dksX3_sum_0 0 rfl rfl)
theorem dX3_sum_3 : decode cX3_sum 3 = .ok (.dup, 1) := dk_89 (dk_at dksX3_sum_0 3 rfl rfl)
theorem dX3_sum_4 : decode cX3_sum 4 = .ok (.aload_n 0, 1) := dk_42 (dk_at dksX3_sum_0 4 rfl rfl)
theorem dX3_sum_5 : decode cX3_sum 5 = .ok (.invokevirtual 158, 3) := dk_182 0 158 (dk_at dksX3_sum_0 5 rfl rfl)
theorem dX3_sum_8 : decode cX3_sum 8 = .ok (.invokespecial 161, 3) := dk_183 0 161 (dk_at dksX3_sum_0 8 rfl rfl)
theorem dX3_sum_11 : decode cX3_sum 11 = .ok (.astore_n 1, 1) := dk_76 (dk_at dksX3_sum_0 11 rfl rfl)
theorem dX3_sum_12 : decode cX3_sum 12 = .ok (.aload_n 0, 1) := dk_42 (dk_at dksX3_sum_0 12 rfl rfl)
theorem dX3_sum_13 : decode cX3_sum 13 = .ok (.getfield 25, 3) := dk_180 0 25 (dk_at dksX3_sum_0 13 rfl rfl)
theorem dX3_sum_16 : decode cX3_sum 16 = .ok (.bipush 43, 2) := dk_16 43 (dk_at dksX3_sum_0 16 rfl rfl)
theorem dX3_sum_18 : decode cX3_sum 18 = .ok (.if_icmp .eq 12, 3) := dk_159 0 12 (dk_at dksX3_sum_0 18 rfl rfl)
theorem dX3_sum_21 : decode cX3_sum 21 = .ok (.aload_n 0, 1) := dk_42 (dk_at dksX3_sum_0 21 rfl rfl)
theorem dX3_sum_22 : decode cX3_sum 22 = .ok (.getfield 25, 3) := dk_180 0 25 (dk_at dksX3_sum_1 0 rfl rfl)
theorem dX3_sum_25 : decode cX3_sum 25 = .ok (.bipush 45, 2) := dk_16 45 (dk_at dksX3_sum_1 3 rfl rfl)
theorem dX3_sum_27 : decode cX3_sum 27 = .ok (.if_icmp .ne 24, 3) := dk_160 0 24 (dk_at dksX3_sum_1 5 rfl rfl)
theorem dX3_sum_30 : decode cX3_sum 30 = .ok (.aload_n 0, 1) := dk_42 (dk_at dksX3_sum_1 8 rfl rfl)
theorem dX3_sum_31 : decode cX3_sum 31 = .ok (.getfield 25, 3) := dk_180 0 25 (dk_at dksX3_sum_1 9 rfl rfl)
theorem dX3_sum_34 : decode cX3_sum 34 = .ok (.istore_n 2, 1) := dk_61 (dk_at dksX3_sum_1 12 rfl rfl)
theorem dX3_sum_35 : decode cX3_sum 35 = .ok (.aload_n 0, 1) := dk_42 (dk_at dksX3_sum_1 13 rfl rfl)
theorem dX3_sum_36 : decode cX3_sum 36 = .ok (.invokevirtual 74, 3) := dk_182 0 74 (dk_at dksX3_sum_1 14 rfl rfl)
theorem dX3_sum_39 : decode cX3_sum 39 = .ok (.aload_n 1, 1) := dk_43 (dk_at dksX3_sum_1 17 rfl rfl)
theorem dX3_sum_40 : decode cX3_sum 40 = .ok (.iload_n 2, 1) := dk_28 (dk_at dksX3_sum_1 18 rfl rfl)
theorem dX3_sum_41 : decode cX3_sum 41 = .ok (.aload_n 0, 1) := dk_42 (dk_at dksX3_sum_1 19 rfl rfl)
theorem dX3_sum_42 : decode cX3_sum 42 = .ok (.invokevirtual 158, 3) := dk_182 0 158 (dk_at dksX3_sum_1 20 rfl rfl)
theorem dX3_sum_45 : decode cX3_sum 45 = .ok (.invokevirtual 164, 3) := dk_182 0 164 (dk_at dksX3_sum_2 0 rfl rfl)
theorem dX3_sum_48 : decode cX3_sum 48 = .ok (.goto (-36), 3) := dk_167 255 220 (dk_at dksX3_sum_2 3 rfl rfl)
theorem dX3_sum_51 : decode cX3_sum 51 = .ok (.aload_n 1, 1) := dk_43 (dk_at dksX3_sum_2 6 rfl rfl)
theorem dX3_sum_52 : decode cX3_sum 52 = .ok (.invokevirtual 167, 3) := dk_182 0 167 (dk_at dksX3_sum_2 7 rfl rfl)
theorem dX3_sum_55 : decode cX3_sum 55 = .ok (.areturn, 1) := dk_176 (dk_at dksX3_sum_2 10 rfl rfl)
abbrev cX3_product : ByteArray := prog_15_method_16_code
def yX3_product : MethodName := ⟨RX3, "product", "()LBreathOnLoan$Sum;"⟩
def dkwX3_product_2 : List UInt8 := [182, 0, 164, 167, 255, 220, 43, 182, 0, 167, 176]
abbrev dktX3_product_2 : List UInt8 := dkwX3_product_2 ++ []
def dkwX3_product_1 : List UInt8 := [180, 0, 25, 16, 47, 160, 0, 24, 42, 180, 0, 25, 61, 42, 182, 0, 74, 43, 28, 42, 182, 0, 170]
abbrev dktX3_product_1 : List UInt8 := dkwX3_product_1 ++ dktX3_product_2
def dkwX3_product_0 : List UInt8 := [187, 0, 156, 89, 42, 182, 0, 170, 183, 0, 161, 76, 42, 180, 0, 25, 16, 42, 159, 0, 12, 42]
abbrev dktX3_product_0 : List UInt8 := dkwX3_product_0 ++ dktX3_product_1
theorem dksX3_product_0 : cX3_product.data.toList.drop 0 = dktX3_product_0 := by decide +kernel
theorem dksX3_product_1 : cX3_product.data.toList.drop 22 = dktX3_product_1 := dk_seg dksX3_product_0 22 rfl rfl
theorem dksX3_product_2 : cX3_product.data.toList.drop 45 = dktX3_product_2 := dk_seg dksX3_product_1 23 rfl rfl
theorem dX3_product_0 : decode cX3_product 0 = .ok (.new 156, 3) := dk_187 0 156 (dk_at dksX3_product_0 0 rfl rfl)
theorem dX3_product_3 : decode cX3_product 3 = .ok (.dup, 1) := dk_89 (dk_at dksX3_product_0 3 rfl rfl)
theorem dX3_product_4 : decode cX3_product 4 = .ok (.aload_n 0, 1) := dk_42 (dk_at dksX3_product_0 4 rfl rfl)
theorem dX3_product_5 : decode cX3_product 5 = .ok (.invokevirtual 170, 3) := dk_182 0 170 (dk_at dksX3_product_0 5 rfl rfl)
theorem dX3_product_8 : decode cX3_product 8 = .ok (.invokespecial 161, 3) := dk_183 0 161 (dk_at dksX3_product_0 8 rfl rfl)
theorem dX3_product_11 : decode cX3_product 11 = .ok (.astore_n 1, 1) := dk_76 (dk_at dksX3_product_0 11 rfl rfl)
theorem dX3_product_12 : decode cX3_product 12 = .ok (.aload_n 0, 1) := dk_42 (dk_at dksX3_product_0 12 rfl rfl)
theorem dX3_product_13 : decode cX3_product 13 = .ok (.getfield 25, 3) := dk_180 0 25 (dk_at dksX3_product_0 13 rfl rfl)
theorem dX3_product_16 : decode cX3_product 16 = .ok (.bipush 42, 2) := dk_16 42 (dk_at dksX3_product_0 16 rfl rfl)
theorem dX3_product_18 : decode cX3_product 18 = .ok (.if_icmp .eq 12, 3) := dk_159 0 12 (dk_at dksX3_product_0 18 rfl rfl)
theorem dX3_product_21 : decode cX3_product 21 = .ok (.aload_n 0, 1) := dk_42 (dk_at dksX3_product_0 21 rfl rfl)
theorem dX3_product_22 : decode cX3_product 22 = .ok (.getfield 25, 3) := dk_180 0 25 (dk_at dksX3_product_1 0 rfl rfl)
theorem dX3_product_25 : decode cX3_product 25 = .ok (.bipush 47, 2) := dk_16 47 (dk_at dksX3_product_1 3 rfl rfl)
theorem dX3_product_27 : decode cX3_product 27 = .ok (.if_icmp .ne 24, 3) := dk_160 0 24 (dk_at dksX3_product_1 5 rfl rfl)
theorem dX3_product_30 : decode cX3_product 30 = .ok (.aload_n 0, 1) := dk_42 (dk_at dksX3_product_1 8 rfl rfl)
theorem dX3_product_31 : decode cX3_product 31 = .ok (.getfield 25, 3) := dk_180 0 25 (dk_at dksX3_product_1 9 rfl rfl)
theorem dX3_product_34 : decode cX3_product 34 = .ok (.istore_n 2, 1) := dk_61 (dk_at dksX3_product_1 12 rfl rfl)
theorem dX3_product_35 : decode cX3_product 35 = .ok (.aload_n 0, 1) := dk_42 (dk_at dksX3_product_1 13 rfl rfl)
theorem dX3_product_36 : decode cX3_product 36 = .ok (.invokevirtual 74, 3) := dk_182 0 74 (dk_at dksX3_product_1 14 rfl rfl)
theorem dX3_product_39 : decode cX3_product 39 = .ok (.aload_n 1, 1) := dk_43 (dk_at dksX3_product_1 17 rfl rfl)
theorem dX3_product_40 : decode cX3_product 40 = .ok (.iload_n 2, 1) := dk_28 (dk_at dksX3_product_1 18 rfl rfl)
theorem dX3_product_41 : decode cX3_product 41 = .ok (.aload_n 0, 1) := dk_42 (dk_at dksX3_product_1 19 rfl rfl)
theorem dX3_product_42 : decode cX3_product 42 = .ok (.invokevirtual 170, 3) := dk_182 0 170 (dk_at dksX3_product_1 20 rfl rfl)
theorem dX3_product_45 : decode cX3_product 45 = .ok (.invokevirtual 164, 3) := dk_182 0 164 (dk_at dksX3_product_2 0 rfl rfl)
theorem dX3_product_48 : decode cX3_product 48 = .ok (.goto (-36), 3) := dk_167 255 220 (dk_at dksX3_product_2 3 rfl rfl)
theorem dX3_product_51 : decode cX3_product 51 = .ok (.aload_n 1, 1) := dk_43 (dk_at dksX3_product_2 6 rfl rfl)
theorem dX3_product_52 : decode cX3_product 52 = .ok (.invokevirtual 167, 3) := dk_182 0 167 (dk_at dksX3_product_2 7 rfl rfl)
theorem dX3_product_55 : decode cX3_product 55 = .ok (.areturn, 1) := dk_176 (dk_at dksX3_product_2 10 rfl rfl)
abbrev cX3_one : ByteArray := prog_15_method_17_code
def yX3_one : MethodName := ⟨RX3, "one", "()LBreathOnLoan$Sum;"⟩
def dkwX3_one_7 : List UInt8 := [167, 0, 9, 42, 4, 182, 0, 70, 191, 42, 89, 180, 0, 77, 4, 100, 181, 0, 77, 43, 176]
abbrev dktX3_one_7 : List UInt8 := dkwX3_one_7 ++ []
def dkwX3_one_6 : List UInt8 := [180, 0, 25, 16, 45, 160, 0, 22, 42, 182, 0, 143, 187, 0, 187, 89, 42, 182, 0, 170, 183, 0, 189, 76]
abbrev dktX3_one_6 : List UInt8 := dkwX3_one_6 ++ dktX3_one_7
def dkwX3_one_5 : List UInt8 := [16, 40, 160, 0, 21, 42, 182, 0, 143, 42, 182, 0, 107, 76, 42, 16, 41, 182, 0, 111, 167, 0, 37, 42]
abbrev dktX3_one_5 : List UInt8 := dkwX3_one_5 ++ dktX3_one_6
def dkwX3_one_4 : List UInt8 := [43, 176, 42, 180, 0, 25, 17, 0, 209, 160, 0, 11, 42, 182, 0, 184, 76, 167, 0, 64, 42, 180, 0, 25]
abbrev dktX3_one_4 : List UInt8 := dkwX3_one_4 ++ dktX3_one_5
def dkwX3_one_3 : List UInt8 := [182, 0, 70, 191, 187, 0, 181, 89, 42, 180, 0, 25, 17, 0, 214, 100, 183, 0, 183, 76, 42, 182, 0, 74]
abbrev dktX3_one_3 : List UInt8 := dkwX3_one_3 ++ dktX3_one_4
def dkwX3_one_2 : List UInt8 := [178, 0, 177, 42, 180, 0, 83, 46, 42, 180, 0, 25, 17, 0, 214, 100, 122, 4, 126, 154, 0, 9, 42, 8]
abbrev dktX3_one_2 : List UInt8 := dkwX3_one_2 ++ dktX3_one_3
def dkwX3_one_1 : List UInt8 := [183, 0, 175, 176, 42, 180, 0, 25, 17, 0, 214, 161, 0, 63, 42, 180, 0, 25, 17, 0, 224, 163, 0, 53]
abbrev dktX3_one_1 : List UInt8 := dkwX3_one_1 ++ dktX3_one_2
def dkwX3_one_0 : List UInt8 := [42, 180, 0, 25, 17, 1, 44, 160, 0, 19, 187, 0, 173, 89, 42, 3, 17, 39, 15, 182, 0, 115]
abbrev dktX3_one_0 : List UInt8 := dkwX3_one_0 ++ dktX3_one_1
theorem dksX3_one_0 : cX3_one.data.toList.drop 0 = dktX3_one_0 := by decide +kernel
theorem dksX3_one_1 : cX3_one.data.toList.drop 22 = dktX3_one_1 := dk_seg dksX3_one_0 22 rfl rfl
theorem dksX3_one_2 : cX3_one.data.toList.drop 46 = dktX3_one_2 := dk_seg dksX3_one_1 24 rfl rfl
theorem dksX3_one_3 : cX3_one.data.toList.drop 70 = dktX3_one_3 := dk_seg dksX3_one_2 24 rfl rfl
theorem dksX3_one_4 : cX3_one.data.toList.drop 94 = dktX3_one_4 := dk_seg dksX3_one_3 24 rfl rfl
theorem dksX3_one_5 : cX3_one.data.toList.drop 118 = dktX3_one_5 := dk_seg dksX3_one_4 24 rfl rfl
theorem dksX3_one_6 : cX3_one.data.toList.drop 142 = dktX3_one_6 := dk_seg dksX3_one_5 24 rfl rfl
theorem dksX3_one_7 : cX3_one.data.toList.drop 166 = dktX3_one_7 := dk_seg dksX3_one_6 24 rfl rfl
theorem dX3_one_0 : decode cX3_one 0 = .ok (.aload_n 0, 1) := dk_42 (dk_at dksX3_one_0 0 rfl rfl)
theorem dX3_one_1 : decode cX3_one 1 = .ok (.getfield 25, 3) := dk_180 0 25 (dk_at dksX3_one_0 1 rfl rfl)
theorem dX3_one_4 : decode cX3_one 4 = .ok (.sipush 300, 3) := dk_17 1 44 (dk_at dksX3_one_0 4 rfl rfl)
theorem dX3_one_7 : decode cX3_one 7 = .ok (.if_icmp .ne 19, 3) := dk_160 0 19 (dk_at dksX3_one_0 7 rfl rfl)
theorem dX3_one_10 : decode cX3_one 10 = .ok (.new 173, 3) := dk_187 0 173 (dk_at dksX3_one_0 10 rfl rfl)
theorem dX3_one_13 : decode cX3_one 13 = .ok (.dup, 1) := dk_89 (dk_at dksX3_one_0 13 rfl rfl)
theorem dX3_one_14 : decode cX3_one 14 = .ok (.aload_n 0, 1) := dk_42 (dk_at dksX3_one_0 14 rfl rfl)
theorem dX3_one_15 : decode cX3_one 15 = .ok (.iconst 0, 1) := dk_3 (dk_at dksX3_one_0 15 rfl rfl)
theorem dX3_one_16 : decode cX3_one 16 = .ok (.sipush 9999, 3) := dk_17 39 15 (dk_at dksX3_one_0 16 rfl rfl)
theorem dX3_one_19 : decode cX3_one 19 = .ok (.invokevirtual 115, 3) := dk_182 0 115 (dk_at dksX3_one_0 19 rfl rfl)
theorem dX3_one_22 : decode cX3_one 22 = .ok (.invokespecial 175, 3) := dk_183 0 175 (dk_at dksX3_one_1 0 rfl rfl)
theorem dX3_one_25 : decode cX3_one 25 = .ok (.areturn, 1) := dk_176 (dk_at dksX3_one_1 3 rfl rfl)
theorem dX3_one_26 : decode cX3_one 26 = .ok (.aload_n 0, 1) := dk_42 (dk_at dksX3_one_1 4 rfl rfl)
theorem dX3_one_27 : decode cX3_one 27 = .ok (.getfield 25, 3) := dk_180 0 25 (dk_at dksX3_one_1 5 rfl rfl)
theorem dX3_one_30 : decode cX3_one 30 = .ok (.sipush 214, 3) := dk_17 0 214 (dk_at dksX3_one_1 8 rfl rfl)
theorem dX3_one_33 : decode cX3_one 33 = .ok (.if_icmp .lt 63, 3) := dk_161 0 63 (dk_at dksX3_one_1 11 rfl rfl)
theorem dX3_one_36 : decode cX3_one 36 = .ok (.aload_n 0, 1) := dk_42 (dk_at dksX3_one_1 14 rfl rfl)
theorem dX3_one_37 : decode cX3_one 37 = .ok (.getfield 25, 3) := dk_180 0 25 (dk_at dksX3_one_1 15 rfl rfl)
theorem dX3_one_40 : decode cX3_one 40 = .ok (.sipush 224, 3) := dk_17 0 224 (dk_at dksX3_one_1 18 rfl rfl)
theorem dX3_one_43 : decode cX3_one 43 = .ok (.if_icmp .gt 53, 3) := dk_163 0 53 (dk_at dksX3_one_1 21 rfl rfl)
theorem dX3_one_46 : decode cX3_one 46 = .ok (.getstatic 177, 3) := dk_178 0 177 (dk_at dksX3_one_2 0 rfl rfl)
theorem dX3_one_49 : decode cX3_one 49 = .ok (.aload_n 0, 1) := dk_42 (dk_at dksX3_one_2 3 rfl rfl)
theorem dX3_one_50 : decode cX3_one 50 = .ok (.getfield 83, 3) := dk_180 0 83 (dk_at dksX3_one_2 4 rfl rfl)
theorem dX3_one_53 : decode cX3_one 53 = .ok (.iaload, 1) := dk_46 (dk_at dksX3_one_2 7 rfl rfl)
theorem dX3_one_54 : decode cX3_one 54 = .ok (.aload_n 0, 1) := dk_42 (dk_at dksX3_one_2 8 rfl rfl)
theorem dX3_one_55 : decode cX3_one 55 = .ok (.getfield 25, 3) := dk_180 0 25 (dk_at dksX3_one_2 9 rfl rfl)
theorem dX3_one_58 : decode cX3_one 58 = .ok (.sipush 214, 3) := dk_17 0 214 (dk_at dksX3_one_2 12 rfl rfl)
theorem dX3_one_61 : decode cX3_one 61 = .ok (.isub, 1) := dk_100 (dk_at dksX3_one_2 15 rfl rfl)
theorem dX3_one_62 : decode cX3_one 62 = .ok (.ishr, 1) := dk_122 (dk_at dksX3_one_2 16 rfl rfl)
theorem dX3_one_63 : decode cX3_one 63 = .ok (.iconst 1, 1) := dk_4 (dk_at dksX3_one_2 17 rfl rfl)
theorem dX3_one_64 : decode cX3_one 64 = .ok (.iand, 1) := dk_126 (dk_at dksX3_one_2 18 rfl rfl)
theorem dX3_one_65 : decode cX3_one 65 = .ok (.ifCond .ne 9, 3) := dk_154 0 9 (dk_at dksX3_one_2 19 rfl rfl)
theorem dX3_one_68 : decode cX3_one 68 = .ok (.aload_n 0, 1) := dk_42 (dk_at dksX3_one_2 22 rfl rfl)
theorem dX3_one_69 : decode cX3_one 69 = .ok (.iconst 5, 1) := dk_8 (dk_at dksX3_one_2 23 rfl rfl)
theorem dX3_one_70 : decode cX3_one 70 = .ok (.invokevirtual 70, 3) := dk_182 0 70 (dk_at dksX3_one_3 0 rfl rfl)
theorem dX3_one_73 : decode cX3_one 73 = .ok (.athrow, 1) := dk_191 (dk_at dksX3_one_3 3 rfl rfl)
theorem dX3_one_74 : decode cX3_one 74 = .ok (.new 181, 3) := dk_187 0 181 (dk_at dksX3_one_3 4 rfl rfl)
theorem dX3_one_77 : decode cX3_one 77 = .ok (.dup, 1) := dk_89 (dk_at dksX3_one_3 7 rfl rfl)
theorem dX3_one_78 : decode cX3_one 78 = .ok (.aload_n 0, 1) := dk_42 (dk_at dksX3_one_3 8 rfl rfl)
theorem dX3_one_79 : decode cX3_one 79 = .ok (.getfield 25, 3) := dk_180 0 25 (dk_at dksX3_one_3 9 rfl rfl)
theorem dX3_one_82 : decode cX3_one 82 = .ok (.sipush 214, 3) := dk_17 0 214 (dk_at dksX3_one_3 12 rfl rfl)
theorem dX3_one_85 : decode cX3_one 85 = .ok (.isub, 1) := dk_100 (dk_at dksX3_one_3 15 rfl rfl)
theorem dX3_one_86 : decode cX3_one 86 = .ok (.invokespecial 183, 3) := dk_183 0 183 (dk_at dksX3_one_3 16 rfl rfl)
theorem dX3_one_89 : decode cX3_one 89 = .ok (.astore_n 1, 1) := dk_76 (dk_at dksX3_one_3 19 rfl rfl)
theorem dX3_one_90 : decode cX3_one 90 = .ok (.aload_n 0, 1) := dk_42 (dk_at dksX3_one_3 20 rfl rfl)
theorem dX3_one_91 : decode cX3_one 91 = .ok (.invokevirtual 74, 3) := dk_182 0 74 (dk_at dksX3_one_3 21 rfl rfl)
theorem dX3_one_94 : decode cX3_one 94 = .ok (.aload_n 1, 1) := dk_43 (dk_at dksX3_one_4 0 rfl rfl)
theorem dX3_one_95 : decode cX3_one 95 = .ok (.areturn, 1) := dk_176 (dk_at dksX3_one_4 1 rfl rfl)
theorem dX3_one_96 : decode cX3_one 96 = .ok (.aload_n 0, 1) := dk_42 (dk_at dksX3_one_4 2 rfl rfl)
theorem dX3_one_97 : decode cX3_one 97 = .ok (.getfield 25, 3) := dk_180 0 25 (dk_at dksX3_one_4 3 rfl rfl)
theorem dX3_one_100 : decode cX3_one 100 = .ok (.sipush 209, 3) := dk_17 0 209 (dk_at dksX3_one_4 6 rfl rfl)
theorem dX3_one_103 : decode cX3_one 103 = .ok (.if_icmp .ne 11, 3) := dk_160 0 11 (dk_at dksX3_one_4 9 rfl rfl)
theorem dX3_one_106 : decode cX3_one 106 = .ok (.aload_n 0, 1) := dk_42 (dk_at dksX3_one_4 12 rfl rfl)
theorem dX3_one_107 : decode cX3_one 107 = .ok (.invokevirtual 184, 3) := dk_182 0 184 (dk_at dksX3_one_4 13 rfl rfl)
theorem dX3_one_110 : decode cX3_one 110 = .ok (.astore_n 1, 1) := dk_76 (dk_at dksX3_one_4 16 rfl rfl)
theorem dX3_one_111 : decode cX3_one 111 = .ok (.goto 64, 3) := dk_167 0 64 (dk_at dksX3_one_4 17 rfl rfl)
theorem dX3_one_114 : decode cX3_one 114 = .ok (.aload_n 0, 1) := dk_42 (dk_at dksX3_one_4 20 rfl rfl)
theorem dX3_one_115 : decode cX3_one 115 = .ok (.getfield 25, 3) := dk_180 0 25 (dk_at dksX3_one_4 21 rfl rfl)
theorem dX3_one_118 : decode cX3_one 118 = .ok (.bipush 40, 2) := dk_16 40 (dk_at dksX3_one_5 0 rfl rfl)
theorem dX3_one_120 : decode cX3_one 120 = .ok (.if_icmp .ne 21, 3) := dk_160 0 21 (dk_at dksX3_one_5 2 rfl rfl)
theorem dX3_one_123 : decode cX3_one 123 = .ok (.aload_n 0, 1) := dk_42 (dk_at dksX3_one_5 5 rfl rfl)
theorem dX3_one_124 : decode cX3_one 124 = .ok (.invokevirtual 143, 3) := dk_182 0 143 (dk_at dksX3_one_5 6 rfl rfl)
theorem dX3_one_127 : decode cX3_one 127 = .ok (.aload_n 0, 1) := dk_42 (dk_at dksX3_one_5 9 rfl rfl)
theorem dX3_one_128 : decode cX3_one 128 = .ok (.invokevirtual 107, 3) := dk_182 0 107 (dk_at dksX3_one_5 10 rfl rfl)
theorem dX3_one_131 : decode cX3_one 131 = .ok (.astore_n 1, 1) := dk_76 (dk_at dksX3_one_5 13 rfl rfl)
theorem dX3_one_132 : decode cX3_one 132 = .ok (.aload_n 0, 1) := dk_42 (dk_at dksX3_one_5 14 rfl rfl)
theorem dX3_one_133 : decode cX3_one 133 = .ok (.bipush 41, 2) := dk_16 41 (dk_at dksX3_one_5 15 rfl rfl)
theorem dX3_one_135 : decode cX3_one 135 = .ok (.invokevirtual 111, 3) := dk_182 0 111 (dk_at dksX3_one_5 17 rfl rfl)
theorem dX3_one_138 : decode cX3_one 138 = .ok (.goto 37, 3) := dk_167 0 37 (dk_at dksX3_one_5 20 rfl rfl)
theorem dX3_one_141 : decode cX3_one 141 = .ok (.aload_n 0, 1) := dk_42 (dk_at dksX3_one_5 23 rfl rfl)
theorem dX3_one_142 : decode cX3_one 142 = .ok (.getfield 25, 3) := dk_180 0 25 (dk_at dksX3_one_6 0 rfl rfl)
theorem dX3_one_145 : decode cX3_one 145 = .ok (.bipush 45, 2) := dk_16 45 (dk_at dksX3_one_6 3 rfl rfl)
theorem dX3_one_147 : decode cX3_one 147 = .ok (.if_icmp .ne 22, 3) := dk_160 0 22 (dk_at dksX3_one_6 5 rfl rfl)
theorem dX3_one_150 : decode cX3_one 150 = .ok (.aload_n 0, 1) := dk_42 (dk_at dksX3_one_6 8 rfl rfl)
theorem dX3_one_151 : decode cX3_one 151 = .ok (.invokevirtual 143, 3) := dk_182 0 143 (dk_at dksX3_one_6 9 rfl rfl)
theorem dX3_one_154 : decode cX3_one 154 = .ok (.new 187, 3) := dk_187 0 187 (dk_at dksX3_one_6 12 rfl rfl)
theorem dX3_one_157 : decode cX3_one 157 = .ok (.dup, 1) := dk_89 (dk_at dksX3_one_6 15 rfl rfl)
theorem dX3_one_158 : decode cX3_one 158 = .ok (.aload_n 0, 1) := dk_42 (dk_at dksX3_one_6 16 rfl rfl)
theorem dX3_one_159 : decode cX3_one 159 = .ok (.invokevirtual 170, 3) := dk_182 0 170 (dk_at dksX3_one_6 17 rfl rfl)
theorem dX3_one_162 : decode cX3_one 162 = .ok (.invokespecial 189, 3) := dk_183 0 189 (dk_at dksX3_one_6 20 rfl rfl)
theorem dX3_one_165 : decode cX3_one 165 = .ok (.astore_n 1, 1) := dk_76 (dk_at dksX3_one_6 23 rfl rfl)
theorem dX3_one_166 : decode cX3_one 166 = .ok (.goto 9, 3) := dk_167 0 9 (dk_at dksX3_one_7 0 rfl rfl)
theorem dX3_one_169 : decode cX3_one 169 = .ok (.aload_n 0, 1) := dk_42 (dk_at dksX3_one_7 3 rfl rfl)
theorem dX3_one_170 : decode cX3_one 170 = .ok (.iconst 1, 1) := dk_4 (dk_at dksX3_one_7 4 rfl rfl)
theorem dX3_one_171 : decode cX3_one 171 = .ok (.invokevirtual 70, 3) := dk_182 0 70 (dk_at dksX3_one_7 5 rfl rfl)
theorem dX3_one_174 : decode cX3_one 174 = .ok (.athrow, 1) := dk_191 (dk_at dksX3_one_7 8 rfl rfl)
theorem dX3_one_175 : decode cX3_one 175 = .ok (.aload_n 0, 1) := dk_42 (dk_at dksX3_one_7 9 rfl rfl)
theorem dX3_one_176 : decode cX3_one 176 = .ok (.dup, 1) := dk_89 (dk_at dksX3_one_7 10 rfl rfl)
theorem dX3_one_177 : decode cX3_one 177 = .ok (.getfield 77, 3) := dk_180 0 77 (dk_at dksX3_one_7 11 rfl rfl)
theorem dX3_one_180 : decode cX3_one 180 = .ok (.iconst 1, 1) := dk_4 (dk_at dksX3_one_7 14 rfl rfl)
theorem dX3_one_181 : decode cX3_one 181 = .ok (.isub, 1) := dk_100 (dk_at dksX3_one_7 15 rfl rfl)
theorem dX3_one_182 : decode cX3_one 182 = .ok (.putfield 77, 3) := dk_181 0 77 (dk_at dksX3_one_7 16 rfl rfl)
theorem dX3_one_185 : decode cX3_one 185 = .ok (.aload_n 1, 1) := dk_43 (dk_at dksX3_one_7 19 rfl rfl)
theorem dX3_one_186 : decode cX3_one 186 = .ok (.areturn, 1) := dk_176 (dk_at dksX3_one_7 20 rfl rfl)
abbrev cX3_choice : ByteArray := prog_15_method_18_code
def yX3_choice : MethodName := ⟨RX3, "choice", "()LBreathOnLoan$Sum;"⟩
def dkwX3_choice_2 : List UInt8 := [183, 0, 195, 176]
abbrev dktX3_choice_2 : List UInt8 := dkwX3_choice_2 ++ []
def dkwX3_choice_1 : List UInt8 := [182, 0, 111, 42, 182, 0, 107, 78, 42, 17, 0, 210, 182, 0, 111, 187, 0, 193, 89, 43, 44, 45]
abbrev dktX3_choice_1 : List UInt8 := dkwX3_choice_1 ++ dktX3_choice_2
def dkwX3_choice_0 : List UInt8 := [42, 182, 0, 143, 42, 182, 0, 190, 76, 42, 16, 63, 182, 0, 111, 42, 182, 0, 107, 77, 42, 16, 58]
abbrev dktX3_choice_0 : List UInt8 := dkwX3_choice_0 ++ dktX3_choice_1
theorem dksX3_choice_0 : cX3_choice.data.toList.drop 0 = dktX3_choice_0 := by decide +kernel
theorem dksX3_choice_1 : cX3_choice.data.toList.drop 23 = dktX3_choice_1 := dk_seg dksX3_choice_0 23 rfl rfl
theorem dksX3_choice_2 : cX3_choice.data.toList.drop 45 = dktX3_choice_2 := dk_seg dksX3_choice_1 22 rfl rfl
theorem dX3_choice_0 : decode cX3_choice 0 = .ok (.aload_n 0, 1) := dk_42 (dk_at dksX3_choice_0 0 rfl rfl)
theorem dX3_choice_1 : decode cX3_choice 1 = .ok (.invokevirtual 143, 3) := dk_182 0 143 (dk_at dksX3_choice_0 1 rfl rfl)
theorem dX3_choice_4 : decode cX3_choice 4 = .ok (.aload_n 0, 1) := dk_42 (dk_at dksX3_choice_0 4 rfl rfl)
theorem dX3_choice_5 : decode cX3_choice 5 = .ok (.invokevirtual 190, 3) := dk_182 0 190 (dk_at dksX3_choice_0 5 rfl rfl)
theorem dX3_choice_8 : decode cX3_choice 8 = .ok (.astore_n 1, 1) := dk_76 (dk_at dksX3_choice_0 8 rfl rfl)
theorem dX3_choice_9 : decode cX3_choice 9 = .ok (.aload_n 0, 1) := dk_42 (dk_at dksX3_choice_0 9 rfl rfl)
theorem dX3_choice_10 : decode cX3_choice 10 = .ok (.bipush 63, 2) := dk_16 63 (dk_at dksX3_choice_0 10 rfl rfl)
theorem dX3_choice_12 : decode cX3_choice 12 = .ok (.invokevirtual 111, 3) := dk_182 0 111 (dk_at dksX3_choice_0 12 rfl rfl)
theorem dX3_choice_15 : decode cX3_choice 15 = .ok (.aload_n 0, 1) := dk_42 (dk_at dksX3_choice_0 15 rfl rfl)
theorem dX3_choice_16 : decode cX3_choice 16 = .ok (.invokevirtual 107, 3) := dk_182 0 107 (dk_at dksX3_choice_0 16 rfl rfl)
theorem dX3_choice_19 : decode cX3_choice 19 = .ok (.astore_n 2, 1) := dk_77 (dk_at dksX3_choice_0 19 rfl rfl)
theorem dX3_choice_20 : decode cX3_choice 20 = .ok (.aload_n 0, 1) := dk_42 (dk_at dksX3_choice_0 20 rfl rfl)
theorem dX3_choice_21 : decode cX3_choice 21 = .ok (.bipush 58, 2) := dk_16 58 (dk_at dksX3_choice_0 21 rfl rfl)
theorem dX3_choice_23 : decode cX3_choice 23 = .ok (.invokevirtual 111, 3) := dk_182 0 111 (dk_at dksX3_choice_1 0 rfl rfl)
theorem dX3_choice_26 : decode cX3_choice 26 = .ok (.aload_n 0, 1) := dk_42 (dk_at dksX3_choice_1 3 rfl rfl)
theorem dX3_choice_27 : decode cX3_choice 27 = .ok (.invokevirtual 107, 3) := dk_182 0 107 (dk_at dksX3_choice_1 4 rfl rfl)
theorem dX3_choice_30 : decode cX3_choice 30 = .ok (.astore_n 3, 1) := dk_78 (dk_at dksX3_choice_1 7 rfl rfl)
theorem dX3_choice_31 : decode cX3_choice 31 = .ok (.aload_n 0, 1) := dk_42 (dk_at dksX3_choice_1 8 rfl rfl)
theorem dX3_choice_32 : decode cX3_choice 32 = .ok (.sipush 210, 3) := dk_17 0 210 (dk_at dksX3_choice_1 9 rfl rfl)
theorem dX3_choice_35 : decode cX3_choice 35 = .ok (.invokevirtual 111, 3) := dk_182 0 111 (dk_at dksX3_choice_1 12 rfl rfl)
theorem dX3_choice_38 : decode cX3_choice 38 = .ok (.new 193, 3) := dk_187 0 193 (dk_at dksX3_choice_1 15 rfl rfl)
theorem dX3_choice_41 : decode cX3_choice 41 = .ok (.dup, 1) := dk_89 (dk_at dksX3_choice_1 18 rfl rfl)
theorem dX3_choice_42 : decode cX3_choice 42 = .ok (.aload_n 1, 1) := dk_43 (dk_at dksX3_choice_1 19 rfl rfl)
theorem dX3_choice_43 : decode cX3_choice 43 = .ok (.aload_n 2, 1) := dk_44 (dk_at dksX3_choice_1 20 rfl rfl)
theorem dX3_choice_44 : decode cX3_choice 44 = .ok (.aload_n 3, 1) := dk_45 (dk_at dksX3_choice_1 21 rfl rfl)
theorem dX3_choice_45 : decode cX3_choice 45 = .ok (.invokespecial 195, 3) := dk_183 0 195 (dk_at dksX3_choice_2 0 rfl rfl)
theorem dX3_choice_48 : decode cX3_choice 48 = .ok (.areturn, 1) := dk_176 (dk_at dksX3_choice_2 3 rfl rfl)
abbrev cX3_opens : ByteArray := prog_15_method_9_code
def yX3_opens : MethodName := ⟨RX3, "opens", "()V"⟩
def dkwX3_opens_1 : List UInt8 := [181, 0, 77, 42, 182, 0, 74, 177]
abbrev dktX3_opens_1 : List UInt8 := dkwX3_opens_1 ++ []
def dkwX3_opens_0 : List UInt8 := [42, 180, 0, 77, 16, 8, 160, 0, 9, 42, 6, 182, 0, 70, 191, 42, 89, 180, 0, 77, 4, 96]
abbrev dktX3_opens_0 : List UInt8 := dkwX3_opens_0 ++ dktX3_opens_1
theorem dksX3_opens_0 : cX3_opens.data.toList.drop 0 = dktX3_opens_0 := by decide +kernel
theorem dksX3_opens_1 : cX3_opens.data.toList.drop 22 = dktX3_opens_1 := dk_seg dksX3_opens_0 22 rfl rfl
theorem dX3_opens_0 : decode cX3_opens 0 = .ok (.aload_n 0, 1) := dk_42 (dk_at dksX3_opens_0 0 rfl rfl)
theorem dX3_opens_1 : decode cX3_opens 1 = .ok (.getfield 77, 3) := dk_180 0 77 (dk_at dksX3_opens_0 1 rfl rfl)
theorem dX3_opens_4 : decode cX3_opens 4 = .ok (.bipush 8, 2) := dk_16 8 (dk_at dksX3_opens_0 4 rfl rfl)
theorem dX3_opens_6 : decode cX3_opens 6 = .ok (.if_icmp .ne 9, 3) := dk_160 0 9 (dk_at dksX3_opens_0 6 rfl rfl)
theorem dX3_opens_9 : decode cX3_opens 9 = .ok (.aload_n 0, 1) := dk_42 (dk_at dksX3_opens_0 9 rfl rfl)
theorem dX3_opens_10 : decode cX3_opens 10 = .ok (.iconst 3, 1) := dk_6 (dk_at dksX3_opens_0 10 rfl rfl)
theorem dX3_opens_11 : decode cX3_opens 11 = .ok (.invokevirtual 70, 3) := dk_182 0 70 (dk_at dksX3_opens_0 11 rfl rfl)
theorem dX3_opens_14 : decode cX3_opens 14 = .ok (.athrow, 1) := dk_191 (dk_at dksX3_opens_0 14 rfl rfl)
theorem dX3_opens_15 : decode cX3_opens 15 = .ok (.aload_n 0, 1) := dk_42 (dk_at dksX3_opens_0 15 rfl rfl)
theorem dX3_opens_16 : decode cX3_opens 16 = .ok (.dup, 1) := dk_89 (dk_at dksX3_opens_0 16 rfl rfl)
theorem dX3_opens_17 : decode cX3_opens 17 = .ok (.getfield 77, 3) := dk_180 0 77 (dk_at dksX3_opens_0 17 rfl rfl)
theorem dX3_opens_20 : decode cX3_opens 20 = .ok (.iconst 1, 1) := dk_4 (dk_at dksX3_opens_0 20 rfl rfl)
theorem dX3_opens_21 : decode cX3_opens 21 = .ok (.iadd, 1) := dk_96 (dk_at dksX3_opens_0 21 rfl rfl)
theorem dX3_opens_22 : decode cX3_opens 22 = .ok (.putfield 77, 3) := dk_181 0 77 (dk_at dksX3_opens_1 0 rfl rfl)
theorem dX3_opens_25 : decode cX3_opens 25 = .ok (.aload_n 0, 1) := dk_42 (dk_at dksX3_opens_1 3 rfl rfl)
theorem dX3_opens_26 : decode cX3_opens 26 = .ok (.invokevirtual 74, 3) := dk_182 0 74 (dk_at dksX3_opens_1 4 rfl rfl)
theorem dX3_opens_29 : decode cX3_opens 29 = .ok (.return_, 1) := dk_177 (dk_at dksX3_opens_1 7 rfl rfl)
abbrev cX3_either : ByteArray := prog_15_method_12_code
def yX3_either : MethodName := ⟨RX3, "either", "()LBreathOnLoan$Asked;"⟩
def dkwX3_either_2 : List UInt8 := [160, 0, 14, 43, 3, 182, 0, 129, 192, 0, 133, 167, 0, 12, 187, 0, 135, 89, 3, 43, 183, 0, 137, 176]
abbrev dktX3_either_2 : List UInt8 := dkwX3_either_2 ++ []
def dkwX3_either_1 : List UInt8 := [160, 0, 19, 42, 182, 0, 74, 43, 42, 182, 0, 123, 182, 0, 101, 87, 167, 255, 233, 43, 182, 0, 127, 4]
abbrev dktX3_either_1 : List UInt8 := dkwX3_either_1 ++ dktX3_either_2
def dkwX3_either_0 : List UInt8 := [187, 0, 102, 89, 183, 0, 122, 76, 43, 42, 182, 0, 123, 182, 0, 101, 87, 42, 180, 0, 25, 17, 0, 211]
abbrev dktX3_either_0 : List UInt8 := dkwX3_either_0 ++ dktX3_either_1
theorem dksX3_either_0 : cX3_either.data.toList.drop 0 = dktX3_either_0 := by decide +kernel
theorem dksX3_either_1 : cX3_either.data.toList.drop 24 = dktX3_either_1 := dk_seg dksX3_either_0 24 rfl rfl
theorem dksX3_either_2 : cX3_either.data.toList.drop 48 = dktX3_either_2 := dk_seg dksX3_either_1 24 rfl rfl
theorem dX3_either_0 : decode cX3_either 0 = .ok (.new 102, 3) := dk_187 0 102 (dk_at dksX3_either_0 0 rfl rfl)
theorem dX3_either_3 : decode cX3_either 3 = .ok (.dup, 1) := dk_89 (dk_at dksX3_either_0 3 rfl rfl)
theorem dX3_either_4 : decode cX3_either 4 = .ok (.invokespecial 122, 3) := dk_183 0 122 (dk_at dksX3_either_0 4 rfl rfl)
theorem dX3_either_7 : decode cX3_either 7 = .ok (.astore_n 1, 1) := dk_76 (dk_at dksX3_either_0 7 rfl rfl)
theorem dX3_either_8 : decode cX3_either 8 = .ok (.aload_n 1, 1) := dk_43 (dk_at dksX3_either_0 8 rfl rfl)
theorem dX3_either_9 : decode cX3_either 9 = .ok (.aload_n 0, 1) := dk_42 (dk_at dksX3_either_0 9 rfl rfl)
theorem dX3_either_10 : decode cX3_either 10 = .ok (.invokevirtual 123, 3) := dk_182 0 123 (dk_at dksX3_either_0 10 rfl rfl)
theorem dX3_either_13 : decode cX3_either 13 = .ok (.invokevirtual 101, 3) := dk_182 0 101 (dk_at dksX3_either_0 13 rfl rfl)
theorem dX3_either_16 : decode cX3_either 16 = .ok (.pop, 1) := dk_87 (dk_at dksX3_either_0 16 rfl rfl)
theorem dX3_either_17 : decode cX3_either 17 = .ok (.aload_n 0, 1) := dk_42 (dk_at dksX3_either_0 17 rfl rfl)
theorem dX3_either_18 : decode cX3_either 18 = .ok (.getfield 25, 3) := dk_180 0 25 (dk_at dksX3_either_0 18 rfl rfl)
theorem dX3_either_21 : decode cX3_either 21 = .ok (.sipush 211, 3) := dk_17 0 211 (dk_at dksX3_either_0 21 rfl rfl)
theorem dX3_either_24 : decode cX3_either 24 = .ok (.if_icmp .ne 19, 3) := dk_160 0 19 (dk_at dksX3_either_1 0 rfl rfl)
theorem dX3_either_27 : decode cX3_either 27 = .ok (.aload_n 0, 1) := dk_42 (dk_at dksX3_either_1 3 rfl rfl)
theorem dX3_either_28 : decode cX3_either 28 = .ok (.invokevirtual 74, 3) := dk_182 0 74 (dk_at dksX3_either_1 4 rfl rfl)
theorem dX3_either_31 : decode cX3_either 31 = .ok (.aload_n 1, 1) := dk_43 (dk_at dksX3_either_1 7 rfl rfl)
theorem dX3_either_32 : decode cX3_either 32 = .ok (.aload_n 0, 1) := dk_42 (dk_at dksX3_either_1 8 rfl rfl)
theorem dX3_either_33 : decode cX3_either 33 = .ok (.invokevirtual 123, 3) := dk_182 0 123 (dk_at dksX3_either_1 9 rfl rfl)
theorem dX3_either_36 : decode cX3_either 36 = .ok (.invokevirtual 101, 3) := dk_182 0 101 (dk_at dksX3_either_1 12 rfl rfl)
theorem dX3_either_39 : decode cX3_either 39 = .ok (.pop, 1) := dk_87 (dk_at dksX3_either_1 15 rfl rfl)
theorem dX3_either_40 : decode cX3_either 40 = .ok (.goto (-23), 3) := dk_167 255 233 (dk_at dksX3_either_1 16 rfl rfl)
theorem dX3_either_43 : decode cX3_either 43 = .ok (.aload_n 1, 1) := dk_43 (dk_at dksX3_either_1 19 rfl rfl)
theorem dX3_either_44 : decode cX3_either 44 = .ok (.invokevirtual 127, 3) := dk_182 0 127 (dk_at dksX3_either_1 20 rfl rfl)
theorem dX3_either_47 : decode cX3_either 47 = .ok (.iconst 1, 1) := dk_4 (dk_at dksX3_either_1 23 rfl rfl)
theorem dX3_either_48 : decode cX3_either 48 = .ok (.if_icmp .ne 14, 3) := dk_160 0 14 (dk_at dksX3_either_2 0 rfl rfl)
theorem dX3_either_51 : decode cX3_either 51 = .ok (.aload_n 1, 1) := dk_43 (dk_at dksX3_either_2 3 rfl rfl)
theorem dX3_either_52 : decode cX3_either 52 = .ok (.iconst 0, 1) := dk_3 (dk_at dksX3_either_2 4 rfl rfl)
theorem dX3_either_53 : decode cX3_either 53 = .ok (.invokevirtual 129, 3) := dk_182 0 129 (dk_at dksX3_either_2 5 rfl rfl)
theorem dX3_either_56 : decode cX3_either 56 = .ok (.checkcast 133, 3) := dk_192 0 133 (dk_at dksX3_either_2 8 rfl rfl)
theorem dX3_either_59 : decode cX3_either 59 = .ok (.goto 12, 3) := dk_167 0 12 (dk_at dksX3_either_2 11 rfl rfl)
theorem dX3_either_62 : decode cX3_either 62 = .ok (.new 135, 3) := dk_187 0 135 (dk_at dksX3_either_2 14 rfl rfl)
theorem dX3_either_65 : decode cX3_either 65 = .ok (.dup, 1) := dk_89 (dk_at dksX3_either_2 17 rfl rfl)
theorem dX3_either_66 : decode cX3_either 66 = .ok (.iconst 0, 1) := dk_3 (dk_at dksX3_either_2 18 rfl rfl)
theorem dX3_either_67 : decode cX3_either 67 = .ok (.aload_n 1, 1) := dk_43 (dk_at dksX3_either_2 19 rfl rfl)
theorem dX3_either_68 : decode cX3_either 68 = .ok (.invokespecial 137, 3) := dk_183 0 137 (dk_at dksX3_either_2 20 rfl rfl)
theorem dX3_either_71 : decode cX3_either 71 = .ok (.areturn, 1) := dk_176 (dk_at dksX3_either_2 23 rfl rfl)
abbrev cX3_both : ByteArray := prog_15_method_13_code
def yX3_both : MethodName := ⟨RX3, "both", "()LBreathOnLoan$Asked;"⟩
def dkwX3_both_2 : List UInt8 := [160, 0, 14, 43, 3, 182, 0, 129, 192, 0, 133, 167, 0, 12, 187, 0, 135, 89, 4, 43, 183, 0, 137, 176]
abbrev dktX3_both_2 : List UInt8 := dkwX3_both_2 ++ []
def dkwX3_both_1 : List UInt8 := [160, 0, 19, 42, 182, 0, 74, 43, 42, 182, 0, 140, 182, 0, 101, 87, 167, 255, 233, 43, 182, 0, 127, 4]
abbrev dktX3_both_1 : List UInt8 := dkwX3_both_1 ++ dktX3_both_2
def dkwX3_both_0 : List UInt8 := [187, 0, 102, 89, 183, 0, 122, 76, 43, 42, 182, 0, 140, 182, 0, 101, 87, 42, 180, 0, 25, 17, 0, 212]
abbrev dktX3_both_0 : List UInt8 := dkwX3_both_0 ++ dktX3_both_1
theorem dksX3_both_0 : cX3_both.data.toList.drop 0 = dktX3_both_0 := by decide +kernel
theorem dksX3_both_1 : cX3_both.data.toList.drop 24 = dktX3_both_1 := dk_seg dksX3_both_0 24 rfl rfl
theorem dksX3_both_2 : cX3_both.data.toList.drop 48 = dktX3_both_2 := dk_seg dksX3_both_1 24 rfl rfl
theorem dX3_both_0 : decode cX3_both 0 = .ok (.new 102, 3) := dk_187 0 102 (dk_at dksX3_both_0 0 rfl rfl)
theorem dX3_both_3 : decode cX3_both 3 = .ok (.dup, 1) := dk_89 (dk_at dksX3_both_0 3 rfl rfl)
theorem dX3_both_4 : decode cX3_both 4 = .ok (.invokespecial 122, 3) := dk_183 0 122 (dk_at dksX3_both_0 4 rfl rfl)
theorem dX3_both_7 : decode cX3_both 7 = .ok (.astore_n 1, 1) := dk_76 (dk_at dksX3_both_0 7 rfl rfl)
theorem dX3_both_8 : decode cX3_both 8 = .ok (.aload_n 1, 1) := dk_43 (dk_at dksX3_both_0 8 rfl rfl)
theorem dX3_both_9 : decode cX3_both 9 = .ok (.aload_n 0, 1) := dk_42 (dk_at dksX3_both_0 9 rfl rfl)
theorem dX3_both_10 : decode cX3_both 10 = .ok (.invokevirtual 140, 3) := dk_182 0 140 (dk_at dksX3_both_0 10 rfl rfl)
theorem dX3_both_13 : decode cX3_both 13 = .ok (.invokevirtual 101, 3) := dk_182 0 101 (dk_at dksX3_both_0 13 rfl rfl)
theorem dX3_both_16 : decode cX3_both 16 = .ok (.pop, 1) := dk_87 (dk_at dksX3_both_0 16 rfl rfl)
theorem dX3_both_17 : decode cX3_both 17 = .ok (.aload_n 0, 1) := dk_42 (dk_at dksX3_both_0 17 rfl rfl)
theorem dX3_both_18 : decode cX3_both 18 = .ok (.getfield 25, 3) := dk_180 0 25 (dk_at dksX3_both_0 18 rfl rfl)
theorem dX3_both_21 : decode cX3_both 21 = .ok (.sipush 212, 3) := dk_17 0 212 (dk_at dksX3_both_0 21 rfl rfl)
theorem dX3_both_24 : decode cX3_both 24 = .ok (.if_icmp .ne 19, 3) := dk_160 0 19 (dk_at dksX3_both_1 0 rfl rfl)
theorem dX3_both_27 : decode cX3_both 27 = .ok (.aload_n 0, 1) := dk_42 (dk_at dksX3_both_1 3 rfl rfl)
theorem dX3_both_28 : decode cX3_both 28 = .ok (.invokevirtual 74, 3) := dk_182 0 74 (dk_at dksX3_both_1 4 rfl rfl)
theorem dX3_both_31 : decode cX3_both 31 = .ok (.aload_n 1, 1) := dk_43 (dk_at dksX3_both_1 7 rfl rfl)
theorem dX3_both_32 : decode cX3_both 32 = .ok (.aload_n 0, 1) := dk_42 (dk_at dksX3_both_1 8 rfl rfl)
theorem dX3_both_33 : decode cX3_both 33 = .ok (.invokevirtual 140, 3) := dk_182 0 140 (dk_at dksX3_both_1 9 rfl rfl)
theorem dX3_both_36 : decode cX3_both 36 = .ok (.invokevirtual 101, 3) := dk_182 0 101 (dk_at dksX3_both_1 12 rfl rfl)
theorem dX3_both_39 : decode cX3_both 39 = .ok (.pop, 1) := dk_87 (dk_at dksX3_both_1 15 rfl rfl)
theorem dX3_both_40 : decode cX3_both 40 = .ok (.goto (-23), 3) := dk_167 255 233 (dk_at dksX3_both_1 16 rfl rfl)
theorem dX3_both_43 : decode cX3_both 43 = .ok (.aload_n 1, 1) := dk_43 (dk_at dksX3_both_1 19 rfl rfl)
theorem dX3_both_44 : decode cX3_both 44 = .ok (.invokevirtual 127, 3) := dk_182 0 127 (dk_at dksX3_both_1 20 rfl rfl)
theorem dX3_both_47 : decode cX3_both 47 = .ok (.iconst 1, 1) := dk_4 (dk_at dksX3_both_1 23 rfl rfl)
theorem dX3_both_48 : decode cX3_both 48 = .ok (.if_icmp .ne 14, 3) := dk_160 0 14 (dk_at dksX3_both_2 0 rfl rfl)
theorem dX3_both_51 : decode cX3_both 51 = .ok (.aload_n 1, 1) := dk_43 (dk_at dksX3_both_2 3 rfl rfl)
theorem dX3_both_52 : decode cX3_both 52 = .ok (.iconst 0, 1) := dk_3 (dk_at dksX3_both_2 4 rfl rfl)
theorem dX3_both_53 : decode cX3_both 53 = .ok (.invokevirtual 129, 3) := dk_182 0 129 (dk_at dksX3_both_2 5 rfl rfl)
theorem dX3_both_56 : decode cX3_both 56 = .ok (.checkcast 133, 3) := dk_192 0 133 (dk_at dksX3_both_2 8 rfl rfl)
theorem dX3_both_59 : decode cX3_both 59 = .ok (.goto 12, 3) := dk_167 0 12 (dk_at dksX3_both_2 11 rfl rfl)
theorem dX3_both_62 : decode cX3_both 62 = .ok (.new 135, 3) := dk_187 0 135 (dk_at dksX3_both_2 14 rfl rfl)
theorem dX3_both_65 : decode cX3_both 65 = .ok (.dup, 1) := dk_89 (dk_at dksX3_both_2 17 rfl rfl)
theorem dX3_both_66 : decode cX3_both 66 = .ok (.iconst 1, 1) := dk_4 (dk_at dksX3_both_2 18 rfl rfl)
theorem dX3_both_67 : decode cX3_both 67 = .ok (.aload_n 1, 1) := dk_43 (dk_at dksX3_both_2 19 rfl rfl)
theorem dX3_both_68 : decode cX3_both 68 = .ok (.invokespecial 137, 3) := dk_183 0 137 (dk_at dksX3_both_2 20 rfl rfl)
theorem dX3_both_71 : decode cX3_both 71 = .ok (.areturn, 1) := dk_176 (dk_at dksX3_both_2 23 rfl rfl)
abbrev cX3_ask : ByteArray := prog_15_method_14_code
def yX3_ask : MethodName := ⟨RX3, "ask", "()LBreathOnLoan$Asked;"⟩
def dkwX3_ask_4 : List UInt8 := [191, 42, 182, 0, 74, 187, 0, 151, 89, 28, 43, 42, 182, 0, 107, 183, 0, 153, 176]
abbrev dktX3_ask_4 : List UInt8 := dkwX3_ask_4 ++ []
def dkwX3_ask_3 : List UInt8 := [16, 35, 159, 0, 23, 28, 17, 1, 47, 159, 0, 16, 28, 17, 1, 48, 159, 0, 9, 42, 4, 182, 0, 70]
abbrev dktX3_ask_3 : List UInt8 := dkwX3_ask_3 ++ dktX3_ask_4
def dkwX3_ask_2 : List UInt8 := [180, 0, 25, 61, 28, 16, 60, 159, 0, 41, 28, 16, 62, 159, 0, 35, 28, 16, 61, 159, 0, 29, 28]
abbrev dktX3_ask_2 : List UInt8 := dkwX3_ask_2 ++ dktX3_ask_3
def dkwX3_ask_1 : List UInt8 := [183, 0, 148, 76, 42, 89, 180, 0, 77, 4, 100, 181, 0, 77, 43, 176, 42, 182, 0, 107, 76, 42]
abbrev dktX3_ask_1 : List UInt8 := dkwX3_ask_1 ++ dktX3_ask_2
def dkwX3_ask_0 : List UInt8 := [42, 180, 0, 25, 17, 0, 213, 160, 0, 31, 42, 182, 0, 143, 187, 0, 146, 89, 42, 182, 0, 140]
abbrev dktX3_ask_0 : List UInt8 := dkwX3_ask_0 ++ dktX3_ask_1
theorem dksX3_ask_0 : cX3_ask.data.toList.drop 0 = dktX3_ask_0 := by decide +kernel
theorem dksX3_ask_1 : cX3_ask.data.toList.drop 22 = dktX3_ask_1 := dk_seg dksX3_ask_0 22 rfl rfl
theorem dksX3_ask_2 : cX3_ask.data.toList.drop 44 = dktX3_ask_2 := dk_seg dksX3_ask_1 22 rfl rfl
theorem dksX3_ask_3 : cX3_ask.data.toList.drop 67 = dktX3_ask_3 := dk_seg dksX3_ask_2 23 rfl rfl
theorem dksX3_ask_4 : cX3_ask.data.toList.drop 91 = dktX3_ask_4 := dk_seg dksX3_ask_3 24 rfl rfl
theorem dX3_ask_0 : decode cX3_ask 0 = .ok (.aload_n 0, 1) := dk_42 (dk_at dksX3_ask_0 0 rfl rfl)
theorem dX3_ask_1 : decode cX3_ask 1 = .ok (.getfield 25, 3) := dk_180 0 25 (dk_at dksX3_ask_0 1 rfl rfl)
theorem dX3_ask_4 : decode cX3_ask 4 = .ok (.sipush 213, 3) := dk_17 0 213 (dk_at dksX3_ask_0 4 rfl rfl)
theorem dX3_ask_7 : decode cX3_ask 7 = .ok (.if_icmp .ne 31, 3) := dk_160 0 31 (dk_at dksX3_ask_0 7 rfl rfl)
theorem dX3_ask_10 : decode cX3_ask 10 = .ok (.aload_n 0, 1) := dk_42 (dk_at dksX3_ask_0 10 rfl rfl)
theorem dX3_ask_11 : decode cX3_ask 11 = .ok (.invokevirtual 143, 3) := dk_182 0 143 (dk_at dksX3_ask_0 11 rfl rfl)
theorem dX3_ask_14 : decode cX3_ask 14 = .ok (.new 146, 3) := dk_187 0 146 (dk_at dksX3_ask_0 14 rfl rfl)
theorem dX3_ask_17 : decode cX3_ask 17 = .ok (.dup, 1) := dk_89 (dk_at dksX3_ask_0 17 rfl rfl)
theorem dX3_ask_18 : decode cX3_ask 18 = .ok (.aload_n 0, 1) := dk_42 (dk_at dksX3_ask_0 18 rfl rfl)
theorem dX3_ask_19 : decode cX3_ask 19 = .ok (.invokevirtual 140, 3) := dk_182 0 140 (dk_at dksX3_ask_0 19 rfl rfl)
theorem dX3_ask_22 : decode cX3_ask 22 = .ok (.invokespecial 148, 3) := dk_183 0 148 (dk_at dksX3_ask_1 0 rfl rfl)
theorem dX3_ask_25 : decode cX3_ask 25 = .ok (.astore_n 1, 1) := dk_76 (dk_at dksX3_ask_1 3 rfl rfl)
theorem dX3_ask_26 : decode cX3_ask 26 = .ok (.aload_n 0, 1) := dk_42 (dk_at dksX3_ask_1 4 rfl rfl)
theorem dX3_ask_27 : decode cX3_ask 27 = .ok (.dup, 1) := dk_89 (dk_at dksX3_ask_1 5 rfl rfl)
theorem dX3_ask_28 : decode cX3_ask 28 = .ok (.getfield 77, 3) := dk_180 0 77 (dk_at dksX3_ask_1 6 rfl rfl)
theorem dX3_ask_31 : decode cX3_ask 31 = .ok (.iconst 1, 1) := dk_4 (dk_at dksX3_ask_1 9 rfl rfl)
theorem dX3_ask_32 : decode cX3_ask 32 = .ok (.isub, 1) := dk_100 (dk_at dksX3_ask_1 10 rfl rfl)
theorem dX3_ask_33 : decode cX3_ask 33 = .ok (.putfield 77, 3) := dk_181 0 77 (dk_at dksX3_ask_1 11 rfl rfl)
theorem dX3_ask_36 : decode cX3_ask 36 = .ok (.aload_n 1, 1) := dk_43 (dk_at dksX3_ask_1 14 rfl rfl)
theorem dX3_ask_37 : decode cX3_ask 37 = .ok (.areturn, 1) := dk_176 (dk_at dksX3_ask_1 15 rfl rfl)
theorem dX3_ask_38 : decode cX3_ask 38 = .ok (.aload_n 0, 1) := dk_42 (dk_at dksX3_ask_1 16 rfl rfl)
theorem dX3_ask_39 : decode cX3_ask 39 = .ok (.invokevirtual 107, 3) := dk_182 0 107 (dk_at dksX3_ask_1 17 rfl rfl)
theorem dX3_ask_42 : decode cX3_ask 42 = .ok (.astore_n 1, 1) := dk_76 (dk_at dksX3_ask_1 20 rfl rfl)
theorem dX3_ask_43 : decode cX3_ask 43 = .ok (.aload_n 0, 1) := dk_42 (dk_at dksX3_ask_1 21 rfl rfl)
theorem dX3_ask_44 : decode cX3_ask 44 = .ok (.getfield 25, 3) := dk_180 0 25 (dk_at dksX3_ask_2 0 rfl rfl)
theorem dX3_ask_47 : decode cX3_ask 47 = .ok (.istore_n 2, 1) := dk_61 (dk_at dksX3_ask_2 3 rfl rfl)
theorem dX3_ask_48 : decode cX3_ask 48 = .ok (.iload_n 2, 1) := dk_28 (dk_at dksX3_ask_2 4 rfl rfl)
theorem dX3_ask_49 : decode cX3_ask 49 = .ok (.bipush 60, 2) := dk_16 60 (dk_at dksX3_ask_2 5 rfl rfl)
theorem dX3_ask_51 : decode cX3_ask 51 = .ok (.if_icmp .eq 41, 3) := dk_159 0 41 (dk_at dksX3_ask_2 7 rfl rfl)
theorem dX3_ask_54 : decode cX3_ask 54 = .ok (.iload_n 2, 1) := dk_28 (dk_at dksX3_ask_2 10 rfl rfl)
theorem dX3_ask_55 : decode cX3_ask 55 = .ok (.bipush 62, 2) := dk_16 62 (dk_at dksX3_ask_2 11 rfl rfl)
theorem dX3_ask_57 : decode cX3_ask 57 = .ok (.if_icmp .eq 35, 3) := dk_159 0 35 (dk_at dksX3_ask_2 13 rfl rfl)
theorem dX3_ask_60 : decode cX3_ask 60 = .ok (.iload_n 2, 1) := dk_28 (dk_at dksX3_ask_2 16 rfl rfl)
theorem dX3_ask_61 : decode cX3_ask 61 = .ok (.bipush 61, 2) := dk_16 61 (dk_at dksX3_ask_2 17 rfl rfl)
theorem dX3_ask_63 : decode cX3_ask 63 = .ok (.if_icmp .eq 29, 3) := dk_159 0 29 (dk_at dksX3_ask_2 19 rfl rfl)
theorem dX3_ask_66 : decode cX3_ask 66 = .ok (.iload_n 2, 1) := dk_28 (dk_at dksX3_ask_2 22 rfl rfl)
theorem dX3_ask_67 : decode cX3_ask 67 = .ok (.bipush 35, 2) := dk_16 35 (dk_at dksX3_ask_3 0 rfl rfl)
theorem dX3_ask_69 : decode cX3_ask 69 = .ok (.if_icmp .eq 23, 3) := dk_159 0 23 (dk_at dksX3_ask_3 2 rfl rfl)
theorem dX3_ask_72 : decode cX3_ask 72 = .ok (.iload_n 2, 1) := dk_28 (dk_at dksX3_ask_3 5 rfl rfl)
theorem dX3_ask_73 : decode cX3_ask 73 = .ok (.sipush 303, 3) := dk_17 1 47 (dk_at dksX3_ask_3 6 rfl rfl)
theorem dX3_ask_76 : decode cX3_ask 76 = .ok (.if_icmp .eq 16, 3) := dk_159 0 16 (dk_at dksX3_ask_3 9 rfl rfl)
theorem dX3_ask_79 : decode cX3_ask 79 = .ok (.iload_n 2, 1) := dk_28 (dk_at dksX3_ask_3 12 rfl rfl)
theorem dX3_ask_80 : decode cX3_ask 80 = .ok (.sipush 304, 3) := dk_17 1 48 (dk_at dksX3_ask_3 13 rfl rfl)
theorem dX3_ask_83 : decode cX3_ask 83 = .ok (.if_icmp .eq 9, 3) := dk_159 0 9 (dk_at dksX3_ask_3 16 rfl rfl)
theorem dX3_ask_86 : decode cX3_ask 86 = .ok (.aload_n 0, 1) := dk_42 (dk_at dksX3_ask_3 19 rfl rfl)
theorem dX3_ask_87 : decode cX3_ask 87 = .ok (.iconst 1, 1) := dk_4 (dk_at dksX3_ask_3 20 rfl rfl)
theorem dX3_ask_88 : decode cX3_ask 88 = .ok (.invokevirtual 70, 3) := dk_182 0 70 (dk_at dksX3_ask_3 21 rfl rfl)
theorem dX3_ask_91 : decode cX3_ask 91 = .ok (.athrow, 1) := dk_191 (dk_at dksX3_ask_4 0 rfl rfl)
theorem dX3_ask_92 : decode cX3_ask 92 = .ok (.aload_n 0, 1) := dk_42 (dk_at dksX3_ask_4 1 rfl rfl)
theorem dX3_ask_93 : decode cX3_ask 93 = .ok (.invokevirtual 74, 3) := dk_182 0 74 (dk_at dksX3_ask_4 2 rfl rfl)
theorem dX3_ask_96 : decode cX3_ask 96 = .ok (.new 151, 3) := dk_187 0 151 (dk_at dksX3_ask_4 5 rfl rfl)
theorem dX3_ask_99 : decode cX3_ask 99 = .ok (.dup, 1) := dk_89 (dk_at dksX3_ask_4 8 rfl rfl)
theorem dX3_ask_100 : decode cX3_ask 100 = .ok (.iload_n 2, 1) := dk_28 (dk_at dksX3_ask_4 9 rfl rfl)
theorem dX3_ask_101 : decode cX3_ask 101 = .ok (.aload_n 1, 1) := dk_43 (dk_at dksX3_ask_4 10 rfl rfl)
theorem dX3_ask_102 : decode cX3_ask 102 = .ok (.aload_n 0, 1) := dk_42 (dk_at dksX3_ask_4 11 rfl rfl)
theorem dX3_ask_103 : decode cX3_ask 103 = .ok (.invokevirtual 107, 3) := dk_182 0 107 (dk_at dksX3_ask_4 12 rfl rfl)
theorem dX3_ask_106 : decode cX3_ask 106 = .ok (.invokespecial 153, 3) := dk_183 0 153 (dk_at dksX3_ask_4 15 rfl rfl)
theorem dX3_ask_109 : decode cX3_ask 109 = .ok (.areturn, 1) := dk_176 (dk_at dksX3_ask_4 18 rfl rfl)
theorem q100 : (Jvm.Cond.initialized "BreathOnLoan$Tokens") ∈ lw_all := lw_g (lw_at lw_m1 5 rfl) rfl
theorem q292 : (Jvm.Cond.instantiable "BreathOnLoan$Tokens" (8 : Nat)) ∈ lw_all := lw_g (lw_at lw_m1 197 rfl) rfl
theorem q294 : (Jvm.Cond.instanceMethod ({ cls := "BreathOnLoan$Tokens", name := "<init>", desc := "([BI)V" } : Jvm.MethodName)) ∈ lw_all := lw_g (lw_at lw_m1 199 rfl) rfl
theorem q295 : (Jvm.Cond.code ({ cls := "BreathOnLoan$Tokens", name := "<init>", desc := "([BI)V" } : Jvm.MethodName) prog_15_method_1_code (3 : Nat) (Option.none : Option Jvm.ClassFile.FieldType)) ∈ lw_all := lw_g (lw_at lw_m1 200 rfl) rfl
theorem q296 : (Jvm.Cond.methodLink "BreathOnLoan$Tokens" (3 : Nat) ({ cls := "java/lang/Object", name := "<init>", desc := "()V" } : Jvm.MethodName)) ∈ lw_all := lw_g (lw_at lw_m1 201 rfl) rfl
theorem q297 : (Jvm.Cond.fieldLink "BreathOnLoan$Tokens" (9 : Nat) "BreathOnLoan$Tokens" "text" "[B") ∈ lw_all := lw_g (lw_at lw_m1 202 rfl) rfl
theorem q298 : (Jvm.Cond.fieldLink "BreathOnLoan$Tokens" (15 : Nat) "BreathOnLoan$Tokens" "size" "I") ∈ lw_all := lw_g (lw_at lw_m1 203 rfl) rfl
theorem q299 : (Jvm.Cond.fieldLink "BreathOnLoan$Tokens" (19 : Nat) "BreathOnLoan$Tokens" "at" "I") ∈ lw_all := lw_g (lw_at lw_m1 204 rfl) rfl
theorem q300 : (Jvm.Cond.fieldLink "BreathOnLoan$Tokens" (22 : Nat) "BreathOnLoan$Tokens" "token" "I") ∈ lw_all := lw_g (lw_at lw_m1 205 rfl) rfl
theorem q301 : (Jvm.Cond.fieldLink "BreathOnLoan$Tokens" (25 : Nat) "BreathOnLoan$Tokens" "sort" "I") ∈ lw_all := lw_g (lw_at lw_m1 206 rfl) rfl
theorem q302 : (Jvm.Cond.fieldLink "BreathOnLoan$Tokens" (43 : Nat) "BreathOnLoan$Tokens" "number" "I") ∈ lw_all := lw_g (lw_at lw_m1 207 rfl) rfl
theorem q303 : (Jvm.Cond.fieldLink "BreathOnLoan$Tokens" (77 : Nat) "BreathOnLoan$Tokens" "open" "I") ∈ lw_all := lw_g (lw_at lw_m1 208 rfl) rfl
theorem q304 : (Jvm.Cond.fieldLink "BreathOnLoan$Tokens" (83 : Nat) "BreathOnLoan$Tokens" "kind" "I") ∈ lw_all := lw_g (lw_at lw_m1 209 rfl) rfl
theorem q305 : (Jvm.Cond.laysFinal "BreathOnLoan$Tokens" "BreathOnLoan$Tokens" "text" "[B") ∈ lw_all := lw_g (lw_at lw_m1 210 rfl) rfl
theorem q306 : (Jvm.Cond.soleField "BreathOnLoan$Tokens" "text") ∈ lw_all := lw_g (lw_at lw_m1 211 rfl) rfl
theorem q307 : (Jvm.Cond.laysFinal "BreathOnLoan$Tokens" "BreathOnLoan$Tokens" "size" "I") ∈ lw_all := lw_g (lw_at lw_m1 212 rfl) rfl
theorem q308 : (Jvm.Cond.soleField "BreathOnLoan$Tokens" "size") ∈ lw_all := lw_g (lw_at lw_m1 213 rfl) rfl
theorem q309 : (Jvm.Cond.lays "BreathOnLoan$Tokens" "BreathOnLoan$Tokens" "at" "I") ∈ lw_all := lw_g (lw_at lw_m1 214 rfl) rfl
theorem q310 : (Jvm.Cond.soleField "BreathOnLoan$Tokens" "at") ∈ lw_all := lw_g (lw_at lw_m1 215 rfl) rfl
theorem q311 : (Jvm.Cond.lays "BreathOnLoan$Tokens" "BreathOnLoan$Tokens" "token" "I") ∈ lw_all := lw_g (lw_at lw_m1 216 rfl) rfl
theorem q312 : (Jvm.Cond.soleField "BreathOnLoan$Tokens" "token") ∈ lw_all := lw_g (lw_at lw_m1 217 rfl) rfl
theorem q313 : (Jvm.Cond.lays "BreathOnLoan$Tokens" "BreathOnLoan$Tokens" "sort" "I") ∈ lw_all := lw_g (lw_at lw_m1 218 rfl) rfl
theorem q314 : (Jvm.Cond.soleField "BreathOnLoan$Tokens" "sort") ∈ lw_all := lw_g (lw_at lw_m1 219 rfl) rfl
theorem q315 : (Jvm.Cond.lays "BreathOnLoan$Tokens" "BreathOnLoan$Tokens" "number" "I") ∈ lw_all := lw_g (lw_at lw_m1 220 rfl) rfl
theorem q316 : (Jvm.Cond.soleField "BreathOnLoan$Tokens" "number") ∈ lw_all := lw_g (lw_at lw_m1 221 rfl) rfl
theorem q317 : (Jvm.Cond.lays "BreathOnLoan$Tokens" "BreathOnLoan$Tokens" "open" "I") ∈ lw_all := lw_g (lw_at lw_m1 222 rfl) rfl
theorem q318 : (Jvm.Cond.soleField "BreathOnLoan$Tokens" "open") ∈ lw_all := lw_g (lw_at lw_m1 223 rfl) rfl
theorem q319 : (Jvm.Cond.lays "BreathOnLoan$Tokens" "BreathOnLoan$Tokens" "kind" "I") ∈ lw_all := lw_g (lw_at lw_m1 224 rfl) rfl
theorem q320 : (Jvm.Cond.soleField "BreathOnLoan$Tokens" "kind") ∈ lw_all := lw_g (lw_at lw_m1 225 rfl) rfl
theorem q321 : (Jvm.Cond.superclass "BreathOnLoan$Tokens" "java/lang/Object") ∈ lw_all := lw_g (lw_at lw_m1 226 rfl) rfl
theorem q323 : (Jvm.Cond.instanceMethod ({ cls := "BreathOnLoan$Tokens", name := "read", desc := "()LBreathOnLoan$Text;" } : Jvm.MethodName)) ∈ lw_all := lw_g (lw_at lw_m1 228 rfl) rfl
theorem q324 : (Jvm.Cond.selects "BreathOnLoan$Tokens" ({ cls := "BreathOnLoan$Tokens", name := "read", desc := "()LBreathOnLoan$Text;" } : Jvm.MethodName) ({ cls := "BreathOnLoan$Tokens", name := "read", desc := "()LBreathOnLoan$Text;" } : Jvm.MethodName)) ∈ lw_all := lw_g (lw_at lw_m1 229 rfl) rfl
theorem q325 : (Jvm.Cond.code ({ cls := "BreathOnLoan$Tokens", name := "read", desc := "()LBreathOnLoan$Text;" } : Jvm.MethodName) prog_15_method_10_code (3 : Nat) (Option.some (Jvm.ClassFile.FieldType.object "BreathOnLoan$Text"))) ∈ lw_all := lw_g (lw_at lw_m1 230 rfl) rfl
theorem q326 : (Jvm.Cond.classLink "BreathOnLoan$Tokens" (80 : Nat) "BreathOnLoan$Text") ∈ lw_all := lw_g (lw_at lw_m1 231 rfl) rfl
theorem q328 : (Jvm.Cond.methodLinkNest "BreathOnLoan$Tokens" (82 : Nat) ({ cls := "BreathOnLoan$Text", name := "<init>", desc := "()V" } : Jvm.MethodName) "BreathOnLoan") ∈ lw_tbl := lw_at lw_m1 233 rfl
theorem q361 : (Jvm.Cond.fieldLinkNest "BreathOnLoan$Tokens" (86 : Nat) "BreathOnLoan$Text" "of" "[LBreathOnLoan$Sum;" "BreathOnLoan") ∈ lw_tbl := lw_at lw_m2 26 rfl
theorem q364 : (Jvm.Cond.fieldLinkNest "BreathOnLoan$Tokens" (93 : Nat) "BreathOnLoan$Text" "doings" "Ljava/util/ArrayList;" "BreathOnLoan") ∈ lw_tbl := lw_at lw_m2 29 rfl
theorem q366 : (Jvm.Cond.fieldLinkNest "BreathOnLoan$Tokens" (90 : Nat) "BreathOnLoan$Text" "clauses" "I" "BreathOnLoan") ∈ lw_tbl := lw_at lw_m2 31 rfl
theorem q374 : (Jvm.Cond.methodLink "BreathOnLoan$Tokens" (74 : Nat) ({ cls := "BreathOnLoan$Tokens", name := "next", desc := "()V" } : Jvm.MethodName)) ∈ lw_all := lw_g (lw_at lw_m2 39 rfl) rfl
theorem q375 : (Jvm.Cond.privateMethod ({ cls := "BreathOnLoan$Tokens", name := "next", desc := "()V" } : Jvm.MethodName)) ∈ lw_tbl := lw_at lw_m2 40 rfl
theorem q376 : (Jvm.Cond.instanceMethod ({ cls := "BreathOnLoan$Tokens", name := "next", desc := "()V" } : Jvm.MethodName)) ∈ lw_all := lw_g (lw_at lw_m2 41 rfl) rfl
theorem q377 : (Jvm.Cond.code ({ cls := "BreathOnLoan$Tokens", name := "next", desc := "()V" } : Jvm.MethodName) prog_15_method_4_code (3 : Nat) (Option.none : Option Jvm.ClassFile.FieldType)) ∈ lw_all := lw_g (lw_at lw_m2 42 rfl) rfl
theorem q378 : (Jvm.Cond.methodLink "BreathOnLoan$Tokens" (28 : Nat) ({ cls := "BreathOnLoan$Tokens", name := "isLetter", desc := "(I)Z" } : Jvm.MethodName)) ∈ lw_all := lw_g (lw_at lw_m2 43 rfl) rfl
theorem q379 : (Jvm.Cond.static ({ cls := "BreathOnLoan$Tokens", name := "isLetter", desc := "(I)Z" } : Jvm.MethodName)) ∈ lw_all := lw_g (lw_at lw_m2 44 rfl) rfl
theorem q380 : (Jvm.Cond.code ({ cls := "BreathOnLoan$Tokens", name := "isLetter", desc := "(I)Z" } : Jvm.MethodName) prog_15_method_2_code (1 : Nat) (Option.some Jvm.ClassFile.FieldType.boolean)) ∈ lw_all := lw_g (lw_at lw_m2 45 rfl) rfl
theorem q381 : (Jvm.Cond.fieldLink "BreathOnLoan$Tokens" (32 : Nat) "BreathOnLoan$Tokens" "WORDS" "[Ljava/lang/String;") ∈ lw_all := lw_g (lw_at lw_m2 46 rfl) rfl
theorem q382 : (Jvm.Cond.laysStatic "BreathOnLoan$Tokens" "WORDS" "[Ljava/lang/String;") ∈ lw_tbl := lw_at lw_m2 47 rfl
theorem q383 : (Jvm.Cond.methodLink "BreathOnLoan$Tokens" (36 : Nat) ({ cls := "BreathOnLoan$Tokens", name := "isWord", desc := "(Ljava/lang/String;)Z" } : Jvm.MethodName)) ∈ lw_all := lw_g (lw_at lw_m2 48 rfl) rfl
theorem q384 : (Jvm.Cond.privateMethod ({ cls := "BreathOnLoan$Tokens", name := "isWord", desc := "(Ljava/lang/String;)Z" } : Jvm.MethodName)) ∈ lw_tbl := lw_at lw_m2 49 rfl
theorem q385 : (Jvm.Cond.instanceMethod ({ cls := "BreathOnLoan$Tokens", name := "isWord", desc := "(Ljava/lang/String;)Z" } : Jvm.MethodName)) ∈ lw_all := lw_g (lw_at lw_m2 50 rfl) rfl
theorem q386 : (Jvm.Cond.code ({ cls := "BreathOnLoan$Tokens", name := "isWord", desc := "(Ljava/lang/String;)Z" } : Jvm.MethodName) prog_15_method_5_code (3 : Nat) (Option.some Jvm.ClassFile.FieldType.boolean)) ∈ lw_all := lw_g (lw_at lw_m2 51 rfl) rfl
theorem q387 : (Jvm.Cond.methodLink "BreathOnLoan$Tokens" (55 : Nat) ({ cls := "java/lang/String", name := "length", desc := "()I" } : Jvm.MethodName)) ∈ lw_all := lw_g (lw_at lw_m2 52 rfl) rfl
theorem q397 : (Jvm.Cond.methodLink "BreathOnLoan$Tokens" (61 : Nat) ({ cls := "java/lang/String", name := "charAt", desc := "(I)C" } : Jvm.MethodName)) ∈ lw_all := lw_g (lw_at lw_m2 62 rfl) rfl
theorem q435 : (Jvm.Cond.methodLink "BreathOnLoan$Tokens" (40 : Nat) ({ cls := "BreathOnLoan$Tokens", name := "isDigit", desc := "(I)Z" } : Jvm.MethodName)) ∈ lw_all := lw_g (lw_at lw_m2 100 rfl) rfl
theorem q436 : (Jvm.Cond.static ({ cls := "BreathOnLoan$Tokens", name := "isDigit", desc := "(I)Z" } : Jvm.MethodName)) ∈ lw_all := lw_g (lw_at lw_m2 101 rfl) rfl
theorem q437 : (Jvm.Cond.code ({ cls := "BreathOnLoan$Tokens", name := "isDigit", desc := "(I)Z" } : Jvm.MethodName) prog_15_method_3_code (1 : Nat) (Option.some Jvm.ClassFile.FieldType.boolean)) ∈ lw_all := lw_g (lw_at lw_m2 102 rfl) rfl
theorem q438 : (Jvm.Cond.constant "BreathOnLoan$Tokens" (46 : Nat) (99999 : Int32)) ∈ lw_all := lw_g (lw_at lw_m2 103 rfl) rfl
theorem q439 : (Jvm.Cond.methodLink "BreathOnLoan$Tokens" (47 : Nat) ({ cls := "java/lang/Math", name := "min", desc := "(II)I" } : Jvm.MethodName)) ∈ lw_all := lw_g (lw_at lw_m2 104 rfl) rfl
theorem q442 : (Jvm.Cond.stringRef "BreathOnLoan$Tokens" (53 : Nat) "<>=#+-*/();?:") ∈ lw_tbl := lw_at lw_m2 107 rfl
theorem q443 : (Jvm.Cond.methodLink "BreathOnLoan$Tokens" (70 : Nat) ({ cls := "BreathOnLoan$Tokens", name := "wrong", desc := "(I)LBreathOnLoan$Wrong;" } : Jvm.MethodName)) ∈ lw_all := lw_g (lw_at lw_m2 108 rfl) rfl
theorem q444 : (Jvm.Cond.privateMethod ({ cls := "BreathOnLoan$Tokens", name := "wrong", desc := "(I)LBreathOnLoan$Wrong;" } : Jvm.MethodName)) ∈ lw_tbl := lw_at lw_m2 109 rfl
theorem q445 : (Jvm.Cond.instanceMethod ({ cls := "BreathOnLoan$Tokens", name := "wrong", desc := "(I)LBreathOnLoan$Wrong;" } : Jvm.MethodName)) ∈ lw_all := lw_g (lw_at lw_m2 110 rfl) rfl
theorem q446 : (Jvm.Cond.code ({ cls := "BreathOnLoan$Tokens", name := "wrong", desc := "(I)LBreathOnLoan$Wrong;" } : Jvm.MethodName) prog_15_method_6_code (2 : Nat) (Option.some (Jvm.ClassFile.FieldType.object "BreathOnLoan$Wrong"))) ∈ lw_all := lw_g (lw_at lw_m2 111 rfl) rfl
theorem q447 : (Jvm.Cond.classLink "BreathOnLoan$Tokens" (65 : Nat) "BreathOnLoan$Wrong") ∈ lw_all := lw_g (lw_at lw_m2 112 rfl) rfl
theorem q484 : (Jvm.Cond.methodLink "BreathOnLoan$Tokens" (67 : Nat) ({ cls := "BreathOnLoan$Wrong", name := "<init>", desc := "(II)V" } : Jvm.MethodName)) ∈ lw_all := lw_g (lw_at lw_m2 149 rfl) rfl
theorem q511 : (Jvm.Cond.methodLink "BreathOnLoan$Tokens" (97 : Nat) ({ cls := "BreathOnLoan$Tokens", name := "doing", desc := "(I)LBreathOnLoan$Doing;" } : Jvm.MethodName)) ∈ lw_all := lw_g (lw_at lw_m2 176 rfl) rfl
theorem q512 : (Jvm.Cond.privateMethod ({ cls := "BreathOnLoan$Tokens", name := "doing", desc := "(I)LBreathOnLoan$Doing;" } : Jvm.MethodName)) ∈ lw_tbl := lw_at lw_m2 177 rfl
theorem q513 : (Jvm.Cond.instanceMethod ({ cls := "BreathOnLoan$Tokens", name := "doing", desc := "(I)LBreathOnLoan$Doing;" } : Jvm.MethodName)) ∈ lw_all := lw_g (lw_at lw_m2 178 rfl) rfl
theorem q514 : (Jvm.Cond.code ({ cls := "BreathOnLoan$Tokens", name := "doing", desc := "(I)LBreathOnLoan$Doing;" } : Jvm.MethodName) prog_15_method_11_code (5 : Nat) (Option.some (Jvm.ClassFile.FieldType.object "BreathOnLoan$Doing"))) ∈ lw_all := lw_g (lw_at lw_m2 179 rfl) rfl
theorem q515 : (Jvm.Cond.methodLink "BreathOnLoan$Tokens" (115 : Nat) ({ cls := "BreathOnLoan$Tokens", name := "number", desc := "(II)I" } : Jvm.MethodName)) ∈ lw_all := lw_g (lw_at lw_m2 180 rfl) rfl
theorem q516 : (Jvm.Cond.privateMethod ({ cls := "BreathOnLoan$Tokens", name := "number", desc := "(II)I" } : Jvm.MethodName)) ∈ lw_tbl := lw_at lw_m2 181 rfl
theorem q517 : (Jvm.Cond.instanceMethod ({ cls := "BreathOnLoan$Tokens", name := "number", desc := "(II)I" } : Jvm.MethodName)) ∈ lw_all := lw_g (lw_at lw_m2 182 rfl) rfl
theorem q518 : (Jvm.Cond.code ({ cls := "BreathOnLoan$Tokens", name := "number", desc := "(II)I" } : Jvm.MethodName) prog_15_method_8_code (4 : Nat) (Option.some Jvm.ClassFile.FieldType.int)) ∈ lw_all := lw_g (lw_at lw_m2 183 rfl) rfl
theorem q519 : (Jvm.Cond.classLink "BreathOnLoan$Tokens" (117 : Nat) "BreathOnLoan$Doing") ∈ lw_all := lw_g (lw_at lw_m2 184 rfl) rfl
theorem q521 : (Jvm.Cond.methodLinkNest "BreathOnLoan$Tokens" (119 : Nat) ({ cls := "BreathOnLoan$Doing", name := "<init>", desc := "(IIIII)V" } : Jvm.MethodName) "BreathOnLoan") ∈ lw_tbl := lw_at lw_m2 186 rfl
theorem q544 : (Jvm.Cond.methodLink "BreathOnLoan$Tokens" (111 : Nat) ({ cls := "BreathOnLoan$Tokens", name := "want", desc := "(I)V" } : Jvm.MethodName)) ∈ lw_all := lw_g (lw_at lw_m2 209 rfl) rfl
theorem q545 : (Jvm.Cond.privateMethod ({ cls := "BreathOnLoan$Tokens", name := "want", desc := "(I)V" } : Jvm.MethodName)) ∈ lw_tbl := lw_at lw_m2 210 rfl
theorem q546 : (Jvm.Cond.instanceMethod ({ cls := "BreathOnLoan$Tokens", name := "want", desc := "(I)V" } : Jvm.MethodName)) ∈ lw_all := lw_g (lw_at lw_m2 211 rfl) rfl
theorem q547 : (Jvm.Cond.code ({ cls := "BreathOnLoan$Tokens", name := "want", desc := "(I)V" } : Jvm.MethodName) prog_15_method_7_code (2 : Nat) (Option.none : Option Jvm.ClassFile.FieldType)) ∈ lw_all := lw_g (lw_at lw_m2 212 rfl) rfl
theorem q548 : (Jvm.Cond.methodLink "BreathOnLoan$Tokens" (101 : Nat) ({ cls := "java/util/ArrayList", name := "add", desc := "(Ljava/lang/Object;)Z" } : Jvm.MethodName)) ∈ lw_all := lw_g (lw_at lw_m2 213 rfl) rfl
theorem q592 : (Jvm.Cond.selects "BreathOnLoan$Tokens" ({ cls := "java/lang/Object", name := "getClass", desc := "()Ljava/lang/Class;" } : Jvm.MethodName) ({ cls := "java/lang/Object", name := "getClass", desc := "()Ljava/lang/Class;" } : Jvm.MethodName)) ∈ lw_all := lw_g (lw_at lw_m3 17 rfl) rfl
theorem q608 : (Jvm.Cond.methodLink "BreathOnLoan$Tokens" (107 : Nat) ({ cls := "BreathOnLoan$Tokens", name := "sum", desc := "()LBreathOnLoan$Sum;" } : Jvm.MethodName)) ∈ lw_all := lw_g (lw_at lw_m3 33 rfl) rfl
theorem q609 : (Jvm.Cond.privateMethod ({ cls := "BreathOnLoan$Tokens", name := "sum", desc := "()LBreathOnLoan$Sum;" } : Jvm.MethodName)) ∈ lw_tbl := lw_at lw_m3 34 rfl
theorem q610 : (Jvm.Cond.instanceMethod ({ cls := "BreathOnLoan$Tokens", name := "sum", desc := "()LBreathOnLoan$Sum;" } : Jvm.MethodName)) ∈ lw_all := lw_g (lw_at lw_m3 35 rfl) rfl
theorem q611 : (Jvm.Cond.code ({ cls := "BreathOnLoan$Tokens", name := "sum", desc := "()LBreathOnLoan$Sum;" } : Jvm.MethodName) prog_15_method_15_code (3 : Nat) (Option.some (Jvm.ClassFile.FieldType.object "BreathOnLoan$Sum"))) ∈ lw_all := lw_g (lw_at lw_m3 36 rfl) rfl
theorem q612 : (Jvm.Cond.classLink "BreathOnLoan$Tokens" (156 : Nat) "BreathOnLoan$Chain") ∈ lw_all := lw_g (lw_at lw_m3 37 rfl) rfl
theorem q614 : (Jvm.Cond.methodLink "BreathOnLoan$Tokens" (158 : Nat) ({ cls := "BreathOnLoan$Tokens", name := "product", desc := "()LBreathOnLoan$Sum;" } : Jvm.MethodName)) ∈ lw_all := lw_g (lw_at lw_m3 39 rfl) rfl
theorem q615 : (Jvm.Cond.privateMethod ({ cls := "BreathOnLoan$Tokens", name := "product", desc := "()LBreathOnLoan$Sum;" } : Jvm.MethodName)) ∈ lw_tbl := lw_at lw_m3 40 rfl
theorem q616 : (Jvm.Cond.instanceMethod ({ cls := "BreathOnLoan$Tokens", name := "product", desc := "()LBreathOnLoan$Sum;" } : Jvm.MethodName)) ∈ lw_all := lw_g (lw_at lw_m3 41 rfl) rfl
theorem q617 : (Jvm.Cond.code ({ cls := "BreathOnLoan$Tokens", name := "product", desc := "()LBreathOnLoan$Sum;" } : Jvm.MethodName) prog_15_method_16_code (3 : Nat) (Option.some (Jvm.ClassFile.FieldType.object "BreathOnLoan$Sum"))) ∈ lw_all := lw_g (lw_at lw_m3 42 rfl) rfl
theorem q618 : (Jvm.Cond.methodLink "BreathOnLoan$Tokens" (170 : Nat) ({ cls := "BreathOnLoan$Tokens", name := "one", desc := "()LBreathOnLoan$Sum;" } : Jvm.MethodName)) ∈ lw_all := lw_g (lw_at lw_m3 43 rfl) rfl
theorem q619 : (Jvm.Cond.privateMethod ({ cls := "BreathOnLoan$Tokens", name := "one", desc := "()LBreathOnLoan$Sum;" } : Jvm.MethodName)) ∈ lw_tbl := lw_at lw_m3 44 rfl
theorem q620 : (Jvm.Cond.instanceMethod ({ cls := "BreathOnLoan$Tokens", name := "one", desc := "()LBreathOnLoan$Sum;" } : Jvm.MethodName)) ∈ lw_all := lw_g (lw_at lw_m3 45 rfl) rfl
theorem q621 : (Jvm.Cond.code ({ cls := "BreathOnLoan$Tokens", name := "one", desc := "()LBreathOnLoan$Sum;" } : Jvm.MethodName) prog_15_method_17_code (2 : Nat) (Option.some (Jvm.ClassFile.FieldType.object "BreathOnLoan$Sum"))) ∈ lw_all := lw_g (lw_at lw_m3 46 rfl) rfl
theorem q622 : (Jvm.Cond.classLink "BreathOnLoan$Tokens" (173 : Nat) "BreathOnLoan$Plain") ∈ lw_all := lw_g (lw_at lw_m3 47 rfl) rfl
theorem q624 : (Jvm.Cond.methodLinkNest "BreathOnLoan$Tokens" (175 : Nat) ({ cls := "BreathOnLoan$Plain", name := "<init>", desc := "(I)V" } : Jvm.MethodName) "BreathOnLoan") ∈ lw_tbl := lw_at lw_m3 49 rfl
theorem q632 : (Jvm.Cond.fieldLink "BreathOnLoan$Tokens" (177 : Nat) "BreathOnLoan$Tokens" "MAY" "[I") ∈ lw_all := lw_g (lw_at lw_m3 57 rfl) rfl
theorem q633 : (Jvm.Cond.laysStatic "BreathOnLoan$Tokens" "MAY" "[I") ∈ lw_tbl := lw_at lw_m3 58 rfl
theorem q634 : (Jvm.Cond.classLink "BreathOnLoan$Tokens" (181 : Nat) "BreathOnLoan$Name") ∈ lw_all := lw_g (lw_at lw_m3 59 rfl) rfl
theorem q636 : (Jvm.Cond.methodLinkNest "BreathOnLoan$Tokens" (183 : Nat) ({ cls := "BreathOnLoan$Name", name := "<init>", desc := "(I)V" } : Jvm.MethodName) "BreathOnLoan") ∈ lw_tbl := lw_at lw_m3 61 rfl
theorem q644 : (Jvm.Cond.methodLink "BreathOnLoan$Tokens" (184 : Nat) ({ cls := "BreathOnLoan$Tokens", name := "choice", desc := "()LBreathOnLoan$Sum;" } : Jvm.MethodName)) ∈ lw_all := lw_g (lw_at lw_m3 69 rfl) rfl
theorem q645 : (Jvm.Cond.privateMethod ({ cls := "BreathOnLoan$Tokens", name := "choice", desc := "()LBreathOnLoan$Sum;" } : Jvm.MethodName)) ∈ lw_tbl := lw_at lw_m3 70 rfl
theorem q646 : (Jvm.Cond.instanceMethod ({ cls := "BreathOnLoan$Tokens", name := "choice", desc := "()LBreathOnLoan$Sum;" } : Jvm.MethodName)) ∈ lw_all := lw_g (lw_at lw_m3 71 rfl) rfl
theorem q647 : (Jvm.Cond.code ({ cls := "BreathOnLoan$Tokens", name := "choice", desc := "()LBreathOnLoan$Sum;" } : Jvm.MethodName) prog_15_method_18_code (4 : Nat) (Option.some (Jvm.ClassFile.FieldType.object "BreathOnLoan$Sum"))) ∈ lw_all := lw_g (lw_at lw_m3 72 rfl) rfl
theorem q648 : (Jvm.Cond.methodLink "BreathOnLoan$Tokens" (143 : Nat) ({ cls := "BreathOnLoan$Tokens", name := "opens", desc := "()V" } : Jvm.MethodName)) ∈ lw_all := lw_g (lw_at lw_m3 73 rfl) rfl
theorem q649 : (Jvm.Cond.privateMethod ({ cls := "BreathOnLoan$Tokens", name := "opens", desc := "()V" } : Jvm.MethodName)) ∈ lw_tbl := lw_at lw_m3 74 rfl
theorem q650 : (Jvm.Cond.instanceMethod ({ cls := "BreathOnLoan$Tokens", name := "opens", desc := "()V" } : Jvm.MethodName)) ∈ lw_all := lw_g (lw_at lw_m3 75 rfl) rfl
theorem q651 : (Jvm.Cond.code ({ cls := "BreathOnLoan$Tokens", name := "opens", desc := "()V" } : Jvm.MethodName) prog_15_method_9_code (1 : Nat) (Option.none : Option Jvm.ClassFile.FieldType)) ∈ lw_all := lw_g (lw_at lw_m3 76 rfl) rfl
theorem q652 : (Jvm.Cond.methodLink "BreathOnLoan$Tokens" (190 : Nat) ({ cls := "BreathOnLoan$Tokens", name := "either", desc := "()LBreathOnLoan$Asked;" } : Jvm.MethodName)) ∈ lw_all := lw_g (lw_at lw_m3 77 rfl) rfl
theorem q653 : (Jvm.Cond.privateMethod ({ cls := "BreathOnLoan$Tokens", name := "either", desc := "()LBreathOnLoan$Asked;" } : Jvm.MethodName)) ∈ lw_tbl := lw_at lw_m3 78 rfl
theorem q654 : (Jvm.Cond.instanceMethod ({ cls := "BreathOnLoan$Tokens", name := "either", desc := "()LBreathOnLoan$Asked;" } : Jvm.MethodName)) ∈ lw_all := lw_g (lw_at lw_m3 79 rfl) rfl
theorem q655 : (Jvm.Cond.code ({ cls := "BreathOnLoan$Tokens", name := "either", desc := "()LBreathOnLoan$Asked;" } : Jvm.MethodName) prog_15_method_12_code (2 : Nat) (Option.some (Jvm.ClassFile.FieldType.object "BreathOnLoan$Asked"))) ∈ lw_all := lw_g (lw_at lw_m3 80 rfl) rfl
theorem q656 : (Jvm.Cond.classLink "BreathOnLoan$Tokens" (102 : Nat) "java/util/ArrayList") ∈ lw_all := lw_g (lw_at lw_m3 81 rfl) rfl
theorem q657 : (Jvm.Cond.methodLink "BreathOnLoan$Tokens" (122 : Nat) ({ cls := "java/util/ArrayList", name := "<init>", desc := "()V" } : Jvm.MethodName)) ∈ lw_all := lw_g (lw_at lw_m3 82 rfl) rfl
theorem q658 : (Jvm.Cond.methodLink "BreathOnLoan$Tokens" (123 : Nat) ({ cls := "BreathOnLoan$Tokens", name := "both", desc := "()LBreathOnLoan$Asked;" } : Jvm.MethodName)) ∈ lw_all := lw_g (lw_at lw_m3 83 rfl) rfl
theorem q659 : (Jvm.Cond.privateMethod ({ cls := "BreathOnLoan$Tokens", name := "both", desc := "()LBreathOnLoan$Asked;" } : Jvm.MethodName)) ∈ lw_tbl := lw_at lw_m3 84 rfl
theorem q660 : (Jvm.Cond.instanceMethod ({ cls := "BreathOnLoan$Tokens", name := "both", desc := "()LBreathOnLoan$Asked;" } : Jvm.MethodName)) ∈ lw_all := lw_g (lw_at lw_m3 85 rfl) rfl
theorem q661 : (Jvm.Cond.code ({ cls := "BreathOnLoan$Tokens", name := "both", desc := "()LBreathOnLoan$Asked;" } : Jvm.MethodName) prog_15_method_13_code (2 : Nat) (Option.some (Jvm.ClassFile.FieldType.object "BreathOnLoan$Asked"))) ∈ lw_all := lw_g (lw_at lw_m3 86 rfl) rfl
theorem q662 : (Jvm.Cond.methodLink "BreathOnLoan$Tokens" (140 : Nat) ({ cls := "BreathOnLoan$Tokens", name := "ask", desc := "()LBreathOnLoan$Asked;" } : Jvm.MethodName)) ∈ lw_all := lw_g (lw_at lw_m3 87 rfl) rfl
theorem q663 : (Jvm.Cond.privateMethod ({ cls := "BreathOnLoan$Tokens", name := "ask", desc := "()LBreathOnLoan$Asked;" } : Jvm.MethodName)) ∈ lw_tbl := lw_at lw_m3 88 rfl
theorem q664 : (Jvm.Cond.instanceMethod ({ cls := "BreathOnLoan$Tokens", name := "ask", desc := "()LBreathOnLoan$Asked;" } : Jvm.MethodName)) ∈ lw_all := lw_g (lw_at lw_m3 89 rfl) rfl
theorem q665 : (Jvm.Cond.code ({ cls := "BreathOnLoan$Tokens", name := "ask", desc := "()LBreathOnLoan$Asked;" } : Jvm.MethodName) prog_15_method_14_code (3 : Nat) (Option.some (Jvm.ClassFile.FieldType.object "BreathOnLoan$Asked"))) ∈ lw_all := lw_g (lw_at lw_m3 90 rfl) rfl
theorem q666 : (Jvm.Cond.classLink "BreathOnLoan$Tokens" (146 : Nat) "BreathOnLoan$Not") ∈ lw_all := lw_g (lw_at lw_m3 91 rfl) rfl
theorem q668 : (Jvm.Cond.methodLinkNest "BreathOnLoan$Tokens" (148 : Nat) ({ cls := "BreathOnLoan$Not", name := "<init>", desc := "(LBreathOnLoan$Asked;)V" } : Jvm.MethodName) "BreathOnLoan") ∈ lw_tbl := lw_at lw_m3 93 rfl
theorem q676 : (Jvm.Cond.classLink "BreathOnLoan$Tokens" (151 : Nat) "BreathOnLoan$Compared") ∈ lw_all := lw_g (lw_at lw_m3 101 rfl) rfl
theorem q678 : (Jvm.Cond.methodLinkNest "BreathOnLoan$Tokens" (153 : Nat) ({ cls := "BreathOnLoan$Compared", name := "<init>", desc := "(ILBreathOnLoan$Sum;LBreathOnLoan$Sum;)V" } : Jvm.MethodName) "BreathOnLoan") ∈ lw_tbl := lw_at lw_m3 103 rfl
theorem q692 : (Jvm.Cond.methodLink "BreathOnLoan$Tokens" (127 : Nat) ({ cls := "java/util/ArrayList", name := "size", desc := "()I" } : Jvm.MethodName)) ∈ lw_all := lw_g (lw_at lw_m3 117 rfl) rfl
theorem q696 : (Jvm.Cond.methodLink "BreathOnLoan$Tokens" (129 : Nat) ({ cls := "java/util/ArrayList", name := "get", desc := "(I)Ljava/lang/Object;" } : Jvm.MethodName)) ∈ lw_all := lw_g (lw_at lw_m3 121 rfl) rfl
theorem q708 : (Jvm.Cond.classLink "BreathOnLoan$Tokens" (133 : Nat) "BreathOnLoan$Asked") ∈ lw_all := lw_g (lw_at lw_m3 133 rfl) rfl
theorem q709 : (Jvm.Cond.classLink "BreathOnLoan$Tokens" (135 : Nat) "BreathOnLoan$All") ∈ lw_all := lw_g (lw_at lw_m3 134 rfl) rfl
theorem q711 : (Jvm.Cond.methodLinkNest "BreathOnLoan$Tokens" (137 : Nat) ({ cls := "BreathOnLoan$All", name := "<init>", desc := "(ZLjava/util/ArrayList;)V" } : Jvm.MethodName) "BreathOnLoan") ∈ lw_tbl := lw_at lw_m3 136 rfl
theorem q722 : (Jvm.Cond.classLink "BreathOnLoan$Tokens" (193 : Nat) "BreathOnLoan$If") ∈ lw_all := lw_g (lw_at lw_m3 147 rfl) rfl
theorem q724 : (Jvm.Cond.methodLinkNest "BreathOnLoan$Tokens" (195 : Nat) ({ cls := "BreathOnLoan$If", name := "<init>", desc := "(LBreathOnLoan$Asked;LBreathOnLoan$Sum;LBreathOnLoan$Sum;)V" } : Jvm.MethodName) "BreathOnLoan") ∈ lw_tbl := lw_at lw_m3 149 rfl
theorem q738 : (Jvm.Cond.classLink "BreathOnLoan$Tokens" (187 : Nat) "BreathOnLoan$Minus") ∈ lw_all := lw_g (lw_at lw_m3 163 rfl) rfl
theorem q740 : (Jvm.Cond.methodLinkNest "BreathOnLoan$Tokens" (189 : Nat) ({ cls := "BreathOnLoan$Minus", name := "<init>", desc := "(LBreathOnLoan$Sum;)V" } : Jvm.MethodName) "BreathOnLoan") ∈ lw_tbl := lw_at lw_m3 165 rfl
theorem q748 : (Jvm.Cond.methodLink "BreathOnLoan$Tokens" (161 : Nat) ({ cls := "BreathOnLoan$Chain", name := "<init>", desc := "(LBreathOnLoan$Sum;)V" } : Jvm.MethodName)) ∈ lw_all := lw_g (lw_at lw_m3 173 rfl) rfl
theorem q764 : (Jvm.Cond.methodLink "BreathOnLoan$Tokens" (164 : Nat) ({ cls := "BreathOnLoan$Chain", name := "add", desc := "(ILBreathOnLoan$Sum;)V" } : Jvm.MethodName)) ∈ lw_all := lw_g (lw_at lw_m3 189 rfl) rfl
theorem q789 : (Jvm.Cond.methodLink "BreathOnLoan$Tokens" (167 : Nat) ({ cls := "BreathOnLoan$Chain", name := "itself", desc := "()LBreathOnLoan$Sum;" } : Jvm.MethodName)) ∈ lw_all := lw_g (lw_at lw_m3 214 rfl) rfl
theorem q1622 : (Jvm.Cond.castable "BreathOnLoan$Tokens" "java/lang/Object") ∈ lw_tbl := lw_at lw_m7 87 rfl
theorem q1651 : (Jvm.Cond.stringRef "BreathOnLoan$Tokens" (198 : Nat) "smoke") ∈ lw_tbl := lw_at lw_m7 116 rfl
theorem q1652 : (Jvm.Cond.stringRef "BreathOnLoan$Tokens" (200 : Nat) "cost") ∈ lw_tbl := lw_at lw_m7 117 rfl
theorem q1653 : (Jvm.Cond.stringRef "BreathOnLoan$Tokens" (202 : Nat) "brittle") ∈ lw_tbl := lw_at lw_m7 118 rfl
theorem q1654 : (Jvm.Cond.stringRef "BreathOnLoan$Tokens" (204 : Nat) "share") ∈ lw_tbl := lw_at lw_m7 119 rfl
theorem q1655 : (Jvm.Cond.stringRef "BreathOnLoan$Tokens" (206 : Nat) "begin") ∈ lw_tbl := lw_at lw_m7 120 rfl
theorem q1656 : (Jvm.Cond.stringRef "BreathOnLoan$Tokens" (208 : Nat) "blow") ∈ lw_tbl := lw_at lw_m7 121 rfl
theorem q1657 : (Jvm.Cond.stringRef "BreathOnLoan$Tokens" (210 : Nat) "wait") ∈ lw_tbl := lw_at lw_m7 122 rfl
theorem q1658 : (Jvm.Cond.stringRef "BreathOnLoan$Tokens" (212 : Nat) "by") ∈ lw_tbl := lw_at lw_m7 123 rfl
theorem q1659 : (Jvm.Cond.stringRef "BreathOnLoan$Tokens" (214 : Nat) "give") ∈ lw_tbl := lw_at lw_m7 124 rfl
theorem q1660 : (Jvm.Cond.stringRef "BreathOnLoan$Tokens" (216 : Nat) "if") ∈ lw_tbl := lw_at lw_m7 125 rfl
theorem q1661 : (Jvm.Cond.stringRef "BreathOnLoan$Tokens" (218 : Nat) "end") ∈ lw_tbl := lw_at lw_m7 126 rfl
theorem q1662 : (Jvm.Cond.stringRef "BreathOnLoan$Tokens" (220 : Nat) "or") ∈ lw_tbl := lw_at lw_m7 127 rfl
theorem q1663 : (Jvm.Cond.stringRef "BreathOnLoan$Tokens" (222 : Nat) "and") ∈ lw_tbl := lw_at lw_m7 128 rfl
theorem q1664 : (Jvm.Cond.stringRef "BreathOnLoan$Tokens" (224 : Nat) "not") ∈ lw_tbl := lw_at lw_m7 129 rfl
theorem q1665 : (Jvm.Cond.stringRef "BreathOnLoan$Tokens" (226 : Nat) "hour") ∈ lw_tbl := lw_at lw_m7 130 rfl
theorem q1666 : (Jvm.Cond.stringRef "BreathOnLoan$Tokens" (228 : Nat) "blower") ∈ lw_tbl := lw_at lw_m7 131 rfl
theorem q1667 : (Jvm.Cond.stringRef "BreathOnLoan$Tokens" (230 : Nat) "lungs") ∈ lw_tbl := lw_at lw_m7 132 rfl
theorem q1668 : (Jvm.Cond.stringRef "BreathOnLoan$Tokens" (232 : Nat) "voice") ∈ lw_tbl := lw_at lw_m7 133 rfl
theorem q1669 : (Jvm.Cond.stringRef "BreathOnLoan$Tokens" (234 : Nat) "beads") ∈ lw_tbl := lw_at lw_m7 134 rfl
theorem q1670 : (Jvm.Cond.stringRef "BreathOnLoan$Tokens" (236 : Nat) "kind") ∈ lw_tbl := lw_at lw_m7 135 rfl
theorem q1671 : (Jvm.Cond.stringRef "BreathOnLoan$Tokens" (237 : Nat) "want") ∈ lw_tbl := lw_at lw_m7 136 rfl
theorem q1672 : (Jvm.Cond.stringRef "BreathOnLoan$Tokens" (238 : Nat) "worth") ∈ lw_tbl := lw_at lw_m7 137 rfl
theorem q1673 : (Jvm.Cond.stringRef "BreathOnLoan$Tokens" (240 : Nat) "breaths") ∈ lw_tbl := lw_at lw_m7 138 rfl
theorem q1674 : (Jvm.Cond.stringRef "BreathOnLoan$Tokens" (242 : Nat) "quarrels") ∈ lw_tbl := lw_at lw_m7 139 rfl
theorem q1675 : (Jvm.Cond.stringRef "BreathOnLoan$Tokens" (244 : Nat) "many") ∈ lw_tbl := lw_at lw_m7 140 rfl
theorem in_X3 : ∀ w ∈ wsX30, w ∈ lw_all := lw_in wsX30 [305, 307, 309, 311, 313, 315, 317, 319] (by decide +kernel) (by decide +kernel)
/-! BreathOnLoan$Text -/
set_option maxRecDepth 100000
def RX4 : String := "BreathOnLoan$Text"
def TX4 : u_T := fun k => match k with
  | 0 => ("BreathOnLoan$Text", "of", "[LBreathOnLoan$Sum;", true)
  | 1 => ("BreathOnLoan$Text", "doings", "Ljava/util/ArrayList;", true)
  | _ => ("BreathOnLoan$Text", "clauses", "I", false)
def tyX4 : Nat → FieldType := fun k => match k with
  | 0 => .array (.object "BreathOnLoan$Sum")
  | 1 => .object "java/util/ArrayList"
  | _ => .int
abbrev wsX40 : List Cond := u_ws RX4 TX4 3
theorem nmX4 : ∀ a, a < 3 → ∀ b, b < 3 → a ≠ b → (TX4 a).2.1 ≠ (TX4 b).2.1 := by decide +kernel
theorem tyX4_ok : ∀ k, k < 3 → parseFieldDescriptor (TX4 k).2.2.1 = some (tyX4 k) := by decide +kernel
abbrev cX4_init : ByteArray := prog_14_method_1_code
def yX4_init : MethodName := ⟨RX4, "<init>", "()V"⟩
def dkwX4_init_0 : List UInt8 := [42, 183, 0, 1, 42, 7, 189, 0, 7, 181, 0, 9, 42, 187, 0, 15, 89, 183, 0, 17, 181, 0, 18, 177]
abbrev dktX4_init_0 : List UInt8 := dkwX4_init_0 ++ []
theorem dksX4_init_0 : cX4_init.data.toList.drop 0 = dktX4_init_0 := by decide +kernel
theorem dX4_init_0 : decode cX4_init 0 = .ok (.aload_n 0, 1) := dk_42 (dk_at dksX4_init_0 0 rfl rfl)
theorem dX4_init_1 : decode cX4_init 1 = .ok (.invokespecial 1, 3) := dk_183 0 1 (dk_at dksX4_init_0 1 rfl rfl)
theorem dX4_init_4 : decode cX4_init 4 = .ok (.aload_n 0, 1) := dk_42 (dk_at dksX4_init_0 4 rfl rfl)
theorem dX4_init_5 : decode cX4_init 5 = .ok (.iconst 4, 1) := dk_7 (dk_at dksX4_init_0 5 rfl rfl)
theorem dX4_init_6 : decode cX4_init 6 = .ok (.anewarray 7, 3) := dk_189 0 7 (dk_at dksX4_init_0 6 rfl rfl)
theorem dX4_init_9 : decode cX4_init 9 = .ok (.putfield 9, 3) := dk_181 0 9 (dk_at dksX4_init_0 9 rfl rfl)
theorem dX4_init_12 : decode cX4_init 12 = .ok (.aload_n 0, 1) := dk_42 (dk_at dksX4_init_0 12 rfl rfl)
theorem dX4_init_13 : decode cX4_init 13 = .ok (.new 15, 3) := dk_187 0 15 (dk_at dksX4_init_0 13 rfl rfl)
theorem dX4_init_16 : decode cX4_init 16 = .ok (.dup, 1) := dk_89 (dk_at dksX4_init_0 16 rfl rfl)
theorem dX4_init_17 : decode cX4_init 17 = .ok (.invokespecial 17, 3) := dk_183 0 17 (dk_at dksX4_init_0 17 rfl rfl)
theorem dX4_init_20 : decode cX4_init 20 = .ok (.putfield 18, 3) := dk_181 0 18 (dk_at dksX4_init_0 20 rfl rfl)
theorem dX4_init_23 : decode cX4_init 23 = .ok (.return_, 1) := dk_177 (dk_at dksX4_init_0 23 rfl rfl)
theorem q101 : (Jvm.Cond.initialized "BreathOnLoan$Text") ∈ lw_all := lw_g (lw_at lw_m1 6 rfl) rfl
theorem q327 : (Jvm.Cond.instantiable "BreathOnLoan$Text" (3 : Nat)) ∈ lw_all := lw_g (lw_at lw_m1 232 rfl) rfl
theorem q329 : (Jvm.Cond.instanceMethod ({ cls := "BreathOnLoan$Text", name := "<init>", desc := "()V" } : Jvm.MethodName)) ∈ lw_all := lw_g (lw_at lw_m1 234 rfl) rfl
theorem q330 : (Jvm.Cond.code ({ cls := "BreathOnLoan$Text", name := "<init>", desc := "()V" } : Jvm.MethodName) prog_14_method_1_code (1 : Nat) (Option.none : Option Jvm.ClassFile.FieldType)) ∈ lw_all := lw_g (lw_at lw_m1 235 rfl) rfl
theorem q331 : (Jvm.Cond.methodLink "BreathOnLoan$Text" (1 : Nat) ({ cls := "java/lang/Object", name := "<init>", desc := "()V" } : Jvm.MethodName)) ∈ lw_all := lw_g (lw_at lw_m1 236 rfl) rfl
theorem q332 : (Jvm.Cond.classLink "BreathOnLoan$Text" (7 : Nat) "BreathOnLoan$Sum") ∈ lw_all := lw_g (lw_at lw_m1 237 rfl) rfl
theorem q334 : (Jvm.Cond.classLink "BreathOnLoan$Text" (15 : Nat) "java/util/ArrayList") ∈ lw_all := lw_g (lw_at lw_m1 239 rfl) rfl
theorem q336 : (Jvm.Cond.methodLink "BreathOnLoan$Text" (17 : Nat) ({ cls := "java/util/ArrayList", name := "<init>", desc := "()V" } : Jvm.MethodName)) ∈ lw_all := lw_g (lw_at lw_m2 1 rfl) rfl
theorem q360 : (Jvm.Cond.fieldLink "BreathOnLoan$Text" (9 : Nat) "BreathOnLoan$Text" "of" "[LBreathOnLoan$Sum;") ∈ lw_all := lw_g (lw_at lw_m2 25 rfl) rfl
theorem q363 : (Jvm.Cond.fieldLink "BreathOnLoan$Text" (18 : Nat) "BreathOnLoan$Text" "doings" "Ljava/util/ArrayList;") ∈ lw_all := lw_g (lw_at lw_m2 28 rfl) rfl
theorem q367 : (Jvm.Cond.laysFinal "BreathOnLoan$Text" "BreathOnLoan$Text" "of" "[LBreathOnLoan$Sum;") ∈ lw_all := lw_g (lw_at lw_m2 32 rfl) rfl
theorem q368 : (Jvm.Cond.soleField "BreathOnLoan$Text" "of") ∈ lw_all := lw_g (lw_at lw_m2 33 rfl) rfl
theorem q369 : (Jvm.Cond.laysFinal "BreathOnLoan$Text" "BreathOnLoan$Text" "doings" "Ljava/util/ArrayList;") ∈ lw_all := lw_g (lw_at lw_m2 34 rfl) rfl
theorem q370 : (Jvm.Cond.soleField "BreathOnLoan$Text" "doings") ∈ lw_all := lw_g (lw_at lw_m2 35 rfl) rfl
theorem q371 : (Jvm.Cond.lays "BreathOnLoan$Text" "BreathOnLoan$Text" "clauses" "I") ∈ lw_all := lw_g (lw_at lw_m2 36 rfl) rfl
theorem q372 : (Jvm.Cond.soleField "BreathOnLoan$Text" "clauses") ∈ lw_all := lw_g (lw_at lw_m2 37 rfl) rfl
theorem q373 : (Jvm.Cond.superclass "BreathOnLoan$Text" "java/lang/Object") ∈ lw_all := lw_g (lw_at lw_m2 38 rfl) rfl
theorem q591 : (Jvm.Cond.selects "BreathOnLoan$Text" ({ cls := "java/lang/Object", name := "getClass", desc := "()Ljava/lang/Class;" } : Jvm.MethodName) ({ cls := "java/lang/Object", name := "getClass", desc := "()Ljava/lang/Class;" } : Jvm.MethodName)) ∈ lw_all := lw_g (lw_at lw_m3 16 rfl) rfl
theorem q1616 : (Jvm.Cond.castable "BreathOnLoan$Text" "java/lang/Object") ∈ lw_tbl := lw_at lw_m7 81 rfl
theorem in_X4 : ∀ w ∈ wsX40, w ∈ lw_all := lw_in wsX40 [367, 369, 371] (by decide +kernel) (by decide +kernel)
/-! BreathOnLoan$Wrong -/
set_option maxRecDepth 100000
def RX5 : String := "BreathOnLoan$Wrong"
def TX5 : u_T := fun k => match k with
  | 0 => ("java/lang/Throwable", "cause", "Ljava/lang/Throwable;", false)
  | 1 => ("java/lang/Throwable", "stackTrace", "[Ljava/lang/StackTraceElement;", false)
  | 2 => ("java/lang/Throwable", "suppressedExceptions", "Ljava/util/List;", false)
  | 3 => ("java/lang/Throwable", "detailMessage", "Ljava/lang/String;", false)
  | 4 => ("java/lang/Throwable", "backtrace", "Ljava/lang/Object;", false)
  | 5 => ("java/lang/Throwable", "depth", "I", false)
  | 6 => ("BreathOnLoan$Wrong", "fault", "I", true)
  | _ => ("BreathOnLoan$Wrong", "place", "I", true)
def tyX5 : Nat → FieldType := fun k => match k with
  | 0 => .object "java/lang/Throwable"
  | 1 => .array (.object "java/lang/StackTraceElement")
  | 2 => .object "java/util/List"
  | 3 => .object "java/lang/String"
  | 4 => .object "java/lang/Object"
  | 5 => .int
  | 6 => .int
  | _ => .int
abbrev wsX50 : List Cond := u_ws RX5 TX5 8
theorem nmX5 : ∀ a, a < 8 → ∀ b, b < 8 → a ≠ b → (TX5 a).2.1 ≠ (TX5 b).2.1 := by decide +kernel
theorem tyX5_ok : ∀ k, k < 8 → parseFieldDescriptor (TX5 k).2.2.1 = some (tyX5 k) := by decide +kernel
abbrev cX5_init : ByteArray := prog_16_method_1_code
def yX5_init : MethodName := ⟨RX5, "<init>", "(II)V"⟩
def dkwX5_init_0 : List UInt8 := [42, 183, 0, 1, 42, 27, 181, 0, 7, 42, 28, 181, 0, 13, 177]
abbrev dktX5_init_0 : List UInt8 := dkwX5_init_0 ++ []
theorem dksX5_init_0 : cX5_init.data.toList.drop 0 = dktX5_init_0 := by decide +kernel
theorem dX5_init_0 : decode cX5_init 0 = .ok (.aload_n 0, 1) := dk_42 (dk_at dksX5_init_0 0 rfl rfl)
theorem dX5_init_1 : decode cX5_init 1 = .ok (.invokespecial 1, 3) := dk_183 0 1 (dk_at dksX5_init_0 1 rfl rfl)
theorem dX5_init_4 : decode cX5_init 4 = .ok (.aload_n 0, 1) := dk_42 (dk_at dksX5_init_0 4 rfl rfl)
theorem dX5_init_5 : decode cX5_init 5 = .ok (.iload_n 1, 1) := dk_27 (dk_at dksX5_init_0 5 rfl rfl)
theorem dX5_init_6 : decode cX5_init 6 = .ok (.putfield 7, 3) := dk_181 0 7 (dk_at dksX5_init_0 6 rfl rfl)
theorem dX5_init_9 : decode cX5_init 9 = .ok (.aload_n 0, 1) := dk_42 (dk_at dksX5_init_0 9 rfl rfl)
theorem dX5_init_10 : decode cX5_init 10 = .ok (.iload_n 2, 1) := dk_28 (dk_at dksX5_init_0 10 rfl rfl)
theorem dX5_init_11 : decode cX5_init 11 = .ok (.putfield 13, 3) := dk_181 0 13 (dk_at dksX5_init_0 11 rfl rfl)
theorem dX5_init_14 : decode cX5_init 14 = .ok (.return_, 1) := dk_177 (dk_at dksX5_init_0 14 rfl rfl)
theorem q112 : (Jvm.Cond.initialized "BreathOnLoan$Wrong") ∈ lw_all := lw_g (lw_at lw_m1 17 rfl) rfl
theorem q448 : (Jvm.Cond.instantiable "BreathOnLoan$Wrong" (8 : Nat)) ∈ lw_all := lw_g (lw_at lw_m2 113 rfl) rfl
theorem q449 : (Jvm.Cond.castable "BreathOnLoan$Wrong" "BreathOnLoan$Wrong") ∈ lw_tbl := lw_at lw_m2 114 rfl
theorem q454 : (Jvm.Cond.selects "BreathOnLoan$Wrong" ({ cls := "java/lang/Throwable", name := "fillInStackTrace", desc := "(I)Ljava/lang/Throwable;" } : Jvm.MethodName) ({ cls := "java/lang/Throwable", name := "fillInStackTrace", desc := "(I)Ljava/lang/Throwable;" } : Jvm.MethodName)) ∈ lw_all := lw_g (lw_at lw_m2 119 rfl) rfl
theorem q455 : (Jvm.Cond.selects "BreathOnLoan$Wrong" ({ cls := "java/lang/Throwable", name := "fillInStackTrace", desc := "()Ljava/lang/Throwable;" } : Jvm.MethodName) ({ cls := "java/lang/Throwable", name := "fillInStackTrace", desc := "()Ljava/lang/Throwable;" } : Jvm.MethodName)) ∈ lw_all := lw_g (lw_at lw_m2 120 rfl) rfl
theorem q456 : (Jvm.Cond.lays "BreathOnLoan$Wrong" "java/lang/Throwable" "cause" "Ljava/lang/Throwable;") ∈ lw_all := lw_g (lw_at lw_m2 121 rfl) rfl
theorem q458 : (Jvm.Cond.lays "BreathOnLoan$Wrong" "java/lang/Throwable" "stackTrace" "[Ljava/lang/StackTraceElement;") ∈ lw_all := lw_g (lw_at lw_m2 123 rfl) rfl
theorem q460 : (Jvm.Cond.lays "BreathOnLoan$Wrong" "java/lang/Throwable" "suppressedExceptions" "Ljava/util/List;") ∈ lw_all := lw_g (lw_at lw_m2 125 rfl) rfl
theorem q462 : (Jvm.Cond.lays "BreathOnLoan$Wrong" "java/lang/Throwable" "detailMessage" "Ljava/lang/String;") ∈ lw_all := lw_g (lw_at lw_m2 127 rfl) rfl
theorem q464 : (Jvm.Cond.lays "BreathOnLoan$Wrong" "java/lang/Throwable" "backtrace" "Ljava/lang/Object;") ∈ lw_all := lw_g (lw_at lw_m2 129 rfl) rfl
theorem q485 : (Jvm.Cond.instanceMethod ({ cls := "BreathOnLoan$Wrong", name := "<init>", desc := "(II)V" } : Jvm.MethodName)) ∈ lw_all := lw_g (lw_at lw_m2 150 rfl) rfl
theorem q486 : (Jvm.Cond.code ({ cls := "BreathOnLoan$Wrong", name := "<init>", desc := "(II)V" } : Jvm.MethodName) prog_16_method_1_code (3 : Nat) (Option.none : Option Jvm.ClassFile.FieldType)) ∈ lw_all := lw_g (lw_at lw_m2 151 rfl) rfl
theorem q487 : (Jvm.Cond.methodLink "BreathOnLoan$Wrong" (1 : Nat) ({ cls := "java/lang/Exception", name := "<init>", desc := "()V" } : Jvm.MethodName)) ∈ lw_all := lw_g (lw_at lw_m2 152 rfl) rfl
theorem q491 : (Jvm.Cond.fieldLink "BreathOnLoan$Wrong" (7 : Nat) "BreathOnLoan$Wrong" "fault" "I") ∈ lw_all := lw_g (lw_at lw_m2 156 rfl) rfl
theorem q493 : (Jvm.Cond.fieldLink "BreathOnLoan$Wrong" (13 : Nat) "BreathOnLoan$Wrong" "place" "I") ∈ lw_all := lw_g (lw_at lw_m2 158 rfl) rfl
theorem q499 : (Jvm.Cond.laysFinal "BreathOnLoan$Wrong" "BreathOnLoan$Wrong" "fault" "I") ∈ lw_all := lw_g (lw_at lw_m2 164 rfl) rfl
theorem q500 : (Jvm.Cond.soleField "BreathOnLoan$Wrong" "fault") ∈ lw_all := lw_g (lw_at lw_m2 165 rfl) rfl
theorem q501 : (Jvm.Cond.laysFinal "BreathOnLoan$Wrong" "BreathOnLoan$Wrong" "place" "I") ∈ lw_all := lw_g (lw_at lw_m2 166 rfl) rfl
theorem q502 : (Jvm.Cond.soleField "BreathOnLoan$Wrong" "place") ∈ lw_all := lw_g (lw_at lw_m2 167 rfl) rfl
theorem q507 : (Jvm.Cond.lays "BreathOnLoan$Wrong" "java/lang/Throwable" "depth" "I") ∈ lw_all := lw_g (lw_at lw_m2 172 rfl) rfl
theorem q510 : (Jvm.Cond.superclass "BreathOnLoan$Wrong" "java/lang/Exception") ∈ lw_all := lw_g (lw_at lw_m2 175 rfl) rfl
theorem q593 : (Jvm.Cond.selects "BreathOnLoan$Wrong" ({ cls := "java/lang/Object", name := "getClass", desc := "()Ljava/lang/Class;" } : Jvm.MethodName) ({ cls := "java/lang/Object", name := "getClass", desc := "()Ljava/lang/Class;" } : Jvm.MethodName)) ∈ lw_all := lw_g (lw_at lw_m3 18 rfl) rfl
theorem q1624 : (Jvm.Cond.castable "BreathOnLoan$Wrong" "java/lang/Object") ∈ lw_tbl := lw_at lw_m7 89 rfl
theorem in_X5 : ∀ w ∈ wsX50, w ∈ lw_all := lw_in wsX50 [456, 458, 460, 462, 464, 507, 499, 501] (by decide +kernel) (by decide +kernel)
/-! BreathOnLoan$Doing -/
set_option maxRecDepth 100000
def RX6 : String := "BreathOnLoan$Doing"
def TX6 : u_T := fun k => match k with
  | 0 => ("BreathOnLoan$Doing", "sort", "I", true)
  | 1 => ("BreathOnLoan$Doing", "a", "I", true)
  | 2 => ("BreathOnLoan$Doing", "b", "I", true)
  | 3 => ("BreathOnLoan$Doing", "n", "I", true)
  | _ => ("BreathOnLoan$Doing", "number", "I", true)
def tyX6 : Nat → FieldType := fun k => match k with
  | 0 => .int
  | 1 => .int
  | 2 => .int
  | 3 => .int
  | _ => .int
abbrev wsX60 : List Cond := u_ws RX6 TX6 5
theorem nmX6 : ∀ a, a < 5 → ∀ b, b < 5 → a ≠ b → (TX6 a).2.1 ≠ (TX6 b).2.1 := by decide +kernel
theorem tyX6_ok : ∀ k, k < 5 → parseFieldDescriptor (TX6 k).2.2.1 = some (tyX6 k) := by decide +kernel
abbrev cX6_init : ByteArray := prog_6_method_1_code
def yX6_init : MethodName := ⟨RX6, "<init>", "(IIIII)V"⟩
def dkwX6_init_1 : List UInt8 := [181, 0, 19, 42, 21, 5, 181, 0, 22, 177]
abbrev dktX6_init_1 : List UInt8 := dkwX6_init_1 ++ []
def dkwX6_init_0 : List UInt8 := [42, 183, 0, 1, 42, 27, 181, 0, 7, 42, 28, 181, 0, 13, 42, 29, 181, 0, 16, 42, 21, 4]
abbrev dktX6_init_0 : List UInt8 := dkwX6_init_0 ++ dktX6_init_1
theorem dksX6_init_0 : cX6_init.data.toList.drop 0 = dktX6_init_0 := by decide +kernel
theorem dksX6_init_1 : cX6_init.data.toList.drop 22 = dktX6_init_1 := dk_seg dksX6_init_0 22 rfl rfl
theorem dX6_init_0 : decode cX6_init 0 = .ok (.aload_n 0, 1) := dk_42 (dk_at dksX6_init_0 0 rfl rfl)
theorem dX6_init_1 : decode cX6_init 1 = .ok (.invokespecial 1, 3) := dk_183 0 1 (dk_at dksX6_init_0 1 rfl rfl)
theorem dX6_init_4 : decode cX6_init 4 = .ok (.aload_n 0, 1) := dk_42 (dk_at dksX6_init_0 4 rfl rfl)
theorem dX6_init_5 : decode cX6_init 5 = .ok (.iload_n 1, 1) := dk_27 (dk_at dksX6_init_0 5 rfl rfl)
theorem dX6_init_6 : decode cX6_init 6 = .ok (.putfield 7, 3) := dk_181 0 7 (dk_at dksX6_init_0 6 rfl rfl)
theorem dX6_init_9 : decode cX6_init 9 = .ok (.aload_n 0, 1) := dk_42 (dk_at dksX6_init_0 9 rfl rfl)
theorem dX6_init_10 : decode cX6_init 10 = .ok (.iload_n 2, 1) := dk_28 (dk_at dksX6_init_0 10 rfl rfl)
theorem dX6_init_11 : decode cX6_init 11 = .ok (.putfield 13, 3) := dk_181 0 13 (dk_at dksX6_init_0 11 rfl rfl)
theorem dX6_init_14 : decode cX6_init 14 = .ok (.aload_n 0, 1) := dk_42 (dk_at dksX6_init_0 14 rfl rfl)
theorem dX6_init_15 : decode cX6_init 15 = .ok (.iload_n 3, 1) := dk_29 (dk_at dksX6_init_0 15 rfl rfl)
theorem dX6_init_16 : decode cX6_init 16 = .ok (.putfield 16, 3) := dk_181 0 16 (dk_at dksX6_init_0 16 rfl rfl)
theorem dX6_init_19 : decode cX6_init 19 = .ok (.aload_n 0, 1) := dk_42 (dk_at dksX6_init_0 19 rfl rfl)
theorem dX6_init_20 : decode cX6_init 20 = .ok (.iload 4, 2) := dk_21 4 (dk_at dksX6_init_0 20 rfl rfl)
theorem dX6_init_22 : decode cX6_init 22 = .ok (.putfield 19, 3) := dk_181 0 19 (dk_at dksX6_init_1 0 rfl rfl)
theorem dX6_init_25 : decode cX6_init 25 = .ok (.aload_n 0, 1) := dk_42 (dk_at dksX6_init_1 3 rfl rfl)
theorem dX6_init_26 : decode cX6_init 26 = .ok (.iload 5, 2) := dk_21 5 (dk_at dksX6_init_1 4 rfl rfl)
theorem dX6_init_28 : decode cX6_init 28 = .ok (.putfield 22, 3) := dk_181 0 22 (dk_at dksX6_init_1 6 rfl rfl)
theorem dX6_init_31 : decode cX6_init 31 = .ok (.return_, 1) := dk_177 (dk_at dksX6_init_1 9 rfl rfl)
abbrev cX6_sort : ByteArray := prog_6_method_5_code
def yX6_sort : MethodName := ⟨RX6, "sort", "()I"⟩
theorem dX6_sort_0 : decode cX6_sort 0 = .ok (.aload_n 0, 1) := by decide +kernel
theorem dX6_sort_1 : decode cX6_sort 1 = .ok (.getfield 7, 3) := by decide +kernel
theorem dX6_sort_4 : decode cX6_sort 4 = .ok (.ireturn, 1) := by decide +kernel
abbrev cX6_a : ByteArray := prog_6_method_6_code
def yX6_a : MethodName := ⟨RX6, "a", "()I"⟩
theorem dX6_a_0 : decode cX6_a 0 = .ok (.aload_n 0, 1) := by decide +kernel
theorem dX6_a_1 : decode cX6_a 1 = .ok (.getfield 13, 3) := by decide +kernel
theorem dX6_a_4 : decode cX6_a 4 = .ok (.ireturn, 1) := by decide +kernel
abbrev cX6_b : ByteArray := prog_6_method_7_code
def yX6_b : MethodName := ⟨RX6, "b", "()I"⟩
theorem dX6_b_0 : decode cX6_b 0 = .ok (.aload_n 0, 1) := by decide +kernel
theorem dX6_b_1 : decode cX6_b 1 = .ok (.getfield 16, 3) := by decide +kernel
theorem dX6_b_4 : decode cX6_b 4 = .ok (.ireturn, 1) := by decide +kernel
abbrev cX6_n : ByteArray := prog_6_method_8_code
def yX6_n : MethodName := ⟨RX6, "n", "()I"⟩
theorem dX6_n_0 : decode cX6_n 0 = .ok (.aload_n 0, 1) := by decide +kernel
theorem dX6_n_1 : decode cX6_n 1 = .ok (.getfield 19, 3) := by decide +kernel
theorem dX6_n_4 : decode cX6_n 4 = .ok (.ireturn, 1) := by decide +kernel
abbrev cX6_number : ByteArray := prog_6_method_9_code
def yX6_number : MethodName := ⟨RX6, "number", "()I"⟩
theorem dX6_number_0 : decode cX6_number 0 = .ok (.aload_n 0, 1) := by decide +kernel
theorem dX6_number_1 : decode cX6_number 1 = .ok (.getfield 22, 3) := by decide +kernel
theorem dX6_number_4 : decode cX6_number 4 = .ok (.ireturn, 1) := by decide +kernel
theorem q114 : (Jvm.Cond.initialized "BreathOnLoan$Doing") ∈ lw_all := lw_g (lw_at lw_m1 19 rfl) rfl
theorem q520 : (Jvm.Cond.instantiable "BreathOnLoan$Doing" (5 : Nat)) ∈ lw_all := lw_g (lw_at lw_m2 185 rfl) rfl
theorem q522 : (Jvm.Cond.instanceMethod ({ cls := "BreathOnLoan$Doing", name := "<init>", desc := "(IIIII)V" } : Jvm.MethodName)) ∈ lw_all := lw_g (lw_at lw_m2 187 rfl) rfl
theorem q523 : (Jvm.Cond.code ({ cls := "BreathOnLoan$Doing", name := "<init>", desc := "(IIIII)V" } : Jvm.MethodName) prog_6_method_1_code (6 : Nat) (Option.none : Option Jvm.ClassFile.FieldType)) ∈ lw_all := lw_g (lw_at lw_m2 188 rfl) rfl
theorem q524 : (Jvm.Cond.methodLink "BreathOnLoan$Doing" (1 : Nat) ({ cls := "java/lang/Record", name := "<init>", desc := "()V" } : Jvm.MethodName)) ∈ lw_all := lw_g (lw_at lw_m2 189 rfl) rfl
theorem q528 : (Jvm.Cond.fieldLink "BreathOnLoan$Doing" (7 : Nat) "BreathOnLoan$Doing" "sort" "I") ∈ lw_all := lw_g (lw_at lw_m2 193 rfl) rfl
theorem q529 : (Jvm.Cond.fieldLink "BreathOnLoan$Doing" (13 : Nat) "BreathOnLoan$Doing" "a" "I") ∈ lw_all := lw_g (lw_at lw_m2 194 rfl) rfl
theorem q530 : (Jvm.Cond.fieldLink "BreathOnLoan$Doing" (16 : Nat) "BreathOnLoan$Doing" "b" "I") ∈ lw_all := lw_g (lw_at lw_m2 195 rfl) rfl
theorem q531 : (Jvm.Cond.fieldLink "BreathOnLoan$Doing" (19 : Nat) "BreathOnLoan$Doing" "n" "I") ∈ lw_all := lw_g (lw_at lw_m2 196 rfl) rfl
theorem q532 : (Jvm.Cond.fieldLink "BreathOnLoan$Doing" (22 : Nat) "BreathOnLoan$Doing" "number" "I") ∈ lw_all := lw_g (lw_at lw_m2 197 rfl) rfl
theorem q533 : (Jvm.Cond.laysFinal "BreathOnLoan$Doing" "BreathOnLoan$Doing" "sort" "I") ∈ lw_all := lw_g (lw_at lw_m2 198 rfl) rfl
theorem q534 : (Jvm.Cond.soleField "BreathOnLoan$Doing" "sort") ∈ lw_all := lw_g (lw_at lw_m2 199 rfl) rfl
theorem q535 : (Jvm.Cond.laysFinal "BreathOnLoan$Doing" "BreathOnLoan$Doing" "a" "I") ∈ lw_all := lw_g (lw_at lw_m2 200 rfl) rfl
theorem q536 : (Jvm.Cond.soleField "BreathOnLoan$Doing" "a") ∈ lw_all := lw_g (lw_at lw_m2 201 rfl) rfl
theorem q537 : (Jvm.Cond.laysFinal "BreathOnLoan$Doing" "BreathOnLoan$Doing" "b" "I") ∈ lw_all := lw_g (lw_at lw_m2 202 rfl) rfl
theorem q538 : (Jvm.Cond.soleField "BreathOnLoan$Doing" "b") ∈ lw_all := lw_g (lw_at lw_m2 203 rfl) rfl
theorem q539 : (Jvm.Cond.laysFinal "BreathOnLoan$Doing" "BreathOnLoan$Doing" "n" "I") ∈ lw_all := lw_g (lw_at lw_m2 204 rfl) rfl
theorem q540 : (Jvm.Cond.soleField "BreathOnLoan$Doing" "n") ∈ lw_all := lw_g (lw_at lw_m2 205 rfl) rfl
theorem q541 : (Jvm.Cond.laysFinal "BreathOnLoan$Doing" "BreathOnLoan$Doing" "number" "I") ∈ lw_all := lw_g (lw_at lw_m2 206 rfl) rfl
theorem q542 : (Jvm.Cond.soleField "BreathOnLoan$Doing" "number") ∈ lw_all := lw_g (lw_at lw_m2 207 rfl) rfl
theorem q543 : (Jvm.Cond.superclass "BreathOnLoan$Doing" "java/lang/Record") ∈ lw_all := lw_g (lw_at lw_m2 208 rfl) rfl
theorem q584 : (Jvm.Cond.selects "BreathOnLoan$Doing" ({ cls := "java/lang/Object", name := "getClass", desc := "()Ljava/lang/Class;" } : Jvm.MethodName) ({ cls := "java/lang/Object", name := "getClass", desc := "()Ljava/lang/Class;" } : Jvm.MethodName)) ∈ lw_all := lw_g (lw_at lw_m3 9 rfl) rfl
theorem q997 : (Jvm.Cond.instanceMethod ({ cls := "BreathOnLoan$Doing", name := "sort", desc := "()I" } : Jvm.MethodName)) ∈ lw_all := lw_g (lw_at lw_m4 182 rfl) rfl
theorem q998 : (Jvm.Cond.selects "BreathOnLoan$Doing" ({ cls := "BreathOnLoan$Doing", name := "sort", desc := "()I" } : Jvm.MethodName) ({ cls := "BreathOnLoan$Doing", name := "sort", desc := "()I" } : Jvm.MethodName)) ∈ lw_all := lw_g (lw_at lw_m4 183 rfl) rfl
theorem q999 : (Jvm.Cond.code ({ cls := "BreathOnLoan$Doing", name := "sort", desc := "()I" } : Jvm.MethodName) prog_6_method_5_code (1 : Nat) (Option.some Jvm.ClassFile.FieldType.int)) ∈ lw_all := lw_g (lw_at lw_m4 184 rfl) rfl
theorem q1001 : (Jvm.Cond.instanceMethod ({ cls := "BreathOnLoan$Doing", name := "a", desc := "()I" } : Jvm.MethodName)) ∈ lw_all := lw_g (lw_at lw_m4 186 rfl) rfl
theorem q1002 : (Jvm.Cond.selects "BreathOnLoan$Doing" ({ cls := "BreathOnLoan$Doing", name := "a", desc := "()I" } : Jvm.MethodName) ({ cls := "BreathOnLoan$Doing", name := "a", desc := "()I" } : Jvm.MethodName)) ∈ lw_all := lw_g (lw_at lw_m4 187 rfl) rfl
theorem q1003 : (Jvm.Cond.code ({ cls := "BreathOnLoan$Doing", name := "a", desc := "()I" } : Jvm.MethodName) prog_6_method_6_code (1 : Nat) (Option.some Jvm.ClassFile.FieldType.int)) ∈ lw_all := lw_g (lw_at lw_m4 188 rfl) rfl
theorem q1006 : (Jvm.Cond.instanceMethod ({ cls := "BreathOnLoan$Doing", name := "b", desc := "()I" } : Jvm.MethodName)) ∈ lw_all := lw_g (lw_at lw_m4 191 rfl) rfl
theorem q1007 : (Jvm.Cond.selects "BreathOnLoan$Doing" ({ cls := "BreathOnLoan$Doing", name := "b", desc := "()I" } : Jvm.MethodName) ({ cls := "BreathOnLoan$Doing", name := "b", desc := "()I" } : Jvm.MethodName)) ∈ lw_all := lw_g (lw_at lw_m4 192 rfl) rfl
theorem q1008 : (Jvm.Cond.code ({ cls := "BreathOnLoan$Doing", name := "b", desc := "()I" } : Jvm.MethodName) prog_6_method_7_code (1 : Nat) (Option.some Jvm.ClassFile.FieldType.int)) ∈ lw_all := lw_g (lw_at lw_m4 193 rfl) rfl
theorem q1010 : (Jvm.Cond.instanceMethod ({ cls := "BreathOnLoan$Doing", name := "n", desc := "()I" } : Jvm.MethodName)) ∈ lw_all := lw_g (lw_at lw_m4 195 rfl) rfl
theorem q1011 : (Jvm.Cond.selects "BreathOnLoan$Doing" ({ cls := "BreathOnLoan$Doing", name := "n", desc := "()I" } : Jvm.MethodName) ({ cls := "BreathOnLoan$Doing", name := "n", desc := "()I" } : Jvm.MethodName)) ∈ lw_all := lw_g (lw_at lw_m4 196 rfl) rfl
theorem q1012 : (Jvm.Cond.code ({ cls := "BreathOnLoan$Doing", name := "n", desc := "()I" } : Jvm.MethodName) prog_6_method_8_code (1 : Nat) (Option.some Jvm.ClassFile.FieldType.int)) ∈ lw_all := lw_g (lw_at lw_m4 197 rfl) rfl
theorem q1016 : (Jvm.Cond.instanceMethod ({ cls := "BreathOnLoan$Doing", name := "number", desc := "()I" } : Jvm.MethodName)) ∈ lw_all := lw_g (lw_at lw_m4 201 rfl) rfl
theorem q1017 : (Jvm.Cond.selects "BreathOnLoan$Doing" ({ cls := "BreathOnLoan$Doing", name := "number", desc := "()I" } : Jvm.MethodName) ({ cls := "BreathOnLoan$Doing", name := "number", desc := "()I" } : Jvm.MethodName)) ∈ lw_all := lw_g (lw_at lw_m4 202 rfl) rfl
theorem q1018 : (Jvm.Cond.code ({ cls := "BreathOnLoan$Doing", name := "number", desc := "()I" } : Jvm.MethodName) prog_6_method_9_code (1 : Nat) (Option.some Jvm.ClassFile.FieldType.int)) ∈ lw_all := lw_g (lw_at lw_m4 203 rfl) rfl
theorem q1625 : (Jvm.Cond.castable "BreathOnLoan$Doing" "java/lang/Object") ∈ lw_tbl := lw_at lw_m7 90 rfl
theorem in_X6 : ∀ w ∈ wsX60, w ∈ lw_all := lw_in wsX60 [533, 535, 537, 539, 541] (by decide +kernel) (by decide +kernel)
/-! BreathOnLoan$Chain -/
set_option maxRecDepth 100000
def RX7 : String := "BreathOnLoan$Chain"
def TX7 : u_T := fun k => match k with
  | 0 => ("BreathOnLoan$Chain", "first", "LBreathOnLoan$Sum;", true)
  | 1 => ("BreathOnLoan$Chain", "more", "Ljava/util/ArrayList;", true)
  | _ => ("BreathOnLoan$Chain", "signs", "Ljava/util/ArrayList;", true)
def tyX7 : Nat → FieldType := fun k => match k with
  | 0 => .object "BreathOnLoan$Sum"
  | 1 => .object "java/util/ArrayList"
  | _ => .object "java/util/ArrayList"
abbrev wsX70 : List Cond := u_ws RX7 TX7 3
theorem nmX7 : ∀ a, a < 3 → ∀ b, b < 3 → a ≠ b → (TX7 a).2.1 ≠ (TX7 b).2.1 := by decide +kernel
theorem tyX7_ok : ∀ k, k < 3 → parseFieldDescriptor (TX7 k).2.2.1 = some (tyX7 k) := by decide +kernel
abbrev cX7_init : ByteArray := prog_4_method_1_code
def yX7_init : MethodName := ⟨RX7, "<init>", "(LBreathOnLoan$Sum;)V"⟩
def dkwX7_init_1 : List UInt8 := [181, 0, 18, 42, 43, 181, 0, 21, 177]
abbrev dktX7_init_1 : List UInt8 := dkwX7_init_1 ++ []
def dkwX7_init_0 : List UInt8 := [42, 183, 0, 3, 42, 187, 0, 9, 89, 183, 0, 11, 181, 0, 12, 42, 187, 0, 9, 89, 183, 0, 11]
abbrev dktX7_init_0 : List UInt8 := dkwX7_init_0 ++ dktX7_init_1
theorem dksX7_init_0 : cX7_init.data.toList.drop 0 = dktX7_init_0 := by decide +kernel
theorem dksX7_init_1 : cX7_init.data.toList.drop 23 = dktX7_init_1 := dk_seg dksX7_init_0 23 rfl rfl
theorem dX7_init_0 : decode cX7_init 0 = .ok (.aload_n 0, 1) := dk_42 (dk_at dksX7_init_0 0 rfl rfl)
theorem dX7_init_1 : decode cX7_init 1 = .ok (.invokespecial 3, 3) := dk_183 0 3 (dk_at dksX7_init_0 1 rfl rfl)
theorem dX7_init_4 : decode cX7_init 4 = .ok (.aload_n 0, 1) := dk_42 (dk_at dksX7_init_0 4 rfl rfl)
theorem dX7_init_5 : decode cX7_init 5 = .ok (.new 9, 3) := dk_187 0 9 (dk_at dksX7_init_0 5 rfl rfl)
theorem dX7_init_8 : decode cX7_init 8 = .ok (.dup, 1) := dk_89 (dk_at dksX7_init_0 8 rfl rfl)
theorem dX7_init_9 : decode cX7_init 9 = .ok (.invokespecial 11, 3) := dk_183 0 11 (dk_at dksX7_init_0 9 rfl rfl)
theorem dX7_init_12 : decode cX7_init 12 = .ok (.putfield 12, 3) := dk_181 0 12 (dk_at dksX7_init_0 12 rfl rfl)
theorem dX7_init_15 : decode cX7_init 15 = .ok (.aload_n 0, 1) := dk_42 (dk_at dksX7_init_0 15 rfl rfl)
theorem dX7_init_16 : decode cX7_init 16 = .ok (.new 9, 3) := dk_187 0 9 (dk_at dksX7_init_0 16 rfl rfl)
theorem dX7_init_19 : decode cX7_init 19 = .ok (.dup, 1) := dk_89 (dk_at dksX7_init_0 19 rfl rfl)
theorem dX7_init_20 : decode cX7_init 20 = .ok (.invokespecial 11, 3) := dk_183 0 11 (dk_at dksX7_init_0 20 rfl rfl)
theorem dX7_init_23 : decode cX7_init 23 = .ok (.putfield 18, 3) := dk_181 0 18 (dk_at dksX7_init_1 0 rfl rfl)
theorem dX7_init_26 : decode cX7_init 26 = .ok (.aload_n 0, 1) := dk_42 (dk_at dksX7_init_1 3 rfl rfl)
theorem dX7_init_27 : decode cX7_init 27 = .ok (.aload_n 1, 1) := dk_43 (dk_at dksX7_init_1 4 rfl rfl)
theorem dX7_init_28 : decode cX7_init 28 = .ok (.putfield 21, 3) := dk_181 0 21 (dk_at dksX7_init_1 5 rfl rfl)
theorem dX7_init_31 : decode cX7_init 31 = .ok (.return_, 1) := dk_177 (dk_at dksX7_init_1 8 rfl rfl)
abbrev cX7_add : ByteArray := prog_4_method_2_code
def yX7_add : MethodName := ⟨RX7, "add", "(ILBreathOnLoan$Sum;)V"⟩
def dkwX7_add_0 : List UInt8 := [42, 180, 0, 18, 27, 184, 0, 25, 182, 0, 31, 87, 42, 180, 0, 12, 44, 182, 0, 31, 87, 177]
abbrev dktX7_add_0 : List UInt8 := dkwX7_add_0 ++ []
theorem dksX7_add_0 : cX7_add.data.toList.drop 0 = dktX7_add_0 := by decide +kernel
theorem dX7_add_0 : decode cX7_add 0 = .ok (.aload_n 0, 1) := dk_42 (dk_at dksX7_add_0 0 rfl rfl)
theorem dX7_add_1 : decode cX7_add 1 = .ok (.getfield 18, 3) := dk_180 0 18 (dk_at dksX7_add_0 1 rfl rfl)
theorem dX7_add_4 : decode cX7_add 4 = .ok (.iload_n 1, 1) := dk_27 (dk_at dksX7_add_0 4 rfl rfl)
theorem dX7_add_5 : decode cX7_add 5 = .ok (.invokestatic 25, 3) := dk_184 0 25 (dk_at dksX7_add_0 5 rfl rfl)
theorem dX7_add_8 : decode cX7_add 8 = .ok (.invokevirtual 31, 3) := dk_182 0 31 (dk_at dksX7_add_0 8 rfl rfl)
theorem dX7_add_11 : decode cX7_add 11 = .ok (.pop, 1) := dk_87 (dk_at dksX7_add_0 11 rfl rfl)
theorem dX7_add_12 : decode cX7_add 12 = .ok (.aload_n 0, 1) := dk_42 (dk_at dksX7_add_0 12 rfl rfl)
theorem dX7_add_13 : decode cX7_add 13 = .ok (.getfield 12, 3) := dk_180 0 12 (dk_at dksX7_add_0 13 rfl rfl)
theorem dX7_add_16 : decode cX7_add 16 = .ok (.aload_n 2, 1) := dk_44 (dk_at dksX7_add_0 16 rfl rfl)
theorem dX7_add_17 : decode cX7_add 17 = .ok (.invokevirtual 31, 3) := dk_182 0 31 (dk_at dksX7_add_0 17 rfl rfl)
theorem dX7_add_20 : decode cX7_add 20 = .ok (.pop, 1) := dk_87 (dk_at dksX7_add_0 20 rfl rfl)
theorem dX7_add_21 : decode cX7_add 21 = .ok (.return_, 1) := dk_177 (dk_at dksX7_add_0 21 rfl rfl)
abbrev cX7_itself : ByteArray := prog_4_method_3_code
def yX7_itself : MethodName := ⟨RX7, "itself", "()LBreathOnLoan$Sum;"⟩
def dkwX7_itself_0 : List UInt8 := [42, 180, 0, 12, 182, 0, 35, 153, 0, 10, 42, 180, 0, 21, 167, 0, 4, 42, 176]
abbrev dktX7_itself_0 : List UInt8 := dkwX7_itself_0 ++ []
theorem dksX7_itself_0 : cX7_itself.data.toList.drop 0 = dktX7_itself_0 := by decide +kernel
theorem dX7_itself_0 : decode cX7_itself 0 = .ok (.aload_n 0, 1) := dk_42 (dk_at dksX7_itself_0 0 rfl rfl)
theorem dX7_itself_1 : decode cX7_itself 1 = .ok (.getfield 12, 3) := dk_180 0 12 (dk_at dksX7_itself_0 1 rfl rfl)
theorem dX7_itself_4 : decode cX7_itself 4 = .ok (.invokevirtual 35, 3) := dk_182 0 35 (dk_at dksX7_itself_0 4 rfl rfl)
theorem dX7_itself_7 : decode cX7_itself 7 = .ok (.ifCond .eq 10, 3) := dk_153 0 10 (dk_at dksX7_itself_0 7 rfl rfl)
theorem dX7_itself_10 : decode cX7_itself 10 = .ok (.aload_n 0, 1) := dk_42 (dk_at dksX7_itself_0 10 rfl rfl)
theorem dX7_itself_11 : decode cX7_itself 11 = .ok (.getfield 21, 3) := dk_180 0 21 (dk_at dksX7_itself_0 11 rfl rfl)
theorem dX7_itself_14 : decode cX7_itself 14 = .ok (.goto 4, 3) := dk_167 0 4 (dk_at dksX7_itself_0 14 rfl rfl)
theorem dX7_itself_17 : decode cX7_itself 17 = .ok (.aload_n 0, 1) := dk_42 (dk_at dksX7_itself_0 17 rfl rfl)
theorem dX7_itself_18 : decode cX7_itself 18 = .ok (.areturn, 1) := dk_176 (dk_at dksX7_itself_0 18 rfl rfl)
abbrev cX7_of : ByteArray := prog_4_method_4_code
def yX7_of : MethodName := ⟨RX7, "of", "([I)J"⟩
def dkwX7_of_6 : List UInt8 := [32, 173]
abbrev dktX7_of_6 : List UInt8 := dkwX7_of_6 ++ []
def dkwX7_of_5 : List UInt8 := [109, 55, 8, 20, 0, 56, 20, 0, 58, 22, 8, 184, 0, 60, 184, 0, 66, 65, 132, 4, 1, 167, 255, 130]
abbrev dktX7_of_5 : List UInt8 := dkwX7_of_5 ++ dktX7_of_6
def dkwX7_of_4 : List UInt8 := [160, 0, 10, 32, 22, 5, 105, 167, 0, 18, 22, 5, 9, 148, 154, 0, 7, 9, 167, 0, 7, 32, 22, 5]
abbrev dktX7_of_4 : List UInt8 := dkwX7_of_4 ++ dktX7_of_5
def dkwX7_of_3 : List UInt8 := [22, 5, 97, 167, 0, 46, 21, 7, 16, 45, 160, 0, 10, 32, 22, 5, 101, 167, 0, 32, 21, 7, 16, 42]
abbrev dktX7_of_3 : List UInt8 := dkwX7_of_3 ++ dktX7_of_4
def dkwX7_of_2 : List UInt8 := [180, 0, 18, 21, 4, 182, 0, 49, 192, 0, 26, 182, 0, 53, 54, 7, 21, 7, 16, 43, 160, 0, 10, 32]
abbrev dktX7_of_2 : List UInt8 := dkwX7_of_2 ++ dktX7_of_3
def dkwX7_of_1 : List UInt8 := [162, 0, 120, 42, 180, 0, 12, 21, 4, 182, 0, 49, 192, 0, 40, 43, 185, 0, 39, 2, 0, 55, 5, 42]
abbrev dktX7_of_1 : List UInt8 := dkwX7_of_1 ++ dktX7_of_2
def dkwX7_of_0 : List UInt8 := [42, 180, 0, 21, 43, 185, 0, 39, 2, 0, 65, 3, 54, 4, 21, 4, 42, 180, 0, 12, 182, 0, 45]
abbrev dktX7_of_0 : List UInt8 := dkwX7_of_0 ++ dktX7_of_1
theorem dksX7_of_0 : cX7_of.data.toList.drop 0 = dktX7_of_0 := by decide +kernel
theorem dksX7_of_1 : cX7_of.data.toList.drop 23 = dktX7_of_1 := dk_seg dksX7_of_0 23 rfl rfl
theorem dksX7_of_2 : cX7_of.data.toList.drop 47 = dktX7_of_2 := dk_seg dksX7_of_1 24 rfl rfl
theorem dksX7_of_3 : cX7_of.data.toList.drop 71 = dktX7_of_3 := dk_seg dksX7_of_2 24 rfl rfl
theorem dksX7_of_4 : cX7_of.data.toList.drop 95 = dktX7_of_4 := dk_seg dksX7_of_3 24 rfl rfl
theorem dksX7_of_5 : cX7_of.data.toList.drop 119 = dktX7_of_5 := dk_seg dksX7_of_4 24 rfl rfl
theorem dksX7_of_6 : cX7_of.data.toList.drop 143 = dktX7_of_6 := dk_seg dksX7_of_5 24 rfl rfl
theorem dX7_of_0 : decode cX7_of 0 = .ok (.aload_n 0, 1) := dk_42 (dk_at dksX7_of_0 0 rfl rfl)
theorem dX7_of_1 : decode cX7_of 1 = .ok (.getfield 21, 3) := dk_180 0 21 (dk_at dksX7_of_0 1 rfl rfl)
theorem dX7_of_4 : decode cX7_of 4 = .ok (.aload_n 1, 1) := dk_43 (dk_at dksX7_of_0 4 rfl rfl)
theorem dX7_of_5 : decode cX7_of 5 = .ok (.invokeinterface 39 2, 5) := by decide +kernel
theorem dX7_of_10 : decode cX7_of 10 = .ok (.lstore_n 2, 1) := dk_65 (dk_at dksX7_of_0 10 rfl rfl)
theorem dX7_of_11 : decode cX7_of 11 = .ok (.iconst 0, 1) := dk_3 (dk_at dksX7_of_0 11 rfl rfl)
theorem dX7_of_12 : decode cX7_of 12 = .ok (.istore 4, 2) := dk_54 4 (dk_at dksX7_of_0 12 rfl rfl)
theorem dX7_of_14 : decode cX7_of 14 = .ok (.iload 4, 2) := dk_21 4 (dk_at dksX7_of_0 14 rfl rfl)
theorem dX7_of_16 : decode cX7_of 16 = .ok (.aload_n 0, 1) := dk_42 (dk_at dksX7_of_0 16 rfl rfl)
theorem dX7_of_17 : decode cX7_of 17 = .ok (.getfield 12, 3) := dk_180 0 12 (dk_at dksX7_of_0 17 rfl rfl)
theorem dX7_of_20 : decode cX7_of 20 = .ok (.invokevirtual 45, 3) := dk_182 0 45 (dk_at dksX7_of_0 20 rfl rfl)
theorem dX7_of_23 : decode cX7_of 23 = .ok (.if_icmp .ge 120, 3) := dk_162 0 120 (dk_at dksX7_of_1 0 rfl rfl)
theorem dX7_of_26 : decode cX7_of 26 = .ok (.aload_n 0, 1) := dk_42 (dk_at dksX7_of_1 3 rfl rfl)
theorem dX7_of_27 : decode cX7_of 27 = .ok (.getfield 12, 3) := dk_180 0 12 (dk_at dksX7_of_1 4 rfl rfl)
theorem dX7_of_30 : decode cX7_of 30 = .ok (.iload 4, 2) := dk_21 4 (dk_at dksX7_of_1 7 rfl rfl)
theorem dX7_of_32 : decode cX7_of 32 = .ok (.invokevirtual 49, 3) := dk_182 0 49 (dk_at dksX7_of_1 9 rfl rfl)
theorem dX7_of_35 : decode cX7_of 35 = .ok (.checkcast 40, 3) := dk_192 0 40 (dk_at dksX7_of_1 12 rfl rfl)
theorem dX7_of_38 : decode cX7_of 38 = .ok (.aload_n 1, 1) := dk_43 (dk_at dksX7_of_1 15 rfl rfl)
theorem dX7_of_39 : decode cX7_of 39 = .ok (.invokeinterface 39 2, 5) := by decide +kernel
theorem dX7_of_44 : decode cX7_of 44 = .ok (.lstore 5, 2) := dk_55 5 (dk_at dksX7_of_1 21 rfl rfl)
theorem dX7_of_46 : decode cX7_of 46 = .ok (.aload_n 0, 1) := dk_42 (dk_at dksX7_of_1 23 rfl rfl)
theorem dX7_of_47 : decode cX7_of 47 = .ok (.getfield 18, 3) := dk_180 0 18 (dk_at dksX7_of_2 0 rfl rfl)
theorem dX7_of_50 : decode cX7_of 50 = .ok (.iload 4, 2) := dk_21 4 (dk_at dksX7_of_2 3 rfl rfl)
theorem dX7_of_52 : decode cX7_of 52 = .ok (.invokevirtual 49, 3) := dk_182 0 49 (dk_at dksX7_of_2 5 rfl rfl)
theorem dX7_of_55 : decode cX7_of 55 = .ok (.checkcast 26, 3) := dk_192 0 26 (dk_at dksX7_of_2 8 rfl rfl)
theorem dX7_of_58 : decode cX7_of 58 = .ok (.invokevirtual 53, 3) := dk_182 0 53 (dk_at dksX7_of_2 11 rfl rfl)
theorem dX7_of_61 : decode cX7_of 61 = .ok (.istore 7, 2) := dk_54 7 (dk_at dksX7_of_2 14 rfl rfl)
theorem dX7_of_63 : decode cX7_of 63 = .ok (.iload 7, 2) := dk_21 7 (dk_at dksX7_of_2 16 rfl rfl)
theorem dX7_of_65 : decode cX7_of 65 = .ok (.bipush 43, 2) := dk_16 43 (dk_at dksX7_of_2 18 rfl rfl)
theorem dX7_of_67 : decode cX7_of 67 = .ok (.if_icmp .ne 10, 3) := dk_160 0 10 (dk_at dksX7_of_2 20 rfl rfl)
theorem dX7_of_70 : decode cX7_of 70 = .ok (.lload_n 2, 1) := dk_32 (dk_at dksX7_of_2 23 rfl rfl)
theorem dX7_of_71 : decode cX7_of 71 = .ok (.lload 5, 2) := dk_22 5 (dk_at dksX7_of_3 0 rfl rfl)
theorem dX7_of_73 : decode cX7_of 73 = .ok (.ladd, 1) := dk_97 (dk_at dksX7_of_3 2 rfl rfl)
theorem dX7_of_74 : decode cX7_of 74 = .ok (.goto 46, 3) := dk_167 0 46 (dk_at dksX7_of_3 3 rfl rfl)
theorem dX7_of_77 : decode cX7_of 77 = .ok (.iload 7, 2) := dk_21 7 (dk_at dksX7_of_3 6 rfl rfl)
theorem dX7_of_79 : decode cX7_of 79 = .ok (.bipush 45, 2) := dk_16 45 (dk_at dksX7_of_3 8 rfl rfl)
theorem dX7_of_81 : decode cX7_of 81 = .ok (.if_icmp .ne 10, 3) := dk_160 0 10 (dk_at dksX7_of_3 10 rfl rfl)
theorem dX7_of_84 : decode cX7_of 84 = .ok (.lload_n 2, 1) := dk_32 (dk_at dksX7_of_3 13 rfl rfl)
theorem dX7_of_85 : decode cX7_of 85 = .ok (.lload 5, 2) := dk_22 5 (dk_at dksX7_of_3 14 rfl rfl)
theorem dX7_of_87 : decode cX7_of 87 = .ok (.lsub, 1) := dk_101 (dk_at dksX7_of_3 16 rfl rfl)
theorem dX7_of_88 : decode cX7_of 88 = .ok (.goto 32, 3) := dk_167 0 32 (dk_at dksX7_of_3 17 rfl rfl)
theorem dX7_of_91 : decode cX7_of 91 = .ok (.iload 7, 2) := dk_21 7 (dk_at dksX7_of_3 20 rfl rfl)
theorem dX7_of_93 : decode cX7_of 93 = .ok (.bipush 42, 2) := dk_16 42 (dk_at dksX7_of_3 22 rfl rfl)
theorem dX7_of_95 : decode cX7_of 95 = .ok (.if_icmp .ne 10, 3) := dk_160 0 10 (dk_at dksX7_of_4 0 rfl rfl)
theorem dX7_of_98 : decode cX7_of 98 = .ok (.lload_n 2, 1) := dk_32 (dk_at dksX7_of_4 3 rfl rfl)
theorem dX7_of_99 : decode cX7_of 99 = .ok (.lload 5, 2) := dk_22 5 (dk_at dksX7_of_4 4 rfl rfl)
theorem dX7_of_101 : decode cX7_of 101 = .ok (.lmul, 1) := dk_105 (dk_at dksX7_of_4 6 rfl rfl)
theorem dX7_of_102 : decode cX7_of 102 = .ok (.goto 18, 3) := dk_167 0 18 (dk_at dksX7_of_4 7 rfl rfl)
theorem dX7_of_105 : decode cX7_of 105 = .ok (.lload 5, 2) := dk_22 5 (dk_at dksX7_of_4 10 rfl rfl)
theorem dX7_of_107 : decode cX7_of 107 = .ok (.lconst 0, 1) := dk_9 (dk_at dksX7_of_4 12 rfl rfl)
theorem dX7_of_108 : decode cX7_of 108 = .ok (.lcmp, 1) := dk_148 (dk_at dksX7_of_4 13 rfl rfl)
theorem dX7_of_109 : decode cX7_of 109 = .ok (.ifCond .ne 7, 3) := dk_154 0 7 (dk_at dksX7_of_4 14 rfl rfl)
theorem dX7_of_112 : decode cX7_of 112 = .ok (.lconst 0, 1) := dk_9 (dk_at dksX7_of_4 17 rfl rfl)
theorem dX7_of_113 : decode cX7_of 113 = .ok (.goto 7, 3) := dk_167 0 7 (dk_at dksX7_of_4 18 rfl rfl)
theorem dX7_of_116 : decode cX7_of 116 = .ok (.lload_n 2, 1) := dk_32 (dk_at dksX7_of_4 21 rfl rfl)
theorem dX7_of_117 : decode cX7_of 117 = .ok (.lload 5, 2) := dk_22 5 (dk_at dksX7_of_4 22 rfl rfl)
theorem dX7_of_119 : decode cX7_of 119 = .ok (.ldiv, 1) := dk_109 (dk_at dksX7_of_5 0 rfl rfl)
theorem dX7_of_120 : decode cX7_of 120 = .ok (.lstore 8, 2) := dk_55 8 (dk_at dksX7_of_5 1 rfl rfl)
theorem dX7_of_122 : decode cX7_of 122 = .ok (.ldc2_w 56, 3) := dk_20 0 56 (dk_at dksX7_of_5 3 rfl rfl)
theorem dX7_of_125 : decode cX7_of 125 = .ok (.ldc2_w 58, 3) := dk_20 0 58 (dk_at dksX7_of_5 6 rfl rfl)
theorem dX7_of_128 : decode cX7_of 128 = .ok (.lload 8, 2) := dk_22 8 (dk_at dksX7_of_5 9 rfl rfl)
theorem dX7_of_130 : decode cX7_of 130 = .ok (.invokestatic 60, 3) := dk_184 0 60 (dk_at dksX7_of_5 11 rfl rfl)
theorem dX7_of_133 : decode cX7_of 133 = .ok (.invokestatic 66, 3) := dk_184 0 66 (dk_at dksX7_of_5 14 rfl rfl)
theorem dX7_of_136 : decode cX7_of 136 = .ok (.lstore_n 2, 1) := dk_65 (dk_at dksX7_of_5 17 rfl rfl)
theorem dX7_of_137 : decode cX7_of 137 = .ok (.iinc 4 1, 3) := dk_132 4 1 (dk_at dksX7_of_5 18 rfl rfl)
theorem dX7_of_140 : decode cX7_of 140 = .ok (.goto (-126), 3) := dk_167 255 130 (dk_at dksX7_of_5 21 rfl rfl)
theorem dX7_of_143 : decode cX7_of 143 = .ok (.lload_n 2, 1) := dk_32 (dk_at dksX7_of_6 0 rfl rfl)
theorem dX7_of_144 : decode cX7_of 144 = .ok (.lreturn, 1) := dk_173 (dk_at dksX7_of_6 1 rfl rfl)
theorem q117 : (Jvm.Cond.initialized "BreathOnLoan$Chain") ∈ lw_all := lw_g (lw_at lw_m1 22 rfl) rfl
theorem q582 : (Jvm.Cond.selects "BreathOnLoan$Chain" ({ cls := "java/lang/Object", name := "getClass", desc := "()Ljava/lang/Class;" } : Jvm.MethodName) ({ cls := "java/lang/Object", name := "getClass", desc := "()Ljava/lang/Class;" } : Jvm.MethodName)) ∈ lw_all := lw_g (lw_at lw_m3 7 rfl) rfl
theorem q613 : (Jvm.Cond.instantiable "BreathOnLoan$Chain" (3 : Nat)) ∈ lw_all := lw_g (lw_at lw_m3 38 rfl) rfl
theorem q749 : (Jvm.Cond.instanceMethod ({ cls := "BreathOnLoan$Chain", name := "<init>", desc := "(LBreathOnLoan$Sum;)V" } : Jvm.MethodName)) ∈ lw_all := lw_g (lw_at lw_m3 174 rfl) rfl
theorem q750 : (Jvm.Cond.code ({ cls := "BreathOnLoan$Chain", name := "<init>", desc := "(LBreathOnLoan$Sum;)V" } : Jvm.MethodName) prog_4_method_1_code (2 : Nat) (Option.none : Option Jvm.ClassFile.FieldType)) ∈ lw_all := lw_g (lw_at lw_m3 175 rfl) rfl
theorem q751 : (Jvm.Cond.methodLink "BreathOnLoan$Chain" (3 : Nat) ({ cls := "java/lang/Object", name := "<init>", desc := "()V" } : Jvm.MethodName)) ∈ lw_all := lw_g (lw_at lw_m3 176 rfl) rfl
theorem q752 : (Jvm.Cond.classLink "BreathOnLoan$Chain" (9 : Nat) "java/util/ArrayList") ∈ lw_all := lw_g (lw_at lw_m3 177 rfl) rfl
theorem q753 : (Jvm.Cond.methodLink "BreathOnLoan$Chain" (11 : Nat) ({ cls := "java/util/ArrayList", name := "<init>", desc := "()V" } : Jvm.MethodName)) ∈ lw_all := lw_g (lw_at lw_m3 178 rfl) rfl
theorem q754 : (Jvm.Cond.fieldLink "BreathOnLoan$Chain" (21 : Nat) "BreathOnLoan$Chain" "first" "LBreathOnLoan$Sum;") ∈ lw_all := lw_g (lw_at lw_m3 179 rfl) rfl
theorem q755 : (Jvm.Cond.fieldLink "BreathOnLoan$Chain" (12 : Nat) "BreathOnLoan$Chain" "more" "Ljava/util/ArrayList;") ∈ lw_all := lw_g (lw_at lw_m3 180 rfl) rfl
theorem q756 : (Jvm.Cond.fieldLink "BreathOnLoan$Chain" (18 : Nat) "BreathOnLoan$Chain" "signs" "Ljava/util/ArrayList;") ∈ lw_all := lw_g (lw_at lw_m3 181 rfl) rfl
theorem q757 : (Jvm.Cond.laysFinal "BreathOnLoan$Chain" "BreathOnLoan$Chain" "first" "LBreathOnLoan$Sum;") ∈ lw_all := lw_g (lw_at lw_m3 182 rfl) rfl
theorem q758 : (Jvm.Cond.soleField "BreathOnLoan$Chain" "first") ∈ lw_all := lw_g (lw_at lw_m3 183 rfl) rfl
theorem q759 : (Jvm.Cond.laysFinal "BreathOnLoan$Chain" "BreathOnLoan$Chain" "more" "Ljava/util/ArrayList;") ∈ lw_all := lw_g (lw_at lw_m3 184 rfl) rfl
theorem q760 : (Jvm.Cond.soleField "BreathOnLoan$Chain" "more") ∈ lw_all := lw_g (lw_at lw_m3 185 rfl) rfl
theorem q761 : (Jvm.Cond.laysFinal "BreathOnLoan$Chain" "BreathOnLoan$Chain" "signs" "Ljava/util/ArrayList;") ∈ lw_all := lw_g (lw_at lw_m3 186 rfl) rfl
theorem q762 : (Jvm.Cond.soleField "BreathOnLoan$Chain" "signs") ∈ lw_all := lw_g (lw_at lw_m3 187 rfl) rfl
theorem q763 : (Jvm.Cond.superclass "BreathOnLoan$Chain" "java/lang/Object") ∈ lw_all := lw_g (lw_at lw_m3 188 rfl) rfl
theorem q765 : (Jvm.Cond.instanceMethod ({ cls := "BreathOnLoan$Chain", name := "add", desc := "(ILBreathOnLoan$Sum;)V" } : Jvm.MethodName)) ∈ lw_all := lw_g (lw_at lw_m3 190 rfl) rfl
theorem q766 : (Jvm.Cond.selects "BreathOnLoan$Chain" ({ cls := "BreathOnLoan$Chain", name := "add", desc := "(ILBreathOnLoan$Sum;)V" } : Jvm.MethodName) ({ cls := "BreathOnLoan$Chain", name := "add", desc := "(ILBreathOnLoan$Sum;)V" } : Jvm.MethodName)) ∈ lw_all := lw_g (lw_at lw_m3 191 rfl) rfl
theorem q767 : (Jvm.Cond.code ({ cls := "BreathOnLoan$Chain", name := "add", desc := "(ILBreathOnLoan$Sum;)V" } : Jvm.MethodName) prog_4_method_2_code (3 : Nat) (Option.none : Option Jvm.ClassFile.FieldType)) ∈ lw_all := lw_g (lw_at lw_m3 192 rfl) rfl
theorem q768 : (Jvm.Cond.methodLink "BreathOnLoan$Chain" (25 : Nat) ({ cls := "java/lang/Integer", name := "valueOf", desc := "(I)Ljava/lang/Integer;" } : Jvm.MethodName)) ∈ lw_all := lw_g (lw_at lw_m3 193 rfl) rfl
theorem q788 : (Jvm.Cond.methodLink "BreathOnLoan$Chain" (31 : Nat) ({ cls := "java/util/ArrayList", name := "add", desc := "(Ljava/lang/Object;)Z" } : Jvm.MethodName)) ∈ lw_all := lw_g (lw_at lw_m3 213 rfl) rfl
theorem q790 : (Jvm.Cond.instanceMethod ({ cls := "BreathOnLoan$Chain", name := "itself", desc := "()LBreathOnLoan$Sum;" } : Jvm.MethodName)) ∈ lw_all := lw_g (lw_at lw_m3 215 rfl) rfl
theorem q791 : (Jvm.Cond.selects "BreathOnLoan$Chain" ({ cls := "BreathOnLoan$Chain", name := "itself", desc := "()LBreathOnLoan$Sum;" } : Jvm.MethodName) ({ cls := "BreathOnLoan$Chain", name := "itself", desc := "()LBreathOnLoan$Sum;" } : Jvm.MethodName)) ∈ lw_all := lw_g (lw_at lw_m3 216 rfl) rfl
theorem q792 : (Jvm.Cond.code ({ cls := "BreathOnLoan$Chain", name := "itself", desc := "()LBreathOnLoan$Sum;" } : Jvm.MethodName) prog_4_method_3_code (1 : Nat) (Option.some (Jvm.ClassFile.FieldType.object "BreathOnLoan$Sum"))) ∈ lw_all := lw_g (lw_at lw_m3 217 rfl) rfl
theorem q793 : (Jvm.Cond.methodLink "BreathOnLoan$Chain" (35 : Nat) ({ cls := "java/util/ArrayList", name := "isEmpty", desc := "()Z" } : Jvm.MethodName)) ∈ lw_all := lw_g (lw_at lw_m3 218 rfl) rfl
theorem q825 : (Jvm.Cond.castable "BreathOnLoan$Chain" "BreathOnLoan$Sum") ∈ lw_tbl := lw_at lw_m4 10 rfl
theorem q826 : (Jvm.Cond.selects "BreathOnLoan$Chain" ({ cls := "BreathOnLoan$Sum", name := "of", desc := "([I)J" } : Jvm.MethodName) ({ cls := "BreathOnLoan$Chain", name := "of", desc := "([I)J" } : Jvm.MethodName)) ∈ lw_all := lw_g (lw_at lw_m4 11 rfl) rfl
theorem q827 : (Jvm.Cond.unhidden "BreathOnLoan$Chain" "of" "([I)J") ∈ lw_tbl := lw_at lw_m4 12 rfl
theorem q828 : (Jvm.Cond.instanceMethod ({ cls := "BreathOnLoan$Chain", name := "of", desc := "([I)J" } : Jvm.MethodName)) ∈ lw_all := lw_g (lw_at lw_m4 13 rfl) rfl
theorem q829 : (Jvm.Cond.publicMethod ({ cls := "BreathOnLoan$Chain", name := "of", desc := "([I)J" } : Jvm.MethodName)) ∈ lw_tbl := lw_at lw_m4 14 rfl
theorem q830 : (Jvm.Cond.code ({ cls := "BreathOnLoan$Chain", name := "of", desc := "([I)J" } : Jvm.MethodName) prog_4_method_4_code (10 : Nat) (Option.some Jvm.ClassFile.FieldType.long)) ∈ lw_all := lw_g (lw_at lw_m4 15 rfl) rfl
theorem q831 : (Jvm.Cond.interfaceEntry "BreathOnLoan$Chain" (39 : Nat)) ∈ lw_tbl := lw_at lw_m4 16 rfl
theorem q832 : (Jvm.Cond.methodLink "BreathOnLoan$Chain" (39 : Nat) ({ cls := "BreathOnLoan$Sum", name := "of", desc := "([I)J" } : Jvm.MethodName)) ∈ lw_all := lw_g (lw_at lw_m4 17 rfl) rfl
theorem q892 : (Jvm.Cond.methodLink "BreathOnLoan$Chain" (45 : Nat) ({ cls := "java/util/ArrayList", name := "size", desc := "()I" } : Jvm.MethodName)) ∈ lw_all := lw_g (lw_at lw_m4 77 rfl) rfl
theorem q893 : (Jvm.Cond.methodLink "BreathOnLoan$Chain" (49 : Nat) ({ cls := "java/util/ArrayList", name := "get", desc := "(I)Ljava/lang/Object;" } : Jvm.MethodName)) ∈ lw_all := lw_g (lw_at lw_m4 78 rfl) rfl
theorem q894 : (Jvm.Cond.classLink "BreathOnLoan$Chain" (40 : Nat) "BreathOnLoan$Sum") ∈ lw_all := lw_g (lw_at lw_m4 79 rfl) rfl
theorem q895 : (Jvm.Cond.classLink "BreathOnLoan$Chain" (26 : Nat) "java/lang/Integer") ∈ lw_all := lw_g (lw_at lw_m4 80 rfl) rfl
theorem q896 : (Jvm.Cond.methodLink "BreathOnLoan$Chain" (53 : Nat) ({ cls := "java/lang/Integer", name := "intValue", desc := "()I" } : Jvm.MethodName)) ∈ lw_all := lw_g (lw_at lw_m4 81 rfl) rfl
theorem q900 : (Jvm.Cond.constantLong "BreathOnLoan$Chain" (56 : Nat) (-1000000 : Int64)) ∈ lw_all := lw_g (lw_at lw_m4 85 rfl) rfl
theorem q901 : (Jvm.Cond.constantLong "BreathOnLoan$Chain" (58 : Nat) (1000000 : Int64)) ∈ lw_all := lw_g (lw_at lw_m4 86 rfl) rfl
theorem q902 : (Jvm.Cond.methodLink "BreathOnLoan$Chain" (60 : Nat) ({ cls := "java/lang/Math", name := "min", desc := "(JJ)J" } : Jvm.MethodName)) ∈ lw_all := lw_g (lw_at lw_m4 87 rfl) rfl
theorem q905 : (Jvm.Cond.methodLink "BreathOnLoan$Chain" (66 : Nat) ({ cls := "java/lang/Math", name := "max", desc := "(JJ)J" } : Jvm.MethodName)) ∈ lw_all := lw_g (lw_at lw_m4 90 rfl) rfl
theorem q1626 : (Jvm.Cond.castable "BreathOnLoan$Chain" "java/lang/Object") ∈ lw_tbl := lw_at lw_m7 91 rfl
theorem in_X7 : ∀ w ∈ wsX70, w ∈ lw_all := lw_in wsX70 [757, 759, 761] (by decide +kernel) (by decide +kernel)
/-! BreathOnLoan$Plain -/
set_option maxRecDepth 100000
def RX8 : String := "BreathOnLoan$Plain"
def TX8 : u_T := fun k => match k with
  | _ => ("BreathOnLoan$Plain", "n", "I", true)
def tyX8 : Nat → FieldType := fun k => match k with
  | _ => .int
abbrev wsX80 : List Cond := u_ws RX8 TX8 1
theorem nmX8 : ∀ a, a < 1 → ∀ b, b < 1 → a ≠ b → (TX8 a).2.1 ≠ (TX8 b).2.1 := by decide +kernel
theorem tyX8_ok : ∀ k, k < 1 → parseFieldDescriptor (TX8 k).2.2.1 = some (tyX8 k) := by decide +kernel
abbrev cX8_init : ByteArray := prog_11_method_1_code
def yX8_init : MethodName := ⟨RX8, "<init>", "(I)V"⟩
def dkwX8_init_0 : List UInt8 := [42, 183, 0, 1, 42, 27, 181, 0, 7, 177]
abbrev dktX8_init_0 : List UInt8 := dkwX8_init_0 ++ []
theorem dksX8_init_0 : cX8_init.data.toList.drop 0 = dktX8_init_0 := by decide +kernel
theorem dX8_init_0 : decode cX8_init 0 = .ok (.aload_n 0, 1) := dk_42 (dk_at dksX8_init_0 0 rfl rfl)
theorem dX8_init_1 : decode cX8_init 1 = .ok (.invokespecial 1, 3) := dk_183 0 1 (dk_at dksX8_init_0 1 rfl rfl)
theorem dX8_init_4 : decode cX8_init 4 = .ok (.aload_n 0, 1) := dk_42 (dk_at dksX8_init_0 4 rfl rfl)
theorem dX8_init_5 : decode cX8_init 5 = .ok (.iload_n 1, 1) := dk_27 (dk_at dksX8_init_0 5 rfl rfl)
theorem dX8_init_6 : decode cX8_init 6 = .ok (.putfield 7, 3) := dk_181 0 7 (dk_at dksX8_init_0 6 rfl rfl)
theorem dX8_init_9 : decode cX8_init 9 = .ok (.return_, 1) := dk_177 (dk_at dksX8_init_0 9 rfl rfl)
abbrev cX8_of : ByteArray := prog_11_method_2_code
def yX8_of : MethodName := ⟨RX8, "of", "([I)J"⟩
def dkwX8_of_0 : List UInt8 := [42, 180, 0, 7, 133, 173]
abbrev dktX8_of_0 : List UInt8 := dkwX8_of_0 ++ []
theorem dksX8_of_0 : cX8_of.data.toList.drop 0 = dktX8_of_0 := by decide +kernel
theorem dX8_of_0 : decode cX8_of 0 = .ok (.aload_n 0, 1) := dk_42 (dk_at dksX8_of_0 0 rfl rfl)
theorem dX8_of_1 : decode cX8_of 1 = .ok (.getfield 7, 3) := dk_180 0 7 (dk_at dksX8_of_0 1 rfl rfl)
theorem dX8_of_4 : decode cX8_of 4 = .ok (.i2l, 1) := dk_133 (dk_at dksX8_of_0 4 rfl rfl)
theorem dX8_of_5 : decode cX8_of 5 = .ok (.lreturn, 1) := dk_173 (dk_at dksX8_of_0 5 rfl rfl)
theorem q118 : (Jvm.Cond.initialized "BreathOnLoan$Plain") ∈ lw_all := lw_g (lw_at lw_m1 23 rfl) rfl
theorem q589 : (Jvm.Cond.selects "BreathOnLoan$Plain" ({ cls := "java/lang/Object", name := "getClass", desc := "()Ljava/lang/Class;" } : Jvm.MethodName) ({ cls := "java/lang/Object", name := "getClass", desc := "()Ljava/lang/Class;" } : Jvm.MethodName)) ∈ lw_all := lw_g (lw_at lw_m3 14 rfl) rfl
theorem q623 : (Jvm.Cond.instantiable "BreathOnLoan$Plain" (1 : Nat)) ∈ lw_all := lw_g (lw_at lw_m3 48 rfl) rfl
theorem q625 : (Jvm.Cond.instanceMethod ({ cls := "BreathOnLoan$Plain", name := "<init>", desc := "(I)V" } : Jvm.MethodName)) ∈ lw_all := lw_g (lw_at lw_m3 50 rfl) rfl
theorem q626 : (Jvm.Cond.code ({ cls := "BreathOnLoan$Plain", name := "<init>", desc := "(I)V" } : Jvm.MethodName) prog_11_method_1_code (2 : Nat) (Option.none : Option Jvm.ClassFile.FieldType)) ∈ lw_all := lw_g (lw_at lw_m3 51 rfl) rfl
theorem q627 : (Jvm.Cond.methodLink "BreathOnLoan$Plain" (1 : Nat) ({ cls := "java/lang/Record", name := "<init>", desc := "()V" } : Jvm.MethodName)) ∈ lw_all := lw_g (lw_at lw_m3 52 rfl) rfl
theorem q628 : (Jvm.Cond.fieldLink "BreathOnLoan$Plain" (7 : Nat) "BreathOnLoan$Plain" "n" "I") ∈ lw_all := lw_g (lw_at lw_m3 53 rfl) rfl
theorem q629 : (Jvm.Cond.laysFinal "BreathOnLoan$Plain" "BreathOnLoan$Plain" "n" "I") ∈ lw_all := lw_g (lw_at lw_m3 54 rfl) rfl
theorem q630 : (Jvm.Cond.soleField "BreathOnLoan$Plain" "n") ∈ lw_all := lw_g (lw_at lw_m3 55 rfl) rfl
theorem q631 : (Jvm.Cond.superclass "BreathOnLoan$Plain" "java/lang/Record") ∈ lw_all := lw_g (lw_at lw_m3 56 rfl) rfl
theorem q876 : (Jvm.Cond.castable "BreathOnLoan$Plain" "BreathOnLoan$Sum") ∈ lw_tbl := lw_at lw_m4 61 rfl
theorem q877 : (Jvm.Cond.selects "BreathOnLoan$Plain" ({ cls := "BreathOnLoan$Sum", name := "of", desc := "([I)J" } : Jvm.MethodName) ({ cls := "BreathOnLoan$Plain", name := "of", desc := "([I)J" } : Jvm.MethodName)) ∈ lw_all := lw_g (lw_at lw_m4 62 rfl) rfl
theorem q878 : (Jvm.Cond.unhidden "BreathOnLoan$Plain" "of" "([I)J") ∈ lw_tbl := lw_at lw_m4 63 rfl
theorem q879 : (Jvm.Cond.instanceMethod ({ cls := "BreathOnLoan$Plain", name := "of", desc := "([I)J" } : Jvm.MethodName)) ∈ lw_all := lw_g (lw_at lw_m4 64 rfl) rfl
theorem q880 : (Jvm.Cond.publicMethod ({ cls := "BreathOnLoan$Plain", name := "of", desc := "([I)J" } : Jvm.MethodName)) ∈ lw_tbl := lw_at lw_m4 65 rfl
theorem q881 : (Jvm.Cond.code ({ cls := "BreathOnLoan$Plain", name := "of", desc := "([I)J" } : Jvm.MethodName) prog_11_method_2_code (2 : Nat) (Option.some Jvm.ClassFile.FieldType.long)) ∈ lw_all := lw_g (lw_at lw_m4 66 rfl) rfl
theorem q1627 : (Jvm.Cond.castable "BreathOnLoan$Plain" "java/lang/Object") ∈ lw_tbl := lw_at lw_m7 92 rfl
theorem in_X8 : ∀ w ∈ wsX80, w ∈ lw_all := lw_in wsX80 [629] (by decide +kernel) (by decide +kernel)
/-! BreathOnLoan$Name -/
set_option maxRecDepth 100000
def RX9 : String := "BreathOnLoan$Name"
def TX9 : u_T := fun k => match k with
  | _ => ("BreathOnLoan$Name", "which", "I", true)
def tyX9 : Nat → FieldType := fun k => match k with
  | _ => .int
abbrev wsX90 : List Cond := u_ws RX9 TX9 1
theorem nmX9 : ∀ a, a < 1 → ∀ b, b < 1 → a ≠ b → (TX9 a).2.1 ≠ (TX9 b).2.1 := by decide +kernel
theorem tyX9_ok : ∀ k, k < 1 → parseFieldDescriptor (TX9 k).2.2.1 = some (tyX9 k) := by decide +kernel
abbrev cX9_init : ByteArray := prog_9_method_1_code
def yX9_init : MethodName := ⟨RX9, "<init>", "(I)V"⟩
def dkwX9_init_0 : List UInt8 := [42, 183, 0, 1, 42, 27, 181, 0, 7, 177]
abbrev dktX9_init_0 : List UInt8 := dkwX9_init_0 ++ []
theorem dksX9_init_0 : cX9_init.data.toList.drop 0 = dktX9_init_0 := by decide +kernel
theorem dX9_init_0 : decode cX9_init 0 = .ok (.aload_n 0, 1) := dk_42 (dk_at dksX9_init_0 0 rfl rfl)
theorem dX9_init_1 : decode cX9_init 1 = .ok (.invokespecial 1, 3) := dk_183 0 1 (dk_at dksX9_init_0 1 rfl rfl)
theorem dX9_init_4 : decode cX9_init 4 = .ok (.aload_n 0, 1) := dk_42 (dk_at dksX9_init_0 4 rfl rfl)
theorem dX9_init_5 : decode cX9_init 5 = .ok (.iload_n 1, 1) := dk_27 (dk_at dksX9_init_0 5 rfl rfl)
theorem dX9_init_6 : decode cX9_init 6 = .ok (.putfield 7, 3) := dk_181 0 7 (dk_at dksX9_init_0 6 rfl rfl)
theorem dX9_init_9 : decode cX9_init 9 = .ok (.return_, 1) := dk_177 (dk_at dksX9_init_0 9 rfl rfl)
abbrev cX9_of : ByteArray := prog_9_method_2_code
def yX9_of : MethodName := ⟨RX9, "of", "([I)J"⟩
def dkwX9_of_0 : List UInt8 := [43, 42, 180, 0, 7, 46, 133, 173]
abbrev dktX9_of_0 : List UInt8 := dkwX9_of_0 ++ []
theorem dksX9_of_0 : cX9_of.data.toList.drop 0 = dktX9_of_0 := by decide +kernel
theorem dX9_of_0 : decode cX9_of 0 = .ok (.aload_n 1, 1) := dk_43 (dk_at dksX9_of_0 0 rfl rfl)
theorem dX9_of_1 : decode cX9_of 1 = .ok (.aload_n 0, 1) := dk_42 (dk_at dksX9_of_0 1 rfl rfl)
theorem dX9_of_2 : decode cX9_of 2 = .ok (.getfield 7, 3) := dk_180 0 7 (dk_at dksX9_of_0 2 rfl rfl)
theorem dX9_of_5 : decode cX9_of 5 = .ok (.iaload, 1) := dk_46 (dk_at dksX9_of_0 5 rfl rfl)
theorem dX9_of_6 : decode cX9_of 6 = .ok (.i2l, 1) := dk_133 (dk_at dksX9_of_0 6 rfl rfl)
theorem dX9_of_7 : decode cX9_of 7 = .ok (.lreturn, 1) := dk_173 (dk_at dksX9_of_0 7 rfl rfl)
theorem q119 : (Jvm.Cond.initialized "BreathOnLoan$Name") ∈ lw_all := lw_g (lw_at lw_m1 24 rfl) rfl
theorem q587 : (Jvm.Cond.selects "BreathOnLoan$Name" ({ cls := "java/lang/Object", name := "getClass", desc := "()Ljava/lang/Class;" } : Jvm.MethodName) ({ cls := "java/lang/Object", name := "getClass", desc := "()Ljava/lang/Class;" } : Jvm.MethodName)) ∈ lw_all := lw_g (lw_at lw_m3 12 rfl) rfl
theorem q635 : (Jvm.Cond.instantiable "BreathOnLoan$Name" (1 : Nat)) ∈ lw_all := lw_g (lw_at lw_m3 60 rfl) rfl
theorem q637 : (Jvm.Cond.instanceMethod ({ cls := "BreathOnLoan$Name", name := "<init>", desc := "(I)V" } : Jvm.MethodName)) ∈ lw_all := lw_g (lw_at lw_m3 62 rfl) rfl
theorem q638 : (Jvm.Cond.code ({ cls := "BreathOnLoan$Name", name := "<init>", desc := "(I)V" } : Jvm.MethodName) prog_9_method_1_code (2 : Nat) (Option.none : Option Jvm.ClassFile.FieldType)) ∈ lw_all := lw_g (lw_at lw_m3 63 rfl) rfl
theorem q639 : (Jvm.Cond.methodLink "BreathOnLoan$Name" (1 : Nat) ({ cls := "java/lang/Record", name := "<init>", desc := "()V" } : Jvm.MethodName)) ∈ lw_all := lw_g (lw_at lw_m3 64 rfl) rfl
theorem q640 : (Jvm.Cond.fieldLink "BreathOnLoan$Name" (7 : Nat) "BreathOnLoan$Name" "which" "I") ∈ lw_all := lw_g (lw_at lw_m3 65 rfl) rfl
theorem q641 : (Jvm.Cond.laysFinal "BreathOnLoan$Name" "BreathOnLoan$Name" "which" "I") ∈ lw_all := lw_g (lw_at lw_m3 66 rfl) rfl
theorem q642 : (Jvm.Cond.soleField "BreathOnLoan$Name" "which") ∈ lw_all := lw_g (lw_at lw_m3 67 rfl) rfl
theorem q643 : (Jvm.Cond.superclass "BreathOnLoan$Name" "java/lang/Record") ∈ lw_all := lw_g (lw_at lw_m3 68 rfl) rfl
theorem q870 : (Jvm.Cond.castable "BreathOnLoan$Name" "BreathOnLoan$Sum") ∈ lw_tbl := lw_at lw_m4 55 rfl
theorem q871 : (Jvm.Cond.selects "BreathOnLoan$Name" ({ cls := "BreathOnLoan$Sum", name := "of", desc := "([I)J" } : Jvm.MethodName) ({ cls := "BreathOnLoan$Name", name := "of", desc := "([I)J" } : Jvm.MethodName)) ∈ lw_all := lw_g (lw_at lw_m4 56 rfl) rfl
theorem q872 : (Jvm.Cond.unhidden "BreathOnLoan$Name" "of" "([I)J") ∈ lw_tbl := lw_at lw_m4 57 rfl
theorem q873 : (Jvm.Cond.instanceMethod ({ cls := "BreathOnLoan$Name", name := "of", desc := "([I)J" } : Jvm.MethodName)) ∈ lw_all := lw_g (lw_at lw_m4 58 rfl) rfl
theorem q874 : (Jvm.Cond.publicMethod ({ cls := "BreathOnLoan$Name", name := "of", desc := "([I)J" } : Jvm.MethodName)) ∈ lw_tbl := lw_at lw_m4 59 rfl
theorem q875 : (Jvm.Cond.code ({ cls := "BreathOnLoan$Name", name := "of", desc := "([I)J" } : Jvm.MethodName) prog_9_method_2_code (2 : Nat) (Option.some Jvm.ClassFile.FieldType.long)) ∈ lw_all := lw_g (lw_at lw_m4 60 rfl) rfl
theorem q1628 : (Jvm.Cond.castable "BreathOnLoan$Name" "java/lang/Object") ∈ lw_tbl := lw_at lw_m7 93 rfl
theorem in_X9 : ∀ w ∈ wsX90, w ∈ lw_all := lw_in wsX90 [641] (by decide +kernel) (by decide +kernel)
/-! BreathOnLoan$Not -/
set_option maxRecDepth 100000
def RX10 : String := "BreathOnLoan$Not"
def TX10 : u_T := fun k => match k with
  | _ => ("BreathOnLoan$Not", "x", "LBreathOnLoan$Asked;", true)
def tyX10 : Nat → FieldType := fun k => match k with
  | _ => .object "BreathOnLoan$Asked"
abbrev wsX100 : List Cond := u_ws RX10 TX10 1
theorem nmX10 : ∀ a, a < 1 → ∀ b, b < 1 → a ≠ b → (TX10 a).2.1 ≠ (TX10 b).2.1 := by decide +kernel
theorem tyX10_ok : ∀ k, k < 1 → parseFieldDescriptor (TX10 k).2.2.1 = some (tyX10 k) := by decide +kernel
abbrev cX10_init : ByteArray := prog_10_method_1_code
def yX10_init : MethodName := ⟨RX10, "<init>", "(LBreathOnLoan$Asked;)V"⟩
def dkwX10_init_0 : List UInt8 := [42, 183, 0, 1, 42, 43, 181, 0, 7, 177]
abbrev dktX10_init_0 : List UInt8 := dkwX10_init_0 ++ []
theorem dksX10_init_0 : cX10_init.data.toList.drop 0 = dktX10_init_0 := by decide +kernel
theorem dX10_init_0 : decode cX10_init 0 = .ok (.aload_n 0, 1) := dk_42 (dk_at dksX10_init_0 0 rfl rfl)
theorem dX10_init_1 : decode cX10_init 1 = .ok (.invokespecial 1, 3) := dk_183 0 1 (dk_at dksX10_init_0 1 rfl rfl)
theorem dX10_init_4 : decode cX10_init 4 = .ok (.aload_n 0, 1) := dk_42 (dk_at dksX10_init_0 4 rfl rfl)
theorem dX10_init_5 : decode cX10_init 5 = .ok (.aload_n 1, 1) := dk_43 (dk_at dksX10_init_0 5 rfl rfl)
theorem dX10_init_6 : decode cX10_init 6 = .ok (.putfield 7, 3) := dk_181 0 7 (dk_at dksX10_init_0 6 rfl rfl)
theorem dX10_init_9 : decode cX10_init 9 = .ok (.return_, 1) := dk_177 (dk_at dksX10_init_0 9 rfl rfl)
abbrev cX10_is : ByteArray := prog_10_method_2_code
def yX10_is : MethodName := ⟨RX10, "is", "([I)Z"⟩
def dkwX10_is_0 : List UInt8 := [42, 180, 0, 7, 43, 185, 0, 13, 2, 0, 154, 0, 7, 4, 167, 0, 4, 3, 172]
abbrev dktX10_is_0 : List UInt8 := dkwX10_is_0 ++ []
theorem dksX10_is_0 : cX10_is.data.toList.drop 0 = dktX10_is_0 := by decide +kernel
theorem dX10_is_0 : decode cX10_is 0 = .ok (.aload_n 0, 1) := dk_42 (dk_at dksX10_is_0 0 rfl rfl)
theorem dX10_is_1 : decode cX10_is 1 = .ok (.getfield 7, 3) := dk_180 0 7 (dk_at dksX10_is_0 1 rfl rfl)
theorem dX10_is_4 : decode cX10_is 4 = .ok (.aload_n 1, 1) := dk_43 (dk_at dksX10_is_0 4 rfl rfl)
theorem dX10_is_5 : decode cX10_is 5 = .ok (.invokeinterface 13 2, 5) := by decide +kernel
theorem dX10_is_10 : decode cX10_is 10 = .ok (.ifCond .ne 7, 3) := dk_154 0 7 (dk_at dksX10_is_0 10 rfl rfl)
theorem dX10_is_13 : decode cX10_is 13 = .ok (.iconst 1, 1) := dk_4 (dk_at dksX10_is_0 13 rfl rfl)
theorem dX10_is_14 : decode cX10_is 14 = .ok (.goto 4, 3) := dk_167 0 4 (dk_at dksX10_is_0 14 rfl rfl)
theorem dX10_is_17 : decode cX10_is 17 = .ok (.iconst 0, 1) := dk_3 (dk_at dksX10_is_0 17 rfl rfl)
theorem dX10_is_18 : decode cX10_is 18 = .ok (.ireturn, 1) := dk_172 (dk_at dksX10_is_0 18 rfl rfl)
theorem q120 : (Jvm.Cond.initialized "BreathOnLoan$Not") ∈ lw_all := lw_g (lw_at lw_m1 25 rfl) rfl
theorem q588 : (Jvm.Cond.selects "BreathOnLoan$Not" ({ cls := "java/lang/Object", name := "getClass", desc := "()Ljava/lang/Class;" } : Jvm.MethodName) ({ cls := "java/lang/Object", name := "getClass", desc := "()Ljava/lang/Class;" } : Jvm.MethodName)) ∈ lw_all := lw_g (lw_at lw_m3 13 rfl) rfl
theorem q667 : (Jvm.Cond.instantiable "BreathOnLoan$Not" (1 : Nat)) ∈ lw_all := lw_g (lw_at lw_m3 92 rfl) rfl
theorem q669 : (Jvm.Cond.instanceMethod ({ cls := "BreathOnLoan$Not", name := "<init>", desc := "(LBreathOnLoan$Asked;)V" } : Jvm.MethodName)) ∈ lw_all := lw_g (lw_at lw_m3 94 rfl) rfl
theorem q670 : (Jvm.Cond.code ({ cls := "BreathOnLoan$Not", name := "<init>", desc := "(LBreathOnLoan$Asked;)V" } : Jvm.MethodName) prog_10_method_1_code (2 : Nat) (Option.none : Option Jvm.ClassFile.FieldType)) ∈ lw_all := lw_g (lw_at lw_m3 95 rfl) rfl
theorem q671 : (Jvm.Cond.methodLink "BreathOnLoan$Not" (1 : Nat) ({ cls := "java/lang/Record", name := "<init>", desc := "()V" } : Jvm.MethodName)) ∈ lw_all := lw_g (lw_at lw_m3 96 rfl) rfl
theorem q672 : (Jvm.Cond.fieldLink "BreathOnLoan$Not" (7 : Nat) "BreathOnLoan$Not" "x" "LBreathOnLoan$Asked;") ∈ lw_all := lw_g (lw_at lw_m3 97 rfl) rfl
theorem q673 : (Jvm.Cond.laysFinal "BreathOnLoan$Not" "BreathOnLoan$Not" "x" "LBreathOnLoan$Asked;") ∈ lw_all := lw_g (lw_at lw_m3 98 rfl) rfl
theorem q674 : (Jvm.Cond.soleField "BreathOnLoan$Not" "x") ∈ lw_all := lw_g (lw_at lw_m3 99 rfl) rfl
theorem q675 : (Jvm.Cond.superclass "BreathOnLoan$Not" "java/lang/Record") ∈ lw_all := lw_g (lw_at lw_m3 100 rfl) rfl
theorem q882 : (Jvm.Cond.castable "BreathOnLoan$Not" "BreathOnLoan$Asked") ∈ lw_tbl := lw_at lw_m4 67 rfl
theorem q883 : (Jvm.Cond.selects "BreathOnLoan$Not" ({ cls := "BreathOnLoan$Asked", name := "is", desc := "([I)Z" } : Jvm.MethodName) ({ cls := "BreathOnLoan$Not", name := "is", desc := "([I)Z" } : Jvm.MethodName)) ∈ lw_all := lw_g (lw_at lw_m4 68 rfl) rfl
theorem q884 : (Jvm.Cond.unhidden "BreathOnLoan$Not" "is" "([I)Z") ∈ lw_tbl := lw_at lw_m4 69 rfl
theorem q885 : (Jvm.Cond.instanceMethod ({ cls := "BreathOnLoan$Not", name := "is", desc := "([I)Z" } : Jvm.MethodName)) ∈ lw_all := lw_g (lw_at lw_m4 70 rfl) rfl
theorem q886 : (Jvm.Cond.publicMethod ({ cls := "BreathOnLoan$Not", name := "is", desc := "([I)Z" } : Jvm.MethodName)) ∈ lw_tbl := lw_at lw_m4 71 rfl
theorem q887 : (Jvm.Cond.code ({ cls := "BreathOnLoan$Not", name := "is", desc := "([I)Z" } : Jvm.MethodName) prog_10_method_2_code (2 : Nat) (Option.some Jvm.ClassFile.FieldType.boolean)) ∈ lw_all := lw_g (lw_at lw_m4 72 rfl) rfl
theorem q888 : (Jvm.Cond.interfaceEntry "BreathOnLoan$Not" (13 : Nat)) ∈ lw_tbl := lw_at lw_m4 73 rfl
theorem q889 : (Jvm.Cond.methodLink "BreathOnLoan$Not" (13 : Nat) ({ cls := "BreathOnLoan$Asked", name := "is", desc := "([I)Z" } : Jvm.MethodName)) ∈ lw_all := lw_g (lw_at lw_m4 74 rfl) rfl
theorem q1629 : (Jvm.Cond.castable "BreathOnLoan$Not" "java/lang/Object") ∈ lw_tbl := lw_at lw_m7 94 rfl
theorem in_X10 : ∀ w ∈ wsX100, w ∈ lw_all := lw_in wsX100 [673] (by decide +kernel) (by decide +kernel)
/-! BreathOnLoan$Compared -/
set_option maxRecDepth 100000
def RX11 : String := "BreathOnLoan$Compared"
def TX11 : u_T := fun k => match k with
  | 0 => ("BreathOnLoan$Compared", "sign", "I", true)
  | 1 => ("BreathOnLoan$Compared", "a", "LBreathOnLoan$Sum;", true)
  | _ => ("BreathOnLoan$Compared", "b", "LBreathOnLoan$Sum;", true)
def tyX11 : Nat → FieldType := fun k => match k with
  | 0 => .int
  | 1 => .object "BreathOnLoan$Sum"
  | _ => .object "BreathOnLoan$Sum"
abbrev wsX110 : List Cond := u_ws RX11 TX11 3
theorem nmX11 : ∀ a, a < 3 → ∀ b, b < 3 → a ≠ b → (TX11 a).2.1 ≠ (TX11 b).2.1 := by decide +kernel
theorem tyX11_ok : ∀ k, k < 3 → parseFieldDescriptor (TX11 k).2.2.1 = some (tyX11 k) := by decide +kernel
abbrev cX11_init : ByteArray := prog_5_method_1_code
def yX11_init : MethodName := ⟨RX11, "<init>", "(ILBreathOnLoan$Sum;LBreathOnLoan$Sum;)V"⟩
def dkwX11_init_0 : List UInt8 := [42, 183, 0, 1, 42, 27, 181, 0, 7, 42, 44, 181, 0, 13, 42, 45, 181, 0, 17, 177]
abbrev dktX11_init_0 : List UInt8 := dkwX11_init_0 ++ []
theorem dksX11_init_0 : cX11_init.data.toList.drop 0 = dktX11_init_0 := by decide +kernel
theorem dX11_init_0 : decode cX11_init 0 = .ok (.aload_n 0, 1) := dk_42 (dk_at dksX11_init_0 0 rfl rfl)
theorem dX11_init_1 : decode cX11_init 1 = .ok (.invokespecial 1, 3) := dk_183 0 1 (dk_at dksX11_init_0 1 rfl rfl)
theorem dX11_init_4 : decode cX11_init 4 = .ok (.aload_n 0, 1) := dk_42 (dk_at dksX11_init_0 4 rfl rfl)
theorem dX11_init_5 : decode cX11_init 5 = .ok (.iload_n 1, 1) := dk_27 (dk_at dksX11_init_0 5 rfl rfl)
theorem dX11_init_6 : decode cX11_init 6 = .ok (.putfield 7, 3) := dk_181 0 7 (dk_at dksX11_init_0 6 rfl rfl)
theorem dX11_init_9 : decode cX11_init 9 = .ok (.aload_n 0, 1) := dk_42 (dk_at dksX11_init_0 9 rfl rfl)
theorem dX11_init_10 : decode cX11_init 10 = .ok (.aload_n 2, 1) := dk_44 (dk_at dksX11_init_0 10 rfl rfl)
theorem dX11_init_11 : decode cX11_init 11 = .ok (.putfield 13, 3) := dk_181 0 13 (dk_at dksX11_init_0 11 rfl rfl)
theorem dX11_init_14 : decode cX11_init 14 = .ok (.aload_n 0, 1) := dk_42 (dk_at dksX11_init_0 14 rfl rfl)
theorem dX11_init_15 : decode cX11_init 15 = .ok (.aload_n 3, 1) := dk_45 (dk_at dksX11_init_0 15 rfl rfl)
theorem dX11_init_16 : decode cX11_init 16 = .ok (.putfield 17, 3) := dk_181 0 17 (dk_at dksX11_init_0 16 rfl rfl)
theorem dX11_init_19 : decode cX11_init 19 = .ok (.return_, 1) := dk_177 (dk_at dksX11_init_0 19 rfl rfl)
abbrev cX11_is : ByteArray := prog_5_method_2_code
def yX11_is : MethodName := ⟨RX11, "is", "([I)Z"⟩
def dkwX11_is_5 : List UInt8 := [32, 9, 148, 157, 0, 7, 4, 167, 0, 4, 3, 172, 32, 9, 148, 155, 0, 7, 4, 167, 0, 4, 3, 172]
abbrev dktX11_is_5 : List UInt8 := dkwX11_is_5 ++ []
def dkwX11_is_4 : List UInt8 := [32, 9, 148, 154, 0, 7, 4, 167, 0, 4, 3, 172, 32, 9, 148, 153, 0, 7, 4, 167, 0, 4, 3, 172]
abbrev dktX11_is_4 : List UInt8 := dkwX11_is_4 ++ dktX11_is_5
def dkwX11_is_3 : List UInt8 := [32, 9, 148, 156, 0, 7, 4, 167, 0, 4, 3, 172, 32, 9, 148, 158, 0, 7, 4, 167, 0, 4, 3, 172]
abbrev dktX11_is_3 : List UInt8 := dkwX11_is_3 ++ dktX11_is_4
def dkwX11_is_2 : List UInt8 := [171, 0, 0, 0, 0, 110, 0, 0, 0, 5, 0, 0, 0, 35, 0, 0, 0, 86, 0, 0, 0, 60, 0, 0, 0, 50, 0, 0, 0, 61, 0, 0, 0, 74, 0, 0, 0, 62, 0, 0, 0, 62, 0, 0, 1, 47, 0, 0, 0, 98]
abbrev dktX11_is_2 : List UInt8 := dkwX11_is_2 ++ dktX11_is_3
def dkwX11_is_1 : List UInt8 := [180, 0, 7]
abbrev dktX11_is_1 : List UInt8 := dkwX11_is_1 ++ dktX11_is_2
def dkwX11_is_0 : List UInt8 := [42, 180, 0, 13, 43, 185, 0, 20, 2, 0, 42, 180, 0, 17, 43, 185, 0, 20, 2, 0, 101, 65, 42]
abbrev dktX11_is_0 : List UInt8 := dkwX11_is_0 ++ dktX11_is_1
theorem dksX11_is_0 : cX11_is.data.toList.drop 0 = dktX11_is_0 := by decide +kernel
theorem dksX11_is_1 : cX11_is.data.toList.drop 23 = dktX11_is_1 := dk_seg dksX11_is_0 23 rfl rfl
theorem dksX11_is_2 : cX11_is.data.toList.drop 26 = dktX11_is_2 := dk_seg dksX11_is_1 3 rfl rfl
theorem dksX11_is_3 : cX11_is.data.toList.drop 76 = dktX11_is_3 := dk_seg dksX11_is_2 50 rfl rfl
theorem dksX11_is_4 : cX11_is.data.toList.drop 100 = dktX11_is_4 := dk_seg dksX11_is_3 24 rfl rfl
theorem dksX11_is_5 : cX11_is.data.toList.drop 124 = dktX11_is_5 := dk_seg dksX11_is_4 24 rfl rfl
theorem dX11_is_0 : decode cX11_is 0 = .ok (.aload_n 0, 1) := dk_42 (dk_at dksX11_is_0 0 rfl rfl)
theorem dX11_is_1 : decode cX11_is 1 = .ok (.getfield 13, 3) := dk_180 0 13 (dk_at dksX11_is_0 1 rfl rfl)
theorem dX11_is_4 : decode cX11_is 4 = .ok (.aload_n 1, 1) := dk_43 (dk_at dksX11_is_0 4 rfl rfl)
theorem dX11_is_5 : decode cX11_is 5 = .ok (.invokeinterface 20 2, 5) := by decide +kernel
theorem dX11_is_10 : decode cX11_is 10 = .ok (.aload_n 0, 1) := dk_42 (dk_at dksX11_is_0 10 rfl rfl)
theorem dX11_is_11 : decode cX11_is 11 = .ok (.getfield 17, 3) := dk_180 0 17 (dk_at dksX11_is_0 11 rfl rfl)
theorem dX11_is_14 : decode cX11_is 14 = .ok (.aload_n 1, 1) := dk_43 (dk_at dksX11_is_0 14 rfl rfl)
theorem dX11_is_15 : decode cX11_is 15 = .ok (.invokeinterface 20 2, 5) := by decide +kernel
theorem dX11_is_20 : decode cX11_is 20 = .ok (.lsub, 1) := dk_101 (dk_at dksX11_is_0 20 rfl rfl)
theorem dX11_is_21 : decode cX11_is 21 = .ok (.lstore_n 2, 1) := dk_65 (dk_at dksX11_is_0 21 rfl rfl)
theorem dX11_is_22 : decode cX11_is 22 = .ok (.aload_n 0, 1) := dk_42 (dk_at dksX11_is_0 22 rfl rfl)
theorem dX11_is_23 : decode cX11_is 23 = .ok (.getfield 7, 3) := dk_180 0 7 (dk_at dksX11_is_1 0 rfl rfl)
theorem dX11_is_26 : decode cX11_is 26 = .ok (.lookupswitch 110 #[(35, 86), (60, 50), (61, 74), (62, 62), (303, 98)], 50) := by decide +kernel
theorem dX11_is_76 : decode cX11_is 76 = .ok (.lload_n 2, 1) := dk_32 (dk_at dksX11_is_3 0 rfl rfl)
theorem dX11_is_77 : decode cX11_is 77 = .ok (.lconst 0, 1) := dk_9 (dk_at dksX11_is_3 1 rfl rfl)
theorem dX11_is_78 : decode cX11_is 78 = .ok (.lcmp, 1) := dk_148 (dk_at dksX11_is_3 2 rfl rfl)
theorem dX11_is_79 : decode cX11_is 79 = .ok (.ifCond .ge 7, 3) := dk_156 0 7 (dk_at dksX11_is_3 3 rfl rfl)
theorem dX11_is_82 : decode cX11_is 82 = .ok (.iconst 1, 1) := dk_4 (dk_at dksX11_is_3 6 rfl rfl)
theorem dX11_is_83 : decode cX11_is 83 = .ok (.goto 4, 3) := dk_167 0 4 (dk_at dksX11_is_3 7 rfl rfl)
theorem dX11_is_86 : decode cX11_is 86 = .ok (.iconst 0, 1) := dk_3 (dk_at dksX11_is_3 10 rfl rfl)
theorem dX11_is_87 : decode cX11_is 87 = .ok (.ireturn, 1) := dk_172 (dk_at dksX11_is_3 11 rfl rfl)
theorem dX11_is_88 : decode cX11_is 88 = .ok (.lload_n 2, 1) := dk_32 (dk_at dksX11_is_3 12 rfl rfl)
theorem dX11_is_89 : decode cX11_is 89 = .ok (.lconst 0, 1) := dk_9 (dk_at dksX11_is_3 13 rfl rfl)
theorem dX11_is_90 : decode cX11_is 90 = .ok (.lcmp, 1) := dk_148 (dk_at dksX11_is_3 14 rfl rfl)
theorem dX11_is_91 : decode cX11_is 91 = .ok (.ifCond .le 7, 3) := dk_158 0 7 (dk_at dksX11_is_3 15 rfl rfl)
theorem dX11_is_94 : decode cX11_is 94 = .ok (.iconst 1, 1) := dk_4 (dk_at dksX11_is_3 18 rfl rfl)
theorem dX11_is_95 : decode cX11_is 95 = .ok (.goto 4, 3) := dk_167 0 4 (dk_at dksX11_is_3 19 rfl rfl)
theorem dX11_is_98 : decode cX11_is 98 = .ok (.iconst 0, 1) := dk_3 (dk_at dksX11_is_3 22 rfl rfl)
theorem dX11_is_99 : decode cX11_is 99 = .ok (.ireturn, 1) := dk_172 (dk_at dksX11_is_3 23 rfl rfl)
theorem dX11_is_100 : decode cX11_is 100 = .ok (.lload_n 2, 1) := dk_32 (dk_at dksX11_is_4 0 rfl rfl)
theorem dX11_is_101 : decode cX11_is 101 = .ok (.lconst 0, 1) := dk_9 (dk_at dksX11_is_4 1 rfl rfl)
theorem dX11_is_102 : decode cX11_is 102 = .ok (.lcmp, 1) := dk_148 (dk_at dksX11_is_4 2 rfl rfl)
theorem dX11_is_103 : decode cX11_is 103 = .ok (.ifCond .ne 7, 3) := dk_154 0 7 (dk_at dksX11_is_4 3 rfl rfl)
theorem dX11_is_106 : decode cX11_is 106 = .ok (.iconst 1, 1) := dk_4 (dk_at dksX11_is_4 6 rfl rfl)
theorem dX11_is_107 : decode cX11_is 107 = .ok (.goto 4, 3) := dk_167 0 4 (dk_at dksX11_is_4 7 rfl rfl)
theorem dX11_is_110 : decode cX11_is 110 = .ok (.iconst 0, 1) := dk_3 (dk_at dksX11_is_4 10 rfl rfl)
theorem dX11_is_111 : decode cX11_is 111 = .ok (.ireturn, 1) := dk_172 (dk_at dksX11_is_4 11 rfl rfl)
theorem dX11_is_112 : decode cX11_is 112 = .ok (.lload_n 2, 1) := dk_32 (dk_at dksX11_is_4 12 rfl rfl)
theorem dX11_is_113 : decode cX11_is 113 = .ok (.lconst 0, 1) := dk_9 (dk_at dksX11_is_4 13 rfl rfl)
theorem dX11_is_114 : decode cX11_is 114 = .ok (.lcmp, 1) := dk_148 (dk_at dksX11_is_4 14 rfl rfl)
theorem dX11_is_115 : decode cX11_is 115 = .ok (.ifCond .eq 7, 3) := dk_153 0 7 (dk_at dksX11_is_4 15 rfl rfl)
theorem dX11_is_118 : decode cX11_is 118 = .ok (.iconst 1, 1) := dk_4 (dk_at dksX11_is_4 18 rfl rfl)
theorem dX11_is_119 : decode cX11_is 119 = .ok (.goto 4, 3) := dk_167 0 4 (dk_at dksX11_is_4 19 rfl rfl)
theorem dX11_is_122 : decode cX11_is 122 = .ok (.iconst 0, 1) := dk_3 (dk_at dksX11_is_4 22 rfl rfl)
theorem dX11_is_123 : decode cX11_is 123 = .ok (.ireturn, 1) := dk_172 (dk_at dksX11_is_4 23 rfl rfl)
theorem dX11_is_124 : decode cX11_is 124 = .ok (.lload_n 2, 1) := dk_32 (dk_at dksX11_is_5 0 rfl rfl)
theorem dX11_is_125 : decode cX11_is 125 = .ok (.lconst 0, 1) := dk_9 (dk_at dksX11_is_5 1 rfl rfl)
theorem dX11_is_126 : decode cX11_is 126 = .ok (.lcmp, 1) := dk_148 (dk_at dksX11_is_5 2 rfl rfl)
theorem dX11_is_127 : decode cX11_is 127 = .ok (.ifCond .gt 7, 3) := dk_157 0 7 (dk_at dksX11_is_5 3 rfl rfl)
theorem dX11_is_130 : decode cX11_is 130 = .ok (.iconst 1, 1) := dk_4 (dk_at dksX11_is_5 6 rfl rfl)
theorem dX11_is_131 : decode cX11_is 131 = .ok (.goto 4, 3) := dk_167 0 4 (dk_at dksX11_is_5 7 rfl rfl)
theorem dX11_is_134 : decode cX11_is 134 = .ok (.iconst 0, 1) := dk_3 (dk_at dksX11_is_5 10 rfl rfl)
theorem dX11_is_135 : decode cX11_is 135 = .ok (.ireturn, 1) := dk_172 (dk_at dksX11_is_5 11 rfl rfl)
theorem dX11_is_136 : decode cX11_is 136 = .ok (.lload_n 2, 1) := dk_32 (dk_at dksX11_is_5 12 rfl rfl)
theorem dX11_is_137 : decode cX11_is 137 = .ok (.lconst 0, 1) := dk_9 (dk_at dksX11_is_5 13 rfl rfl)
theorem dX11_is_138 : decode cX11_is 138 = .ok (.lcmp, 1) := dk_148 (dk_at dksX11_is_5 14 rfl rfl)
theorem dX11_is_139 : decode cX11_is 139 = .ok (.ifCond .lt 7, 3) := dk_155 0 7 (dk_at dksX11_is_5 15 rfl rfl)
theorem dX11_is_142 : decode cX11_is 142 = .ok (.iconst 1, 1) := dk_4 (dk_at dksX11_is_5 18 rfl rfl)
theorem dX11_is_143 : decode cX11_is 143 = .ok (.goto 4, 3) := dk_167 0 4 (dk_at dksX11_is_5 19 rfl rfl)
theorem dX11_is_146 : decode cX11_is 146 = .ok (.iconst 0, 1) := dk_3 (dk_at dksX11_is_5 22 rfl rfl)
theorem dX11_is_147 : decode cX11_is 147 = .ok (.ireturn, 1) := dk_172 (dk_at dksX11_is_5 23 rfl rfl)
theorem q121 : (Jvm.Cond.initialized "BreathOnLoan$Compared") ∈ lw_all := lw_g (lw_at lw_m1 26 rfl) rfl
theorem q583 : (Jvm.Cond.selects "BreathOnLoan$Compared" ({ cls := "java/lang/Object", name := "getClass", desc := "()Ljava/lang/Class;" } : Jvm.MethodName) ({ cls := "java/lang/Object", name := "getClass", desc := "()Ljava/lang/Class;" } : Jvm.MethodName)) ∈ lw_all := lw_g (lw_at lw_m3 8 rfl) rfl
theorem q677 : (Jvm.Cond.instantiable "BreathOnLoan$Compared" (3 : Nat)) ∈ lw_all := lw_g (lw_at lw_m3 102 rfl) rfl
theorem q679 : (Jvm.Cond.instanceMethod ({ cls := "BreathOnLoan$Compared", name := "<init>", desc := "(ILBreathOnLoan$Sum;LBreathOnLoan$Sum;)V" } : Jvm.MethodName)) ∈ lw_all := lw_g (lw_at lw_m3 104 rfl) rfl
theorem q680 : (Jvm.Cond.code ({ cls := "BreathOnLoan$Compared", name := "<init>", desc := "(ILBreathOnLoan$Sum;LBreathOnLoan$Sum;)V" } : Jvm.MethodName) prog_5_method_1_code (4 : Nat) (Option.none : Option Jvm.ClassFile.FieldType)) ∈ lw_all := lw_g (lw_at lw_m3 105 rfl) rfl
theorem q681 : (Jvm.Cond.methodLink "BreathOnLoan$Compared" (1 : Nat) ({ cls := "java/lang/Record", name := "<init>", desc := "()V" } : Jvm.MethodName)) ∈ lw_all := lw_g (lw_at lw_m3 106 rfl) rfl
theorem q682 : (Jvm.Cond.fieldLink "BreathOnLoan$Compared" (7 : Nat) "BreathOnLoan$Compared" "sign" "I") ∈ lw_all := lw_g (lw_at lw_m3 107 rfl) rfl
theorem q683 : (Jvm.Cond.fieldLink "BreathOnLoan$Compared" (13 : Nat) "BreathOnLoan$Compared" "a" "LBreathOnLoan$Sum;") ∈ lw_all := lw_g (lw_at lw_m3 108 rfl) rfl
theorem q684 : (Jvm.Cond.fieldLink "BreathOnLoan$Compared" (17 : Nat) "BreathOnLoan$Compared" "b" "LBreathOnLoan$Sum;") ∈ lw_all := lw_g (lw_at lw_m3 109 rfl) rfl
theorem q685 : (Jvm.Cond.laysFinal "BreathOnLoan$Compared" "BreathOnLoan$Compared" "sign" "I") ∈ lw_all := lw_g (lw_at lw_m3 110 rfl) rfl
theorem q686 : (Jvm.Cond.soleField "BreathOnLoan$Compared" "sign") ∈ lw_all := lw_g (lw_at lw_m3 111 rfl) rfl
theorem q687 : (Jvm.Cond.laysFinal "BreathOnLoan$Compared" "BreathOnLoan$Compared" "a" "LBreathOnLoan$Sum;") ∈ lw_all := lw_g (lw_at lw_m3 112 rfl) rfl
theorem q688 : (Jvm.Cond.soleField "BreathOnLoan$Compared" "a") ∈ lw_all := lw_g (lw_at lw_m3 113 rfl) rfl
theorem q689 : (Jvm.Cond.laysFinal "BreathOnLoan$Compared" "BreathOnLoan$Compared" "b" "LBreathOnLoan$Sum;") ∈ lw_all := lw_g (lw_at lw_m3 114 rfl) rfl
theorem q690 : (Jvm.Cond.soleField "BreathOnLoan$Compared" "b") ∈ lw_all := lw_g (lw_at lw_m3 115 rfl) rfl
theorem q691 : (Jvm.Cond.superclass "BreathOnLoan$Compared" "java/lang/Record") ∈ lw_all := lw_g (lw_at lw_m3 116 rfl) rfl
theorem q854 : (Jvm.Cond.castable "BreathOnLoan$Compared" "BreathOnLoan$Asked") ∈ lw_tbl := lw_at lw_m4 39 rfl
theorem q855 : (Jvm.Cond.selects "BreathOnLoan$Compared" ({ cls := "BreathOnLoan$Asked", name := "is", desc := "([I)Z" } : Jvm.MethodName) ({ cls := "BreathOnLoan$Compared", name := "is", desc := "([I)Z" } : Jvm.MethodName)) ∈ lw_all := lw_g (lw_at lw_m4 40 rfl) rfl
theorem q856 : (Jvm.Cond.unhidden "BreathOnLoan$Compared" "is" "([I)Z") ∈ lw_tbl := lw_at lw_m4 41 rfl
theorem q857 : (Jvm.Cond.instanceMethod ({ cls := "BreathOnLoan$Compared", name := "is", desc := "([I)Z" } : Jvm.MethodName)) ∈ lw_all := lw_g (lw_at lw_m4 42 rfl) rfl
theorem q858 : (Jvm.Cond.publicMethod ({ cls := "BreathOnLoan$Compared", name := "is", desc := "([I)Z" } : Jvm.MethodName)) ∈ lw_tbl := lw_at lw_m4 43 rfl
theorem q859 : (Jvm.Cond.code ({ cls := "BreathOnLoan$Compared", name := "is", desc := "([I)Z" } : Jvm.MethodName) prog_5_method_2_code (4 : Nat) (Option.some Jvm.ClassFile.FieldType.boolean)) ∈ lw_all := lw_g (lw_at lw_m4 44 rfl) rfl
theorem q860 : (Jvm.Cond.interfaceEntry "BreathOnLoan$Compared" (20 : Nat)) ∈ lw_tbl := lw_at lw_m4 45 rfl
theorem q861 : (Jvm.Cond.methodLink "BreathOnLoan$Compared" (20 : Nat) ({ cls := "BreathOnLoan$Sum", name := "of", desc := "([I)J" } : Jvm.MethodName)) ∈ lw_all := lw_g (lw_at lw_m4 46 rfl) rfl
theorem q1630 : (Jvm.Cond.castable "BreathOnLoan$Compared" "java/lang/Object") ∈ lw_tbl := lw_at lw_m7 95 rfl
theorem in_X11 : ∀ w ∈ wsX110, w ∈ lw_all := lw_in wsX110 [685, 687, 689] (by decide +kernel) (by decide +kernel)
/-! BreathOnLoan$All -/
set_option maxRecDepth 100000
def RX12 : String := "BreathOnLoan$All"
def TX12 : u_T := fun k => match k with
  | 0 => ("BreathOnLoan$All", "and", "Z", true)
  | _ => ("BreathOnLoan$All", "of", "Ljava/util/ArrayList;", true)
def tyX12 : Nat → FieldType := fun k => match k with
  | 0 => .boolean
  | _ => .object "java/util/ArrayList"
abbrev wsX120 : List Cond := u_ws RX12 TX12 2
theorem nmX12 : ∀ a, a < 2 → ∀ b, b < 2 → a ≠ b → (TX12 a).2.1 ≠ (TX12 b).2.1 := by decide +kernel
theorem tyX12_ok : ∀ k, k < 2 → parseFieldDescriptor (TX12 k).2.2.1 = some (tyX12 k) := by decide +kernel
abbrev cX12_init : ByteArray := prog_2_method_1_code
def yX12_init : MethodName := ⟨RX12, "<init>", "(ZLjava/util/ArrayList;)V"⟩
def dkwX12_init_0 : List UInt8 := [42, 183, 0, 1, 42, 27, 181, 0, 7, 42, 44, 181, 0, 13, 177]
abbrev dktX12_init_0 : List UInt8 := dkwX12_init_0 ++ []
theorem dksX12_init_0 : cX12_init.data.toList.drop 0 = dktX12_init_0 := by decide +kernel
theorem dX12_init_0 : decode cX12_init 0 = .ok (.aload_n 0, 1) := dk_42 (dk_at dksX12_init_0 0 rfl rfl)
theorem dX12_init_1 : decode cX12_init 1 = .ok (.invokespecial 1, 3) := dk_183 0 1 (dk_at dksX12_init_0 1 rfl rfl)
theorem dX12_init_4 : decode cX12_init 4 = .ok (.aload_n 0, 1) := dk_42 (dk_at dksX12_init_0 4 rfl rfl)
theorem dX12_init_5 : decode cX12_init 5 = .ok (.iload_n 1, 1) := dk_27 (dk_at dksX12_init_0 5 rfl rfl)
theorem dX12_init_6 : decode cX12_init 6 = .ok (.putfield 7, 3) := dk_181 0 7 (dk_at dksX12_init_0 6 rfl rfl)
theorem dX12_init_9 : decode cX12_init 9 = .ok (.aload_n 0, 1) := dk_42 (dk_at dksX12_init_0 9 rfl rfl)
theorem dX12_init_10 : decode cX12_init 10 = .ok (.aload_n 2, 1) := dk_44 (dk_at dksX12_init_0 10 rfl rfl)
theorem dX12_init_11 : decode cX12_init 11 = .ok (.putfield 13, 3) := dk_181 0 13 (dk_at dksX12_init_0 11 rfl rfl)
theorem dX12_init_14 : decode cX12_init 14 = .ok (.return_, 1) := dk_177 (dk_at dksX12_init_0 14 rfl rfl)
abbrev cX12_is : ByteArray := prog_2_method_2_code
def yX12_is : MethodName := ⟨RX12, "is", "([I)Z"⟩
def dkwX12_is_3 : List UInt8 := [167, 0, 16, 3, 167, 0, 12, 28, 158, 0, 7, 4, 167, 0, 4, 3, 172]
abbrev dktX12_is_3 : List UInt8 := dkwX12_is_3 ++ []
def dkwX12_is_2 : List UInt8 := [167, 255, 214, 42, 180, 0, 7, 153, 0, 22, 28, 42, 180, 0, 13, 182, 0, 17, 160, 0, 7, 4]
abbrev dktX12_is_2 : List UInt8 := dkwX12_is_2 ++ dktX12_is_3
def dkwX12_is_1 : List UInt8 := [192, 0, 27, 43, 185, 0, 29, 2, 0, 153, 0, 7, 4, 167, 0, 4, 3, 96, 61, 132, 3, 1]
abbrev dktX12_is_1 : List UInt8 := dkwX12_is_1 ++ dktX12_is_2
def dkwX12_is_0 : List UInt8 := [3, 61, 3, 62, 29, 42, 180, 0, 13, 182, 0, 17, 162, 0, 37, 28, 42, 180, 0, 13, 29, 182, 0, 23]
abbrev dktX12_is_0 : List UInt8 := dkwX12_is_0 ++ dktX12_is_1
theorem dksX12_is_0 : cX12_is.data.toList.drop 0 = dktX12_is_0 := by decide +kernel
theorem dksX12_is_1 : cX12_is.data.toList.drop 24 = dktX12_is_1 := dk_seg dksX12_is_0 24 rfl rfl
theorem dksX12_is_2 : cX12_is.data.toList.drop 46 = dktX12_is_2 := dk_seg dksX12_is_1 22 rfl rfl
theorem dksX12_is_3 : cX12_is.data.toList.drop 68 = dktX12_is_3 := dk_seg dksX12_is_2 22 rfl rfl
theorem dX12_is_0 : decode cX12_is 0 = .ok (.iconst 0, 1) := dk_3 (dk_at dksX12_is_0 0 rfl rfl)
theorem dX12_is_1 : decode cX12_is 1 = .ok (.istore_n 2, 1) := dk_61 (dk_at dksX12_is_0 1 rfl rfl)
theorem dX12_is_2 : decode cX12_is 2 = .ok (.iconst 0, 1) := dk_3 (dk_at dksX12_is_0 2 rfl rfl)
theorem dX12_is_3 : decode cX12_is 3 = .ok (.istore_n 3, 1) := dk_62 (dk_at dksX12_is_0 3 rfl rfl)
theorem dX12_is_4 : decode cX12_is 4 = .ok (.iload_n 3, 1) := dk_29 (dk_at dksX12_is_0 4 rfl rfl)
theorem dX12_is_5 : decode cX12_is 5 = .ok (.aload_n 0, 1) := dk_42 (dk_at dksX12_is_0 5 rfl rfl)
theorem dX12_is_6 : decode cX12_is 6 = .ok (.getfield 13, 3) := dk_180 0 13 (dk_at dksX12_is_0 6 rfl rfl)
theorem dX12_is_9 : decode cX12_is 9 = .ok (.invokevirtual 17, 3) := dk_182 0 17 (dk_at dksX12_is_0 9 rfl rfl)
theorem dX12_is_12 : decode cX12_is 12 = .ok (.if_icmp .ge 37, 3) := dk_162 0 37 (dk_at dksX12_is_0 12 rfl rfl)
theorem dX12_is_15 : decode cX12_is 15 = .ok (.iload_n 2, 1) := dk_28 (dk_at dksX12_is_0 15 rfl rfl)
theorem dX12_is_16 : decode cX12_is 16 = .ok (.aload_n 0, 1) := dk_42 (dk_at dksX12_is_0 16 rfl rfl)
theorem dX12_is_17 : decode cX12_is 17 = .ok (.getfield 13, 3) := dk_180 0 13 (dk_at dksX12_is_0 17 rfl rfl)
theorem dX12_is_20 : decode cX12_is 20 = .ok (.iload_n 3, 1) := dk_29 (dk_at dksX12_is_0 20 rfl rfl)
theorem dX12_is_21 : decode cX12_is 21 = .ok (.invokevirtual 23, 3) := dk_182 0 23 (dk_at dksX12_is_0 21 rfl rfl)
theorem dX12_is_24 : decode cX12_is 24 = .ok (.checkcast 27, 3) := dk_192 0 27 (dk_at dksX12_is_1 0 rfl rfl)
theorem dX12_is_27 : decode cX12_is 27 = .ok (.aload_n 1, 1) := dk_43 (dk_at dksX12_is_1 3 rfl rfl)
theorem dX12_is_28 : decode cX12_is 28 = .ok (.invokeinterface 29 2, 5) := by decide +kernel
theorem dX12_is_33 : decode cX12_is 33 = .ok (.ifCond .eq 7, 3) := dk_153 0 7 (dk_at dksX12_is_1 9 rfl rfl)
theorem dX12_is_36 : decode cX12_is 36 = .ok (.iconst 1, 1) := dk_4 (dk_at dksX12_is_1 12 rfl rfl)
theorem dX12_is_37 : decode cX12_is 37 = .ok (.goto 4, 3) := dk_167 0 4 (dk_at dksX12_is_1 13 rfl rfl)
theorem dX12_is_40 : decode cX12_is 40 = .ok (.iconst 0, 1) := dk_3 (dk_at dksX12_is_1 16 rfl rfl)
theorem dX12_is_41 : decode cX12_is 41 = .ok (.iadd, 1) := dk_96 (dk_at dksX12_is_1 17 rfl rfl)
theorem dX12_is_42 : decode cX12_is 42 = .ok (.istore_n 2, 1) := dk_61 (dk_at dksX12_is_1 18 rfl rfl)
theorem dX12_is_43 : decode cX12_is 43 = .ok (.iinc 3 1, 3) := dk_132 3 1 (dk_at dksX12_is_1 19 rfl rfl)
theorem dX12_is_46 : decode cX12_is 46 = .ok (.goto (-42), 3) := dk_167 255 214 (dk_at dksX12_is_2 0 rfl rfl)
theorem dX12_is_49 : decode cX12_is 49 = .ok (.aload_n 0, 1) := dk_42 (dk_at dksX12_is_2 3 rfl rfl)
theorem dX12_is_50 : decode cX12_is 50 = .ok (.getfield 7, 3) := dk_180 0 7 (dk_at dksX12_is_2 4 rfl rfl)
theorem dX12_is_53 : decode cX12_is 53 = .ok (.ifCond .eq 22, 3) := dk_153 0 22 (dk_at dksX12_is_2 7 rfl rfl)
theorem dX12_is_56 : decode cX12_is 56 = .ok (.iload_n 2, 1) := dk_28 (dk_at dksX12_is_2 10 rfl rfl)
theorem dX12_is_57 : decode cX12_is 57 = .ok (.aload_n 0, 1) := dk_42 (dk_at dksX12_is_2 11 rfl rfl)
theorem dX12_is_58 : decode cX12_is 58 = .ok (.getfield 13, 3) := dk_180 0 13 (dk_at dksX12_is_2 12 rfl rfl)
theorem dX12_is_61 : decode cX12_is 61 = .ok (.invokevirtual 17, 3) := dk_182 0 17 (dk_at dksX12_is_2 15 rfl rfl)
theorem dX12_is_64 : decode cX12_is 64 = .ok (.if_icmp .ne 7, 3) := dk_160 0 7 (dk_at dksX12_is_2 18 rfl rfl)
theorem dX12_is_67 : decode cX12_is 67 = .ok (.iconst 1, 1) := dk_4 (dk_at dksX12_is_2 21 rfl rfl)
theorem dX12_is_68 : decode cX12_is 68 = .ok (.goto 16, 3) := dk_167 0 16 (dk_at dksX12_is_3 0 rfl rfl)
theorem dX12_is_71 : decode cX12_is 71 = .ok (.iconst 0, 1) := dk_3 (dk_at dksX12_is_3 3 rfl rfl)
theorem dX12_is_72 : decode cX12_is 72 = .ok (.goto 12, 3) := dk_167 0 12 (dk_at dksX12_is_3 4 rfl rfl)
theorem dX12_is_75 : decode cX12_is 75 = .ok (.iload_n 2, 1) := dk_28 (dk_at dksX12_is_3 7 rfl rfl)
theorem dX12_is_76 : decode cX12_is 76 = .ok (.ifCond .le 7, 3) := dk_158 0 7 (dk_at dksX12_is_3 8 rfl rfl)
theorem dX12_is_79 : decode cX12_is 79 = .ok (.iconst 1, 1) := dk_4 (dk_at dksX12_is_3 11 rfl rfl)
theorem dX12_is_80 : decode cX12_is 80 = .ok (.goto 4, 3) := dk_167 0 4 (dk_at dksX12_is_3 12 rfl rfl)
theorem dX12_is_83 : decode cX12_is 83 = .ok (.iconst 0, 1) := dk_3 (dk_at dksX12_is_3 15 rfl rfl)
theorem dX12_is_84 : decode cX12_is 84 = .ok (.ireturn, 1) := dk_172 (dk_at dksX12_is_3 16 rfl rfl)
theorem q123 : (Jvm.Cond.initialized "BreathOnLoan$All") ∈ lw_all := lw_g (lw_at lw_m1 28 rfl) rfl
theorem q581 : (Jvm.Cond.selects "BreathOnLoan$All" ({ cls := "java/lang/Object", name := "getClass", desc := "()Ljava/lang/Class;" } : Jvm.MethodName) ({ cls := "java/lang/Object", name := "getClass", desc := "()Ljava/lang/Class;" } : Jvm.MethodName)) ∈ lw_all := lw_g (lw_at lw_m3 6 rfl) rfl
theorem q710 : (Jvm.Cond.instantiable "BreathOnLoan$All" (2 : Nat)) ∈ lw_all := lw_g (lw_at lw_m3 135 rfl) rfl
theorem q712 : (Jvm.Cond.instanceMethod ({ cls := "BreathOnLoan$All", name := "<init>", desc := "(ZLjava/util/ArrayList;)V" } : Jvm.MethodName)) ∈ lw_all := lw_g (lw_at lw_m3 137 rfl) rfl
theorem q713 : (Jvm.Cond.code ({ cls := "BreathOnLoan$All", name := "<init>", desc := "(ZLjava/util/ArrayList;)V" } : Jvm.MethodName) prog_2_method_1_code (3 : Nat) (Option.none : Option Jvm.ClassFile.FieldType)) ∈ lw_all := lw_g (lw_at lw_m3 138 rfl) rfl
theorem q714 : (Jvm.Cond.methodLink "BreathOnLoan$All" (1 : Nat) ({ cls := "java/lang/Record", name := "<init>", desc := "()V" } : Jvm.MethodName)) ∈ lw_all := lw_g (lw_at lw_m3 139 rfl) rfl
theorem q715 : (Jvm.Cond.fieldLink "BreathOnLoan$All" (7 : Nat) "BreathOnLoan$All" "and" "Z") ∈ lw_all := lw_g (lw_at lw_m3 140 rfl) rfl
theorem q716 : (Jvm.Cond.fieldLink "BreathOnLoan$All" (13 : Nat) "BreathOnLoan$All" "of" "Ljava/util/ArrayList;") ∈ lw_all := lw_g (lw_at lw_m3 141 rfl) rfl
theorem q717 : (Jvm.Cond.laysFinal "BreathOnLoan$All" "BreathOnLoan$All" "and" "Z") ∈ lw_all := lw_g (lw_at lw_m3 142 rfl) rfl
theorem q718 : (Jvm.Cond.soleField "BreathOnLoan$All" "and") ∈ lw_all := lw_g (lw_at lw_m3 143 rfl) rfl
theorem q719 : (Jvm.Cond.laysFinal "BreathOnLoan$All" "BreathOnLoan$All" "of" "Ljava/util/ArrayList;") ∈ lw_all := lw_g (lw_at lw_m3 144 rfl) rfl
theorem q720 : (Jvm.Cond.soleField "BreathOnLoan$All" "of") ∈ lw_all := lw_g (lw_at lw_m3 145 rfl) rfl
theorem q721 : (Jvm.Cond.superclass "BreathOnLoan$All" "java/lang/Record") ∈ lw_all := lw_g (lw_at lw_m3 146 rfl) rfl
theorem q843 : (Jvm.Cond.castable "BreathOnLoan$All" "BreathOnLoan$Asked") ∈ lw_tbl := lw_at lw_m4 28 rfl
theorem q844 : (Jvm.Cond.selects "BreathOnLoan$All" ({ cls := "BreathOnLoan$Asked", name := "is", desc := "([I)Z" } : Jvm.MethodName) ({ cls := "BreathOnLoan$All", name := "is", desc := "([I)Z" } : Jvm.MethodName)) ∈ lw_all := lw_g (lw_at lw_m4 29 rfl) rfl
theorem q845 : (Jvm.Cond.unhidden "BreathOnLoan$All" "is" "([I)Z") ∈ lw_tbl := lw_at lw_m4 30 rfl
theorem q846 : (Jvm.Cond.instanceMethod ({ cls := "BreathOnLoan$All", name := "is", desc := "([I)Z" } : Jvm.MethodName)) ∈ lw_all := lw_g (lw_at lw_m4 31 rfl) rfl
theorem q847 : (Jvm.Cond.publicMethod ({ cls := "BreathOnLoan$All", name := "is", desc := "([I)Z" } : Jvm.MethodName)) ∈ lw_tbl := lw_at lw_m4 32 rfl
theorem q848 : (Jvm.Cond.code ({ cls := "BreathOnLoan$All", name := "is", desc := "([I)Z" } : Jvm.MethodName) prog_2_method_2_code (4 : Nat) (Option.some Jvm.ClassFile.FieldType.boolean)) ∈ lw_all := lw_g (lw_at lw_m4 33 rfl) rfl
theorem q849 : (Jvm.Cond.methodLink "BreathOnLoan$All" (17 : Nat) ({ cls := "java/util/ArrayList", name := "size", desc := "()I" } : Jvm.MethodName)) ∈ lw_all := lw_g (lw_at lw_m4 34 rfl) rfl
theorem q850 : (Jvm.Cond.methodLink "BreathOnLoan$All" (23 : Nat) ({ cls := "java/util/ArrayList", name := "get", desc := "(I)Ljava/lang/Object;" } : Jvm.MethodName)) ∈ lw_all := lw_g (lw_at lw_m4 35 rfl) rfl
theorem q851 : (Jvm.Cond.classLink "BreathOnLoan$All" (27 : Nat) "BreathOnLoan$Asked") ∈ lw_all := lw_g (lw_at lw_m4 36 rfl) rfl
theorem q852 : (Jvm.Cond.interfaceEntry "BreathOnLoan$All" (29 : Nat)) ∈ lw_tbl := lw_at lw_m4 37 rfl
theorem q853 : (Jvm.Cond.methodLink "BreathOnLoan$All" (29 : Nat) ({ cls := "BreathOnLoan$Asked", name := "is", desc := "([I)Z" } : Jvm.MethodName)) ∈ lw_all := lw_g (lw_at lw_m4 38 rfl) rfl
theorem q1631 : (Jvm.Cond.castable "BreathOnLoan$All" "java/lang/Object") ∈ lw_tbl := lw_at lw_m7 96 rfl
theorem in_X12 : ∀ w ∈ wsX120, w ∈ lw_all := lw_in wsX120 [717, 719] (by decide +kernel) (by decide +kernel)
/-! BreathOnLoan$If -/
set_option maxRecDepth 100000
def RX13 : String := "BreathOnLoan$If"
def TX13 : u_T := fun k => match k with
  | 0 => ("BreathOnLoan$If", "when", "LBreathOnLoan$Asked;", true)
  | 1 => ("BreathOnLoan$If", "yes", "LBreathOnLoan$Sum;", true)
  | _ => ("BreathOnLoan$If", "no", "LBreathOnLoan$Sum;", true)
def tyX13 : Nat → FieldType := fun k => match k with
  | 0 => .object "BreathOnLoan$Asked"
  | 1 => .object "BreathOnLoan$Sum"
  | _ => .object "BreathOnLoan$Sum"
abbrev wsX130 : List Cond := u_ws RX13 TX13 3
theorem nmX13 : ∀ a, a < 3 → ∀ b, b < 3 → a ≠ b → (TX13 a).2.1 ≠ (TX13 b).2.1 := by decide +kernel
theorem tyX13_ok : ∀ k, k < 3 → parseFieldDescriptor (TX13 k).2.2.1 = some (tyX13 k) := by decide +kernel
abbrev cX13_init : ByteArray := prog_7_method_1_code
def yX13_init : MethodName := ⟨RX13, "<init>", "(LBreathOnLoan$Asked;LBreathOnLoan$Sum;LBreathOnLoan$Sum;)V"⟩
def dkwX13_init_0 : List UInt8 := [42, 183, 0, 1, 42, 43, 181, 0, 7, 42, 44, 181, 0, 13, 42, 45, 181, 0, 17, 177]
abbrev dktX13_init_0 : List UInt8 := dkwX13_init_0 ++ []
theorem dksX13_init_0 : cX13_init.data.toList.drop 0 = dktX13_init_0 := by decide +kernel
theorem dX13_init_0 : decode cX13_init 0 = .ok (.aload_n 0, 1) := dk_42 (dk_at dksX13_init_0 0 rfl rfl)
theorem dX13_init_1 : decode cX13_init 1 = .ok (.invokespecial 1, 3) := dk_183 0 1 (dk_at dksX13_init_0 1 rfl rfl)
theorem dX13_init_4 : decode cX13_init 4 = .ok (.aload_n 0, 1) := dk_42 (dk_at dksX13_init_0 4 rfl rfl)
theorem dX13_init_5 : decode cX13_init 5 = .ok (.aload_n 1, 1) := dk_43 (dk_at dksX13_init_0 5 rfl rfl)
theorem dX13_init_6 : decode cX13_init 6 = .ok (.putfield 7, 3) := dk_181 0 7 (dk_at dksX13_init_0 6 rfl rfl)
theorem dX13_init_9 : decode cX13_init 9 = .ok (.aload_n 0, 1) := dk_42 (dk_at dksX13_init_0 9 rfl rfl)
theorem dX13_init_10 : decode cX13_init 10 = .ok (.aload_n 2, 1) := dk_44 (dk_at dksX13_init_0 10 rfl rfl)
theorem dX13_init_11 : decode cX13_init 11 = .ok (.putfield 13, 3) := dk_181 0 13 (dk_at dksX13_init_0 11 rfl rfl)
theorem dX13_init_14 : decode cX13_init 14 = .ok (.aload_n 0, 1) := dk_42 (dk_at dksX13_init_0 14 rfl rfl)
theorem dX13_init_15 : decode cX13_init 15 = .ok (.aload_n 3, 1) := dk_45 (dk_at dksX13_init_0 15 rfl rfl)
theorem dX13_init_16 : decode cX13_init 16 = .ok (.putfield 17, 3) := dk_181 0 17 (dk_at dksX13_init_0 16 rfl rfl)
theorem dX13_init_19 : decode cX13_init 19 = .ok (.return_, 1) := dk_177 (dk_at dksX13_init_0 19 rfl rfl)
abbrev cX13_of : ByteArray := prog_7_method_2_code
def yX13_of : MethodName := ⟨RX13, "of", "([I)J"⟩
def dkwX13_of_1 : List UInt8 := [167, 0, 13, 42, 180, 0, 17, 43, 185, 0, 26, 2, 0, 173]
abbrev dktX13_of_1 : List UInt8 := dkwX13_of_1 ++ []
def dkwX13_of_0 : List UInt8 := [42, 180, 0, 7, 43, 185, 0, 20, 2, 0, 153, 0, 16, 42, 180, 0, 13, 43, 185, 0, 26, 2, 0]
abbrev dktX13_of_0 : List UInt8 := dkwX13_of_0 ++ dktX13_of_1
theorem dksX13_of_0 : cX13_of.data.toList.drop 0 = dktX13_of_0 := by decide +kernel
theorem dksX13_of_1 : cX13_of.data.toList.drop 23 = dktX13_of_1 := dk_seg dksX13_of_0 23 rfl rfl
theorem dX13_of_0 : decode cX13_of 0 = .ok (.aload_n 0, 1) := dk_42 (dk_at dksX13_of_0 0 rfl rfl)
theorem dX13_of_1 : decode cX13_of 1 = .ok (.getfield 7, 3) := dk_180 0 7 (dk_at dksX13_of_0 1 rfl rfl)
theorem dX13_of_4 : decode cX13_of 4 = .ok (.aload_n 1, 1) := dk_43 (dk_at dksX13_of_0 4 rfl rfl)
theorem dX13_of_5 : decode cX13_of 5 = .ok (.invokeinterface 20 2, 5) := by decide +kernel
theorem dX13_of_10 : decode cX13_of 10 = .ok (.ifCond .eq 16, 3) := dk_153 0 16 (dk_at dksX13_of_0 10 rfl rfl)
theorem dX13_of_13 : decode cX13_of 13 = .ok (.aload_n 0, 1) := dk_42 (dk_at dksX13_of_0 13 rfl rfl)
theorem dX13_of_14 : decode cX13_of 14 = .ok (.getfield 13, 3) := dk_180 0 13 (dk_at dksX13_of_0 14 rfl rfl)
theorem dX13_of_17 : decode cX13_of 17 = .ok (.aload_n 1, 1) := dk_43 (dk_at dksX13_of_0 17 rfl rfl)
theorem dX13_of_18 : decode cX13_of 18 = .ok (.invokeinterface 26 2, 5) := by decide +kernel
theorem dX13_of_23 : decode cX13_of 23 = .ok (.goto 13, 3) := dk_167 0 13 (dk_at dksX13_of_1 0 rfl rfl)
theorem dX13_of_26 : decode cX13_of 26 = .ok (.aload_n 0, 1) := dk_42 (dk_at dksX13_of_1 3 rfl rfl)
theorem dX13_of_27 : decode cX13_of 27 = .ok (.getfield 17, 3) := dk_180 0 17 (dk_at dksX13_of_1 4 rfl rfl)
theorem dX13_of_30 : decode cX13_of 30 = .ok (.aload_n 1, 1) := dk_43 (dk_at dksX13_of_1 7 rfl rfl)
theorem dX13_of_31 : decode cX13_of 31 = .ok (.invokeinterface 26 2, 5) := by decide +kernel
theorem dX13_of_36 : decode cX13_of 36 = .ok (.lreturn, 1) := dk_173 (dk_at dksX13_of_1 13 rfl rfl)
theorem q124 : (Jvm.Cond.initialized "BreathOnLoan$If") ∈ lw_all := lw_g (lw_at lw_m1 29 rfl) rfl
theorem q585 : (Jvm.Cond.selects "BreathOnLoan$If" ({ cls := "java/lang/Object", name := "getClass", desc := "()Ljava/lang/Class;" } : Jvm.MethodName) ({ cls := "java/lang/Object", name := "getClass", desc := "()Ljava/lang/Class;" } : Jvm.MethodName)) ∈ lw_all := lw_g (lw_at lw_m3 10 rfl) rfl
theorem q723 : (Jvm.Cond.instantiable "BreathOnLoan$If" (3 : Nat)) ∈ lw_all := lw_g (lw_at lw_m3 148 rfl) rfl
theorem q725 : (Jvm.Cond.instanceMethod ({ cls := "BreathOnLoan$If", name := "<init>", desc := "(LBreathOnLoan$Asked;LBreathOnLoan$Sum;LBreathOnLoan$Sum;)V" } : Jvm.MethodName)) ∈ lw_all := lw_g (lw_at lw_m3 150 rfl) rfl
theorem q726 : (Jvm.Cond.code ({ cls := "BreathOnLoan$If", name := "<init>", desc := "(LBreathOnLoan$Asked;LBreathOnLoan$Sum;LBreathOnLoan$Sum;)V" } : Jvm.MethodName) prog_7_method_1_code (4 : Nat) (Option.none : Option Jvm.ClassFile.FieldType)) ∈ lw_all := lw_g (lw_at lw_m3 151 rfl) rfl
theorem q727 : (Jvm.Cond.methodLink "BreathOnLoan$If" (1 : Nat) ({ cls := "java/lang/Record", name := "<init>", desc := "()V" } : Jvm.MethodName)) ∈ lw_all := lw_g (lw_at lw_m3 152 rfl) rfl
theorem q728 : (Jvm.Cond.fieldLink "BreathOnLoan$If" (7 : Nat) "BreathOnLoan$If" "when" "LBreathOnLoan$Asked;") ∈ lw_all := lw_g (lw_at lw_m3 153 rfl) rfl
theorem q729 : (Jvm.Cond.fieldLink "BreathOnLoan$If" (13 : Nat) "BreathOnLoan$If" "yes" "LBreathOnLoan$Sum;") ∈ lw_all := lw_g (lw_at lw_m3 154 rfl) rfl
theorem q730 : (Jvm.Cond.fieldLink "BreathOnLoan$If" (17 : Nat) "BreathOnLoan$If" "no" "LBreathOnLoan$Sum;") ∈ lw_all := lw_g (lw_at lw_m3 155 rfl) rfl
theorem q731 : (Jvm.Cond.laysFinal "BreathOnLoan$If" "BreathOnLoan$If" "when" "LBreathOnLoan$Asked;") ∈ lw_all := lw_g (lw_at lw_m3 156 rfl) rfl
theorem q732 : (Jvm.Cond.soleField "BreathOnLoan$If" "when") ∈ lw_all := lw_g (lw_at lw_m3 157 rfl) rfl
theorem q733 : (Jvm.Cond.laysFinal "BreathOnLoan$If" "BreathOnLoan$If" "yes" "LBreathOnLoan$Sum;") ∈ lw_all := lw_g (lw_at lw_m3 158 rfl) rfl
theorem q734 : (Jvm.Cond.soleField "BreathOnLoan$If" "yes") ∈ lw_all := lw_g (lw_at lw_m3 159 rfl) rfl
theorem q735 : (Jvm.Cond.laysFinal "BreathOnLoan$If" "BreathOnLoan$If" "no" "LBreathOnLoan$Sum;") ∈ lw_all := lw_g (lw_at lw_m3 160 rfl) rfl
theorem q736 : (Jvm.Cond.soleField "BreathOnLoan$If" "no") ∈ lw_all := lw_g (lw_at lw_m3 161 rfl) rfl
theorem q737 : (Jvm.Cond.superclass "BreathOnLoan$If" "java/lang/Record") ∈ lw_all := lw_g (lw_at lw_m3 162 rfl) rfl
theorem q833 : (Jvm.Cond.castable "BreathOnLoan$If" "BreathOnLoan$Sum") ∈ lw_tbl := lw_at lw_m4 18 rfl
theorem q834 : (Jvm.Cond.selects "BreathOnLoan$If" ({ cls := "BreathOnLoan$Sum", name := "of", desc := "([I)J" } : Jvm.MethodName) ({ cls := "BreathOnLoan$If", name := "of", desc := "([I)J" } : Jvm.MethodName)) ∈ lw_all := lw_g (lw_at lw_m4 19 rfl) rfl
theorem q835 : (Jvm.Cond.unhidden "BreathOnLoan$If" "of" "([I)J") ∈ lw_tbl := lw_at lw_m4 20 rfl
theorem q836 : (Jvm.Cond.instanceMethod ({ cls := "BreathOnLoan$If", name := "of", desc := "([I)J" } : Jvm.MethodName)) ∈ lw_all := lw_g (lw_at lw_m4 21 rfl) rfl
theorem q837 : (Jvm.Cond.publicMethod ({ cls := "BreathOnLoan$If", name := "of", desc := "([I)J" } : Jvm.MethodName)) ∈ lw_tbl := lw_at lw_m4 22 rfl
theorem q838 : (Jvm.Cond.code ({ cls := "BreathOnLoan$If", name := "of", desc := "([I)J" } : Jvm.MethodName) prog_7_method_2_code (2 : Nat) (Option.some Jvm.ClassFile.FieldType.long)) ∈ lw_all := lw_g (lw_at lw_m4 23 rfl) rfl
theorem q839 : (Jvm.Cond.interfaceEntry "BreathOnLoan$If" (20 : Nat)) ∈ lw_tbl := lw_at lw_m4 24 rfl
theorem q840 : (Jvm.Cond.methodLink "BreathOnLoan$If" (20 : Nat) ({ cls := "BreathOnLoan$Asked", name := "is", desc := "([I)Z" } : Jvm.MethodName)) ∈ lw_all := lw_g (lw_at lw_m4 25 rfl) rfl
theorem q890 : (Jvm.Cond.interfaceEntry "BreathOnLoan$If" (26 : Nat)) ∈ lw_tbl := lw_at lw_m4 75 rfl
theorem q891 : (Jvm.Cond.methodLink "BreathOnLoan$If" (26 : Nat) ({ cls := "BreathOnLoan$Sum", name := "of", desc := "([I)J" } : Jvm.MethodName)) ∈ lw_all := lw_g (lw_at lw_m4 76 rfl) rfl
theorem q1632 : (Jvm.Cond.castable "BreathOnLoan$If" "java/lang/Object") ∈ lw_tbl := lw_at lw_m7 97 rfl
theorem in_X13 : ∀ w ∈ wsX130, w ∈ lw_all := lw_in wsX130 [731, 733, 735] (by decide +kernel) (by decide +kernel)
/-! BreathOnLoan$Minus -/
set_option maxRecDepth 100000
def RX14 : String := "BreathOnLoan$Minus"
def TX14 : u_T := fun k => match k with
  | _ => ("BreathOnLoan$Minus", "x", "LBreathOnLoan$Sum;", true)
def tyX14 : Nat → FieldType := fun k => match k with
  | _ => .object "BreathOnLoan$Sum"
abbrev wsX140 : List Cond := u_ws RX14 TX14 1
theorem nmX14 : ∀ a, a < 1 → ∀ b, b < 1 → a ≠ b → (TX14 a).2.1 ≠ (TX14 b).2.1 := by decide +kernel
theorem tyX14_ok : ∀ k, k < 1 → parseFieldDescriptor (TX14 k).2.2.1 = some (tyX14 k) := by decide +kernel
abbrev cX14_init : ByteArray := prog_8_method_1_code
def yX14_init : MethodName := ⟨RX14, "<init>", "(LBreathOnLoan$Sum;)V"⟩
def dkwX14_init_0 : List UInt8 := [42, 183, 0, 1, 42, 43, 181, 0, 7, 177]
abbrev dktX14_init_0 : List UInt8 := dkwX14_init_0 ++ []
theorem dksX14_init_0 : cX14_init.data.toList.drop 0 = dktX14_init_0 := by decide +kernel
theorem dX14_init_0 : decode cX14_init 0 = .ok (.aload_n 0, 1) := dk_42 (dk_at dksX14_init_0 0 rfl rfl)
theorem dX14_init_1 : decode cX14_init 1 = .ok (.invokespecial 1, 3) := dk_183 0 1 (dk_at dksX14_init_0 1 rfl rfl)
theorem dX14_init_4 : decode cX14_init 4 = .ok (.aload_n 0, 1) := dk_42 (dk_at dksX14_init_0 4 rfl rfl)
theorem dX14_init_5 : decode cX14_init 5 = .ok (.aload_n 1, 1) := dk_43 (dk_at dksX14_init_0 5 rfl rfl)
theorem dX14_init_6 : decode cX14_init 6 = .ok (.putfield 7, 3) := dk_181 0 7 (dk_at dksX14_init_0 6 rfl rfl)
theorem dX14_init_9 : decode cX14_init 9 = .ok (.return_, 1) := dk_177 (dk_at dksX14_init_0 9 rfl rfl)
abbrev cX14_of : ByteArray := prog_8_method_2_code
def yX14_of : MethodName := ⟨RX14, "of", "([I)J"⟩
def dkwX14_of_0 : List UInt8 := [42, 180, 0, 7, 43, 185, 0, 13, 2, 0, 117, 173]
abbrev dktX14_of_0 : List UInt8 := dkwX14_of_0 ++ []
theorem dksX14_of_0 : cX14_of.data.toList.drop 0 = dktX14_of_0 := by decide +kernel
theorem dX14_of_0 : decode cX14_of 0 = .ok (.aload_n 0, 1) := dk_42 (dk_at dksX14_of_0 0 rfl rfl)
theorem dX14_of_1 : decode cX14_of 1 = .ok (.getfield 7, 3) := dk_180 0 7 (dk_at dksX14_of_0 1 rfl rfl)
theorem dX14_of_4 : decode cX14_of 4 = .ok (.aload_n 1, 1) := dk_43 (dk_at dksX14_of_0 4 rfl rfl)
theorem dX14_of_5 : decode cX14_of 5 = .ok (.invokeinterface 13 2, 5) := by decide +kernel
theorem dX14_of_10 : decode cX14_of 10 = .ok (.lneg, 1) := dk_117 (dk_at dksX14_of_0 10 rfl rfl)
theorem dX14_of_11 : decode cX14_of 11 = .ok (.lreturn, 1) := dk_173 (dk_at dksX14_of_0 11 rfl rfl)
theorem q125 : (Jvm.Cond.initialized "BreathOnLoan$Minus") ∈ lw_all := lw_g (lw_at lw_m1 30 rfl) rfl
theorem q586 : (Jvm.Cond.selects "BreathOnLoan$Minus" ({ cls := "java/lang/Object", name := "getClass", desc := "()Ljava/lang/Class;" } : Jvm.MethodName) ({ cls := "java/lang/Object", name := "getClass", desc := "()Ljava/lang/Class;" } : Jvm.MethodName)) ∈ lw_all := lw_g (lw_at lw_m3 11 rfl) rfl
theorem q739 : (Jvm.Cond.instantiable "BreathOnLoan$Minus" (1 : Nat)) ∈ lw_all := lw_g (lw_at lw_m3 164 rfl) rfl
theorem q741 : (Jvm.Cond.instanceMethod ({ cls := "BreathOnLoan$Minus", name := "<init>", desc := "(LBreathOnLoan$Sum;)V" } : Jvm.MethodName)) ∈ lw_all := lw_g (lw_at lw_m3 166 rfl) rfl
theorem q742 : (Jvm.Cond.code ({ cls := "BreathOnLoan$Minus", name := "<init>", desc := "(LBreathOnLoan$Sum;)V" } : Jvm.MethodName) prog_8_method_1_code (2 : Nat) (Option.none : Option Jvm.ClassFile.FieldType)) ∈ lw_all := lw_g (lw_at lw_m3 167 rfl) rfl
theorem q743 : (Jvm.Cond.methodLink "BreathOnLoan$Minus" (1 : Nat) ({ cls := "java/lang/Record", name := "<init>", desc := "()V" } : Jvm.MethodName)) ∈ lw_all := lw_g (lw_at lw_m3 168 rfl) rfl
theorem q744 : (Jvm.Cond.fieldLink "BreathOnLoan$Minus" (7 : Nat) "BreathOnLoan$Minus" "x" "LBreathOnLoan$Sum;") ∈ lw_all := lw_g (lw_at lw_m3 169 rfl) rfl
theorem q745 : (Jvm.Cond.laysFinal "BreathOnLoan$Minus" "BreathOnLoan$Minus" "x" "LBreathOnLoan$Sum;") ∈ lw_all := lw_g (lw_at lw_m3 170 rfl) rfl
theorem q746 : (Jvm.Cond.soleField "BreathOnLoan$Minus" "x") ∈ lw_all := lw_g (lw_at lw_m3 171 rfl) rfl
theorem q747 : (Jvm.Cond.superclass "BreathOnLoan$Minus" "java/lang/Record") ∈ lw_all := lw_g (lw_at lw_m3 172 rfl) rfl
theorem q862 : (Jvm.Cond.castable "BreathOnLoan$Minus" "BreathOnLoan$Sum") ∈ lw_tbl := lw_at lw_m4 47 rfl
theorem q863 : (Jvm.Cond.selects "BreathOnLoan$Minus" ({ cls := "BreathOnLoan$Sum", name := "of", desc := "([I)J" } : Jvm.MethodName) ({ cls := "BreathOnLoan$Minus", name := "of", desc := "([I)J" } : Jvm.MethodName)) ∈ lw_all := lw_g (lw_at lw_m4 48 rfl) rfl
theorem q864 : (Jvm.Cond.unhidden "BreathOnLoan$Minus" "of" "([I)J") ∈ lw_tbl := lw_at lw_m4 49 rfl
theorem q865 : (Jvm.Cond.instanceMethod ({ cls := "BreathOnLoan$Minus", name := "of", desc := "([I)J" } : Jvm.MethodName)) ∈ lw_all := lw_g (lw_at lw_m4 50 rfl) rfl
theorem q866 : (Jvm.Cond.publicMethod ({ cls := "BreathOnLoan$Minus", name := "of", desc := "([I)J" } : Jvm.MethodName)) ∈ lw_tbl := lw_at lw_m4 51 rfl
theorem q867 : (Jvm.Cond.code ({ cls := "BreathOnLoan$Minus", name := "of", desc := "([I)J" } : Jvm.MethodName) prog_8_method_2_code (2 : Nat) (Option.some Jvm.ClassFile.FieldType.long)) ∈ lw_all := lw_g (lw_at lw_m4 52 rfl) rfl
theorem q868 : (Jvm.Cond.interfaceEntry "BreathOnLoan$Minus" (13 : Nat)) ∈ lw_tbl := lw_at lw_m4 53 rfl
theorem q869 : (Jvm.Cond.methodLink "BreathOnLoan$Minus" (13 : Nat) ({ cls := "BreathOnLoan$Sum", name := "of", desc := "([I)J" } : Jvm.MethodName)) ∈ lw_all := lw_g (lw_at lw_m4 54 rfl) rfl
theorem q1633 : (Jvm.Cond.castable "BreathOnLoan$Minus" "java/lang/Object") ∈ lw_tbl := lw_at lw_m7 98 rfl
theorem in_X14 : ∀ w ∈ wsX140, w ∈ lw_all := lw_in wsX140 [745] (by decide +kernel) (by decide +kernel)
