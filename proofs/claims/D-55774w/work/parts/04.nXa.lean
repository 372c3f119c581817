/-! VowelTorus -/
set_option maxRecDepth 100000
def RX1 : String := "VowelTorus"
def TX1 : u_T := fun k => match k with
  | 0 => ("VowelTorus", "puzzle", "LVowelTorus$Puzzle;", true)
  | 1 => ("VowelTorus", "tried", "LVowelTorus$Puzzle;", true)
  | 2 => ("VowelTorus", "saved", "LVowelTorus$Puzzle;", true)
  | 3 => ("VowelTorus", "hasSaved", "Z", false)
  | 4 => ("VowelTorus", "past", "LVowelTorus$Past;", true)
  | 5 => ("VowelTorus", "buffer", "Ljava/lang/StringBuilder;", true)
  | 6 => ("VowelTorus", "line", "Ljava/lang/StringBuilder;", true)
  | 7 => ("VowelTorus", "reader", "LVowelTorus$Reader;", true)
  | 8 => ("VowelTorus", "fault", "I", false)
  | 9 => ("VowelTorus", "refused", "I", false)
  | _ => ("VowelTorus", "detail", "I", false)
def tyX1 : Nat → FieldType := fun k => match k with
  | 0 => .object "VowelTorus$Puzzle"
  | 1 => .object "VowelTorus$Puzzle"
  | 2 => .object "VowelTorus$Puzzle"
  | 3 => .boolean
  | 4 => .object "VowelTorus$Past"
  | 5 => .object "java/lang/StringBuilder"
  | 6 => .object "java/lang/StringBuilder"
  | 7 => .object "VowelTorus$Reader"
  | 8 => .int
  | 9 => .int
  | _ => .int
abbrev wsX10 : List Cond := u_ws RX1 TX1 11
theorem nmX1 : ∀ a, a < 11 → ∀ b, b < 11 → a ≠ b → (TX1 a).2.1 ≠ (TX1 b).2.1 := by decide +kernel
theorem tyX1_ok : ∀ k, k < 11 → parseFieldDescriptor (TX1 k).2.2.1 = some (tyX1 k) := by decide +kernel
abbrev cX1_init : ByteArray := prog_1_method_7_code
def yX1_init : MethodName := ⟨RX1, "<init>", "()V"⟩
def dkwX1_init_5 : List UInt8 := [132, 1, 1, 167, 255, 232, 177]
abbrev dktX1_init_5 : List UInt8 := dkwX1_init_5 ++ []
def dkwX1_init_4 : List UInt8 := [60, 27, 16, 8, 162, 0, 24, 42, 180, 0, 34, 187, 0, 18, 89, 183, 0, 20, 182, 0, 61, 77]
abbrev dktX1_init_4 : List UInt8 := dkwX1_init_4 ++ dktX1_init_5
def dkwX1_init_3 : List UInt8 := [181, 0, 45, 42, 187, 0, 48, 89, 42, 180, 0, 41, 183, 0, 50, 181, 0, 53, 42, 2, 181, 0, 57, 3]
abbrev dktX1_init_3 : List UInt8 := dkwX1_init_3 ++ dktX1_init_4
def dkwX1_init_2 : List UInt8 := [181, 0, 34, 42, 187, 0, 38, 89, 183, 0, 40, 181, 0, 41, 42, 187, 0, 38, 89, 183, 0, 40]
abbrev dktX1_init_2 : List UInt8 := dkwX1_init_2 ++ dktX1_init_3
def dkwX1_init_1 : List UInt8 := [181, 0, 25, 42, 187, 0, 18, 89, 183, 0, 20, 181, 0, 28, 42, 187, 0, 31, 89, 183, 0, 33]
abbrev dktX1_init_1 : List UInt8 := dkwX1_init_1 ++ dktX1_init_2
def dkwX1_init_0 : List UInt8 := [42, 183, 0, 13, 42, 187, 0, 18, 89, 183, 0, 20, 181, 0, 21, 42, 187, 0, 18, 89, 183, 0, 20]
abbrev dktX1_init_0 : List UInt8 := dkwX1_init_0 ++ dktX1_init_1
theorem dksX1_init_0 : cX1_init.data.toList.drop 0 = dktX1_init_0 := by decide +kernel
theorem dksX1_init_1 : cX1_init.data.toList.drop 23 = dktX1_init_1 := dk_seg dksX1_init_0 23 rfl rfl
theorem dksX1_init_2 : cX1_init.data.toList.drop 45 = dktX1_init_2 := dk_seg dksX1_init_1 22 rfl rfl
theorem dksX1_init_3 : cX1_init.data.toList.drop 67 = dktX1_init_3 := dk_seg dksX1_init_2 22 rfl rfl
theorem dksX1_init_4 : cX1_init.data.toList.drop 91 = dktX1_init_4 := dk_seg dksX1_init_3 24 rfl rfl
theorem dksX1_init_5 : cX1_init.data.toList.drop 113 = dktX1_init_5 := dk_seg dksX1_init_4 22 rfl rfl
theorem dX1_init_0 : decode cX1_init 0 = .ok (.aload_n 0, 1) := dk_42 (dk_at dksX1_init_0 0 rfl rfl)
theorem dX1_init_1 : decode cX1_init 1 = .ok (.invokespecial 13, 3) := dk_183 0 13 (dk_at dksX1_init_0 1 rfl rfl)
theorem dX1_init_4 : decode cX1_init 4 = .ok (.aload_n 0, 1) := dk_42 (dk_at dksX1_init_0 4 rfl rfl)
theorem dX1_init_5 : decode cX1_init 5 = .ok (.new 18, 3) := dk_187 0 18 (dk_at dksX1_init_0 5 rfl rfl)
theorem dX1_init_8 : decode cX1_init 8 = .ok (.dup, 1) := dk_89 (dk_at dksX1_init_0 8 rfl rfl)
theorem dX1_init_9 : decode cX1_init 9 = .ok (.invokespecial 20, 3) := dk_183 0 20 (dk_at dksX1_init_0 9 rfl rfl)
theorem dX1_init_12 : decode cX1_init 12 = .ok (.putfield 21, 3) := dk_181 0 21 (dk_at dksX1_init_0 12 rfl rfl)
theorem dX1_init_15 : decode cX1_init 15 = .ok (.aload_n 0, 1) := dk_42 (dk_at dksX1_init_0 15 rfl rfl)
theorem dX1_init_16 : decode cX1_init 16 = .ok (.new 18, 3) := dk_187 0 18 (dk_at dksX1_init_0 16 rfl rfl)
theorem dX1_init_19 : decode cX1_init 19 = .ok (.dup, 1) := dk_89 (dk_at dksX1_init_0 19 rfl rfl)
theorem dX1_init_20 : decode cX1_init 20 = .ok (.invokespecial 20, 3) := dk_183 0 20 (dk_at dksX1_init_0 20 rfl rfl)
theorem dX1_init_23 : decode cX1_init 23 = .ok (.putfield 25, 3) := dk_181 0 25 (dk_at dksX1_init_1 0 rfl rfl)
theorem dX1_init_26 : decode cX1_init 26 = .ok (.aload_n 0, 1) := dk_42 (dk_at dksX1_init_1 3 rfl rfl)
theorem dX1_init_27 : decode cX1_init 27 = .ok (.new 18, 3) := dk_187 0 18 (dk_at dksX1_init_1 4 rfl rfl)
theorem dX1_init_30 : decode cX1_init 30 = .ok (.dup, 1) := dk_89 (dk_at dksX1_init_1 7 rfl rfl)
theorem dX1_init_31 : decode cX1_init 31 = .ok (.invokespecial 20, 3) := dk_183 0 20 (dk_at dksX1_init_1 8 rfl rfl)
theorem dX1_init_34 : decode cX1_init 34 = .ok (.putfield 28, 3) := dk_181 0 28 (dk_at dksX1_init_1 11 rfl rfl)
theorem dX1_init_37 : decode cX1_init 37 = .ok (.aload_n 0, 1) := dk_42 (dk_at dksX1_init_1 14 rfl rfl)
theorem dX1_init_38 : decode cX1_init 38 = .ok (.new 31, 3) := dk_187 0 31 (dk_at dksX1_init_1 15 rfl rfl)
theorem dX1_init_41 : decode cX1_init 41 = .ok (.dup, 1) := dk_89 (dk_at dksX1_init_1 18 rfl rfl)
theorem dX1_init_42 : decode cX1_init 42 = .ok (.invokespecial 33, 3) := dk_183 0 33 (dk_at dksX1_init_1 19 rfl rfl)
theorem dX1_init_45 : decode cX1_init 45 = .ok (.putfield 34, 3) := dk_181 0 34 (dk_at dksX1_init_2 0 rfl rfl)
theorem dX1_init_48 : decode cX1_init 48 = .ok (.aload_n 0, 1) := dk_42 (dk_at dksX1_init_2 3 rfl rfl)
theorem dX1_init_49 : decode cX1_init 49 = .ok (.new 38, 3) := dk_187 0 38 (dk_at dksX1_init_2 4 rfl rfl)
theorem dX1_init_52 : decode cX1_init 52 = .ok (.dup, 1) := dk_89 (dk_at dksX1_init_2 7 rfl rfl)
theorem dX1_init_53 : decode cX1_init 53 = .ok (.invokespecial 40, 3) := dk_183 0 40 (dk_at dksX1_init_2 8 rfl rfl)
theorem dX1_init_56 : decode cX1_init 56 = .ok (.putfield 41, 3) := dk_181 0 41 (dk_at dksX1_init_2 11 rfl rfl)
theorem dX1_init_59 : decode cX1_init 59 = .ok (.aload_n 0, 1) := dk_42 (dk_at dksX1_init_2 14 rfl rfl)
theorem dX1_init_60 : decode cX1_init 60 = .ok (.new 38, 3) := dk_187 0 38 (dk_at dksX1_init_2 15 rfl rfl)
theorem dX1_init_63 : decode cX1_init 63 = .ok (.dup, 1) := dk_89 (dk_at dksX1_init_2 18 rfl rfl)
theorem dX1_init_64 : decode cX1_init 64 = .ok (.invokespecial 40, 3) := dk_183 0 40 (dk_at dksX1_init_2 19 rfl rfl)
theorem dX1_init_67 : decode cX1_init 67 = .ok (.putfield 45, 3) := dk_181 0 45 (dk_at dksX1_init_3 0 rfl rfl)
theorem dX1_init_70 : decode cX1_init 70 = .ok (.aload_n 0, 1) := dk_42 (dk_at dksX1_init_3 3 rfl rfl)
theorem dX1_init_71 : decode cX1_init 71 = .ok (.new 48, 3) := dk_187 0 48 (dk_at dksX1_init_3 4 rfl rfl)
theorem dX1_init_74 : decode cX1_init 74 = .ok (.dup, 1) := dk_89 (dk_at dksX1_init_3 7 rfl rfl)
theorem dX1_init_75 : decode cX1_init 75 = .ok (.aload_n 0, 1) := dk_42 (dk_at dksX1_init_3 8 rfl rfl)
theorem dX1_init_76 : decode cX1_init 76 = .ok (.getfield 41, 3) := dk_180 0 41 (dk_at dksX1_init_3 9 rfl rfl)
theorem dX1_init_79 : decode cX1_init 79 = .ok (.invokespecial 50, 3) := dk_183 0 50 (dk_at dksX1_init_3 12 rfl rfl)
theorem dX1_init_82 : decode cX1_init 82 = .ok (.putfield 53, 3) := dk_181 0 53 (dk_at dksX1_init_3 15 rfl rfl)
theorem dX1_init_85 : decode cX1_init 85 = .ok (.aload_n 0, 1) := dk_42 (dk_at dksX1_init_3 18 rfl rfl)
theorem dX1_init_86 : decode cX1_init 86 = .ok (.iconst (-1), 1) := dk_2 (dk_at dksX1_init_3 19 rfl rfl)
theorem dX1_init_87 : decode cX1_init 87 = .ok (.putfield 57, 3) := dk_181 0 57 (dk_at dksX1_init_3 20 rfl rfl)
theorem dX1_init_90 : decode cX1_init 90 = .ok (.iconst 0, 1) := dk_3 (dk_at dksX1_init_3 23 rfl rfl)
theorem dX1_init_91 : decode cX1_init 91 = .ok (.istore_n 1, 1) := dk_60 (dk_at dksX1_init_4 0 rfl rfl)
theorem dX1_init_92 : decode cX1_init 92 = .ok (.iload_n 1, 1) := dk_27 (dk_at dksX1_init_4 1 rfl rfl)
theorem dX1_init_93 : decode cX1_init 93 = .ok (.bipush 8, 2) := dk_16 8 (dk_at dksX1_init_4 2 rfl rfl)
theorem dX1_init_95 : decode cX1_init 95 = .ok (.if_icmp .ge 24, 3) := dk_162 0 24 (dk_at dksX1_init_4 4 rfl rfl)
theorem dX1_init_98 : decode cX1_init 98 = .ok (.aload_n 0, 1) := dk_42 (dk_at dksX1_init_4 7 rfl rfl)
theorem dX1_init_99 : decode cX1_init 99 = .ok (.getfield 34, 3) := dk_180 0 34 (dk_at dksX1_init_4 8 rfl rfl)
theorem dX1_init_102 : decode cX1_init 102 = .ok (.new 18, 3) := dk_187 0 18 (dk_at dksX1_init_4 11 rfl rfl)
theorem dX1_init_105 : decode cX1_init 105 = .ok (.dup, 1) := dk_89 (dk_at dksX1_init_4 14 rfl rfl)
theorem dX1_init_106 : decode cX1_init 106 = .ok (.invokespecial 20, 3) := dk_183 0 20 (dk_at dksX1_init_4 15 rfl rfl)
theorem dX1_init_109 : decode cX1_init 109 = .ok (.invokevirtual 61, 3) := dk_182 0 61 (dk_at dksX1_init_4 18 rfl rfl)
theorem dX1_init_112 : decode cX1_init 112 = .ok (.astore_n 2, 1) := dk_77 (dk_at dksX1_init_4 21 rfl rfl)
theorem dX1_init_113 : decode cX1_init 113 = .ok (.iinc 1 1, 3) := dk_132 1 1 (dk_at dksX1_init_5 0 rfl rfl)
theorem dX1_init_116 : decode cX1_init 116 = .ok (.goto (-24), 3) := dk_167 255 232 (dk_at dksX1_init_5 3 rfl rfl)
theorem dX1_init_119 : decode cX1_init 119 = .ok (.return_, 1) := dk_177 (dk_at dksX1_init_5 6 rfl rfl)
abbrev cX1_isOut : ByteArray := prog_1_method_33_code
def yX1_isOut : MethodName := ⟨RX1, "isOut", "()Z"⟩
def dkwX1_isOut_0 : List UInt8 := [42, 180, 0, 21, 182, 0, 241, 172]
abbrev dktX1_isOut_0 : List UInt8 := dkwX1_isOut_0 ++ []
theorem dksX1_isOut_0 : cX1_isOut.data.toList.drop 0 = dktX1_isOut_0 := by decide +kernel
theorem dX1_isOut_0 : decode cX1_isOut 0 = .ok (.aload_n 0, 1) := dk_42 (dk_at dksX1_isOut_0 0 rfl rfl)
theorem dX1_isOut_1 : decode cX1_isOut 1 = .ok (.getfield 21, 3) := dk_180 0 21 (dk_at dksX1_isOut_0 1 rfl rfl)
theorem dX1_isOut_4 : decode cX1_isOut 4 = .ok (.invokevirtual 241, 3) := dk_182 0 241 (dk_at dksX1_isOut_0 4 rfl rfl)
theorem dX1_isOut_7 : decode cX1_isOut 7 = .ok (.ireturn, 1) := dk_172 (dk_at dksX1_isOut_0 7 rfl rfl)
abbrev cX1_home : ByteArray := prog_1_method_35_code
def yX1_home : MethodName := ⟨RX1, "home", "()I"⟩
def dkwX1_home_0 : List UInt8 := [42, 180, 0, 21, 182, 0, 254, 172]
abbrev dktX1_home_0 : List UInt8 := dkwX1_home_0 ++ []
theorem dksX1_home_0 : cX1_home.data.toList.drop 0 = dktX1_home_0 := by decide +kernel
theorem dX1_home_0 : decode cX1_home 0 = .ok (.aload_n 0, 1) := dk_42 (dk_at dksX1_home_0 0 rfl rfl)
theorem dX1_home_1 : decode cX1_home 1 = .ok (.getfield 21, 3) := dk_180 0 21 (dk_at dksX1_home_0 1 rfl rfl)
theorem dX1_home_4 : decode cX1_home 4 = .ok (.invokevirtual 254, 3) := dk_182 0 254 (dk_at dksX1_home_0 4 rfl rfl)
theorem dX1_home_7 : decode cX1_home 7 = .ok (.ireturn, 1) := dk_172 (dk_at dksX1_home_0 7 rfl rfl)
abbrev cX1_singing : ByteArray := prog_1_method_41_code
def yX1_singing : MethodName := ⟨RX1, "singing", "()I"⟩
def dkwX1_singing_0 : List UInt8 := [42, 182, 0, 211, 42, 186, 1, 17, 0, 0, 182, 0, 219, 172]
abbrev dktX1_singing_0 : List UInt8 := dkwX1_singing_0 ++ []
theorem dksX1_singing_0 : cX1_singing.data.toList.drop 0 = dktX1_singing_0 := by decide +kernel
theorem dX1_singing_0 : decode cX1_singing 0 = .ok (.aload_n 0, 1) := dk_42 (dk_at dksX1_singing_0 0 rfl rfl)
theorem dX1_singing_1 : decode cX1_singing 1 = .ok (.invokevirtual 211, 3) := dk_182 0 211 (dk_at dksX1_singing_0 1 rfl rfl)
theorem dX1_singing_4 : decode cX1_singing 4 = .ok (.aload_n 0, 1) := dk_42 (dk_at dksX1_singing_0 4 rfl rfl)
theorem dX1_singing_5 : decode cX1_singing 5 = .ok (.invokedynamic 273, 5) := by decide +kernel
theorem dX1_singing_10 : decode cX1_singing 10 = .ok (.invokevirtual 219, 3) := dk_182 0 219 (dk_at dksX1_singing_0 10 rfl rfl)
theorem dX1_singing_13 : decode cX1_singing 13 = .ok (.ireturn, 1) := dk_172 (dk_at dksX1_singing_0 13 rfl rfl)
abbrev cX1_allLines : ByteArray := prog_1_method_18_code
def yX1_allLines : MethodName := ⟨RX1, "allLines", "()LVowelTorus$Row;"⟩
def dkwX1_allLines_1 : List UInt8 := [184, 0, 119, 182, 0, 125, 78, 132, 2, 1, 167, 255, 233, 43, 176]
abbrev dktX1_allLines_1 : List UInt8 := dkwX1_allLines_1 ++ []
def dkwX1_allLines_0 : List UInt8 := [187, 0, 112, 89, 183, 0, 114, 76, 3, 61, 28, 42, 180, 0, 21, 182, 0, 115, 162, 0, 18, 43, 28]
abbrev dktX1_allLines_0 : List UInt8 := dkwX1_allLines_0 ++ dktX1_allLines_1
theorem dksX1_allLines_0 : cX1_allLines.data.toList.drop 0 = dktX1_allLines_0 := by decide +kernel
theorem dksX1_allLines_1 : cX1_allLines.data.toList.drop 23 = dktX1_allLines_1 := dk_seg dksX1_allLines_0 23 rfl rfl
theorem dX1_allLines_0 : decode cX1_allLines 0 = .ok (.new 112, 3) := dk_187 0 112 (dk_at dksX1_allLines_0 0 rfl rfl)
theorem dX1_allLines_3 : decode cX1_allLines 3 = .ok (.dup, 1) := dk_89 (dk_at dksX1_allLines_0 3 rfl rfl)
theorem dX1_allLines_4 : decode cX1_allLines 4 = .ok (.invokespecial 114, 3) := dk_183 0 114 (dk_at dksX1_allLines_0 4 rfl rfl)
theorem dX1_allLines_7 : decode cX1_allLines 7 = .ok (.astore_n 1, 1) := dk_76 (dk_at dksX1_allLines_0 7 rfl rfl)
theorem dX1_allLines_8 : decode cX1_allLines 8 = .ok (.iconst 0, 1) := dk_3 (dk_at dksX1_allLines_0 8 rfl rfl)
theorem dX1_allLines_9 : decode cX1_allLines 9 = .ok (.istore_n 2, 1) := dk_61 (dk_at dksX1_allLines_0 9 rfl rfl)
theorem dX1_allLines_10 : decode cX1_allLines 10 = .ok (.iload_n 2, 1) := dk_28 (dk_at dksX1_allLines_0 10 rfl rfl)
theorem dX1_allLines_11 : decode cX1_allLines 11 = .ok (.aload_n 0, 1) := dk_42 (dk_at dksX1_allLines_0 11 rfl rfl)
theorem dX1_allLines_12 : decode cX1_allLines 12 = .ok (.getfield 21, 3) := dk_180 0 21 (dk_at dksX1_allLines_0 12 rfl rfl)
theorem dX1_allLines_15 : decode cX1_allLines 15 = .ok (.invokevirtual 115, 3) := dk_182 0 115 (dk_at dksX1_allLines_0 15 rfl rfl)
theorem dX1_allLines_18 : decode cX1_allLines 18 = .ok (.if_icmp .ge 18, 3) := dk_162 0 18 (dk_at dksX1_allLines_0 18 rfl rfl)
theorem dX1_allLines_21 : decode cX1_allLines 21 = .ok (.aload_n 1, 1) := dk_43 (dk_at dksX1_allLines_0 21 rfl rfl)
theorem dX1_allLines_22 : decode cX1_allLines 22 = .ok (.iload_n 2, 1) := dk_28 (dk_at dksX1_allLines_0 22 rfl rfl)
theorem dX1_allLines_23 : decode cX1_allLines 23 = .ok (.invokestatic 119, 3) := dk_184 0 119 (dk_at dksX1_allLines_1 0 rfl rfl)
theorem dX1_allLines_26 : decode cX1_allLines 26 = .ok (.invokevirtual 125, 3) := dk_182 0 125 (dk_at dksX1_allLines_1 3 rfl rfl)
theorem dX1_allLines_29 : decode cX1_allLines 29 = .ok (.astore_n 3, 1) := dk_78 (dk_at dksX1_allLines_1 6 rfl rfl)
theorem dX1_allLines_30 : decode cX1_allLines 30 = .ok (.iinc 2 1, 3) := dk_132 2 1 (dk_at dksX1_allLines_1 7 rfl rfl)
theorem dX1_allLines_33 : decode cX1_allLines 33 = .ok (.goto (-23), 3) := dk_167 255 233 (dk_at dksX1_allLines_1 10 rfl rfl)
theorem dX1_allLines_36 : decode cX1_allLines 36 = .ok (.aload_n 1, 1) := dk_43 (dk_at dksX1_allLines_1 13 rfl rfl)
theorem dX1_allLines_37 : decode cX1_allLines 37 = .ok (.areturn, 1) := dk_176 (dk_at dksX1_allLines_1 14 rfl rfl)
abbrev cX1_lambda_singing_1 : ByteArray := prog_1_method_60_code
def yX1_lambda_singing_1 : MethodName := ⟨RX1, "lambda$singing$1", "(Ljava/lang/Integer;)Z"⟩
def dkwX1_lambda_singing_1_0 : List UInt8 := [42, 180, 0, 21, 43, 182, 1, 28, 182, 1, 14, 172]
abbrev dktX1_lambda_singing_1_0 : List UInt8 := dkwX1_lambda_singing_1_0 ++ []
theorem dksX1_lambda_singing_1_0 : cX1_lambda_singing_1.data.toList.drop 0 = dktX1_lambda_singing_1_0 := by decide +kernel
theorem dX1_lambda_singing_1_0 : decode cX1_lambda_singing_1 0 = .ok (.aload_n 0, 1) := dk_42 (dk_at dksX1_lambda_singing_1_0 0 rfl rfl)
theorem dX1_lambda_singing_1_1 : decode cX1_lambda_singing_1 1 = .ok (.getfield 21, 3) := dk_180 0 21 (dk_at dksX1_lambda_singing_1_0 1 rfl rfl)
theorem dX1_lambda_singing_1_4 : decode cX1_lambda_singing_1 4 = .ok (.aload_n 1, 1) := dk_43 (dk_at dksX1_lambda_singing_1_0 4 rfl rfl)
theorem dX1_lambda_singing_1_5 : decode cX1_lambda_singing_1 5 = .ok (.invokevirtual 284, 3) := dk_182 1 28 (dk_at dksX1_lambda_singing_1_0 5 rfl rfl)
theorem dX1_lambda_singing_1_8 : decode cX1_lambda_singing_1 8 = .ok (.invokevirtual 270, 3) := dk_182 1 14 (dk_at dksX1_lambda_singing_1_0 8 rfl rfl)
theorem dX1_lambda_singing_1_11 : decode cX1_lambda_singing_1 11 = .ok (.ireturn, 1) := dk_172 (dk_at dksX1_lambda_singing_1_0 11 rfl rfl)
abbrev cX1_isVowel : ByteArray := prog_1_method_4_code
def yX1_isVowel : MethodName := ⟨RX1, "isVowel", "(C)Z"⟩
def dkwX1_isVowel_1 : List UInt8 := [26, 16, 117, 160, 0, 7, 4, 167, 0, 4, 3, 172]
abbrev dktX1_isVowel_1 : List UInt8 := dkwX1_isVowel_1 ++ []
def dkwX1_isVowel_0 : List UInt8 := [26, 16, 97, 159, 0, 27, 26, 16, 101, 159, 0, 21, 26, 16, 105, 159, 0, 15, 26, 16, 111, 159, 0, 9]
abbrev dktX1_isVowel_0 : List UInt8 := dkwX1_isVowel_0 ++ dktX1_isVowel_1
theorem dksX1_isVowel_0 : cX1_isVowel.data.toList.drop 0 = dktX1_isVowel_0 := by decide +kernel
theorem dksX1_isVowel_1 : cX1_isVowel.data.toList.drop 24 = dktX1_isVowel_1 := dk_seg dksX1_isVowel_0 24 rfl rfl
theorem dX1_isVowel_0 : decode cX1_isVowel 0 = .ok (.iload_n 0, 1) := dk_26 (dk_at dksX1_isVowel_0 0 rfl rfl)
theorem dX1_isVowel_1 : decode cX1_isVowel 1 = .ok (.bipush 97, 2) := dk_16 97 (dk_at dksX1_isVowel_0 1 rfl rfl)
theorem dX1_isVowel_3 : decode cX1_isVowel 3 = .ok (.if_icmp .eq 27, 3) := dk_159 0 27 (dk_at dksX1_isVowel_0 3 rfl rfl)
theorem dX1_isVowel_6 : decode cX1_isVowel 6 = .ok (.iload_n 0, 1) := dk_26 (dk_at dksX1_isVowel_0 6 rfl rfl)
theorem dX1_isVowel_7 : decode cX1_isVowel 7 = .ok (.bipush 101, 2) := dk_16 101 (dk_at dksX1_isVowel_0 7 rfl rfl)
theorem dX1_isVowel_9 : decode cX1_isVowel 9 = .ok (.if_icmp .eq 21, 3) := dk_159 0 21 (dk_at dksX1_isVowel_0 9 rfl rfl)
theorem dX1_isVowel_12 : decode cX1_isVowel 12 = .ok (.iload_n 0, 1) := dk_26 (dk_at dksX1_isVowel_0 12 rfl rfl)
theorem dX1_isVowel_13 : decode cX1_isVowel 13 = .ok (.bipush 105, 2) := dk_16 105 (dk_at dksX1_isVowel_0 13 rfl rfl)
theorem dX1_isVowel_15 : decode cX1_isVowel 15 = .ok (.if_icmp .eq 15, 3) := dk_159 0 15 (dk_at dksX1_isVowel_0 15 rfl rfl)
theorem dX1_isVowel_18 : decode cX1_isVowel 18 = .ok (.iload_n 0, 1) := dk_26 (dk_at dksX1_isVowel_0 18 rfl rfl)
theorem dX1_isVowel_19 : decode cX1_isVowel 19 = .ok (.bipush 111, 2) := dk_16 111 (dk_at dksX1_isVowel_0 19 rfl rfl)
theorem dX1_isVowel_21 : decode cX1_isVowel 21 = .ok (.if_icmp .eq 9, 3) := dk_159 0 9 (dk_at dksX1_isVowel_0 21 rfl rfl)
theorem dX1_isVowel_24 : decode cX1_isVowel 24 = .ok (.iload_n 0, 1) := dk_26 (dk_at dksX1_isVowel_1 0 rfl rfl)
theorem dX1_isVowel_25 : decode cX1_isVowel 25 = .ok (.bipush 117, 2) := dk_16 117 (dk_at dksX1_isVowel_1 1 rfl rfl)
theorem dX1_isVowel_27 : decode cX1_isVowel 27 = .ok (.if_icmp .ne 7, 3) := dk_160 0 7 (dk_at dksX1_isVowel_1 3 rfl rfl)
theorem dX1_isVowel_30 : decode cX1_isVowel 30 = .ok (.iconst 1, 1) := dk_4 (dk_at dksX1_isVowel_1 6 rfl rfl)
theorem dX1_isVowel_31 : decode cX1_isVowel 31 = .ok (.goto 4, 3) := dk_167 0 4 (dk_at dksX1_isVowel_1 7 rfl rfl)
theorem dX1_isVowel_34 : decode cX1_isVowel 34 = .ok (.iconst 0, 1) := dk_3 (dk_at dksX1_isVowel_1 10 rfl rfl)
theorem dX1_isVowel_35 : decode cX1_isVowel 35 = .ok (.ireturn, 1) := dk_172 (dk_at dksX1_isVowel_1 11 rfl rfl)
abbrev cX1_text : ByteArray := prog_1_method_43_code
def yX1_text : MethodName := ⟨RX1, "text", "()I"⟩
def dkwX1_text_1 : List UInt8 := [182, 1, 34, 42, 180, 0, 45, 182, 1, 38, 172]
abbrev dktX1_text_1 : List UInt8 := dkwX1_text_1 ++ []
def dkwX1_text_0 : List UInt8 := [42, 180, 0, 45, 3, 182, 1, 31, 42, 180, 0, 21, 42, 180, 0, 45, 42, 180, 0, 21, 180, 0, 192]
abbrev dktX1_text_0 : List UInt8 := dkwX1_text_0 ++ dktX1_text_1
theorem dksX1_text_0 : cX1_text.data.toList.drop 0 = dktX1_text_0 := by decide +kernel
theorem dksX1_text_1 : cX1_text.data.toList.drop 23 = dktX1_text_1 := dk_seg dksX1_text_0 23 rfl rfl
theorem dX1_text_0 : decode cX1_text 0 = .ok (.aload_n 0, 1) := dk_42 (dk_at dksX1_text_0 0 rfl rfl)
theorem dX1_text_1 : decode cX1_text 1 = .ok (.getfield 45, 3) := dk_180 0 45 (dk_at dksX1_text_0 1 rfl rfl)
theorem dX1_text_4 : decode cX1_text 4 = .ok (.iconst 0, 1) := dk_3 (dk_at dksX1_text_0 4 rfl rfl)
theorem dX1_text_5 : decode cX1_text 5 = .ok (.invokevirtual 287, 3) := dk_182 1 31 (dk_at dksX1_text_0 5 rfl rfl)
theorem dX1_text_8 : decode cX1_text 8 = .ok (.aload_n 0, 1) := dk_42 (dk_at dksX1_text_0 8 rfl rfl)
theorem dX1_text_9 : decode cX1_text 9 = .ok (.getfield 21, 3) := dk_180 0 21 (dk_at dksX1_text_0 9 rfl rfl)
theorem dX1_text_12 : decode cX1_text 12 = .ok (.aload_n 0, 1) := dk_42 (dk_at dksX1_text_0 12 rfl rfl)
theorem dX1_text_13 : decode cX1_text 13 = .ok (.getfield 45, 3) := dk_180 0 45 (dk_at dksX1_text_0 13 rfl rfl)
theorem dX1_text_16 : decode cX1_text 16 = .ok (.aload_n 0, 1) := dk_42 (dk_at dksX1_text_0 16 rfl rfl)
theorem dX1_text_17 : decode cX1_text 17 = .ok (.getfield 21, 3) := dk_180 0 21 (dk_at dksX1_text_0 17 rfl rfl)
theorem dX1_text_20 : decode cX1_text 20 = .ok (.getfield 192, 3) := dk_180 0 192 (dk_at dksX1_text_0 20 rfl rfl)
theorem dX1_text_23 : decode cX1_text 23 = .ok (.invokevirtual 290, 3) := dk_182 1 34 (dk_at dksX1_text_1 0 rfl rfl)
theorem dX1_text_26 : decode cX1_text 26 = .ok (.aload_n 0, 1) := dk_42 (dk_at dksX1_text_1 3 rfl rfl)
theorem dX1_text_27 : decode cX1_text 27 = .ok (.getfield 45, 3) := dk_180 0 45 (dk_at dksX1_text_1 4 rfl rfl)
theorem dX1_text_30 : decode cX1_text 30 = .ok (.invokevirtual 294, 3) := dk_182 1 38 (dk_at dksX1_text_1 7 rfl rfl)
theorem dX1_text_33 : decode cX1_text 33 = .ok (.ireturn, 1) := dk_172 (dk_at dksX1_text_1 10 rfl rfl)
abbrev cX1_goalText : ByteArray := prog_1_method_44_code
def yX1_goalText : MethodName := ⟨RX1, "goalText", "()I"⟩
def dkwX1_goalText_1 : List UInt8 := [182, 1, 34, 42, 180, 0, 45, 182, 1, 38, 172]
abbrev dktX1_goalText_1 : List UInt8 := dkwX1_goalText_1 ++ []
def dkwX1_goalText_0 : List UInt8 := [42, 180, 0, 45, 3, 182, 1, 31, 42, 180, 0, 21, 42, 180, 0, 45, 42, 180, 0, 21, 180, 0, 196]
abbrev dktX1_goalText_0 : List UInt8 := dkwX1_goalText_0 ++ dktX1_goalText_1
theorem dksX1_goalText_0 : cX1_goalText.data.toList.drop 0 = dktX1_goalText_0 := by decide +kernel
theorem dksX1_goalText_1 : cX1_goalText.data.toList.drop 23 = dktX1_goalText_1 := dk_seg dksX1_goalText_0 23 rfl rfl
theorem dX1_goalText_0 : decode cX1_goalText 0 = .ok (.aload_n 0, 1) := dk_42 (dk_at dksX1_goalText_0 0 rfl rfl)
theorem dX1_goalText_1 : decode cX1_goalText 1 = .ok (.getfield 45, 3) := dk_180 0 45 (dk_at dksX1_goalText_0 1 rfl rfl)
theorem dX1_goalText_4 : decode cX1_goalText 4 = .ok (.iconst 0, 1) := dk_3 (dk_at dksX1_goalText_0 4 rfl rfl)
theorem dX1_goalText_5 : decode cX1_goalText 5 = .ok (.invokevirtual 287, 3) := dk_182 1 31 (dk_at dksX1_goalText_0 5 rfl rfl)
theorem dX1_goalText_8 : decode cX1_goalText 8 = .ok (.aload_n 0, 1) := dk_42 (dk_at dksX1_goalText_0 8 rfl rfl)
theorem dX1_goalText_9 : decode cX1_goalText 9 = .ok (.getfield 21, 3) := dk_180 0 21 (dk_at dksX1_goalText_0 9 rfl rfl)
theorem dX1_goalText_12 : decode cX1_goalText 12 = .ok (.aload_n 0, 1) := dk_42 (dk_at dksX1_goalText_0 12 rfl rfl)
theorem dX1_goalText_13 : decode cX1_goalText 13 = .ok (.getfield 45, 3) := dk_180 0 45 (dk_at dksX1_goalText_0 13 rfl rfl)
theorem dX1_goalText_16 : decode cX1_goalText 16 = .ok (.aload_n 0, 1) := dk_42 (dk_at dksX1_goalText_0 16 rfl rfl)
theorem dX1_goalText_17 : decode cX1_goalText 17 = .ok (.getfield 21, 3) := dk_180 0 21 (dk_at dksX1_goalText_0 17 rfl rfl)
theorem dX1_goalText_20 : decode cX1_goalText 20 = .ok (.getfield 196, 3) := dk_180 0 196 (dk_at dksX1_goalText_0 20 rfl rfl)
theorem dX1_goalText_23 : decode cX1_goalText 23 = .ok (.invokevirtual 290, 3) := dk_182 1 34 (dk_at dksX1_goalText_1 0 rfl rfl)
theorem dX1_goalText_26 : decode cX1_goalText 26 = .ok (.aload_n 0, 1) := dk_42 (dk_at dksX1_goalText_1 3 rfl rfl)
theorem dX1_goalText_27 : decode cX1_goalText 27 = .ok (.getfield 45, 3) := dk_180 0 45 (dk_at dksX1_goalText_1 4 rfl rfl)
theorem dX1_goalText_30 : decode cX1_goalText 30 = .ok (.invokevirtual 294, 3) := dk_182 1 38 (dk_at dksX1_goalText_1 7 rfl rfl)
theorem dX1_goalText_33 : decode cX1_goalText 33 = .ok (.ireturn, 1) := dk_172 (dk_at dksX1_goalText_1 10 rfl rfl)
abbrev cX1_errorPosition : ByteArray := prog_1_method_49_code
def yX1_errorPosition : MethodName := ⟨RX1, "errorPosition", "()I"⟩
theorem dX1_errorPosition_0 : decode cX1_errorPosition 0 = .ok (.aload_n 0, 1) := by decide +kernel
theorem dX1_errorPosition_1 : decode cX1_errorPosition 1 = .ok (.getfield 57, 3) := by decide +kernel
theorem dX1_errorPosition_4 : decode cX1_errorPosition 4 = .ok (.ireturn, 1) := by decide +kernel
abbrev cX1_isWell : ByteArray := prog_1_method_52_code
def yX1_isWell : MethodName := ⟨RX1, "isWell", "()Z"⟩
def dkwX1_isWell_0 : List UInt8 := [42, 180, 0, 21, 182, 1, 100, 172]
abbrev dktX1_isWell_0 : List UInt8 := dkwX1_isWell_0 ++ []
theorem dksX1_isWell_0 : cX1_isWell.data.toList.drop 0 = dktX1_isWell_0 := by decide +kernel
theorem dX1_isWell_0 : decode cX1_isWell 0 = .ok (.aload_n 0, 1) := dk_42 (dk_at dksX1_isWell_0 0 rfl rfl)
theorem dX1_isWell_1 : decode cX1_isWell 1 = .ok (.getfield 21, 3) := dk_180 0 21 (dk_at dksX1_isWell_0 1 rfl rfl)
theorem dX1_isWell_4 : decode cX1_isWell 4 = .ok (.invokevirtual 356, 3) := dk_182 1 100 (dk_at dksX1_isWell_0 4 rfl rfl)
theorem dX1_isWell_7 : decode cX1_isWell 7 = .ok (.ireturn, 1) := dk_172 (dk_at dksX1_isWell_0 7 rfl rfl)
abbrev cX1_homeShare : ByteArray := prog_1_method_54_code
def yX1_homeShare : MethodName := ⟨RX1, "homeShare", "()F"⟩
def dkwX1_homeShare_0 : List UInt8 := [42, 180, 0, 21, 182, 0, 254, 134, 42, 180, 0, 21, 182, 1, 75, 134, 110, 174]
abbrev dktX1_homeShare_0 : List UInt8 := dkwX1_homeShare_0 ++ []
theorem dksX1_homeShare_0 : cX1_homeShare.data.toList.drop 0 = dktX1_homeShare_0 := by decide +kernel
theorem dX1_homeShare_0 : decode cX1_homeShare 0 = .ok (.aload_n 0, 1) := dk_42 (dk_at dksX1_homeShare_0 0 rfl rfl)
theorem dX1_homeShare_1 : decode cX1_homeShare 1 = .ok (.getfield 21, 3) := dk_180 0 21 (dk_at dksX1_homeShare_0 1 rfl rfl)
theorem dX1_homeShare_4 : decode cX1_homeShare 4 = .ok (.invokevirtual 254, 3) := dk_182 0 254 (dk_at dksX1_homeShare_0 4 rfl rfl)
theorem dX1_homeShare_7 : decode cX1_homeShare 7 = .ok (.i2f, 1) := dk_134 (dk_at dksX1_homeShare_0 7 rfl rfl)
theorem dX1_homeShare_8 : decode cX1_homeShare 8 = .ok (.aload_n 0, 1) := dk_42 (dk_at dksX1_homeShare_0 8 rfl rfl)
theorem dX1_homeShare_9 : decode cX1_homeShare 9 = .ok (.getfield 21, 3) := dk_180 0 21 (dk_at dksX1_homeShare_0 9 rfl rfl)
theorem dX1_homeShare_12 : decode cX1_homeShare 12 = .ok (.invokevirtual 331, 3) := dk_182 1 75 (dk_at dksX1_homeShare_0 12 rfl rfl)
theorem dX1_homeShare_15 : decode cX1_homeShare 15 = .ok (.i2f, 1) := dk_134 (dk_at dksX1_homeShare_0 15 rfl rfl)
theorem dX1_homeShare_16 : decode cX1_homeShare 16 = .ok (.fdiv, 1) := dk_110 (dk_at dksX1_homeShare_0 16 rfl rfl)
theorem dX1_homeShare_17 : decode cX1_homeShare 17 = .ok (.freturn, 1) := dk_174 (dk_at dksX1_homeShare_0 17 rfl rfl)
abbrev cX1_save : ByteArray := prog_1_method_56_code
def yX1_save : MethodName := ⟨RX1, "save", "()I"⟩
def dkwX1_save_0 : List UInt8 := [42, 180, 0, 28, 42, 180, 0, 21, 182, 0, 101, 42, 4, 181, 1, 115, 42, 180, 0, 21, 182, 0, 254, 172]
abbrev dktX1_save_0 : List UInt8 := dkwX1_save_0 ++ []
theorem dksX1_save_0 : cX1_save.data.toList.drop 0 = dktX1_save_0 := by decide +kernel
theorem dX1_save_0 : decode cX1_save 0 = .ok (.aload_n 0, 1) := dk_42 (dk_at dksX1_save_0 0 rfl rfl)
theorem dX1_save_1 : decode cX1_save 1 = .ok (.getfield 28, 3) := dk_180 0 28 (dk_at dksX1_save_0 1 rfl rfl)
theorem dX1_save_4 : decode cX1_save 4 = .ok (.aload_n 0, 1) := dk_42 (dk_at dksX1_save_0 4 rfl rfl)
theorem dX1_save_5 : decode cX1_save 5 = .ok (.getfield 21, 3) := dk_180 0 21 (dk_at dksX1_save_0 5 rfl rfl)
theorem dX1_save_8 : decode cX1_save 8 = .ok (.invokevirtual 101, 3) := dk_182 0 101 (dk_at dksX1_save_0 8 rfl rfl)
theorem dX1_save_11 : decode cX1_save 11 = .ok (.aload_n 0, 1) := dk_42 (dk_at dksX1_save_0 11 rfl rfl)
theorem dX1_save_12 : decode cX1_save 12 = .ok (.iconst 1, 1) := dk_4 (dk_at dksX1_save_0 12 rfl rfl)
theorem dX1_save_13 : decode cX1_save 13 = .ok (.putfield 371, 3) := dk_181 1 115 (dk_at dksX1_save_0 13 rfl rfl)
theorem dX1_save_16 : decode cX1_save 16 = .ok (.aload_n 0, 1) := dk_42 (dk_at dksX1_save_0 16 rfl rfl)
theorem dX1_save_17 : decode cX1_save 17 = .ok (.getfield 21, 3) := dk_180 0 21 (dk_at dksX1_save_0 17 rfl rfl)
theorem dX1_save_20 : decode cX1_save 20 = .ok (.invokevirtual 254, 3) := dk_182 0 254 (dk_at dksX1_save_0 20 rfl rfl)
theorem dX1_save_23 : decode cX1_save 23 = .ok (.ireturn, 1) := dk_172 (dk_at dksX1_save_0 23 rfl rfl)
abbrev cX1_board : ByteArray := prog_1_method_19_code
def yX1_board : MethodName := ⟨RX1, "board", "(II)I"⟩
def dkwX1_board_0 : List UInt8 := [27, 28, 184, 0, 128, 184, 0, 132, 42, 42, 182, 0, 135, 27, 28, 182, 0, 139, 182, 0, 143, 172]
abbrev dktX1_board_0 : List UInt8 := dkwX1_board_0 ++ []
theorem dksX1_board_0 : cX1_board.data.toList.drop 0 = dktX1_board_0 := by decide +kernel
theorem dX1_board_0 : decode cX1_board 0 = .ok (.iload_n 1, 1) := dk_27 (dk_at dksX1_board_0 0 rfl rfl)
theorem dX1_board_1 : decode cX1_board 1 = .ok (.iload_n 2, 1) := dk_28 (dk_at dksX1_board_0 1 rfl rfl)
theorem dX1_board_2 : decode cX1_board 2 = .ok (.invokestatic 128, 3) := dk_184 0 128 (dk_at dksX1_board_0 2 rfl rfl)
theorem dX1_board_5 : decode cX1_board 5 = .ok (.invokestatic 132, 3) := dk_184 0 132 (dk_at dksX1_board_0 5 rfl rfl)
theorem dX1_board_8 : decode cX1_board 8 = .ok (.aload_n 0, 1) := dk_42 (dk_at dksX1_board_0 8 rfl rfl)
theorem dX1_board_9 : decode cX1_board 9 = .ok (.aload_n 0, 1) := dk_42 (dk_at dksX1_board_0 9 rfl rfl)
theorem dX1_board_10 : decode cX1_board 10 = .ok (.invokevirtual 135, 3) := dk_182 0 135 (dk_at dksX1_board_0 10 rfl rfl)
theorem dX1_board_13 : decode cX1_board 13 = .ok (.iload_n 1, 1) := dk_27 (dk_at dksX1_board_0 13 rfl rfl)
theorem dX1_board_14 : decode cX1_board 14 = .ok (.iload_n 2, 1) := dk_28 (dk_at dksX1_board_0 14 rfl rfl)
theorem dX1_board_15 : decode cX1_board 15 = .ok (.invokevirtual 139, 3) := dk_182 0 139 (dk_at dksX1_board_0 15 rfl rfl)
theorem dX1_board_18 : decode cX1_board 18 = .ok (.invokevirtual 143, 3) := dk_182 0 143 (dk_at dksX1_board_0 18 rfl rfl)
theorem dX1_board_21 : decode cX1_board 21 = .ok (.ireturn, 1) := dk_172 (dk_at dksX1_board_0 21 rfl rfl)
abbrev cX1_isBoard : ByteArray := prog_1_method_5_code
def yX1_isBoard : MethodName := ⟨RX1, "isBoard", "(II)Z"⟩
def dkwX1_isBoard_0 : List UInt8 := [26, 5, 6, 184, 0, 7, 153, 0, 16, 27, 5, 6, 184, 0, 7, 153, 0, 7, 4, 167, 0, 4, 3, 172]
abbrev dktX1_isBoard_0 : List UInt8 := dkwX1_isBoard_0 ++ []
theorem dksX1_isBoard_0 : cX1_isBoard.data.toList.drop 0 = dktX1_isBoard_0 := by decide +kernel
theorem dX1_isBoard_0 : decode cX1_isBoard 0 = .ok (.iload_n 0, 1) := dk_26 (dk_at dksX1_isBoard_0 0 rfl rfl)
theorem dX1_isBoard_1 : decode cX1_isBoard 1 = .ok (.iconst 2, 1) := dk_5 (dk_at dksX1_isBoard_0 1 rfl rfl)
theorem dX1_isBoard_2 : decode cX1_isBoard 2 = .ok (.iconst 3, 1) := dk_6 (dk_at dksX1_isBoard_0 2 rfl rfl)
theorem dX1_isBoard_3 : decode cX1_isBoard 3 = .ok (.invokestatic 7, 3) := dk_184 0 7 (dk_at dksX1_isBoard_0 3 rfl rfl)
theorem dX1_isBoard_6 : decode cX1_isBoard 6 = .ok (.ifCond .eq 16, 3) := dk_153 0 16 (dk_at dksX1_isBoard_0 6 rfl rfl)
theorem dX1_isBoard_9 : decode cX1_isBoard 9 = .ok (.iload_n 1, 1) := dk_27 (dk_at dksX1_isBoard_0 9 rfl rfl)
theorem dX1_isBoard_10 : decode cX1_isBoard 10 = .ok (.iconst 2, 1) := dk_5 (dk_at dksX1_isBoard_0 10 rfl rfl)
theorem dX1_isBoard_11 : decode cX1_isBoard 11 = .ok (.iconst 3, 1) := dk_6 (dk_at dksX1_isBoard_0 11 rfl rfl)
theorem dX1_isBoard_12 : decode cX1_isBoard 12 = .ok (.invokestatic 7, 3) := dk_184 0 7 (dk_at dksX1_isBoard_0 12 rfl rfl)
theorem dX1_isBoard_15 : decode cX1_isBoard 15 = .ok (.ifCond .eq 7, 3) := dk_153 0 7 (dk_at dksX1_isBoard_0 15 rfl rfl)
theorem dX1_isBoard_18 : decode cX1_isBoard 18 = .ok (.iconst 1, 1) := dk_4 (dk_at dksX1_isBoard_0 18 rfl rfl)
theorem dX1_isBoard_19 : decode cX1_isBoard 19 = .ok (.goto 4, 3) := dk_167 0 4 (dk_at dksX1_isBoard_0 19 rfl rfl)
theorem dX1_isBoard_22 : decode cX1_isBoard 22 = .ok (.iconst 0, 1) := dk_3 (dk_at dksX1_isBoard_0 22 rfl rfl)
theorem dX1_isBoard_23 : decode cX1_isBoard 23 = .ok (.ireturn, 1) := dk_172 (dk_at dksX1_isBoard_0 23 rfl rfl)
abbrev cX1_in : ByteArray := prog_1_method_1_code
def yX1_in : MethodName := ⟨RX1, "in", "(III)Z"⟩
def dkwX1_in_0 : List UInt8 := [26, 27, 161, 0, 12, 26, 28, 163, 0, 7, 4, 167, 0, 4, 3, 172]
abbrev dktX1_in_0 : List UInt8 := dkwX1_in_0 ++ []
theorem dksX1_in_0 : cX1_in.data.toList.drop 0 = dktX1_in_0 := by decide +kernel
theorem dX1_in_0 : decode cX1_in 0 = .ok (.iload_n 0, 1) := dk_26 (dk_at dksX1_in_0 0 rfl rfl)
theorem dX1_in_1 : decode cX1_in 1 = .ok (.iload_n 1, 1) := dk_27 (dk_at dksX1_in_0 1 rfl rfl)
theorem dX1_in_2 : decode cX1_in 2 = .ok (.if_icmp .lt 12, 3) := dk_161 0 12 (dk_at dksX1_in_0 2 rfl rfl)
theorem dX1_in_5 : decode cX1_in 5 = .ok (.iload_n 0, 1) := dk_26 (dk_at dksX1_in_0 5 rfl rfl)
theorem dX1_in_6 : decode cX1_in 6 = .ok (.iload_n 2, 1) := dk_28 (dk_at dksX1_in_0 6 rfl rfl)
theorem dX1_in_7 : decode cX1_in 7 = .ok (.if_icmp .gt 7, 3) := dk_163 0 7 (dk_at dksX1_in_0 7 rfl rfl)
theorem dX1_in_10 : decode cX1_in 10 = .ok (.iconst 1, 1) := dk_4 (dk_at dksX1_in_0 10 rfl rfl)
theorem dX1_in_11 : decode cX1_in 11 = .ok (.goto 4, 3) := dk_167 0 4 (dk_at dksX1_in_0 11 rfl rfl)
theorem dX1_in_14 : decode cX1_in 14 = .ok (.iconst 0, 1) := dk_3 (dk_at dksX1_in_0 14 rfl rfl)
theorem dX1_in_15 : decode cX1_in 15 = .ok (.ireturn, 1) := dk_172 (dk_at dksX1_in_0 15 rfl rfl)
abbrev cX1_check : ByteArray := prog_1_method_8_code
def yX1_check : MethodName := ⟨RX1, "check", "(Z)V"⟩
def dkwX1_check_0 : List UInt8 := [26, 154, 0, 11, 187, 0, 65, 89, 183, 0, 67, 191, 177]
abbrev dktX1_check_0 : List UInt8 := dkwX1_check_0 ++ []
theorem dksX1_check_0 : cX1_check.data.toList.drop 0 = dktX1_check_0 := by decide +kernel
theorem dX1_check_0 : decode cX1_check 0 = .ok (.iload_n 0, 1) := dk_26 (dk_at dksX1_check_0 0 rfl rfl)
theorem dX1_check_1 : decode cX1_check 1 = .ok (.ifCond .ne 11, 3) := dk_154 0 11 (dk_at dksX1_check_0 1 rfl rfl)
theorem dX1_check_4 : decode cX1_check 4 = .ok (.new 65, 3) := dk_187 0 65 (dk_at dksX1_check_0 4 rfl rfl)
theorem dX1_check_7 : decode cX1_check 7 = .ok (.dup, 1) := dk_89 (dk_at dksX1_check_0 7 rfl rfl)
theorem dX1_check_8 : decode cX1_check 8 = .ok (.invokespecial 67, 3) := dk_183 0 67 (dk_at dksX1_check_0 8 rfl rfl)
theorem dX1_check_11 : decode cX1_check 11 = .ok (.athrow, 1) := dk_191 (dk_at dksX1_check_0 11 rfl rfl)
theorem dX1_check_12 : decode cX1_check 12 = .ok (.return_, 1) := dk_177 (dk_at dksX1_check_0 12 rfl rfl)
abbrev cX1_tryOn : ByteArray := prog_1_method_15_code
def yX1_tryOn : MethodName := ⟨RX1, "tryOn", "()LVowelTorus$Puzzle;"⟩
def dkwX1_tryOn_0 : List UInt8 := [42, 180, 0, 25, 42, 180, 0, 21, 182, 0, 101, 42, 180, 0, 25, 176]
abbrev dktX1_tryOn_0 : List UInt8 := dkwX1_tryOn_0 ++ []
theorem dksX1_tryOn_0 : cX1_tryOn.data.toList.drop 0 = dktX1_tryOn_0 := by decide +kernel
theorem dX1_tryOn_0 : decode cX1_tryOn 0 = .ok (.aload_n 0, 1) := dk_42 (dk_at dksX1_tryOn_0 0 rfl rfl)
theorem dX1_tryOn_1 : decode cX1_tryOn 1 = .ok (.getfield 25, 3) := dk_180 0 25 (dk_at dksX1_tryOn_0 1 rfl rfl)
theorem dX1_tryOn_4 : decode cX1_tryOn 4 = .ok (.aload_n 0, 1) := dk_42 (dk_at dksX1_tryOn_0 4 rfl rfl)
theorem dX1_tryOn_5 : decode cX1_tryOn 5 = .ok (.getfield 21, 3) := dk_180 0 21 (dk_at dksX1_tryOn_0 5 rfl rfl)
theorem dX1_tryOn_8 : decode cX1_tryOn 8 = .ok (.invokevirtual 101, 3) := dk_182 0 101 (dk_at dksX1_tryOn_0 8 rfl rfl)
theorem dX1_tryOn_11 : decode cX1_tryOn 11 = .ok (.aload_n 0, 1) := dk_42 (dk_at dksX1_tryOn_0 11 rfl rfl)
theorem dX1_tryOn_12 : decode cX1_tryOn 12 = .ok (.getfield 25, 3) := dk_180 0 25 (dk_at dksX1_tryOn_0 12 rfl rfl)
theorem dX1_tryOn_15 : decode cX1_tryOn 15 = .ok (.areturn, 1) := dk_176 (dk_at dksX1_tryOn_0 15 rfl rfl)
abbrev cX1_becomes : ByteArray := prog_1_method_17_code
def yX1_becomes : MethodName := ⟨RX1, "becomes", "(I)I"⟩
def dkwX1_becomes_0 : List UInt8 := [42, 182, 0, 109, 27, 172]
abbrev dktX1_becomes_0 : List UInt8 := dkwX1_becomes_0 ++ []
theorem dksX1_becomes_0 : cX1_becomes.data.toList.drop 0 = dktX1_becomes_0 := by decide +kernel
theorem dX1_becomes_0 : decode cX1_becomes 0 = .ok (.aload_n 0, 1) := dk_42 (dk_at dksX1_becomes_0 0 rfl rfl)
theorem dX1_becomes_1 : decode cX1_becomes 1 = .ok (.invokevirtual 109, 3) := dk_182 0 109 (dk_at dksX1_becomes_0 1 rfl rfl)
theorem dX1_becomes_4 : decode cX1_becomes 4 = .ok (.iload_n 1, 1) := dk_27 (dk_at dksX1_becomes_0 4 rfl rfl)
theorem dX1_becomes_5 : decode cX1_becomes 5 = .ok (.ireturn, 1) := dk_172 (dk_at dksX1_becomes_0 5 rfl rfl)
abbrev cX1_becomes_2 : ByteArray := prog_1_method_16_code
def yX1_becomes_2 : MethodName := ⟨RX1, "becomes", "()V"⟩
def dkwX1_becomes_2_0 : List UInt8 := [42, 180, 0, 34, 42, 180, 0, 21, 182, 0, 105, 42, 180, 0, 21, 42, 180, 0, 25, 182, 0, 101, 177]
abbrev dktX1_becomes_2_0 : List UInt8 := dkwX1_becomes_2_0 ++ []
theorem dksX1_becomes_2_0 : cX1_becomes_2.data.toList.drop 0 = dktX1_becomes_2_0 := by decide +kernel
theorem dX1_becomes_2_0 : decode cX1_becomes_2 0 = .ok (.aload_n 0, 1) := dk_42 (dk_at dksX1_becomes_2_0 0 rfl rfl)
theorem dX1_becomes_2_1 : decode cX1_becomes_2 1 = .ok (.getfield 34, 3) := dk_180 0 34 (dk_at dksX1_becomes_2_0 1 rfl rfl)
theorem dX1_becomes_2_4 : decode cX1_becomes_2 4 = .ok (.aload_n 0, 1) := dk_42 (dk_at dksX1_becomes_2_0 4 rfl rfl)
theorem dX1_becomes_2_5 : decode cX1_becomes_2 5 = .ok (.getfield 21, 3) := dk_180 0 21 (dk_at dksX1_becomes_2_0 5 rfl rfl)
theorem dX1_becomes_2_8 : decode cX1_becomes_2 8 = .ok (.invokevirtual 105, 3) := dk_182 0 105 (dk_at dksX1_becomes_2_0 8 rfl rfl)
theorem dX1_becomes_2_11 : decode cX1_becomes_2 11 = .ok (.aload_n 0, 1) := dk_42 (dk_at dksX1_becomes_2_0 11 rfl rfl)
theorem dX1_becomes_2_12 : decode cX1_becomes_2 12 = .ok (.getfield 21, 3) := dk_180 0 21 (dk_at dksX1_becomes_2_0 12 rfl rfl)
theorem dX1_becomes_2_15 : decode cX1_becomes_2 15 = .ok (.aload_n 0, 1) := dk_42 (dk_at dksX1_becomes_2_0 15 rfl rfl)
theorem dX1_becomes_2_16 : decode cX1_becomes_2 16 = .ok (.getfield 25, 3) := dk_180 0 25 (dk_at dksX1_becomes_2_0 16 rfl rfl)
theorem dX1_becomes_2_19 : decode cX1_becomes_2 19 = .ok (.invokevirtual 101, 3) := dk_182 0 101 (dk_at dksX1_becomes_2_0 19 rfl rfl)
theorem dX1_becomes_2_22 : decode cX1_becomes_2 22 = .ok (.return_, 1) := dk_177 (dk_at dksX1_becomes_2_0 22 rfl rfl)
abbrev cX1_put : ByteArray := prog_1_method_20_code
def yX1_put : MethodName := ⟨RX1, "put", "(IC)C"⟩
def dkwX1_put_1 : List UInt8 := [182, 0, 109, 29, 172, 78, 42, 45, 182, 0, 158, 191]
abbrev dktX1_put_1 : List UInt8 := dkwX1_put_1 ++ []
def dkwX1_put_0 : List UInt8 := [42, 27, 182, 0, 146, 28, 184, 0, 150, 184, 0, 132, 42, 182, 0, 135, 27, 28, 182, 0, 154, 62, 42]
abbrev dktX1_put_0 : List UInt8 := dkwX1_put_0 ++ dktX1_put_1
theorem dksX1_put_0 : cX1_put.data.toList.drop 0 = dktX1_put_0 := by decide +kernel
theorem dksX1_put_1 : cX1_put.data.toList.drop 23 = dktX1_put_1 := dk_seg dksX1_put_0 23 rfl rfl
theorem dX1_put_0 : decode cX1_put 0 = .ok (.aload_n 0, 1) := dk_42 (dk_at dksX1_put_0 0 rfl rfl)
theorem dX1_put_1 : decode cX1_put 1 = .ok (.iload_n 1, 1) := dk_27 (dk_at dksX1_put_0 1 rfl rfl)
theorem dX1_put_2 : decode cX1_put 2 = .ok (.invokevirtual 146, 3) := dk_182 0 146 (dk_at dksX1_put_0 2 rfl rfl)
theorem dX1_put_5 : decode cX1_put 5 = .ok (.iload_n 2, 1) := dk_28 (dk_at dksX1_put_0 5 rfl rfl)
theorem dX1_put_6 : decode cX1_put 6 = .ok (.invokestatic 150, 3) := dk_184 0 150 (dk_at dksX1_put_0 6 rfl rfl)
theorem dX1_put_9 : decode cX1_put 9 = .ok (.invokestatic 132, 3) := dk_184 0 132 (dk_at dksX1_put_0 9 rfl rfl)
theorem dX1_put_12 : decode cX1_put 12 = .ok (.aload_n 0, 1) := dk_42 (dk_at dksX1_put_0 12 rfl rfl)
theorem dX1_put_13 : decode cX1_put 13 = .ok (.invokevirtual 135, 3) := dk_182 0 135 (dk_at dksX1_put_0 13 rfl rfl)
theorem dX1_put_16 : decode cX1_put 16 = .ok (.iload_n 1, 1) := dk_27 (dk_at dksX1_put_0 16 rfl rfl)
theorem dX1_put_17 : decode cX1_put 17 = .ok (.iload_n 2, 1) := dk_28 (dk_at dksX1_put_0 17 rfl rfl)
theorem dX1_put_18 : decode cX1_put 18 = .ok (.invokevirtual 154, 3) := dk_182 0 154 (dk_at dksX1_put_0 18 rfl rfl)
theorem dX1_put_21 : decode cX1_put 21 = .ok (.istore_n 3, 1) := dk_62 (dk_at dksX1_put_0 21 rfl rfl)
theorem dX1_put_22 : decode cX1_put 22 = .ok (.aload_n 0, 1) := dk_42 (dk_at dksX1_put_0 22 rfl rfl)
theorem dX1_put_23 : decode cX1_put 23 = .ok (.invokevirtual 109, 3) := dk_182 0 109 (dk_at dksX1_put_1 0 rfl rfl)
theorem dX1_put_26 : decode cX1_put 26 = .ok (.iload_n 3, 1) := dk_29 (dk_at dksX1_put_1 3 rfl rfl)
theorem dX1_put_27 : decode cX1_put 27 = .ok (.ireturn, 1) := dk_172 (dk_at dksX1_put_1 4 rfl rfl)
theorem dX1_put_28 : decode cX1_put 28 = .ok (.astore_n 3, 1) := dk_78 (dk_at dksX1_put_1 5 rfl rfl)
theorem dX1_put_29 : decode cX1_put 29 = .ok (.aload_n 0, 1) := dk_42 (dk_at dksX1_put_1 6 rfl rfl)
theorem dX1_put_30 : decode cX1_put 30 = .ok (.aload_n 3, 1) := dk_45 (dk_at dksX1_put_1 7 rfl rfl)
theorem dX1_put_31 : decode cX1_put 31 = .ok (.invokevirtual 158, 3) := dk_182 0 158 (dk_at dksX1_put_1 8 rfl rfl)
theorem dX1_put_34 : decode cX1_put 34 = .ok (.athrow, 1) := dk_191 (dk_at dksX1_put_1 11 rfl rfl)
abbrev cX1_checkPlace : ByteArray := prog_1_method_13_code
def yX1_checkPlace : MethodName := ⟨RX1, "checkPlace", "(I)V"⟩
def dkwX1_checkPlace_0 : List UInt8 := [42, 180, 0, 21, 27, 182, 0, 90, 184, 0, 94, 177]
abbrev dktX1_checkPlace_0 : List UInt8 := dkwX1_checkPlace_0 ++ []
theorem dksX1_checkPlace_0 : cX1_checkPlace.data.toList.drop 0 = dktX1_checkPlace_0 := by decide +kernel
theorem dX1_checkPlace_0 : decode cX1_checkPlace 0 = .ok (.aload_n 0, 1) := dk_42 (dk_at dksX1_checkPlace_0 0 rfl rfl)
theorem dX1_checkPlace_1 : decode cX1_checkPlace 1 = .ok (.getfield 21, 3) := dk_180 0 21 (dk_at dksX1_checkPlace_0 1 rfl rfl)
theorem dX1_checkPlace_4 : decode cX1_checkPlace 4 = .ok (.iload_n 1, 1) := dk_27 (dk_at dksX1_checkPlace_0 4 rfl rfl)
theorem dX1_checkPlace_5 : decode cX1_checkPlace 5 = .ok (.invokevirtual 90, 3) := dk_182 0 90 (dk_at dksX1_checkPlace_0 5 rfl rfl)
theorem dX1_checkPlace_8 : decode cX1_checkPlace 8 = .ok (.invokestatic 94, 3) := dk_184 0 94 (dk_at dksX1_checkPlace_0 8 rfl rfl)
theorem dX1_checkPlace_11 : decode cX1_checkPlace 11 = .ok (.return_, 1) := dk_177 (dk_at dksX1_checkPlace_0 11 rfl rfl)
abbrev cX1_checkIndex : ByteArray := prog_1_method_11_code
def yX1_checkIndex : MethodName := ⟨RX1, "checkIndex", "(Z)V"⟩
def dkwX1_checkIndex_0 : List UInt8 := [26, 154, 0, 11, 187, 0, 74, 89, 183, 0, 76, 191, 177]
abbrev dktX1_checkIndex_0 : List UInt8 := dkwX1_checkIndex_0 ++ []
theorem dksX1_checkIndex_0 : cX1_checkIndex.data.toList.drop 0 = dktX1_checkIndex_0 := by decide +kernel
theorem dX1_checkIndex_0 : decode cX1_checkIndex 0 = .ok (.iload_n 0, 1) := dk_26 (dk_at dksX1_checkIndex_0 0 rfl rfl)
theorem dX1_checkIndex_1 : decode cX1_checkIndex 1 = .ok (.ifCond .ne 11, 3) := dk_154 0 11 (dk_at dksX1_checkIndex_0 1 rfl rfl)
theorem dX1_checkIndex_4 : decode cX1_checkIndex 4 = .ok (.new 74, 3) := dk_187 0 74 (dk_at dksX1_checkIndex_0 4 rfl rfl)
theorem dX1_checkIndex_7 : decode cX1_checkIndex 7 = .ok (.dup, 1) := dk_89 (dk_at dksX1_checkIndex_0 7 rfl rfl)
theorem dX1_checkIndex_8 : decode cX1_checkIndex 8 = .ok (.invokespecial 76, 3) := dk_183 0 76 (dk_at dksX1_checkIndex_0 8 rfl rfl)
theorem dX1_checkIndex_11 : decode cX1_checkIndex 11 = .ok (.athrow, 1) := dk_191 (dk_at dksX1_checkIndex_0 11 rfl rfl)
theorem dX1_checkIndex_12 : decode cX1_checkIndex 12 = .ok (.return_, 1) := dk_177 (dk_at dksX1_checkIndex_0 12 rfl rfl)
abbrev cX1_isLetter : ByteArray := prog_1_method_3_code
def yX1_isLetter : MethodName := ⟨RX1, "isLetter", "(C)Z"⟩
def dkwX1_isLetter_0 : List UInt8 := [26, 16, 97, 16, 108, 184, 0, 7, 172]
abbrev dktX1_isLetter_0 : List UInt8 := dkwX1_isLetter_0 ++ []
theorem dksX1_isLetter_0 : cX1_isLetter.data.toList.drop 0 = dktX1_isLetter_0 := by decide +kernel
theorem dX1_isLetter_0 : decode cX1_isLetter 0 = .ok (.iload_n 0, 1) := dk_26 (dk_at dksX1_isLetter_0 0 rfl rfl)
theorem dX1_isLetter_1 : decode cX1_isLetter 1 = .ok (.bipush 97, 2) := dk_16 97 (dk_at dksX1_isLetter_0 1 rfl rfl)
theorem dX1_isLetter_3 : decode cX1_isLetter 3 = .ok (.bipush 108, 2) := dk_16 108 (dk_at dksX1_isLetter_0 3 rfl rfl)
theorem dX1_isLetter_5 : decode cX1_isLetter 5 = .ok (.invokestatic 7, 3) := dk_184 0 7 (dk_at dksX1_isLetter_0 5 rfl rfl)
theorem dX1_isLetter_8 : decode cX1_isLetter 8 = .ok (.ireturn, 1) := dk_172 (dk_at dksX1_isLetter_0 8 rfl rfl)
abbrev cX1_refuse : ByteArray := prog_1_method_2_code
def yX1_refuse : MethodName := ⟨RX1, "refuse", "(ZII)V"⟩
def dkwX1_refuse_0 : List UInt8 := [26, 153, 0, 13, 187, 0, 1, 89, 27, 28, 183, 0, 3, 191, 177]
abbrev dktX1_refuse_0 : List UInt8 := dkwX1_refuse_0 ++ []
theorem dksX1_refuse_0 : cX1_refuse.data.toList.drop 0 = dktX1_refuse_0 := by decide +kernel
theorem dX1_refuse_0 : decode cX1_refuse 0 = .ok (.iload_n 0, 1) := dk_26 (dk_at dksX1_refuse_0 0 rfl rfl)
theorem dX1_refuse_1 : decode cX1_refuse 1 = .ok (.ifCond .eq 13, 3) := dk_153 0 13 (dk_at dksX1_refuse_0 1 rfl rfl)
theorem dX1_refuse_4 : decode cX1_refuse 4 = .ok (.new 1, 3) := dk_187 0 1 (dk_at dksX1_refuse_0 4 rfl rfl)
theorem dX1_refuse_7 : decode cX1_refuse 7 = .ok (.dup, 1) := dk_89 (dk_at dksX1_refuse_0 7 rfl rfl)
theorem dX1_refuse_8 : decode cX1_refuse 8 = .ok (.iload_n 1, 1) := dk_27 (dk_at dksX1_refuse_0 8 rfl rfl)
theorem dX1_refuse_9 : decode cX1_refuse 9 = .ok (.iload_n 2, 1) := dk_28 (dk_at dksX1_refuse_0 9 rfl rfl)
theorem dX1_refuse_10 : decode cX1_refuse 10 = .ok (.invokespecial 3, 3) := dk_183 0 3 (dk_at dksX1_refuse_0 10 rfl rfl)
theorem dX1_refuse_13 : decode cX1_refuse 13 = .ok (.athrow, 1) := dk_191 (dk_at dksX1_refuse_0 13 rfl rfl)
theorem dX1_refuse_14 : decode cX1_refuse 14 = .ok (.return_, 1) := dk_177 (dk_at dksX1_refuse_0 14 rfl rfl)
abbrev cX1_because : ByteArray := prog_1_method_12_code
def yX1_because : MethodName := ⟨RX1, "because", "(LVowelTorus$Refused;)Ljava/lang/UnsupportedOperationException;"⟩
def dkwX1_because_0 : List UInt8 := [42, 43, 180, 0, 77, 181, 0, 80, 42, 43, 180, 0, 83, 181, 0, 86, 187, 0, 87, 89, 183, 0, 89, 176]
abbrev dktX1_because_0 : List UInt8 := dkwX1_because_0 ++ []
theorem dksX1_because_0 : cX1_because.data.toList.drop 0 = dktX1_because_0 := by decide +kernel
theorem dX1_because_0 : decode cX1_because 0 = .ok (.aload_n 0, 1) := dk_42 (dk_at dksX1_because_0 0 rfl rfl)
theorem dX1_because_1 : decode cX1_because 1 = .ok (.aload_n 1, 1) := dk_43 (dk_at dksX1_because_0 1 rfl rfl)
theorem dX1_because_2 : decode cX1_because 2 = .ok (.getfield 77, 3) := dk_180 0 77 (dk_at dksX1_because_0 2 rfl rfl)
theorem dX1_because_5 : decode cX1_because 5 = .ok (.putfield 80, 3) := dk_181 0 80 (dk_at dksX1_because_0 5 rfl rfl)
theorem dX1_because_8 : decode cX1_because 8 = .ok (.aload_n 0, 1) := dk_42 (dk_at dksX1_because_0 8 rfl rfl)
theorem dX1_because_9 : decode cX1_because 9 = .ok (.aload_n 1, 1) := dk_43 (dk_at dksX1_because_0 9 rfl rfl)
theorem dX1_because_10 : decode cX1_because 10 = .ok (.getfield 83, 3) := dk_180 0 83 (dk_at dksX1_because_0 10 rfl rfl)
theorem dX1_because_13 : decode cX1_because 13 = .ok (.putfield 86, 3) := dk_181 0 86 (dk_at dksX1_because_0 13 rfl rfl)
theorem dX1_because_16 : decode cX1_because 16 = .ok (.new 87, 3) := dk_187 0 87 (dk_at dksX1_because_0 16 rfl rfl)
theorem dX1_because_19 : decode cX1_because 19 = .ok (.dup, 1) := dk_89 (dk_at dksX1_because_0 19 rfl rfl)
theorem dX1_because_20 : decode cX1_because 20 = .ok (.invokespecial 89, 3) := dk_183 0 89 (dk_at dksX1_because_0 20 rfl rfl)
theorem dX1_because_23 : decode cX1_because 23 = .ok (.areturn, 1) := dk_176 (dk_at dksX1_because_0 23 rfl rfl)
abbrev cX1_goal : ByteArray := prog_1_method_21_code
def yX1_goal : MethodName := ⟨RX1, "goal", "(IC)C"⟩
def dkwX1_goal_2 : List UInt8 := [182, 0, 158, 191]
abbrev dktX1_goal_2 : List UInt8 := dkwX1_goal_2 ++ []
def dkwX1_goal_1 : List UInt8 := [184, 0, 132, 42, 182, 0, 135, 27, 28, 182, 0, 162, 62, 42, 182, 0, 109, 29, 172, 78, 42, 45]
abbrev dktX1_goal_1 : List UInt8 := dkwX1_goal_1 ++ dktX1_goal_2
def dkwX1_goal_0 : List UInt8 := [42, 27, 182, 0, 146, 28, 184, 0, 150, 154, 0, 9, 28, 16, 46, 160, 0, 7, 4, 167, 0, 4, 3]
abbrev dktX1_goal_0 : List UInt8 := dkwX1_goal_0 ++ dktX1_goal_1
theorem dksX1_goal_0 : cX1_goal.data.toList.drop 0 = dktX1_goal_0 := by decide +kernel
theorem dksX1_goal_1 : cX1_goal.data.toList.drop 23 = dktX1_goal_1 := dk_seg dksX1_goal_0 23 rfl rfl
theorem dksX1_goal_2 : cX1_goal.data.toList.drop 45 = dktX1_goal_2 := dk_seg dksX1_goal_1 22 rfl rfl
theorem dX1_goal_0 : decode cX1_goal 0 = .ok (.aload_n 0, 1) := dk_42 (dk_at dksX1_goal_0 0 rfl rfl)
theorem dX1_goal_1 : decode cX1_goal 1 = .ok (.iload_n 1, 1) := dk_27 (dk_at dksX1_goal_0 1 rfl rfl)
theorem dX1_goal_2 : decode cX1_goal 2 = .ok (.invokevirtual 146, 3) := dk_182 0 146 (dk_at dksX1_goal_0 2 rfl rfl)
theorem dX1_goal_5 : decode cX1_goal 5 = .ok (.iload_n 2, 1) := dk_28 (dk_at dksX1_goal_0 5 rfl rfl)
theorem dX1_goal_6 : decode cX1_goal 6 = .ok (.invokestatic 150, 3) := dk_184 0 150 (dk_at dksX1_goal_0 6 rfl rfl)
theorem dX1_goal_9 : decode cX1_goal 9 = .ok (.ifCond .ne 9, 3) := dk_154 0 9 (dk_at dksX1_goal_0 9 rfl rfl)
theorem dX1_goal_12 : decode cX1_goal 12 = .ok (.iload_n 2, 1) := dk_28 (dk_at dksX1_goal_0 12 rfl rfl)
theorem dX1_goal_13 : decode cX1_goal 13 = .ok (.bipush 46, 2) := dk_16 46 (dk_at dksX1_goal_0 13 rfl rfl)
theorem dX1_goal_15 : decode cX1_goal 15 = .ok (.if_icmp .ne 7, 3) := dk_160 0 7 (dk_at dksX1_goal_0 15 rfl rfl)
theorem dX1_goal_18 : decode cX1_goal 18 = .ok (.iconst 1, 1) := dk_4 (dk_at dksX1_goal_0 18 rfl rfl)
theorem dX1_goal_19 : decode cX1_goal 19 = .ok (.goto 4, 3) := dk_167 0 4 (dk_at dksX1_goal_0 19 rfl rfl)
theorem dX1_goal_22 : decode cX1_goal 22 = .ok (.iconst 0, 1) := dk_3 (dk_at dksX1_goal_0 22 rfl rfl)
theorem dX1_goal_23 : decode cX1_goal 23 = .ok (.invokestatic 132, 3) := dk_184 0 132 (dk_at dksX1_goal_1 0 rfl rfl)
theorem dX1_goal_26 : decode cX1_goal 26 = .ok (.aload_n 0, 1) := dk_42 (dk_at dksX1_goal_1 3 rfl rfl)
theorem dX1_goal_27 : decode cX1_goal 27 = .ok (.invokevirtual 135, 3) := dk_182 0 135 (dk_at dksX1_goal_1 4 rfl rfl)
theorem dX1_goal_30 : decode cX1_goal 30 = .ok (.iload_n 1, 1) := dk_27 (dk_at dksX1_goal_1 7 rfl rfl)
theorem dX1_goal_31 : decode cX1_goal 31 = .ok (.iload_n 2, 1) := dk_28 (dk_at dksX1_goal_1 8 rfl rfl)
theorem dX1_goal_32 : decode cX1_goal 32 = .ok (.invokevirtual 162, 3) := dk_182 0 162 (dk_at dksX1_goal_1 9 rfl rfl)
theorem dX1_goal_35 : decode cX1_goal 35 = .ok (.istore_n 3, 1) := dk_62 (dk_at dksX1_goal_1 12 rfl rfl)
theorem dX1_goal_36 : decode cX1_goal 36 = .ok (.aload_n 0, 1) := dk_42 (dk_at dksX1_goal_1 13 rfl rfl)
theorem dX1_goal_37 : decode cX1_goal 37 = .ok (.invokevirtual 109, 3) := dk_182 0 109 (dk_at dksX1_goal_1 14 rfl rfl)
theorem dX1_goal_40 : decode cX1_goal 40 = .ok (.iload_n 3, 1) := dk_29 (dk_at dksX1_goal_1 17 rfl rfl)
theorem dX1_goal_41 : decode cX1_goal 41 = .ok (.ireturn, 1) := dk_172 (dk_at dksX1_goal_1 18 rfl rfl)
theorem dX1_goal_42 : decode cX1_goal 42 = .ok (.astore_n 3, 1) := dk_78 (dk_at dksX1_goal_1 19 rfl rfl)
theorem dX1_goal_43 : decode cX1_goal 43 = .ok (.aload_n 0, 1) := dk_42 (dk_at dksX1_goal_1 20 rfl rfl)
theorem dX1_goal_44 : decode cX1_goal 44 = .ok (.aload_n 3, 1) := dk_45 (dk_at dksX1_goal_1 21 rfl rfl)
theorem dX1_goal_45 : decode cX1_goal 45 = .ok (.invokevirtual 158, 3) := dk_182 0 158 (dk_at dksX1_goal_2 0 rfl rfl)
theorem dX1_goal_48 : decode cX1_goal 48 = .ok (.athrow, 1) := dk_191 (dk_at dksX1_goal_2 3 rfl rfl)
abbrev cX1_turn : ByteArray := prog_1_method_22_code
def yX1_turn : MethodName := ⟨RX1, "turn", "(I)I"⟩
def dkwX1_turn_1 : List UInt8 := [77, 42, 44, 182, 0, 158, 191]
abbrev dktX1_turn_1 : List UInt8 := dkwX1_turn_1 ++ []
def dkwX1_turn_0 : List UInt8 := [42, 180, 0, 21, 27, 182, 0, 165, 184, 0, 94, 42, 42, 182, 0, 135, 27, 182, 0, 168, 182, 0, 143, 172]
abbrev dktX1_turn_0 : List UInt8 := dkwX1_turn_0 ++ dktX1_turn_1
theorem dksX1_turn_0 : cX1_turn.data.toList.drop 0 = dktX1_turn_0 := by decide +kernel
theorem dksX1_turn_1 : cX1_turn.data.toList.drop 24 = dktX1_turn_1 := dk_seg dksX1_turn_0 24 rfl rfl
theorem dX1_turn_0 : decode cX1_turn 0 = .ok (.aload_n 0, 1) := dk_42 (dk_at dksX1_turn_0 0 rfl rfl)
theorem dX1_turn_1 : decode cX1_turn 1 = .ok (.getfield 21, 3) := dk_180 0 21 (dk_at dksX1_turn_0 1 rfl rfl)
theorem dX1_turn_4 : decode cX1_turn 4 = .ok (.iload_n 1, 1) := dk_27 (dk_at dksX1_turn_0 4 rfl rfl)
theorem dX1_turn_5 : decode cX1_turn 5 = .ok (.invokevirtual 165, 3) := dk_182 0 165 (dk_at dksX1_turn_0 5 rfl rfl)
theorem dX1_turn_8 : decode cX1_turn 8 = .ok (.invokestatic 94, 3) := dk_184 0 94 (dk_at dksX1_turn_0 8 rfl rfl)
theorem dX1_turn_11 : decode cX1_turn 11 = .ok (.aload_n 0, 1) := dk_42 (dk_at dksX1_turn_0 11 rfl rfl)
theorem dX1_turn_12 : decode cX1_turn 12 = .ok (.aload_n 0, 1) := dk_42 (dk_at dksX1_turn_0 12 rfl rfl)
theorem dX1_turn_13 : decode cX1_turn 13 = .ok (.invokevirtual 135, 3) := dk_182 0 135 (dk_at dksX1_turn_0 13 rfl rfl)
theorem dX1_turn_16 : decode cX1_turn 16 = .ok (.iload_n 1, 1) := dk_27 (dk_at dksX1_turn_0 16 rfl rfl)
theorem dX1_turn_17 : decode cX1_turn 17 = .ok (.invokevirtual 168, 3) := dk_182 0 168 (dk_at dksX1_turn_0 17 rfl rfl)
theorem dX1_turn_20 : decode cX1_turn 20 = .ok (.invokevirtual 143, 3) := dk_182 0 143 (dk_at dksX1_turn_0 20 rfl rfl)
theorem dX1_turn_23 : decode cX1_turn 23 = .ok (.ireturn, 1) := dk_172 (dk_at dksX1_turn_0 23 rfl rfl)
theorem dX1_turn_24 : decode cX1_turn 24 = .ok (.astore_n 2, 1) := dk_77 (dk_at dksX1_turn_1 0 rfl rfl)
theorem dX1_turn_25 : decode cX1_turn 25 = .ok (.aload_n 0, 1) := dk_42 (dk_at dksX1_turn_1 1 rfl rfl)
theorem dX1_turn_26 : decode cX1_turn 26 = .ok (.aload_n 2, 1) := dk_44 (dk_at dksX1_turn_1 2 rfl rfl)
theorem dX1_turn_27 : decode cX1_turn 27 = .ok (.invokevirtual 158, 3) := dk_182 0 158 (dk_at dksX1_turn_1 3 rfl rfl)
theorem dX1_turn_30 : decode cX1_turn 30 = .ok (.athrow, 1) := dk_191 (dk_at dksX1_turn_1 6 rfl rfl)
abbrev cX1_swap : ByteArray := prog_1_method_23_code
def yX1_swap : MethodName := ⟨RX1, "swap", "(II)I"⟩
def dkwX1_swap_2 : List UInt8 := [182, 0, 158, 191]
abbrev dktX1_swap_2 : List UInt8 := dkwX1_swap_2 ++ []
def dkwX1_swap_1 : List UInt8 := [167, 0, 4, 3, 184, 0, 94, 42, 42, 182, 0, 135, 27, 28, 182, 0, 171, 182, 0, 143, 172, 78, 42, 45]
abbrev dktX1_swap_1 : List UInt8 := dkwX1_swap_1 ++ dktX1_swap_2
def dkwX1_swap_0 : List UInt8 := [42, 180, 0, 21, 27, 182, 0, 90, 153, 0, 18, 42, 180, 0, 21, 28, 182, 0, 90, 153, 0, 7, 4]
abbrev dktX1_swap_0 : List UInt8 := dkwX1_swap_0 ++ dktX1_swap_1
theorem dksX1_swap_0 : cX1_swap.data.toList.drop 0 = dktX1_swap_0 := by decide +kernel
theorem dksX1_swap_1 : cX1_swap.data.toList.drop 23 = dktX1_swap_1 := dk_seg dksX1_swap_0 23 rfl rfl
theorem dksX1_swap_2 : cX1_swap.data.toList.drop 47 = dktX1_swap_2 := dk_seg dksX1_swap_1 24 rfl rfl
theorem dX1_swap_0 : decode cX1_swap 0 = .ok (.aload_n 0, 1) := dk_42 (dk_at dksX1_swap_0 0 rfl rfl)
theorem dX1_swap_1 : decode cX1_swap 1 = .ok (.getfield 21, 3) := dk_180 0 21 (dk_at dksX1_swap_0 1 rfl rfl)
theorem dX1_swap_4 : decode cX1_swap 4 = .ok (.iload_n 1, 1) := dk_27 (dk_at dksX1_swap_0 4 rfl rfl)
theorem dX1_swap_5 : decode cX1_swap 5 = .ok (.invokevirtual 90, 3) := dk_182 0 90 (dk_at dksX1_swap_0 5 rfl rfl)
theorem dX1_swap_8 : decode cX1_swap 8 = .ok (.ifCond .eq 18, 3) := dk_153 0 18 (dk_at dksX1_swap_0 8 rfl rfl)
theorem dX1_swap_11 : decode cX1_swap 11 = .ok (.aload_n 0, 1) := dk_42 (dk_at dksX1_swap_0 11 rfl rfl)
theorem dX1_swap_12 : decode cX1_swap 12 = .ok (.getfield 21, 3) := dk_180 0 21 (dk_at dksX1_swap_0 12 rfl rfl)
theorem dX1_swap_15 : decode cX1_swap 15 = .ok (.iload_n 2, 1) := dk_28 (dk_at dksX1_swap_0 15 rfl rfl)
theorem dX1_swap_16 : decode cX1_swap 16 = .ok (.invokevirtual 90, 3) := dk_182 0 90 (dk_at dksX1_swap_0 16 rfl rfl)
theorem dX1_swap_19 : decode cX1_swap 19 = .ok (.ifCond .eq 7, 3) := dk_153 0 7 (dk_at dksX1_swap_0 19 rfl rfl)
theorem dX1_swap_22 : decode cX1_swap 22 = .ok (.iconst 1, 1) := dk_4 (dk_at dksX1_swap_0 22 rfl rfl)
theorem dX1_swap_23 : decode cX1_swap 23 = .ok (.goto 4, 3) := dk_167 0 4 (dk_at dksX1_swap_1 0 rfl rfl)
theorem dX1_swap_26 : decode cX1_swap 26 = .ok (.iconst 0, 1) := dk_3 (dk_at dksX1_swap_1 3 rfl rfl)
theorem dX1_swap_27 : decode cX1_swap 27 = .ok (.invokestatic 94, 3) := dk_184 0 94 (dk_at dksX1_swap_1 4 rfl rfl)
theorem dX1_swap_30 : decode cX1_swap 30 = .ok (.aload_n 0, 1) := dk_42 (dk_at dksX1_swap_1 7 rfl rfl)
theorem dX1_swap_31 : decode cX1_swap 31 = .ok (.aload_n 0, 1) := dk_42 (dk_at dksX1_swap_1 8 rfl rfl)
theorem dX1_swap_32 : decode cX1_swap 32 = .ok (.invokevirtual 135, 3) := dk_182 0 135 (dk_at dksX1_swap_1 9 rfl rfl)
theorem dX1_swap_35 : decode cX1_swap 35 = .ok (.iload_n 1, 1) := dk_27 (dk_at dksX1_swap_1 12 rfl rfl)
theorem dX1_swap_36 : decode cX1_swap 36 = .ok (.iload_n 2, 1) := dk_28 (dk_at dksX1_swap_1 13 rfl rfl)
theorem dX1_swap_37 : decode cX1_swap 37 = .ok (.invokevirtual 171, 3) := dk_182 0 171 (dk_at dksX1_swap_1 14 rfl rfl)
theorem dX1_swap_40 : decode cX1_swap 40 = .ok (.invokevirtual 143, 3) := dk_182 0 143 (dk_at dksX1_swap_1 17 rfl rfl)
theorem dX1_swap_43 : decode cX1_swap 43 = .ok (.ireturn, 1) := dk_172 (dk_at dksX1_swap_1 20 rfl rfl)
theorem dX1_swap_44 : decode cX1_swap 44 = .ok (.astore_n 3, 1) := dk_78 (dk_at dksX1_swap_1 21 rfl rfl)
theorem dX1_swap_45 : decode cX1_swap 45 = .ok (.aload_n 0, 1) := dk_42 (dk_at dksX1_swap_1 22 rfl rfl)
theorem dX1_swap_46 : decode cX1_swap 46 = .ok (.aload_n 3, 1) := dk_45 (dk_at dksX1_swap_1 23 rfl rfl)
theorem dX1_swap_47 : decode cX1_swap 47 = .ok (.invokevirtual 158, 3) := dk_182 0 158 (dk_at dksX1_swap_2 0 rfl rfl)
theorem dX1_swap_50 : decode cX1_swap 50 = .ok (.athrow, 1) := dk_191 (dk_at dksX1_swap_2 3 rfl rfl)
abbrev cX1_bar : ByteArray := prog_1_method_24_code
def yX1_bar : MethodName := ⟨RX1, "bar", "(I)Z"⟩
def dkwX1_bar_0 : List UInt8 := [42, 27, 182, 0, 174, 42, 182, 0, 135, 27, 182, 0, 177, 61, 42, 182, 0, 109, 28, 172]
abbrev dktX1_bar_0 : List UInt8 := dkwX1_bar_0 ++ []
theorem dksX1_bar_0 : cX1_bar.data.toList.drop 0 = dktX1_bar_0 := by decide +kernel
theorem dX1_bar_0 : decode cX1_bar 0 = .ok (.aload_n 0, 1) := dk_42 (dk_at dksX1_bar_0 0 rfl rfl)
theorem dX1_bar_1 : decode cX1_bar 1 = .ok (.iload_n 1, 1) := dk_27 (dk_at dksX1_bar_0 1 rfl rfl)
theorem dX1_bar_2 : decode cX1_bar 2 = .ok (.invokevirtual 174, 3) := dk_182 0 174 (dk_at dksX1_bar_0 2 rfl rfl)
theorem dX1_bar_5 : decode cX1_bar 5 = .ok (.aload_n 0, 1) := dk_42 (dk_at dksX1_bar_0 5 rfl rfl)
theorem dX1_bar_6 : decode cX1_bar 6 = .ok (.invokevirtual 135, 3) := dk_182 0 135 (dk_at dksX1_bar_0 6 rfl rfl)
theorem dX1_bar_9 : decode cX1_bar 9 = .ok (.iload_n 1, 1) := dk_27 (dk_at dksX1_bar_0 9 rfl rfl)
theorem dX1_bar_10 : decode cX1_bar 10 = .ok (.invokevirtual 177, 3) := dk_182 0 177 (dk_at dksX1_bar_0 10 rfl rfl)
theorem dX1_bar_13 : decode cX1_bar 13 = .ok (.istore_n 2, 1) := dk_61 (dk_at dksX1_bar_0 13 rfl rfl)
theorem dX1_bar_14 : decode cX1_bar 14 = .ok (.aload_n 0, 1) := dk_42 (dk_at dksX1_bar_0 14 rfl rfl)
theorem dX1_bar_15 : decode cX1_bar 15 = .ok (.invokevirtual 109, 3) := dk_182 0 109 (dk_at dksX1_bar_0 15 rfl rfl)
theorem dX1_bar_18 : decode cX1_bar 18 = .ok (.iload_n 2, 1) := dk_28 (dk_at dksX1_bar_0 18 rfl rfl)
theorem dX1_bar_19 : decode cX1_bar 19 = .ok (.ireturn, 1) := dk_172 (dk_at dksX1_bar_0 19 rfl rfl)
abbrev cX1_checkLine : ByteArray := prog_1_method_14_code
def yX1_checkLine : MethodName := ⟨RX1, "checkLine", "(I)V"⟩
def dkwX1_checkLine_0 : List UInt8 := [42, 180, 0, 21, 27, 182, 0, 98, 184, 0, 94, 177]
abbrev dktX1_checkLine_0 : List UInt8 := dkwX1_checkLine_0 ++ []
theorem dksX1_checkLine_0 : cX1_checkLine.data.toList.drop 0 = dktX1_checkLine_0 := by decide +kernel
theorem dX1_checkLine_0 : decode cX1_checkLine 0 = .ok (.aload_n 0, 1) := dk_42 (dk_at dksX1_checkLine_0 0 rfl rfl)
theorem dX1_checkLine_1 : decode cX1_checkLine 1 = .ok (.getfield 21, 3) := dk_180 0 21 (dk_at dksX1_checkLine_0 1 rfl rfl)
theorem dX1_checkLine_4 : decode cX1_checkLine 4 = .ok (.iload_n 1, 1) := dk_27 (dk_at dksX1_checkLine_0 4 rfl rfl)
theorem dX1_checkLine_5 : decode cX1_checkLine 5 = .ok (.invokevirtual 98, 3) := dk_182 0 98 (dk_at dksX1_checkLine_0 5 rfl rfl)
theorem dX1_checkLine_8 : decode cX1_checkLine 8 = .ok (.invokestatic 94, 3) := dk_184 0 94 (dk_at dksX1_checkLine_0 8 rfl rfl)
theorem dX1_checkLine_11 : decode cX1_checkLine 11 = .ok (.return_, 1) := dk_177 (dk_at dksX1_checkLine_0 11 rfl rfl)
abbrev cX1_scramble : ByteArray := prog_1_method_25_code
def yX1_scramble : MethodName := ⟨RX1, "scramble", "(II)I"⟩
def dkwX1_scramble_0 : List UInt8 := [27, 28, 184, 0, 180, 184, 0, 132, 42, 42, 182, 0, 135, 27, 28, 182, 0, 183, 182, 0, 143, 172]
abbrev dktX1_scramble_0 : List UInt8 := dkwX1_scramble_0 ++ []
theorem dksX1_scramble_0 : cX1_scramble.data.toList.drop 0 = dktX1_scramble_0 := by decide +kernel
theorem dX1_scramble_0 : decode cX1_scramble 0 = .ok (.iload_n 1, 1) := dk_27 (dk_at dksX1_scramble_0 0 rfl rfl)
theorem dX1_scramble_1 : decode cX1_scramble 1 = .ok (.iload_n 2, 1) := dk_28 (dk_at dksX1_scramble_0 1 rfl rfl)
theorem dX1_scramble_2 : decode cX1_scramble 2 = .ok (.invokestatic 180, 3) := dk_184 0 180 (dk_at dksX1_scramble_0 2 rfl rfl)
theorem dX1_scramble_5 : decode cX1_scramble 5 = .ok (.invokestatic 132, 3) := dk_184 0 132 (dk_at dksX1_scramble_0 5 rfl rfl)
theorem dX1_scramble_8 : decode cX1_scramble 8 = .ok (.aload_n 0, 1) := dk_42 (dk_at dksX1_scramble_0 8 rfl rfl)
theorem dX1_scramble_9 : decode cX1_scramble 9 = .ok (.aload_n 0, 1) := dk_42 (dk_at dksX1_scramble_0 9 rfl rfl)
theorem dX1_scramble_10 : decode cX1_scramble 10 = .ok (.invokevirtual 135, 3) := dk_182 0 135 (dk_at dksX1_scramble_0 10 rfl rfl)
theorem dX1_scramble_13 : decode cX1_scramble 13 = .ok (.iload_n 1, 1) := dk_27 (dk_at dksX1_scramble_0 13 rfl rfl)
theorem dX1_scramble_14 : decode cX1_scramble 14 = .ok (.iload_n 2, 1) := dk_28 (dk_at dksX1_scramble_0 14 rfl rfl)
theorem dX1_scramble_15 : decode cX1_scramble 15 = .ok (.invokevirtual 183, 3) := dk_182 0 183 (dk_at dksX1_scramble_0 15 rfl rfl)
theorem dX1_scramble_18 : decode cX1_scramble 18 = .ok (.invokevirtual 143, 3) := dk_182 0 143 (dk_at dksX1_scramble_0 18 rfl rfl)
theorem dX1_scramble_21 : decode cX1_scramble 21 = .ok (.ireturn, 1) := dk_172 (dk_at dksX1_scramble_0 21 rfl rfl)
abbrev cX1_isScramble : ByteArray := prog_1_method_6_code
def yX1_isScramble : MethodName := ⟨RX1, "isScramble", "(II)Z"⟩
def dkwX1_isScramble_1 : List UInt8 := [167, 0, 4, 3, 172]
abbrev dktX1_isScramble_1 : List UInt8 := dkwX1_isScramble_1 ++ []
def dkwX1_isScramble_0 : List UInt8 := [26, 3, 17, 3, 231, 184, 0, 7, 153, 0, 17, 27, 4, 16, 9, 184, 0, 7, 153, 0, 7, 4]
abbrev dktX1_isScramble_0 : List UInt8 := dkwX1_isScramble_0 ++ dktX1_isScramble_1
theorem dksX1_isScramble_0 : cX1_isScramble.data.toList.drop 0 = dktX1_isScramble_0 := by decide +kernel
theorem dksX1_isScramble_1 : cX1_isScramble.data.toList.drop 22 = dktX1_isScramble_1 := dk_seg dksX1_isScramble_0 22 rfl rfl
theorem dX1_isScramble_0 : decode cX1_isScramble 0 = .ok (.iload_n 0, 1) := dk_26 (dk_at dksX1_isScramble_0 0 rfl rfl)
theorem dX1_isScramble_1 : decode cX1_isScramble 1 = .ok (.iconst 0, 1) := dk_3 (dk_at dksX1_isScramble_0 1 rfl rfl)
theorem dX1_isScramble_2 : decode cX1_isScramble 2 = .ok (.sipush 999, 3) := dk_17 3 231 (dk_at dksX1_isScramble_0 2 rfl rfl)
theorem dX1_isScramble_5 : decode cX1_isScramble 5 = .ok (.invokestatic 7, 3) := dk_184 0 7 (dk_at dksX1_isScramble_0 5 rfl rfl)
theorem dX1_isScramble_8 : decode cX1_isScramble 8 = .ok (.ifCond .eq 17, 3) := dk_153 0 17 (dk_at dksX1_isScramble_0 8 rfl rfl)
theorem dX1_isScramble_11 : decode cX1_isScramble 11 = .ok (.iload_n 1, 1) := dk_27 (dk_at dksX1_isScramble_0 11 rfl rfl)
theorem dX1_isScramble_12 : decode cX1_isScramble 12 = .ok (.iconst 1, 1) := dk_4 (dk_at dksX1_isScramble_0 12 rfl rfl)
theorem dX1_isScramble_13 : decode cX1_isScramble 13 = .ok (.bipush 9, 2) := dk_16 9 (dk_at dksX1_isScramble_0 13 rfl rfl)
theorem dX1_isScramble_15 : decode cX1_isScramble 15 = .ok (.invokestatic 7, 3) := dk_184 0 7 (dk_at dksX1_isScramble_0 15 rfl rfl)
theorem dX1_isScramble_18 : decode cX1_isScramble 18 = .ok (.ifCond .eq 7, 3) := dk_153 0 7 (dk_at dksX1_isScramble_0 18 rfl rfl)
theorem dX1_isScramble_21 : decode cX1_isScramble 21 = .ok (.iconst 1, 1) := dk_4 (dk_at dksX1_isScramble_0 21 rfl rfl)
theorem dX1_isScramble_22 : decode cX1_isScramble 22 = .ok (.goto 4, 3) := dk_167 0 4 (dk_at dksX1_isScramble_1 0 rfl rfl)
theorem dX1_isScramble_25 : decode cX1_isScramble 25 = .ok (.iconst 0, 1) := dk_3 (dk_at dksX1_isScramble_1 3 rfl rfl)
theorem dX1_isScramble_26 : decode cX1_isScramble 26 = .ok (.ireturn, 1) := dk_172 (dk_at dksX1_isScramble_1 4 rfl rfl)
abbrev cX1_step : ByteArray := prog_1_method_26_code
def yX1_step : MethodName := ⟨RX1, "step", "()I"⟩
def dkwX1_step_1 : List UInt8 := [159, 0, 7, 4, 167, 0, 4, 3, 184, 0, 189, 42, 27, 182, 0, 143, 172]
abbrev dktX1_step_1 : List UInt8 := dkwX1_step_1 ++ []
def dkwX1_step_0 : List UInt8 := [2, 60, 42, 182, 0, 135, 182, 0, 186, 60, 167, 0, 10, 77, 42, 44, 182, 0, 158, 191, 27, 2]
abbrev dktX1_step_0 : List UInt8 := dkwX1_step_0 ++ dktX1_step_1
theorem dksX1_step_0 : cX1_step.data.toList.drop 0 = dktX1_step_0 := by decide +kernel
theorem dksX1_step_1 : cX1_step.data.toList.drop 22 = dktX1_step_1 := dk_seg dksX1_step_0 22 rfl rfl
theorem dX1_step_0 : decode cX1_step 0 = .ok (.iconst (-1), 1) := dk_2 (dk_at dksX1_step_0 0 rfl rfl)
theorem dX1_step_1 : decode cX1_step 1 = .ok (.istore_n 1, 1) := dk_60 (dk_at dksX1_step_0 1 rfl rfl)
theorem dX1_step_2 : decode cX1_step 2 = .ok (.aload_n 0, 1) := dk_42 (dk_at dksX1_step_0 2 rfl rfl)
theorem dX1_step_3 : decode cX1_step 3 = .ok (.invokevirtual 135, 3) := dk_182 0 135 (dk_at dksX1_step_0 3 rfl rfl)
theorem dX1_step_6 : decode cX1_step 6 = .ok (.invokevirtual 186, 3) := dk_182 0 186 (dk_at dksX1_step_0 6 rfl rfl)
theorem dX1_step_9 : decode cX1_step 9 = .ok (.istore_n 1, 1) := dk_60 (dk_at dksX1_step_0 9 rfl rfl)
theorem dX1_step_10 : decode cX1_step 10 = .ok (.goto 10, 3) := dk_167 0 10 (dk_at dksX1_step_0 10 rfl rfl)
theorem dX1_step_13 : decode cX1_step 13 = .ok (.astore_n 2, 1) := dk_77 (dk_at dksX1_step_0 13 rfl rfl)
theorem dX1_step_14 : decode cX1_step 14 = .ok (.aload_n 0, 1) := dk_42 (dk_at dksX1_step_0 14 rfl rfl)
theorem dX1_step_15 : decode cX1_step 15 = .ok (.aload_n 2, 1) := dk_44 (dk_at dksX1_step_0 15 rfl rfl)
theorem dX1_step_16 : decode cX1_step 16 = .ok (.invokevirtual 158, 3) := dk_182 0 158 (dk_at dksX1_step_0 16 rfl rfl)
theorem dX1_step_19 : decode cX1_step 19 = .ok (.athrow, 1) := dk_191 (dk_at dksX1_step_0 19 rfl rfl)
theorem dX1_step_20 : decode cX1_step 20 = .ok (.iload_n 1, 1) := dk_27 (dk_at dksX1_step_0 20 rfl rfl)
theorem dX1_step_21 : decode cX1_step 21 = .ok (.iconst (-1), 1) := dk_2 (dk_at dksX1_step_0 21 rfl rfl)
theorem dX1_step_22 : decode cX1_step 22 = .ok (.if_icmp .eq 7, 3) := dk_159 0 7 (dk_at dksX1_step_1 0 rfl rfl)
theorem dX1_step_25 : decode cX1_step 25 = .ok (.iconst 1, 1) := dk_4 (dk_at dksX1_step_1 3 rfl rfl)
theorem dX1_step_26 : decode cX1_step 26 = .ok (.goto 4, 3) := dk_167 0 4 (dk_at dksX1_step_1 4 rfl rfl)
theorem dX1_step_29 : decode cX1_step 29 = .ok (.iconst 0, 1) := dk_3 (dk_at dksX1_step_1 7 rfl rfl)
theorem dX1_step_30 : decode cX1_step 30 = .ok (.invokestatic 189, 3) := dk_184 0 189 (dk_at dksX1_step_1 8 rfl rfl)
theorem dX1_step_33 : decode cX1_step 33 = .ok (.aload_n 0, 1) := dk_42 (dk_at dksX1_step_1 11 rfl rfl)
theorem dX1_step_34 : decode cX1_step 34 = .ok (.iload_n 1, 1) := dk_27 (dk_at dksX1_step_1 12 rfl rfl)
theorem dX1_step_35 : decode cX1_step 35 = .ok (.invokevirtual 143, 3) := dk_182 0 143 (dk_at dksX1_step_1 13 rfl rfl)
theorem dX1_step_38 : decode cX1_step 38 = .ok (.ireturn, 1) := dk_172 (dk_at dksX1_step_1 16 rfl rfl)
abbrev cX1_checkElement : ByteArray := prog_1_method_9_code
def yX1_checkElement : MethodName := ⟨RX1, "checkElement", "(Z)V"⟩
def dkwX1_checkElement_0 : List UInt8 := [26, 154, 0, 11, 187, 0, 68, 89, 183, 0, 70, 191, 177]
abbrev dktX1_checkElement_0 : List UInt8 := dkwX1_checkElement_0 ++ []
theorem dksX1_checkElement_0 : cX1_checkElement.data.toList.drop 0 = dktX1_checkElement_0 := by decide +kernel
theorem dX1_checkElement_0 : decode cX1_checkElement 0 = .ok (.iload_n 0, 1) := dk_26 (dk_at dksX1_checkElement_0 0 rfl rfl)
theorem dX1_checkElement_1 : decode cX1_checkElement 1 = .ok (.ifCond .ne 11, 3) := dk_154 0 11 (dk_at dksX1_checkElement_0 1 rfl rfl)
theorem dX1_checkElement_4 : decode cX1_checkElement 4 = .ok (.new 68, 3) := dk_187 0 68 (dk_at dksX1_checkElement_0 4 rfl rfl)
theorem dX1_checkElement_7 : decode cX1_checkElement 7 = .ok (.dup, 1) := dk_89 (dk_at dksX1_checkElement_0 7 rfl rfl)
theorem dX1_checkElement_8 : decode cX1_checkElement 8 = .ok (.invokespecial 70, 3) := dk_183 0 70 (dk_at dksX1_checkElement_0 8 rfl rfl)
theorem dX1_checkElement_11 : decode cX1_checkElement 11 = .ok (.athrow, 1) := dk_191 (dk_at dksX1_checkElement_0 11 rfl rfl)
theorem dX1_checkElement_12 : decode cX1_checkElement 12 = .ok (.return_, 1) := dk_177 (dk_at dksX1_checkElement_0 12 rfl rfl)
abbrev cX1_letter : ByteArray := prog_1_method_27_code
def yX1_letter : MethodName := ⟨RX1, "letter", "(I)C"⟩
def dkwX1_letter_0 : List UInt8 := [42, 27, 182, 0, 146, 42, 180, 0, 21, 180, 0, 192, 27, 52, 172]
abbrev dktX1_letter_0 : List UInt8 := dkwX1_letter_0 ++ []
theorem dksX1_letter_0 : cX1_letter.data.toList.drop 0 = dktX1_letter_0 := by decide +kernel
theorem dX1_letter_0 : decode cX1_letter 0 = .ok (.aload_n 0, 1) := dk_42 (dk_at dksX1_letter_0 0 rfl rfl)
theorem dX1_letter_1 : decode cX1_letter 1 = .ok (.iload_n 1, 1) := dk_27 (dk_at dksX1_letter_0 1 rfl rfl)
theorem dX1_letter_2 : decode cX1_letter 2 = .ok (.invokevirtual 146, 3) := dk_182 0 146 (dk_at dksX1_letter_0 2 rfl rfl)
theorem dX1_letter_5 : decode cX1_letter 5 = .ok (.aload_n 0, 1) := dk_42 (dk_at dksX1_letter_0 5 rfl rfl)
theorem dX1_letter_6 : decode cX1_letter 6 = .ok (.getfield 21, 3) := dk_180 0 21 (dk_at dksX1_letter_0 6 rfl rfl)
theorem dX1_letter_9 : decode cX1_letter 9 = .ok (.getfield 192, 3) := dk_180 0 192 (dk_at dksX1_letter_0 9 rfl rfl)
theorem dX1_letter_12 : decode cX1_letter 12 = .ok (.iload_n 1, 1) := dk_27 (dk_at dksX1_letter_0 12 rfl rfl)
theorem dX1_letter_13 : decode cX1_letter 13 = .ok (.caload, 1) := dk_52 (dk_at dksX1_letter_0 13 rfl rfl)
theorem dX1_letter_14 : decode cX1_letter 14 = .ok (.ireturn, 1) := dk_172 (dk_at dksX1_letter_0 14 rfl rfl)
abbrev cX1_sign : ByteArray := prog_1_method_28_code
def yX1_sign : MethodName := ⟨RX1, "sign", "(I)C"⟩
def dkwX1_sign_0 : List UInt8 := [42, 27, 182, 0, 146, 42, 180, 0, 21, 180, 0, 196, 27, 52, 172]
abbrev dktX1_sign_0 : List UInt8 := dkwX1_sign_0 ++ []
theorem dksX1_sign_0 : cX1_sign.data.toList.drop 0 = dktX1_sign_0 := by decide +kernel
theorem dX1_sign_0 : decode cX1_sign 0 = .ok (.aload_n 0, 1) := dk_42 (dk_at dksX1_sign_0 0 rfl rfl)
theorem dX1_sign_1 : decode cX1_sign 1 = .ok (.iload_n 1, 1) := dk_27 (dk_at dksX1_sign_0 1 rfl rfl)
theorem dX1_sign_2 : decode cX1_sign 2 = .ok (.invokevirtual 146, 3) := dk_182 0 146 (dk_at dksX1_sign_0 2 rfl rfl)
theorem dX1_sign_5 : decode cX1_sign 5 = .ok (.aload_n 0, 1) := dk_42 (dk_at dksX1_sign_0 5 rfl rfl)
theorem dX1_sign_6 : decode cX1_sign 6 = .ok (.getfield 21, 3) := dk_180 0 21 (dk_at dksX1_sign_0 6 rfl rfl)
theorem dX1_sign_9 : decode cX1_sign 9 = .ok (.getfield 196, 3) := dk_180 0 196 (dk_at dksX1_sign_0 9 rfl rfl)
theorem dX1_sign_12 : decode cX1_sign 12 = .ok (.iload_n 1, 1) := dk_27 (dk_at dksX1_sign_0 12 rfl rfl)
theorem dX1_sign_13 : decode cX1_sign 13 = .ok (.caload, 1) := dk_52 (dk_at dksX1_sign_0 13 rfl rfl)
theorem dX1_sign_14 : decode cX1_sign 14 = .ok (.ireturn, 1) := dk_172 (dk_at dksX1_sign_0 14 rfl rfl)
abbrev cX1_isBarred : ByteArray := prog_1_method_29_code
def yX1_isBarred : MethodName := ⟨RX1, "isBarred", "(I)Z"⟩
def dkwX1_isBarred_0 : List UInt8 := [42, 27, 182, 0, 174, 42, 180, 0, 21, 180, 0, 198, 27, 51, 172]
abbrev dktX1_isBarred_0 : List UInt8 := dkwX1_isBarred_0 ++ []
theorem dksX1_isBarred_0 : cX1_isBarred.data.toList.drop 0 = dktX1_isBarred_0 := by decide +kernel
theorem dX1_isBarred_0 : decode cX1_isBarred 0 = .ok (.aload_n 0, 1) := dk_42 (dk_at dksX1_isBarred_0 0 rfl rfl)
theorem dX1_isBarred_1 : decode cX1_isBarred 1 = .ok (.iload_n 1, 1) := dk_27 (dk_at dksX1_isBarred_0 1 rfl rfl)
theorem dX1_isBarred_2 : decode cX1_isBarred 2 = .ok (.invokevirtual 174, 3) := dk_182 0 174 (dk_at dksX1_isBarred_0 2 rfl rfl)
theorem dX1_isBarred_5 : decode cX1_isBarred 5 = .ok (.aload_n 0, 1) := dk_42 (dk_at dksX1_isBarred_0 5 rfl rfl)
theorem dX1_isBarred_6 : decode cX1_isBarred 6 = .ok (.getfield 21, 3) := dk_180 0 21 (dk_at dksX1_isBarred_0 6 rfl rfl)
theorem dX1_isBarred_9 : decode cX1_isBarred 9 = .ok (.getfield 198, 3) := dk_180 0 198 (dk_at dksX1_isBarred_0 9 rfl rfl)
theorem dX1_isBarred_12 : decode cX1_isBarred 12 = .ok (.iload_n 1, 1) := dk_27 (dk_at dksX1_isBarred_0 12 rfl rfl)
theorem dX1_isBarred_13 : decode cX1_isBarred 13 = .ok (.baload, 1) := dk_51 (dk_at dksX1_isBarred_0 13 rfl rfl)
theorem dX1_isBarred_14 : decode cX1_isBarred 14 = .ok (.ireturn, 1) := dk_172 (dk_at dksX1_isBarred_0 14 rfl rfl)
abbrev cX1_boardOf : ByteArray := prog_1_method_30_code
def yX1_boardOf : MethodName := ⟨RX1, "boardOf", "(I)I"⟩
def dkwX1_boardOf_4 : List UInt8 := [172]
abbrev dktX1_boardOf_4 : List UInt8 := dkwX1_boardOf_4 ++ []
def dkwX1_boardOf_3 : List UInt8 := [186, 0, 215, 0, 0, 182, 0, 219, 104, 172, 44, 182, 0, 223, 172, 44, 182, 0, 226, 172, 44, 182, 0, 229]
abbrev dktX1_boardOf_3 : List UInt8 := dkwX1_boardOf_3 ++ dktX1_boardOf_4
def dkwX1_boardOf_2 : List UInt8 := [44, 180, 0, 202, 172, 44, 180, 0, 205, 172, 44, 182, 0, 208, 172, 5, 42, 182, 0, 211, 44]
abbrev dktX1_boardOf_2 : List UInt8 := dkwX1_boardOf_2 ++ dktX1_boardOf_3
def dkwX1_boardOf_1 : List UInt8 := [170, 0, 0, 0, 0, 0, 0, 81, 0, 0, 0, 0, 0, 0, 0, 5, 0, 0, 0, 40, 0, 0, 0, 45, 0, 0, 0, 50, 0, 0, 0, 55, 0, 0, 0, 71, 0, 0, 0, 76]
abbrev dktX1_boardOf_1 : List UInt8 := dkwX1_boardOf_1 ++ dktX1_boardOf_2
def dkwX1_boardOf_0 : List UInt8 := [27, 3, 16, 6, 184, 0, 7, 184, 0, 132, 42, 180, 0, 21, 77, 27]
abbrev dktX1_boardOf_0 : List UInt8 := dkwX1_boardOf_0 ++ dktX1_boardOf_1
theorem dksX1_boardOf_0 : cX1_boardOf.data.toList.drop 0 = dktX1_boardOf_0 := by decide +kernel
theorem dksX1_boardOf_1 : cX1_boardOf.data.toList.drop 16 = dktX1_boardOf_1 := dk_seg dksX1_boardOf_0 16 rfl rfl
theorem dksX1_boardOf_2 : cX1_boardOf.data.toList.drop 56 = dktX1_boardOf_2 := dk_seg dksX1_boardOf_1 40 rfl rfl
theorem dksX1_boardOf_3 : cX1_boardOf.data.toList.drop 77 = dktX1_boardOf_3 := dk_seg dksX1_boardOf_2 21 rfl rfl
theorem dksX1_boardOf_4 : cX1_boardOf.data.toList.drop 101 = dktX1_boardOf_4 := dk_seg dksX1_boardOf_3 24 rfl rfl
theorem dX1_boardOf_0 : decode cX1_boardOf 0 = .ok (.iload_n 1, 1) := dk_27 (dk_at dksX1_boardOf_0 0 rfl rfl)
theorem dX1_boardOf_1 : decode cX1_boardOf 1 = .ok (.iconst 0, 1) := dk_3 (dk_at dksX1_boardOf_0 1 rfl rfl)
theorem dX1_boardOf_2 : decode cX1_boardOf 2 = .ok (.bipush 6, 2) := dk_16 6 (dk_at dksX1_boardOf_0 2 rfl rfl)
theorem dX1_boardOf_4 : decode cX1_boardOf 4 = .ok (.invokestatic 7, 3) := dk_184 0 7 (dk_at dksX1_boardOf_0 4 rfl rfl)
theorem dX1_boardOf_7 : decode cX1_boardOf 7 = .ok (.invokestatic 132, 3) := dk_184 0 132 (dk_at dksX1_boardOf_0 7 rfl rfl)
theorem dX1_boardOf_10 : decode cX1_boardOf 10 = .ok (.aload_n 0, 1) := dk_42 (dk_at dksX1_boardOf_0 10 rfl rfl)
theorem dX1_boardOf_11 : decode cX1_boardOf 11 = .ok (.getfield 21, 3) := dk_180 0 21 (dk_at dksX1_boardOf_0 11 rfl rfl)
theorem dX1_boardOf_14 : decode cX1_boardOf 14 = .ok (.astore_n 2, 1) := dk_77 (dk_at dksX1_boardOf_0 14 rfl rfl)
theorem dX1_boardOf_15 : decode cX1_boardOf 15 = .ok (.iload_n 1, 1) := dk_27 (dk_at dksX1_boardOf_0 15 rfl rfl)
theorem dX1_boardOf_16 : decode cX1_boardOf 16 = .ok (.tableswitch 81 0 5 #[40, 45, 50, 55, 71, 76], 40) := by decide +kernel
theorem dX1_boardOf_56 : decode cX1_boardOf 56 = .ok (.aload_n 2, 1) := dk_44 (dk_at dksX1_boardOf_2 0 rfl rfl)
theorem dX1_boardOf_57 : decode cX1_boardOf 57 = .ok (.getfield 202, 3) := dk_180 0 202 (dk_at dksX1_boardOf_2 1 rfl rfl)
theorem dX1_boardOf_60 : decode cX1_boardOf 60 = .ok (.ireturn, 1) := dk_172 (dk_at dksX1_boardOf_2 4 rfl rfl)
theorem dX1_boardOf_61 : decode cX1_boardOf 61 = .ok (.aload_n 2, 1) := dk_44 (dk_at dksX1_boardOf_2 5 rfl rfl)
theorem dX1_boardOf_62 : decode cX1_boardOf 62 = .ok (.getfield 205, 3) := dk_180 0 205 (dk_at dksX1_boardOf_2 6 rfl rfl)
theorem dX1_boardOf_65 : decode cX1_boardOf 65 = .ok (.ireturn, 1) := dk_172 (dk_at dksX1_boardOf_2 9 rfl rfl)
theorem dX1_boardOf_66 : decode cX1_boardOf 66 = .ok (.aload_n 2, 1) := dk_44 (dk_at dksX1_boardOf_2 10 rfl rfl)
theorem dX1_boardOf_67 : decode cX1_boardOf 67 = .ok (.invokevirtual 208, 3) := dk_182 0 208 (dk_at dksX1_boardOf_2 11 rfl rfl)
theorem dX1_boardOf_70 : decode cX1_boardOf 70 = .ok (.ireturn, 1) := dk_172 (dk_at dksX1_boardOf_2 14 rfl rfl)
theorem dX1_boardOf_71 : decode cX1_boardOf 71 = .ok (.iconst 2, 1) := dk_5 (dk_at dksX1_boardOf_2 15 rfl rfl)
theorem dX1_boardOf_72 : decode cX1_boardOf 72 = .ok (.aload_n 0, 1) := dk_42 (dk_at dksX1_boardOf_2 16 rfl rfl)
theorem dX1_boardOf_73 : decode cX1_boardOf 73 = .ok (.invokevirtual 211, 3) := dk_182 0 211 (dk_at dksX1_boardOf_2 17 rfl rfl)
theorem dX1_boardOf_76 : decode cX1_boardOf 76 = .ok (.aload_n 2, 1) := dk_44 (dk_at dksX1_boardOf_2 20 rfl rfl)
theorem dX1_boardOf_77 : decode cX1_boardOf 77 = .ok (.invokedynamic 215, 5) := by decide +kernel
theorem dX1_boardOf_82 : decode cX1_boardOf 82 = .ok (.invokevirtual 219, 3) := dk_182 0 219 (dk_at dksX1_boardOf_3 5 rfl rfl)
theorem dX1_boardOf_85 : decode cX1_boardOf 85 = .ok (.imul, 1) := dk_104 (dk_at dksX1_boardOf_3 8 rfl rfl)
theorem dX1_boardOf_86 : decode cX1_boardOf 86 = .ok (.ireturn, 1) := dk_172 (dk_at dksX1_boardOf_3 9 rfl rfl)
theorem dX1_boardOf_87 : decode cX1_boardOf 87 = .ok (.aload_n 2, 1) := dk_44 (dk_at dksX1_boardOf_3 10 rfl rfl)
theorem dX1_boardOf_88 : decode cX1_boardOf 88 = .ok (.invokevirtual 223, 3) := dk_182 0 223 (dk_at dksX1_boardOf_3 11 rfl rfl)
theorem dX1_boardOf_91 : decode cX1_boardOf 91 = .ok (.ireturn, 1) := dk_172 (dk_at dksX1_boardOf_3 14 rfl rfl)
theorem dX1_boardOf_92 : decode cX1_boardOf 92 = .ok (.aload_n 2, 1) := dk_44 (dk_at dksX1_boardOf_3 15 rfl rfl)
theorem dX1_boardOf_93 : decode cX1_boardOf 93 = .ok (.invokevirtual 226, 3) := dk_182 0 226 (dk_at dksX1_boardOf_3 16 rfl rfl)
theorem dX1_boardOf_96 : decode cX1_boardOf 96 = .ok (.ireturn, 1) := dk_172 (dk_at dksX1_boardOf_3 19 rfl rfl)
theorem dX1_boardOf_97 : decode cX1_boardOf 97 = .ok (.aload_n 2, 1) := dk_44 (dk_at dksX1_boardOf_3 20 rfl rfl)
theorem dX1_boardOf_98 : decode cX1_boardOf 98 = .ok (.invokevirtual 229, 3) := dk_182 0 229 (dk_at dksX1_boardOf_3 21 rfl rfl)
theorem dX1_boardOf_101 : decode cX1_boardOf 101 = .ok (.ireturn, 1) := dk_172 (dk_at dksX1_boardOf_4 0 rfl rfl)
abbrev cX1_lambda_boardOf_0 : ByteArray := prog_1_method_61_code
def yX1_lambda_boardOf_0 : MethodName := ⟨RX1, "lambda$boardOf$0", "(LVowelTorus$Puzzle;Ljava/lang/Integer;)Z"⟩
def dkwX1_lambda_boardOf_0_0 : List UInt8 := [42, 180, 0, 198, 43, 182, 1, 28, 51, 154, 0, 7, 4, 167, 0, 4, 3, 172]
abbrev dktX1_lambda_boardOf_0_0 : List UInt8 := dkwX1_lambda_boardOf_0_0 ++ []
theorem dksX1_lambda_boardOf_0_0 : cX1_lambda_boardOf_0.data.toList.drop 0 = dktX1_lambda_boardOf_0_0 := by decide +kernel
theorem dX1_lambda_boardOf_0_0 : decode cX1_lambda_boardOf_0 0 = .ok (.aload_n 0, 1) := dk_42 (dk_at dksX1_lambda_boardOf_0_0 0 rfl rfl)
theorem dX1_lambda_boardOf_0_1 : decode cX1_lambda_boardOf_0 1 = .ok (.getfield 198, 3) := dk_180 0 198 (dk_at dksX1_lambda_boardOf_0_0 1 rfl rfl)
theorem dX1_lambda_boardOf_0_4 : decode cX1_lambda_boardOf_0 4 = .ok (.aload_n 1, 1) := dk_43 (dk_at dksX1_lambda_boardOf_0_0 4 rfl rfl)
theorem dX1_lambda_boardOf_0_5 : decode cX1_lambda_boardOf_0 5 = .ok (.invokevirtual 284, 3) := dk_182 1 28 (dk_at dksX1_lambda_boardOf_0_0 5 rfl rfl)
theorem dX1_lambda_boardOf_0_8 : decode cX1_lambda_boardOf_0 8 = .ok (.baload, 1) := dk_51 (dk_at dksX1_lambda_boardOf_0_0 8 rfl rfl)
theorem dX1_lambda_boardOf_0_9 : decode cX1_lambda_boardOf_0 9 = .ok (.ifCond .ne 7, 3) := dk_154 0 7 (dk_at dksX1_lambda_boardOf_0_0 9 rfl rfl)
theorem dX1_lambda_boardOf_0_12 : decode cX1_lambda_boardOf_0 12 = .ok (.iconst 1, 1) := dk_4 (dk_at dksX1_lambda_boardOf_0_0 12 rfl rfl)
theorem dX1_lambda_boardOf_0_13 : decode cX1_lambda_boardOf_0 13 = .ok (.goto 4, 3) := dk_167 0 4 (dk_at dksX1_lambda_boardOf_0_0 13 rfl rfl)
theorem dX1_lambda_boardOf_0_16 : decode cX1_lambda_boardOf_0 16 = .ok (.iconst 0, 1) := dk_3 (dk_at dksX1_lambda_boardOf_0_0 16 rfl rfl)
theorem dX1_lambda_boardOf_0_17 : decode cX1_lambda_boardOf_0 17 = .ok (.ireturn, 1) := dk_172 (dk_at dksX1_lambda_boardOf_0_0 17 rfl rfl)
abbrev cX1_away : ByteArray := prog_1_method_31_code
def yX1_away : MethodName := ⟨RX1, "away", "(Z)I"⟩
def dkwX1_away_1 : List UInt8 := [159, 0, 7, 4, 167, 0, 4, 3, 184, 0, 189, 28, 172]
abbrev dktX1_away_1 : List UInt8 := dkwX1_away_1 ++ []
def dkwX1_away_0 : List UInt8 := [27, 153, 0, 13, 42, 180, 0, 21, 182, 0, 232, 167, 0, 10, 42, 180, 0, 21, 182, 0, 235, 61, 28, 2]
abbrev dktX1_away_0 : List UInt8 := dkwX1_away_0 ++ dktX1_away_1
theorem dksX1_away_0 : cX1_away.data.toList.drop 0 = dktX1_away_0 := by decide +kernel
theorem dksX1_away_1 : cX1_away.data.toList.drop 24 = dktX1_away_1 := dk_seg dksX1_away_0 24 rfl rfl
theorem dX1_away_0 : decode cX1_away 0 = .ok (.iload_n 1, 1) := dk_27 (dk_at dksX1_away_0 0 rfl rfl)
theorem dX1_away_1 : decode cX1_away 1 = .ok (.ifCond .eq 13, 3) := dk_153 0 13 (dk_at dksX1_away_0 1 rfl rfl)
theorem dX1_away_4 : decode cX1_away 4 = .ok (.aload_n 0, 1) := dk_42 (dk_at dksX1_away_0 4 rfl rfl)
theorem dX1_away_5 : decode cX1_away 5 = .ok (.getfield 21, 3) := dk_180 0 21 (dk_at dksX1_away_0 5 rfl rfl)
theorem dX1_away_8 : decode cX1_away 8 = .ok (.invokevirtual 232, 3) := dk_182 0 232 (dk_at dksX1_away_0 8 rfl rfl)
theorem dX1_away_11 : decode cX1_away 11 = .ok (.goto 10, 3) := dk_167 0 10 (dk_at dksX1_away_0 11 rfl rfl)
theorem dX1_away_14 : decode cX1_away 14 = .ok (.aload_n 0, 1) := dk_42 (dk_at dksX1_away_0 14 rfl rfl)
theorem dX1_away_15 : decode cX1_away 15 = .ok (.getfield 21, 3) := dk_180 0 21 (dk_at dksX1_away_0 15 rfl rfl)
theorem dX1_away_18 : decode cX1_away 18 = .ok (.invokevirtual 235, 3) := dk_182 0 235 (dk_at dksX1_away_0 18 rfl rfl)
theorem dX1_away_21 : decode cX1_away 21 = .ok (.istore_n 2, 1) := dk_61 (dk_at dksX1_away_0 21 rfl rfl)
theorem dX1_away_22 : decode cX1_away 22 = .ok (.iload_n 2, 1) := dk_28 (dk_at dksX1_away_0 22 rfl rfl)
theorem dX1_away_23 : decode cX1_away 23 = .ok (.iconst (-1), 1) := dk_2 (dk_at dksX1_away_0 23 rfl rfl)
theorem dX1_away_24 : decode cX1_away 24 = .ok (.if_icmp .eq 7, 3) := dk_159 0 7 (dk_at dksX1_away_1 0 rfl rfl)
theorem dX1_away_27 : decode cX1_away 27 = .ok (.iconst 1, 1) := dk_4 (dk_at dksX1_away_1 3 rfl rfl)
theorem dX1_away_28 : decode cX1_away 28 = .ok (.goto 4, 3) := dk_167 0 4 (dk_at dksX1_away_1 4 rfl rfl)
theorem dX1_away_31 : decode cX1_away 31 = .ok (.iconst 0, 1) := dk_3 (dk_at dksX1_away_1 7 rfl rfl)
theorem dX1_away_32 : decode cX1_away 32 = .ok (.invokestatic 189, 3) := dk_184 0 189 (dk_at dksX1_away_1 8 rfl rfl)
theorem dX1_away_35 : decode cX1_away 35 = .ok (.iload_n 2, 1) := dk_28 (dk_at dksX1_away_1 11 rfl rfl)
theorem dX1_away_36 : decode cX1_away 36 = .ok (.ireturn, 1) := dk_172 (dk_at dksX1_away_1 12 rfl rfl)
abbrev cX1_firstTurn : ByteArray := prog_1_method_32_code
def yX1_firstTurn : MethodName := ⟨RX1, "firstTurn", "()I"⟩
def dkwX1_firstTurn_1 : List UInt8 := [27, 182, 0, 238, 172]
abbrev dktX1_firstTurn_1 : List UInt8 := dkwX1_firstTurn_1 ++ []
def dkwX1_firstTurn_0 : List UInt8 := [42, 180, 0, 21, 182, 0, 235, 60, 27, 158, 0, 7, 4, 167, 0, 4, 3, 184, 0, 189, 42, 180, 0, 21]
abbrev dktX1_firstTurn_0 : List UInt8 := dkwX1_firstTurn_0 ++ dktX1_firstTurn_1
theorem dksX1_firstTurn_0 : cX1_firstTurn.data.toList.drop 0 = dktX1_firstTurn_0 := by decide +kernel
theorem dksX1_firstTurn_1 : cX1_firstTurn.data.toList.drop 24 = dktX1_firstTurn_1 := dk_seg dksX1_firstTurn_0 24 rfl rfl
theorem dX1_firstTurn_0 : decode cX1_firstTurn 0 = .ok (.aload_n 0, 1) := dk_42 (dk_at dksX1_firstTurn_0 0 rfl rfl)
theorem dX1_firstTurn_1 : decode cX1_firstTurn 1 = .ok (.getfield 21, 3) := dk_180 0 21 (dk_at dksX1_firstTurn_0 1 rfl rfl)
theorem dX1_firstTurn_4 : decode cX1_firstTurn 4 = .ok (.invokevirtual 235, 3) := dk_182 0 235 (dk_at dksX1_firstTurn_0 4 rfl rfl)
theorem dX1_firstTurn_7 : decode cX1_firstTurn 7 = .ok (.istore_n 1, 1) := dk_60 (dk_at dksX1_firstTurn_0 7 rfl rfl)
theorem dX1_firstTurn_8 : decode cX1_firstTurn 8 = .ok (.iload_n 1, 1) := dk_27 (dk_at dksX1_firstTurn_0 8 rfl rfl)
theorem dX1_firstTurn_9 : decode cX1_firstTurn 9 = .ok (.ifCond .le 7, 3) := dk_158 0 7 (dk_at dksX1_firstTurn_0 9 rfl rfl)
theorem dX1_firstTurn_12 : decode cX1_firstTurn 12 = .ok (.iconst 1, 1) := dk_4 (dk_at dksX1_firstTurn_0 12 rfl rfl)
theorem dX1_firstTurn_13 : decode cX1_firstTurn 13 = .ok (.goto 4, 3) := dk_167 0 4 (dk_at dksX1_firstTurn_0 13 rfl rfl)
theorem dX1_firstTurn_16 : decode cX1_firstTurn 16 = .ok (.iconst 0, 1) := dk_3 (dk_at dksX1_firstTurn_0 16 rfl rfl)
theorem dX1_firstTurn_17 : decode cX1_firstTurn 17 = .ok (.invokestatic 189, 3) := dk_184 0 189 (dk_at dksX1_firstTurn_0 17 rfl rfl)
theorem dX1_firstTurn_20 : decode cX1_firstTurn 20 = .ok (.aload_n 0, 1) := dk_42 (dk_at dksX1_firstTurn_0 20 rfl rfl)
theorem dX1_firstTurn_21 : decode cX1_firstTurn 21 = .ok (.getfield 21, 3) := dk_180 0 21 (dk_at dksX1_firstTurn_0 21 rfl rfl)
theorem dX1_firstTurn_24 : decode cX1_firstTurn 24 = .ok (.iload_n 1, 1) := dk_27 (dk_at dksX1_firstTurn_1 0 rfl rfl)
theorem dX1_firstTurn_25 : decode cX1_firstTurn 25 = .ok (.invokevirtual 238, 3) := dk_182 0 238 (dk_at dksX1_firstTurn_1 1 rfl rfl)
theorem dX1_firstTurn_28 : decode cX1_firstTurn 28 = .ok (.ireturn, 1) := dk_172 (dk_at dksX1_firstTurn_1 4 rfl rfl)
abbrev cX1_isOdd : ByteArray := prog_1_method_34_code
def yX1_isOdd : MethodName := ⟨RX1, "isOdd", "(Z)Z"⟩
def dkwX1_isOdd_1 : List UInt8 := [167, 0, 10, 42, 180, 0, 21, 182, 0, 251, 172]
abbrev dktX1_isOdd_1 : List UInt8 := dkwX1_isOdd_1 ++ []
def dkwX1_isOdd_0 : List UInt8 := [42, 180, 0, 21, 3, 182, 0, 245, 184, 0, 189, 27, 153, 0, 13, 42, 180, 0, 21, 182, 0, 248]
abbrev dktX1_isOdd_0 : List UInt8 := dkwX1_isOdd_0 ++ dktX1_isOdd_1
theorem dksX1_isOdd_0 : cX1_isOdd.data.toList.drop 0 = dktX1_isOdd_0 := by decide +kernel
theorem dksX1_isOdd_1 : cX1_isOdd.data.toList.drop 22 = dktX1_isOdd_1 := dk_seg dksX1_isOdd_0 22 rfl rfl
theorem dX1_isOdd_0 : decode cX1_isOdd 0 = .ok (.aload_n 0, 1) := dk_42 (dk_at dksX1_isOdd_0 0 rfl rfl)
theorem dX1_isOdd_1 : decode cX1_isOdd 1 = .ok (.getfield 21, 3) := dk_180 0 21 (dk_at dksX1_isOdd_0 1 rfl rfl)
theorem dX1_isOdd_4 : decode cX1_isOdd 4 = .ok (.iconst 0, 1) := dk_3 (dk_at dksX1_isOdd_0 4 rfl rfl)
theorem dX1_isOdd_5 : decode cX1_isOdd 5 = .ok (.invokevirtual 245, 3) := dk_182 0 245 (dk_at dksX1_isOdd_0 5 rfl rfl)
theorem dX1_isOdd_8 : decode cX1_isOdd 8 = .ok (.invokestatic 189, 3) := dk_184 0 189 (dk_at dksX1_isOdd_0 8 rfl rfl)
theorem dX1_isOdd_11 : decode cX1_isOdd 11 = .ok (.iload_n 1, 1) := dk_27 (dk_at dksX1_isOdd_0 11 rfl rfl)
theorem dX1_isOdd_12 : decode cX1_isOdd 12 = .ok (.ifCond .eq 13, 3) := dk_153 0 13 (dk_at dksX1_isOdd_0 12 rfl rfl)
theorem dX1_isOdd_15 : decode cX1_isOdd 15 = .ok (.aload_n 0, 1) := dk_42 (dk_at dksX1_isOdd_0 15 rfl rfl)
theorem dX1_isOdd_16 : decode cX1_isOdd 16 = .ok (.getfield 21, 3) := dk_180 0 21 (dk_at dksX1_isOdd_0 16 rfl rfl)
theorem dX1_isOdd_19 : decode cX1_isOdd 19 = .ok (.invokevirtual 248, 3) := dk_182 0 248 (dk_at dksX1_isOdd_0 19 rfl rfl)
theorem dX1_isOdd_22 : decode cX1_isOdd 22 = .ok (.goto 10, 3) := dk_167 0 10 (dk_at dksX1_isOdd_1 0 rfl rfl)
theorem dX1_isOdd_25 : decode cX1_isOdd 25 = .ok (.aload_n 0, 1) := dk_42 (dk_at dksX1_isOdd_1 3 rfl rfl)
theorem dX1_isOdd_26 : decode cX1_isOdd 26 = .ok (.getfield 21, 3) := dk_180 0 21 (dk_at dksX1_isOdd_1 4 rfl rfl)
theorem dX1_isOdd_29 : decode cX1_isOdd 29 = .ok (.invokevirtual 251, 3) := dk_182 0 251 (dk_at dksX1_isOdd_1 7 rfl rfl)
theorem dX1_isOdd_32 : decode cX1_isOdd 32 = .ok (.ireturn, 1) := dk_172 (dk_at dksX1_isOdd_1 10 rfl rfl)
abbrev cX1_would : ByteArray := prog_1_method_36_code
def yX1_would : MethodName := ⟨RX1, "would", "(I)I"⟩
def dkwX1_would_0 : List UInt8 := [42, 180, 0, 21, 27, 182, 0, 165, 184, 0, 94, 42, 180, 0, 21, 27, 182, 1, 1, 172]
abbrev dktX1_would_0 : List UInt8 := dkwX1_would_0 ++ []
theorem dksX1_would_0 : cX1_would.data.toList.drop 0 = dktX1_would_0 := by decide +kernel
theorem dX1_would_0 : decode cX1_would 0 = .ok (.aload_n 0, 1) := dk_42 (dk_at dksX1_would_0 0 rfl rfl)
theorem dX1_would_1 : decode cX1_would 1 = .ok (.getfield 21, 3) := dk_180 0 21 (dk_at dksX1_would_0 1 rfl rfl)
theorem dX1_would_4 : decode cX1_would 4 = .ok (.iload_n 1, 1) := dk_27 (dk_at dksX1_would_0 4 rfl rfl)
theorem dX1_would_5 : decode cX1_would 5 = .ok (.invokevirtual 165, 3) := dk_182 0 165 (dk_at dksX1_would_0 5 rfl rfl)
theorem dX1_would_8 : decode cX1_would 8 = .ok (.invokestatic 94, 3) := dk_184 0 94 (dk_at dksX1_would_0 8 rfl rfl)
theorem dX1_would_11 : decode cX1_would 11 = .ok (.aload_n 0, 1) := dk_42 (dk_at dksX1_would_0 11 rfl rfl)
theorem dX1_would_12 : decode cX1_would 12 = .ok (.getfield 21, 3) := dk_180 0 21 (dk_at dksX1_would_0 12 rfl rfl)
theorem dX1_would_15 : decode cX1_would 15 = .ok (.iload_n 1, 1) := dk_27 (dk_at dksX1_would_0 15 rfl rfl)
theorem dX1_would_16 : decode cX1_would 16 = .ok (.invokevirtual 257, 3) := dk_182 1 1 (dk_at dksX1_would_0 16 rfl rfl)
theorem dX1_would_19 : decode cX1_would 19 = .ok (.ireturn, 1) := dk_172 (dk_at dksX1_would_0 19 rfl rfl)
abbrev cX1_best : ByteArray := prog_1_method_37_code
def yX1_best : MethodName := ⟨RX1, "best", "()I"⟩
def dkwX1_best_0 : List UInt8 := [42, 180, 0, 21, 182, 1, 4, 60, 27, 2, 159, 0, 7, 4, 167, 0, 4, 3, 184, 0, 189, 27, 172]
abbrev dktX1_best_0 : List UInt8 := dkwX1_best_0 ++ []
theorem dksX1_best_0 : cX1_best.data.toList.drop 0 = dktX1_best_0 := by decide +kernel
theorem dX1_best_0 : decode cX1_best 0 = .ok (.aload_n 0, 1) := dk_42 (dk_at dksX1_best_0 0 rfl rfl)
theorem dX1_best_1 : decode cX1_best 1 = .ok (.getfield 21, 3) := dk_180 0 21 (dk_at dksX1_best_0 1 rfl rfl)
theorem dX1_best_4 : decode cX1_best 4 = .ok (.invokevirtual 260, 3) := dk_182 1 4 (dk_at dksX1_best_0 4 rfl rfl)
theorem dX1_best_7 : decode cX1_best 7 = .ok (.istore_n 1, 1) := dk_60 (dk_at dksX1_best_0 7 rfl rfl)
theorem dX1_best_8 : decode cX1_best 8 = .ok (.iload_n 1, 1) := dk_27 (dk_at dksX1_best_0 8 rfl rfl)
theorem dX1_best_9 : decode cX1_best 9 = .ok (.iconst (-1), 1) := dk_2 (dk_at dksX1_best_0 9 rfl rfl)
theorem dX1_best_10 : decode cX1_best 10 = .ok (.if_icmp .eq 7, 3) := dk_159 0 7 (dk_at dksX1_best_0 10 rfl rfl)
theorem dX1_best_13 : decode cX1_best 13 = .ok (.iconst 1, 1) := dk_4 (dk_at dksX1_best_0 13 rfl rfl)
theorem dX1_best_14 : decode cX1_best 14 = .ok (.goto 4, 3) := dk_167 0 4 (dk_at dksX1_best_0 14 rfl rfl)
theorem dX1_best_17 : decode cX1_best 17 = .ok (.iconst 0, 1) := dk_3 (dk_at dksX1_best_0 17 rfl rfl)
theorem dX1_best_18 : decode cX1_best 18 = .ok (.invokestatic 189, 3) := dk_184 0 189 (dk_at dksX1_best_0 18 rfl rfl)
theorem dX1_best_21 : decode cX1_best 21 = .ok (.iload_n 1, 1) := dk_27 (dk_at dksX1_best_0 21 rfl rfl)
theorem dX1_best_22 : decode cX1_best 22 = .ok (.ireturn, 1) := dk_172 (dk_at dksX1_best_0 22 rfl rfl)
abbrev cX1_where : ByteArray := prog_1_method_38_code
def yX1_where : MethodName := ⟨RX1, "where", "(III)I"⟩
def dkwX1_where_2 : List UInt8 := [182, 1, 7, 172]
abbrev dktX1_where_2 : List UInt8 := dkwX1_where_2 ++ []
def dkwX1_where_1 : List UInt8 := [167, 0, 4, 3, 184, 0, 94, 29, 3, 16, 99, 184, 0, 7, 184, 0, 132, 42, 180, 0, 21, 27, 28, 29]
abbrev dktX1_where_1 : List UInt8 := dkwX1_where_1 ++ dktX1_where_2
def dkwX1_where_0 : List UInt8 := [42, 180, 0, 21, 27, 182, 0, 90, 153, 0, 18, 42, 180, 0, 21, 28, 182, 0, 165, 153, 0, 7, 4]
abbrev dktX1_where_0 : List UInt8 := dkwX1_where_0 ++ dktX1_where_1
theorem dksX1_where_0 : cX1_where.data.toList.drop 0 = dktX1_where_0 := by decide +kernel
theorem dksX1_where_1 : cX1_where.data.toList.drop 23 = dktX1_where_1 := dk_seg dksX1_where_0 23 rfl rfl
theorem dksX1_where_2 : cX1_where.data.toList.drop 47 = dktX1_where_2 := dk_seg dksX1_where_1 24 rfl rfl
theorem dX1_where_0 : decode cX1_where 0 = .ok (.aload_n 0, 1) := dk_42 (dk_at dksX1_where_0 0 rfl rfl)
theorem dX1_where_1 : decode cX1_where 1 = .ok (.getfield 21, 3) := dk_180 0 21 (dk_at dksX1_where_0 1 rfl rfl)
theorem dX1_where_4 : decode cX1_where 4 = .ok (.iload_n 1, 1) := dk_27 (dk_at dksX1_where_0 4 rfl rfl)
theorem dX1_where_5 : decode cX1_where 5 = .ok (.invokevirtual 90, 3) := dk_182 0 90 (dk_at dksX1_where_0 5 rfl rfl)
theorem dX1_where_8 : decode cX1_where 8 = .ok (.ifCond .eq 18, 3) := dk_153 0 18 (dk_at dksX1_where_0 8 rfl rfl)
theorem dX1_where_11 : decode cX1_where 11 = .ok (.aload_n 0, 1) := dk_42 (dk_at dksX1_where_0 11 rfl rfl)
theorem dX1_where_12 : decode cX1_where 12 = .ok (.getfield 21, 3) := dk_180 0 21 (dk_at dksX1_where_0 12 rfl rfl)
theorem dX1_where_15 : decode cX1_where 15 = .ok (.iload_n 2, 1) := dk_28 (dk_at dksX1_where_0 15 rfl rfl)
theorem dX1_where_16 : decode cX1_where 16 = .ok (.invokevirtual 165, 3) := dk_182 0 165 (dk_at dksX1_where_0 16 rfl rfl)
theorem dX1_where_19 : decode cX1_where 19 = .ok (.ifCond .eq 7, 3) := dk_153 0 7 (dk_at dksX1_where_0 19 rfl rfl)
theorem dX1_where_22 : decode cX1_where 22 = .ok (.iconst 1, 1) := dk_4 (dk_at dksX1_where_0 22 rfl rfl)
theorem dX1_where_23 : decode cX1_where 23 = .ok (.goto 4, 3) := dk_167 0 4 (dk_at dksX1_where_1 0 rfl rfl)
theorem dX1_where_26 : decode cX1_where 26 = .ok (.iconst 0, 1) := dk_3 (dk_at dksX1_where_1 3 rfl rfl)
theorem dX1_where_27 : decode cX1_where 27 = .ok (.invokestatic 94, 3) := dk_184 0 94 (dk_at dksX1_where_1 4 rfl rfl)
theorem dX1_where_30 : decode cX1_where 30 = .ok (.iload_n 3, 1) := dk_29 (dk_at dksX1_where_1 7 rfl rfl)
theorem dX1_where_31 : decode cX1_where 31 = .ok (.iconst 0, 1) := dk_3 (dk_at dksX1_where_1 8 rfl rfl)
theorem dX1_where_32 : decode cX1_where 32 = .ok (.bipush 99, 2) := dk_16 99 (dk_at dksX1_where_1 9 rfl rfl)
theorem dX1_where_34 : decode cX1_where 34 = .ok (.invokestatic 7, 3) := dk_184 0 7 (dk_at dksX1_where_1 11 rfl rfl)
theorem dX1_where_37 : decode cX1_where 37 = .ok (.invokestatic 132, 3) := dk_184 0 132 (dk_at dksX1_where_1 14 rfl rfl)
theorem dX1_where_40 : decode cX1_where 40 = .ok (.aload_n 0, 1) := dk_42 (dk_at dksX1_where_1 17 rfl rfl)
theorem dX1_where_41 : decode cX1_where 41 = .ok (.getfield 21, 3) := dk_180 0 21 (dk_at dksX1_where_1 18 rfl rfl)
theorem dX1_where_44 : decode cX1_where 44 = .ok (.iload_n 1, 1) := dk_27 (dk_at dksX1_where_1 21 rfl rfl)
theorem dX1_where_45 : decode cX1_where 45 = .ok (.iload_n 2, 1) := dk_28 (dk_at dksX1_where_1 22 rfl rfl)
theorem dX1_where_46 : decode cX1_where 46 = .ok (.iload_n 3, 1) := dk_29 (dk_at dksX1_where_1 23 rfl rfl)
theorem dX1_where_47 : decode cX1_where 47 = .ok (.invokevirtual 263, 3) := dk_182 1 7 (dk_at dksX1_where_2 0 rfl rfl)
theorem dX1_where_50 : decode cX1_where 50 = .ok (.ireturn, 1) := dk_172 (dk_at dksX1_where_2 3 rfl rfl)
abbrev cX1_far : ByteArray := prog_1_method_39_code
def yX1_far : MethodName := ⟨RX1, "far", "(II)I"⟩
def dkwX1_far_1 : List UInt8 := [167, 0, 4, 3, 184, 0, 94, 42, 180, 0, 21, 27, 28, 182, 1, 11, 172]
abbrev dktX1_far_1 : List UInt8 := dkwX1_far_1 ++ []
def dkwX1_far_0 : List UInt8 := [42, 180, 0, 21, 27, 182, 0, 90, 153, 0, 18, 42, 180, 0, 21, 28, 182, 0, 90, 153, 0, 7, 4]
abbrev dktX1_far_0 : List UInt8 := dkwX1_far_0 ++ dktX1_far_1
theorem dksX1_far_0 : cX1_far.data.toList.drop 0 = dktX1_far_0 := by decide +kernel
theorem dksX1_far_1 : cX1_far.data.toList.drop 23 = dktX1_far_1 := dk_seg dksX1_far_0 23 rfl rfl
theorem dX1_far_0 : decode cX1_far 0 = .ok (.aload_n 0, 1) := dk_42 (dk_at dksX1_far_0 0 rfl rfl)
theorem dX1_far_1 : decode cX1_far 1 = .ok (.getfield 21, 3) := dk_180 0 21 (dk_at dksX1_far_0 1 rfl rfl)
theorem dX1_far_4 : decode cX1_far 4 = .ok (.iload_n 1, 1) := dk_27 (dk_at dksX1_far_0 4 rfl rfl)
theorem dX1_far_5 : decode cX1_far 5 = .ok (.invokevirtual 90, 3) := dk_182 0 90 (dk_at dksX1_far_0 5 rfl rfl)
theorem dX1_far_8 : decode cX1_far 8 = .ok (.ifCond .eq 18, 3) := dk_153 0 18 (dk_at dksX1_far_0 8 rfl rfl)
theorem dX1_far_11 : decode cX1_far 11 = .ok (.aload_n 0, 1) := dk_42 (dk_at dksX1_far_0 11 rfl rfl)
theorem dX1_far_12 : decode cX1_far 12 = .ok (.getfield 21, 3) := dk_180 0 21 (dk_at dksX1_far_0 12 rfl rfl)
theorem dX1_far_15 : decode cX1_far 15 = .ok (.iload_n 2, 1) := dk_28 (dk_at dksX1_far_0 15 rfl rfl)
theorem dX1_far_16 : decode cX1_far 16 = .ok (.invokevirtual 90, 3) := dk_182 0 90 (dk_at dksX1_far_0 16 rfl rfl)
theorem dX1_far_19 : decode cX1_far 19 = .ok (.ifCond .eq 7, 3) := dk_153 0 7 (dk_at dksX1_far_0 19 rfl rfl)
theorem dX1_far_22 : decode cX1_far 22 = .ok (.iconst 1, 1) := dk_4 (dk_at dksX1_far_0 22 rfl rfl)
theorem dX1_far_23 : decode cX1_far 23 = .ok (.goto 4, 3) := dk_167 0 4 (dk_at dksX1_far_1 0 rfl rfl)
theorem dX1_far_26 : decode cX1_far 26 = .ok (.iconst 0, 1) := dk_3 (dk_at dksX1_far_1 3 rfl rfl)
theorem dX1_far_27 : decode cX1_far 27 = .ok (.invokestatic 94, 3) := dk_184 0 94 (dk_at dksX1_far_1 4 rfl rfl)
theorem dX1_far_30 : decode cX1_far 30 = .ok (.aload_n 0, 1) := dk_42 (dk_at dksX1_far_1 7 rfl rfl)
theorem dX1_far_31 : decode cX1_far 31 = .ok (.getfield 21, 3) := dk_180 0 21 (dk_at dksX1_far_1 8 rfl rfl)
theorem dX1_far_34 : decode cX1_far 34 = .ok (.iload_n 1, 1) := dk_27 (dk_at dksX1_far_1 11 rfl rfl)
theorem dX1_far_35 : decode cX1_far 35 = .ok (.iload_n 2, 1) := dk_28 (dk_at dksX1_far_1 12 rfl rfl)
theorem dX1_far_36 : decode cX1_far 36 = .ok (.invokevirtual 267, 3) := dk_182 1 11 (dk_at dksX1_far_1 13 rfl rfl)
theorem dX1_far_39 : decode cX1_far 39 = .ok (.ireturn, 1) := dk_172 (dk_at dksX1_far_1 16 rfl rfl)
abbrev cX1_sings : ByteArray := prog_1_method_40_code
def yX1_sings : MethodName := ⟨RX1, "sings", "(I)Z"⟩
def dkwX1_sings_0 : List UInt8 := [42, 27, 182, 0, 174, 42, 180, 0, 21, 27, 182, 1, 14, 172]
abbrev dktX1_sings_0 : List UInt8 := dkwX1_sings_0 ++ []
theorem dksX1_sings_0 : cX1_sings.data.toList.drop 0 = dktX1_sings_0 := by decide +kernel
theorem dX1_sings_0 : decode cX1_sings 0 = .ok (.aload_n 0, 1) := dk_42 (dk_at dksX1_sings_0 0 rfl rfl)
theorem dX1_sings_1 : decode cX1_sings 1 = .ok (.iload_n 1, 1) := dk_27 (dk_at dksX1_sings_0 1 rfl rfl)
theorem dX1_sings_2 : decode cX1_sings 2 = .ok (.invokevirtual 174, 3) := dk_182 0 174 (dk_at dksX1_sings_0 2 rfl rfl)
theorem dX1_sings_5 : decode cX1_sings 5 = .ok (.aload_n 0, 1) := dk_42 (dk_at dksX1_sings_0 5 rfl rfl)
theorem dX1_sings_6 : decode cX1_sings 6 = .ok (.getfield 21, 3) := dk_180 0 21 (dk_at dksX1_sings_0 6 rfl rfl)
theorem dX1_sings_9 : decode cX1_sings 9 = .ok (.iload_n 1, 1) := dk_27 (dk_at dksX1_sings_0 9 rfl rfl)
theorem dX1_sings_10 : decode cX1_sings 10 = .ok (.invokevirtual 270, 3) := dk_182 1 14 (dk_at dksX1_sings_0 10 rfl rfl)
theorem dX1_sings_13 : decode cX1_sings 13 = .ok (.ireturn, 1) := dk_172 (dk_at dksX1_sings_0 13 rfl rfl)
abbrev cX1_ranked : ByteArray := prog_1_method_42_code
def yX1_ranked : MethodName := ⟨RX1, "ranked", "(I)I"⟩
def dkwX1_ranked_1 : List UInt8 := [167, 0, 4, 3, 184, 0, 189, 44, 182, 1, 28, 172]
abbrev dktX1_ranked_1 : List UInt8 := dkwX1_ranked_1 ++ []
def dkwX1_ranked_0 : List UInt8 := [42, 182, 0, 211, 27, 42, 186, 1, 20, 0, 0, 182, 1, 24, 192, 0, 120, 77, 44, 198, 0, 7, 4]
abbrev dktX1_ranked_0 : List UInt8 := dkwX1_ranked_0 ++ dktX1_ranked_1
theorem dksX1_ranked_0 : cX1_ranked.data.toList.drop 0 = dktX1_ranked_0 := by decide +kernel
theorem dksX1_ranked_1 : cX1_ranked.data.toList.drop 23 = dktX1_ranked_1 := dk_seg dksX1_ranked_0 23 rfl rfl
theorem dX1_ranked_0 : decode cX1_ranked 0 = .ok (.aload_n 0, 1) := dk_42 (dk_at dksX1_ranked_0 0 rfl rfl)
theorem dX1_ranked_1 : decode cX1_ranked 1 = .ok (.invokevirtual 211, 3) := dk_182 0 211 (dk_at dksX1_ranked_0 1 rfl rfl)
theorem dX1_ranked_4 : decode cX1_ranked 4 = .ok (.iload_n 1, 1) := dk_27 (dk_at dksX1_ranked_0 4 rfl rfl)
theorem dX1_ranked_5 : decode cX1_ranked 5 = .ok (.aload_n 0, 1) := dk_42 (dk_at dksX1_ranked_0 5 rfl rfl)
theorem dX1_ranked_6 : decode cX1_ranked 6 = .ok (.invokedynamic 276, 5) := by decide +kernel
theorem dX1_ranked_11 : decode cX1_ranked 11 = .ok (.invokevirtual 280, 3) := dk_182 1 24 (dk_at dksX1_ranked_0 11 rfl rfl)
theorem dX1_ranked_14 : decode cX1_ranked 14 = .ok (.checkcast 120, 3) := dk_192 0 120 (dk_at dksX1_ranked_0 14 rfl rfl)
theorem dX1_ranked_17 : decode cX1_ranked 17 = .ok (.astore_n 2, 1) := dk_77 (dk_at dksX1_ranked_0 17 rfl rfl)
theorem dX1_ranked_18 : decode cX1_ranked 18 = .ok (.aload_n 2, 1) := dk_44 (dk_at dksX1_ranked_0 18 rfl rfl)
theorem dX1_ranked_19 : decode cX1_ranked 19 = .ok (.ifnull 7, 3) := dk_198 0 7 (dk_at dksX1_ranked_0 19 rfl rfl)
theorem dX1_ranked_22 : decode cX1_ranked 22 = .ok (.iconst 1, 1) := dk_4 (dk_at dksX1_ranked_0 22 rfl rfl)
theorem dX1_ranked_23 : decode cX1_ranked 23 = .ok (.goto 4, 3) := dk_167 0 4 (dk_at dksX1_ranked_1 0 rfl rfl)
theorem dX1_ranked_26 : decode cX1_ranked 26 = .ok (.iconst 0, 1) := dk_3 (dk_at dksX1_ranked_1 3 rfl rfl)
theorem dX1_ranked_27 : decode cX1_ranked 27 = .ok (.invokestatic 189, 3) := dk_184 0 189 (dk_at dksX1_ranked_1 4 rfl rfl)
theorem dX1_ranked_30 : decode cX1_ranked 30 = .ok (.aload_n 2, 1) := dk_44 (dk_at dksX1_ranked_1 7 rfl rfl)
theorem dX1_ranked_31 : decode cX1_ranked 31 = .ok (.invokevirtual 284, 3) := dk_182 1 28 (dk_at dksX1_ranked_1 8 rfl rfl)
theorem dX1_ranked_34 : decode cX1_ranked 34 = .ok (.ireturn, 1) := dk_172 (dk_at dksX1_ranked_1 11 rfl rfl)
abbrev cX1_lambda_ranked_2 : ByteArray := prog_1_method_59_code
def yX1_lambda_ranked_2 : MethodName := ⟨RX1, "lambda$ranked$2", "(Ljava/lang/Integer;)I"⟩
def dkwX1_lambda_ranked_2_0 : List UInt8 := [42, 180, 0, 21, 43, 182, 1, 28, 182, 1, 122, 172]
abbrev dktX1_lambda_ranked_2_0 : List UInt8 := dkwX1_lambda_ranked_2_0 ++ []
theorem dksX1_lambda_ranked_2_0 : cX1_lambda_ranked_2.data.toList.drop 0 = dktX1_lambda_ranked_2_0 := by decide +kernel
theorem dX1_lambda_ranked_2_0 : decode cX1_lambda_ranked_2 0 = .ok (.aload_n 0, 1) := dk_42 (dk_at dksX1_lambda_ranked_2_0 0 rfl rfl)
theorem dX1_lambda_ranked_2_1 : decode cX1_lambda_ranked_2 1 = .ok (.getfield 21, 3) := dk_180 0 21 (dk_at dksX1_lambda_ranked_2_0 1 rfl rfl)
theorem dX1_lambda_ranked_2_4 : decode cX1_lambda_ranked_2 4 = .ok (.aload_n 1, 1) := dk_43 (dk_at dksX1_lambda_ranked_2_0 4 rfl rfl)
theorem dX1_lambda_ranked_2_5 : decode cX1_lambda_ranked_2 5 = .ok (.invokevirtual 284, 3) := dk_182 1 28 (dk_at dksX1_lambda_ranked_2_0 5 rfl rfl)
theorem dX1_lambda_ranked_2_8 : decode cX1_lambda_ranked_2 8 = .ok (.invokevirtual 378, 3) := dk_182 1 122 (dk_at dksX1_lambda_ranked_2_0 8 rfl rfl)
theorem dX1_lambda_ranked_2_11 : decode cX1_lambda_ranked_2 11 = .ok (.ireturn, 1) := dk_172 (dk_at dksX1_lambda_ranked_2_0 11 rfl rfl)
abbrev cX1_lineText : ByteArray := prog_1_method_45_code
def yX1_lineText : MethodName := ⟨RX1, "lineText", "(I)I"⟩
def dkwX1_lineText_1 : List UInt8 := [182, 1, 41, 42, 180, 0, 45, 182, 1, 38, 172]
abbrev dktX1_lineText_1 : List UInt8 := dkwX1_lineText_1 ++ []
def dkwX1_lineText_0 : List UInt8 := [42, 27, 182, 0, 174, 42, 180, 0, 45, 3, 182, 1, 31, 42, 180, 0, 21, 42, 180, 0, 45, 27]
abbrev dktX1_lineText_0 : List UInt8 := dkwX1_lineText_0 ++ dktX1_lineText_1
theorem dksX1_lineText_0 : cX1_lineText.data.toList.drop 0 = dktX1_lineText_0 := by decide +kernel
theorem dksX1_lineText_1 : cX1_lineText.data.toList.drop 22 = dktX1_lineText_1 := dk_seg dksX1_lineText_0 22 rfl rfl
theorem dX1_lineText_0 : decode cX1_lineText 0 = .ok (.aload_n 0, 1) := dk_42 (dk_at dksX1_lineText_0 0 rfl rfl)
theorem dX1_lineText_1 : decode cX1_lineText 1 = .ok (.iload_n 1, 1) := dk_27 (dk_at dksX1_lineText_0 1 rfl rfl)
theorem dX1_lineText_2 : decode cX1_lineText 2 = .ok (.invokevirtual 174, 3) := dk_182 0 174 (dk_at dksX1_lineText_0 2 rfl rfl)
theorem dX1_lineText_5 : decode cX1_lineText 5 = .ok (.aload_n 0, 1) := dk_42 (dk_at dksX1_lineText_0 5 rfl rfl)
theorem dX1_lineText_6 : decode cX1_lineText 6 = .ok (.getfield 45, 3) := dk_180 0 45 (dk_at dksX1_lineText_0 6 rfl rfl)
theorem dX1_lineText_9 : decode cX1_lineText 9 = .ok (.iconst 0, 1) := dk_3 (dk_at dksX1_lineText_0 9 rfl rfl)
theorem dX1_lineText_10 : decode cX1_lineText 10 = .ok (.invokevirtual 287, 3) := dk_182 1 31 (dk_at dksX1_lineText_0 10 rfl rfl)
theorem dX1_lineText_13 : decode cX1_lineText 13 = .ok (.aload_n 0, 1) := dk_42 (dk_at dksX1_lineText_0 13 rfl rfl)
theorem dX1_lineText_14 : decode cX1_lineText 14 = .ok (.getfield 21, 3) := dk_180 0 21 (dk_at dksX1_lineText_0 14 rfl rfl)
theorem dX1_lineText_17 : decode cX1_lineText 17 = .ok (.aload_n 0, 1) := dk_42 (dk_at dksX1_lineText_0 17 rfl rfl)
theorem dX1_lineText_18 : decode cX1_lineText 18 = .ok (.getfield 45, 3) := dk_180 0 45 (dk_at dksX1_lineText_0 18 rfl rfl)
theorem dX1_lineText_21 : decode cX1_lineText 21 = .ok (.iload_n 1, 1) := dk_27 (dk_at dksX1_lineText_0 21 rfl rfl)
theorem dX1_lineText_22 : decode cX1_lineText 22 = .ok (.invokevirtual 297, 3) := dk_182 1 41 (dk_at dksX1_lineText_1 0 rfl rfl)
theorem dX1_lineText_25 : decode cX1_lineText 25 = .ok (.aload_n 0, 1) := dk_42 (dk_at dksX1_lineText_1 3 rfl rfl)
theorem dX1_lineText_26 : decode cX1_lineText 26 = .ok (.getfield 45, 3) := dk_180 0 45 (dk_at dksX1_lineText_1 4 rfl rfl)
theorem dX1_lineText_29 : decode cX1_lineText 29 = .ok (.invokevirtual 294, 3) := dk_182 1 38 (dk_at dksX1_lineText_1 7 rfl rfl)
theorem dX1_lineText_32 : decode cX1_lineText 32 = .ok (.ireturn, 1) := dk_172 (dk_at dksX1_lineText_1 10 rfl rfl)
abbrev cX1_character : ByteArray := prog_1_method_46_code
def yX1_character : MethodName := ⟨RX1, "character", "(I)C"⟩
def dkwX1_character_1 : List UInt8 := [182, 1, 45, 172]
abbrev dktX1_character_1 : List UInt8 := dkwX1_character_1 ++ []
def dkwX1_character_0 : List UInt8 := [27, 3, 42, 180, 0, 45, 182, 1, 38, 4, 100, 184, 0, 7, 184, 0, 94, 42, 180, 0, 45, 27]
abbrev dktX1_character_0 : List UInt8 := dkwX1_character_0 ++ dktX1_character_1
theorem dksX1_character_0 : cX1_character.data.toList.drop 0 = dktX1_character_0 := by decide +kernel
theorem dksX1_character_1 : cX1_character.data.toList.drop 22 = dktX1_character_1 := dk_seg dksX1_character_0 22 rfl rfl
theorem dX1_character_0 : decode cX1_character 0 = .ok (.iload_n 1, 1) := dk_27 (dk_at dksX1_character_0 0 rfl rfl)
theorem dX1_character_1 : decode cX1_character 1 = .ok (.iconst 0, 1) := dk_3 (dk_at dksX1_character_0 1 rfl rfl)
theorem dX1_character_2 : decode cX1_character 2 = .ok (.aload_n 0, 1) := dk_42 (dk_at dksX1_character_0 2 rfl rfl)
theorem dX1_character_3 : decode cX1_character 3 = .ok (.getfield 45, 3) := dk_180 0 45 (dk_at dksX1_character_0 3 rfl rfl)
theorem dX1_character_6 : decode cX1_character 6 = .ok (.invokevirtual 294, 3) := dk_182 1 38 (dk_at dksX1_character_0 6 rfl rfl)
theorem dX1_character_9 : decode cX1_character 9 = .ok (.iconst 1, 1) := dk_4 (dk_at dksX1_character_0 9 rfl rfl)
theorem dX1_character_10 : decode cX1_character 10 = .ok (.isub, 1) := dk_100 (dk_at dksX1_character_0 10 rfl rfl)
theorem dX1_character_11 : decode cX1_character 11 = .ok (.invokestatic 7, 3) := dk_184 0 7 (dk_at dksX1_character_0 11 rfl rfl)
theorem dX1_character_14 : decode cX1_character 14 = .ok (.invokestatic 94, 3) := dk_184 0 94 (dk_at dksX1_character_0 14 rfl rfl)
theorem dX1_character_17 : decode cX1_character 17 = .ok (.aload_n 0, 1) := dk_42 (dk_at dksX1_character_0 17 rfl rfl)
theorem dX1_character_18 : decode cX1_character 18 = .ok (.getfield 45, 3) := dk_180 0 45 (dk_at dksX1_character_0 18 rfl rfl)
theorem dX1_character_21 : decode cX1_character 21 = .ok (.iload_n 1, 1) := dk_27 (dk_at dksX1_character_0 21 rfl rfl)
theorem dX1_character_22 : decode cX1_character 22 = .ok (.invokevirtual 301, 3) := dk_182 1 45 (dk_at dksX1_character_1 0 rfl rfl)
theorem dX1_character_25 : decode cX1_character 25 = .ok (.ireturn, 1) := dk_172 (dk_at dksX1_character_1 3 rfl rfl)
abbrev cX1_append : ByteArray := prog_1_method_47_code
def yX1_append : MethodName := ⟨RX1, "append", "(C)I"⟩
def dkwX1_append_1 : List UInt8 := [27, 182, 1, 52, 87, 42, 180, 0, 41, 182, 1, 38, 172]
abbrev dktX1_append_1 : List UInt8 := dkwX1_append_1 ++ []
def dkwX1_append_0 : List UInt8 := [42, 180, 0, 41, 182, 1, 38, 16, 60, 162, 0, 7, 4, 167, 0, 4, 3, 184, 1, 49, 42, 180, 0, 41]
abbrev dktX1_append_0 : List UInt8 := dkwX1_append_0 ++ dktX1_append_1
theorem dksX1_append_0 : cX1_append.data.toList.drop 0 = dktX1_append_0 := by decide +kernel
theorem dksX1_append_1 : cX1_append.data.toList.drop 24 = dktX1_append_1 := dk_seg dksX1_append_0 24 rfl rfl
theorem dX1_append_0 : decode cX1_append 0 = .ok (.aload_n 0, 1) := dk_42 (dk_at dksX1_append_0 0 rfl rfl)
theorem dX1_append_1 : decode cX1_append 1 = .ok (.getfield 41, 3) := dk_180 0 41 (dk_at dksX1_append_0 1 rfl rfl)
theorem dX1_append_4 : decode cX1_append 4 = .ok (.invokevirtual 294, 3) := dk_182 1 38 (dk_at dksX1_append_0 4 rfl rfl)
theorem dX1_append_7 : decode cX1_append 7 = .ok (.bipush 60, 2) := dk_16 60 (dk_at dksX1_append_0 7 rfl rfl)
theorem dX1_append_9 : decode cX1_append 9 = .ok (.if_icmp .ge 7, 3) := dk_162 0 7 (dk_at dksX1_append_0 9 rfl rfl)
theorem dX1_append_12 : decode cX1_append 12 = .ok (.iconst 1, 1) := dk_4 (dk_at dksX1_append_0 12 rfl rfl)
theorem dX1_append_13 : decode cX1_append 13 = .ok (.goto 4, 3) := dk_167 0 4 (dk_at dksX1_append_0 13 rfl rfl)
theorem dX1_append_16 : decode cX1_append 16 = .ok (.iconst 0, 1) := dk_3 (dk_at dksX1_append_0 16 rfl rfl)
theorem dX1_append_17 : decode cX1_append 17 = .ok (.invokestatic 305, 3) := dk_184 1 49 (dk_at dksX1_append_0 17 rfl rfl)
theorem dX1_append_20 : decode cX1_append 20 = .ok (.aload_n 0, 1) := dk_42 (dk_at dksX1_append_0 20 rfl rfl)
theorem dX1_append_21 : decode cX1_append 21 = .ok (.getfield 41, 3) := dk_180 0 41 (dk_at dksX1_append_0 21 rfl rfl)
theorem dX1_append_24 : decode cX1_append 24 = .ok (.iload_n 1, 1) := dk_27 (dk_at dksX1_append_1 0 rfl rfl)
theorem dX1_append_25 : decode cX1_append 25 = .ok (.invokevirtual 308, 3) := dk_182 1 52 (dk_at dksX1_append_1 1 rfl rfl)
theorem dX1_append_28 : decode cX1_append 28 = .ok (.pop, 1) := dk_87 (dk_at dksX1_append_1 4 rfl rfl)
theorem dX1_append_29 : decode cX1_append 29 = .ok (.aload_n 0, 1) := dk_42 (dk_at dksX1_append_1 5 rfl rfl)
theorem dX1_append_30 : decode cX1_append 30 = .ok (.getfield 41, 3) := dk_180 0 41 (dk_at dksX1_append_1 6 rfl rfl)
theorem dX1_append_33 : decode cX1_append 33 = .ok (.invokevirtual 294, 3) := dk_182 1 38 (dk_at dksX1_append_1 9 rfl rfl)
theorem dX1_append_36 : decode cX1_append 36 = .ok (.ireturn, 1) := dk_172 (dk_at dksX1_append_1 12 rfl rfl)
abbrev cX1_checkState : ByteArray := prog_1_method_10_code
def yX1_checkState : MethodName := ⟨RX1, "checkState", "(Z)V"⟩
def dkwX1_checkState_0 : List UInt8 := [26, 154, 0, 11, 187, 0, 71, 89, 183, 0, 73, 191, 177]
abbrev dktX1_checkState_0 : List UInt8 := dkwX1_checkState_0 ++ []
theorem dksX1_checkState_0 : cX1_checkState.data.toList.drop 0 = dktX1_checkState_0 := by decide +kernel
theorem dX1_checkState_0 : decode cX1_checkState 0 = .ok (.iload_n 0, 1) := dk_26 (dk_at dksX1_checkState_0 0 rfl rfl)
theorem dX1_checkState_1 : decode cX1_checkState 1 = .ok (.ifCond .ne 11, 3) := dk_154 0 11 (dk_at dksX1_checkState_0 1 rfl rfl)
theorem dX1_checkState_4 : decode cX1_checkState 4 = .ok (.new 71, 3) := dk_187 0 71 (dk_at dksX1_checkState_0 4 rfl rfl)
theorem dX1_checkState_7 : decode cX1_checkState 7 = .ok (.dup, 1) := dk_89 (dk_at dksX1_checkState_0 7 rfl rfl)
theorem dX1_checkState_8 : decode cX1_checkState 8 = .ok (.invokespecial 73, 3) := dk_183 0 73 (dk_at dksX1_checkState_0 8 rfl rfl)
theorem dX1_checkState_11 : decode cX1_checkState 11 = .ok (.athrow, 1) := dk_191 (dk_at dksX1_checkState_0 11 rfl rfl)
theorem dX1_checkState_12 : decode cX1_checkState 12 = .ok (.return_, 1) := dk_177 (dk_at dksX1_checkState_0 12 rfl rfl)
abbrev cX1_run : ByteArray := prog_1_method_48_code
def yX1_run : MethodName := ⟨RX1, "run", "()I"⟩
def dkwX1_run_4 : List UInt8 := [167, 0, 10, 77, 42, 44, 182, 0, 158, 191, 42, 42, 180, 0, 53, 180, 1, 64, 182, 0, 143, 172]
abbrev dktX1_run_4 : List UInt8 := dkwX1_run_4 ++ []
def dkwX1_run_3 : List UInt8 := [182, 1, 67, 184, 0, 132, 42, 180, 0, 53, 43, 28, 182, 1, 71, 62, 132, 2, 1, 167, 255, 220]
abbrev dktX1_run_3 : List UInt8 := dkwX1_run_3 ++ dktX1_run_4
def dkwX1_run_2 : List UInt8 := [42, 182, 0, 135, 76, 3, 61, 28, 42, 180, 0, 53, 180, 1, 64, 162, 0, 31, 42, 180, 0, 53, 43, 28]
abbrev dktX1_run_2 : List UInt8 := dkwX1_run_2 ++ dktX1_run_3
def dkwX1_run_1 : List UInt8 := [42, 180, 0, 41, 3, 182, 1, 31, 42, 180, 0, 57, 2, 160, 0, 7, 4, 167, 0, 4, 3, 184, 0, 132]
abbrev dktX1_run_1 : List UInt8 := dkwX1_run_1 ++ dktX1_run_2
def dkwX1_run_0 : List UInt8 := [42, 2, 181, 0, 57, 42, 180, 0, 53, 182, 1, 56, 167, 0, 12, 76, 42, 43, 180, 1, 61, 181, 0, 57]
abbrev dktX1_run_0 : List UInt8 := dkwX1_run_0 ++ dktX1_run_1
theorem dksX1_run_0 : cX1_run.data.toList.drop 0 = dktX1_run_0 := by decide +kernel
theorem dksX1_run_1 : cX1_run.data.toList.drop 24 = dktX1_run_1 := dk_seg dksX1_run_0 24 rfl rfl
theorem dksX1_run_2 : cX1_run.data.toList.drop 48 = dktX1_run_2 := dk_seg dksX1_run_1 24 rfl rfl
theorem dksX1_run_3 : cX1_run.data.toList.drop 72 = dktX1_run_3 := dk_seg dksX1_run_2 24 rfl rfl
theorem dksX1_run_4 : cX1_run.data.toList.drop 94 = dktX1_run_4 := dk_seg dksX1_run_3 22 rfl rfl
theorem dX1_run_0 : decode cX1_run 0 = .ok (.aload_n 0, 1) := dk_42 (dk_at dksX1_run_0 0 rfl rfl)
theorem dX1_run_1 : decode cX1_run 1 = .ok (.iconst (-1), 1) := dk_2 (dk_at dksX1_run_0 1 rfl rfl)
theorem dX1_run_2 : decode cX1_run 2 = .ok (.putfield 57, 3) := dk_181 0 57 (dk_at dksX1_run_0 2 rfl rfl)
theorem dX1_run_5 : decode cX1_run 5 = .ok (.aload_n 0, 1) := dk_42 (dk_at dksX1_run_0 5 rfl rfl)
theorem dX1_run_6 : decode cX1_run 6 = .ok (.getfield 53, 3) := dk_180 0 53 (dk_at dksX1_run_0 6 rfl rfl)
theorem dX1_run_9 : decode cX1_run 9 = .ok (.invokevirtual 312, 3) := dk_182 1 56 (dk_at dksX1_run_0 9 rfl rfl)
theorem dX1_run_12 : decode cX1_run 12 = .ok (.goto 12, 3) := dk_167 0 12 (dk_at dksX1_run_0 12 rfl rfl)
theorem dX1_run_15 : decode cX1_run 15 = .ok (.astore_n 1, 1) := dk_76 (dk_at dksX1_run_0 15 rfl rfl)
theorem dX1_run_16 : decode cX1_run 16 = .ok (.aload_n 0, 1) := dk_42 (dk_at dksX1_run_0 16 rfl rfl)
theorem dX1_run_17 : decode cX1_run 17 = .ok (.aload_n 1, 1) := dk_43 (dk_at dksX1_run_0 17 rfl rfl)
theorem dX1_run_18 : decode cX1_run 18 = .ok (.getfield 317, 3) := dk_180 1 61 (dk_at dksX1_run_0 18 rfl rfl)
theorem dX1_run_21 : decode cX1_run 21 = .ok (.putfield 57, 3) := dk_181 0 57 (dk_at dksX1_run_0 21 rfl rfl)
theorem dX1_run_24 : decode cX1_run 24 = .ok (.aload_n 0, 1) := dk_42 (dk_at dksX1_run_1 0 rfl rfl)
theorem dX1_run_25 : decode cX1_run 25 = .ok (.getfield 41, 3) := dk_180 0 41 (dk_at dksX1_run_1 1 rfl rfl)
theorem dX1_run_28 : decode cX1_run 28 = .ok (.iconst 0, 1) := dk_3 (dk_at dksX1_run_1 4 rfl rfl)
theorem dX1_run_29 : decode cX1_run 29 = .ok (.invokevirtual 287, 3) := dk_182 1 31 (dk_at dksX1_run_1 5 rfl rfl)
theorem dX1_run_32 : decode cX1_run 32 = .ok (.aload_n 0, 1) := dk_42 (dk_at dksX1_run_1 8 rfl rfl)
theorem dX1_run_33 : decode cX1_run 33 = .ok (.getfield 57, 3) := dk_180 0 57 (dk_at dksX1_run_1 9 rfl rfl)
theorem dX1_run_36 : decode cX1_run 36 = .ok (.iconst (-1), 1) := dk_2 (dk_at dksX1_run_1 12 rfl rfl)
theorem dX1_run_37 : decode cX1_run 37 = .ok (.if_icmp .ne 7, 3) := dk_160 0 7 (dk_at dksX1_run_1 13 rfl rfl)
theorem dX1_run_40 : decode cX1_run 40 = .ok (.iconst 1, 1) := dk_4 (dk_at dksX1_run_1 16 rfl rfl)
theorem dX1_run_41 : decode cX1_run 41 = .ok (.goto 4, 3) := dk_167 0 4 (dk_at dksX1_run_1 17 rfl rfl)
theorem dX1_run_44 : decode cX1_run 44 = .ok (.iconst 0, 1) := dk_3 (dk_at dksX1_run_1 20 rfl rfl)
theorem dX1_run_45 : decode cX1_run 45 = .ok (.invokestatic 132, 3) := dk_184 0 132 (dk_at dksX1_run_1 21 rfl rfl)
theorem dX1_run_48 : decode cX1_run 48 = .ok (.aload_n 0, 1) := dk_42 (dk_at dksX1_run_2 0 rfl rfl)
theorem dX1_run_49 : decode cX1_run 49 = .ok (.invokevirtual 135, 3) := dk_182 0 135 (dk_at dksX1_run_2 1 rfl rfl)
theorem dX1_run_52 : decode cX1_run 52 = .ok (.astore_n 1, 1) := dk_76 (dk_at dksX1_run_2 4 rfl rfl)
theorem dX1_run_53 : decode cX1_run 53 = .ok (.iconst 0, 1) := dk_3 (dk_at dksX1_run_2 5 rfl rfl)
theorem dX1_run_54 : decode cX1_run 54 = .ok (.istore_n 2, 1) := dk_61 (dk_at dksX1_run_2 6 rfl rfl)
theorem dX1_run_55 : decode cX1_run 55 = .ok (.iload_n 2, 1) := dk_28 (dk_at dksX1_run_2 7 rfl rfl)
theorem dX1_run_56 : decode cX1_run 56 = .ok (.aload_n 0, 1) := dk_42 (dk_at dksX1_run_2 8 rfl rfl)
theorem dX1_run_57 : decode cX1_run 57 = .ok (.getfield 53, 3) := dk_180 0 53 (dk_at dksX1_run_2 9 rfl rfl)
theorem dX1_run_60 : decode cX1_run 60 = .ok (.getfield 320, 3) := dk_180 1 64 (dk_at dksX1_run_2 12 rfl rfl)
theorem dX1_run_63 : decode cX1_run 63 = .ok (.if_icmp .ge 31, 3) := dk_162 0 31 (dk_at dksX1_run_2 15 rfl rfl)
theorem dX1_run_66 : decode cX1_run 66 = .ok (.aload_n 0, 1) := dk_42 (dk_at dksX1_run_2 18 rfl rfl)
theorem dX1_run_67 : decode cX1_run 67 = .ok (.getfield 53, 3) := dk_180 0 53 (dk_at dksX1_run_2 19 rfl rfl)
theorem dX1_run_70 : decode cX1_run 70 = .ok (.aload_n 1, 1) := dk_43 (dk_at dksX1_run_2 22 rfl rfl)
theorem dX1_run_71 : decode cX1_run 71 = .ok (.iload_n 2, 1) := dk_28 (dk_at dksX1_run_2 23 rfl rfl)
theorem dX1_run_72 : decode cX1_run 72 = .ok (.invokevirtual 323, 3) := dk_182 1 67 (dk_at dksX1_run_3 0 rfl rfl)
theorem dX1_run_75 : decode cX1_run 75 = .ok (.invokestatic 132, 3) := dk_184 0 132 (dk_at dksX1_run_3 3 rfl rfl)
theorem dX1_run_78 : decode cX1_run 78 = .ok (.aload_n 0, 1) := dk_42 (dk_at dksX1_run_3 6 rfl rfl)
theorem dX1_run_79 : decode cX1_run 79 = .ok (.getfield 53, 3) := dk_180 0 53 (dk_at dksX1_run_3 7 rfl rfl)
theorem dX1_run_82 : decode cX1_run 82 = .ok (.aload_n 1, 1) := dk_43 (dk_at dksX1_run_3 10 rfl rfl)
theorem dX1_run_83 : decode cX1_run 83 = .ok (.iload_n 2, 1) := dk_28 (dk_at dksX1_run_3 11 rfl rfl)
theorem dX1_run_84 : decode cX1_run 84 = .ok (.invokevirtual 327, 3) := dk_182 1 71 (dk_at dksX1_run_3 12 rfl rfl)
theorem dX1_run_87 : decode cX1_run 87 = .ok (.istore_n 3, 1) := dk_62 (dk_at dksX1_run_3 15 rfl rfl)
theorem dX1_run_88 : decode cX1_run 88 = .ok (.iinc 2 1, 3) := dk_132 2 1 (dk_at dksX1_run_3 16 rfl rfl)
theorem dX1_run_91 : decode cX1_run 91 = .ok (.goto (-36), 3) := dk_167 255 220 (dk_at dksX1_run_3 19 rfl rfl)
theorem dX1_run_94 : decode cX1_run 94 = .ok (.goto 10, 3) := dk_167 0 10 (dk_at dksX1_run_4 0 rfl rfl)
theorem dX1_run_97 : decode cX1_run 97 = .ok (.astore_n 2, 1) := dk_77 (dk_at dksX1_run_4 3 rfl rfl)
theorem dX1_run_98 : decode cX1_run 98 = .ok (.aload_n 0, 1) := dk_42 (dk_at dksX1_run_4 4 rfl rfl)
theorem dX1_run_99 : decode cX1_run 99 = .ok (.aload_n 2, 1) := dk_44 (dk_at dksX1_run_4 5 rfl rfl)
theorem dX1_run_100 : decode cX1_run 100 = .ok (.invokevirtual 158, 3) := dk_182 0 158 (dk_at dksX1_run_4 6 rfl rfl)
theorem dX1_run_103 : decode cX1_run 103 = .ok (.athrow, 1) := dk_191 (dk_at dksX1_run_4 9 rfl rfl)
theorem dX1_run_104 : decode cX1_run 104 = .ok (.aload_n 0, 1) := dk_42 (dk_at dksX1_run_4 10 rfl rfl)
theorem dX1_run_105 : decode cX1_run 105 = .ok (.aload_n 0, 1) := dk_42 (dk_at dksX1_run_4 11 rfl rfl)
theorem dX1_run_106 : decode cX1_run 106 = .ok (.getfield 53, 3) := dk_180 0 53 (dk_at dksX1_run_4 12 rfl rfl)
theorem dX1_run_109 : decode cX1_run 109 = .ok (.getfield 320, 3) := dk_180 1 64 (dk_at dksX1_run_4 15 rfl rfl)
theorem dX1_run_112 : decode cX1_run 112 = .ok (.invokevirtual 143, 3) := dk_182 0 143 (dk_at dksX1_run_4 18 rfl rfl)
theorem dX1_run_115 : decode cX1_run 115 = .ok (.ireturn, 1) := dk_172 (dk_at dksX1_run_4 21 rfl rfl)
abbrev cX1_refusal : ByteArray := prog_1_method_50_code
def yX1_refusal : MethodName := ⟨RX1, "refusal", "(Z)I"⟩
def dkwX1_refusal_1 : List UInt8 := [167, 0, 7, 42, 180, 0, 80, 172]
abbrev dktX1_refusal_1 : List UInt8 := dkwX1_refusal_1 ++ []
def dkwX1_refusal_0 : List UInt8 := [42, 180, 0, 80, 158, 0, 7, 4, 167, 0, 4, 3, 184, 0, 189, 27, 153, 0, 10, 42, 180, 0, 86]
abbrev dktX1_refusal_0 : List UInt8 := dkwX1_refusal_0 ++ dktX1_refusal_1
theorem dksX1_refusal_0 : cX1_refusal.data.toList.drop 0 = dktX1_refusal_0 := by decide +kernel
theorem dksX1_refusal_1 : cX1_refusal.data.toList.drop 23 = dktX1_refusal_1 := dk_seg dksX1_refusal_0 23 rfl rfl
theorem dX1_refusal_0 : decode cX1_refusal 0 = .ok (.aload_n 0, 1) := dk_42 (dk_at dksX1_refusal_0 0 rfl rfl)
theorem dX1_refusal_1 : decode cX1_refusal 1 = .ok (.getfield 80, 3) := dk_180 0 80 (dk_at dksX1_refusal_0 1 rfl rfl)
theorem dX1_refusal_4 : decode cX1_refusal 4 = .ok (.ifCond .le 7, 3) := dk_158 0 7 (dk_at dksX1_refusal_0 4 rfl rfl)
theorem dX1_refusal_7 : decode cX1_refusal 7 = .ok (.iconst 1, 1) := dk_4 (dk_at dksX1_refusal_0 7 rfl rfl)
theorem dX1_refusal_8 : decode cX1_refusal 8 = .ok (.goto 4, 3) := dk_167 0 4 (dk_at dksX1_refusal_0 8 rfl rfl)
theorem dX1_refusal_11 : decode cX1_refusal 11 = .ok (.iconst 0, 1) := dk_3 (dk_at dksX1_refusal_0 11 rfl rfl)
theorem dX1_refusal_12 : decode cX1_refusal 12 = .ok (.invokestatic 189, 3) := dk_184 0 189 (dk_at dksX1_refusal_0 12 rfl rfl)
theorem dX1_refusal_15 : decode cX1_refusal 15 = .ok (.iload_n 1, 1) := dk_27 (dk_at dksX1_refusal_0 15 rfl rfl)
theorem dX1_refusal_16 : decode cX1_refusal 16 = .ok (.ifCond .eq 10, 3) := dk_153 0 10 (dk_at dksX1_refusal_0 16 rfl rfl)
theorem dX1_refusal_19 : decode cX1_refusal 19 = .ok (.aload_n 0, 1) := dk_42 (dk_at dksX1_refusal_0 19 rfl rfl)
theorem dX1_refusal_20 : decode cX1_refusal 20 = .ok (.getfield 86, 3) := dk_180 0 86 (dk_at dksX1_refusal_0 20 rfl rfl)
theorem dX1_refusal_23 : decode cX1_refusal 23 = .ok (.goto 7, 3) := dk_167 0 7 (dk_at dksX1_refusal_1 0 rfl rfl)
theorem dX1_refusal_26 : decode cX1_refusal 26 = .ok (.aload_n 0, 1) := dk_42 (dk_at dksX1_refusal_1 3 rfl rfl)
theorem dX1_refusal_27 : decode cX1_refusal 27 = .ok (.getfield 80, 3) := dk_180 0 80 (dk_at dksX1_refusal_1 4 rfl rfl)
theorem dX1_refusal_30 : decode cX1_refusal 30 = .ok (.ireturn, 1) := dk_172 (dk_at dksX1_refusal_1 7 rfl rfl)
abbrev cX1_account : ByteArray := prog_1_method_51_code
def yX1_account : MethodName := ⟨RX1, "account", "(I)I"⟩
def dkwX1_account_4 : List UInt8 := [172, 42, 180, 0, 41, 182, 1, 38, 172, 42, 180, 0, 34, 182, 1, 97, 172]
abbrev dktX1_account_4 : List UInt8 := dkwX1_account_4 ++ []
def dkwX1_account_3 : List UInt8 := [44, 180, 1, 82, 172, 44, 180, 1, 85, 172, 44, 180, 1, 88, 172, 44, 180, 1, 91, 172, 44, 180, 1, 94]
abbrev dktX1_account_3 : List UInt8 := dkwX1_account_3 ++ dktX1_account_4
def dkwX1_account_2 : List UInt8 := [44, 182, 1, 75, 172, 42, 182, 0, 211, 44, 186, 1, 78, 0, 0, 182, 0, 219, 172, 44, 180, 1, 79, 172]
abbrev dktX1_account_2 : List UInt8 := dkwX1_account_2 ++ dktX1_account_3
def dkwX1_account_1 : List UInt8 := [170, 0, 0, 0, 0, 0, 0, 109, 0, 0, 0, 0, 0, 0, 0, 8, 0, 0, 0, 52, 0, 0, 0, 57, 0, 0, 0, 71, 0, 0, 0, 76, 0, 0, 0, 81, 0, 0, 0, 86, 0, 0, 0, 91, 0, 0, 0, 96, 0, 0, 0, 101]
abbrev dktX1_account_1 : List UInt8 := dkwX1_account_1 ++ dktX1_account_2
def dkwX1_account_0 : List UInt8 := [27, 3, 16, 9, 184, 0, 7, 184, 0, 132, 42, 180, 0, 21, 77, 27]
abbrev dktX1_account_0 : List UInt8 := dkwX1_account_0 ++ dktX1_account_1
theorem dksX1_account_0 : cX1_account.data.toList.drop 0 = dktX1_account_0 := by decide +kernel
theorem dksX1_account_1 : cX1_account.data.toList.drop 16 = dktX1_account_1 := dk_seg dksX1_account_0 16 rfl rfl
theorem dksX1_account_2 : cX1_account.data.toList.drop 68 = dktX1_account_2 := dk_seg dksX1_account_1 52 rfl rfl
theorem dksX1_account_3 : cX1_account.data.toList.drop 92 = dktX1_account_3 := dk_seg dksX1_account_2 24 rfl rfl
theorem dksX1_account_4 : cX1_account.data.toList.drop 116 = dktX1_account_4 := dk_seg dksX1_account_3 24 rfl rfl
theorem dX1_account_0 : decode cX1_account 0 = .ok (.iload_n 1, 1) := dk_27 (dk_at dksX1_account_0 0 rfl rfl)
theorem dX1_account_1 : decode cX1_account 1 = .ok (.iconst 0, 1) := dk_3 (dk_at dksX1_account_0 1 rfl rfl)
theorem dX1_account_2 : decode cX1_account 2 = .ok (.bipush 9, 2) := dk_16 9 (dk_at dksX1_account_0 2 rfl rfl)
theorem dX1_account_4 : decode cX1_account 4 = .ok (.invokestatic 7, 3) := dk_184 0 7 (dk_at dksX1_account_0 4 rfl rfl)
theorem dX1_account_7 : decode cX1_account 7 = .ok (.invokestatic 132, 3) := dk_184 0 132 (dk_at dksX1_account_0 7 rfl rfl)
theorem dX1_account_10 : decode cX1_account 10 = .ok (.aload_n 0, 1) := dk_42 (dk_at dksX1_account_0 10 rfl rfl)
theorem dX1_account_11 : decode cX1_account 11 = .ok (.getfield 21, 3) := dk_180 0 21 (dk_at dksX1_account_0 11 rfl rfl)
theorem dX1_account_14 : decode cX1_account 14 = .ok (.astore_n 2, 1) := dk_77 (dk_at dksX1_account_0 14 rfl rfl)
theorem dX1_account_15 : decode cX1_account 15 = .ok (.iload_n 1, 1) := dk_27 (dk_at dksX1_account_0 15 rfl rfl)
theorem dX1_account_16 : decode cX1_account 16 = .ok (.tableswitch 109 0 8 #[52, 57, 71, 76, 81, 86, 91, 96, 101], 52) := by decide +kernel
theorem dX1_account_68 : decode cX1_account 68 = .ok (.aload_n 2, 1) := dk_44 (dk_at dksX1_account_2 0 rfl rfl)
theorem dX1_account_69 : decode cX1_account 69 = .ok (.invokevirtual 331, 3) := dk_182 1 75 (dk_at dksX1_account_2 1 rfl rfl)
theorem dX1_account_72 : decode cX1_account 72 = .ok (.ireturn, 1) := dk_172 (dk_at dksX1_account_2 4 rfl rfl)
theorem dX1_account_73 : decode cX1_account 73 = .ok (.aload_n 0, 1) := dk_42 (dk_at dksX1_account_2 5 rfl rfl)
theorem dX1_account_74 : decode cX1_account 74 = .ok (.invokevirtual 211, 3) := dk_182 0 211 (dk_at dksX1_account_2 6 rfl rfl)
theorem dX1_account_77 : decode cX1_account 77 = .ok (.aload_n 2, 1) := dk_44 (dk_at dksX1_account_2 9 rfl rfl)
theorem dX1_account_78 : decode cX1_account 78 = .ok (.invokedynamic 334, 5) := by decide +kernel
theorem dX1_account_83 : decode cX1_account 83 = .ok (.invokevirtual 219, 3) := dk_182 0 219 (dk_at dksX1_account_2 15 rfl rfl)
theorem dX1_account_86 : decode cX1_account 86 = .ok (.ireturn, 1) := dk_172 (dk_at dksX1_account_2 18 rfl rfl)
theorem dX1_account_87 : decode cX1_account 87 = .ok (.aload_n 2, 1) := dk_44 (dk_at dksX1_account_2 19 rfl rfl)
theorem dX1_account_88 : decode cX1_account 88 = .ok (.getfield 335, 3) := dk_180 1 79 (dk_at dksX1_account_2 20 rfl rfl)
theorem dX1_account_91 : decode cX1_account 91 = .ok (.ireturn, 1) := dk_172 (dk_at dksX1_account_2 23 rfl rfl)
theorem dX1_account_92 : decode cX1_account 92 = .ok (.aload_n 2, 1) := dk_44 (dk_at dksX1_account_3 0 rfl rfl)
theorem dX1_account_93 : decode cX1_account 93 = .ok (.getfield 338, 3) := dk_180 1 82 (dk_at dksX1_account_3 1 rfl rfl)
theorem dX1_account_96 : decode cX1_account 96 = .ok (.ireturn, 1) := dk_172 (dk_at dksX1_account_3 4 rfl rfl)
theorem dX1_account_97 : decode cX1_account 97 = .ok (.aload_n 2, 1) := dk_44 (dk_at dksX1_account_3 5 rfl rfl)
theorem dX1_account_98 : decode cX1_account 98 = .ok (.getfield 341, 3) := dk_180 1 85 (dk_at dksX1_account_3 6 rfl rfl)
theorem dX1_account_101 : decode cX1_account 101 = .ok (.ireturn, 1) := dk_172 (dk_at dksX1_account_3 9 rfl rfl)
theorem dX1_account_102 : decode cX1_account 102 = .ok (.aload_n 2, 1) := dk_44 (dk_at dksX1_account_3 10 rfl rfl)
theorem dX1_account_103 : decode cX1_account 103 = .ok (.getfield 344, 3) := dk_180 1 88 (dk_at dksX1_account_3 11 rfl rfl)
theorem dX1_account_106 : decode cX1_account 106 = .ok (.ireturn, 1) := dk_172 (dk_at dksX1_account_3 14 rfl rfl)
theorem dX1_account_107 : decode cX1_account 107 = .ok (.aload_n 2, 1) := dk_44 (dk_at dksX1_account_3 15 rfl rfl)
theorem dX1_account_108 : decode cX1_account 108 = .ok (.getfield 347, 3) := dk_180 1 91 (dk_at dksX1_account_3 16 rfl rfl)
theorem dX1_account_111 : decode cX1_account 111 = .ok (.ireturn, 1) := dk_172 (dk_at dksX1_account_3 19 rfl rfl)
theorem dX1_account_112 : decode cX1_account 112 = .ok (.aload_n 2, 1) := dk_44 (dk_at dksX1_account_3 20 rfl rfl)
theorem dX1_account_113 : decode cX1_account 113 = .ok (.getfield 350, 3) := dk_180 1 94 (dk_at dksX1_account_3 21 rfl rfl)
theorem dX1_account_116 : decode cX1_account 116 = .ok (.ireturn, 1) := dk_172 (dk_at dksX1_account_4 0 rfl rfl)
theorem dX1_account_117 : decode cX1_account 117 = .ok (.aload_n 0, 1) := dk_42 (dk_at dksX1_account_4 1 rfl rfl)
theorem dX1_account_118 : decode cX1_account 118 = .ok (.getfield 41, 3) := dk_180 0 41 (dk_at dksX1_account_4 2 rfl rfl)
theorem dX1_account_121 : decode cX1_account 121 = .ok (.invokevirtual 294, 3) := dk_182 1 38 (dk_at dksX1_account_4 5 rfl rfl)
theorem dX1_account_124 : decode cX1_account 124 = .ok (.ireturn, 1) := dk_172 (dk_at dksX1_account_4 8 rfl rfl)
theorem dX1_account_125 : decode cX1_account 125 = .ok (.aload_n 0, 1) := dk_42 (dk_at dksX1_account_4 9 rfl rfl)
theorem dX1_account_126 : decode cX1_account 126 = .ok (.getfield 34, 3) := dk_180 0 34 (dk_at dksX1_account_4 10 rfl rfl)
theorem dX1_account_129 : decode cX1_account 129 = .ok (.invokevirtual 353, 3) := dk_182 1 97 (dk_at dksX1_account_4 13 rfl rfl)
theorem dX1_account_132 : decode cX1_account 132 = .ok (.ireturn, 1) := dk_172 (dk_at dksX1_account_4 16 rfl rfl)
abbrev cX1_lambda_account_3 : ByteArray := prog_1_method_58_code
def yX1_lambda_account_3 : MethodName := ⟨RX1, "lambda$account$3", "(LVowelTorus$Puzzle;Ljava/lang/Integer;)Z"⟩
def dkwX1_lambda_account_3_0 : List UInt8 := [42, 180, 0, 198, 43, 182, 1, 28, 51, 172]
abbrev dktX1_lambda_account_3_0 : List UInt8 := dkwX1_lambda_account_3_0 ++ []
theorem dksX1_lambda_account_3_0 : cX1_lambda_account_3.data.toList.drop 0 = dktX1_lambda_account_3_0 := by decide +kernel
theorem dX1_lambda_account_3_0 : decode cX1_lambda_account_3 0 = .ok (.aload_n 0, 1) := dk_42 (dk_at dksX1_lambda_account_3_0 0 rfl rfl)
theorem dX1_lambda_account_3_1 : decode cX1_lambda_account_3 1 = .ok (.getfield 198, 3) := dk_180 0 198 (dk_at dksX1_lambda_account_3_0 1 rfl rfl)
theorem dX1_lambda_account_3_4 : decode cX1_lambda_account_3 4 = .ok (.aload_n 1, 1) := dk_43 (dk_at dksX1_lambda_account_3_0 4 rfl rfl)
theorem dX1_lambda_account_3_5 : decode cX1_lambda_account_3 5 = .ok (.invokevirtual 284, 3) := dk_182 1 28 (dk_at dksX1_lambda_account_3_0 5 rfl rfl)
theorem dX1_lambda_account_3_8 : decode cX1_lambda_account_3 8 = .ok (.baload, 1) := dk_51 (dk_at dksX1_lambda_account_3_0 8 rfl rfl)
theorem dX1_lambda_account_3_9 : decode cX1_lambda_account_3 9 = .ok (.ireturn, 1) := dk_172 (dk_at dksX1_lambda_account_3_0 9 rfl rfl)
abbrev cX1_meanFar : ByteArray := prog_1_method_53_code
def yX1_meanFar : MethodName := ⟨RX1, "meanFar", "()D"⟩
def dkwX1_meanFar_1 : List UInt8 := [182, 1, 109, 135, 27, 135, 111, 175]
abbrev dktX1_meanFar_1 : List UInt8 := dkwX1_meanFar_1 ++ []
def dkwX1_meanFar_0 : List UInt8 := [42, 180, 0, 21, 182, 1, 103, 60, 27, 154, 0, 11, 187, 1, 106, 89, 183, 1, 108, 191, 42, 180, 0, 21]
abbrev dktX1_meanFar_0 : List UInt8 := dkwX1_meanFar_0 ++ dktX1_meanFar_1
theorem dksX1_meanFar_0 : cX1_meanFar.data.toList.drop 0 = dktX1_meanFar_0 := by decide +kernel
theorem dksX1_meanFar_1 : cX1_meanFar.data.toList.drop 24 = dktX1_meanFar_1 := dk_seg dksX1_meanFar_0 24 rfl rfl
theorem dX1_meanFar_0 : decode cX1_meanFar 0 = .ok (.aload_n 0, 1) := dk_42 (dk_at dksX1_meanFar_0 0 rfl rfl)
theorem dX1_meanFar_1 : decode cX1_meanFar 1 = .ok (.getfield 21, 3) := dk_180 0 21 (dk_at dksX1_meanFar_0 1 rfl rfl)
theorem dX1_meanFar_4 : decode cX1_meanFar 4 = .ok (.invokevirtual 359, 3) := dk_182 1 103 (dk_at dksX1_meanFar_0 4 rfl rfl)
theorem dX1_meanFar_7 : decode cX1_meanFar 7 = .ok (.istore_n 1, 1) := dk_60 (dk_at dksX1_meanFar_0 7 rfl rfl)
theorem dX1_meanFar_8 : decode cX1_meanFar 8 = .ok (.iload_n 1, 1) := dk_27 (dk_at dksX1_meanFar_0 8 rfl rfl)
theorem dX1_meanFar_9 : decode cX1_meanFar 9 = .ok (.ifCond .ne 11, 3) := dk_154 0 11 (dk_at dksX1_meanFar_0 9 rfl rfl)
theorem dX1_meanFar_12 : decode cX1_meanFar 12 = .ok (.new 362, 3) := dk_187 1 106 (dk_at dksX1_meanFar_0 12 rfl rfl)
theorem dX1_meanFar_15 : decode cX1_meanFar 15 = .ok (.dup, 1) := dk_89 (dk_at dksX1_meanFar_0 15 rfl rfl)
theorem dX1_meanFar_16 : decode cX1_meanFar 16 = .ok (.invokespecial 364, 3) := dk_183 1 108 (dk_at dksX1_meanFar_0 16 rfl rfl)
theorem dX1_meanFar_19 : decode cX1_meanFar 19 = .ok (.athrow, 1) := dk_191 (dk_at dksX1_meanFar_0 19 rfl rfl)
theorem dX1_meanFar_20 : decode cX1_meanFar 20 = .ok (.aload_n 0, 1) := dk_42 (dk_at dksX1_meanFar_0 20 rfl rfl)
theorem dX1_meanFar_21 : decode cX1_meanFar 21 = .ok (.getfield 21, 3) := dk_180 0 21 (dk_at dksX1_meanFar_0 21 rfl rfl)
theorem dX1_meanFar_24 : decode cX1_meanFar 24 = .ok (.invokevirtual 365, 3) := dk_182 1 109 (dk_at dksX1_meanFar_1 0 rfl rfl)
theorem dX1_meanFar_27 : decode cX1_meanFar 27 = .ok (.i2d, 1) := dk_135 (dk_at dksX1_meanFar_1 3 rfl rfl)
theorem dX1_meanFar_28 : decode cX1_meanFar 28 = .ok (.iload_n 1, 1) := dk_27 (dk_at dksX1_meanFar_1 4 rfl rfl)
theorem dX1_meanFar_29 : decode cX1_meanFar 29 = .ok (.i2d, 1) := dk_135 (dk_at dksX1_meanFar_1 5 rfl rfl)
theorem dX1_meanFar_30 : decode cX1_meanFar 30 = .ok (.ddiv, 1) := dk_111 (dk_at dksX1_meanFar_1 6 rfl rfl)
theorem dX1_meanFar_31 : decode cX1_meanFar 31 = .ok (.dreturn, 1) := dk_175 (dk_at dksX1_meanFar_1 7 rfl rfl)
abbrev cX1_undo : ByteArray := prog_1_method_55_code
def yX1_undo : MethodName := ⟨RX1, "undo", "()I"⟩
def dkwX1_undo_1 : List UInt8 := [180, 0, 21, 182, 1, 112, 42, 180, 0, 34, 182, 1, 97, 172]
abbrev dktX1_undo_1 : List UInt8 := dkwX1_undo_1 ++ []
def dkwX1_undo_0 : List UInt8 := [42, 180, 0, 34, 182, 1, 97, 158, 0, 7, 4, 167, 0, 4, 3, 184, 1, 49, 42, 180, 0, 34, 42]
abbrev dktX1_undo_0 : List UInt8 := dkwX1_undo_0 ++ dktX1_undo_1
theorem dksX1_undo_0 : cX1_undo.data.toList.drop 0 = dktX1_undo_0 := by decide +kernel
theorem dksX1_undo_1 : cX1_undo.data.toList.drop 23 = dktX1_undo_1 := dk_seg dksX1_undo_0 23 rfl rfl
theorem dX1_undo_0 : decode cX1_undo 0 = .ok (.aload_n 0, 1) := dk_42 (dk_at dksX1_undo_0 0 rfl rfl)
theorem dX1_undo_1 : decode cX1_undo 1 = .ok (.getfield 34, 3) := dk_180 0 34 (dk_at dksX1_undo_0 1 rfl rfl)
theorem dX1_undo_4 : decode cX1_undo 4 = .ok (.invokevirtual 353, 3) := dk_182 1 97 (dk_at dksX1_undo_0 4 rfl rfl)
theorem dX1_undo_7 : decode cX1_undo 7 = .ok (.ifCond .le 7, 3) := dk_158 0 7 (dk_at dksX1_undo_0 7 rfl rfl)
theorem dX1_undo_10 : decode cX1_undo 10 = .ok (.iconst 1, 1) := dk_4 (dk_at dksX1_undo_0 10 rfl rfl)
theorem dX1_undo_11 : decode cX1_undo 11 = .ok (.goto 4, 3) := dk_167 0 4 (dk_at dksX1_undo_0 11 rfl rfl)
theorem dX1_undo_14 : decode cX1_undo 14 = .ok (.iconst 0, 1) := dk_3 (dk_at dksX1_undo_0 14 rfl rfl)
theorem dX1_undo_15 : decode cX1_undo 15 = .ok (.invokestatic 305, 3) := dk_184 1 49 (dk_at dksX1_undo_0 15 rfl rfl)
theorem dX1_undo_18 : decode cX1_undo 18 = .ok (.aload_n 0, 1) := dk_42 (dk_at dksX1_undo_0 18 rfl rfl)
theorem dX1_undo_19 : decode cX1_undo 19 = .ok (.getfield 34, 3) := dk_180 0 34 (dk_at dksX1_undo_0 19 rfl rfl)
theorem dX1_undo_22 : decode cX1_undo 22 = .ok (.aload_n 0, 1) := dk_42 (dk_at dksX1_undo_0 22 rfl rfl)
theorem dX1_undo_23 : decode cX1_undo 23 = .ok (.getfield 21, 3) := dk_180 0 21 (dk_at dksX1_undo_1 0 rfl rfl)
theorem dX1_undo_26 : decode cX1_undo 26 = .ok (.invokevirtual 368, 3) := dk_182 1 112 (dk_at dksX1_undo_1 3 rfl rfl)
theorem dX1_undo_29 : decode cX1_undo 29 = .ok (.aload_n 0, 1) := dk_42 (dk_at dksX1_undo_1 6 rfl rfl)
theorem dX1_undo_30 : decode cX1_undo 30 = .ok (.getfield 34, 3) := dk_180 0 34 (dk_at dksX1_undo_1 7 rfl rfl)
theorem dX1_undo_33 : decode cX1_undo 33 = .ok (.invokevirtual 353, 3) := dk_182 1 97 (dk_at dksX1_undo_1 10 rfl rfl)
theorem dX1_undo_36 : decode cX1_undo 36 = .ok (.ireturn, 1) := dk_172 (dk_at dksX1_undo_1 13 rfl rfl)
abbrev cX1_restore : ByteArray := prog_1_method_57_code
def yX1_restore : MethodName := ⟨RX1, "restore", "()I"⟩
def dkwX1_restore_1 : List UInt8 := [182, 1, 119, 42, 180, 0, 21, 182, 0, 254, 172]
abbrev dktX1_restore_1 : List UInt8 := dkwX1_restore_1 ++ []
def dkwX1_restore_0 : List UInt8 := [42, 180, 1, 115, 184, 1, 49, 42, 180, 0, 21, 42, 180, 0, 28, 182, 0, 101, 42, 180, 0, 34]
abbrev dktX1_restore_0 : List UInt8 := dkwX1_restore_0 ++ dktX1_restore_1
theorem dksX1_restore_0 : cX1_restore.data.toList.drop 0 = dktX1_restore_0 := by decide +kernel
theorem dksX1_restore_1 : cX1_restore.data.toList.drop 22 = dktX1_restore_1 := dk_seg dksX1_restore_0 22 rfl rfl
theorem dX1_restore_0 : decode cX1_restore 0 = .ok (.aload_n 0, 1) := dk_42 (dk_at dksX1_restore_0 0 rfl rfl)
theorem dX1_restore_1 : decode cX1_restore 1 = .ok (.getfield 371, 3) := dk_180 1 115 (dk_at dksX1_restore_0 1 rfl rfl)
theorem dX1_restore_4 : decode cX1_restore 4 = .ok (.invokestatic 305, 3) := dk_184 1 49 (dk_at dksX1_restore_0 4 rfl rfl)
theorem dX1_restore_7 : decode cX1_restore 7 = .ok (.aload_n 0, 1) := dk_42 (dk_at dksX1_restore_0 7 rfl rfl)
theorem dX1_restore_8 : decode cX1_restore 8 = .ok (.getfield 21, 3) := dk_180 0 21 (dk_at dksX1_restore_0 8 rfl rfl)
theorem dX1_restore_11 : decode cX1_restore 11 = .ok (.aload_n 0, 1) := dk_42 (dk_at dksX1_restore_0 11 rfl rfl)
theorem dX1_restore_12 : decode cX1_restore 12 = .ok (.getfield 28, 3) := dk_180 0 28 (dk_at dksX1_restore_0 12 rfl rfl)
theorem dX1_restore_15 : decode cX1_restore 15 = .ok (.invokevirtual 101, 3) := dk_182 0 101 (dk_at dksX1_restore_0 15 rfl rfl)
theorem dX1_restore_18 : decode cX1_restore 18 = .ok (.aload_n 0, 1) := dk_42 (dk_at dksX1_restore_0 18 rfl rfl)
theorem dX1_restore_19 : decode cX1_restore 19 = .ok (.getfield 34, 3) := dk_180 0 34 (dk_at dksX1_restore_0 19 rfl rfl)
theorem dX1_restore_22 : decode cX1_restore 22 = .ok (.invokevirtual 375, 3) := dk_182 1 119 (dk_at dksX1_restore_1 0 rfl rfl)
theorem dX1_restore_25 : decode cX1_restore 25 = .ok (.aload_n 0, 1) := dk_42 (dk_at dksX1_restore_1 3 rfl rfl)
theorem dX1_restore_26 : decode cX1_restore 26 = .ok (.getfield 21, 3) := dk_180 0 21 (dk_at dksX1_restore_1 4 rfl rfl)
theorem dX1_restore_29 : decode cX1_restore 29 = .ok (.invokevirtual 254, 3) := dk_182 0 254 (dk_at dksX1_restore_1 7 rfl rfl)
theorem dX1_restore_32 : decode cX1_restore 32 = .ok (.ireturn, 1) := dk_172 (dk_at dksX1_restore_1 10 rfl rfl)
theorem q88 : (Jvm.Cond.initialized "VowelTorus") ∈ lw_all := lw_g (lw_at lw_m1 1 rfl) rfl
theorem q124 : (Jvm.Cond.instantiable "VowelTorus" (11 : Nat)) ∈ lw_all := lw_g (lw_at lw_m1 37 rfl) rfl
theorem q126 : (Jvm.Cond.instanceMethod ({ cls := "VowelTorus", name := "<init>", desc := "()V" } : Jvm.MethodName)) ∈ lw_all := lw_g (lw_at lw_m1 39 rfl) rfl
theorem q127 : (Jvm.Cond.code ({ cls := "VowelTorus", name := "<init>", desc := "()V" } : Jvm.MethodName) prog_1_method_7_code (3 : Nat) (Option.none : Option Jvm.ClassFile.FieldType)) ∈ lw_all := lw_g (lw_at lw_m1 40 rfl) rfl
theorem q128 : (Jvm.Cond.methodLink "VowelTorus" (13 : Nat) ({ cls := "java/lang/Object", name := "<init>", desc := "()V" } : Jvm.MethodName)) ∈ lw_all := lw_g (lw_at lw_m1 41 rfl) rfl
theorem q131 : (Jvm.Cond.classLink "VowelTorus" (18 : Nat) "VowelTorus$Puzzle") ∈ lw_all := lw_g (lw_at lw_m1 44 rfl) rfl
theorem q133 : (Jvm.Cond.methodLink "VowelTorus" (20 : Nat) ({ cls := "VowelTorus$Puzzle", name := "<init>", desc := "()V" } : Jvm.MethodName)) ∈ lw_all := lw_g (lw_at lw_m1 46 rfl) rfl
theorem q142 : (Jvm.Cond.fieldLinkNest "VowelTorus" (202 : Nat) "VowelTorus$Puzzle" "rows" "I" "VowelTorus") ∈ lw_tbl := lw_at lw_m1 55 rfl
theorem q144 : (Jvm.Cond.fieldLinkNest "VowelTorus" (205 : Nat) "VowelTorus$Puzzle" "columns" "I" "VowelTorus") ∈ lw_tbl := lw_at lw_m1 57 rfl
theorem q146 : (Jvm.Cond.fieldLinkNest "VowelTorus" (192 : Nat) "VowelTorus$Puzzle" "letters" "[C" "VowelTorus") ∈ lw_tbl := lw_at lw_m1 59 rfl
theorem q148 : (Jvm.Cond.fieldLinkNest "VowelTorus" (196 : Nat) "VowelTorus$Puzzle" "goal" "[C" "VowelTorus") ∈ lw_tbl := lw_at lw_m1 61 rfl
theorem q150 : (Jvm.Cond.fieldLinkNest "VowelTorus" (198 : Nat) "VowelTorus$Puzzle" "bars" "[Z" "VowelTorus") ∈ lw_tbl := lw_at lw_m1 63 rfl
theorem q152 : (Jvm.Cond.fieldLinkNest "VowelTorus" (335 : Nat) "VowelTorus$Puzzle" "turned" "I" "VowelTorus") ∈ lw_tbl := lw_at lw_m1 65 rfl
theorem q154 : (Jvm.Cond.fieldLinkNest "VowelTorus" (338 : Nat) "VowelTorus$Puzzle" "swapped" "I" "VowelTorus") ∈ lw_tbl := lw_at lw_m1 67 rfl
theorem q156 : (Jvm.Cond.fieldLinkNest "VowelTorus" (341 : Nat) "VowelTorus$Puzzle" "scrambled" "I" "VowelTorus") ∈ lw_tbl := lw_at lw_m1 69 rfl
theorem q158 : (Jvm.Cond.fieldLinkNest "VowelTorus" (344 : Nat) "VowelTorus$Puzzle" "stepped" "I" "VowelTorus") ∈ lw_tbl := lw_at lw_m1 71 rfl
theorem q160 : (Jvm.Cond.fieldLinkNest "VowelTorus" (347 : Nat) "VowelTorus$Puzzle" "boards" "I" "VowelTorus") ∈ lw_tbl := lw_at lw_m1 73 rfl
theorem q162 : (Jvm.Cond.fieldLinkNest "VowelTorus" (350 : Nat) "VowelTorus$Puzzle" "reached" "I" "VowelTorus") ∈ lw_tbl := lw_at lw_m1 75 rfl
theorem q198 : (Jvm.Cond.classLink "VowelTorus" (31 : Nat) "VowelTorus$Past") ∈ lw_all := lw_g (lw_at lw_m1 111 rfl) rfl
theorem q200 : (Jvm.Cond.methodLinkNest "VowelTorus" (33 : Nat) ({ cls := "VowelTorus$Past", name := "<init>", desc := "()V" } : Jvm.MethodName) "VowelTorus") ∈ lw_tbl := lw_at lw_m1 113 rfl
theorem q234 : (Jvm.Cond.classLink "VowelTorus" (38 : Nat) "java/lang/StringBuilder") ∈ lw_all := lw_g (lw_at lw_m1 147 rfl) rfl
theorem q236 : (Jvm.Cond.methodLink "VowelTorus" (40 : Nat) ({ cls := "java/lang/StringBuilder", name := "<init>", desc := "()V" } : Jvm.MethodName)) ∈ lw_all := lw_g (lw_at lw_m1 149 rfl) rfl
theorem q267 : (Jvm.Cond.classLink "VowelTorus" (48 : Nat) "VowelTorus$Reader") ∈ lw_all := lw_g (lw_at lw_m1 180 rfl) rfl
theorem q269 : (Jvm.Cond.methodLink "VowelTorus" (50 : Nat) ({ cls := "VowelTorus$Reader", name := "<init>", desc := "(Ljava/lang/StringBuilder;)V" } : Jvm.MethodName)) ∈ lw_all := lw_g (lw_at lw_m1 182 rfl) rfl
theorem q276 : (Jvm.Cond.fieldLinkNest "VowelTorus" (320 : Nat) "VowelTorus$Reader" "many" "I" "VowelTorus") ∈ lw_tbl := lw_at lw_m1 189 rfl
theorem q293 : (Jvm.Cond.methodLink "VowelTorus" (61 : Nat) ({ cls := "VowelTorus$Past", name := "with", desc := "(LVowelTorus$Taken;)LVowelTorus$Past;" } : Jvm.MethodName)) ∈ lw_all := lw_g (lw_at lw_m1 206 rfl) rfl
theorem q394 : (Jvm.Cond.selects "VowelTorus" ({ cls := "java/lang/Object", name := "getClass", desc := "()Ljava/lang/Class;" } : Jvm.MethodName) ({ cls := "java/lang/Object", name := "getClass", desc := "()Ljava/lang/Class;" } : Jvm.MethodName)) ∈ lw_all := lw_g (lw_at lw_m2 67 rfl) rfl
theorem q428 : (Jvm.Cond.fieldLink "VowelTorus" (21 : Nat) "VowelTorus" "puzzle" "LVowelTorus$Puzzle;") ∈ lw_all := lw_g (lw_at lw_m2 101 rfl) rfl
theorem q429 : (Jvm.Cond.fieldLink "VowelTorus" (25 : Nat) "VowelTorus" "tried" "LVowelTorus$Puzzle;") ∈ lw_all := lw_g (lw_at lw_m2 102 rfl) rfl
theorem q430 : (Jvm.Cond.fieldLink "VowelTorus" (28 : Nat) "VowelTorus" "saved" "LVowelTorus$Puzzle;") ∈ lw_all := lw_g (lw_at lw_m2 103 rfl) rfl
theorem q431 : (Jvm.Cond.fieldLink "VowelTorus" (371 : Nat) "VowelTorus" "hasSaved" "Z") ∈ lw_all := lw_g (lw_at lw_m2 104 rfl) rfl
theorem q432 : (Jvm.Cond.fieldLink "VowelTorus" (34 : Nat) "VowelTorus" "past" "LVowelTorus$Past;") ∈ lw_all := lw_g (lw_at lw_m2 105 rfl) rfl
theorem q433 : (Jvm.Cond.fieldLink "VowelTorus" (41 : Nat) "VowelTorus" "buffer" "Ljava/lang/StringBuilder;") ∈ lw_all := lw_g (lw_at lw_m2 106 rfl) rfl
theorem q434 : (Jvm.Cond.fieldLink "VowelTorus" (45 : Nat) "VowelTorus" "line" "Ljava/lang/StringBuilder;") ∈ lw_all := lw_g (lw_at lw_m2 107 rfl) rfl
theorem q435 : (Jvm.Cond.fieldLink "VowelTorus" (53 : Nat) "VowelTorus" "reader" "LVowelTorus$Reader;") ∈ lw_all := lw_g (lw_at lw_m2 108 rfl) rfl
theorem q436 : (Jvm.Cond.fieldLink "VowelTorus" (57 : Nat) "VowelTorus" "fault" "I") ∈ lw_all := lw_g (lw_at lw_m2 109 rfl) rfl
theorem q437 : (Jvm.Cond.fieldLink "VowelTorus" (80 : Nat) "VowelTorus" "refused" "I") ∈ lw_all := lw_g (lw_at lw_m2 110 rfl) rfl
theorem q438 : (Jvm.Cond.fieldLink "VowelTorus" (86 : Nat) "VowelTorus" "detail" "I") ∈ lw_all := lw_g (lw_at lw_m2 111 rfl) rfl
theorem q439 : (Jvm.Cond.laysFinal "VowelTorus" "VowelTorus" "puzzle" "LVowelTorus$Puzzle;") ∈ lw_all := lw_g (lw_at lw_m2 112 rfl) rfl
theorem q440 : (Jvm.Cond.soleField "VowelTorus" "puzzle") ∈ lw_all := lw_g (lw_at lw_m2 113 rfl) rfl
theorem q441 : (Jvm.Cond.laysFinal "VowelTorus" "VowelTorus" "tried" "LVowelTorus$Puzzle;") ∈ lw_all := lw_g (lw_at lw_m2 114 rfl) rfl
theorem q442 : (Jvm.Cond.soleField "VowelTorus" "tried") ∈ lw_all := lw_g (lw_at lw_m2 115 rfl) rfl
theorem q443 : (Jvm.Cond.laysFinal "VowelTorus" "VowelTorus" "saved" "LVowelTorus$Puzzle;") ∈ lw_all := lw_g (lw_at lw_m2 116 rfl) rfl
theorem q444 : (Jvm.Cond.soleField "VowelTorus" "saved") ∈ lw_all := lw_g (lw_at lw_m2 117 rfl) rfl
theorem q445 : (Jvm.Cond.lays "VowelTorus" "VowelTorus" "hasSaved" "Z") ∈ lw_all := lw_g (lw_at lw_m2 118 rfl) rfl
theorem q446 : (Jvm.Cond.soleField "VowelTorus" "hasSaved") ∈ lw_all := lw_g (lw_at lw_m2 119 rfl) rfl
theorem q447 : (Jvm.Cond.laysFinal "VowelTorus" "VowelTorus" "past" "LVowelTorus$Past;") ∈ lw_all := lw_g (lw_at lw_m2 120 rfl) rfl
theorem q448 : (Jvm.Cond.soleField "VowelTorus" "past") ∈ lw_all := lw_g (lw_at lw_m2 121 rfl) rfl
theorem q449 : (Jvm.Cond.laysFinal "VowelTorus" "VowelTorus" "buffer" "Ljava/lang/StringBuilder;") ∈ lw_all := lw_g (lw_at lw_m2 122 rfl) rfl
theorem q450 : (Jvm.Cond.soleField "VowelTorus" "buffer") ∈ lw_all := lw_g (lw_at lw_m2 123 rfl) rfl
theorem q451 : (Jvm.Cond.laysFinal "VowelTorus" "VowelTorus" "line" "Ljava/lang/StringBuilder;") ∈ lw_all := lw_g (lw_at lw_m2 124 rfl) rfl
theorem q452 : (Jvm.Cond.soleField "VowelTorus" "line") ∈ lw_all := lw_g (lw_at lw_m2 125 rfl) rfl
theorem q453 : (Jvm.Cond.laysFinal "VowelTorus" "VowelTorus" "reader" "LVowelTorus$Reader;") ∈ lw_all := lw_g (lw_at lw_m2 126 rfl) rfl
theorem q454 : (Jvm.Cond.soleField "VowelTorus" "reader") ∈ lw_all := lw_g (lw_at lw_m2 127 rfl) rfl
theorem q455 : (Jvm.Cond.lays "VowelTorus" "VowelTorus" "fault" "I") ∈ lw_all := lw_g (lw_at lw_m2 128 rfl) rfl
theorem q456 : (Jvm.Cond.soleField "VowelTorus" "fault") ∈ lw_all := lw_g (lw_at lw_m2 129 rfl) rfl
theorem q457 : (Jvm.Cond.lays "VowelTorus" "VowelTorus" "refused" "I") ∈ lw_all := lw_g (lw_at lw_m2 130 rfl) rfl
theorem q458 : (Jvm.Cond.soleField "VowelTorus" "refused") ∈ lw_all := lw_g (lw_at lw_m2 131 rfl) rfl
theorem q459 : (Jvm.Cond.lays "VowelTorus" "VowelTorus" "detail" "I") ∈ lw_all := lw_g (lw_at lw_m2 132 rfl) rfl
theorem q460 : (Jvm.Cond.soleField "VowelTorus" "detail") ∈ lw_all := lw_g (lw_at lw_m2 133 rfl) rfl
theorem q461 : (Jvm.Cond.superclass "VowelTorus" "java/lang/Object") ∈ lw_all := lw_g (lw_at lw_m2 134 rfl) rfl
theorem q463 : (Jvm.Cond.instanceMethod ({ cls := "VowelTorus", name := "isOut", desc := "()Z" } : Jvm.MethodName)) ∈ lw_all := lw_g (lw_at lw_m2 136 rfl) rfl
theorem q464 : (Jvm.Cond.selects "VowelTorus" ({ cls := "VowelTorus", name := "isOut", desc := "()Z" } : Jvm.MethodName) ({ cls := "VowelTorus", name := "isOut", desc := "()Z" } : Jvm.MethodName)) ∈ lw_all := lw_g (lw_at lw_m2 137 rfl) rfl
theorem q465 : (Jvm.Cond.code ({ cls := "VowelTorus", name := "isOut", desc := "()Z" } : Jvm.MethodName) prog_1_method_33_code (1 : Nat) (Option.some Jvm.ClassFile.FieldType.boolean)) ∈ lw_all := lw_g (lw_at lw_m2 138 rfl) rfl
theorem q466 : (Jvm.Cond.methodLink "VowelTorus" (241 : Nat) ({ cls := "VowelTorus$Puzzle", name := "isOut", desc := "()Z" } : Jvm.MethodName)) ∈ lw_all := lw_g (lw_at lw_m2 139 rfl) rfl
theorem q506 : (Jvm.Cond.instanceMethod ({ cls := "VowelTorus", name := "home", desc := "()I" } : Jvm.MethodName)) ∈ lw_all := lw_g (lw_at lw_m2 179 rfl) rfl
theorem q507 : (Jvm.Cond.selects "VowelTorus" ({ cls := "VowelTorus", name := "home", desc := "()I" } : Jvm.MethodName) ({ cls := "VowelTorus", name := "home", desc := "()I" } : Jvm.MethodName)) ∈ lw_all := lw_g (lw_at lw_m2 180 rfl) rfl
theorem q508 : (Jvm.Cond.code ({ cls := "VowelTorus", name := "home", desc := "()I" } : Jvm.MethodName) prog_1_method_35_code (1 : Nat) (Option.some Jvm.ClassFile.FieldType.int)) ∈ lw_all := lw_g (lw_at lw_m2 181 rfl) rfl
theorem q509 : (Jvm.Cond.methodLink "VowelTorus" (254 : Nat) ({ cls := "VowelTorus$Puzzle", name := "home", desc := "()I" } : Jvm.MethodName)) ∈ lw_all := lw_g (lw_at lw_m2 182 rfl) rfl
theorem q521 : (Jvm.Cond.instanceMethod ({ cls := "VowelTorus", name := "singing", desc := "()I" } : Jvm.MethodName)) ∈ lw_all := lw_g (lw_at lw_m2 194 rfl) rfl
theorem q522 : (Jvm.Cond.selects "VowelTorus" ({ cls := "VowelTorus", name := "singing", desc := "()I" } : Jvm.MethodName) ({ cls := "VowelTorus", name := "singing", desc := "()I" } : Jvm.MethodName)) ∈ lw_all := lw_g (lw_at lw_m2 195 rfl) rfl
theorem q523 : (Jvm.Cond.code ({ cls := "VowelTorus", name := "singing", desc := "()I" } : Jvm.MethodName) prog_1_method_41_code (1 : Nat) (Option.some Jvm.ClassFile.FieldType.int)) ∈ lw_all := lw_g (lw_at lw_m2 196 rfl) rfl
theorem q524 : (Jvm.Cond.methodLink "VowelTorus" (211 : Nat) ({ cls := "VowelTorus", name := "allLines", desc := "()LVowelTorus$Row;" } : Jvm.MethodName)) ∈ lw_all := lw_g (lw_at lw_m2 197 rfl) rfl
theorem q525 : (Jvm.Cond.privateMethod ({ cls := "VowelTorus", name := "allLines", desc := "()LVowelTorus$Row;" } : Jvm.MethodName)) ∈ lw_tbl := lw_at lw_m2 198 rfl
theorem q526 : (Jvm.Cond.instanceMethod ({ cls := "VowelTorus", name := "allLines", desc := "()LVowelTorus$Row;" } : Jvm.MethodName)) ∈ lw_all := lw_g (lw_at lw_m2 199 rfl) rfl
theorem q527 : (Jvm.Cond.code ({ cls := "VowelTorus", name := "allLines", desc := "()LVowelTorus$Row;" } : Jvm.MethodName) prog_1_method_18_code (4 : Nat) (Option.some (Jvm.ClassFile.FieldType.object "VowelTorus$Row"))) ∈ lw_all := lw_g (lw_at lw_m2 200 rfl) rfl
theorem q528 : (Jvm.Cond.classLink "VowelTorus" (112 : Nat) "VowelTorus$Row") ∈ lw_all := lw_g (lw_at lw_m2 201 rfl) rfl
theorem q530 : (Jvm.Cond.methodLinkNest "VowelTorus" (114 : Nat) ({ cls := "VowelTorus$Row", name := "<init>", desc := "()V" } : Jvm.MethodName) "VowelTorus") ∈ lw_tbl := lw_at lw_m2 203 rfl
theorem q540 : (Jvm.Cond.methodLink "VowelTorus" (115 : Nat) ({ cls := "VowelTorus$Puzzle", name := "lines", desc := "()I" } : Jvm.MethodName)) ∈ lw_all := lw_g (lw_at lw_m2 213 rfl) rfl
theorem q544 : (Jvm.Cond.methodLink "VowelTorus" (119 : Nat) ({ cls := "java/lang/Integer", name := "valueOf", desc := "(I)Ljava/lang/Integer;" } : Jvm.MethodName)) ∈ lw_all := lw_g (lw_at lw_m2 217 rfl) rfl
theorem q564 : (Jvm.Cond.methodLink "VowelTorus" (125 : Nat) ({ cls := "VowelTorus$Row", name := "with", desc := "(Ljava/lang/Object;)LVowelTorus$Row;" } : Jvm.MethodName)) ∈ lw_all := lw_g (lw_at lw_m2 237 rfl) rfl
theorem q569 : (Jvm.Cond.privateMethod ({ cls := "VowelTorus", name := "lambda$singing$1", desc := "(Ljava/lang/Integer;)Z" } : Jvm.MethodName)) ∈ lw_tbl := lw_at lw_m3 2 rfl
theorem q570 : (Jvm.Cond.instanceMethod ({ cls := "VowelTorus", name := "lambda$singing$1", desc := "(Ljava/lang/Integer;)Z" } : Jvm.MethodName)) ∈ lw_all := lw_g (lw_at lw_m3 3 rfl) rfl
theorem q571 : (Jvm.Cond.code ({ cls := "VowelTorus", name := "lambda$singing$1", desc := "(Ljava/lang/Integer;)Z" } : Jvm.MethodName) prog_1_method_60_code (2 : Nat) (Option.some Jvm.ClassFile.FieldType.boolean)) ∈ lw_all := lw_g (lw_at lw_m3 4 rfl) rfl
theorem q572 : (Jvm.Cond.methodLink "VowelTorus" (284 : Nat) ({ cls := "java/lang/Integer", name := "intValue", desc := "()I" } : Jvm.MethodName)) ∈ lw_all := lw_g (lw_at lw_m3 5 rfl) rfl
theorem q576 : (Jvm.Cond.methodLink "VowelTorus" (270 : Nat) ({ cls := "VowelTorus$Puzzle", name := "sings", desc := "(I)Z" } : Jvm.MethodName)) ∈ lw_all := lw_g (lw_at lw_m3 9 rfl) rfl
theorem q593 : (Jvm.Cond.static ({ cls := "VowelTorus", name := "isVowel", desc := "(C)Z" } : Jvm.MethodName)) ∈ lw_all := lw_g (lw_at lw_m3 26 rfl) rfl
theorem q594 : (Jvm.Cond.code ({ cls := "VowelTorus", name := "isVowel", desc := "(C)Z" } : Jvm.MethodName) prog_1_method_4_code (1 : Nat) (Option.some Jvm.ClassFile.FieldType.boolean)) ∈ lw_all := lw_g (lw_at lw_m3 27 rfl) rfl
theorem q595 : (Jvm.Cond.methodLink "VowelTorus" (219 : Nat) ({ cls := "VowelTorus$Row", name := "count", desc := "(LVowelTorus$Test;)I" } : Jvm.MethodName)) ∈ lw_all := lw_g (lw_at lw_m3 28 rfl) rfl
theorem q678 : (Jvm.Cond.instanceMethod ({ cls := "VowelTorus", name := "text", desc := "()I" } : Jvm.MethodName)) ∈ lw_all := lw_g (lw_at lw_m3 111 rfl) rfl
theorem q679 : (Jvm.Cond.selects "VowelTorus" ({ cls := "VowelTorus", name := "text", desc := "()I" } : Jvm.MethodName) ({ cls := "VowelTorus", name := "text", desc := "()I" } : Jvm.MethodName)) ∈ lw_all := lw_g (lw_at lw_m3 112 rfl) rfl
theorem q680 : (Jvm.Cond.code ({ cls := "VowelTorus", name := "text", desc := "()I" } : Jvm.MethodName) prog_1_method_43_code (1 : Nat) (Option.some Jvm.ClassFile.FieldType.int)) ∈ lw_all := lw_g (lw_at lw_m3 113 rfl) rfl
theorem q681 : (Jvm.Cond.methodLink "VowelTorus" (287 : Nat) ({ cls := "java/lang/StringBuilder", name := "setLength", desc := "(I)V" } : Jvm.MethodName)) ∈ lw_all := lw_g (lw_at lw_m3 114 rfl) rfl
theorem q966 : (Jvm.Cond.methodLink "VowelTorus" (290 : Nat) ({ cls := "VowelTorus$Puzzle", name := "writes", desc := "(Ljava/lang/StringBuilder;[C)V" } : Jvm.MethodName)) ∈ lw_all := lw_g (lw_at lw_m4 159 rfl) rfl
theorem q992 : (Jvm.Cond.methodLink "VowelTorus" (294 : Nat) ({ cls := "java/lang/StringBuilder", name := "length", desc := "()I" } : Jvm.MethodName)) ∈ lw_all := lw_g (lw_at lw_m4 185 rfl) rfl
theorem q994 : (Jvm.Cond.instanceMethod ({ cls := "VowelTorus", name := "goalText", desc := "()I" } : Jvm.MethodName)) ∈ lw_all := lw_g (lw_at lw_m4 187 rfl) rfl
theorem q995 : (Jvm.Cond.selects "VowelTorus" ({ cls := "VowelTorus", name := "goalText", desc := "()I" } : Jvm.MethodName) ({ cls := "VowelTorus", name := "goalText", desc := "()I" } : Jvm.MethodName)) ∈ lw_all := lw_g (lw_at lw_m4 188 rfl) rfl
theorem q996 : (Jvm.Cond.code ({ cls := "VowelTorus", name := "goalText", desc := "()I" } : Jvm.MethodName) prog_1_method_44_code (1 : Nat) (Option.some Jvm.ClassFile.FieldType.int)) ∈ lw_all := lw_g (lw_at lw_m4 189 rfl) rfl
theorem q998 : (Jvm.Cond.instanceMethod ({ cls := "VowelTorus", name := "errorPosition", desc := "()I" } : Jvm.MethodName)) ∈ lw_all := lw_g (lw_at lw_m4 191 rfl) rfl
theorem q999 : (Jvm.Cond.selects "VowelTorus" ({ cls := "VowelTorus", name := "errorPosition", desc := "()I" } : Jvm.MethodName) ({ cls := "VowelTorus", name := "errorPosition", desc := "()I" } : Jvm.MethodName)) ∈ lw_all := lw_g (lw_at lw_m4 192 rfl) rfl
theorem q1000 : (Jvm.Cond.code ({ cls := "VowelTorus", name := "errorPosition", desc := "()I" } : Jvm.MethodName) prog_1_method_49_code (1 : Nat) (Option.some Jvm.ClassFile.FieldType.int)) ∈ lw_all := lw_g (lw_at lw_m4 193 rfl) rfl
theorem q1002 : (Jvm.Cond.instanceMethod ({ cls := "VowelTorus", name := "isWell", desc := "()Z" } : Jvm.MethodName)) ∈ lw_all := lw_g (lw_at lw_m4 195 rfl) rfl
theorem q1003 : (Jvm.Cond.selects "VowelTorus" ({ cls := "VowelTorus", name := "isWell", desc := "()Z" } : Jvm.MethodName) ({ cls := "VowelTorus", name := "isWell", desc := "()Z" } : Jvm.MethodName)) ∈ lw_all := lw_g (lw_at lw_m4 196 rfl) rfl
theorem q1004 : (Jvm.Cond.code ({ cls := "VowelTorus", name := "isWell", desc := "()Z" } : Jvm.MethodName) prog_1_method_52_code (1 : Nat) (Option.some Jvm.ClassFile.FieldType.boolean)) ∈ lw_all := lw_g (lw_at lw_m4 197 rfl) rfl
theorem q1005 : (Jvm.Cond.methodLink "VowelTorus" (356 : Nat) ({ cls := "VowelTorus$Puzzle", name := "isWell", desc := "()Z" } : Jvm.MethodName)) ∈ lw_all := lw_g (lw_at lw_m4 198 rfl) rfl
theorem q1090 : (Jvm.Cond.instanceMethod ({ cls := "VowelTorus", name := "homeShare", desc := "()F" } : Jvm.MethodName)) ∈ lw_all := lw_g (lw_at lw_m5 43 rfl) rfl
theorem q1091 : (Jvm.Cond.selects "VowelTorus" ({ cls := "VowelTorus", name := "homeShare", desc := "()F" } : Jvm.MethodName) ({ cls := "VowelTorus", name := "homeShare", desc := "()F" } : Jvm.MethodName)) ∈ lw_all := lw_g (lw_at lw_m5 44 rfl) rfl
theorem q1092 : (Jvm.Cond.code ({ cls := "VowelTorus", name := "homeShare", desc := "()F" } : Jvm.MethodName) prog_1_method_54_code (1 : Nat) (Option.some Jvm.ClassFile.FieldType.float)) ∈ lw_all := lw_g (lw_at lw_m5 45 rfl) rfl
theorem q1093 : (Jvm.Cond.methodLink "VowelTorus" (331 : Nat) ({ cls := "VowelTorus$Puzzle", name := "places", desc := "()I" } : Jvm.MethodName)) ∈ lw_all := lw_g (lw_at lw_m5 46 rfl) rfl
theorem q1095 : (Jvm.Cond.instanceMethod ({ cls := "VowelTorus", name := "save", desc := "()I" } : Jvm.MethodName)) ∈ lw_all := lw_g (lw_at lw_m5 48 rfl) rfl
theorem q1096 : (Jvm.Cond.selects "VowelTorus" ({ cls := "VowelTorus", name := "save", desc := "()I" } : Jvm.MethodName) ({ cls := "VowelTorus", name := "save", desc := "()I" } : Jvm.MethodName)) ∈ lw_all := lw_g (lw_at lw_m5 49 rfl) rfl
theorem q1097 : (Jvm.Cond.code ({ cls := "VowelTorus", name := "save", desc := "()I" } : Jvm.MethodName) prog_1_method_56_code (1 : Nat) (Option.some Jvm.ClassFile.FieldType.int)) ∈ lw_all := lw_g (lw_at lw_m5 50 rfl) rfl
theorem q1098 : (Jvm.Cond.methodLink "VowelTorus" (101 : Nat) ({ cls := "VowelTorus$Puzzle", name := "take", desc := "(LVowelTorus$Puzzle;)V" } : Jvm.MethodName)) ∈ lw_all := lw_g (lw_at lw_m5 51 rfl) rfl
theorem q1107 : (Jvm.Cond.instanceMethod ({ cls := "VowelTorus", name := "board", desc := "(II)I" } : Jvm.MethodName)) ∈ lw_all := lw_g (lw_at lw_m5 60 rfl) rfl
theorem q1108 : (Jvm.Cond.selects "VowelTorus" ({ cls := "VowelTorus", name := "board", desc := "(II)I" } : Jvm.MethodName) ({ cls := "VowelTorus", name := "board", desc := "(II)I" } : Jvm.MethodName)) ∈ lw_all := lw_g (lw_at lw_m5 61 rfl) rfl
theorem q1109 : (Jvm.Cond.code ({ cls := "VowelTorus", name := "board", desc := "(II)I" } : Jvm.MethodName) prog_1_method_19_code (3 : Nat) (Option.some Jvm.ClassFile.FieldType.int)) ∈ lw_all := lw_g (lw_at lw_m5 62 rfl) rfl
theorem q1110 : (Jvm.Cond.methodLink "VowelTorus" (128 : Nat) ({ cls := "VowelTorus", name := "isBoard", desc := "(II)Z" } : Jvm.MethodName)) ∈ lw_all := lw_g (lw_at lw_m5 63 rfl) rfl
theorem q1111 : (Jvm.Cond.static ({ cls := "VowelTorus", name := "isBoard", desc := "(II)Z" } : Jvm.MethodName)) ∈ lw_all := lw_g (lw_at lw_m5 64 rfl) rfl
theorem q1112 : (Jvm.Cond.code ({ cls := "VowelTorus", name := "isBoard", desc := "(II)Z" } : Jvm.MethodName) prog_1_method_5_code (2 : Nat) (Option.some Jvm.ClassFile.FieldType.boolean)) ∈ lw_all := lw_g (lw_at lw_m5 65 rfl) rfl
theorem q1113 : (Jvm.Cond.methodLink "VowelTorus" (7 : Nat) ({ cls := "VowelTorus", name := "in", desc := "(III)Z" } : Jvm.MethodName)) ∈ lw_all := lw_g (lw_at lw_m5 66 rfl) rfl
theorem q1114 : (Jvm.Cond.static ({ cls := "VowelTorus", name := "in", desc := "(III)Z" } : Jvm.MethodName)) ∈ lw_all := lw_g (lw_at lw_m5 67 rfl) rfl
theorem q1115 : (Jvm.Cond.code ({ cls := "VowelTorus", name := "in", desc := "(III)Z" } : Jvm.MethodName) prog_1_method_1_code (3 : Nat) (Option.some Jvm.ClassFile.FieldType.boolean)) ∈ lw_all := lw_g (lw_at lw_m5 68 rfl) rfl
theorem q1116 : (Jvm.Cond.methodLink "VowelTorus" (132 : Nat) ({ cls := "VowelTorus", name := "check", desc := "(Z)V" } : Jvm.MethodName)) ∈ lw_all := lw_g (lw_at lw_m5 69 rfl) rfl
theorem q1117 : (Jvm.Cond.static ({ cls := "VowelTorus", name := "check", desc := "(Z)V" } : Jvm.MethodName)) ∈ lw_all := lw_g (lw_at lw_m5 70 rfl) rfl
theorem q1118 : (Jvm.Cond.code ({ cls := "VowelTorus", name := "check", desc := "(Z)V" } : Jvm.MethodName) prog_1_method_8_code (1 : Nat) (Option.none : Option Jvm.ClassFile.FieldType)) ∈ lw_all := lw_g (lw_at lw_m5 71 rfl) rfl
theorem q1119 : (Jvm.Cond.classLink "VowelTorus" (65 : Nat) "java/lang/IllegalArgumentException") ∈ lw_all := lw_g (lw_at lw_m5 72 rfl) rfl
theorem q1120 : (Jvm.Cond.methodLink "VowelTorus" (67 : Nat) ({ cls := "java/lang/IllegalArgumentException", name := "<init>", desc := "()V" } : Jvm.MethodName)) ∈ lw_all := lw_g (lw_at lw_m5 73 rfl) rfl
theorem q1124 : (Jvm.Cond.methodLink "VowelTorus" (135 : Nat) ({ cls := "VowelTorus", name := "tryOn", desc := "()LVowelTorus$Puzzle;" } : Jvm.MethodName)) ∈ lw_all := lw_g (lw_at lw_m5 77 rfl) rfl
theorem q1125 : (Jvm.Cond.privateMethod ({ cls := "VowelTorus", name := "tryOn", desc := "()LVowelTorus$Puzzle;" } : Jvm.MethodName)) ∈ lw_tbl := lw_at lw_m5 78 rfl
theorem q1126 : (Jvm.Cond.instanceMethod ({ cls := "VowelTorus", name := "tryOn", desc := "()LVowelTorus$Puzzle;" } : Jvm.MethodName)) ∈ lw_all := lw_g (lw_at lw_m5 79 rfl) rfl
theorem q1127 : (Jvm.Cond.code ({ cls := "VowelTorus", name := "tryOn", desc := "()LVowelTorus$Puzzle;" } : Jvm.MethodName) prog_1_method_15_code (1 : Nat) (Option.some (Jvm.ClassFile.FieldType.object "VowelTorus$Puzzle"))) ∈ lw_all := lw_g (lw_at lw_m5 80 rfl) rfl
theorem q1128 : (Jvm.Cond.methodLink "VowelTorus" (139 : Nat) ({ cls := "VowelTorus$Puzzle", name := "board", desc := "(II)I" } : Jvm.MethodName)) ∈ lw_all := lw_g (lw_at lw_m5 81 rfl) rfl
theorem q1132 : (Jvm.Cond.methodLink "VowelTorus" (143 : Nat) ({ cls := "VowelTorus", name := "becomes", desc := "(I)I" } : Jvm.MethodName)) ∈ lw_all := lw_g (lw_at lw_m5 85 rfl) rfl
theorem q1133 : (Jvm.Cond.privateMethod ({ cls := "VowelTorus", name := "becomes", desc := "(I)I" } : Jvm.MethodName)) ∈ lw_tbl := lw_at lw_m5 86 rfl
theorem q1134 : (Jvm.Cond.instanceMethod ({ cls := "VowelTorus", name := "becomes", desc := "(I)I" } : Jvm.MethodName)) ∈ lw_all := lw_g (lw_at lw_m5 87 rfl) rfl
theorem q1135 : (Jvm.Cond.code ({ cls := "VowelTorus", name := "becomes", desc := "(I)I" } : Jvm.MethodName) prog_1_method_17_code (2 : Nat) (Option.some Jvm.ClassFile.FieldType.int)) ∈ lw_all := lw_g (lw_at lw_m5 88 rfl) rfl
theorem q1136 : (Jvm.Cond.methodLink "VowelTorus" (109 : Nat) ({ cls := "VowelTorus", name := "becomes", desc := "()V" } : Jvm.MethodName)) ∈ lw_all := lw_g (lw_at lw_m5 89 rfl) rfl
theorem q1137 : (Jvm.Cond.privateMethod ({ cls := "VowelTorus", name := "becomes", desc := "()V" } : Jvm.MethodName)) ∈ lw_tbl := lw_at lw_m5 90 rfl
theorem q1138 : (Jvm.Cond.instanceMethod ({ cls := "VowelTorus", name := "becomes", desc := "()V" } : Jvm.MethodName)) ∈ lw_all := lw_g (lw_at lw_m5 91 rfl) rfl
theorem q1139 : (Jvm.Cond.code ({ cls := "VowelTorus", name := "becomes", desc := "()V" } : Jvm.MethodName) prog_1_method_16_code (1 : Nat) (Option.none : Option Jvm.ClassFile.FieldType)) ∈ lw_all := lw_g (lw_at lw_m5 92 rfl) rfl
theorem q1140 : (Jvm.Cond.methodLink "VowelTorus" (105 : Nat) ({ cls := "VowelTorus$Past", name := "keeps", desc := "(LVowelTorus$Taken;)V" } : Jvm.MethodName)) ∈ lw_all := lw_g (lw_at lw_m5 93 rfl) rfl
theorem q1176 : (Jvm.Cond.instanceMethod ({ cls := "VowelTorus", name := "put", desc := "(IC)C" } : Jvm.MethodName)) ∈ lw_all := lw_g (lw_at lw_m5 129 rfl) rfl
theorem q1177 : (Jvm.Cond.selects "VowelTorus" ({ cls := "VowelTorus", name := "put", desc := "(IC)C" } : Jvm.MethodName) ({ cls := "VowelTorus", name := "put", desc := "(IC)C" } : Jvm.MethodName)) ∈ lw_all := lw_g (lw_at lw_m5 130 rfl) rfl
theorem q1178 : (Jvm.Cond.codeWith ({ cls := "VowelTorus", name := "put", desc := "(IC)C" } : Jvm.MethodName) prog_1_method_20_code (4 : Nat) (Option.some Jvm.ClassFile.FieldType.char) [((12 : Nat), (27 : Nat), (28 : Nat), (1 : Nat))]) ∈ lw_all := lw_g (lw_at lw_m5 131 rfl) rfl
theorem q1179 : (Jvm.Cond.classLink "VowelTorus" (1 : Nat) "VowelTorus$Refused") ∈ lw_all := lw_g (lw_at lw_m5 132 rfl) rfl
theorem q1180 : (Jvm.Cond.methodLink "VowelTorus" (146 : Nat) ({ cls := "VowelTorus", name := "checkPlace", desc := "(I)V" } : Jvm.MethodName)) ∈ lw_all := lw_g (lw_at lw_m5 133 rfl) rfl
theorem q1181 : (Jvm.Cond.privateMethod ({ cls := "VowelTorus", name := "checkPlace", desc := "(I)V" } : Jvm.MethodName)) ∈ lw_tbl := lw_at lw_m5 134 rfl
theorem q1182 : (Jvm.Cond.instanceMethod ({ cls := "VowelTorus", name := "checkPlace", desc := "(I)V" } : Jvm.MethodName)) ∈ lw_all := lw_g (lw_at lw_m5 135 rfl) rfl
theorem q1183 : (Jvm.Cond.code ({ cls := "VowelTorus", name := "checkPlace", desc := "(I)V" } : Jvm.MethodName) prog_1_method_13_code (2 : Nat) (Option.none : Option Jvm.ClassFile.FieldType)) ∈ lw_all := lw_g (lw_at lw_m5 136 rfl) rfl
theorem q1184 : (Jvm.Cond.methodLink "VowelTorus" (90 : Nat) ({ cls := "VowelTorus$Puzzle", name := "isPlace", desc := "(I)Z" } : Jvm.MethodName)) ∈ lw_all := lw_g (lw_at lw_m5 137 rfl) rfl
theorem q1189 : (Jvm.Cond.methodLink "VowelTorus" (94 : Nat) ({ cls := "VowelTorus", name := "checkIndex", desc := "(Z)V" } : Jvm.MethodName)) ∈ lw_all := lw_g (lw_at lw_m5 142 rfl) rfl
theorem q1190 : (Jvm.Cond.static ({ cls := "VowelTorus", name := "checkIndex", desc := "(Z)V" } : Jvm.MethodName)) ∈ lw_all := lw_g (lw_at lw_m5 143 rfl) rfl
theorem q1191 : (Jvm.Cond.code ({ cls := "VowelTorus", name := "checkIndex", desc := "(Z)V" } : Jvm.MethodName) prog_1_method_11_code (1 : Nat) (Option.none : Option Jvm.ClassFile.FieldType)) ∈ lw_all := lw_g (lw_at lw_m5 144 rfl) rfl
theorem q1192 : (Jvm.Cond.classLink "VowelTorus" (74 : Nat) "java/lang/IndexOutOfBoundsException") ∈ lw_all := lw_g (lw_at lw_m5 145 rfl) rfl
theorem q1201 : (Jvm.Cond.methodLink "VowelTorus" (76 : Nat) ({ cls := "java/lang/IndexOutOfBoundsException", name := "<init>", desc := "()V" } : Jvm.MethodName)) ∈ lw_all := lw_g (lw_at lw_m5 154 rfl) rfl
theorem q1207 : (Jvm.Cond.methodLink "VowelTorus" (150 : Nat) ({ cls := "VowelTorus", name := "isLetter", desc := "(C)Z" } : Jvm.MethodName)) ∈ lw_all := lw_g (lw_at lw_m5 160 rfl) rfl
theorem q1208 : (Jvm.Cond.static ({ cls := "VowelTorus", name := "isLetter", desc := "(C)Z" } : Jvm.MethodName)) ∈ lw_all := lw_g (lw_at lw_m5 161 rfl) rfl
theorem q1209 : (Jvm.Cond.code ({ cls := "VowelTorus", name := "isLetter", desc := "(C)Z" } : Jvm.MethodName) prog_1_method_3_code (1 : Nat) (Option.some Jvm.ClassFile.FieldType.boolean)) ∈ lw_all := lw_g (lw_at lw_m5 162 rfl) rfl
theorem q1210 : (Jvm.Cond.methodLink "VowelTorus" (154 : Nat) ({ cls := "VowelTorus$Puzzle", name := "put", desc := "(IC)C" } : Jvm.MethodName)) ∈ lw_all := lw_g (lw_at lw_m5 163 rfl) rfl
theorem q1215 : (Jvm.Cond.static ({ cls := "VowelTorus", name := "refuse", desc := "(ZII)V" } : Jvm.MethodName)) ∈ lw_all := lw_g (lw_at lw_m5 168 rfl) rfl
theorem q1216 : (Jvm.Cond.code ({ cls := "VowelTorus", name := "refuse", desc := "(ZII)V" } : Jvm.MethodName) prog_1_method_2_code (3 : Nat) (Option.none : Option Jvm.ClassFile.FieldType)) ∈ lw_all := lw_g (lw_at lw_m5 169 rfl) rfl
theorem q1225 : (Jvm.Cond.methodLink "VowelTorus" (3 : Nat) ({ cls := "VowelTorus$Refused", name := "<init>", desc := "(II)V" } : Jvm.MethodName)) ∈ lw_all := lw_g (lw_at lw_m5 178 rfl) rfl
theorem q1230 : (Jvm.Cond.fieldLinkNest "VowelTorus" (77 : Nat) "VowelTorus$Refused" "reason" "I" "VowelTorus") ∈ lw_tbl := lw_at lw_m5 183 rfl
theorem q1232 : (Jvm.Cond.fieldLinkNest "VowelTorus" (83 : Nat) "VowelTorus$Refused" "detail" "I" "VowelTorus") ∈ lw_tbl := lw_at lw_m5 185 rfl
theorem q1239 : (Jvm.Cond.methodLink "VowelTorus" (158 : Nat) ({ cls := "VowelTorus", name := "because", desc := "(LVowelTorus$Refused;)Ljava/lang/UnsupportedOperationException;" } : Jvm.MethodName)) ∈ lw_all := lw_g (lw_at lw_m5 192 rfl) rfl
theorem q1240 : (Jvm.Cond.privateMethod ({ cls := "VowelTorus", name := "because", desc := "(LVowelTorus$Refused;)Ljava/lang/UnsupportedOperationException;" } : Jvm.MethodName)) ∈ lw_tbl := lw_at lw_m5 193 rfl
theorem q1241 : (Jvm.Cond.instanceMethod ({ cls := "VowelTorus", name := "because", desc := "(LVowelTorus$Refused;)Ljava/lang/UnsupportedOperationException;" } : Jvm.MethodName)) ∈ lw_all := lw_g (lw_at lw_m5 194 rfl) rfl
theorem q1242 : (Jvm.Cond.code ({ cls := "VowelTorus", name := "because", desc := "(LVowelTorus$Refused;)Ljava/lang/UnsupportedOperationException;" } : Jvm.MethodName) prog_1_method_12_code (2 : Nat) (Option.some (Jvm.ClassFile.FieldType.object "java/lang/UnsupportedOperationException"))) ∈ lw_all := lw_g (lw_at lw_m5 195 rfl) rfl
theorem q1243 : (Jvm.Cond.classLink "VowelTorus" (87 : Nat) "java/lang/UnsupportedOperationException") ∈ lw_all := lw_g (lw_at lw_m5 196 rfl) rfl
theorem q1252 : (Jvm.Cond.methodLink "VowelTorus" (89 : Nat) ({ cls := "java/lang/UnsupportedOperationException", name := "<init>", desc := "()V" } : Jvm.MethodName)) ∈ lw_all := lw_g (lw_at lw_m5 205 rfl) rfl
theorem q1262 : (Jvm.Cond.instanceMethod ({ cls := "VowelTorus", name := "goal", desc := "(IC)C" } : Jvm.MethodName)) ∈ lw_all := lw_g (lw_at lw_m5 215 rfl) rfl
theorem q1263 : (Jvm.Cond.selects "VowelTorus" ({ cls := "VowelTorus", name := "goal", desc := "(IC)C" } : Jvm.MethodName) ({ cls := "VowelTorus", name := "goal", desc := "(IC)C" } : Jvm.MethodName)) ∈ lw_all := lw_g (lw_at lw_m5 216 rfl) rfl
theorem q1264 : (Jvm.Cond.codeWith ({ cls := "VowelTorus", name := "goal", desc := "(IC)C" } : Jvm.MethodName) prog_1_method_21_code (4 : Nat) (Option.some Jvm.ClassFile.FieldType.char) [((26 : Nat), (41 : Nat), (42 : Nat), (1 : Nat))]) ∈ lw_all := lw_g (lw_at lw_m5 217 rfl) rfl
theorem q1265 : (Jvm.Cond.methodLink "VowelTorus" (162 : Nat) ({ cls := "VowelTorus$Puzzle", name := "goal", desc := "(IC)C" } : Jvm.MethodName)) ∈ lw_all := lw_g (lw_at lw_m5 218 rfl) rfl
theorem q1273 : (Jvm.Cond.instanceMethod ({ cls := "VowelTorus", name := "turn", desc := "(I)I" } : Jvm.MethodName)) ∈ lw_all := lw_g (lw_at lw_m5 226 rfl) rfl
theorem q1274 : (Jvm.Cond.selects "VowelTorus" ({ cls := "VowelTorus", name := "turn", desc := "(I)I" } : Jvm.MethodName) ({ cls := "VowelTorus", name := "turn", desc := "(I)I" } : Jvm.MethodName)) ∈ lw_all := lw_g (lw_at lw_m5 227 rfl) rfl
theorem q1275 : (Jvm.Cond.codeWith ({ cls := "VowelTorus", name := "turn", desc := "(I)I" } : Jvm.MethodName) prog_1_method_22_code (3 : Nat) (Option.some Jvm.ClassFile.FieldType.int) [((11 : Nat), (23 : Nat), (24 : Nat), (1 : Nat))]) ∈ lw_all := lw_g (lw_at lw_m5 228 rfl) rfl
theorem q1276 : (Jvm.Cond.methodLink "VowelTorus" (165 : Nat) ({ cls := "VowelTorus$Puzzle", name := "isTurn", desc := "(I)Z" } : Jvm.MethodName)) ∈ lw_all := lw_g (lw_at lw_m5 229 rfl) rfl
theorem q1280 : (Jvm.Cond.methodLink "VowelTorus" (168 : Nat) ({ cls := "VowelTorus$Puzzle", name := "turn", desc := "(I)I" } : Jvm.MethodName)) ∈ lw_all := lw_g (lw_at lw_m5 233 rfl) rfl
theorem q1292 : (Jvm.Cond.instanceMethod ({ cls := "VowelTorus", name := "swap", desc := "(II)I" } : Jvm.MethodName)) ∈ lw_all := lw_g (lw_at lw_m6 5 rfl) rfl
theorem q1293 : (Jvm.Cond.selects "VowelTorus" ({ cls := "VowelTorus", name := "swap", desc := "(II)I" } : Jvm.MethodName) ({ cls := "VowelTorus", name := "swap", desc := "(II)I" } : Jvm.MethodName)) ∈ lw_all := lw_g (lw_at lw_m6 6 rfl) rfl
theorem q1294 : (Jvm.Cond.codeWith ({ cls := "VowelTorus", name := "swap", desc := "(II)I" } : Jvm.MethodName) prog_1_method_23_code (4 : Nat) (Option.some Jvm.ClassFile.FieldType.int) [((30 : Nat), (43 : Nat), (44 : Nat), (1 : Nat))]) ∈ lw_all := lw_g (lw_at lw_m6 7 rfl) rfl
theorem q1295 : (Jvm.Cond.methodLink "VowelTorus" (171 : Nat) ({ cls := "VowelTorus$Puzzle", name := "swap", desc := "(II)I" } : Jvm.MethodName)) ∈ lw_all := lw_g (lw_at lw_m6 8 rfl) rfl
theorem q1303 : (Jvm.Cond.instanceMethod ({ cls := "VowelTorus", name := "bar", desc := "(I)Z" } : Jvm.MethodName)) ∈ lw_all := lw_g (lw_at lw_m6 16 rfl) rfl
theorem q1304 : (Jvm.Cond.selects "VowelTorus" ({ cls := "VowelTorus", name := "bar", desc := "(I)Z" } : Jvm.MethodName) ({ cls := "VowelTorus", name := "bar", desc := "(I)Z" } : Jvm.MethodName)) ∈ lw_all := lw_g (lw_at lw_m6 17 rfl) rfl
theorem q1305 : (Jvm.Cond.code ({ cls := "VowelTorus", name := "bar", desc := "(I)Z" } : Jvm.MethodName) prog_1_method_24_code (3 : Nat) (Option.some Jvm.ClassFile.FieldType.boolean)) ∈ lw_all := lw_g (lw_at lw_m6 18 rfl) rfl
theorem q1306 : (Jvm.Cond.methodLink "VowelTorus" (174 : Nat) ({ cls := "VowelTorus", name := "checkLine", desc := "(I)V" } : Jvm.MethodName)) ∈ lw_all := lw_g (lw_at lw_m6 19 rfl) rfl
theorem q1307 : (Jvm.Cond.privateMethod ({ cls := "VowelTorus", name := "checkLine", desc := "(I)V" } : Jvm.MethodName)) ∈ lw_tbl := lw_at lw_m6 20 rfl
theorem q1308 : (Jvm.Cond.instanceMethod ({ cls := "VowelTorus", name := "checkLine", desc := "(I)V" } : Jvm.MethodName)) ∈ lw_all := lw_g (lw_at lw_m6 21 rfl) rfl
theorem q1309 : (Jvm.Cond.code ({ cls := "VowelTorus", name := "checkLine", desc := "(I)V" } : Jvm.MethodName) prog_1_method_14_code (2 : Nat) (Option.none : Option Jvm.ClassFile.FieldType)) ∈ lw_all := lw_g (lw_at lw_m6 22 rfl) rfl
theorem q1310 : (Jvm.Cond.methodLink "VowelTorus" (98 : Nat) ({ cls := "VowelTorus$Puzzle", name := "isLine", desc := "(I)Z" } : Jvm.MethodName)) ∈ lw_all := lw_g (lw_at lw_m6 23 rfl) rfl
theorem q1314 : (Jvm.Cond.methodLink "VowelTorus" (177 : Nat) ({ cls := "VowelTorus$Puzzle", name := "bar", desc := "(I)Z" } : Jvm.MethodName)) ∈ lw_all := lw_g (lw_at lw_m6 27 rfl) rfl
theorem q1322 : (Jvm.Cond.instanceMethod ({ cls := "VowelTorus", name := "scramble", desc := "(II)I" } : Jvm.MethodName)) ∈ lw_all := lw_g (lw_at lw_m6 35 rfl) rfl
theorem q1323 : (Jvm.Cond.selects "VowelTorus" ({ cls := "VowelTorus", name := "scramble", desc := "(II)I" } : Jvm.MethodName) ({ cls := "VowelTorus", name := "scramble", desc := "(II)I" } : Jvm.MethodName)) ∈ lw_all := lw_g (lw_at lw_m6 36 rfl) rfl
theorem q1324 : (Jvm.Cond.code ({ cls := "VowelTorus", name := "scramble", desc := "(II)I" } : Jvm.MethodName) prog_1_method_25_code (3 : Nat) (Option.some Jvm.ClassFile.FieldType.int)) ∈ lw_all := lw_g (lw_at lw_m6 37 rfl) rfl
theorem q1325 : (Jvm.Cond.methodLink "VowelTorus" (180 : Nat) ({ cls := "VowelTorus", name := "isScramble", desc := "(II)Z" } : Jvm.MethodName)) ∈ lw_all := lw_g (lw_at lw_m6 38 rfl) rfl
theorem q1326 : (Jvm.Cond.static ({ cls := "VowelTorus", name := "isScramble", desc := "(II)Z" } : Jvm.MethodName)) ∈ lw_all := lw_g (lw_at lw_m6 39 rfl) rfl
theorem q1327 : (Jvm.Cond.code ({ cls := "VowelTorus", name := "isScramble", desc := "(II)Z" } : Jvm.MethodName) prog_1_method_6_code (2 : Nat) (Option.some Jvm.ClassFile.FieldType.boolean)) ∈ lw_all := lw_g (lw_at lw_m6 40 rfl) rfl
theorem q1328 : (Jvm.Cond.methodLink "VowelTorus" (183 : Nat) ({ cls := "VowelTorus$Puzzle", name := "scramble", desc := "(II)I" } : Jvm.MethodName)) ∈ lw_all := lw_g (lw_at lw_m6 41 rfl) rfl
theorem q1337 : (Jvm.Cond.instanceMethod ({ cls := "VowelTorus", name := "step", desc := "()I" } : Jvm.MethodName)) ∈ lw_all := lw_g (lw_at lw_m6 50 rfl) rfl
theorem q1338 : (Jvm.Cond.selects "VowelTorus" ({ cls := "VowelTorus", name := "step", desc := "()I" } : Jvm.MethodName) ({ cls := "VowelTorus", name := "step", desc := "()I" } : Jvm.MethodName)) ∈ lw_all := lw_g (lw_at lw_m6 51 rfl) rfl
theorem q1339 : (Jvm.Cond.codeWith ({ cls := "VowelTorus", name := "step", desc := "()I" } : Jvm.MethodName) prog_1_method_26_code (3 : Nat) (Option.some Jvm.ClassFile.FieldType.int) [((2 : Nat), (10 : Nat), (13 : Nat), (1 : Nat))]) ∈ lw_all := lw_g (lw_at lw_m6 52 rfl) rfl
theorem q1340 : (Jvm.Cond.methodLink "VowelTorus" (186 : Nat) ({ cls := "VowelTorus$Puzzle", name := "step", desc := "()I" } : Jvm.MethodName)) ∈ lw_all := lw_g (lw_at lw_m6 53 rfl) rfl
theorem q1348 : (Jvm.Cond.methodLink "VowelTorus" (189 : Nat) ({ cls := "VowelTorus", name := "checkElement", desc := "(Z)V" } : Jvm.MethodName)) ∈ lw_all := lw_g (lw_at lw_m6 61 rfl) rfl
theorem q1349 : (Jvm.Cond.static ({ cls := "VowelTorus", name := "checkElement", desc := "(Z)V" } : Jvm.MethodName)) ∈ lw_all := lw_g (lw_at lw_m6 62 rfl) rfl
theorem q1350 : (Jvm.Cond.code ({ cls := "VowelTorus", name := "checkElement", desc := "(Z)V" } : Jvm.MethodName) prog_1_method_9_code (1 : Nat) (Option.none : Option Jvm.ClassFile.FieldType)) ∈ lw_all := lw_g (lw_at lw_m6 63 rfl) rfl
theorem q1351 : (Jvm.Cond.classLink "VowelTorus" (68 : Nat) "java/util/NoSuchElementException") ∈ lw_all := lw_g (lw_at lw_m6 64 rfl) rfl
theorem q1352 : (Jvm.Cond.methodLink "VowelTorus" (70 : Nat) ({ cls := "java/util/NoSuchElementException", name := "<init>", desc := "()V" } : Jvm.MethodName)) ∈ lw_all := lw_g (lw_at lw_m6 65 rfl) rfl
theorem q1357 : (Jvm.Cond.instanceMethod ({ cls := "VowelTorus", name := "letter", desc := "(I)C" } : Jvm.MethodName)) ∈ lw_all := lw_g (lw_at lw_m6 70 rfl) rfl
theorem q1358 : (Jvm.Cond.selects "VowelTorus" ({ cls := "VowelTorus", name := "letter", desc := "(I)C" } : Jvm.MethodName) ({ cls := "VowelTorus", name := "letter", desc := "(I)C" } : Jvm.MethodName)) ∈ lw_all := lw_g (lw_at lw_m6 71 rfl) rfl
theorem q1359 : (Jvm.Cond.code ({ cls := "VowelTorus", name := "letter", desc := "(I)C" } : Jvm.MethodName) prog_1_method_27_code (2 : Nat) (Option.some Jvm.ClassFile.FieldType.char)) ∈ lw_all := lw_g (lw_at lw_m6 72 rfl) rfl
theorem q1364 : (Jvm.Cond.instanceMethod ({ cls := "VowelTorus", name := "sign", desc := "(I)C" } : Jvm.MethodName)) ∈ lw_all := lw_g (lw_at lw_m6 77 rfl) rfl
theorem q1365 : (Jvm.Cond.selects "VowelTorus" ({ cls := "VowelTorus", name := "sign", desc := "(I)C" } : Jvm.MethodName) ({ cls := "VowelTorus", name := "sign", desc := "(I)C" } : Jvm.MethodName)) ∈ lw_all := lw_g (lw_at lw_m6 78 rfl) rfl
theorem q1366 : (Jvm.Cond.code ({ cls := "VowelTorus", name := "sign", desc := "(I)C" } : Jvm.MethodName) prog_1_method_28_code (2 : Nat) (Option.some Jvm.ClassFile.FieldType.char)) ∈ lw_all := lw_g (lw_at lw_m6 79 rfl) rfl
theorem q1371 : (Jvm.Cond.instanceMethod ({ cls := "VowelTorus", name := "isBarred", desc := "(I)Z" } : Jvm.MethodName)) ∈ lw_all := lw_g (lw_at lw_m6 84 rfl) rfl
theorem q1372 : (Jvm.Cond.selects "VowelTorus" ({ cls := "VowelTorus", name := "isBarred", desc := "(I)Z" } : Jvm.MethodName) ({ cls := "VowelTorus", name := "isBarred", desc := "(I)Z" } : Jvm.MethodName)) ∈ lw_all := lw_g (lw_at lw_m6 85 rfl) rfl
theorem q1373 : (Jvm.Cond.code ({ cls := "VowelTorus", name := "isBarred", desc := "(I)Z" } : Jvm.MethodName) prog_1_method_29_code (2 : Nat) (Option.some Jvm.ClassFile.FieldType.boolean)) ∈ lw_all := lw_g (lw_at lw_m6 86 rfl) rfl
theorem q1378 : (Jvm.Cond.instanceMethod ({ cls := "VowelTorus", name := "boardOf", desc := "(I)I" } : Jvm.MethodName)) ∈ lw_all := lw_g (lw_at lw_m6 91 rfl) rfl
theorem q1379 : (Jvm.Cond.selects "VowelTorus" ({ cls := "VowelTorus", name := "boardOf", desc := "(I)I" } : Jvm.MethodName) ({ cls := "VowelTorus", name := "boardOf", desc := "(I)I" } : Jvm.MethodName)) ∈ lw_all := lw_g (lw_at lw_m6 92 rfl) rfl
theorem q1380 : (Jvm.Cond.code ({ cls := "VowelTorus", name := "boardOf", desc := "(I)I" } : Jvm.MethodName) prog_1_method_30_code (3 : Nat) (Option.some Jvm.ClassFile.FieldType.int)) ∈ lw_all := lw_g (lw_at lw_m6 93 rfl) rfl
theorem q1381 : (Jvm.Cond.methodLink "VowelTorus" (208 : Nat) ({ cls := "VowelTorus$Puzzle", name := "turns", desc := "()I" } : Jvm.MethodName)) ∈ lw_all := lw_g (lw_at lw_m6 94 rfl) rfl
theorem q1382 : (Jvm.Cond.static ({ cls := "VowelTorus", name := "lambda$boardOf$0", desc := "(LVowelTorus$Puzzle;Ljava/lang/Integer;)Z" } : Jvm.MethodName)) ∈ lw_all := lw_g (lw_at lw_m6 95 rfl) rfl
theorem q1383 : (Jvm.Cond.code ({ cls := "VowelTorus", name := "lambda$boardOf$0", desc := "(LVowelTorus$Puzzle;Ljava/lang/Integer;)Z" } : Jvm.MethodName) prog_1_method_61_code (2 : Nat) (Option.some Jvm.ClassFile.FieldType.boolean)) ∈ lw_all := lw_g (lw_at lw_m6 96 rfl) rfl
theorem q1384 : (Jvm.Cond.methodLink "VowelTorus" (223 : Nat) ({ cls := "VowelTorus$Puzzle", name := "unlike", desc := "()I" } : Jvm.MethodName)) ∈ lw_all := lw_g (lw_at lw_m6 97 rfl) rfl
theorem q1385 : (Jvm.Cond.methodLink "VowelTorus" (226 : Nat) ({ cls := "VowelTorus$Puzzle", name := "vowels", desc := "()I" } : Jvm.MethodName)) ∈ lw_all := lw_g (lw_at lw_m6 98 rfl) rfl
theorem q1389 : (Jvm.Cond.methodLink "VowelTorus" (229 : Nat) ({ cls := "VowelTorus$Puzzle", name := "anyMany", desc := "()I" } : Jvm.MethodName)) ∈ lw_all := lw_g (lw_at lw_m6 102 rfl) rfl
theorem q1394 : (Jvm.Cond.instanceMethod ({ cls := "VowelTorus", name := "away", desc := "(Z)I" } : Jvm.MethodName)) ∈ lw_all := lw_g (lw_at lw_m6 107 rfl) rfl
theorem q1395 : (Jvm.Cond.selects "VowelTorus" ({ cls := "VowelTorus", name := "away", desc := "(Z)I" } : Jvm.MethodName) ({ cls := "VowelTorus", name := "away", desc := "(Z)I" } : Jvm.MethodName)) ∈ lw_all := lw_g (lw_at lw_m6 108 rfl) rfl
theorem q1396 : (Jvm.Cond.code ({ cls := "VowelTorus", name := "away", desc := "(Z)I" } : Jvm.MethodName) prog_1_method_31_code (3 : Nat) (Option.some Jvm.ClassFile.FieldType.int)) ∈ lw_all := lw_g (lw_at lw_m6 109 rfl) rfl
theorem q1397 : (Jvm.Cond.methodLink "VowelTorus" (232 : Nat) ({ cls := "VowelTorus$Puzzle", name := "awayAgain", desc := "()I" } : Jvm.MethodName)) ∈ lw_all := lw_g (lw_at lw_m6 110 rfl) rfl
theorem q1398 : (Jvm.Cond.methodLink "VowelTorus" (235 : Nat) ({ cls := "VowelTorus$Puzzle", name := "away", desc := "()I" } : Jvm.MethodName)) ∈ lw_all := lw_g (lw_at lw_m6 111 rfl) rfl
theorem q1403 : (Jvm.Cond.instanceMethod ({ cls := "VowelTorus", name := "firstTurn", desc := "()I" } : Jvm.MethodName)) ∈ lw_all := lw_g (lw_at lw_m6 116 rfl) rfl
theorem q1404 : (Jvm.Cond.selects "VowelTorus" ({ cls := "VowelTorus", name := "firstTurn", desc := "()I" } : Jvm.MethodName) ({ cls := "VowelTorus", name := "firstTurn", desc := "()I" } : Jvm.MethodName)) ∈ lw_all := lw_g (lw_at lw_m6 117 rfl) rfl
theorem q1405 : (Jvm.Cond.code ({ cls := "VowelTorus", name := "firstTurn", desc := "()I" } : Jvm.MethodName) prog_1_method_32_code (2 : Nat) (Option.some Jvm.ClassFile.FieldType.int)) ∈ lw_all := lw_g (lw_at lw_m6 118 rfl) rfl
theorem q1406 : (Jvm.Cond.methodLink "VowelTorus" (238 : Nat) ({ cls := "VowelTorus$Puzzle", name := "firstTurn", desc := "(I)I" } : Jvm.MethodName)) ∈ lw_all := lw_g (lw_at lw_m6 119 rfl) rfl
theorem q1411 : (Jvm.Cond.instanceMethod ({ cls := "VowelTorus", name := "isOdd", desc := "(Z)Z" } : Jvm.MethodName)) ∈ lw_all := lw_g (lw_at lw_m6 124 rfl) rfl
theorem q1412 : (Jvm.Cond.selects "VowelTorus" ({ cls := "VowelTorus", name := "isOdd", desc := "(Z)Z" } : Jvm.MethodName) ({ cls := "VowelTorus", name := "isOdd", desc := "(Z)Z" } : Jvm.MethodName)) ∈ lw_all := lw_g (lw_at lw_m6 125 rfl) rfl
theorem q1413 : (Jvm.Cond.code ({ cls := "VowelTorus", name := "isOdd", desc := "(Z)Z" } : Jvm.MethodName) prog_1_method_34_code (2 : Nat) (Option.some Jvm.ClassFile.FieldType.boolean)) ∈ lw_all := lw_g (lw_at lw_m6 126 rfl) rfl
theorem q1414 : (Jvm.Cond.methodLink "VowelTorus" (245 : Nat) ({ cls := "VowelTorus$Puzzle", name := "hasParity", desc := "(I)Z" } : Jvm.MethodName)) ∈ lw_all := lw_g (lw_at lw_m6 127 rfl) rfl
theorem q1415 : (Jvm.Cond.methodLink "VowelTorus" (248 : Nat) ({ cls := "VowelTorus$Puzzle", name := "isOddAgain", desc := "()Z" } : Jvm.MethodName)) ∈ lw_all := lw_g (lw_at lw_m6 128 rfl) rfl
theorem q1416 : (Jvm.Cond.methodLink "VowelTorus" (251 : Nat) ({ cls := "VowelTorus$Puzzle", name := "isOdd", desc := "()Z" } : Jvm.MethodName)) ∈ lw_all := lw_g (lw_at lw_m6 129 rfl) rfl
theorem q1421 : (Jvm.Cond.instanceMethod ({ cls := "VowelTorus", name := "would", desc := "(I)I" } : Jvm.MethodName)) ∈ lw_all := lw_g (lw_at lw_m6 134 rfl) rfl
theorem q1422 : (Jvm.Cond.selects "VowelTorus" ({ cls := "VowelTorus", name := "would", desc := "(I)I" } : Jvm.MethodName) ({ cls := "VowelTorus", name := "would", desc := "(I)I" } : Jvm.MethodName)) ∈ lw_all := lw_g (lw_at lw_m6 135 rfl) rfl
theorem q1423 : (Jvm.Cond.code ({ cls := "VowelTorus", name := "would", desc := "(I)I" } : Jvm.MethodName) prog_1_method_36_code (2 : Nat) (Option.some Jvm.ClassFile.FieldType.int)) ∈ lw_all := lw_g (lw_at lw_m6 136 rfl) rfl
theorem q1424 : (Jvm.Cond.methodLink "VowelTorus" (257 : Nat) ({ cls := "VowelTorus$Puzzle", name := "would", desc := "(I)I" } : Jvm.MethodName)) ∈ lw_all := lw_g (lw_at lw_m6 137 rfl) rfl
theorem q1432 : (Jvm.Cond.instanceMethod ({ cls := "VowelTorus", name := "best", desc := "()I" } : Jvm.MethodName)) ∈ lw_all := lw_g (lw_at lw_m6 145 rfl) rfl
theorem q1433 : (Jvm.Cond.selects "VowelTorus" ({ cls := "VowelTorus", name := "best", desc := "()I" } : Jvm.MethodName) ({ cls := "VowelTorus", name := "best", desc := "()I" } : Jvm.MethodName)) ∈ lw_all := lw_g (lw_at lw_m6 146 rfl) rfl
theorem q1434 : (Jvm.Cond.code ({ cls := "VowelTorus", name := "best", desc := "()I" } : Jvm.MethodName) prog_1_method_37_code (2 : Nat) (Option.some Jvm.ClassFile.FieldType.int)) ∈ lw_all := lw_g (lw_at lw_m6 147 rfl) rfl
theorem q1435 : (Jvm.Cond.methodLink "VowelTorus" (260 : Nat) ({ cls := "VowelTorus$Puzzle", name := "best", desc := "()I" } : Jvm.MethodName)) ∈ lw_all := lw_g (lw_at lw_m6 148 rfl) rfl
theorem q1444 : (Jvm.Cond.instanceMethod ({ cls := "VowelTorus", name := "where", desc := "(III)I" } : Jvm.MethodName)) ∈ lw_all := lw_g (lw_at lw_m6 157 rfl) rfl
theorem q1445 : (Jvm.Cond.selects "VowelTorus" ({ cls := "VowelTorus", name := "where", desc := "(III)I" } : Jvm.MethodName) ({ cls := "VowelTorus", name := "where", desc := "(III)I" } : Jvm.MethodName)) ∈ lw_all := lw_g (lw_at lw_m6 158 rfl) rfl
theorem q1446 : (Jvm.Cond.code ({ cls := "VowelTorus", name := "where", desc := "(III)I" } : Jvm.MethodName) prog_1_method_38_code (4 : Nat) (Option.some Jvm.ClassFile.FieldType.int)) ∈ lw_all := lw_g (lw_at lw_m6 159 rfl) rfl
theorem q1447 : (Jvm.Cond.methodLink "VowelTorus" (263 : Nat) ({ cls := "VowelTorus$Puzzle", name := "where", desc := "(III)I" } : Jvm.MethodName)) ∈ lw_all := lw_g (lw_at lw_m6 160 rfl) rfl
theorem q1452 : (Jvm.Cond.instanceMethod ({ cls := "VowelTorus", name := "far", desc := "(II)I" } : Jvm.MethodName)) ∈ lw_all := lw_g (lw_at lw_m6 165 rfl) rfl
theorem q1453 : (Jvm.Cond.selects "VowelTorus" ({ cls := "VowelTorus", name := "far", desc := "(II)I" } : Jvm.MethodName) ({ cls := "VowelTorus", name := "far", desc := "(II)I" } : Jvm.MethodName)) ∈ lw_all := lw_g (lw_at lw_m6 166 rfl) rfl
theorem q1454 : (Jvm.Cond.code ({ cls := "VowelTorus", name := "far", desc := "(II)I" } : Jvm.MethodName) prog_1_method_39_code (3 : Nat) (Option.some Jvm.ClassFile.FieldType.int)) ∈ lw_all := lw_g (lw_at lw_m6 167 rfl) rfl
theorem q1455 : (Jvm.Cond.methodLink "VowelTorus" (267 : Nat) ({ cls := "VowelTorus$Puzzle", name := "far", desc := "(II)I" } : Jvm.MethodName)) ∈ lw_all := lw_g (lw_at lw_m6 168 rfl) rfl
theorem q1469 : (Jvm.Cond.instanceMethod ({ cls := "VowelTorus", name := "sings", desc := "(I)Z" } : Jvm.MethodName)) ∈ lw_all := lw_g (lw_at lw_m6 182 rfl) rfl
theorem q1470 : (Jvm.Cond.selects "VowelTorus" ({ cls := "VowelTorus", name := "sings", desc := "(I)Z" } : Jvm.MethodName) ({ cls := "VowelTorus", name := "sings", desc := "(I)Z" } : Jvm.MethodName)) ∈ lw_all := lw_g (lw_at lw_m6 183 rfl) rfl
theorem q1471 : (Jvm.Cond.code ({ cls := "VowelTorus", name := "sings", desc := "(I)Z" } : Jvm.MethodName) prog_1_method_40_code (2 : Nat) (Option.some Jvm.ClassFile.FieldType.boolean)) ∈ lw_all := lw_g (lw_at lw_m6 184 rfl) rfl
theorem q1476 : (Jvm.Cond.instanceMethod ({ cls := "VowelTorus", name := "ranked", desc := "(I)I" } : Jvm.MethodName)) ∈ lw_all := lw_g (lw_at lw_m6 189 rfl) rfl
theorem q1477 : (Jvm.Cond.selects "VowelTorus" ({ cls := "VowelTorus", name := "ranked", desc := "(I)I" } : Jvm.MethodName) ({ cls := "VowelTorus", name := "ranked", desc := "(I)I" } : Jvm.MethodName)) ∈ lw_all := lw_g (lw_at lw_m6 190 rfl) rfl
theorem q1478 : (Jvm.Cond.code ({ cls := "VowelTorus", name := "ranked", desc := "(I)I" } : Jvm.MethodName) prog_1_method_42_code (3 : Nat) (Option.some Jvm.ClassFile.FieldType.int)) ∈ lw_all := lw_g (lw_at lw_m6 191 rfl) rfl
theorem q1479 : (Jvm.Cond.privateMethod ({ cls := "VowelTorus", name := "lambda$ranked$2", desc := "(Ljava/lang/Integer;)I" } : Jvm.MethodName)) ∈ lw_tbl := lw_at lw_m6 192 rfl
theorem q1480 : (Jvm.Cond.instanceMethod ({ cls := "VowelTorus", name := "lambda$ranked$2", desc := "(Ljava/lang/Integer;)I" } : Jvm.MethodName)) ∈ lw_all := lw_g (lw_at lw_m6 193 rfl) rfl
theorem q1481 : (Jvm.Cond.code ({ cls := "VowelTorus", name := "lambda$ranked$2", desc := "(Ljava/lang/Integer;)I" } : Jvm.MethodName) prog_1_method_59_code (2 : Nat) (Option.some Jvm.ClassFile.FieldType.int)) ∈ lw_all := lw_g (lw_at lw_m6 194 rfl) rfl
theorem q1482 : (Jvm.Cond.methodLink "VowelTorus" (378 : Nat) ({ cls := "VowelTorus$Puzzle", name := "vowelsOn", desc := "(I)I" } : Jvm.MethodName)) ∈ lw_all := lw_g (lw_at lw_m6 195 rfl) rfl
theorem q1483 : (Jvm.Cond.methodLink "VowelTorus" (280 : Nat) ({ cls := "VowelTorus$Row", name := "ranked", desc := "(ILVowelTorus$Measure;)Ljava/lang/Object;" } : Jvm.MethodName)) ∈ lw_all := lw_g (lw_at lw_m6 196 rfl) rfl
theorem q1495 : (Jvm.Cond.classLink "VowelTorus" (120 : Nat) "java/lang/Integer") ∈ lw_all := lw_g (lw_at lw_m6 208 rfl) rfl
theorem q1500 : (Jvm.Cond.instanceMethod ({ cls := "VowelTorus", name := "lineText", desc := "(I)I" } : Jvm.MethodName)) ∈ lw_all := lw_g (lw_at lw_m6 213 rfl) rfl
theorem q1501 : (Jvm.Cond.selects "VowelTorus" ({ cls := "VowelTorus", name := "lineText", desc := "(I)I" } : Jvm.MethodName) ({ cls := "VowelTorus", name := "lineText", desc := "(I)I" } : Jvm.MethodName)) ∈ lw_all := lw_g (lw_at lw_m6 214 rfl) rfl
theorem q1502 : (Jvm.Cond.code ({ cls := "VowelTorus", name := "lineText", desc := "(I)I" } : Jvm.MethodName) prog_1_method_45_code (2 : Nat) (Option.some Jvm.ClassFile.FieldType.int)) ∈ lw_all := lw_g (lw_at lw_m6 215 rfl) rfl
theorem q1503 : (Jvm.Cond.methodLink "VowelTorus" (297 : Nat) ({ cls := "VowelTorus$Puzzle", name := "writesLine", desc := "(Ljava/lang/StringBuilder;I)V" } : Jvm.MethodName)) ∈ lw_all := lw_g (lw_at lw_m6 216 rfl) rfl
theorem q1512 : (Jvm.Cond.instanceMethod ({ cls := "VowelTorus", name := "character", desc := "(I)C" } : Jvm.MethodName)) ∈ lw_all := lw_g (lw_at lw_m6 225 rfl) rfl
theorem q1513 : (Jvm.Cond.selects "VowelTorus" ({ cls := "VowelTorus", name := "character", desc := "(I)C" } : Jvm.MethodName) ({ cls := "VowelTorus", name := "character", desc := "(I)C" } : Jvm.MethodName)) ∈ lw_all := lw_g (lw_at lw_m6 226 rfl) rfl
theorem q1514 : (Jvm.Cond.code ({ cls := "VowelTorus", name := "character", desc := "(I)C" } : Jvm.MethodName) prog_1_method_46_code (2 : Nat) (Option.some Jvm.ClassFile.FieldType.char)) ∈ lw_all := lw_g (lw_at lw_m6 227 rfl) rfl
theorem q1515 : (Jvm.Cond.methodLink "VowelTorus" (301 : Nat) ({ cls := "java/lang/StringBuilder", name := "charAt", desc := "(I)C" } : Jvm.MethodName)) ∈ lw_all := lw_g (lw_at lw_m6 228 rfl) rfl
theorem q1530 : (Jvm.Cond.instanceMethod ({ cls := "VowelTorus", name := "append", desc := "(C)I" } : Jvm.MethodName)) ∈ lw_all := lw_g (lw_at lw_m7 3 rfl) rfl
theorem q1531 : (Jvm.Cond.selects "VowelTorus" ({ cls := "VowelTorus", name := "append", desc := "(C)I" } : Jvm.MethodName) ({ cls := "VowelTorus", name := "append", desc := "(C)I" } : Jvm.MethodName)) ∈ lw_all := lw_g (lw_at lw_m7 4 rfl) rfl
theorem q1532 : (Jvm.Cond.code ({ cls := "VowelTorus", name := "append", desc := "(C)I" } : Jvm.MethodName) prog_1_method_47_code (2 : Nat) (Option.some Jvm.ClassFile.FieldType.int)) ∈ lw_all := lw_g (lw_at lw_m7 5 rfl) rfl
theorem q1533 : (Jvm.Cond.methodLink "VowelTorus" (305 : Nat) ({ cls := "VowelTorus", name := "checkState", desc := "(Z)V" } : Jvm.MethodName)) ∈ lw_all := lw_g (lw_at lw_m7 6 rfl) rfl
theorem q1534 : (Jvm.Cond.static ({ cls := "VowelTorus", name := "checkState", desc := "(Z)V" } : Jvm.MethodName)) ∈ lw_all := lw_g (lw_at lw_m7 7 rfl) rfl
theorem q1535 : (Jvm.Cond.code ({ cls := "VowelTorus", name := "checkState", desc := "(Z)V" } : Jvm.MethodName) prog_1_method_10_code (1 : Nat) (Option.none : Option Jvm.ClassFile.FieldType)) ∈ lw_all := lw_g (lw_at lw_m7 8 rfl) rfl
theorem q1536 : (Jvm.Cond.classLink "VowelTorus" (71 : Nat) "java/lang/IllegalStateException") ∈ lw_all := lw_g (lw_at lw_m7 9 rfl) rfl
theorem q1537 : (Jvm.Cond.methodLink "VowelTorus" (73 : Nat) ({ cls := "java/lang/IllegalStateException", name := "<init>", desc := "()V" } : Jvm.MethodName)) ∈ lw_all := lw_g (lw_at lw_m7 10 rfl) rfl
theorem q1541 : (Jvm.Cond.methodLink "VowelTorus" (308 : Nat) ({ cls := "java/lang/StringBuilder", name := "append", desc := "(C)Ljava/lang/StringBuilder;" } : Jvm.MethodName)) ∈ lw_all := lw_g (lw_at lw_m7 14 rfl) rfl
theorem q1546 : (Jvm.Cond.instanceMethod ({ cls := "VowelTorus", name := "run", desc := "()I" } : Jvm.MethodName)) ∈ lw_all := lw_g (lw_at lw_m7 19 rfl) rfl
theorem q1547 : (Jvm.Cond.selects "VowelTorus" ({ cls := "VowelTorus", name := "run", desc := "()I" } : Jvm.MethodName) ({ cls := "VowelTorus", name := "run", desc := "()I" } : Jvm.MethodName)) ∈ lw_all := lw_g (lw_at lw_m7 20 rfl) rfl
theorem q1548 : (Jvm.Cond.codeWith ({ cls := "VowelTorus", name := "run", desc := "()I" } : Jvm.MethodName) prog_1_method_48_code (4 : Nat) (Option.some Jvm.ClassFile.FieldType.int) [((5 : Nat), (12 : Nat), (15 : Nat), (315 : Nat)), ((53 : Nat), (94 : Nat), (97 : Nat), (1 : Nat))]) ∈ lw_all := lw_g (lw_at lw_m7 21 rfl) rfl
theorem q1549 : (Jvm.Cond.classLink "VowelTorus" (315 : Nat) "VowelTorus$Fault") ∈ lw_all := lw_g (lw_at lw_m7 22 rfl) rfl
theorem q1550 : (Jvm.Cond.methodLink "VowelTorus" (312 : Nat) ({ cls := "VowelTorus$Reader", name := "read", desc := "()V" } : Jvm.MethodName)) ∈ lw_all := lw_g (lw_at lw_m7 23 rfl) rfl
theorem q1595 : (Jvm.Cond.fieldLinkNest "VowelTorus" (317 : Nat) "VowelTorus$Fault" "position" "I" "VowelTorus") ∈ lw_tbl := lw_at lw_m7 68 rfl
theorem q1604 : (Jvm.Cond.methodLink "VowelTorus" (323 : Nat) ({ cls := "VowelTorus$Reader", name := "isRight", desc := "(LVowelTorus$Puzzle;I)Z" } : Jvm.MethodName)) ∈ lw_all := lw_g (lw_at lw_m7 77 rfl) rfl
theorem q1617 : (Jvm.Cond.methodLink "VowelTorus" (327 : Nat) ({ cls := "VowelTorus$Reader", name := "does", desc := "(LVowelTorus$Puzzle;I)I" } : Jvm.MethodName)) ∈ lw_all := lw_g (lw_at lw_m7 90 rfl) rfl
theorem q1632 : (Jvm.Cond.instanceMethod ({ cls := "VowelTorus", name := "refusal", desc := "(Z)I" } : Jvm.MethodName)) ∈ lw_all := lw_g (lw_at lw_m7 105 rfl) rfl
theorem q1633 : (Jvm.Cond.selects "VowelTorus" ({ cls := "VowelTorus", name := "refusal", desc := "(Z)I" } : Jvm.MethodName) ({ cls := "VowelTorus", name := "refusal", desc := "(Z)I" } : Jvm.MethodName)) ∈ lw_all := lw_g (lw_at lw_m7 106 rfl) rfl
theorem q1634 : (Jvm.Cond.code ({ cls := "VowelTorus", name := "refusal", desc := "(Z)I" } : Jvm.MethodName) prog_1_method_50_code (2 : Nat) (Option.some Jvm.ClassFile.FieldType.int)) ∈ lw_all := lw_g (lw_at lw_m7 107 rfl) rfl
theorem q1639 : (Jvm.Cond.instanceMethod ({ cls := "VowelTorus", name := "account", desc := "(I)I" } : Jvm.MethodName)) ∈ lw_all := lw_g (lw_at lw_m7 112 rfl) rfl
theorem q1640 : (Jvm.Cond.selects "VowelTorus" ({ cls := "VowelTorus", name := "account", desc := "(I)I" } : Jvm.MethodName) ({ cls := "VowelTorus", name := "account", desc := "(I)I" } : Jvm.MethodName)) ∈ lw_all := lw_g (lw_at lw_m7 113 rfl) rfl
theorem q1641 : (Jvm.Cond.code ({ cls := "VowelTorus", name := "account", desc := "(I)I" } : Jvm.MethodName) prog_1_method_51_code (3 : Nat) (Option.some Jvm.ClassFile.FieldType.int)) ∈ lw_all := lw_g (lw_at lw_m7 114 rfl) rfl
theorem q1642 : (Jvm.Cond.static ({ cls := "VowelTorus", name := "lambda$account$3", desc := "(LVowelTorus$Puzzle;Ljava/lang/Integer;)Z" } : Jvm.MethodName)) ∈ lw_all := lw_g (lw_at lw_m7 115 rfl) rfl
theorem q1643 : (Jvm.Cond.code ({ cls := "VowelTorus", name := "lambda$account$3", desc := "(LVowelTorus$Puzzle;Ljava/lang/Integer;)Z" } : Jvm.MethodName) prog_1_method_58_code (2 : Nat) (Option.some Jvm.ClassFile.FieldType.boolean)) ∈ lw_all := lw_g (lw_at lw_m7 116 rfl) rfl
theorem q1644 : (Jvm.Cond.methodLink "VowelTorus" (353 : Nat) ({ cls := "VowelTorus$Past", name := "size", desc := "()I" } : Jvm.MethodName)) ∈ lw_all := lw_g (lw_at lw_m7 117 rfl) rfl
theorem q1667 : (Jvm.Cond.instanceMethod ({ cls := "VowelTorus", name := "meanFar", desc := "()D" } : Jvm.MethodName)) ∈ lw_all := lw_g (lw_at lw_m7 140 rfl) rfl
theorem q1668 : (Jvm.Cond.selects "VowelTorus" ({ cls := "VowelTorus", name := "meanFar", desc := "()D" } : Jvm.MethodName) ({ cls := "VowelTorus", name := "meanFar", desc := "()D" } : Jvm.MethodName)) ∈ lw_all := lw_g (lw_at lw_m7 141 rfl) rfl
theorem q1669 : (Jvm.Cond.code ({ cls := "VowelTorus", name := "meanFar", desc := "()D" } : Jvm.MethodName) prog_1_method_53_code (2 : Nat) (Option.some Jvm.ClassFile.FieldType.double)) ∈ lw_all := lw_g (lw_at lw_m7 142 rfl) rfl
theorem q1670 : (Jvm.Cond.methodLink "VowelTorus" (359 : Nat) ({ cls := "VowelTorus$Puzzle", name := "farKnown", desc := "()I" } : Jvm.MethodName)) ∈ lw_all := lw_g (lw_at lw_m7 143 rfl) rfl
theorem q1678 : (Jvm.Cond.classLink "VowelTorus" (362 : Nat) "java/lang/ArithmeticException") ∈ lw_all := lw_g (lw_at lw_m7 151 rfl) rfl
theorem q1679 : (Jvm.Cond.methodLink "VowelTorus" (364 : Nat) ({ cls := "java/lang/ArithmeticException", name := "<init>", desc := "()V" } : Jvm.MethodName)) ∈ lw_all := lw_g (lw_at lw_m7 152 rfl) rfl
theorem q1683 : (Jvm.Cond.methodLink "VowelTorus" (365 : Nat) ({ cls := "VowelTorus$Puzzle", name := "farAll", desc := "()I" } : Jvm.MethodName)) ∈ lw_all := lw_g (lw_at lw_m7 156 rfl) rfl
theorem q1692 : (Jvm.Cond.instanceMethod ({ cls := "VowelTorus", name := "undo", desc := "()I" } : Jvm.MethodName)) ∈ lw_all := lw_g (lw_at lw_m7 165 rfl) rfl
theorem q1693 : (Jvm.Cond.selects "VowelTorus" ({ cls := "VowelTorus", name := "undo", desc := "()I" } : Jvm.MethodName) ({ cls := "VowelTorus", name := "undo", desc := "()I" } : Jvm.MethodName)) ∈ lw_all := lw_g (lw_at lw_m7 166 rfl) rfl
theorem q1694 : (Jvm.Cond.code ({ cls := "VowelTorus", name := "undo", desc := "()I" } : Jvm.MethodName) prog_1_method_55_code (1 : Nat) (Option.some Jvm.ClassFile.FieldType.int)) ∈ lw_all := lw_g (lw_at lw_m7 167 rfl) rfl
theorem q1695 : (Jvm.Cond.methodLink "VowelTorus" (368 : Nat) ({ cls := "VowelTorus$Past", name := "givesBack", desc := "(LVowelTorus$Taken;)V" } : Jvm.MethodName)) ∈ lw_all := lw_g (lw_at lw_m7 168 rfl) rfl
theorem q1710 : (Jvm.Cond.instanceMethod ({ cls := "VowelTorus", name := "restore", desc := "()I" } : Jvm.MethodName)) ∈ lw_all := lw_g (lw_at lw_m7 183 rfl) rfl
theorem q1711 : (Jvm.Cond.selects "VowelTorus" ({ cls := "VowelTorus", name := "restore", desc := "()I" } : Jvm.MethodName) ({ cls := "VowelTorus", name := "restore", desc := "()I" } : Jvm.MethodName)) ∈ lw_all := lw_g (lw_at lw_m7 184 rfl) rfl
theorem q1712 : (Jvm.Cond.code ({ cls := "VowelTorus", name := "restore", desc := "()I" } : Jvm.MethodName) prog_1_method_57_code (1 : Nat) (Option.some Jvm.ClassFile.FieldType.int)) ∈ lw_all := lw_g (lw_at lw_m7 185 rfl) rfl
theorem q1713 : (Jvm.Cond.methodLink "VowelTorus" (375 : Nat) ({ cls := "VowelTorus$Past", name := "forgets", desc := "()V" } : Jvm.MethodName)) ∈ lw_all := lw_g (lw_at lw_m7 186 rfl) rfl
theorem q2195 : (Jvm.Cond.castable "VowelTorus" "java/lang/Object") ∈ lw_tbl := lw_at lw_m9 188 rfl
theorem in_X1 : ∀ w ∈ wsX10, w ∈ lw_all := lw_in wsX10 [439, 441, 443, 445, 447, 449, 451, 453, 455, 457, 459] (by decide +kernel) (by decide +kernel)
/-! VowelTorus$Past -/
set_option maxRecDepth 100000
def RX3 : String := "VowelTorus$Past"
def TX3 : u_T := fun k => match k with
  | 0 => ("VowelTorus$Past", "kept", "Ljava/util/ArrayDeque;", true)
  | _ => ("VowelTorus$Past", "spare", "Ljava/util/ArrayDeque;", true)
def tyX3 : Nat → FieldType := fun k => match k with
  | 0 => .object "java/util/ArrayDeque"
  | _ => .object "java/util/ArrayDeque"
abbrev wsX30 : List Cond := u_ws RX3 TX3 2
theorem nmX3 : ∀ a, a < 2 → ∀ b, b < 2 → a ≠ b → (TX3 a).2.1 ≠ (TX3 b).2.1 := by decide +kernel
theorem tyX3_ok : ∀ k, k < 2 → parseFieldDescriptor (TX3 k).2.2.1 = some (tyX3 k) := by decide +kernel
abbrev cX3_init : ByteArray := prog_4_method_1_code
def yX3_init : MethodName := ⟨RX3, "<init>", "()V"⟩
def dkwX3_init_1 : List UInt8 := [181, 0, 16, 177]
abbrev dktX3_init_1 : List UInt8 := dkwX3_init_1 ++ []
def dkwX3_init_0 : List UInt8 := [42, 183, 0, 1, 42, 187, 0, 7, 89, 183, 0, 9, 181, 0, 10, 42, 187, 0, 7, 89, 183, 0, 9]
abbrev dktX3_init_0 : List UInt8 := dkwX3_init_0 ++ dktX3_init_1
theorem dksX3_init_0 : cX3_init.data.toList.drop 0 = dktX3_init_0 := by decide +kernel
theorem dksX3_init_1 : cX3_init.data.toList.drop 23 = dktX3_init_1 := dk_seg dksX3_init_0 23 rfl rfl
theorem dX3_init_0 : decode cX3_init 0 = .ok (.aload_n 0, 1) := dk_42 (dk_at dksX3_init_0 0 rfl rfl)
theorem dX3_init_1 : decode cX3_init 1 = .ok (.invokespecial 1, 3) := dk_183 0 1 (dk_at dksX3_init_0 1 rfl rfl)
theorem dX3_init_4 : decode cX3_init 4 = .ok (.aload_n 0, 1) := dk_42 (dk_at dksX3_init_0 4 rfl rfl)
theorem dX3_init_5 : decode cX3_init 5 = .ok (.new 7, 3) := dk_187 0 7 (dk_at dksX3_init_0 5 rfl rfl)
theorem dX3_init_8 : decode cX3_init 8 = .ok (.dup, 1) := dk_89 (dk_at dksX3_init_0 8 rfl rfl)
theorem dX3_init_9 : decode cX3_init 9 = .ok (.invokespecial 9, 3) := dk_183 0 9 (dk_at dksX3_init_0 9 rfl rfl)
theorem dX3_init_12 : decode cX3_init 12 = .ok (.putfield 10, 3) := dk_181 0 10 (dk_at dksX3_init_0 12 rfl rfl)
theorem dX3_init_15 : decode cX3_init 15 = .ok (.aload_n 0, 1) := dk_42 (dk_at dksX3_init_0 15 rfl rfl)
theorem dX3_init_16 : decode cX3_init 16 = .ok (.new 7, 3) := dk_187 0 7 (dk_at dksX3_init_0 16 rfl rfl)
theorem dX3_init_19 : decode cX3_init 19 = .ok (.dup, 1) := dk_89 (dk_at dksX3_init_0 19 rfl rfl)
theorem dX3_init_20 : decode cX3_init 20 = .ok (.invokespecial 9, 3) := dk_183 0 9 (dk_at dksX3_init_0 20 rfl rfl)
theorem dX3_init_23 : decode cX3_init 23 = .ok (.putfield 16, 3) := dk_181 0 16 (dk_at dksX3_init_1 0 rfl rfl)
theorem dX3_init_26 : decode cX3_init 26 = .ok (.return_, 1) := dk_177 (dk_at dksX3_init_1 3 rfl rfl)
abbrev cX3_with : ByteArray := prog_4_method_2_code
def yX3_with : MethodName := ⟨RX3, "with", "(LVowelTorus$Taken;)LVowelTorus$Past;"⟩
def dkwX3_with_0 : List UInt8 := [42, 180, 0, 16, 43, 182, 0, 19, 42, 176]
abbrev dktX3_with_0 : List UInt8 := dkwX3_with_0 ++ []
theorem dksX3_with_0 : cX3_with.data.toList.drop 0 = dktX3_with_0 := by decide +kernel
theorem dX3_with_0 : decode cX3_with 0 = .ok (.aload_n 0, 1) := dk_42 (dk_at dksX3_with_0 0 rfl rfl)
theorem dX3_with_1 : decode cX3_with 1 = .ok (.getfield 16, 3) := dk_180 0 16 (dk_at dksX3_with_0 1 rfl rfl)
theorem dX3_with_4 : decode cX3_with 4 = .ok (.aload_n 1, 1) := dk_43 (dk_at dksX3_with_0 4 rfl rfl)
theorem dX3_with_5 : decode cX3_with 5 = .ok (.invokevirtual 19, 3) := dk_182 0 19 (dk_at dksX3_with_0 5 rfl rfl)
theorem dX3_with_8 : decode cX3_with 8 = .ok (.aload_n 0, 1) := dk_42 (dk_at dksX3_with_0 8 rfl rfl)
theorem dX3_with_9 : decode cX3_with 9 = .ok (.areturn, 1) := dk_176 (dk_at dksX3_with_0 9 rfl rfl)
abbrev cX3_keeps : ByteArray := prog_4_method_3_code
def yX3_keeps : MethodName := ⟨RX3, "keeps", "(LVowelTorus$Taken;)V"⟩
def dkwX3_keeps_2 : List UInt8 := [182, 0, 19, 177]
abbrev dktX3_keeps_2 : List UInt8 := dkwX3_keeps_2 ++ []
def dkwX3_keeps_1 : List UInt8 := [180, 0, 16, 182, 0, 27, 192, 0, 31, 77, 44, 43, 185, 0, 33, 2, 0, 42, 180, 0, 10, 44]
abbrev dktX3_keeps_1 : List UInt8 := dkwX3_keeps_1 ++ dktX3_keeps_2
def dkwX3_keeps_0 : List UInt8 := [42, 180, 0, 16, 182, 0, 23, 153, 0, 16, 42, 180, 0, 10, 182, 0, 27, 192, 0, 31, 167, 0, 13, 42]
abbrev dktX3_keeps_0 : List UInt8 := dkwX3_keeps_0 ++ dktX3_keeps_1
theorem dksX3_keeps_0 : cX3_keeps.data.toList.drop 0 = dktX3_keeps_0 := by decide +kernel
theorem dksX3_keeps_1 : cX3_keeps.data.toList.drop 24 = dktX3_keeps_1 := dk_seg dksX3_keeps_0 24 rfl rfl
theorem dksX3_keeps_2 : cX3_keeps.data.toList.drop 46 = dktX3_keeps_2 := dk_seg dksX3_keeps_1 22 rfl rfl
theorem dX3_keeps_0 : decode cX3_keeps 0 = .ok (.aload_n 0, 1) := dk_42 (dk_at dksX3_keeps_0 0 rfl rfl)
theorem dX3_keeps_1 : decode cX3_keeps 1 = .ok (.getfield 16, 3) := dk_180 0 16 (dk_at dksX3_keeps_0 1 rfl rfl)
theorem dX3_keeps_4 : decode cX3_keeps 4 = .ok (.invokevirtual 23, 3) := dk_182 0 23 (dk_at dksX3_keeps_0 4 rfl rfl)
theorem dX3_keeps_7 : decode cX3_keeps 7 = .ok (.ifCond .eq 16, 3) := dk_153 0 16 (dk_at dksX3_keeps_0 7 rfl rfl)
theorem dX3_keeps_10 : decode cX3_keeps 10 = .ok (.aload_n 0, 1) := dk_42 (dk_at dksX3_keeps_0 10 rfl rfl)
theorem dX3_keeps_11 : decode cX3_keeps 11 = .ok (.getfield 10, 3) := dk_180 0 10 (dk_at dksX3_keeps_0 11 rfl rfl)
theorem dX3_keeps_14 : decode cX3_keeps 14 = .ok (.invokevirtual 27, 3) := dk_182 0 27 (dk_at dksX3_keeps_0 14 rfl rfl)
theorem dX3_keeps_17 : decode cX3_keeps 17 = .ok (.checkcast 31, 3) := dk_192 0 31 (dk_at dksX3_keeps_0 17 rfl rfl)
theorem dX3_keeps_20 : decode cX3_keeps 20 = .ok (.goto 13, 3) := dk_167 0 13 (dk_at dksX3_keeps_0 20 rfl rfl)
theorem dX3_keeps_23 : decode cX3_keeps 23 = .ok (.aload_n 0, 1) := dk_42 (dk_at dksX3_keeps_0 23 rfl rfl)
theorem dX3_keeps_24 : decode cX3_keeps 24 = .ok (.getfield 16, 3) := dk_180 0 16 (dk_at dksX3_keeps_1 0 rfl rfl)
theorem dX3_keeps_27 : decode cX3_keeps 27 = .ok (.invokevirtual 27, 3) := dk_182 0 27 (dk_at dksX3_keeps_1 3 rfl rfl)
theorem dX3_keeps_30 : decode cX3_keeps 30 = .ok (.checkcast 31, 3) := dk_192 0 31 (dk_at dksX3_keeps_1 6 rfl rfl)
theorem dX3_keeps_33 : decode cX3_keeps 33 = .ok (.astore_n 2, 1) := dk_77 (dk_at dksX3_keeps_1 9 rfl rfl)
theorem dX3_keeps_34 : decode cX3_keeps 34 = .ok (.aload_n 2, 1) := dk_44 (dk_at dksX3_keeps_1 10 rfl rfl)
theorem dX3_keeps_35 : decode cX3_keeps 35 = .ok (.aload_n 1, 1) := dk_43 (dk_at dksX3_keeps_1 11 rfl rfl)
theorem dX3_keeps_36 : decode cX3_keeps 36 = .ok (.invokeinterface 33 2, 5) := by decide +kernel
theorem dX3_keeps_41 : decode cX3_keeps 41 = .ok (.aload_n 0, 1) := dk_42 (dk_at dksX3_keeps_1 17 rfl rfl)
theorem dX3_keeps_42 : decode cX3_keeps 42 = .ok (.getfield 10, 3) := dk_180 0 10 (dk_at dksX3_keeps_1 18 rfl rfl)
theorem dX3_keeps_45 : decode cX3_keeps 45 = .ok (.aload_n 2, 1) := dk_44 (dk_at dksX3_keeps_1 21 rfl rfl)
theorem dX3_keeps_46 : decode cX3_keeps 46 = .ok (.invokevirtual 19, 3) := dk_182 0 19 (dk_at dksX3_keeps_2 0 rfl rfl)
theorem dX3_keeps_49 : decode cX3_keeps 49 = .ok (.return_, 1) := dk_177 (dk_at dksX3_keeps_2 3 rfl rfl)
abbrev cX3_size : ByteArray := prog_4_method_6_code
def yX3_size : MethodName := ⟨RX3, "size", "()I"⟩
def dkwX3_size_0 : List UInt8 := [42, 180, 0, 10, 182, 0, 39, 172]
abbrev dktX3_size_0 : List UInt8 := dkwX3_size_0 ++ []
theorem dksX3_size_0 : cX3_size.data.toList.drop 0 = dktX3_size_0 := by decide +kernel
theorem dX3_size_0 : decode cX3_size 0 = .ok (.aload_n 0, 1) := dk_42 (dk_at dksX3_size_0 0 rfl rfl)
theorem dX3_size_1 : decode cX3_size 1 = .ok (.getfield 10, 3) := dk_180 0 10 (dk_at dksX3_size_0 1 rfl rfl)
theorem dX3_size_4 : decode cX3_size 4 = .ok (.invokevirtual 39, 3) := dk_182 0 39 (dk_at dksX3_size_0 4 rfl rfl)
theorem dX3_size_7 : decode cX3_size 7 = .ok (.ireturn, 1) := dk_172 (dk_at dksX3_size_0 7 rfl rfl)
abbrev cX3_givesBack : ByteArray := prog_4_method_4_code
def yX3_givesBack : MethodName := ⟨RX3, "givesBack", "(LVowelTorus$Taken;)V"⟩
def dkwX3_givesBack_1 : List UInt8 := [182, 0, 19, 177]
abbrev dktX3_givesBack_1 : List UInt8 := dkwX3_givesBack_1 ++ []
def dkwX3_givesBack_0 : List UInt8 := [42, 180, 0, 10, 182, 0, 36, 192, 0, 31, 77, 43, 44, 185, 0, 33, 2, 0, 42, 180, 0, 16, 44]
abbrev dktX3_givesBack_0 : List UInt8 := dkwX3_givesBack_0 ++ dktX3_givesBack_1
theorem dksX3_givesBack_0 : cX3_givesBack.data.toList.drop 0 = dktX3_givesBack_0 := by decide +kernel
theorem dksX3_givesBack_1 : cX3_givesBack.data.toList.drop 23 = dktX3_givesBack_1 := dk_seg dksX3_givesBack_0 23 rfl rfl
theorem dX3_givesBack_0 : decode cX3_givesBack 0 = .ok (.aload_n 0, 1) := dk_42 (dk_at dksX3_givesBack_0 0 rfl rfl)
theorem dX3_givesBack_1 : decode cX3_givesBack 1 = .ok (.getfield 10, 3) := dk_180 0 10 (dk_at dksX3_givesBack_0 1 rfl rfl)
theorem dX3_givesBack_4 : decode cX3_givesBack 4 = .ok (.invokevirtual 36, 3) := dk_182 0 36 (dk_at dksX3_givesBack_0 4 rfl rfl)
theorem dX3_givesBack_7 : decode cX3_givesBack 7 = .ok (.checkcast 31, 3) := dk_192 0 31 (dk_at dksX3_givesBack_0 7 rfl rfl)
theorem dX3_givesBack_10 : decode cX3_givesBack 10 = .ok (.astore_n 2, 1) := dk_77 (dk_at dksX3_givesBack_0 10 rfl rfl)
theorem dX3_givesBack_11 : decode cX3_givesBack 11 = .ok (.aload_n 1, 1) := dk_43 (dk_at dksX3_givesBack_0 11 rfl rfl)
theorem dX3_givesBack_12 : decode cX3_givesBack 12 = .ok (.aload_n 2, 1) := dk_44 (dk_at dksX3_givesBack_0 12 rfl rfl)
theorem dX3_givesBack_13 : decode cX3_givesBack 13 = .ok (.invokeinterface 33 2, 5) := by decide +kernel
theorem dX3_givesBack_18 : decode cX3_givesBack 18 = .ok (.aload_n 0, 1) := dk_42 (dk_at dksX3_givesBack_0 18 rfl rfl)
theorem dX3_givesBack_19 : decode cX3_givesBack 19 = .ok (.getfield 16, 3) := dk_180 0 16 (dk_at dksX3_givesBack_0 19 rfl rfl)
theorem dX3_givesBack_22 : decode cX3_givesBack 22 = .ok (.aload_n 2, 1) := dk_44 (dk_at dksX3_givesBack_0 22 rfl rfl)
theorem dX3_givesBack_23 : decode cX3_givesBack 23 = .ok (.invokevirtual 19, 3) := dk_182 0 19 (dk_at dksX3_givesBack_1 0 rfl rfl)
theorem dX3_givesBack_26 : decode cX3_givesBack 26 = .ok (.return_, 1) := dk_177 (dk_at dksX3_givesBack_1 3 rfl rfl)
abbrev cX3_forgets : ByteArray := prog_4_method_5_code
def yX3_forgets : MethodName := ⟨RX3, "forgets", "()V"⟩
def dkwX3_forgets_1 : List UInt8 := [182, 0, 19, 167, 255, 229, 177]
abbrev dktX3_forgets_1 : List UInt8 := dkwX3_forgets_1 ++ []
def dkwX3_forgets_0 : List UInt8 := [42, 180, 0, 10, 182, 0, 23, 154, 0, 23, 42, 180, 0, 16, 42, 180, 0, 10, 182, 0, 36, 192, 0, 31]
abbrev dktX3_forgets_0 : List UInt8 := dkwX3_forgets_0 ++ dktX3_forgets_1
theorem dksX3_forgets_0 : cX3_forgets.data.toList.drop 0 = dktX3_forgets_0 := by decide +kernel
theorem dksX3_forgets_1 : cX3_forgets.data.toList.drop 24 = dktX3_forgets_1 := dk_seg dksX3_forgets_0 24 rfl rfl
theorem dX3_forgets_0 : decode cX3_forgets 0 = .ok (.aload_n 0, 1) := dk_42 (dk_at dksX3_forgets_0 0 rfl rfl)
theorem dX3_forgets_1 : decode cX3_forgets 1 = .ok (.getfield 10, 3) := dk_180 0 10 (dk_at dksX3_forgets_0 1 rfl rfl)
theorem dX3_forgets_4 : decode cX3_forgets 4 = .ok (.invokevirtual 23, 3) := dk_182 0 23 (dk_at dksX3_forgets_0 4 rfl rfl)
theorem dX3_forgets_7 : decode cX3_forgets 7 = .ok (.ifCond .ne 23, 3) := dk_154 0 23 (dk_at dksX3_forgets_0 7 rfl rfl)
theorem dX3_forgets_10 : decode cX3_forgets 10 = .ok (.aload_n 0, 1) := dk_42 (dk_at dksX3_forgets_0 10 rfl rfl)
theorem dX3_forgets_11 : decode cX3_forgets 11 = .ok (.getfield 16, 3) := dk_180 0 16 (dk_at dksX3_forgets_0 11 rfl rfl)
theorem dX3_forgets_14 : decode cX3_forgets 14 = .ok (.aload_n 0, 1) := dk_42 (dk_at dksX3_forgets_0 14 rfl rfl)
theorem dX3_forgets_15 : decode cX3_forgets 15 = .ok (.getfield 10, 3) := dk_180 0 10 (dk_at dksX3_forgets_0 15 rfl rfl)
theorem dX3_forgets_18 : decode cX3_forgets 18 = .ok (.invokevirtual 36, 3) := dk_182 0 36 (dk_at dksX3_forgets_0 18 rfl rfl)
theorem dX3_forgets_21 : decode cX3_forgets 21 = .ok (.checkcast 31, 3) := dk_192 0 31 (dk_at dksX3_forgets_0 21 rfl rfl)
theorem dX3_forgets_24 : decode cX3_forgets 24 = .ok (.invokevirtual 19, 3) := dk_182 0 19 (dk_at dksX3_forgets_1 0 rfl rfl)
theorem dX3_forgets_27 : decode cX3_forgets 27 = .ok (.goto (-27), 3) := dk_167 255 229 (dk_at dksX3_forgets_1 3 rfl rfl)
theorem dX3_forgets_30 : decode cX3_forgets 30 = .ok (.return_, 1) := dk_177 (dk_at dksX3_forgets_1 6 rfl rfl)
theorem q90 : (Jvm.Cond.initialized "VowelTorus$Past") ∈ lw_all := lw_g (lw_at lw_m1 3 rfl) rfl
theorem q199 : (Jvm.Cond.instantiable "VowelTorus$Past" (2 : Nat)) ∈ lw_all := lw_g (lw_at lw_m1 112 rfl) rfl
theorem q201 : (Jvm.Cond.instanceMethod ({ cls := "VowelTorus$Past", name := "<init>", desc := "()V" } : Jvm.MethodName)) ∈ lw_all := lw_g (lw_at lw_m1 114 rfl) rfl
theorem q202 : (Jvm.Cond.code ({ cls := "VowelTorus$Past", name := "<init>", desc := "()V" } : Jvm.MethodName) prog_4_method_1_code (1 : Nat) (Option.none : Option Jvm.ClassFile.FieldType)) ∈ lw_all := lw_g (lw_at lw_m1 115 rfl) rfl
theorem q203 : (Jvm.Cond.methodLink "VowelTorus$Past" (1 : Nat) ({ cls := "java/lang/Object", name := "<init>", desc := "()V" } : Jvm.MethodName)) ∈ lw_all := lw_g (lw_at lw_m1 116 rfl) rfl
theorem q204 : (Jvm.Cond.classLink "VowelTorus$Past" (7 : Nat) "java/util/ArrayDeque") ∈ lw_all := lw_g (lw_at lw_m1 117 rfl) rfl
theorem q206 : (Jvm.Cond.methodLink "VowelTorus$Past" (9 : Nat) ({ cls := "java/util/ArrayDeque", name := "<init>", desc := "()V" } : Jvm.MethodName)) ∈ lw_all := lw_g (lw_at lw_m1 119 rfl) rfl
theorem q227 : (Jvm.Cond.fieldLink "VowelTorus$Past" (10 : Nat) "VowelTorus$Past" "kept" "Ljava/util/ArrayDeque;") ∈ lw_all := lw_g (lw_at lw_m1 140 rfl) rfl
theorem q228 : (Jvm.Cond.fieldLink "VowelTorus$Past" (16 : Nat) "VowelTorus$Past" "spare" "Ljava/util/ArrayDeque;") ∈ lw_all := lw_g (lw_at lw_m1 141 rfl) rfl
theorem q229 : (Jvm.Cond.laysFinal "VowelTorus$Past" "VowelTorus$Past" "kept" "Ljava/util/ArrayDeque;") ∈ lw_all := lw_g (lw_at lw_m1 142 rfl) rfl
theorem q230 : (Jvm.Cond.soleField "VowelTorus$Past" "kept") ∈ lw_all := lw_g (lw_at lw_m1 143 rfl) rfl
theorem q231 : (Jvm.Cond.laysFinal "VowelTorus$Past" "VowelTorus$Past" "spare" "Ljava/util/ArrayDeque;") ∈ lw_all := lw_g (lw_at lw_m1 144 rfl) rfl
theorem q232 : (Jvm.Cond.soleField "VowelTorus$Past" "spare") ∈ lw_all := lw_g (lw_at lw_m1 145 rfl) rfl
theorem q233 : (Jvm.Cond.superclass "VowelTorus$Past" "java/lang/Object") ∈ lw_all := lw_g (lw_at lw_m1 146 rfl) rfl
theorem q294 : (Jvm.Cond.instanceMethod ({ cls := "VowelTorus$Past", name := "with", desc := "(LVowelTorus$Taken;)LVowelTorus$Past;" } : Jvm.MethodName)) ∈ lw_all := lw_g (lw_at lw_m1 207 rfl) rfl
theorem q295 : (Jvm.Cond.selects "VowelTorus$Past" ({ cls := "VowelTorus$Past", name := "with", desc := "(LVowelTorus$Taken;)LVowelTorus$Past;" } : Jvm.MethodName) ({ cls := "VowelTorus$Past", name := "with", desc := "(LVowelTorus$Taken;)LVowelTorus$Past;" } : Jvm.MethodName)) ∈ lw_all := lw_g (lw_at lw_m1 208 rfl) rfl
theorem q296 : (Jvm.Cond.code ({ cls := "VowelTorus$Past", name := "with", desc := "(LVowelTorus$Taken;)LVowelTorus$Past;" } : Jvm.MethodName) prog_4_method_2_code (2 : Nat) (Option.some (Jvm.ClassFile.FieldType.object "VowelTorus$Past"))) ∈ lw_all := lw_g (lw_at lw_m1 209 rfl) rfl
theorem q297 : (Jvm.Cond.methodLink "VowelTorus$Past" (19 : Nat) ({ cls := "java/util/ArrayDeque", name := "addLast", desc := "(Ljava/lang/Object;)V" } : Jvm.MethodName)) ∈ lw_all := lw_g (lw_at lw_m1 210 rfl) rfl
theorem q396 : (Jvm.Cond.selects "VowelTorus$Past" ({ cls := "java/lang/Object", name := "getClass", desc := "()Ljava/lang/Class;" } : Jvm.MethodName) ({ cls := "java/lang/Object", name := "getClass", desc := "()Ljava/lang/Class;" } : Jvm.MethodName)) ∈ lw_all := lw_g (lw_at lw_m2 69 rfl) rfl
theorem q1141 : (Jvm.Cond.instanceMethod ({ cls := "VowelTorus$Past", name := "keeps", desc := "(LVowelTorus$Taken;)V" } : Jvm.MethodName)) ∈ lw_all := lw_g (lw_at lw_m5 94 rfl) rfl
theorem q1142 : (Jvm.Cond.selects "VowelTorus$Past" ({ cls := "VowelTorus$Past", name := "keeps", desc := "(LVowelTorus$Taken;)V" } : Jvm.MethodName) ({ cls := "VowelTorus$Past", name := "keeps", desc := "(LVowelTorus$Taken;)V" } : Jvm.MethodName)) ∈ lw_all := lw_g (lw_at lw_m5 95 rfl) rfl
theorem q1143 : (Jvm.Cond.code ({ cls := "VowelTorus$Past", name := "keeps", desc := "(LVowelTorus$Taken;)V" } : Jvm.MethodName) prog_4_method_3_code (3 : Nat) (Option.none : Option Jvm.ClassFile.FieldType)) ∈ lw_all := lw_g (lw_at lw_m5 96 rfl) rfl
theorem q1144 : (Jvm.Cond.methodLink "VowelTorus$Past" (23 : Nat) ({ cls := "java/util/ArrayDeque", name := "isEmpty", desc := "()Z" } : Jvm.MethodName)) ∈ lw_all := lw_g (lw_at lw_m5 97 rfl) rfl
theorem q1148 : (Jvm.Cond.methodLink "VowelTorus$Past" (27 : Nat) ({ cls := "java/util/ArrayDeque", name := "pollFirst", desc := "()Ljava/lang/Object;" } : Jvm.MethodName)) ∈ lw_all := lw_g (lw_at lw_m5 101 rfl) rfl
theorem q1155 : (Jvm.Cond.classLink "VowelTorus$Past" (31 : Nat) "VowelTorus$Taken") ∈ lw_all := lw_g (lw_at lw_m5 108 rfl) rfl
theorem q1156 : (Jvm.Cond.interfaceEntry "VowelTorus$Past" (33 : Nat)) ∈ lw_tbl := lw_at lw_m5 109 rfl
theorem q1157 : (Jvm.Cond.methodLink "VowelTorus$Past" (33 : Nat) ({ cls := "VowelTorus$Taken", name := "take", desc := "(Ljava/lang/Object;)V" } : Jvm.MethodName)) ∈ lw_all := lw_g (lw_at lw_m5 110 rfl) rfl
theorem q1645 : (Jvm.Cond.instanceMethod ({ cls := "VowelTorus$Past", name := "size", desc := "()I" } : Jvm.MethodName)) ∈ lw_all := lw_g (lw_at lw_m7 118 rfl) rfl
theorem q1646 : (Jvm.Cond.selects "VowelTorus$Past" ({ cls := "VowelTorus$Past", name := "size", desc := "()I" } : Jvm.MethodName) ({ cls := "VowelTorus$Past", name := "size", desc := "()I" } : Jvm.MethodName)) ∈ lw_all := lw_g (lw_at lw_m7 119 rfl) rfl
theorem q1647 : (Jvm.Cond.code ({ cls := "VowelTorus$Past", name := "size", desc := "()I" } : Jvm.MethodName) prog_4_method_6_code (1 : Nat) (Option.some Jvm.ClassFile.FieldType.int)) ∈ lw_all := lw_g (lw_at lw_m7 120 rfl) rfl
theorem q1648 : (Jvm.Cond.methodLink "VowelTorus$Past" (39 : Nat) ({ cls := "java/util/ArrayDeque", name := "size", desc := "()I" } : Jvm.MethodName)) ∈ lw_all := lw_g (lw_at lw_m7 121 rfl) rfl
theorem q1696 : (Jvm.Cond.instanceMethod ({ cls := "VowelTorus$Past", name := "givesBack", desc := "(LVowelTorus$Taken;)V" } : Jvm.MethodName)) ∈ lw_all := lw_g (lw_at lw_m7 169 rfl) rfl
theorem q1697 : (Jvm.Cond.selects "VowelTorus$Past" ({ cls := "VowelTorus$Past", name := "givesBack", desc := "(LVowelTorus$Taken;)V" } : Jvm.MethodName) ({ cls := "VowelTorus$Past", name := "givesBack", desc := "(LVowelTorus$Taken;)V" } : Jvm.MethodName)) ∈ lw_all := lw_g (lw_at lw_m7 170 rfl) rfl
theorem q1698 : (Jvm.Cond.code ({ cls := "VowelTorus$Past", name := "givesBack", desc := "(LVowelTorus$Taken;)V" } : Jvm.MethodName) prog_4_method_4_code (3 : Nat) (Option.none : Option Jvm.ClassFile.FieldType)) ∈ lw_all := lw_g (lw_at lw_m7 171 rfl) rfl
theorem q1699 : (Jvm.Cond.methodLink "VowelTorus$Past" (36 : Nat) ({ cls := "java/util/ArrayDeque", name := "pollLast", desc := "()Ljava/lang/Object;" } : Jvm.MethodName)) ∈ lw_all := lw_g (lw_at lw_m7 172 rfl) rfl
theorem q1714 : (Jvm.Cond.instanceMethod ({ cls := "VowelTorus$Past", name := "forgets", desc := "()V" } : Jvm.MethodName)) ∈ lw_all := lw_g (lw_at lw_m7 187 rfl) rfl
theorem q1715 : (Jvm.Cond.selects "VowelTorus$Past" ({ cls := "VowelTorus$Past", name := "forgets", desc := "()V" } : Jvm.MethodName) ({ cls := "VowelTorus$Past", name := "forgets", desc := "()V" } : Jvm.MethodName)) ∈ lw_all := lw_g (lw_at lw_m7 188 rfl) rfl
theorem q1716 : (Jvm.Cond.code ({ cls := "VowelTorus$Past", name := "forgets", desc := "()V" } : Jvm.MethodName) prog_4_method_5_code (1 : Nat) (Option.none : Option Jvm.ClassFile.FieldType)) ∈ lw_all := lw_g (lw_at lw_m7 189 rfl) rfl
theorem q2197 : (Jvm.Cond.castable "VowelTorus$Past" "java/lang/Object") ∈ lw_tbl := lw_at lw_m9 190 rfl
theorem in_X3 : ∀ w ∈ wsX30, w ∈ lw_all := lw_in wsX30 [229, 231] (by decide +kernel) (by decide +kernel)
/-! VowelTorus$Reader -/
set_option maxRecDepth 100000
def RX4 : String := "VowelTorus$Reader"
def TX4 : u_T := fun k => match k with
  | 0 => ("VowelTorus$Reader", "text", "Ljava/lang/StringBuilder;", true)
  | 1 => ("VowelTorus$Reader", "at", "I", false)
  | 2 => ("VowelTorus$Reader", "many", "I", false)
  | 3 => ("VowelTorus$Reader", "letters", "[C", true)
  | 4 => ("VowelTorus$Reader", "numbers", "[I", true)
  | _ => ("VowelTorus$Reader", "signs", "[C", true)
def tyX4 : Nat → FieldType := fun k => match k with
  | 0 => .object "java/lang/StringBuilder"
  | 1 => .int
  | 2 => .int
  | 3 => .array .char
  | 4 => .array .int
  | _ => .array .char
abbrev wsX40 : List Cond := u_ws RX4 TX4 6
theorem nmX4 : ∀ a, a < 6 → ∀ b, b < 6 → a ≠ b → (TX4 a).2.1 ≠ (TX4 b).2.1 := by decide +kernel
theorem tyX4_ok : ∀ k, k < 6 → parseFieldDescriptor (TX4 k).2.2.1 = some (tyX4 k) := by decide +kernel
abbrev cX4_init : ByteArray := prog_6_method_1_code
def yX4_init : MethodName := ⟨RX4, "<init>", "(Ljava/lang/StringBuilder;)V"⟩
def dkwX4_init_1 : List UInt8 := [188, 5, 181, 0, 19, 42, 43, 181, 0, 22, 177]
abbrev dktX4_init_1 : List UInt8 := dkwX4_init_1 ++ []
def dkwX4_init_0 : List UInt8 := [42, 183, 0, 3, 42, 16, 60, 188, 5, 181, 0, 9, 42, 16, 120, 188, 10, 181, 0, 15, 42, 16, 60]
abbrev dktX4_init_0 : List UInt8 := dkwX4_init_0 ++ dktX4_init_1
theorem dksX4_init_0 : cX4_init.data.toList.drop 0 = dktX4_init_0 := by decide +kernel
theorem dksX4_init_1 : cX4_init.data.toList.drop 23 = dktX4_init_1 := dk_seg dksX4_init_0 23 rfl rfl
theorem dX4_init_0 : decode cX4_init 0 = .ok (.aload_n 0, 1) := dk_42 (dk_at dksX4_init_0 0 rfl rfl)
theorem dX4_init_1 : decode cX4_init 1 = .ok (.invokespecial 3, 3) := dk_183 0 3 (dk_at dksX4_init_0 1 rfl rfl)
theorem dX4_init_4 : decode cX4_init 4 = .ok (.aload_n 0, 1) := dk_42 (dk_at dksX4_init_0 4 rfl rfl)
theorem dX4_init_5 : decode cX4_init 5 = .ok (.bipush 60, 2) := dk_16 60 (dk_at dksX4_init_0 5 rfl rfl)
theorem dX4_init_7 : decode cX4_init 7 = .ok (.newarray .char, 2) := dk_188_5 (dk_at dksX4_init_0 7 rfl rfl)
theorem dX4_init_9 : decode cX4_init 9 = .ok (.putfield 9, 3) := dk_181 0 9 (dk_at dksX4_init_0 9 rfl rfl)
theorem dX4_init_12 : decode cX4_init 12 = .ok (.aload_n 0, 1) := dk_42 (dk_at dksX4_init_0 12 rfl rfl)
theorem dX4_init_13 : decode cX4_init 13 = .ok (.bipush 120, 2) := dk_16 120 (dk_at dksX4_init_0 13 rfl rfl)
theorem dX4_init_15 : decode cX4_init 15 = .ok (.newarray .int, 2) := dk_188_10 (dk_at dksX4_init_0 15 rfl rfl)
theorem dX4_init_17 : decode cX4_init 17 = .ok (.putfield 15, 3) := dk_181 0 15 (dk_at dksX4_init_0 17 rfl rfl)
theorem dX4_init_20 : decode cX4_init 20 = .ok (.aload_n 0, 1) := dk_42 (dk_at dksX4_init_0 20 rfl rfl)
theorem dX4_init_21 : decode cX4_init 21 = .ok (.bipush 60, 2) := dk_16 60 (dk_at dksX4_init_0 21 rfl rfl)
theorem dX4_init_23 : decode cX4_init 23 = .ok (.newarray .char, 2) := dk_188_5 (dk_at dksX4_init_1 0 rfl rfl)
theorem dX4_init_25 : decode cX4_init 25 = .ok (.putfield 19, 3) := dk_181 0 19 (dk_at dksX4_init_1 2 rfl rfl)
theorem dX4_init_28 : decode cX4_init 28 = .ok (.aload_n 0, 1) := dk_42 (dk_at dksX4_init_1 5 rfl rfl)
theorem dX4_init_29 : decode cX4_init 29 = .ok (.aload_n 1, 1) := dk_43 (dk_at dksX4_init_1 6 rfl rfl)
theorem dX4_init_30 : decode cX4_init 30 = .ok (.putfield 22, 3) := dk_181 0 22 (dk_at dksX4_init_1 7 rfl rfl)
theorem dX4_init_33 : decode cX4_init 33 = .ok (.return_, 1) := dk_177 (dk_at dksX4_init_1 10 rfl rfl)
abbrev cX4_read : ByteArray := prog_6_method_10_code
def yX4_read : MethodName := ⟨RX4, "read", "()V"⟩
def dkwX4_read_1 : List UInt8 := [42, 180, 0, 26, 42, 180, 0, 22, 182, 0, 30, 160, 0, 7, 4, 167, 0, 4, 3, 182, 0, 52, 177]
abbrev dktX4_read_1 : List UInt8 := dkwX4_read_1 ++ []
def dkwX4_read_0 : List UInt8 := [42, 3, 181, 0, 26, 42, 3, 181, 0, 56, 42, 182, 0, 74, 42, 16, 59, 182, 0, 59, 154, 255, 246, 42]
abbrev dktX4_read_0 : List UInt8 := dkwX4_read_0 ++ dktX4_read_1
theorem dksX4_read_0 : cX4_read.data.toList.drop 0 = dktX4_read_0 := by decide +kernel
theorem dksX4_read_1 : cX4_read.data.toList.drop 24 = dktX4_read_1 := dk_seg dksX4_read_0 24 rfl rfl
theorem dX4_read_0 : decode cX4_read 0 = .ok (.aload_n 0, 1) := dk_42 (dk_at dksX4_read_0 0 rfl rfl)
theorem dX4_read_1 : decode cX4_read 1 = .ok (.iconst 0, 1) := dk_3 (dk_at dksX4_read_0 1 rfl rfl)
theorem dX4_read_2 : decode cX4_read 2 = .ok (.putfield 26, 3) := dk_181 0 26 (dk_at dksX4_read_0 2 rfl rfl)
theorem dX4_read_5 : decode cX4_read 5 = .ok (.aload_n 0, 1) := dk_42 (dk_at dksX4_read_0 5 rfl rfl)
theorem dX4_read_6 : decode cX4_read 6 = .ok (.iconst 0, 1) := dk_3 (dk_at dksX4_read_0 6 rfl rfl)
theorem dX4_read_7 : decode cX4_read 7 = .ok (.putfield 56, 3) := dk_181 0 56 (dk_at dksX4_read_0 7 rfl rfl)
theorem dX4_read_10 : decode cX4_read 10 = .ok (.aload_n 0, 1) := dk_42 (dk_at dksX4_read_0 10 rfl rfl)
theorem dX4_read_11 : decode cX4_read 11 = .ok (.invokevirtual 74, 3) := dk_182 0 74 (dk_at dksX4_read_0 11 rfl rfl)
theorem dX4_read_14 : decode cX4_read 14 = .ok (.aload_n 0, 1) := dk_42 (dk_at dksX4_read_0 14 rfl rfl)
theorem dX4_read_15 : decode cX4_read 15 = .ok (.bipush 59, 2) := dk_16 59 (dk_at dksX4_read_0 15 rfl rfl)
theorem dX4_read_17 : decode cX4_read 17 = .ok (.invokevirtual 59, 3) := dk_182 0 59 (dk_at dksX4_read_0 17 rfl rfl)
theorem dX4_read_20 : decode cX4_read 20 = .ok (.ifCond .ne (-10), 3) := dk_154 255 246 (dk_at dksX4_read_0 20 rfl rfl)
theorem dX4_read_23 : decode cX4_read 23 = .ok (.aload_n 0, 1) := dk_42 (dk_at dksX4_read_0 23 rfl rfl)
theorem dX4_read_24 : decode cX4_read 24 = .ok (.aload_n 0, 1) := dk_42 (dk_at dksX4_read_1 0 rfl rfl)
theorem dX4_read_25 : decode cX4_read 25 = .ok (.getfield 26, 3) := dk_180 0 26 (dk_at dksX4_read_1 1 rfl rfl)
theorem dX4_read_28 : decode cX4_read 28 = .ok (.aload_n 0, 1) := dk_42 (dk_at dksX4_read_1 4 rfl rfl)
theorem dX4_read_29 : decode cX4_read 29 = .ok (.getfield 22, 3) := dk_180 0 22 (dk_at dksX4_read_1 5 rfl rfl)
theorem dX4_read_32 : decode cX4_read 32 = .ok (.invokevirtual 30, 3) := dk_182 0 30 (dk_at dksX4_read_1 8 rfl rfl)
theorem dX4_read_35 : decode cX4_read 35 = .ok (.if_icmp .ne 7, 3) := dk_160 0 7 (dk_at dksX4_read_1 11 rfl rfl)
theorem dX4_read_38 : decode cX4_read 38 = .ok (.iconst 1, 1) := dk_4 (dk_at dksX4_read_1 14 rfl rfl)
theorem dX4_read_39 : decode cX4_read 39 = .ok (.goto 4, 3) := dk_167 0 4 (dk_at dksX4_read_1 15 rfl rfl)
theorem dX4_read_42 : decode cX4_read 42 = .ok (.iconst 0, 1) := dk_3 (dk_at dksX4_read_1 18 rfl rfl)
theorem dX4_read_43 : decode cX4_read 43 = .ok (.invokevirtual 52, 3) := dk_182 0 52 (dk_at dksX4_read_1 19 rfl rfl)
theorem dX4_read_46 : decode cX4_read 46 = .ok (.return_, 1) := dk_177 (dk_at dksX4_read_1 22 rfl rfl)
abbrev cX4_order : ByteArray := prog_6_method_9_code
def yX4_order : MethodName := ⟨RX4, "order", "()V"⟩
def dkwX4_order_6 : List UInt8 := [42, 4, 4, 182, 0, 67, 42, 89, 180, 0, 56, 4, 96, 181, 0, 56, 177]
abbrev dktX4_order_6 : List UInt8 := dkwX4_order_6 ++ []
def dkwX4_order_5 : List UInt8 := [16, 114, 182, 0, 63, 182, 0, 52, 42, 3, 6, 182, 0, 67, 42, 42, 16, 47, 182, 0, 59, 182, 0, 52]
abbrev dktX4_order_5 : List UInt8 := dkwX4_order_5 ++ dktX4_order_6
def dkwX4_order_4 : List UInt8 := [167, 0, 53, 42, 16, 120, 182, 0, 63, 153, 0, 12, 42, 3, 4, 182, 0, 67, 167, 0, 35, 42, 42]
abbrev dktX4_order_4 : List UInt8 := dkwX4_order_4 ++ dktX4_order_5
def dkwX4_order_3 : List UInt8 := [4, 182, 0, 71, 167, 0, 71, 42, 16, 116, 182, 0, 63, 153, 0, 12, 42, 3, 6, 182, 0, 67]
abbrev dktX4_order_3 : List UInt8 := dkwX4_order_3 ++ dktX4_order_4
def dkwX4_order_2 : List UInt8 := [42, 3, 182, 0, 71, 167, 0, 94, 42, 16, 103, 182, 0, 63, 153, 0, 17, 42, 3, 4, 182, 0, 67, 42]
abbrev dktX4_order_2 : List UInt8 := dkwX4_order_2 ++ dktX4_order_3
def dkwX4_order_1 : List UInt8 := [42, 4, 4, 182, 0, 67, 167, 0, 117, 42, 16, 112, 182, 0, 63, 153, 0, 17, 42, 3, 4, 182, 0, 67]
abbrev dktX4_order_1 : List UInt8 := dkwX4_order_1 ++ dktX4_order_2
def dkwX4_order_0 : List UInt8 := [42, 16, 98, 182, 0, 63, 154, 0, 12, 42, 16, 115, 182, 0, 63, 153, 0, 18, 42, 3, 4, 182, 0, 67]
abbrev dktX4_order_0 : List UInt8 := dkwX4_order_0 ++ dktX4_order_1
theorem dksX4_order_0 : cX4_order.data.toList.drop 0 = dktX4_order_0 := by decide +kernel
theorem dksX4_order_1 : cX4_order.data.toList.drop 24 = dktX4_order_1 := dk_seg dksX4_order_0 24 rfl rfl
theorem dksX4_order_2 : cX4_order.data.toList.drop 48 = dktX4_order_2 := dk_seg dksX4_order_1 24 rfl rfl
theorem dksX4_order_3 : cX4_order.data.toList.drop 72 = dktX4_order_3 := dk_seg dksX4_order_2 24 rfl rfl
theorem dksX4_order_4 : cX4_order.data.toList.drop 94 = dktX4_order_4 := dk_seg dksX4_order_3 22 rfl rfl
theorem dksX4_order_5 : cX4_order.data.toList.drop 117 = dktX4_order_5 := dk_seg dksX4_order_4 23 rfl rfl
theorem dksX4_order_6 : cX4_order.data.toList.drop 141 = dktX4_order_6 := dk_seg dksX4_order_5 24 rfl rfl
theorem dX4_order_0 : decode cX4_order 0 = .ok (.aload_n 0, 1) := dk_42 (dk_at dksX4_order_0 0 rfl rfl)
theorem dX4_order_1 : decode cX4_order 1 = .ok (.bipush 98, 2) := dk_16 98 (dk_at dksX4_order_0 1 rfl rfl)
theorem dX4_order_3 : decode cX4_order 3 = .ok (.invokevirtual 63, 3) := dk_182 0 63 (dk_at dksX4_order_0 3 rfl rfl)
theorem dX4_order_6 : decode cX4_order 6 = .ok (.ifCond .ne 12, 3) := dk_154 0 12 (dk_at dksX4_order_0 6 rfl rfl)
theorem dX4_order_9 : decode cX4_order 9 = .ok (.aload_n 0, 1) := dk_42 (dk_at dksX4_order_0 9 rfl rfl)
theorem dX4_order_10 : decode cX4_order 10 = .ok (.bipush 115, 2) := dk_16 115 (dk_at dksX4_order_0 10 rfl rfl)
theorem dX4_order_12 : decode cX4_order 12 = .ok (.invokevirtual 63, 3) := dk_182 0 63 (dk_at dksX4_order_0 12 rfl rfl)
theorem dX4_order_15 : decode cX4_order 15 = .ok (.ifCond .eq 18, 3) := dk_153 0 18 (dk_at dksX4_order_0 15 rfl rfl)
theorem dX4_order_18 : decode cX4_order 18 = .ok (.aload_n 0, 1) := dk_42 (dk_at dksX4_order_0 18 rfl rfl)
theorem dX4_order_19 : decode cX4_order 19 = .ok (.iconst 0, 1) := dk_3 (dk_at dksX4_order_0 19 rfl rfl)
theorem dX4_order_20 : decode cX4_order 20 = .ok (.iconst 1, 1) := dk_4 (dk_at dksX4_order_0 20 rfl rfl)
theorem dX4_order_21 : decode cX4_order 21 = .ok (.invokevirtual 67, 3) := dk_182 0 67 (dk_at dksX4_order_0 21 rfl rfl)
theorem dX4_order_24 : decode cX4_order 24 = .ok (.aload_n 0, 1) := dk_42 (dk_at dksX4_order_1 0 rfl rfl)
theorem dX4_order_25 : decode cX4_order 25 = .ok (.iconst 1, 1) := dk_4 (dk_at dksX4_order_1 1 rfl rfl)
theorem dX4_order_26 : decode cX4_order 26 = .ok (.iconst 1, 1) := dk_4 (dk_at dksX4_order_1 2 rfl rfl)
theorem dX4_order_27 : decode cX4_order 27 = .ok (.invokevirtual 67, 3) := dk_182 0 67 (dk_at dksX4_order_1 3 rfl rfl)
theorem dX4_order_30 : decode cX4_order 30 = .ok (.goto 117, 3) := dk_167 0 117 (dk_at dksX4_order_1 6 rfl rfl)
theorem dX4_order_33 : decode cX4_order 33 = .ok (.aload_n 0, 1) := dk_42 (dk_at dksX4_order_1 9 rfl rfl)
theorem dX4_order_34 : decode cX4_order 34 = .ok (.bipush 112, 2) := dk_16 112 (dk_at dksX4_order_1 10 rfl rfl)
theorem dX4_order_36 : decode cX4_order 36 = .ok (.invokevirtual 63, 3) := dk_182 0 63 (dk_at dksX4_order_1 12 rfl rfl)
theorem dX4_order_39 : decode cX4_order 39 = .ok (.ifCond .eq 17, 3) := dk_153 0 17 (dk_at dksX4_order_1 15 rfl rfl)
theorem dX4_order_42 : decode cX4_order 42 = .ok (.aload_n 0, 1) := dk_42 (dk_at dksX4_order_1 18 rfl rfl)
theorem dX4_order_43 : decode cX4_order 43 = .ok (.iconst 0, 1) := dk_3 (dk_at dksX4_order_1 19 rfl rfl)
theorem dX4_order_44 : decode cX4_order 44 = .ok (.iconst 1, 1) := dk_4 (dk_at dksX4_order_1 20 rfl rfl)
theorem dX4_order_45 : decode cX4_order 45 = .ok (.invokevirtual 67, 3) := dk_182 0 67 (dk_at dksX4_order_1 21 rfl rfl)
theorem dX4_order_48 : decode cX4_order 48 = .ok (.aload_n 0, 1) := dk_42 (dk_at dksX4_order_2 0 rfl rfl)
theorem dX4_order_49 : decode cX4_order 49 = .ok (.iconst 0, 1) := dk_3 (dk_at dksX4_order_2 1 rfl rfl)
theorem dX4_order_50 : decode cX4_order 50 = .ok (.invokevirtual 71, 3) := dk_182 0 71 (dk_at dksX4_order_2 2 rfl rfl)
theorem dX4_order_53 : decode cX4_order 53 = .ok (.goto 94, 3) := dk_167 0 94 (dk_at dksX4_order_2 5 rfl rfl)
theorem dX4_order_56 : decode cX4_order 56 = .ok (.aload_n 0, 1) := dk_42 (dk_at dksX4_order_2 8 rfl rfl)
theorem dX4_order_57 : decode cX4_order 57 = .ok (.bipush 103, 2) := dk_16 103 (dk_at dksX4_order_2 9 rfl rfl)
theorem dX4_order_59 : decode cX4_order 59 = .ok (.invokevirtual 63, 3) := dk_182 0 63 (dk_at dksX4_order_2 11 rfl rfl)
theorem dX4_order_62 : decode cX4_order 62 = .ok (.ifCond .eq 17, 3) := dk_153 0 17 (dk_at dksX4_order_2 14 rfl rfl)
theorem dX4_order_65 : decode cX4_order 65 = .ok (.aload_n 0, 1) := dk_42 (dk_at dksX4_order_2 17 rfl rfl)
theorem dX4_order_66 : decode cX4_order 66 = .ok (.iconst 0, 1) := dk_3 (dk_at dksX4_order_2 18 rfl rfl)
theorem dX4_order_67 : decode cX4_order 67 = .ok (.iconst 1, 1) := dk_4 (dk_at dksX4_order_2 19 rfl rfl)
theorem dX4_order_68 : decode cX4_order 68 = .ok (.invokevirtual 67, 3) := dk_182 0 67 (dk_at dksX4_order_2 20 rfl rfl)
theorem dX4_order_71 : decode cX4_order 71 = .ok (.aload_n 0, 1) := dk_42 (dk_at dksX4_order_2 23 rfl rfl)
theorem dX4_order_72 : decode cX4_order 72 = .ok (.iconst 1, 1) := dk_4 (dk_at dksX4_order_3 0 rfl rfl)
theorem dX4_order_73 : decode cX4_order 73 = .ok (.invokevirtual 71, 3) := dk_182 0 71 (dk_at dksX4_order_3 1 rfl rfl)
theorem dX4_order_76 : decode cX4_order 76 = .ok (.goto 71, 3) := dk_167 0 71 (dk_at dksX4_order_3 4 rfl rfl)
theorem dX4_order_79 : decode cX4_order 79 = .ok (.aload_n 0, 1) := dk_42 (dk_at dksX4_order_3 7 rfl rfl)
theorem dX4_order_80 : decode cX4_order 80 = .ok (.bipush 116, 2) := dk_16 116 (dk_at dksX4_order_3 8 rfl rfl)
theorem dX4_order_82 : decode cX4_order 82 = .ok (.invokevirtual 63, 3) := dk_182 0 63 (dk_at dksX4_order_3 10 rfl rfl)
theorem dX4_order_85 : decode cX4_order 85 = .ok (.ifCond .eq 12, 3) := dk_153 0 12 (dk_at dksX4_order_3 13 rfl rfl)
theorem dX4_order_88 : decode cX4_order 88 = .ok (.aload_n 0, 1) := dk_42 (dk_at dksX4_order_3 16 rfl rfl)
theorem dX4_order_89 : decode cX4_order 89 = .ok (.iconst 0, 1) := dk_3 (dk_at dksX4_order_3 17 rfl rfl)
theorem dX4_order_90 : decode cX4_order 90 = .ok (.iconst 3, 1) := dk_6 (dk_at dksX4_order_3 18 rfl rfl)
theorem dX4_order_91 : decode cX4_order 91 = .ok (.invokevirtual 67, 3) := dk_182 0 67 (dk_at dksX4_order_3 19 rfl rfl)
theorem dX4_order_94 : decode cX4_order 94 = .ok (.goto 53, 3) := dk_167 0 53 (dk_at dksX4_order_4 0 rfl rfl)
theorem dX4_order_97 : decode cX4_order 97 = .ok (.aload_n 0, 1) := dk_42 (dk_at dksX4_order_4 3 rfl rfl)
theorem dX4_order_98 : decode cX4_order 98 = .ok (.bipush 120, 2) := dk_16 120 (dk_at dksX4_order_4 4 rfl rfl)
theorem dX4_order_100 : decode cX4_order 100 = .ok (.invokevirtual 63, 3) := dk_182 0 63 (dk_at dksX4_order_4 6 rfl rfl)
theorem dX4_order_103 : decode cX4_order 103 = .ok (.ifCond .eq 12, 3) := dk_153 0 12 (dk_at dksX4_order_4 9 rfl rfl)
theorem dX4_order_106 : decode cX4_order 106 = .ok (.aload_n 0, 1) := dk_42 (dk_at dksX4_order_4 12 rfl rfl)
theorem dX4_order_107 : decode cX4_order 107 = .ok (.iconst 0, 1) := dk_3 (dk_at dksX4_order_4 13 rfl rfl)
theorem dX4_order_108 : decode cX4_order 108 = .ok (.iconst 1, 1) := dk_4 (dk_at dksX4_order_4 14 rfl rfl)
theorem dX4_order_109 : decode cX4_order 109 = .ok (.invokevirtual 67, 3) := dk_182 0 67 (dk_at dksX4_order_4 15 rfl rfl)
theorem dX4_order_112 : decode cX4_order 112 = .ok (.goto 35, 3) := dk_167 0 35 (dk_at dksX4_order_4 18 rfl rfl)
theorem dX4_order_115 : decode cX4_order 115 = .ok (.aload_n 0, 1) := dk_42 (dk_at dksX4_order_4 21 rfl rfl)
theorem dX4_order_116 : decode cX4_order 116 = .ok (.aload_n 0, 1) := dk_42 (dk_at dksX4_order_4 22 rfl rfl)
theorem dX4_order_117 : decode cX4_order 117 = .ok (.bipush 114, 2) := dk_16 114 (dk_at dksX4_order_5 0 rfl rfl)
theorem dX4_order_119 : decode cX4_order 119 = .ok (.invokevirtual 63, 3) := dk_182 0 63 (dk_at dksX4_order_5 2 rfl rfl)
theorem dX4_order_122 : decode cX4_order 122 = .ok (.invokevirtual 52, 3) := dk_182 0 52 (dk_at dksX4_order_5 5 rfl rfl)
theorem dX4_order_125 : decode cX4_order 125 = .ok (.aload_n 0, 1) := dk_42 (dk_at dksX4_order_5 8 rfl rfl)
theorem dX4_order_126 : decode cX4_order 126 = .ok (.iconst 0, 1) := dk_3 (dk_at dksX4_order_5 9 rfl rfl)
theorem dX4_order_127 : decode cX4_order 127 = .ok (.iconst 3, 1) := dk_6 (dk_at dksX4_order_5 10 rfl rfl)
theorem dX4_order_128 : decode cX4_order 128 = .ok (.invokevirtual 67, 3) := dk_182 0 67 (dk_at dksX4_order_5 11 rfl rfl)
theorem dX4_order_131 : decode cX4_order 131 = .ok (.aload_n 0, 1) := dk_42 (dk_at dksX4_order_5 14 rfl rfl)
theorem dX4_order_132 : decode cX4_order 132 = .ok (.aload_n 0, 1) := dk_42 (dk_at dksX4_order_5 15 rfl rfl)
theorem dX4_order_133 : decode cX4_order 133 = .ok (.bipush 47, 2) := dk_16 47 (dk_at dksX4_order_5 16 rfl rfl)
theorem dX4_order_135 : decode cX4_order 135 = .ok (.invokevirtual 59, 3) := dk_182 0 59 (dk_at dksX4_order_5 18 rfl rfl)
theorem dX4_order_138 : decode cX4_order 138 = .ok (.invokevirtual 52, 3) := dk_182 0 52 (dk_at dksX4_order_5 21 rfl rfl)
theorem dX4_order_141 : decode cX4_order 141 = .ok (.aload_n 0, 1) := dk_42 (dk_at dksX4_order_6 0 rfl rfl)
theorem dX4_order_142 : decode cX4_order 142 = .ok (.iconst 1, 1) := dk_4 (dk_at dksX4_order_6 1 rfl rfl)
theorem dX4_order_143 : decode cX4_order 143 = .ok (.iconst 1, 1) := dk_4 (dk_at dksX4_order_6 2 rfl rfl)
theorem dX4_order_144 : decode cX4_order 144 = .ok (.invokevirtual 67, 3) := dk_182 0 67 (dk_at dksX4_order_6 3 rfl rfl)
theorem dX4_order_147 : decode cX4_order 147 = .ok (.aload_n 0, 1) := dk_42 (dk_at dksX4_order_6 6 rfl rfl)
theorem dX4_order_148 : decode cX4_order 148 = .ok (.dup, 1) := dk_89 (dk_at dksX4_order_6 7 rfl rfl)
theorem dX4_order_149 : decode cX4_order 149 = .ok (.getfield 56, 3) := dk_180 0 56 (dk_at dksX4_order_6 8 rfl rfl)
theorem dX4_order_152 : decode cX4_order 152 = .ok (.iconst 1, 1) := dk_4 (dk_at dksX4_order_6 11 rfl rfl)
theorem dX4_order_153 : decode cX4_order 153 = .ok (.iadd, 1) := dk_96 (dk_at dksX4_order_6 12 rfl rfl)
theorem dX4_order_154 : decode cX4_order 154 = .ok (.putfield 56, 3) := dk_181 0 56 (dk_at dksX4_order_6 13 rfl rfl)
theorem dX4_order_157 : decode cX4_order 157 = .ok (.return_, 1) := dk_177 (dk_at dksX4_order_6 16 rfl rfl)
abbrev cX4_isOrder : ByteArray := prog_6_method_7_code
def yX4_isOrder : MethodName := ⟨RX4, "isOrder", "(C)Z"⟩
def dkwX4_isOrder_0 : List UInt8 := [42, 27, 182, 0, 59, 154, 0, 5, 3, 172, 42, 180, 0, 9, 42, 180, 0, 56, 27, 85, 4, 172]
abbrev dktX4_isOrder_0 : List UInt8 := dkwX4_isOrder_0 ++ []
theorem dksX4_isOrder_0 : cX4_isOrder.data.toList.drop 0 = dktX4_isOrder_0 := by decide +kernel
theorem dX4_isOrder_0 : decode cX4_isOrder 0 = .ok (.aload_n 0, 1) := dk_42 (dk_at dksX4_isOrder_0 0 rfl rfl)
theorem dX4_isOrder_1 : decode cX4_isOrder 1 = .ok (.iload_n 1, 1) := dk_27 (dk_at dksX4_isOrder_0 1 rfl rfl)
theorem dX4_isOrder_2 : decode cX4_isOrder 2 = .ok (.invokevirtual 59, 3) := dk_182 0 59 (dk_at dksX4_isOrder_0 2 rfl rfl)
theorem dX4_isOrder_5 : decode cX4_isOrder 5 = .ok (.ifCond .ne 5, 3) := dk_154 0 5 (dk_at dksX4_isOrder_0 5 rfl rfl)
theorem dX4_isOrder_8 : decode cX4_isOrder 8 = .ok (.iconst 0, 1) := dk_3 (dk_at dksX4_isOrder_0 8 rfl rfl)
theorem dX4_isOrder_9 : decode cX4_isOrder 9 = .ok (.ireturn, 1) := dk_172 (dk_at dksX4_isOrder_0 9 rfl rfl)
theorem dX4_isOrder_10 : decode cX4_isOrder 10 = .ok (.aload_n 0, 1) := dk_42 (dk_at dksX4_isOrder_0 10 rfl rfl)
theorem dX4_isOrder_11 : decode cX4_isOrder 11 = .ok (.getfield 9, 3) := dk_180 0 9 (dk_at dksX4_isOrder_0 11 rfl rfl)
theorem dX4_isOrder_14 : decode cX4_isOrder 14 = .ok (.aload_n 0, 1) := dk_42 (dk_at dksX4_isOrder_0 14 rfl rfl)
theorem dX4_isOrder_15 : decode cX4_isOrder 15 = .ok (.getfield 56, 3) := dk_180 0 56 (dk_at dksX4_isOrder_0 15 rfl rfl)
theorem dX4_isOrder_18 : decode cX4_isOrder 18 = .ok (.iload_n 1, 1) := dk_27 (dk_at dksX4_isOrder_0 18 rfl rfl)
theorem dX4_isOrder_19 : decode cX4_isOrder 19 = .ok (.castore, 1) := dk_85 (dk_at dksX4_isOrder_0 19 rfl rfl)
theorem dX4_isOrder_20 : decode cX4_isOrder 20 = .ok (.iconst 1, 1) := dk_4 (dk_at dksX4_isOrder_0 20 rfl rfl)
theorem dX4_isOrder_21 : decode cX4_isOrder 21 = .ok (.ireturn, 1) := dk_172 (dk_at dksX4_isOrder_0 21 rfl rfl)
abbrev cX4_skip : ByteArray := prog_6_method_3_code
def yX4_skip : MethodName := ⟨RX4, "skip", "(I)Z"⟩
def dkwX4_skip_0 : List UInt8 := [42, 182, 0, 40, 27, 159, 0, 5, 3, 172, 42, 89, 180, 0, 26, 4, 96, 181, 0, 26, 4, 172]
abbrev dktX4_skip_0 : List UInt8 := dkwX4_skip_0 ++ []
theorem dksX4_skip_0 : cX4_skip.data.toList.drop 0 = dktX4_skip_0 := by decide +kernel
theorem dX4_skip_0 : decode cX4_skip 0 = .ok (.aload_n 0, 1) := dk_42 (dk_at dksX4_skip_0 0 rfl rfl)
theorem dX4_skip_1 : decode cX4_skip 1 = .ok (.invokevirtual 40, 3) := dk_182 0 40 (dk_at dksX4_skip_0 1 rfl rfl)
theorem dX4_skip_4 : decode cX4_skip 4 = .ok (.iload_n 1, 1) := dk_27 (dk_at dksX4_skip_0 4 rfl rfl)
theorem dX4_skip_5 : decode cX4_skip 5 = .ok (.if_icmp .eq 5, 3) := dk_159 0 5 (dk_at dksX4_skip_0 5 rfl rfl)
theorem dX4_skip_8 : decode cX4_skip 8 = .ok (.iconst 0, 1) := dk_3 (dk_at dksX4_skip_0 8 rfl rfl)
theorem dX4_skip_9 : decode cX4_skip 9 = .ok (.ireturn, 1) := dk_172 (dk_at dksX4_skip_0 9 rfl rfl)
theorem dX4_skip_10 : decode cX4_skip 10 = .ok (.aload_n 0, 1) := dk_42 (dk_at dksX4_skip_0 10 rfl rfl)
theorem dX4_skip_11 : decode cX4_skip 11 = .ok (.dup, 1) := dk_89 (dk_at dksX4_skip_0 11 rfl rfl)
theorem dX4_skip_12 : decode cX4_skip 12 = .ok (.getfield 26, 3) := dk_180 0 26 (dk_at dksX4_skip_0 12 rfl rfl)
theorem dX4_skip_15 : decode cX4_skip 15 = .ok (.iconst 1, 1) := dk_4 (dk_at dksX4_skip_0 15 rfl rfl)
theorem dX4_skip_16 : decode cX4_skip 16 = .ok (.iadd, 1) := dk_96 (dk_at dksX4_skip_0 16 rfl rfl)
theorem dX4_skip_17 : decode cX4_skip 17 = .ok (.putfield 26, 3) := dk_181 0 26 (dk_at dksX4_skip_0 17 rfl rfl)
theorem dX4_skip_20 : decode cX4_skip 20 = .ok (.iconst 1, 1) := dk_4 (dk_at dksX4_skip_0 20 rfl rfl)
theorem dX4_skip_21 : decode cX4_skip 21 = .ok (.ireturn, 1) := dk_172 (dk_at dksX4_skip_0 21 rfl rfl)
abbrev cX4_here : ByteArray := prog_6_method_2_code
def yX4_here : MethodName := ⟨RX4, "here", "()I"⟩
def dkwX4_here_1 : List UInt8 := [182, 0, 36, 167, 0, 4, 2, 172]
abbrev dktX4_here_1 : List UInt8 := dkwX4_here_1 ++ []
def dkwX4_here_0 : List UInt8 := [42, 180, 0, 26, 42, 180, 0, 22, 182, 0, 30, 162, 0, 17, 42, 180, 0, 22, 42, 180, 0, 26]
abbrev dktX4_here_0 : List UInt8 := dkwX4_here_0 ++ dktX4_here_1
theorem dksX4_here_0 : cX4_here.data.toList.drop 0 = dktX4_here_0 := by decide +kernel
theorem dksX4_here_1 : cX4_here.data.toList.drop 22 = dktX4_here_1 := dk_seg dksX4_here_0 22 rfl rfl
theorem dX4_here_0 : decode cX4_here 0 = .ok (.aload_n 0, 1) := dk_42 (dk_at dksX4_here_0 0 rfl rfl)
theorem dX4_here_1 : decode cX4_here 1 = .ok (.getfield 26, 3) := dk_180 0 26 (dk_at dksX4_here_0 1 rfl rfl)
theorem dX4_here_4 : decode cX4_here 4 = .ok (.aload_n 0, 1) := dk_42 (dk_at dksX4_here_0 4 rfl rfl)
theorem dX4_here_5 : decode cX4_here 5 = .ok (.getfield 22, 3) := dk_180 0 22 (dk_at dksX4_here_0 5 rfl rfl)
theorem dX4_here_8 : decode cX4_here 8 = .ok (.invokevirtual 30, 3) := dk_182 0 30 (dk_at dksX4_here_0 8 rfl rfl)
theorem dX4_here_11 : decode cX4_here 11 = .ok (.if_icmp .ge 17, 3) := dk_162 0 17 (dk_at dksX4_here_0 11 rfl rfl)
theorem dX4_here_14 : decode cX4_here 14 = .ok (.aload_n 0, 1) := dk_42 (dk_at dksX4_here_0 14 rfl rfl)
theorem dX4_here_15 : decode cX4_here 15 = .ok (.getfield 22, 3) := dk_180 0 22 (dk_at dksX4_here_0 15 rfl rfl)
theorem dX4_here_18 : decode cX4_here 18 = .ok (.aload_n 0, 1) := dk_42 (dk_at dksX4_here_0 18 rfl rfl)
theorem dX4_here_19 : decode cX4_here 19 = .ok (.getfield 26, 3) := dk_180 0 26 (dk_at dksX4_here_0 19 rfl rfl)
theorem dX4_here_22 : decode cX4_here 22 = .ok (.invokevirtual 36, 3) := dk_182 0 36 (dk_at dksX4_here_1 0 rfl rfl)
theorem dX4_here_25 : decode cX4_here 25 = .ok (.goto 4, 3) := dk_167 0 4 (dk_at dksX4_here_1 3 rfl rfl)
theorem dX4_here_28 : decode cX4_here 28 = .ok (.iconst (-1), 1) := dk_2 (dk_at dksX4_here_1 6 rfl rfl)
theorem dX4_here_29 : decode cX4_here 29 = .ok (.ireturn, 1) := dk_172 (dk_at dksX4_here_1 7 rfl rfl)
abbrev cX4_number : ByteArray := prog_6_method_5_code
def yX4_number : MethodName := ⟨RX4, "number", "(II)V"⟩
def dkwX4_number_3 : List UInt8 := [167, 0, 4, 3, 182, 0, 52, 42, 180, 0, 15, 5, 42, 180, 0, 56, 104, 27, 96, 29, 79, 177]
abbrev dktX4_number_3 : List UInt8 := dkwX4_number_3 ++ []
def dkwX4_number_2 : List UInt8 := [89, 180, 0, 26, 4, 96, 181, 0, 26, 132, 4, 1, 167, 255, 203, 42, 21, 4, 158, 0, 7, 4]
abbrev dktX4_number_2 : List UInt8 := dkwX4_number_2 ++ dktX4_number_3
def dkwX4_number_1 : List UInt8 := [153, 0, 39, 16, 10, 29, 104, 42, 180, 0, 22, 42, 180, 0, 26, 182, 0, 36, 96, 16, 48, 100, 62, 42]
abbrev dktX4_number_1 : List UInt8 := dkwX4_number_1 ++ dktX4_number_2
def dkwX4_number_0 : List UInt8 := [3, 62, 3, 54, 4, 21, 4, 28, 162, 0, 53, 42, 182, 0, 40, 16, 48, 16, 57, 184, 0, 48]
abbrev dktX4_number_0 : List UInt8 := dkwX4_number_0 ++ dktX4_number_1
theorem dksX4_number_0 : cX4_number.data.toList.drop 0 = dktX4_number_0 := by decide +kernel
theorem dksX4_number_1 : cX4_number.data.toList.drop 22 = dktX4_number_1 := dk_seg dksX4_number_0 22 rfl rfl
theorem dksX4_number_2 : cX4_number.data.toList.drop 46 = dktX4_number_2 := dk_seg dksX4_number_1 24 rfl rfl
theorem dksX4_number_3 : cX4_number.data.toList.drop 68 = dktX4_number_3 := dk_seg dksX4_number_2 22 rfl rfl
theorem dX4_number_0 : decode cX4_number 0 = .ok (.iconst 0, 1) := dk_3 (dk_at dksX4_number_0 0 rfl rfl)
theorem dX4_number_1 : decode cX4_number 1 = .ok (.istore_n 3, 1) := dk_62 (dk_at dksX4_number_0 1 rfl rfl)
theorem dX4_number_2 : decode cX4_number 2 = .ok (.iconst 0, 1) := dk_3 (dk_at dksX4_number_0 2 rfl rfl)
theorem dX4_number_3 : decode cX4_number 3 = .ok (.istore 4, 2) := dk_54 4 (dk_at dksX4_number_0 3 rfl rfl)
theorem dX4_number_5 : decode cX4_number 5 = .ok (.iload 4, 2) := dk_21 4 (dk_at dksX4_number_0 5 rfl rfl)
theorem dX4_number_7 : decode cX4_number 7 = .ok (.iload_n 2, 1) := dk_28 (dk_at dksX4_number_0 7 rfl rfl)
theorem dX4_number_8 : decode cX4_number 8 = .ok (.if_icmp .ge 53, 3) := dk_162 0 53 (dk_at dksX4_number_0 8 rfl rfl)
theorem dX4_number_11 : decode cX4_number 11 = .ok (.aload_n 0, 1) := dk_42 (dk_at dksX4_number_0 11 rfl rfl)
theorem dX4_number_12 : decode cX4_number 12 = .ok (.invokevirtual 40, 3) := dk_182 0 40 (dk_at dksX4_number_0 12 rfl rfl)
theorem dX4_number_15 : decode cX4_number 15 = .ok (.bipush 48, 2) := dk_16 48 (dk_at dksX4_number_0 15 rfl rfl)
theorem dX4_number_17 : decode cX4_number 17 = .ok (.bipush 57, 2) := dk_16 57 (dk_at dksX4_number_0 17 rfl rfl)
theorem dX4_number_19 : decode cX4_number 19 = .ok (.invokestatic 48, 3) := dk_184 0 48 (dk_at dksX4_number_0 19 rfl rfl)
theorem dX4_number_22 : decode cX4_number 22 = .ok (.ifCond .eq 39, 3) := dk_153 0 39 (dk_at dksX4_number_1 0 rfl rfl)
theorem dX4_number_25 : decode cX4_number 25 = .ok (.bipush 10, 2) := dk_16 10 (dk_at dksX4_number_1 3 rfl rfl)
theorem dX4_number_27 : decode cX4_number 27 = .ok (.iload_n 3, 1) := dk_29 (dk_at dksX4_number_1 5 rfl rfl)
theorem dX4_number_28 : decode cX4_number 28 = .ok (.imul, 1) := dk_104 (dk_at dksX4_number_1 6 rfl rfl)
theorem dX4_number_29 : decode cX4_number 29 = .ok (.aload_n 0, 1) := dk_42 (dk_at dksX4_number_1 7 rfl rfl)
theorem dX4_number_30 : decode cX4_number 30 = .ok (.getfield 22, 3) := dk_180 0 22 (dk_at dksX4_number_1 8 rfl rfl)
theorem dX4_number_33 : decode cX4_number 33 = .ok (.aload_n 0, 1) := dk_42 (dk_at dksX4_number_1 11 rfl rfl)
theorem dX4_number_34 : decode cX4_number 34 = .ok (.getfield 26, 3) := dk_180 0 26 (dk_at dksX4_number_1 12 rfl rfl)
theorem dX4_number_37 : decode cX4_number 37 = .ok (.invokevirtual 36, 3) := dk_182 0 36 (dk_at dksX4_number_1 15 rfl rfl)
theorem dX4_number_40 : decode cX4_number 40 = .ok (.iadd, 1) := dk_96 (dk_at dksX4_number_1 18 rfl rfl)
theorem dX4_number_41 : decode cX4_number 41 = .ok (.bipush 48, 2) := dk_16 48 (dk_at dksX4_number_1 19 rfl rfl)
theorem dX4_number_43 : decode cX4_number 43 = .ok (.isub, 1) := dk_100 (dk_at dksX4_number_1 21 rfl rfl)
theorem dX4_number_44 : decode cX4_number 44 = .ok (.istore_n 3, 1) := dk_62 (dk_at dksX4_number_1 22 rfl rfl)
theorem dX4_number_45 : decode cX4_number 45 = .ok (.aload_n 0, 1) := dk_42 (dk_at dksX4_number_1 23 rfl rfl)
theorem dX4_number_46 : decode cX4_number 46 = .ok (.dup, 1) := dk_89 (dk_at dksX4_number_2 0 rfl rfl)
theorem dX4_number_47 : decode cX4_number 47 = .ok (.getfield 26, 3) := dk_180 0 26 (dk_at dksX4_number_2 1 rfl rfl)
theorem dX4_number_50 : decode cX4_number 50 = .ok (.iconst 1, 1) := dk_4 (dk_at dksX4_number_2 4 rfl rfl)
theorem dX4_number_51 : decode cX4_number 51 = .ok (.iadd, 1) := dk_96 (dk_at dksX4_number_2 5 rfl rfl)
theorem dX4_number_52 : decode cX4_number 52 = .ok (.putfield 26, 3) := dk_181 0 26 (dk_at dksX4_number_2 6 rfl rfl)
theorem dX4_number_55 : decode cX4_number 55 = .ok (.iinc 4 1, 3) := dk_132 4 1 (dk_at dksX4_number_2 9 rfl rfl)
theorem dX4_number_58 : decode cX4_number 58 = .ok (.goto (-53), 3) := dk_167 255 203 (dk_at dksX4_number_2 12 rfl rfl)
theorem dX4_number_61 : decode cX4_number 61 = .ok (.aload_n 0, 1) := dk_42 (dk_at dksX4_number_2 15 rfl rfl)
theorem dX4_number_62 : decode cX4_number 62 = .ok (.iload 4, 2) := dk_21 4 (dk_at dksX4_number_2 16 rfl rfl)
theorem dX4_number_64 : decode cX4_number 64 = .ok (.ifCond .le 7, 3) := dk_158 0 7 (dk_at dksX4_number_2 18 rfl rfl)
theorem dX4_number_67 : decode cX4_number 67 = .ok (.iconst 1, 1) := dk_4 (dk_at dksX4_number_2 21 rfl rfl)
theorem dX4_number_68 : decode cX4_number 68 = .ok (.goto 4, 3) := dk_167 0 4 (dk_at dksX4_number_3 0 rfl rfl)
theorem dX4_number_71 : decode cX4_number 71 = .ok (.iconst 0, 1) := dk_3 (dk_at dksX4_number_3 3 rfl rfl)
theorem dX4_number_72 : decode cX4_number 72 = .ok (.invokevirtual 52, 3) := dk_182 0 52 (dk_at dksX4_number_3 4 rfl rfl)
theorem dX4_number_75 : decode cX4_number 75 = .ok (.aload_n 0, 1) := dk_42 (dk_at dksX4_number_3 7 rfl rfl)
theorem dX4_number_76 : decode cX4_number 76 = .ok (.getfield 15, 3) := dk_180 0 15 (dk_at dksX4_number_3 8 rfl rfl)
theorem dX4_number_79 : decode cX4_number 79 = .ok (.iconst 2, 1) := dk_5 (dk_at dksX4_number_3 11 rfl rfl)
theorem dX4_number_80 : decode cX4_number 80 = .ok (.aload_n 0, 1) := dk_42 (dk_at dksX4_number_3 12 rfl rfl)
theorem dX4_number_81 : decode cX4_number 81 = .ok (.getfield 56, 3) := dk_180 0 56 (dk_at dksX4_number_3 13 rfl rfl)
theorem dX4_number_84 : decode cX4_number 84 = .ok (.imul, 1) := dk_104 (dk_at dksX4_number_3 16 rfl rfl)
theorem dX4_number_85 : decode cX4_number 85 = .ok (.iload_n 1, 1) := dk_27 (dk_at dksX4_number_3 17 rfl rfl)
theorem dX4_number_86 : decode cX4_number 86 = .ok (.iadd, 1) := dk_96 (dk_at dksX4_number_3 18 rfl rfl)
theorem dX4_number_87 : decode cX4_number 87 = .ok (.iload_n 3, 1) := dk_29 (dk_at dksX4_number_3 19 rfl rfl)
theorem dX4_number_88 : decode cX4_number 88 = .ok (.iastore, 1) := dk_79 (dk_at dksX4_number_3 20 rfl rfl)
theorem dX4_number_89 : decode cX4_number 89 = .ok (.return_, 1) := dk_177 (dk_at dksX4_number_3 21 rfl rfl)
abbrev cX4_must : ByteArray := prog_6_method_4_code
def yX4_must : MethodName := ⟨RX4, "must", "(Z)V"⟩
def dkwX4_must_0 : List UInt8 := [27, 154, 0, 15, 187, 0, 43, 89, 42, 180, 0, 26, 183, 0, 45, 191, 177]
abbrev dktX4_must_0 : List UInt8 := dkwX4_must_0 ++ []
theorem dksX4_must_0 : cX4_must.data.toList.drop 0 = dktX4_must_0 := by decide +kernel
theorem dX4_must_0 : decode cX4_must 0 = .ok (.iload_n 1, 1) := dk_27 (dk_at dksX4_must_0 0 rfl rfl)
theorem dX4_must_1 : decode cX4_must 1 = .ok (.ifCond .ne 15, 3) := dk_154 0 15 (dk_at dksX4_must_0 1 rfl rfl)
theorem dX4_must_4 : decode cX4_must 4 = .ok (.new 43, 3) := dk_187 0 43 (dk_at dksX4_must_0 4 rfl rfl)
theorem dX4_must_7 : decode cX4_must 7 = .ok (.dup, 1) := dk_89 (dk_at dksX4_must_0 7 rfl rfl)
theorem dX4_must_8 : decode cX4_must 8 = .ok (.aload_n 0, 1) := dk_42 (dk_at dksX4_must_0 8 rfl rfl)
theorem dX4_must_9 : decode cX4_must 9 = .ok (.getfield 26, 3) := dk_180 0 26 (dk_at dksX4_must_0 9 rfl rfl)
theorem dX4_must_12 : decode cX4_must 12 = .ok (.invokespecial 45, 3) := dk_183 0 45 (dk_at dksX4_must_0 12 rfl rfl)
theorem dX4_must_15 : decode cX4_must 15 = .ok (.athrow, 1) := dk_191 (dk_at dksX4_must_0 15 rfl rfl)
theorem dX4_must_16 : decode cX4_must 16 = .ok (.return_, 1) := dk_177 (dk_at dksX4_must_0 16 rfl rfl)
abbrev cX4_sign : ByteArray := prog_6_method_8_code
def yX4_sign : MethodName := ⟨RX4, "sign", "(Z)V"⟩
def dkwX4_sign_2 : List UInt8 := [180, 0, 22, 42, 180, 0, 26, 182, 0, 36, 85, 42, 89, 180, 0, 26, 4, 96, 181, 0, 26, 177]
abbrev dktX4_sign_2 : List UInt8 := dkwX4_sign_2 ++ []
def dkwX4_sign_1 : List UInt8 := [16, 46, 160, 0, 7, 4, 167, 0, 4, 3, 182, 0, 52, 42, 180, 0, 19, 42, 180, 0, 56, 42]
abbrev dktX4_sign_1 : List UInt8 := dkwX4_sign_1 ++ dktX4_sign_2
def dkwX4_sign_0 : List UInt8 := [42, 42, 182, 0, 40, 16, 97, 16, 108, 184, 0, 48, 154, 0, 16, 27, 153, 0, 16, 42, 182, 0, 40]
abbrev dktX4_sign_0 : List UInt8 := dkwX4_sign_0 ++ dktX4_sign_1
theorem dksX4_sign_0 : cX4_sign.data.toList.drop 0 = dktX4_sign_0 := by decide +kernel
theorem dksX4_sign_1 : cX4_sign.data.toList.drop 23 = dktX4_sign_1 := dk_seg dksX4_sign_0 23 rfl rfl
theorem dksX4_sign_2 : cX4_sign.data.toList.drop 45 = dktX4_sign_2 := dk_seg dksX4_sign_1 22 rfl rfl
theorem dX4_sign_0 : decode cX4_sign 0 = .ok (.aload_n 0, 1) := dk_42 (dk_at dksX4_sign_0 0 rfl rfl)
theorem dX4_sign_1 : decode cX4_sign 1 = .ok (.aload_n 0, 1) := dk_42 (dk_at dksX4_sign_0 1 rfl rfl)
theorem dX4_sign_2 : decode cX4_sign 2 = .ok (.invokevirtual 40, 3) := dk_182 0 40 (dk_at dksX4_sign_0 2 rfl rfl)
theorem dX4_sign_5 : decode cX4_sign 5 = .ok (.bipush 97, 2) := dk_16 97 (dk_at dksX4_sign_0 5 rfl rfl)
theorem dX4_sign_7 : decode cX4_sign 7 = .ok (.bipush 108, 2) := dk_16 108 (dk_at dksX4_sign_0 7 rfl rfl)
theorem dX4_sign_9 : decode cX4_sign 9 = .ok (.invokestatic 48, 3) := dk_184 0 48 (dk_at dksX4_sign_0 9 rfl rfl)
theorem dX4_sign_12 : decode cX4_sign 12 = .ok (.ifCond .ne 16, 3) := dk_154 0 16 (dk_at dksX4_sign_0 12 rfl rfl)
theorem dX4_sign_15 : decode cX4_sign 15 = .ok (.iload_n 1, 1) := dk_27 (dk_at dksX4_sign_0 15 rfl rfl)
theorem dX4_sign_16 : decode cX4_sign 16 = .ok (.ifCond .eq 16, 3) := dk_153 0 16 (dk_at dksX4_sign_0 16 rfl rfl)
theorem dX4_sign_19 : decode cX4_sign 19 = .ok (.aload_n 0, 1) := dk_42 (dk_at dksX4_sign_0 19 rfl rfl)
theorem dX4_sign_20 : decode cX4_sign 20 = .ok (.invokevirtual 40, 3) := dk_182 0 40 (dk_at dksX4_sign_0 20 rfl rfl)
theorem dX4_sign_23 : decode cX4_sign 23 = .ok (.bipush 46, 2) := dk_16 46 (dk_at dksX4_sign_1 0 rfl rfl)
theorem dX4_sign_25 : decode cX4_sign 25 = .ok (.if_icmp .ne 7, 3) := dk_160 0 7 (dk_at dksX4_sign_1 2 rfl rfl)
theorem dX4_sign_28 : decode cX4_sign 28 = .ok (.iconst 1, 1) := dk_4 (dk_at dksX4_sign_1 5 rfl rfl)
theorem dX4_sign_29 : decode cX4_sign 29 = .ok (.goto 4, 3) := dk_167 0 4 (dk_at dksX4_sign_1 6 rfl rfl)
theorem dX4_sign_32 : decode cX4_sign 32 = .ok (.iconst 0, 1) := dk_3 (dk_at dksX4_sign_1 9 rfl rfl)
theorem dX4_sign_33 : decode cX4_sign 33 = .ok (.invokevirtual 52, 3) := dk_182 0 52 (dk_at dksX4_sign_1 10 rfl rfl)
theorem dX4_sign_36 : decode cX4_sign 36 = .ok (.aload_n 0, 1) := dk_42 (dk_at dksX4_sign_1 13 rfl rfl)
theorem dX4_sign_37 : decode cX4_sign 37 = .ok (.getfield 19, 3) := dk_180 0 19 (dk_at dksX4_sign_1 14 rfl rfl)
theorem dX4_sign_40 : decode cX4_sign 40 = .ok (.aload_n 0, 1) := dk_42 (dk_at dksX4_sign_1 17 rfl rfl)
theorem dX4_sign_41 : decode cX4_sign 41 = .ok (.getfield 56, 3) := dk_180 0 56 (dk_at dksX4_sign_1 18 rfl rfl)
theorem dX4_sign_44 : decode cX4_sign 44 = .ok (.aload_n 0, 1) := dk_42 (dk_at dksX4_sign_1 21 rfl rfl)
theorem dX4_sign_45 : decode cX4_sign 45 = .ok (.getfield 22, 3) := dk_180 0 22 (dk_at dksX4_sign_2 0 rfl rfl)
theorem dX4_sign_48 : decode cX4_sign 48 = .ok (.aload_n 0, 1) := dk_42 (dk_at dksX4_sign_2 3 rfl rfl)
theorem dX4_sign_49 : decode cX4_sign 49 = .ok (.getfield 26, 3) := dk_180 0 26 (dk_at dksX4_sign_2 4 rfl rfl)
theorem dX4_sign_52 : decode cX4_sign 52 = .ok (.invokevirtual 36, 3) := dk_182 0 36 (dk_at dksX4_sign_2 7 rfl rfl)
theorem dX4_sign_55 : decode cX4_sign 55 = .ok (.castore, 1) := dk_85 (dk_at dksX4_sign_2 10 rfl rfl)
theorem dX4_sign_56 : decode cX4_sign 56 = .ok (.aload_n 0, 1) := dk_42 (dk_at dksX4_sign_2 11 rfl rfl)
theorem dX4_sign_57 : decode cX4_sign 57 = .ok (.dup, 1) := dk_89 (dk_at dksX4_sign_2 12 rfl rfl)
theorem dX4_sign_58 : decode cX4_sign 58 = .ok (.getfield 26, 3) := dk_180 0 26 (dk_at dksX4_sign_2 13 rfl rfl)
theorem dX4_sign_61 : decode cX4_sign 61 = .ok (.iconst 1, 1) := dk_4 (dk_at dksX4_sign_2 16 rfl rfl)
theorem dX4_sign_62 : decode cX4_sign 62 = .ok (.iadd, 1) := dk_96 (dk_at dksX4_sign_2 17 rfl rfl)
theorem dX4_sign_63 : decode cX4_sign 63 = .ok (.putfield 26, 3) := dk_181 0 26 (dk_at dksX4_sign_2 18 rfl rfl)
theorem dX4_sign_66 : decode cX4_sign 66 = .ok (.return_, 1) := dk_177 (dk_at dksX4_sign_2 21 rfl rfl)
abbrev cX4_isRight : ByteArray := prog_6_method_11_code
def yX4_isRight : MethodName := ⟨RX4, "isRight", "(LVowelTorus$Puzzle;I)Z"⟩
def dkwX4_isRight_4 : List UInt8 := [29, 21, 4, 184, 0, 96, 172]
abbrev dktX4_isRight_4 : List UInt8 := dkwX4_isRight_4 ++ []
def dkwX4_isRight_3 : List UInt8 := [4, 167, 0, 4, 3, 172, 43, 29, 182, 0, 85, 172, 43, 29, 182, 0, 90, 172, 43, 29, 182, 0, 93, 172]
abbrev dktX4_isRight_3 : List UInt8 := dkwX4_isRight_3 ++ dktX4_isRight_4
def dkwX4_isRight_2 : List UInt8 := [29, 21, 4, 184, 0, 81, 172, 43, 29, 182, 0, 85, 153, 0, 16, 43, 21, 4, 182, 0, 85, 153, 0, 7]
abbrev dktX4_isRight_2 : List UInt8 := dkwX4_isRight_2 ++ dktX4_isRight_3
def dkwX4_isRight_1 : List UInt8 := [171, 0, 0, 0, 0, 0, 107, 0, 0, 0, 6, 0, 0, 0, 98, 0, 0, 0, 59, 0, 0, 0, 103, 0, 0, 0, 89, 0, 0, 0, 112, 0, 0, 0, 89, 0, 0, 0, 115, 0, 0, 0, 66, 0, 0, 0, 116, 0, 0, 0, 95, 0, 0, 0, 120, 0, 0, 0, 101]
abbrev dktX4_isRight_1 : List UInt8 := dkwX4_isRight_1 ++ dktX4_isRight_2
def dkwX4_isRight_0 : List UInt8 := [42, 28, 3, 182, 0, 77, 62, 42, 28, 4, 182, 0, 77, 54, 4, 42, 180, 0, 9, 28, 52]
abbrev dktX4_isRight_0 : List UInt8 := dkwX4_isRight_0 ++ dktX4_isRight_1
theorem dksX4_isRight_0 : cX4_isRight.data.toList.drop 0 = dktX4_isRight_0 := by decide +kernel
theorem dksX4_isRight_1 : cX4_isRight.data.toList.drop 21 = dktX4_isRight_1 := dk_seg dksX4_isRight_0 21 rfl rfl
theorem dksX4_isRight_2 : cX4_isRight.data.toList.drop 80 = dktX4_isRight_2 := dk_seg dksX4_isRight_1 59 rfl rfl
theorem dksX4_isRight_3 : cX4_isRight.data.toList.drop 104 = dktX4_isRight_3 := dk_seg dksX4_isRight_2 24 rfl rfl
theorem dksX4_isRight_4 : cX4_isRight.data.toList.drop 128 = dktX4_isRight_4 := dk_seg dksX4_isRight_3 24 rfl rfl
theorem dX4_isRight_0 : decode cX4_isRight 0 = .ok (.aload_n 0, 1) := dk_42 (dk_at dksX4_isRight_0 0 rfl rfl)
theorem dX4_isRight_1 : decode cX4_isRight 1 = .ok (.iload_n 2, 1) := dk_28 (dk_at dksX4_isRight_0 1 rfl rfl)
theorem dX4_isRight_2 : decode cX4_isRight 2 = .ok (.iconst 0, 1) := dk_3 (dk_at dksX4_isRight_0 2 rfl rfl)
theorem dX4_isRight_3 : decode cX4_isRight 3 = .ok (.invokevirtual 77, 3) := dk_182 0 77 (dk_at dksX4_isRight_0 3 rfl rfl)
theorem dX4_isRight_6 : decode cX4_isRight 6 = .ok (.istore_n 3, 1) := dk_62 (dk_at dksX4_isRight_0 6 rfl rfl)
theorem dX4_isRight_7 : decode cX4_isRight 7 = .ok (.aload_n 0, 1) := dk_42 (dk_at dksX4_isRight_0 7 rfl rfl)
theorem dX4_isRight_8 : decode cX4_isRight 8 = .ok (.iload_n 2, 1) := dk_28 (dk_at dksX4_isRight_0 8 rfl rfl)
theorem dX4_isRight_9 : decode cX4_isRight 9 = .ok (.iconst 1, 1) := dk_4 (dk_at dksX4_isRight_0 9 rfl rfl)
theorem dX4_isRight_10 : decode cX4_isRight 10 = .ok (.invokevirtual 77, 3) := dk_182 0 77 (dk_at dksX4_isRight_0 10 rfl rfl)
theorem dX4_isRight_13 : decode cX4_isRight 13 = .ok (.istore 4, 2) := dk_54 4 (dk_at dksX4_isRight_0 13 rfl rfl)
theorem dX4_isRight_15 : decode cX4_isRight 15 = .ok (.aload_n 0, 1) := dk_42 (dk_at dksX4_isRight_0 15 rfl rfl)
theorem dX4_isRight_16 : decode cX4_isRight 16 = .ok (.getfield 9, 3) := dk_180 0 9 (dk_at dksX4_isRight_0 16 rfl rfl)
theorem dX4_isRight_19 : decode cX4_isRight 19 = .ok (.iload_n 2, 1) := dk_28 (dk_at dksX4_isRight_0 19 rfl rfl)
theorem dX4_isRight_20 : decode cX4_isRight 20 = .ok (.caload, 1) := dk_52 (dk_at dksX4_isRight_0 20 rfl rfl)
theorem dX4_isRight_21 : decode cX4_isRight 21 = .ok (.lookupswitch 107 #[(98, 59), (103, 89), (112, 89), (115, 66), (116, 95), (120, 101)], 59) := by decide +kernel
theorem dX4_isRight_80 : decode cX4_isRight 80 = .ok (.iload_n 3, 1) := dk_29 (dk_at dksX4_isRight_2 0 rfl rfl)
theorem dX4_isRight_81 : decode cX4_isRight 81 = .ok (.iload 4, 2) := dk_21 4 (dk_at dksX4_isRight_2 1 rfl rfl)
theorem dX4_isRight_83 : decode cX4_isRight 83 = .ok (.invokestatic 81, 3) := dk_184 0 81 (dk_at dksX4_isRight_2 3 rfl rfl)
theorem dX4_isRight_86 : decode cX4_isRight 86 = .ok (.ireturn, 1) := dk_172 (dk_at dksX4_isRight_2 6 rfl rfl)
theorem dX4_isRight_87 : decode cX4_isRight 87 = .ok (.aload_n 1, 1) := dk_43 (dk_at dksX4_isRight_2 7 rfl rfl)
theorem dX4_isRight_88 : decode cX4_isRight 88 = .ok (.iload_n 3, 1) := dk_29 (dk_at dksX4_isRight_2 8 rfl rfl)
theorem dX4_isRight_89 : decode cX4_isRight 89 = .ok (.invokevirtual 85, 3) := dk_182 0 85 (dk_at dksX4_isRight_2 9 rfl rfl)
theorem dX4_isRight_92 : decode cX4_isRight 92 = .ok (.ifCond .eq 16, 3) := dk_153 0 16 (dk_at dksX4_isRight_2 12 rfl rfl)
theorem dX4_isRight_95 : decode cX4_isRight 95 = .ok (.aload_n 1, 1) := dk_43 (dk_at dksX4_isRight_2 15 rfl rfl)
theorem dX4_isRight_96 : decode cX4_isRight 96 = .ok (.iload 4, 2) := dk_21 4 (dk_at dksX4_isRight_2 16 rfl rfl)
theorem dX4_isRight_98 : decode cX4_isRight 98 = .ok (.invokevirtual 85, 3) := dk_182 0 85 (dk_at dksX4_isRight_2 18 rfl rfl)
theorem dX4_isRight_101 : decode cX4_isRight 101 = .ok (.ifCond .eq 7, 3) := dk_153 0 7 (dk_at dksX4_isRight_2 21 rfl rfl)
theorem dX4_isRight_104 : decode cX4_isRight 104 = .ok (.iconst 1, 1) := dk_4 (dk_at dksX4_isRight_3 0 rfl rfl)
theorem dX4_isRight_105 : decode cX4_isRight 105 = .ok (.goto 4, 3) := dk_167 0 4 (dk_at dksX4_isRight_3 1 rfl rfl)
theorem dX4_isRight_108 : decode cX4_isRight 108 = .ok (.iconst 0, 1) := dk_3 (dk_at dksX4_isRight_3 4 rfl rfl)
theorem dX4_isRight_109 : decode cX4_isRight 109 = .ok (.ireturn, 1) := dk_172 (dk_at dksX4_isRight_3 5 rfl rfl)
theorem dX4_isRight_110 : decode cX4_isRight 110 = .ok (.aload_n 1, 1) := dk_43 (dk_at dksX4_isRight_3 6 rfl rfl)
theorem dX4_isRight_111 : decode cX4_isRight 111 = .ok (.iload_n 3, 1) := dk_29 (dk_at dksX4_isRight_3 7 rfl rfl)
theorem dX4_isRight_112 : decode cX4_isRight 112 = .ok (.invokevirtual 85, 3) := dk_182 0 85 (dk_at dksX4_isRight_3 8 rfl rfl)
theorem dX4_isRight_115 : decode cX4_isRight 115 = .ok (.ireturn, 1) := dk_172 (dk_at dksX4_isRight_3 11 rfl rfl)
theorem dX4_isRight_116 : decode cX4_isRight 116 = .ok (.aload_n 1, 1) := dk_43 (dk_at dksX4_isRight_3 12 rfl rfl)
theorem dX4_isRight_117 : decode cX4_isRight 117 = .ok (.iload_n 3, 1) := dk_29 (dk_at dksX4_isRight_3 13 rfl rfl)
theorem dX4_isRight_118 : decode cX4_isRight 118 = .ok (.invokevirtual 90, 3) := dk_182 0 90 (dk_at dksX4_isRight_3 14 rfl rfl)
theorem dX4_isRight_121 : decode cX4_isRight 121 = .ok (.ireturn, 1) := dk_172 (dk_at dksX4_isRight_3 17 rfl rfl)
theorem dX4_isRight_122 : decode cX4_isRight 122 = .ok (.aload_n 1, 1) := dk_43 (dk_at dksX4_isRight_3 18 rfl rfl)
theorem dX4_isRight_123 : decode cX4_isRight 123 = .ok (.iload_n 3, 1) := dk_29 (dk_at dksX4_isRight_3 19 rfl rfl)
theorem dX4_isRight_124 : decode cX4_isRight 124 = .ok (.invokevirtual 93, 3) := dk_182 0 93 (dk_at dksX4_isRight_3 20 rfl rfl)
theorem dX4_isRight_127 : decode cX4_isRight 127 = .ok (.ireturn, 1) := dk_172 (dk_at dksX4_isRight_3 23 rfl rfl)
theorem dX4_isRight_128 : decode cX4_isRight 128 = .ok (.iload_n 3, 1) := dk_29 (dk_at dksX4_isRight_4 0 rfl rfl)
theorem dX4_isRight_129 : decode cX4_isRight 129 = .ok (.iload 4, 2) := dk_21 4 (dk_at dksX4_isRight_4 1 rfl rfl)
theorem dX4_isRight_131 : decode cX4_isRight 131 = .ok (.invokestatic 96, 3) := dk_184 0 96 (dk_at dksX4_isRight_4 3 rfl rfl)
theorem dX4_isRight_134 : decode cX4_isRight 134 = .ok (.ireturn, 1) := dk_172 (dk_at dksX4_isRight_4 6 rfl rfl)
abbrev cX4_told : ByteArray := prog_6_method_6_code
def yX4_told : MethodName := ⟨RX4, "told", "(II)I"⟩
def dkwX4_told_0 : List UInt8 := [42, 180, 0, 15, 5, 27, 104, 28, 96, 46, 172]
abbrev dktX4_told_0 : List UInt8 := dkwX4_told_0 ++ []
theorem dksX4_told_0 : cX4_told.data.toList.drop 0 = dktX4_told_0 := by decide +kernel
theorem dX4_told_0 : decode cX4_told 0 = .ok (.aload_n 0, 1) := dk_42 (dk_at dksX4_told_0 0 rfl rfl)
theorem dX4_told_1 : decode cX4_told 1 = .ok (.getfield 15, 3) := dk_180 0 15 (dk_at dksX4_told_0 1 rfl rfl)
theorem dX4_told_4 : decode cX4_told 4 = .ok (.iconst 2, 1) := dk_5 (dk_at dksX4_told_0 4 rfl rfl)
theorem dX4_told_5 : decode cX4_told 5 = .ok (.iload_n 1, 1) := dk_27 (dk_at dksX4_told_0 5 rfl rfl)
theorem dX4_told_6 : decode cX4_told 6 = .ok (.imul, 1) := dk_104 (dk_at dksX4_told_0 6 rfl rfl)
theorem dX4_told_7 : decode cX4_told 7 = .ok (.iload_n 2, 1) := dk_28 (dk_at dksX4_told_0 7 rfl rfl)
theorem dX4_told_8 : decode cX4_told 8 = .ok (.iadd, 1) := dk_96 (dk_at dksX4_told_0 8 rfl rfl)
theorem dX4_told_9 : decode cX4_told 9 = .ok (.iaload, 1) := dk_46 (dk_at dksX4_told_0 9 rfl rfl)
theorem dX4_told_10 : decode cX4_told 10 = .ok (.ireturn, 1) := dk_172 (dk_at dksX4_told_0 10 rfl rfl)
abbrev cX4_does : ByteArray := prog_6_method_12_code
def yX4_does : MethodName := ⟨RX4, "does", "(LVowelTorus$Puzzle;I)I"⟩
def dkwX4_does_4 : List UInt8 := [182, 0, 116, 153, 0, 7, 4, 167, 0, 4, 3, 172, 43, 29, 21, 4, 182, 0, 119, 172]
abbrev dktX4_does_4 : List UInt8 := dkwX4_does_4 ++ []
def dkwX4_does_3 : List UInt8 := [182, 0, 105, 172, 43, 29, 42, 180, 0, 19, 28, 52, 182, 0, 109, 172, 43, 29, 182, 0, 112, 172, 43, 29]
abbrev dktX4_does_3 : List UInt8 := dkwX4_does_3 ++ dktX4_does_4
def dkwX4_does_2 : List UInt8 := [43, 29, 21, 4, 182, 0, 99, 172, 43, 29, 21, 4, 182, 0, 102, 172, 43, 29, 42, 180, 0, 19, 28, 52]
abbrev dktX4_does_2 : List UInt8 := dkwX4_does_2 ++ dktX4_does_3
def dkwX4_does_1 : List UInt8 := [171, 0, 0, 0, 0, 0, 119, 0, 0, 0, 6, 0, 0, 0, 98, 0, 0, 0, 59, 0, 0, 0, 103, 0, 0, 0, 87, 0, 0, 0, 112, 0, 0, 0, 75, 0, 0, 0, 115, 0, 0, 0, 67, 0, 0, 0, 116, 0, 0, 0, 99, 0, 0, 0, 120, 0, 0, 0, 105]
abbrev dktX4_does_1 : List UInt8 := dkwX4_does_1 ++ dktX4_does_2
def dkwX4_does_0 : List UInt8 := [42, 28, 3, 182, 0, 77, 62, 42, 28, 4, 182, 0, 77, 54, 4, 42, 180, 0, 9, 28, 52]
abbrev dktX4_does_0 : List UInt8 := dkwX4_does_0 ++ dktX4_does_1
theorem dksX4_does_0 : cX4_does.data.toList.drop 0 = dktX4_does_0 := by decide +kernel
theorem dksX4_does_1 : cX4_does.data.toList.drop 21 = dktX4_does_1 := dk_seg dksX4_does_0 21 rfl rfl
theorem dksX4_does_2 : cX4_does.data.toList.drop 80 = dktX4_does_2 := dk_seg dksX4_does_1 59 rfl rfl
theorem dksX4_does_3 : cX4_does.data.toList.drop 104 = dktX4_does_3 := dk_seg dksX4_does_2 24 rfl rfl
theorem dksX4_does_4 : cX4_does.data.toList.drop 128 = dktX4_does_4 := dk_seg dksX4_does_3 24 rfl rfl
theorem dX4_does_0 : decode cX4_does 0 = .ok (.aload_n 0, 1) := dk_42 (dk_at dksX4_does_0 0 rfl rfl)
theorem dX4_does_1 : decode cX4_does 1 = .ok (.iload_n 2, 1) := dk_28 (dk_at dksX4_does_0 1 rfl rfl)
theorem dX4_does_2 : decode cX4_does 2 = .ok (.iconst 0, 1) := dk_3 (dk_at dksX4_does_0 2 rfl rfl)
theorem dX4_does_3 : decode cX4_does 3 = .ok (.invokevirtual 77, 3) := dk_182 0 77 (dk_at dksX4_does_0 3 rfl rfl)
theorem dX4_does_6 : decode cX4_does 6 = .ok (.istore_n 3, 1) := dk_62 (dk_at dksX4_does_0 6 rfl rfl)
theorem dX4_does_7 : decode cX4_does 7 = .ok (.aload_n 0, 1) := dk_42 (dk_at dksX4_does_0 7 rfl rfl)
theorem dX4_does_8 : decode cX4_does 8 = .ok (.iload_n 2, 1) := dk_28 (dk_at dksX4_does_0 8 rfl rfl)
theorem dX4_does_9 : decode cX4_does 9 = .ok (.iconst 1, 1) := dk_4 (dk_at dksX4_does_0 9 rfl rfl)
theorem dX4_does_10 : decode cX4_does 10 = .ok (.invokevirtual 77, 3) := dk_182 0 77 (dk_at dksX4_does_0 10 rfl rfl)
theorem dX4_does_13 : decode cX4_does 13 = .ok (.istore 4, 2) := dk_54 4 (dk_at dksX4_does_0 13 rfl rfl)
theorem dX4_does_15 : decode cX4_does 15 = .ok (.aload_n 0, 1) := dk_42 (dk_at dksX4_does_0 15 rfl rfl)
theorem dX4_does_16 : decode cX4_does 16 = .ok (.getfield 9, 3) := dk_180 0 9 (dk_at dksX4_does_0 16 rfl rfl)
theorem dX4_does_19 : decode cX4_does 19 = .ok (.iload_n 2, 1) := dk_28 (dk_at dksX4_does_0 19 rfl rfl)
theorem dX4_does_20 : decode cX4_does 20 = .ok (.caload, 1) := dk_52 (dk_at dksX4_does_0 20 rfl rfl)
theorem dX4_does_21 : decode cX4_does 21 = .ok (.lookupswitch 119 #[(98, 59), (103, 87), (112, 75), (115, 67), (116, 99), (120, 105)], 59) := by decide +kernel
theorem dX4_does_80 : decode cX4_does 80 = .ok (.aload_n 1, 1) := dk_43 (dk_at dksX4_does_2 0 rfl rfl)
theorem dX4_does_81 : decode cX4_does 81 = .ok (.iload_n 3, 1) := dk_29 (dk_at dksX4_does_2 1 rfl rfl)
theorem dX4_does_82 : decode cX4_does 82 = .ok (.iload 4, 2) := dk_21 4 (dk_at dksX4_does_2 2 rfl rfl)
theorem dX4_does_84 : decode cX4_does 84 = .ok (.invokevirtual 99, 3) := dk_182 0 99 (dk_at dksX4_does_2 4 rfl rfl)
theorem dX4_does_87 : decode cX4_does 87 = .ok (.ireturn, 1) := dk_172 (dk_at dksX4_does_2 7 rfl rfl)
theorem dX4_does_88 : decode cX4_does 88 = .ok (.aload_n 1, 1) := dk_43 (dk_at dksX4_does_2 8 rfl rfl)
theorem dX4_does_89 : decode cX4_does 89 = .ok (.iload_n 3, 1) := dk_29 (dk_at dksX4_does_2 9 rfl rfl)
theorem dX4_does_90 : decode cX4_does 90 = .ok (.iload 4, 2) := dk_21 4 (dk_at dksX4_does_2 10 rfl rfl)
theorem dX4_does_92 : decode cX4_does 92 = .ok (.invokevirtual 102, 3) := dk_182 0 102 (dk_at dksX4_does_2 12 rfl rfl)
theorem dX4_does_95 : decode cX4_does 95 = .ok (.ireturn, 1) := dk_172 (dk_at dksX4_does_2 15 rfl rfl)
theorem dX4_does_96 : decode cX4_does 96 = .ok (.aload_n 1, 1) := dk_43 (dk_at dksX4_does_2 16 rfl rfl)
theorem dX4_does_97 : decode cX4_does 97 = .ok (.iload_n 3, 1) := dk_29 (dk_at dksX4_does_2 17 rfl rfl)
theorem dX4_does_98 : decode cX4_does 98 = .ok (.aload_n 0, 1) := dk_42 (dk_at dksX4_does_2 18 rfl rfl)
theorem dX4_does_99 : decode cX4_does 99 = .ok (.getfield 19, 3) := dk_180 0 19 (dk_at dksX4_does_2 19 rfl rfl)
theorem dX4_does_102 : decode cX4_does 102 = .ok (.iload_n 2, 1) := dk_28 (dk_at dksX4_does_2 22 rfl rfl)
theorem dX4_does_103 : decode cX4_does 103 = .ok (.caload, 1) := dk_52 (dk_at dksX4_does_2 23 rfl rfl)
theorem dX4_does_104 : decode cX4_does 104 = .ok (.invokevirtual 105, 3) := dk_182 0 105 (dk_at dksX4_does_3 0 rfl rfl)
theorem dX4_does_107 : decode cX4_does 107 = .ok (.ireturn, 1) := dk_172 (dk_at dksX4_does_3 3 rfl rfl)
theorem dX4_does_108 : decode cX4_does 108 = .ok (.aload_n 1, 1) := dk_43 (dk_at dksX4_does_3 4 rfl rfl)
theorem dX4_does_109 : decode cX4_does 109 = .ok (.iload_n 3, 1) := dk_29 (dk_at dksX4_does_3 5 rfl rfl)
theorem dX4_does_110 : decode cX4_does 110 = .ok (.aload_n 0, 1) := dk_42 (dk_at dksX4_does_3 6 rfl rfl)
theorem dX4_does_111 : decode cX4_does 111 = .ok (.getfield 19, 3) := dk_180 0 19 (dk_at dksX4_does_3 7 rfl rfl)
theorem dX4_does_114 : decode cX4_does 114 = .ok (.iload_n 2, 1) := dk_28 (dk_at dksX4_does_3 10 rfl rfl)
theorem dX4_does_115 : decode cX4_does 115 = .ok (.caload, 1) := dk_52 (dk_at dksX4_does_3 11 rfl rfl)
theorem dX4_does_116 : decode cX4_does 116 = .ok (.invokevirtual 109, 3) := dk_182 0 109 (dk_at dksX4_does_3 12 rfl rfl)
theorem dX4_does_119 : decode cX4_does 119 = .ok (.ireturn, 1) := dk_172 (dk_at dksX4_does_3 15 rfl rfl)
theorem dX4_does_120 : decode cX4_does 120 = .ok (.aload_n 1, 1) := dk_43 (dk_at dksX4_does_3 16 rfl rfl)
theorem dX4_does_121 : decode cX4_does 121 = .ok (.iload_n 3, 1) := dk_29 (dk_at dksX4_does_3 17 rfl rfl)
theorem dX4_does_122 : decode cX4_does 122 = .ok (.invokevirtual 112, 3) := dk_182 0 112 (dk_at dksX4_does_3 18 rfl rfl)
theorem dX4_does_125 : decode cX4_does 125 = .ok (.ireturn, 1) := dk_172 (dk_at dksX4_does_3 21 rfl rfl)
theorem dX4_does_126 : decode cX4_does 126 = .ok (.aload_n 1, 1) := dk_43 (dk_at dksX4_does_3 22 rfl rfl)
theorem dX4_does_127 : decode cX4_does 127 = .ok (.iload_n 3, 1) := dk_29 (dk_at dksX4_does_3 23 rfl rfl)
theorem dX4_does_128 : decode cX4_does 128 = .ok (.invokevirtual 116, 3) := dk_182 0 116 (dk_at dksX4_does_4 0 rfl rfl)
theorem dX4_does_131 : decode cX4_does 131 = .ok (.ifCond .eq 7, 3) := dk_153 0 7 (dk_at dksX4_does_4 3 rfl rfl)
theorem dX4_does_134 : decode cX4_does 134 = .ok (.iconst 1, 1) := dk_4 (dk_at dksX4_does_4 6 rfl rfl)
theorem dX4_does_135 : decode cX4_does 135 = .ok (.goto 4, 3) := dk_167 0 4 (dk_at dksX4_does_4 7 rfl rfl)
theorem dX4_does_138 : decode cX4_does 138 = .ok (.iconst 0, 1) := dk_3 (dk_at dksX4_does_4 10 rfl rfl)
theorem dX4_does_139 : decode cX4_does 139 = .ok (.ireturn, 1) := dk_172 (dk_at dksX4_does_4 11 rfl rfl)
theorem dX4_does_140 : decode cX4_does 140 = .ok (.aload_n 1, 1) := dk_43 (dk_at dksX4_does_4 12 rfl rfl)
theorem dX4_does_141 : decode cX4_does 141 = .ok (.iload_n 3, 1) := dk_29 (dk_at dksX4_does_4 13 rfl rfl)
theorem dX4_does_142 : decode cX4_does 142 = .ok (.iload 4, 2) := dk_21 4 (dk_at dksX4_does_4 14 rfl rfl)
theorem dX4_does_144 : decode cX4_does 144 = .ok (.invokevirtual 119, 3) := dk_182 0 119 (dk_at dksX4_does_4 16 rfl rfl)
theorem dX4_does_147 : decode cX4_does 147 = .ok (.ireturn, 1) := dk_172 (dk_at dksX4_does_4 19 rfl rfl)
theorem q97 : (Jvm.Cond.initialized "VowelTorus$Reader") ∈ lw_all := lw_g (lw_at lw_m1 10 rfl) rfl
theorem q268 : (Jvm.Cond.instantiable "VowelTorus$Reader" (6 : Nat)) ∈ lw_all := lw_g (lw_at lw_m1 181 rfl) rfl
theorem q270 : (Jvm.Cond.instanceMethod ({ cls := "VowelTorus$Reader", name := "<init>", desc := "(Ljava/lang/StringBuilder;)V" } : Jvm.MethodName)) ∈ lw_all := lw_g (lw_at lw_m1 183 rfl) rfl
theorem q271 : (Jvm.Cond.code ({ cls := "VowelTorus$Reader", name := "<init>", desc := "(Ljava/lang/StringBuilder;)V" } : Jvm.MethodName) prog_6_method_1_code (2 : Nat) (Option.none : Option Jvm.ClassFile.FieldType)) ∈ lw_all := lw_g (lw_at lw_m1 184 rfl) rfl
theorem q272 : (Jvm.Cond.methodLink "VowelTorus$Reader" (3 : Nat) ({ cls := "java/lang/Object", name := "<init>", desc := "()V" } : Jvm.MethodName)) ∈ lw_all := lw_g (lw_at lw_m1 185 rfl) rfl
theorem q273 : (Jvm.Cond.fieldLink "VowelTorus$Reader" (22 : Nat) "VowelTorus$Reader" "text" "Ljava/lang/StringBuilder;") ∈ lw_all := lw_g (lw_at lw_m1 186 rfl) rfl
theorem q274 : (Jvm.Cond.fieldLink "VowelTorus$Reader" (26 : Nat) "VowelTorus$Reader" "at" "I") ∈ lw_all := lw_g (lw_at lw_m1 187 rfl) rfl
theorem q275 : (Jvm.Cond.fieldLink "VowelTorus$Reader" (56 : Nat) "VowelTorus$Reader" "many" "I") ∈ lw_all := lw_g (lw_at lw_m1 188 rfl) rfl
theorem q277 : (Jvm.Cond.fieldLink "VowelTorus$Reader" (9 : Nat) "VowelTorus$Reader" "letters" "[C") ∈ lw_all := lw_g (lw_at lw_m1 190 rfl) rfl
theorem q278 : (Jvm.Cond.fieldLink "VowelTorus$Reader" (15 : Nat) "VowelTorus$Reader" "numbers" "[I") ∈ lw_all := lw_g (lw_at lw_m1 191 rfl) rfl
theorem q279 : (Jvm.Cond.fieldLink "VowelTorus$Reader" (19 : Nat) "VowelTorus$Reader" "signs" "[C") ∈ lw_all := lw_g (lw_at lw_m1 192 rfl) rfl
theorem q280 : (Jvm.Cond.laysFinal "VowelTorus$Reader" "VowelTorus$Reader" "text" "Ljava/lang/StringBuilder;") ∈ lw_all := lw_g (lw_at lw_m1 193 rfl) rfl
theorem q281 : (Jvm.Cond.soleField "VowelTorus$Reader" "text") ∈ lw_all := lw_g (lw_at lw_m1 194 rfl) rfl
theorem q282 : (Jvm.Cond.lays "VowelTorus$Reader" "VowelTorus$Reader" "at" "I") ∈ lw_all := lw_g (lw_at lw_m1 195 rfl) rfl
theorem q283 : (Jvm.Cond.soleField "VowelTorus$Reader" "at") ∈ lw_all := lw_g (lw_at lw_m1 196 rfl) rfl
theorem q284 : (Jvm.Cond.lays "VowelTorus$Reader" "VowelTorus$Reader" "many" "I") ∈ lw_all := lw_g (lw_at lw_m1 197 rfl) rfl
theorem q285 : (Jvm.Cond.soleField "VowelTorus$Reader" "many") ∈ lw_all := lw_g (lw_at lw_m1 198 rfl) rfl
theorem q286 : (Jvm.Cond.laysFinal "VowelTorus$Reader" "VowelTorus$Reader" "letters" "[C") ∈ lw_all := lw_g (lw_at lw_m1 199 rfl) rfl
theorem q287 : (Jvm.Cond.soleField "VowelTorus$Reader" "letters") ∈ lw_all := lw_g (lw_at lw_m1 200 rfl) rfl
theorem q288 : (Jvm.Cond.laysFinal "VowelTorus$Reader" "VowelTorus$Reader" "numbers" "[I") ∈ lw_all := lw_g (lw_at lw_m1 201 rfl) rfl
theorem q289 : (Jvm.Cond.soleField "VowelTorus$Reader" "numbers") ∈ lw_all := lw_g (lw_at lw_m1 202 rfl) rfl
theorem q290 : (Jvm.Cond.laysFinal "VowelTorus$Reader" "VowelTorus$Reader" "signs" "[C") ∈ lw_all := lw_g (lw_at lw_m1 203 rfl) rfl
theorem q291 : (Jvm.Cond.soleField "VowelTorus$Reader" "signs") ∈ lw_all := lw_g (lw_at lw_m1 204 rfl) rfl
theorem q292 : (Jvm.Cond.superclass "VowelTorus$Reader" "java/lang/Object") ∈ lw_all := lw_g (lw_at lw_m1 205 rfl) rfl
theorem q398 : (Jvm.Cond.selects "VowelTorus$Reader" ({ cls := "java/lang/Object", name := "getClass", desc := "()Ljava/lang/Class;" } : Jvm.MethodName) ({ cls := "java/lang/Object", name := "getClass", desc := "()Ljava/lang/Class;" } : Jvm.MethodName)) ∈ lw_all := lw_g (lw_at lw_m2 71 rfl) rfl
theorem q1551 : (Jvm.Cond.instanceMethod ({ cls := "VowelTorus$Reader", name := "read", desc := "()V" } : Jvm.MethodName)) ∈ lw_all := lw_g (lw_at lw_m7 24 rfl) rfl
theorem q1552 : (Jvm.Cond.selects "VowelTorus$Reader" ({ cls := "VowelTorus$Reader", name := "read", desc := "()V" } : Jvm.MethodName) ({ cls := "VowelTorus$Reader", name := "read", desc := "()V" } : Jvm.MethodName)) ∈ lw_all := lw_g (lw_at lw_m7 25 rfl) rfl
theorem q1553 : (Jvm.Cond.code ({ cls := "VowelTorus$Reader", name := "read", desc := "()V" } : Jvm.MethodName) prog_6_method_10_code (1 : Nat) (Option.none : Option Jvm.ClassFile.FieldType)) ∈ lw_all := lw_g (lw_at lw_m7 26 rfl) rfl
theorem q1554 : (Jvm.Cond.methodLink "VowelTorus$Reader" (74 : Nat) ({ cls := "VowelTorus$Reader", name := "order", desc := "()V" } : Jvm.MethodName)) ∈ lw_all := lw_g (lw_at lw_m7 27 rfl) rfl
theorem q1555 : (Jvm.Cond.privateMethod ({ cls := "VowelTorus$Reader", name := "order", desc := "()V" } : Jvm.MethodName)) ∈ lw_tbl := lw_at lw_m7 28 rfl
theorem q1556 : (Jvm.Cond.instanceMethod ({ cls := "VowelTorus$Reader", name := "order", desc := "()V" } : Jvm.MethodName)) ∈ lw_all := lw_g (lw_at lw_m7 29 rfl) rfl
theorem q1557 : (Jvm.Cond.code ({ cls := "VowelTorus$Reader", name := "order", desc := "()V" } : Jvm.MethodName) prog_6_method_9_code (1 : Nat) (Option.none : Option Jvm.ClassFile.FieldType)) ∈ lw_all := lw_g (lw_at lw_m7 30 rfl) rfl
theorem q1558 : (Jvm.Cond.methodLink "VowelTorus$Reader" (63 : Nat) ({ cls := "VowelTorus$Reader", name := "isOrder", desc := "(C)Z" } : Jvm.MethodName)) ∈ lw_all := lw_g (lw_at lw_m7 31 rfl) rfl
theorem q1559 : (Jvm.Cond.privateMethod ({ cls := "VowelTorus$Reader", name := "isOrder", desc := "(C)Z" } : Jvm.MethodName)) ∈ lw_tbl := lw_at lw_m7 32 rfl
theorem q1560 : (Jvm.Cond.instanceMethod ({ cls := "VowelTorus$Reader", name := "isOrder", desc := "(C)Z" } : Jvm.MethodName)) ∈ lw_all := lw_g (lw_at lw_m7 33 rfl) rfl
theorem q1561 : (Jvm.Cond.code ({ cls := "VowelTorus$Reader", name := "isOrder", desc := "(C)Z" } : Jvm.MethodName) prog_6_method_7_code (2 : Nat) (Option.some Jvm.ClassFile.FieldType.boolean)) ∈ lw_all := lw_g (lw_at lw_m7 34 rfl) rfl
theorem q1562 : (Jvm.Cond.methodLink "VowelTorus$Reader" (59 : Nat) ({ cls := "VowelTorus$Reader", name := "skip", desc := "(I)Z" } : Jvm.MethodName)) ∈ lw_all := lw_g (lw_at lw_m7 35 rfl) rfl
theorem q1563 : (Jvm.Cond.privateMethod ({ cls := "VowelTorus$Reader", name := "skip", desc := "(I)Z" } : Jvm.MethodName)) ∈ lw_tbl := lw_at lw_m7 36 rfl
theorem q1564 : (Jvm.Cond.instanceMethod ({ cls := "VowelTorus$Reader", name := "skip", desc := "(I)Z" } : Jvm.MethodName)) ∈ lw_all := lw_g (lw_at lw_m7 37 rfl) rfl
theorem q1565 : (Jvm.Cond.code ({ cls := "VowelTorus$Reader", name := "skip", desc := "(I)Z" } : Jvm.MethodName) prog_6_method_3_code (2 : Nat) (Option.some Jvm.ClassFile.FieldType.boolean)) ∈ lw_all := lw_g (lw_at lw_m7 38 rfl) rfl
theorem q1566 : (Jvm.Cond.methodLink "VowelTorus$Reader" (40 : Nat) ({ cls := "VowelTorus$Reader", name := "here", desc := "()I" } : Jvm.MethodName)) ∈ lw_all := lw_g (lw_at lw_m7 39 rfl) rfl
theorem q1567 : (Jvm.Cond.privateMethod ({ cls := "VowelTorus$Reader", name := "here", desc := "()I" } : Jvm.MethodName)) ∈ lw_tbl := lw_at lw_m7 40 rfl
theorem q1568 : (Jvm.Cond.instanceMethod ({ cls := "VowelTorus$Reader", name := "here", desc := "()I" } : Jvm.MethodName)) ∈ lw_all := lw_g (lw_at lw_m7 41 rfl) rfl
theorem q1569 : (Jvm.Cond.code ({ cls := "VowelTorus$Reader", name := "here", desc := "()I" } : Jvm.MethodName) prog_6_method_2_code (1 : Nat) (Option.some Jvm.ClassFile.FieldType.int)) ∈ lw_all := lw_g (lw_at lw_m7 42 rfl) rfl
theorem q1570 : (Jvm.Cond.methodLink "VowelTorus$Reader" (30 : Nat) ({ cls := "java/lang/StringBuilder", name := "length", desc := "()I" } : Jvm.MethodName)) ∈ lw_all := lw_g (lw_at lw_m7 43 rfl) rfl
theorem q1571 : (Jvm.Cond.methodLink "VowelTorus$Reader" (36 : Nat) ({ cls := "java/lang/StringBuilder", name := "charAt", desc := "(I)C" } : Jvm.MethodName)) ∈ lw_all := lw_g (lw_at lw_m7 44 rfl) rfl
theorem q1572 : (Jvm.Cond.methodLink "VowelTorus$Reader" (67 : Nat) ({ cls := "VowelTorus$Reader", name := "number", desc := "(II)V" } : Jvm.MethodName)) ∈ lw_all := lw_g (lw_at lw_m7 45 rfl) rfl
theorem q1573 : (Jvm.Cond.privateMethod ({ cls := "VowelTorus$Reader", name := "number", desc := "(II)V" } : Jvm.MethodName)) ∈ lw_tbl := lw_at lw_m7 46 rfl
theorem q1574 : (Jvm.Cond.instanceMethod ({ cls := "VowelTorus$Reader", name := "number", desc := "(II)V" } : Jvm.MethodName)) ∈ lw_all := lw_g (lw_at lw_m7 47 rfl) rfl
theorem q1575 : (Jvm.Cond.code ({ cls := "VowelTorus$Reader", name := "number", desc := "(II)V" } : Jvm.MethodName) prog_6_method_5_code (5 : Nat) (Option.none : Option Jvm.ClassFile.FieldType)) ∈ lw_all := lw_g (lw_at lw_m7 48 rfl) rfl
theorem q1576 : (Jvm.Cond.methodLinkNest "VowelTorus$Reader" (48 : Nat) ({ cls := "VowelTorus", name := "in", desc := "(III)Z" } : Jvm.MethodName) "VowelTorus") ∈ lw_tbl := lw_at lw_m7 49 rfl
theorem q1577 : (Jvm.Cond.methodLink "VowelTorus$Reader" (52 : Nat) ({ cls := "VowelTorus$Reader", name := "must", desc := "(Z)V" } : Jvm.MethodName)) ∈ lw_all := lw_g (lw_at lw_m7 50 rfl) rfl
theorem q1578 : (Jvm.Cond.privateMethod ({ cls := "VowelTorus$Reader", name := "must", desc := "(Z)V" } : Jvm.MethodName)) ∈ lw_tbl := lw_at lw_m7 51 rfl
theorem q1579 : (Jvm.Cond.instanceMethod ({ cls := "VowelTorus$Reader", name := "must", desc := "(Z)V" } : Jvm.MethodName)) ∈ lw_all := lw_g (lw_at lw_m7 52 rfl) rfl
theorem q1580 : (Jvm.Cond.code ({ cls := "VowelTorus$Reader", name := "must", desc := "(Z)V" } : Jvm.MethodName) prog_6_method_4_code (2 : Nat) (Option.none : Option Jvm.ClassFile.FieldType)) ∈ lw_all := lw_g (lw_at lw_m7 53 rfl) rfl
theorem q1581 : (Jvm.Cond.classLink "VowelTorus$Reader" (43 : Nat) "VowelTorus$Fault") ∈ lw_all := lw_g (lw_at lw_m7 54 rfl) rfl
theorem q1590 : (Jvm.Cond.methodLink "VowelTorus$Reader" (45 : Nat) ({ cls := "VowelTorus$Fault", name := "<init>", desc := "(I)V" } : Jvm.MethodName)) ∈ lw_all := lw_g (lw_at lw_m7 63 rfl) rfl
theorem q1600 : (Jvm.Cond.methodLink "VowelTorus$Reader" (71 : Nat) ({ cls := "VowelTorus$Reader", name := "sign", desc := "(Z)V" } : Jvm.MethodName)) ∈ lw_all := lw_g (lw_at lw_m7 73 rfl) rfl
theorem q1601 : (Jvm.Cond.privateMethod ({ cls := "VowelTorus$Reader", name := "sign", desc := "(Z)V" } : Jvm.MethodName)) ∈ lw_tbl := lw_at lw_m7 74 rfl
theorem q1602 : (Jvm.Cond.instanceMethod ({ cls := "VowelTorus$Reader", name := "sign", desc := "(Z)V" } : Jvm.MethodName)) ∈ lw_all := lw_g (lw_at lw_m7 75 rfl) rfl
theorem q1603 : (Jvm.Cond.code ({ cls := "VowelTorus$Reader", name := "sign", desc := "(Z)V" } : Jvm.MethodName) prog_6_method_8_code (2 : Nat) (Option.none : Option Jvm.ClassFile.FieldType)) ∈ lw_all := lw_g (lw_at lw_m7 76 rfl) rfl
theorem q1605 : (Jvm.Cond.instanceMethod ({ cls := "VowelTorus$Reader", name := "isRight", desc := "(LVowelTorus$Puzzle;I)Z" } : Jvm.MethodName)) ∈ lw_all := lw_g (lw_at lw_m7 78 rfl) rfl
theorem q1606 : (Jvm.Cond.selects "VowelTorus$Reader" ({ cls := "VowelTorus$Reader", name := "isRight", desc := "(LVowelTorus$Puzzle;I)Z" } : Jvm.MethodName) ({ cls := "VowelTorus$Reader", name := "isRight", desc := "(LVowelTorus$Puzzle;I)Z" } : Jvm.MethodName)) ∈ lw_all := lw_g (lw_at lw_m7 79 rfl) rfl
theorem q1607 : (Jvm.Cond.code ({ cls := "VowelTorus$Reader", name := "isRight", desc := "(LVowelTorus$Puzzle;I)Z" } : Jvm.MethodName) prog_6_method_11_code (5 : Nat) (Option.some Jvm.ClassFile.FieldType.boolean)) ∈ lw_all := lw_g (lw_at lw_m7 80 rfl) rfl
theorem q1608 : (Jvm.Cond.methodLink "VowelTorus$Reader" (77 : Nat) ({ cls := "VowelTorus$Reader", name := "told", desc := "(II)I" } : Jvm.MethodName)) ∈ lw_all := lw_g (lw_at lw_m7 81 rfl) rfl
theorem q1609 : (Jvm.Cond.privateMethod ({ cls := "VowelTorus$Reader", name := "told", desc := "(II)I" } : Jvm.MethodName)) ∈ lw_tbl := lw_at lw_m7 82 rfl
theorem q1610 : (Jvm.Cond.instanceMethod ({ cls := "VowelTorus$Reader", name := "told", desc := "(II)I" } : Jvm.MethodName)) ∈ lw_all := lw_g (lw_at lw_m7 83 rfl) rfl
theorem q1611 : (Jvm.Cond.code ({ cls := "VowelTorus$Reader", name := "told", desc := "(II)I" } : Jvm.MethodName) prog_6_method_6_code (3 : Nat) (Option.some Jvm.ClassFile.FieldType.int)) ∈ lw_all := lw_g (lw_at lw_m7 84 rfl) rfl
theorem q1612 : (Jvm.Cond.methodLinkNest "VowelTorus$Reader" (81 : Nat) ({ cls := "VowelTorus", name := "isBoard", desc := "(II)Z" } : Jvm.MethodName) "VowelTorus") ∈ lw_tbl := lw_at lw_m7 85 rfl
theorem q1613 : (Jvm.Cond.methodLink "VowelTorus$Reader" (85 : Nat) ({ cls := "VowelTorus$Puzzle", name := "isPlace", desc := "(I)Z" } : Jvm.MethodName)) ∈ lw_all := lw_g (lw_at lw_m7 86 rfl) rfl
theorem q1614 : (Jvm.Cond.methodLink "VowelTorus$Reader" (90 : Nat) ({ cls := "VowelTorus$Puzzle", name := "isTurn", desc := "(I)Z" } : Jvm.MethodName)) ∈ lw_all := lw_g (lw_at lw_m7 87 rfl) rfl
theorem q1615 : (Jvm.Cond.methodLink "VowelTorus$Reader" (93 : Nat) ({ cls := "VowelTorus$Puzzle", name := "isLine", desc := "(I)Z" } : Jvm.MethodName)) ∈ lw_all := lw_g (lw_at lw_m7 88 rfl) rfl
theorem q1616 : (Jvm.Cond.methodLinkNest "VowelTorus$Reader" (96 : Nat) ({ cls := "VowelTorus", name := "isScramble", desc := "(II)Z" } : Jvm.MethodName) "VowelTorus") ∈ lw_tbl := lw_at lw_m7 89 rfl
theorem q1618 : (Jvm.Cond.instanceMethod ({ cls := "VowelTorus$Reader", name := "does", desc := "(LVowelTorus$Puzzle;I)I" } : Jvm.MethodName)) ∈ lw_all := lw_g (lw_at lw_m7 91 rfl) rfl
theorem q1619 : (Jvm.Cond.selects "VowelTorus$Reader" ({ cls := "VowelTorus$Reader", name := "does", desc := "(LVowelTorus$Puzzle;I)I" } : Jvm.MethodName) ({ cls := "VowelTorus$Reader", name := "does", desc := "(LVowelTorus$Puzzle;I)I" } : Jvm.MethodName)) ∈ lw_all := lw_g (lw_at lw_m7 92 rfl) rfl
theorem q1620 : (Jvm.Cond.code ({ cls := "VowelTorus$Reader", name := "does", desc := "(LVowelTorus$Puzzle;I)I" } : Jvm.MethodName) prog_6_method_12_code (5 : Nat) (Option.some Jvm.ClassFile.FieldType.int)) ∈ lw_all := lw_g (lw_at lw_m7 93 rfl) rfl
theorem q1621 : (Jvm.Cond.methodLink "VowelTorus$Reader" (99 : Nat) ({ cls := "VowelTorus$Puzzle", name := "board", desc := "(II)I" } : Jvm.MethodName)) ∈ lw_all := lw_g (lw_at lw_m7 94 rfl) rfl
theorem q1622 : (Jvm.Cond.methodLink "VowelTorus$Reader" (102 : Nat) ({ cls := "VowelTorus$Puzzle", name := "swap", desc := "(II)I" } : Jvm.MethodName)) ∈ lw_all := lw_g (lw_at lw_m7 95 rfl) rfl
theorem q1623 : (Jvm.Cond.methodLink "VowelTorus$Reader" (105 : Nat) ({ cls := "VowelTorus$Puzzle", name := "put", desc := "(IC)C" } : Jvm.MethodName)) ∈ lw_all := lw_g (lw_at lw_m7 96 rfl) rfl
theorem q1624 : (Jvm.Cond.methodLink "VowelTorus$Reader" (109 : Nat) ({ cls := "VowelTorus$Puzzle", name := "goal", desc := "(IC)C" } : Jvm.MethodName)) ∈ lw_all := lw_g (lw_at lw_m7 97 rfl) rfl
theorem q1625 : (Jvm.Cond.methodLink "VowelTorus$Reader" (112 : Nat) ({ cls := "VowelTorus$Puzzle", name := "turn", desc := "(I)I" } : Jvm.MethodName)) ∈ lw_all := lw_g (lw_at lw_m7 98 rfl) rfl
theorem q1626 : (Jvm.Cond.methodLink "VowelTorus$Reader" (116 : Nat) ({ cls := "VowelTorus$Puzzle", name := "bar", desc := "(I)Z" } : Jvm.MethodName)) ∈ lw_all := lw_g (lw_at lw_m7 99 rfl) rfl
theorem q1627 : (Jvm.Cond.methodLink "VowelTorus$Reader" (119 : Nat) ({ cls := "VowelTorus$Puzzle", name := "scramble", desc := "(II)I" } : Jvm.MethodName)) ∈ lw_all := lw_g (lw_at lw_m7 100 rfl) rfl
theorem q2200 : (Jvm.Cond.castable "VowelTorus$Reader" "java/lang/Object") ∈ lw_tbl := lw_at lw_m9 193 rfl
theorem in_X4 : ∀ w ∈ wsX40, w ∈ lw_all := lw_in wsX40 [280, 282, 284, 286, 288, 290] (by decide +kernel) (by decide +kernel)
/-! VowelTorus$Refused -/
set_option maxRecDepth 100000
def RX6 : String := "VowelTorus$Refused"
def TX6 : u_T := fun k => match k with
  | 0 => ("java/lang/Throwable", "cause", "Ljava/lang/Throwable;", false)
  | 1 => ("java/lang/Throwable", "stackTrace", "[Ljava/lang/StackTraceElement;", false)
  | 2 => ("java/lang/Throwable", "suppressedExceptions", "Ljava/util/List;", false)
  | 3 => ("java/lang/Throwable", "detailMessage", "Ljava/lang/String;", false)
  | 4 => ("java/lang/Throwable", "backtrace", "Ljava/lang/Object;", false)
  | 5 => ("java/lang/Throwable", "depth", "I", false)
  | 6 => ("VowelTorus$Refused", "reason", "I", true)
  | _ => ("VowelTorus$Refused", "detail", "I", true)
def tyX6 : Nat → FieldType := fun k => match k with
  | 0 => .object "java/lang/Throwable"
  | 1 => .array (.object "java/lang/StackTraceElement")
  | 2 => .object "java/util/List"
  | 3 => .object "java/lang/String"
  | 4 => .object "java/lang/Object"
  | 5 => .int
  | 6 => .int
  | _ => .int
abbrev wsX60 : List Cond := u_ws RX6 TX6 8
theorem nmX6 : ∀ a, a < 8 → ∀ b, b < 8 → a ≠ b → (TX6 a).2.1 ≠ (TX6 b).2.1 := by decide +kernel
theorem tyX6_ok : ∀ k, k < 8 → parseFieldDescriptor (TX6 k).2.2.1 = some (tyX6 k) := by decide +kernel
abbrev cX6_init : ByteArray := prog_7_method_1_code
def yX6_init : MethodName := ⟨RX6, "<init>", "(II)V"⟩
def dkwX6_init_0 : List UInt8 := [42, 183, 0, 1, 42, 27, 181, 0, 7, 42, 28, 181, 0, 13, 177]
abbrev dktX6_init_0 : List UInt8 := dkwX6_init_0 ++ []
theorem dksX6_init_0 : cX6_init.data.toList.drop 0 = dktX6_init_0 := by decide +kernel
theorem dX6_init_0 : decode cX6_init 0 = .ok (.aload_n 0, 1) := dk_42 (dk_at dksX6_init_0 0 rfl rfl)
theorem dX6_init_1 : decode cX6_init 1 = .ok (.invokespecial 1, 3) := dk_183 0 1 (dk_at dksX6_init_0 1 rfl rfl)
theorem dX6_init_4 : decode cX6_init 4 = .ok (.aload_n 0, 1) := dk_42 (dk_at dksX6_init_0 4 rfl rfl)
theorem dX6_init_5 : decode cX6_init 5 = .ok (.iload_n 1, 1) := dk_27 (dk_at dksX6_init_0 5 rfl rfl)
theorem dX6_init_6 : decode cX6_init 6 = .ok (.putfield 7, 3) := dk_181 0 7 (dk_at dksX6_init_0 6 rfl rfl)
theorem dX6_init_9 : decode cX6_init 9 = .ok (.aload_n 0, 1) := dk_42 (dk_at dksX6_init_0 9 rfl rfl)
theorem dX6_init_10 : decode cX6_init 10 = .ok (.iload_n 2, 1) := dk_28 (dk_at dksX6_init_0 10 rfl rfl)
theorem dX6_init_11 : decode cX6_init 11 = .ok (.putfield 13, 3) := dk_181 0 13 (dk_at dksX6_init_0 11 rfl rfl)
theorem dX6_init_14 : decode cX6_init 14 = .ok (.return_, 1) := dk_177 (dk_at dksX6_init_0 14 rfl rfl)
theorem q109 : (Jvm.Cond.initialized "VowelTorus$Refused") ∈ lw_all := lw_g (lw_at lw_m1 22 rfl) rfl
theorem q347 : (Jvm.Cond.selects "VowelTorus$Refused" ({ cls := "java/lang/Throwable", name := "fillInStackTrace", desc := "()Ljava/lang/Throwable;" } : Jvm.MethodName) ({ cls := "java/lang/Throwable", name := "fillInStackTrace", desc := "()Ljava/lang/Throwable;" } : Jvm.MethodName)) ∈ lw_all := lw_g (lw_at lw_m2 20 rfl) rfl
theorem q399 : (Jvm.Cond.selects "VowelTorus$Refused" ({ cls := "java/lang/Object", name := "getClass", desc := "()Ljava/lang/Class;" } : Jvm.MethodName) ({ cls := "java/lang/Object", name := "getClass", desc := "()Ljava/lang/Class;" } : Jvm.MethodName)) ∈ lw_all := lw_g (lw_at lw_m2 72 rfl) rfl
theorem q1217 : (Jvm.Cond.instantiable "VowelTorus$Refused" (8 : Nat)) ∈ lw_all := lw_g (lw_at lw_m5 170 rfl) rfl
theorem q1218 : (Jvm.Cond.castable "VowelTorus$Refused" "VowelTorus$Refused") ∈ lw_tbl := lw_at lw_m5 171 rfl
theorem q1219 : (Jvm.Cond.selects "VowelTorus$Refused" ({ cls := "java/lang/Throwable", name := "fillInStackTrace", desc := "(I)Ljava/lang/Throwable;" } : Jvm.MethodName) ({ cls := "java/lang/Throwable", name := "fillInStackTrace", desc := "(I)Ljava/lang/Throwable;" } : Jvm.MethodName)) ∈ lw_all := lw_g (lw_at lw_m5 172 rfl) rfl
theorem q1220 : (Jvm.Cond.lays "VowelTorus$Refused" "java/lang/Throwable" "cause" "Ljava/lang/Throwable;") ∈ lw_all := lw_g (lw_at lw_m5 173 rfl) rfl
theorem q1221 : (Jvm.Cond.lays "VowelTorus$Refused" "java/lang/Throwable" "stackTrace" "[Ljava/lang/StackTraceElement;") ∈ lw_all := lw_g (lw_at lw_m5 174 rfl) rfl
theorem q1222 : (Jvm.Cond.lays "VowelTorus$Refused" "java/lang/Throwable" "suppressedExceptions" "Ljava/util/List;") ∈ lw_all := lw_g (lw_at lw_m5 175 rfl) rfl
theorem q1223 : (Jvm.Cond.lays "VowelTorus$Refused" "java/lang/Throwable" "detailMessage" "Ljava/lang/String;") ∈ lw_all := lw_g (lw_at lw_m5 176 rfl) rfl
theorem q1224 : (Jvm.Cond.lays "VowelTorus$Refused" "java/lang/Throwable" "backtrace" "Ljava/lang/Object;") ∈ lw_all := lw_g (lw_at lw_m5 177 rfl) rfl
theorem q1226 : (Jvm.Cond.instanceMethod ({ cls := "VowelTorus$Refused", name := "<init>", desc := "(II)V" } : Jvm.MethodName)) ∈ lw_all := lw_g (lw_at lw_m5 179 rfl) rfl
theorem q1227 : (Jvm.Cond.code ({ cls := "VowelTorus$Refused", name := "<init>", desc := "(II)V" } : Jvm.MethodName) prog_7_method_1_code (3 : Nat) (Option.none : Option Jvm.ClassFile.FieldType)) ∈ lw_all := lw_g (lw_at lw_m5 180 rfl) rfl
theorem q1228 : (Jvm.Cond.methodLink "VowelTorus$Refused" (1 : Nat) ({ cls := "java/lang/Exception", name := "<init>", desc := "()V" } : Jvm.MethodName)) ∈ lw_all := lw_g (lw_at lw_m5 181 rfl) rfl
theorem q1229 : (Jvm.Cond.fieldLink "VowelTorus$Refused" (7 : Nat) "VowelTorus$Refused" "reason" "I") ∈ lw_all := lw_g (lw_at lw_m5 182 rfl) rfl
theorem q1231 : (Jvm.Cond.fieldLink "VowelTorus$Refused" (13 : Nat) "VowelTorus$Refused" "detail" "I") ∈ lw_all := lw_g (lw_at lw_m5 184 rfl) rfl
theorem q1233 : (Jvm.Cond.laysFinal "VowelTorus$Refused" "VowelTorus$Refused" "reason" "I") ∈ lw_all := lw_g (lw_at lw_m5 186 rfl) rfl
theorem q1234 : (Jvm.Cond.soleField "VowelTorus$Refused" "reason") ∈ lw_all := lw_g (lw_at lw_m5 187 rfl) rfl
theorem q1235 : (Jvm.Cond.laysFinal "VowelTorus$Refused" "VowelTorus$Refused" "detail" "I") ∈ lw_all := lw_g (lw_at lw_m5 188 rfl) rfl
theorem q1236 : (Jvm.Cond.soleField "VowelTorus$Refused" "detail") ∈ lw_all := lw_g (lw_at lw_m5 189 rfl) rfl
theorem q1237 : (Jvm.Cond.lays "VowelTorus$Refused" "java/lang/Throwable" "depth" "I") ∈ lw_all := lw_g (lw_at lw_m5 190 rfl) rfl
theorem q1238 : (Jvm.Cond.superclass "VowelTorus$Refused" "java/lang/Exception") ∈ lw_all := lw_g (lw_at lw_m5 191 rfl) rfl
theorem q2206 : (Jvm.Cond.castable "VowelTorus$Refused" "java/lang/Object") ∈ lw_tbl := lw_at lw_m9 199 rfl
theorem in_X6 : ∀ w ∈ wsX60, w ∈ lw_all := lw_in wsX60 [1220, 1221, 1222, 1223, 1224, 1237, 1233, 1235] (by decide +kernel) (by decide +kernel)
/-! VowelTorus$Row -/
set_option maxRecDepth 100000
def RX7 : String := "VowelTorus$Row"
def TX7 : u_T := fun k => match k with
  | _ => ("VowelTorus$Row", "things", "Ljava/util/ArrayDeque;", true)
def tyX7 : Nat → FieldType := fun k => match k with
  | _ => .object "java/util/ArrayDeque"
abbrev wsX70 : List Cond := u_ws RX7 TX7 1
theorem nmX7 : ∀ a, a < 1 → ∀ b, b < 1 → a ≠ b → (TX7 a).2.1 ≠ (TX7 b).2.1 := by decide +kernel
theorem tyX7_ok : ∀ k, k < 1 → parseFieldDescriptor (TX7 k).2.2.1 = some (tyX7 k) := by decide +kernel
abbrev cX7_init : ByteArray := prog_8_method_1_code
def yX7_init : MethodName := ⟨RX7, "<init>", "()V"⟩
def dkwX7_init_0 : List UInt8 := [42, 183, 0, 1, 42, 187, 0, 7, 89, 183, 0, 9, 181, 0, 10, 177]
abbrev dktX7_init_0 : List UInt8 := dkwX7_init_0 ++ []
theorem dksX7_init_0 : cX7_init.data.toList.drop 0 = dktX7_init_0 := by decide +kernel
theorem dX7_init_0 : decode cX7_init 0 = .ok (.aload_n 0, 1) := dk_42 (dk_at dksX7_init_0 0 rfl rfl)
theorem dX7_init_1 : decode cX7_init 1 = .ok (.invokespecial 1, 3) := dk_183 0 1 (dk_at dksX7_init_0 1 rfl rfl)
theorem dX7_init_4 : decode cX7_init 4 = .ok (.aload_n 0, 1) := dk_42 (dk_at dksX7_init_0 4 rfl rfl)
theorem dX7_init_5 : decode cX7_init 5 = .ok (.new 7, 3) := dk_187 0 7 (dk_at dksX7_init_0 5 rfl rfl)
theorem dX7_init_8 : decode cX7_init 8 = .ok (.dup, 1) := dk_89 (dk_at dksX7_init_0 8 rfl rfl)
theorem dX7_init_9 : decode cX7_init 9 = .ok (.invokespecial 9, 3) := dk_183 0 9 (dk_at dksX7_init_0 9 rfl rfl)
theorem dX7_init_12 : decode cX7_init 12 = .ok (.putfield 10, 3) := dk_181 0 10 (dk_at dksX7_init_0 12 rfl rfl)
theorem dX7_init_15 : decode cX7_init 15 = .ok (.return_, 1) := dk_177 (dk_at dksX7_init_0 15 rfl rfl)
abbrev cX7_with : ByteArray := prog_8_method_2_code
def yX7_with : MethodName := ⟨RX7, "with", "(Ljava/lang/Object;)LVowelTorus$Row;"⟩
def dkwX7_with_0 : List UInt8 := [42, 180, 0, 10, 43, 182, 0, 16, 42, 176]
abbrev dktX7_with_0 : List UInt8 := dkwX7_with_0 ++ []
theorem dksX7_with_0 : cX7_with.data.toList.drop 0 = dktX7_with_0 := by decide +kernel
theorem dX7_with_0 : decode cX7_with 0 = .ok (.aload_n 0, 1) := dk_42 (dk_at dksX7_with_0 0 rfl rfl)
theorem dX7_with_1 : decode cX7_with 1 = .ok (.getfield 10, 3) := dk_180 0 10 (dk_at dksX7_with_0 1 rfl rfl)
theorem dX7_with_4 : decode cX7_with 4 = .ok (.aload_n 1, 1) := dk_43 (dk_at dksX7_with_0 4 rfl rfl)
theorem dX7_with_5 : decode cX7_with 5 = .ok (.invokevirtual 16, 3) := dk_182 0 16 (dk_at dksX7_with_0 5 rfl rfl)
theorem dX7_with_8 : decode cX7_with 8 = .ok (.aload_n 0, 1) := dk_42 (dk_at dksX7_with_0 8 rfl rfl)
theorem dX7_with_9 : decode cX7_with 9 = .ok (.areturn, 1) := dk_176 (dk_at dksX7_with_0 9 rfl rfl)
abbrev cX7_count : ByteArray := prog_8_method_3_code
def yX7_count : MethodName := ⟨RX7, "count", "(LVowelTorus$Test;)I"⟩
def dkwX7_count_2 : List UInt8 := [96, 61, 167, 255, 220, 28, 172]
abbrev dktX7_count_2 : List UInt8 := dkwX7_count_2 ++ []
def dkwX7_count_1 : List UInt8 := [185, 0, 30, 1, 0, 58, 4, 28, 43, 25, 4, 185, 0, 34, 2, 0, 153, 0, 7, 4, 167, 0, 4, 3]
abbrev dktX7_count_1 : List UInt8 := dkwX7_count_1 ++ dktX7_count_2
def dkwX7_count_0 : List UInt8 := [3, 61, 42, 180, 0, 10, 182, 0, 20, 78, 45, 185, 0, 24, 1, 0, 153, 0, 33, 45]
abbrev dktX7_count_0 : List UInt8 := dkwX7_count_0 ++ dktX7_count_1
theorem dksX7_count_0 : cX7_count.data.toList.drop 0 = dktX7_count_0 := by decide +kernel
theorem dksX7_count_1 : cX7_count.data.toList.drop 20 = dktX7_count_1 := dk_seg dksX7_count_0 20 rfl rfl
theorem dksX7_count_2 : cX7_count.data.toList.drop 44 = dktX7_count_2 := dk_seg dksX7_count_1 24 rfl rfl
theorem dX7_count_0 : decode cX7_count 0 = .ok (.iconst 0, 1) := dk_3 (dk_at dksX7_count_0 0 rfl rfl)
theorem dX7_count_1 : decode cX7_count 1 = .ok (.istore_n 2, 1) := dk_61 (dk_at dksX7_count_0 1 rfl rfl)
theorem dX7_count_2 : decode cX7_count 2 = .ok (.aload_n 0, 1) := dk_42 (dk_at dksX7_count_0 2 rfl rfl)
theorem dX7_count_3 : decode cX7_count 3 = .ok (.getfield 10, 3) := dk_180 0 10 (dk_at dksX7_count_0 3 rfl rfl)
theorem dX7_count_6 : decode cX7_count 6 = .ok (.invokevirtual 20, 3) := dk_182 0 20 (dk_at dksX7_count_0 6 rfl rfl)
theorem dX7_count_9 : decode cX7_count 9 = .ok (.astore_n 3, 1) := dk_78 (dk_at dksX7_count_0 9 rfl rfl)
theorem dX7_count_10 : decode cX7_count 10 = .ok (.aload_n 3, 1) := dk_45 (dk_at dksX7_count_0 10 rfl rfl)
theorem dX7_count_11 : decode cX7_count 11 = .ok (.invokeinterface 24 1, 5) := by decide +kernel
theorem dX7_count_16 : decode cX7_count 16 = .ok (.ifCond .eq 33, 3) := dk_153 0 33 (dk_at dksX7_count_0 16 rfl rfl)
theorem dX7_count_19 : decode cX7_count 19 = .ok (.aload_n 3, 1) := dk_45 (dk_at dksX7_count_0 19 rfl rfl)
theorem dX7_count_20 : decode cX7_count 20 = .ok (.invokeinterface 30 1, 5) := by decide +kernel
theorem dX7_count_25 : decode cX7_count 25 = .ok (.astore 4, 2) := dk_58 4 (dk_at dksX7_count_1 5 rfl rfl)
theorem dX7_count_27 : decode cX7_count 27 = .ok (.iload_n 2, 1) := dk_28 (dk_at dksX7_count_1 7 rfl rfl)
theorem dX7_count_28 : decode cX7_count 28 = .ok (.aload_n 1, 1) := dk_43 (dk_at dksX7_count_1 8 rfl rfl)
theorem dX7_count_29 : decode cX7_count 29 = .ok (.aload 4, 2) := dk_25 4 (dk_at dksX7_count_1 9 rfl rfl)
theorem dX7_count_31 : decode cX7_count 31 = .ok (.invokeinterface 34 2, 5) := by decide +kernel
theorem dX7_count_36 : decode cX7_count 36 = .ok (.ifCond .eq 7, 3) := dk_153 0 7 (dk_at dksX7_count_1 16 rfl rfl)
theorem dX7_count_39 : decode cX7_count 39 = .ok (.iconst 1, 1) := dk_4 (dk_at dksX7_count_1 19 rfl rfl)
theorem dX7_count_40 : decode cX7_count 40 = .ok (.goto 4, 3) := dk_167 0 4 (dk_at dksX7_count_1 20 rfl rfl)
theorem dX7_count_43 : decode cX7_count 43 = .ok (.iconst 0, 1) := dk_3 (dk_at dksX7_count_1 23 rfl rfl)
theorem dX7_count_44 : decode cX7_count 44 = .ok (.iadd, 1) := dk_96 (dk_at dksX7_count_2 0 rfl rfl)
theorem dX7_count_45 : decode cX7_count 45 = .ok (.istore_n 2, 1) := dk_61 (dk_at dksX7_count_2 1 rfl rfl)
theorem dX7_count_46 : decode cX7_count 46 = .ok (.goto (-36), 3) := dk_167 255 220 (dk_at dksX7_count_2 2 rfl rfl)
theorem dX7_count_49 : decode cX7_count 49 = .ok (.iload_n 2, 1) := dk_28 (dk_at dksX7_count_2 5 rfl rfl)
theorem dX7_count_50 : decode cX7_count 50 = .ok (.ireturn, 1) := dk_172 (dk_at dksX7_count_2 6 rfl rfl)
abbrev cX7_ranked : ByteArray := prog_8_method_4_code
def yX7_ranked : MethodName := ⟨RX7, "ranked", "(ILVowelTorus$Measure;)Ljava/lang/Object;"⟩
def dkwX7_ranked_2 : List UInt8 := [132, 3, 1, 167, 255, 219, 1, 176]
abbrev dktX7_ranked_2 : List UInt8 := dkwX7_ranked_2 ++ []
def dkwX7_ranked_1 : List UInt8 := [185, 0, 30, 1, 0, 58, 5, 42, 25, 5, 29, 44, 182, 0, 40, 27, 160, 0, 6, 25, 5, 176]
abbrev dktX7_ranked_1 : List UInt8 := dkwX7_ranked_1 ++ dktX7_ranked_2
def dkwX7_ranked_0 : List UInt8 := [3, 62, 42, 180, 0, 10, 182, 0, 20, 58, 4, 25, 4, 185, 0, 24, 1, 0, 153, 0, 33, 25, 4]
abbrev dktX7_ranked_0 : List UInt8 := dkwX7_ranked_0 ++ dktX7_ranked_1
theorem dksX7_ranked_0 : cX7_ranked.data.toList.drop 0 = dktX7_ranked_0 := by decide +kernel
theorem dksX7_ranked_1 : cX7_ranked.data.toList.drop 23 = dktX7_ranked_1 := dk_seg dksX7_ranked_0 23 rfl rfl
theorem dksX7_ranked_2 : cX7_ranked.data.toList.drop 45 = dktX7_ranked_2 := dk_seg dksX7_ranked_1 22 rfl rfl
theorem dX7_ranked_0 : decode cX7_ranked 0 = .ok (.iconst 0, 1) := dk_3 (dk_at dksX7_ranked_0 0 rfl rfl)
theorem dX7_ranked_1 : decode cX7_ranked 1 = .ok (.istore_n 3, 1) := dk_62 (dk_at dksX7_ranked_0 1 rfl rfl)
theorem dX7_ranked_2 : decode cX7_ranked 2 = .ok (.aload_n 0, 1) := dk_42 (dk_at dksX7_ranked_0 2 rfl rfl)
theorem dX7_ranked_3 : decode cX7_ranked 3 = .ok (.getfield 10, 3) := dk_180 0 10 (dk_at dksX7_ranked_0 3 rfl rfl)
theorem dX7_ranked_6 : decode cX7_ranked 6 = .ok (.invokevirtual 20, 3) := dk_182 0 20 (dk_at dksX7_ranked_0 6 rfl rfl)
theorem dX7_ranked_9 : decode cX7_ranked 9 = .ok (.astore 4, 2) := dk_58 4 (dk_at dksX7_ranked_0 9 rfl rfl)
theorem dX7_ranked_11 : decode cX7_ranked 11 = .ok (.aload 4, 2) := dk_25 4 (dk_at dksX7_ranked_0 11 rfl rfl)
theorem dX7_ranked_13 : decode cX7_ranked 13 = .ok (.invokeinterface 24 1, 5) := by decide +kernel
theorem dX7_ranked_18 : decode cX7_ranked 18 = .ok (.ifCond .eq 33, 3) := dk_153 0 33 (dk_at dksX7_ranked_0 18 rfl rfl)
theorem dX7_ranked_21 : decode cX7_ranked 21 = .ok (.aload 4, 2) := dk_25 4 (dk_at dksX7_ranked_0 21 rfl rfl)
theorem dX7_ranked_23 : decode cX7_ranked 23 = .ok (.invokeinterface 30 1, 5) := by decide +kernel
theorem dX7_ranked_28 : decode cX7_ranked 28 = .ok (.astore 5, 2) := dk_58 5 (dk_at dksX7_ranked_1 5 rfl rfl)
theorem dX7_ranked_30 : decode cX7_ranked 30 = .ok (.aload_n 0, 1) := dk_42 (dk_at dksX7_ranked_1 7 rfl rfl)
theorem dX7_ranked_31 : decode cX7_ranked 31 = .ok (.aload 5, 2) := dk_25 5 (dk_at dksX7_ranked_1 8 rfl rfl)
theorem dX7_ranked_33 : decode cX7_ranked 33 = .ok (.iload_n 3, 1) := dk_29 (dk_at dksX7_ranked_1 10 rfl rfl)
theorem dX7_ranked_34 : decode cX7_ranked 34 = .ok (.aload_n 2, 1) := dk_44 (dk_at dksX7_ranked_1 11 rfl rfl)
theorem dX7_ranked_35 : decode cX7_ranked 35 = .ok (.invokevirtual 40, 3) := dk_182 0 40 (dk_at dksX7_ranked_1 12 rfl rfl)
theorem dX7_ranked_38 : decode cX7_ranked 38 = .ok (.iload_n 1, 1) := dk_27 (dk_at dksX7_ranked_1 15 rfl rfl)
theorem dX7_ranked_39 : decode cX7_ranked 39 = .ok (.if_icmp .ne 6, 3) := dk_160 0 6 (dk_at dksX7_ranked_1 16 rfl rfl)
theorem dX7_ranked_42 : decode cX7_ranked 42 = .ok (.aload 5, 2) := dk_25 5 (dk_at dksX7_ranked_1 19 rfl rfl)
theorem dX7_ranked_44 : decode cX7_ranked 44 = .ok (.areturn, 1) := dk_176 (dk_at dksX7_ranked_1 21 rfl rfl)
theorem dX7_ranked_45 : decode cX7_ranked 45 = .ok (.iinc 3 1, 3) := dk_132 3 1 (dk_at dksX7_ranked_2 0 rfl rfl)
theorem dX7_ranked_48 : decode cX7_ranked 48 = .ok (.goto (-37), 3) := dk_167 255 219 (dk_at dksX7_ranked_2 3 rfl rfl)
theorem dX7_ranked_51 : decode cX7_ranked 51 = .ok (.aconst_null, 1) := dk_1 (dk_at dksX7_ranked_2 6 rfl rfl)
theorem dX7_ranked_52 : decode cX7_ranked 52 = .ok (.areturn, 1) := dk_176 (dk_at dksX7_ranked_2 7 rfl rfl)
abbrev cX7_before : ByteArray := prog_8_method_5_code
def yX7_before : MethodName := ⟨RX7, "before", "(Ljava/lang/Object;ILVowelTorus$Measure;)I"⟩
def dkwX7_before_3 : List UInt8 := [28, 162, 0, 7, 4, 167, 0, 4, 3, 96, 54, 5, 132, 6, 1, 167, 255, 195, 21, 5, 172]
abbrev dktX7_before_3 : List UInt8 := dkwX7_before_3 ++ []
def dkwX7_before_2 : List UInt8 := [185, 0, 44, 2, 0, 21, 4, 100, 54, 9, 21, 5, 21, 9, 157, 0, 14, 21, 9, 154, 0, 13, 21, 6]
abbrev dktX7_before_2 : List UInt8 := dkwX7_before_2 ++ dktX7_before_3
def dkwX7_before_1 : List UInt8 := [25, 7, 185, 0, 24, 1, 0, 153, 0, 57, 25, 7, 185, 0, 30, 1, 0, 58, 8, 45, 25, 8]
abbrev dktX7_before_1 : List UInt8 := dkwX7_before_1 ++ dktX7_before_2
def dkwX7_before_0 : List UInt8 := [45, 43, 185, 0, 44, 2, 0, 54, 4, 3, 54, 5, 3, 54, 6, 42, 180, 0, 10, 182, 0, 20, 58, 7]
abbrev dktX7_before_0 : List UInt8 := dkwX7_before_0 ++ dktX7_before_1
theorem dksX7_before_0 : cX7_before.data.toList.drop 0 = dktX7_before_0 := by decide +kernel
theorem dksX7_before_1 : cX7_before.data.toList.drop 24 = dktX7_before_1 := dk_seg dksX7_before_0 24 rfl rfl
theorem dksX7_before_2 : cX7_before.data.toList.drop 46 = dktX7_before_2 := dk_seg dksX7_before_1 22 rfl rfl
theorem dksX7_before_3 : cX7_before.data.toList.drop 70 = dktX7_before_3 := dk_seg dksX7_before_2 24 rfl rfl
theorem dX7_before_0 : decode cX7_before 0 = .ok (.aload_n 3, 1) := dk_45 (dk_at dksX7_before_0 0 rfl rfl)
theorem dX7_before_1 : decode cX7_before 1 = .ok (.aload_n 1, 1) := dk_43 (dk_at dksX7_before_0 1 rfl rfl)
theorem dX7_before_2 : decode cX7_before 2 = .ok (.invokeinterface 44 2, 5) := by decide +kernel
theorem dX7_before_7 : decode cX7_before 7 = .ok (.istore 4, 2) := dk_54 4 (dk_at dksX7_before_0 7 rfl rfl)
theorem dX7_before_9 : decode cX7_before 9 = .ok (.iconst 0, 1) := dk_3 (dk_at dksX7_before_0 9 rfl rfl)
theorem dX7_before_10 : decode cX7_before 10 = .ok (.istore 5, 2) := dk_54 5 (dk_at dksX7_before_0 10 rfl rfl)
theorem dX7_before_12 : decode cX7_before 12 = .ok (.iconst 0, 1) := dk_3 (dk_at dksX7_before_0 12 rfl rfl)
theorem dX7_before_13 : decode cX7_before 13 = .ok (.istore 6, 2) := dk_54 6 (dk_at dksX7_before_0 13 rfl rfl)
theorem dX7_before_15 : decode cX7_before 15 = .ok (.aload_n 0, 1) := dk_42 (dk_at dksX7_before_0 15 rfl rfl)
theorem dX7_before_16 : decode cX7_before 16 = .ok (.getfield 10, 3) := dk_180 0 10 (dk_at dksX7_before_0 16 rfl rfl)
theorem dX7_before_19 : decode cX7_before 19 = .ok (.invokevirtual 20, 3) := dk_182 0 20 (dk_at dksX7_before_0 19 rfl rfl)
theorem dX7_before_22 : decode cX7_before 22 = .ok (.astore 7, 2) := dk_58 7 (dk_at dksX7_before_0 22 rfl rfl)
theorem dX7_before_24 : decode cX7_before 24 = .ok (.aload 7, 2) := dk_25 7 (dk_at dksX7_before_1 0 rfl rfl)
theorem dX7_before_26 : decode cX7_before 26 = .ok (.invokeinterface 24 1, 5) := by decide +kernel
theorem dX7_before_31 : decode cX7_before 31 = .ok (.ifCond .eq 57, 3) := dk_153 0 57 (dk_at dksX7_before_1 7 rfl rfl)
theorem dX7_before_34 : decode cX7_before 34 = .ok (.aload 7, 2) := dk_25 7 (dk_at dksX7_before_1 10 rfl rfl)
theorem dX7_before_36 : decode cX7_before 36 = .ok (.invokeinterface 30 1, 5) := by decide +kernel
theorem dX7_before_41 : decode cX7_before 41 = .ok (.astore 8, 2) := dk_58 8 (dk_at dksX7_before_1 17 rfl rfl)
theorem dX7_before_43 : decode cX7_before 43 = .ok (.aload_n 3, 1) := dk_45 (dk_at dksX7_before_1 19 rfl rfl)
theorem dX7_before_44 : decode cX7_before 44 = .ok (.aload 8, 2) := dk_25 8 (dk_at dksX7_before_1 20 rfl rfl)
theorem dX7_before_46 : decode cX7_before 46 = .ok (.invokeinterface 44 2, 5) := by decide +kernel
theorem dX7_before_51 : decode cX7_before 51 = .ok (.iload 4, 2) := dk_21 4 (dk_at dksX7_before_2 5 rfl rfl)
theorem dX7_before_53 : decode cX7_before 53 = .ok (.isub, 1) := dk_100 (dk_at dksX7_before_2 7 rfl rfl)
theorem dX7_before_54 : decode cX7_before 54 = .ok (.istore 9, 2) := dk_54 9 (dk_at dksX7_before_2 8 rfl rfl)
theorem dX7_before_56 : decode cX7_before 56 = .ok (.iload 5, 2) := dk_21 5 (dk_at dksX7_before_2 10 rfl rfl)
theorem dX7_before_58 : decode cX7_before 58 = .ok (.iload 9, 2) := dk_21 9 (dk_at dksX7_before_2 12 rfl rfl)
theorem dX7_before_60 : decode cX7_before 60 = .ok (.ifCond .gt 14, 3) := dk_157 0 14 (dk_at dksX7_before_2 14 rfl rfl)
theorem dX7_before_63 : decode cX7_before 63 = .ok (.iload 9, 2) := dk_21 9 (dk_at dksX7_before_2 17 rfl rfl)
theorem dX7_before_65 : decode cX7_before 65 = .ok (.ifCond .ne 13, 3) := dk_154 0 13 (dk_at dksX7_before_2 19 rfl rfl)
theorem dX7_before_68 : decode cX7_before 68 = .ok (.iload 6, 2) := dk_21 6 (dk_at dksX7_before_2 22 rfl rfl)
theorem dX7_before_70 : decode cX7_before 70 = .ok (.iload_n 2, 1) := dk_28 (dk_at dksX7_before_3 0 rfl rfl)
theorem dX7_before_71 : decode cX7_before 71 = .ok (.if_icmp .ge 7, 3) := dk_162 0 7 (dk_at dksX7_before_3 1 rfl rfl)
theorem dX7_before_74 : decode cX7_before 74 = .ok (.iconst 1, 1) := dk_4 (dk_at dksX7_before_3 4 rfl rfl)
theorem dX7_before_75 : decode cX7_before 75 = .ok (.goto 4, 3) := dk_167 0 4 (dk_at dksX7_before_3 5 rfl rfl)
theorem dX7_before_78 : decode cX7_before 78 = .ok (.iconst 0, 1) := dk_3 (dk_at dksX7_before_3 8 rfl rfl)
theorem dX7_before_79 : decode cX7_before 79 = .ok (.iadd, 1) := dk_96 (dk_at dksX7_before_3 9 rfl rfl)
theorem dX7_before_80 : decode cX7_before 80 = .ok (.istore 5, 2) := dk_54 5 (dk_at dksX7_before_3 10 rfl rfl)
theorem dX7_before_82 : decode cX7_before 82 = .ok (.iinc 6 1, 3) := dk_132 6 1 (dk_at dksX7_before_3 12 rfl rfl)
theorem dX7_before_85 : decode cX7_before 85 = .ok (.goto (-61), 3) := dk_167 255 195 (dk_at dksX7_before_3 15 rfl rfl)
theorem dX7_before_88 : decode cX7_before 88 = .ok (.iload 5, 2) := dk_21 5 (dk_at dksX7_before_3 18 rfl rfl)
theorem dX7_before_90 : decode cX7_before 90 = .ok (.ireturn, 1) := dk_172 (dk_at dksX7_before_3 20 rfl rfl)
theorem q112 : (Jvm.Cond.initialized "VowelTorus$Row") ∈ lw_all := lw_g (lw_at lw_m1 25 rfl) rfl
theorem q400 : (Jvm.Cond.selects "VowelTorus$Row" ({ cls := "java/lang/Object", name := "getClass", desc := "()Ljava/lang/Class;" } : Jvm.MethodName) ({ cls := "java/lang/Object", name := "getClass", desc := "()Ljava/lang/Class;" } : Jvm.MethodName)) ∈ lw_all := lw_g (lw_at lw_m2 73 rfl) rfl
theorem q529 : (Jvm.Cond.instantiable "VowelTorus$Row" (1 : Nat)) ∈ lw_all := lw_g (lw_at lw_m2 202 rfl) rfl
theorem q531 : (Jvm.Cond.instanceMethod ({ cls := "VowelTorus$Row", name := "<init>", desc := "()V" } : Jvm.MethodName)) ∈ lw_all := lw_g (lw_at lw_m2 204 rfl) rfl
theorem q532 : (Jvm.Cond.code ({ cls := "VowelTorus$Row", name := "<init>", desc := "()V" } : Jvm.MethodName) prog_8_method_1_code (1 : Nat) (Option.none : Option Jvm.ClassFile.FieldType)) ∈ lw_all := lw_g (lw_at lw_m2 205 rfl) rfl
theorem q533 : (Jvm.Cond.methodLink "VowelTorus$Row" (1 : Nat) ({ cls := "java/lang/Object", name := "<init>", desc := "()V" } : Jvm.MethodName)) ∈ lw_all := lw_g (lw_at lw_m2 206 rfl) rfl
theorem q534 : (Jvm.Cond.classLink "VowelTorus$Row" (7 : Nat) "java/util/ArrayDeque") ∈ lw_all := lw_g (lw_at lw_m2 207 rfl) rfl
theorem q535 : (Jvm.Cond.methodLink "VowelTorus$Row" (9 : Nat) ({ cls := "java/util/ArrayDeque", name := "<init>", desc := "()V" } : Jvm.MethodName)) ∈ lw_all := lw_g (lw_at lw_m2 208 rfl) rfl
theorem q536 : (Jvm.Cond.fieldLink "VowelTorus$Row" (10 : Nat) "VowelTorus$Row" "things" "Ljava/util/ArrayDeque;") ∈ lw_all := lw_g (lw_at lw_m2 209 rfl) rfl
theorem q537 : (Jvm.Cond.laysFinal "VowelTorus$Row" "VowelTorus$Row" "things" "Ljava/util/ArrayDeque;") ∈ lw_all := lw_g (lw_at lw_m2 210 rfl) rfl
theorem q538 : (Jvm.Cond.soleField "VowelTorus$Row" "things") ∈ lw_all := lw_g (lw_at lw_m2 211 rfl) rfl
theorem q539 : (Jvm.Cond.superclass "VowelTorus$Row" "java/lang/Object") ∈ lw_all := lw_g (lw_at lw_m2 212 rfl) rfl
theorem q565 : (Jvm.Cond.instanceMethod ({ cls := "VowelTorus$Row", name := "with", desc := "(Ljava/lang/Object;)LVowelTorus$Row;" } : Jvm.MethodName)) ∈ lw_all := lw_g (lw_at lw_m2 238 rfl) rfl
theorem q566 : (Jvm.Cond.selects "VowelTorus$Row" ({ cls := "VowelTorus$Row", name := "with", desc := "(Ljava/lang/Object;)LVowelTorus$Row;" } : Jvm.MethodName) ({ cls := "VowelTorus$Row", name := "with", desc := "(Ljava/lang/Object;)LVowelTorus$Row;" } : Jvm.MethodName)) ∈ lw_all := lw_g (lw_at lw_m2 239 rfl) rfl
theorem q567 : (Jvm.Cond.code ({ cls := "VowelTorus$Row", name := "with", desc := "(Ljava/lang/Object;)LVowelTorus$Row;" } : Jvm.MethodName) prog_8_method_2_code (2 : Nat) (Option.some (Jvm.ClassFile.FieldType.object "VowelTorus$Row"))) ∈ lw_all := lw_g (lw_at lw_m3 0 rfl) rfl
theorem q568 : (Jvm.Cond.methodLink "VowelTorus$Row" (16 : Nat) ({ cls := "java/util/ArrayDeque", name := "addLast", desc := "(Ljava/lang/Object;)V" } : Jvm.MethodName)) ∈ lw_all := lw_g (lw_at lw_m3 1 rfl) rfl
theorem q596 : (Jvm.Cond.instanceMethod ({ cls := "VowelTorus$Row", name := "count", desc := "(LVowelTorus$Test;)I" } : Jvm.MethodName)) ∈ lw_all := lw_g (lw_at lw_m3 29 rfl) rfl
theorem q597 : (Jvm.Cond.selects "VowelTorus$Row" ({ cls := "VowelTorus$Row", name := "count", desc := "(LVowelTorus$Test;)I" } : Jvm.MethodName) ({ cls := "VowelTorus$Row", name := "count", desc := "(LVowelTorus$Test;)I" } : Jvm.MethodName)) ∈ lw_all := lw_g (lw_at lw_m3 30 rfl) rfl
theorem q598 : (Jvm.Cond.code ({ cls := "VowelTorus$Row", name := "count", desc := "(LVowelTorus$Test;)I" } : Jvm.MethodName) prog_8_method_3_code (5 : Nat) (Option.some Jvm.ClassFile.FieldType.int)) ∈ lw_all := lw_g (lw_at lw_m3 31 rfl) rfl
theorem q599 : (Jvm.Cond.methodLink "VowelTorus$Row" (20 : Nat) ({ cls := "java/util/ArrayDeque", name := "iterator", desc := "()Ljava/util/Iterator;" } : Jvm.MethodName)) ∈ lw_all := lw_g (lw_at lw_m3 32 rfl) rfl
theorem q629 : (Jvm.Cond.interfaceEntry "VowelTorus$Row" (24 : Nat)) ∈ lw_tbl := lw_at lw_m3 62 rfl
theorem q630 : (Jvm.Cond.methodLink "VowelTorus$Row" (24 : Nat) ({ cls := "java/util/Iterator", name := "hasNext", desc := "()Z" } : Jvm.MethodName)) ∈ lw_all := lw_g (lw_at lw_m3 63 rfl) rfl
theorem q639 : (Jvm.Cond.interfaceEntry "VowelTorus$Row" (30 : Nat)) ∈ lw_tbl := lw_at lw_m3 72 rfl
theorem q640 : (Jvm.Cond.methodLink "VowelTorus$Row" (30 : Nat) ({ cls := "java/util/Iterator", name := "next", desc := "()Ljava/lang/Object;" } : Jvm.MethodName)) ∈ lw_all := lw_g (lw_at lw_m3 73 rfl) rfl
theorem q673 : (Jvm.Cond.interfaceEntry "VowelTorus$Row" (34 : Nat)) ∈ lw_tbl := lw_at lw_m3 106 rfl
theorem q674 : (Jvm.Cond.methodLink "VowelTorus$Row" (34 : Nat) ({ cls := "VowelTorus$Test", name := "is", desc := "(Ljava/lang/Object;)Z" } : Jvm.MethodName)) ∈ lw_all := lw_g (lw_at lw_m3 107 rfl) rfl
theorem q1484 : (Jvm.Cond.instanceMethod ({ cls := "VowelTorus$Row", name := "ranked", desc := "(ILVowelTorus$Measure;)Ljava/lang/Object;" } : Jvm.MethodName)) ∈ lw_all := lw_g (lw_at lw_m6 197 rfl) rfl
theorem q1485 : (Jvm.Cond.selects "VowelTorus$Row" ({ cls := "VowelTorus$Row", name := "ranked", desc := "(ILVowelTorus$Measure;)Ljava/lang/Object;" } : Jvm.MethodName) ({ cls := "VowelTorus$Row", name := "ranked", desc := "(ILVowelTorus$Measure;)Ljava/lang/Object;" } : Jvm.MethodName)) ∈ lw_all := lw_g (lw_at lw_m6 198 rfl) rfl
theorem q1486 : (Jvm.Cond.code ({ cls := "VowelTorus$Row", name := "ranked", desc := "(ILVowelTorus$Measure;)Ljava/lang/Object;" } : Jvm.MethodName) prog_8_method_4_code (6 : Nat) (Option.some (Jvm.ClassFile.FieldType.object "java/lang/Object"))) ∈ lw_all := lw_g (lw_at lw_m6 199 rfl) rfl
theorem q1487 : (Jvm.Cond.methodLink "VowelTorus$Row" (40 : Nat) ({ cls := "VowelTorus$Row", name := "before", desc := "(Ljava/lang/Object;ILVowelTorus$Measure;)I" } : Jvm.MethodName)) ∈ lw_all := lw_g (lw_at lw_m6 200 rfl) rfl
theorem q1488 : (Jvm.Cond.privateMethod ({ cls := "VowelTorus$Row", name := "before", desc := "(Ljava/lang/Object;ILVowelTorus$Measure;)I" } : Jvm.MethodName)) ∈ lw_tbl := lw_at lw_m6 201 rfl
theorem q1489 : (Jvm.Cond.instanceMethod ({ cls := "VowelTorus$Row", name := "before", desc := "(Ljava/lang/Object;ILVowelTorus$Measure;)I" } : Jvm.MethodName)) ∈ lw_all := lw_g (lw_at lw_m6 202 rfl) rfl
theorem q1490 : (Jvm.Cond.code ({ cls := "VowelTorus$Row", name := "before", desc := "(Ljava/lang/Object;ILVowelTorus$Measure;)I" } : Jvm.MethodName) prog_8_method_5_code (10 : Nat) (Option.some Jvm.ClassFile.FieldType.int)) ∈ lw_all := lw_g (lw_at lw_m6 203 rfl) rfl
theorem q1491 : (Jvm.Cond.interfaceEntry "VowelTorus$Row" (44 : Nat)) ∈ lw_tbl := lw_at lw_m6 204 rfl
theorem q1492 : (Jvm.Cond.methodLink "VowelTorus$Row" (44 : Nat) ({ cls := "VowelTorus$Measure", name := "of", desc := "(Ljava/lang/Object;)I" } : Jvm.MethodName)) ∈ lw_all := lw_g (lw_at lw_m6 205 rfl) rfl
theorem q2209 : (Jvm.Cond.castable "VowelTorus$Row" "java/lang/Object") ∈ lw_tbl := lw_at lw_m9 202 rfl
theorem in_X7 : ∀ w ∈ wsX70, w ∈ lw_all := lw_in wsX70 [537] (by decide +kernel) (by decide +kernel)
/-! VowelTorus$Fault -/
set_option maxRecDepth 100000
def RX8 : String := "VowelTorus$Fault"
def TX8 : u_T := fun k => match k with
  | 0 => ("java/lang/Throwable", "cause", "Ljava/lang/Throwable;", false)
  | 1 => ("java/lang/Throwable", "stackTrace", "[Ljava/lang/StackTraceElement;", false)
  | 2 => ("java/lang/Throwable", "suppressedExceptions", "Ljava/util/List;", false)
  | 3 => ("java/lang/Throwable", "detailMessage", "Ljava/lang/String;", false)
  | 4 => ("java/lang/Throwable", "backtrace", "Ljava/lang/Object;", false)
  | 5 => ("java/lang/Throwable", "depth", "I", false)
  | _ => ("VowelTorus$Fault", "position", "I", true)
def tyX8 : Nat → FieldType := fun k => match k with
  | 0 => .object "java/lang/Throwable"
  | 1 => .array (.object "java/lang/StackTraceElement")
  | 2 => .object "java/util/List"
  | 3 => .object "java/lang/String"
  | 4 => .object "java/lang/Object"
  | 5 => .int
  | _ => .int
abbrev wsX80 : List Cond := u_ws RX8 TX8 7
theorem nmX8 : ∀ a, a < 7 → ∀ b, b < 7 → a ≠ b → (TX8 a).2.1 ≠ (TX8 b).2.1 := by decide +kernel
theorem tyX8_ok : ∀ k, k < 7 → parseFieldDescriptor (TX8 k).2.2.1 = some (tyX8 k) := by decide +kernel
abbrev cX8_init : ByteArray := prog_2_method_1_code
def yX8_init : MethodName := ⟨RX8, "<init>", "(I)V"⟩
def dkwX8_init_0 : List UInt8 := [42, 183, 0, 1, 42, 27, 181, 0, 7, 177]
abbrev dktX8_init_0 : List UInt8 := dkwX8_init_0 ++ []
theorem dksX8_init_0 : cX8_init.data.toList.drop 0 = dktX8_init_0 := by decide +kernel
theorem dX8_init_0 : decode cX8_init 0 = .ok (.aload_n 0, 1) := dk_42 (dk_at dksX8_init_0 0 rfl rfl)
theorem dX8_init_1 : decode cX8_init 1 = .ok (.invokespecial 1, 3) := dk_183 0 1 (dk_at dksX8_init_0 1 rfl rfl)
theorem dX8_init_4 : decode cX8_init 4 = .ok (.aload_n 0, 1) := dk_42 (dk_at dksX8_init_0 4 rfl rfl)
theorem dX8_init_5 : decode cX8_init 5 = .ok (.iload_n 1, 1) := dk_27 (dk_at dksX8_init_0 5 rfl rfl)
theorem dX8_init_6 : decode cX8_init 6 = .ok (.putfield 7, 3) := dk_181 0 7 (dk_at dksX8_init_0 6 rfl rfl)
theorem dX8_init_9 : decode cX8_init 9 = .ok (.return_, 1) := dk_177 (dk_at dksX8_init_0 9 rfl rfl)
theorem q121 : (Jvm.Cond.initialized "VowelTorus$Fault") ∈ lw_all := lw_g (lw_at lw_m1 34 rfl) rfl
theorem q346 : (Jvm.Cond.selects "VowelTorus$Fault" ({ cls := "java/lang/Throwable", name := "fillInStackTrace", desc := "()Ljava/lang/Throwable;" } : Jvm.MethodName) ({ cls := "java/lang/Throwable", name := "fillInStackTrace", desc := "()Ljava/lang/Throwable;" } : Jvm.MethodName)) ∈ lw_all := lw_g (lw_at lw_m2 19 rfl) rfl
theorem q395 : (Jvm.Cond.selects "VowelTorus$Fault" ({ cls := "java/lang/Object", name := "getClass", desc := "()Ljava/lang/Class;" } : Jvm.MethodName) ({ cls := "java/lang/Object", name := "getClass", desc := "()Ljava/lang/Class;" } : Jvm.MethodName)) ∈ lw_all := lw_g (lw_at lw_m2 68 rfl) rfl
theorem q1582 : (Jvm.Cond.instantiable "VowelTorus$Fault" (7 : Nat)) ∈ lw_all := lw_g (lw_at lw_m7 55 rfl) rfl
theorem q1583 : (Jvm.Cond.castable "VowelTorus$Fault" "VowelTorus$Fault") ∈ lw_tbl := lw_at lw_m7 56 rfl
theorem q1584 : (Jvm.Cond.selects "VowelTorus$Fault" ({ cls := "java/lang/Throwable", name := "fillInStackTrace", desc := "(I)Ljava/lang/Throwable;" } : Jvm.MethodName) ({ cls := "java/lang/Throwable", name := "fillInStackTrace", desc := "(I)Ljava/lang/Throwable;" } : Jvm.MethodName)) ∈ lw_all := lw_g (lw_at lw_m7 57 rfl) rfl
theorem q1585 : (Jvm.Cond.lays "VowelTorus$Fault" "java/lang/Throwable" "cause" "Ljava/lang/Throwable;") ∈ lw_all := lw_g (lw_at lw_m7 58 rfl) rfl
theorem q1586 : (Jvm.Cond.lays "VowelTorus$Fault" "java/lang/Throwable" "stackTrace" "[Ljava/lang/StackTraceElement;") ∈ lw_all := lw_g (lw_at lw_m7 59 rfl) rfl
theorem q1587 : (Jvm.Cond.lays "VowelTorus$Fault" "java/lang/Throwable" "suppressedExceptions" "Ljava/util/List;") ∈ lw_all := lw_g (lw_at lw_m7 60 rfl) rfl
theorem q1588 : (Jvm.Cond.lays "VowelTorus$Fault" "java/lang/Throwable" "detailMessage" "Ljava/lang/String;") ∈ lw_all := lw_g (lw_at lw_m7 61 rfl) rfl
theorem q1589 : (Jvm.Cond.lays "VowelTorus$Fault" "java/lang/Throwable" "backtrace" "Ljava/lang/Object;") ∈ lw_all := lw_g (lw_at lw_m7 62 rfl) rfl
theorem q1591 : (Jvm.Cond.instanceMethod ({ cls := "VowelTorus$Fault", name := "<init>", desc := "(I)V" } : Jvm.MethodName)) ∈ lw_all := lw_g (lw_at lw_m7 64 rfl) rfl
theorem q1592 : (Jvm.Cond.code ({ cls := "VowelTorus$Fault", name := "<init>", desc := "(I)V" } : Jvm.MethodName) prog_2_method_1_code (2 : Nat) (Option.none : Option Jvm.ClassFile.FieldType)) ∈ lw_all := lw_g (lw_at lw_m7 65 rfl) rfl
theorem q1593 : (Jvm.Cond.methodLink "VowelTorus$Fault" (1 : Nat) ({ cls := "java/lang/RuntimeException", name := "<init>", desc := "()V" } : Jvm.MethodName)) ∈ lw_all := lw_g (lw_at lw_m7 66 rfl) rfl
theorem q1594 : (Jvm.Cond.fieldLink "VowelTorus$Fault" (7 : Nat) "VowelTorus$Fault" "position" "I") ∈ lw_all := lw_g (lw_at lw_m7 67 rfl) rfl
theorem q1596 : (Jvm.Cond.laysFinal "VowelTorus$Fault" "VowelTorus$Fault" "position" "I") ∈ lw_all := lw_g (lw_at lw_m7 69 rfl) rfl
theorem q1597 : (Jvm.Cond.soleField "VowelTorus$Fault" "position") ∈ lw_all := lw_g (lw_at lw_m7 70 rfl) rfl
theorem q1598 : (Jvm.Cond.lays "VowelTorus$Fault" "java/lang/Throwable" "depth" "I") ∈ lw_all := lw_g (lw_at lw_m7 71 rfl) rfl
theorem q1599 : (Jvm.Cond.superclass "VowelTorus$Fault" "java/lang/RuntimeException") ∈ lw_all := lw_g (lw_at lw_m7 72 rfl) rfl
theorem q2214 : (Jvm.Cond.castable "VowelTorus$Fault" "java/lang/Object") ∈ lw_tbl := lw_at lw_m9 207 rfl
theorem in_X8 : ∀ w ∈ wsX80, w ∈ lw_all := lw_in wsX80 [1585, 1586, 1587, 1588, 1589, 1598, 1596] (by decide +kernel) (by decide +kernel)
