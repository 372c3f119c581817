/-! VowelTorusModel -/
set_option maxRecDepth 100000
def RX5 : String := "VowelTorusModel"
def TX5 : u_T := fun k => match k with
  | 0 => ("VowelTorusModel", "g", "[I", true)
  | 1 => ("VowelTorusModel", "before", "[I", true)
  | 2 => ("VowelTorusModel", "history", "[I", true)
  | 3 => ("VowelTorusModel", "changes", "I", false)
  | 4 => ("VowelTorusModel", "savedOnes", "[I", true)
  | 5 => ("VowelTorusModel", "hasSaved", "Z", false)
  | 6 => ("VowelTorusModel", "input", "[C", true)
  | 7 => ("VowelTorusModel", "typed", "I", false)
  | 8 => ("VowelTorusModel", "errorAt", "I", false)
  | 9 => ("VowelTorusModel", "why", "I", false)
  | 10 => ("VowelTorusModel", "whyDetail", "I", false)
  | 11 => ("VowelTorusModel", "isRefused", "Z", false)
  | 12 => ("VowelTorusModel", "letters", "[C", true)
  | 13 => ("VowelTorusModel", "lined", "I", false)
  | 14 => ("VowelTorusModel", "thrown", "I", false)
  | 15 => ("VowelTorusModel", "tried", "[I", true)
  | 16 => ("VowelTorusModel", "moved", "[I", true)
  | 17 => ("VowelTorusModel", "firstOne", "I", false)
  | 18 => ("VowelTorusModel", "spot", "I", false)
  | 19 => ("VowelTorusModel", "isWrong", "Z", false)
  | _ => ("VowelTorusModel", "told", "[I", true)
def tyX5 : Nat → FieldType := fun k => match k with
  | 0 => .array .int
  | 1 => .array .int
  | 2 => .array .int
  | 3 => .int
  | 4 => .array .int
  | 5 => .boolean
  | 6 => .array .char
  | 7 => .int
  | 8 => .int
  | 9 => .int
  | 10 => .int
  | 11 => .boolean
  | 12 => .array .char
  | 13 => .int
  | 14 => .int
  | 15 => .array .int
  | 16 => .array .int
  | 17 => .int
  | 18 => .int
  | 19 => .boolean
  | _ => .array .int
abbrev wsX50 : List Cond := u_ws RX5 TX5 21
set_option maxRecDepth 100000 in
theorem nmX5 : ∀ a, a < 21 → ∀ b, b < 21 → a ≠ b → (TX5 a).2.1 ≠ (TX5 b).2.1 := by decide +kernel
set_option maxRecDepth 100000 in
theorem tyX5_ok : ∀ k, k < 21 → parseFieldDescriptor (TX5 k).2.2.1 = some (tyX5 k) := by decide +kernel
abbrev cX5_init : ByteArray := prog_12_method_1_code
def yX5_init : MethodName := ⟨RX5, "<init>", "()V"⟩
def dkwX5_init_3 : List UInt8 := [181, 0, 36, 42, 17, 0, 180, 188, 10, 181, 0, 39, 42, 6, 6, 182, 0, 42, 177]
abbrev dktX5_init_3 : List UInt8 := dkwX5_init_3 ++ []
def dkwX5_init_2 : List UInt8 := [181, 0, 26, 42, 16, 20, 188, 5, 181, 0, 30, 42, 16, 9, 188, 10, 181, 0, 33, 42, 16, 9, 188, 10]
abbrev dktX5_init_2 : List UInt8 := dkwX5_init_2 ++ dktX5_init_3
def dkwX5_init_1 : List UInt8 := [188, 10, 181, 0, 16, 42, 16, 32, 188, 10, 181, 0, 19, 42, 16, 60, 188, 5, 181, 0, 22, 42, 2]
abbrev dktX5_init_1 : List UInt8 := dkwX5_init_1 ++ dktX5_init_2
def dkwX5_init_0 : List UInt8 := [42, 183, 0, 1, 42, 16, 32, 188, 10, 181, 0, 7, 42, 16, 32, 188, 10, 181, 0, 13, 42, 17, 1, 0]
abbrev dktX5_init_0 : List UInt8 := dkwX5_init_0 ++ dktX5_init_1
theorem dksX5_init_0 : cX5_init.data.toList.drop 0 = dktX5_init_0 := by decide +kernel
theorem dksX5_init_1 : cX5_init.data.toList.drop 24 = dktX5_init_1 := dk_seg dksX5_init_0 24 rfl rfl
theorem dksX5_init_2 : cX5_init.data.toList.drop 47 = dktX5_init_2 := dk_seg dksX5_init_1 23 rfl rfl
theorem dksX5_init_3 : cX5_init.data.toList.drop 71 = dktX5_init_3 := dk_seg dksX5_init_2 24 rfl rfl
theorem dX5_init_0 : decode cX5_init 0 = .ok (.aload_n 0, 1) := dk_42 (dk_at dksX5_init_0 0 rfl rfl)
theorem dX5_init_1 : decode cX5_init 1 = .ok (.invokespecial 1, 3) := dk_183 0 1 (dk_at dksX5_init_0 1 rfl rfl)
theorem dX5_init_4 : decode cX5_init 4 = .ok (.aload_n 0, 1) := dk_42 (dk_at dksX5_init_0 4 rfl rfl)
theorem dX5_init_5 : decode cX5_init 5 = .ok (.bipush 32, 2) := dk_16 32 (dk_at dksX5_init_0 5 rfl rfl)
theorem dX5_init_7 : decode cX5_init 7 = .ok (.newarray .int, 2) := dk_188_10 (dk_at dksX5_init_0 7 rfl rfl)
theorem dX5_init_9 : decode cX5_init 9 = .ok (.putfield 7, 3) := dk_181 0 7 (dk_at dksX5_init_0 9 rfl rfl)
theorem dX5_init_12 : decode cX5_init 12 = .ok (.aload_n 0, 1) := dk_42 (dk_at dksX5_init_0 12 rfl rfl)
theorem dX5_init_13 : decode cX5_init 13 = .ok (.bipush 32, 2) := dk_16 32 (dk_at dksX5_init_0 13 rfl rfl)
theorem dX5_init_15 : decode cX5_init 15 = .ok (.newarray .int, 2) := dk_188_10 (dk_at dksX5_init_0 15 rfl rfl)
theorem dX5_init_17 : decode cX5_init 17 = .ok (.putfield 13, 3) := dk_181 0 13 (dk_at dksX5_init_0 17 rfl rfl)
theorem dX5_init_20 : decode cX5_init 20 = .ok (.aload_n 0, 1) := dk_42 (dk_at dksX5_init_0 20 rfl rfl)
theorem dX5_init_21 : decode cX5_init 21 = .ok (.sipush 256, 3) := dk_17 1 0 (dk_at dksX5_init_0 21 rfl rfl)
theorem dX5_init_24 : decode cX5_init 24 = .ok (.newarray .int, 2) := dk_188_10 (dk_at dksX5_init_1 0 rfl rfl)
theorem dX5_init_26 : decode cX5_init 26 = .ok (.putfield 16, 3) := dk_181 0 16 (dk_at dksX5_init_1 2 rfl rfl)
theorem dX5_init_29 : decode cX5_init 29 = .ok (.aload_n 0, 1) := dk_42 (dk_at dksX5_init_1 5 rfl rfl)
theorem dX5_init_30 : decode cX5_init 30 = .ok (.bipush 32, 2) := dk_16 32 (dk_at dksX5_init_1 6 rfl rfl)
theorem dX5_init_32 : decode cX5_init 32 = .ok (.newarray .int, 2) := dk_188_10 (dk_at dksX5_init_1 8 rfl rfl)
theorem dX5_init_34 : decode cX5_init 34 = .ok (.putfield 19, 3) := dk_181 0 19 (dk_at dksX5_init_1 10 rfl rfl)
theorem dX5_init_37 : decode cX5_init 37 = .ok (.aload_n 0, 1) := dk_42 (dk_at dksX5_init_1 13 rfl rfl)
theorem dX5_init_38 : decode cX5_init 38 = .ok (.bipush 60, 2) := dk_16 60 (dk_at dksX5_init_1 14 rfl rfl)
theorem dX5_init_40 : decode cX5_init 40 = .ok (.newarray .char, 2) := dk_188_5 (dk_at dksX5_init_1 16 rfl rfl)
theorem dX5_init_42 : decode cX5_init 42 = .ok (.putfield 22, 3) := dk_181 0 22 (dk_at dksX5_init_1 18 rfl rfl)
theorem dX5_init_45 : decode cX5_init 45 = .ok (.aload_n 0, 1) := dk_42 (dk_at dksX5_init_1 21 rfl rfl)
theorem dX5_init_46 : decode cX5_init 46 = .ok (.iconst (-1), 1) := dk_2 (dk_at dksX5_init_1 22 rfl rfl)
theorem dX5_init_47 : decode cX5_init 47 = .ok (.putfield 26, 3) := dk_181 0 26 (dk_at dksX5_init_2 0 rfl rfl)
theorem dX5_init_50 : decode cX5_init 50 = .ok (.aload_n 0, 1) := dk_42 (dk_at dksX5_init_2 3 rfl rfl)
theorem dX5_init_51 : decode cX5_init 51 = .ok (.bipush 20, 2) := dk_16 20 (dk_at dksX5_init_2 4 rfl rfl)
theorem dX5_init_53 : decode cX5_init 53 = .ok (.newarray .char, 2) := dk_188_5 (dk_at dksX5_init_2 6 rfl rfl)
theorem dX5_init_55 : decode cX5_init 55 = .ok (.putfield 30, 3) := dk_181 0 30 (dk_at dksX5_init_2 8 rfl rfl)
theorem dX5_init_58 : decode cX5_init 58 = .ok (.aload_n 0, 1) := dk_42 (dk_at dksX5_init_2 11 rfl rfl)
theorem dX5_init_59 : decode cX5_init 59 = .ok (.bipush 9, 2) := dk_16 9 (dk_at dksX5_init_2 12 rfl rfl)
theorem dX5_init_61 : decode cX5_init 61 = .ok (.newarray .int, 2) := dk_188_10 (dk_at dksX5_init_2 14 rfl rfl)
theorem dX5_init_63 : decode cX5_init 63 = .ok (.putfield 33, 3) := dk_181 0 33 (dk_at dksX5_init_2 16 rfl rfl)
theorem dX5_init_66 : decode cX5_init 66 = .ok (.aload_n 0, 1) := dk_42 (dk_at dksX5_init_2 19 rfl rfl)
theorem dX5_init_67 : decode cX5_init 67 = .ok (.bipush 9, 2) := dk_16 9 (dk_at dksX5_init_2 20 rfl rfl)
theorem dX5_init_69 : decode cX5_init 69 = .ok (.newarray .int, 2) := dk_188_10 (dk_at dksX5_init_2 22 rfl rfl)
theorem dX5_init_71 : decode cX5_init 71 = .ok (.putfield 36, 3) := dk_181 0 36 (dk_at dksX5_init_3 0 rfl rfl)
theorem dX5_init_74 : decode cX5_init 74 = .ok (.aload_n 0, 1) := dk_42 (dk_at dksX5_init_3 3 rfl rfl)
theorem dX5_init_75 : decode cX5_init 75 = .ok (.sipush 180, 3) := dk_17 0 180 (dk_at dksX5_init_3 4 rfl rfl)
theorem dX5_init_78 : decode cX5_init 78 = .ok (.newarray .int, 2) := dk_188_10 (dk_at dksX5_init_3 7 rfl rfl)
theorem dX5_init_80 : decode cX5_init 80 = .ok (.putfield 39, 3) := dk_181 0 39 (dk_at dksX5_init_3 9 rfl rfl)
theorem dX5_init_83 : decode cX5_init 83 = .ok (.aload_n 0, 1) := dk_42 (dk_at dksX5_init_3 12 rfl rfl)
theorem dX5_init_84 : decode cX5_init 84 = .ok (.iconst 3, 1) := dk_6 (dk_at dksX5_init_3 13 rfl rfl)
theorem dX5_init_85 : decode cX5_init 85 = .ok (.iconst 3, 1) := dk_6 (dk_at dksX5_init_3 14 rfl rfl)
theorem dX5_init_86 : decode cX5_init 86 = .ok (.invokevirtual 42, 3) := dk_182 0 42 (dk_at dksX5_init_3 15 rfl rfl)
theorem dX5_init_89 : decode cX5_init 89 = .ok (.return_, 1) := dk_177 (dk_at dksX5_init_3 18 rfl rfl)
abbrev cX5_lays : ByteArray := prog_12_method_15_code
def yX5_lays : MethodName := ⟨RX5, "lays", "(II)V"⟩
def dkwX5_lays_3 : List UInt8 := [62, 29, 16, 6, 162, 0, 19, 42, 180, 0, 7, 16, 8, 29, 96, 3, 79, 132, 3, 1, 167, 255, 237, 177]
abbrev dktX5_lays_3 : List UInt8 := dkwX5_lays_3 ++ []
def dkwX5_lays_2 : List UInt8 := [16, 23, 29, 96, 29, 27, 28, 104, 162, 0, 7, 29, 167, 0, 4, 3, 79, 132, 3, 1, 167, 255, 205, 3]
abbrev dktX5_lays_2 : List UInt8 := dkwX5_lays_2 ++ dktX5_lays_3
def dkwX5_lays_1 : List UInt8 := [180, 0, 7, 16, 14, 29, 96, 29, 27, 28, 104, 162, 0, 7, 29, 167, 0, 4, 3, 79, 42, 180, 0, 7]
abbrev dktX5_lays_1 : List UInt8 := dkwX5_lays_1 ++ dktX5_lays_2
def dkwX5_lays_0 : List UInt8 := [42, 180, 0, 7, 3, 27, 79, 42, 180, 0, 7, 4, 28, 79, 3, 62, 29, 16, 9, 162, 0, 51, 42]
abbrev dktX5_lays_0 : List UInt8 := dkwX5_lays_0 ++ dktX5_lays_1
theorem dksX5_lays_0 : cX5_lays.data.toList.drop 0 = dktX5_lays_0 := by decide +kernel
theorem dksX5_lays_1 : cX5_lays.data.toList.drop 23 = dktX5_lays_1 := dk_seg dksX5_lays_0 23 rfl rfl
theorem dksX5_lays_2 : cX5_lays.data.toList.drop 47 = dktX5_lays_2 := dk_seg dksX5_lays_1 24 rfl rfl
theorem dksX5_lays_3 : cX5_lays.data.toList.drop 71 = dktX5_lays_3 := dk_seg dksX5_lays_2 24 rfl rfl
theorem dX5_lays_0 : decode cX5_lays 0 = .ok (.aload_n 0, 1) := dk_42 (dk_at dksX5_lays_0 0 rfl rfl)
theorem dX5_lays_1 : decode cX5_lays 1 = .ok (.getfield 7, 3) := dk_180 0 7 (dk_at dksX5_lays_0 1 rfl rfl)
theorem dX5_lays_4 : decode cX5_lays 4 = .ok (.iconst 0, 1) := dk_3 (dk_at dksX5_lays_0 4 rfl rfl)
theorem dX5_lays_5 : decode cX5_lays 5 = .ok (.iload_n 1, 1) := dk_27 (dk_at dksX5_lays_0 5 rfl rfl)
theorem dX5_lays_6 : decode cX5_lays 6 = .ok (.iastore, 1) := dk_79 (dk_at dksX5_lays_0 6 rfl rfl)
theorem dX5_lays_7 : decode cX5_lays 7 = .ok (.aload_n 0, 1) := dk_42 (dk_at dksX5_lays_0 7 rfl rfl)
theorem dX5_lays_8 : decode cX5_lays 8 = .ok (.getfield 7, 3) := dk_180 0 7 (dk_at dksX5_lays_0 8 rfl rfl)
theorem dX5_lays_11 : decode cX5_lays 11 = .ok (.iconst 1, 1) := dk_4 (dk_at dksX5_lays_0 11 rfl rfl)
theorem dX5_lays_12 : decode cX5_lays 12 = .ok (.iload_n 2, 1) := dk_28 (dk_at dksX5_lays_0 12 rfl rfl)
theorem dX5_lays_13 : decode cX5_lays 13 = .ok (.iastore, 1) := dk_79 (dk_at dksX5_lays_0 13 rfl rfl)
theorem dX5_lays_14 : decode cX5_lays 14 = .ok (.iconst 0, 1) := dk_3 (dk_at dksX5_lays_0 14 rfl rfl)
theorem dX5_lays_15 : decode cX5_lays 15 = .ok (.istore_n 3, 1) := dk_62 (dk_at dksX5_lays_0 15 rfl rfl)
theorem dX5_lays_16 : decode cX5_lays 16 = .ok (.iload_n 3, 1) := dk_29 (dk_at dksX5_lays_0 16 rfl rfl)
theorem dX5_lays_17 : decode cX5_lays 17 = .ok (.bipush 9, 2) := dk_16 9 (dk_at dksX5_lays_0 17 rfl rfl)
theorem dX5_lays_19 : decode cX5_lays 19 = .ok (.if_icmp .ge 51, 3) := dk_162 0 51 (dk_at dksX5_lays_0 19 rfl rfl)
theorem dX5_lays_22 : decode cX5_lays 22 = .ok (.aload_n 0, 1) := dk_42 (dk_at dksX5_lays_0 22 rfl rfl)
theorem dX5_lays_23 : decode cX5_lays 23 = .ok (.getfield 7, 3) := dk_180 0 7 (dk_at dksX5_lays_1 0 rfl rfl)
theorem dX5_lays_26 : decode cX5_lays 26 = .ok (.bipush 14, 2) := dk_16 14 (dk_at dksX5_lays_1 3 rfl rfl)
theorem dX5_lays_28 : decode cX5_lays 28 = .ok (.iload_n 3, 1) := dk_29 (dk_at dksX5_lays_1 5 rfl rfl)
theorem dX5_lays_29 : decode cX5_lays 29 = .ok (.iadd, 1) := dk_96 (dk_at dksX5_lays_1 6 rfl rfl)
theorem dX5_lays_30 : decode cX5_lays 30 = .ok (.iload_n 3, 1) := dk_29 (dk_at dksX5_lays_1 7 rfl rfl)
theorem dX5_lays_31 : decode cX5_lays 31 = .ok (.iload_n 1, 1) := dk_27 (dk_at dksX5_lays_1 8 rfl rfl)
theorem dX5_lays_32 : decode cX5_lays 32 = .ok (.iload_n 2, 1) := dk_28 (dk_at dksX5_lays_1 9 rfl rfl)
theorem dX5_lays_33 : decode cX5_lays 33 = .ok (.imul, 1) := dk_104 (dk_at dksX5_lays_1 10 rfl rfl)
theorem dX5_lays_34 : decode cX5_lays 34 = .ok (.if_icmp .ge 7, 3) := dk_162 0 7 (dk_at dksX5_lays_1 11 rfl rfl)
theorem dX5_lays_37 : decode cX5_lays 37 = .ok (.iload_n 3, 1) := dk_29 (dk_at dksX5_lays_1 14 rfl rfl)
theorem dX5_lays_38 : decode cX5_lays 38 = .ok (.goto 4, 3) := dk_167 0 4 (dk_at dksX5_lays_1 15 rfl rfl)
theorem dX5_lays_41 : decode cX5_lays 41 = .ok (.iconst 0, 1) := dk_3 (dk_at dksX5_lays_1 18 rfl rfl)
theorem dX5_lays_42 : decode cX5_lays 42 = .ok (.iastore, 1) := dk_79 (dk_at dksX5_lays_1 19 rfl rfl)
theorem dX5_lays_43 : decode cX5_lays 43 = .ok (.aload_n 0, 1) := dk_42 (dk_at dksX5_lays_1 20 rfl rfl)
theorem dX5_lays_44 : decode cX5_lays 44 = .ok (.getfield 7, 3) := dk_180 0 7 (dk_at dksX5_lays_1 21 rfl rfl)
theorem dX5_lays_47 : decode cX5_lays 47 = .ok (.bipush 23, 2) := dk_16 23 (dk_at dksX5_lays_2 0 rfl rfl)
theorem dX5_lays_49 : decode cX5_lays 49 = .ok (.iload_n 3, 1) := dk_29 (dk_at dksX5_lays_2 2 rfl rfl)
theorem dX5_lays_50 : decode cX5_lays 50 = .ok (.iadd, 1) := dk_96 (dk_at dksX5_lays_2 3 rfl rfl)
theorem dX5_lays_51 : decode cX5_lays 51 = .ok (.iload_n 3, 1) := dk_29 (dk_at dksX5_lays_2 4 rfl rfl)
theorem dX5_lays_52 : decode cX5_lays 52 = .ok (.iload_n 1, 1) := dk_27 (dk_at dksX5_lays_2 5 rfl rfl)
theorem dX5_lays_53 : decode cX5_lays 53 = .ok (.iload_n 2, 1) := dk_28 (dk_at dksX5_lays_2 6 rfl rfl)
theorem dX5_lays_54 : decode cX5_lays 54 = .ok (.imul, 1) := dk_104 (dk_at dksX5_lays_2 7 rfl rfl)
theorem dX5_lays_55 : decode cX5_lays 55 = .ok (.if_icmp .ge 7, 3) := dk_162 0 7 (dk_at dksX5_lays_2 8 rfl rfl)
theorem dX5_lays_58 : decode cX5_lays 58 = .ok (.iload_n 3, 1) := dk_29 (dk_at dksX5_lays_2 11 rfl rfl)
theorem dX5_lays_59 : decode cX5_lays 59 = .ok (.goto 4, 3) := dk_167 0 4 (dk_at dksX5_lays_2 12 rfl rfl)
theorem dX5_lays_62 : decode cX5_lays 62 = .ok (.iconst 0, 1) := dk_3 (dk_at dksX5_lays_2 15 rfl rfl)
theorem dX5_lays_63 : decode cX5_lays 63 = .ok (.iastore, 1) := dk_79 (dk_at dksX5_lays_2 16 rfl rfl)
theorem dX5_lays_64 : decode cX5_lays 64 = .ok (.iinc 3 1, 3) := dk_132 3 1 (dk_at dksX5_lays_2 17 rfl rfl)
theorem dX5_lays_67 : decode cX5_lays 67 = .ok (.goto (-51), 3) := dk_167 255 205 (dk_at dksX5_lays_2 20 rfl rfl)
theorem dX5_lays_70 : decode cX5_lays 70 = .ok (.iconst 0, 1) := dk_3 (dk_at dksX5_lays_2 23 rfl rfl)
theorem dX5_lays_71 : decode cX5_lays 71 = .ok (.istore_n 3, 1) := dk_62 (dk_at dksX5_lays_3 0 rfl rfl)
theorem dX5_lays_72 : decode cX5_lays 72 = .ok (.iload_n 3, 1) := dk_29 (dk_at dksX5_lays_3 1 rfl rfl)
theorem dX5_lays_73 : decode cX5_lays 73 = .ok (.bipush 6, 2) := dk_16 6 (dk_at dksX5_lays_3 2 rfl rfl)
theorem dX5_lays_75 : decode cX5_lays 75 = .ok (.if_icmp .ge 19, 3) := dk_162 0 19 (dk_at dksX5_lays_3 4 rfl rfl)
theorem dX5_lays_78 : decode cX5_lays 78 = .ok (.aload_n 0, 1) := dk_42 (dk_at dksX5_lays_3 7 rfl rfl)
theorem dX5_lays_79 : decode cX5_lays 79 = .ok (.getfield 7, 3) := dk_180 0 7 (dk_at dksX5_lays_3 8 rfl rfl)
theorem dX5_lays_82 : decode cX5_lays 82 = .ok (.bipush 8, 2) := dk_16 8 (dk_at dksX5_lays_3 11 rfl rfl)
theorem dX5_lays_84 : decode cX5_lays 84 = .ok (.iload_n 3, 1) := dk_29 (dk_at dksX5_lays_3 13 rfl rfl)
theorem dX5_lays_85 : decode cX5_lays 85 = .ok (.iadd, 1) := dk_96 (dk_at dksX5_lays_3 14 rfl rfl)
theorem dX5_lays_86 : decode cX5_lays 86 = .ok (.iconst 0, 1) := dk_3 (dk_at dksX5_lays_3 15 rfl rfl)
theorem dX5_lays_87 : decode cX5_lays 87 = .ok (.iastore, 1) := dk_79 (dk_at dksX5_lays_3 16 rfl rfl)
theorem dX5_lays_88 : decode cX5_lays 88 = .ok (.iinc 3 1, 3) := dk_132 3 1 (dk_at dksX5_lays_3 17 rfl rfl)
theorem dX5_lays_91 : decode cX5_lays 91 = .ok (.goto (-19), 3) := dk_167 255 237 (dk_at dksX5_lays_3 20 rfl rfl)
theorem dX5_lays_94 : decode cX5_lays 94 = .ok (.return_, 1) := dk_177 (dk_at dksX5_lays_3 23 rfl rfl)
abbrev cX5_thrown : ByteArray := prog_12_method_2_code
def yX5_thrown : MethodName := ⟨RX5, "thrown", "()I"⟩
theorem dX5_thrown_0 : decode cX5_thrown 0 = .ok (.aload_n 0, 1) := by decide +kernel
theorem dX5_thrown_1 : decode cX5_thrown 1 = .ok (.getfield 46, 3) := by decide +kernel
theorem dX5_thrown_4 : decode cX5_thrown 4 = .ok (.ireturn, 1) := by decide +kernel
abbrev cX5_board : ByteArray := prog_12_method_17_code
def yX5_board : MethodName := ⟨RX5, "board", "(II)I"⟩
def dkwX5_board_0 : List UInt8 := [42, 182, 0, 84, 42, 42, 27, 28, 182, 0, 87, 182, 0, 91, 172]
abbrev dktX5_board_0 : List UInt8 := dkwX5_board_0 ++ []
theorem dksX5_board_0 : cX5_board.data.toList.drop 0 = dktX5_board_0 := by decide +kernel
theorem dX5_board_0 : decode cX5_board 0 = .ok (.aload_n 0, 1) := dk_42 (dk_at dksX5_board_0 0 rfl rfl)
theorem dX5_board_1 : decode cX5_board 1 = .ok (.invokevirtual 84, 3) := dk_182 0 84 (dk_at dksX5_board_0 1 rfl rfl)
theorem dX5_board_4 : decode cX5_board 4 = .ok (.aload_n 0, 1) := dk_42 (dk_at dksX5_board_0 4 rfl rfl)
theorem dX5_board_5 : decode cX5_board 5 = .ok (.aload_n 0, 1) := dk_42 (dk_at dksX5_board_0 5 rfl rfl)
theorem dX5_board_6 : decode cX5_board 6 = .ok (.iload_n 1, 1) := dk_27 (dk_at dksX5_board_0 6 rfl rfl)
theorem dX5_board_7 : decode cX5_board 7 = .ok (.iload_n 2, 1) := dk_28 (dk_at dksX5_board_0 7 rfl rfl)
theorem dX5_board_8 : decode cX5_board 8 = .ok (.invokevirtual 87, 3) := dk_182 0 87 (dk_at dksX5_board_0 8 rfl rfl)
theorem dX5_board_11 : decode cX5_board 11 = .ok (.invokevirtual 91, 3) := dk_182 0 91 (dk_at dksX5_board_0 11 rfl rfl)
theorem dX5_board_14 : decode cX5_board 14 = .ok (.ireturn, 1) := dk_172 (dk_at dksX5_board_0 14 rfl rfl)
abbrev cX5_looksBack : ByteArray := prog_12_method_8_code
def yX5_looksBack : MethodName := ⟨RX5, "looksBack", "()V"⟩
def dkwX5_looksBack_0 : List UInt8 := [42, 180, 0, 7, 3, 42, 180, 0, 13, 3, 184, 0, 59, 177]
abbrev dktX5_looksBack_0 : List UInt8 := dkwX5_looksBack_0 ++ []
theorem dksX5_looksBack_0 : cX5_looksBack.data.toList.drop 0 = dktX5_looksBack_0 := by decide +kernel
theorem dX5_looksBack_0 : decode cX5_looksBack 0 = .ok (.aload_n 0, 1) := dk_42 (dk_at dksX5_looksBack_0 0 rfl rfl)
theorem dX5_looksBack_1 : decode cX5_looksBack 1 = .ok (.getfield 7, 3) := dk_180 0 7 (dk_at dksX5_looksBack_0 1 rfl rfl)
theorem dX5_looksBack_4 : decode cX5_looksBack 4 = .ok (.iconst 0, 1) := dk_3 (dk_at dksX5_looksBack_0 4 rfl rfl)
theorem dX5_looksBack_5 : decode cX5_looksBack 5 = .ok (.aload_n 0, 1) := dk_42 (dk_at dksX5_looksBack_0 5 rfl rfl)
theorem dX5_looksBack_6 : decode cX5_looksBack 6 = .ok (.getfield 13, 3) := dk_180 0 13 (dk_at dksX5_looksBack_0 6 rfl rfl)
theorem dX5_looksBack_9 : decode cX5_looksBack 9 = .ok (.iconst 0, 1) := dk_3 (dk_at dksX5_looksBack_0 9 rfl rfl)
theorem dX5_looksBack_10 : decode cX5_looksBack 10 = .ok (.invokestatic 59, 3) := dk_184 0 59 (dk_at dksX5_looksBack_0 10 rfl rfl)
theorem dX5_looksBack_13 : decode cX5_looksBack 13 = .ok (.return_, 1) := dk_177 (dk_at dksX5_looksBack_0 13 rfl rfl)
abbrev cX5_copy : ByteArray := prog_12_method_7_code
def yX5_copy : MethodName := ⟨RX5, "copy", "([II[II)V"⟩
def dkwX5_copy_1 : List UInt8 := [132, 4, 1, 167, 255, 234, 177]
abbrev dktX5_copy_1 : List UInt8 := dkwX5_copy_1 ++ []
def dkwX5_copy_0 : List UInt8 := [3, 54, 4, 21, 4, 16, 32, 162, 0, 21, 44, 29, 21, 4, 96, 42, 27, 21, 4, 96, 46, 79]
abbrev dktX5_copy_0 : List UInt8 := dkwX5_copy_0 ++ dktX5_copy_1
theorem dksX5_copy_0 : cX5_copy.data.toList.drop 0 = dktX5_copy_0 := by decide +kernel
theorem dksX5_copy_1 : cX5_copy.data.toList.drop 22 = dktX5_copy_1 := dk_seg dksX5_copy_0 22 rfl rfl
theorem dX5_copy_0 : decode cX5_copy 0 = .ok (.iconst 0, 1) := dk_3 (dk_at dksX5_copy_0 0 rfl rfl)
theorem dX5_copy_1 : decode cX5_copy 1 = .ok (.istore 4, 2) := dk_54 4 (dk_at dksX5_copy_0 1 rfl rfl)
theorem dX5_copy_3 : decode cX5_copy 3 = .ok (.iload 4, 2) := dk_21 4 (dk_at dksX5_copy_0 3 rfl rfl)
theorem dX5_copy_5 : decode cX5_copy 5 = .ok (.bipush 32, 2) := dk_16 32 (dk_at dksX5_copy_0 5 rfl rfl)
theorem dX5_copy_7 : decode cX5_copy 7 = .ok (.if_icmp .ge 21, 3) := dk_162 0 21 (dk_at dksX5_copy_0 7 rfl rfl)
theorem dX5_copy_10 : decode cX5_copy 10 = .ok (.aload_n 2, 1) := dk_44 (dk_at dksX5_copy_0 10 rfl rfl)
theorem dX5_copy_11 : decode cX5_copy 11 = .ok (.iload_n 3, 1) := dk_29 (dk_at dksX5_copy_0 11 rfl rfl)
theorem dX5_copy_12 : decode cX5_copy 12 = .ok (.iload 4, 2) := dk_21 4 (dk_at dksX5_copy_0 12 rfl rfl)
theorem dX5_copy_14 : decode cX5_copy 14 = .ok (.iadd, 1) := dk_96 (dk_at dksX5_copy_0 14 rfl rfl)
theorem dX5_copy_15 : decode cX5_copy 15 = .ok (.aload_n 0, 1) := dk_42 (dk_at dksX5_copy_0 15 rfl rfl)
theorem dX5_copy_16 : decode cX5_copy 16 = .ok (.iload_n 1, 1) := dk_27 (dk_at dksX5_copy_0 16 rfl rfl)
theorem dX5_copy_17 : decode cX5_copy 17 = .ok (.iload 4, 2) := dk_21 4 (dk_at dksX5_copy_0 17 rfl rfl)
theorem dX5_copy_19 : decode cX5_copy 19 = .ok (.iadd, 1) := dk_96 (dk_at dksX5_copy_0 19 rfl rfl)
theorem dX5_copy_20 : decode cX5_copy 20 = .ok (.iaload, 1) := dk_46 (dk_at dksX5_copy_0 20 rfl rfl)
theorem dX5_copy_21 : decode cX5_copy 21 = .ok (.iastore, 1) := dk_79 (dk_at dksX5_copy_0 21 rfl rfl)
theorem dX5_copy_22 : decode cX5_copy 22 = .ok (.iinc 4 1, 3) := dk_132 4 1 (dk_at dksX5_copy_1 0 rfl rfl)
theorem dX5_copy_25 : decode cX5_copy 25 = .ok (.goto (-22), 3) := dk_167 255 234 (dk_at dksX5_copy_1 3 rfl rfl)
theorem dX5_copy_28 : decode cX5_copy 28 = .ok (.return_, 1) := dk_177 (dk_at dksX5_copy_1 6 rfl rfl)
abbrev cX5_boards : ByteArray := prog_12_method_16_code
def yX5_boards : MethodName := ⟨RX5, "boards", "(II)I"⟩
def dkwX5_boards_2 : List UInt8 := [182, 0, 81, 172]
abbrev dktX5_boards_2 : List UInt8 := dkwX5_boards_2 ++ []
def dkwX5_boards_1 : List UInt8 := [42, 27, 28, 182, 0, 42, 42, 180, 0, 7, 16, 6, 92, 46, 4, 96, 79, 42, 42, 182, 0, 66]
abbrev dktX5_boards_1 : List UInt8 := dkwX5_boards_1 ++ dktX5_boards_2
def dkwX5_boards_0 : List UInt8 := [27, 5, 6, 184, 0, 70, 153, 0, 12, 28, 5, 6, 184, 0, 70, 154, 0, 9, 42, 4, 182, 0, 77, 172]
abbrev dktX5_boards_0 : List UInt8 := dkwX5_boards_0 ++ dktX5_boards_1
theorem dksX5_boards_0 : cX5_boards.data.toList.drop 0 = dktX5_boards_0 := by decide +kernel
theorem dksX5_boards_1 : cX5_boards.data.toList.drop 24 = dktX5_boards_1 := dk_seg dksX5_boards_0 24 rfl rfl
theorem dksX5_boards_2 : cX5_boards.data.toList.drop 46 = dktX5_boards_2 := dk_seg dksX5_boards_1 22 rfl rfl
theorem dX5_boards_0 : decode cX5_boards 0 = .ok (.iload_n 1, 1) := dk_27 (dk_at dksX5_boards_0 0 rfl rfl)
theorem dX5_boards_1 : decode cX5_boards 1 = .ok (.iconst 2, 1) := dk_5 (dk_at dksX5_boards_0 1 rfl rfl)
theorem dX5_boards_2 : decode cX5_boards 2 = .ok (.iconst 3, 1) := dk_6 (dk_at dksX5_boards_0 2 rfl rfl)
theorem dX5_boards_3 : decode cX5_boards 3 = .ok (.invokestatic 70, 3) := dk_184 0 70 (dk_at dksX5_boards_0 3 rfl rfl)
theorem dX5_boards_6 : decode cX5_boards 6 = .ok (.ifCond .eq 12, 3) := dk_153 0 12 (dk_at dksX5_boards_0 6 rfl rfl)
theorem dX5_boards_9 : decode cX5_boards 9 = .ok (.iload_n 2, 1) := dk_28 (dk_at dksX5_boards_0 9 rfl rfl)
theorem dX5_boards_10 : decode cX5_boards 10 = .ok (.iconst 2, 1) := dk_5 (dk_at dksX5_boards_0 10 rfl rfl)
theorem dX5_boards_11 : decode cX5_boards 11 = .ok (.iconst 3, 1) := dk_6 (dk_at dksX5_boards_0 11 rfl rfl)
theorem dX5_boards_12 : decode cX5_boards 12 = .ok (.invokestatic 70, 3) := dk_184 0 70 (dk_at dksX5_boards_0 12 rfl rfl)
theorem dX5_boards_15 : decode cX5_boards 15 = .ok (.ifCond .ne 9, 3) := dk_154 0 9 (dk_at dksX5_boards_0 15 rfl rfl)
theorem dX5_boards_18 : decode cX5_boards 18 = .ok (.aload_n 0, 1) := dk_42 (dk_at dksX5_boards_0 18 rfl rfl)
theorem dX5_boards_19 : decode cX5_boards 19 = .ok (.iconst 1, 1) := dk_4 (dk_at dksX5_boards_0 19 rfl rfl)
theorem dX5_boards_20 : decode cX5_boards 20 = .ok (.invokevirtual 77, 3) := dk_182 0 77 (dk_at dksX5_boards_0 20 rfl rfl)
theorem dX5_boards_23 : decode cX5_boards 23 = .ok (.ireturn, 1) := dk_172 (dk_at dksX5_boards_0 23 rfl rfl)
theorem dX5_boards_24 : decode cX5_boards 24 = .ok (.aload_n 0, 1) := dk_42 (dk_at dksX5_boards_1 0 rfl rfl)
theorem dX5_boards_25 : decode cX5_boards 25 = .ok (.iload_n 1, 1) := dk_27 (dk_at dksX5_boards_1 1 rfl rfl)
theorem dX5_boards_26 : decode cX5_boards 26 = .ok (.iload_n 2, 1) := dk_28 (dk_at dksX5_boards_1 2 rfl rfl)
theorem dX5_boards_27 : decode cX5_boards 27 = .ok (.invokevirtual 42, 3) := dk_182 0 42 (dk_at dksX5_boards_1 3 rfl rfl)
theorem dX5_boards_30 : decode cX5_boards 30 = .ok (.aload_n 0, 1) := dk_42 (dk_at dksX5_boards_1 6 rfl rfl)
theorem dX5_boards_31 : decode cX5_boards 31 = .ok (.getfield 7, 3) := dk_180 0 7 (dk_at dksX5_boards_1 7 rfl rfl)
theorem dX5_boards_34 : decode cX5_boards 34 = .ok (.bipush 6, 2) := dk_16 6 (dk_at dksX5_boards_1 10 rfl rfl)
theorem dX5_boards_36 : decode cX5_boards 36 = .ok (.dup2, 1) := dk_92 (dk_at dksX5_boards_1 12 rfl rfl)
theorem dX5_boards_37 : decode cX5_boards 37 = .ok (.iaload, 1) := dk_46 (dk_at dksX5_boards_1 13 rfl rfl)
theorem dX5_boards_38 : decode cX5_boards 38 = .ok (.iconst 1, 1) := dk_4 (dk_at dksX5_boards_1 14 rfl rfl)
theorem dX5_boards_39 : decode cX5_boards 39 = .ok (.iadd, 1) := dk_96 (dk_at dksX5_boards_1 15 rfl rfl)
theorem dX5_boards_40 : decode cX5_boards 40 = .ok (.iastore, 1) := dk_79 (dk_at dksX5_boards_1 16 rfl rfl)
theorem dX5_boards_41 : decode cX5_boards 41 = .ok (.aload_n 0, 1) := dk_42 (dk_at dksX5_boards_1 17 rfl rfl)
theorem dX5_boards_42 : decode cX5_boards 42 = .ok (.aload_n 0, 1) := dk_42 (dk_at dksX5_boards_1 18 rfl rfl)
theorem dX5_boards_43 : decode cX5_boards 43 = .ok (.invokevirtual 66, 3) := dk_182 0 66 (dk_at dksX5_boards_1 19 rfl rfl)
theorem dX5_boards_46 : decode cX5_boards 46 = .ok (.invokevirtual 81, 3) := dk_182 0 81 (dk_at dksX5_boards_2 0 rfl rfl)
theorem dX5_boards_49 : decode cX5_boards 49 = .ok (.ireturn, 1) := dk_172 (dk_at dksX5_boards_2 3 rfl rfl)
abbrev cX5_in : ByteArray := prog_12_method_3_code
def yX5_in : MethodName := ⟨RX5, "in", "(III)Z"⟩
def dkwX5_in_0 : List UInt8 := [26, 27, 161, 0, 12, 26, 28, 163, 0, 7, 4, 167, 0, 4, 3, 172]
abbrev dktX5_in_0 : List UInt8 := dkwX5_in_0 ++ []
theorem dksX5_in_0 : cX5_in.data.toList.drop 0 = dktX5_in_0 := by decide +kernel
theorem dX5_in_0 : decode cX5_in 0 = .ok (.iload_n 0, 1) := dk_26 (dk_at dksX5_in_0 0 rfl rfl)
theorem dX5_in_1 : decode cX5_in 1 = .ok (.iload_n 1, 1) := dk_27 (dk_at dksX5_in_0 1 rfl rfl)
theorem dX5_in_2 : decode cX5_in 2 = .ok (.if_icmp .lt 12, 3) := dk_161 0 12 (dk_at dksX5_in_0 2 rfl rfl)
theorem dX5_in_5 : decode cX5_in 5 = .ok (.iload_n 0, 1) := dk_26 (dk_at dksX5_in_0 5 rfl rfl)
theorem dX5_in_6 : decode cX5_in 6 = .ok (.iload_n 2, 1) := dk_28 (dk_at dksX5_in_0 6 rfl rfl)
theorem dX5_in_7 : decode cX5_in 7 = .ok (.if_icmp .gt 7, 3) := dk_163 0 7 (dk_at dksX5_in_0 7 rfl rfl)
theorem dX5_in_10 : decode cX5_in 10 = .ok (.iconst 1, 1) := dk_4 (dk_at dksX5_in_0 10 rfl rfl)
theorem dX5_in_11 : decode cX5_in 11 = .ok (.goto 4, 3) := dk_167 0 4 (dk_at dksX5_in_0 11 rfl rfl)
theorem dX5_in_14 : decode cX5_in 14 = .ok (.iconst 0, 1) := dk_3 (dk_at dksX5_in_0 14 rfl rfl)
theorem dX5_in_15 : decode cX5_in 15 = .ok (.ireturn, 1) := dk_172 (dk_at dksX5_in_0 15 rfl rfl)
abbrev cX5_fails : ByteArray := prog_12_method_5_code
def yX5_fails : MethodName := ⟨RX5, "fails", "(I)I"⟩
def dkwX5_fails_0 : List UInt8 := [42, 27, 181, 0, 46, 42, 3, 181, 0, 49, 3, 172]
abbrev dktX5_fails_0 : List UInt8 := dkwX5_fails_0 ++ []
theorem dksX5_fails_0 : cX5_fails.data.toList.drop 0 = dktX5_fails_0 := by decide +kernel
theorem dX5_fails_0 : decode cX5_fails 0 = .ok (.aload_n 0, 1) := dk_42 (dk_at dksX5_fails_0 0 rfl rfl)
theorem dX5_fails_1 : decode cX5_fails 1 = .ok (.iload_n 1, 1) := dk_27 (dk_at dksX5_fails_0 1 rfl rfl)
theorem dX5_fails_2 : decode cX5_fails 2 = .ok (.putfield 46, 3) := dk_181 0 46 (dk_at dksX5_fails_0 2 rfl rfl)
theorem dX5_fails_5 : decode cX5_fails 5 = .ok (.aload_n 0, 1) := dk_42 (dk_at dksX5_fails_0 5 rfl rfl)
theorem dX5_fails_6 : decode cX5_fails 6 = .ok (.iconst 0, 1) := dk_3 (dk_at dksX5_fails_0 6 rfl rfl)
theorem dX5_fails_7 : decode cX5_fails 7 = .ok (.putfield 49, 3) := dk_181 0 49 (dk_at dksX5_fails_0 7 rfl rfl)
theorem dX5_fails_10 : decode cX5_fails 10 = .ok (.iconst 0, 1) := dk_3 (dk_at dksX5_fails_0 10 rfl rfl)
theorem dX5_fails_11 : decode cX5_fails 11 = .ok (.ireturn, 1) := dk_172 (dk_at dksX5_fails_0 11 rfl rfl)
abbrev cX5_places : ByteArray := prog_12_method_10_code
def yX5_places : MethodName := ⟨RX5, "places", "()I"⟩
def dkwX5_places_0 : List UInt8 := [42, 180, 0, 7, 3, 46, 42, 180, 0, 7, 4, 46, 104, 172]
abbrev dktX5_places_0 : List UInt8 := dkwX5_places_0 ++ []
theorem dksX5_places_0 : cX5_places.data.toList.drop 0 = dktX5_places_0 := by decide +kernel
theorem dX5_places_0 : decode cX5_places 0 = .ok (.aload_n 0, 1) := dk_42 (dk_at dksX5_places_0 0 rfl rfl)
theorem dX5_places_1 : decode cX5_places 1 = .ok (.getfield 7, 3) := dk_180 0 7 (dk_at dksX5_places_0 1 rfl rfl)
theorem dX5_places_4 : decode cX5_places 4 = .ok (.iconst 0, 1) := dk_3 (dk_at dksX5_places_0 4 rfl rfl)
theorem dX5_places_5 : decode cX5_places 5 = .ok (.iaload, 1) := dk_46 (dk_at dksX5_places_0 5 rfl rfl)
theorem dX5_places_6 : decode cX5_places 6 = .ok (.aload_n 0, 1) := dk_42 (dk_at dksX5_places_0 6 rfl rfl)
theorem dX5_places_7 : decode cX5_places 7 = .ok (.getfield 7, 3) := dk_180 0 7 (dk_at dksX5_places_0 7 rfl rfl)
theorem dX5_places_10 : decode cX5_places 10 = .ok (.iconst 1, 1) := dk_4 (dk_at dksX5_places_0 10 rfl rfl)
theorem dX5_places_11 : decode cX5_places 11 = .ok (.iaload, 1) := dk_46 (dk_at dksX5_places_0 11 rfl rfl)
theorem dX5_places_12 : decode cX5_places 12 = .ok (.imul, 1) := dk_104 (dk_at dksX5_places_0 12 rfl rfl)
theorem dX5_places_13 : decode cX5_places 13 = .ok (.ireturn, 1) := dk_172 (dk_at dksX5_places_0 13 rfl rfl)
abbrev cX5_done : ByteArray := prog_12_method_4_code
def yX5_done : MethodName := ⟨RX5, "done", "(I)I"⟩
def dkwX5_done_0 : List UInt8 := [42, 3, 181, 0, 46, 27, 172]
abbrev dktX5_done_0 : List UInt8 := dkwX5_done_0 ++ []
theorem dksX5_done_0 : cX5_done.data.toList.drop 0 = dktX5_done_0 := by decide +kernel
theorem dX5_done_0 : decode cX5_done 0 = .ok (.aload_n 0, 1) := dk_42 (dk_at dksX5_done_0 0 rfl rfl)
theorem dX5_done_1 : decode cX5_done 1 = .ok (.iconst 0, 1) := dk_3 (dk_at dksX5_done_0 1 rfl rfl)
theorem dX5_done_2 : decode cX5_done 2 = .ok (.putfield 46, 3) := dk_181 0 46 (dk_at dksX5_done_0 2 rfl rfl)
theorem dX5_done_5 : decode cX5_done 5 = .ok (.iload_n 1, 1) := dk_27 (dk_at dksX5_done_0 5 rfl rfl)
theorem dX5_done_6 : decode cX5_done 6 = .ok (.ireturn, 1) := dk_172 (dk_at dksX5_done_0 6 rfl rfl)
abbrev cX5_kept : ByteArray := prog_12_method_9_code
def yX5_kept : MethodName := ⟨RX5, "kept", "(I)I"⟩
def dkwX5_kept_4 : List UInt8 := [180, 0, 63, 4, 96, 181, 0, 63, 27, 172]
abbrev dktX5_kept_4 : List UInt8 := dkwX5_kept_4 ++ []
def dkwX5_kept_3 : List UInt8 := [181, 0, 63, 42, 180, 0, 13, 3, 42, 180, 0, 16, 42, 180, 0, 63, 16, 32, 104, 184, 0, 59, 42, 89]
abbrev dktX5_kept_3 : List UInt8 := dkwX5_kept_3 ++ dktX5_kept_4
def dkwX5_kept_2 : List UInt8 := [180, 0, 16, 28, 16, 32, 96, 46, 79, 132, 2, 1, 167, 255, 231, 42, 89, 180, 0, 63, 4, 100]
abbrev dktX5_kept_2 : List UInt8 := dkwX5_kept_2 ++ dktX5_kept_3
def dkwX5_kept_1 : List UInt8 := [180, 0, 63, 16, 8, 160, 0, 43, 3, 61, 28, 17, 0, 224, 162, 0, 24, 42, 180, 0, 16, 28, 42]
abbrev dktX5_kept_1 : List UInt8 := dkwX5_kept_1 ++ dktX5_kept_2
def dkwX5_kept_0 : List UInt8 := [42, 180, 0, 46, 153, 0, 18, 42, 180, 0, 13, 3, 42, 180, 0, 7, 3, 184, 0, 59, 3, 172, 42]
abbrev dktX5_kept_0 : List UInt8 := dkwX5_kept_0 ++ dktX5_kept_1
theorem dksX5_kept_0 : cX5_kept.data.toList.drop 0 = dktX5_kept_0 := by decide +kernel
theorem dksX5_kept_1 : cX5_kept.data.toList.drop 23 = dktX5_kept_1 := dk_seg dksX5_kept_0 23 rfl rfl
theorem dksX5_kept_2 : cX5_kept.data.toList.drop 46 = dktX5_kept_2 := dk_seg dksX5_kept_1 23 rfl rfl
theorem dksX5_kept_3 : cX5_kept.data.toList.drop 68 = dktX5_kept_3 := dk_seg dksX5_kept_2 22 rfl rfl
theorem dksX5_kept_4 : cX5_kept.data.toList.drop 92 = dktX5_kept_4 := dk_seg dksX5_kept_3 24 rfl rfl
theorem dX5_kept_0 : decode cX5_kept 0 = .ok (.aload_n 0, 1) := dk_42 (dk_at dksX5_kept_0 0 rfl rfl)
theorem dX5_kept_1 : decode cX5_kept 1 = .ok (.getfield 46, 3) := dk_180 0 46 (dk_at dksX5_kept_0 1 rfl rfl)
theorem dX5_kept_4 : decode cX5_kept 4 = .ok (.ifCond .eq 18, 3) := dk_153 0 18 (dk_at dksX5_kept_0 4 rfl rfl)
theorem dX5_kept_7 : decode cX5_kept 7 = .ok (.aload_n 0, 1) := dk_42 (dk_at dksX5_kept_0 7 rfl rfl)
theorem dX5_kept_8 : decode cX5_kept 8 = .ok (.getfield 13, 3) := dk_180 0 13 (dk_at dksX5_kept_0 8 rfl rfl)
theorem dX5_kept_11 : decode cX5_kept 11 = .ok (.iconst 0, 1) := dk_3 (dk_at dksX5_kept_0 11 rfl rfl)
theorem dX5_kept_12 : decode cX5_kept 12 = .ok (.aload_n 0, 1) := dk_42 (dk_at dksX5_kept_0 12 rfl rfl)
theorem dX5_kept_13 : decode cX5_kept 13 = .ok (.getfield 7, 3) := dk_180 0 7 (dk_at dksX5_kept_0 13 rfl rfl)
theorem dX5_kept_16 : decode cX5_kept 16 = .ok (.iconst 0, 1) := dk_3 (dk_at dksX5_kept_0 16 rfl rfl)
theorem dX5_kept_17 : decode cX5_kept 17 = .ok (.invokestatic 59, 3) := dk_184 0 59 (dk_at dksX5_kept_0 17 rfl rfl)
theorem dX5_kept_20 : decode cX5_kept 20 = .ok (.iconst 0, 1) := dk_3 (dk_at dksX5_kept_0 20 rfl rfl)
theorem dX5_kept_21 : decode cX5_kept 21 = .ok (.ireturn, 1) := dk_172 (dk_at dksX5_kept_0 21 rfl rfl)
theorem dX5_kept_22 : decode cX5_kept 22 = .ok (.aload_n 0, 1) := dk_42 (dk_at dksX5_kept_0 22 rfl rfl)
theorem dX5_kept_23 : decode cX5_kept 23 = .ok (.getfield 63, 3) := dk_180 0 63 (dk_at dksX5_kept_1 0 rfl rfl)
theorem dX5_kept_26 : decode cX5_kept 26 = .ok (.bipush 8, 2) := dk_16 8 (dk_at dksX5_kept_1 3 rfl rfl)
theorem dX5_kept_28 : decode cX5_kept 28 = .ok (.if_icmp .ne 43, 3) := dk_160 0 43 (dk_at dksX5_kept_1 5 rfl rfl)
theorem dX5_kept_31 : decode cX5_kept 31 = .ok (.iconst 0, 1) := dk_3 (dk_at dksX5_kept_1 8 rfl rfl)
theorem dX5_kept_32 : decode cX5_kept 32 = .ok (.istore_n 2, 1) := dk_61 (dk_at dksX5_kept_1 9 rfl rfl)
theorem dX5_kept_33 : decode cX5_kept 33 = .ok (.iload_n 2, 1) := dk_28 (dk_at dksX5_kept_1 10 rfl rfl)
theorem dX5_kept_34 : decode cX5_kept 34 = .ok (.sipush 224, 3) := dk_17 0 224 (dk_at dksX5_kept_1 11 rfl rfl)
theorem dX5_kept_37 : decode cX5_kept 37 = .ok (.if_icmp .ge 24, 3) := dk_162 0 24 (dk_at dksX5_kept_1 14 rfl rfl)
theorem dX5_kept_40 : decode cX5_kept 40 = .ok (.aload_n 0, 1) := dk_42 (dk_at dksX5_kept_1 17 rfl rfl)
theorem dX5_kept_41 : decode cX5_kept 41 = .ok (.getfield 16, 3) := dk_180 0 16 (dk_at dksX5_kept_1 18 rfl rfl)
theorem dX5_kept_44 : decode cX5_kept 44 = .ok (.iload_n 2, 1) := dk_28 (dk_at dksX5_kept_1 21 rfl rfl)
theorem dX5_kept_45 : decode cX5_kept 45 = .ok (.aload_n 0, 1) := dk_42 (dk_at dksX5_kept_1 22 rfl rfl)
theorem dX5_kept_46 : decode cX5_kept 46 = .ok (.getfield 16, 3) := dk_180 0 16 (dk_at dksX5_kept_2 0 rfl rfl)
theorem dX5_kept_49 : decode cX5_kept 49 = .ok (.iload_n 2, 1) := dk_28 (dk_at dksX5_kept_2 3 rfl rfl)
theorem dX5_kept_50 : decode cX5_kept 50 = .ok (.bipush 32, 2) := dk_16 32 (dk_at dksX5_kept_2 4 rfl rfl)
theorem dX5_kept_52 : decode cX5_kept 52 = .ok (.iadd, 1) := dk_96 (dk_at dksX5_kept_2 6 rfl rfl)
theorem dX5_kept_53 : decode cX5_kept 53 = .ok (.iaload, 1) := dk_46 (dk_at dksX5_kept_2 7 rfl rfl)
theorem dX5_kept_54 : decode cX5_kept 54 = .ok (.iastore, 1) := dk_79 (dk_at dksX5_kept_2 8 rfl rfl)
theorem dX5_kept_55 : decode cX5_kept 55 = .ok (.iinc 2 1, 3) := dk_132 2 1 (dk_at dksX5_kept_2 9 rfl rfl)
theorem dX5_kept_58 : decode cX5_kept 58 = .ok (.goto (-25), 3) := dk_167 255 231 (dk_at dksX5_kept_2 12 rfl rfl)
theorem dX5_kept_61 : decode cX5_kept 61 = .ok (.aload_n 0, 1) := dk_42 (dk_at dksX5_kept_2 15 rfl rfl)
theorem dX5_kept_62 : decode cX5_kept 62 = .ok (.dup, 1) := dk_89 (dk_at dksX5_kept_2 16 rfl rfl)
theorem dX5_kept_63 : decode cX5_kept 63 = .ok (.getfield 63, 3) := dk_180 0 63 (dk_at dksX5_kept_2 17 rfl rfl)
theorem dX5_kept_66 : decode cX5_kept 66 = .ok (.iconst 1, 1) := dk_4 (dk_at dksX5_kept_2 20 rfl rfl)
theorem dX5_kept_67 : decode cX5_kept 67 = .ok (.isub, 1) := dk_100 (dk_at dksX5_kept_2 21 rfl rfl)
theorem dX5_kept_68 : decode cX5_kept 68 = .ok (.putfield 63, 3) := dk_181 0 63 (dk_at dksX5_kept_3 0 rfl rfl)
theorem dX5_kept_71 : decode cX5_kept 71 = .ok (.aload_n 0, 1) := dk_42 (dk_at dksX5_kept_3 3 rfl rfl)
theorem dX5_kept_72 : decode cX5_kept 72 = .ok (.getfield 13, 3) := dk_180 0 13 (dk_at dksX5_kept_3 4 rfl rfl)
theorem dX5_kept_75 : decode cX5_kept 75 = .ok (.iconst 0, 1) := dk_3 (dk_at dksX5_kept_3 7 rfl rfl)
theorem dX5_kept_76 : decode cX5_kept 76 = .ok (.aload_n 0, 1) := dk_42 (dk_at dksX5_kept_3 8 rfl rfl)
theorem dX5_kept_77 : decode cX5_kept 77 = .ok (.getfield 16, 3) := dk_180 0 16 (dk_at dksX5_kept_3 9 rfl rfl)
theorem dX5_kept_80 : decode cX5_kept 80 = .ok (.aload_n 0, 1) := dk_42 (dk_at dksX5_kept_3 12 rfl rfl)
theorem dX5_kept_81 : decode cX5_kept 81 = .ok (.getfield 63, 3) := dk_180 0 63 (dk_at dksX5_kept_3 13 rfl rfl)
theorem dX5_kept_84 : decode cX5_kept 84 = .ok (.bipush 32, 2) := dk_16 32 (dk_at dksX5_kept_3 16 rfl rfl)
theorem dX5_kept_86 : decode cX5_kept 86 = .ok (.imul, 1) := dk_104 (dk_at dksX5_kept_3 18 rfl rfl)
theorem dX5_kept_87 : decode cX5_kept 87 = .ok (.invokestatic 59, 3) := dk_184 0 59 (dk_at dksX5_kept_3 19 rfl rfl)
theorem dX5_kept_90 : decode cX5_kept 90 = .ok (.aload_n 0, 1) := dk_42 (dk_at dksX5_kept_3 22 rfl rfl)
theorem dX5_kept_91 : decode cX5_kept 91 = .ok (.dup, 1) := dk_89 (dk_at dksX5_kept_3 23 rfl rfl)
theorem dX5_kept_92 : decode cX5_kept 92 = .ok (.getfield 63, 3) := dk_180 0 63 (dk_at dksX5_kept_4 0 rfl rfl)
theorem dX5_kept_95 : decode cX5_kept 95 = .ok (.iconst 1, 1) := dk_4 (dk_at dksX5_kept_4 3 rfl rfl)
theorem dX5_kept_96 : decode cX5_kept 96 = .ok (.iadd, 1) := dk_96 (dk_at dksX5_kept_4 4 rfl rfl)
theorem dX5_kept_97 : decode cX5_kept 97 = .ok (.putfield 63, 3) := dk_181 0 63 (dk_at dksX5_kept_4 5 rfl rfl)
theorem dX5_kept_100 : decode cX5_kept 100 = .ok (.iload_n 1, 1) := dk_27 (dk_at dksX5_kept_4 8 rfl rfl)
theorem dX5_kept_101 : decode cX5_kept 101 = .ok (.ireturn, 1) := dk_172 (dk_at dksX5_kept_4 9 rfl rfl)
abbrev cX5_put : ByteArray := prog_12_method_22_code
def yX5_put : MethodName := ⟨RX5, "put", "(IC)C"⟩
def dkwX5_put_0 : List UInt8 := [42, 182, 0, 84, 42, 42, 27, 28, 182, 0, 112, 182, 0, 91, 146, 172]
abbrev dktX5_put_0 : List UInt8 := dkwX5_put_0 ++ []
theorem dksX5_put_0 : cX5_put.data.toList.drop 0 = dktX5_put_0 := by decide +kernel
theorem dX5_put_0 : decode cX5_put 0 = .ok (.aload_n 0, 1) := dk_42 (dk_at dksX5_put_0 0 rfl rfl)
theorem dX5_put_1 : decode cX5_put 1 = .ok (.invokevirtual 84, 3) := dk_182 0 84 (dk_at dksX5_put_0 1 rfl rfl)
theorem dX5_put_4 : decode cX5_put 4 = .ok (.aload_n 0, 1) := dk_42 (dk_at dksX5_put_0 4 rfl rfl)
theorem dX5_put_5 : decode cX5_put 5 = .ok (.aload_n 0, 1) := dk_42 (dk_at dksX5_put_0 5 rfl rfl)
theorem dX5_put_6 : decode cX5_put 6 = .ok (.iload_n 1, 1) := dk_27 (dk_at dksX5_put_0 6 rfl rfl)
theorem dX5_put_7 : decode cX5_put 7 = .ok (.iload_n 2, 1) := dk_28 (dk_at dksX5_put_0 7 rfl rfl)
theorem dX5_put_8 : decode cX5_put 8 = .ok (.invokevirtual 112, 3) := dk_182 0 112 (dk_at dksX5_put_0 8 rfl rfl)
theorem dX5_put_11 : decode cX5_put 11 = .ok (.invokevirtual 91, 3) := dk_182 0 91 (dk_at dksX5_put_0 11 rfl rfl)
theorem dX5_put_14 : decode cX5_put 14 = .ok (.i2c, 1) := dk_146 (dk_at dksX5_put_0 14 rfl rfl)
theorem dX5_put_15 : decode cX5_put 15 = .ok (.ireturn, 1) := dk_172 (dk_at dksX5_put_0 15 rfl rfl)
abbrev cX5_puts : ByteArray := prog_12_method_21_code
def yX5_puts : MethodName := ⟨RX5, "puts", "(II)I"⟩
def dkwX5_puts_1 : List UInt8 := [27, 28, 16, 97, 100, 182, 0, 109, 167, 0, 8, 42, 5, 182, 0, 77, 172]
abbrev dktX5_puts_1 : List UInt8 := dkwX5_puts_1 ++ []
def dkwX5_puts_0 : List UInt8 := [42, 27, 182, 0, 102, 154, 0, 9, 42, 4, 182, 0, 77, 172, 28, 184, 0, 106, 153, 0, 17, 42, 16, 14]
abbrev dktX5_puts_0 : List UInt8 := dkwX5_puts_0 ++ dktX5_puts_1
theorem dksX5_puts_0 : cX5_puts.data.toList.drop 0 = dktX5_puts_0 := by decide +kernel
theorem dksX5_puts_1 : cX5_puts.data.toList.drop 24 = dktX5_puts_1 := dk_seg dksX5_puts_0 24 rfl rfl
theorem dX5_puts_0 : decode cX5_puts 0 = .ok (.aload_n 0, 1) := dk_42 (dk_at dksX5_puts_0 0 rfl rfl)
theorem dX5_puts_1 : decode cX5_puts 1 = .ok (.iload_n 1, 1) := dk_27 (dk_at dksX5_puts_0 1 rfl rfl)
theorem dX5_puts_2 : decode cX5_puts 2 = .ok (.invokevirtual 102, 3) := dk_182 0 102 (dk_at dksX5_puts_0 2 rfl rfl)
theorem dX5_puts_5 : decode cX5_puts 5 = .ok (.ifCond .ne 9, 3) := dk_154 0 9 (dk_at dksX5_puts_0 5 rfl rfl)
theorem dX5_puts_8 : decode cX5_puts 8 = .ok (.aload_n 0, 1) := dk_42 (dk_at dksX5_puts_0 8 rfl rfl)
theorem dX5_puts_9 : decode cX5_puts 9 = .ok (.iconst 1, 1) := dk_4 (dk_at dksX5_puts_0 9 rfl rfl)
theorem dX5_puts_10 : decode cX5_puts 10 = .ok (.invokevirtual 77, 3) := dk_182 0 77 (dk_at dksX5_puts_0 10 rfl rfl)
theorem dX5_puts_13 : decode cX5_puts 13 = .ok (.ireturn, 1) := dk_172 (dk_at dksX5_puts_0 13 rfl rfl)
theorem dX5_puts_14 : decode cX5_puts 14 = .ok (.iload_n 2, 1) := dk_28 (dk_at dksX5_puts_0 14 rfl rfl)
theorem dX5_puts_15 : decode cX5_puts 15 = .ok (.invokestatic 106, 3) := dk_184 0 106 (dk_at dksX5_puts_0 15 rfl rfl)
theorem dX5_puts_18 : decode cX5_puts 18 = .ok (.ifCond .eq 17, 3) := dk_153 0 17 (dk_at dksX5_puts_0 18 rfl rfl)
theorem dX5_puts_21 : decode cX5_puts 21 = .ok (.aload_n 0, 1) := dk_42 (dk_at dksX5_puts_0 21 rfl rfl)
theorem dX5_puts_22 : decode cX5_puts 22 = .ok (.bipush 14, 2) := dk_16 14 (dk_at dksX5_puts_0 22 rfl rfl)
theorem dX5_puts_24 : decode cX5_puts 24 = .ok (.iload_n 1, 1) := dk_27 (dk_at dksX5_puts_1 0 rfl rfl)
theorem dX5_puts_25 : decode cX5_puts 25 = .ok (.iload_n 2, 1) := dk_28 (dk_at dksX5_puts_1 1 rfl rfl)
theorem dX5_puts_26 : decode cX5_puts 26 = .ok (.bipush 97, 2) := dk_16 97 (dk_at dksX5_puts_1 2 rfl rfl)
theorem dX5_puts_28 : decode cX5_puts 28 = .ok (.isub, 1) := dk_100 (dk_at dksX5_puts_1 4 rfl rfl)
theorem dX5_puts_29 : decode cX5_puts 29 = .ok (.invokevirtual 109, 3) := dk_182 0 109 (dk_at dksX5_puts_1 5 rfl rfl)
theorem dX5_puts_32 : decode cX5_puts 32 = .ok (.goto 8, 3) := dk_167 0 8 (dk_at dksX5_puts_1 8 rfl rfl)
theorem dX5_puts_35 : decode cX5_puts 35 = .ok (.aload_n 0, 1) := dk_42 (dk_at dksX5_puts_1 11 rfl rfl)
theorem dX5_puts_36 : decode cX5_puts 36 = .ok (.iconst 2, 1) := dk_5 (dk_at dksX5_puts_1 12 rfl rfl)
theorem dX5_puts_37 : decode cX5_puts 37 = .ok (.invokevirtual 77, 3) := dk_182 0 77 (dk_at dksX5_puts_1 13 rfl rfl)
theorem dX5_puts_40 : decode cX5_puts 40 = .ok (.ireturn, 1) := dk_172 (dk_at dksX5_puts_1 16 rfl rfl)
abbrev cX5_isPlace : ByteArray := prog_12_method_12_code
def yX5_isPlace : MethodName := ⟨RX5, "isPlace", "(I)Z"⟩
def dkwX5_isPlace_0 : List UInt8 := [27, 3, 42, 182, 0, 66, 4, 100, 184, 0, 70, 172]
abbrev dktX5_isPlace_0 : List UInt8 := dkwX5_isPlace_0 ++ []
theorem dksX5_isPlace_0 : cX5_isPlace.data.toList.drop 0 = dktX5_isPlace_0 := by decide +kernel
theorem dX5_isPlace_0 : decode cX5_isPlace 0 = .ok (.iload_n 1, 1) := dk_27 (dk_at dksX5_isPlace_0 0 rfl rfl)
theorem dX5_isPlace_1 : decode cX5_isPlace 1 = .ok (.iconst 0, 1) := dk_3 (dk_at dksX5_isPlace_0 1 rfl rfl)
theorem dX5_isPlace_2 : decode cX5_isPlace 2 = .ok (.aload_n 0, 1) := dk_42 (dk_at dksX5_isPlace_0 2 rfl rfl)
theorem dX5_isPlace_3 : decode cX5_isPlace 3 = .ok (.invokevirtual 66, 3) := dk_182 0 66 (dk_at dksX5_isPlace_0 3 rfl rfl)
theorem dX5_isPlace_6 : decode cX5_isPlace 6 = .ok (.iconst 1, 1) := dk_4 (dk_at dksX5_isPlace_0 6 rfl rfl)
theorem dX5_isPlace_7 : decode cX5_isPlace 7 = .ok (.isub, 1) := dk_100 (dk_at dksX5_isPlace_0 7 rfl rfl)
theorem dX5_isPlace_8 : decode cX5_isPlace 8 = .ok (.invokestatic 70, 3) := dk_184 0 70 (dk_at dksX5_isPlace_0 8 rfl rfl)
theorem dX5_isPlace_11 : decode cX5_isPlace 11 = .ok (.ireturn, 1) := dk_172 (dk_at dksX5_isPlace_0 11 rfl rfl)
abbrev cX5_isLetter : ByteArray := prog_12_method_18_code
def yX5_isLetter : MethodName := ⟨RX5, "isLetter", "(I)Z"⟩
def dkwX5_isLetter_0 : List UInt8 := [26, 16, 97, 16, 108, 184, 0, 70, 172]
abbrev dktX5_isLetter_0 : List UInt8 := dkwX5_isLetter_0 ++ []
theorem dksX5_isLetter_0 : cX5_isLetter.data.toList.drop 0 = dktX5_isLetter_0 := by decide +kernel
theorem dX5_isLetter_0 : decode cX5_isLetter 0 = .ok (.iload_n 0, 1) := dk_26 (dk_at dksX5_isLetter_0 0 rfl rfl)
theorem dX5_isLetter_1 : decode cX5_isLetter 1 = .ok (.bipush 97, 2) := dk_16 97 (dk_at dksX5_isLetter_0 1 rfl rfl)
theorem dX5_isLetter_3 : decode cX5_isLetter 3 = .ok (.bipush 108, 2) := dk_16 108 (dk_at dksX5_isLetter_0 3 rfl rfl)
theorem dX5_isLetter_5 : decode cX5_isLetter 5 = .ok (.invokestatic 70, 3) := dk_184 0 70 (dk_at dksX5_isLetter_0 5 rfl rfl)
theorem dX5_isLetter_8 : decode cX5_isLetter 8 = .ok (.ireturn, 1) := dk_172 (dk_at dksX5_isLetter_0 8 rfl rfl)
abbrev cX5_tells : ByteArray := prog_12_method_20_code
def yX5_tells : MethodName := ⟨RX5, "tells", "(III)I"⟩
def dkwX5_tells_1 : List UInt8 := [42, 180, 0, 7, 27, 28, 96, 29, 79, 42, 21, 4, 184, 0, 98, 182, 0, 81, 172]
abbrev dktX5_tells_1 : List UInt8 := dkwX5_tells_1 ++ []
def dkwX5_tells_0 : List UInt8 := [42, 180, 0, 7, 27, 28, 96, 46, 54, 4, 21, 4, 29, 160, 0, 11, 42, 5, 28, 6, 182, 0, 94, 172]
abbrev dktX5_tells_0 : List UInt8 := dkwX5_tells_0 ++ dktX5_tells_1
theorem dksX5_tells_0 : cX5_tells.data.toList.drop 0 = dktX5_tells_0 := by decide +kernel
theorem dksX5_tells_1 : cX5_tells.data.toList.drop 24 = dktX5_tells_1 := dk_seg dksX5_tells_0 24 rfl rfl
theorem dX5_tells_0 : decode cX5_tells 0 = .ok (.aload_n 0, 1) := dk_42 (dk_at dksX5_tells_0 0 rfl rfl)
theorem dX5_tells_1 : decode cX5_tells 1 = .ok (.getfield 7, 3) := dk_180 0 7 (dk_at dksX5_tells_0 1 rfl rfl)
theorem dX5_tells_4 : decode cX5_tells 4 = .ok (.iload_n 1, 1) := dk_27 (dk_at dksX5_tells_0 4 rfl rfl)
theorem dX5_tells_5 : decode cX5_tells 5 = .ok (.iload_n 2, 1) := dk_28 (dk_at dksX5_tells_0 5 rfl rfl)
theorem dX5_tells_6 : decode cX5_tells 6 = .ok (.iadd, 1) := dk_96 (dk_at dksX5_tells_0 6 rfl rfl)
theorem dX5_tells_7 : decode cX5_tells 7 = .ok (.iaload, 1) := dk_46 (dk_at dksX5_tells_0 7 rfl rfl)
theorem dX5_tells_8 : decode cX5_tells 8 = .ok (.istore 4, 2) := dk_54 4 (dk_at dksX5_tells_0 8 rfl rfl)
theorem dX5_tells_10 : decode cX5_tells 10 = .ok (.iload 4, 2) := dk_21 4 (dk_at dksX5_tells_0 10 rfl rfl)
theorem dX5_tells_12 : decode cX5_tells 12 = .ok (.iload_n 3, 1) := dk_29 (dk_at dksX5_tells_0 12 rfl rfl)
theorem dX5_tells_13 : decode cX5_tells 13 = .ok (.if_icmp .ne 11, 3) := dk_160 0 11 (dk_at dksX5_tells_0 13 rfl rfl)
theorem dX5_tells_16 : decode cX5_tells 16 = .ok (.aload_n 0, 1) := dk_42 (dk_at dksX5_tells_0 16 rfl rfl)
theorem dX5_tells_17 : decode cX5_tells 17 = .ok (.iconst 2, 1) := dk_5 (dk_at dksX5_tells_0 17 rfl rfl)
theorem dX5_tells_18 : decode cX5_tells 18 = .ok (.iload_n 2, 1) := dk_28 (dk_at dksX5_tells_0 18 rfl rfl)
theorem dX5_tells_19 : decode cX5_tells 19 = .ok (.iconst 3, 1) := dk_6 (dk_at dksX5_tells_0 19 rfl rfl)
theorem dX5_tells_20 : decode cX5_tells 20 = .ok (.invokevirtual 94, 3) := dk_182 0 94 (dk_at dksX5_tells_0 20 rfl rfl)
theorem dX5_tells_23 : decode cX5_tells 23 = .ok (.ireturn, 1) := dk_172 (dk_at dksX5_tells_0 23 rfl rfl)
theorem dX5_tells_24 : decode cX5_tells 24 = .ok (.aload_n 0, 1) := dk_42 (dk_at dksX5_tells_1 0 rfl rfl)
theorem dX5_tells_25 : decode cX5_tells 25 = .ok (.getfield 7, 3) := dk_180 0 7 (dk_at dksX5_tells_1 1 rfl rfl)
theorem dX5_tells_28 : decode cX5_tells 28 = .ok (.iload_n 1, 1) := dk_27 (dk_at dksX5_tells_1 4 rfl rfl)
theorem dX5_tells_29 : decode cX5_tells 29 = .ok (.iload_n 2, 1) := dk_28 (dk_at dksX5_tells_1 5 rfl rfl)
theorem dX5_tells_30 : decode cX5_tells 30 = .ok (.iadd, 1) := dk_96 (dk_at dksX5_tells_1 6 rfl rfl)
theorem dX5_tells_31 : decode cX5_tells 31 = .ok (.iload_n 3, 1) := dk_29 (dk_at dksX5_tells_1 7 rfl rfl)
theorem dX5_tells_32 : decode cX5_tells 32 = .ok (.iastore, 1) := dk_79 (dk_at dksX5_tells_1 8 rfl rfl)
theorem dX5_tells_33 : decode cX5_tells 33 = .ok (.aload_n 0, 1) := dk_42 (dk_at dksX5_tells_1 9 rfl rfl)
theorem dX5_tells_34 : decode cX5_tells 34 = .ok (.iload 4, 2) := dk_21 4 (dk_at dksX5_tells_1 10 rfl rfl)
theorem dX5_tells_36 : decode cX5_tells 36 = .ok (.invokestatic 98, 3) := dk_184 0 98 (dk_at dksX5_tells_1 12 rfl rfl)
theorem dX5_tells_39 : decode cX5_tells 39 = .ok (.invokevirtual 81, 3) := dk_182 0 81 (dk_at dksX5_tells_1 15 rfl rfl)
theorem dX5_tells_42 : decode cX5_tells 42 = .ok (.ireturn, 1) := dk_172 (dk_at dksX5_tells_1 18 rfl rfl)
abbrev cX5_refused : ByteArray := prog_12_method_6_code
def yX5_refused : MethodName := ⟨RX5, "refused", "(III)I"⟩
def dkwX5_refused_0 : List UInt8 := [42, 27, 181, 0, 53, 42, 28, 181, 0, 56, 42, 29, 181, 0, 46, 42, 4, 181, 0, 49, 3, 172]
abbrev dktX5_refused_0 : List UInt8 := dkwX5_refused_0 ++ []
theorem dksX5_refused_0 : cX5_refused.data.toList.drop 0 = dktX5_refused_0 := by decide +kernel
theorem dX5_refused_0 : decode cX5_refused 0 = .ok (.aload_n 0, 1) := dk_42 (dk_at dksX5_refused_0 0 rfl rfl)
theorem dX5_refused_1 : decode cX5_refused 1 = .ok (.iload_n 1, 1) := dk_27 (dk_at dksX5_refused_0 1 rfl rfl)
theorem dX5_refused_2 : decode cX5_refused 2 = .ok (.putfield 53, 3) := dk_181 0 53 (dk_at dksX5_refused_0 2 rfl rfl)
theorem dX5_refused_5 : decode cX5_refused 5 = .ok (.aload_n 0, 1) := dk_42 (dk_at dksX5_refused_0 5 rfl rfl)
theorem dX5_refused_6 : decode cX5_refused 6 = .ok (.iload_n 2, 1) := dk_28 (dk_at dksX5_refused_0 6 rfl rfl)
theorem dX5_refused_7 : decode cX5_refused 7 = .ok (.putfield 56, 3) := dk_181 0 56 (dk_at dksX5_refused_0 7 rfl rfl)
theorem dX5_refused_10 : decode cX5_refused 10 = .ok (.aload_n 0, 1) := dk_42 (dk_at dksX5_refused_0 10 rfl rfl)
theorem dX5_refused_11 : decode cX5_refused 11 = .ok (.iload_n 3, 1) := dk_29 (dk_at dksX5_refused_0 11 rfl rfl)
theorem dX5_refused_12 : decode cX5_refused 12 = .ok (.putfield 46, 3) := dk_181 0 46 (dk_at dksX5_refused_0 12 rfl rfl)
theorem dX5_refused_15 : decode cX5_refused 15 = .ok (.aload_n 0, 1) := dk_42 (dk_at dksX5_refused_0 15 rfl rfl)
theorem dX5_refused_16 : decode cX5_refused 16 = .ok (.iconst 1, 1) := dk_4 (dk_at dksX5_refused_0 16 rfl rfl)
theorem dX5_refused_17 : decode cX5_refused 17 = .ok (.putfield 49, 3) := dk_181 0 49 (dk_at dksX5_refused_0 17 rfl rfl)
theorem dX5_refused_20 : decode cX5_refused 20 = .ok (.iconst 0, 1) := dk_3 (dk_at dksX5_refused_0 20 rfl rfl)
theorem dX5_refused_21 : decode cX5_refused 21 = .ok (.ireturn, 1) := dk_172 (dk_at dksX5_refused_0 21 rfl rfl)
abbrev cX5_signOf : ByteArray := prog_12_method_19_code
def yX5_signOf : MethodName := ⟨RX5, "signOf", "(I)C"⟩
def dkwX5_signOf_0 : List UInt8 := [26, 2, 160, 0, 8, 16, 46, 167, 0, 8, 16, 97, 26, 96, 146, 172]
abbrev dktX5_signOf_0 : List UInt8 := dkwX5_signOf_0 ++ []
theorem dksX5_signOf_0 : cX5_signOf.data.toList.drop 0 = dktX5_signOf_0 := by decide +kernel
theorem dX5_signOf_0 : decode cX5_signOf 0 = .ok (.iload_n 0, 1) := dk_26 (dk_at dksX5_signOf_0 0 rfl rfl)
theorem dX5_signOf_1 : decode cX5_signOf 1 = .ok (.iconst (-1), 1) := dk_2 (dk_at dksX5_signOf_0 1 rfl rfl)
theorem dX5_signOf_2 : decode cX5_signOf 2 = .ok (.if_icmp .ne 8, 3) := dk_160 0 8 (dk_at dksX5_signOf_0 2 rfl rfl)
theorem dX5_signOf_5 : decode cX5_signOf 5 = .ok (.bipush 46, 2) := dk_16 46 (dk_at dksX5_signOf_0 5 rfl rfl)
theorem dX5_signOf_7 : decode cX5_signOf 7 = .ok (.goto 8, 3) := dk_167 0 8 (dk_at dksX5_signOf_0 7 rfl rfl)
theorem dX5_signOf_10 : decode cX5_signOf 10 = .ok (.bipush 97, 2) := dk_16 97 (dk_at dksX5_signOf_0 10 rfl rfl)
theorem dX5_signOf_12 : decode cX5_signOf 12 = .ok (.iload_n 0, 1) := dk_26 (dk_at dksX5_signOf_0 12 rfl rfl)
theorem dX5_signOf_13 : decode cX5_signOf 13 = .ok (.iadd, 1) := dk_96 (dk_at dksX5_signOf_0 13 rfl rfl)
theorem dX5_signOf_14 : decode cX5_signOf 14 = .ok (.i2c, 1) := dk_146 (dk_at dksX5_signOf_0 14 rfl rfl)
theorem dX5_signOf_15 : decode cX5_signOf 15 = .ok (.ireturn, 1) := dk_172 (dk_at dksX5_signOf_0 15 rfl rfl)
abbrev cX5_goal : ByteArray := prog_12_method_24_code
def yX5_goal : MethodName := ⟨RX5, "goal", "(IC)C"⟩
def dkwX5_goal_0 : List UInt8 := [42, 182, 0, 84, 42, 42, 27, 28, 182, 0, 115, 182, 0, 91, 146, 172]
abbrev dktX5_goal_0 : List UInt8 := dkwX5_goal_0 ++ []
theorem dksX5_goal_0 : cX5_goal.data.toList.drop 0 = dktX5_goal_0 := by decide +kernel
theorem dX5_goal_0 : decode cX5_goal 0 = .ok (.aload_n 0, 1) := dk_42 (dk_at dksX5_goal_0 0 rfl rfl)
theorem dX5_goal_1 : decode cX5_goal 1 = .ok (.invokevirtual 84, 3) := dk_182 0 84 (dk_at dksX5_goal_0 1 rfl rfl)
theorem dX5_goal_4 : decode cX5_goal 4 = .ok (.aload_n 0, 1) := dk_42 (dk_at dksX5_goal_0 4 rfl rfl)
theorem dX5_goal_5 : decode cX5_goal 5 = .ok (.aload_n 0, 1) := dk_42 (dk_at dksX5_goal_0 5 rfl rfl)
theorem dX5_goal_6 : decode cX5_goal 6 = .ok (.iload_n 1, 1) := dk_27 (dk_at dksX5_goal_0 6 rfl rfl)
theorem dX5_goal_7 : decode cX5_goal 7 = .ok (.iload_n 2, 1) := dk_28 (dk_at dksX5_goal_0 7 rfl rfl)
theorem dX5_goal_8 : decode cX5_goal 8 = .ok (.invokevirtual 115, 3) := dk_182 0 115 (dk_at dksX5_goal_0 8 rfl rfl)
theorem dX5_goal_11 : decode cX5_goal 11 = .ok (.invokevirtual 91, 3) := dk_182 0 91 (dk_at dksX5_goal_0 11 rfl rfl)
theorem dX5_goal_14 : decode cX5_goal 14 = .ok (.i2c, 1) := dk_146 (dk_at dksX5_goal_0 14 rfl rfl)
theorem dX5_goal_15 : decode cX5_goal 15 = .ok (.ireturn, 1) := dk_172 (dk_at dksX5_goal_0 15 rfl rfl)
abbrev cX5_goals : ByteArray := prog_12_method_23_code
def yX5_goals : MethodName := ⟨RX5, "goals", "(II)I"⟩
def dkwX5_goals_2 : List UInt8 := [167, 0, 8, 42, 5, 182, 0, 77, 172]
abbrev dktX5_goals_2 : List UInt8 := dkwX5_goals_2 ++ []
def dkwX5_goals_1 : List UInt8 := [160, 0, 27, 42, 16, 23, 27, 28, 16, 46, 160, 0, 7, 2, 167, 0, 7, 28, 16, 97, 100, 182, 0, 109]
abbrev dktX5_goals_1 : List UInt8 := dkwX5_goals_1 ++ dktX5_goals_2
def dkwX5_goals_0 : List UInt8 := [42, 27, 182, 0, 102, 154, 0, 9, 42, 4, 182, 0, 77, 172, 28, 184, 0, 106, 154, 0, 9, 28, 16, 46]
abbrev dktX5_goals_0 : List UInt8 := dkwX5_goals_0 ++ dktX5_goals_1
theorem dksX5_goals_0 : cX5_goals.data.toList.drop 0 = dktX5_goals_0 := by decide +kernel
theorem dksX5_goals_1 : cX5_goals.data.toList.drop 24 = dktX5_goals_1 := dk_seg dksX5_goals_0 24 rfl rfl
theorem dksX5_goals_2 : cX5_goals.data.toList.drop 48 = dktX5_goals_2 := dk_seg dksX5_goals_1 24 rfl rfl
theorem dX5_goals_0 : decode cX5_goals 0 = .ok (.aload_n 0, 1) := dk_42 (dk_at dksX5_goals_0 0 rfl rfl)
theorem dX5_goals_1 : decode cX5_goals 1 = .ok (.iload_n 1, 1) := dk_27 (dk_at dksX5_goals_0 1 rfl rfl)
theorem dX5_goals_2 : decode cX5_goals 2 = .ok (.invokevirtual 102, 3) := dk_182 0 102 (dk_at dksX5_goals_0 2 rfl rfl)
theorem dX5_goals_5 : decode cX5_goals 5 = .ok (.ifCond .ne 9, 3) := dk_154 0 9 (dk_at dksX5_goals_0 5 rfl rfl)
theorem dX5_goals_8 : decode cX5_goals 8 = .ok (.aload_n 0, 1) := dk_42 (dk_at dksX5_goals_0 8 rfl rfl)
theorem dX5_goals_9 : decode cX5_goals 9 = .ok (.iconst 1, 1) := dk_4 (dk_at dksX5_goals_0 9 rfl rfl)
theorem dX5_goals_10 : decode cX5_goals 10 = .ok (.invokevirtual 77, 3) := dk_182 0 77 (dk_at dksX5_goals_0 10 rfl rfl)
theorem dX5_goals_13 : decode cX5_goals 13 = .ok (.ireturn, 1) := dk_172 (dk_at dksX5_goals_0 13 rfl rfl)
theorem dX5_goals_14 : decode cX5_goals 14 = .ok (.iload_n 2, 1) := dk_28 (dk_at dksX5_goals_0 14 rfl rfl)
theorem dX5_goals_15 : decode cX5_goals 15 = .ok (.invokestatic 106, 3) := dk_184 0 106 (dk_at dksX5_goals_0 15 rfl rfl)
theorem dX5_goals_18 : decode cX5_goals 18 = .ok (.ifCond .ne 9, 3) := dk_154 0 9 (dk_at dksX5_goals_0 18 rfl rfl)
theorem dX5_goals_21 : decode cX5_goals 21 = .ok (.iload_n 2, 1) := dk_28 (dk_at dksX5_goals_0 21 rfl rfl)
theorem dX5_goals_22 : decode cX5_goals 22 = .ok (.bipush 46, 2) := dk_16 46 (dk_at dksX5_goals_0 22 rfl rfl)
theorem dX5_goals_24 : decode cX5_goals 24 = .ok (.if_icmp .ne 27, 3) := dk_160 0 27 (dk_at dksX5_goals_1 0 rfl rfl)
theorem dX5_goals_27 : decode cX5_goals 27 = .ok (.aload_n 0, 1) := dk_42 (dk_at dksX5_goals_1 3 rfl rfl)
theorem dX5_goals_28 : decode cX5_goals 28 = .ok (.bipush 23, 2) := dk_16 23 (dk_at dksX5_goals_1 4 rfl rfl)
theorem dX5_goals_30 : decode cX5_goals 30 = .ok (.iload_n 1, 1) := dk_27 (dk_at dksX5_goals_1 6 rfl rfl)
theorem dX5_goals_31 : decode cX5_goals 31 = .ok (.iload_n 2, 1) := dk_28 (dk_at dksX5_goals_1 7 rfl rfl)
theorem dX5_goals_32 : decode cX5_goals 32 = .ok (.bipush 46, 2) := dk_16 46 (dk_at dksX5_goals_1 8 rfl rfl)
theorem dX5_goals_34 : decode cX5_goals 34 = .ok (.if_icmp .ne 7, 3) := dk_160 0 7 (dk_at dksX5_goals_1 10 rfl rfl)
theorem dX5_goals_37 : decode cX5_goals 37 = .ok (.iconst (-1), 1) := dk_2 (dk_at dksX5_goals_1 13 rfl rfl)
theorem dX5_goals_38 : decode cX5_goals 38 = .ok (.goto 7, 3) := dk_167 0 7 (dk_at dksX5_goals_1 14 rfl rfl)
theorem dX5_goals_41 : decode cX5_goals 41 = .ok (.iload_n 2, 1) := dk_28 (dk_at dksX5_goals_1 17 rfl rfl)
theorem dX5_goals_42 : decode cX5_goals 42 = .ok (.bipush 97, 2) := dk_16 97 (dk_at dksX5_goals_1 18 rfl rfl)
theorem dX5_goals_44 : decode cX5_goals 44 = .ok (.isub, 1) := dk_100 (dk_at dksX5_goals_1 20 rfl rfl)
theorem dX5_goals_45 : decode cX5_goals 45 = .ok (.invokevirtual 109, 3) := dk_182 0 109 (dk_at dksX5_goals_1 21 rfl rfl)
theorem dX5_goals_48 : decode cX5_goals 48 = .ok (.goto 8, 3) := dk_167 0 8 (dk_at dksX5_goals_2 0 rfl rfl)
theorem dX5_goals_51 : decode cX5_goals 51 = .ok (.aload_n 0, 1) := dk_42 (dk_at dksX5_goals_2 3 rfl rfl)
theorem dX5_goals_52 : decode cX5_goals 52 = .ok (.iconst 2, 1) := dk_5 (dk_at dksX5_goals_2 4 rfl rfl)
theorem dX5_goals_53 : decode cX5_goals 53 = .ok (.invokevirtual 77, 3) := dk_182 0 77 (dk_at dksX5_goals_2 5 rfl rfl)
theorem dX5_goals_56 : decode cX5_goals 56 = .ok (.ireturn, 1) := dk_172 (dk_at dksX5_goals_2 8 rfl rfl)
abbrev cX5_turn : ByteArray := prog_12_method_35_code
def yX5_turn : MethodName := ⟨RX5, "turn", "(I)I"⟩
def dkwX5_turn_0 : List UInt8 := [42, 182, 0, 84, 42, 42, 27, 182, 0, 149, 182, 0, 91, 172]
abbrev dktX5_turn_0 : List UInt8 := dkwX5_turn_0 ++ []
theorem dksX5_turn_0 : cX5_turn.data.toList.drop 0 = dktX5_turn_0 := by decide +kernel
theorem dX5_turn_0 : decode cX5_turn 0 = .ok (.aload_n 0, 1) := dk_42 (dk_at dksX5_turn_0 0 rfl rfl)
theorem dX5_turn_1 : decode cX5_turn 1 = .ok (.invokevirtual 84, 3) := dk_182 0 84 (dk_at dksX5_turn_0 1 rfl rfl)
theorem dX5_turn_4 : decode cX5_turn 4 = .ok (.aload_n 0, 1) := dk_42 (dk_at dksX5_turn_0 4 rfl rfl)
theorem dX5_turn_5 : decode cX5_turn 5 = .ok (.aload_n 0, 1) := dk_42 (dk_at dksX5_turn_0 5 rfl rfl)
theorem dX5_turn_6 : decode cX5_turn 6 = .ok (.iload_n 1, 1) := dk_27 (dk_at dksX5_turn_0 6 rfl rfl)
theorem dX5_turn_7 : decode cX5_turn 7 = .ok (.invokevirtual 149, 3) := dk_182 0 149 (dk_at dksX5_turn_0 7 rfl rfl)
theorem dX5_turn_10 : decode cX5_turn 10 = .ok (.invokevirtual 91, 3) := dk_182 0 91 (dk_at dksX5_turn_0 10 rfl rfl)
theorem dX5_turn_13 : decode cX5_turn 13 = .ok (.ireturn, 1) := dk_172 (dk_at dksX5_turn_0 13 rfl rfl)
abbrev cX5_turnsOne : ByteArray := prog_12_method_34_code
def yX5_turnsOne : MethodName := ⟨RX5, "turnsOne", "(I)I"⟩
def dkwX5_turnsOne_1 : List UInt8 := [27, 182, 0, 146, 182, 0, 81, 167, 0, 12, 42, 4, 27, 5, 108, 5, 182, 0, 94, 172]
abbrev dktX5_turnsOne_1 : List UInt8 := dkwX5_turnsOne_1 ++ []
def dkwX5_turnsOne_0 : List UInt8 := [42, 27, 182, 0, 140, 154, 0, 9, 42, 4, 182, 0, 77, 172, 42, 27, 182, 0, 143, 153, 0, 15, 42, 42]
abbrev dktX5_turnsOne_0 : List UInt8 := dkwX5_turnsOne_0 ++ dktX5_turnsOne_1
theorem dksX5_turnsOne_0 : cX5_turnsOne.data.toList.drop 0 = dktX5_turnsOne_0 := by decide +kernel
theorem dksX5_turnsOne_1 : cX5_turnsOne.data.toList.drop 24 = dktX5_turnsOne_1 := dk_seg dksX5_turnsOne_0 24 rfl rfl
theorem dX5_turnsOne_0 : decode cX5_turnsOne 0 = .ok (.aload_n 0, 1) := dk_42 (dk_at dksX5_turnsOne_0 0 rfl rfl)
theorem dX5_turnsOne_1 : decode cX5_turnsOne 1 = .ok (.iload_n 1, 1) := dk_27 (dk_at dksX5_turnsOne_0 1 rfl rfl)
theorem dX5_turnsOne_2 : decode cX5_turnsOne 2 = .ok (.invokevirtual 140, 3) := dk_182 0 140 (dk_at dksX5_turnsOne_0 2 rfl rfl)
theorem dX5_turnsOne_5 : decode cX5_turnsOne 5 = .ok (.ifCond .ne 9, 3) := dk_154 0 9 (dk_at dksX5_turnsOne_0 5 rfl rfl)
theorem dX5_turnsOne_8 : decode cX5_turnsOne 8 = .ok (.aload_n 0, 1) := dk_42 (dk_at dksX5_turnsOne_0 8 rfl rfl)
theorem dX5_turnsOne_9 : decode cX5_turnsOne 9 = .ok (.iconst 1, 1) := dk_4 (dk_at dksX5_turnsOne_0 9 rfl rfl)
theorem dX5_turnsOne_10 : decode cX5_turnsOne 10 = .ok (.invokevirtual 77, 3) := dk_182 0 77 (dk_at dksX5_turnsOne_0 10 rfl rfl)
theorem dX5_turnsOne_13 : decode cX5_turnsOne 13 = .ok (.ireturn, 1) := dk_172 (dk_at dksX5_turnsOne_0 13 rfl rfl)
theorem dX5_turnsOne_14 : decode cX5_turnsOne 14 = .ok (.aload_n 0, 1) := dk_42 (dk_at dksX5_turnsOne_0 14 rfl rfl)
theorem dX5_turnsOne_15 : decode cX5_turnsOne 15 = .ok (.iload_n 1, 1) := dk_27 (dk_at dksX5_turnsOne_0 15 rfl rfl)
theorem dX5_turnsOne_16 : decode cX5_turnsOne 16 = .ok (.invokevirtual 143, 3) := dk_182 0 143 (dk_at dksX5_turnsOne_0 16 rfl rfl)
theorem dX5_turnsOne_19 : decode cX5_turnsOne 19 = .ok (.ifCond .eq 15, 3) := dk_153 0 15 (dk_at dksX5_turnsOne_0 19 rfl rfl)
theorem dX5_turnsOne_22 : decode cX5_turnsOne 22 = .ok (.aload_n 0, 1) := dk_42 (dk_at dksX5_turnsOne_0 22 rfl rfl)
theorem dX5_turnsOne_23 : decode cX5_turnsOne 23 = .ok (.aload_n 0, 1) := dk_42 (dk_at dksX5_turnsOne_0 23 rfl rfl)
theorem dX5_turnsOne_24 : decode cX5_turnsOne 24 = .ok (.iload_n 1, 1) := dk_27 (dk_at dksX5_turnsOne_1 0 rfl rfl)
theorem dX5_turnsOne_25 : decode cX5_turnsOne 25 = .ok (.invokevirtual 146, 3) := dk_182 0 146 (dk_at dksX5_turnsOne_1 1 rfl rfl)
theorem dX5_turnsOne_28 : decode cX5_turnsOne 28 = .ok (.invokevirtual 81, 3) := dk_182 0 81 (dk_at dksX5_turnsOne_1 4 rfl rfl)
theorem dX5_turnsOne_31 : decode cX5_turnsOne 31 = .ok (.goto 12, 3) := dk_167 0 12 (dk_at dksX5_turnsOne_1 7 rfl rfl)
theorem dX5_turnsOne_34 : decode cX5_turnsOne 34 = .ok (.aload_n 0, 1) := dk_42 (dk_at dksX5_turnsOne_1 10 rfl rfl)
theorem dX5_turnsOne_35 : decode cX5_turnsOne 35 = .ok (.iconst 1, 1) := dk_4 (dk_at dksX5_turnsOne_1 11 rfl rfl)
theorem dX5_turnsOne_36 : decode cX5_turnsOne 36 = .ok (.iload_n 1, 1) := dk_27 (dk_at dksX5_turnsOne_1 12 rfl rfl)
theorem dX5_turnsOne_37 : decode cX5_turnsOne 37 = .ok (.iconst 2, 1) := dk_5 (dk_at dksX5_turnsOne_1 13 rfl rfl)
theorem dX5_turnsOne_38 : decode cX5_turnsOne 38 = .ok (.idiv, 1) := dk_108 (dk_at dksX5_turnsOne_1 14 rfl rfl)
theorem dX5_turnsOne_39 : decode cX5_turnsOne 39 = .ok (.iconst 2, 1) := dk_5 (dk_at dksX5_turnsOne_1 15 rfl rfl)
theorem dX5_turnsOne_40 : decode cX5_turnsOne 40 = .ok (.invokevirtual 94, 3) := dk_182 0 94 (dk_at dksX5_turnsOne_1 16 rfl rfl)
theorem dX5_turnsOne_43 : decode cX5_turnsOne 43 = .ok (.ireturn, 1) := dk_172 (dk_at dksX5_turnsOne_1 19 rfl rfl)
abbrev cX5_isTurn : ByteArray := prog_12_method_14_code
def yX5_isTurn : MethodName := ⟨RX5, "isTurn", "(I)Z"⟩
def dkwX5_isTurn_0 : List UInt8 := [27, 3, 5, 42, 182, 0, 74, 104, 4, 100, 184, 0, 70, 172]
abbrev dktX5_isTurn_0 : List UInt8 := dkwX5_isTurn_0 ++ []
theorem dksX5_isTurn_0 : cX5_isTurn.data.toList.drop 0 = dktX5_isTurn_0 := by decide +kernel
theorem dX5_isTurn_0 : decode cX5_isTurn 0 = .ok (.iload_n 1, 1) := dk_27 (dk_at dksX5_isTurn_0 0 rfl rfl)
theorem dX5_isTurn_1 : decode cX5_isTurn 1 = .ok (.iconst 0, 1) := dk_3 (dk_at dksX5_isTurn_0 1 rfl rfl)
theorem dX5_isTurn_2 : decode cX5_isTurn 2 = .ok (.iconst 2, 1) := dk_5 (dk_at dksX5_isTurn_0 2 rfl rfl)
theorem dX5_isTurn_3 : decode cX5_isTurn 3 = .ok (.aload_n 0, 1) := dk_42 (dk_at dksX5_isTurn_0 3 rfl rfl)
theorem dX5_isTurn_4 : decode cX5_isTurn 4 = .ok (.invokevirtual 74, 3) := dk_182 0 74 (dk_at dksX5_isTurn_0 4 rfl rfl)
theorem dX5_isTurn_7 : decode cX5_isTurn 7 = .ok (.imul, 1) := dk_104 (dk_at dksX5_isTurn_0 7 rfl rfl)
theorem dX5_isTurn_8 : decode cX5_isTurn 8 = .ok (.iconst 1, 1) := dk_4 (dk_at dksX5_isTurn_0 8 rfl rfl)
theorem dX5_isTurn_9 : decode cX5_isTurn 9 = .ok (.isub, 1) := dk_100 (dk_at dksX5_isTurn_0 9 rfl rfl)
theorem dX5_isTurn_10 : decode cX5_isTurn 10 = .ok (.invokestatic 70, 3) := dk_184 0 70 (dk_at dksX5_isTurn_0 10 rfl rfl)
theorem dX5_isTurn_13 : decode cX5_isTurn 13 = .ok (.ireturn, 1) := dk_172 (dk_at dksX5_isTurn_0 13 rfl rfl)
abbrev cX5_lines : ByteArray := prog_12_method_11_code
def yX5_lines : MethodName := ⟨RX5, "lines", "()I"⟩
def dkwX5_lines_0 : List UInt8 := [42, 180, 0, 7, 3, 46, 42, 180, 0, 7, 4, 46, 96, 172]
abbrev dktX5_lines_0 : List UInt8 := dkwX5_lines_0 ++ []
theorem dksX5_lines_0 : cX5_lines.data.toList.drop 0 = dktX5_lines_0 := by decide +kernel
theorem dX5_lines_0 : decode cX5_lines 0 = .ok (.aload_n 0, 1) := dk_42 (dk_at dksX5_lines_0 0 rfl rfl)
theorem dX5_lines_1 : decode cX5_lines 1 = .ok (.getfield 7, 3) := dk_180 0 7 (dk_at dksX5_lines_0 1 rfl rfl)
theorem dX5_lines_4 : decode cX5_lines 4 = .ok (.iconst 0, 1) := dk_3 (dk_at dksX5_lines_0 4 rfl rfl)
theorem dX5_lines_5 : decode cX5_lines 5 = .ok (.iaload, 1) := dk_46 (dk_at dksX5_lines_0 5 rfl rfl)
theorem dX5_lines_6 : decode cX5_lines 6 = .ok (.aload_n 0, 1) := dk_42 (dk_at dksX5_lines_0 6 rfl rfl)
theorem dX5_lines_7 : decode cX5_lines 7 = .ok (.getfield 7, 3) := dk_180 0 7 (dk_at dksX5_lines_0 7 rfl rfl)
theorem dX5_lines_10 : decode cX5_lines 10 = .ok (.iconst 1, 1) := dk_4 (dk_at dksX5_lines_0 10 rfl rfl)
theorem dX5_lines_11 : decode cX5_lines 11 = .ok (.iaload, 1) := dk_46 (dk_at dksX5_lines_0 11 rfl rfl)
theorem dX5_lines_12 : decode cX5_lines 12 = .ok (.iadd, 1) := dk_96 (dk_at dksX5_lines_0 12 rfl rfl)
theorem dX5_lines_13 : decode cX5_lines 13 = .ok (.ireturn, 1) := dk_172 (dk_at dksX5_lines_0 13 rfl rfl)
abbrev cX5_isOpen : ByteArray := prog_12_method_31_code
def yX5_isOpen : MethodName := ⟨RX5, "isOpen", "(I)Z"⟩
def dkwX5_isOpen_0 : List UInt8 := [42, 180, 0, 7, 16, 8, 27, 5, 108, 96, 46, 154, 0, 7, 4, 167, 0, 4, 3, 172]
abbrev dktX5_isOpen_0 : List UInt8 := dkwX5_isOpen_0 ++ []
theorem dksX5_isOpen_0 : cX5_isOpen.data.toList.drop 0 = dktX5_isOpen_0 := by decide +kernel
theorem dX5_isOpen_0 : decode cX5_isOpen 0 = .ok (.aload_n 0, 1) := dk_42 (dk_at dksX5_isOpen_0 0 rfl rfl)
theorem dX5_isOpen_1 : decode cX5_isOpen 1 = .ok (.getfield 7, 3) := dk_180 0 7 (dk_at dksX5_isOpen_0 1 rfl rfl)
theorem dX5_isOpen_4 : decode cX5_isOpen 4 = .ok (.bipush 8, 2) := dk_16 8 (dk_at dksX5_isOpen_0 4 rfl rfl)
theorem dX5_isOpen_6 : decode cX5_isOpen 6 = .ok (.iload_n 1, 1) := dk_27 (dk_at dksX5_isOpen_0 6 rfl rfl)
theorem dX5_isOpen_7 : decode cX5_isOpen 7 = .ok (.iconst 2, 1) := dk_5 (dk_at dksX5_isOpen_0 7 rfl rfl)
theorem dX5_isOpen_8 : decode cX5_isOpen 8 = .ok (.idiv, 1) := dk_108 (dk_at dksX5_isOpen_0 8 rfl rfl)
theorem dX5_isOpen_9 : decode cX5_isOpen 9 = .ok (.iadd, 1) := dk_96 (dk_at dksX5_isOpen_0 9 rfl rfl)
theorem dX5_isOpen_10 : decode cX5_isOpen 10 = .ok (.iaload, 1) := dk_46 (dk_at dksX5_isOpen_0 10 rfl rfl)
theorem dX5_isOpen_11 : decode cX5_isOpen 11 = .ok (.ifCond .ne 7, 3) := dk_154 0 7 (dk_at dksX5_isOpen_0 11 rfl rfl)
theorem dX5_isOpen_14 : decode cX5_isOpen 14 = .ok (.iconst 1, 1) := dk_4 (dk_at dksX5_isOpen_0 14 rfl rfl)
theorem dX5_isOpen_15 : decode cX5_isOpen 15 = .ok (.goto 4, 3) := dk_167 0 4 (dk_at dksX5_isOpen_0 15 rfl rfl)
theorem dX5_isOpen_18 : decode cX5_isOpen 18 = .ok (.iconst 0, 1) := dk_3 (dk_at dksX5_isOpen_0 18 rfl rfl)
theorem dX5_isOpen_19 : decode cX5_isOpen 19 = .ok (.ireturn, 1) := dk_172 (dk_at dksX5_isOpen_0 19 rfl rfl)
abbrev cX5_makesByHand : ByteArray := prog_12_method_33_code
def yX5_makesByHand : MethodName := ⟨RX5, "makesByHand", "(I)I"⟩
def dkwX5_makesByHand_1 : List UInt8 := [160, 0, 12, 28, 29, 162, 0, 7, 4, 167, 0, 4, 3, 96, 79, 29, 172]
abbrev dktX5_makesByHand_1 : List UInt8 := dkwX5_makesByHand_1 ++ []
def dkwX5_makesByHand_0 : List UInt8 := [42, 182, 0, 134, 61, 42, 27, 182, 0, 137, 62, 42, 180, 0, 7, 16, 7, 92, 46, 29, 42, 182, 0, 66]
abbrev dktX5_makesByHand_0 : List UInt8 := dkwX5_makesByHand_0 ++ dktX5_makesByHand_1
theorem dksX5_makesByHand_0 : cX5_makesByHand.data.toList.drop 0 = dktX5_makesByHand_0 := by decide +kernel
theorem dksX5_makesByHand_1 : cX5_makesByHand.data.toList.drop 24 = dktX5_makesByHand_1 := dk_seg dksX5_makesByHand_0 24 rfl rfl
theorem dX5_makesByHand_0 : decode cX5_makesByHand 0 = .ok (.aload_n 0, 1) := dk_42 (dk_at dksX5_makesByHand_0 0 rfl rfl)
theorem dX5_makesByHand_1 : decode cX5_makesByHand 1 = .ok (.invokevirtual 134, 3) := dk_182 0 134 (dk_at dksX5_makesByHand_0 1 rfl rfl)
theorem dX5_makesByHand_4 : decode cX5_makesByHand 4 = .ok (.istore_n 2, 1) := dk_61 (dk_at dksX5_makesByHand_0 4 rfl rfl)
theorem dX5_makesByHand_5 : decode cX5_makesByHand 5 = .ok (.aload_n 0, 1) := dk_42 (dk_at dksX5_makesByHand_0 5 rfl rfl)
theorem dX5_makesByHand_6 : decode cX5_makesByHand 6 = .ok (.iload_n 1, 1) := dk_27 (dk_at dksX5_makesByHand_0 6 rfl rfl)
theorem dX5_makesByHand_7 : decode cX5_makesByHand 7 = .ok (.invokevirtual 137, 3) := dk_182 0 137 (dk_at dksX5_makesByHand_0 7 rfl rfl)
theorem dX5_makesByHand_10 : decode cX5_makesByHand 10 = .ok (.istore_n 3, 1) := dk_62 (dk_at dksX5_makesByHand_0 10 rfl rfl)
theorem dX5_makesByHand_11 : decode cX5_makesByHand 11 = .ok (.aload_n 0, 1) := dk_42 (dk_at dksX5_makesByHand_0 11 rfl rfl)
theorem dX5_makesByHand_12 : decode cX5_makesByHand 12 = .ok (.getfield 7, 3) := dk_180 0 7 (dk_at dksX5_makesByHand_0 12 rfl rfl)
theorem dX5_makesByHand_15 : decode cX5_makesByHand 15 = .ok (.bipush 7, 2) := dk_16 7 (dk_at dksX5_makesByHand_0 15 rfl rfl)
theorem dX5_makesByHand_17 : decode cX5_makesByHand 17 = .ok (.dup2, 1) := dk_92 (dk_at dksX5_makesByHand_0 17 rfl rfl)
theorem dX5_makesByHand_18 : decode cX5_makesByHand 18 = .ok (.iaload, 1) := dk_46 (dk_at dksX5_makesByHand_0 18 rfl rfl)
theorem dX5_makesByHand_19 : decode cX5_makesByHand 19 = .ok (.iload_n 3, 1) := dk_29 (dk_at dksX5_makesByHand_0 19 rfl rfl)
theorem dX5_makesByHand_20 : decode cX5_makesByHand 20 = .ok (.aload_n 0, 1) := dk_42 (dk_at dksX5_makesByHand_0 20 rfl rfl)
theorem dX5_makesByHand_21 : decode cX5_makesByHand 21 = .ok (.invokevirtual 66, 3) := dk_182 0 66 (dk_at dksX5_makesByHand_0 21 rfl rfl)
theorem dX5_makesByHand_24 : decode cX5_makesByHand 24 = .ok (.if_icmp .ne 12, 3) := dk_160 0 12 (dk_at dksX5_makesByHand_1 0 rfl rfl)
theorem dX5_makesByHand_27 : decode cX5_makesByHand 27 = .ok (.iload_n 2, 1) := dk_28 (dk_at dksX5_makesByHand_1 3 rfl rfl)
theorem dX5_makesByHand_28 : decode cX5_makesByHand 28 = .ok (.iload_n 3, 1) := dk_29 (dk_at dksX5_makesByHand_1 4 rfl rfl)
theorem dX5_makesByHand_29 : decode cX5_makesByHand 29 = .ok (.if_icmp .ge 7, 3) := dk_162 0 7 (dk_at dksX5_makesByHand_1 5 rfl rfl)
theorem dX5_makesByHand_32 : decode cX5_makesByHand 32 = .ok (.iconst 1, 1) := dk_4 (dk_at dksX5_makesByHand_1 8 rfl rfl)
theorem dX5_makesByHand_33 : decode cX5_makesByHand 33 = .ok (.goto 4, 3) := dk_167 0 4 (dk_at dksX5_makesByHand_1 9 rfl rfl)
theorem dX5_makesByHand_36 : decode cX5_makesByHand 36 = .ok (.iconst 0, 1) := dk_3 (dk_at dksX5_makesByHand_1 12 rfl rfl)
theorem dX5_makesByHand_37 : decode cX5_makesByHand 37 = .ok (.iadd, 1) := dk_96 (dk_at dksX5_makesByHand_1 13 rfl rfl)
theorem dX5_makesByHand_38 : decode cX5_makesByHand 38 = .ok (.iastore, 1) := dk_79 (dk_at dksX5_makesByHand_1 14 rfl rfl)
theorem dX5_makesByHand_39 : decode cX5_makesByHand 39 = .ok (.iload_n 3, 1) := dk_29 (dk_at dksX5_makesByHand_1 15 rfl rfl)
theorem dX5_makesByHand_40 : decode cX5_makesByHand 40 = .ok (.ireturn, 1) := dk_172 (dk_at dksX5_makesByHand_1 16 rfl rfl)
abbrev cX5_homes : ByteArray := prog_12_method_30_code
def yX5_homes : MethodName := ⟨RX5, "homes", "()I"⟩
def dkwX5_homes_0 : List UInt8 := [42, 182, 0, 121, 42, 182, 0, 124, 172]
abbrev dktX5_homes_0 : List UInt8 := dkwX5_homes_0 ++ []
theorem dksX5_homes_0 : cX5_homes.data.toList.drop 0 = dktX5_homes_0 := by decide +kernel
theorem dX5_homes_0 : decode cX5_homes 0 = .ok (.aload_n 0, 1) := dk_42 (dk_at dksX5_homes_0 0 rfl rfl)
theorem dX5_homes_1 : decode cX5_homes 1 = .ok (.invokevirtual 121, 3) := dk_182 0 121 (dk_at dksX5_homes_0 1 rfl rfl)
theorem dX5_homes_4 : decode cX5_homes 4 = .ok (.aload_n 0, 1) := dk_42 (dk_at dksX5_homes_0 4 rfl rfl)
theorem dX5_homes_5 : decode cX5_homes 5 = .ok (.invokevirtual 124, 3) := dk_182 0 124 (dk_at dksX5_homes_0 5 rfl rfl)
theorem dX5_homes_8 : decode cX5_homes 8 = .ok (.ireturn, 1) := dk_172 (dk_at dksX5_homes_0 8 rfl rfl)
abbrev cX5_tries : ByteArray := prog_12_method_26_code
def yX5_tries : MethodName := ⟨RX5, "tries", "()V"⟩
def dkwX5_tries_1 : List UInt8 := [79, 132, 1, 1, 167, 255, 230, 177]
abbrev dktX5_tries_1 : List UInt8 := dkwX5_tries_1 ++ []
def dkwX5_tries_0 : List UInt8 := [3, 60, 27, 42, 182, 0, 66, 162, 0, 24, 42, 180, 0, 33, 27, 42, 180, 0, 7, 16, 14, 27, 96, 46]
abbrev dktX5_tries_0 : List UInt8 := dkwX5_tries_0 ++ dktX5_tries_1
theorem dksX5_tries_0 : cX5_tries.data.toList.drop 0 = dktX5_tries_0 := by decide +kernel
theorem dksX5_tries_1 : cX5_tries.data.toList.drop 24 = dktX5_tries_1 := dk_seg dksX5_tries_0 24 rfl rfl
theorem dX5_tries_0 : decode cX5_tries 0 = .ok (.iconst 0, 1) := dk_3 (dk_at dksX5_tries_0 0 rfl rfl)
theorem dX5_tries_1 : decode cX5_tries 1 = .ok (.istore_n 1, 1) := dk_60 (dk_at dksX5_tries_0 1 rfl rfl)
theorem dX5_tries_2 : decode cX5_tries 2 = .ok (.iload_n 1, 1) := dk_27 (dk_at dksX5_tries_0 2 rfl rfl)
theorem dX5_tries_3 : decode cX5_tries 3 = .ok (.aload_n 0, 1) := dk_42 (dk_at dksX5_tries_0 3 rfl rfl)
theorem dX5_tries_4 : decode cX5_tries 4 = .ok (.invokevirtual 66, 3) := dk_182 0 66 (dk_at dksX5_tries_0 4 rfl rfl)
theorem dX5_tries_7 : decode cX5_tries 7 = .ok (.if_icmp .ge 24, 3) := dk_162 0 24 (dk_at dksX5_tries_0 7 rfl rfl)
theorem dX5_tries_10 : decode cX5_tries 10 = .ok (.aload_n 0, 1) := dk_42 (dk_at dksX5_tries_0 10 rfl rfl)
theorem dX5_tries_11 : decode cX5_tries 11 = .ok (.getfield 33, 3) := dk_180 0 33 (dk_at dksX5_tries_0 11 rfl rfl)
theorem dX5_tries_14 : decode cX5_tries 14 = .ok (.iload_n 1, 1) := dk_27 (dk_at dksX5_tries_0 14 rfl rfl)
theorem dX5_tries_15 : decode cX5_tries 15 = .ok (.aload_n 0, 1) := dk_42 (dk_at dksX5_tries_0 15 rfl rfl)
theorem dX5_tries_16 : decode cX5_tries 16 = .ok (.getfield 7, 3) := dk_180 0 7 (dk_at dksX5_tries_0 16 rfl rfl)
theorem dX5_tries_19 : decode cX5_tries 19 = .ok (.bipush 14, 2) := dk_16 14 (dk_at dksX5_tries_0 19 rfl rfl)
theorem dX5_tries_21 : decode cX5_tries 21 = .ok (.iload_n 1, 1) := dk_27 (dk_at dksX5_tries_0 21 rfl rfl)
theorem dX5_tries_22 : decode cX5_tries 22 = .ok (.iadd, 1) := dk_96 (dk_at dksX5_tries_0 22 rfl rfl)
theorem dX5_tries_23 : decode cX5_tries 23 = .ok (.iaload, 1) := dk_46 (dk_at dksX5_tries_0 23 rfl rfl)
theorem dX5_tries_24 : decode cX5_tries 24 = .ok (.iastore, 1) := dk_79 (dk_at dksX5_tries_1 0 rfl rfl)
theorem dX5_tries_25 : decode cX5_tries 25 = .ok (.iinc 1 1, 3) := dk_132 1 1 (dk_at dksX5_tries_1 1 rfl rfl)
theorem dX5_tries_28 : decode cX5_tries 28 = .ok (.goto (-26), 3) := dk_167 255 230 (dk_at dksX5_tries_1 4 rfl rfl)
theorem dX5_tries_31 : decode cX5_tries 31 = .ok (.return_, 1) := dk_177 (dk_at dksX5_tries_1 7 rfl rfl)
abbrev cX5_homeTried : ByteArray := prog_12_method_29_code
def yX5_homeTried : MethodName := ⟨RX5, "homeTried", "()I"⟩
def dkwX5_homeTried_2 : List UInt8 := [167, 0, 4, 3, 96, 60, 132, 2, 1, 167, 255, 206, 27, 172]
abbrev dktX5_homeTried_2 : List UInt8 := dkwX5_homeTried_2 ++ []
def dkwX5_homeTried_1 : List UInt8 := [159, 0, 21, 42, 180, 0, 7, 16, 23, 28, 96, 46, 42, 180, 0, 33, 28, 46, 160, 0, 7, 4]
abbrev dktX5_homeTried_1 : List UInt8 := dkwX5_homeTried_1 ++ dktX5_homeTried_2
def dkwX5_homeTried_0 : List UInt8 := [3, 60, 3, 61, 28, 42, 182, 0, 66, 162, 0, 48, 27, 42, 180, 0, 7, 16, 23, 28, 96, 46, 2]
abbrev dktX5_homeTried_0 : List UInt8 := dkwX5_homeTried_0 ++ dktX5_homeTried_1
theorem dksX5_homeTried_0 : cX5_homeTried.data.toList.drop 0 = dktX5_homeTried_0 := by decide +kernel
theorem dksX5_homeTried_1 : cX5_homeTried.data.toList.drop 23 = dktX5_homeTried_1 := dk_seg dksX5_homeTried_0 23 rfl rfl
theorem dksX5_homeTried_2 : cX5_homeTried.data.toList.drop 45 = dktX5_homeTried_2 := dk_seg dksX5_homeTried_1 22 rfl rfl
theorem dX5_homeTried_0 : decode cX5_homeTried 0 = .ok (.iconst 0, 1) := dk_3 (dk_at dksX5_homeTried_0 0 rfl rfl)
theorem dX5_homeTried_1 : decode cX5_homeTried 1 = .ok (.istore_n 1, 1) := dk_60 (dk_at dksX5_homeTried_0 1 rfl rfl)
theorem dX5_homeTried_2 : decode cX5_homeTried 2 = .ok (.iconst 0, 1) := dk_3 (dk_at dksX5_homeTried_0 2 rfl rfl)
theorem dX5_homeTried_3 : decode cX5_homeTried 3 = .ok (.istore_n 2, 1) := dk_61 (dk_at dksX5_homeTried_0 3 rfl rfl)
theorem dX5_homeTried_4 : decode cX5_homeTried 4 = .ok (.iload_n 2, 1) := dk_28 (dk_at dksX5_homeTried_0 4 rfl rfl)
theorem dX5_homeTried_5 : decode cX5_homeTried 5 = .ok (.aload_n 0, 1) := dk_42 (dk_at dksX5_homeTried_0 5 rfl rfl)
theorem dX5_homeTried_6 : decode cX5_homeTried 6 = .ok (.invokevirtual 66, 3) := dk_182 0 66 (dk_at dksX5_homeTried_0 6 rfl rfl)
theorem dX5_homeTried_9 : decode cX5_homeTried 9 = .ok (.if_icmp .ge 48, 3) := dk_162 0 48 (dk_at dksX5_homeTried_0 9 rfl rfl)
theorem dX5_homeTried_12 : decode cX5_homeTried 12 = .ok (.iload_n 1, 1) := dk_27 (dk_at dksX5_homeTried_0 12 rfl rfl)
theorem dX5_homeTried_13 : decode cX5_homeTried 13 = .ok (.aload_n 0, 1) := dk_42 (dk_at dksX5_homeTried_0 13 rfl rfl)
theorem dX5_homeTried_14 : decode cX5_homeTried 14 = .ok (.getfield 7, 3) := dk_180 0 7 (dk_at dksX5_homeTried_0 14 rfl rfl)
theorem dX5_homeTried_17 : decode cX5_homeTried 17 = .ok (.bipush 23, 2) := dk_16 23 (dk_at dksX5_homeTried_0 17 rfl rfl)
theorem dX5_homeTried_19 : decode cX5_homeTried 19 = .ok (.iload_n 2, 1) := dk_28 (dk_at dksX5_homeTried_0 19 rfl rfl)
theorem dX5_homeTried_20 : decode cX5_homeTried 20 = .ok (.iadd, 1) := dk_96 (dk_at dksX5_homeTried_0 20 rfl rfl)
theorem dX5_homeTried_21 : decode cX5_homeTried 21 = .ok (.iaload, 1) := dk_46 (dk_at dksX5_homeTried_0 21 rfl rfl)
theorem dX5_homeTried_22 : decode cX5_homeTried 22 = .ok (.iconst (-1), 1) := dk_2 (dk_at dksX5_homeTried_0 22 rfl rfl)
theorem dX5_homeTried_23 : decode cX5_homeTried 23 = .ok (.if_icmp .eq 21, 3) := dk_159 0 21 (dk_at dksX5_homeTried_1 0 rfl rfl)
theorem dX5_homeTried_26 : decode cX5_homeTried 26 = .ok (.aload_n 0, 1) := dk_42 (dk_at dksX5_homeTried_1 3 rfl rfl)
theorem dX5_homeTried_27 : decode cX5_homeTried 27 = .ok (.getfield 7, 3) := dk_180 0 7 (dk_at dksX5_homeTried_1 4 rfl rfl)
theorem dX5_homeTried_30 : decode cX5_homeTried 30 = .ok (.bipush 23, 2) := dk_16 23 (dk_at dksX5_homeTried_1 7 rfl rfl)
theorem dX5_homeTried_32 : decode cX5_homeTried 32 = .ok (.iload_n 2, 1) := dk_28 (dk_at dksX5_homeTried_1 9 rfl rfl)
theorem dX5_homeTried_33 : decode cX5_homeTried 33 = .ok (.iadd, 1) := dk_96 (dk_at dksX5_homeTried_1 10 rfl rfl)
theorem dX5_homeTried_34 : decode cX5_homeTried 34 = .ok (.iaload, 1) := dk_46 (dk_at dksX5_homeTried_1 11 rfl rfl)
theorem dX5_homeTried_35 : decode cX5_homeTried 35 = .ok (.aload_n 0, 1) := dk_42 (dk_at dksX5_homeTried_1 12 rfl rfl)
theorem dX5_homeTried_36 : decode cX5_homeTried 36 = .ok (.getfield 33, 3) := dk_180 0 33 (dk_at dksX5_homeTried_1 13 rfl rfl)
theorem dX5_homeTried_39 : decode cX5_homeTried 39 = .ok (.iload_n 2, 1) := dk_28 (dk_at dksX5_homeTried_1 16 rfl rfl)
theorem dX5_homeTried_40 : decode cX5_homeTried 40 = .ok (.iaload, 1) := dk_46 (dk_at dksX5_homeTried_1 17 rfl rfl)
theorem dX5_homeTried_41 : decode cX5_homeTried 41 = .ok (.if_icmp .ne 7, 3) := dk_160 0 7 (dk_at dksX5_homeTried_1 18 rfl rfl)
theorem dX5_homeTried_44 : decode cX5_homeTried 44 = .ok (.iconst 1, 1) := dk_4 (dk_at dksX5_homeTried_1 21 rfl rfl)
theorem dX5_homeTried_45 : decode cX5_homeTried 45 = .ok (.goto 4, 3) := dk_167 0 4 (dk_at dksX5_homeTried_2 0 rfl rfl)
theorem dX5_homeTried_48 : decode cX5_homeTried 48 = .ok (.iconst 0, 1) := dk_3 (dk_at dksX5_homeTried_2 3 rfl rfl)
theorem dX5_homeTried_49 : decode cX5_homeTried 49 = .ok (.iadd, 1) := dk_96 (dk_at dksX5_homeTried_2 4 rfl rfl)
theorem dX5_homeTried_50 : decode cX5_homeTried 50 = .ok (.istore_n 1, 1) := dk_60 (dk_at dksX5_homeTried_2 5 rfl rfl)
theorem dX5_homeTried_51 : decode cX5_homeTried 51 = .ok (.iinc 2 1, 3) := dk_132 2 1 (dk_at dksX5_homeTried_2 6 rfl rfl)
theorem dX5_homeTried_54 : decode cX5_homeTried 54 = .ok (.goto (-50), 3) := dk_167 255 206 (dk_at dksX5_homeTried_2 9 rfl rfl)
theorem dX5_homeTried_57 : decode cX5_homeTried 57 = .ok (.iload_n 1, 1) := dk_27 (dk_at dksX5_homeTried_2 12 rfl rfl)
theorem dX5_homeTried_58 : decode cX5_homeTried 58 = .ok (.ireturn, 1) := dk_172 (dk_at dksX5_homeTried_2 13 rfl rfl)
abbrev cX5_makes : ByteArray := prog_12_method_32_code
def yX5_makes : MethodName := ⟨RX5, "makes", "(I)I"⟩
def dkwX5_makes_1 : List UInt8 := [182, 0, 124, 172]
abbrev dktX5_makes_1 : List UInt8 := dkwX5_makes_1 ++ []
def dkwX5_makes_0 : List UInt8 := [42, 182, 0, 121, 42, 27, 182, 0, 127, 42, 182, 0, 131, 42, 180, 0, 7, 5, 92, 46, 4, 96, 79, 42]
abbrev dktX5_makes_0 : List UInt8 := dkwX5_makes_0 ++ dktX5_makes_1
theorem dksX5_makes_0 : cX5_makes.data.toList.drop 0 = dktX5_makes_0 := by decide +kernel
theorem dksX5_makes_1 : cX5_makes.data.toList.drop 24 = dktX5_makes_1 := dk_seg dksX5_makes_0 24 rfl rfl
theorem dX5_makes_0 : decode cX5_makes 0 = .ok (.aload_n 0, 1) := dk_42 (dk_at dksX5_makes_0 0 rfl rfl)
theorem dX5_makes_1 : decode cX5_makes 1 = .ok (.invokevirtual 121, 3) := dk_182 0 121 (dk_at dksX5_makes_0 1 rfl rfl)
theorem dX5_makes_4 : decode cX5_makes 4 = .ok (.aload_n 0, 1) := dk_42 (dk_at dksX5_makes_0 4 rfl rfl)
theorem dX5_makes_5 : decode cX5_makes 5 = .ok (.iload_n 1, 1) := dk_27 (dk_at dksX5_makes_0 5 rfl rfl)
theorem dX5_makes_6 : decode cX5_makes 6 = .ok (.invokevirtual 127, 3) := dk_182 0 127 (dk_at dksX5_makes_0 6 rfl rfl)
theorem dX5_makes_9 : decode cX5_makes 9 = .ok (.aload_n 0, 1) := dk_42 (dk_at dksX5_makes_0 9 rfl rfl)
theorem dX5_makes_10 : decode cX5_makes 10 = .ok (.invokevirtual 131, 3) := dk_182 0 131 (dk_at dksX5_makes_0 10 rfl rfl)
theorem dX5_makes_13 : decode cX5_makes 13 = .ok (.aload_n 0, 1) := dk_42 (dk_at dksX5_makes_0 13 rfl rfl)
theorem dX5_makes_14 : decode cX5_makes 14 = .ok (.getfield 7, 3) := dk_180 0 7 (dk_at dksX5_makes_0 14 rfl rfl)
theorem dX5_makes_17 : decode cX5_makes 17 = .ok (.iconst 2, 1) := dk_5 (dk_at dksX5_makes_0 17 rfl rfl)
theorem dX5_makes_18 : decode cX5_makes 18 = .ok (.dup2, 1) := dk_92 (dk_at dksX5_makes_0 18 rfl rfl)
theorem dX5_makes_19 : decode cX5_makes 19 = .ok (.iaload, 1) := dk_46 (dk_at dksX5_makes_0 19 rfl rfl)
theorem dX5_makes_20 : decode cX5_makes 20 = .ok (.iconst 1, 1) := dk_4 (dk_at dksX5_makes_0 20 rfl rfl)
theorem dX5_makes_21 : decode cX5_makes 21 = .ok (.iadd, 1) := dk_96 (dk_at dksX5_makes_0 21 rfl rfl)
theorem dX5_makes_22 : decode cX5_makes 22 = .ok (.iastore, 1) := dk_79 (dk_at dksX5_makes_0 22 rfl rfl)
theorem dX5_makes_23 : decode cX5_makes 23 = .ok (.aload_n 0, 1) := dk_42 (dk_at dksX5_makes_0 23 rfl rfl)
theorem dX5_makes_24 : decode cX5_makes 24 = .ok (.invokevirtual 124, 3) := dk_182 0 124 (dk_at dksX5_makes_1 0 rfl rfl)
theorem dX5_makes_27 : decode cX5_makes 27 = .ok (.ireturn, 1) := dk_172 (dk_at dksX5_makes_1 3 rfl rfl)
abbrev cX5_turnsTried : ByteArray := prog_12_method_27_code
def yX5_turnsTried : MethodName := ⟨RX5, "turnsTried", "(I)V"⟩
def dkwX5_turnsTried_2 : List UInt8 := [42, 180, 0, 36, 28, 46, 79, 132, 2, 1, 167, 255, 233, 177]
abbrev dktX5_turnsTried_2 : List UInt8 := dkwX5_turnsTried_2 ++ []
def dkwX5_turnsTried_1 : List UInt8 := [28, 46, 79, 132, 2, 1, 167, 255, 228, 3, 61, 28, 42, 182, 0, 66, 162, 0, 21, 42, 180, 0, 33, 28]
abbrev dktX5_turnsTried_1 : List UInt8 := dkwX5_turnsTried_1 ++ dktX5_turnsTried_2
def dkwX5_turnsTried_0 : List UInt8 := [3, 61, 28, 42, 182, 0, 66, 162, 0, 26, 42, 180, 0, 36, 42, 28, 27, 182, 0, 118, 42, 180, 0, 33]
abbrev dktX5_turnsTried_0 : List UInt8 := dkwX5_turnsTried_0 ++ dktX5_turnsTried_1
theorem dksX5_turnsTried_0 : cX5_turnsTried.data.toList.drop 0 = dktX5_turnsTried_0 := by decide +kernel
theorem dksX5_turnsTried_1 : cX5_turnsTried.data.toList.drop 24 = dktX5_turnsTried_1 := dk_seg dksX5_turnsTried_0 24 rfl rfl
theorem dksX5_turnsTried_2 : cX5_turnsTried.data.toList.drop 48 = dktX5_turnsTried_2 := dk_seg dksX5_turnsTried_1 24 rfl rfl
theorem dX5_turnsTried_0 : decode cX5_turnsTried 0 = .ok (.iconst 0, 1) := dk_3 (dk_at dksX5_turnsTried_0 0 rfl rfl)
theorem dX5_turnsTried_1 : decode cX5_turnsTried 1 = .ok (.istore_n 2, 1) := dk_61 (dk_at dksX5_turnsTried_0 1 rfl rfl)
theorem dX5_turnsTried_2 : decode cX5_turnsTried 2 = .ok (.iload_n 2, 1) := dk_28 (dk_at dksX5_turnsTried_0 2 rfl rfl)
theorem dX5_turnsTried_3 : decode cX5_turnsTried 3 = .ok (.aload_n 0, 1) := dk_42 (dk_at dksX5_turnsTried_0 3 rfl rfl)
theorem dX5_turnsTried_4 : decode cX5_turnsTried 4 = .ok (.invokevirtual 66, 3) := dk_182 0 66 (dk_at dksX5_turnsTried_0 4 rfl rfl)
theorem dX5_turnsTried_7 : decode cX5_turnsTried 7 = .ok (.if_icmp .ge 26, 3) := dk_162 0 26 (dk_at dksX5_turnsTried_0 7 rfl rfl)
theorem dX5_turnsTried_10 : decode cX5_turnsTried 10 = .ok (.aload_n 0, 1) := dk_42 (dk_at dksX5_turnsTried_0 10 rfl rfl)
theorem dX5_turnsTried_11 : decode cX5_turnsTried 11 = .ok (.getfield 36, 3) := dk_180 0 36 (dk_at dksX5_turnsTried_0 11 rfl rfl)
theorem dX5_turnsTried_14 : decode cX5_turnsTried 14 = .ok (.aload_n 0, 1) := dk_42 (dk_at dksX5_turnsTried_0 14 rfl rfl)
theorem dX5_turnsTried_15 : decode cX5_turnsTried 15 = .ok (.iload_n 2, 1) := dk_28 (dk_at dksX5_turnsTried_0 15 rfl rfl)
theorem dX5_turnsTried_16 : decode cX5_turnsTried 16 = .ok (.iload_n 1, 1) := dk_27 (dk_at dksX5_turnsTried_0 16 rfl rfl)
theorem dX5_turnsTried_17 : decode cX5_turnsTried 17 = .ok (.invokevirtual 118, 3) := dk_182 0 118 (dk_at dksX5_turnsTried_0 17 rfl rfl)
theorem dX5_turnsTried_20 : decode cX5_turnsTried 20 = .ok (.aload_n 0, 1) := dk_42 (dk_at dksX5_turnsTried_0 20 rfl rfl)
theorem dX5_turnsTried_21 : decode cX5_turnsTried 21 = .ok (.getfield 33, 3) := dk_180 0 33 (dk_at dksX5_turnsTried_0 21 rfl rfl)
theorem dX5_turnsTried_24 : decode cX5_turnsTried 24 = .ok (.iload_n 2, 1) := dk_28 (dk_at dksX5_turnsTried_1 0 rfl rfl)
theorem dX5_turnsTried_25 : decode cX5_turnsTried 25 = .ok (.iaload, 1) := dk_46 (dk_at dksX5_turnsTried_1 1 rfl rfl)
theorem dX5_turnsTried_26 : decode cX5_turnsTried 26 = .ok (.iastore, 1) := dk_79 (dk_at dksX5_turnsTried_1 2 rfl rfl)
theorem dX5_turnsTried_27 : decode cX5_turnsTried 27 = .ok (.iinc 2 1, 3) := dk_132 2 1 (dk_at dksX5_turnsTried_1 3 rfl rfl)
theorem dX5_turnsTried_30 : decode cX5_turnsTried 30 = .ok (.goto (-28), 3) := dk_167 255 228 (dk_at dksX5_turnsTried_1 6 rfl rfl)
theorem dX5_turnsTried_33 : decode cX5_turnsTried 33 = .ok (.iconst 0, 1) := dk_3 (dk_at dksX5_turnsTried_1 9 rfl rfl)
theorem dX5_turnsTried_34 : decode cX5_turnsTried 34 = .ok (.istore_n 2, 1) := dk_61 (dk_at dksX5_turnsTried_1 10 rfl rfl)
theorem dX5_turnsTried_35 : decode cX5_turnsTried 35 = .ok (.iload_n 2, 1) := dk_28 (dk_at dksX5_turnsTried_1 11 rfl rfl)
theorem dX5_turnsTried_36 : decode cX5_turnsTried 36 = .ok (.aload_n 0, 1) := dk_42 (dk_at dksX5_turnsTried_1 12 rfl rfl)
theorem dX5_turnsTried_37 : decode cX5_turnsTried 37 = .ok (.invokevirtual 66, 3) := dk_182 0 66 (dk_at dksX5_turnsTried_1 13 rfl rfl)
theorem dX5_turnsTried_40 : decode cX5_turnsTried 40 = .ok (.if_icmp .ge 21, 3) := dk_162 0 21 (dk_at dksX5_turnsTried_1 16 rfl rfl)
theorem dX5_turnsTried_43 : decode cX5_turnsTried 43 = .ok (.aload_n 0, 1) := dk_42 (dk_at dksX5_turnsTried_1 19 rfl rfl)
theorem dX5_turnsTried_44 : decode cX5_turnsTried 44 = .ok (.getfield 33, 3) := dk_180 0 33 (dk_at dksX5_turnsTried_1 20 rfl rfl)
theorem dX5_turnsTried_47 : decode cX5_turnsTried 47 = .ok (.iload_n 2, 1) := dk_28 (dk_at dksX5_turnsTried_1 23 rfl rfl)
theorem dX5_turnsTried_48 : decode cX5_turnsTried 48 = .ok (.aload_n 0, 1) := dk_42 (dk_at dksX5_turnsTried_2 0 rfl rfl)
theorem dX5_turnsTried_49 : decode cX5_turnsTried 49 = .ok (.getfield 36, 3) := dk_180 0 36 (dk_at dksX5_turnsTried_2 1 rfl rfl)
theorem dX5_turnsTried_52 : decode cX5_turnsTried 52 = .ok (.iload_n 2, 1) := dk_28 (dk_at dksX5_turnsTried_2 4 rfl rfl)
theorem dX5_turnsTried_53 : decode cX5_turnsTried 53 = .ok (.iaload, 1) := dk_46 (dk_at dksX5_turnsTried_2 5 rfl rfl)
theorem dX5_turnsTried_54 : decode cX5_turnsTried 54 = .ok (.iastore, 1) := dk_79 (dk_at dksX5_turnsTried_2 6 rfl rfl)
theorem dX5_turnsTried_55 : decode cX5_turnsTried 55 = .ok (.iinc 2 1, 3) := dk_132 2 1 (dk_at dksX5_turnsTried_2 7 rfl rfl)
theorem dX5_turnsTried_58 : decode cX5_turnsTried 58 = .ok (.goto (-23), 3) := dk_167 255 233 (dk_at dksX5_turnsTried_2 10 rfl rfl)
theorem dX5_turnsTried_61 : decode cX5_turnsTried 61 = .ok (.return_, 1) := dk_177 (dk_at dksX5_turnsTried_2 13 rfl rfl)
abbrev cX5_goes : ByteArray := prog_12_method_25_code
def yX5_goes : MethodName := ⟨RX5, "goes", "(II)I"⟩
def dkwX5_goes_5 : List UInt8 := [29, 62, 29, 42, 180, 0, 7, 4, 46, 104, 21, 4, 96, 172]
abbrev dktX5_goes_5 : List UInt8 := dkwX5_goes_5 ++ []
def dkwX5_goes_4 : List UInt8 := [160, 0, 24, 29, 21, 6, 96, 42, 180, 0, 7, 3, 46, 96, 42, 180, 0, 7, 3, 46, 112, 167, 0, 4]
abbrev dktX5_goes_4 : List UInt8 := dkwX5_goes_4 ++ dktX5_goes_5
def dkwX5_goes_3 : List UInt8 := [112, 167, 0, 5, 21, 4, 54, 4, 167, 0, 40, 21, 4, 21, 5, 42, 180, 0, 7, 3, 46, 100]
abbrev dktX5_goes_3 : List UInt8 := dkwX5_goes_3 ++ dktX5_goes_4
def dkwX5_goes_2 : List UInt8 := [29, 21, 5, 160, 0, 25, 21, 4, 21, 6, 96, 42, 180, 0, 7, 4, 46, 96, 42, 180, 0, 7, 4, 46]
abbrev dktX5_goes_2 : List UInt8 := dkwX5_goes_2 ++ dktX5_goes_3
def dkwX5_goes_1 : List UInt8 := [28, 5, 112, 154, 0, 7, 4, 167, 0, 4, 2, 54, 6, 21, 5, 42, 180, 0, 7, 3, 46, 162, 0, 38]
abbrev dktX5_goes_1 : List UInt8 := dkwX5_goes_1 ++ dktX5_goes_2
def dkwX5_goes_0 : List UInt8 := [27, 42, 180, 0, 7, 4, 46, 108, 62, 27, 42, 180, 0, 7, 4, 46, 112, 54, 4, 28, 5, 108, 54, 5]
abbrev dktX5_goes_0 : List UInt8 := dkwX5_goes_0 ++ dktX5_goes_1
theorem dksX5_goes_0 : cX5_goes.data.toList.drop 0 = dktX5_goes_0 := by decide +kernel
theorem dksX5_goes_1 : cX5_goes.data.toList.drop 24 = dktX5_goes_1 := dk_seg dksX5_goes_0 24 rfl rfl
theorem dksX5_goes_2 : cX5_goes.data.toList.drop 48 = dktX5_goes_2 := dk_seg dksX5_goes_1 24 rfl rfl
theorem dksX5_goes_3 : cX5_goes.data.toList.drop 72 = dktX5_goes_3 := dk_seg dksX5_goes_2 24 rfl rfl
theorem dksX5_goes_4 : cX5_goes.data.toList.drop 94 = dktX5_goes_4 := dk_seg dksX5_goes_3 22 rfl rfl
theorem dksX5_goes_5 : cX5_goes.data.toList.drop 118 = dktX5_goes_5 := dk_seg dksX5_goes_4 24 rfl rfl
theorem dX5_goes_0 : decode cX5_goes 0 = .ok (.iload_n 1, 1) := dk_27 (dk_at dksX5_goes_0 0 rfl rfl)
theorem dX5_goes_1 : decode cX5_goes 1 = .ok (.aload_n 0, 1) := dk_42 (dk_at dksX5_goes_0 1 rfl rfl)
theorem dX5_goes_2 : decode cX5_goes 2 = .ok (.getfield 7, 3) := dk_180 0 7 (dk_at dksX5_goes_0 2 rfl rfl)
theorem dX5_goes_5 : decode cX5_goes 5 = .ok (.iconst 1, 1) := dk_4 (dk_at dksX5_goes_0 5 rfl rfl)
theorem dX5_goes_6 : decode cX5_goes 6 = .ok (.iaload, 1) := dk_46 (dk_at dksX5_goes_0 6 rfl rfl)
theorem dX5_goes_7 : decode cX5_goes 7 = .ok (.idiv, 1) := dk_108 (dk_at dksX5_goes_0 7 rfl rfl)
theorem dX5_goes_8 : decode cX5_goes 8 = .ok (.istore_n 3, 1) := dk_62 (dk_at dksX5_goes_0 8 rfl rfl)
theorem dX5_goes_9 : decode cX5_goes 9 = .ok (.iload_n 1, 1) := dk_27 (dk_at dksX5_goes_0 9 rfl rfl)
theorem dX5_goes_10 : decode cX5_goes 10 = .ok (.aload_n 0, 1) := dk_42 (dk_at dksX5_goes_0 10 rfl rfl)
theorem dX5_goes_11 : decode cX5_goes 11 = .ok (.getfield 7, 3) := dk_180 0 7 (dk_at dksX5_goes_0 11 rfl rfl)
theorem dX5_goes_14 : decode cX5_goes 14 = .ok (.iconst 1, 1) := dk_4 (dk_at dksX5_goes_0 14 rfl rfl)
theorem dX5_goes_15 : decode cX5_goes 15 = .ok (.iaload, 1) := dk_46 (dk_at dksX5_goes_0 15 rfl rfl)
theorem dX5_goes_16 : decode cX5_goes 16 = .ok (.irem, 1) := dk_112 (dk_at dksX5_goes_0 16 rfl rfl)
theorem dX5_goes_17 : decode cX5_goes 17 = .ok (.istore 4, 2) := dk_54 4 (dk_at dksX5_goes_0 17 rfl rfl)
theorem dX5_goes_19 : decode cX5_goes 19 = .ok (.iload_n 2, 1) := dk_28 (dk_at dksX5_goes_0 19 rfl rfl)
theorem dX5_goes_20 : decode cX5_goes 20 = .ok (.iconst 2, 1) := dk_5 (dk_at dksX5_goes_0 20 rfl rfl)
theorem dX5_goes_21 : decode cX5_goes 21 = .ok (.idiv, 1) := dk_108 (dk_at dksX5_goes_0 21 rfl rfl)
theorem dX5_goes_22 : decode cX5_goes 22 = .ok (.istore 5, 2) := dk_54 5 (dk_at dksX5_goes_0 22 rfl rfl)
theorem dX5_goes_24 : decode cX5_goes 24 = .ok (.iload_n 2, 1) := dk_28 (dk_at dksX5_goes_1 0 rfl rfl)
theorem dX5_goes_25 : decode cX5_goes 25 = .ok (.iconst 2, 1) := dk_5 (dk_at dksX5_goes_1 1 rfl rfl)
theorem dX5_goes_26 : decode cX5_goes 26 = .ok (.irem, 1) := dk_112 (dk_at dksX5_goes_1 2 rfl rfl)
theorem dX5_goes_27 : decode cX5_goes 27 = .ok (.ifCond .ne 7, 3) := dk_154 0 7 (dk_at dksX5_goes_1 3 rfl rfl)
theorem dX5_goes_30 : decode cX5_goes 30 = .ok (.iconst 1, 1) := dk_4 (dk_at dksX5_goes_1 6 rfl rfl)
theorem dX5_goes_31 : decode cX5_goes 31 = .ok (.goto 4, 3) := dk_167 0 4 (dk_at dksX5_goes_1 7 rfl rfl)
theorem dX5_goes_34 : decode cX5_goes 34 = .ok (.iconst (-1), 1) := dk_2 (dk_at dksX5_goes_1 10 rfl rfl)
theorem dX5_goes_35 : decode cX5_goes 35 = .ok (.istore 6, 2) := dk_54 6 (dk_at dksX5_goes_1 11 rfl rfl)
theorem dX5_goes_37 : decode cX5_goes 37 = .ok (.iload 5, 2) := dk_21 5 (dk_at dksX5_goes_1 13 rfl rfl)
theorem dX5_goes_39 : decode cX5_goes 39 = .ok (.aload_n 0, 1) := dk_42 (dk_at dksX5_goes_1 15 rfl rfl)
theorem dX5_goes_40 : decode cX5_goes 40 = .ok (.getfield 7, 3) := dk_180 0 7 (dk_at dksX5_goes_1 16 rfl rfl)
theorem dX5_goes_43 : decode cX5_goes 43 = .ok (.iconst 0, 1) := dk_3 (dk_at dksX5_goes_1 19 rfl rfl)
theorem dX5_goes_44 : decode cX5_goes 44 = .ok (.iaload, 1) := dk_46 (dk_at dksX5_goes_1 20 rfl rfl)
theorem dX5_goes_45 : decode cX5_goes 45 = .ok (.if_icmp .ge 38, 3) := dk_162 0 38 (dk_at dksX5_goes_1 21 rfl rfl)
theorem dX5_goes_48 : decode cX5_goes 48 = .ok (.iload_n 3, 1) := dk_29 (dk_at dksX5_goes_2 0 rfl rfl)
theorem dX5_goes_49 : decode cX5_goes 49 = .ok (.iload 5, 2) := dk_21 5 (dk_at dksX5_goes_2 1 rfl rfl)
theorem dX5_goes_51 : decode cX5_goes 51 = .ok (.if_icmp .ne 25, 3) := dk_160 0 25 (dk_at dksX5_goes_2 3 rfl rfl)
theorem dX5_goes_54 : decode cX5_goes 54 = .ok (.iload 4, 2) := dk_21 4 (dk_at dksX5_goes_2 6 rfl rfl)
theorem dX5_goes_56 : decode cX5_goes 56 = .ok (.iload 6, 2) := dk_21 6 (dk_at dksX5_goes_2 8 rfl rfl)
theorem dX5_goes_58 : decode cX5_goes 58 = .ok (.iadd, 1) := dk_96 (dk_at dksX5_goes_2 10 rfl rfl)
theorem dX5_goes_59 : decode cX5_goes 59 = .ok (.aload_n 0, 1) := dk_42 (dk_at dksX5_goes_2 11 rfl rfl)
theorem dX5_goes_60 : decode cX5_goes 60 = .ok (.getfield 7, 3) := dk_180 0 7 (dk_at dksX5_goes_2 12 rfl rfl)
theorem dX5_goes_63 : decode cX5_goes 63 = .ok (.iconst 1, 1) := dk_4 (dk_at dksX5_goes_2 15 rfl rfl)
theorem dX5_goes_64 : decode cX5_goes 64 = .ok (.iaload, 1) := dk_46 (dk_at dksX5_goes_2 16 rfl rfl)
theorem dX5_goes_65 : decode cX5_goes 65 = .ok (.iadd, 1) := dk_96 (dk_at dksX5_goes_2 17 rfl rfl)
theorem dX5_goes_66 : decode cX5_goes 66 = .ok (.aload_n 0, 1) := dk_42 (dk_at dksX5_goes_2 18 rfl rfl)
theorem dX5_goes_67 : decode cX5_goes 67 = .ok (.getfield 7, 3) := dk_180 0 7 (dk_at dksX5_goes_2 19 rfl rfl)
theorem dX5_goes_70 : decode cX5_goes 70 = .ok (.iconst 1, 1) := dk_4 (dk_at dksX5_goes_2 22 rfl rfl)
theorem dX5_goes_71 : decode cX5_goes 71 = .ok (.iaload, 1) := dk_46 (dk_at dksX5_goes_2 23 rfl rfl)
theorem dX5_goes_72 : decode cX5_goes 72 = .ok (.irem, 1) := dk_112 (dk_at dksX5_goes_3 0 rfl rfl)
theorem dX5_goes_73 : decode cX5_goes 73 = .ok (.goto 5, 3) := dk_167 0 5 (dk_at dksX5_goes_3 1 rfl rfl)
theorem dX5_goes_76 : decode cX5_goes 76 = .ok (.iload 4, 2) := dk_21 4 (dk_at dksX5_goes_3 4 rfl rfl)
theorem dX5_goes_78 : decode cX5_goes 78 = .ok (.istore 4, 2) := dk_54 4 (dk_at dksX5_goes_3 6 rfl rfl)
theorem dX5_goes_80 : decode cX5_goes 80 = .ok (.goto 40, 3) := dk_167 0 40 (dk_at dksX5_goes_3 8 rfl rfl)
theorem dX5_goes_83 : decode cX5_goes 83 = .ok (.iload 4, 2) := dk_21 4 (dk_at dksX5_goes_3 11 rfl rfl)
theorem dX5_goes_85 : decode cX5_goes 85 = .ok (.iload 5, 2) := dk_21 5 (dk_at dksX5_goes_3 13 rfl rfl)
theorem dX5_goes_87 : decode cX5_goes 87 = .ok (.aload_n 0, 1) := dk_42 (dk_at dksX5_goes_3 15 rfl rfl)
theorem dX5_goes_88 : decode cX5_goes 88 = .ok (.getfield 7, 3) := dk_180 0 7 (dk_at dksX5_goes_3 16 rfl rfl)
theorem dX5_goes_91 : decode cX5_goes 91 = .ok (.iconst 0, 1) := dk_3 (dk_at dksX5_goes_3 19 rfl rfl)
theorem dX5_goes_92 : decode cX5_goes 92 = .ok (.iaload, 1) := dk_46 (dk_at dksX5_goes_3 20 rfl rfl)
theorem dX5_goes_93 : decode cX5_goes 93 = .ok (.isub, 1) := dk_100 (dk_at dksX5_goes_3 21 rfl rfl)
theorem dX5_goes_94 : decode cX5_goes 94 = .ok (.if_icmp .ne 24, 3) := dk_160 0 24 (dk_at dksX5_goes_4 0 rfl rfl)
theorem dX5_goes_97 : decode cX5_goes 97 = .ok (.iload_n 3, 1) := dk_29 (dk_at dksX5_goes_4 3 rfl rfl)
theorem dX5_goes_98 : decode cX5_goes 98 = .ok (.iload 6, 2) := dk_21 6 (dk_at dksX5_goes_4 4 rfl rfl)
theorem dX5_goes_100 : decode cX5_goes 100 = .ok (.iadd, 1) := dk_96 (dk_at dksX5_goes_4 6 rfl rfl)
theorem dX5_goes_101 : decode cX5_goes 101 = .ok (.aload_n 0, 1) := dk_42 (dk_at dksX5_goes_4 7 rfl rfl)
theorem dX5_goes_102 : decode cX5_goes 102 = .ok (.getfield 7, 3) := dk_180 0 7 (dk_at dksX5_goes_4 8 rfl rfl)
theorem dX5_goes_105 : decode cX5_goes 105 = .ok (.iconst 0, 1) := dk_3 (dk_at dksX5_goes_4 11 rfl rfl)
theorem dX5_goes_106 : decode cX5_goes 106 = .ok (.iaload, 1) := dk_46 (dk_at dksX5_goes_4 12 rfl rfl)
theorem dX5_goes_107 : decode cX5_goes 107 = .ok (.iadd, 1) := dk_96 (dk_at dksX5_goes_4 13 rfl rfl)
theorem dX5_goes_108 : decode cX5_goes 108 = .ok (.aload_n 0, 1) := dk_42 (dk_at dksX5_goes_4 14 rfl rfl)
theorem dX5_goes_109 : decode cX5_goes 109 = .ok (.getfield 7, 3) := dk_180 0 7 (dk_at dksX5_goes_4 15 rfl rfl)
theorem dX5_goes_112 : decode cX5_goes 112 = .ok (.iconst 0, 1) := dk_3 (dk_at dksX5_goes_4 18 rfl rfl)
theorem dX5_goes_113 : decode cX5_goes 113 = .ok (.iaload, 1) := dk_46 (dk_at dksX5_goes_4 19 rfl rfl)
theorem dX5_goes_114 : decode cX5_goes 114 = .ok (.irem, 1) := dk_112 (dk_at dksX5_goes_4 20 rfl rfl)
theorem dX5_goes_115 : decode cX5_goes 115 = .ok (.goto 4, 3) := dk_167 0 4 (dk_at dksX5_goes_4 21 rfl rfl)
theorem dX5_goes_118 : decode cX5_goes 118 = .ok (.iload_n 3, 1) := dk_29 (dk_at dksX5_goes_5 0 rfl rfl)
theorem dX5_goes_119 : decode cX5_goes 119 = .ok (.istore_n 3, 1) := dk_62 (dk_at dksX5_goes_5 1 rfl rfl)
theorem dX5_goes_120 : decode cX5_goes 120 = .ok (.iload_n 3, 1) := dk_29 (dk_at dksX5_goes_5 2 rfl rfl)
theorem dX5_goes_121 : decode cX5_goes 121 = .ok (.aload_n 0, 1) := dk_42 (dk_at dksX5_goes_5 3 rfl rfl)
theorem dX5_goes_122 : decode cX5_goes 122 = .ok (.getfield 7, 3) := dk_180 0 7 (dk_at dksX5_goes_5 4 rfl rfl)
theorem dX5_goes_125 : decode cX5_goes 125 = .ok (.iconst 1, 1) := dk_4 (dk_at dksX5_goes_5 7 rfl rfl)
theorem dX5_goes_126 : decode cX5_goes 126 = .ok (.iaload, 1) := dk_46 (dk_at dksX5_goes_5 8 rfl rfl)
theorem dX5_goes_127 : decode cX5_goes 127 = .ok (.imul, 1) := dk_104 (dk_at dksX5_goes_5 9 rfl rfl)
theorem dX5_goes_128 : decode cX5_goes 128 = .ok (.iload 4, 2) := dk_21 4 (dk_at dksX5_goes_5 10 rfl rfl)
theorem dX5_goes_130 : decode cX5_goes 130 = .ok (.iadd, 1) := dk_96 (dk_at dksX5_goes_5 12 rfl rfl)
theorem dX5_goes_131 : decode cX5_goes 131 = .ok (.ireturn, 1) := dk_172 (dk_at dksX5_goes_5 13 rfl rfl)
abbrev cX5_takesTried : ByteArray := prog_12_method_28_code
def yX5_takesTried : MethodName := ⟨RX5, "takesTried", "()V"⟩
def dkwX5_takesTried_1 : List UInt8 := [79, 132, 1, 1, 167, 255, 230, 177]
abbrev dktX5_takesTried_1 : List UInt8 := dkwX5_takesTried_1 ++ []
def dkwX5_takesTried_0 : List UInt8 := [3, 60, 27, 42, 182, 0, 66, 162, 0, 24, 42, 180, 0, 7, 16, 14, 27, 96, 42, 180, 0, 33, 27, 46]
abbrev dktX5_takesTried_0 : List UInt8 := dkwX5_takesTried_0 ++ dktX5_takesTried_1
theorem dksX5_takesTried_0 : cX5_takesTried.data.toList.drop 0 = dktX5_takesTried_0 := by decide +kernel
theorem dksX5_takesTried_1 : cX5_takesTried.data.toList.drop 24 = dktX5_takesTried_1 := dk_seg dksX5_takesTried_0 24 rfl rfl
theorem dX5_takesTried_0 : decode cX5_takesTried 0 = .ok (.iconst 0, 1) := dk_3 (dk_at dksX5_takesTried_0 0 rfl rfl)
theorem dX5_takesTried_1 : decode cX5_takesTried 1 = .ok (.istore_n 1, 1) := dk_60 (dk_at dksX5_takesTried_0 1 rfl rfl)
theorem dX5_takesTried_2 : decode cX5_takesTried 2 = .ok (.iload_n 1, 1) := dk_27 (dk_at dksX5_takesTried_0 2 rfl rfl)
theorem dX5_takesTried_3 : decode cX5_takesTried 3 = .ok (.aload_n 0, 1) := dk_42 (dk_at dksX5_takesTried_0 3 rfl rfl)
theorem dX5_takesTried_4 : decode cX5_takesTried 4 = .ok (.invokevirtual 66, 3) := dk_182 0 66 (dk_at dksX5_takesTried_0 4 rfl rfl)
theorem dX5_takesTried_7 : decode cX5_takesTried 7 = .ok (.if_icmp .ge 24, 3) := dk_162 0 24 (dk_at dksX5_takesTried_0 7 rfl rfl)
theorem dX5_takesTried_10 : decode cX5_takesTried 10 = .ok (.aload_n 0, 1) := dk_42 (dk_at dksX5_takesTried_0 10 rfl rfl)
theorem dX5_takesTried_11 : decode cX5_takesTried 11 = .ok (.getfield 7, 3) := dk_180 0 7 (dk_at dksX5_takesTried_0 11 rfl rfl)
theorem dX5_takesTried_14 : decode cX5_takesTried 14 = .ok (.bipush 14, 2) := dk_16 14 (dk_at dksX5_takesTried_0 14 rfl rfl)
theorem dX5_takesTried_16 : decode cX5_takesTried 16 = .ok (.iload_n 1, 1) := dk_27 (dk_at dksX5_takesTried_0 16 rfl rfl)
theorem dX5_takesTried_17 : decode cX5_takesTried 17 = .ok (.iadd, 1) := dk_96 (dk_at dksX5_takesTried_0 17 rfl rfl)
theorem dX5_takesTried_18 : decode cX5_takesTried 18 = .ok (.aload_n 0, 1) := dk_42 (dk_at dksX5_takesTried_0 18 rfl rfl)
theorem dX5_takesTried_19 : decode cX5_takesTried 19 = .ok (.getfield 33, 3) := dk_180 0 33 (dk_at dksX5_takesTried_0 19 rfl rfl)
theorem dX5_takesTried_22 : decode cX5_takesTried 22 = .ok (.iload_n 1, 1) := dk_27 (dk_at dksX5_takesTried_0 22 rfl rfl)
theorem dX5_takesTried_23 : decode cX5_takesTried 23 = .ok (.iaload, 1) := dk_46 (dk_at dksX5_takesTried_0 23 rfl rfl)
theorem dX5_takesTried_24 : decode cX5_takesTried 24 = .ok (.iastore, 1) := dk_79 (dk_at dksX5_takesTried_1 0 rfl rfl)
theorem dX5_takesTried_25 : decode cX5_takesTried 25 = .ok (.iinc 1 1, 3) := dk_132 1 1 (dk_at dksX5_takesTried_1 1 rfl rfl)
theorem dX5_takesTried_28 : decode cX5_takesTried 28 = .ok (.goto (-26), 3) := dk_167 255 230 (dk_at dksX5_takesTried_1 4 rfl rfl)
theorem dX5_takesTried_31 : decode cX5_takesTried 31 = .ok (.return_, 1) := dk_177 (dk_at dksX5_takesTried_1 7 rfl rfl)
abbrev cX5_swap : ByteArray := prog_12_method_37_code
def yX5_swap : MethodName := ⟨RX5, "swap", "(II)I"⟩
def dkwX5_swap_0 : List UInt8 := [42, 182, 0, 84, 42, 42, 27, 28, 182, 0, 152, 182, 0, 91, 172]
abbrev dktX5_swap_0 : List UInt8 := dkwX5_swap_0 ++ []
theorem dksX5_swap_0 : cX5_swap.data.toList.drop 0 = dktX5_swap_0 := by decide +kernel
theorem dX5_swap_0 : decode cX5_swap 0 = .ok (.aload_n 0, 1) := dk_42 (dk_at dksX5_swap_0 0 rfl rfl)
theorem dX5_swap_1 : decode cX5_swap 1 = .ok (.invokevirtual 84, 3) := dk_182 0 84 (dk_at dksX5_swap_0 1 rfl rfl)
theorem dX5_swap_4 : decode cX5_swap 4 = .ok (.aload_n 0, 1) := dk_42 (dk_at dksX5_swap_0 4 rfl rfl)
theorem dX5_swap_5 : decode cX5_swap 5 = .ok (.aload_n 0, 1) := dk_42 (dk_at dksX5_swap_0 5 rfl rfl)
theorem dX5_swap_6 : decode cX5_swap 6 = .ok (.iload_n 1, 1) := dk_27 (dk_at dksX5_swap_0 6 rfl rfl)
theorem dX5_swap_7 : decode cX5_swap 7 = .ok (.iload_n 2, 1) := dk_28 (dk_at dksX5_swap_0 7 rfl rfl)
theorem dX5_swap_8 : decode cX5_swap 8 = .ok (.invokevirtual 152, 3) := dk_182 0 152 (dk_at dksX5_swap_0 8 rfl rfl)
theorem dX5_swap_11 : decode cX5_swap 11 = .ok (.invokevirtual 91, 3) := dk_182 0 91 (dk_at dksX5_swap_0 11 rfl rfl)
theorem dX5_swap_14 : decode cX5_swap 14 = .ok (.ireturn, 1) := dk_172 (dk_at dksX5_swap_0 14 rfl rfl)
abbrev cX5_swaps : ByteArray := prog_12_method_36_code
def yX5_swaps : MethodName := ⟨RX5, "swaps", "(II)I"⟩
def dkwX5_swaps_3 : List UInt8 := [96, 29, 79, 42, 180, 0, 7, 6, 92, 46, 4, 96, 79, 42, 42, 182, 0, 134, 182, 0, 81, 172]
abbrev dktX5_swaps_3 : List UInt8 := dkwX5_swaps_3 ++ []
def dkwX5_swaps_2 : List UInt8 := [180, 0, 7, 16, 14, 27, 96, 42, 180, 0, 7, 16, 14, 28, 96, 46, 79, 42, 180, 0, 7, 16, 14, 28]
abbrev dktX5_swaps_2 : List UInt8 := dkwX5_swaps_2 ++ dktX5_swaps_3
def dkwX5_swaps_1 : List UInt8 := [160, 0, 11, 42, 6, 27, 5, 182, 0, 94, 172, 42, 180, 0, 7, 16, 14, 27, 96, 46, 62, 42]
abbrev dktX5_swaps_1 : List UInt8 := dkwX5_swaps_1 ++ dktX5_swaps_2
def dkwX5_swaps_0 : List UInt8 := [42, 27, 182, 0, 102, 153, 0, 11, 42, 28, 182, 0, 102, 154, 0, 9, 42, 4, 182, 0, 77, 172, 27, 28]
abbrev dktX5_swaps_0 : List UInt8 := dkwX5_swaps_0 ++ dktX5_swaps_1
theorem dksX5_swaps_0 : cX5_swaps.data.toList.drop 0 = dktX5_swaps_0 := by decide +kernel
theorem dksX5_swaps_1 : cX5_swaps.data.toList.drop 24 = dktX5_swaps_1 := dk_seg dksX5_swaps_0 24 rfl rfl
theorem dksX5_swaps_2 : cX5_swaps.data.toList.drop 46 = dktX5_swaps_2 := dk_seg dksX5_swaps_1 22 rfl rfl
theorem dksX5_swaps_3 : cX5_swaps.data.toList.drop 70 = dktX5_swaps_3 := dk_seg dksX5_swaps_2 24 rfl rfl
theorem dX5_swaps_0 : decode cX5_swaps 0 = .ok (.aload_n 0, 1) := dk_42 (dk_at dksX5_swaps_0 0 rfl rfl)
theorem dX5_swaps_1 : decode cX5_swaps 1 = .ok (.iload_n 1, 1) := dk_27 (dk_at dksX5_swaps_0 1 rfl rfl)
theorem dX5_swaps_2 : decode cX5_swaps 2 = .ok (.invokevirtual 102, 3) := dk_182 0 102 (dk_at dksX5_swaps_0 2 rfl rfl)
theorem dX5_swaps_5 : decode cX5_swaps 5 = .ok (.ifCond .eq 11, 3) := dk_153 0 11 (dk_at dksX5_swaps_0 5 rfl rfl)
theorem dX5_swaps_8 : decode cX5_swaps 8 = .ok (.aload_n 0, 1) := dk_42 (dk_at dksX5_swaps_0 8 rfl rfl)
theorem dX5_swaps_9 : decode cX5_swaps 9 = .ok (.iload_n 2, 1) := dk_28 (dk_at dksX5_swaps_0 9 rfl rfl)
theorem dX5_swaps_10 : decode cX5_swaps 10 = .ok (.invokevirtual 102, 3) := dk_182 0 102 (dk_at dksX5_swaps_0 10 rfl rfl)
theorem dX5_swaps_13 : decode cX5_swaps 13 = .ok (.ifCond .ne 9, 3) := dk_154 0 9 (dk_at dksX5_swaps_0 13 rfl rfl)
theorem dX5_swaps_16 : decode cX5_swaps 16 = .ok (.aload_n 0, 1) := dk_42 (dk_at dksX5_swaps_0 16 rfl rfl)
theorem dX5_swaps_17 : decode cX5_swaps 17 = .ok (.iconst 1, 1) := dk_4 (dk_at dksX5_swaps_0 17 rfl rfl)
theorem dX5_swaps_18 : decode cX5_swaps 18 = .ok (.invokevirtual 77, 3) := dk_182 0 77 (dk_at dksX5_swaps_0 18 rfl rfl)
theorem dX5_swaps_21 : decode cX5_swaps 21 = .ok (.ireturn, 1) := dk_172 (dk_at dksX5_swaps_0 21 rfl rfl)
theorem dX5_swaps_22 : decode cX5_swaps 22 = .ok (.iload_n 1, 1) := dk_27 (dk_at dksX5_swaps_0 22 rfl rfl)
theorem dX5_swaps_23 : decode cX5_swaps 23 = .ok (.iload_n 2, 1) := dk_28 (dk_at dksX5_swaps_0 23 rfl rfl)
theorem dX5_swaps_24 : decode cX5_swaps 24 = .ok (.if_icmp .ne 11, 3) := dk_160 0 11 (dk_at dksX5_swaps_1 0 rfl rfl)
theorem dX5_swaps_27 : decode cX5_swaps 27 = .ok (.aload_n 0, 1) := dk_42 (dk_at dksX5_swaps_1 3 rfl rfl)
theorem dX5_swaps_28 : decode cX5_swaps 28 = .ok (.iconst 3, 1) := dk_6 (dk_at dksX5_swaps_1 4 rfl rfl)
theorem dX5_swaps_29 : decode cX5_swaps 29 = .ok (.iload_n 1, 1) := dk_27 (dk_at dksX5_swaps_1 5 rfl rfl)
theorem dX5_swaps_30 : decode cX5_swaps 30 = .ok (.iconst 2, 1) := dk_5 (dk_at dksX5_swaps_1 6 rfl rfl)
theorem dX5_swaps_31 : decode cX5_swaps 31 = .ok (.invokevirtual 94, 3) := dk_182 0 94 (dk_at dksX5_swaps_1 7 rfl rfl)
theorem dX5_swaps_34 : decode cX5_swaps 34 = .ok (.ireturn, 1) := dk_172 (dk_at dksX5_swaps_1 10 rfl rfl)
theorem dX5_swaps_35 : decode cX5_swaps 35 = .ok (.aload_n 0, 1) := dk_42 (dk_at dksX5_swaps_1 11 rfl rfl)
theorem dX5_swaps_36 : decode cX5_swaps 36 = .ok (.getfield 7, 3) := dk_180 0 7 (dk_at dksX5_swaps_1 12 rfl rfl)
theorem dX5_swaps_39 : decode cX5_swaps 39 = .ok (.bipush 14, 2) := dk_16 14 (dk_at dksX5_swaps_1 15 rfl rfl)
theorem dX5_swaps_41 : decode cX5_swaps 41 = .ok (.iload_n 1, 1) := dk_27 (dk_at dksX5_swaps_1 17 rfl rfl)
theorem dX5_swaps_42 : decode cX5_swaps 42 = .ok (.iadd, 1) := dk_96 (dk_at dksX5_swaps_1 18 rfl rfl)
theorem dX5_swaps_43 : decode cX5_swaps 43 = .ok (.iaload, 1) := dk_46 (dk_at dksX5_swaps_1 19 rfl rfl)
theorem dX5_swaps_44 : decode cX5_swaps 44 = .ok (.istore_n 3, 1) := dk_62 (dk_at dksX5_swaps_1 20 rfl rfl)
theorem dX5_swaps_45 : decode cX5_swaps 45 = .ok (.aload_n 0, 1) := dk_42 (dk_at dksX5_swaps_1 21 rfl rfl)
theorem dX5_swaps_46 : decode cX5_swaps 46 = .ok (.getfield 7, 3) := dk_180 0 7 (dk_at dksX5_swaps_2 0 rfl rfl)
theorem dX5_swaps_49 : decode cX5_swaps 49 = .ok (.bipush 14, 2) := dk_16 14 (dk_at dksX5_swaps_2 3 rfl rfl)
theorem dX5_swaps_51 : decode cX5_swaps 51 = .ok (.iload_n 1, 1) := dk_27 (dk_at dksX5_swaps_2 5 rfl rfl)
theorem dX5_swaps_52 : decode cX5_swaps 52 = .ok (.iadd, 1) := dk_96 (dk_at dksX5_swaps_2 6 rfl rfl)
theorem dX5_swaps_53 : decode cX5_swaps 53 = .ok (.aload_n 0, 1) := dk_42 (dk_at dksX5_swaps_2 7 rfl rfl)
theorem dX5_swaps_54 : decode cX5_swaps 54 = .ok (.getfield 7, 3) := dk_180 0 7 (dk_at dksX5_swaps_2 8 rfl rfl)
theorem dX5_swaps_57 : decode cX5_swaps 57 = .ok (.bipush 14, 2) := dk_16 14 (dk_at dksX5_swaps_2 11 rfl rfl)
theorem dX5_swaps_59 : decode cX5_swaps 59 = .ok (.iload_n 2, 1) := dk_28 (dk_at dksX5_swaps_2 13 rfl rfl)
theorem dX5_swaps_60 : decode cX5_swaps 60 = .ok (.iadd, 1) := dk_96 (dk_at dksX5_swaps_2 14 rfl rfl)
theorem dX5_swaps_61 : decode cX5_swaps 61 = .ok (.iaload, 1) := dk_46 (dk_at dksX5_swaps_2 15 rfl rfl)
theorem dX5_swaps_62 : decode cX5_swaps 62 = .ok (.iastore, 1) := dk_79 (dk_at dksX5_swaps_2 16 rfl rfl)
theorem dX5_swaps_63 : decode cX5_swaps 63 = .ok (.aload_n 0, 1) := dk_42 (dk_at dksX5_swaps_2 17 rfl rfl)
theorem dX5_swaps_64 : decode cX5_swaps 64 = .ok (.getfield 7, 3) := dk_180 0 7 (dk_at dksX5_swaps_2 18 rfl rfl)
theorem dX5_swaps_67 : decode cX5_swaps 67 = .ok (.bipush 14, 2) := dk_16 14 (dk_at dksX5_swaps_2 21 rfl rfl)
theorem dX5_swaps_69 : decode cX5_swaps 69 = .ok (.iload_n 2, 1) := dk_28 (dk_at dksX5_swaps_2 23 rfl rfl)
theorem dX5_swaps_70 : decode cX5_swaps 70 = .ok (.iadd, 1) := dk_96 (dk_at dksX5_swaps_3 0 rfl rfl)
theorem dX5_swaps_71 : decode cX5_swaps 71 = .ok (.iload_n 3, 1) := dk_29 (dk_at dksX5_swaps_3 1 rfl rfl)
theorem dX5_swaps_72 : decode cX5_swaps 72 = .ok (.iastore, 1) := dk_79 (dk_at dksX5_swaps_3 2 rfl rfl)
theorem dX5_swaps_73 : decode cX5_swaps 73 = .ok (.aload_n 0, 1) := dk_42 (dk_at dksX5_swaps_3 3 rfl rfl)
theorem dX5_swaps_74 : decode cX5_swaps 74 = .ok (.getfield 7, 3) := dk_180 0 7 (dk_at dksX5_swaps_3 4 rfl rfl)
theorem dX5_swaps_77 : decode cX5_swaps 77 = .ok (.iconst 3, 1) := dk_6 (dk_at dksX5_swaps_3 7 rfl rfl)
theorem dX5_swaps_78 : decode cX5_swaps 78 = .ok (.dup2, 1) := dk_92 (dk_at dksX5_swaps_3 8 rfl rfl)
theorem dX5_swaps_79 : decode cX5_swaps 79 = .ok (.iaload, 1) := dk_46 (dk_at dksX5_swaps_3 9 rfl rfl)
theorem dX5_swaps_80 : decode cX5_swaps 80 = .ok (.iconst 1, 1) := dk_4 (dk_at dksX5_swaps_3 10 rfl rfl)
theorem dX5_swaps_81 : decode cX5_swaps 81 = .ok (.iadd, 1) := dk_96 (dk_at dksX5_swaps_3 11 rfl rfl)
theorem dX5_swaps_82 : decode cX5_swaps 82 = .ok (.iastore, 1) := dk_79 (dk_at dksX5_swaps_3 12 rfl rfl)
theorem dX5_swaps_83 : decode cX5_swaps 83 = .ok (.aload_n 0, 1) := dk_42 (dk_at dksX5_swaps_3 13 rfl rfl)
theorem dX5_swaps_84 : decode cX5_swaps 84 = .ok (.aload_n 0, 1) := dk_42 (dk_at dksX5_swaps_3 14 rfl rfl)
theorem dX5_swaps_85 : decode cX5_swaps 85 = .ok (.invokevirtual 134, 3) := dk_182 0 134 (dk_at dksX5_swaps_3 15 rfl rfl)
theorem dX5_swaps_88 : decode cX5_swaps 88 = .ok (.invokevirtual 81, 3) := dk_182 0 81 (dk_at dksX5_swaps_3 18 rfl rfl)
theorem dX5_swaps_91 : decode cX5_swaps 91 = .ok (.ireturn, 1) := dk_172 (dk_at dksX5_swaps_3 21 rfl rfl)
abbrev cX5_bar : ByteArray := prog_12_method_39_code
def yX5_bar : MethodName := ⟨RX5, "bar", "(I)Z"⟩
def dkwX5_bar_0 : List UInt8 := [42, 182, 0, 84, 42, 42, 27, 182, 0, 158, 182, 0, 91, 4, 160, 0, 7, 4, 167, 0, 4, 3, 172]
abbrev dktX5_bar_0 : List UInt8 := dkwX5_bar_0 ++ []
theorem dksX5_bar_0 : cX5_bar.data.toList.drop 0 = dktX5_bar_0 := by decide +kernel
theorem dX5_bar_0 : decode cX5_bar 0 = .ok (.aload_n 0, 1) := dk_42 (dk_at dksX5_bar_0 0 rfl rfl)
theorem dX5_bar_1 : decode cX5_bar 1 = .ok (.invokevirtual 84, 3) := dk_182 0 84 (dk_at dksX5_bar_0 1 rfl rfl)
theorem dX5_bar_4 : decode cX5_bar 4 = .ok (.aload_n 0, 1) := dk_42 (dk_at dksX5_bar_0 4 rfl rfl)
theorem dX5_bar_5 : decode cX5_bar 5 = .ok (.aload_n 0, 1) := dk_42 (dk_at dksX5_bar_0 5 rfl rfl)
theorem dX5_bar_6 : decode cX5_bar 6 = .ok (.iload_n 1, 1) := dk_27 (dk_at dksX5_bar_0 6 rfl rfl)
theorem dX5_bar_7 : decode cX5_bar 7 = .ok (.invokevirtual 158, 3) := dk_182 0 158 (dk_at dksX5_bar_0 7 rfl rfl)
theorem dX5_bar_10 : decode cX5_bar 10 = .ok (.invokevirtual 91, 3) := dk_182 0 91 (dk_at dksX5_bar_0 10 rfl rfl)
theorem dX5_bar_13 : decode cX5_bar 13 = .ok (.iconst 1, 1) := dk_4 (dk_at dksX5_bar_0 13 rfl rfl)
theorem dX5_bar_14 : decode cX5_bar 14 = .ok (.if_icmp .ne 7, 3) := dk_160 0 7 (dk_at dksX5_bar_0 14 rfl rfl)
theorem dX5_bar_17 : decode cX5_bar 17 = .ok (.iconst 1, 1) := dk_4 (dk_at dksX5_bar_0 17 rfl rfl)
theorem dX5_bar_18 : decode cX5_bar 18 = .ok (.goto 4, 3) := dk_167 0 4 (dk_at dksX5_bar_0 18 rfl rfl)
theorem dX5_bar_21 : decode cX5_bar 21 = .ok (.iconst 0, 1) := dk_3 (dk_at dksX5_bar_0 21 rfl rfl)
theorem dX5_bar_22 : decode cX5_bar 22 = .ok (.ireturn, 1) := dk_172 (dk_at dksX5_bar_0 22 rfl rfl)
abbrev cX5_bars : ByteArray := prog_12_method_38_code
def yX5_bars : MethodName := ⟨RX5, "bars", "(I)I"⟩
def dkwX5_bars_1 : List UInt8 := [180, 0, 7, 16, 8, 27, 96, 46, 100, 79, 42, 42, 180, 0, 7, 16, 8, 27, 96, 46, 182, 0, 81, 172]
abbrev dktX5_bars_1 : List UInt8 := dkwX5_bars_1 ++ []
def dkwX5_bars_0 : List UInt8 := [42, 27, 182, 0, 155, 154, 0, 9, 42, 4, 182, 0, 77, 172, 42, 180, 0, 7, 16, 8, 27, 96, 4, 42]
abbrev dktX5_bars_0 : List UInt8 := dkwX5_bars_0 ++ dktX5_bars_1
theorem dksX5_bars_0 : cX5_bars.data.toList.drop 0 = dktX5_bars_0 := by decide +kernel
theorem dksX5_bars_1 : cX5_bars.data.toList.drop 24 = dktX5_bars_1 := dk_seg dksX5_bars_0 24 rfl rfl
theorem dX5_bars_0 : decode cX5_bars 0 = .ok (.aload_n 0, 1) := dk_42 (dk_at dksX5_bars_0 0 rfl rfl)
theorem dX5_bars_1 : decode cX5_bars 1 = .ok (.iload_n 1, 1) := dk_27 (dk_at dksX5_bars_0 1 rfl rfl)
theorem dX5_bars_2 : decode cX5_bars 2 = .ok (.invokevirtual 155, 3) := dk_182 0 155 (dk_at dksX5_bars_0 2 rfl rfl)
theorem dX5_bars_5 : decode cX5_bars 5 = .ok (.ifCond .ne 9, 3) := dk_154 0 9 (dk_at dksX5_bars_0 5 rfl rfl)
theorem dX5_bars_8 : decode cX5_bars 8 = .ok (.aload_n 0, 1) := dk_42 (dk_at dksX5_bars_0 8 rfl rfl)
theorem dX5_bars_9 : decode cX5_bars 9 = .ok (.iconst 1, 1) := dk_4 (dk_at dksX5_bars_0 9 rfl rfl)
theorem dX5_bars_10 : decode cX5_bars 10 = .ok (.invokevirtual 77, 3) := dk_182 0 77 (dk_at dksX5_bars_0 10 rfl rfl)
theorem dX5_bars_13 : decode cX5_bars 13 = .ok (.ireturn, 1) := dk_172 (dk_at dksX5_bars_0 13 rfl rfl)
theorem dX5_bars_14 : decode cX5_bars 14 = .ok (.aload_n 0, 1) := dk_42 (dk_at dksX5_bars_0 14 rfl rfl)
theorem dX5_bars_15 : decode cX5_bars 15 = .ok (.getfield 7, 3) := dk_180 0 7 (dk_at dksX5_bars_0 15 rfl rfl)
theorem dX5_bars_18 : decode cX5_bars 18 = .ok (.bipush 8, 2) := dk_16 8 (dk_at dksX5_bars_0 18 rfl rfl)
theorem dX5_bars_20 : decode cX5_bars 20 = .ok (.iload_n 1, 1) := dk_27 (dk_at dksX5_bars_0 20 rfl rfl)
theorem dX5_bars_21 : decode cX5_bars 21 = .ok (.iadd, 1) := dk_96 (dk_at dksX5_bars_0 21 rfl rfl)
theorem dX5_bars_22 : decode cX5_bars 22 = .ok (.iconst 1, 1) := dk_4 (dk_at dksX5_bars_0 22 rfl rfl)
theorem dX5_bars_23 : decode cX5_bars 23 = .ok (.aload_n 0, 1) := dk_42 (dk_at dksX5_bars_0 23 rfl rfl)
theorem dX5_bars_24 : decode cX5_bars 24 = .ok (.getfield 7, 3) := dk_180 0 7 (dk_at dksX5_bars_1 0 rfl rfl)
theorem dX5_bars_27 : decode cX5_bars 27 = .ok (.bipush 8, 2) := dk_16 8 (dk_at dksX5_bars_1 3 rfl rfl)
theorem dX5_bars_29 : decode cX5_bars 29 = .ok (.iload_n 1, 1) := dk_27 (dk_at dksX5_bars_1 5 rfl rfl)
theorem dX5_bars_30 : decode cX5_bars 30 = .ok (.iadd, 1) := dk_96 (dk_at dksX5_bars_1 6 rfl rfl)
theorem dX5_bars_31 : decode cX5_bars 31 = .ok (.iaload, 1) := dk_46 (dk_at dksX5_bars_1 7 rfl rfl)
theorem dX5_bars_32 : decode cX5_bars 32 = .ok (.isub, 1) := dk_100 (dk_at dksX5_bars_1 8 rfl rfl)
theorem dX5_bars_33 : decode cX5_bars 33 = .ok (.iastore, 1) := dk_79 (dk_at dksX5_bars_1 9 rfl rfl)
theorem dX5_bars_34 : decode cX5_bars 34 = .ok (.aload_n 0, 1) := dk_42 (dk_at dksX5_bars_1 10 rfl rfl)
theorem dX5_bars_35 : decode cX5_bars 35 = .ok (.aload_n 0, 1) := dk_42 (dk_at dksX5_bars_1 11 rfl rfl)
theorem dX5_bars_36 : decode cX5_bars 36 = .ok (.getfield 7, 3) := dk_180 0 7 (dk_at dksX5_bars_1 12 rfl rfl)
theorem dX5_bars_39 : decode cX5_bars 39 = .ok (.bipush 8, 2) := dk_16 8 (dk_at dksX5_bars_1 15 rfl rfl)
theorem dX5_bars_41 : decode cX5_bars 41 = .ok (.iload_n 1, 1) := dk_27 (dk_at dksX5_bars_1 17 rfl rfl)
theorem dX5_bars_42 : decode cX5_bars 42 = .ok (.iadd, 1) := dk_96 (dk_at dksX5_bars_1 18 rfl rfl)
theorem dX5_bars_43 : decode cX5_bars 43 = .ok (.iaload, 1) := dk_46 (dk_at dksX5_bars_1 19 rfl rfl)
theorem dX5_bars_44 : decode cX5_bars 44 = .ok (.invokevirtual 81, 3) := dk_182 0 81 (dk_at dksX5_bars_1 20 rfl rfl)
theorem dX5_bars_47 : decode cX5_bars 47 = .ok (.ireturn, 1) := dk_172 (dk_at dksX5_bars_1 23 rfl rfl)
abbrev cX5_isLine : ByteArray := prog_12_method_13_code
def yX5_isLine : MethodName := ⟨RX5, "isLine", "(I)Z"⟩
def dkwX5_isLine_0 : List UInt8 := [27, 3, 42, 182, 0, 74, 4, 100, 184, 0, 70, 172]
abbrev dktX5_isLine_0 : List UInt8 := dkwX5_isLine_0 ++ []
theorem dksX5_isLine_0 : cX5_isLine.data.toList.drop 0 = dktX5_isLine_0 := by decide +kernel
theorem dX5_isLine_0 : decode cX5_isLine 0 = .ok (.iload_n 1, 1) := dk_27 (dk_at dksX5_isLine_0 0 rfl rfl)
theorem dX5_isLine_1 : decode cX5_isLine 1 = .ok (.iconst 0, 1) := dk_3 (dk_at dksX5_isLine_0 1 rfl rfl)
theorem dX5_isLine_2 : decode cX5_isLine 2 = .ok (.aload_n 0, 1) := dk_42 (dk_at dksX5_isLine_0 2 rfl rfl)
theorem dX5_isLine_3 : decode cX5_isLine 3 = .ok (.invokevirtual 74, 3) := dk_182 0 74 (dk_at dksX5_isLine_0 3 rfl rfl)
theorem dX5_isLine_6 : decode cX5_isLine 6 = .ok (.iconst 1, 1) := dk_4 (dk_at dksX5_isLine_0 6 rfl rfl)
theorem dX5_isLine_7 : decode cX5_isLine 7 = .ok (.isub, 1) := dk_100 (dk_at dksX5_isLine_0 7 rfl rfl)
theorem dX5_isLine_8 : decode cX5_isLine 8 = .ok (.invokestatic 70, 3) := dk_184 0 70 (dk_at dksX5_isLine_0 8 rfl rfl)
theorem dX5_isLine_11 : decode cX5_isLine 11 = .ok (.ireturn, 1) := dk_172 (dk_at dksX5_isLine_0 11 rfl rfl)
abbrev cX5_scramble : ByteArray := prog_12_method_41_code
def yX5_scramble : MethodName := ⟨RX5, "scramble", "(II)I"⟩
def dkwX5_scramble_0 : List UInt8 := [42, 182, 0, 84, 42, 42, 27, 28, 182, 0, 161, 182, 0, 91, 172]
abbrev dktX5_scramble_0 : List UInt8 := dkwX5_scramble_0 ++ []
theorem dksX5_scramble_0 : cX5_scramble.data.toList.drop 0 = dktX5_scramble_0 := by decide +kernel
theorem dX5_scramble_0 : decode cX5_scramble 0 = .ok (.aload_n 0, 1) := dk_42 (dk_at dksX5_scramble_0 0 rfl rfl)
theorem dX5_scramble_1 : decode cX5_scramble 1 = .ok (.invokevirtual 84, 3) := dk_182 0 84 (dk_at dksX5_scramble_0 1 rfl rfl)
theorem dX5_scramble_4 : decode cX5_scramble 4 = .ok (.aload_n 0, 1) := dk_42 (dk_at dksX5_scramble_0 4 rfl rfl)
theorem dX5_scramble_5 : decode cX5_scramble 5 = .ok (.aload_n 0, 1) := dk_42 (dk_at dksX5_scramble_0 5 rfl rfl)
theorem dX5_scramble_6 : decode cX5_scramble 6 = .ok (.iload_n 1, 1) := dk_27 (dk_at dksX5_scramble_0 6 rfl rfl)
theorem dX5_scramble_7 : decode cX5_scramble 7 = .ok (.iload_n 2, 1) := dk_28 (dk_at dksX5_scramble_0 7 rfl rfl)
theorem dX5_scramble_8 : decode cX5_scramble 8 = .ok (.invokevirtual 161, 3) := dk_182 0 161 (dk_at dksX5_scramble_0 8 rfl rfl)
theorem dX5_scramble_11 : decode cX5_scramble 11 = .ok (.invokevirtual 91, 3) := dk_182 0 91 (dk_at dksX5_scramble_0 11 rfl rfl)
theorem dX5_scramble_14 : decode cX5_scramble 14 = .ok (.ireturn, 1) := dk_172 (dk_at dksX5_scramble_0 14 rfl rfl)
abbrev cX5_scrambles : ByteArray := prog_12_method_40_code
def yX5_scrambles : MethodName := ⟨RX5, "scrambles", "(II)I"⟩
def dkwX5_scrambles_4 : List UInt8 := [7, 92, 46, 4, 96, 79, 42, 21, 4, 182, 0, 81, 172]
abbrev dktX5_scrambles_4 : List UInt8 := dkwX5_scrambles_4 ++ []
def dkwX5_scrambles_3 : List UInt8 := [153, 0, 14, 42, 21, 6, 182, 0, 137, 54, 7, 132, 4, 1, 132, 5, 1, 167, 255, 205, 42, 180, 0, 7]
abbrev dktX5_scrambles_3 : List UInt8 := dkwX5_scrambles_3 ++ dktX5_scrambles_4
def dkwX5_scrambles_2 : List UInt8 := [96, 17, 3, 232, 112, 62, 29, 5, 42, 182, 0, 74, 104, 112, 54, 6, 42, 21, 6, 182, 0, 143]
abbrev dktX5_scrambles_2 : List UInt8 := dkwX5_scrambles_2 ++ dktX5_scrambles_3
def dkwX5_scrambles_1 : List UInt8 := [182, 0, 77, 172, 27, 62, 3, 54, 4, 3, 54, 5, 21, 5, 28, 162, 0, 51, 16, 73, 29, 104, 16, 41]
abbrev dktX5_scrambles_1 : List UInt8 := dkwX5_scrambles_1 ++ dktX5_scrambles_2
def dkwX5_scrambles_0 : List UInt8 := [27, 3, 17, 3, 231, 184, 0, 70, 153, 0, 13, 28, 4, 16, 9, 184, 0, 70, 154, 0, 9, 42, 4]
abbrev dktX5_scrambles_0 : List UInt8 := dkwX5_scrambles_0 ++ dktX5_scrambles_1
theorem dksX5_scrambles_0 : cX5_scrambles.data.toList.drop 0 = dktX5_scrambles_0 := by decide +kernel
theorem dksX5_scrambles_1 : cX5_scrambles.data.toList.drop 23 = dktX5_scrambles_1 := dk_seg dksX5_scrambles_0 23 rfl rfl
theorem dksX5_scrambles_2 : cX5_scrambles.data.toList.drop 47 = dktX5_scrambles_2 := dk_seg dksX5_scrambles_1 24 rfl rfl
theorem dksX5_scrambles_3 : cX5_scrambles.data.toList.drop 69 = dktX5_scrambles_3 := dk_seg dksX5_scrambles_2 22 rfl rfl
theorem dksX5_scrambles_4 : cX5_scrambles.data.toList.drop 93 = dktX5_scrambles_4 := dk_seg dksX5_scrambles_3 24 rfl rfl
theorem dX5_scrambles_0 : decode cX5_scrambles 0 = .ok (.iload_n 1, 1) := dk_27 (dk_at dksX5_scrambles_0 0 rfl rfl)
theorem dX5_scrambles_1 : decode cX5_scrambles 1 = .ok (.iconst 0, 1) := dk_3 (dk_at dksX5_scrambles_0 1 rfl rfl)
theorem dX5_scrambles_2 : decode cX5_scrambles 2 = .ok (.sipush 999, 3) := dk_17 3 231 (dk_at dksX5_scrambles_0 2 rfl rfl)
theorem dX5_scrambles_5 : decode cX5_scrambles 5 = .ok (.invokestatic 70, 3) := dk_184 0 70 (dk_at dksX5_scrambles_0 5 rfl rfl)
theorem dX5_scrambles_8 : decode cX5_scrambles 8 = .ok (.ifCond .eq 13, 3) := dk_153 0 13 (dk_at dksX5_scrambles_0 8 rfl rfl)
theorem dX5_scrambles_11 : decode cX5_scrambles 11 = .ok (.iload_n 2, 1) := dk_28 (dk_at dksX5_scrambles_0 11 rfl rfl)
theorem dX5_scrambles_12 : decode cX5_scrambles 12 = .ok (.iconst 1, 1) := dk_4 (dk_at dksX5_scrambles_0 12 rfl rfl)
theorem dX5_scrambles_13 : decode cX5_scrambles 13 = .ok (.bipush 9, 2) := dk_16 9 (dk_at dksX5_scrambles_0 13 rfl rfl)
theorem dX5_scrambles_15 : decode cX5_scrambles 15 = .ok (.invokestatic 70, 3) := dk_184 0 70 (dk_at dksX5_scrambles_0 15 rfl rfl)
theorem dX5_scrambles_18 : decode cX5_scrambles 18 = .ok (.ifCond .ne 9, 3) := dk_154 0 9 (dk_at dksX5_scrambles_0 18 rfl rfl)
theorem dX5_scrambles_21 : decode cX5_scrambles 21 = .ok (.aload_n 0, 1) := dk_42 (dk_at dksX5_scrambles_0 21 rfl rfl)
theorem dX5_scrambles_22 : decode cX5_scrambles 22 = .ok (.iconst 1, 1) := dk_4 (dk_at dksX5_scrambles_0 22 rfl rfl)
theorem dX5_scrambles_23 : decode cX5_scrambles 23 = .ok (.invokevirtual 77, 3) := dk_182 0 77 (dk_at dksX5_scrambles_1 0 rfl rfl)
theorem dX5_scrambles_26 : decode cX5_scrambles 26 = .ok (.ireturn, 1) := dk_172 (dk_at dksX5_scrambles_1 3 rfl rfl)
theorem dX5_scrambles_27 : decode cX5_scrambles 27 = .ok (.iload_n 1, 1) := dk_27 (dk_at dksX5_scrambles_1 4 rfl rfl)
theorem dX5_scrambles_28 : decode cX5_scrambles 28 = .ok (.istore_n 3, 1) := dk_62 (dk_at dksX5_scrambles_1 5 rfl rfl)
theorem dX5_scrambles_29 : decode cX5_scrambles 29 = .ok (.iconst 0, 1) := dk_3 (dk_at dksX5_scrambles_1 6 rfl rfl)
theorem dX5_scrambles_30 : decode cX5_scrambles 30 = .ok (.istore 4, 2) := dk_54 4 (dk_at dksX5_scrambles_1 7 rfl rfl)
theorem dX5_scrambles_32 : decode cX5_scrambles 32 = .ok (.iconst 0, 1) := dk_3 (dk_at dksX5_scrambles_1 9 rfl rfl)
theorem dX5_scrambles_33 : decode cX5_scrambles 33 = .ok (.istore 5, 2) := dk_54 5 (dk_at dksX5_scrambles_1 10 rfl rfl)
theorem dX5_scrambles_35 : decode cX5_scrambles 35 = .ok (.iload 5, 2) := dk_21 5 (dk_at dksX5_scrambles_1 12 rfl rfl)
theorem dX5_scrambles_37 : decode cX5_scrambles 37 = .ok (.iload_n 2, 1) := dk_28 (dk_at dksX5_scrambles_1 14 rfl rfl)
theorem dX5_scrambles_38 : decode cX5_scrambles 38 = .ok (.if_icmp .ge 51, 3) := dk_162 0 51 (dk_at dksX5_scrambles_1 15 rfl rfl)
theorem dX5_scrambles_41 : decode cX5_scrambles 41 = .ok (.bipush 73, 2) := dk_16 73 (dk_at dksX5_scrambles_1 18 rfl rfl)
theorem dX5_scrambles_43 : decode cX5_scrambles 43 = .ok (.iload_n 3, 1) := dk_29 (dk_at dksX5_scrambles_1 20 rfl rfl)
theorem dX5_scrambles_44 : decode cX5_scrambles 44 = .ok (.imul, 1) := dk_104 (dk_at dksX5_scrambles_1 21 rfl rfl)
theorem dX5_scrambles_45 : decode cX5_scrambles 45 = .ok (.bipush 41, 2) := dk_16 41 (dk_at dksX5_scrambles_1 22 rfl rfl)
theorem dX5_scrambles_47 : decode cX5_scrambles 47 = .ok (.iadd, 1) := dk_96 (dk_at dksX5_scrambles_2 0 rfl rfl)
theorem dX5_scrambles_48 : decode cX5_scrambles 48 = .ok (.sipush 1000, 3) := dk_17 3 232 (dk_at dksX5_scrambles_2 1 rfl rfl)
theorem dX5_scrambles_51 : decode cX5_scrambles 51 = .ok (.irem, 1) := dk_112 (dk_at dksX5_scrambles_2 4 rfl rfl)
theorem dX5_scrambles_52 : decode cX5_scrambles 52 = .ok (.istore_n 3, 1) := dk_62 (dk_at dksX5_scrambles_2 5 rfl rfl)
theorem dX5_scrambles_53 : decode cX5_scrambles 53 = .ok (.iload_n 3, 1) := dk_29 (dk_at dksX5_scrambles_2 6 rfl rfl)
theorem dX5_scrambles_54 : decode cX5_scrambles 54 = .ok (.iconst 2, 1) := dk_5 (dk_at dksX5_scrambles_2 7 rfl rfl)
theorem dX5_scrambles_55 : decode cX5_scrambles 55 = .ok (.aload_n 0, 1) := dk_42 (dk_at dksX5_scrambles_2 8 rfl rfl)
theorem dX5_scrambles_56 : decode cX5_scrambles 56 = .ok (.invokevirtual 74, 3) := dk_182 0 74 (dk_at dksX5_scrambles_2 9 rfl rfl)
theorem dX5_scrambles_59 : decode cX5_scrambles 59 = .ok (.imul, 1) := dk_104 (dk_at dksX5_scrambles_2 12 rfl rfl)
theorem dX5_scrambles_60 : decode cX5_scrambles 60 = .ok (.irem, 1) := dk_112 (dk_at dksX5_scrambles_2 13 rfl rfl)
theorem dX5_scrambles_61 : decode cX5_scrambles 61 = .ok (.istore 6, 2) := dk_54 6 (dk_at dksX5_scrambles_2 14 rfl rfl)
theorem dX5_scrambles_63 : decode cX5_scrambles 63 = .ok (.aload_n 0, 1) := dk_42 (dk_at dksX5_scrambles_2 16 rfl rfl)
theorem dX5_scrambles_64 : decode cX5_scrambles 64 = .ok (.iload 6, 2) := dk_21 6 (dk_at dksX5_scrambles_2 17 rfl rfl)
theorem dX5_scrambles_66 : decode cX5_scrambles 66 = .ok (.invokevirtual 143, 3) := dk_182 0 143 (dk_at dksX5_scrambles_2 19 rfl rfl)
theorem dX5_scrambles_69 : decode cX5_scrambles 69 = .ok (.ifCond .eq 14, 3) := dk_153 0 14 (dk_at dksX5_scrambles_3 0 rfl rfl)
theorem dX5_scrambles_72 : decode cX5_scrambles 72 = .ok (.aload_n 0, 1) := dk_42 (dk_at dksX5_scrambles_3 3 rfl rfl)
theorem dX5_scrambles_73 : decode cX5_scrambles 73 = .ok (.iload 6, 2) := dk_21 6 (dk_at dksX5_scrambles_3 4 rfl rfl)
theorem dX5_scrambles_75 : decode cX5_scrambles 75 = .ok (.invokevirtual 137, 3) := dk_182 0 137 (dk_at dksX5_scrambles_3 6 rfl rfl)
theorem dX5_scrambles_78 : decode cX5_scrambles 78 = .ok (.istore 7, 2) := dk_54 7 (dk_at dksX5_scrambles_3 9 rfl rfl)
theorem dX5_scrambles_80 : decode cX5_scrambles 80 = .ok (.iinc 4 1, 3) := dk_132 4 1 (dk_at dksX5_scrambles_3 11 rfl rfl)
theorem dX5_scrambles_83 : decode cX5_scrambles 83 = .ok (.iinc 5 1, 3) := dk_132 5 1 (dk_at dksX5_scrambles_3 14 rfl rfl)
theorem dX5_scrambles_86 : decode cX5_scrambles 86 = .ok (.goto (-51), 3) := dk_167 255 205 (dk_at dksX5_scrambles_3 17 rfl rfl)
theorem dX5_scrambles_89 : decode cX5_scrambles 89 = .ok (.aload_n 0, 1) := dk_42 (dk_at dksX5_scrambles_3 20 rfl rfl)
theorem dX5_scrambles_90 : decode cX5_scrambles 90 = .ok (.getfield 7, 3) := dk_180 0 7 (dk_at dksX5_scrambles_3 21 rfl rfl)
theorem dX5_scrambles_93 : decode cX5_scrambles 93 = .ok (.iconst 4, 1) := dk_7 (dk_at dksX5_scrambles_4 0 rfl rfl)
theorem dX5_scrambles_94 : decode cX5_scrambles 94 = .ok (.dup2, 1) := dk_92 (dk_at dksX5_scrambles_4 1 rfl rfl)
theorem dX5_scrambles_95 : decode cX5_scrambles 95 = .ok (.iaload, 1) := dk_46 (dk_at dksX5_scrambles_4 2 rfl rfl)
theorem dX5_scrambles_96 : decode cX5_scrambles 96 = .ok (.iconst 1, 1) := dk_4 (dk_at dksX5_scrambles_4 3 rfl rfl)
theorem dX5_scrambles_97 : decode cX5_scrambles 97 = .ok (.iadd, 1) := dk_96 (dk_at dksX5_scrambles_4 4 rfl rfl)
theorem dX5_scrambles_98 : decode cX5_scrambles 98 = .ok (.iastore, 1) := dk_79 (dk_at dksX5_scrambles_4 5 rfl rfl)
theorem dX5_scrambles_99 : decode cX5_scrambles 99 = .ok (.aload_n 0, 1) := dk_42 (dk_at dksX5_scrambles_4 6 rfl rfl)
theorem dX5_scrambles_100 : decode cX5_scrambles 100 = .ok (.iload 4, 2) := dk_21 4 (dk_at dksX5_scrambles_4 7 rfl rfl)
theorem dX5_scrambles_102 : decode cX5_scrambles 102 = .ok (.invokevirtual 81, 3) := dk_182 0 81 (dk_at dksX5_scrambles_4 9 rfl rfl)
theorem dX5_scrambles_105 : decode cX5_scrambles 105 = .ok (.ireturn, 1) := dk_172 (dk_at dksX5_scrambles_4 12 rfl rfl)
abbrev cX5_away : ByteArray := prog_12_method_44_code
def yX5_away : MethodName := ⟨RX5, "away", "(Z)I"⟩
def dkwX5_away_0 : List UInt8 := [42, 182, 0, 171, 61, 28, 2, 160, 0, 11, 42, 4, 182, 0, 77, 167, 0, 8, 42, 28, 182, 0, 81, 172]
abbrev dktX5_away_0 : List UInt8 := dkwX5_away_0 ++ []
theorem dksX5_away_0 : cX5_away.data.toList.drop 0 = dktX5_away_0 := by decide +kernel
theorem dX5_away_0 : decode cX5_away 0 = .ok (.aload_n 0, 1) := dk_42 (dk_at dksX5_away_0 0 rfl rfl)
theorem dX5_away_1 : decode cX5_away 1 = .ok (.invokevirtual 171, 3) := dk_182 0 171 (dk_at dksX5_away_0 1 rfl rfl)
theorem dX5_away_4 : decode cX5_away 4 = .ok (.istore_n 2, 1) := dk_61 (dk_at dksX5_away_0 4 rfl rfl)
theorem dX5_away_5 : decode cX5_away 5 = .ok (.iload_n 2, 1) := dk_28 (dk_at dksX5_away_0 5 rfl rfl)
theorem dX5_away_6 : decode cX5_away 6 = .ok (.iconst (-1), 1) := dk_2 (dk_at dksX5_away_0 6 rfl rfl)
theorem dX5_away_7 : decode cX5_away 7 = .ok (.if_icmp .ne 11, 3) := dk_160 0 11 (dk_at dksX5_away_0 7 rfl rfl)
theorem dX5_away_10 : decode cX5_away 10 = .ok (.aload_n 0, 1) := dk_42 (dk_at dksX5_away_0 10 rfl rfl)
theorem dX5_away_11 : decode cX5_away 11 = .ok (.iconst 1, 1) := dk_4 (dk_at dksX5_away_0 11 rfl rfl)
theorem dX5_away_12 : decode cX5_away 12 = .ok (.invokevirtual 77, 3) := dk_182 0 77 (dk_at dksX5_away_0 12 rfl rfl)
theorem dX5_away_15 : decode cX5_away 15 = .ok (.goto 8, 3) := dk_167 0 8 (dk_at dksX5_away_0 15 rfl rfl)
theorem dX5_away_18 : decode cX5_away 18 = .ok (.aload_n 0, 1) := dk_42 (dk_at dksX5_away_0 18 rfl rfl)
theorem dX5_away_19 : decode cX5_away 19 = .ok (.iload_n 2, 1) := dk_28 (dk_at dksX5_away_0 19 rfl rfl)
theorem dX5_away_20 : decode cX5_away 20 = .ok (.invokevirtual 81, 3) := dk_182 0 81 (dk_at dksX5_away_0 20 rfl rfl)
theorem dX5_away_23 : decode cX5_away 23 = .ok (.ireturn, 1) := dk_172 (dk_at dksX5_away_0 23 rfl rfl)
abbrev cX5_shortest : ByteArray := prog_12_method_43_code
def yX5_shortest : MethodName := ⟨RX5, "shortest", "()I"⟩
def dkwX5_shortest_2 : List UInt8 := [167, 255, 215, 2, 172]
abbrev dktX5_shortest_2 : List UInt8 := dkwX5_shortest_2 ++ []
def dkwX5_shortest_1 : List UInt8 := [153, 0, 5, 28, 172, 132, 3, 1, 167, 255, 237, 27, 5, 42, 182, 0, 74, 104, 104, 60, 132, 2, 1]
abbrev dktX5_shortest_1 : List UInt8 := dkwX5_shortest_1 ++ dktX5_shortest_2
def dkwX5_shortest_0 : List UInt8 := [4, 60, 3, 61, 28, 7, 162, 0, 42, 3, 62, 29, 27, 162, 0, 20, 42, 29, 28, 182, 0, 167]
abbrev dktX5_shortest_0 : List UInt8 := dkwX5_shortest_0 ++ dktX5_shortest_1
theorem dksX5_shortest_0 : cX5_shortest.data.toList.drop 0 = dktX5_shortest_0 := by decide +kernel
theorem dksX5_shortest_1 : cX5_shortest.data.toList.drop 22 = dktX5_shortest_1 := dk_seg dksX5_shortest_0 22 rfl rfl
theorem dksX5_shortest_2 : cX5_shortest.data.toList.drop 45 = dktX5_shortest_2 := dk_seg dksX5_shortest_1 23 rfl rfl
theorem dX5_shortest_0 : decode cX5_shortest 0 = .ok (.iconst 1, 1) := dk_4 (dk_at dksX5_shortest_0 0 rfl rfl)
theorem dX5_shortest_1 : decode cX5_shortest 1 = .ok (.istore_n 1, 1) := dk_60 (dk_at dksX5_shortest_0 1 rfl rfl)
theorem dX5_shortest_2 : decode cX5_shortest 2 = .ok (.iconst 0, 1) := dk_3 (dk_at dksX5_shortest_0 2 rfl rfl)
theorem dX5_shortest_3 : decode cX5_shortest 3 = .ok (.istore_n 2, 1) := dk_61 (dk_at dksX5_shortest_0 3 rfl rfl)
theorem dX5_shortest_4 : decode cX5_shortest 4 = .ok (.iload_n 2, 1) := dk_28 (dk_at dksX5_shortest_0 4 rfl rfl)
theorem dX5_shortest_5 : decode cX5_shortest 5 = .ok (.iconst 4, 1) := dk_7 (dk_at dksX5_shortest_0 5 rfl rfl)
theorem dX5_shortest_6 : decode cX5_shortest 6 = .ok (.if_icmp .ge 42, 3) := dk_162 0 42 (dk_at dksX5_shortest_0 6 rfl rfl)
theorem dX5_shortest_9 : decode cX5_shortest 9 = .ok (.iconst 0, 1) := dk_3 (dk_at dksX5_shortest_0 9 rfl rfl)
theorem dX5_shortest_10 : decode cX5_shortest 10 = .ok (.istore_n 3, 1) := dk_62 (dk_at dksX5_shortest_0 10 rfl rfl)
theorem dX5_shortest_11 : decode cX5_shortest 11 = .ok (.iload_n 3, 1) := dk_29 (dk_at dksX5_shortest_0 11 rfl rfl)
theorem dX5_shortest_12 : decode cX5_shortest 12 = .ok (.iload_n 1, 1) := dk_27 (dk_at dksX5_shortest_0 12 rfl rfl)
theorem dX5_shortest_13 : decode cX5_shortest 13 = .ok (.if_icmp .ge 20, 3) := dk_162 0 20 (dk_at dksX5_shortest_0 13 rfl rfl)
theorem dX5_shortest_16 : decode cX5_shortest 16 = .ok (.aload_n 0, 1) := dk_42 (dk_at dksX5_shortest_0 16 rfl rfl)
theorem dX5_shortest_17 : decode cX5_shortest 17 = .ok (.iload_n 3, 1) := dk_29 (dk_at dksX5_shortest_0 17 rfl rfl)
theorem dX5_shortest_18 : decode cX5_shortest 18 = .ok (.iload_n 2, 1) := dk_28 (dk_at dksX5_shortest_0 18 rfl rfl)
theorem dX5_shortest_19 : decode cX5_shortest 19 = .ok (.invokevirtual 167, 3) := dk_182 0 167 (dk_at dksX5_shortest_0 19 rfl rfl)
theorem dX5_shortest_22 : decode cX5_shortest 22 = .ok (.ifCond .eq 5, 3) := dk_153 0 5 (dk_at dksX5_shortest_1 0 rfl rfl)
theorem dX5_shortest_25 : decode cX5_shortest 25 = .ok (.iload_n 2, 1) := dk_28 (dk_at dksX5_shortest_1 3 rfl rfl)
theorem dX5_shortest_26 : decode cX5_shortest 26 = .ok (.ireturn, 1) := dk_172 (dk_at dksX5_shortest_1 4 rfl rfl)
theorem dX5_shortest_27 : decode cX5_shortest 27 = .ok (.iinc 3 1, 3) := dk_132 3 1 (dk_at dksX5_shortest_1 5 rfl rfl)
theorem dX5_shortest_30 : decode cX5_shortest 30 = .ok (.goto (-19), 3) := dk_167 255 237 (dk_at dksX5_shortest_1 8 rfl rfl)
theorem dX5_shortest_33 : decode cX5_shortest 33 = .ok (.iload_n 1, 1) := dk_27 (dk_at dksX5_shortest_1 11 rfl rfl)
theorem dX5_shortest_34 : decode cX5_shortest 34 = .ok (.iconst 2, 1) := dk_5 (dk_at dksX5_shortest_1 12 rfl rfl)
theorem dX5_shortest_35 : decode cX5_shortest 35 = .ok (.aload_n 0, 1) := dk_42 (dk_at dksX5_shortest_1 13 rfl rfl)
theorem dX5_shortest_36 : decode cX5_shortest 36 = .ok (.invokevirtual 74, 3) := dk_182 0 74 (dk_at dksX5_shortest_1 14 rfl rfl)
theorem dX5_shortest_39 : decode cX5_shortest 39 = .ok (.imul, 1) := dk_104 (dk_at dksX5_shortest_1 17 rfl rfl)
theorem dX5_shortest_40 : decode cX5_shortest 40 = .ok (.imul, 1) := dk_104 (dk_at dksX5_shortest_1 18 rfl rfl)
theorem dX5_shortest_41 : decode cX5_shortest 41 = .ok (.istore_n 1, 1) := dk_60 (dk_at dksX5_shortest_1 19 rfl rfl)
theorem dX5_shortest_42 : decode cX5_shortest 42 = .ok (.iinc 2 1, 3) := dk_132 2 1 (dk_at dksX5_shortest_1 20 rfl rfl)
theorem dX5_shortest_45 : decode cX5_shortest 45 = .ok (.goto (-41), 3) := dk_167 255 215 (dk_at dksX5_shortest_2 0 rfl rfl)
theorem dX5_shortest_48 : decode cX5_shortest 48 = .ok (.iconst (-1), 1) := dk_2 (dk_at dksX5_shortest_2 3 rfl rfl)
theorem dX5_shortest_49 : decode cX5_shortest 49 = .ok (.ireturn, 1) := dk_172 (dk_at dksX5_shortest_2 4 rfl rfl)
abbrev cX5_leads : ByteArray := prog_12_method_42_code
def yX5_leads : MethodName := ⟨RX5, "leads", "(II)Z"⟩
def dkwX5_leads_5 : List UInt8 := [4, 167, 0, 4, 3, 172]
abbrev dktX5_leads_5 : List UInt8 := dkwX5_leads_5 ++ []
def dkwX5_leads_4 : List UInt8 := [54, 4, 132, 6, 1, 167, 255, 214, 21, 5, 153, 0, 18, 42, 182, 0, 124, 42, 182, 0, 66, 160, 0, 7]
abbrev dktX5_leads_4 : List UInt8 := dkwX5_leads_4 ++ dktX5_leads_5
def dkwX5_leads_3 : List UInt8 := [108, 29, 112, 54, 7, 42, 21, 7, 182, 0, 143, 54, 5, 42, 21, 7, 182, 0, 127, 21, 4, 29, 108]
abbrev dktX5_leads_3 : List UInt8 := dkwX5_leads_3 ++ dktX5_leads_4
def dkwX5_leads_2 : List UInt8 := [42, 182, 0, 121, 4, 54, 5, 3, 54, 6, 21, 6, 28, 162, 0, 42, 21, 5, 153, 0, 37, 27, 21, 4]
abbrev dktX5_leads_2 : List UInt8 := dkwX5_leads_2 ++ dktX5_leads_3
def dkwX5_leads_1 : List UInt8 := [54, 4, 132, 5, 1, 167, 255, 241, 42, 28, 154, 0, 7, 2, 167, 0, 7, 27, 21, 4, 108, 181, 0, 164]
abbrev dktX5_leads_1 : List UInt8 := dkwX5_leads_1 ++ dktX5_leads_2
def dkwX5_leads_0 : List UInt8 := [5, 42, 182, 0, 74, 104, 62, 4, 54, 4, 4, 54, 5, 21, 5, 28, 162, 0, 15, 21, 4, 29, 104]
abbrev dktX5_leads_0 : List UInt8 := dkwX5_leads_0 ++ dktX5_leads_1
theorem dksX5_leads_0 : cX5_leads.data.toList.drop 0 = dktX5_leads_0 := by decide +kernel
theorem dksX5_leads_1 : cX5_leads.data.toList.drop 23 = dktX5_leads_1 := dk_seg dksX5_leads_0 23 rfl rfl
theorem dksX5_leads_2 : cX5_leads.data.toList.drop 47 = dktX5_leads_2 := dk_seg dksX5_leads_1 24 rfl rfl
theorem dksX5_leads_3 : cX5_leads.data.toList.drop 71 = dktX5_leads_3 := dk_seg dksX5_leads_2 24 rfl rfl
theorem dksX5_leads_4 : cX5_leads.data.toList.drop 94 = dktX5_leads_4 := dk_seg dksX5_leads_3 23 rfl rfl
theorem dksX5_leads_5 : cX5_leads.data.toList.drop 118 = dktX5_leads_5 := dk_seg dksX5_leads_4 24 rfl rfl
theorem dX5_leads_0 : decode cX5_leads 0 = .ok (.iconst 2, 1) := dk_5 (dk_at dksX5_leads_0 0 rfl rfl)
theorem dX5_leads_1 : decode cX5_leads 1 = .ok (.aload_n 0, 1) := dk_42 (dk_at dksX5_leads_0 1 rfl rfl)
theorem dX5_leads_2 : decode cX5_leads 2 = .ok (.invokevirtual 74, 3) := dk_182 0 74 (dk_at dksX5_leads_0 2 rfl rfl)
theorem dX5_leads_5 : decode cX5_leads 5 = .ok (.imul, 1) := dk_104 (dk_at dksX5_leads_0 5 rfl rfl)
theorem dX5_leads_6 : decode cX5_leads 6 = .ok (.istore_n 3, 1) := dk_62 (dk_at dksX5_leads_0 6 rfl rfl)
theorem dX5_leads_7 : decode cX5_leads 7 = .ok (.iconst 1, 1) := dk_4 (dk_at dksX5_leads_0 7 rfl rfl)
theorem dX5_leads_8 : decode cX5_leads 8 = .ok (.istore 4, 2) := dk_54 4 (dk_at dksX5_leads_0 8 rfl rfl)
theorem dX5_leads_10 : decode cX5_leads 10 = .ok (.iconst 1, 1) := dk_4 (dk_at dksX5_leads_0 10 rfl rfl)
theorem dX5_leads_11 : decode cX5_leads 11 = .ok (.istore 5, 2) := dk_54 5 (dk_at dksX5_leads_0 11 rfl rfl)
theorem dX5_leads_13 : decode cX5_leads 13 = .ok (.iload 5, 2) := dk_21 5 (dk_at dksX5_leads_0 13 rfl rfl)
theorem dX5_leads_15 : decode cX5_leads 15 = .ok (.iload_n 2, 1) := dk_28 (dk_at dksX5_leads_0 15 rfl rfl)
theorem dX5_leads_16 : decode cX5_leads 16 = .ok (.if_icmp .ge 15, 3) := dk_162 0 15 (dk_at dksX5_leads_0 16 rfl rfl)
theorem dX5_leads_19 : decode cX5_leads 19 = .ok (.iload 4, 2) := dk_21 4 (dk_at dksX5_leads_0 19 rfl rfl)
theorem dX5_leads_21 : decode cX5_leads 21 = .ok (.iload_n 3, 1) := dk_29 (dk_at dksX5_leads_0 21 rfl rfl)
theorem dX5_leads_22 : decode cX5_leads 22 = .ok (.imul, 1) := dk_104 (dk_at dksX5_leads_0 22 rfl rfl)
theorem dX5_leads_23 : decode cX5_leads 23 = .ok (.istore 4, 2) := dk_54 4 (dk_at dksX5_leads_1 0 rfl rfl)
theorem dX5_leads_25 : decode cX5_leads 25 = .ok (.iinc 5 1, 3) := dk_132 5 1 (dk_at dksX5_leads_1 2 rfl rfl)
theorem dX5_leads_28 : decode cX5_leads 28 = .ok (.goto (-15), 3) := dk_167 255 241 (dk_at dksX5_leads_1 5 rfl rfl)
theorem dX5_leads_31 : decode cX5_leads 31 = .ok (.aload_n 0, 1) := dk_42 (dk_at dksX5_leads_1 8 rfl rfl)
theorem dX5_leads_32 : decode cX5_leads 32 = .ok (.iload_n 2, 1) := dk_28 (dk_at dksX5_leads_1 9 rfl rfl)
theorem dX5_leads_33 : decode cX5_leads 33 = .ok (.ifCond .ne 7, 3) := dk_154 0 7 (dk_at dksX5_leads_1 10 rfl rfl)
theorem dX5_leads_36 : decode cX5_leads 36 = .ok (.iconst (-1), 1) := dk_2 (dk_at dksX5_leads_1 13 rfl rfl)
theorem dX5_leads_37 : decode cX5_leads 37 = .ok (.goto 7, 3) := dk_167 0 7 (dk_at dksX5_leads_1 14 rfl rfl)
theorem dX5_leads_40 : decode cX5_leads 40 = .ok (.iload_n 1, 1) := dk_27 (dk_at dksX5_leads_1 17 rfl rfl)
theorem dX5_leads_41 : decode cX5_leads 41 = .ok (.iload 4, 2) := dk_21 4 (dk_at dksX5_leads_1 18 rfl rfl)
theorem dX5_leads_43 : decode cX5_leads 43 = .ok (.idiv, 1) := dk_108 (dk_at dksX5_leads_1 20 rfl rfl)
theorem dX5_leads_44 : decode cX5_leads 44 = .ok (.putfield 164, 3) := dk_181 0 164 (dk_at dksX5_leads_1 21 rfl rfl)
theorem dX5_leads_47 : decode cX5_leads 47 = .ok (.aload_n 0, 1) := dk_42 (dk_at dksX5_leads_2 0 rfl rfl)
theorem dX5_leads_48 : decode cX5_leads 48 = .ok (.invokevirtual 121, 3) := dk_182 0 121 (dk_at dksX5_leads_2 1 rfl rfl)
theorem dX5_leads_51 : decode cX5_leads 51 = .ok (.iconst 1, 1) := dk_4 (dk_at dksX5_leads_2 4 rfl rfl)
theorem dX5_leads_52 : decode cX5_leads 52 = .ok (.istore 5, 2) := dk_54 5 (dk_at dksX5_leads_2 5 rfl rfl)
theorem dX5_leads_54 : decode cX5_leads 54 = .ok (.iconst 0, 1) := dk_3 (dk_at dksX5_leads_2 7 rfl rfl)
theorem dX5_leads_55 : decode cX5_leads 55 = .ok (.istore 6, 2) := dk_54 6 (dk_at dksX5_leads_2 8 rfl rfl)
theorem dX5_leads_57 : decode cX5_leads 57 = .ok (.iload 6, 2) := dk_21 6 (dk_at dksX5_leads_2 10 rfl rfl)
theorem dX5_leads_59 : decode cX5_leads 59 = .ok (.iload_n 2, 1) := dk_28 (dk_at dksX5_leads_2 12 rfl rfl)
theorem dX5_leads_60 : decode cX5_leads 60 = .ok (.if_icmp .ge 42, 3) := dk_162 0 42 (dk_at dksX5_leads_2 13 rfl rfl)
theorem dX5_leads_63 : decode cX5_leads 63 = .ok (.iload 5, 2) := dk_21 5 (dk_at dksX5_leads_2 16 rfl rfl)
theorem dX5_leads_65 : decode cX5_leads 65 = .ok (.ifCond .eq 37, 3) := dk_153 0 37 (dk_at dksX5_leads_2 18 rfl rfl)
theorem dX5_leads_68 : decode cX5_leads 68 = .ok (.iload_n 1, 1) := dk_27 (dk_at dksX5_leads_2 21 rfl rfl)
theorem dX5_leads_69 : decode cX5_leads 69 = .ok (.iload 4, 2) := dk_21 4 (dk_at dksX5_leads_2 22 rfl rfl)
theorem dX5_leads_71 : decode cX5_leads 71 = .ok (.idiv, 1) := dk_108 (dk_at dksX5_leads_3 0 rfl rfl)
theorem dX5_leads_72 : decode cX5_leads 72 = .ok (.iload_n 3, 1) := dk_29 (dk_at dksX5_leads_3 1 rfl rfl)
theorem dX5_leads_73 : decode cX5_leads 73 = .ok (.irem, 1) := dk_112 (dk_at dksX5_leads_3 2 rfl rfl)
theorem dX5_leads_74 : decode cX5_leads 74 = .ok (.istore 7, 2) := dk_54 7 (dk_at dksX5_leads_3 3 rfl rfl)
theorem dX5_leads_76 : decode cX5_leads 76 = .ok (.aload_n 0, 1) := dk_42 (dk_at dksX5_leads_3 5 rfl rfl)
theorem dX5_leads_77 : decode cX5_leads 77 = .ok (.iload 7, 2) := dk_21 7 (dk_at dksX5_leads_3 6 rfl rfl)
theorem dX5_leads_79 : decode cX5_leads 79 = .ok (.invokevirtual 143, 3) := dk_182 0 143 (dk_at dksX5_leads_3 8 rfl rfl)
theorem dX5_leads_82 : decode cX5_leads 82 = .ok (.istore 5, 2) := dk_54 5 (dk_at dksX5_leads_3 11 rfl rfl)
theorem dX5_leads_84 : decode cX5_leads 84 = .ok (.aload_n 0, 1) := dk_42 (dk_at dksX5_leads_3 13 rfl rfl)
theorem dX5_leads_85 : decode cX5_leads 85 = .ok (.iload 7, 2) := dk_21 7 (dk_at dksX5_leads_3 14 rfl rfl)
theorem dX5_leads_87 : decode cX5_leads 87 = .ok (.invokevirtual 127, 3) := dk_182 0 127 (dk_at dksX5_leads_3 16 rfl rfl)
theorem dX5_leads_90 : decode cX5_leads 90 = .ok (.iload 4, 2) := dk_21 4 (dk_at dksX5_leads_3 19 rfl rfl)
theorem dX5_leads_92 : decode cX5_leads 92 = .ok (.iload_n 3, 1) := dk_29 (dk_at dksX5_leads_3 21 rfl rfl)
theorem dX5_leads_93 : decode cX5_leads 93 = .ok (.idiv, 1) := dk_108 (dk_at dksX5_leads_3 22 rfl rfl)
theorem dX5_leads_94 : decode cX5_leads 94 = .ok (.istore 4, 2) := dk_54 4 (dk_at dksX5_leads_4 0 rfl rfl)
theorem dX5_leads_96 : decode cX5_leads 96 = .ok (.iinc 6 1, 3) := dk_132 6 1 (dk_at dksX5_leads_4 2 rfl rfl)
theorem dX5_leads_99 : decode cX5_leads 99 = .ok (.goto (-42), 3) := dk_167 255 214 (dk_at dksX5_leads_4 5 rfl rfl)
theorem dX5_leads_102 : decode cX5_leads 102 = .ok (.iload 5, 2) := dk_21 5 (dk_at dksX5_leads_4 8 rfl rfl)
theorem dX5_leads_104 : decode cX5_leads 104 = .ok (.ifCond .eq 18, 3) := dk_153 0 18 (dk_at dksX5_leads_4 10 rfl rfl)
theorem dX5_leads_107 : decode cX5_leads 107 = .ok (.aload_n 0, 1) := dk_42 (dk_at dksX5_leads_4 13 rfl rfl)
theorem dX5_leads_108 : decode cX5_leads 108 = .ok (.invokevirtual 124, 3) := dk_182 0 124 (dk_at dksX5_leads_4 14 rfl rfl)
theorem dX5_leads_111 : decode cX5_leads 111 = .ok (.aload_n 0, 1) := dk_42 (dk_at dksX5_leads_4 17 rfl rfl)
theorem dX5_leads_112 : decode cX5_leads 112 = .ok (.invokevirtual 66, 3) := dk_182 0 66 (dk_at dksX5_leads_4 18 rfl rfl)
theorem dX5_leads_115 : decode cX5_leads 115 = .ok (.if_icmp .ne 7, 3) := dk_160 0 7 (dk_at dksX5_leads_4 21 rfl rfl)
theorem dX5_leads_118 : decode cX5_leads 118 = .ok (.iconst 1, 1) := dk_4 (dk_at dksX5_leads_5 0 rfl rfl)
theorem dX5_leads_119 : decode cX5_leads 119 = .ok (.goto 4, 3) := dk_167 0 4 (dk_at dksX5_leads_5 1 rfl rfl)
theorem dX5_leads_122 : decode cX5_leads 122 = .ok (.iconst 0, 1) := dk_3 (dk_at dksX5_leads_5 4 rfl rfl)
theorem dX5_leads_123 : decode cX5_leads 123 = .ok (.ireturn, 1) := dk_172 (dk_at dksX5_leads_5 5 rfl rfl)
abbrev cX5_firstTurn : ByteArray := prog_12_method_45_code
def yX5_firstTurn : MethodName := ⟨RX5, "firstTurn", "()I"⟩
def dkwX5_firstTurn_1 : List UInt8 := [182, 0, 81, 172]
abbrev dktX5_firstTurn_1 : List UInt8 := dkwX5_firstTurn_1 ++ []
def dkwX5_firstTurn_0 : List UInt8 := [42, 182, 0, 171, 60, 27, 4, 162, 0, 11, 42, 4, 182, 0, 77, 167, 0, 11, 42, 42, 180, 0, 164]
abbrev dktX5_firstTurn_0 : List UInt8 := dkwX5_firstTurn_0 ++ dktX5_firstTurn_1
theorem dksX5_firstTurn_0 : cX5_firstTurn.data.toList.drop 0 = dktX5_firstTurn_0 := by decide +kernel
theorem dksX5_firstTurn_1 : cX5_firstTurn.data.toList.drop 23 = dktX5_firstTurn_1 := dk_seg dksX5_firstTurn_0 23 rfl rfl
theorem dX5_firstTurn_0 : decode cX5_firstTurn 0 = .ok (.aload_n 0, 1) := dk_42 (dk_at dksX5_firstTurn_0 0 rfl rfl)
theorem dX5_firstTurn_1 : decode cX5_firstTurn 1 = .ok (.invokevirtual 171, 3) := dk_182 0 171 (dk_at dksX5_firstTurn_0 1 rfl rfl)
theorem dX5_firstTurn_4 : decode cX5_firstTurn 4 = .ok (.istore_n 1, 1) := dk_60 (dk_at dksX5_firstTurn_0 4 rfl rfl)
theorem dX5_firstTurn_5 : decode cX5_firstTurn 5 = .ok (.iload_n 1, 1) := dk_27 (dk_at dksX5_firstTurn_0 5 rfl rfl)
theorem dX5_firstTurn_6 : decode cX5_firstTurn 6 = .ok (.iconst 1, 1) := dk_4 (dk_at dksX5_firstTurn_0 6 rfl rfl)
theorem dX5_firstTurn_7 : decode cX5_firstTurn 7 = .ok (.if_icmp .ge 11, 3) := dk_162 0 11 (dk_at dksX5_firstTurn_0 7 rfl rfl)
theorem dX5_firstTurn_10 : decode cX5_firstTurn 10 = .ok (.aload_n 0, 1) := dk_42 (dk_at dksX5_firstTurn_0 10 rfl rfl)
theorem dX5_firstTurn_11 : decode cX5_firstTurn 11 = .ok (.iconst 1, 1) := dk_4 (dk_at dksX5_firstTurn_0 11 rfl rfl)
theorem dX5_firstTurn_12 : decode cX5_firstTurn 12 = .ok (.invokevirtual 77, 3) := dk_182 0 77 (dk_at dksX5_firstTurn_0 12 rfl rfl)
theorem dX5_firstTurn_15 : decode cX5_firstTurn 15 = .ok (.goto 11, 3) := dk_167 0 11 (dk_at dksX5_firstTurn_0 15 rfl rfl)
theorem dX5_firstTurn_18 : decode cX5_firstTurn 18 = .ok (.aload_n 0, 1) := dk_42 (dk_at dksX5_firstTurn_0 18 rfl rfl)
theorem dX5_firstTurn_19 : decode cX5_firstTurn 19 = .ok (.aload_n 0, 1) := dk_42 (dk_at dksX5_firstTurn_0 19 rfl rfl)
theorem dX5_firstTurn_20 : decode cX5_firstTurn 20 = .ok (.getfield 164, 3) := dk_180 0 164 (dk_at dksX5_firstTurn_0 20 rfl rfl)
theorem dX5_firstTurn_23 : decode cX5_firstTurn 23 = .ok (.invokevirtual 81, 3) := dk_182 0 81 (dk_at dksX5_firstTurn_1 0 rfl rfl)
theorem dX5_firstTurn_26 : decode cX5_firstTurn 26 = .ok (.ireturn, 1) := dk_172 (dk_at dksX5_firstTurn_1 3 rfl rfl)
abbrev cX5_isOut : ByteArray := prog_12_method_51_code
def yX5_isOut : MethodName := ⟨RX5, "isOut", "()Z"⟩
def dkwX5_isOut_0 : List UInt8 := [42, 3, 181, 0, 46, 42, 182, 0, 187, 172]
abbrev dktX5_isOut_0 : List UInt8 := dkwX5_isOut_0 ++ []
theorem dksX5_isOut_0 : cX5_isOut.data.toList.drop 0 = dktX5_isOut_0 := by decide +kernel
theorem dX5_isOut_0 : decode cX5_isOut 0 = .ok (.aload_n 0, 1) := dk_42 (dk_at dksX5_isOut_0 0 rfl rfl)
theorem dX5_isOut_1 : decode cX5_isOut 1 = .ok (.iconst 0, 1) := dk_3 (dk_at dksX5_isOut_0 1 rfl rfl)
theorem dX5_isOut_2 : decode cX5_isOut 2 = .ok (.putfield 46, 3) := dk_181 0 46 (dk_at dksX5_isOut_0 2 rfl rfl)
theorem dX5_isOut_5 : decode cX5_isOut 5 = .ok (.aload_n 0, 1) := dk_42 (dk_at dksX5_isOut_0 5 rfl rfl)
theorem dX5_isOut_6 : decode cX5_isOut 6 = .ok (.invokevirtual 187, 3) := dk_182 0 187 (dk_at dksX5_isOut_0 6 rfl rfl)
theorem dX5_isOut_9 : decode cX5_isOut 9 = .ok (.ireturn, 1) := dk_172 (dk_at dksX5_isOut_0 9 rfl rfl)
abbrev cX5_isOutOfReach : ByteArray := prog_12_method_50_code
def yX5_isOutOfReach : MethodName := ⟨RX5, "isOutOfReach", "()Z"⟩
def dkwX5_isOutOfReach_2 : List UInt8 := [42, 182, 0, 184, 153, 0, 7, 4, 167, 0, 4, 3, 172]
abbrev dktX5_isOutOfReach_2 : List UInt8 := dkwX5_isOutOfReach_2 ++ []
def dkwX5_isOutOfReach_1 : List UInt8 := [160, 0, 18, 42, 16, 23, 2, 182, 0, 174, 5, 162, 0, 7, 4, 167, 0, 4, 3, 60, 27, 153, 0, 14]
abbrev dktX5_isOutOfReach_1 : List UInt8 := dkwX5_isOutOfReach_1 ++ dktX5_isOutOfReach_2
def dkwX5_isOutOfReach_0 : List UInt8 := [42, 182, 0, 177, 153, 0, 5, 4, 172, 42, 182, 0, 66, 16, 9, 160, 0, 27, 42, 182, 0, 181, 16, 9]
abbrev dktX5_isOutOfReach_0 : List UInt8 := dkwX5_isOutOfReach_0 ++ dktX5_isOutOfReach_1
theorem dksX5_isOutOfReach_0 : cX5_isOutOfReach.data.toList.drop 0 = dktX5_isOutOfReach_0 := by decide +kernel
theorem dksX5_isOutOfReach_1 : cX5_isOutOfReach.data.toList.drop 24 = dktX5_isOutOfReach_1 := dk_seg dksX5_isOutOfReach_0 24 rfl rfl
theorem dksX5_isOutOfReach_2 : cX5_isOutOfReach.data.toList.drop 48 = dktX5_isOutOfReach_2 := dk_seg dksX5_isOutOfReach_1 24 rfl rfl
theorem dX5_isOutOfReach_0 : decode cX5_isOutOfReach 0 = .ok (.aload_n 0, 1) := dk_42 (dk_at dksX5_isOutOfReach_0 0 rfl rfl)
theorem dX5_isOutOfReach_1 : decode cX5_isOutOfReach 1 = .ok (.invokevirtual 177, 3) := dk_182 0 177 (dk_at dksX5_isOutOfReach_0 1 rfl rfl)
theorem dX5_isOutOfReach_4 : decode cX5_isOutOfReach 4 = .ok (.ifCond .eq 5, 3) := dk_153 0 5 (dk_at dksX5_isOutOfReach_0 4 rfl rfl)
theorem dX5_isOutOfReach_7 : decode cX5_isOutOfReach 7 = .ok (.iconst 1, 1) := dk_4 (dk_at dksX5_isOutOfReach_0 7 rfl rfl)
theorem dX5_isOutOfReach_8 : decode cX5_isOutOfReach 8 = .ok (.ireturn, 1) := dk_172 (dk_at dksX5_isOutOfReach_0 8 rfl rfl)
theorem dX5_isOutOfReach_9 : decode cX5_isOutOfReach 9 = .ok (.aload_n 0, 1) := dk_42 (dk_at dksX5_isOutOfReach_0 9 rfl rfl)
theorem dX5_isOutOfReach_10 : decode cX5_isOutOfReach 10 = .ok (.invokevirtual 66, 3) := dk_182 0 66 (dk_at dksX5_isOutOfReach_0 10 rfl rfl)
theorem dX5_isOutOfReach_13 : decode cX5_isOutOfReach 13 = .ok (.bipush 9, 2) := dk_16 9 (dk_at dksX5_isOutOfReach_0 13 rfl rfl)
theorem dX5_isOutOfReach_15 : decode cX5_isOutOfReach 15 = .ok (.if_icmp .ne 27, 3) := dk_160 0 27 (dk_at dksX5_isOutOfReach_0 15 rfl rfl)
theorem dX5_isOutOfReach_18 : decode cX5_isOutOfReach 18 = .ok (.aload_n 0, 1) := dk_42 (dk_at dksX5_isOutOfReach_0 18 rfl rfl)
theorem dX5_isOutOfReach_19 : decode cX5_isOutOfReach 19 = .ok (.invokevirtual 181, 3) := dk_182 0 181 (dk_at dksX5_isOutOfReach_0 19 rfl rfl)
theorem dX5_isOutOfReach_22 : decode cX5_isOutOfReach 22 = .ok (.bipush 9, 2) := dk_16 9 (dk_at dksX5_isOutOfReach_0 22 rfl rfl)
theorem dX5_isOutOfReach_24 : decode cX5_isOutOfReach 24 = .ok (.if_icmp .ne 18, 3) := dk_160 0 18 (dk_at dksX5_isOutOfReach_1 0 rfl rfl)
theorem dX5_isOutOfReach_27 : decode cX5_isOutOfReach 27 = .ok (.aload_n 0, 1) := dk_42 (dk_at dksX5_isOutOfReach_1 3 rfl rfl)
theorem dX5_isOutOfReach_28 : decode cX5_isOutOfReach 28 = .ok (.bipush 23, 2) := dk_16 23 (dk_at dksX5_isOutOfReach_1 4 rfl rfl)
theorem dX5_isOutOfReach_30 : decode cX5_isOutOfReach 30 = .ok (.iconst (-1), 1) := dk_2 (dk_at dksX5_isOutOfReach_1 6 rfl rfl)
theorem dX5_isOutOfReach_31 : decode cX5_isOutOfReach 31 = .ok (.invokevirtual 174, 3) := dk_182 0 174 (dk_at dksX5_isOutOfReach_1 7 rfl rfl)
theorem dX5_isOutOfReach_34 : decode cX5_isOutOfReach 34 = .ok (.iconst 2, 1) := dk_5 (dk_at dksX5_isOutOfReach_1 10 rfl rfl)
theorem dX5_isOutOfReach_35 : decode cX5_isOutOfReach 35 = .ok (.if_icmp .ge 7, 3) := dk_162 0 7 (dk_at dksX5_isOutOfReach_1 11 rfl rfl)
theorem dX5_isOutOfReach_38 : decode cX5_isOutOfReach 38 = .ok (.iconst 1, 1) := dk_4 (dk_at dksX5_isOutOfReach_1 14 rfl rfl)
theorem dX5_isOutOfReach_39 : decode cX5_isOutOfReach 39 = .ok (.goto 4, 3) := dk_167 0 4 (dk_at dksX5_isOutOfReach_1 15 rfl rfl)
theorem dX5_isOutOfReach_42 : decode cX5_isOutOfReach 42 = .ok (.iconst 0, 1) := dk_3 (dk_at dksX5_isOutOfReach_1 18 rfl rfl)
theorem dX5_isOutOfReach_43 : decode cX5_isOutOfReach 43 = .ok (.istore_n 1, 1) := dk_60 (dk_at dksX5_isOutOfReach_1 19 rfl rfl)
theorem dX5_isOutOfReach_44 : decode cX5_isOutOfReach 44 = .ok (.iload_n 1, 1) := dk_27 (dk_at dksX5_isOutOfReach_1 20 rfl rfl)
theorem dX5_isOutOfReach_45 : decode cX5_isOutOfReach 45 = .ok (.ifCond .eq 14, 3) := dk_153 0 14 (dk_at dksX5_isOutOfReach_1 21 rfl rfl)
theorem dX5_isOutOfReach_48 : decode cX5_isOutOfReach 48 = .ok (.aload_n 0, 1) := dk_42 (dk_at dksX5_isOutOfReach_2 0 rfl rfl)
theorem dX5_isOutOfReach_49 : decode cX5_isOutOfReach 49 = .ok (.invokevirtual 184, 3) := dk_182 0 184 (dk_at dksX5_isOutOfReach_2 1 rfl rfl)
theorem dX5_isOutOfReach_52 : decode cX5_isOutOfReach 52 = .ok (.ifCond .eq 7, 3) := dk_153 0 7 (dk_at dksX5_isOutOfReach_2 4 rfl rfl)
theorem dX5_isOutOfReach_55 : decode cX5_isOutOfReach 55 = .ok (.iconst 1, 1) := dk_4 (dk_at dksX5_isOutOfReach_2 7 rfl rfl)
theorem dX5_isOutOfReach_56 : decode cX5_isOutOfReach 56 = .ok (.goto 4, 3) := dk_167 0 4 (dk_at dksX5_isOutOfReach_2 8 rfl rfl)
theorem dX5_isOutOfReach_59 : decode cX5_isOutOfReach 59 = .ok (.iconst 0, 1) := dk_3 (dk_at dksX5_isOutOfReach_2 11 rfl rfl)
theorem dX5_isOutOfReach_60 : decode cX5_isOutOfReach 60 = .ok (.ireturn, 1) := dk_172 (dk_at dksX5_isOutOfReach_2 12 rfl rfl)
abbrev cX5_lacksLetters : ByteArray := prog_12_method_47_code
def yX5_lacksLetters : MethodName := ⟨RX5, "lacksLetters", "()Z"⟩
def dkwX5_lacksLetters_1 : List UInt8 := [28, 182, 0, 174, 164, 0, 7, 4, 167, 0, 4, 3, 60, 132, 2, 1, 167, 255, 220, 27, 172]
abbrev dktX5_lacksLetters_1 : List UInt8 := dkwX5_lacksLetters_1 ++ []
def dkwX5_lacksLetters_0 : List UInt8 := [3, 60, 3, 61, 28, 16, 12, 162, 0, 36, 27, 154, 0, 20, 42, 16, 23, 28, 182, 0, 174, 42, 16, 14]
abbrev dktX5_lacksLetters_0 : List UInt8 := dkwX5_lacksLetters_0 ++ dktX5_lacksLetters_1
theorem dksX5_lacksLetters_0 : cX5_lacksLetters.data.toList.drop 0 = dktX5_lacksLetters_0 := by decide +kernel
theorem dksX5_lacksLetters_1 : cX5_lacksLetters.data.toList.drop 24 = dktX5_lacksLetters_1 := dk_seg dksX5_lacksLetters_0 24 rfl rfl
theorem dX5_lacksLetters_0 : decode cX5_lacksLetters 0 = .ok (.iconst 0, 1) := dk_3 (dk_at dksX5_lacksLetters_0 0 rfl rfl)
theorem dX5_lacksLetters_1 : decode cX5_lacksLetters 1 = .ok (.istore_n 1, 1) := dk_60 (dk_at dksX5_lacksLetters_0 1 rfl rfl)
theorem dX5_lacksLetters_2 : decode cX5_lacksLetters 2 = .ok (.iconst 0, 1) := dk_3 (dk_at dksX5_lacksLetters_0 2 rfl rfl)
theorem dX5_lacksLetters_3 : decode cX5_lacksLetters 3 = .ok (.istore_n 2, 1) := dk_61 (dk_at dksX5_lacksLetters_0 3 rfl rfl)
theorem dX5_lacksLetters_4 : decode cX5_lacksLetters 4 = .ok (.iload_n 2, 1) := dk_28 (dk_at dksX5_lacksLetters_0 4 rfl rfl)
theorem dX5_lacksLetters_5 : decode cX5_lacksLetters 5 = .ok (.bipush 12, 2) := dk_16 12 (dk_at dksX5_lacksLetters_0 5 rfl rfl)
theorem dX5_lacksLetters_7 : decode cX5_lacksLetters 7 = .ok (.if_icmp .ge 36, 3) := dk_162 0 36 (dk_at dksX5_lacksLetters_0 7 rfl rfl)
theorem dX5_lacksLetters_10 : decode cX5_lacksLetters 10 = .ok (.iload_n 1, 1) := dk_27 (dk_at dksX5_lacksLetters_0 10 rfl rfl)
theorem dX5_lacksLetters_11 : decode cX5_lacksLetters 11 = .ok (.ifCond .ne 20, 3) := dk_154 0 20 (dk_at dksX5_lacksLetters_0 11 rfl rfl)
theorem dX5_lacksLetters_14 : decode cX5_lacksLetters 14 = .ok (.aload_n 0, 1) := dk_42 (dk_at dksX5_lacksLetters_0 14 rfl rfl)
theorem dX5_lacksLetters_15 : decode cX5_lacksLetters 15 = .ok (.bipush 23, 2) := dk_16 23 (dk_at dksX5_lacksLetters_0 15 rfl rfl)
theorem dX5_lacksLetters_17 : decode cX5_lacksLetters 17 = .ok (.iload_n 2, 1) := dk_28 (dk_at dksX5_lacksLetters_0 17 rfl rfl)
theorem dX5_lacksLetters_18 : decode cX5_lacksLetters 18 = .ok (.invokevirtual 174, 3) := dk_182 0 174 (dk_at dksX5_lacksLetters_0 18 rfl rfl)
theorem dX5_lacksLetters_21 : decode cX5_lacksLetters 21 = .ok (.aload_n 0, 1) := dk_42 (dk_at dksX5_lacksLetters_0 21 rfl rfl)
theorem dX5_lacksLetters_22 : decode cX5_lacksLetters 22 = .ok (.bipush 14, 2) := dk_16 14 (dk_at dksX5_lacksLetters_0 22 rfl rfl)
theorem dX5_lacksLetters_24 : decode cX5_lacksLetters 24 = .ok (.iload_n 2, 1) := dk_28 (dk_at dksX5_lacksLetters_1 0 rfl rfl)
theorem dX5_lacksLetters_25 : decode cX5_lacksLetters 25 = .ok (.invokevirtual 174, 3) := dk_182 0 174 (dk_at dksX5_lacksLetters_1 1 rfl rfl)
theorem dX5_lacksLetters_28 : decode cX5_lacksLetters 28 = .ok (.if_icmp .le 7, 3) := dk_164 0 7 (dk_at dksX5_lacksLetters_1 4 rfl rfl)
theorem dX5_lacksLetters_31 : decode cX5_lacksLetters 31 = .ok (.iconst 1, 1) := dk_4 (dk_at dksX5_lacksLetters_1 7 rfl rfl)
theorem dX5_lacksLetters_32 : decode cX5_lacksLetters 32 = .ok (.goto 4, 3) := dk_167 0 4 (dk_at dksX5_lacksLetters_1 8 rfl rfl)
theorem dX5_lacksLetters_35 : decode cX5_lacksLetters 35 = .ok (.iconst 0, 1) := dk_3 (dk_at dksX5_lacksLetters_1 11 rfl rfl)
theorem dX5_lacksLetters_36 : decode cX5_lacksLetters 36 = .ok (.istore_n 1, 1) := dk_60 (dk_at dksX5_lacksLetters_1 12 rfl rfl)
theorem dX5_lacksLetters_37 : decode cX5_lacksLetters 37 = .ok (.iinc 2 1, 3) := dk_132 2 1 (dk_at dksX5_lacksLetters_1 13 rfl rfl)
theorem dX5_lacksLetters_40 : decode cX5_lacksLetters 40 = .ok (.goto (-36), 3) := dk_167 255 220 (dk_at dksX5_lacksLetters_1 16 rfl rfl)
theorem dX5_lacksLetters_43 : decode cX5_lacksLetters 43 = .ok (.iload_n 1, 1) := dk_27 (dk_at dksX5_lacksLetters_1 19 rfl rfl)
theorem dX5_lacksLetters_44 : decode cX5_lacksLetters 44 = .ok (.ireturn, 1) := dk_172 (dk_at dksX5_lacksLetters_1 20 rfl rfl)
abbrev cX5_timesOf : ByteArray := prog_12_method_46_code
def yX5_timesOf : MethodName := ⟨RX5, "timesOf", "(II)I"⟩
def dkwX5_timesOf_1 : List UInt8 := [28, 160, 0, 7, 4, 167, 0, 4, 3, 96, 62, 132, 4, 1, 167, 255, 223, 29, 172]
abbrev dktX5_timesOf_1 : List UInt8 := dkwX5_timesOf_1 ++ []
def dkwX5_timesOf_0 : List UInt8 := [3, 62, 3, 54, 4, 21, 4, 42, 182, 0, 66, 162, 0, 30, 29, 42, 180, 0, 7, 27, 21, 4, 96, 46]
abbrev dktX5_timesOf_0 : List UInt8 := dkwX5_timesOf_0 ++ dktX5_timesOf_1
theorem dksX5_timesOf_0 : cX5_timesOf.data.toList.drop 0 = dktX5_timesOf_0 := by decide +kernel
theorem dksX5_timesOf_1 : cX5_timesOf.data.toList.drop 24 = dktX5_timesOf_1 := dk_seg dksX5_timesOf_0 24 rfl rfl
theorem dX5_timesOf_0 : decode cX5_timesOf 0 = .ok (.iconst 0, 1) := dk_3 (dk_at dksX5_timesOf_0 0 rfl rfl)
theorem dX5_timesOf_1 : decode cX5_timesOf 1 = .ok (.istore_n 3, 1) := dk_62 (dk_at dksX5_timesOf_0 1 rfl rfl)
theorem dX5_timesOf_2 : decode cX5_timesOf 2 = .ok (.iconst 0, 1) := dk_3 (dk_at dksX5_timesOf_0 2 rfl rfl)
theorem dX5_timesOf_3 : decode cX5_timesOf 3 = .ok (.istore 4, 2) := dk_54 4 (dk_at dksX5_timesOf_0 3 rfl rfl)
theorem dX5_timesOf_5 : decode cX5_timesOf 5 = .ok (.iload 4, 2) := dk_21 4 (dk_at dksX5_timesOf_0 5 rfl rfl)
theorem dX5_timesOf_7 : decode cX5_timesOf 7 = .ok (.aload_n 0, 1) := dk_42 (dk_at dksX5_timesOf_0 7 rfl rfl)
theorem dX5_timesOf_8 : decode cX5_timesOf 8 = .ok (.invokevirtual 66, 3) := dk_182 0 66 (dk_at dksX5_timesOf_0 8 rfl rfl)
theorem dX5_timesOf_11 : decode cX5_timesOf 11 = .ok (.if_icmp .ge 30, 3) := dk_162 0 30 (dk_at dksX5_timesOf_0 11 rfl rfl)
theorem dX5_timesOf_14 : decode cX5_timesOf 14 = .ok (.iload_n 3, 1) := dk_29 (dk_at dksX5_timesOf_0 14 rfl rfl)
theorem dX5_timesOf_15 : decode cX5_timesOf 15 = .ok (.aload_n 0, 1) := dk_42 (dk_at dksX5_timesOf_0 15 rfl rfl)
theorem dX5_timesOf_16 : decode cX5_timesOf 16 = .ok (.getfield 7, 3) := dk_180 0 7 (dk_at dksX5_timesOf_0 16 rfl rfl)
theorem dX5_timesOf_19 : decode cX5_timesOf 19 = .ok (.iload_n 1, 1) := dk_27 (dk_at dksX5_timesOf_0 19 rfl rfl)
theorem dX5_timesOf_20 : decode cX5_timesOf 20 = .ok (.iload 4, 2) := dk_21 4 (dk_at dksX5_timesOf_0 20 rfl rfl)
theorem dX5_timesOf_22 : decode cX5_timesOf 22 = .ok (.iadd, 1) := dk_96 (dk_at dksX5_timesOf_0 22 rfl rfl)
theorem dX5_timesOf_23 : decode cX5_timesOf 23 = .ok (.iaload, 1) := dk_46 (dk_at dksX5_timesOf_0 23 rfl rfl)
theorem dX5_timesOf_24 : decode cX5_timesOf 24 = .ok (.iload_n 2, 1) := dk_28 (dk_at dksX5_timesOf_1 0 rfl rfl)
theorem dX5_timesOf_25 : decode cX5_timesOf 25 = .ok (.if_icmp .ne 7, 3) := dk_160 0 7 (dk_at dksX5_timesOf_1 1 rfl rfl)
theorem dX5_timesOf_28 : decode cX5_timesOf 28 = .ok (.iconst 1, 1) := dk_4 (dk_at dksX5_timesOf_1 4 rfl rfl)
theorem dX5_timesOf_29 : decode cX5_timesOf 29 = .ok (.goto 4, 3) := dk_167 0 4 (dk_at dksX5_timesOf_1 5 rfl rfl)
theorem dX5_timesOf_32 : decode cX5_timesOf 32 = .ok (.iconst 0, 1) := dk_3 (dk_at dksX5_timesOf_1 8 rfl rfl)
theorem dX5_timesOf_33 : decode cX5_timesOf 33 = .ok (.iadd, 1) := dk_96 (dk_at dksX5_timesOf_1 9 rfl rfl)
theorem dX5_timesOf_34 : decode cX5_timesOf 34 = .ok (.istore_n 3, 1) := dk_62 (dk_at dksX5_timesOf_1 10 rfl rfl)
theorem dX5_timesOf_35 : decode cX5_timesOf 35 = .ok (.iinc 4 1, 3) := dk_132 4 1 (dk_at dksX5_timesOf_1 11 rfl rfl)
theorem dX5_timesOf_38 : decode cX5_timesOf 38 = .ok (.goto (-33), 3) := dk_167 255 223 (dk_at dksX5_timesOf_1 14 rfl rfl)
theorem dX5_timesOf_41 : decode cX5_timesOf 41 = .ok (.iload_n 3, 1) := dk_29 (dk_at dksX5_timesOf_1 17 rfl rfl)
theorem dX5_timesOf_42 : decode cX5_timesOf 42 = .ok (.ireturn, 1) := dk_172 (dk_at dksX5_timesOf_1 18 rfl rfl)
abbrev cX5_unlike : ByteArray := prog_12_method_48_code
def yX5_unlike : MethodName := ⟨RX5, "unlike", "()I"⟩
def dkwX5_unlike_1 : List UInt8 := [167, 0, 4, 3, 96, 60, 132, 2, 1, 167, 255, 229, 27, 172]
abbrev dktX5_unlike_1 : List UInt8 := dkwX5_unlike_1 ++ []
def dkwX5_unlike_0 : List UInt8 := [3, 60, 3, 61, 28, 16, 12, 162, 0, 27, 27, 42, 16, 14, 28, 182, 0, 174, 158, 0, 7, 4]
abbrev dktX5_unlike_0 : List UInt8 := dkwX5_unlike_0 ++ dktX5_unlike_1
theorem dksX5_unlike_0 : cX5_unlike.data.toList.drop 0 = dktX5_unlike_0 := by decide +kernel
theorem dksX5_unlike_1 : cX5_unlike.data.toList.drop 22 = dktX5_unlike_1 := dk_seg dksX5_unlike_0 22 rfl rfl
theorem dX5_unlike_0 : decode cX5_unlike 0 = .ok (.iconst 0, 1) := dk_3 (dk_at dksX5_unlike_0 0 rfl rfl)
theorem dX5_unlike_1 : decode cX5_unlike 1 = .ok (.istore_n 1, 1) := dk_60 (dk_at dksX5_unlike_0 1 rfl rfl)
theorem dX5_unlike_2 : decode cX5_unlike 2 = .ok (.iconst 0, 1) := dk_3 (dk_at dksX5_unlike_0 2 rfl rfl)
theorem dX5_unlike_3 : decode cX5_unlike 3 = .ok (.istore_n 2, 1) := dk_61 (dk_at dksX5_unlike_0 3 rfl rfl)
theorem dX5_unlike_4 : decode cX5_unlike 4 = .ok (.iload_n 2, 1) := dk_28 (dk_at dksX5_unlike_0 4 rfl rfl)
theorem dX5_unlike_5 : decode cX5_unlike 5 = .ok (.bipush 12, 2) := dk_16 12 (dk_at dksX5_unlike_0 5 rfl rfl)
theorem dX5_unlike_7 : decode cX5_unlike 7 = .ok (.if_icmp .ge 27, 3) := dk_162 0 27 (dk_at dksX5_unlike_0 7 rfl rfl)
theorem dX5_unlike_10 : decode cX5_unlike 10 = .ok (.iload_n 1, 1) := dk_27 (dk_at dksX5_unlike_0 10 rfl rfl)
theorem dX5_unlike_11 : decode cX5_unlike 11 = .ok (.aload_n 0, 1) := dk_42 (dk_at dksX5_unlike_0 11 rfl rfl)
theorem dX5_unlike_12 : decode cX5_unlike 12 = .ok (.bipush 14, 2) := dk_16 14 (dk_at dksX5_unlike_0 12 rfl rfl)
theorem dX5_unlike_14 : decode cX5_unlike 14 = .ok (.iload_n 2, 1) := dk_28 (dk_at dksX5_unlike_0 14 rfl rfl)
theorem dX5_unlike_15 : decode cX5_unlike 15 = .ok (.invokevirtual 174, 3) := dk_182 0 174 (dk_at dksX5_unlike_0 15 rfl rfl)
theorem dX5_unlike_18 : decode cX5_unlike 18 = .ok (.ifCond .le 7, 3) := dk_158 0 7 (dk_at dksX5_unlike_0 18 rfl rfl)
theorem dX5_unlike_21 : decode cX5_unlike 21 = .ok (.iconst 1, 1) := dk_4 (dk_at dksX5_unlike_0 21 rfl rfl)
theorem dX5_unlike_22 : decode cX5_unlike 22 = .ok (.goto 4, 3) := dk_167 0 4 (dk_at dksX5_unlike_1 0 rfl rfl)
theorem dX5_unlike_25 : decode cX5_unlike 25 = .ok (.iconst 0, 1) := dk_3 (dk_at dksX5_unlike_1 3 rfl rfl)
theorem dX5_unlike_26 : decode cX5_unlike 26 = .ok (.iadd, 1) := dk_96 (dk_at dksX5_unlike_1 4 rfl rfl)
theorem dX5_unlike_27 : decode cX5_unlike 27 = .ok (.istore_n 1, 1) := dk_60 (dk_at dksX5_unlike_1 5 rfl rfl)
theorem dX5_unlike_28 : decode cX5_unlike 28 = .ok (.iinc 2 1, 3) := dk_132 2 1 (dk_at dksX5_unlike_1 6 rfl rfl)
theorem dX5_unlike_31 : decode cX5_unlike 31 = .ok (.goto (-27), 3) := dk_167 255 229 (dk_at dksX5_unlike_1 9 rfl rfl)
theorem dX5_unlike_34 : decode cX5_unlike 34 = .ok (.iload_n 1, 1) := dk_27 (dk_at dksX5_unlike_1 12 rfl rfl)
theorem dX5_unlike_35 : decode cX5_unlike 35 = .ok (.ireturn, 1) := dk_172 (dk_at dksX5_unlike_1 13 rfl rfl)
abbrev cX5_swapsAreOdd : ByteArray := prog_12_method_49_code
def yX5_swapsAreOdd : MethodName := ⟨RX5, "swapsAreOdd", "()Z"⟩
def dkwX5_swapsAreOdd_7 : List UInt8 := [132, 3, 1, 167, 255, 219, 132, 2, 1, 167, 255, 203, 27, 172]
abbrev dktX5_swapsAreOdd_7 : List UInt8 := dkwX5_swapsAreOdd_7 ++ []
def dkwX5_swapsAreOdd_6 : List UInt8 := [42, 180, 0, 36, 28, 46, 164, 0, 15, 27, 154, 0, 7, 4, 167, 0, 8, 3, 167, 0, 4, 27, 60]
abbrev dktX5_swapsAreOdd_6 : List UInt8 := dkwX5_swapsAreOdd_6 ++ dktX5_swapsAreOdd_7
def dkwX5_swapsAreOdd_5 : List UInt8 := [60, 3, 61, 28, 42, 182, 0, 66, 162, 0, 51, 3, 62, 29, 28, 162, 0, 38, 42, 180, 0, 36, 29, 46]
abbrev dktX5_swapsAreOdd_5 : List UInt8 := dkwX5_swapsAreOdd_5 ++ dktX5_swapsAreOdd_6
def dkwX5_swapsAreOdd_4 : List UInt8 := [29, 167, 0, 9, 42, 180, 0, 36, 27, 46, 79, 132, 3, 1, 167, 255, 216, 132, 1, 1, 167, 255, 144, 3]
abbrev dktX5_swapsAreOdd_4 : List UInt8 := dkwX5_swapsAreOdd_4 ++ dktX5_swapsAreOdd_5
def dkwX5_swapsAreOdd_3 : List UInt8 := [182, 0, 66, 162, 0, 38, 42, 180, 0, 36, 27, 42, 180, 0, 7, 16, 14, 29, 96, 46, 28, 160, 0, 7]
abbrev dktX5_swapsAreOdd_3 : List UInt8 := dkwX5_swapsAreOdd_3 ++ dktX5_swapsAreOdd_4
def dkwX5_swapsAreOdd_2 : List UInt8 := [29, 182, 0, 174, 154, 0, 7, 29, 167, 0, 4, 2, 61, 132, 3, 1, 167, 255, 215, 3, 62, 29, 42]
abbrev dktX5_swapsAreOdd_2 : List UInt8 := dkwX5_swapsAreOdd_2 ++ dktX5_swapsAreOdd_3
def dkwX5_swapsAreOdd_1 : List UInt8 := [16, 12, 162, 0, 41, 28, 2, 160, 0, 36, 42, 16, 14, 29, 182, 0, 174, 4, 160, 0, 17, 42, 16, 23]
abbrev dktX5_swapsAreOdd_1 : List UInt8 := dkwX5_swapsAreOdd_1 ++ dktX5_swapsAreOdd_2
def dkwX5_swapsAreOdd_0 : List UInt8 := [3, 60, 27, 42, 182, 0, 66, 162, 0, 110, 42, 180, 0, 7, 16, 23, 27, 96, 46, 61, 3, 62, 29]
abbrev dktX5_swapsAreOdd_0 : List UInt8 := dkwX5_swapsAreOdd_0 ++ dktX5_swapsAreOdd_1
theorem dksX5_swapsAreOdd_0 : cX5_swapsAreOdd.data.toList.drop 0 = dktX5_swapsAreOdd_0 := by decide +kernel
theorem dksX5_swapsAreOdd_1 : cX5_swapsAreOdd.data.toList.drop 23 = dktX5_swapsAreOdd_1 := dk_seg dksX5_swapsAreOdd_0 23 rfl rfl
theorem dksX5_swapsAreOdd_2 : cX5_swapsAreOdd.data.toList.drop 47 = dktX5_swapsAreOdd_2 := dk_seg dksX5_swapsAreOdd_1 24 rfl rfl
theorem dksX5_swapsAreOdd_3 : cX5_swapsAreOdd.data.toList.drop 70 = dktX5_swapsAreOdd_3 := dk_seg dksX5_swapsAreOdd_2 23 rfl rfl
theorem dksX5_swapsAreOdd_4 : cX5_swapsAreOdd.data.toList.drop 94 = dktX5_swapsAreOdd_4 := dk_seg dksX5_swapsAreOdd_3 24 rfl rfl
theorem dksX5_swapsAreOdd_5 : cX5_swapsAreOdd.data.toList.drop 118 = dktX5_swapsAreOdd_5 := dk_seg dksX5_swapsAreOdd_4 24 rfl rfl
theorem dksX5_swapsAreOdd_6 : cX5_swapsAreOdd.data.toList.drop 142 = dktX5_swapsAreOdd_6 := dk_seg dksX5_swapsAreOdd_5 24 rfl rfl
theorem dksX5_swapsAreOdd_7 : cX5_swapsAreOdd.data.toList.drop 165 = dktX5_swapsAreOdd_7 := dk_seg dksX5_swapsAreOdd_6 23 rfl rfl
theorem dX5_swapsAreOdd_0 : decode cX5_swapsAreOdd 0 = .ok (.iconst 0, 1) := dk_3 (dk_at dksX5_swapsAreOdd_0 0 rfl rfl)
theorem dX5_swapsAreOdd_1 : decode cX5_swapsAreOdd 1 = .ok (.istore_n 1, 1) := dk_60 (dk_at dksX5_swapsAreOdd_0 1 rfl rfl)
theorem dX5_swapsAreOdd_2 : decode cX5_swapsAreOdd 2 = .ok (.iload_n 1, 1) := dk_27 (dk_at dksX5_swapsAreOdd_0 2 rfl rfl)
theorem dX5_swapsAreOdd_3 : decode cX5_swapsAreOdd 3 = .ok (.aload_n 0, 1) := dk_42 (dk_at dksX5_swapsAreOdd_0 3 rfl rfl)
theorem dX5_swapsAreOdd_4 : decode cX5_swapsAreOdd 4 = .ok (.invokevirtual 66, 3) := dk_182 0 66 (dk_at dksX5_swapsAreOdd_0 4 rfl rfl)
theorem dX5_swapsAreOdd_7 : decode cX5_swapsAreOdd 7 = .ok (.if_icmp .ge 110, 3) := dk_162 0 110 (dk_at dksX5_swapsAreOdd_0 7 rfl rfl)
theorem dX5_swapsAreOdd_10 : decode cX5_swapsAreOdd 10 = .ok (.aload_n 0, 1) := dk_42 (dk_at dksX5_swapsAreOdd_0 10 rfl rfl)
theorem dX5_swapsAreOdd_11 : decode cX5_swapsAreOdd 11 = .ok (.getfield 7, 3) := dk_180 0 7 (dk_at dksX5_swapsAreOdd_0 11 rfl rfl)
theorem dX5_swapsAreOdd_14 : decode cX5_swapsAreOdd 14 = .ok (.bipush 23, 2) := dk_16 23 (dk_at dksX5_swapsAreOdd_0 14 rfl rfl)
theorem dX5_swapsAreOdd_16 : decode cX5_swapsAreOdd 16 = .ok (.iload_n 1, 1) := dk_27 (dk_at dksX5_swapsAreOdd_0 16 rfl rfl)
theorem dX5_swapsAreOdd_17 : decode cX5_swapsAreOdd 17 = .ok (.iadd, 1) := dk_96 (dk_at dksX5_swapsAreOdd_0 17 rfl rfl)
theorem dX5_swapsAreOdd_18 : decode cX5_swapsAreOdd 18 = .ok (.iaload, 1) := dk_46 (dk_at dksX5_swapsAreOdd_0 18 rfl rfl)
theorem dX5_swapsAreOdd_19 : decode cX5_swapsAreOdd 19 = .ok (.istore_n 2, 1) := dk_61 (dk_at dksX5_swapsAreOdd_0 19 rfl rfl)
theorem dX5_swapsAreOdd_20 : decode cX5_swapsAreOdd 20 = .ok (.iconst 0, 1) := dk_3 (dk_at dksX5_swapsAreOdd_0 20 rfl rfl)
theorem dX5_swapsAreOdd_21 : decode cX5_swapsAreOdd 21 = .ok (.istore_n 3, 1) := dk_62 (dk_at dksX5_swapsAreOdd_0 21 rfl rfl)
theorem dX5_swapsAreOdd_22 : decode cX5_swapsAreOdd 22 = .ok (.iload_n 3, 1) := dk_29 (dk_at dksX5_swapsAreOdd_0 22 rfl rfl)
theorem dX5_swapsAreOdd_23 : decode cX5_swapsAreOdd 23 = .ok (.bipush 12, 2) := dk_16 12 (dk_at dksX5_swapsAreOdd_1 0 rfl rfl)
theorem dX5_swapsAreOdd_25 : decode cX5_swapsAreOdd 25 = .ok (.if_icmp .ge 41, 3) := dk_162 0 41 (dk_at dksX5_swapsAreOdd_1 2 rfl rfl)
theorem dX5_swapsAreOdd_28 : decode cX5_swapsAreOdd 28 = .ok (.iload_n 2, 1) := dk_28 (dk_at dksX5_swapsAreOdd_1 5 rfl rfl)
theorem dX5_swapsAreOdd_29 : decode cX5_swapsAreOdd 29 = .ok (.iconst (-1), 1) := dk_2 (dk_at dksX5_swapsAreOdd_1 6 rfl rfl)
theorem dX5_swapsAreOdd_30 : decode cX5_swapsAreOdd 30 = .ok (.if_icmp .ne 36, 3) := dk_160 0 36 (dk_at dksX5_swapsAreOdd_1 7 rfl rfl)
theorem dX5_swapsAreOdd_33 : decode cX5_swapsAreOdd 33 = .ok (.aload_n 0, 1) := dk_42 (dk_at dksX5_swapsAreOdd_1 10 rfl rfl)
theorem dX5_swapsAreOdd_34 : decode cX5_swapsAreOdd 34 = .ok (.bipush 14, 2) := dk_16 14 (dk_at dksX5_swapsAreOdd_1 11 rfl rfl)
theorem dX5_swapsAreOdd_36 : decode cX5_swapsAreOdd 36 = .ok (.iload_n 3, 1) := dk_29 (dk_at dksX5_swapsAreOdd_1 13 rfl rfl)
theorem dX5_swapsAreOdd_37 : decode cX5_swapsAreOdd 37 = .ok (.invokevirtual 174, 3) := dk_182 0 174 (dk_at dksX5_swapsAreOdd_1 14 rfl rfl)
theorem dX5_swapsAreOdd_40 : decode cX5_swapsAreOdd 40 = .ok (.iconst 1, 1) := dk_4 (dk_at dksX5_swapsAreOdd_1 17 rfl rfl)
theorem dX5_swapsAreOdd_41 : decode cX5_swapsAreOdd 41 = .ok (.if_icmp .ne 17, 3) := dk_160 0 17 (dk_at dksX5_swapsAreOdd_1 18 rfl rfl)
theorem dX5_swapsAreOdd_44 : decode cX5_swapsAreOdd 44 = .ok (.aload_n 0, 1) := dk_42 (dk_at dksX5_swapsAreOdd_1 21 rfl rfl)
theorem dX5_swapsAreOdd_45 : decode cX5_swapsAreOdd 45 = .ok (.bipush 23, 2) := dk_16 23 (dk_at dksX5_swapsAreOdd_1 22 rfl rfl)
theorem dX5_swapsAreOdd_47 : decode cX5_swapsAreOdd 47 = .ok (.iload_n 3, 1) := dk_29 (dk_at dksX5_swapsAreOdd_2 0 rfl rfl)
theorem dX5_swapsAreOdd_48 : decode cX5_swapsAreOdd 48 = .ok (.invokevirtual 174, 3) := dk_182 0 174 (dk_at dksX5_swapsAreOdd_2 1 rfl rfl)
theorem dX5_swapsAreOdd_51 : decode cX5_swapsAreOdd 51 = .ok (.ifCond .ne 7, 3) := dk_154 0 7 (dk_at dksX5_swapsAreOdd_2 4 rfl rfl)
theorem dX5_swapsAreOdd_54 : decode cX5_swapsAreOdd 54 = .ok (.iload_n 3, 1) := dk_29 (dk_at dksX5_swapsAreOdd_2 7 rfl rfl)
theorem dX5_swapsAreOdd_55 : decode cX5_swapsAreOdd 55 = .ok (.goto 4, 3) := dk_167 0 4 (dk_at dksX5_swapsAreOdd_2 8 rfl rfl)
theorem dX5_swapsAreOdd_58 : decode cX5_swapsAreOdd 58 = .ok (.iconst (-1), 1) := dk_2 (dk_at dksX5_swapsAreOdd_2 11 rfl rfl)
theorem dX5_swapsAreOdd_59 : decode cX5_swapsAreOdd 59 = .ok (.istore_n 2, 1) := dk_61 (dk_at dksX5_swapsAreOdd_2 12 rfl rfl)
theorem dX5_swapsAreOdd_60 : decode cX5_swapsAreOdd 60 = .ok (.iinc 3 1, 3) := dk_132 3 1 (dk_at dksX5_swapsAreOdd_2 13 rfl rfl)
theorem dX5_swapsAreOdd_63 : decode cX5_swapsAreOdd 63 = .ok (.goto (-41), 3) := dk_167 255 215 (dk_at dksX5_swapsAreOdd_2 16 rfl rfl)
theorem dX5_swapsAreOdd_66 : decode cX5_swapsAreOdd 66 = .ok (.iconst 0, 1) := dk_3 (dk_at dksX5_swapsAreOdd_2 19 rfl rfl)
theorem dX5_swapsAreOdd_67 : decode cX5_swapsAreOdd 67 = .ok (.istore_n 3, 1) := dk_62 (dk_at dksX5_swapsAreOdd_2 20 rfl rfl)
theorem dX5_swapsAreOdd_68 : decode cX5_swapsAreOdd 68 = .ok (.iload_n 3, 1) := dk_29 (dk_at dksX5_swapsAreOdd_2 21 rfl rfl)
theorem dX5_swapsAreOdd_69 : decode cX5_swapsAreOdd 69 = .ok (.aload_n 0, 1) := dk_42 (dk_at dksX5_swapsAreOdd_2 22 rfl rfl)
theorem dX5_swapsAreOdd_70 : decode cX5_swapsAreOdd 70 = .ok (.invokevirtual 66, 3) := dk_182 0 66 (dk_at dksX5_swapsAreOdd_3 0 rfl rfl)
theorem dX5_swapsAreOdd_73 : decode cX5_swapsAreOdd 73 = .ok (.if_icmp .ge 38, 3) := dk_162 0 38 (dk_at dksX5_swapsAreOdd_3 3 rfl rfl)
theorem dX5_swapsAreOdd_76 : decode cX5_swapsAreOdd 76 = .ok (.aload_n 0, 1) := dk_42 (dk_at dksX5_swapsAreOdd_3 6 rfl rfl)
theorem dX5_swapsAreOdd_77 : decode cX5_swapsAreOdd 77 = .ok (.getfield 36, 3) := dk_180 0 36 (dk_at dksX5_swapsAreOdd_3 7 rfl rfl)
theorem dX5_swapsAreOdd_80 : decode cX5_swapsAreOdd 80 = .ok (.iload_n 1, 1) := dk_27 (dk_at dksX5_swapsAreOdd_3 10 rfl rfl)
theorem dX5_swapsAreOdd_81 : decode cX5_swapsAreOdd 81 = .ok (.aload_n 0, 1) := dk_42 (dk_at dksX5_swapsAreOdd_3 11 rfl rfl)
theorem dX5_swapsAreOdd_82 : decode cX5_swapsAreOdd 82 = .ok (.getfield 7, 3) := dk_180 0 7 (dk_at dksX5_swapsAreOdd_3 12 rfl rfl)
theorem dX5_swapsAreOdd_85 : decode cX5_swapsAreOdd 85 = .ok (.bipush 14, 2) := dk_16 14 (dk_at dksX5_swapsAreOdd_3 15 rfl rfl)
theorem dX5_swapsAreOdd_87 : decode cX5_swapsAreOdd 87 = .ok (.iload_n 3, 1) := dk_29 (dk_at dksX5_swapsAreOdd_3 17 rfl rfl)
theorem dX5_swapsAreOdd_88 : decode cX5_swapsAreOdd 88 = .ok (.iadd, 1) := dk_96 (dk_at dksX5_swapsAreOdd_3 18 rfl rfl)
theorem dX5_swapsAreOdd_89 : decode cX5_swapsAreOdd 89 = .ok (.iaload, 1) := dk_46 (dk_at dksX5_swapsAreOdd_3 19 rfl rfl)
theorem dX5_swapsAreOdd_90 : decode cX5_swapsAreOdd 90 = .ok (.iload_n 2, 1) := dk_28 (dk_at dksX5_swapsAreOdd_3 20 rfl rfl)
theorem dX5_swapsAreOdd_91 : decode cX5_swapsAreOdd 91 = .ok (.if_icmp .ne 7, 3) := dk_160 0 7 (dk_at dksX5_swapsAreOdd_3 21 rfl rfl)
theorem dX5_swapsAreOdd_94 : decode cX5_swapsAreOdd 94 = .ok (.iload_n 3, 1) := dk_29 (dk_at dksX5_swapsAreOdd_4 0 rfl rfl)
theorem dX5_swapsAreOdd_95 : decode cX5_swapsAreOdd 95 = .ok (.goto 9, 3) := dk_167 0 9 (dk_at dksX5_swapsAreOdd_4 1 rfl rfl)
theorem dX5_swapsAreOdd_98 : decode cX5_swapsAreOdd 98 = .ok (.aload_n 0, 1) := dk_42 (dk_at dksX5_swapsAreOdd_4 4 rfl rfl)
theorem dX5_swapsAreOdd_99 : decode cX5_swapsAreOdd 99 = .ok (.getfield 36, 3) := dk_180 0 36 (dk_at dksX5_swapsAreOdd_4 5 rfl rfl)
theorem dX5_swapsAreOdd_102 : decode cX5_swapsAreOdd 102 = .ok (.iload_n 1, 1) := dk_27 (dk_at dksX5_swapsAreOdd_4 8 rfl rfl)
theorem dX5_swapsAreOdd_103 : decode cX5_swapsAreOdd 103 = .ok (.iaload, 1) := dk_46 (dk_at dksX5_swapsAreOdd_4 9 rfl rfl)
theorem dX5_swapsAreOdd_104 : decode cX5_swapsAreOdd 104 = .ok (.iastore, 1) := dk_79 (dk_at dksX5_swapsAreOdd_4 10 rfl rfl)
theorem dX5_swapsAreOdd_105 : decode cX5_swapsAreOdd 105 = .ok (.iinc 3 1, 3) := dk_132 3 1 (dk_at dksX5_swapsAreOdd_4 11 rfl rfl)
theorem dX5_swapsAreOdd_108 : decode cX5_swapsAreOdd 108 = .ok (.goto (-40), 3) := dk_167 255 216 (dk_at dksX5_swapsAreOdd_4 14 rfl rfl)
theorem dX5_swapsAreOdd_111 : decode cX5_swapsAreOdd 111 = .ok (.iinc 1 1, 3) := dk_132 1 1 (dk_at dksX5_swapsAreOdd_4 17 rfl rfl)
theorem dX5_swapsAreOdd_114 : decode cX5_swapsAreOdd 114 = .ok (.goto (-112), 3) := dk_167 255 144 (dk_at dksX5_swapsAreOdd_4 20 rfl rfl)
theorem dX5_swapsAreOdd_117 : decode cX5_swapsAreOdd 117 = .ok (.iconst 0, 1) := dk_3 (dk_at dksX5_swapsAreOdd_4 23 rfl rfl)
theorem dX5_swapsAreOdd_118 : decode cX5_swapsAreOdd 118 = .ok (.istore_n 1, 1) := dk_60 (dk_at dksX5_swapsAreOdd_5 0 rfl rfl)
theorem dX5_swapsAreOdd_119 : decode cX5_swapsAreOdd 119 = .ok (.iconst 0, 1) := dk_3 (dk_at dksX5_swapsAreOdd_5 1 rfl rfl)
theorem dX5_swapsAreOdd_120 : decode cX5_swapsAreOdd 120 = .ok (.istore_n 2, 1) := dk_61 (dk_at dksX5_swapsAreOdd_5 2 rfl rfl)
theorem dX5_swapsAreOdd_121 : decode cX5_swapsAreOdd 121 = .ok (.iload_n 2, 1) := dk_28 (dk_at dksX5_swapsAreOdd_5 3 rfl rfl)
theorem dX5_swapsAreOdd_122 : decode cX5_swapsAreOdd 122 = .ok (.aload_n 0, 1) := dk_42 (dk_at dksX5_swapsAreOdd_5 4 rfl rfl)
theorem dX5_swapsAreOdd_123 : decode cX5_swapsAreOdd 123 = .ok (.invokevirtual 66, 3) := dk_182 0 66 (dk_at dksX5_swapsAreOdd_5 5 rfl rfl)
theorem dX5_swapsAreOdd_126 : decode cX5_swapsAreOdd 126 = .ok (.if_icmp .ge 51, 3) := dk_162 0 51 (dk_at dksX5_swapsAreOdd_5 8 rfl rfl)
theorem dX5_swapsAreOdd_129 : decode cX5_swapsAreOdd 129 = .ok (.iconst 0, 1) := dk_3 (dk_at dksX5_swapsAreOdd_5 11 rfl rfl)
theorem dX5_swapsAreOdd_130 : decode cX5_swapsAreOdd 130 = .ok (.istore_n 3, 1) := dk_62 (dk_at dksX5_swapsAreOdd_5 12 rfl rfl)
theorem dX5_swapsAreOdd_131 : decode cX5_swapsAreOdd 131 = .ok (.iload_n 3, 1) := dk_29 (dk_at dksX5_swapsAreOdd_5 13 rfl rfl)
theorem dX5_swapsAreOdd_132 : decode cX5_swapsAreOdd 132 = .ok (.iload_n 2, 1) := dk_28 (dk_at dksX5_swapsAreOdd_5 14 rfl rfl)
theorem dX5_swapsAreOdd_133 : decode cX5_swapsAreOdd 133 = .ok (.if_icmp .ge 38, 3) := dk_162 0 38 (dk_at dksX5_swapsAreOdd_5 15 rfl rfl)
theorem dX5_swapsAreOdd_136 : decode cX5_swapsAreOdd 136 = .ok (.aload_n 0, 1) := dk_42 (dk_at dksX5_swapsAreOdd_5 18 rfl rfl)
theorem dX5_swapsAreOdd_137 : decode cX5_swapsAreOdd 137 = .ok (.getfield 36, 3) := dk_180 0 36 (dk_at dksX5_swapsAreOdd_5 19 rfl rfl)
theorem dX5_swapsAreOdd_140 : decode cX5_swapsAreOdd 140 = .ok (.iload_n 3, 1) := dk_29 (dk_at dksX5_swapsAreOdd_5 22 rfl rfl)
theorem dX5_swapsAreOdd_141 : decode cX5_swapsAreOdd 141 = .ok (.iaload, 1) := dk_46 (dk_at dksX5_swapsAreOdd_5 23 rfl rfl)
theorem dX5_swapsAreOdd_142 : decode cX5_swapsAreOdd 142 = .ok (.aload_n 0, 1) := dk_42 (dk_at dksX5_swapsAreOdd_6 0 rfl rfl)
theorem dX5_swapsAreOdd_143 : decode cX5_swapsAreOdd 143 = .ok (.getfield 36, 3) := dk_180 0 36 (dk_at dksX5_swapsAreOdd_6 1 rfl rfl)
theorem dX5_swapsAreOdd_146 : decode cX5_swapsAreOdd 146 = .ok (.iload_n 2, 1) := dk_28 (dk_at dksX5_swapsAreOdd_6 4 rfl rfl)
theorem dX5_swapsAreOdd_147 : decode cX5_swapsAreOdd 147 = .ok (.iaload, 1) := dk_46 (dk_at dksX5_swapsAreOdd_6 5 rfl rfl)
theorem dX5_swapsAreOdd_148 : decode cX5_swapsAreOdd 148 = .ok (.if_icmp .le 15, 3) := dk_164 0 15 (dk_at dksX5_swapsAreOdd_6 6 rfl rfl)
theorem dX5_swapsAreOdd_151 : decode cX5_swapsAreOdd 151 = .ok (.iload_n 1, 1) := dk_27 (dk_at dksX5_swapsAreOdd_6 9 rfl rfl)
theorem dX5_swapsAreOdd_152 : decode cX5_swapsAreOdd 152 = .ok (.ifCond .ne 7, 3) := dk_154 0 7 (dk_at dksX5_swapsAreOdd_6 10 rfl rfl)
theorem dX5_swapsAreOdd_155 : decode cX5_swapsAreOdd 155 = .ok (.iconst 1, 1) := dk_4 (dk_at dksX5_swapsAreOdd_6 13 rfl rfl)
theorem dX5_swapsAreOdd_156 : decode cX5_swapsAreOdd 156 = .ok (.goto 8, 3) := dk_167 0 8 (dk_at dksX5_swapsAreOdd_6 14 rfl rfl)
theorem dX5_swapsAreOdd_159 : decode cX5_swapsAreOdd 159 = .ok (.iconst 0, 1) := dk_3 (dk_at dksX5_swapsAreOdd_6 17 rfl rfl)
theorem dX5_swapsAreOdd_160 : decode cX5_swapsAreOdd 160 = .ok (.goto 4, 3) := dk_167 0 4 (dk_at dksX5_swapsAreOdd_6 18 rfl rfl)
theorem dX5_swapsAreOdd_163 : decode cX5_swapsAreOdd 163 = .ok (.iload_n 1, 1) := dk_27 (dk_at dksX5_swapsAreOdd_6 21 rfl rfl)
theorem dX5_swapsAreOdd_164 : decode cX5_swapsAreOdd 164 = .ok (.istore_n 1, 1) := dk_60 (dk_at dksX5_swapsAreOdd_6 22 rfl rfl)
theorem dX5_swapsAreOdd_165 : decode cX5_swapsAreOdd 165 = .ok (.iinc 3 1, 3) := dk_132 3 1 (dk_at dksX5_swapsAreOdd_7 0 rfl rfl)
theorem dX5_swapsAreOdd_168 : decode cX5_swapsAreOdd 168 = .ok (.goto (-37), 3) := dk_167 255 219 (dk_at dksX5_swapsAreOdd_7 3 rfl rfl)
theorem dX5_swapsAreOdd_171 : decode cX5_swapsAreOdd 171 = .ok (.iinc 2 1, 3) := dk_132 2 1 (dk_at dksX5_swapsAreOdd_7 6 rfl rfl)
theorem dX5_swapsAreOdd_174 : decode cX5_swapsAreOdd 174 = .ok (.goto (-53), 3) := dk_167 255 203 (dk_at dksX5_swapsAreOdd_7 9 rfl rfl)
theorem dX5_swapsAreOdd_177 : decode cX5_swapsAreOdd 177 = .ok (.iload_n 1, 1) := dk_27 (dk_at dksX5_swapsAreOdd_7 12 rfl rfl)
theorem dX5_swapsAreOdd_178 : decode cX5_swapsAreOdd 178 = .ok (.ireturn, 1) := dk_172 (dk_at dksX5_swapsAreOdd_7 13 rfl rfl)
abbrev cX5_isOdd : ByteArray := prog_12_method_52_code
def yX5_isOdd : MethodName := ⟨RX5, "isOdd", "(Z)Z"⟩
def dkwX5_isOdd_2 : List UInt8 := [181, 0, 46, 28, 153, 0, 14, 42, 182, 0, 184, 153, 0, 7, 4, 167, 0, 4, 3, 172]
abbrev dktX5_isOdd_2 : List UInt8 := dkwX5_isOdd_2 ++ []
def dkwX5_isOdd_1 : List UInt8 := [182, 0, 174, 154, 0, 7, 4, 167, 0, 4, 3, 61, 42, 28, 153, 0, 7, 3, 167, 0, 4, 4]
abbrev dktX5_isOdd_1 : List UInt8 := dkwX5_isOdd_1 ++ dktX5_isOdd_2
def dkwX5_isOdd_0 : List UInt8 := [42, 182, 0, 181, 42, 182, 0, 66, 160, 0, 24, 42, 182, 0, 177, 154, 0, 17, 42, 16, 23, 2]
abbrev dktX5_isOdd_0 : List UInt8 := dkwX5_isOdd_0 ++ dktX5_isOdd_1
theorem dksX5_isOdd_0 : cX5_isOdd.data.toList.drop 0 = dktX5_isOdd_0 := by decide +kernel
theorem dksX5_isOdd_1 : cX5_isOdd.data.toList.drop 22 = dktX5_isOdd_1 := dk_seg dksX5_isOdd_0 22 rfl rfl
theorem dksX5_isOdd_2 : cX5_isOdd.data.toList.drop 44 = dktX5_isOdd_2 := dk_seg dksX5_isOdd_1 22 rfl rfl
theorem dX5_isOdd_0 : decode cX5_isOdd 0 = .ok (.aload_n 0, 1) := dk_42 (dk_at dksX5_isOdd_0 0 rfl rfl)
theorem dX5_isOdd_1 : decode cX5_isOdd 1 = .ok (.invokevirtual 181, 3) := dk_182 0 181 (dk_at dksX5_isOdd_0 1 rfl rfl)
theorem dX5_isOdd_4 : decode cX5_isOdd 4 = .ok (.aload_n 0, 1) := dk_42 (dk_at dksX5_isOdd_0 4 rfl rfl)
theorem dX5_isOdd_5 : decode cX5_isOdd 5 = .ok (.invokevirtual 66, 3) := dk_182 0 66 (dk_at dksX5_isOdd_0 5 rfl rfl)
theorem dX5_isOdd_8 : decode cX5_isOdd 8 = .ok (.if_icmp .ne 24, 3) := dk_160 0 24 (dk_at dksX5_isOdd_0 8 rfl rfl)
theorem dX5_isOdd_11 : decode cX5_isOdd 11 = .ok (.aload_n 0, 1) := dk_42 (dk_at dksX5_isOdd_0 11 rfl rfl)
theorem dX5_isOdd_12 : decode cX5_isOdd 12 = .ok (.invokevirtual 177, 3) := dk_182 0 177 (dk_at dksX5_isOdd_0 12 rfl rfl)
theorem dX5_isOdd_15 : decode cX5_isOdd 15 = .ok (.ifCond .ne 17, 3) := dk_154 0 17 (dk_at dksX5_isOdd_0 15 rfl rfl)
theorem dX5_isOdd_18 : decode cX5_isOdd 18 = .ok (.aload_n 0, 1) := dk_42 (dk_at dksX5_isOdd_0 18 rfl rfl)
theorem dX5_isOdd_19 : decode cX5_isOdd 19 = .ok (.bipush 23, 2) := dk_16 23 (dk_at dksX5_isOdd_0 19 rfl rfl)
theorem dX5_isOdd_21 : decode cX5_isOdd 21 = .ok (.iconst (-1), 1) := dk_2 (dk_at dksX5_isOdd_0 21 rfl rfl)
theorem dX5_isOdd_22 : decode cX5_isOdd 22 = .ok (.invokevirtual 174, 3) := dk_182 0 174 (dk_at dksX5_isOdd_1 0 rfl rfl)
theorem dX5_isOdd_25 : decode cX5_isOdd 25 = .ok (.ifCond .ne 7, 3) := dk_154 0 7 (dk_at dksX5_isOdd_1 3 rfl rfl)
theorem dX5_isOdd_28 : decode cX5_isOdd 28 = .ok (.iconst 1, 1) := dk_4 (dk_at dksX5_isOdd_1 6 rfl rfl)
theorem dX5_isOdd_29 : decode cX5_isOdd 29 = .ok (.goto 4, 3) := dk_167 0 4 (dk_at dksX5_isOdd_1 7 rfl rfl)
theorem dX5_isOdd_32 : decode cX5_isOdd 32 = .ok (.iconst 0, 1) := dk_3 (dk_at dksX5_isOdd_1 10 rfl rfl)
theorem dX5_isOdd_33 : decode cX5_isOdd 33 = .ok (.istore_n 2, 1) := dk_61 (dk_at dksX5_isOdd_1 11 rfl rfl)
theorem dX5_isOdd_34 : decode cX5_isOdd 34 = .ok (.aload_n 0, 1) := dk_42 (dk_at dksX5_isOdd_1 12 rfl rfl)
theorem dX5_isOdd_35 : decode cX5_isOdd 35 = .ok (.iload_n 2, 1) := dk_28 (dk_at dksX5_isOdd_1 13 rfl rfl)
theorem dX5_isOdd_36 : decode cX5_isOdd 36 = .ok (.ifCond .eq 7, 3) := dk_153 0 7 (dk_at dksX5_isOdd_1 14 rfl rfl)
theorem dX5_isOdd_39 : decode cX5_isOdd 39 = .ok (.iconst 0, 1) := dk_3 (dk_at dksX5_isOdd_1 17 rfl rfl)
theorem dX5_isOdd_40 : decode cX5_isOdd 40 = .ok (.goto 4, 3) := dk_167 0 4 (dk_at dksX5_isOdd_1 18 rfl rfl)
theorem dX5_isOdd_43 : decode cX5_isOdd 43 = .ok (.iconst 1, 1) := dk_4 (dk_at dksX5_isOdd_1 21 rfl rfl)
theorem dX5_isOdd_44 : decode cX5_isOdd 44 = .ok (.putfield 46, 3) := dk_181 0 46 (dk_at dksX5_isOdd_2 0 rfl rfl)
theorem dX5_isOdd_47 : decode cX5_isOdd 47 = .ok (.iload_n 2, 1) := dk_28 (dk_at dksX5_isOdd_2 3 rfl rfl)
theorem dX5_isOdd_48 : decode cX5_isOdd 48 = .ok (.ifCond .eq 14, 3) := dk_153 0 14 (dk_at dksX5_isOdd_2 4 rfl rfl)
theorem dX5_isOdd_51 : decode cX5_isOdd 51 = .ok (.aload_n 0, 1) := dk_42 (dk_at dksX5_isOdd_2 7 rfl rfl)
theorem dX5_isOdd_52 : decode cX5_isOdd 52 = .ok (.invokevirtual 184, 3) := dk_182 0 184 (dk_at dksX5_isOdd_2 8 rfl rfl)
theorem dX5_isOdd_55 : decode cX5_isOdd 55 = .ok (.ifCond .eq 7, 3) := dk_153 0 7 (dk_at dksX5_isOdd_2 11 rfl rfl)
theorem dX5_isOdd_58 : decode cX5_isOdd 58 = .ok (.iconst 1, 1) := dk_4 (dk_at dksX5_isOdd_2 14 rfl rfl)
theorem dX5_isOdd_59 : decode cX5_isOdd 59 = .ok (.goto 4, 3) := dk_167 0 4 (dk_at dksX5_isOdd_2 15 rfl rfl)
theorem dX5_isOdd_62 : decode cX5_isOdd 62 = .ok (.iconst 0, 1) := dk_3 (dk_at dksX5_isOdd_2 18 rfl rfl)
theorem dX5_isOdd_63 : decode cX5_isOdd 63 = .ok (.ireturn, 1) := dk_172 (dk_at dksX5_isOdd_2 19 rfl rfl)
abbrev cX5_step : ByteArray := prog_12_method_54_code
def yX5_step : MethodName := ⟨RX5, "step", "()I"⟩
def dkwX5_step_0 : List UInt8 := [42, 182, 0, 84, 42, 42, 182, 0, 190, 182, 0, 91, 172]
abbrev dktX5_step_0 : List UInt8 := dkwX5_step_0 ++ []
theorem dksX5_step_0 : cX5_step.data.toList.drop 0 = dktX5_step_0 := by decide +kernel
theorem dX5_step_0 : decode cX5_step 0 = .ok (.aload_n 0, 1) := dk_42 (dk_at dksX5_step_0 0 rfl rfl)
theorem dX5_step_1 : decode cX5_step 1 = .ok (.invokevirtual 84, 3) := dk_182 0 84 (dk_at dksX5_step_0 1 rfl rfl)
theorem dX5_step_4 : decode cX5_step 4 = .ok (.aload_n 0, 1) := dk_42 (dk_at dksX5_step_0 4 rfl rfl)
theorem dX5_step_5 : decode cX5_step 5 = .ok (.aload_n 0, 1) := dk_42 (dk_at dksX5_step_0 5 rfl rfl)
theorem dX5_step_6 : decode cX5_step 6 = .ok (.invokevirtual 190, 3) := dk_182 0 190 (dk_at dksX5_step_0 6 rfl rfl)
theorem dX5_step_9 : decode cX5_step 9 = .ok (.invokevirtual 91, 3) := dk_182 0 91 (dk_at dksX5_step_0 9 rfl rfl)
theorem dX5_step_12 : decode cX5_step 12 = .ok (.ireturn, 1) := dk_172 (dk_at dksX5_step_0 12 rfl rfl)
abbrev cX5_steps : ByteArray := prog_12_method_53_code
def yX5_steps : MethodName := ⟨RX5, "steps", "()I"⟩
def dkwX5_steps_3 : List UInt8 := [180, 0, 7, 8, 92, 46, 4, 96, 79, 42, 28, 182, 0, 81, 172]
abbrev dktX5_steps_3 : List UInt8 := dkwX5_steps_3 ++ []
def dkwX5_steps_2 : List UInt8 := [2, 160, 0, 9, 42, 5, 182, 0, 77, 172, 42, 180, 0, 164, 61, 42, 28, 182, 0, 146, 60, 42]
abbrev dktX5_steps_2 : List UInt8 := dkwX5_steps_2 ++ dktX5_steps_3
def dkwX5_steps_1 : List UInt8 := [42, 182, 0, 187, 153, 0, 16, 42, 7, 42, 182, 0, 66, 27, 100, 4, 182, 0, 94, 172, 42, 182, 0, 171]
abbrev dktX5_steps_1 : List UInt8 := dkwX5_steps_1 ++ dktX5_steps_2
def dkwX5_steps_0 : List UInt8 := [42, 182, 0, 134, 60, 27, 42, 182, 0, 66, 160, 0, 14, 42, 8, 42, 182, 0, 66, 4, 182, 0, 94, 172]
abbrev dktX5_steps_0 : List UInt8 := dkwX5_steps_0 ++ dktX5_steps_1
theorem dksX5_steps_0 : cX5_steps.data.toList.drop 0 = dktX5_steps_0 := by decide +kernel
theorem dksX5_steps_1 : cX5_steps.data.toList.drop 24 = dktX5_steps_1 := dk_seg dksX5_steps_0 24 rfl rfl
theorem dksX5_steps_2 : cX5_steps.data.toList.drop 48 = dktX5_steps_2 := dk_seg dksX5_steps_1 24 rfl rfl
theorem dksX5_steps_3 : cX5_steps.data.toList.drop 70 = dktX5_steps_3 := dk_seg dksX5_steps_2 22 rfl rfl
theorem dX5_steps_0 : decode cX5_steps 0 = .ok (.aload_n 0, 1) := dk_42 (dk_at dksX5_steps_0 0 rfl rfl)
theorem dX5_steps_1 : decode cX5_steps 1 = .ok (.invokevirtual 134, 3) := dk_182 0 134 (dk_at dksX5_steps_0 1 rfl rfl)
theorem dX5_steps_4 : decode cX5_steps 4 = .ok (.istore_n 1, 1) := dk_60 (dk_at dksX5_steps_0 4 rfl rfl)
theorem dX5_steps_5 : decode cX5_steps 5 = .ok (.iload_n 1, 1) := dk_27 (dk_at dksX5_steps_0 5 rfl rfl)
theorem dX5_steps_6 : decode cX5_steps 6 = .ok (.aload_n 0, 1) := dk_42 (dk_at dksX5_steps_0 6 rfl rfl)
theorem dX5_steps_7 : decode cX5_steps 7 = .ok (.invokevirtual 66, 3) := dk_182 0 66 (dk_at dksX5_steps_0 7 rfl rfl)
theorem dX5_steps_10 : decode cX5_steps 10 = .ok (.if_icmp .ne 14, 3) := dk_160 0 14 (dk_at dksX5_steps_0 10 rfl rfl)
theorem dX5_steps_13 : decode cX5_steps 13 = .ok (.aload_n 0, 1) := dk_42 (dk_at dksX5_steps_0 13 rfl rfl)
theorem dX5_steps_14 : decode cX5_steps 14 = .ok (.iconst 5, 1) := dk_8 (dk_at dksX5_steps_0 14 rfl rfl)
theorem dX5_steps_15 : decode cX5_steps 15 = .ok (.aload_n 0, 1) := dk_42 (dk_at dksX5_steps_0 15 rfl rfl)
theorem dX5_steps_16 : decode cX5_steps 16 = .ok (.invokevirtual 66, 3) := dk_182 0 66 (dk_at dksX5_steps_0 16 rfl rfl)
theorem dX5_steps_19 : decode cX5_steps 19 = .ok (.iconst 1, 1) := dk_4 (dk_at dksX5_steps_0 19 rfl rfl)
theorem dX5_steps_20 : decode cX5_steps 20 = .ok (.invokevirtual 94, 3) := dk_182 0 94 (dk_at dksX5_steps_0 20 rfl rfl)
theorem dX5_steps_23 : decode cX5_steps 23 = .ok (.ireturn, 1) := dk_172 (dk_at dksX5_steps_0 23 rfl rfl)
theorem dX5_steps_24 : decode cX5_steps 24 = .ok (.aload_n 0, 1) := dk_42 (dk_at dksX5_steps_1 0 rfl rfl)
theorem dX5_steps_25 : decode cX5_steps 25 = .ok (.invokevirtual 187, 3) := dk_182 0 187 (dk_at dksX5_steps_1 1 rfl rfl)
theorem dX5_steps_28 : decode cX5_steps 28 = .ok (.ifCond .eq 16, 3) := dk_153 0 16 (dk_at dksX5_steps_1 4 rfl rfl)
theorem dX5_steps_31 : decode cX5_steps 31 = .ok (.aload_n 0, 1) := dk_42 (dk_at dksX5_steps_1 7 rfl rfl)
theorem dX5_steps_32 : decode cX5_steps 32 = .ok (.iconst 4, 1) := dk_7 (dk_at dksX5_steps_1 8 rfl rfl)
theorem dX5_steps_33 : decode cX5_steps 33 = .ok (.aload_n 0, 1) := dk_42 (dk_at dksX5_steps_1 9 rfl rfl)
theorem dX5_steps_34 : decode cX5_steps 34 = .ok (.invokevirtual 66, 3) := dk_182 0 66 (dk_at dksX5_steps_1 10 rfl rfl)
theorem dX5_steps_37 : decode cX5_steps 37 = .ok (.iload_n 1, 1) := dk_27 (dk_at dksX5_steps_1 13 rfl rfl)
theorem dX5_steps_38 : decode cX5_steps 38 = .ok (.isub, 1) := dk_100 (dk_at dksX5_steps_1 14 rfl rfl)
theorem dX5_steps_39 : decode cX5_steps 39 = .ok (.iconst 1, 1) := dk_4 (dk_at dksX5_steps_1 15 rfl rfl)
theorem dX5_steps_40 : decode cX5_steps 40 = .ok (.invokevirtual 94, 3) := dk_182 0 94 (dk_at dksX5_steps_1 16 rfl rfl)
theorem dX5_steps_43 : decode cX5_steps 43 = .ok (.ireturn, 1) := dk_172 (dk_at dksX5_steps_1 19 rfl rfl)
theorem dX5_steps_44 : decode cX5_steps 44 = .ok (.aload_n 0, 1) := dk_42 (dk_at dksX5_steps_1 20 rfl rfl)
theorem dX5_steps_45 : decode cX5_steps 45 = .ok (.invokevirtual 171, 3) := dk_182 0 171 (dk_at dksX5_steps_1 21 rfl rfl)
theorem dX5_steps_48 : decode cX5_steps 48 = .ok (.iconst (-1), 1) := dk_2 (dk_at dksX5_steps_2 0 rfl rfl)
theorem dX5_steps_49 : decode cX5_steps 49 = .ok (.if_icmp .ne 9, 3) := dk_160 0 9 (dk_at dksX5_steps_2 1 rfl rfl)
theorem dX5_steps_52 : decode cX5_steps 52 = .ok (.aload_n 0, 1) := dk_42 (dk_at dksX5_steps_2 4 rfl rfl)
theorem dX5_steps_53 : decode cX5_steps 53 = .ok (.iconst 2, 1) := dk_5 (dk_at dksX5_steps_2 5 rfl rfl)
theorem dX5_steps_54 : decode cX5_steps 54 = .ok (.invokevirtual 77, 3) := dk_182 0 77 (dk_at dksX5_steps_2 6 rfl rfl)
theorem dX5_steps_57 : decode cX5_steps 57 = .ok (.ireturn, 1) := dk_172 (dk_at dksX5_steps_2 9 rfl rfl)
theorem dX5_steps_58 : decode cX5_steps 58 = .ok (.aload_n 0, 1) := dk_42 (dk_at dksX5_steps_2 10 rfl rfl)
theorem dX5_steps_59 : decode cX5_steps 59 = .ok (.getfield 164, 3) := dk_180 0 164 (dk_at dksX5_steps_2 11 rfl rfl)
theorem dX5_steps_62 : decode cX5_steps 62 = .ok (.istore_n 2, 1) := dk_61 (dk_at dksX5_steps_2 14 rfl rfl)
theorem dX5_steps_63 : decode cX5_steps 63 = .ok (.aload_n 0, 1) := dk_42 (dk_at dksX5_steps_2 15 rfl rfl)
theorem dX5_steps_64 : decode cX5_steps 64 = .ok (.iload_n 2, 1) := dk_28 (dk_at dksX5_steps_2 16 rfl rfl)
theorem dX5_steps_65 : decode cX5_steps 65 = .ok (.invokevirtual 146, 3) := dk_182 0 146 (dk_at dksX5_steps_2 17 rfl rfl)
theorem dX5_steps_68 : decode cX5_steps 68 = .ok (.istore_n 1, 1) := dk_60 (dk_at dksX5_steps_2 20 rfl rfl)
theorem dX5_steps_69 : decode cX5_steps 69 = .ok (.aload_n 0, 1) := dk_42 (dk_at dksX5_steps_2 21 rfl rfl)
theorem dX5_steps_70 : decode cX5_steps 70 = .ok (.getfield 7, 3) := dk_180 0 7 (dk_at dksX5_steps_3 0 rfl rfl)
theorem dX5_steps_73 : decode cX5_steps 73 = .ok (.iconst 5, 1) := dk_8 (dk_at dksX5_steps_3 3 rfl rfl)
theorem dX5_steps_74 : decode cX5_steps 74 = .ok (.dup2, 1) := dk_92 (dk_at dksX5_steps_3 4 rfl rfl)
theorem dX5_steps_75 : decode cX5_steps 75 = .ok (.iaload, 1) := dk_46 (dk_at dksX5_steps_3 5 rfl rfl)
theorem dX5_steps_76 : decode cX5_steps 76 = .ok (.iconst 1, 1) := dk_4 (dk_at dksX5_steps_3 6 rfl rfl)
theorem dX5_steps_77 : decode cX5_steps 77 = .ok (.iadd, 1) := dk_96 (dk_at dksX5_steps_3 7 rfl rfl)
theorem dX5_steps_78 : decode cX5_steps 78 = .ok (.iastore, 1) := dk_79 (dk_at dksX5_steps_3 8 rfl rfl)
theorem dX5_steps_79 : decode cX5_steps 79 = .ok (.aload_n 0, 1) := dk_42 (dk_at dksX5_steps_3 9 rfl rfl)
theorem dX5_steps_80 : decode cX5_steps 80 = .ok (.iload_n 2, 1) := dk_28 (dk_at dksX5_steps_3 10 rfl rfl)
theorem dX5_steps_81 : decode cX5_steps 81 = .ok (.invokevirtual 81, 3) := dk_182 0 81 (dk_at dksX5_steps_3 11 rfl rfl)
theorem dX5_steps_84 : decode cX5_steps 84 = .ok (.ireturn, 1) := dk_172 (dk_at dksX5_steps_3 14 rfl rfl)
abbrev cX5_letter : ByteArray := prog_12_method_55_code
def yX5_letter : MethodName := ⟨RX5, "letter", "(I)C"⟩
def dkwX5_letter_1 : List UInt8 := [42, 180, 0, 7, 16, 14, 27, 96, 46, 184, 0, 98, 167, 0, 4, 3, 172]
abbrev dktX5_letter_1 : List UInt8 := dkwX5_letter_1 ++ []
def dkwX5_letter_0 : List UInt8 := [42, 42, 27, 182, 0, 102, 153, 0, 7, 3, 167, 0, 4, 4, 181, 0, 46, 42, 180, 0, 46, 154, 0, 18]
abbrev dktX5_letter_0 : List UInt8 := dkwX5_letter_0 ++ dktX5_letter_1
theorem dksX5_letter_0 : cX5_letter.data.toList.drop 0 = dktX5_letter_0 := by decide +kernel
theorem dksX5_letter_1 : cX5_letter.data.toList.drop 24 = dktX5_letter_1 := dk_seg dksX5_letter_0 24 rfl rfl
theorem dX5_letter_0 : decode cX5_letter 0 = .ok (.aload_n 0, 1) := dk_42 (dk_at dksX5_letter_0 0 rfl rfl)
theorem dX5_letter_1 : decode cX5_letter 1 = .ok (.aload_n 0, 1) := dk_42 (dk_at dksX5_letter_0 1 rfl rfl)
theorem dX5_letter_2 : decode cX5_letter 2 = .ok (.iload_n 1, 1) := dk_27 (dk_at dksX5_letter_0 2 rfl rfl)
theorem dX5_letter_3 : decode cX5_letter 3 = .ok (.invokevirtual 102, 3) := dk_182 0 102 (dk_at dksX5_letter_0 3 rfl rfl)
theorem dX5_letter_6 : decode cX5_letter 6 = .ok (.ifCond .eq 7, 3) := dk_153 0 7 (dk_at dksX5_letter_0 6 rfl rfl)
theorem dX5_letter_9 : decode cX5_letter 9 = .ok (.iconst 0, 1) := dk_3 (dk_at dksX5_letter_0 9 rfl rfl)
theorem dX5_letter_10 : decode cX5_letter 10 = .ok (.goto 4, 3) := dk_167 0 4 (dk_at dksX5_letter_0 10 rfl rfl)
theorem dX5_letter_13 : decode cX5_letter 13 = .ok (.iconst 1, 1) := dk_4 (dk_at dksX5_letter_0 13 rfl rfl)
theorem dX5_letter_14 : decode cX5_letter 14 = .ok (.putfield 46, 3) := dk_181 0 46 (dk_at dksX5_letter_0 14 rfl rfl)
theorem dX5_letter_17 : decode cX5_letter 17 = .ok (.aload_n 0, 1) := dk_42 (dk_at dksX5_letter_0 17 rfl rfl)
theorem dX5_letter_18 : decode cX5_letter 18 = .ok (.getfield 46, 3) := dk_180 0 46 (dk_at dksX5_letter_0 18 rfl rfl)
theorem dX5_letter_21 : decode cX5_letter 21 = .ok (.ifCond .ne 18, 3) := dk_154 0 18 (dk_at dksX5_letter_0 21 rfl rfl)
theorem dX5_letter_24 : decode cX5_letter 24 = .ok (.aload_n 0, 1) := dk_42 (dk_at dksX5_letter_1 0 rfl rfl)
theorem dX5_letter_25 : decode cX5_letter 25 = .ok (.getfield 7, 3) := dk_180 0 7 (dk_at dksX5_letter_1 1 rfl rfl)
theorem dX5_letter_28 : decode cX5_letter 28 = .ok (.bipush 14, 2) := dk_16 14 (dk_at dksX5_letter_1 4 rfl rfl)
theorem dX5_letter_30 : decode cX5_letter 30 = .ok (.iload_n 1, 1) := dk_27 (dk_at dksX5_letter_1 6 rfl rfl)
theorem dX5_letter_31 : decode cX5_letter 31 = .ok (.iadd, 1) := dk_96 (dk_at dksX5_letter_1 7 rfl rfl)
theorem dX5_letter_32 : decode cX5_letter 32 = .ok (.iaload, 1) := dk_46 (dk_at dksX5_letter_1 8 rfl rfl)
theorem dX5_letter_33 : decode cX5_letter 33 = .ok (.invokestatic 98, 3) := dk_184 0 98 (dk_at dksX5_letter_1 9 rfl rfl)
theorem dX5_letter_36 : decode cX5_letter 36 = .ok (.goto 4, 3) := dk_167 0 4 (dk_at dksX5_letter_1 12 rfl rfl)
theorem dX5_letter_39 : decode cX5_letter 39 = .ok (.iconst 0, 1) := dk_3 (dk_at dksX5_letter_1 15 rfl rfl)
theorem dX5_letter_40 : decode cX5_letter 40 = .ok (.ireturn, 1) := dk_172 (dk_at dksX5_letter_1 16 rfl rfl)
abbrev cX5_sign : ByteArray := prog_12_method_56_code
def yX5_sign : MethodName := ⟨RX5, "sign", "(I)C"⟩
def dkwX5_sign_1 : List UInt8 := [42, 180, 0, 7, 16, 23, 27, 96, 46, 184, 0, 98, 167, 0, 4, 3, 172]
abbrev dktX5_sign_1 : List UInt8 := dkwX5_sign_1 ++ []
def dkwX5_sign_0 : List UInt8 := [42, 42, 27, 182, 0, 102, 153, 0, 7, 3, 167, 0, 4, 4, 181, 0, 46, 42, 180, 0, 46, 154, 0, 18]
abbrev dktX5_sign_0 : List UInt8 := dkwX5_sign_0 ++ dktX5_sign_1
theorem dksX5_sign_0 : cX5_sign.data.toList.drop 0 = dktX5_sign_0 := by decide +kernel
theorem dksX5_sign_1 : cX5_sign.data.toList.drop 24 = dktX5_sign_1 := dk_seg dksX5_sign_0 24 rfl rfl
theorem dX5_sign_0 : decode cX5_sign 0 = .ok (.aload_n 0, 1) := dk_42 (dk_at dksX5_sign_0 0 rfl rfl)
theorem dX5_sign_1 : decode cX5_sign 1 = .ok (.aload_n 0, 1) := dk_42 (dk_at dksX5_sign_0 1 rfl rfl)
theorem dX5_sign_2 : decode cX5_sign 2 = .ok (.iload_n 1, 1) := dk_27 (dk_at dksX5_sign_0 2 rfl rfl)
theorem dX5_sign_3 : decode cX5_sign 3 = .ok (.invokevirtual 102, 3) := dk_182 0 102 (dk_at dksX5_sign_0 3 rfl rfl)
theorem dX5_sign_6 : decode cX5_sign 6 = .ok (.ifCond .eq 7, 3) := dk_153 0 7 (dk_at dksX5_sign_0 6 rfl rfl)
theorem dX5_sign_9 : decode cX5_sign 9 = .ok (.iconst 0, 1) := dk_3 (dk_at dksX5_sign_0 9 rfl rfl)
theorem dX5_sign_10 : decode cX5_sign 10 = .ok (.goto 4, 3) := dk_167 0 4 (dk_at dksX5_sign_0 10 rfl rfl)
theorem dX5_sign_13 : decode cX5_sign 13 = .ok (.iconst 1, 1) := dk_4 (dk_at dksX5_sign_0 13 rfl rfl)
theorem dX5_sign_14 : decode cX5_sign 14 = .ok (.putfield 46, 3) := dk_181 0 46 (dk_at dksX5_sign_0 14 rfl rfl)
theorem dX5_sign_17 : decode cX5_sign 17 = .ok (.aload_n 0, 1) := dk_42 (dk_at dksX5_sign_0 17 rfl rfl)
theorem dX5_sign_18 : decode cX5_sign 18 = .ok (.getfield 46, 3) := dk_180 0 46 (dk_at dksX5_sign_0 18 rfl rfl)
theorem dX5_sign_21 : decode cX5_sign 21 = .ok (.ifCond .ne 18, 3) := dk_154 0 18 (dk_at dksX5_sign_0 21 rfl rfl)
theorem dX5_sign_24 : decode cX5_sign 24 = .ok (.aload_n 0, 1) := dk_42 (dk_at dksX5_sign_1 0 rfl rfl)
theorem dX5_sign_25 : decode cX5_sign 25 = .ok (.getfield 7, 3) := dk_180 0 7 (dk_at dksX5_sign_1 1 rfl rfl)
theorem dX5_sign_28 : decode cX5_sign 28 = .ok (.bipush 23, 2) := dk_16 23 (dk_at dksX5_sign_1 4 rfl rfl)
theorem dX5_sign_30 : decode cX5_sign 30 = .ok (.iload_n 1, 1) := dk_27 (dk_at dksX5_sign_1 6 rfl rfl)
theorem dX5_sign_31 : decode cX5_sign 31 = .ok (.iadd, 1) := dk_96 (dk_at dksX5_sign_1 7 rfl rfl)
theorem dX5_sign_32 : decode cX5_sign 32 = .ok (.iaload, 1) := dk_46 (dk_at dksX5_sign_1 8 rfl rfl)
theorem dX5_sign_33 : decode cX5_sign 33 = .ok (.invokestatic 98, 3) := dk_184 0 98 (dk_at dksX5_sign_1 9 rfl rfl)
theorem dX5_sign_36 : decode cX5_sign 36 = .ok (.goto 4, 3) := dk_167 0 4 (dk_at dksX5_sign_1 12 rfl rfl)
theorem dX5_sign_39 : decode cX5_sign 39 = .ok (.iconst 0, 1) := dk_3 (dk_at dksX5_sign_1 15 rfl rfl)
theorem dX5_sign_40 : decode cX5_sign 40 = .ok (.ireturn, 1) := dk_172 (dk_at dksX5_sign_1 16 rfl rfl)
abbrev cX5_isBarred : ByteArray := prog_12_method_57_code
def yX5_isBarred : MethodName := ⟨RX5, "isBarred", "(I)Z"⟩
def dkwX5_isBarred_1 : List UInt8 := [42, 180, 0, 7, 16, 8, 27, 96, 46, 4, 160, 0, 7, 4, 167, 0, 4, 3, 172]
abbrev dktX5_isBarred_1 : List UInt8 := dkwX5_isBarred_1 ++ []
def dkwX5_isBarred_0 : List UInt8 := [42, 42, 27, 182, 0, 155, 153, 0, 7, 3, 167, 0, 4, 4, 181, 0, 46, 42, 180, 0, 46, 154, 0, 20]
abbrev dktX5_isBarred_0 : List UInt8 := dkwX5_isBarred_0 ++ dktX5_isBarred_1
theorem dksX5_isBarred_0 : cX5_isBarred.data.toList.drop 0 = dktX5_isBarred_0 := by decide +kernel
theorem dksX5_isBarred_1 : cX5_isBarred.data.toList.drop 24 = dktX5_isBarred_1 := dk_seg dksX5_isBarred_0 24 rfl rfl
theorem dX5_isBarred_0 : decode cX5_isBarred 0 = .ok (.aload_n 0, 1) := dk_42 (dk_at dksX5_isBarred_0 0 rfl rfl)
theorem dX5_isBarred_1 : decode cX5_isBarred 1 = .ok (.aload_n 0, 1) := dk_42 (dk_at dksX5_isBarred_0 1 rfl rfl)
theorem dX5_isBarred_2 : decode cX5_isBarred 2 = .ok (.iload_n 1, 1) := dk_27 (dk_at dksX5_isBarred_0 2 rfl rfl)
theorem dX5_isBarred_3 : decode cX5_isBarred 3 = .ok (.invokevirtual 155, 3) := dk_182 0 155 (dk_at dksX5_isBarred_0 3 rfl rfl)
theorem dX5_isBarred_6 : decode cX5_isBarred 6 = .ok (.ifCond .eq 7, 3) := dk_153 0 7 (dk_at dksX5_isBarred_0 6 rfl rfl)
theorem dX5_isBarred_9 : decode cX5_isBarred 9 = .ok (.iconst 0, 1) := dk_3 (dk_at dksX5_isBarred_0 9 rfl rfl)
theorem dX5_isBarred_10 : decode cX5_isBarred 10 = .ok (.goto 4, 3) := dk_167 0 4 (dk_at dksX5_isBarred_0 10 rfl rfl)
theorem dX5_isBarred_13 : decode cX5_isBarred 13 = .ok (.iconst 1, 1) := dk_4 (dk_at dksX5_isBarred_0 13 rfl rfl)
theorem dX5_isBarred_14 : decode cX5_isBarred 14 = .ok (.putfield 46, 3) := dk_181 0 46 (dk_at dksX5_isBarred_0 14 rfl rfl)
theorem dX5_isBarred_17 : decode cX5_isBarred 17 = .ok (.aload_n 0, 1) := dk_42 (dk_at dksX5_isBarred_0 17 rfl rfl)
theorem dX5_isBarred_18 : decode cX5_isBarred 18 = .ok (.getfield 46, 3) := dk_180 0 46 (dk_at dksX5_isBarred_0 18 rfl rfl)
theorem dX5_isBarred_21 : decode cX5_isBarred 21 = .ok (.ifCond .ne 20, 3) := dk_154 0 20 (dk_at dksX5_isBarred_0 21 rfl rfl)
theorem dX5_isBarred_24 : decode cX5_isBarred 24 = .ok (.aload_n 0, 1) := dk_42 (dk_at dksX5_isBarred_1 0 rfl rfl)
theorem dX5_isBarred_25 : decode cX5_isBarred 25 = .ok (.getfield 7, 3) := dk_180 0 7 (dk_at dksX5_isBarred_1 1 rfl rfl)
theorem dX5_isBarred_28 : decode cX5_isBarred 28 = .ok (.bipush 8, 2) := dk_16 8 (dk_at dksX5_isBarred_1 4 rfl rfl)
theorem dX5_isBarred_30 : decode cX5_isBarred 30 = .ok (.iload_n 1, 1) := dk_27 (dk_at dksX5_isBarred_1 6 rfl rfl)
theorem dX5_isBarred_31 : decode cX5_isBarred 31 = .ok (.iadd, 1) := dk_96 (dk_at dksX5_isBarred_1 7 rfl rfl)
theorem dX5_isBarred_32 : decode cX5_isBarred 32 = .ok (.iaload, 1) := dk_46 (dk_at dksX5_isBarred_1 8 rfl rfl)
theorem dX5_isBarred_33 : decode cX5_isBarred 33 = .ok (.iconst 1, 1) := dk_4 (dk_at dksX5_isBarred_1 9 rfl rfl)
theorem dX5_isBarred_34 : decode cX5_isBarred 34 = .ok (.if_icmp .ne 7, 3) := dk_160 0 7 (dk_at dksX5_isBarred_1 10 rfl rfl)
theorem dX5_isBarred_37 : decode cX5_isBarred 37 = .ok (.iconst 1, 1) := dk_4 (dk_at dksX5_isBarred_1 13 rfl rfl)
theorem dX5_isBarred_38 : decode cX5_isBarred 38 = .ok (.goto 4, 3) := dk_167 0 4 (dk_at dksX5_isBarred_1 14 rfl rfl)
theorem dX5_isBarred_41 : decode cX5_isBarred 41 = .ok (.iconst 0, 1) := dk_3 (dk_at dksX5_isBarred_1 17 rfl rfl)
theorem dX5_isBarred_42 : decode cX5_isBarred 42 = .ok (.ireturn, 1) := dk_172 (dk_at dksX5_isBarred_1 18 rfl rfl)
abbrev cX5_boardOf : ByteArray := prog_12_method_60_code
def yX5_boardOf : MethodName := ⟨RX5, "boardOf", "(I)I"⟩
def dkwX5_boardOf_5 : List UInt8 := [182, 0, 81, 172, 42, 42, 16, 23, 2, 182, 0, 174, 182, 0, 81, 172, 42, 4, 182, 0, 77, 172]
abbrev dktX5_boardOf_5 : List UInt8 := dkwX5_boardOf_5 ++ []
def dkwX5_boardOf_4 : List UInt8 := [42, 16, 14, 3, 182, 0, 174, 42, 16, 14, 7, 182, 0, 174, 96, 42, 16, 14, 16, 8, 182, 0, 174, 96]
abbrev dktX5_boardOf_4 : List UInt8 := dkwX5_boardOf_4 ++ dktX5_boardOf_5
def dkwX5_boardOf_3 : List UInt8 := [42, 182, 0, 74, 42, 182, 0, 193, 100, 104, 182, 0, 81, 172, 42, 42, 182, 0, 181, 182, 0, 81, 172, 42]
abbrev dktX5_boardOf_3 : List UInt8 := dkwX5_boardOf_3 ++ dktX5_boardOf_4
def dkwX5_boardOf_2 : List UInt8 := [42, 42, 180, 0, 7, 27, 46, 182, 0, 81, 172, 42, 5, 42, 182, 0, 74, 104, 182, 0, 81, 172, 42, 5]
abbrev dktX5_boardOf_2 : List UInt8 := dkwX5_boardOf_2 ++ dktX5_boardOf_3
def dkwX5_boardOf_1 : List UInt8 := [170, 0, 0, 0, 0, 0, 131, 0, 0, 0, 0, 0, 0, 0, 6, 0, 0, 0, 43, 0, 0, 0, 43, 0, 0, 0, 54, 0, 0, 0, 65, 0, 0, 0, 81, 0, 0, 0, 90, 0, 0, 0, 119]
abbrev dktX5_boardOf_1 : List UInt8 := dkwX5_boardOf_1 ++ dktX5_boardOf_2
def dkwX5_boardOf_0 : List UInt8 := [27]
abbrev dktX5_boardOf_0 : List UInt8 := dkwX5_boardOf_0 ++ dktX5_boardOf_1
theorem dksX5_boardOf_0 : cX5_boardOf.data.toList.drop 0 = dktX5_boardOf_0 := by decide +kernel
theorem dksX5_boardOf_1 : cX5_boardOf.data.toList.drop 1 = dktX5_boardOf_1 := dk_seg dksX5_boardOf_0 1 rfl rfl
theorem dksX5_boardOf_2 : cX5_boardOf.data.toList.drop 44 = dktX5_boardOf_2 := dk_seg dksX5_boardOf_1 43 rfl rfl
theorem dksX5_boardOf_3 : cX5_boardOf.data.toList.drop 68 = dktX5_boardOf_3 := dk_seg dksX5_boardOf_2 24 rfl rfl
theorem dksX5_boardOf_4 : cX5_boardOf.data.toList.drop 92 = dktX5_boardOf_4 := dk_seg dksX5_boardOf_3 24 rfl rfl
theorem dksX5_boardOf_5 : cX5_boardOf.data.toList.drop 116 = dktX5_boardOf_5 := dk_seg dksX5_boardOf_4 24 rfl rfl
theorem dX5_boardOf_0 : decode cX5_boardOf 0 = .ok (.iload_n 1, 1) := dk_27 (dk_at dksX5_boardOf_0 0 rfl rfl)
theorem dX5_boardOf_1 : decode cX5_boardOf 1 = .ok (.tableswitch 131 0 6 #[43, 43, 54, 65, 81, 90, 119], 43) := by decide +kernel
theorem dX5_boardOf_44 : decode cX5_boardOf 44 = .ok (.aload_n 0, 1) := dk_42 (dk_at dksX5_boardOf_2 0 rfl rfl)
theorem dX5_boardOf_45 : decode cX5_boardOf 45 = .ok (.aload_n 0, 1) := dk_42 (dk_at dksX5_boardOf_2 1 rfl rfl)
theorem dX5_boardOf_46 : decode cX5_boardOf 46 = .ok (.getfield 7, 3) := dk_180 0 7 (dk_at dksX5_boardOf_2 2 rfl rfl)
theorem dX5_boardOf_49 : decode cX5_boardOf 49 = .ok (.iload_n 1, 1) := dk_27 (dk_at dksX5_boardOf_2 5 rfl rfl)
theorem dX5_boardOf_50 : decode cX5_boardOf 50 = .ok (.iaload, 1) := dk_46 (dk_at dksX5_boardOf_2 6 rfl rfl)
theorem dX5_boardOf_51 : decode cX5_boardOf 51 = .ok (.invokevirtual 81, 3) := dk_182 0 81 (dk_at dksX5_boardOf_2 7 rfl rfl)
theorem dX5_boardOf_54 : decode cX5_boardOf 54 = .ok (.ireturn, 1) := dk_172 (dk_at dksX5_boardOf_2 10 rfl rfl)
theorem dX5_boardOf_55 : decode cX5_boardOf 55 = .ok (.aload_n 0, 1) := dk_42 (dk_at dksX5_boardOf_2 11 rfl rfl)
theorem dX5_boardOf_56 : decode cX5_boardOf 56 = .ok (.iconst 2, 1) := dk_5 (dk_at dksX5_boardOf_2 12 rfl rfl)
theorem dX5_boardOf_57 : decode cX5_boardOf 57 = .ok (.aload_n 0, 1) := dk_42 (dk_at dksX5_boardOf_2 13 rfl rfl)
theorem dX5_boardOf_58 : decode cX5_boardOf 58 = .ok (.invokevirtual 74, 3) := dk_182 0 74 (dk_at dksX5_boardOf_2 14 rfl rfl)
theorem dX5_boardOf_61 : decode cX5_boardOf 61 = .ok (.imul, 1) := dk_104 (dk_at dksX5_boardOf_2 17 rfl rfl)
theorem dX5_boardOf_62 : decode cX5_boardOf 62 = .ok (.invokevirtual 81, 3) := dk_182 0 81 (dk_at dksX5_boardOf_2 18 rfl rfl)
theorem dX5_boardOf_65 : decode cX5_boardOf 65 = .ok (.ireturn, 1) := dk_172 (dk_at dksX5_boardOf_2 21 rfl rfl)
theorem dX5_boardOf_66 : decode cX5_boardOf 66 = .ok (.aload_n 0, 1) := dk_42 (dk_at dksX5_boardOf_2 22 rfl rfl)
theorem dX5_boardOf_67 : decode cX5_boardOf 67 = .ok (.iconst 2, 1) := dk_5 (dk_at dksX5_boardOf_2 23 rfl rfl)
theorem dX5_boardOf_68 : decode cX5_boardOf 68 = .ok (.aload_n 0, 1) := dk_42 (dk_at dksX5_boardOf_3 0 rfl rfl)
theorem dX5_boardOf_69 : decode cX5_boardOf 69 = .ok (.invokevirtual 74, 3) := dk_182 0 74 (dk_at dksX5_boardOf_3 1 rfl rfl)
theorem dX5_boardOf_72 : decode cX5_boardOf 72 = .ok (.aload_n 0, 1) := dk_42 (dk_at dksX5_boardOf_3 4 rfl rfl)
theorem dX5_boardOf_73 : decode cX5_boardOf 73 = .ok (.invokevirtual 193, 3) := dk_182 0 193 (dk_at dksX5_boardOf_3 5 rfl rfl)
theorem dX5_boardOf_76 : decode cX5_boardOf 76 = .ok (.isub, 1) := dk_100 (dk_at dksX5_boardOf_3 8 rfl rfl)
theorem dX5_boardOf_77 : decode cX5_boardOf 77 = .ok (.imul, 1) := dk_104 (dk_at dksX5_boardOf_3 9 rfl rfl)
theorem dX5_boardOf_78 : decode cX5_boardOf 78 = .ok (.invokevirtual 81, 3) := dk_182 0 81 (dk_at dksX5_boardOf_3 10 rfl rfl)
theorem dX5_boardOf_81 : decode cX5_boardOf 81 = .ok (.ireturn, 1) := dk_172 (dk_at dksX5_boardOf_3 13 rfl rfl)
theorem dX5_boardOf_82 : decode cX5_boardOf 82 = .ok (.aload_n 0, 1) := dk_42 (dk_at dksX5_boardOf_3 14 rfl rfl)
theorem dX5_boardOf_83 : decode cX5_boardOf 83 = .ok (.aload_n 0, 1) := dk_42 (dk_at dksX5_boardOf_3 15 rfl rfl)
theorem dX5_boardOf_84 : decode cX5_boardOf 84 = .ok (.invokevirtual 181, 3) := dk_182 0 181 (dk_at dksX5_boardOf_3 16 rfl rfl)
theorem dX5_boardOf_87 : decode cX5_boardOf 87 = .ok (.invokevirtual 81, 3) := dk_182 0 81 (dk_at dksX5_boardOf_3 19 rfl rfl)
theorem dX5_boardOf_90 : decode cX5_boardOf 90 = .ok (.ireturn, 1) := dk_172 (dk_at dksX5_boardOf_3 22 rfl rfl)
theorem dX5_boardOf_91 : decode cX5_boardOf 91 = .ok (.aload_n 0, 1) := dk_42 (dk_at dksX5_boardOf_3 23 rfl rfl)
theorem dX5_boardOf_92 : decode cX5_boardOf 92 = .ok (.aload_n 0, 1) := dk_42 (dk_at dksX5_boardOf_4 0 rfl rfl)
theorem dX5_boardOf_93 : decode cX5_boardOf 93 = .ok (.bipush 14, 2) := dk_16 14 (dk_at dksX5_boardOf_4 1 rfl rfl)
theorem dX5_boardOf_95 : decode cX5_boardOf 95 = .ok (.iconst 0, 1) := dk_3 (dk_at dksX5_boardOf_4 3 rfl rfl)
theorem dX5_boardOf_96 : decode cX5_boardOf 96 = .ok (.invokevirtual 174, 3) := dk_182 0 174 (dk_at dksX5_boardOf_4 4 rfl rfl)
theorem dX5_boardOf_99 : decode cX5_boardOf 99 = .ok (.aload_n 0, 1) := dk_42 (dk_at dksX5_boardOf_4 7 rfl rfl)
theorem dX5_boardOf_100 : decode cX5_boardOf 100 = .ok (.bipush 14, 2) := dk_16 14 (dk_at dksX5_boardOf_4 8 rfl rfl)
theorem dX5_boardOf_102 : decode cX5_boardOf 102 = .ok (.iconst 4, 1) := dk_7 (dk_at dksX5_boardOf_4 10 rfl rfl)
theorem dX5_boardOf_103 : decode cX5_boardOf 103 = .ok (.invokevirtual 174, 3) := dk_182 0 174 (dk_at dksX5_boardOf_4 11 rfl rfl)
theorem dX5_boardOf_106 : decode cX5_boardOf 106 = .ok (.iadd, 1) := dk_96 (dk_at dksX5_boardOf_4 14 rfl rfl)
theorem dX5_boardOf_107 : decode cX5_boardOf 107 = .ok (.aload_n 0, 1) := dk_42 (dk_at dksX5_boardOf_4 15 rfl rfl)
theorem dX5_boardOf_108 : decode cX5_boardOf 108 = .ok (.bipush 14, 2) := dk_16 14 (dk_at dksX5_boardOf_4 16 rfl rfl)
theorem dX5_boardOf_110 : decode cX5_boardOf 110 = .ok (.bipush 8, 2) := dk_16 8 (dk_at dksX5_boardOf_4 18 rfl rfl)
theorem dX5_boardOf_112 : decode cX5_boardOf 112 = .ok (.invokevirtual 174, 3) := dk_182 0 174 (dk_at dksX5_boardOf_4 20 rfl rfl)
theorem dX5_boardOf_115 : decode cX5_boardOf 115 = .ok (.iadd, 1) := dk_96 (dk_at dksX5_boardOf_4 23 rfl rfl)
theorem dX5_boardOf_116 : decode cX5_boardOf 116 = .ok (.invokevirtual 81, 3) := dk_182 0 81 (dk_at dksX5_boardOf_5 0 rfl rfl)
theorem dX5_boardOf_119 : decode cX5_boardOf 119 = .ok (.ireturn, 1) := dk_172 (dk_at dksX5_boardOf_5 3 rfl rfl)
theorem dX5_boardOf_120 : decode cX5_boardOf 120 = .ok (.aload_n 0, 1) := dk_42 (dk_at dksX5_boardOf_5 4 rfl rfl)
theorem dX5_boardOf_121 : decode cX5_boardOf 121 = .ok (.aload_n 0, 1) := dk_42 (dk_at dksX5_boardOf_5 5 rfl rfl)
theorem dX5_boardOf_122 : decode cX5_boardOf 122 = .ok (.bipush 23, 2) := dk_16 23 (dk_at dksX5_boardOf_5 6 rfl rfl)
theorem dX5_boardOf_124 : decode cX5_boardOf 124 = .ok (.iconst (-1), 1) := dk_2 (dk_at dksX5_boardOf_5 8 rfl rfl)
theorem dX5_boardOf_125 : decode cX5_boardOf 125 = .ok (.invokevirtual 174, 3) := dk_182 0 174 (dk_at dksX5_boardOf_5 9 rfl rfl)
theorem dX5_boardOf_128 : decode cX5_boardOf 128 = .ok (.invokevirtual 81, 3) := dk_182 0 81 (dk_at dksX5_boardOf_5 12 rfl rfl)
theorem dX5_boardOf_131 : decode cX5_boardOf 131 = .ok (.ireturn, 1) := dk_172 (dk_at dksX5_boardOf_5 15 rfl rfl)
theorem dX5_boardOf_132 : decode cX5_boardOf 132 = .ok (.aload_n 0, 1) := dk_42 (dk_at dksX5_boardOf_5 16 rfl rfl)
theorem dX5_boardOf_133 : decode cX5_boardOf 133 = .ok (.iconst 1, 1) := dk_4 (dk_at dksX5_boardOf_5 17 rfl rfl)
theorem dX5_boardOf_134 : decode cX5_boardOf 134 = .ok (.invokevirtual 77, 3) := dk_182 0 77 (dk_at dksX5_boardOf_5 18 rfl rfl)
theorem dX5_boardOf_137 : decode cX5_boardOf 137 = .ok (.ireturn, 1) := dk_172 (dk_at dksX5_boardOf_5 21 rfl rfl)
abbrev cX5_barredLines : ByteArray := prog_12_method_58_code
def yX5_barredLines : MethodName := ⟨RX5, "barredLines", "()I"⟩
def dkwX5_barredLines_1 : List UInt8 := [132, 2, 1, 167, 255, 233, 27, 172]
abbrev dktX5_barredLines_1 : List UInt8 := dkwX5_barredLines_1 ++ []
def dkwX5_barredLines_0 : List UInt8 := [3, 60, 3, 61, 28, 42, 182, 0, 74, 162, 0, 21, 27, 42, 180, 0, 7, 16, 8, 28, 96, 46, 96, 60]
abbrev dktX5_barredLines_0 : List UInt8 := dkwX5_barredLines_0 ++ dktX5_barredLines_1
theorem dksX5_barredLines_0 : cX5_barredLines.data.toList.drop 0 = dktX5_barredLines_0 := by decide +kernel
theorem dksX5_barredLines_1 : cX5_barredLines.data.toList.drop 24 = dktX5_barredLines_1 := dk_seg dksX5_barredLines_0 24 rfl rfl
theorem dX5_barredLines_0 : decode cX5_barredLines 0 = .ok (.iconst 0, 1) := dk_3 (dk_at dksX5_barredLines_0 0 rfl rfl)
theorem dX5_barredLines_1 : decode cX5_barredLines 1 = .ok (.istore_n 1, 1) := dk_60 (dk_at dksX5_barredLines_0 1 rfl rfl)
theorem dX5_barredLines_2 : decode cX5_barredLines 2 = .ok (.iconst 0, 1) := dk_3 (dk_at dksX5_barredLines_0 2 rfl rfl)
theorem dX5_barredLines_3 : decode cX5_barredLines 3 = .ok (.istore_n 2, 1) := dk_61 (dk_at dksX5_barredLines_0 3 rfl rfl)
theorem dX5_barredLines_4 : decode cX5_barredLines 4 = .ok (.iload_n 2, 1) := dk_28 (dk_at dksX5_barredLines_0 4 rfl rfl)
theorem dX5_barredLines_5 : decode cX5_barredLines 5 = .ok (.aload_n 0, 1) := dk_42 (dk_at dksX5_barredLines_0 5 rfl rfl)
theorem dX5_barredLines_6 : decode cX5_barredLines 6 = .ok (.invokevirtual 74, 3) := dk_182 0 74 (dk_at dksX5_barredLines_0 6 rfl rfl)
theorem dX5_barredLines_9 : decode cX5_barredLines 9 = .ok (.if_icmp .ge 21, 3) := dk_162 0 21 (dk_at dksX5_barredLines_0 9 rfl rfl)
theorem dX5_barredLines_12 : decode cX5_barredLines 12 = .ok (.iload_n 1, 1) := dk_27 (dk_at dksX5_barredLines_0 12 rfl rfl)
theorem dX5_barredLines_13 : decode cX5_barredLines 13 = .ok (.aload_n 0, 1) := dk_42 (dk_at dksX5_barredLines_0 13 rfl rfl)
theorem dX5_barredLines_14 : decode cX5_barredLines 14 = .ok (.getfield 7, 3) := dk_180 0 7 (dk_at dksX5_barredLines_0 14 rfl rfl)
theorem dX5_barredLines_17 : decode cX5_barredLines 17 = .ok (.bipush 8, 2) := dk_16 8 (dk_at dksX5_barredLines_0 17 rfl rfl)
theorem dX5_barredLines_19 : decode cX5_barredLines 19 = .ok (.iload_n 2, 1) := dk_28 (dk_at dksX5_barredLines_0 19 rfl rfl)
theorem dX5_barredLines_20 : decode cX5_barredLines 20 = .ok (.iadd, 1) := dk_96 (dk_at dksX5_barredLines_0 20 rfl rfl)
theorem dX5_barredLines_21 : decode cX5_barredLines 21 = .ok (.iaload, 1) := dk_46 (dk_at dksX5_barredLines_0 21 rfl rfl)
theorem dX5_barredLines_22 : decode cX5_barredLines 22 = .ok (.iadd, 1) := dk_96 (dk_at dksX5_barredLines_0 22 rfl rfl)
theorem dX5_barredLines_23 : decode cX5_barredLines 23 = .ok (.istore_n 1, 1) := dk_60 (dk_at dksX5_barredLines_0 23 rfl rfl)
theorem dX5_barredLines_24 : decode cX5_barredLines 24 = .ok (.iinc 2 1, 3) := dk_132 2 1 (dk_at dksX5_barredLines_1 0 rfl rfl)
theorem dX5_barredLines_27 : decode cX5_barredLines 27 = .ok (.goto (-23), 3) := dk_167 255 233 (dk_at dksX5_barredLines_1 3 rfl rfl)
theorem dX5_barredLines_30 : decode cX5_barredLines 30 = .ok (.iload_n 1, 1) := dk_27 (dk_at dksX5_barredLines_1 6 rfl rfl)
theorem dX5_barredLines_31 : decode cX5_barredLines 31 = .ok (.ireturn, 1) := dk_172 (dk_at dksX5_barredLines_1 7 rfl rfl)
abbrev cX5_home : ByteArray := prog_12_method_61_code
def yX5_home : MethodName := ⟨RX5, "home", "()I"⟩
def dkwX5_home_0 : List UInt8 := [42, 42, 182, 0, 134, 182, 0, 81, 172]
abbrev dktX5_home_0 : List UInt8 := dkwX5_home_0 ++ []
theorem dksX5_home_0 : cX5_home.data.toList.drop 0 = dktX5_home_0 := by decide +kernel
theorem dX5_home_0 : decode cX5_home 0 = .ok (.aload_n 0, 1) := dk_42 (dk_at dksX5_home_0 0 rfl rfl)
theorem dX5_home_1 : decode cX5_home 1 = .ok (.aload_n 0, 1) := dk_42 (dk_at dksX5_home_0 1 rfl rfl)
theorem dX5_home_2 : decode cX5_home 2 = .ok (.invokevirtual 134, 3) := dk_182 0 134 (dk_at dksX5_home_0 2 rfl rfl)
theorem dX5_home_5 : decode cX5_home 5 = .ok (.invokevirtual 81, 3) := dk_182 0 81 (dk_at dksX5_home_0 5 rfl rfl)
theorem dX5_home_8 : decode cX5_home 8 = .ok (.ireturn, 1) := dk_172 (dk_at dksX5_home_0 8 rfl rfl)
abbrev cX5_would : ByteArray := prog_12_method_63_code
def yX5_would : MethodName := ⟨RX5, "would", "(I)I"⟩
def dkwX5_would_1 : List UInt8 := [182, 0, 77, 172]
abbrev dktX5_would_1 : List UInt8 := dkwX5_would_1 ++ []
def dkwX5_would_0 : List UInt8 := [42, 27, 182, 0, 140, 153, 0, 15, 42, 42, 27, 182, 0, 196, 182, 0, 81, 167, 0, 8, 42, 4]
abbrev dktX5_would_0 : List UInt8 := dkwX5_would_0 ++ dktX5_would_1
theorem dksX5_would_0 : cX5_would.data.toList.drop 0 = dktX5_would_0 := by decide +kernel
theorem dksX5_would_1 : cX5_would.data.toList.drop 22 = dktX5_would_1 := dk_seg dksX5_would_0 22 rfl rfl
theorem dX5_would_0 : decode cX5_would 0 = .ok (.aload_n 0, 1) := dk_42 (dk_at dksX5_would_0 0 rfl rfl)
theorem dX5_would_1 : decode cX5_would 1 = .ok (.iload_n 1, 1) := dk_27 (dk_at dksX5_would_0 1 rfl rfl)
theorem dX5_would_2 : decode cX5_would 2 = .ok (.invokevirtual 140, 3) := dk_182 0 140 (dk_at dksX5_would_0 2 rfl rfl)
theorem dX5_would_5 : decode cX5_would 5 = .ok (.ifCond .eq 15, 3) := dk_153 0 15 (dk_at dksX5_would_0 5 rfl rfl)
theorem dX5_would_8 : decode cX5_would 8 = .ok (.aload_n 0, 1) := dk_42 (dk_at dksX5_would_0 8 rfl rfl)
theorem dX5_would_9 : decode cX5_would 9 = .ok (.aload_n 0, 1) := dk_42 (dk_at dksX5_would_0 9 rfl rfl)
theorem dX5_would_10 : decode cX5_would 10 = .ok (.iload_n 1, 1) := dk_27 (dk_at dksX5_would_0 10 rfl rfl)
theorem dX5_would_11 : decode cX5_would 11 = .ok (.invokevirtual 196, 3) := dk_182 0 196 (dk_at dksX5_would_0 11 rfl rfl)
theorem dX5_would_14 : decode cX5_would 14 = .ok (.invokevirtual 81, 3) := dk_182 0 81 (dk_at dksX5_would_0 14 rfl rfl)
theorem dX5_would_17 : decode cX5_would 17 = .ok (.goto 8, 3) := dk_167 0 8 (dk_at dksX5_would_0 17 rfl rfl)
theorem dX5_would_20 : decode cX5_would 20 = .ok (.aload_n 0, 1) := dk_42 (dk_at dksX5_would_0 20 rfl rfl)
theorem dX5_would_21 : decode cX5_would 21 = .ok (.iconst 1, 1) := dk_4 (dk_at dksX5_would_0 21 rfl rfl)
theorem dX5_would_22 : decode cX5_would 22 = .ok (.invokevirtual 77, 3) := dk_182 0 77 (dk_at dksX5_would_1 0 rfl rfl)
theorem dX5_would_25 : decode cX5_would 25 = .ok (.ireturn, 1) := dk_172 (dk_at dksX5_would_1 3 rfl rfl)
abbrev cX5_homeBehind : ByteArray := prog_12_method_62_code
def yX5_homeBehind : MethodName := ⟨RX5, "homeBehind", "(I)I"⟩
def dkwX5_homeBehind_0 : List UInt8 := [42, 182, 0, 121, 42, 27, 182, 0, 127, 42, 182, 0, 124, 172]
abbrev dktX5_homeBehind_0 : List UInt8 := dkwX5_homeBehind_0 ++ []
theorem dksX5_homeBehind_0 : cX5_homeBehind.data.toList.drop 0 = dktX5_homeBehind_0 := by decide +kernel
theorem dX5_homeBehind_0 : decode cX5_homeBehind 0 = .ok (.aload_n 0, 1) := dk_42 (dk_at dksX5_homeBehind_0 0 rfl rfl)
theorem dX5_homeBehind_1 : decode cX5_homeBehind 1 = .ok (.invokevirtual 121, 3) := dk_182 0 121 (dk_at dksX5_homeBehind_0 1 rfl rfl)
theorem dX5_homeBehind_4 : decode cX5_homeBehind 4 = .ok (.aload_n 0, 1) := dk_42 (dk_at dksX5_homeBehind_0 4 rfl rfl)
theorem dX5_homeBehind_5 : decode cX5_homeBehind 5 = .ok (.iload_n 1, 1) := dk_27 (dk_at dksX5_homeBehind_0 5 rfl rfl)
theorem dX5_homeBehind_6 : decode cX5_homeBehind 6 = .ok (.invokevirtual 127, 3) := dk_182 0 127 (dk_at dksX5_homeBehind_0 6 rfl rfl)
theorem dX5_homeBehind_9 : decode cX5_homeBehind 9 = .ok (.aload_n 0, 1) := dk_42 (dk_at dksX5_homeBehind_0 9 rfl rfl)
theorem dX5_homeBehind_10 : decode cX5_homeBehind 10 = .ok (.invokevirtual 124, 3) := dk_182 0 124 (dk_at dksX5_homeBehind_0 10 rfl rfl)
theorem dX5_homeBehind_13 : decode cX5_homeBehind 13 = .ok (.ireturn, 1) := dk_172 (dk_at dksX5_homeBehind_0 13 rfl rfl)
abbrev cX5_best : ByteArray := prog_12_method_64_code
def yX5_best : MethodName := ⟨RX5, "best", "()I"⟩
def dkwX5_best_3 : List UInt8 := [42, 4, 182, 0, 77, 167, 0, 8, 42, 27, 182, 0, 81, 172]
abbrev dktX5_best_3 : List UInt8 := dkwX5_best_3 ++ []
def dkwX5_best_2 : List UInt8 := [21, 4, 28, 164, 0, 8, 21, 4, 167, 0, 4, 28, 61, 132, 3, 1, 167, 255, 199, 27, 2, 160, 0, 11]
abbrev dktX5_best_2 : List UInt8 := dkwX5_best_2 ++ dktX5_best_3
def dkwX5_best_1 : List UInt8 := [42, 29, 182, 0, 196, 167, 0, 4, 2, 54, 4, 21, 4, 28, 164, 0, 7, 29, 167, 0, 4, 27, 60]
abbrev dktX5_best_1 : List UInt8 := dkwX5_best_1 ++ dktX5_best_2
def dkwX5_best_0 : List UInt8 := [2, 60, 2, 61, 3, 62, 29, 5, 42, 182, 0, 74, 104, 162, 0, 53, 42, 29, 182, 0, 143, 153, 0, 11]
abbrev dktX5_best_0 : List UInt8 := dkwX5_best_0 ++ dktX5_best_1
theorem dksX5_best_0 : cX5_best.data.toList.drop 0 = dktX5_best_0 := by decide +kernel
theorem dksX5_best_1 : cX5_best.data.toList.drop 24 = dktX5_best_1 := dk_seg dksX5_best_0 24 rfl rfl
theorem dksX5_best_2 : cX5_best.data.toList.drop 47 = dktX5_best_2 := dk_seg dksX5_best_1 23 rfl rfl
theorem dksX5_best_3 : cX5_best.data.toList.drop 71 = dktX5_best_3 := dk_seg dksX5_best_2 24 rfl rfl
theorem dX5_best_0 : decode cX5_best 0 = .ok (.iconst (-1), 1) := dk_2 (dk_at dksX5_best_0 0 rfl rfl)
theorem dX5_best_1 : decode cX5_best 1 = .ok (.istore_n 1, 1) := dk_60 (dk_at dksX5_best_0 1 rfl rfl)
theorem dX5_best_2 : decode cX5_best 2 = .ok (.iconst (-1), 1) := dk_2 (dk_at dksX5_best_0 2 rfl rfl)
theorem dX5_best_3 : decode cX5_best 3 = .ok (.istore_n 2, 1) := dk_61 (dk_at dksX5_best_0 3 rfl rfl)
theorem dX5_best_4 : decode cX5_best 4 = .ok (.iconst 0, 1) := dk_3 (dk_at dksX5_best_0 4 rfl rfl)
theorem dX5_best_5 : decode cX5_best 5 = .ok (.istore_n 3, 1) := dk_62 (dk_at dksX5_best_0 5 rfl rfl)
theorem dX5_best_6 : decode cX5_best 6 = .ok (.iload_n 3, 1) := dk_29 (dk_at dksX5_best_0 6 rfl rfl)
theorem dX5_best_7 : decode cX5_best 7 = .ok (.iconst 2, 1) := dk_5 (dk_at dksX5_best_0 7 rfl rfl)
theorem dX5_best_8 : decode cX5_best 8 = .ok (.aload_n 0, 1) := dk_42 (dk_at dksX5_best_0 8 rfl rfl)
theorem dX5_best_9 : decode cX5_best 9 = .ok (.invokevirtual 74, 3) := dk_182 0 74 (dk_at dksX5_best_0 9 rfl rfl)
theorem dX5_best_12 : decode cX5_best 12 = .ok (.imul, 1) := dk_104 (dk_at dksX5_best_0 12 rfl rfl)
theorem dX5_best_13 : decode cX5_best 13 = .ok (.if_icmp .ge 53, 3) := dk_162 0 53 (dk_at dksX5_best_0 13 rfl rfl)
theorem dX5_best_16 : decode cX5_best 16 = .ok (.aload_n 0, 1) := dk_42 (dk_at dksX5_best_0 16 rfl rfl)
theorem dX5_best_17 : decode cX5_best 17 = .ok (.iload_n 3, 1) := dk_29 (dk_at dksX5_best_0 17 rfl rfl)
theorem dX5_best_18 : decode cX5_best 18 = .ok (.invokevirtual 143, 3) := dk_182 0 143 (dk_at dksX5_best_0 18 rfl rfl)
theorem dX5_best_21 : decode cX5_best 21 = .ok (.ifCond .eq 11, 3) := dk_153 0 11 (dk_at dksX5_best_0 21 rfl rfl)
theorem dX5_best_24 : decode cX5_best 24 = .ok (.aload_n 0, 1) := dk_42 (dk_at dksX5_best_1 0 rfl rfl)
theorem dX5_best_25 : decode cX5_best 25 = .ok (.iload_n 3, 1) := dk_29 (dk_at dksX5_best_1 1 rfl rfl)
theorem dX5_best_26 : decode cX5_best 26 = .ok (.invokevirtual 196, 3) := dk_182 0 196 (dk_at dksX5_best_1 2 rfl rfl)
theorem dX5_best_29 : decode cX5_best 29 = .ok (.goto 4, 3) := dk_167 0 4 (dk_at dksX5_best_1 5 rfl rfl)
theorem dX5_best_32 : decode cX5_best 32 = .ok (.iconst (-1), 1) := dk_2 (dk_at dksX5_best_1 8 rfl rfl)
theorem dX5_best_33 : decode cX5_best 33 = .ok (.istore 4, 2) := dk_54 4 (dk_at dksX5_best_1 9 rfl rfl)
theorem dX5_best_35 : decode cX5_best 35 = .ok (.iload 4, 2) := dk_21 4 (dk_at dksX5_best_1 11 rfl rfl)
theorem dX5_best_37 : decode cX5_best 37 = .ok (.iload_n 2, 1) := dk_28 (dk_at dksX5_best_1 13 rfl rfl)
theorem dX5_best_38 : decode cX5_best 38 = .ok (.if_icmp .le 7, 3) := dk_164 0 7 (dk_at dksX5_best_1 14 rfl rfl)
theorem dX5_best_41 : decode cX5_best 41 = .ok (.iload_n 3, 1) := dk_29 (dk_at dksX5_best_1 17 rfl rfl)
theorem dX5_best_42 : decode cX5_best 42 = .ok (.goto 4, 3) := dk_167 0 4 (dk_at dksX5_best_1 18 rfl rfl)
theorem dX5_best_45 : decode cX5_best 45 = .ok (.iload_n 1, 1) := dk_27 (dk_at dksX5_best_1 21 rfl rfl)
theorem dX5_best_46 : decode cX5_best 46 = .ok (.istore_n 1, 1) := dk_60 (dk_at dksX5_best_1 22 rfl rfl)
theorem dX5_best_47 : decode cX5_best 47 = .ok (.iload 4, 2) := dk_21 4 (dk_at dksX5_best_2 0 rfl rfl)
theorem dX5_best_49 : decode cX5_best 49 = .ok (.iload_n 2, 1) := dk_28 (dk_at dksX5_best_2 2 rfl rfl)
theorem dX5_best_50 : decode cX5_best 50 = .ok (.if_icmp .le 8, 3) := dk_164 0 8 (dk_at dksX5_best_2 3 rfl rfl)
theorem dX5_best_53 : decode cX5_best 53 = .ok (.iload 4, 2) := dk_21 4 (dk_at dksX5_best_2 6 rfl rfl)
theorem dX5_best_55 : decode cX5_best 55 = .ok (.goto 4, 3) := dk_167 0 4 (dk_at dksX5_best_2 8 rfl rfl)
theorem dX5_best_58 : decode cX5_best 58 = .ok (.iload_n 2, 1) := dk_28 (dk_at dksX5_best_2 11 rfl rfl)
theorem dX5_best_59 : decode cX5_best 59 = .ok (.istore_n 2, 1) := dk_61 (dk_at dksX5_best_2 12 rfl rfl)
theorem dX5_best_60 : decode cX5_best 60 = .ok (.iinc 3 1, 3) := dk_132 3 1 (dk_at dksX5_best_2 13 rfl rfl)
theorem dX5_best_63 : decode cX5_best 63 = .ok (.goto (-57), 3) := dk_167 255 199 (dk_at dksX5_best_2 16 rfl rfl)
theorem dX5_best_66 : decode cX5_best 66 = .ok (.iload_n 1, 1) := dk_27 (dk_at dksX5_best_2 19 rfl rfl)
theorem dX5_best_67 : decode cX5_best 67 = .ok (.iconst (-1), 1) := dk_2 (dk_at dksX5_best_2 20 rfl rfl)
theorem dX5_best_68 : decode cX5_best 68 = .ok (.if_icmp .ne 11, 3) := dk_160 0 11 (dk_at dksX5_best_2 21 rfl rfl)
theorem dX5_best_71 : decode cX5_best 71 = .ok (.aload_n 0, 1) := dk_42 (dk_at dksX5_best_3 0 rfl rfl)
theorem dX5_best_72 : decode cX5_best 72 = .ok (.iconst 1, 1) := dk_4 (dk_at dksX5_best_3 1 rfl rfl)
theorem dX5_best_73 : decode cX5_best 73 = .ok (.invokevirtual 77, 3) := dk_182 0 77 (dk_at dksX5_best_3 2 rfl rfl)
theorem dX5_best_76 : decode cX5_best 76 = .ok (.goto 8, 3) := dk_167 0 8 (dk_at dksX5_best_3 5 rfl rfl)
theorem dX5_best_79 : decode cX5_best 79 = .ok (.aload_n 0, 1) := dk_42 (dk_at dksX5_best_3 8 rfl rfl)
theorem dX5_best_80 : decode cX5_best 80 = .ok (.iload_n 1, 1) := dk_27 (dk_at dksX5_best_3 9 rfl rfl)
theorem dX5_best_81 : decode cX5_best 81 = .ok (.invokevirtual 81, 3) := dk_182 0 81 (dk_at dksX5_best_3 10 rfl rfl)
theorem dX5_best_84 : decode cX5_best 84 = .ok (.ireturn, 1) := dk_172 (dk_at dksX5_best_3 13 rfl rfl)
abbrev cX5_where : ByteArray := prog_12_method_65_code
def yX5_where : MethodName := ⟨RX5, "where", "(III)I"⟩
def dkwX5_where_3 : List UInt8 := [172]
abbrev dktX5_where_3 : List UInt8 := dkwX5_where_3 ++ []
def dkwX5_where_2 : List UInt8 := [162, 0, 18, 42, 21, 4, 28, 182, 0, 118, 54, 4, 132, 5, 1, 167, 255, 238, 42, 21, 4, 182, 0, 81]
abbrev dktX5_where_2 : List UInt8 := dkwX5_where_2 ++ dktX5_where_3
def dkwX5_where_1 : List UInt8 := [16, 99, 184, 0, 70, 154, 0, 9, 42, 5, 182, 0, 77, 172, 27, 54, 4, 3, 54, 5, 21, 5, 29]
abbrev dktX5_where_1 : List UInt8 := dkwX5_where_1 ++ dktX5_where_2
def dkwX5_where_0 : List UInt8 := [42, 27, 182, 0, 102, 153, 0, 11, 42, 28, 182, 0, 140, 154, 0, 9, 42, 4, 182, 0, 77, 172, 29, 3]
abbrev dktX5_where_0 : List UInt8 := dkwX5_where_0 ++ dktX5_where_1
theorem dksX5_where_0 : cX5_where.data.toList.drop 0 = dktX5_where_0 := by decide +kernel
theorem dksX5_where_1 : cX5_where.data.toList.drop 24 = dktX5_where_1 := dk_seg dksX5_where_0 24 rfl rfl
theorem dksX5_where_2 : cX5_where.data.toList.drop 47 = dktX5_where_2 := dk_seg dksX5_where_1 23 rfl rfl
theorem dksX5_where_3 : cX5_where.data.toList.drop 71 = dktX5_where_3 := dk_seg dksX5_where_2 24 rfl rfl
theorem dX5_where_0 : decode cX5_where 0 = .ok (.aload_n 0, 1) := dk_42 (dk_at dksX5_where_0 0 rfl rfl)
theorem dX5_where_1 : decode cX5_where 1 = .ok (.iload_n 1, 1) := dk_27 (dk_at dksX5_where_0 1 rfl rfl)
theorem dX5_where_2 : decode cX5_where 2 = .ok (.invokevirtual 102, 3) := dk_182 0 102 (dk_at dksX5_where_0 2 rfl rfl)
theorem dX5_where_5 : decode cX5_where 5 = .ok (.ifCond .eq 11, 3) := dk_153 0 11 (dk_at dksX5_where_0 5 rfl rfl)
theorem dX5_where_8 : decode cX5_where 8 = .ok (.aload_n 0, 1) := dk_42 (dk_at dksX5_where_0 8 rfl rfl)
theorem dX5_where_9 : decode cX5_where 9 = .ok (.iload_n 2, 1) := dk_28 (dk_at dksX5_where_0 9 rfl rfl)
theorem dX5_where_10 : decode cX5_where 10 = .ok (.invokevirtual 140, 3) := dk_182 0 140 (dk_at dksX5_where_0 10 rfl rfl)
theorem dX5_where_13 : decode cX5_where 13 = .ok (.ifCond .ne 9, 3) := dk_154 0 9 (dk_at dksX5_where_0 13 rfl rfl)
theorem dX5_where_16 : decode cX5_where 16 = .ok (.aload_n 0, 1) := dk_42 (dk_at dksX5_where_0 16 rfl rfl)
theorem dX5_where_17 : decode cX5_where 17 = .ok (.iconst 1, 1) := dk_4 (dk_at dksX5_where_0 17 rfl rfl)
theorem dX5_where_18 : decode cX5_where 18 = .ok (.invokevirtual 77, 3) := dk_182 0 77 (dk_at dksX5_where_0 18 rfl rfl)
theorem dX5_where_21 : decode cX5_where 21 = .ok (.ireturn, 1) := dk_172 (dk_at dksX5_where_0 21 rfl rfl)
theorem dX5_where_22 : decode cX5_where 22 = .ok (.iload_n 3, 1) := dk_29 (dk_at dksX5_where_0 22 rfl rfl)
theorem dX5_where_23 : decode cX5_where 23 = .ok (.iconst 0, 1) := dk_3 (dk_at dksX5_where_0 23 rfl rfl)
theorem dX5_where_24 : decode cX5_where 24 = .ok (.bipush 99, 2) := dk_16 99 (dk_at dksX5_where_1 0 rfl rfl)
theorem dX5_where_26 : decode cX5_where 26 = .ok (.invokestatic 70, 3) := dk_184 0 70 (dk_at dksX5_where_1 2 rfl rfl)
theorem dX5_where_29 : decode cX5_where 29 = .ok (.ifCond .ne 9, 3) := dk_154 0 9 (dk_at dksX5_where_1 5 rfl rfl)
theorem dX5_where_32 : decode cX5_where 32 = .ok (.aload_n 0, 1) := dk_42 (dk_at dksX5_where_1 8 rfl rfl)
theorem dX5_where_33 : decode cX5_where 33 = .ok (.iconst 2, 1) := dk_5 (dk_at dksX5_where_1 9 rfl rfl)
theorem dX5_where_34 : decode cX5_where 34 = .ok (.invokevirtual 77, 3) := dk_182 0 77 (dk_at dksX5_where_1 10 rfl rfl)
theorem dX5_where_37 : decode cX5_where 37 = .ok (.ireturn, 1) := dk_172 (dk_at dksX5_where_1 13 rfl rfl)
theorem dX5_where_38 : decode cX5_where 38 = .ok (.iload_n 1, 1) := dk_27 (dk_at dksX5_where_1 14 rfl rfl)
theorem dX5_where_39 : decode cX5_where 39 = .ok (.istore 4, 2) := dk_54 4 (dk_at dksX5_where_1 15 rfl rfl)
theorem dX5_where_41 : decode cX5_where 41 = .ok (.iconst 0, 1) := dk_3 (dk_at dksX5_where_1 17 rfl rfl)
theorem dX5_where_42 : decode cX5_where 42 = .ok (.istore 5, 2) := dk_54 5 (dk_at dksX5_where_1 18 rfl rfl)
theorem dX5_where_44 : decode cX5_where 44 = .ok (.iload 5, 2) := dk_21 5 (dk_at dksX5_where_1 20 rfl rfl)
theorem dX5_where_46 : decode cX5_where 46 = .ok (.iload_n 3, 1) := dk_29 (dk_at dksX5_where_1 22 rfl rfl)
theorem dX5_where_47 : decode cX5_where 47 = .ok (.if_icmp .ge 18, 3) := dk_162 0 18 (dk_at dksX5_where_2 0 rfl rfl)
theorem dX5_where_50 : decode cX5_where 50 = .ok (.aload_n 0, 1) := dk_42 (dk_at dksX5_where_2 3 rfl rfl)
theorem dX5_where_51 : decode cX5_where 51 = .ok (.iload 4, 2) := dk_21 4 (dk_at dksX5_where_2 4 rfl rfl)
theorem dX5_where_53 : decode cX5_where 53 = .ok (.iload_n 2, 1) := dk_28 (dk_at dksX5_where_2 6 rfl rfl)
theorem dX5_where_54 : decode cX5_where 54 = .ok (.invokevirtual 118, 3) := dk_182 0 118 (dk_at dksX5_where_2 7 rfl rfl)
theorem dX5_where_57 : decode cX5_where 57 = .ok (.istore 4, 2) := dk_54 4 (dk_at dksX5_where_2 10 rfl rfl)
theorem dX5_where_59 : decode cX5_where 59 = .ok (.iinc 5 1, 3) := dk_132 5 1 (dk_at dksX5_where_2 12 rfl rfl)
theorem dX5_where_62 : decode cX5_where 62 = .ok (.goto (-18), 3) := dk_167 255 238 (dk_at dksX5_where_2 15 rfl rfl)
theorem dX5_where_65 : decode cX5_where 65 = .ok (.aload_n 0, 1) := dk_42 (dk_at dksX5_where_2 18 rfl rfl)
theorem dX5_where_66 : decode cX5_where 66 = .ok (.iload 4, 2) := dk_21 4 (dk_at dksX5_where_2 19 rfl rfl)
theorem dX5_where_68 : decode cX5_where 68 = .ok (.invokevirtual 81, 3) := dk_182 0 81 (dk_at dksX5_where_2 21 rfl rfl)
theorem dX5_where_71 : decode cX5_where 71 = .ok (.ireturn, 1) := dk_172 (dk_at dksX5_where_3 0 rfl rfl)
abbrev cX5_far : ByteArray := prog_12_method_68_code
def yX5_far : MethodName := ⟨RX5, "far", "(II)I"⟩
def dkwX5_far_1 : List UInt8 := [4, 46, 182, 0, 202, 182, 0, 81, 167, 0, 8, 42, 4, 182, 0, 77, 172]
abbrev dktX5_far_1 : List UInt8 := dkwX5_far_1 ++ []
def dkwX5_far_0 : List UInt8 := [42, 27, 182, 0, 102, 153, 0, 30, 42, 28, 182, 0, 102, 153, 0, 22, 42, 42, 27, 28, 42, 180, 0, 7]
abbrev dktX5_far_0 : List UInt8 := dkwX5_far_0 ++ dktX5_far_1
theorem dksX5_far_0 : cX5_far.data.toList.drop 0 = dktX5_far_0 := by decide +kernel
theorem dksX5_far_1 : cX5_far.data.toList.drop 24 = dktX5_far_1 := dk_seg dksX5_far_0 24 rfl rfl
theorem dX5_far_0 : decode cX5_far 0 = .ok (.aload_n 0, 1) := dk_42 (dk_at dksX5_far_0 0 rfl rfl)
theorem dX5_far_1 : decode cX5_far 1 = .ok (.iload_n 1, 1) := dk_27 (dk_at dksX5_far_0 1 rfl rfl)
theorem dX5_far_2 : decode cX5_far 2 = .ok (.invokevirtual 102, 3) := dk_182 0 102 (dk_at dksX5_far_0 2 rfl rfl)
theorem dX5_far_5 : decode cX5_far 5 = .ok (.ifCond .eq 30, 3) := dk_153 0 30 (dk_at dksX5_far_0 5 rfl rfl)
theorem dX5_far_8 : decode cX5_far 8 = .ok (.aload_n 0, 1) := dk_42 (dk_at dksX5_far_0 8 rfl rfl)
theorem dX5_far_9 : decode cX5_far 9 = .ok (.iload_n 2, 1) := dk_28 (dk_at dksX5_far_0 9 rfl rfl)
theorem dX5_far_10 : decode cX5_far 10 = .ok (.invokevirtual 102, 3) := dk_182 0 102 (dk_at dksX5_far_0 10 rfl rfl)
theorem dX5_far_13 : decode cX5_far 13 = .ok (.ifCond .eq 22, 3) := dk_153 0 22 (dk_at dksX5_far_0 13 rfl rfl)
theorem dX5_far_16 : decode cX5_far 16 = .ok (.aload_n 0, 1) := dk_42 (dk_at dksX5_far_0 16 rfl rfl)
theorem dX5_far_17 : decode cX5_far 17 = .ok (.aload_n 0, 1) := dk_42 (dk_at dksX5_far_0 17 rfl rfl)
theorem dX5_far_18 : decode cX5_far 18 = .ok (.iload_n 1, 1) := dk_27 (dk_at dksX5_far_0 18 rfl rfl)
theorem dX5_far_19 : decode cX5_far 19 = .ok (.iload_n 2, 1) := dk_28 (dk_at dksX5_far_0 19 rfl rfl)
theorem dX5_far_20 : decode cX5_far 20 = .ok (.aload_n 0, 1) := dk_42 (dk_at dksX5_far_0 20 rfl rfl)
theorem dX5_far_21 : decode cX5_far 21 = .ok (.getfield 7, 3) := dk_180 0 7 (dk_at dksX5_far_0 21 rfl rfl)
theorem dX5_far_24 : decode cX5_far 24 = .ok (.iconst 1, 1) := dk_4 (dk_at dksX5_far_1 0 rfl rfl)
theorem dX5_far_25 : decode cX5_far 25 = .ok (.iaload, 1) := dk_46 (dk_at dksX5_far_1 1 rfl rfl)
theorem dX5_far_26 : decode cX5_far 26 = .ok (.invokevirtual 202, 3) := dk_182 0 202 (dk_at dksX5_far_1 2 rfl rfl)
theorem dX5_far_29 : decode cX5_far 29 = .ok (.invokevirtual 81, 3) := dk_182 0 81 (dk_at dksX5_far_1 5 rfl rfl)
theorem dX5_far_32 : decode cX5_far 32 = .ok (.goto 8, 3) := dk_167 0 8 (dk_at dksX5_far_1 8 rfl rfl)
theorem dX5_far_35 : decode cX5_far 35 = .ok (.aload_n 0, 1) := dk_42 (dk_at dksX5_far_1 11 rfl rfl)
theorem dX5_far_36 : decode cX5_far 36 = .ok (.iconst 1, 1) := dk_4 (dk_at dksX5_far_1 12 rfl rfl)
theorem dX5_far_37 : decode cX5_far 37 = .ok (.invokevirtual 77, 3) := dk_182 0 77 (dk_at dksX5_far_1 13 rfl rfl)
theorem dX5_far_40 : decode cX5_far 40 = .ok (.ireturn, 1) := dk_172 (dk_at dksX5_far_1 16 rfl rfl)
abbrev cX5_stepsBetween : ByteArray := prog_12_method_67_code
def yX5_stepsBetween : MethodName := ⟨RX5, "stepsBetween", "(III)I"⟩
def dkwX5_stepsBetween_1 : List UInt8 := [184, 0, 199, 96, 172]
abbrev dktX5_stepsBetween_1 : List UInt8 := dkwX5_stepsBetween_1 ++ []
def dkwX5_stepsBetween_0 : List UInt8 := [27, 29, 108, 28, 29, 108, 42, 180, 0, 7, 3, 46, 184, 0, 199, 27, 29, 112, 28, 29, 112, 29]
abbrev dktX5_stepsBetween_0 : List UInt8 := dkwX5_stepsBetween_0 ++ dktX5_stepsBetween_1
theorem dksX5_stepsBetween_0 : cX5_stepsBetween.data.toList.drop 0 = dktX5_stepsBetween_0 := by decide +kernel
theorem dksX5_stepsBetween_1 : cX5_stepsBetween.data.toList.drop 22 = dktX5_stepsBetween_1 := dk_seg dksX5_stepsBetween_0 22 rfl rfl
theorem dX5_stepsBetween_0 : decode cX5_stepsBetween 0 = .ok (.iload_n 1, 1) := dk_27 (dk_at dksX5_stepsBetween_0 0 rfl rfl)
theorem dX5_stepsBetween_1 : decode cX5_stepsBetween 1 = .ok (.iload_n 3, 1) := dk_29 (dk_at dksX5_stepsBetween_0 1 rfl rfl)
theorem dX5_stepsBetween_2 : decode cX5_stepsBetween 2 = .ok (.idiv, 1) := dk_108 (dk_at dksX5_stepsBetween_0 2 rfl rfl)
theorem dX5_stepsBetween_3 : decode cX5_stepsBetween 3 = .ok (.iload_n 2, 1) := dk_28 (dk_at dksX5_stepsBetween_0 3 rfl rfl)
theorem dX5_stepsBetween_4 : decode cX5_stepsBetween 4 = .ok (.iload_n 3, 1) := dk_29 (dk_at dksX5_stepsBetween_0 4 rfl rfl)
theorem dX5_stepsBetween_5 : decode cX5_stepsBetween 5 = .ok (.idiv, 1) := dk_108 (dk_at dksX5_stepsBetween_0 5 rfl rfl)
theorem dX5_stepsBetween_6 : decode cX5_stepsBetween 6 = .ok (.aload_n 0, 1) := dk_42 (dk_at dksX5_stepsBetween_0 6 rfl rfl)
theorem dX5_stepsBetween_7 : decode cX5_stepsBetween 7 = .ok (.getfield 7, 3) := dk_180 0 7 (dk_at dksX5_stepsBetween_0 7 rfl rfl)
theorem dX5_stepsBetween_10 : decode cX5_stepsBetween 10 = .ok (.iconst 0, 1) := dk_3 (dk_at dksX5_stepsBetween_0 10 rfl rfl)
theorem dX5_stepsBetween_11 : decode cX5_stepsBetween 11 = .ok (.iaload, 1) := dk_46 (dk_at dksX5_stepsBetween_0 11 rfl rfl)
theorem dX5_stepsBetween_12 : decode cX5_stepsBetween 12 = .ok (.invokestatic 199, 3) := dk_184 0 199 (dk_at dksX5_stepsBetween_0 12 rfl rfl)
theorem dX5_stepsBetween_15 : decode cX5_stepsBetween 15 = .ok (.iload_n 1, 1) := dk_27 (dk_at dksX5_stepsBetween_0 15 rfl rfl)
theorem dX5_stepsBetween_16 : decode cX5_stepsBetween 16 = .ok (.iload_n 3, 1) := dk_29 (dk_at dksX5_stepsBetween_0 16 rfl rfl)
theorem dX5_stepsBetween_17 : decode cX5_stepsBetween 17 = .ok (.irem, 1) := dk_112 (dk_at dksX5_stepsBetween_0 17 rfl rfl)
theorem dX5_stepsBetween_18 : decode cX5_stepsBetween 18 = .ok (.iload_n 2, 1) := dk_28 (dk_at dksX5_stepsBetween_0 18 rfl rfl)
theorem dX5_stepsBetween_19 : decode cX5_stepsBetween 19 = .ok (.iload_n 3, 1) := dk_29 (dk_at dksX5_stepsBetween_0 19 rfl rfl)
theorem dX5_stepsBetween_20 : decode cX5_stepsBetween 20 = .ok (.irem, 1) := dk_112 (dk_at dksX5_stepsBetween_0 20 rfl rfl)
theorem dX5_stepsBetween_21 : decode cX5_stepsBetween 21 = .ok (.iload_n 3, 1) := dk_29 (dk_at dksX5_stepsBetween_0 21 rfl rfl)
theorem dX5_stepsBetween_22 : decode cX5_stepsBetween 22 = .ok (.invokestatic 199, 3) := dk_184 0 199 (dk_at dksX5_stepsBetween_1 0 rfl rfl)
theorem dX5_stepsBetween_25 : decode cX5_stepsBetween 25 = .ok (.iadd, 1) := dk_96 (dk_at dksX5_stepsBetween_1 3 rfl rfl)
theorem dX5_stepsBetween_26 : decode cX5_stepsBetween 26 = .ok (.ireturn, 1) := dk_172 (dk_at dksX5_stepsBetween_1 4 rfl rfl)
abbrev cX5_round : ByteArray := prog_12_method_66_code
def yX5_round : MethodName := ⟨RX5, "round", "(III)I"⟩
def dkwX5_round_1 : List UInt8 := [167, 0, 6, 28, 29, 100, 172]
abbrev dktX5_round_1 : List UInt8 := dkwX5_round_1 ++ []
def dkwX5_round_0 : List UInt8 := [26, 27, 162, 0, 9, 27, 26, 100, 167, 0, 6, 26, 27, 100, 62, 29, 28, 29, 100, 162, 0, 7, 29]
abbrev dktX5_round_0 : List UInt8 := dkwX5_round_0 ++ dktX5_round_1
theorem dksX5_round_0 : cX5_round.data.toList.drop 0 = dktX5_round_0 := by decide +kernel
theorem dksX5_round_1 : cX5_round.data.toList.drop 23 = dktX5_round_1 := dk_seg dksX5_round_0 23 rfl rfl
theorem dX5_round_0 : decode cX5_round 0 = .ok (.iload_n 0, 1) := dk_26 (dk_at dksX5_round_0 0 rfl rfl)
theorem dX5_round_1 : decode cX5_round 1 = .ok (.iload_n 1, 1) := dk_27 (dk_at dksX5_round_0 1 rfl rfl)
theorem dX5_round_2 : decode cX5_round 2 = .ok (.if_icmp .ge 9, 3) := dk_162 0 9 (dk_at dksX5_round_0 2 rfl rfl)
theorem dX5_round_5 : decode cX5_round 5 = .ok (.iload_n 1, 1) := dk_27 (dk_at dksX5_round_0 5 rfl rfl)
theorem dX5_round_6 : decode cX5_round 6 = .ok (.iload_n 0, 1) := dk_26 (dk_at dksX5_round_0 6 rfl rfl)
theorem dX5_round_7 : decode cX5_round 7 = .ok (.isub, 1) := dk_100 (dk_at dksX5_round_0 7 rfl rfl)
theorem dX5_round_8 : decode cX5_round 8 = .ok (.goto 6, 3) := dk_167 0 6 (dk_at dksX5_round_0 8 rfl rfl)
theorem dX5_round_11 : decode cX5_round 11 = .ok (.iload_n 0, 1) := dk_26 (dk_at dksX5_round_0 11 rfl rfl)
theorem dX5_round_12 : decode cX5_round 12 = .ok (.iload_n 1, 1) := dk_27 (dk_at dksX5_round_0 12 rfl rfl)
theorem dX5_round_13 : decode cX5_round 13 = .ok (.isub, 1) := dk_100 (dk_at dksX5_round_0 13 rfl rfl)
theorem dX5_round_14 : decode cX5_round 14 = .ok (.istore_n 3, 1) := dk_62 (dk_at dksX5_round_0 14 rfl rfl)
theorem dX5_round_15 : decode cX5_round 15 = .ok (.iload_n 3, 1) := dk_29 (dk_at dksX5_round_0 15 rfl rfl)
theorem dX5_round_16 : decode cX5_round 16 = .ok (.iload_n 2, 1) := dk_28 (dk_at dksX5_round_0 16 rfl rfl)
theorem dX5_round_17 : decode cX5_round 17 = .ok (.iload_n 3, 1) := dk_29 (dk_at dksX5_round_0 17 rfl rfl)
theorem dX5_round_18 : decode cX5_round 18 = .ok (.isub, 1) := dk_100 (dk_at dksX5_round_0 18 rfl rfl)
theorem dX5_round_19 : decode cX5_round 19 = .ok (.if_icmp .ge 7, 3) := dk_162 0 7 (dk_at dksX5_round_0 19 rfl rfl)
theorem dX5_round_22 : decode cX5_round 22 = .ok (.iload_n 3, 1) := dk_29 (dk_at dksX5_round_0 22 rfl rfl)
theorem dX5_round_23 : decode cX5_round 23 = .ok (.goto 6, 3) := dk_167 0 6 (dk_at dksX5_round_1 0 rfl rfl)
theorem dX5_round_26 : decode cX5_round 26 = .ok (.iload_n 2, 1) := dk_28 (dk_at dksX5_round_1 3 rfl rfl)
theorem dX5_round_27 : decode cX5_round 27 = .ok (.iload_n 3, 1) := dk_29 (dk_at dksX5_round_1 4 rfl rfl)
theorem dX5_round_28 : decode cX5_round 28 = .ok (.isub, 1) := dk_100 (dk_at dksX5_round_1 5 rfl rfl)
theorem dX5_round_29 : decode cX5_round 29 = .ok (.ireturn, 1) := dk_172 (dk_at dksX5_round_1 6 rfl rfl)
abbrev cX5_sings : ByteArray := prog_12_method_74_code
def yX5_sings : MethodName := ⟨RX5, "sings", "(I)Z"⟩
def dkwX5_sings_1 : List UInt8 := [42, 27, 182, 0, 220, 153, 0, 7, 4, 167, 0, 4, 3, 172]
abbrev dktX5_sings_1 : List UInt8 := dkwX5_sings_1 ++ []
def dkwX5_sings_0 : List UInt8 := [42, 42, 27, 182, 0, 155, 153, 0, 7, 3, 167, 0, 4, 4, 181, 0, 46, 42, 180, 0, 46, 154, 0, 15]
abbrev dktX5_sings_0 : List UInt8 := dkwX5_sings_0 ++ dktX5_sings_1
theorem dksX5_sings_0 : cX5_sings.data.toList.drop 0 = dktX5_sings_0 := by decide +kernel
theorem dksX5_sings_1 : cX5_sings.data.toList.drop 24 = dktX5_sings_1 := dk_seg dksX5_sings_0 24 rfl rfl
theorem dX5_sings_0 : decode cX5_sings 0 = .ok (.aload_n 0, 1) := dk_42 (dk_at dksX5_sings_0 0 rfl rfl)
theorem dX5_sings_1 : decode cX5_sings 1 = .ok (.aload_n 0, 1) := dk_42 (dk_at dksX5_sings_0 1 rfl rfl)
theorem dX5_sings_2 : decode cX5_sings 2 = .ok (.iload_n 1, 1) := dk_27 (dk_at dksX5_sings_0 2 rfl rfl)
theorem dX5_sings_3 : decode cX5_sings 3 = .ok (.invokevirtual 155, 3) := dk_182 0 155 (dk_at dksX5_sings_0 3 rfl rfl)
theorem dX5_sings_6 : decode cX5_sings 6 = .ok (.ifCond .eq 7, 3) := dk_153 0 7 (dk_at dksX5_sings_0 6 rfl rfl)
theorem dX5_sings_9 : decode cX5_sings 9 = .ok (.iconst 0, 1) := dk_3 (dk_at dksX5_sings_0 9 rfl rfl)
theorem dX5_sings_10 : decode cX5_sings 10 = .ok (.goto 4, 3) := dk_167 0 4 (dk_at dksX5_sings_0 10 rfl rfl)
theorem dX5_sings_13 : decode cX5_sings 13 = .ok (.iconst 1, 1) := dk_4 (dk_at dksX5_sings_0 13 rfl rfl)
theorem dX5_sings_14 : decode cX5_sings 14 = .ok (.putfield 46, 3) := dk_181 0 46 (dk_at dksX5_sings_0 14 rfl rfl)
theorem dX5_sings_17 : decode cX5_sings 17 = .ok (.aload_n 0, 1) := dk_42 (dk_at dksX5_sings_0 17 rfl rfl)
theorem dX5_sings_18 : decode cX5_sings 18 = .ok (.getfield 46, 3) := dk_180 0 46 (dk_at dksX5_sings_0 18 rfl rfl)
theorem dX5_sings_21 : decode cX5_sings 21 = .ok (.ifCond .ne 15, 3) := dk_154 0 15 (dk_at dksX5_sings_0 21 rfl rfl)
theorem dX5_sings_24 : decode cX5_sings 24 = .ok (.aload_n 0, 1) := dk_42 (dk_at dksX5_sings_1 0 rfl rfl)
theorem dX5_sings_25 : decode cX5_sings 25 = .ok (.iload_n 1, 1) := dk_27 (dk_at dksX5_sings_1 1 rfl rfl)
theorem dX5_sings_26 : decode cX5_sings 26 = .ok (.invokevirtual 220, 3) := dk_182 0 220 (dk_at dksX5_sings_1 2 rfl rfl)
theorem dX5_sings_29 : decode cX5_sings 29 = .ok (.ifCond .eq 7, 3) := dk_153 0 7 (dk_at dksX5_sings_1 5 rfl rfl)
theorem dX5_sings_32 : decode cX5_sings 32 = .ok (.iconst 1, 1) := dk_4 (dk_at dksX5_sings_1 8 rfl rfl)
theorem dX5_sings_33 : decode cX5_sings 33 = .ok (.goto 4, 3) := dk_167 0 4 (dk_at dksX5_sings_1 9 rfl rfl)
theorem dX5_sings_36 : decode cX5_sings 36 = .ok (.iconst 0, 1) := dk_3 (dk_at dksX5_sings_1 12 rfl rfl)
theorem dX5_sings_37 : decode cX5_sings 37 = .ok (.ireturn, 1) := dk_172 (dk_at dksX5_sings_1 13 rfl rfl)
abbrev cX5_isSinging : ByteArray := prog_12_method_73_code
def yX5_isSinging : MethodName := ⟨RX5, "isSinging", "(I)Z"⟩
def dkwX5_isSinging_2 : List UInt8 := [154, 0, 7, 4, 167, 0, 4, 3, 61, 132, 3, 1, 167, 255, 214, 28, 172]
abbrev dktX5_isSinging_2 : List UInt8 := dkwX5_isSinging_2 ++ []
def dkwX5_isSinging_1 : List UInt8 := [162, 0, 39, 28, 153, 0, 27, 42, 27, 29, 182, 0, 214, 153, 0, 14, 42, 27, 29, 4, 96, 182, 0, 214]
abbrev dktX5_isSinging_1 : List UInt8 := dkwX5_isSinging_1 ++ dktX5_isSinging_2
def dkwX5_isSinging_0 : List UInt8 := [42, 27, 182, 0, 217, 158, 0, 7, 4, 167, 0, 4, 3, 61, 3, 62, 29, 42, 27, 182, 0, 205]
abbrev dktX5_isSinging_0 : List UInt8 := dkwX5_isSinging_0 ++ dktX5_isSinging_1
theorem dksX5_isSinging_0 : cX5_isSinging.data.toList.drop 0 = dktX5_isSinging_0 := by decide +kernel
theorem dksX5_isSinging_1 : cX5_isSinging.data.toList.drop 22 = dktX5_isSinging_1 := dk_seg dksX5_isSinging_0 22 rfl rfl
theorem dksX5_isSinging_2 : cX5_isSinging.data.toList.drop 46 = dktX5_isSinging_2 := dk_seg dksX5_isSinging_1 24 rfl rfl
theorem dX5_isSinging_0 : decode cX5_isSinging 0 = .ok (.aload_n 0, 1) := dk_42 (dk_at dksX5_isSinging_0 0 rfl rfl)
theorem dX5_isSinging_1 : decode cX5_isSinging 1 = .ok (.iload_n 1, 1) := dk_27 (dk_at dksX5_isSinging_0 1 rfl rfl)
theorem dX5_isSinging_2 : decode cX5_isSinging 2 = .ok (.invokevirtual 217, 3) := dk_182 0 217 (dk_at dksX5_isSinging_0 2 rfl rfl)
theorem dX5_isSinging_5 : decode cX5_isSinging 5 = .ok (.ifCond .le 7, 3) := dk_158 0 7 (dk_at dksX5_isSinging_0 5 rfl rfl)
theorem dX5_isSinging_8 : decode cX5_isSinging 8 = .ok (.iconst 1, 1) := dk_4 (dk_at dksX5_isSinging_0 8 rfl rfl)
theorem dX5_isSinging_9 : decode cX5_isSinging 9 = .ok (.goto 4, 3) := dk_167 0 4 (dk_at dksX5_isSinging_0 9 rfl rfl)
theorem dX5_isSinging_12 : decode cX5_isSinging 12 = .ok (.iconst 0, 1) := dk_3 (dk_at dksX5_isSinging_0 12 rfl rfl)
theorem dX5_isSinging_13 : decode cX5_isSinging 13 = .ok (.istore_n 2, 1) := dk_61 (dk_at dksX5_isSinging_0 13 rfl rfl)
theorem dX5_isSinging_14 : decode cX5_isSinging 14 = .ok (.iconst 0, 1) := dk_3 (dk_at dksX5_isSinging_0 14 rfl rfl)
theorem dX5_isSinging_15 : decode cX5_isSinging 15 = .ok (.istore_n 3, 1) := dk_62 (dk_at dksX5_isSinging_0 15 rfl rfl)
theorem dX5_isSinging_16 : decode cX5_isSinging 16 = .ok (.iload_n 3, 1) := dk_29 (dk_at dksX5_isSinging_0 16 rfl rfl)
theorem dX5_isSinging_17 : decode cX5_isSinging 17 = .ok (.aload_n 0, 1) := dk_42 (dk_at dksX5_isSinging_0 17 rfl rfl)
theorem dX5_isSinging_18 : decode cX5_isSinging 18 = .ok (.iload_n 1, 1) := dk_27 (dk_at dksX5_isSinging_0 18 rfl rfl)
theorem dX5_isSinging_19 : decode cX5_isSinging 19 = .ok (.invokevirtual 205, 3) := dk_182 0 205 (dk_at dksX5_isSinging_0 19 rfl rfl)
theorem dX5_isSinging_22 : decode cX5_isSinging 22 = .ok (.if_icmp .ge 39, 3) := dk_162 0 39 (dk_at dksX5_isSinging_1 0 rfl rfl)
theorem dX5_isSinging_25 : decode cX5_isSinging 25 = .ok (.iload_n 2, 1) := dk_28 (dk_at dksX5_isSinging_1 3 rfl rfl)
theorem dX5_isSinging_26 : decode cX5_isSinging 26 = .ok (.ifCond .eq 27, 3) := dk_153 0 27 (dk_at dksX5_isSinging_1 4 rfl rfl)
theorem dX5_isSinging_29 : decode cX5_isSinging 29 = .ok (.aload_n 0, 1) := dk_42 (dk_at dksX5_isSinging_1 7 rfl rfl)
theorem dX5_isSinging_30 : decode cX5_isSinging 30 = .ok (.iload_n 1, 1) := dk_27 (dk_at dksX5_isSinging_1 8 rfl rfl)
theorem dX5_isSinging_31 : decode cX5_isSinging 31 = .ok (.iload_n 3, 1) := dk_29 (dk_at dksX5_isSinging_1 9 rfl rfl)
theorem dX5_isSinging_32 : decode cX5_isSinging 32 = .ok (.invokevirtual 214, 3) := dk_182 0 214 (dk_at dksX5_isSinging_1 10 rfl rfl)
theorem dX5_isSinging_35 : decode cX5_isSinging 35 = .ok (.ifCond .eq 14, 3) := dk_153 0 14 (dk_at dksX5_isSinging_1 13 rfl rfl)
theorem dX5_isSinging_38 : decode cX5_isSinging 38 = .ok (.aload_n 0, 1) := dk_42 (dk_at dksX5_isSinging_1 16 rfl rfl)
theorem dX5_isSinging_39 : decode cX5_isSinging 39 = .ok (.iload_n 1, 1) := dk_27 (dk_at dksX5_isSinging_1 17 rfl rfl)
theorem dX5_isSinging_40 : decode cX5_isSinging 40 = .ok (.iload_n 3, 1) := dk_29 (dk_at dksX5_isSinging_1 18 rfl rfl)
theorem dX5_isSinging_41 : decode cX5_isSinging 41 = .ok (.iconst 1, 1) := dk_4 (dk_at dksX5_isSinging_1 19 rfl rfl)
theorem dX5_isSinging_42 : decode cX5_isSinging 42 = .ok (.iadd, 1) := dk_96 (dk_at dksX5_isSinging_1 20 rfl rfl)
theorem dX5_isSinging_43 : decode cX5_isSinging 43 = .ok (.invokevirtual 214, 3) := dk_182 0 214 (dk_at dksX5_isSinging_1 21 rfl rfl)
theorem dX5_isSinging_46 : decode cX5_isSinging 46 = .ok (.ifCond .ne 7, 3) := dk_154 0 7 (dk_at dksX5_isSinging_2 0 rfl rfl)
theorem dX5_isSinging_49 : decode cX5_isSinging 49 = .ok (.iconst 1, 1) := dk_4 (dk_at dksX5_isSinging_2 3 rfl rfl)
theorem dX5_isSinging_50 : decode cX5_isSinging 50 = .ok (.goto 4, 3) := dk_167 0 4 (dk_at dksX5_isSinging_2 4 rfl rfl)
theorem dX5_isSinging_53 : decode cX5_isSinging 53 = .ok (.iconst 0, 1) := dk_3 (dk_at dksX5_isSinging_2 7 rfl rfl)
theorem dX5_isSinging_54 : decode cX5_isSinging 54 = .ok (.istore_n 2, 1) := dk_61 (dk_at dksX5_isSinging_2 8 rfl rfl)
theorem dX5_isSinging_55 : decode cX5_isSinging 55 = .ok (.iinc 3 1, 3) := dk_132 3 1 (dk_at dksX5_isSinging_2 9 rfl rfl)
theorem dX5_isSinging_58 : decode cX5_isSinging 58 = .ok (.goto (-42), 3) := dk_167 255 214 (dk_at dksX5_isSinging_2 12 rfl rfl)
theorem dX5_isSinging_61 : decode cX5_isSinging 61 = .ok (.iload_n 2, 1) := dk_28 (dk_at dksX5_isSinging_2 15 rfl rfl)
theorem dX5_isSinging_62 : decode cX5_isSinging 62 = .ok (.ireturn, 1) := dk_172 (dk_at dksX5_isSinging_2 16 rfl rfl)
abbrev cX5_vowels : ByteArray := prog_12_method_72_code
def yX5_vowels : MethodName := ⟨RX5, "vowels", "(I)I"⟩
def dkwX5_vowels_1 : List UInt8 := [167, 0, 4, 3, 96, 61, 132, 3, 1, 167, 255, 227, 28, 172]
abbrev dktX5_vowels_1 : List UInt8 := dkwX5_vowels_1 ++ []
def dkwX5_vowels_0 : List UInt8 := [3, 61, 3, 62, 29, 42, 27, 182, 0, 205, 162, 0, 26, 28, 42, 27, 29, 182, 0, 214, 153, 0, 7, 4]
abbrev dktX5_vowels_0 : List UInt8 := dkwX5_vowels_0 ++ dktX5_vowels_1
theorem dksX5_vowels_0 : cX5_vowels.data.toList.drop 0 = dktX5_vowels_0 := by decide +kernel
theorem dksX5_vowels_1 : cX5_vowels.data.toList.drop 24 = dktX5_vowels_1 := dk_seg dksX5_vowels_0 24 rfl rfl
theorem dX5_vowels_0 : decode cX5_vowels 0 = .ok (.iconst 0, 1) := dk_3 (dk_at dksX5_vowels_0 0 rfl rfl)
theorem dX5_vowels_1 : decode cX5_vowels 1 = .ok (.istore_n 2, 1) := dk_61 (dk_at dksX5_vowels_0 1 rfl rfl)
theorem dX5_vowels_2 : decode cX5_vowels 2 = .ok (.iconst 0, 1) := dk_3 (dk_at dksX5_vowels_0 2 rfl rfl)
theorem dX5_vowels_3 : decode cX5_vowels 3 = .ok (.istore_n 3, 1) := dk_62 (dk_at dksX5_vowels_0 3 rfl rfl)
theorem dX5_vowels_4 : decode cX5_vowels 4 = .ok (.iload_n 3, 1) := dk_29 (dk_at dksX5_vowels_0 4 rfl rfl)
theorem dX5_vowels_5 : decode cX5_vowels 5 = .ok (.aload_n 0, 1) := dk_42 (dk_at dksX5_vowels_0 5 rfl rfl)
theorem dX5_vowels_6 : decode cX5_vowels 6 = .ok (.iload_n 1, 1) := dk_27 (dk_at dksX5_vowels_0 6 rfl rfl)
theorem dX5_vowels_7 : decode cX5_vowels 7 = .ok (.invokevirtual 205, 3) := dk_182 0 205 (dk_at dksX5_vowels_0 7 rfl rfl)
theorem dX5_vowels_10 : decode cX5_vowels 10 = .ok (.if_icmp .ge 26, 3) := dk_162 0 26 (dk_at dksX5_vowels_0 10 rfl rfl)
theorem dX5_vowels_13 : decode cX5_vowels 13 = .ok (.iload_n 2, 1) := dk_28 (dk_at dksX5_vowels_0 13 rfl rfl)
theorem dX5_vowels_14 : decode cX5_vowels 14 = .ok (.aload_n 0, 1) := dk_42 (dk_at dksX5_vowels_0 14 rfl rfl)
theorem dX5_vowels_15 : decode cX5_vowels 15 = .ok (.iload_n 1, 1) := dk_27 (dk_at dksX5_vowels_0 15 rfl rfl)
theorem dX5_vowels_16 : decode cX5_vowels 16 = .ok (.iload_n 3, 1) := dk_29 (dk_at dksX5_vowels_0 16 rfl rfl)
theorem dX5_vowels_17 : decode cX5_vowels 17 = .ok (.invokevirtual 214, 3) := dk_182 0 214 (dk_at dksX5_vowels_0 17 rfl rfl)
theorem dX5_vowels_20 : decode cX5_vowels 20 = .ok (.ifCond .eq 7, 3) := dk_153 0 7 (dk_at dksX5_vowels_0 20 rfl rfl)
theorem dX5_vowels_23 : decode cX5_vowels 23 = .ok (.iconst 1, 1) := dk_4 (dk_at dksX5_vowels_0 23 rfl rfl)
theorem dX5_vowels_24 : decode cX5_vowels 24 = .ok (.goto 4, 3) := dk_167 0 4 (dk_at dksX5_vowels_1 0 rfl rfl)
theorem dX5_vowels_27 : decode cX5_vowels 27 = .ok (.iconst 0, 1) := dk_3 (dk_at dksX5_vowels_1 3 rfl rfl)
theorem dX5_vowels_28 : decode cX5_vowels 28 = .ok (.iadd, 1) := dk_96 (dk_at dksX5_vowels_1 4 rfl rfl)
theorem dX5_vowels_29 : decode cX5_vowels 29 = .ok (.istore_n 2, 1) := dk_61 (dk_at dksX5_vowels_1 5 rfl rfl)
theorem dX5_vowels_30 : decode cX5_vowels 30 = .ok (.iinc 3 1, 3) := dk_132 3 1 (dk_at dksX5_vowels_1 6 rfl rfl)
theorem dX5_vowels_33 : decode cX5_vowels 33 = .ok (.goto (-29), 3) := dk_167 255 227 (dk_at dksX5_vowels_1 9 rfl rfl)
theorem dX5_vowels_36 : decode cX5_vowels 36 = .ok (.iload_n 2, 1) := dk_28 (dk_at dksX5_vowels_1 12 rfl rfl)
theorem dX5_vowels_37 : decode cX5_vowels 37 = .ok (.ireturn, 1) := dk_172 (dk_at dksX5_vowels_1 13 rfl rfl)
abbrev cX5_lengthOf : ByteArray := prog_12_method_69_code
def yX5_lengthOf : MethodName := ⟨RX5, "lengthOf", "(I)I"⟩
def dkwX5_lengthOf_1 : List UInt8 := [46, 172]
abbrev dktX5_lengthOf_1 : List UInt8 := dkwX5_lengthOf_1 ++ []
def dkwX5_lengthOf_0 : List UInt8 := [27, 42, 180, 0, 7, 3, 46, 162, 0, 12, 42, 180, 0, 7, 4, 46, 167, 0, 9, 42, 180, 0, 7, 3]
abbrev dktX5_lengthOf_0 : List UInt8 := dkwX5_lengthOf_0 ++ dktX5_lengthOf_1
theorem dksX5_lengthOf_0 : cX5_lengthOf.data.toList.drop 0 = dktX5_lengthOf_0 := by decide +kernel
theorem dksX5_lengthOf_1 : cX5_lengthOf.data.toList.drop 24 = dktX5_lengthOf_1 := dk_seg dksX5_lengthOf_0 24 rfl rfl
theorem dX5_lengthOf_0 : decode cX5_lengthOf 0 = .ok (.iload_n 1, 1) := dk_27 (dk_at dksX5_lengthOf_0 0 rfl rfl)
theorem dX5_lengthOf_1 : decode cX5_lengthOf 1 = .ok (.aload_n 0, 1) := dk_42 (dk_at dksX5_lengthOf_0 1 rfl rfl)
theorem dX5_lengthOf_2 : decode cX5_lengthOf 2 = .ok (.getfield 7, 3) := dk_180 0 7 (dk_at dksX5_lengthOf_0 2 rfl rfl)
theorem dX5_lengthOf_5 : decode cX5_lengthOf 5 = .ok (.iconst 0, 1) := dk_3 (dk_at dksX5_lengthOf_0 5 rfl rfl)
theorem dX5_lengthOf_6 : decode cX5_lengthOf 6 = .ok (.iaload, 1) := dk_46 (dk_at dksX5_lengthOf_0 6 rfl rfl)
theorem dX5_lengthOf_7 : decode cX5_lengthOf 7 = .ok (.if_icmp .ge 12, 3) := dk_162 0 12 (dk_at dksX5_lengthOf_0 7 rfl rfl)
theorem dX5_lengthOf_10 : decode cX5_lengthOf 10 = .ok (.aload_n 0, 1) := dk_42 (dk_at dksX5_lengthOf_0 10 rfl rfl)
theorem dX5_lengthOf_11 : decode cX5_lengthOf 11 = .ok (.getfield 7, 3) := dk_180 0 7 (dk_at dksX5_lengthOf_0 11 rfl rfl)
theorem dX5_lengthOf_14 : decode cX5_lengthOf 14 = .ok (.iconst 1, 1) := dk_4 (dk_at dksX5_lengthOf_0 14 rfl rfl)
theorem dX5_lengthOf_15 : decode cX5_lengthOf 15 = .ok (.iaload, 1) := dk_46 (dk_at dksX5_lengthOf_0 15 rfl rfl)
theorem dX5_lengthOf_16 : decode cX5_lengthOf 16 = .ok (.goto 9, 3) := dk_167 0 9 (dk_at dksX5_lengthOf_0 16 rfl rfl)
theorem dX5_lengthOf_19 : decode cX5_lengthOf 19 = .ok (.aload_n 0, 1) := dk_42 (dk_at dksX5_lengthOf_0 19 rfl rfl)
theorem dX5_lengthOf_20 : decode cX5_lengthOf 20 = .ok (.getfield 7, 3) := dk_180 0 7 (dk_at dksX5_lengthOf_0 20 rfl rfl)
theorem dX5_lengthOf_23 : decode cX5_lengthOf 23 = .ok (.iconst 0, 1) := dk_3 (dk_at dksX5_lengthOf_0 23 rfl rfl)
theorem dX5_lengthOf_24 : decode cX5_lengthOf 24 = .ok (.iaload, 1) := dk_46 (dk_at dksX5_lengthOf_1 0 rfl rfl)
theorem dX5_lengthOf_25 : decode cX5_lengthOf 25 = .ok (.ireturn, 1) := dk_172 (dk_at dksX5_lengthOf_1 1 rfl rfl)
abbrev cX5_isVowelOn : ByteArray := prog_12_method_71_code
def yX5_isVowelOn : MethodName := ⟨RX5, "isVowelOn", "(II)Z"⟩
def dkwX5_isVowelOn_0 : List UInt8 := [42, 180, 0, 7, 16, 14, 42, 27, 28, 42, 27, 182, 0, 205, 112, 182, 0, 208, 96, 46, 184, 0, 211, 172]
abbrev dktX5_isVowelOn_0 : List UInt8 := dkwX5_isVowelOn_0 ++ []
theorem dksX5_isVowelOn_0 : cX5_isVowelOn.data.toList.drop 0 = dktX5_isVowelOn_0 := by decide +kernel
theorem dX5_isVowelOn_0 : decode cX5_isVowelOn 0 = .ok (.aload_n 0, 1) := dk_42 (dk_at dksX5_isVowelOn_0 0 rfl rfl)
theorem dX5_isVowelOn_1 : decode cX5_isVowelOn 1 = .ok (.getfield 7, 3) := dk_180 0 7 (dk_at dksX5_isVowelOn_0 1 rfl rfl)
theorem dX5_isVowelOn_4 : decode cX5_isVowelOn 4 = .ok (.bipush 14, 2) := dk_16 14 (dk_at dksX5_isVowelOn_0 4 rfl rfl)
theorem dX5_isVowelOn_6 : decode cX5_isVowelOn 6 = .ok (.aload_n 0, 1) := dk_42 (dk_at dksX5_isVowelOn_0 6 rfl rfl)
theorem dX5_isVowelOn_7 : decode cX5_isVowelOn 7 = .ok (.iload_n 1, 1) := dk_27 (dk_at dksX5_isVowelOn_0 7 rfl rfl)
theorem dX5_isVowelOn_8 : decode cX5_isVowelOn 8 = .ok (.iload_n 2, 1) := dk_28 (dk_at dksX5_isVowelOn_0 8 rfl rfl)
theorem dX5_isVowelOn_9 : decode cX5_isVowelOn 9 = .ok (.aload_n 0, 1) := dk_42 (dk_at dksX5_isVowelOn_0 9 rfl rfl)
theorem dX5_isVowelOn_10 : decode cX5_isVowelOn 10 = .ok (.iload_n 1, 1) := dk_27 (dk_at dksX5_isVowelOn_0 10 rfl rfl)
theorem dX5_isVowelOn_11 : decode cX5_isVowelOn 11 = .ok (.invokevirtual 205, 3) := dk_182 0 205 (dk_at dksX5_isVowelOn_0 11 rfl rfl)
theorem dX5_isVowelOn_14 : decode cX5_isVowelOn 14 = .ok (.irem, 1) := dk_112 (dk_at dksX5_isVowelOn_0 14 rfl rfl)
theorem dX5_isVowelOn_15 : decode cX5_isVowelOn 15 = .ok (.invokevirtual 208, 3) := dk_182 0 208 (dk_at dksX5_isVowelOn_0 15 rfl rfl)
theorem dX5_isVowelOn_18 : decode cX5_isVowelOn 18 = .ok (.iadd, 1) := dk_96 (dk_at dksX5_isVowelOn_0 18 rfl rfl)
theorem dX5_isVowelOn_19 : decode cX5_isVowelOn 19 = .ok (.iaload, 1) := dk_46 (dk_at dksX5_isVowelOn_0 19 rfl rfl)
theorem dX5_isVowelOn_20 : decode cX5_isVowelOn 20 = .ok (.invokestatic 211, 3) := dk_184 0 211 (dk_at dksX5_isVowelOn_0 20 rfl rfl)
theorem dX5_isVowelOn_23 : decode cX5_isVowelOn 23 = .ok (.ireturn, 1) := dk_172 (dk_at dksX5_isVowelOn_0 23 rfl rfl)
abbrev cX5_placeOn : ByteArray := prog_12_method_70_code
def yX5_placeOn : MethodName := ⟨RX5, "placeOn", "(II)I"⟩
def dkwX5_placeOn_1 : List UInt8 := [180, 0, 7, 4, 46, 28, 104, 27, 96, 42, 180, 0, 7, 3, 46, 100, 172]
abbrev dktX5_placeOn_1 : List UInt8 := dkwX5_placeOn_1 ++ []
def dkwX5_placeOn_0 : List UInt8 := [27, 42, 180, 0, 7, 3, 46, 162, 0, 16, 42, 180, 0, 7, 4, 46, 27, 104, 28, 96, 167, 0, 20, 42]
abbrev dktX5_placeOn_0 : List UInt8 := dkwX5_placeOn_0 ++ dktX5_placeOn_1
theorem dksX5_placeOn_0 : cX5_placeOn.data.toList.drop 0 = dktX5_placeOn_0 := by decide +kernel
theorem dksX5_placeOn_1 : cX5_placeOn.data.toList.drop 24 = dktX5_placeOn_1 := dk_seg dksX5_placeOn_0 24 rfl rfl
theorem dX5_placeOn_0 : decode cX5_placeOn 0 = .ok (.iload_n 1, 1) := dk_27 (dk_at dksX5_placeOn_0 0 rfl rfl)
theorem dX5_placeOn_1 : decode cX5_placeOn 1 = .ok (.aload_n 0, 1) := dk_42 (dk_at dksX5_placeOn_0 1 rfl rfl)
theorem dX5_placeOn_2 : decode cX5_placeOn 2 = .ok (.getfield 7, 3) := dk_180 0 7 (dk_at dksX5_placeOn_0 2 rfl rfl)
theorem dX5_placeOn_5 : decode cX5_placeOn 5 = .ok (.iconst 0, 1) := dk_3 (dk_at dksX5_placeOn_0 5 rfl rfl)
theorem dX5_placeOn_6 : decode cX5_placeOn 6 = .ok (.iaload, 1) := dk_46 (dk_at dksX5_placeOn_0 6 rfl rfl)
theorem dX5_placeOn_7 : decode cX5_placeOn 7 = .ok (.if_icmp .ge 16, 3) := dk_162 0 16 (dk_at dksX5_placeOn_0 7 rfl rfl)
theorem dX5_placeOn_10 : decode cX5_placeOn 10 = .ok (.aload_n 0, 1) := dk_42 (dk_at dksX5_placeOn_0 10 rfl rfl)
theorem dX5_placeOn_11 : decode cX5_placeOn 11 = .ok (.getfield 7, 3) := dk_180 0 7 (dk_at dksX5_placeOn_0 11 rfl rfl)
theorem dX5_placeOn_14 : decode cX5_placeOn 14 = .ok (.iconst 1, 1) := dk_4 (dk_at dksX5_placeOn_0 14 rfl rfl)
theorem dX5_placeOn_15 : decode cX5_placeOn 15 = .ok (.iaload, 1) := dk_46 (dk_at dksX5_placeOn_0 15 rfl rfl)
theorem dX5_placeOn_16 : decode cX5_placeOn 16 = .ok (.iload_n 1, 1) := dk_27 (dk_at dksX5_placeOn_0 16 rfl rfl)
theorem dX5_placeOn_17 : decode cX5_placeOn 17 = .ok (.imul, 1) := dk_104 (dk_at dksX5_placeOn_0 17 rfl rfl)
theorem dX5_placeOn_18 : decode cX5_placeOn 18 = .ok (.iload_n 2, 1) := dk_28 (dk_at dksX5_placeOn_0 18 rfl rfl)
theorem dX5_placeOn_19 : decode cX5_placeOn 19 = .ok (.iadd, 1) := dk_96 (dk_at dksX5_placeOn_0 19 rfl rfl)
theorem dX5_placeOn_20 : decode cX5_placeOn 20 = .ok (.goto 20, 3) := dk_167 0 20 (dk_at dksX5_placeOn_0 20 rfl rfl)
theorem dX5_placeOn_23 : decode cX5_placeOn 23 = .ok (.aload_n 0, 1) := dk_42 (dk_at dksX5_placeOn_0 23 rfl rfl)
theorem dX5_placeOn_24 : decode cX5_placeOn 24 = .ok (.getfield 7, 3) := dk_180 0 7 (dk_at dksX5_placeOn_1 0 rfl rfl)
theorem dX5_placeOn_27 : decode cX5_placeOn 27 = .ok (.iconst 1, 1) := dk_4 (dk_at dksX5_placeOn_1 3 rfl rfl)
theorem dX5_placeOn_28 : decode cX5_placeOn 28 = .ok (.iaload, 1) := dk_46 (dk_at dksX5_placeOn_1 4 rfl rfl)
theorem dX5_placeOn_29 : decode cX5_placeOn 29 = .ok (.iload_n 2, 1) := dk_28 (dk_at dksX5_placeOn_1 5 rfl rfl)
theorem dX5_placeOn_30 : decode cX5_placeOn 30 = .ok (.imul, 1) := dk_104 (dk_at dksX5_placeOn_1 6 rfl rfl)
theorem dX5_placeOn_31 : decode cX5_placeOn 31 = .ok (.iload_n 1, 1) := dk_27 (dk_at dksX5_placeOn_1 7 rfl rfl)
theorem dX5_placeOn_32 : decode cX5_placeOn 32 = .ok (.iadd, 1) := dk_96 (dk_at dksX5_placeOn_1 8 rfl rfl)
theorem dX5_placeOn_33 : decode cX5_placeOn 33 = .ok (.aload_n 0, 1) := dk_42 (dk_at dksX5_placeOn_1 9 rfl rfl)
theorem dX5_placeOn_34 : decode cX5_placeOn 34 = .ok (.getfield 7, 3) := dk_180 0 7 (dk_at dksX5_placeOn_1 10 rfl rfl)
theorem dX5_placeOn_37 : decode cX5_placeOn 37 = .ok (.iconst 0, 1) := dk_3 (dk_at dksX5_placeOn_1 13 rfl rfl)
theorem dX5_placeOn_38 : decode cX5_placeOn 38 = .ok (.iaload, 1) := dk_46 (dk_at dksX5_placeOn_1 14 rfl rfl)
theorem dX5_placeOn_39 : decode cX5_placeOn 39 = .ok (.isub, 1) := dk_100 (dk_at dksX5_placeOn_1 15 rfl rfl)
theorem dX5_placeOn_40 : decode cX5_placeOn 40 = .ok (.ireturn, 1) := dk_172 (dk_at dksX5_placeOn_1 16 rfl rfl)
abbrev cX5_isVowel : ByteArray := prog_12_method_59_code
def yX5_isVowel : MethodName := ⟨RX5, "isVowel", "(I)Z"⟩
def dkwX5_isVowel_0 : List UInt8 := [26, 153, 0, 14, 26, 7, 159, 0, 9, 26, 16, 8, 160, 0, 7, 4, 167, 0, 4, 3, 172]
abbrev dktX5_isVowel_0 : List UInt8 := dkwX5_isVowel_0 ++ []
theorem dksX5_isVowel_0 : cX5_isVowel.data.toList.drop 0 = dktX5_isVowel_0 := by decide +kernel
theorem dX5_isVowel_0 : decode cX5_isVowel 0 = .ok (.iload_n 0, 1) := dk_26 (dk_at dksX5_isVowel_0 0 rfl rfl)
theorem dX5_isVowel_1 : decode cX5_isVowel 1 = .ok (.ifCond .eq 14, 3) := dk_153 0 14 (dk_at dksX5_isVowel_0 1 rfl rfl)
theorem dX5_isVowel_4 : decode cX5_isVowel 4 = .ok (.iload_n 0, 1) := dk_26 (dk_at dksX5_isVowel_0 4 rfl rfl)
theorem dX5_isVowel_5 : decode cX5_isVowel 5 = .ok (.iconst 4, 1) := dk_7 (dk_at dksX5_isVowel_0 5 rfl rfl)
theorem dX5_isVowel_6 : decode cX5_isVowel 6 = .ok (.if_icmp .eq 9, 3) := dk_159 0 9 (dk_at dksX5_isVowel_0 6 rfl rfl)
theorem dX5_isVowel_9 : decode cX5_isVowel 9 = .ok (.iload_n 0, 1) := dk_26 (dk_at dksX5_isVowel_0 9 rfl rfl)
theorem dX5_isVowel_10 : decode cX5_isVowel 10 = .ok (.bipush 8, 2) := dk_16 8 (dk_at dksX5_isVowel_0 10 rfl rfl)
theorem dX5_isVowel_12 : decode cX5_isVowel 12 = .ok (.if_icmp .ne 7, 3) := dk_160 0 7 (dk_at dksX5_isVowel_0 12 rfl rfl)
theorem dX5_isVowel_15 : decode cX5_isVowel 15 = .ok (.iconst 1, 1) := dk_4 (dk_at dksX5_isVowel_0 15 rfl rfl)
theorem dX5_isVowel_16 : decode cX5_isVowel 16 = .ok (.goto 4, 3) := dk_167 0 4 (dk_at dksX5_isVowel_0 16 rfl rfl)
theorem dX5_isVowel_19 : decode cX5_isVowel 19 = .ok (.iconst 0, 1) := dk_3 (dk_at dksX5_isVowel_0 19 rfl rfl)
theorem dX5_isVowel_20 : decode cX5_isVowel 20 = .ok (.ireturn, 1) := dk_172 (dk_at dksX5_isVowel_0 20 rfl rfl)
abbrev cX5_singing : ByteArray := prog_12_method_75_code
def yX5_singing : MethodName := ⟨RX5, "singing", "()I"⟩
def dkwX5_singing_1 : List UInt8 := [167, 0, 4, 3, 96, 60, 132, 2, 1, 167, 255, 229, 42, 27, 182, 0, 81, 172]
abbrev dktX5_singing_1 : List UInt8 := dkwX5_singing_1 ++ []
def dkwX5_singing_0 : List UInt8 := [3, 60, 3, 61, 28, 42, 182, 0, 74, 162, 0, 25, 27, 42, 28, 182, 0, 220, 153, 0, 7, 4]
abbrev dktX5_singing_0 : List UInt8 := dkwX5_singing_0 ++ dktX5_singing_1
theorem dksX5_singing_0 : cX5_singing.data.toList.drop 0 = dktX5_singing_0 := by decide +kernel
theorem dksX5_singing_1 : cX5_singing.data.toList.drop 22 = dktX5_singing_1 := dk_seg dksX5_singing_0 22 rfl rfl
theorem dX5_singing_0 : decode cX5_singing 0 = .ok (.iconst 0, 1) := dk_3 (dk_at dksX5_singing_0 0 rfl rfl)
theorem dX5_singing_1 : decode cX5_singing 1 = .ok (.istore_n 1, 1) := dk_60 (dk_at dksX5_singing_0 1 rfl rfl)
theorem dX5_singing_2 : decode cX5_singing 2 = .ok (.iconst 0, 1) := dk_3 (dk_at dksX5_singing_0 2 rfl rfl)
theorem dX5_singing_3 : decode cX5_singing 3 = .ok (.istore_n 2, 1) := dk_61 (dk_at dksX5_singing_0 3 rfl rfl)
theorem dX5_singing_4 : decode cX5_singing 4 = .ok (.iload_n 2, 1) := dk_28 (dk_at dksX5_singing_0 4 rfl rfl)
theorem dX5_singing_5 : decode cX5_singing 5 = .ok (.aload_n 0, 1) := dk_42 (dk_at dksX5_singing_0 5 rfl rfl)
theorem dX5_singing_6 : decode cX5_singing 6 = .ok (.invokevirtual 74, 3) := dk_182 0 74 (dk_at dksX5_singing_0 6 rfl rfl)
theorem dX5_singing_9 : decode cX5_singing 9 = .ok (.if_icmp .ge 25, 3) := dk_162 0 25 (dk_at dksX5_singing_0 9 rfl rfl)
theorem dX5_singing_12 : decode cX5_singing 12 = .ok (.iload_n 1, 1) := dk_27 (dk_at dksX5_singing_0 12 rfl rfl)
theorem dX5_singing_13 : decode cX5_singing 13 = .ok (.aload_n 0, 1) := dk_42 (dk_at dksX5_singing_0 13 rfl rfl)
theorem dX5_singing_14 : decode cX5_singing 14 = .ok (.iload_n 2, 1) := dk_28 (dk_at dksX5_singing_0 14 rfl rfl)
theorem dX5_singing_15 : decode cX5_singing 15 = .ok (.invokevirtual 220, 3) := dk_182 0 220 (dk_at dksX5_singing_0 15 rfl rfl)
theorem dX5_singing_18 : decode cX5_singing 18 = .ok (.ifCond .eq 7, 3) := dk_153 0 7 (dk_at dksX5_singing_0 18 rfl rfl)
theorem dX5_singing_21 : decode cX5_singing 21 = .ok (.iconst 1, 1) := dk_4 (dk_at dksX5_singing_0 21 rfl rfl)
theorem dX5_singing_22 : decode cX5_singing 22 = .ok (.goto 4, 3) := dk_167 0 4 (dk_at dksX5_singing_1 0 rfl rfl)
theorem dX5_singing_25 : decode cX5_singing 25 = .ok (.iconst 0, 1) := dk_3 (dk_at dksX5_singing_1 3 rfl rfl)
theorem dX5_singing_26 : decode cX5_singing 26 = .ok (.iadd, 1) := dk_96 (dk_at dksX5_singing_1 4 rfl rfl)
theorem dX5_singing_27 : decode cX5_singing 27 = .ok (.istore_n 1, 1) := dk_60 (dk_at dksX5_singing_1 5 rfl rfl)
theorem dX5_singing_28 : decode cX5_singing 28 = .ok (.iinc 2 1, 3) := dk_132 2 1 (dk_at dksX5_singing_1 6 rfl rfl)
theorem dX5_singing_31 : decode cX5_singing 31 = .ok (.goto (-27), 3) := dk_167 255 229 (dk_at dksX5_singing_1 9 rfl rfl)
theorem dX5_singing_34 : decode cX5_singing 34 = .ok (.aload_n 0, 1) := dk_42 (dk_at dksX5_singing_1 12 rfl rfl)
theorem dX5_singing_35 : decode cX5_singing 35 = .ok (.iload_n 1, 1) := dk_27 (dk_at dksX5_singing_1 13 rfl rfl)
theorem dX5_singing_36 : decode cX5_singing 36 = .ok (.invokevirtual 81, 3) := dk_182 0 81 (dk_at dksX5_singing_1 14 rfl rfl)
theorem dX5_singing_39 : decode cX5_singing 39 = .ok (.ireturn, 1) := dk_172 (dk_at dksX5_singing_1 17 rfl rfl)
abbrev cX5_ranked : ByteArray := prog_12_method_76_code
def yX5_ranked : MethodName := ⟨RX5, "ranked", "(I)I"⟩
def dkwX5_ranked_4 : List UInt8 := [182, 0, 77, 172]
abbrev dktX5_ranked_4 : List UInt8 := dkwX5_ranked_4 ++ []
def dkwX5_ranked_3 : List UInt8 := [167, 255, 202, 29, 27, 160, 0, 9, 42, 28, 182, 0, 81, 172, 132, 2, 1, 167, 255, 172, 42, 4]
abbrev dktX5_ranked_3 : List UInt8 := dkwX5_ranked_3 ++ dktX5_ranked_4
def dkwX5_ranked_2 : List UInt8 := [182, 0, 217, 160, 0, 13, 21, 4, 28, 162, 0, 7, 4, 167, 0, 4, 3, 96, 62, 132, 4, 1]
abbrev dktX5_ranked_2 : List UInt8 := dkwX5_ranked_2 ++ dktX5_ranked_3
def dkwX5_ranked_1 : List UInt8 := [29, 42, 21, 4, 182, 0, 217, 42, 28, 182, 0, 217, 163, 0, 23, 42, 21, 4, 182, 0, 217, 42, 28]
abbrev dktX5_ranked_1 : List UInt8 := dkwX5_ranked_1 ++ dktX5_ranked_2
def dkwX5_ranked_0 : List UInt8 := [3, 61, 28, 42, 182, 0, 74, 162, 0, 82, 3, 62, 3, 54, 4, 21, 4, 42, 182, 0, 74, 162, 0, 51]
abbrev dktX5_ranked_0 : List UInt8 := dkwX5_ranked_0 ++ dktX5_ranked_1
theorem dksX5_ranked_0 : cX5_ranked.data.toList.drop 0 = dktX5_ranked_0 := by decide +kernel
theorem dksX5_ranked_1 : cX5_ranked.data.toList.drop 24 = dktX5_ranked_1 := dk_seg dksX5_ranked_0 24 rfl rfl
theorem dksX5_ranked_2 : cX5_ranked.data.toList.drop 47 = dktX5_ranked_2 := dk_seg dksX5_ranked_1 23 rfl rfl
theorem dksX5_ranked_3 : cX5_ranked.data.toList.drop 69 = dktX5_ranked_3 := dk_seg dksX5_ranked_2 22 rfl rfl
theorem dksX5_ranked_4 : cX5_ranked.data.toList.drop 91 = dktX5_ranked_4 := dk_seg dksX5_ranked_3 22 rfl rfl
theorem dX5_ranked_0 : decode cX5_ranked 0 = .ok (.iconst 0, 1) := dk_3 (dk_at dksX5_ranked_0 0 rfl rfl)
theorem dX5_ranked_1 : decode cX5_ranked 1 = .ok (.istore_n 2, 1) := dk_61 (dk_at dksX5_ranked_0 1 rfl rfl)
theorem dX5_ranked_2 : decode cX5_ranked 2 = .ok (.iload_n 2, 1) := dk_28 (dk_at dksX5_ranked_0 2 rfl rfl)
theorem dX5_ranked_3 : decode cX5_ranked 3 = .ok (.aload_n 0, 1) := dk_42 (dk_at dksX5_ranked_0 3 rfl rfl)
theorem dX5_ranked_4 : decode cX5_ranked 4 = .ok (.invokevirtual 74, 3) := dk_182 0 74 (dk_at dksX5_ranked_0 4 rfl rfl)
theorem dX5_ranked_7 : decode cX5_ranked 7 = .ok (.if_icmp .ge 82, 3) := dk_162 0 82 (dk_at dksX5_ranked_0 7 rfl rfl)
theorem dX5_ranked_10 : decode cX5_ranked 10 = .ok (.iconst 0, 1) := dk_3 (dk_at dksX5_ranked_0 10 rfl rfl)
theorem dX5_ranked_11 : decode cX5_ranked 11 = .ok (.istore_n 3, 1) := dk_62 (dk_at dksX5_ranked_0 11 rfl rfl)
theorem dX5_ranked_12 : decode cX5_ranked 12 = .ok (.iconst 0, 1) := dk_3 (dk_at dksX5_ranked_0 12 rfl rfl)
theorem dX5_ranked_13 : decode cX5_ranked 13 = .ok (.istore 4, 2) := dk_54 4 (dk_at dksX5_ranked_0 13 rfl rfl)
theorem dX5_ranked_15 : decode cX5_ranked 15 = .ok (.iload 4, 2) := dk_21 4 (dk_at dksX5_ranked_0 15 rfl rfl)
theorem dX5_ranked_17 : decode cX5_ranked 17 = .ok (.aload_n 0, 1) := dk_42 (dk_at dksX5_ranked_0 17 rfl rfl)
theorem dX5_ranked_18 : decode cX5_ranked 18 = .ok (.invokevirtual 74, 3) := dk_182 0 74 (dk_at dksX5_ranked_0 18 rfl rfl)
theorem dX5_ranked_21 : decode cX5_ranked 21 = .ok (.if_icmp .ge 51, 3) := dk_162 0 51 (dk_at dksX5_ranked_0 21 rfl rfl)
theorem dX5_ranked_24 : decode cX5_ranked 24 = .ok (.iload_n 3, 1) := dk_29 (dk_at dksX5_ranked_1 0 rfl rfl)
theorem dX5_ranked_25 : decode cX5_ranked 25 = .ok (.aload_n 0, 1) := dk_42 (dk_at dksX5_ranked_1 1 rfl rfl)
theorem dX5_ranked_26 : decode cX5_ranked 26 = .ok (.iload 4, 2) := dk_21 4 (dk_at dksX5_ranked_1 2 rfl rfl)
theorem dX5_ranked_28 : decode cX5_ranked 28 = .ok (.invokevirtual 217, 3) := dk_182 0 217 (dk_at dksX5_ranked_1 4 rfl rfl)
theorem dX5_ranked_31 : decode cX5_ranked 31 = .ok (.aload_n 0, 1) := dk_42 (dk_at dksX5_ranked_1 7 rfl rfl)
theorem dX5_ranked_32 : decode cX5_ranked 32 = .ok (.iload_n 2, 1) := dk_28 (dk_at dksX5_ranked_1 8 rfl rfl)
theorem dX5_ranked_33 : decode cX5_ranked 33 = .ok (.invokevirtual 217, 3) := dk_182 0 217 (dk_at dksX5_ranked_1 9 rfl rfl)
theorem dX5_ranked_36 : decode cX5_ranked 36 = .ok (.if_icmp .gt 23, 3) := dk_163 0 23 (dk_at dksX5_ranked_1 12 rfl rfl)
theorem dX5_ranked_39 : decode cX5_ranked 39 = .ok (.aload_n 0, 1) := dk_42 (dk_at dksX5_ranked_1 15 rfl rfl)
theorem dX5_ranked_40 : decode cX5_ranked 40 = .ok (.iload 4, 2) := dk_21 4 (dk_at dksX5_ranked_1 16 rfl rfl)
theorem dX5_ranked_42 : decode cX5_ranked 42 = .ok (.invokevirtual 217, 3) := dk_182 0 217 (dk_at dksX5_ranked_1 18 rfl rfl)
theorem dX5_ranked_45 : decode cX5_ranked 45 = .ok (.aload_n 0, 1) := dk_42 (dk_at dksX5_ranked_1 21 rfl rfl)
theorem dX5_ranked_46 : decode cX5_ranked 46 = .ok (.iload_n 2, 1) := dk_28 (dk_at dksX5_ranked_1 22 rfl rfl)
theorem dX5_ranked_47 : decode cX5_ranked 47 = .ok (.invokevirtual 217, 3) := dk_182 0 217 (dk_at dksX5_ranked_2 0 rfl rfl)
theorem dX5_ranked_50 : decode cX5_ranked 50 = .ok (.if_icmp .ne 13, 3) := dk_160 0 13 (dk_at dksX5_ranked_2 3 rfl rfl)
theorem dX5_ranked_53 : decode cX5_ranked 53 = .ok (.iload 4, 2) := dk_21 4 (dk_at dksX5_ranked_2 6 rfl rfl)
theorem dX5_ranked_55 : decode cX5_ranked 55 = .ok (.iload_n 2, 1) := dk_28 (dk_at dksX5_ranked_2 8 rfl rfl)
theorem dX5_ranked_56 : decode cX5_ranked 56 = .ok (.if_icmp .ge 7, 3) := dk_162 0 7 (dk_at dksX5_ranked_2 9 rfl rfl)
theorem dX5_ranked_59 : decode cX5_ranked 59 = .ok (.iconst 1, 1) := dk_4 (dk_at dksX5_ranked_2 12 rfl rfl)
theorem dX5_ranked_60 : decode cX5_ranked 60 = .ok (.goto 4, 3) := dk_167 0 4 (dk_at dksX5_ranked_2 13 rfl rfl)
theorem dX5_ranked_63 : decode cX5_ranked 63 = .ok (.iconst 0, 1) := dk_3 (dk_at dksX5_ranked_2 16 rfl rfl)
theorem dX5_ranked_64 : decode cX5_ranked 64 = .ok (.iadd, 1) := dk_96 (dk_at dksX5_ranked_2 17 rfl rfl)
theorem dX5_ranked_65 : decode cX5_ranked 65 = .ok (.istore_n 3, 1) := dk_62 (dk_at dksX5_ranked_2 18 rfl rfl)
theorem dX5_ranked_66 : decode cX5_ranked 66 = .ok (.iinc 4 1, 3) := dk_132 4 1 (dk_at dksX5_ranked_2 19 rfl rfl)
theorem dX5_ranked_69 : decode cX5_ranked 69 = .ok (.goto (-54), 3) := dk_167 255 202 (dk_at dksX5_ranked_3 0 rfl rfl)
theorem dX5_ranked_72 : decode cX5_ranked 72 = .ok (.iload_n 3, 1) := dk_29 (dk_at dksX5_ranked_3 3 rfl rfl)
theorem dX5_ranked_73 : decode cX5_ranked 73 = .ok (.iload_n 1, 1) := dk_27 (dk_at dksX5_ranked_3 4 rfl rfl)
theorem dX5_ranked_74 : decode cX5_ranked 74 = .ok (.if_icmp .ne 9, 3) := dk_160 0 9 (dk_at dksX5_ranked_3 5 rfl rfl)
theorem dX5_ranked_77 : decode cX5_ranked 77 = .ok (.aload_n 0, 1) := dk_42 (dk_at dksX5_ranked_3 8 rfl rfl)
theorem dX5_ranked_78 : decode cX5_ranked 78 = .ok (.iload_n 2, 1) := dk_28 (dk_at dksX5_ranked_3 9 rfl rfl)
theorem dX5_ranked_79 : decode cX5_ranked 79 = .ok (.invokevirtual 81, 3) := dk_182 0 81 (dk_at dksX5_ranked_3 10 rfl rfl)
theorem dX5_ranked_82 : decode cX5_ranked 82 = .ok (.ireturn, 1) := dk_172 (dk_at dksX5_ranked_3 13 rfl rfl)
theorem dX5_ranked_83 : decode cX5_ranked 83 = .ok (.iinc 2 1, 3) := dk_132 2 1 (dk_at dksX5_ranked_3 14 rfl rfl)
theorem dX5_ranked_86 : decode cX5_ranked 86 = .ok (.goto (-84), 3) := dk_167 255 172 (dk_at dksX5_ranked_3 17 rfl rfl)
theorem dX5_ranked_89 : decode cX5_ranked 89 = .ok (.aload_n 0, 1) := dk_42 (dk_at dksX5_ranked_3 20 rfl rfl)
theorem dX5_ranked_90 : decode cX5_ranked 90 = .ok (.iconst 1, 1) := dk_4 (dk_at dksX5_ranked_3 21 rfl rfl)
theorem dX5_ranked_91 : decode cX5_ranked 91 = .ok (.invokevirtual 77, 3) := dk_182 0 77 (dk_at dksX5_ranked_4 0 rfl rfl)
theorem dX5_ranked_94 : decode cX5_ranked 94 = .ok (.ireturn, 1) := dk_172 (dk_at dksX5_ranked_4 3 rfl rfl)
abbrev cX5_text : ByteArray := prog_12_method_79_code
def yX5_text : MethodName := ⟨RX5, "text", "()I"⟩
def dkwX5_text_0 : List UInt8 := [42, 16, 14, 182, 0, 229, 172]
abbrev dktX5_text_0 : List UInt8 := dkwX5_text_0 ++ []
theorem dksX5_text_0 : cX5_text.data.toList.drop 0 = dktX5_text_0 := by decide +kernel
theorem dX5_text_0 : decode cX5_text 0 = .ok (.aload_n 0, 1) := dk_42 (dk_at dksX5_text_0 0 rfl rfl)
theorem dX5_text_1 : decode cX5_text 1 = .ok (.bipush 14, 2) := dk_16 14 (dk_at dksX5_text_0 1 rfl rfl)
theorem dX5_text_3 : decode cX5_text 3 = .ok (.invokevirtual 229, 3) := dk_182 0 229 (dk_at dksX5_text_0 3 rfl rfl)
theorem dX5_text_6 : decode cX5_text 6 = .ok (.ireturn, 1) := dk_172 (dk_at dksX5_text_0 6 rfl rfl)
abbrev cX5_writesAll : ByteArray := prog_12_method_78_code
def yX5_writesAll : MethodName := ⟨RX5, "writesAll", "(I)I"⟩
def dkwX5_writesAll_2 : List UInt8 := [182, 0, 226, 132, 2, 1, 167, 255, 209, 42, 42, 180, 0, 223, 182, 0, 81, 172]
abbrev dktX5_writesAll_2 : List UInt8 := dkwX5_writesAll_2 ++ []
def dkwX5_writesAll_1 : List UInt8 := [4, 46, 112, 154, 0, 9, 42, 16, 47, 182, 0, 226, 42, 42, 180, 0, 7, 27, 28, 96, 46, 184, 0, 98]
abbrev dktX5_writesAll_1 : List UInt8 := dkwX5_writesAll_1 ++ dktX5_writesAll_2
def dkwX5_writesAll_0 : List UInt8 := [42, 3, 181, 0, 223, 3, 61, 28, 42, 182, 0, 66, 162, 0, 45, 28, 158, 0, 20, 28, 42, 180, 0, 7]
abbrev dktX5_writesAll_0 : List UInt8 := dkwX5_writesAll_0 ++ dktX5_writesAll_1
theorem dksX5_writesAll_0 : cX5_writesAll.data.toList.drop 0 = dktX5_writesAll_0 := by decide +kernel
theorem dksX5_writesAll_1 : cX5_writesAll.data.toList.drop 24 = dktX5_writesAll_1 := dk_seg dksX5_writesAll_0 24 rfl rfl
theorem dksX5_writesAll_2 : cX5_writesAll.data.toList.drop 48 = dktX5_writesAll_2 := dk_seg dksX5_writesAll_1 24 rfl rfl
theorem dX5_writesAll_0 : decode cX5_writesAll 0 = .ok (.aload_n 0, 1) := dk_42 (dk_at dksX5_writesAll_0 0 rfl rfl)
theorem dX5_writesAll_1 : decode cX5_writesAll 1 = .ok (.iconst 0, 1) := dk_3 (dk_at dksX5_writesAll_0 1 rfl rfl)
theorem dX5_writesAll_2 : decode cX5_writesAll 2 = .ok (.putfield 223, 3) := dk_181 0 223 (dk_at dksX5_writesAll_0 2 rfl rfl)
theorem dX5_writesAll_5 : decode cX5_writesAll 5 = .ok (.iconst 0, 1) := dk_3 (dk_at dksX5_writesAll_0 5 rfl rfl)
theorem dX5_writesAll_6 : decode cX5_writesAll 6 = .ok (.istore_n 2, 1) := dk_61 (dk_at dksX5_writesAll_0 6 rfl rfl)
theorem dX5_writesAll_7 : decode cX5_writesAll 7 = .ok (.iload_n 2, 1) := dk_28 (dk_at dksX5_writesAll_0 7 rfl rfl)
theorem dX5_writesAll_8 : decode cX5_writesAll 8 = .ok (.aload_n 0, 1) := dk_42 (dk_at dksX5_writesAll_0 8 rfl rfl)
theorem dX5_writesAll_9 : decode cX5_writesAll 9 = .ok (.invokevirtual 66, 3) := dk_182 0 66 (dk_at dksX5_writesAll_0 9 rfl rfl)
theorem dX5_writesAll_12 : decode cX5_writesAll 12 = .ok (.if_icmp .ge 45, 3) := dk_162 0 45 (dk_at dksX5_writesAll_0 12 rfl rfl)
theorem dX5_writesAll_15 : decode cX5_writesAll 15 = .ok (.iload_n 2, 1) := dk_28 (dk_at dksX5_writesAll_0 15 rfl rfl)
theorem dX5_writesAll_16 : decode cX5_writesAll 16 = .ok (.ifCond .le 20, 3) := dk_158 0 20 (dk_at dksX5_writesAll_0 16 rfl rfl)
theorem dX5_writesAll_19 : decode cX5_writesAll 19 = .ok (.iload_n 2, 1) := dk_28 (dk_at dksX5_writesAll_0 19 rfl rfl)
theorem dX5_writesAll_20 : decode cX5_writesAll 20 = .ok (.aload_n 0, 1) := dk_42 (dk_at dksX5_writesAll_0 20 rfl rfl)
theorem dX5_writesAll_21 : decode cX5_writesAll 21 = .ok (.getfield 7, 3) := dk_180 0 7 (dk_at dksX5_writesAll_0 21 rfl rfl)
theorem dX5_writesAll_24 : decode cX5_writesAll 24 = .ok (.iconst 1, 1) := dk_4 (dk_at dksX5_writesAll_1 0 rfl rfl)
theorem dX5_writesAll_25 : decode cX5_writesAll 25 = .ok (.iaload, 1) := dk_46 (dk_at dksX5_writesAll_1 1 rfl rfl)
theorem dX5_writesAll_26 : decode cX5_writesAll 26 = .ok (.irem, 1) := dk_112 (dk_at dksX5_writesAll_1 2 rfl rfl)
theorem dX5_writesAll_27 : decode cX5_writesAll 27 = .ok (.ifCond .ne 9, 3) := dk_154 0 9 (dk_at dksX5_writesAll_1 3 rfl rfl)
theorem dX5_writesAll_30 : decode cX5_writesAll 30 = .ok (.aload_n 0, 1) := dk_42 (dk_at dksX5_writesAll_1 6 rfl rfl)
theorem dX5_writesAll_31 : decode cX5_writesAll 31 = .ok (.bipush 47, 2) := dk_16 47 (dk_at dksX5_writesAll_1 7 rfl rfl)
theorem dX5_writesAll_33 : decode cX5_writesAll 33 = .ok (.invokevirtual 226, 3) := dk_182 0 226 (dk_at dksX5_writesAll_1 9 rfl rfl)
theorem dX5_writesAll_36 : decode cX5_writesAll 36 = .ok (.aload_n 0, 1) := dk_42 (dk_at dksX5_writesAll_1 12 rfl rfl)
theorem dX5_writesAll_37 : decode cX5_writesAll 37 = .ok (.aload_n 0, 1) := dk_42 (dk_at dksX5_writesAll_1 13 rfl rfl)
theorem dX5_writesAll_38 : decode cX5_writesAll 38 = .ok (.getfield 7, 3) := dk_180 0 7 (dk_at dksX5_writesAll_1 14 rfl rfl)
theorem dX5_writesAll_41 : decode cX5_writesAll 41 = .ok (.iload_n 1, 1) := dk_27 (dk_at dksX5_writesAll_1 17 rfl rfl)
theorem dX5_writesAll_42 : decode cX5_writesAll 42 = .ok (.iload_n 2, 1) := dk_28 (dk_at dksX5_writesAll_1 18 rfl rfl)
theorem dX5_writesAll_43 : decode cX5_writesAll 43 = .ok (.iadd, 1) := dk_96 (dk_at dksX5_writesAll_1 19 rfl rfl)
theorem dX5_writesAll_44 : decode cX5_writesAll 44 = .ok (.iaload, 1) := dk_46 (dk_at dksX5_writesAll_1 20 rfl rfl)
theorem dX5_writesAll_45 : decode cX5_writesAll 45 = .ok (.invokestatic 98, 3) := dk_184 0 98 (dk_at dksX5_writesAll_1 21 rfl rfl)
theorem dX5_writesAll_48 : decode cX5_writesAll 48 = .ok (.invokevirtual 226, 3) := dk_182 0 226 (dk_at dksX5_writesAll_2 0 rfl rfl)
theorem dX5_writesAll_51 : decode cX5_writesAll 51 = .ok (.iinc 2 1, 3) := dk_132 2 1 (dk_at dksX5_writesAll_2 3 rfl rfl)
theorem dX5_writesAll_54 : decode cX5_writesAll 54 = .ok (.goto (-47), 3) := dk_167 255 209 (dk_at dksX5_writesAll_2 6 rfl rfl)
theorem dX5_writesAll_57 : decode cX5_writesAll 57 = .ok (.aload_n 0, 1) := dk_42 (dk_at dksX5_writesAll_2 9 rfl rfl)
theorem dX5_writesAll_58 : decode cX5_writesAll 58 = .ok (.aload_n 0, 1) := dk_42 (dk_at dksX5_writesAll_2 10 rfl rfl)
theorem dX5_writesAll_59 : decode cX5_writesAll 59 = .ok (.getfield 223, 3) := dk_180 0 223 (dk_at dksX5_writesAll_2 11 rfl rfl)
theorem dX5_writesAll_62 : decode cX5_writesAll 62 = .ok (.invokevirtual 81, 3) := dk_182 0 81 (dk_at dksX5_writesAll_2 14 rfl rfl)
theorem dX5_writesAll_65 : decode cX5_writesAll 65 = .ok (.ireturn, 1) := dk_172 (dk_at dksX5_writesAll_2 17 rfl rfl)
abbrev cX5_writes : ByteArray := prog_12_method_77_code
def yX5_writes : MethodName := ⟨RX5, "writes", "(I)V"⟩
def dkwX5_writes_0 : List UInt8 := [42, 180, 0, 30, 42, 180, 0, 223, 27, 146, 85, 42, 89, 180, 0, 223, 4, 96, 181, 0, 223, 177]
abbrev dktX5_writes_0 : List UInt8 := dkwX5_writes_0 ++ []
theorem dksX5_writes_0 : cX5_writes.data.toList.drop 0 = dktX5_writes_0 := by decide +kernel
theorem dX5_writes_0 : decode cX5_writes 0 = .ok (.aload_n 0, 1) := dk_42 (dk_at dksX5_writes_0 0 rfl rfl)
theorem dX5_writes_1 : decode cX5_writes 1 = .ok (.getfield 30, 3) := dk_180 0 30 (dk_at dksX5_writes_0 1 rfl rfl)
theorem dX5_writes_4 : decode cX5_writes 4 = .ok (.aload_n 0, 1) := dk_42 (dk_at dksX5_writes_0 4 rfl rfl)
theorem dX5_writes_5 : decode cX5_writes 5 = .ok (.getfield 223, 3) := dk_180 0 223 (dk_at dksX5_writes_0 5 rfl rfl)
theorem dX5_writes_8 : decode cX5_writes 8 = .ok (.iload_n 1, 1) := dk_27 (dk_at dksX5_writes_0 8 rfl rfl)
theorem dX5_writes_9 : decode cX5_writes 9 = .ok (.i2c, 1) := dk_146 (dk_at dksX5_writes_0 9 rfl rfl)
theorem dX5_writes_10 : decode cX5_writes 10 = .ok (.castore, 1) := dk_85 (dk_at dksX5_writes_0 10 rfl rfl)
theorem dX5_writes_11 : decode cX5_writes 11 = .ok (.aload_n 0, 1) := dk_42 (dk_at dksX5_writes_0 11 rfl rfl)
theorem dX5_writes_12 : decode cX5_writes 12 = .ok (.dup, 1) := dk_89 (dk_at dksX5_writes_0 12 rfl rfl)
theorem dX5_writes_13 : decode cX5_writes 13 = .ok (.getfield 223, 3) := dk_180 0 223 (dk_at dksX5_writes_0 13 rfl rfl)
theorem dX5_writes_16 : decode cX5_writes 16 = .ok (.iconst 1, 1) := dk_4 (dk_at dksX5_writes_0 16 rfl rfl)
theorem dX5_writes_17 : decode cX5_writes 17 = .ok (.iadd, 1) := dk_96 (dk_at dksX5_writes_0 17 rfl rfl)
theorem dX5_writes_18 : decode cX5_writes 18 = .ok (.putfield 223, 3) := dk_181 0 223 (dk_at dksX5_writes_0 18 rfl rfl)
theorem dX5_writes_21 : decode cX5_writes 21 = .ok (.return_, 1) := dk_177 (dk_at dksX5_writes_0 21 rfl rfl)
abbrev cX5_goalText : ByteArray := prog_12_method_80_code
def yX5_goalText : MethodName := ⟨RX5, "goalText", "()I"⟩
def dkwX5_goalText_0 : List UInt8 := [42, 16, 23, 182, 0, 229, 172]
abbrev dktX5_goalText_0 : List UInt8 := dkwX5_goalText_0 ++ []
theorem dksX5_goalText_0 : cX5_goalText.data.toList.drop 0 = dktX5_goalText_0 := by decide +kernel
theorem dX5_goalText_0 : decode cX5_goalText 0 = .ok (.aload_n 0, 1) := dk_42 (dk_at dksX5_goalText_0 0 rfl rfl)
theorem dX5_goalText_1 : decode cX5_goalText 1 = .ok (.bipush 23, 2) := dk_16 23 (dk_at dksX5_goalText_0 1 rfl rfl)
theorem dX5_goalText_3 : decode cX5_goalText 3 = .ok (.invokevirtual 229, 3) := dk_182 0 229 (dk_at dksX5_goalText_0 3 rfl rfl)
theorem dX5_goalText_6 : decode cX5_goalText 6 = .ok (.ireturn, 1) := dk_172 (dk_at dksX5_goalText_0 6 rfl rfl)
abbrev cX5_lineText : ByteArray := prog_12_method_81_code
def yX5_lineText : MethodName := ⟨RX5, "lineText", "(I)I"⟩
def dkwX5_lineText_4 : List UInt8 := [180, 0, 223, 182, 0, 81, 172]
abbrev dktX5_lineText_4 : List UInt8 := dkwX5_lineText_4 ++ []
def dkwX5_lineText_3 : List UInt8 := [132, 2, 1, 167, 255, 223, 42, 27, 182, 0, 220, 153, 0, 9, 42, 16, 33, 182, 0, 226, 42, 42]
abbrev dktX5_lineText_3 : List UInt8 := dkwX5_lineText_3 ++ dktX5_lineText_4
def dkwX5_lineText_2 : List UInt8 := [162, 0, 30, 42, 42, 180, 0, 7, 16, 14, 42, 27, 28, 182, 0, 208, 96, 46, 184, 0, 98, 182, 0, 226]
abbrev dktX5_lineText_2 : List UInt8 := dkwX5_lineText_2 ++ dktX5_lineText_3
def dkwX5_lineText_1 : List UInt8 := [16, 8, 27, 96, 46, 4, 160, 0, 9, 42, 16, 35, 182, 0, 226, 3, 61, 28, 42, 27, 182, 0, 205]
abbrev dktX5_lineText_1 : List UInt8 := dkwX5_lineText_1 ++ dktX5_lineText_2
def dkwX5_lineText_0 : List UInt8 := [42, 27, 182, 0, 155, 154, 0, 9, 42, 4, 182, 0, 77, 172, 42, 3, 181, 0, 223, 42, 180, 0, 7]
abbrev dktX5_lineText_0 : List UInt8 := dkwX5_lineText_0 ++ dktX5_lineText_1
theorem dksX5_lineText_0 : cX5_lineText.data.toList.drop 0 = dktX5_lineText_0 := by decide +kernel
theorem dksX5_lineText_1 : cX5_lineText.data.toList.drop 23 = dktX5_lineText_1 := dk_seg dksX5_lineText_0 23 rfl rfl
theorem dksX5_lineText_2 : cX5_lineText.data.toList.drop 46 = dktX5_lineText_2 := dk_seg dksX5_lineText_1 23 rfl rfl
theorem dksX5_lineText_3 : cX5_lineText.data.toList.drop 70 = dktX5_lineText_3 := dk_seg dksX5_lineText_2 24 rfl rfl
theorem dksX5_lineText_4 : cX5_lineText.data.toList.drop 92 = dktX5_lineText_4 := dk_seg dksX5_lineText_3 22 rfl rfl
theorem dX5_lineText_0 : decode cX5_lineText 0 = .ok (.aload_n 0, 1) := dk_42 (dk_at dksX5_lineText_0 0 rfl rfl)
theorem dX5_lineText_1 : decode cX5_lineText 1 = .ok (.iload_n 1, 1) := dk_27 (dk_at dksX5_lineText_0 1 rfl rfl)
theorem dX5_lineText_2 : decode cX5_lineText 2 = .ok (.invokevirtual 155, 3) := dk_182 0 155 (dk_at dksX5_lineText_0 2 rfl rfl)
theorem dX5_lineText_5 : decode cX5_lineText 5 = .ok (.ifCond .ne 9, 3) := dk_154 0 9 (dk_at dksX5_lineText_0 5 rfl rfl)
theorem dX5_lineText_8 : decode cX5_lineText 8 = .ok (.aload_n 0, 1) := dk_42 (dk_at dksX5_lineText_0 8 rfl rfl)
theorem dX5_lineText_9 : decode cX5_lineText 9 = .ok (.iconst 1, 1) := dk_4 (dk_at dksX5_lineText_0 9 rfl rfl)
theorem dX5_lineText_10 : decode cX5_lineText 10 = .ok (.invokevirtual 77, 3) := dk_182 0 77 (dk_at dksX5_lineText_0 10 rfl rfl)
theorem dX5_lineText_13 : decode cX5_lineText 13 = .ok (.ireturn, 1) := dk_172 (dk_at dksX5_lineText_0 13 rfl rfl)
theorem dX5_lineText_14 : decode cX5_lineText 14 = .ok (.aload_n 0, 1) := dk_42 (dk_at dksX5_lineText_0 14 rfl rfl)
theorem dX5_lineText_15 : decode cX5_lineText 15 = .ok (.iconst 0, 1) := dk_3 (dk_at dksX5_lineText_0 15 rfl rfl)
theorem dX5_lineText_16 : decode cX5_lineText 16 = .ok (.putfield 223, 3) := dk_181 0 223 (dk_at dksX5_lineText_0 16 rfl rfl)
theorem dX5_lineText_19 : decode cX5_lineText 19 = .ok (.aload_n 0, 1) := dk_42 (dk_at dksX5_lineText_0 19 rfl rfl)
theorem dX5_lineText_20 : decode cX5_lineText 20 = .ok (.getfield 7, 3) := dk_180 0 7 (dk_at dksX5_lineText_0 20 rfl rfl)
theorem dX5_lineText_23 : decode cX5_lineText 23 = .ok (.bipush 8, 2) := dk_16 8 (dk_at dksX5_lineText_1 0 rfl rfl)
theorem dX5_lineText_25 : decode cX5_lineText 25 = .ok (.iload_n 1, 1) := dk_27 (dk_at dksX5_lineText_1 2 rfl rfl)
theorem dX5_lineText_26 : decode cX5_lineText 26 = .ok (.iadd, 1) := dk_96 (dk_at dksX5_lineText_1 3 rfl rfl)
theorem dX5_lineText_27 : decode cX5_lineText 27 = .ok (.iaload, 1) := dk_46 (dk_at dksX5_lineText_1 4 rfl rfl)
theorem dX5_lineText_28 : decode cX5_lineText 28 = .ok (.iconst 1, 1) := dk_4 (dk_at dksX5_lineText_1 5 rfl rfl)
theorem dX5_lineText_29 : decode cX5_lineText 29 = .ok (.if_icmp .ne 9, 3) := dk_160 0 9 (dk_at dksX5_lineText_1 6 rfl rfl)
theorem dX5_lineText_32 : decode cX5_lineText 32 = .ok (.aload_n 0, 1) := dk_42 (dk_at dksX5_lineText_1 9 rfl rfl)
theorem dX5_lineText_33 : decode cX5_lineText 33 = .ok (.bipush 35, 2) := dk_16 35 (dk_at dksX5_lineText_1 10 rfl rfl)
theorem dX5_lineText_35 : decode cX5_lineText 35 = .ok (.invokevirtual 226, 3) := dk_182 0 226 (dk_at dksX5_lineText_1 12 rfl rfl)
theorem dX5_lineText_38 : decode cX5_lineText 38 = .ok (.iconst 0, 1) := dk_3 (dk_at dksX5_lineText_1 15 rfl rfl)
theorem dX5_lineText_39 : decode cX5_lineText 39 = .ok (.istore_n 2, 1) := dk_61 (dk_at dksX5_lineText_1 16 rfl rfl)
theorem dX5_lineText_40 : decode cX5_lineText 40 = .ok (.iload_n 2, 1) := dk_28 (dk_at dksX5_lineText_1 17 rfl rfl)
theorem dX5_lineText_41 : decode cX5_lineText 41 = .ok (.aload_n 0, 1) := dk_42 (dk_at dksX5_lineText_1 18 rfl rfl)
theorem dX5_lineText_42 : decode cX5_lineText 42 = .ok (.iload_n 1, 1) := dk_27 (dk_at dksX5_lineText_1 19 rfl rfl)
theorem dX5_lineText_43 : decode cX5_lineText 43 = .ok (.invokevirtual 205, 3) := dk_182 0 205 (dk_at dksX5_lineText_1 20 rfl rfl)
theorem dX5_lineText_46 : decode cX5_lineText 46 = .ok (.if_icmp .ge 30, 3) := dk_162 0 30 (dk_at dksX5_lineText_2 0 rfl rfl)
theorem dX5_lineText_49 : decode cX5_lineText 49 = .ok (.aload_n 0, 1) := dk_42 (dk_at dksX5_lineText_2 3 rfl rfl)
theorem dX5_lineText_50 : decode cX5_lineText 50 = .ok (.aload_n 0, 1) := dk_42 (dk_at dksX5_lineText_2 4 rfl rfl)
theorem dX5_lineText_51 : decode cX5_lineText 51 = .ok (.getfield 7, 3) := dk_180 0 7 (dk_at dksX5_lineText_2 5 rfl rfl)
theorem dX5_lineText_54 : decode cX5_lineText 54 = .ok (.bipush 14, 2) := dk_16 14 (dk_at dksX5_lineText_2 8 rfl rfl)
theorem dX5_lineText_56 : decode cX5_lineText 56 = .ok (.aload_n 0, 1) := dk_42 (dk_at dksX5_lineText_2 10 rfl rfl)
theorem dX5_lineText_57 : decode cX5_lineText 57 = .ok (.iload_n 1, 1) := dk_27 (dk_at dksX5_lineText_2 11 rfl rfl)
theorem dX5_lineText_58 : decode cX5_lineText 58 = .ok (.iload_n 2, 1) := dk_28 (dk_at dksX5_lineText_2 12 rfl rfl)
theorem dX5_lineText_59 : decode cX5_lineText 59 = .ok (.invokevirtual 208, 3) := dk_182 0 208 (dk_at dksX5_lineText_2 13 rfl rfl)
theorem dX5_lineText_62 : decode cX5_lineText 62 = .ok (.iadd, 1) := dk_96 (dk_at dksX5_lineText_2 16 rfl rfl)
theorem dX5_lineText_63 : decode cX5_lineText 63 = .ok (.iaload, 1) := dk_46 (dk_at dksX5_lineText_2 17 rfl rfl)
theorem dX5_lineText_64 : decode cX5_lineText 64 = .ok (.invokestatic 98, 3) := dk_184 0 98 (dk_at dksX5_lineText_2 18 rfl rfl)
theorem dX5_lineText_67 : decode cX5_lineText 67 = .ok (.invokevirtual 226, 3) := dk_182 0 226 (dk_at dksX5_lineText_2 21 rfl rfl)
theorem dX5_lineText_70 : decode cX5_lineText 70 = .ok (.iinc 2 1, 3) := dk_132 2 1 (dk_at dksX5_lineText_3 0 rfl rfl)
theorem dX5_lineText_73 : decode cX5_lineText 73 = .ok (.goto (-33), 3) := dk_167 255 223 (dk_at dksX5_lineText_3 3 rfl rfl)
theorem dX5_lineText_76 : decode cX5_lineText 76 = .ok (.aload_n 0, 1) := dk_42 (dk_at dksX5_lineText_3 6 rfl rfl)
theorem dX5_lineText_77 : decode cX5_lineText 77 = .ok (.iload_n 1, 1) := dk_27 (dk_at dksX5_lineText_3 7 rfl rfl)
theorem dX5_lineText_78 : decode cX5_lineText 78 = .ok (.invokevirtual 220, 3) := dk_182 0 220 (dk_at dksX5_lineText_3 8 rfl rfl)
theorem dX5_lineText_81 : decode cX5_lineText 81 = .ok (.ifCond .eq 9, 3) := dk_153 0 9 (dk_at dksX5_lineText_3 11 rfl rfl)
theorem dX5_lineText_84 : decode cX5_lineText 84 = .ok (.aload_n 0, 1) := dk_42 (dk_at dksX5_lineText_3 14 rfl rfl)
theorem dX5_lineText_85 : decode cX5_lineText 85 = .ok (.bipush 33, 2) := dk_16 33 (dk_at dksX5_lineText_3 15 rfl rfl)
theorem dX5_lineText_87 : decode cX5_lineText 87 = .ok (.invokevirtual 226, 3) := dk_182 0 226 (dk_at dksX5_lineText_3 17 rfl rfl)
theorem dX5_lineText_90 : decode cX5_lineText 90 = .ok (.aload_n 0, 1) := dk_42 (dk_at dksX5_lineText_3 20 rfl rfl)
theorem dX5_lineText_91 : decode cX5_lineText 91 = .ok (.aload_n 0, 1) := dk_42 (dk_at dksX5_lineText_3 21 rfl rfl)
theorem dX5_lineText_92 : decode cX5_lineText 92 = .ok (.getfield 223, 3) := dk_180 0 223 (dk_at dksX5_lineText_4 0 rfl rfl)
theorem dX5_lineText_95 : decode cX5_lineText 95 = .ok (.invokevirtual 81, 3) := dk_182 0 81 (dk_at dksX5_lineText_4 3 rfl rfl)
theorem dX5_lineText_98 : decode cX5_lineText 98 = .ok (.ireturn, 1) := dk_172 (dk_at dksX5_lineText_4 6 rfl rfl)
abbrev cX5_character : ByteArray := prog_12_method_82_code
def yX5_character : MethodName := ⟨RX5, "character", "(I)C"⟩
def dkwX5_character_1 : List UInt8 := [180, 0, 46, 154, 0, 12, 42, 180, 0, 30, 27, 52, 167, 0, 4, 3, 172]
abbrev dktX5_character_1 : List UInt8 := dkwX5_character_1 ++ []
def dkwX5_character_0 : List UInt8 := [42, 27, 3, 42, 180, 0, 223, 4, 100, 184, 0, 70, 153, 0, 7, 3, 167, 0, 4, 4, 181, 0, 46, 42]
abbrev dktX5_character_0 : List UInt8 := dkwX5_character_0 ++ dktX5_character_1
theorem dksX5_character_0 : cX5_character.data.toList.drop 0 = dktX5_character_0 := by decide +kernel
theorem dksX5_character_1 : cX5_character.data.toList.drop 24 = dktX5_character_1 := dk_seg dksX5_character_0 24 rfl rfl
theorem dX5_character_0 : decode cX5_character 0 = .ok (.aload_n 0, 1) := dk_42 (dk_at dksX5_character_0 0 rfl rfl)
theorem dX5_character_1 : decode cX5_character 1 = .ok (.iload_n 1, 1) := dk_27 (dk_at dksX5_character_0 1 rfl rfl)
theorem dX5_character_2 : decode cX5_character 2 = .ok (.iconst 0, 1) := dk_3 (dk_at dksX5_character_0 2 rfl rfl)
theorem dX5_character_3 : decode cX5_character 3 = .ok (.aload_n 0, 1) := dk_42 (dk_at dksX5_character_0 3 rfl rfl)
theorem dX5_character_4 : decode cX5_character 4 = .ok (.getfield 223, 3) := dk_180 0 223 (dk_at dksX5_character_0 4 rfl rfl)
theorem dX5_character_7 : decode cX5_character 7 = .ok (.iconst 1, 1) := dk_4 (dk_at dksX5_character_0 7 rfl rfl)
theorem dX5_character_8 : decode cX5_character 8 = .ok (.isub, 1) := dk_100 (dk_at dksX5_character_0 8 rfl rfl)
theorem dX5_character_9 : decode cX5_character 9 = .ok (.invokestatic 70, 3) := dk_184 0 70 (dk_at dksX5_character_0 9 rfl rfl)
theorem dX5_character_12 : decode cX5_character 12 = .ok (.ifCond .eq 7, 3) := dk_153 0 7 (dk_at dksX5_character_0 12 rfl rfl)
theorem dX5_character_15 : decode cX5_character 15 = .ok (.iconst 0, 1) := dk_3 (dk_at dksX5_character_0 15 rfl rfl)
theorem dX5_character_16 : decode cX5_character 16 = .ok (.goto 4, 3) := dk_167 0 4 (dk_at dksX5_character_0 16 rfl rfl)
theorem dX5_character_19 : decode cX5_character 19 = .ok (.iconst 1, 1) := dk_4 (dk_at dksX5_character_0 19 rfl rfl)
theorem dX5_character_20 : decode cX5_character 20 = .ok (.putfield 46, 3) := dk_181 0 46 (dk_at dksX5_character_0 20 rfl rfl)
theorem dX5_character_23 : decode cX5_character 23 = .ok (.aload_n 0, 1) := dk_42 (dk_at dksX5_character_0 23 rfl rfl)
theorem dX5_character_24 : decode cX5_character 24 = .ok (.getfield 46, 3) := dk_180 0 46 (dk_at dksX5_character_1 0 rfl rfl)
theorem dX5_character_27 : decode cX5_character 27 = .ok (.ifCond .ne 12, 3) := dk_154 0 12 (dk_at dksX5_character_1 3 rfl rfl)
theorem dX5_character_30 : decode cX5_character 30 = .ok (.aload_n 0, 1) := dk_42 (dk_at dksX5_character_1 6 rfl rfl)
theorem dX5_character_31 : decode cX5_character 31 = .ok (.getfield 30, 3) := dk_180 0 30 (dk_at dksX5_character_1 7 rfl rfl)
theorem dX5_character_34 : decode cX5_character 34 = .ok (.iload_n 1, 1) := dk_27 (dk_at dksX5_character_1 10 rfl rfl)
theorem dX5_character_35 : decode cX5_character 35 = .ok (.caload, 1) := dk_52 (dk_at dksX5_character_1 11 rfl rfl)
theorem dX5_character_36 : decode cX5_character 36 = .ok (.goto 4, 3) := dk_167 0 4 (dk_at dksX5_character_1 12 rfl rfl)
theorem dX5_character_39 : decode cX5_character 39 = .ok (.iconst 0, 1) := dk_3 (dk_at dksX5_character_1 15 rfl rfl)
theorem dX5_character_40 : decode cX5_character 40 = .ok (.ireturn, 1) := dk_172 (dk_at dksX5_character_1 16 rfl rfl)
abbrev cX5_append : ByteArray := prog_12_method_83_code
def yX5_append : MethodName := ⟨RX5, "append", "(C)I"⟩
def dkwX5_append_1 : List UInt8 := [85, 42, 89, 180, 0, 232, 4, 96, 181, 0, 232, 42, 42, 180, 0, 232, 182, 0, 81, 172]
abbrev dktX5_append_1 : List UInt8 := dkwX5_append_1 ++ []
def dkwX5_append_0 : List UInt8 := [42, 180, 0, 232, 16, 60, 160, 0, 9, 42, 4, 182, 0, 77, 172, 42, 180, 0, 22, 42, 180, 0, 232, 27]
abbrev dktX5_append_0 : List UInt8 := dkwX5_append_0 ++ dktX5_append_1
theorem dksX5_append_0 : cX5_append.data.toList.drop 0 = dktX5_append_0 := by decide +kernel
theorem dksX5_append_1 : cX5_append.data.toList.drop 24 = dktX5_append_1 := dk_seg dksX5_append_0 24 rfl rfl
theorem dX5_append_0 : decode cX5_append 0 = .ok (.aload_n 0, 1) := dk_42 (dk_at dksX5_append_0 0 rfl rfl)
theorem dX5_append_1 : decode cX5_append 1 = .ok (.getfield 232, 3) := dk_180 0 232 (dk_at dksX5_append_0 1 rfl rfl)
theorem dX5_append_4 : decode cX5_append 4 = .ok (.bipush 60, 2) := dk_16 60 (dk_at dksX5_append_0 4 rfl rfl)
theorem dX5_append_6 : decode cX5_append 6 = .ok (.if_icmp .ne 9, 3) := dk_160 0 9 (dk_at dksX5_append_0 6 rfl rfl)
theorem dX5_append_9 : decode cX5_append 9 = .ok (.aload_n 0, 1) := dk_42 (dk_at dksX5_append_0 9 rfl rfl)
theorem dX5_append_10 : decode cX5_append 10 = .ok (.iconst 1, 1) := dk_4 (dk_at dksX5_append_0 10 rfl rfl)
theorem dX5_append_11 : decode cX5_append 11 = .ok (.invokevirtual 77, 3) := dk_182 0 77 (dk_at dksX5_append_0 11 rfl rfl)
theorem dX5_append_14 : decode cX5_append 14 = .ok (.ireturn, 1) := dk_172 (dk_at dksX5_append_0 14 rfl rfl)
theorem dX5_append_15 : decode cX5_append 15 = .ok (.aload_n 0, 1) := dk_42 (dk_at dksX5_append_0 15 rfl rfl)
theorem dX5_append_16 : decode cX5_append 16 = .ok (.getfield 22, 3) := dk_180 0 22 (dk_at dksX5_append_0 16 rfl rfl)
theorem dX5_append_19 : decode cX5_append 19 = .ok (.aload_n 0, 1) := dk_42 (dk_at dksX5_append_0 19 rfl rfl)
theorem dX5_append_20 : decode cX5_append 20 = .ok (.getfield 232, 3) := dk_180 0 232 (dk_at dksX5_append_0 20 rfl rfl)
theorem dX5_append_23 : decode cX5_append 23 = .ok (.iload_n 1, 1) := dk_27 (dk_at dksX5_append_0 23 rfl rfl)
theorem dX5_append_24 : decode cX5_append 24 = .ok (.castore, 1) := dk_85 (dk_at dksX5_append_1 0 rfl rfl)
theorem dX5_append_25 : decode cX5_append 25 = .ok (.aload_n 0, 1) := dk_42 (dk_at dksX5_append_1 1 rfl rfl)
theorem dX5_append_26 : decode cX5_append 26 = .ok (.dup, 1) := dk_89 (dk_at dksX5_append_1 2 rfl rfl)
theorem dX5_append_27 : decode cX5_append 27 = .ok (.getfield 232, 3) := dk_180 0 232 (dk_at dksX5_append_1 3 rfl rfl)
theorem dX5_append_30 : decode cX5_append 30 = .ok (.iconst 1, 1) := dk_4 (dk_at dksX5_append_1 6 rfl rfl)
theorem dX5_append_31 : decode cX5_append 31 = .ok (.iadd, 1) := dk_96 (dk_at dksX5_append_1 7 rfl rfl)
theorem dX5_append_32 : decode cX5_append 32 = .ok (.putfield 232, 3) := dk_181 0 232 (dk_at dksX5_append_1 8 rfl rfl)
theorem dX5_append_35 : decode cX5_append 35 = .ok (.aload_n 0, 1) := dk_42 (dk_at dksX5_append_1 11 rfl rfl)
theorem dX5_append_36 : decode cX5_append 36 = .ok (.aload_n 0, 1) := dk_42 (dk_at dksX5_append_1 12 rfl rfl)
theorem dX5_append_37 : decode cX5_append 37 = .ok (.getfield 232, 3) := dk_180 0 232 (dk_at dksX5_append_1 13 rfl rfl)
theorem dX5_append_40 : decode cX5_append 40 = .ok (.invokevirtual 81, 3) := dk_182 0 81 (dk_at dksX5_append_1 16 rfl rfl)
theorem dX5_append_43 : decode cX5_append 43 = .ok (.ireturn, 1) := dk_172 (dk_at dksX5_append_1 19 rfl rfl)
abbrev cX5_run : ByteArray := prog_12_method_90_code
def yX5_run : MethodName := ⟨RX5, "run", "()I"⟩
def dkwX5_run_8 : List UInt8 := [132, 3, 1, 167, 255, 209, 42, 42, 27, 182, 0, 81, 182, 0, 91, 172]
abbrev dktX5_run_8 : List UInt8 := dkwX5_run_8 ++ []
def dkwX5_run_7 : List UInt8 := [42, 180, 0, 49, 153, 0, 7, 5, 167, 0, 4, 4, 181, 0, 46, 42, 21, 4, 182, 0, 91, 172]
abbrev dktX5_run_7 : List UInt8 := dkwX5_run_7 ++ dktX5_run_8
def dkwX5_run_6 : List UInt8 := [3, 62, 29, 27, 162, 0, 48, 42, 6, 29, 104, 182, 1, 1, 54, 4, 42, 180, 0, 46, 153, 0, 26, 42]
abbrev dktX5_run_6 : List UInt8 := dkwX5_run_6 ++ dktX5_run_7
def dkwX5_run_5 : List UInt8 := [167, 0, 4, 2, 181, 0, 26, 42, 180, 0, 238, 153, 0, 9, 42, 4, 182, 0, 77, 172, 42, 182, 0, 84]
abbrev dktX5_run_5 : List UInt8 := dkwX5_run_5 ++ dktX5_run_6
def dkwX5_run_4 : List UInt8 := [167, 0, 4, 3, 181, 0, 238, 42, 3, 181, 0, 232, 42, 42, 180, 0, 238, 153, 0, 10, 42, 180, 0, 235]
abbrev dktX5_run_4 : List UInt8 := dkwX5_run_4 ++ dktX5_run_5
def dkwX5_run_3 : List UInt8 := [167, 255, 202, 42, 42, 180, 0, 238, 154, 0, 14, 42, 180, 0, 235, 42, 180, 0, 232, 162, 0, 7, 4]
abbrev dktX5_run_3 : List UInt8 := dkwX5_run_3 ++ dktX5_run_4
def dkwX5_run_2 : List UInt8 := [167, 0, 4, 3, 61, 42, 89, 180, 0, 235, 28, 153, 0, 7, 4, 167, 0, 4, 3, 96, 181, 0, 235]
abbrev dktX5_run_2 : List UInt8 := dkwX5_run_2 ++ dktX5_run_3
def dkwX5_run_1 : List UInt8 := [182, 0, 254, 132, 1, 1, 42, 180, 0, 238, 154, 0, 16, 42, 182, 0, 241, 16, 59, 160, 0, 7, 4]
abbrev dktX5_run_1 : List UInt8 := dkwX5_run_1 ++ dktX5_run_2
def dkwX5_run_0 : List UInt8 := [42, 3, 181, 0, 235, 42, 3, 181, 0, 238, 3, 60, 4, 61, 28, 153, 0, 56, 42, 6, 27, 104]
abbrev dktX5_run_0 : List UInt8 := dkwX5_run_0 ++ dktX5_run_1
theorem dksX5_run_0 : cX5_run.data.toList.drop 0 = dktX5_run_0 := by decide +kernel
theorem dksX5_run_1 : cX5_run.data.toList.drop 22 = dktX5_run_1 := dk_seg dksX5_run_0 22 rfl rfl
theorem dksX5_run_2 : cX5_run.data.toList.drop 45 = dktX5_run_2 := dk_seg dksX5_run_1 23 rfl rfl
theorem dksX5_run_3 : cX5_run.data.toList.drop 68 = dktX5_run_3 := dk_seg dksX5_run_2 23 rfl rfl
theorem dksX5_run_4 : cX5_run.data.toList.drop 91 = dktX5_run_4 := dk_seg dksX5_run_3 23 rfl rfl
theorem dksX5_run_5 : cX5_run.data.toList.drop 115 = dktX5_run_5 := dk_seg dksX5_run_4 24 rfl rfl
theorem dksX5_run_6 : cX5_run.data.toList.drop 139 = dktX5_run_6 := dk_seg dksX5_run_5 24 rfl rfl
theorem dksX5_run_7 : cX5_run.data.toList.drop 163 = dktX5_run_7 := dk_seg dksX5_run_6 24 rfl rfl
theorem dksX5_run_8 : cX5_run.data.toList.drop 185 = dktX5_run_8 := dk_seg dksX5_run_7 22 rfl rfl
theorem dX5_run_0 : decode cX5_run 0 = .ok (.aload_n 0, 1) := dk_42 (dk_at dksX5_run_0 0 rfl rfl)
theorem dX5_run_1 : decode cX5_run 1 = .ok (.iconst 0, 1) := dk_3 (dk_at dksX5_run_0 1 rfl rfl)
theorem dX5_run_2 : decode cX5_run 2 = .ok (.putfield 235, 3) := dk_181 0 235 (dk_at dksX5_run_0 2 rfl rfl)
theorem dX5_run_5 : decode cX5_run 5 = .ok (.aload_n 0, 1) := dk_42 (dk_at dksX5_run_0 5 rfl rfl)
theorem dX5_run_6 : decode cX5_run 6 = .ok (.iconst 0, 1) := dk_3 (dk_at dksX5_run_0 6 rfl rfl)
theorem dX5_run_7 : decode cX5_run 7 = .ok (.putfield 238, 3) := dk_181 0 238 (dk_at dksX5_run_0 7 rfl rfl)
theorem dX5_run_10 : decode cX5_run 10 = .ok (.iconst 0, 1) := dk_3 (dk_at dksX5_run_0 10 rfl rfl)
theorem dX5_run_11 : decode cX5_run 11 = .ok (.istore_n 1, 1) := dk_60 (dk_at dksX5_run_0 11 rfl rfl)
theorem dX5_run_12 : decode cX5_run 12 = .ok (.iconst 1, 1) := dk_4 (dk_at dksX5_run_0 12 rfl rfl)
theorem dX5_run_13 : decode cX5_run 13 = .ok (.istore_n 2, 1) := dk_61 (dk_at dksX5_run_0 13 rfl rfl)
theorem dX5_run_14 : decode cX5_run 14 = .ok (.iload_n 2, 1) := dk_28 (dk_at dksX5_run_0 14 rfl rfl)
theorem dX5_run_15 : decode cX5_run 15 = .ok (.ifCond .eq 56, 3) := dk_153 0 56 (dk_at dksX5_run_0 15 rfl rfl)
theorem dX5_run_18 : decode cX5_run 18 = .ok (.aload_n 0, 1) := dk_42 (dk_at dksX5_run_0 18 rfl rfl)
theorem dX5_run_19 : decode cX5_run 19 = .ok (.iconst 3, 1) := dk_6 (dk_at dksX5_run_0 19 rfl rfl)
theorem dX5_run_20 : decode cX5_run 20 = .ok (.iload_n 1, 1) := dk_27 (dk_at dksX5_run_0 20 rfl rfl)
theorem dX5_run_21 : decode cX5_run 21 = .ok (.imul, 1) := dk_104 (dk_at dksX5_run_0 21 rfl rfl)
theorem dX5_run_22 : decode cX5_run 22 = .ok (.invokevirtual 254, 3) := dk_182 0 254 (dk_at dksX5_run_1 0 rfl rfl)
theorem dX5_run_25 : decode cX5_run 25 = .ok (.iinc 1 1, 3) := dk_132 1 1 (dk_at dksX5_run_1 3 rfl rfl)
theorem dX5_run_28 : decode cX5_run 28 = .ok (.aload_n 0, 1) := dk_42 (dk_at dksX5_run_1 6 rfl rfl)
theorem dX5_run_29 : decode cX5_run 29 = .ok (.getfield 238, 3) := dk_180 0 238 (dk_at dksX5_run_1 7 rfl rfl)
theorem dX5_run_32 : decode cX5_run 32 = .ok (.ifCond .ne 16, 3) := dk_154 0 16 (dk_at dksX5_run_1 10 rfl rfl)
theorem dX5_run_35 : decode cX5_run 35 = .ok (.aload_n 0, 1) := dk_42 (dk_at dksX5_run_1 13 rfl rfl)
theorem dX5_run_36 : decode cX5_run 36 = .ok (.invokevirtual 241, 3) := dk_182 0 241 (dk_at dksX5_run_1 14 rfl rfl)
theorem dX5_run_39 : decode cX5_run 39 = .ok (.bipush 59, 2) := dk_16 59 (dk_at dksX5_run_1 17 rfl rfl)
theorem dX5_run_41 : decode cX5_run 41 = .ok (.if_icmp .ne 7, 3) := dk_160 0 7 (dk_at dksX5_run_1 19 rfl rfl)
theorem dX5_run_44 : decode cX5_run 44 = .ok (.iconst 1, 1) := dk_4 (dk_at dksX5_run_1 22 rfl rfl)
theorem dX5_run_45 : decode cX5_run 45 = .ok (.goto 4, 3) := dk_167 0 4 (dk_at dksX5_run_2 0 rfl rfl)
theorem dX5_run_48 : decode cX5_run 48 = .ok (.iconst 0, 1) := dk_3 (dk_at dksX5_run_2 3 rfl rfl)
theorem dX5_run_49 : decode cX5_run 49 = .ok (.istore_n 2, 1) := dk_61 (dk_at dksX5_run_2 4 rfl rfl)
theorem dX5_run_50 : decode cX5_run 50 = .ok (.aload_n 0, 1) := dk_42 (dk_at dksX5_run_2 5 rfl rfl)
theorem dX5_run_51 : decode cX5_run 51 = .ok (.dup, 1) := dk_89 (dk_at dksX5_run_2 6 rfl rfl)
theorem dX5_run_52 : decode cX5_run 52 = .ok (.getfield 235, 3) := dk_180 0 235 (dk_at dksX5_run_2 7 rfl rfl)
theorem dX5_run_55 : decode cX5_run 55 = .ok (.iload_n 2, 1) := dk_28 (dk_at dksX5_run_2 10 rfl rfl)
theorem dX5_run_56 : decode cX5_run 56 = .ok (.ifCond .eq 7, 3) := dk_153 0 7 (dk_at dksX5_run_2 11 rfl rfl)
theorem dX5_run_59 : decode cX5_run 59 = .ok (.iconst 1, 1) := dk_4 (dk_at dksX5_run_2 14 rfl rfl)
theorem dX5_run_60 : decode cX5_run 60 = .ok (.goto 4, 3) := dk_167 0 4 (dk_at dksX5_run_2 15 rfl rfl)
theorem dX5_run_63 : decode cX5_run 63 = .ok (.iconst 0, 1) := dk_3 (dk_at dksX5_run_2 18 rfl rfl)
theorem dX5_run_64 : decode cX5_run 64 = .ok (.iadd, 1) := dk_96 (dk_at dksX5_run_2 19 rfl rfl)
theorem dX5_run_65 : decode cX5_run 65 = .ok (.putfield 235, 3) := dk_181 0 235 (dk_at dksX5_run_2 20 rfl rfl)
theorem dX5_run_68 : decode cX5_run 68 = .ok (.goto (-54), 3) := dk_167 255 202 (dk_at dksX5_run_3 0 rfl rfl)
theorem dX5_run_71 : decode cX5_run 71 = .ok (.aload_n 0, 1) := dk_42 (dk_at dksX5_run_3 3 rfl rfl)
theorem dX5_run_72 : decode cX5_run 72 = .ok (.aload_n 0, 1) := dk_42 (dk_at dksX5_run_3 4 rfl rfl)
theorem dX5_run_73 : decode cX5_run 73 = .ok (.getfield 238, 3) := dk_180 0 238 (dk_at dksX5_run_3 5 rfl rfl)
theorem dX5_run_76 : decode cX5_run 76 = .ok (.ifCond .ne 14, 3) := dk_154 0 14 (dk_at dksX5_run_3 8 rfl rfl)
theorem dX5_run_79 : decode cX5_run 79 = .ok (.aload_n 0, 1) := dk_42 (dk_at dksX5_run_3 11 rfl rfl)
theorem dX5_run_80 : decode cX5_run 80 = .ok (.getfield 235, 3) := dk_180 0 235 (dk_at dksX5_run_3 12 rfl rfl)
theorem dX5_run_83 : decode cX5_run 83 = .ok (.aload_n 0, 1) := dk_42 (dk_at dksX5_run_3 15 rfl rfl)
theorem dX5_run_84 : decode cX5_run 84 = .ok (.getfield 232, 3) := dk_180 0 232 (dk_at dksX5_run_3 16 rfl rfl)
theorem dX5_run_87 : decode cX5_run 87 = .ok (.if_icmp .ge 7, 3) := dk_162 0 7 (dk_at dksX5_run_3 19 rfl rfl)
theorem dX5_run_90 : decode cX5_run 90 = .ok (.iconst 1, 1) := dk_4 (dk_at dksX5_run_3 22 rfl rfl)
theorem dX5_run_91 : decode cX5_run 91 = .ok (.goto 4, 3) := dk_167 0 4 (dk_at dksX5_run_4 0 rfl rfl)
theorem dX5_run_94 : decode cX5_run 94 = .ok (.iconst 0, 1) := dk_3 (dk_at dksX5_run_4 3 rfl rfl)
theorem dX5_run_95 : decode cX5_run 95 = .ok (.putfield 238, 3) := dk_181 0 238 (dk_at dksX5_run_4 4 rfl rfl)
theorem dX5_run_98 : decode cX5_run 98 = .ok (.aload_n 0, 1) := dk_42 (dk_at dksX5_run_4 7 rfl rfl)
theorem dX5_run_99 : decode cX5_run 99 = .ok (.iconst 0, 1) := dk_3 (dk_at dksX5_run_4 8 rfl rfl)
theorem dX5_run_100 : decode cX5_run 100 = .ok (.putfield 232, 3) := dk_181 0 232 (dk_at dksX5_run_4 9 rfl rfl)
theorem dX5_run_103 : decode cX5_run 103 = .ok (.aload_n 0, 1) := dk_42 (dk_at dksX5_run_4 12 rfl rfl)
theorem dX5_run_104 : decode cX5_run 104 = .ok (.aload_n 0, 1) := dk_42 (dk_at dksX5_run_4 13 rfl rfl)
theorem dX5_run_105 : decode cX5_run 105 = .ok (.getfield 238, 3) := dk_180 0 238 (dk_at dksX5_run_4 14 rfl rfl)
theorem dX5_run_108 : decode cX5_run 108 = .ok (.ifCond .eq 10, 3) := dk_153 0 10 (dk_at dksX5_run_4 17 rfl rfl)
theorem dX5_run_111 : decode cX5_run 111 = .ok (.aload_n 0, 1) := dk_42 (dk_at dksX5_run_4 20 rfl rfl)
theorem dX5_run_112 : decode cX5_run 112 = .ok (.getfield 235, 3) := dk_180 0 235 (dk_at dksX5_run_4 21 rfl rfl)
theorem dX5_run_115 : decode cX5_run 115 = .ok (.goto 4, 3) := dk_167 0 4 (dk_at dksX5_run_5 0 rfl rfl)
theorem dX5_run_118 : decode cX5_run 118 = .ok (.iconst (-1), 1) := dk_2 (dk_at dksX5_run_5 3 rfl rfl)
theorem dX5_run_119 : decode cX5_run 119 = .ok (.putfield 26, 3) := dk_181 0 26 (dk_at dksX5_run_5 4 rfl rfl)
theorem dX5_run_122 : decode cX5_run 122 = .ok (.aload_n 0, 1) := dk_42 (dk_at dksX5_run_5 7 rfl rfl)
theorem dX5_run_123 : decode cX5_run 123 = .ok (.getfield 238, 3) := dk_180 0 238 (dk_at dksX5_run_5 8 rfl rfl)
theorem dX5_run_126 : decode cX5_run 126 = .ok (.ifCond .eq 9, 3) := dk_153 0 9 (dk_at dksX5_run_5 11 rfl rfl)
theorem dX5_run_129 : decode cX5_run 129 = .ok (.aload_n 0, 1) := dk_42 (dk_at dksX5_run_5 14 rfl rfl)
theorem dX5_run_130 : decode cX5_run 130 = .ok (.iconst 1, 1) := dk_4 (dk_at dksX5_run_5 15 rfl rfl)
theorem dX5_run_131 : decode cX5_run 131 = .ok (.invokevirtual 77, 3) := dk_182 0 77 (dk_at dksX5_run_5 16 rfl rfl)
theorem dX5_run_134 : decode cX5_run 134 = .ok (.ireturn, 1) := dk_172 (dk_at dksX5_run_5 19 rfl rfl)
theorem dX5_run_135 : decode cX5_run 135 = .ok (.aload_n 0, 1) := dk_42 (dk_at dksX5_run_5 20 rfl rfl)
theorem dX5_run_136 : decode cX5_run 136 = .ok (.invokevirtual 84, 3) := dk_182 0 84 (dk_at dksX5_run_5 21 rfl rfl)
theorem dX5_run_139 : decode cX5_run 139 = .ok (.iconst 0, 1) := dk_3 (dk_at dksX5_run_6 0 rfl rfl)
theorem dX5_run_140 : decode cX5_run 140 = .ok (.istore_n 3, 1) := dk_62 (dk_at dksX5_run_6 1 rfl rfl)
theorem dX5_run_141 : decode cX5_run 141 = .ok (.iload_n 3, 1) := dk_29 (dk_at dksX5_run_6 2 rfl rfl)
theorem dX5_run_142 : decode cX5_run 142 = .ok (.iload_n 1, 1) := dk_27 (dk_at dksX5_run_6 3 rfl rfl)
theorem dX5_run_143 : decode cX5_run 143 = .ok (.if_icmp .ge 48, 3) := dk_162 0 48 (dk_at dksX5_run_6 4 rfl rfl)
theorem dX5_run_146 : decode cX5_run 146 = .ok (.aload_n 0, 1) := dk_42 (dk_at dksX5_run_6 7 rfl rfl)
theorem dX5_run_147 : decode cX5_run 147 = .ok (.iconst 3, 1) := dk_6 (dk_at dksX5_run_6 8 rfl rfl)
theorem dX5_run_148 : decode cX5_run 148 = .ok (.iload_n 3, 1) := dk_29 (dk_at dksX5_run_6 9 rfl rfl)
theorem dX5_run_149 : decode cX5_run 149 = .ok (.imul, 1) := dk_104 (dk_at dksX5_run_6 10 rfl rfl)
theorem dX5_run_150 : decode cX5_run 150 = .ok (.invokevirtual 257, 3) := dk_182 1 1 (dk_at dksX5_run_6 11 rfl rfl)
theorem dX5_run_153 : decode cX5_run 153 = .ok (.istore 4, 2) := dk_54 4 (dk_at dksX5_run_6 14 rfl rfl)
theorem dX5_run_155 : decode cX5_run 155 = .ok (.aload_n 0, 1) := dk_42 (dk_at dksX5_run_6 16 rfl rfl)
theorem dX5_run_156 : decode cX5_run 156 = .ok (.getfield 46, 3) := dk_180 0 46 (dk_at dksX5_run_6 17 rfl rfl)
theorem dX5_run_159 : decode cX5_run 159 = .ok (.ifCond .eq 26, 3) := dk_153 0 26 (dk_at dksX5_run_6 20 rfl rfl)
theorem dX5_run_162 : decode cX5_run 162 = .ok (.aload_n 0, 1) := dk_42 (dk_at dksX5_run_6 23 rfl rfl)
theorem dX5_run_163 : decode cX5_run 163 = .ok (.aload_n 0, 1) := dk_42 (dk_at dksX5_run_7 0 rfl rfl)
theorem dX5_run_164 : decode cX5_run 164 = .ok (.getfield 49, 3) := dk_180 0 49 (dk_at dksX5_run_7 1 rfl rfl)
theorem dX5_run_167 : decode cX5_run 167 = .ok (.ifCond .eq 7, 3) := dk_153 0 7 (dk_at dksX5_run_7 4 rfl rfl)
theorem dX5_run_170 : decode cX5_run 170 = .ok (.iconst 2, 1) := dk_5 (dk_at dksX5_run_7 7 rfl rfl)
theorem dX5_run_171 : decode cX5_run 171 = .ok (.goto 4, 3) := dk_167 0 4 (dk_at dksX5_run_7 8 rfl rfl)
theorem dX5_run_174 : decode cX5_run 174 = .ok (.iconst 1, 1) := dk_4 (dk_at dksX5_run_7 11 rfl rfl)
theorem dX5_run_175 : decode cX5_run 175 = .ok (.putfield 46, 3) := dk_181 0 46 (dk_at dksX5_run_7 12 rfl rfl)
theorem dX5_run_178 : decode cX5_run 178 = .ok (.aload_n 0, 1) := dk_42 (dk_at dksX5_run_7 15 rfl rfl)
theorem dX5_run_179 : decode cX5_run 179 = .ok (.iload 4, 2) := dk_21 4 (dk_at dksX5_run_7 16 rfl rfl)
theorem dX5_run_181 : decode cX5_run 181 = .ok (.invokevirtual 91, 3) := dk_182 0 91 (dk_at dksX5_run_7 18 rfl rfl)
theorem dX5_run_184 : decode cX5_run 184 = .ok (.ireturn, 1) := dk_172 (dk_at dksX5_run_7 21 rfl rfl)
theorem dX5_run_185 : decode cX5_run 185 = .ok (.iinc 3 1, 3) := dk_132 3 1 (dk_at dksX5_run_8 0 rfl rfl)
theorem dX5_run_188 : decode cX5_run 188 = .ok (.goto (-47), 3) := dk_167 255 209 (dk_at dksX5_run_8 3 rfl rfl)
theorem dX5_run_191 : decode cX5_run 191 = .ok (.aload_n 0, 1) := dk_42 (dk_at dksX5_run_8 6 rfl rfl)
theorem dX5_run_192 : decode cX5_run 192 = .ok (.aload_n 0, 1) := dk_42 (dk_at dksX5_run_8 7 rfl rfl)
theorem dX5_run_193 : decode cX5_run 193 = .ok (.iload_n 1, 1) := dk_27 (dk_at dksX5_run_8 8 rfl rfl)
theorem dX5_run_194 : decode cX5_run 194 = .ok (.invokevirtual 81, 3) := dk_182 0 81 (dk_at dksX5_run_8 9 rfl rfl)
theorem dX5_run_197 : decode cX5_run 197 = .ok (.invokevirtual 91, 3) := dk_182 0 91 (dk_at dksX5_run_8 12 rfl rfl)
theorem dX5_run_200 : decode cX5_run 200 = .ok (.ireturn, 1) := dk_172 (dk_at dksX5_run_8 15 rfl rfl)
abbrev cX5_readsOrder : ByteArray := prog_12_method_88_code
def yX5_readsOrder : MethodName := ⟨RX5, "readsOrder", "(I)V"⟩
def dkwX5_readsOrder_8 : List UInt8 := [42, 89, 180, 0, 235, 4, 100, 181, 0, 235, 177]
abbrev dktX5_readsOrder_8 : List UInt8 := dkwX5_readsOrder_8 ++ []
def dkwX5_readsOrder_7 : List UInt8 := [182, 0, 251, 42, 180, 0, 39, 27, 5, 96, 42, 4, 182, 0, 244, 79, 167, 0, 18, 42, 4, 181, 0, 238]
abbrev dktX5_readsOrder_7 : List UInt8 := dkwX5_readsOrder_7 ++ dktX5_readsOrder_8
def dkwX5_readsOrder_6 : List UInt8 := [182, 0, 244, 79, 167, 0, 53, 42, 180, 0, 39, 27, 4, 96, 42, 6, 182, 0, 244, 79, 42, 16, 47]
abbrev dktX5_readsOrder_6 : List UInt8 := dkwX5_readsOrder_6 ++ dktX5_readsOrder_7
def dkwX5_readsOrder_5 : List UInt8 := [180, 0, 39, 27, 4, 96, 42, 6, 182, 0, 244, 79, 167, 0, 69, 42, 180, 0, 39, 27, 4, 96, 42, 4]
abbrev dktX5_readsOrder_5 : List UInt8 := dkwX5_readsOrder_5 ++ dktX5_readsOrder_6
def dkwX5_readsOrder_4 : List UInt8 := [27, 5, 96, 42, 28, 16, 103, 160, 0, 7, 4, 167, 0, 4, 3, 182, 0, 247, 79, 167, 0, 85, 42]
abbrev dktX5_readsOrder_4 : List UInt8 := dkwX5_readsOrder_4 ++ dktX5_readsOrder_5
def dkwX5_readsOrder_3 : List UInt8 := [182, 0, 244, 79, 167, 0, 124, 42, 180, 0, 39, 27, 4, 96, 42, 4, 182, 0, 244, 79, 42, 180, 0, 39]
abbrev dktX5_readsOrder_3 : List UInt8 := dkwX5_readsOrder_3 ++ dktX5_readsOrder_4
def dkwX5_readsOrder_2 : List UInt8 := [42, 180, 0, 39, 27, 4, 96, 42, 4, 182, 0, 244, 79, 42, 180, 0, 39, 27, 5, 96, 42, 4]
abbrev dktX5_readsOrder_2 : List UInt8 := dkwX5_readsOrder_2 ++ dktX5_readsOrder_3
def dkwX5_readsOrder_1 : List UInt8 := [170, 0, 0, 0, 240, 0, 0, 0, 98, 0, 0, 0, 120, 0, 0, 0, 105, 0, 0, 0, 240, 0, 0, 0, 240, 0, 0, 0, 240, 0, 0, 0, 240, 0, 0, 0, 134, 0, 0, 0, 240, 0, 0, 0, 240, 0, 0, 0, 240, 0, 0, 0, 240, 0, 0, 0, 240, 0, 0, 0, 240, 0, 0, 0, 240, 0, 0, 0, 240, 0, 0, 0, 134, 0, 0, 0, 240, 0, 0, 0, 205, 0, 0, 0, 105, 0, 0, 0, 173, 0, 0, 0, 240, 0, 0, 0, 240, 0, 0, 0, 240, 0, 0, 0, 189]
abbrev dktX5_readsOrder_1 : List UInt8 := dkwX5_readsOrder_1 ++ dktX5_readsOrder_2
def dkwX5_readsOrder_0 : List UInt8 := [42, 182, 0, 241, 61, 42, 89, 180, 0, 235, 4, 96, 181, 0, 235, 42, 180, 0, 39, 27, 28, 79, 28]
abbrev dktX5_readsOrder_0 : List UInt8 := dkwX5_readsOrder_0 ++ dktX5_readsOrder_1
theorem dksX5_readsOrder_0 : cX5_readsOrder.data.toList.drop 0 = dktX5_readsOrder_0 := by decide +kernel
theorem dksX5_readsOrder_1 : cX5_readsOrder.data.toList.drop 23 = dktX5_readsOrder_1 := dk_seg dksX5_readsOrder_0 23 rfl rfl
theorem dksX5_readsOrder_2 : cX5_readsOrder.data.toList.drop 128 = dktX5_readsOrder_2 := dk_seg dksX5_readsOrder_1 105 rfl rfl
theorem dksX5_readsOrder_3 : cX5_readsOrder.data.toList.drop 150 = dktX5_readsOrder_3 := dk_seg dksX5_readsOrder_2 22 rfl rfl
theorem dksX5_readsOrder_4 : cX5_readsOrder.data.toList.drop 174 = dktX5_readsOrder_4 := dk_seg dksX5_readsOrder_3 24 rfl rfl
theorem dksX5_readsOrder_5 : cX5_readsOrder.data.toList.drop 197 = dktX5_readsOrder_5 := dk_seg dksX5_readsOrder_4 23 rfl rfl
theorem dksX5_readsOrder_6 : cX5_readsOrder.data.toList.drop 221 = dktX5_readsOrder_6 := dk_seg dksX5_readsOrder_5 24 rfl rfl
theorem dksX5_readsOrder_7 : cX5_readsOrder.data.toList.drop 244 = dktX5_readsOrder_7 := dk_seg dksX5_readsOrder_6 23 rfl rfl
theorem dksX5_readsOrder_8 : cX5_readsOrder.data.toList.drop 268 = dktX5_readsOrder_8 := dk_seg dksX5_readsOrder_7 24 rfl rfl
theorem dX5_readsOrder_0 : decode cX5_readsOrder 0 = .ok (.aload_n 0, 1) := dk_42 (dk_at dksX5_readsOrder_0 0 rfl rfl)
theorem dX5_readsOrder_1 : decode cX5_readsOrder 1 = .ok (.invokevirtual 241, 3) := dk_182 0 241 (dk_at dksX5_readsOrder_0 1 rfl rfl)
theorem dX5_readsOrder_4 : decode cX5_readsOrder 4 = .ok (.istore_n 2, 1) := dk_61 (dk_at dksX5_readsOrder_0 4 rfl rfl)
theorem dX5_readsOrder_5 : decode cX5_readsOrder 5 = .ok (.aload_n 0, 1) := dk_42 (dk_at dksX5_readsOrder_0 5 rfl rfl)
theorem dX5_readsOrder_6 : decode cX5_readsOrder 6 = .ok (.dup, 1) := dk_89 (dk_at dksX5_readsOrder_0 6 rfl rfl)
theorem dX5_readsOrder_7 : decode cX5_readsOrder 7 = .ok (.getfield 235, 3) := dk_180 0 235 (dk_at dksX5_readsOrder_0 7 rfl rfl)
theorem dX5_readsOrder_10 : decode cX5_readsOrder 10 = .ok (.iconst 1, 1) := dk_4 (dk_at dksX5_readsOrder_0 10 rfl rfl)
theorem dX5_readsOrder_11 : decode cX5_readsOrder 11 = .ok (.iadd, 1) := dk_96 (dk_at dksX5_readsOrder_0 11 rfl rfl)
theorem dX5_readsOrder_12 : decode cX5_readsOrder 12 = .ok (.putfield 235, 3) := dk_181 0 235 (dk_at dksX5_readsOrder_0 12 rfl rfl)
theorem dX5_readsOrder_15 : decode cX5_readsOrder 15 = .ok (.aload_n 0, 1) := dk_42 (dk_at dksX5_readsOrder_0 15 rfl rfl)
theorem dX5_readsOrder_16 : decode cX5_readsOrder 16 = .ok (.getfield 39, 3) := dk_180 0 39 (dk_at dksX5_readsOrder_0 16 rfl rfl)
theorem dX5_readsOrder_19 : decode cX5_readsOrder 19 = .ok (.iload_n 1, 1) := dk_27 (dk_at dksX5_readsOrder_0 19 rfl rfl)
theorem dX5_readsOrder_20 : decode cX5_readsOrder 20 = .ok (.iload_n 2, 1) := dk_28 (dk_at dksX5_readsOrder_0 20 rfl rfl)
theorem dX5_readsOrder_21 : decode cX5_readsOrder 21 = .ok (.iastore, 1) := dk_79 (dk_at dksX5_readsOrder_0 21 rfl rfl)
theorem dX5_readsOrder_22 : decode cX5_readsOrder 22 = .ok (.iload_n 2, 1) := dk_28 (dk_at dksX5_readsOrder_0 22 rfl rfl)
theorem dX5_readsOrder_23 : decode cX5_readsOrder 23 = .ok (.tableswitch 240 98 120 #[105, 240, 240, 240, 240, 134, 240, 240, 240, 240, 240, 240, 240, 240, 134, 240, 205, 105, 173, 240, 240, 240, 189], 105) := by decide +kernel
theorem dX5_readsOrder_128 : decode cX5_readsOrder 128 = .ok (.aload_n 0, 1) := dk_42 (dk_at dksX5_readsOrder_2 0 rfl rfl)
theorem dX5_readsOrder_129 : decode cX5_readsOrder 129 = .ok (.getfield 39, 3) := dk_180 0 39 (dk_at dksX5_readsOrder_2 1 rfl rfl)
theorem dX5_readsOrder_132 : decode cX5_readsOrder 132 = .ok (.iload_n 1, 1) := dk_27 (dk_at dksX5_readsOrder_2 4 rfl rfl)
theorem dX5_readsOrder_133 : decode cX5_readsOrder 133 = .ok (.iconst 1, 1) := dk_4 (dk_at dksX5_readsOrder_2 5 rfl rfl)
theorem dX5_readsOrder_134 : decode cX5_readsOrder 134 = .ok (.iadd, 1) := dk_96 (dk_at dksX5_readsOrder_2 6 rfl rfl)
theorem dX5_readsOrder_135 : decode cX5_readsOrder 135 = .ok (.aload_n 0, 1) := dk_42 (dk_at dksX5_readsOrder_2 7 rfl rfl)
theorem dX5_readsOrder_136 : decode cX5_readsOrder 136 = .ok (.iconst 1, 1) := dk_4 (dk_at dksX5_readsOrder_2 8 rfl rfl)
theorem dX5_readsOrder_137 : decode cX5_readsOrder 137 = .ok (.invokevirtual 244, 3) := dk_182 0 244 (dk_at dksX5_readsOrder_2 9 rfl rfl)
theorem dX5_readsOrder_140 : decode cX5_readsOrder 140 = .ok (.iastore, 1) := dk_79 (dk_at dksX5_readsOrder_2 12 rfl rfl)
theorem dX5_readsOrder_141 : decode cX5_readsOrder 141 = .ok (.aload_n 0, 1) := dk_42 (dk_at dksX5_readsOrder_2 13 rfl rfl)
theorem dX5_readsOrder_142 : decode cX5_readsOrder 142 = .ok (.getfield 39, 3) := dk_180 0 39 (dk_at dksX5_readsOrder_2 14 rfl rfl)
theorem dX5_readsOrder_145 : decode cX5_readsOrder 145 = .ok (.iload_n 1, 1) := dk_27 (dk_at dksX5_readsOrder_2 17 rfl rfl)
theorem dX5_readsOrder_146 : decode cX5_readsOrder 146 = .ok (.iconst 2, 1) := dk_5 (dk_at dksX5_readsOrder_2 18 rfl rfl)
theorem dX5_readsOrder_147 : decode cX5_readsOrder 147 = .ok (.iadd, 1) := dk_96 (dk_at dksX5_readsOrder_2 19 rfl rfl)
theorem dX5_readsOrder_148 : decode cX5_readsOrder 148 = .ok (.aload_n 0, 1) := dk_42 (dk_at dksX5_readsOrder_2 20 rfl rfl)
theorem dX5_readsOrder_149 : decode cX5_readsOrder 149 = .ok (.iconst 1, 1) := dk_4 (dk_at dksX5_readsOrder_2 21 rfl rfl)
theorem dX5_readsOrder_150 : decode cX5_readsOrder 150 = .ok (.invokevirtual 244, 3) := dk_182 0 244 (dk_at dksX5_readsOrder_3 0 rfl rfl)
theorem dX5_readsOrder_153 : decode cX5_readsOrder 153 = .ok (.iastore, 1) := dk_79 (dk_at dksX5_readsOrder_3 3 rfl rfl)
theorem dX5_readsOrder_154 : decode cX5_readsOrder 154 = .ok (.goto 124, 3) := dk_167 0 124 (dk_at dksX5_readsOrder_3 4 rfl rfl)
theorem dX5_readsOrder_157 : decode cX5_readsOrder 157 = .ok (.aload_n 0, 1) := dk_42 (dk_at dksX5_readsOrder_3 7 rfl rfl)
theorem dX5_readsOrder_158 : decode cX5_readsOrder 158 = .ok (.getfield 39, 3) := dk_180 0 39 (dk_at dksX5_readsOrder_3 8 rfl rfl)
theorem dX5_readsOrder_161 : decode cX5_readsOrder 161 = .ok (.iload_n 1, 1) := dk_27 (dk_at dksX5_readsOrder_3 11 rfl rfl)
theorem dX5_readsOrder_162 : decode cX5_readsOrder 162 = .ok (.iconst 1, 1) := dk_4 (dk_at dksX5_readsOrder_3 12 rfl rfl)
theorem dX5_readsOrder_163 : decode cX5_readsOrder 163 = .ok (.iadd, 1) := dk_96 (dk_at dksX5_readsOrder_3 13 rfl rfl)
theorem dX5_readsOrder_164 : decode cX5_readsOrder 164 = .ok (.aload_n 0, 1) := dk_42 (dk_at dksX5_readsOrder_3 14 rfl rfl)
theorem dX5_readsOrder_165 : decode cX5_readsOrder 165 = .ok (.iconst 1, 1) := dk_4 (dk_at dksX5_readsOrder_3 15 rfl rfl)
theorem dX5_readsOrder_166 : decode cX5_readsOrder 166 = .ok (.invokevirtual 244, 3) := dk_182 0 244 (dk_at dksX5_readsOrder_3 16 rfl rfl)
theorem dX5_readsOrder_169 : decode cX5_readsOrder 169 = .ok (.iastore, 1) := dk_79 (dk_at dksX5_readsOrder_3 19 rfl rfl)
theorem dX5_readsOrder_170 : decode cX5_readsOrder 170 = .ok (.aload_n 0, 1) := dk_42 (dk_at dksX5_readsOrder_3 20 rfl rfl)
theorem dX5_readsOrder_171 : decode cX5_readsOrder 171 = .ok (.getfield 39, 3) := dk_180 0 39 (dk_at dksX5_readsOrder_3 21 rfl rfl)
theorem dX5_readsOrder_174 : decode cX5_readsOrder 174 = .ok (.iload_n 1, 1) := dk_27 (dk_at dksX5_readsOrder_4 0 rfl rfl)
theorem dX5_readsOrder_175 : decode cX5_readsOrder 175 = .ok (.iconst 2, 1) := dk_5 (dk_at dksX5_readsOrder_4 1 rfl rfl)
theorem dX5_readsOrder_176 : decode cX5_readsOrder 176 = .ok (.iadd, 1) := dk_96 (dk_at dksX5_readsOrder_4 2 rfl rfl)
theorem dX5_readsOrder_177 : decode cX5_readsOrder 177 = .ok (.aload_n 0, 1) := dk_42 (dk_at dksX5_readsOrder_4 3 rfl rfl)
theorem dX5_readsOrder_178 : decode cX5_readsOrder 178 = .ok (.iload_n 2, 1) := dk_28 (dk_at dksX5_readsOrder_4 4 rfl rfl)
theorem dX5_readsOrder_179 : decode cX5_readsOrder 179 = .ok (.bipush 103, 2) := dk_16 103 (dk_at dksX5_readsOrder_4 5 rfl rfl)
theorem dX5_readsOrder_181 : decode cX5_readsOrder 181 = .ok (.if_icmp .ne 7, 3) := dk_160 0 7 (dk_at dksX5_readsOrder_4 7 rfl rfl)
theorem dX5_readsOrder_184 : decode cX5_readsOrder 184 = .ok (.iconst 1, 1) := dk_4 (dk_at dksX5_readsOrder_4 10 rfl rfl)
theorem dX5_readsOrder_185 : decode cX5_readsOrder 185 = .ok (.goto 4, 3) := dk_167 0 4 (dk_at dksX5_readsOrder_4 11 rfl rfl)
theorem dX5_readsOrder_188 : decode cX5_readsOrder 188 = .ok (.iconst 0, 1) := dk_3 (dk_at dksX5_readsOrder_4 14 rfl rfl)
theorem dX5_readsOrder_189 : decode cX5_readsOrder 189 = .ok (.invokevirtual 247, 3) := dk_182 0 247 (dk_at dksX5_readsOrder_4 15 rfl rfl)
theorem dX5_readsOrder_192 : decode cX5_readsOrder 192 = .ok (.iastore, 1) := dk_79 (dk_at dksX5_readsOrder_4 18 rfl rfl)
theorem dX5_readsOrder_193 : decode cX5_readsOrder 193 = .ok (.goto 85, 3) := dk_167 0 85 (dk_at dksX5_readsOrder_4 19 rfl rfl)
theorem dX5_readsOrder_196 : decode cX5_readsOrder 196 = .ok (.aload_n 0, 1) := dk_42 (dk_at dksX5_readsOrder_4 22 rfl rfl)
theorem dX5_readsOrder_197 : decode cX5_readsOrder 197 = .ok (.getfield 39, 3) := dk_180 0 39 (dk_at dksX5_readsOrder_5 0 rfl rfl)
theorem dX5_readsOrder_200 : decode cX5_readsOrder 200 = .ok (.iload_n 1, 1) := dk_27 (dk_at dksX5_readsOrder_5 3 rfl rfl)
theorem dX5_readsOrder_201 : decode cX5_readsOrder 201 = .ok (.iconst 1, 1) := dk_4 (dk_at dksX5_readsOrder_5 4 rfl rfl)
theorem dX5_readsOrder_202 : decode cX5_readsOrder 202 = .ok (.iadd, 1) := dk_96 (dk_at dksX5_readsOrder_5 5 rfl rfl)
theorem dX5_readsOrder_203 : decode cX5_readsOrder 203 = .ok (.aload_n 0, 1) := dk_42 (dk_at dksX5_readsOrder_5 6 rfl rfl)
theorem dX5_readsOrder_204 : decode cX5_readsOrder 204 = .ok (.iconst 3, 1) := dk_6 (dk_at dksX5_readsOrder_5 7 rfl rfl)
theorem dX5_readsOrder_205 : decode cX5_readsOrder 205 = .ok (.invokevirtual 244, 3) := dk_182 0 244 (dk_at dksX5_readsOrder_5 8 rfl rfl)
theorem dX5_readsOrder_208 : decode cX5_readsOrder 208 = .ok (.iastore, 1) := dk_79 (dk_at dksX5_readsOrder_5 11 rfl rfl)
theorem dX5_readsOrder_209 : decode cX5_readsOrder 209 = .ok (.goto 69, 3) := dk_167 0 69 (dk_at dksX5_readsOrder_5 12 rfl rfl)
theorem dX5_readsOrder_212 : decode cX5_readsOrder 212 = .ok (.aload_n 0, 1) := dk_42 (dk_at dksX5_readsOrder_5 15 rfl rfl)
theorem dX5_readsOrder_213 : decode cX5_readsOrder 213 = .ok (.getfield 39, 3) := dk_180 0 39 (dk_at dksX5_readsOrder_5 16 rfl rfl)
theorem dX5_readsOrder_216 : decode cX5_readsOrder 216 = .ok (.iload_n 1, 1) := dk_27 (dk_at dksX5_readsOrder_5 19 rfl rfl)
theorem dX5_readsOrder_217 : decode cX5_readsOrder 217 = .ok (.iconst 1, 1) := dk_4 (dk_at dksX5_readsOrder_5 20 rfl rfl)
theorem dX5_readsOrder_218 : decode cX5_readsOrder 218 = .ok (.iadd, 1) := dk_96 (dk_at dksX5_readsOrder_5 21 rfl rfl)
theorem dX5_readsOrder_219 : decode cX5_readsOrder 219 = .ok (.aload_n 0, 1) := dk_42 (dk_at dksX5_readsOrder_5 22 rfl rfl)
theorem dX5_readsOrder_220 : decode cX5_readsOrder 220 = .ok (.iconst 1, 1) := dk_4 (dk_at dksX5_readsOrder_5 23 rfl rfl)
theorem dX5_readsOrder_221 : decode cX5_readsOrder 221 = .ok (.invokevirtual 244, 3) := dk_182 0 244 (dk_at dksX5_readsOrder_6 0 rfl rfl)
theorem dX5_readsOrder_224 : decode cX5_readsOrder 224 = .ok (.iastore, 1) := dk_79 (dk_at dksX5_readsOrder_6 3 rfl rfl)
theorem dX5_readsOrder_225 : decode cX5_readsOrder 225 = .ok (.goto 53, 3) := dk_167 0 53 (dk_at dksX5_readsOrder_6 4 rfl rfl)
theorem dX5_readsOrder_228 : decode cX5_readsOrder 228 = .ok (.aload_n 0, 1) := dk_42 (dk_at dksX5_readsOrder_6 7 rfl rfl)
theorem dX5_readsOrder_229 : decode cX5_readsOrder 229 = .ok (.getfield 39, 3) := dk_180 0 39 (dk_at dksX5_readsOrder_6 8 rfl rfl)
theorem dX5_readsOrder_232 : decode cX5_readsOrder 232 = .ok (.iload_n 1, 1) := dk_27 (dk_at dksX5_readsOrder_6 11 rfl rfl)
theorem dX5_readsOrder_233 : decode cX5_readsOrder 233 = .ok (.iconst 1, 1) := dk_4 (dk_at dksX5_readsOrder_6 12 rfl rfl)
theorem dX5_readsOrder_234 : decode cX5_readsOrder 234 = .ok (.iadd, 1) := dk_96 (dk_at dksX5_readsOrder_6 13 rfl rfl)
theorem dX5_readsOrder_235 : decode cX5_readsOrder 235 = .ok (.aload_n 0, 1) := dk_42 (dk_at dksX5_readsOrder_6 14 rfl rfl)
theorem dX5_readsOrder_236 : decode cX5_readsOrder 236 = .ok (.iconst 3, 1) := dk_6 (dk_at dksX5_readsOrder_6 15 rfl rfl)
theorem dX5_readsOrder_237 : decode cX5_readsOrder 237 = .ok (.invokevirtual 244, 3) := dk_182 0 244 (dk_at dksX5_readsOrder_6 16 rfl rfl)
theorem dX5_readsOrder_240 : decode cX5_readsOrder 240 = .ok (.iastore, 1) := dk_79 (dk_at dksX5_readsOrder_6 19 rfl rfl)
theorem dX5_readsOrder_241 : decode cX5_readsOrder 241 = .ok (.aload_n 0, 1) := dk_42 (dk_at dksX5_readsOrder_6 20 rfl rfl)
theorem dX5_readsOrder_242 : decode cX5_readsOrder 242 = .ok (.bipush 47, 2) := dk_16 47 (dk_at dksX5_readsOrder_6 21 rfl rfl)
theorem dX5_readsOrder_244 : decode cX5_readsOrder 244 = .ok (.invokevirtual 251, 3) := dk_182 0 251 (dk_at dksX5_readsOrder_7 0 rfl rfl)
theorem dX5_readsOrder_247 : decode cX5_readsOrder 247 = .ok (.aload_n 0, 1) := dk_42 (dk_at dksX5_readsOrder_7 3 rfl rfl)
theorem dX5_readsOrder_248 : decode cX5_readsOrder 248 = .ok (.getfield 39, 3) := dk_180 0 39 (dk_at dksX5_readsOrder_7 4 rfl rfl)
theorem dX5_readsOrder_251 : decode cX5_readsOrder 251 = .ok (.iload_n 1, 1) := dk_27 (dk_at dksX5_readsOrder_7 7 rfl rfl)
theorem dX5_readsOrder_252 : decode cX5_readsOrder 252 = .ok (.iconst 2, 1) := dk_5 (dk_at dksX5_readsOrder_7 8 rfl rfl)
theorem dX5_readsOrder_253 : decode cX5_readsOrder 253 = .ok (.iadd, 1) := dk_96 (dk_at dksX5_readsOrder_7 9 rfl rfl)
theorem dX5_readsOrder_254 : decode cX5_readsOrder 254 = .ok (.aload_n 0, 1) := dk_42 (dk_at dksX5_readsOrder_7 10 rfl rfl)
theorem dX5_readsOrder_255 : decode cX5_readsOrder 255 = .ok (.iconst 1, 1) := dk_4 (dk_at dksX5_readsOrder_7 11 rfl rfl)
theorem dX5_readsOrder_256 : decode cX5_readsOrder 256 = .ok (.invokevirtual 244, 3) := dk_182 0 244 (dk_at dksX5_readsOrder_7 12 rfl rfl)
theorem dX5_readsOrder_259 : decode cX5_readsOrder 259 = .ok (.iastore, 1) := dk_79 (dk_at dksX5_readsOrder_7 15 rfl rfl)
theorem dX5_readsOrder_260 : decode cX5_readsOrder 260 = .ok (.goto 18, 3) := dk_167 0 18 (dk_at dksX5_readsOrder_7 16 rfl rfl)
theorem dX5_readsOrder_263 : decode cX5_readsOrder 263 = .ok (.aload_n 0, 1) := dk_42 (dk_at dksX5_readsOrder_7 19 rfl rfl)
theorem dX5_readsOrder_264 : decode cX5_readsOrder 264 = .ok (.iconst 1, 1) := dk_4 (dk_at dksX5_readsOrder_7 20 rfl rfl)
theorem dX5_readsOrder_265 : decode cX5_readsOrder 265 = .ok (.putfield 238, 3) := dk_181 0 238 (dk_at dksX5_readsOrder_7 21 rfl rfl)
theorem dX5_readsOrder_268 : decode cX5_readsOrder 268 = .ok (.aload_n 0, 1) := dk_42 (dk_at dksX5_readsOrder_8 0 rfl rfl)
theorem dX5_readsOrder_269 : decode cX5_readsOrder 269 = .ok (.dup, 1) := dk_89 (dk_at dksX5_readsOrder_8 1 rfl rfl)
theorem dX5_readsOrder_270 : decode cX5_readsOrder 270 = .ok (.getfield 235, 3) := dk_180 0 235 (dk_at dksX5_readsOrder_8 2 rfl rfl)
theorem dX5_readsOrder_273 : decode cX5_readsOrder 273 = .ok (.iconst 1, 1) := dk_4 (dk_at dksX5_readsOrder_8 5 rfl rfl)
theorem dX5_readsOrder_274 : decode cX5_readsOrder 274 = .ok (.isub, 1) := dk_100 (dk_at dksX5_readsOrder_8 6 rfl rfl)
theorem dX5_readsOrder_275 : decode cX5_readsOrder 275 = .ok (.putfield 235, 3) := dk_181 0 235 (dk_at dksX5_readsOrder_8 7 rfl rfl)
theorem dX5_readsOrder_278 : decode cX5_readsOrder 278 = .ok (.return_, 1) := dk_177 (dk_at dksX5_readsOrder_8 10 rfl rfl)
abbrev cX5_here : ByteArray := prog_12_method_84_code
def yX5_here : MethodName := ⟨RX5, "here", "()I"⟩
def dkwX5_here_1 : List UInt8 := [172]
abbrev dktX5_here_1 : List UInt8 := dkwX5_here_1 ++ []
def dkwX5_here_0 : List UInt8 := [42, 180, 0, 235, 42, 180, 0, 232, 162, 0, 15, 42, 180, 0, 22, 42, 180, 0, 235, 52, 167, 0, 4, 2]
abbrev dktX5_here_0 : List UInt8 := dkwX5_here_0 ++ dktX5_here_1
theorem dksX5_here_0 : cX5_here.data.toList.drop 0 = dktX5_here_0 := by decide +kernel
theorem dksX5_here_1 : cX5_here.data.toList.drop 24 = dktX5_here_1 := dk_seg dksX5_here_0 24 rfl rfl
theorem dX5_here_0 : decode cX5_here 0 = .ok (.aload_n 0, 1) := dk_42 (dk_at dksX5_here_0 0 rfl rfl)
theorem dX5_here_1 : decode cX5_here 1 = .ok (.getfield 235, 3) := dk_180 0 235 (dk_at dksX5_here_0 1 rfl rfl)
theorem dX5_here_4 : decode cX5_here 4 = .ok (.aload_n 0, 1) := dk_42 (dk_at dksX5_here_0 4 rfl rfl)
theorem dX5_here_5 : decode cX5_here 5 = .ok (.getfield 232, 3) := dk_180 0 232 (dk_at dksX5_here_0 5 rfl rfl)
theorem dX5_here_8 : decode cX5_here 8 = .ok (.if_icmp .ge 15, 3) := dk_162 0 15 (dk_at dksX5_here_0 8 rfl rfl)
theorem dX5_here_11 : decode cX5_here 11 = .ok (.aload_n 0, 1) := dk_42 (dk_at dksX5_here_0 11 rfl rfl)
theorem dX5_here_12 : decode cX5_here 12 = .ok (.getfield 22, 3) := dk_180 0 22 (dk_at dksX5_here_0 12 rfl rfl)
theorem dX5_here_15 : decode cX5_here 15 = .ok (.aload_n 0, 1) := dk_42 (dk_at dksX5_here_0 15 rfl rfl)
theorem dX5_here_16 : decode cX5_here 16 = .ok (.getfield 235, 3) := dk_180 0 235 (dk_at dksX5_here_0 16 rfl rfl)
theorem dX5_here_19 : decode cX5_here 19 = .ok (.caload, 1) := dk_52 (dk_at dksX5_here_0 19 rfl rfl)
theorem dX5_here_20 : decode cX5_here 20 = .ok (.goto 4, 3) := dk_167 0 4 (dk_at dksX5_here_0 20 rfl rfl)
theorem dX5_here_23 : decode cX5_here 23 = .ok (.iconst (-1), 1) := dk_2 (dk_at dksX5_here_0 23 rfl rfl)
theorem dX5_here_24 : decode cX5_here 24 = .ok (.ireturn, 1) := dk_172 (dk_at dksX5_here_1 0 rfl rfl)
abbrev cX5_figures : ByteArray := prog_12_method_86_code
def yX5_figures : MethodName := ⟨RX5, "figures", "(I)I"⟩
def dkwX5_figures_3 : List UInt8 := [100, 61, 42, 89, 180, 0, 235, 4, 96, 181, 0, 235, 132, 3, 1, 167, 255, 204, 28, 172]
abbrev dktX5_figures_3 : List UInt8 := dkwX5_figures_3 ++ []
def dkwX5_figures_2 : List UInt8 := [182, 0, 241, 16, 48, 16, 57, 184, 0, 70, 153, 0, 32, 16, 10, 28, 104, 42, 182, 0, 241, 96, 16, 48]
abbrev dktX5_figures_2 : List UInt8 := dkwX5_figures_2 ++ dktX5_figures_3
def dkwX5_figures_1 : List UInt8 := [167, 0, 4, 3, 181, 0, 238, 3, 61, 3, 62, 42, 180, 0, 238, 154, 0, 51, 29, 27, 162, 0, 46, 42]
abbrev dktX5_figures_1 : List UInt8 := dkwX5_figures_1 ++ dktX5_figures_2
def dkwX5_figures_0 : List UInt8 := [42, 42, 180, 0, 238, 154, 0, 17, 42, 182, 0, 241, 16, 48, 16, 57, 184, 0, 70, 154, 0, 7, 4]
abbrev dktX5_figures_0 : List UInt8 := dkwX5_figures_0 ++ dktX5_figures_1
theorem dksX5_figures_0 : cX5_figures.data.toList.drop 0 = dktX5_figures_0 := by decide +kernel
theorem dksX5_figures_1 : cX5_figures.data.toList.drop 23 = dktX5_figures_1 := dk_seg dksX5_figures_0 23 rfl rfl
theorem dksX5_figures_2 : cX5_figures.data.toList.drop 47 = dktX5_figures_2 := dk_seg dksX5_figures_1 24 rfl rfl
theorem dksX5_figures_3 : cX5_figures.data.toList.drop 71 = dktX5_figures_3 := dk_seg dksX5_figures_2 24 rfl rfl
theorem dX5_figures_0 : decode cX5_figures 0 = .ok (.aload_n 0, 1) := dk_42 (dk_at dksX5_figures_0 0 rfl rfl)
theorem dX5_figures_1 : decode cX5_figures 1 = .ok (.aload_n 0, 1) := dk_42 (dk_at dksX5_figures_0 1 rfl rfl)
theorem dX5_figures_2 : decode cX5_figures 2 = .ok (.getfield 238, 3) := dk_180 0 238 (dk_at dksX5_figures_0 2 rfl rfl)
theorem dX5_figures_5 : decode cX5_figures 5 = .ok (.ifCond .ne 17, 3) := dk_154 0 17 (dk_at dksX5_figures_0 5 rfl rfl)
theorem dX5_figures_8 : decode cX5_figures 8 = .ok (.aload_n 0, 1) := dk_42 (dk_at dksX5_figures_0 8 rfl rfl)
theorem dX5_figures_9 : decode cX5_figures 9 = .ok (.invokevirtual 241, 3) := dk_182 0 241 (dk_at dksX5_figures_0 9 rfl rfl)
theorem dX5_figures_12 : decode cX5_figures 12 = .ok (.bipush 48, 2) := dk_16 48 (dk_at dksX5_figures_0 12 rfl rfl)
theorem dX5_figures_14 : decode cX5_figures 14 = .ok (.bipush 57, 2) := dk_16 57 (dk_at dksX5_figures_0 14 rfl rfl)
theorem dX5_figures_16 : decode cX5_figures 16 = .ok (.invokestatic 70, 3) := dk_184 0 70 (dk_at dksX5_figures_0 16 rfl rfl)
theorem dX5_figures_19 : decode cX5_figures 19 = .ok (.ifCond .ne 7, 3) := dk_154 0 7 (dk_at dksX5_figures_0 19 rfl rfl)
theorem dX5_figures_22 : decode cX5_figures 22 = .ok (.iconst 1, 1) := dk_4 (dk_at dksX5_figures_0 22 rfl rfl)
theorem dX5_figures_23 : decode cX5_figures 23 = .ok (.goto 4, 3) := dk_167 0 4 (dk_at dksX5_figures_1 0 rfl rfl)
theorem dX5_figures_26 : decode cX5_figures 26 = .ok (.iconst 0, 1) := dk_3 (dk_at dksX5_figures_1 3 rfl rfl)
theorem dX5_figures_27 : decode cX5_figures 27 = .ok (.putfield 238, 3) := dk_181 0 238 (dk_at dksX5_figures_1 4 rfl rfl)
theorem dX5_figures_30 : decode cX5_figures 30 = .ok (.iconst 0, 1) := dk_3 (dk_at dksX5_figures_1 7 rfl rfl)
theorem dX5_figures_31 : decode cX5_figures 31 = .ok (.istore_n 2, 1) := dk_61 (dk_at dksX5_figures_1 8 rfl rfl)
theorem dX5_figures_32 : decode cX5_figures 32 = .ok (.iconst 0, 1) := dk_3 (dk_at dksX5_figures_1 9 rfl rfl)
theorem dX5_figures_33 : decode cX5_figures 33 = .ok (.istore_n 3, 1) := dk_62 (dk_at dksX5_figures_1 10 rfl rfl)
theorem dX5_figures_34 : decode cX5_figures 34 = .ok (.aload_n 0, 1) := dk_42 (dk_at dksX5_figures_1 11 rfl rfl)
theorem dX5_figures_35 : decode cX5_figures 35 = .ok (.getfield 238, 3) := dk_180 0 238 (dk_at dksX5_figures_1 12 rfl rfl)
theorem dX5_figures_38 : decode cX5_figures 38 = .ok (.ifCond .ne 51, 3) := dk_154 0 51 (dk_at dksX5_figures_1 15 rfl rfl)
theorem dX5_figures_41 : decode cX5_figures 41 = .ok (.iload_n 3, 1) := dk_29 (dk_at dksX5_figures_1 18 rfl rfl)
theorem dX5_figures_42 : decode cX5_figures 42 = .ok (.iload_n 1, 1) := dk_27 (dk_at dksX5_figures_1 19 rfl rfl)
theorem dX5_figures_43 : decode cX5_figures 43 = .ok (.if_icmp .ge 46, 3) := dk_162 0 46 (dk_at dksX5_figures_1 20 rfl rfl)
theorem dX5_figures_46 : decode cX5_figures 46 = .ok (.aload_n 0, 1) := dk_42 (dk_at dksX5_figures_1 23 rfl rfl)
theorem dX5_figures_47 : decode cX5_figures 47 = .ok (.invokevirtual 241, 3) := dk_182 0 241 (dk_at dksX5_figures_2 0 rfl rfl)
theorem dX5_figures_50 : decode cX5_figures 50 = .ok (.bipush 48, 2) := dk_16 48 (dk_at dksX5_figures_2 3 rfl rfl)
theorem dX5_figures_52 : decode cX5_figures 52 = .ok (.bipush 57, 2) := dk_16 57 (dk_at dksX5_figures_2 5 rfl rfl)
theorem dX5_figures_54 : decode cX5_figures 54 = .ok (.invokestatic 70, 3) := dk_184 0 70 (dk_at dksX5_figures_2 7 rfl rfl)
theorem dX5_figures_57 : decode cX5_figures 57 = .ok (.ifCond .eq 32, 3) := dk_153 0 32 (dk_at dksX5_figures_2 10 rfl rfl)
theorem dX5_figures_60 : decode cX5_figures 60 = .ok (.bipush 10, 2) := dk_16 10 (dk_at dksX5_figures_2 13 rfl rfl)
theorem dX5_figures_62 : decode cX5_figures 62 = .ok (.iload_n 2, 1) := dk_28 (dk_at dksX5_figures_2 15 rfl rfl)
theorem dX5_figures_63 : decode cX5_figures 63 = .ok (.imul, 1) := dk_104 (dk_at dksX5_figures_2 16 rfl rfl)
theorem dX5_figures_64 : decode cX5_figures 64 = .ok (.aload_n 0, 1) := dk_42 (dk_at dksX5_figures_2 17 rfl rfl)
theorem dX5_figures_65 : decode cX5_figures 65 = .ok (.invokevirtual 241, 3) := dk_182 0 241 (dk_at dksX5_figures_2 18 rfl rfl)
theorem dX5_figures_68 : decode cX5_figures 68 = .ok (.iadd, 1) := dk_96 (dk_at dksX5_figures_2 21 rfl rfl)
theorem dX5_figures_69 : decode cX5_figures 69 = .ok (.bipush 48, 2) := dk_16 48 (dk_at dksX5_figures_2 22 rfl rfl)
theorem dX5_figures_71 : decode cX5_figures 71 = .ok (.isub, 1) := dk_100 (dk_at dksX5_figures_3 0 rfl rfl)
theorem dX5_figures_72 : decode cX5_figures 72 = .ok (.istore_n 2, 1) := dk_61 (dk_at dksX5_figures_3 1 rfl rfl)
theorem dX5_figures_73 : decode cX5_figures 73 = .ok (.aload_n 0, 1) := dk_42 (dk_at dksX5_figures_3 2 rfl rfl)
theorem dX5_figures_74 : decode cX5_figures 74 = .ok (.dup, 1) := dk_89 (dk_at dksX5_figures_3 3 rfl rfl)
theorem dX5_figures_75 : decode cX5_figures 75 = .ok (.getfield 235, 3) := dk_180 0 235 (dk_at dksX5_figures_3 4 rfl rfl)
theorem dX5_figures_78 : decode cX5_figures 78 = .ok (.iconst 1, 1) := dk_4 (dk_at dksX5_figures_3 7 rfl rfl)
theorem dX5_figures_79 : decode cX5_figures 79 = .ok (.iadd, 1) := dk_96 (dk_at dksX5_figures_3 8 rfl rfl)
theorem dX5_figures_80 : decode cX5_figures 80 = .ok (.putfield 235, 3) := dk_181 0 235 (dk_at dksX5_figures_3 9 rfl rfl)
theorem dX5_figures_83 : decode cX5_figures 83 = .ok (.iinc 3 1, 3) := dk_132 3 1 (dk_at dksX5_figures_3 12 rfl rfl)
theorem dX5_figures_86 : decode cX5_figures 86 = .ok (.goto (-52), 3) := dk_167 255 204 (dk_at dksX5_figures_3 15 rfl rfl)
theorem dX5_figures_89 : decode cX5_figures 89 = .ok (.iload_n 2, 1) := dk_28 (dk_at dksX5_figures_3 18 rfl rfl)
theorem dX5_figures_90 : decode cX5_figures 90 = .ok (.ireturn, 1) := dk_172 (dk_at dksX5_figures_3 19 rfl rfl)
abbrev cX5_readsSign : ByteArray := prog_12_method_87_code
def yX5_readsSign : MethodName := ⟨RX5, "readsSign", "(Z)I"⟩
def dkwX5_readsSign_2 : List UInt8 := [153, 0, 7, 3, 167, 0, 4, 4, 96, 181, 0, 235, 28, 172]
abbrev dktX5_readsSign_2 : List UInt8 := dkwX5_readsSign_2 ++ []
def dkwX5_readsSign_1 : List UInt8 := [28, 16, 46, 159, 0, 7, 4, 167, 0, 4, 3, 181, 0, 238, 42, 89, 180, 0, 235, 42, 180, 0, 238]
abbrev dktX5_readsSign_1 : List UInt8 := dkwX5_readsSign_1 ++ dktX5_readsSign_2
def dkwX5_readsSign_0 : List UInt8 := [42, 182, 0, 241, 61, 42, 42, 180, 0, 238, 154, 0, 20, 28, 184, 0, 106, 154, 0, 17, 27, 153, 0, 9]
abbrev dktX5_readsSign_0 : List UInt8 := dkwX5_readsSign_0 ++ dktX5_readsSign_1
theorem dksX5_readsSign_0 : cX5_readsSign.data.toList.drop 0 = dktX5_readsSign_0 := by decide +kernel
theorem dksX5_readsSign_1 : cX5_readsSign.data.toList.drop 24 = dktX5_readsSign_1 := dk_seg dksX5_readsSign_0 24 rfl rfl
theorem dksX5_readsSign_2 : cX5_readsSign.data.toList.drop 47 = dktX5_readsSign_2 := dk_seg dksX5_readsSign_1 23 rfl rfl
theorem dX5_readsSign_0 : decode cX5_readsSign 0 = .ok (.aload_n 0, 1) := dk_42 (dk_at dksX5_readsSign_0 0 rfl rfl)
theorem dX5_readsSign_1 : decode cX5_readsSign 1 = .ok (.invokevirtual 241, 3) := dk_182 0 241 (dk_at dksX5_readsSign_0 1 rfl rfl)
theorem dX5_readsSign_4 : decode cX5_readsSign 4 = .ok (.istore_n 2, 1) := dk_61 (dk_at dksX5_readsSign_0 4 rfl rfl)
theorem dX5_readsSign_5 : decode cX5_readsSign 5 = .ok (.aload_n 0, 1) := dk_42 (dk_at dksX5_readsSign_0 5 rfl rfl)
theorem dX5_readsSign_6 : decode cX5_readsSign 6 = .ok (.aload_n 0, 1) := dk_42 (dk_at dksX5_readsSign_0 6 rfl rfl)
theorem dX5_readsSign_7 : decode cX5_readsSign 7 = .ok (.getfield 238, 3) := dk_180 0 238 (dk_at dksX5_readsSign_0 7 rfl rfl)
theorem dX5_readsSign_10 : decode cX5_readsSign 10 = .ok (.ifCond .ne 20, 3) := dk_154 0 20 (dk_at dksX5_readsSign_0 10 rfl rfl)
theorem dX5_readsSign_13 : decode cX5_readsSign 13 = .ok (.iload_n 2, 1) := dk_28 (dk_at dksX5_readsSign_0 13 rfl rfl)
theorem dX5_readsSign_14 : decode cX5_readsSign 14 = .ok (.invokestatic 106, 3) := dk_184 0 106 (dk_at dksX5_readsSign_0 14 rfl rfl)
theorem dX5_readsSign_17 : decode cX5_readsSign 17 = .ok (.ifCond .ne 17, 3) := dk_154 0 17 (dk_at dksX5_readsSign_0 17 rfl rfl)
theorem dX5_readsSign_20 : decode cX5_readsSign 20 = .ok (.iload_n 1, 1) := dk_27 (dk_at dksX5_readsSign_0 20 rfl rfl)
theorem dX5_readsSign_21 : decode cX5_readsSign 21 = .ok (.ifCond .eq 9, 3) := dk_153 0 9 (dk_at dksX5_readsSign_0 21 rfl rfl)
theorem dX5_readsSign_24 : decode cX5_readsSign 24 = .ok (.iload_n 2, 1) := dk_28 (dk_at dksX5_readsSign_1 0 rfl rfl)
theorem dX5_readsSign_25 : decode cX5_readsSign 25 = .ok (.bipush 46, 2) := dk_16 46 (dk_at dksX5_readsSign_1 1 rfl rfl)
theorem dX5_readsSign_27 : decode cX5_readsSign 27 = .ok (.if_icmp .eq 7, 3) := dk_159 0 7 (dk_at dksX5_readsSign_1 3 rfl rfl)
theorem dX5_readsSign_30 : decode cX5_readsSign 30 = .ok (.iconst 1, 1) := dk_4 (dk_at dksX5_readsSign_1 6 rfl rfl)
theorem dX5_readsSign_31 : decode cX5_readsSign 31 = .ok (.goto 4, 3) := dk_167 0 4 (dk_at dksX5_readsSign_1 7 rfl rfl)
theorem dX5_readsSign_34 : decode cX5_readsSign 34 = .ok (.iconst 0, 1) := dk_3 (dk_at dksX5_readsSign_1 10 rfl rfl)
theorem dX5_readsSign_35 : decode cX5_readsSign 35 = .ok (.putfield 238, 3) := dk_181 0 238 (dk_at dksX5_readsSign_1 11 rfl rfl)
theorem dX5_readsSign_38 : decode cX5_readsSign 38 = .ok (.aload_n 0, 1) := dk_42 (dk_at dksX5_readsSign_1 14 rfl rfl)
theorem dX5_readsSign_39 : decode cX5_readsSign 39 = .ok (.dup, 1) := dk_89 (dk_at dksX5_readsSign_1 15 rfl rfl)
theorem dX5_readsSign_40 : decode cX5_readsSign 40 = .ok (.getfield 235, 3) := dk_180 0 235 (dk_at dksX5_readsSign_1 16 rfl rfl)
theorem dX5_readsSign_43 : decode cX5_readsSign 43 = .ok (.aload_n 0, 1) := dk_42 (dk_at dksX5_readsSign_1 19 rfl rfl)
theorem dX5_readsSign_44 : decode cX5_readsSign 44 = .ok (.getfield 238, 3) := dk_180 0 238 (dk_at dksX5_readsSign_1 20 rfl rfl)
theorem dX5_readsSign_47 : decode cX5_readsSign 47 = .ok (.ifCond .eq 7, 3) := dk_153 0 7 (dk_at dksX5_readsSign_2 0 rfl rfl)
theorem dX5_readsSign_50 : decode cX5_readsSign 50 = .ok (.iconst 0, 1) := dk_3 (dk_at dksX5_readsSign_2 3 rfl rfl)
theorem dX5_readsSign_51 : decode cX5_readsSign 51 = .ok (.goto 4, 3) := dk_167 0 4 (dk_at dksX5_readsSign_2 4 rfl rfl)
theorem dX5_readsSign_54 : decode cX5_readsSign 54 = .ok (.iconst 1, 1) := dk_4 (dk_at dksX5_readsSign_2 7 rfl rfl)
theorem dX5_readsSign_55 : decode cX5_readsSign 55 = .ok (.iadd, 1) := dk_96 (dk_at dksX5_readsSign_2 8 rfl rfl)
theorem dX5_readsSign_56 : decode cX5_readsSign 56 = .ok (.putfield 235, 3) := dk_181 0 235 (dk_at dksX5_readsSign_2 9 rfl rfl)
theorem dX5_readsSign_59 : decode cX5_readsSign 59 = .ok (.iload_n 2, 1) := dk_28 (dk_at dksX5_readsSign_2 12 rfl rfl)
theorem dX5_readsSign_60 : decode cX5_readsSign 60 = .ok (.ireturn, 1) := dk_172 (dk_at dksX5_readsSign_2 13 rfl rfl)
abbrev cX5_needs : ByteArray := prog_12_method_85_code
def yX5_needs : MethodName := ⟨RX5, "needs", "(I)V"⟩
def dkwX5_needs_1 : List UInt8 := [42, 89, 180, 0, 235, 42, 180, 0, 238, 153, 0, 7, 3, 167, 0, 4, 4, 96, 181, 0, 235, 177]
abbrev dktX5_needs_1 : List UInt8 := dkwX5_needs_1 ++ []
def dkwX5_needs_0 : List UInt8 := [42, 42, 180, 0, 238, 154, 0, 11, 42, 182, 0, 241, 27, 159, 0, 7, 4, 167, 0, 4, 3, 181, 0, 238]
abbrev dktX5_needs_0 : List UInt8 := dkwX5_needs_0 ++ dktX5_needs_1
theorem dksX5_needs_0 : cX5_needs.data.toList.drop 0 = dktX5_needs_0 := by decide +kernel
theorem dksX5_needs_1 : cX5_needs.data.toList.drop 24 = dktX5_needs_1 := dk_seg dksX5_needs_0 24 rfl rfl
theorem dX5_needs_0 : decode cX5_needs 0 = .ok (.aload_n 0, 1) := dk_42 (dk_at dksX5_needs_0 0 rfl rfl)
theorem dX5_needs_1 : decode cX5_needs 1 = .ok (.aload_n 0, 1) := dk_42 (dk_at dksX5_needs_0 1 rfl rfl)
theorem dX5_needs_2 : decode cX5_needs 2 = .ok (.getfield 238, 3) := dk_180 0 238 (dk_at dksX5_needs_0 2 rfl rfl)
theorem dX5_needs_5 : decode cX5_needs 5 = .ok (.ifCond .ne 11, 3) := dk_154 0 11 (dk_at dksX5_needs_0 5 rfl rfl)
theorem dX5_needs_8 : decode cX5_needs 8 = .ok (.aload_n 0, 1) := dk_42 (dk_at dksX5_needs_0 8 rfl rfl)
theorem dX5_needs_9 : decode cX5_needs 9 = .ok (.invokevirtual 241, 3) := dk_182 0 241 (dk_at dksX5_needs_0 9 rfl rfl)
theorem dX5_needs_12 : decode cX5_needs 12 = .ok (.iload_n 1, 1) := dk_27 (dk_at dksX5_needs_0 12 rfl rfl)
theorem dX5_needs_13 : decode cX5_needs 13 = .ok (.if_icmp .eq 7, 3) := dk_159 0 7 (dk_at dksX5_needs_0 13 rfl rfl)
theorem dX5_needs_16 : decode cX5_needs 16 = .ok (.iconst 1, 1) := dk_4 (dk_at dksX5_needs_0 16 rfl rfl)
theorem dX5_needs_17 : decode cX5_needs 17 = .ok (.goto 4, 3) := dk_167 0 4 (dk_at dksX5_needs_0 17 rfl rfl)
theorem dX5_needs_20 : decode cX5_needs 20 = .ok (.iconst 0, 1) := dk_3 (dk_at dksX5_needs_0 20 rfl rfl)
theorem dX5_needs_21 : decode cX5_needs 21 = .ok (.putfield 238, 3) := dk_181 0 238 (dk_at dksX5_needs_0 21 rfl rfl)
theorem dX5_needs_24 : decode cX5_needs 24 = .ok (.aload_n 0, 1) := dk_42 (dk_at dksX5_needs_1 0 rfl rfl)
theorem dX5_needs_25 : decode cX5_needs 25 = .ok (.dup, 1) := dk_89 (dk_at dksX5_needs_1 1 rfl rfl)
theorem dX5_needs_26 : decode cX5_needs 26 = .ok (.getfield 235, 3) := dk_180 0 235 (dk_at dksX5_needs_1 2 rfl rfl)
theorem dX5_needs_29 : decode cX5_needs 29 = .ok (.aload_n 0, 1) := dk_42 (dk_at dksX5_needs_1 5 rfl rfl)
theorem dX5_needs_30 : decode cX5_needs 30 = .ok (.getfield 238, 3) := dk_180 0 238 (dk_at dksX5_needs_1 6 rfl rfl)
theorem dX5_needs_33 : decode cX5_needs 33 = .ok (.ifCond .eq 7, 3) := dk_153 0 7 (dk_at dksX5_needs_1 9 rfl rfl)
theorem dX5_needs_36 : decode cX5_needs 36 = .ok (.iconst 0, 1) := dk_3 (dk_at dksX5_needs_1 12 rfl rfl)
theorem dX5_needs_37 : decode cX5_needs 37 = .ok (.goto 4, 3) := dk_167 0 4 (dk_at dksX5_needs_1 13 rfl rfl)
theorem dX5_needs_40 : decode cX5_needs 40 = .ok (.iconst 1, 1) := dk_4 (dk_at dksX5_needs_1 16 rfl rfl)
theorem dX5_needs_41 : decode cX5_needs 41 = .ok (.iadd, 1) := dk_96 (dk_at dksX5_needs_1 17 rfl rfl)
theorem dX5_needs_42 : decode cX5_needs 42 = .ok (.putfield 235, 3) := dk_181 0 235 (dk_at dksX5_needs_1 18 rfl rfl)
theorem dX5_needs_45 : decode cX5_needs 45 = .ok (.return_, 1) := dk_177 (dk_at dksX5_needs_1 21 rfl rfl)
abbrev cX5_does : ByteArray := prog_12_method_89_code
def yX5_does : MethodName := ⟨RX5, "does", "(I)I"⟩
def dkwX5_does_3 : List UInt8 := [182, 0, 115, 172, 42, 28, 182, 0, 149, 172, 42, 28, 182, 0, 158, 172, 42, 28, 29, 182, 0, 161, 172]
abbrev dktX5_does_3 : List UInt8 := dkwX5_does_3 ++ []
def dkwX5_does_2 : List UInt8 := [42, 28, 29, 182, 0, 87, 172, 42, 28, 29, 182, 0, 152, 172, 42, 28, 29, 182, 0, 112, 172, 42, 28, 29]
abbrev dktX5_does_2 : List UInt8 := dkwX5_does_2 ++ dktX5_does_3
def dkwX5_does_1 : List UInt8 := [171, 0, 0, 0, 0, 0, 0, 100, 0, 0, 0, 6, 0, 0, 0, 98, 0, 0, 0, 60, 0, 0, 0, 103, 0, 0, 0, 81, 0, 0, 0, 112, 0, 0, 0, 74, 0, 0, 0, 115, 0, 0, 0, 67, 0, 0, 0, 116, 0, 0, 0, 88, 0, 0, 0, 120, 0, 0, 0, 94]
abbrev dktX5_does_1 : List UInt8 := dkwX5_does_1 ++ dktX5_does_2
def dkwX5_does_0 : List UInt8 := [42, 180, 0, 39, 27, 4, 96, 46, 61, 42, 180, 0, 39, 27, 5, 96, 46, 62, 42, 180, 0, 39, 27, 46]
abbrev dktX5_does_0 : List UInt8 := dkwX5_does_0 ++ dktX5_does_1
theorem dksX5_does_0 : cX5_does.data.toList.drop 0 = dktX5_does_0 := by decide +kernel
theorem dksX5_does_1 : cX5_does.data.toList.drop 24 = dktX5_does_1 := dk_seg dksX5_does_0 24 rfl rfl
theorem dksX5_does_2 : cX5_does.data.toList.drop 84 = dktX5_does_2 := dk_seg dksX5_does_1 60 rfl rfl
theorem dksX5_does_3 : cX5_does.data.toList.drop 108 = dktX5_does_3 := dk_seg dksX5_does_2 24 rfl rfl
theorem dX5_does_0 : decode cX5_does 0 = .ok (.aload_n 0, 1) := dk_42 (dk_at dksX5_does_0 0 rfl rfl)
theorem dX5_does_1 : decode cX5_does 1 = .ok (.getfield 39, 3) := dk_180 0 39 (dk_at dksX5_does_0 1 rfl rfl)
theorem dX5_does_4 : decode cX5_does 4 = .ok (.iload_n 1, 1) := dk_27 (dk_at dksX5_does_0 4 rfl rfl)
theorem dX5_does_5 : decode cX5_does 5 = .ok (.iconst 1, 1) := dk_4 (dk_at dksX5_does_0 5 rfl rfl)
theorem dX5_does_6 : decode cX5_does 6 = .ok (.iadd, 1) := dk_96 (dk_at dksX5_does_0 6 rfl rfl)
theorem dX5_does_7 : decode cX5_does 7 = .ok (.iaload, 1) := dk_46 (dk_at dksX5_does_0 7 rfl rfl)
theorem dX5_does_8 : decode cX5_does 8 = .ok (.istore_n 2, 1) := dk_61 (dk_at dksX5_does_0 8 rfl rfl)
theorem dX5_does_9 : decode cX5_does 9 = .ok (.aload_n 0, 1) := dk_42 (dk_at dksX5_does_0 9 rfl rfl)
theorem dX5_does_10 : decode cX5_does 10 = .ok (.getfield 39, 3) := dk_180 0 39 (dk_at dksX5_does_0 10 rfl rfl)
theorem dX5_does_13 : decode cX5_does 13 = .ok (.iload_n 1, 1) := dk_27 (dk_at dksX5_does_0 13 rfl rfl)
theorem dX5_does_14 : decode cX5_does 14 = .ok (.iconst 2, 1) := dk_5 (dk_at dksX5_does_0 14 rfl rfl)
theorem dX5_does_15 : decode cX5_does 15 = .ok (.iadd, 1) := dk_96 (dk_at dksX5_does_0 15 rfl rfl)
theorem dX5_does_16 : decode cX5_does 16 = .ok (.iaload, 1) := dk_46 (dk_at dksX5_does_0 16 rfl rfl)
theorem dX5_does_17 : decode cX5_does 17 = .ok (.istore_n 3, 1) := dk_62 (dk_at dksX5_does_0 17 rfl rfl)
theorem dX5_does_18 : decode cX5_does 18 = .ok (.aload_n 0, 1) := dk_42 (dk_at dksX5_does_0 18 rfl rfl)
theorem dX5_does_19 : decode cX5_does 19 = .ok (.getfield 39, 3) := dk_180 0 39 (dk_at dksX5_does_0 19 rfl rfl)
theorem dX5_does_22 : decode cX5_does 22 = .ok (.iload_n 1, 1) := dk_27 (dk_at dksX5_does_0 22 rfl rfl)
theorem dX5_does_23 : decode cX5_does 23 = .ok (.iaload, 1) := dk_46 (dk_at dksX5_does_0 23 rfl rfl)
theorem dX5_does_24 : decode cX5_does 24 = .ok (.lookupswitch 100 #[(98, 60), (103, 81), (112, 74), (115, 67), (116, 88), (120, 94)], 60) := by decide +kernel
theorem dX5_does_84 : decode cX5_does 84 = .ok (.aload_n 0, 1) := dk_42 (dk_at dksX5_does_2 0 rfl rfl)
theorem dX5_does_85 : decode cX5_does 85 = .ok (.iload_n 2, 1) := dk_28 (dk_at dksX5_does_2 1 rfl rfl)
theorem dX5_does_86 : decode cX5_does 86 = .ok (.iload_n 3, 1) := dk_29 (dk_at dksX5_does_2 2 rfl rfl)
theorem dX5_does_87 : decode cX5_does 87 = .ok (.invokevirtual 87, 3) := dk_182 0 87 (dk_at dksX5_does_2 3 rfl rfl)
theorem dX5_does_90 : decode cX5_does 90 = .ok (.ireturn, 1) := dk_172 (dk_at dksX5_does_2 6 rfl rfl)
theorem dX5_does_91 : decode cX5_does 91 = .ok (.aload_n 0, 1) := dk_42 (dk_at dksX5_does_2 7 rfl rfl)
theorem dX5_does_92 : decode cX5_does 92 = .ok (.iload_n 2, 1) := dk_28 (dk_at dksX5_does_2 8 rfl rfl)
theorem dX5_does_93 : decode cX5_does 93 = .ok (.iload_n 3, 1) := dk_29 (dk_at dksX5_does_2 9 rfl rfl)
theorem dX5_does_94 : decode cX5_does 94 = .ok (.invokevirtual 152, 3) := dk_182 0 152 (dk_at dksX5_does_2 10 rfl rfl)
theorem dX5_does_97 : decode cX5_does 97 = .ok (.ireturn, 1) := dk_172 (dk_at dksX5_does_2 13 rfl rfl)
theorem dX5_does_98 : decode cX5_does 98 = .ok (.aload_n 0, 1) := dk_42 (dk_at dksX5_does_2 14 rfl rfl)
theorem dX5_does_99 : decode cX5_does 99 = .ok (.iload_n 2, 1) := dk_28 (dk_at dksX5_does_2 15 rfl rfl)
theorem dX5_does_100 : decode cX5_does 100 = .ok (.iload_n 3, 1) := dk_29 (dk_at dksX5_does_2 16 rfl rfl)
theorem dX5_does_101 : decode cX5_does 101 = .ok (.invokevirtual 112, 3) := dk_182 0 112 (dk_at dksX5_does_2 17 rfl rfl)
theorem dX5_does_104 : decode cX5_does 104 = .ok (.ireturn, 1) := dk_172 (dk_at dksX5_does_2 20 rfl rfl)
theorem dX5_does_105 : decode cX5_does 105 = .ok (.aload_n 0, 1) := dk_42 (dk_at dksX5_does_2 21 rfl rfl)
theorem dX5_does_106 : decode cX5_does 106 = .ok (.iload_n 2, 1) := dk_28 (dk_at dksX5_does_2 22 rfl rfl)
theorem dX5_does_107 : decode cX5_does 107 = .ok (.iload_n 3, 1) := dk_29 (dk_at dksX5_does_2 23 rfl rfl)
theorem dX5_does_108 : decode cX5_does 108 = .ok (.invokevirtual 115, 3) := dk_182 0 115 (dk_at dksX5_does_3 0 rfl rfl)
theorem dX5_does_111 : decode cX5_does 111 = .ok (.ireturn, 1) := dk_172 (dk_at dksX5_does_3 3 rfl rfl)
theorem dX5_does_112 : decode cX5_does 112 = .ok (.aload_n 0, 1) := dk_42 (dk_at dksX5_does_3 4 rfl rfl)
theorem dX5_does_113 : decode cX5_does 113 = .ok (.iload_n 2, 1) := dk_28 (dk_at dksX5_does_3 5 rfl rfl)
theorem dX5_does_114 : decode cX5_does 114 = .ok (.invokevirtual 149, 3) := dk_182 0 149 (dk_at dksX5_does_3 6 rfl rfl)
theorem dX5_does_117 : decode cX5_does 117 = .ok (.ireturn, 1) := dk_172 (dk_at dksX5_does_3 9 rfl rfl)
theorem dX5_does_118 : decode cX5_does 118 = .ok (.aload_n 0, 1) := dk_42 (dk_at dksX5_does_3 10 rfl rfl)
theorem dX5_does_119 : decode cX5_does 119 = .ok (.iload_n 2, 1) := dk_28 (dk_at dksX5_does_3 11 rfl rfl)
theorem dX5_does_120 : decode cX5_does 120 = .ok (.invokevirtual 158, 3) := dk_182 0 158 (dk_at dksX5_does_3 12 rfl rfl)
theorem dX5_does_123 : decode cX5_does 123 = .ok (.ireturn, 1) := dk_172 (dk_at dksX5_does_3 15 rfl rfl)
theorem dX5_does_124 : decode cX5_does 124 = .ok (.aload_n 0, 1) := dk_42 (dk_at dksX5_does_3 16 rfl rfl)
theorem dX5_does_125 : decode cX5_does 125 = .ok (.iload_n 2, 1) := dk_28 (dk_at dksX5_does_3 17 rfl rfl)
theorem dX5_does_126 : decode cX5_does 126 = .ok (.iload_n 3, 1) := dk_29 (dk_at dksX5_does_3 18 rfl rfl)
theorem dX5_does_127 : decode cX5_does 127 = .ok (.invokevirtual 161, 3) := dk_182 0 161 (dk_at dksX5_does_3 19 rfl rfl)
theorem dX5_does_130 : decode cX5_does 130 = .ok (.ireturn, 1) := dk_172 (dk_at dksX5_does_3 22 rfl rfl)
abbrev cX5_errorPosition : ByteArray := prog_12_method_91_code
def yX5_errorPosition : MethodName := ⟨RX5, "errorPosition", "()I"⟩
def dkwX5_errorPosition_0 : List UInt8 := [42, 42, 180, 0, 26, 182, 0, 81, 172]
abbrev dktX5_errorPosition_0 : List UInt8 := dkwX5_errorPosition_0 ++ []
theorem dksX5_errorPosition_0 : cX5_errorPosition.data.toList.drop 0 = dktX5_errorPosition_0 := by decide +kernel
theorem dX5_errorPosition_0 : decode cX5_errorPosition 0 = .ok (.aload_n 0, 1) := dk_42 (dk_at dksX5_errorPosition_0 0 rfl rfl)
theorem dX5_errorPosition_1 : decode cX5_errorPosition 1 = .ok (.aload_n 0, 1) := dk_42 (dk_at dksX5_errorPosition_0 1 rfl rfl)
theorem dX5_errorPosition_2 : decode cX5_errorPosition 2 = .ok (.getfield 26, 3) := dk_180 0 26 (dk_at dksX5_errorPosition_0 2 rfl rfl)
theorem dX5_errorPosition_5 : decode cX5_errorPosition 5 = .ok (.invokevirtual 81, 3) := dk_182 0 81 (dk_at dksX5_errorPosition_0 5 rfl rfl)
theorem dX5_errorPosition_8 : decode cX5_errorPosition 8 = .ok (.ireturn, 1) := dk_172 (dk_at dksX5_errorPosition_0 8 rfl rfl)
abbrev cX5_refusal : ByteArray := prog_12_method_92_code
def yX5_refusal : MethodName := ⟨RX5, "refusal", "(Z)I"⟩
def dkwX5_refusal_1 : List UInt8 := [167, 0, 7, 42, 180, 0, 53, 182, 0, 81, 172]
abbrev dktX5_refusal_1 : List UInt8 := dkwX5_refusal_1 ++ []
def dkwX5_refusal_0 : List UInt8 := [42, 180, 0, 53, 154, 0, 11, 42, 4, 182, 0, 77, 167, 0, 22, 42, 27, 153, 0, 10, 42, 180, 0, 56]
abbrev dktX5_refusal_0 : List UInt8 := dkwX5_refusal_0 ++ dktX5_refusal_1
theorem dksX5_refusal_0 : cX5_refusal.data.toList.drop 0 = dktX5_refusal_0 := by decide +kernel
theorem dksX5_refusal_1 : cX5_refusal.data.toList.drop 24 = dktX5_refusal_1 := dk_seg dksX5_refusal_0 24 rfl rfl
theorem dX5_refusal_0 : decode cX5_refusal 0 = .ok (.aload_n 0, 1) := dk_42 (dk_at dksX5_refusal_0 0 rfl rfl)
theorem dX5_refusal_1 : decode cX5_refusal 1 = .ok (.getfield 53, 3) := dk_180 0 53 (dk_at dksX5_refusal_0 1 rfl rfl)
theorem dX5_refusal_4 : decode cX5_refusal 4 = .ok (.ifCond .ne 11, 3) := dk_154 0 11 (dk_at dksX5_refusal_0 4 rfl rfl)
theorem dX5_refusal_7 : decode cX5_refusal 7 = .ok (.aload_n 0, 1) := dk_42 (dk_at dksX5_refusal_0 7 rfl rfl)
theorem dX5_refusal_8 : decode cX5_refusal 8 = .ok (.iconst 1, 1) := dk_4 (dk_at dksX5_refusal_0 8 rfl rfl)
theorem dX5_refusal_9 : decode cX5_refusal 9 = .ok (.invokevirtual 77, 3) := dk_182 0 77 (dk_at dksX5_refusal_0 9 rfl rfl)
theorem dX5_refusal_12 : decode cX5_refusal 12 = .ok (.goto 22, 3) := dk_167 0 22 (dk_at dksX5_refusal_0 12 rfl rfl)
theorem dX5_refusal_15 : decode cX5_refusal 15 = .ok (.aload_n 0, 1) := dk_42 (dk_at dksX5_refusal_0 15 rfl rfl)
theorem dX5_refusal_16 : decode cX5_refusal 16 = .ok (.iload_n 1, 1) := dk_27 (dk_at dksX5_refusal_0 16 rfl rfl)
theorem dX5_refusal_17 : decode cX5_refusal 17 = .ok (.ifCond .eq 10, 3) := dk_153 0 10 (dk_at dksX5_refusal_0 17 rfl rfl)
theorem dX5_refusal_20 : decode cX5_refusal 20 = .ok (.aload_n 0, 1) := dk_42 (dk_at dksX5_refusal_0 20 rfl rfl)
theorem dX5_refusal_21 : decode cX5_refusal 21 = .ok (.getfield 56, 3) := dk_180 0 56 (dk_at dksX5_refusal_0 21 rfl rfl)
theorem dX5_refusal_24 : decode cX5_refusal 24 = .ok (.goto 7, 3) := dk_167 0 7 (dk_at dksX5_refusal_1 0 rfl rfl)
theorem dX5_refusal_27 : decode cX5_refusal 27 = .ok (.aload_n 0, 1) := dk_42 (dk_at dksX5_refusal_1 3 rfl rfl)
theorem dX5_refusal_28 : decode cX5_refusal 28 = .ok (.getfield 53, 3) := dk_180 0 53 (dk_at dksX5_refusal_1 4 rfl rfl)
theorem dX5_refusal_31 : decode cX5_refusal 31 = .ok (.invokevirtual 81, 3) := dk_182 0 81 (dk_at dksX5_refusal_1 7 rfl rfl)
theorem dX5_refusal_34 : decode cX5_refusal 34 = .ok (.ireturn, 1) := dk_172 (dk_at dksX5_refusal_1 10 rfl rfl)
abbrev cX5_account : ByteArray := prog_12_method_93_code
def yX5_account : MethodName := ⟨RX5, "account", "(I)I"⟩
def dkwX5_account_4 : List UInt8 := [4, 182, 0, 77, 172]
abbrev dktX5_account_4 : List UInt8 := dkwX5_account_4 ++ []
def dkwX5_account_3 : List UInt8 := [46, 182, 0, 81, 172, 42, 42, 180, 0, 232, 182, 0, 81, 172, 42, 42, 180, 0, 63, 182, 0, 81, 172, 42]
abbrev dktX5_account_3 : List UInt8 := dkwX5_account_3 ++ dktX5_account_4
def dkwX5_account_2 : List UInt8 := [42, 42, 182, 0, 66, 182, 0, 81, 172, 42, 42, 182, 0, 193, 182, 0, 81, 172, 42, 42, 180, 0, 7, 27]
abbrev dktX5_account_2 : List UInt8 := dkwX5_account_2 ++ dktX5_account_3
def dkwX5_account_1 : List UInt8 := [170, 0, 0, 0, 0, 0, 102, 0, 0, 0, 0, 0, 0, 0, 9, 0, 0, 0, 55, 0, 0, 0, 64, 0, 0, 0, 73, 0, 0, 0, 73, 0, 0, 0, 73, 0, 0, 0, 73, 0, 0, 0, 73, 0, 0, 0, 73, 0, 0, 0, 84, 0, 0, 0, 93]
abbrev dktX5_account_1 : List UInt8 := dkwX5_account_1 ++ dktX5_account_2
def dkwX5_account_0 : List UInt8 := [27]
abbrev dktX5_account_0 : List UInt8 := dkwX5_account_0 ++ dktX5_account_1
theorem dksX5_account_0 : cX5_account.data.toList.drop 0 = dktX5_account_0 := by decide +kernel
theorem dksX5_account_1 : cX5_account.data.toList.drop 1 = dktX5_account_1 := dk_seg dksX5_account_0 1 rfl rfl
theorem dksX5_account_2 : cX5_account.data.toList.drop 56 = dktX5_account_2 := dk_seg dksX5_account_1 55 rfl rfl
theorem dksX5_account_3 : cX5_account.data.toList.drop 80 = dktX5_account_3 := dk_seg dksX5_account_2 24 rfl rfl
theorem dksX5_account_4 : cX5_account.data.toList.drop 104 = dktX5_account_4 := dk_seg dksX5_account_3 24 rfl rfl
theorem dX5_account_0 : decode cX5_account 0 = .ok (.iload_n 1, 1) := dk_27 (dk_at dksX5_account_0 0 rfl rfl)
theorem dX5_account_1 : decode cX5_account 1 = .ok (.tableswitch 102 0 9 #[55, 64, 73, 73, 73, 73, 73, 73, 84, 93], 55) := by decide +kernel
theorem dX5_account_56 : decode cX5_account 56 = .ok (.aload_n 0, 1) := dk_42 (dk_at dksX5_account_2 0 rfl rfl)
theorem dX5_account_57 : decode cX5_account 57 = .ok (.aload_n 0, 1) := dk_42 (dk_at dksX5_account_2 1 rfl rfl)
theorem dX5_account_58 : decode cX5_account 58 = .ok (.invokevirtual 66, 3) := dk_182 0 66 (dk_at dksX5_account_2 2 rfl rfl)
theorem dX5_account_61 : decode cX5_account 61 = .ok (.invokevirtual 81, 3) := dk_182 0 81 (dk_at dksX5_account_2 5 rfl rfl)
theorem dX5_account_64 : decode cX5_account 64 = .ok (.ireturn, 1) := dk_172 (dk_at dksX5_account_2 8 rfl rfl)
theorem dX5_account_65 : decode cX5_account 65 = .ok (.aload_n 0, 1) := dk_42 (dk_at dksX5_account_2 9 rfl rfl)
theorem dX5_account_66 : decode cX5_account 66 = .ok (.aload_n 0, 1) := dk_42 (dk_at dksX5_account_2 10 rfl rfl)
theorem dX5_account_67 : decode cX5_account 67 = .ok (.invokevirtual 193, 3) := dk_182 0 193 (dk_at dksX5_account_2 11 rfl rfl)
theorem dX5_account_70 : decode cX5_account 70 = .ok (.invokevirtual 81, 3) := dk_182 0 81 (dk_at dksX5_account_2 14 rfl rfl)
theorem dX5_account_73 : decode cX5_account 73 = .ok (.ireturn, 1) := dk_172 (dk_at dksX5_account_2 17 rfl rfl)
theorem dX5_account_74 : decode cX5_account 74 = .ok (.aload_n 0, 1) := dk_42 (dk_at dksX5_account_2 18 rfl rfl)
theorem dX5_account_75 : decode cX5_account 75 = .ok (.aload_n 0, 1) := dk_42 (dk_at dksX5_account_2 19 rfl rfl)
theorem dX5_account_76 : decode cX5_account 76 = .ok (.getfield 7, 3) := dk_180 0 7 (dk_at dksX5_account_2 20 rfl rfl)
theorem dX5_account_79 : decode cX5_account 79 = .ok (.iload_n 1, 1) := dk_27 (dk_at dksX5_account_2 23 rfl rfl)
theorem dX5_account_80 : decode cX5_account 80 = .ok (.iaload, 1) := dk_46 (dk_at dksX5_account_3 0 rfl rfl)
theorem dX5_account_81 : decode cX5_account 81 = .ok (.invokevirtual 81, 3) := dk_182 0 81 (dk_at dksX5_account_3 1 rfl rfl)
theorem dX5_account_84 : decode cX5_account 84 = .ok (.ireturn, 1) := dk_172 (dk_at dksX5_account_3 4 rfl rfl)
theorem dX5_account_85 : decode cX5_account 85 = .ok (.aload_n 0, 1) := dk_42 (dk_at dksX5_account_3 5 rfl rfl)
theorem dX5_account_86 : decode cX5_account 86 = .ok (.aload_n 0, 1) := dk_42 (dk_at dksX5_account_3 6 rfl rfl)
theorem dX5_account_87 : decode cX5_account 87 = .ok (.getfield 232, 3) := dk_180 0 232 (dk_at dksX5_account_3 7 rfl rfl)
theorem dX5_account_90 : decode cX5_account 90 = .ok (.invokevirtual 81, 3) := dk_182 0 81 (dk_at dksX5_account_3 10 rfl rfl)
theorem dX5_account_93 : decode cX5_account 93 = .ok (.ireturn, 1) := dk_172 (dk_at dksX5_account_3 13 rfl rfl)
theorem dX5_account_94 : decode cX5_account 94 = .ok (.aload_n 0, 1) := dk_42 (dk_at dksX5_account_3 14 rfl rfl)
theorem dX5_account_95 : decode cX5_account 95 = .ok (.aload_n 0, 1) := dk_42 (dk_at dksX5_account_3 15 rfl rfl)
theorem dX5_account_96 : decode cX5_account 96 = .ok (.getfield 63, 3) := dk_180 0 63 (dk_at dksX5_account_3 16 rfl rfl)
theorem dX5_account_99 : decode cX5_account 99 = .ok (.invokevirtual 81, 3) := dk_182 0 81 (dk_at dksX5_account_3 19 rfl rfl)
theorem dX5_account_102 : decode cX5_account 102 = .ok (.ireturn, 1) := dk_172 (dk_at dksX5_account_3 22 rfl rfl)
theorem dX5_account_103 : decode cX5_account 103 = .ok (.aload_n 0, 1) := dk_42 (dk_at dksX5_account_3 23 rfl rfl)
theorem dX5_account_104 : decode cX5_account 104 = .ok (.iconst 1, 1) := dk_4 (dk_at dksX5_account_4 0 rfl rfl)
theorem dX5_account_105 : decode cX5_account 105 = .ok (.invokevirtual 77, 3) := dk_182 0 77 (dk_at dksX5_account_4 1 rfl rfl)
theorem dX5_account_108 : decode cX5_account 108 = .ok (.ireturn, 1) := dk_172 (dk_at dksX5_account_4 4 rfl rfl)
abbrev cX5_isWell : ByteArray := prog_12_method_94_code
def yX5_isWell : MethodName := ⟨RX5, "isWell", "()Z"⟩
def dkwX5_isWell_0 : List UInt8 := [42, 3, 181, 0, 46, 4, 172]
abbrev dktX5_isWell_0 : List UInt8 := dkwX5_isWell_0 ++ []
theorem dksX5_isWell_0 : cX5_isWell.data.toList.drop 0 = dktX5_isWell_0 := by decide +kernel
theorem dX5_isWell_0 : decode cX5_isWell 0 = .ok (.aload_n 0, 1) := dk_42 (dk_at dksX5_isWell_0 0 rfl rfl)
theorem dX5_isWell_1 : decode cX5_isWell 1 = .ok (.iconst 0, 1) := dk_3 (dk_at dksX5_isWell_0 1 rfl rfl)
theorem dX5_isWell_2 : decode cX5_isWell 2 = .ok (.putfield 46, 3) := dk_181 0 46 (dk_at dksX5_isWell_0 2 rfl rfl)
theorem dX5_isWell_5 : decode cX5_isWell 5 = .ok (.iconst 1, 1) := dk_4 (dk_at dksX5_isWell_0 5 rfl rfl)
theorem dX5_isWell_6 : decode cX5_isWell 6 = .ok (.ireturn, 1) := dk_172 (dk_at dksX5_isWell_0 6 rfl rfl)
abbrev cX5_meanFar : ByteArray := prog_12_method_96_code
def yX5_meanFar : MethodName := ⟨RX5, "meanFar", "()D"⟩
def dkwX5_meanFar_3 : List UInt8 := [180, 0, 46, 154, 0, 11, 28, 135, 27, 135, 111, 167, 0, 4, 14, 175]
abbrev dktX5_meanFar_3 : List UInt8 := dkwX5_meanFar_3 ++ []
def dkwX5_meanFar_2 : List UInt8 := [96, 61, 132, 3, 1, 167, 255, 209, 42, 27, 154, 0, 7, 4, 167, 0, 4, 3, 181, 0, 46, 42]
abbrev dktX5_meanFar_2 : List UInt8 := dkwX5_meanFar_2 ++ dktX5_meanFar_3
def dkwX5_meanFar_1 : List UInt8 := [2, 160, 0, 7, 3, 167, 0, 4, 4, 96, 60, 28, 21, 4, 2, 160, 0, 7, 3, 167, 0, 5, 21, 4]
abbrev dktX5_meanFar_1 : List UInt8 := dkwX5_meanFar_1 ++ dktX5_meanFar_2
def dkwX5_meanFar_0 : List UInt8 := [3, 60, 3, 61, 3, 62, 29, 42, 182, 0, 66, 162, 0, 45, 42, 29, 182, 1, 4, 54, 4, 27, 21, 4]
abbrev dktX5_meanFar_0 : List UInt8 := dkwX5_meanFar_0 ++ dktX5_meanFar_1
theorem dksX5_meanFar_0 : cX5_meanFar.data.toList.drop 0 = dktX5_meanFar_0 := by decide +kernel
theorem dksX5_meanFar_1 : cX5_meanFar.data.toList.drop 24 = dktX5_meanFar_1 := dk_seg dksX5_meanFar_0 24 rfl rfl
theorem dksX5_meanFar_2 : cX5_meanFar.data.toList.drop 48 = dktX5_meanFar_2 := dk_seg dksX5_meanFar_1 24 rfl rfl
theorem dksX5_meanFar_3 : cX5_meanFar.data.toList.drop 70 = dktX5_meanFar_3 := dk_seg dksX5_meanFar_2 22 rfl rfl
theorem dX5_meanFar_0 : decode cX5_meanFar 0 = .ok (.iconst 0, 1) := dk_3 (dk_at dksX5_meanFar_0 0 rfl rfl)
theorem dX5_meanFar_1 : decode cX5_meanFar 1 = .ok (.istore_n 1, 1) := dk_60 (dk_at dksX5_meanFar_0 1 rfl rfl)
theorem dX5_meanFar_2 : decode cX5_meanFar 2 = .ok (.iconst 0, 1) := dk_3 (dk_at dksX5_meanFar_0 2 rfl rfl)
theorem dX5_meanFar_3 : decode cX5_meanFar 3 = .ok (.istore_n 2, 1) := dk_61 (dk_at dksX5_meanFar_0 3 rfl rfl)
theorem dX5_meanFar_4 : decode cX5_meanFar 4 = .ok (.iconst 0, 1) := dk_3 (dk_at dksX5_meanFar_0 4 rfl rfl)
theorem dX5_meanFar_5 : decode cX5_meanFar 5 = .ok (.istore_n 3, 1) := dk_62 (dk_at dksX5_meanFar_0 5 rfl rfl)
theorem dX5_meanFar_6 : decode cX5_meanFar 6 = .ok (.iload_n 3, 1) := dk_29 (dk_at dksX5_meanFar_0 6 rfl rfl)
theorem dX5_meanFar_7 : decode cX5_meanFar 7 = .ok (.aload_n 0, 1) := dk_42 (dk_at dksX5_meanFar_0 7 rfl rfl)
theorem dX5_meanFar_8 : decode cX5_meanFar 8 = .ok (.invokevirtual 66, 3) := dk_182 0 66 (dk_at dksX5_meanFar_0 8 rfl rfl)
theorem dX5_meanFar_11 : decode cX5_meanFar 11 = .ok (.if_icmp .ge 45, 3) := dk_162 0 45 (dk_at dksX5_meanFar_0 11 rfl rfl)
theorem dX5_meanFar_14 : decode cX5_meanFar 14 = .ok (.aload_n 0, 1) := dk_42 (dk_at dksX5_meanFar_0 14 rfl rfl)
theorem dX5_meanFar_15 : decode cX5_meanFar 15 = .ok (.iload_n 3, 1) := dk_29 (dk_at dksX5_meanFar_0 15 rfl rfl)
theorem dX5_meanFar_16 : decode cX5_meanFar 16 = .ok (.invokevirtual 260, 3) := dk_182 1 4 (dk_at dksX5_meanFar_0 16 rfl rfl)
theorem dX5_meanFar_19 : decode cX5_meanFar 19 = .ok (.istore 4, 2) := dk_54 4 (dk_at dksX5_meanFar_0 19 rfl rfl)
theorem dX5_meanFar_21 : decode cX5_meanFar 21 = .ok (.iload_n 1, 1) := dk_27 (dk_at dksX5_meanFar_0 21 rfl rfl)
theorem dX5_meanFar_22 : decode cX5_meanFar 22 = .ok (.iload 4, 2) := dk_21 4 (dk_at dksX5_meanFar_0 22 rfl rfl)
theorem dX5_meanFar_24 : decode cX5_meanFar 24 = .ok (.iconst (-1), 1) := dk_2 (dk_at dksX5_meanFar_1 0 rfl rfl)
theorem dX5_meanFar_25 : decode cX5_meanFar 25 = .ok (.if_icmp .ne 7, 3) := dk_160 0 7 (dk_at dksX5_meanFar_1 1 rfl rfl)
theorem dX5_meanFar_28 : decode cX5_meanFar 28 = .ok (.iconst 0, 1) := dk_3 (dk_at dksX5_meanFar_1 4 rfl rfl)
theorem dX5_meanFar_29 : decode cX5_meanFar 29 = .ok (.goto 4, 3) := dk_167 0 4 (dk_at dksX5_meanFar_1 5 rfl rfl)
theorem dX5_meanFar_32 : decode cX5_meanFar 32 = .ok (.iconst 1, 1) := dk_4 (dk_at dksX5_meanFar_1 8 rfl rfl)
theorem dX5_meanFar_33 : decode cX5_meanFar 33 = .ok (.iadd, 1) := dk_96 (dk_at dksX5_meanFar_1 9 rfl rfl)
theorem dX5_meanFar_34 : decode cX5_meanFar 34 = .ok (.istore_n 1, 1) := dk_60 (dk_at dksX5_meanFar_1 10 rfl rfl)
theorem dX5_meanFar_35 : decode cX5_meanFar 35 = .ok (.iload_n 2, 1) := dk_28 (dk_at dksX5_meanFar_1 11 rfl rfl)
theorem dX5_meanFar_36 : decode cX5_meanFar 36 = .ok (.iload 4, 2) := dk_21 4 (dk_at dksX5_meanFar_1 12 rfl rfl)
theorem dX5_meanFar_38 : decode cX5_meanFar 38 = .ok (.iconst (-1), 1) := dk_2 (dk_at dksX5_meanFar_1 14 rfl rfl)
theorem dX5_meanFar_39 : decode cX5_meanFar 39 = .ok (.if_icmp .ne 7, 3) := dk_160 0 7 (dk_at dksX5_meanFar_1 15 rfl rfl)
theorem dX5_meanFar_42 : decode cX5_meanFar 42 = .ok (.iconst 0, 1) := dk_3 (dk_at dksX5_meanFar_1 18 rfl rfl)
theorem dX5_meanFar_43 : decode cX5_meanFar 43 = .ok (.goto 5, 3) := dk_167 0 5 (dk_at dksX5_meanFar_1 19 rfl rfl)
theorem dX5_meanFar_46 : decode cX5_meanFar 46 = .ok (.iload 4, 2) := dk_21 4 (dk_at dksX5_meanFar_1 22 rfl rfl)
theorem dX5_meanFar_48 : decode cX5_meanFar 48 = .ok (.iadd, 1) := dk_96 (dk_at dksX5_meanFar_2 0 rfl rfl)
theorem dX5_meanFar_49 : decode cX5_meanFar 49 = .ok (.istore_n 2, 1) := dk_61 (dk_at dksX5_meanFar_2 1 rfl rfl)
theorem dX5_meanFar_50 : decode cX5_meanFar 50 = .ok (.iinc 3 1, 3) := dk_132 3 1 (dk_at dksX5_meanFar_2 2 rfl rfl)
theorem dX5_meanFar_53 : decode cX5_meanFar 53 = .ok (.goto (-47), 3) := dk_167 255 209 (dk_at dksX5_meanFar_2 5 rfl rfl)
theorem dX5_meanFar_56 : decode cX5_meanFar 56 = .ok (.aload_n 0, 1) := dk_42 (dk_at dksX5_meanFar_2 8 rfl rfl)
theorem dX5_meanFar_57 : decode cX5_meanFar 57 = .ok (.iload_n 1, 1) := dk_27 (dk_at dksX5_meanFar_2 9 rfl rfl)
theorem dX5_meanFar_58 : decode cX5_meanFar 58 = .ok (.ifCond .ne 7, 3) := dk_154 0 7 (dk_at dksX5_meanFar_2 10 rfl rfl)
theorem dX5_meanFar_61 : decode cX5_meanFar 61 = .ok (.iconst 1, 1) := dk_4 (dk_at dksX5_meanFar_2 13 rfl rfl)
theorem dX5_meanFar_62 : decode cX5_meanFar 62 = .ok (.goto 4, 3) := dk_167 0 4 (dk_at dksX5_meanFar_2 14 rfl rfl)
theorem dX5_meanFar_65 : decode cX5_meanFar 65 = .ok (.iconst 0, 1) := dk_3 (dk_at dksX5_meanFar_2 17 rfl rfl)
theorem dX5_meanFar_66 : decode cX5_meanFar 66 = .ok (.putfield 46, 3) := dk_181 0 46 (dk_at dksX5_meanFar_2 18 rfl rfl)
theorem dX5_meanFar_69 : decode cX5_meanFar 69 = .ok (.aload_n 0, 1) := dk_42 (dk_at dksX5_meanFar_2 21 rfl rfl)
theorem dX5_meanFar_70 : decode cX5_meanFar 70 = .ok (.getfield 46, 3) := dk_180 0 46 (dk_at dksX5_meanFar_3 0 rfl rfl)
theorem dX5_meanFar_73 : decode cX5_meanFar 73 = .ok (.ifCond .ne 11, 3) := dk_154 0 11 (dk_at dksX5_meanFar_3 3 rfl rfl)
theorem dX5_meanFar_76 : decode cX5_meanFar 76 = .ok (.iload_n 2, 1) := dk_28 (dk_at dksX5_meanFar_3 6 rfl rfl)
theorem dX5_meanFar_77 : decode cX5_meanFar 77 = .ok (.i2d, 1) := dk_135 (dk_at dksX5_meanFar_3 7 rfl rfl)
theorem dX5_meanFar_78 : decode cX5_meanFar 78 = .ok (.iload_n 1, 1) := dk_27 (dk_at dksX5_meanFar_3 8 rfl rfl)
theorem dX5_meanFar_79 : decode cX5_meanFar 79 = .ok (.i2d, 1) := dk_135 (dk_at dksX5_meanFar_3 9 rfl rfl)
theorem dX5_meanFar_80 : decode cX5_meanFar 80 = .ok (.ddiv, 1) := dk_111 (dk_at dksX5_meanFar_3 10 rfl rfl)
theorem dX5_meanFar_81 : decode cX5_meanFar 81 = .ok (.goto 4, 3) := dk_167 0 4 (dk_at dksX5_meanFar_3 11 rfl rfl)
theorem dX5_meanFar_84 : decode cX5_meanFar 84 = .ok (.dconst 0, 1) := dk_14 (dk_at dksX5_meanFar_3 14 rfl rfl)
theorem dX5_meanFar_85 : decode cX5_meanFar 85 = .ok (.dreturn, 1) := dk_175 (dk_at dksX5_meanFar_3 15 rfl rfl)
abbrev cX5_farFromHome : ByteArray := prog_12_method_95_code
def yX5_farFromHome : MethodName := ⟨RX5, "farFromHome", "(I)I"⟩
def dkwX5_farFromHome_3 : List UInt8 := [42, 16, 14, 28, 182, 0, 174, 4, 160, 0, 7, 29, 167, 0, 4, 2, 172]
abbrev dktX5_farFromHome_3 : List UInt8 := dkwX5_farFromHome_3 ++ []
def dkwX5_farFromHome_2 : List UInt8 := [180, 0, 7, 4, 46, 182, 0, 202, 167, 0, 4, 29, 62, 132, 4, 1, 167, 255, 207, 28, 2, 159, 0, 18]
abbrev dktX5_farFromHome_2 : List UInt8 := dkwX5_farFromHome_2 ++ dktX5_farFromHome_3
def dkwX5_farFromHome_1 : List UInt8 := [28, 2, 159, 0, 33, 42, 180, 0, 7, 16, 14, 21, 4, 96, 46, 28, 160, 0, 19, 42, 21, 4, 27, 42]
abbrev dktX5_farFromHome_1 : List UInt8 := dkwX5_farFromHome_1 ++ dktX5_farFromHome_2
def dkwX5_farFromHome_0 : List UInt8 := [42, 180, 0, 7, 16, 23, 27, 96, 46, 61, 2, 62, 3, 54, 4, 21, 4, 42, 182, 0, 66, 162, 0, 46]
abbrev dktX5_farFromHome_0 : List UInt8 := dkwX5_farFromHome_0 ++ dktX5_farFromHome_1
theorem dksX5_farFromHome_0 : cX5_farFromHome.data.toList.drop 0 = dktX5_farFromHome_0 := by decide +kernel
theorem dksX5_farFromHome_1 : cX5_farFromHome.data.toList.drop 24 = dktX5_farFromHome_1 := dk_seg dksX5_farFromHome_0 24 rfl rfl
theorem dksX5_farFromHome_2 : cX5_farFromHome.data.toList.drop 48 = dktX5_farFromHome_2 := dk_seg dksX5_farFromHome_1 24 rfl rfl
theorem dksX5_farFromHome_3 : cX5_farFromHome.data.toList.drop 72 = dktX5_farFromHome_3 := dk_seg dksX5_farFromHome_2 24 rfl rfl
theorem dX5_farFromHome_0 : decode cX5_farFromHome 0 = .ok (.aload_n 0, 1) := dk_42 (dk_at dksX5_farFromHome_0 0 rfl rfl)
theorem dX5_farFromHome_1 : decode cX5_farFromHome 1 = .ok (.getfield 7, 3) := dk_180 0 7 (dk_at dksX5_farFromHome_0 1 rfl rfl)
theorem dX5_farFromHome_4 : decode cX5_farFromHome 4 = .ok (.bipush 23, 2) := dk_16 23 (dk_at dksX5_farFromHome_0 4 rfl rfl)
theorem dX5_farFromHome_6 : decode cX5_farFromHome 6 = .ok (.iload_n 1, 1) := dk_27 (dk_at dksX5_farFromHome_0 6 rfl rfl)
theorem dX5_farFromHome_7 : decode cX5_farFromHome 7 = .ok (.iadd, 1) := dk_96 (dk_at dksX5_farFromHome_0 7 rfl rfl)
theorem dX5_farFromHome_8 : decode cX5_farFromHome 8 = .ok (.iaload, 1) := dk_46 (dk_at dksX5_farFromHome_0 8 rfl rfl)
theorem dX5_farFromHome_9 : decode cX5_farFromHome 9 = .ok (.istore_n 2, 1) := dk_61 (dk_at dksX5_farFromHome_0 9 rfl rfl)
theorem dX5_farFromHome_10 : decode cX5_farFromHome 10 = .ok (.iconst (-1), 1) := dk_2 (dk_at dksX5_farFromHome_0 10 rfl rfl)
theorem dX5_farFromHome_11 : decode cX5_farFromHome 11 = .ok (.istore_n 3, 1) := dk_62 (dk_at dksX5_farFromHome_0 11 rfl rfl)
theorem dX5_farFromHome_12 : decode cX5_farFromHome 12 = .ok (.iconst 0, 1) := dk_3 (dk_at dksX5_farFromHome_0 12 rfl rfl)
theorem dX5_farFromHome_13 : decode cX5_farFromHome 13 = .ok (.istore 4, 2) := dk_54 4 (dk_at dksX5_farFromHome_0 13 rfl rfl)
theorem dX5_farFromHome_15 : decode cX5_farFromHome 15 = .ok (.iload 4, 2) := dk_21 4 (dk_at dksX5_farFromHome_0 15 rfl rfl)
theorem dX5_farFromHome_17 : decode cX5_farFromHome 17 = .ok (.aload_n 0, 1) := dk_42 (dk_at dksX5_farFromHome_0 17 rfl rfl)
theorem dX5_farFromHome_18 : decode cX5_farFromHome 18 = .ok (.invokevirtual 66, 3) := dk_182 0 66 (dk_at dksX5_farFromHome_0 18 rfl rfl)
theorem dX5_farFromHome_21 : decode cX5_farFromHome 21 = .ok (.if_icmp .ge 46, 3) := dk_162 0 46 (dk_at dksX5_farFromHome_0 21 rfl rfl)
theorem dX5_farFromHome_24 : decode cX5_farFromHome 24 = .ok (.iload_n 2, 1) := dk_28 (dk_at dksX5_farFromHome_1 0 rfl rfl)
theorem dX5_farFromHome_25 : decode cX5_farFromHome 25 = .ok (.iconst (-1), 1) := dk_2 (dk_at dksX5_farFromHome_1 1 rfl rfl)
theorem dX5_farFromHome_26 : decode cX5_farFromHome 26 = .ok (.if_icmp .eq 33, 3) := dk_159 0 33 (dk_at dksX5_farFromHome_1 2 rfl rfl)
theorem dX5_farFromHome_29 : decode cX5_farFromHome 29 = .ok (.aload_n 0, 1) := dk_42 (dk_at dksX5_farFromHome_1 5 rfl rfl)
theorem dX5_farFromHome_30 : decode cX5_farFromHome 30 = .ok (.getfield 7, 3) := dk_180 0 7 (dk_at dksX5_farFromHome_1 6 rfl rfl)
theorem dX5_farFromHome_33 : decode cX5_farFromHome 33 = .ok (.bipush 14, 2) := dk_16 14 (dk_at dksX5_farFromHome_1 9 rfl rfl)
theorem dX5_farFromHome_35 : decode cX5_farFromHome 35 = .ok (.iload 4, 2) := dk_21 4 (dk_at dksX5_farFromHome_1 11 rfl rfl)
theorem dX5_farFromHome_37 : decode cX5_farFromHome 37 = .ok (.iadd, 1) := dk_96 (dk_at dksX5_farFromHome_1 13 rfl rfl)
theorem dX5_farFromHome_38 : decode cX5_farFromHome 38 = .ok (.iaload, 1) := dk_46 (dk_at dksX5_farFromHome_1 14 rfl rfl)
theorem dX5_farFromHome_39 : decode cX5_farFromHome 39 = .ok (.iload_n 2, 1) := dk_28 (dk_at dksX5_farFromHome_1 15 rfl rfl)
theorem dX5_farFromHome_40 : decode cX5_farFromHome 40 = .ok (.if_icmp .ne 19, 3) := dk_160 0 19 (dk_at dksX5_farFromHome_1 16 rfl rfl)
theorem dX5_farFromHome_43 : decode cX5_farFromHome 43 = .ok (.aload_n 0, 1) := dk_42 (dk_at dksX5_farFromHome_1 19 rfl rfl)
theorem dX5_farFromHome_44 : decode cX5_farFromHome 44 = .ok (.iload 4, 2) := dk_21 4 (dk_at dksX5_farFromHome_1 20 rfl rfl)
theorem dX5_farFromHome_46 : decode cX5_farFromHome 46 = .ok (.iload_n 1, 1) := dk_27 (dk_at dksX5_farFromHome_1 22 rfl rfl)
theorem dX5_farFromHome_47 : decode cX5_farFromHome 47 = .ok (.aload_n 0, 1) := dk_42 (dk_at dksX5_farFromHome_1 23 rfl rfl)
theorem dX5_farFromHome_48 : decode cX5_farFromHome 48 = .ok (.getfield 7, 3) := dk_180 0 7 (dk_at dksX5_farFromHome_2 0 rfl rfl)
theorem dX5_farFromHome_51 : decode cX5_farFromHome 51 = .ok (.iconst 1, 1) := dk_4 (dk_at dksX5_farFromHome_2 3 rfl rfl)
theorem dX5_farFromHome_52 : decode cX5_farFromHome 52 = .ok (.iaload, 1) := dk_46 (dk_at dksX5_farFromHome_2 4 rfl rfl)
theorem dX5_farFromHome_53 : decode cX5_farFromHome 53 = .ok (.invokevirtual 202, 3) := dk_182 0 202 (dk_at dksX5_farFromHome_2 5 rfl rfl)
theorem dX5_farFromHome_56 : decode cX5_farFromHome 56 = .ok (.goto 4, 3) := dk_167 0 4 (dk_at dksX5_farFromHome_2 8 rfl rfl)
theorem dX5_farFromHome_59 : decode cX5_farFromHome 59 = .ok (.iload_n 3, 1) := dk_29 (dk_at dksX5_farFromHome_2 11 rfl rfl)
theorem dX5_farFromHome_60 : decode cX5_farFromHome 60 = .ok (.istore_n 3, 1) := dk_62 (dk_at dksX5_farFromHome_2 12 rfl rfl)
theorem dX5_farFromHome_61 : decode cX5_farFromHome 61 = .ok (.iinc 4 1, 3) := dk_132 4 1 (dk_at dksX5_farFromHome_2 13 rfl rfl)
theorem dX5_farFromHome_64 : decode cX5_farFromHome 64 = .ok (.goto (-49), 3) := dk_167 255 207 (dk_at dksX5_farFromHome_2 16 rfl rfl)
theorem dX5_farFromHome_67 : decode cX5_farFromHome 67 = .ok (.iload_n 2, 1) := dk_28 (dk_at dksX5_farFromHome_2 19 rfl rfl)
theorem dX5_farFromHome_68 : decode cX5_farFromHome 68 = .ok (.iconst (-1), 1) := dk_2 (dk_at dksX5_farFromHome_2 20 rfl rfl)
theorem dX5_farFromHome_69 : decode cX5_farFromHome 69 = .ok (.if_icmp .eq 18, 3) := dk_159 0 18 (dk_at dksX5_farFromHome_2 21 rfl rfl)
theorem dX5_farFromHome_72 : decode cX5_farFromHome 72 = .ok (.aload_n 0, 1) := dk_42 (dk_at dksX5_farFromHome_3 0 rfl rfl)
theorem dX5_farFromHome_73 : decode cX5_farFromHome 73 = .ok (.bipush 14, 2) := dk_16 14 (dk_at dksX5_farFromHome_3 1 rfl rfl)
theorem dX5_farFromHome_75 : decode cX5_farFromHome 75 = .ok (.iload_n 2, 1) := dk_28 (dk_at dksX5_farFromHome_3 3 rfl rfl)
theorem dX5_farFromHome_76 : decode cX5_farFromHome 76 = .ok (.invokevirtual 174, 3) := dk_182 0 174 (dk_at dksX5_farFromHome_3 4 rfl rfl)
theorem dX5_farFromHome_79 : decode cX5_farFromHome 79 = .ok (.iconst 1, 1) := dk_4 (dk_at dksX5_farFromHome_3 7 rfl rfl)
theorem dX5_farFromHome_80 : decode cX5_farFromHome 80 = .ok (.if_icmp .ne 7, 3) := dk_160 0 7 (dk_at dksX5_farFromHome_3 8 rfl rfl)
theorem dX5_farFromHome_83 : decode cX5_farFromHome 83 = .ok (.iload_n 3, 1) := dk_29 (dk_at dksX5_farFromHome_3 11 rfl rfl)
theorem dX5_farFromHome_84 : decode cX5_farFromHome 84 = .ok (.goto 4, 3) := dk_167 0 4 (dk_at dksX5_farFromHome_3 12 rfl rfl)
theorem dX5_farFromHome_87 : decode cX5_farFromHome 87 = .ok (.iconst (-1), 1) := dk_2 (dk_at dksX5_farFromHome_3 15 rfl rfl)
theorem dX5_farFromHome_88 : decode cX5_farFromHome 88 = .ok (.ireturn, 1) := dk_172 (dk_at dksX5_farFromHome_3 16 rfl rfl)
abbrev cX5_homeShare : ByteArray := prog_12_method_97_code
def yX5_homeShare : MethodName := ⟨RX5, "homeShare", "()F"⟩
def dkwX5_homeShare_0 : List UInt8 := [42, 3, 181, 0, 46, 42, 182, 0, 134, 134, 42, 182, 0, 66, 134, 110, 174]
abbrev dktX5_homeShare_0 : List UInt8 := dkwX5_homeShare_0 ++ []
theorem dksX5_homeShare_0 : cX5_homeShare.data.toList.drop 0 = dktX5_homeShare_0 := by decide +kernel
theorem dX5_homeShare_0 : decode cX5_homeShare 0 = .ok (.aload_n 0, 1) := dk_42 (dk_at dksX5_homeShare_0 0 rfl rfl)
theorem dX5_homeShare_1 : decode cX5_homeShare 1 = .ok (.iconst 0, 1) := dk_3 (dk_at dksX5_homeShare_0 1 rfl rfl)
theorem dX5_homeShare_2 : decode cX5_homeShare 2 = .ok (.putfield 46, 3) := dk_181 0 46 (dk_at dksX5_homeShare_0 2 rfl rfl)
theorem dX5_homeShare_5 : decode cX5_homeShare 5 = .ok (.aload_n 0, 1) := dk_42 (dk_at dksX5_homeShare_0 5 rfl rfl)
theorem dX5_homeShare_6 : decode cX5_homeShare 6 = .ok (.invokevirtual 134, 3) := dk_182 0 134 (dk_at dksX5_homeShare_0 6 rfl rfl)
theorem dX5_homeShare_9 : decode cX5_homeShare 9 = .ok (.i2f, 1) := dk_134 (dk_at dksX5_homeShare_0 9 rfl rfl)
theorem dX5_homeShare_10 : decode cX5_homeShare 10 = .ok (.aload_n 0, 1) := dk_42 (dk_at dksX5_homeShare_0 10 rfl rfl)
theorem dX5_homeShare_11 : decode cX5_homeShare 11 = .ok (.invokevirtual 66, 3) := dk_182 0 66 (dk_at dksX5_homeShare_0 11 rfl rfl)
theorem dX5_homeShare_14 : decode cX5_homeShare 14 = .ok (.i2f, 1) := dk_134 (dk_at dksX5_homeShare_0 14 rfl rfl)
theorem dX5_homeShare_15 : decode cX5_homeShare 15 = .ok (.fdiv, 1) := dk_110 (dk_at dksX5_homeShare_0 15 rfl rfl)
theorem dX5_homeShare_16 : decode cX5_homeShare 16 = .ok (.freturn, 1) := dk_174 (dk_at dksX5_homeShare_0 16 rfl rfl)
abbrev cX5_undo : ByteArray := prog_12_method_98_code
def yX5_undo : MethodName := ⟨RX5, "undo", "()I"⟩
def dkwX5_undo_2 : List UInt8 := [182, 0, 81, 172]
abbrev dktX5_undo_2 : List UInt8 := dkwX5_undo_2 ++ []
def dkwX5_undo_1 : List UInt8 := [180, 0, 16, 42, 180, 0, 63, 16, 32, 104, 42, 180, 0, 7, 3, 184, 0, 59, 42, 42, 180, 0, 63]
abbrev dktX5_undo_1 : List UInt8 := dkwX5_undo_1 ++ dktX5_undo_2
def dkwX5_undo_0 : List UInt8 := [42, 180, 0, 63, 154, 0, 9, 42, 4, 182, 0, 77, 172, 42, 89, 180, 0, 63, 4, 100, 181, 0, 63, 42]
abbrev dktX5_undo_0 : List UInt8 := dkwX5_undo_0 ++ dktX5_undo_1
theorem dksX5_undo_0 : cX5_undo.data.toList.drop 0 = dktX5_undo_0 := by decide +kernel
theorem dksX5_undo_1 : cX5_undo.data.toList.drop 24 = dktX5_undo_1 := dk_seg dksX5_undo_0 24 rfl rfl
theorem dksX5_undo_2 : cX5_undo.data.toList.drop 47 = dktX5_undo_2 := dk_seg dksX5_undo_1 23 rfl rfl
theorem dX5_undo_0 : decode cX5_undo 0 = .ok (.aload_n 0, 1) := dk_42 (dk_at dksX5_undo_0 0 rfl rfl)
theorem dX5_undo_1 : decode cX5_undo 1 = .ok (.getfield 63, 3) := dk_180 0 63 (dk_at dksX5_undo_0 1 rfl rfl)
theorem dX5_undo_4 : decode cX5_undo 4 = .ok (.ifCond .ne 9, 3) := dk_154 0 9 (dk_at dksX5_undo_0 4 rfl rfl)
theorem dX5_undo_7 : decode cX5_undo 7 = .ok (.aload_n 0, 1) := dk_42 (dk_at dksX5_undo_0 7 rfl rfl)
theorem dX5_undo_8 : decode cX5_undo 8 = .ok (.iconst 1, 1) := dk_4 (dk_at dksX5_undo_0 8 rfl rfl)
theorem dX5_undo_9 : decode cX5_undo 9 = .ok (.invokevirtual 77, 3) := dk_182 0 77 (dk_at dksX5_undo_0 9 rfl rfl)
theorem dX5_undo_12 : decode cX5_undo 12 = .ok (.ireturn, 1) := dk_172 (dk_at dksX5_undo_0 12 rfl rfl)
theorem dX5_undo_13 : decode cX5_undo 13 = .ok (.aload_n 0, 1) := dk_42 (dk_at dksX5_undo_0 13 rfl rfl)
theorem dX5_undo_14 : decode cX5_undo 14 = .ok (.dup, 1) := dk_89 (dk_at dksX5_undo_0 14 rfl rfl)
theorem dX5_undo_15 : decode cX5_undo 15 = .ok (.getfield 63, 3) := dk_180 0 63 (dk_at dksX5_undo_0 15 rfl rfl)
theorem dX5_undo_18 : decode cX5_undo 18 = .ok (.iconst 1, 1) := dk_4 (dk_at dksX5_undo_0 18 rfl rfl)
theorem dX5_undo_19 : decode cX5_undo 19 = .ok (.isub, 1) := dk_100 (dk_at dksX5_undo_0 19 rfl rfl)
theorem dX5_undo_20 : decode cX5_undo 20 = .ok (.putfield 63, 3) := dk_181 0 63 (dk_at dksX5_undo_0 20 rfl rfl)
theorem dX5_undo_23 : decode cX5_undo 23 = .ok (.aload_n 0, 1) := dk_42 (dk_at dksX5_undo_0 23 rfl rfl)
theorem dX5_undo_24 : decode cX5_undo 24 = .ok (.getfield 16, 3) := dk_180 0 16 (dk_at dksX5_undo_1 0 rfl rfl)
theorem dX5_undo_27 : decode cX5_undo 27 = .ok (.aload_n 0, 1) := dk_42 (dk_at dksX5_undo_1 3 rfl rfl)
theorem dX5_undo_28 : decode cX5_undo 28 = .ok (.getfield 63, 3) := dk_180 0 63 (dk_at dksX5_undo_1 4 rfl rfl)
theorem dX5_undo_31 : decode cX5_undo 31 = .ok (.bipush 32, 2) := dk_16 32 (dk_at dksX5_undo_1 7 rfl rfl)
theorem dX5_undo_33 : decode cX5_undo 33 = .ok (.imul, 1) := dk_104 (dk_at dksX5_undo_1 9 rfl rfl)
theorem dX5_undo_34 : decode cX5_undo 34 = .ok (.aload_n 0, 1) := dk_42 (dk_at dksX5_undo_1 10 rfl rfl)
theorem dX5_undo_35 : decode cX5_undo 35 = .ok (.getfield 7, 3) := dk_180 0 7 (dk_at dksX5_undo_1 11 rfl rfl)
theorem dX5_undo_38 : decode cX5_undo 38 = .ok (.iconst 0, 1) := dk_3 (dk_at dksX5_undo_1 14 rfl rfl)
theorem dX5_undo_39 : decode cX5_undo 39 = .ok (.invokestatic 59, 3) := dk_184 0 59 (dk_at dksX5_undo_1 15 rfl rfl)
theorem dX5_undo_42 : decode cX5_undo 42 = .ok (.aload_n 0, 1) := dk_42 (dk_at dksX5_undo_1 18 rfl rfl)
theorem dX5_undo_43 : decode cX5_undo 43 = .ok (.aload_n 0, 1) := dk_42 (dk_at dksX5_undo_1 19 rfl rfl)
theorem dX5_undo_44 : decode cX5_undo 44 = .ok (.getfield 63, 3) := dk_180 0 63 (dk_at dksX5_undo_1 20 rfl rfl)
theorem dX5_undo_47 : decode cX5_undo 47 = .ok (.invokevirtual 81, 3) := dk_182 0 81 (dk_at dksX5_undo_2 0 rfl rfl)
theorem dX5_undo_50 : decode cX5_undo 50 = .ok (.ireturn, 1) := dk_172 (dk_at dksX5_undo_2 3 rfl rfl)
abbrev cX5_save : ByteArray := prog_12_method_99_code
def yX5_save : MethodName := ⟨RX5, "save", "()I"⟩
def dkwX5_save_1 : List UInt8 := [182, 0, 81, 172]
abbrev dktX5_save_1 : List UInt8 := dkwX5_save_1 ++ []
def dkwX5_save_0 : List UInt8 := [42, 180, 0, 7, 3, 42, 180, 0, 19, 3, 184, 0, 59, 42, 4, 181, 1, 7, 42, 42, 182, 0, 134]
abbrev dktX5_save_0 : List UInt8 := dkwX5_save_0 ++ dktX5_save_1
theorem dksX5_save_0 : cX5_save.data.toList.drop 0 = dktX5_save_0 := by decide +kernel
theorem dksX5_save_1 : cX5_save.data.toList.drop 23 = dktX5_save_1 := dk_seg dksX5_save_0 23 rfl rfl
theorem dX5_save_0 : decode cX5_save 0 = .ok (.aload_n 0, 1) := dk_42 (dk_at dksX5_save_0 0 rfl rfl)
theorem dX5_save_1 : decode cX5_save 1 = .ok (.getfield 7, 3) := dk_180 0 7 (dk_at dksX5_save_0 1 rfl rfl)
theorem dX5_save_4 : decode cX5_save 4 = .ok (.iconst 0, 1) := dk_3 (dk_at dksX5_save_0 4 rfl rfl)
theorem dX5_save_5 : decode cX5_save 5 = .ok (.aload_n 0, 1) := dk_42 (dk_at dksX5_save_0 5 rfl rfl)
theorem dX5_save_6 : decode cX5_save 6 = .ok (.getfield 19, 3) := dk_180 0 19 (dk_at dksX5_save_0 6 rfl rfl)
theorem dX5_save_9 : decode cX5_save 9 = .ok (.iconst 0, 1) := dk_3 (dk_at dksX5_save_0 9 rfl rfl)
theorem dX5_save_10 : decode cX5_save 10 = .ok (.invokestatic 59, 3) := dk_184 0 59 (dk_at dksX5_save_0 10 rfl rfl)
theorem dX5_save_13 : decode cX5_save 13 = .ok (.aload_n 0, 1) := dk_42 (dk_at dksX5_save_0 13 rfl rfl)
theorem dX5_save_14 : decode cX5_save 14 = .ok (.iconst 1, 1) := dk_4 (dk_at dksX5_save_0 14 rfl rfl)
theorem dX5_save_15 : decode cX5_save 15 = .ok (.putfield 263, 3) := dk_181 1 7 (dk_at dksX5_save_0 15 rfl rfl)
theorem dX5_save_18 : decode cX5_save 18 = .ok (.aload_n 0, 1) := dk_42 (dk_at dksX5_save_0 18 rfl rfl)
theorem dX5_save_19 : decode cX5_save 19 = .ok (.aload_n 0, 1) := dk_42 (dk_at dksX5_save_0 19 rfl rfl)
theorem dX5_save_20 : decode cX5_save 20 = .ok (.invokevirtual 134, 3) := dk_182 0 134 (dk_at dksX5_save_0 20 rfl rfl)
theorem dX5_save_23 : decode cX5_save 23 = .ok (.invokevirtual 81, 3) := dk_182 0 81 (dk_at dksX5_save_1 0 rfl rfl)
theorem dX5_save_26 : decode cX5_save 26 = .ok (.ireturn, 1) := dk_172 (dk_at dksX5_save_1 3 rfl rfl)
abbrev cX5_restore : ByteArray := prog_12_method_100_code
def yX5_restore : MethodName := ⟨RX5, "restore", "()I"⟩
def dkwX5_restore_1 : List UInt8 := [184, 0, 59, 42, 3, 181, 0, 63, 42, 42, 182, 0, 134, 182, 0, 81, 172]
abbrev dktX5_restore_1 : List UInt8 := dkwX5_restore_1 ++ []
def dkwX5_restore_0 : List UInt8 := [42, 180, 1, 7, 154, 0, 9, 42, 4, 182, 0, 77, 172, 42, 180, 0, 19, 3, 42, 180, 0, 7, 3]
abbrev dktX5_restore_0 : List UInt8 := dkwX5_restore_0 ++ dktX5_restore_1
theorem dksX5_restore_0 : cX5_restore.data.toList.drop 0 = dktX5_restore_0 := by decide +kernel
theorem dksX5_restore_1 : cX5_restore.data.toList.drop 23 = dktX5_restore_1 := dk_seg dksX5_restore_0 23 rfl rfl
theorem dX5_restore_0 : decode cX5_restore 0 = .ok (.aload_n 0, 1) := dk_42 (dk_at dksX5_restore_0 0 rfl rfl)
theorem dX5_restore_1 : decode cX5_restore 1 = .ok (.getfield 263, 3) := dk_180 1 7 (dk_at dksX5_restore_0 1 rfl rfl)
theorem dX5_restore_4 : decode cX5_restore 4 = .ok (.ifCond .ne 9, 3) := dk_154 0 9 (dk_at dksX5_restore_0 4 rfl rfl)
theorem dX5_restore_7 : decode cX5_restore 7 = .ok (.aload_n 0, 1) := dk_42 (dk_at dksX5_restore_0 7 rfl rfl)
theorem dX5_restore_8 : decode cX5_restore 8 = .ok (.iconst 1, 1) := dk_4 (dk_at dksX5_restore_0 8 rfl rfl)
theorem dX5_restore_9 : decode cX5_restore 9 = .ok (.invokevirtual 77, 3) := dk_182 0 77 (dk_at dksX5_restore_0 9 rfl rfl)
theorem dX5_restore_12 : decode cX5_restore 12 = .ok (.ireturn, 1) := dk_172 (dk_at dksX5_restore_0 12 rfl rfl)
theorem dX5_restore_13 : decode cX5_restore 13 = .ok (.aload_n 0, 1) := dk_42 (dk_at dksX5_restore_0 13 rfl rfl)
theorem dX5_restore_14 : decode cX5_restore 14 = .ok (.getfield 19, 3) := dk_180 0 19 (dk_at dksX5_restore_0 14 rfl rfl)
theorem dX5_restore_17 : decode cX5_restore 17 = .ok (.iconst 0, 1) := dk_3 (dk_at dksX5_restore_0 17 rfl rfl)
theorem dX5_restore_18 : decode cX5_restore 18 = .ok (.aload_n 0, 1) := dk_42 (dk_at dksX5_restore_0 18 rfl rfl)
theorem dX5_restore_19 : decode cX5_restore 19 = .ok (.getfield 7, 3) := dk_180 0 7 (dk_at dksX5_restore_0 19 rfl rfl)
theorem dX5_restore_22 : decode cX5_restore 22 = .ok (.iconst 0, 1) := dk_3 (dk_at dksX5_restore_0 22 rfl rfl)
theorem dX5_restore_23 : decode cX5_restore 23 = .ok (.invokestatic 59, 3) := dk_184 0 59 (dk_at dksX5_restore_1 0 rfl rfl)
theorem dX5_restore_26 : decode cX5_restore 26 = .ok (.aload_n 0, 1) := dk_42 (dk_at dksX5_restore_1 3 rfl rfl)
theorem dX5_restore_27 : decode cX5_restore 27 = .ok (.iconst 0, 1) := dk_3 (dk_at dksX5_restore_1 4 rfl rfl)
theorem dX5_restore_28 : decode cX5_restore 28 = .ok (.putfield 63, 3) := dk_181 0 63 (dk_at dksX5_restore_1 5 rfl rfl)
theorem dX5_restore_31 : decode cX5_restore 31 = .ok (.aload_n 0, 1) := dk_42 (dk_at dksX5_restore_1 8 rfl rfl)
theorem dX5_restore_32 : decode cX5_restore 32 = .ok (.aload_n 0, 1) := dk_42 (dk_at dksX5_restore_1 9 rfl rfl)
theorem dX5_restore_33 : decode cX5_restore 33 = .ok (.invokevirtual 134, 3) := dk_182 0 134 (dk_at dksX5_restore_1 10 rfl rfl)
theorem dX5_restore_36 : decode cX5_restore 36 = .ok (.invokevirtual 81, 3) := dk_182 0 81 (dk_at dksX5_restore_1 13 rfl rfl)
theorem dX5_restore_39 : decode cX5_restore 39 = .ok (.ireturn, 1) := dk_172 (dk_at dksX5_restore_1 16 rfl rfl)
theorem q105 : (Jvm.Cond.initialized "VowelTorusModel") ∈ lw_all := lw_g (lw_at lw_m1 18 rfl) rfl
theorem q401 : (Jvm.Cond.selects "VowelTorusModel" ({ cls := "java/lang/Object", name := "getClass", desc := "()Ljava/lang/Class;" } : Jvm.MethodName) ({ cls := "java/lang/Object", name := "getClass", desc := "()Ljava/lang/Class;" } : Jvm.MethodName)) ∈ lw_all := lw_g (lw_at lw_m2 74 rfl) rfl
theorem q1718 : (Jvm.Cond.instantiable "VowelTorusModel" (21 : Nat)) ∈ lw_all := lw_g (lw_at lw_m7 191 rfl) rfl
theorem q1720 : (Jvm.Cond.instanceMethod ({ cls := "VowelTorusModel", name := "<init>", desc := "()V" } : Jvm.MethodName)) ∈ lw_all := lw_g (lw_at lw_m7 193 rfl) rfl
theorem q1721 : (Jvm.Cond.code ({ cls := "VowelTorusModel", name := "<init>", desc := "()V" } : Jvm.MethodName) prog_12_method_1_code (1 : Nat) (Option.none : Option Jvm.ClassFile.FieldType)) ∈ lw_all := lw_g (lw_at lw_m7 194 rfl) rfl
theorem q1722 : (Jvm.Cond.methodLink "VowelTorusModel" (1 : Nat) ({ cls := "java/lang/Object", name := "<init>", desc := "()V" } : Jvm.MethodName)) ∈ lw_all := lw_g (lw_at lw_m7 195 rfl) rfl
theorem q1723 : (Jvm.Cond.methodLink "VowelTorusModel" (42 : Nat) ({ cls := "VowelTorusModel", name := "lays", desc := "(II)V" } : Jvm.MethodName)) ∈ lw_all := lw_g (lw_at lw_m7 196 rfl) rfl
theorem q1724 : (Jvm.Cond.privateMethod ({ cls := "VowelTorusModel", name := "lays", desc := "(II)V" } : Jvm.MethodName)) ∈ lw_tbl := lw_at lw_m7 197 rfl
theorem q1725 : (Jvm.Cond.instanceMethod ({ cls := "VowelTorusModel", name := "lays", desc := "(II)V" } : Jvm.MethodName)) ∈ lw_all := lw_g (lw_at lw_m7 198 rfl) rfl
theorem q1726 : (Jvm.Cond.code ({ cls := "VowelTorusModel", name := "lays", desc := "(II)V" } : Jvm.MethodName) prog_12_method_15_code (4 : Nat) (Option.none : Option Jvm.ClassFile.FieldType)) ∈ lw_all := lw_g (lw_at lw_m7 199 rfl) rfl
theorem q1727 : (Jvm.Cond.fieldLink "VowelTorusModel" (7 : Nat) "VowelTorusModel" "g" "[I") ∈ lw_all := lw_g (lw_at lw_m7 200 rfl) rfl
theorem q1728 : (Jvm.Cond.fieldLink "VowelTorusModel" (13 : Nat) "VowelTorusModel" "before" "[I") ∈ lw_all := lw_g (lw_at lw_m7 201 rfl) rfl
theorem q1729 : (Jvm.Cond.fieldLink "VowelTorusModel" (16 : Nat) "VowelTorusModel" "history" "[I") ∈ lw_all := lw_g (lw_at lw_m7 202 rfl) rfl
theorem q1730 : (Jvm.Cond.fieldLink "VowelTorusModel" (63 : Nat) "VowelTorusModel" "changes" "I") ∈ lw_all := lw_g (lw_at lw_m7 203 rfl) rfl
theorem q1731 : (Jvm.Cond.fieldLink "VowelTorusModel" (19 : Nat) "VowelTorusModel" "savedOnes" "[I") ∈ lw_all := lw_g (lw_at lw_m7 204 rfl) rfl
theorem q1732 : (Jvm.Cond.fieldLink "VowelTorusModel" (263 : Nat) "VowelTorusModel" "hasSaved" "Z") ∈ lw_all := lw_g (lw_at lw_m7 205 rfl) rfl
theorem q1733 : (Jvm.Cond.fieldLink "VowelTorusModel" (22 : Nat) "VowelTorusModel" "input" "[C") ∈ lw_all := lw_g (lw_at lw_m7 206 rfl) rfl
theorem q1734 : (Jvm.Cond.fieldLink "VowelTorusModel" (232 : Nat) "VowelTorusModel" "typed" "I") ∈ lw_all := lw_g (lw_at lw_m7 207 rfl) rfl
theorem q1735 : (Jvm.Cond.fieldLink "VowelTorusModel" (26 : Nat) "VowelTorusModel" "errorAt" "I") ∈ lw_all := lw_g (lw_at lw_m7 208 rfl) rfl
theorem q1736 : (Jvm.Cond.fieldLink "VowelTorusModel" (53 : Nat) "VowelTorusModel" "why" "I") ∈ lw_all := lw_g (lw_at lw_m7 209 rfl) rfl
theorem q1737 : (Jvm.Cond.fieldLink "VowelTorusModel" (56 : Nat) "VowelTorusModel" "whyDetail" "I") ∈ lw_all := lw_g (lw_at lw_m7 210 rfl) rfl
theorem q1738 : (Jvm.Cond.fieldLink "VowelTorusModel" (49 : Nat) "VowelTorusModel" "isRefused" "Z") ∈ lw_all := lw_g (lw_at lw_m7 211 rfl) rfl
theorem q1739 : (Jvm.Cond.fieldLink "VowelTorusModel" (30 : Nat) "VowelTorusModel" "letters" "[C") ∈ lw_all := lw_g (lw_at lw_m7 212 rfl) rfl
theorem q1740 : (Jvm.Cond.fieldLink "VowelTorusModel" (223 : Nat) "VowelTorusModel" "lined" "I") ∈ lw_all := lw_g (lw_at lw_m7 213 rfl) rfl
theorem q1741 : (Jvm.Cond.fieldLink "VowelTorusModel" (46 : Nat) "VowelTorusModel" "thrown" "I") ∈ lw_all := lw_g (lw_at lw_m7 214 rfl) rfl
theorem q1742 : (Jvm.Cond.fieldLink "VowelTorusModel" (33 : Nat) "VowelTorusModel" "tried" "[I") ∈ lw_all := lw_g (lw_at lw_m7 215 rfl) rfl
theorem q1743 : (Jvm.Cond.fieldLink "VowelTorusModel" (36 : Nat) "VowelTorusModel" "moved" "[I") ∈ lw_all := lw_g (lw_at lw_m7 216 rfl) rfl
theorem q1744 : (Jvm.Cond.fieldLink "VowelTorusModel" (164 : Nat) "VowelTorusModel" "firstOne" "I") ∈ lw_all := lw_g (lw_at lw_m7 217 rfl) rfl
theorem q1745 : (Jvm.Cond.fieldLink "VowelTorusModel" (235 : Nat) "VowelTorusModel" "spot" "I") ∈ lw_all := lw_g (lw_at lw_m7 218 rfl) rfl
theorem q1746 : (Jvm.Cond.fieldLink "VowelTorusModel" (238 : Nat) "VowelTorusModel" "isWrong" "Z") ∈ lw_all := lw_g (lw_at lw_m7 219 rfl) rfl
theorem q1747 : (Jvm.Cond.fieldLink "VowelTorusModel" (39 : Nat) "VowelTorusModel" "told" "[I") ∈ lw_all := lw_g (lw_at lw_m7 220 rfl) rfl
theorem q1748 : (Jvm.Cond.laysFinal "VowelTorusModel" "VowelTorusModel" "g" "[I") ∈ lw_all := lw_g (lw_at lw_m7 221 rfl) rfl
theorem q1749 : (Jvm.Cond.soleField "VowelTorusModel" "g") ∈ lw_all := lw_g (lw_at lw_m7 222 rfl) rfl
theorem q1750 : (Jvm.Cond.laysFinal "VowelTorusModel" "VowelTorusModel" "before" "[I") ∈ lw_all := lw_g (lw_at lw_m7 223 rfl) rfl
theorem q1751 : (Jvm.Cond.soleField "VowelTorusModel" "before") ∈ lw_all := lw_g (lw_at lw_m7 224 rfl) rfl
theorem q1752 : (Jvm.Cond.laysFinal "VowelTorusModel" "VowelTorusModel" "history" "[I") ∈ lw_all := lw_g (lw_at lw_m7 225 rfl) rfl
theorem q1753 : (Jvm.Cond.soleField "VowelTorusModel" "history") ∈ lw_all := lw_g (lw_at lw_m7 226 rfl) rfl
theorem q1754 : (Jvm.Cond.lays "VowelTorusModel" "VowelTorusModel" "changes" "I") ∈ lw_all := lw_g (lw_at lw_m7 227 rfl) rfl
theorem q1755 : (Jvm.Cond.soleField "VowelTorusModel" "changes") ∈ lw_all := lw_g (lw_at lw_m7 228 rfl) rfl
theorem q1756 : (Jvm.Cond.laysFinal "VowelTorusModel" "VowelTorusModel" "savedOnes" "[I") ∈ lw_all := lw_g (lw_at lw_m7 229 rfl) rfl
theorem q1757 : (Jvm.Cond.soleField "VowelTorusModel" "savedOnes") ∈ lw_all := lw_g (lw_at lw_m7 230 rfl) rfl
theorem q1758 : (Jvm.Cond.lays "VowelTorusModel" "VowelTorusModel" "hasSaved" "Z") ∈ lw_all := lw_g (lw_at lw_m7 231 rfl) rfl
theorem q1759 : (Jvm.Cond.soleField "VowelTorusModel" "hasSaved") ∈ lw_all := lw_g (lw_at lw_m7 232 rfl) rfl
theorem q1760 : (Jvm.Cond.laysFinal "VowelTorusModel" "VowelTorusModel" "input" "[C") ∈ lw_all := lw_g (lw_at lw_m7 233 rfl) rfl
theorem q1761 : (Jvm.Cond.soleField "VowelTorusModel" "input") ∈ lw_all := lw_g (lw_at lw_m7 234 rfl) rfl
theorem q1762 : (Jvm.Cond.lays "VowelTorusModel" "VowelTorusModel" "typed" "I") ∈ lw_all := lw_g (lw_at lw_m7 235 rfl) rfl
theorem q1763 : (Jvm.Cond.soleField "VowelTorusModel" "typed") ∈ lw_all := lw_g (lw_at lw_m7 236 rfl) rfl
theorem q1764 : (Jvm.Cond.lays "VowelTorusModel" "VowelTorusModel" "errorAt" "I") ∈ lw_all := lw_g (lw_at lw_m7 237 rfl) rfl
theorem q1765 : (Jvm.Cond.soleField "VowelTorusModel" "errorAt") ∈ lw_all := lw_g (lw_at lw_m7 238 rfl) rfl
theorem q1766 : (Jvm.Cond.lays "VowelTorusModel" "VowelTorusModel" "why" "I") ∈ lw_all := lw_g (lw_at lw_m7 239 rfl) rfl
theorem q1767 : (Jvm.Cond.soleField "VowelTorusModel" "why") ∈ lw_all := lw_g (lw_at lw_m8 0 rfl) rfl
theorem q1768 : (Jvm.Cond.lays "VowelTorusModel" "VowelTorusModel" "whyDetail" "I") ∈ lw_all := lw_g (lw_at lw_m8 1 rfl) rfl
theorem q1769 : (Jvm.Cond.soleField "VowelTorusModel" "whyDetail") ∈ lw_all := lw_g (lw_at lw_m8 2 rfl) rfl
theorem q1770 : (Jvm.Cond.lays "VowelTorusModel" "VowelTorusModel" "isRefused" "Z") ∈ lw_all := lw_g (lw_at lw_m8 3 rfl) rfl
theorem q1771 : (Jvm.Cond.soleField "VowelTorusModel" "isRefused") ∈ lw_all := lw_g (lw_at lw_m8 4 rfl) rfl
theorem q1772 : (Jvm.Cond.laysFinal "VowelTorusModel" "VowelTorusModel" "letters" "[C") ∈ lw_all := lw_g (lw_at lw_m8 5 rfl) rfl
theorem q1773 : (Jvm.Cond.soleField "VowelTorusModel" "letters") ∈ lw_all := lw_g (lw_at lw_m8 6 rfl) rfl
theorem q1774 : (Jvm.Cond.lays "VowelTorusModel" "VowelTorusModel" "lined" "I") ∈ lw_all := lw_g (lw_at lw_m8 7 rfl) rfl
theorem q1775 : (Jvm.Cond.soleField "VowelTorusModel" "lined") ∈ lw_all := lw_g (lw_at lw_m8 8 rfl) rfl
theorem q1776 : (Jvm.Cond.lays "VowelTorusModel" "VowelTorusModel" "thrown" "I") ∈ lw_all := lw_g (lw_at lw_m8 9 rfl) rfl
theorem q1777 : (Jvm.Cond.soleField "VowelTorusModel" "thrown") ∈ lw_all := lw_g (lw_at lw_m8 10 rfl) rfl
theorem q1778 : (Jvm.Cond.laysFinal "VowelTorusModel" "VowelTorusModel" "tried" "[I") ∈ lw_all := lw_g (lw_at lw_m8 11 rfl) rfl
theorem q1779 : (Jvm.Cond.soleField "VowelTorusModel" "tried") ∈ lw_all := lw_g (lw_at lw_m8 12 rfl) rfl
theorem q1780 : (Jvm.Cond.laysFinal "VowelTorusModel" "VowelTorusModel" "moved" "[I") ∈ lw_all := lw_g (lw_at lw_m8 13 rfl) rfl
theorem q1781 : (Jvm.Cond.soleField "VowelTorusModel" "moved") ∈ lw_all := lw_g (lw_at lw_m8 14 rfl) rfl
theorem q1782 : (Jvm.Cond.lays "VowelTorusModel" "VowelTorusModel" "firstOne" "I") ∈ lw_all := lw_g (lw_at lw_m8 15 rfl) rfl
theorem q1783 : (Jvm.Cond.soleField "VowelTorusModel" "firstOne") ∈ lw_all := lw_g (lw_at lw_m8 16 rfl) rfl
theorem q1784 : (Jvm.Cond.lays "VowelTorusModel" "VowelTorusModel" "spot" "I") ∈ lw_all := lw_g (lw_at lw_m8 17 rfl) rfl
theorem q1785 : (Jvm.Cond.soleField "VowelTorusModel" "spot") ∈ lw_all := lw_g (lw_at lw_m8 18 rfl) rfl
theorem q1786 : (Jvm.Cond.lays "VowelTorusModel" "VowelTorusModel" "isWrong" "Z") ∈ lw_all := lw_g (lw_at lw_m8 19 rfl) rfl
theorem q1787 : (Jvm.Cond.soleField "VowelTorusModel" "isWrong") ∈ lw_all := lw_g (lw_at lw_m8 20 rfl) rfl
theorem q1788 : (Jvm.Cond.laysFinal "VowelTorusModel" "VowelTorusModel" "told" "[I") ∈ lw_all := lw_g (lw_at lw_m8 21 rfl) rfl
theorem q1789 : (Jvm.Cond.soleField "VowelTorusModel" "told") ∈ lw_all := lw_g (lw_at lw_m8 22 rfl) rfl
theorem q1790 : (Jvm.Cond.superclass "VowelTorusModel" "java/lang/Object") ∈ lw_all := lw_g (lw_at lw_m8 23 rfl) rfl
theorem q1792 : (Jvm.Cond.instanceMethod ({ cls := "VowelTorusModel", name := "thrown", desc := "()I" } : Jvm.MethodName)) ∈ lw_all := lw_g (lw_at lw_m8 25 rfl) rfl
theorem q1793 : (Jvm.Cond.selects "VowelTorusModel" ({ cls := "VowelTorusModel", name := "thrown", desc := "()I" } : Jvm.MethodName) ({ cls := "VowelTorusModel", name := "thrown", desc := "()I" } : Jvm.MethodName)) ∈ lw_all := lw_g (lw_at lw_m8 26 rfl) rfl
theorem q1794 : (Jvm.Cond.code ({ cls := "VowelTorusModel", name := "thrown", desc := "()I" } : Jvm.MethodName) prog_12_method_2_code (1 : Nat) (Option.some Jvm.ClassFile.FieldType.int)) ∈ lw_all := lw_g (lw_at lw_m8 27 rfl) rfl
theorem q1796 : (Jvm.Cond.instanceMethod ({ cls := "VowelTorusModel", name := "board", desc := "(II)I" } : Jvm.MethodName)) ∈ lw_all := lw_g (lw_at lw_m8 29 rfl) rfl
theorem q1797 : (Jvm.Cond.selects "VowelTorusModel" ({ cls := "VowelTorusModel", name := "board", desc := "(II)I" } : Jvm.MethodName) ({ cls := "VowelTorusModel", name := "board", desc := "(II)I" } : Jvm.MethodName)) ∈ lw_all := lw_g (lw_at lw_m8 30 rfl) rfl
theorem q1798 : (Jvm.Cond.code ({ cls := "VowelTorusModel", name := "board", desc := "(II)I" } : Jvm.MethodName) prog_12_method_17_code (3 : Nat) (Option.some Jvm.ClassFile.FieldType.int)) ∈ lw_all := lw_g (lw_at lw_m8 31 rfl) rfl
theorem q1799 : (Jvm.Cond.methodLink "VowelTorusModel" (84 : Nat) ({ cls := "VowelTorusModel", name := "looksBack", desc := "()V" } : Jvm.MethodName)) ∈ lw_all := lw_g (lw_at lw_m8 32 rfl) rfl
theorem q1800 : (Jvm.Cond.privateMethod ({ cls := "VowelTorusModel", name := "looksBack", desc := "()V" } : Jvm.MethodName)) ∈ lw_tbl := lw_at lw_m8 33 rfl
theorem q1801 : (Jvm.Cond.instanceMethod ({ cls := "VowelTorusModel", name := "looksBack", desc := "()V" } : Jvm.MethodName)) ∈ lw_all := lw_g (lw_at lw_m8 34 rfl) rfl
theorem q1802 : (Jvm.Cond.code ({ cls := "VowelTorusModel", name := "looksBack", desc := "()V" } : Jvm.MethodName) prog_12_method_8_code (1 : Nat) (Option.none : Option Jvm.ClassFile.FieldType)) ∈ lw_all := lw_g (lw_at lw_m8 35 rfl) rfl
theorem q1803 : (Jvm.Cond.methodLink "VowelTorusModel" (59 : Nat) ({ cls := "VowelTorusModel", name := "copy", desc := "([II[II)V" } : Jvm.MethodName)) ∈ lw_all := lw_g (lw_at lw_m8 36 rfl) rfl
theorem q1804 : (Jvm.Cond.static ({ cls := "VowelTorusModel", name := "copy", desc := "([II[II)V" } : Jvm.MethodName)) ∈ lw_all := lw_g (lw_at lw_m8 37 rfl) rfl
theorem q1805 : (Jvm.Cond.code ({ cls := "VowelTorusModel", name := "copy", desc := "([II[II)V" } : Jvm.MethodName) prog_12_method_7_code (5 : Nat) (Option.none : Option Jvm.ClassFile.FieldType)) ∈ lw_all := lw_g (lw_at lw_m8 38 rfl) rfl
theorem q1806 : (Jvm.Cond.methodLink "VowelTorusModel" (87 : Nat) ({ cls := "VowelTorusModel", name := "boards", desc := "(II)I" } : Jvm.MethodName)) ∈ lw_all := lw_g (lw_at lw_m8 39 rfl) rfl
theorem q1807 : (Jvm.Cond.privateMethod ({ cls := "VowelTorusModel", name := "boards", desc := "(II)I" } : Jvm.MethodName)) ∈ lw_tbl := lw_at lw_m8 40 rfl
theorem q1808 : (Jvm.Cond.instanceMethod ({ cls := "VowelTorusModel", name := "boards", desc := "(II)I" } : Jvm.MethodName)) ∈ lw_all := lw_g (lw_at lw_m8 41 rfl) rfl
theorem q1809 : (Jvm.Cond.code ({ cls := "VowelTorusModel", name := "boards", desc := "(II)I" } : Jvm.MethodName) prog_12_method_16_code (3 : Nat) (Option.some Jvm.ClassFile.FieldType.int)) ∈ lw_all := lw_g (lw_at lw_m8 42 rfl) rfl
theorem q1810 : (Jvm.Cond.methodLink "VowelTorusModel" (70 : Nat) ({ cls := "VowelTorusModel", name := "in", desc := "(III)Z" } : Jvm.MethodName)) ∈ lw_all := lw_g (lw_at lw_m8 43 rfl) rfl
theorem q1811 : (Jvm.Cond.static ({ cls := "VowelTorusModel", name := "in", desc := "(III)Z" } : Jvm.MethodName)) ∈ lw_all := lw_g (lw_at lw_m8 44 rfl) rfl
theorem q1812 : (Jvm.Cond.code ({ cls := "VowelTorusModel", name := "in", desc := "(III)Z" } : Jvm.MethodName) prog_12_method_3_code (3 : Nat) (Option.some Jvm.ClassFile.FieldType.boolean)) ∈ lw_all := lw_g (lw_at lw_m8 45 rfl) rfl
theorem q1813 : (Jvm.Cond.methodLink "VowelTorusModel" (77 : Nat) ({ cls := "VowelTorusModel", name := "fails", desc := "(I)I" } : Jvm.MethodName)) ∈ lw_all := lw_g (lw_at lw_m8 46 rfl) rfl
theorem q1814 : (Jvm.Cond.privateMethod ({ cls := "VowelTorusModel", name := "fails", desc := "(I)I" } : Jvm.MethodName)) ∈ lw_tbl := lw_at lw_m8 47 rfl
theorem q1815 : (Jvm.Cond.instanceMethod ({ cls := "VowelTorusModel", name := "fails", desc := "(I)I" } : Jvm.MethodName)) ∈ lw_all := lw_g (lw_at lw_m8 48 rfl) rfl
theorem q1816 : (Jvm.Cond.code ({ cls := "VowelTorusModel", name := "fails", desc := "(I)I" } : Jvm.MethodName) prog_12_method_5_code (2 : Nat) (Option.some Jvm.ClassFile.FieldType.int)) ∈ lw_all := lw_g (lw_at lw_m8 49 rfl) rfl
theorem q1817 : (Jvm.Cond.methodLink "VowelTorusModel" (66 : Nat) ({ cls := "VowelTorusModel", name := "places", desc := "()I" } : Jvm.MethodName)) ∈ lw_all := lw_g (lw_at lw_m8 50 rfl) rfl
theorem q1818 : (Jvm.Cond.privateMethod ({ cls := "VowelTorusModel", name := "places", desc := "()I" } : Jvm.MethodName)) ∈ lw_tbl := lw_at lw_m8 51 rfl
theorem q1819 : (Jvm.Cond.instanceMethod ({ cls := "VowelTorusModel", name := "places", desc := "()I" } : Jvm.MethodName)) ∈ lw_all := lw_g (lw_at lw_m8 52 rfl) rfl
theorem q1820 : (Jvm.Cond.code ({ cls := "VowelTorusModel", name := "places", desc := "()I" } : Jvm.MethodName) prog_12_method_10_code (1 : Nat) (Option.some Jvm.ClassFile.FieldType.int)) ∈ lw_all := lw_g (lw_at lw_m8 53 rfl) rfl
theorem q1821 : (Jvm.Cond.methodLink "VowelTorusModel" (81 : Nat) ({ cls := "VowelTorusModel", name := "done", desc := "(I)I" } : Jvm.MethodName)) ∈ lw_all := lw_g (lw_at lw_m8 54 rfl) rfl
theorem q1822 : (Jvm.Cond.privateMethod ({ cls := "VowelTorusModel", name := "done", desc := "(I)I" } : Jvm.MethodName)) ∈ lw_tbl := lw_at lw_m8 55 rfl
theorem q1823 : (Jvm.Cond.instanceMethod ({ cls := "VowelTorusModel", name := "done", desc := "(I)I" } : Jvm.MethodName)) ∈ lw_all := lw_g (lw_at lw_m8 56 rfl) rfl
theorem q1824 : (Jvm.Cond.code ({ cls := "VowelTorusModel", name := "done", desc := "(I)I" } : Jvm.MethodName) prog_12_method_4_code (2 : Nat) (Option.some Jvm.ClassFile.FieldType.int)) ∈ lw_all := lw_g (lw_at lw_m8 57 rfl) rfl
theorem q1825 : (Jvm.Cond.methodLink "VowelTorusModel" (91 : Nat) ({ cls := "VowelTorusModel", name := "kept", desc := "(I)I" } : Jvm.MethodName)) ∈ lw_all := lw_g (lw_at lw_m8 58 rfl) rfl
theorem q1826 : (Jvm.Cond.privateMethod ({ cls := "VowelTorusModel", name := "kept", desc := "(I)I" } : Jvm.MethodName)) ∈ lw_tbl := lw_at lw_m8 59 rfl
theorem q1827 : (Jvm.Cond.instanceMethod ({ cls := "VowelTorusModel", name := "kept", desc := "(I)I" } : Jvm.MethodName)) ∈ lw_all := lw_g (lw_at lw_m8 60 rfl) rfl
theorem q1828 : (Jvm.Cond.code ({ cls := "VowelTorusModel", name := "kept", desc := "(I)I" } : Jvm.MethodName) prog_12_method_9_code (3 : Nat) (Option.some Jvm.ClassFile.FieldType.int)) ∈ lw_all := lw_g (lw_at lw_m8 61 rfl) rfl
theorem q1830 : (Jvm.Cond.instanceMethod ({ cls := "VowelTorusModel", name := "put", desc := "(IC)C" } : Jvm.MethodName)) ∈ lw_all := lw_g (lw_at lw_m8 63 rfl) rfl
theorem q1831 : (Jvm.Cond.selects "VowelTorusModel" ({ cls := "VowelTorusModel", name := "put", desc := "(IC)C" } : Jvm.MethodName) ({ cls := "VowelTorusModel", name := "put", desc := "(IC)C" } : Jvm.MethodName)) ∈ lw_all := lw_g (lw_at lw_m8 64 rfl) rfl
theorem q1832 : (Jvm.Cond.code ({ cls := "VowelTorusModel", name := "put", desc := "(IC)C" } : Jvm.MethodName) prog_12_method_22_code (3 : Nat) (Option.some Jvm.ClassFile.FieldType.char)) ∈ lw_all := lw_g (lw_at lw_m8 65 rfl) rfl
theorem q1833 : (Jvm.Cond.methodLink "VowelTorusModel" (112 : Nat) ({ cls := "VowelTorusModel", name := "puts", desc := "(II)I" } : Jvm.MethodName)) ∈ lw_all := lw_g (lw_at lw_m8 66 rfl) rfl
theorem q1834 : (Jvm.Cond.privateMethod ({ cls := "VowelTorusModel", name := "puts", desc := "(II)I" } : Jvm.MethodName)) ∈ lw_tbl := lw_at lw_m8 67 rfl
theorem q1835 : (Jvm.Cond.instanceMethod ({ cls := "VowelTorusModel", name := "puts", desc := "(II)I" } : Jvm.MethodName)) ∈ lw_all := lw_g (lw_at lw_m8 68 rfl) rfl
theorem q1836 : (Jvm.Cond.code ({ cls := "VowelTorusModel", name := "puts", desc := "(II)I" } : Jvm.MethodName) prog_12_method_21_code (3 : Nat) (Option.some Jvm.ClassFile.FieldType.int)) ∈ lw_all := lw_g (lw_at lw_m8 69 rfl) rfl
theorem q1837 : (Jvm.Cond.methodLink "VowelTorusModel" (102 : Nat) ({ cls := "VowelTorusModel", name := "isPlace", desc := "(I)Z" } : Jvm.MethodName)) ∈ lw_all := lw_g (lw_at lw_m8 70 rfl) rfl
theorem q1838 : (Jvm.Cond.privateMethod ({ cls := "VowelTorusModel", name := "isPlace", desc := "(I)Z" } : Jvm.MethodName)) ∈ lw_tbl := lw_at lw_m8 71 rfl
theorem q1839 : (Jvm.Cond.instanceMethod ({ cls := "VowelTorusModel", name := "isPlace", desc := "(I)Z" } : Jvm.MethodName)) ∈ lw_all := lw_g (lw_at lw_m8 72 rfl) rfl
theorem q1840 : (Jvm.Cond.code ({ cls := "VowelTorusModel", name := "isPlace", desc := "(I)Z" } : Jvm.MethodName) prog_12_method_12_code (2 : Nat) (Option.some Jvm.ClassFile.FieldType.boolean)) ∈ lw_all := lw_g (lw_at lw_m8 73 rfl) rfl
theorem q1841 : (Jvm.Cond.methodLink "VowelTorusModel" (106 : Nat) ({ cls := "VowelTorusModel", name := "isLetter", desc := "(I)Z" } : Jvm.MethodName)) ∈ lw_all := lw_g (lw_at lw_m8 74 rfl) rfl
theorem q1842 : (Jvm.Cond.static ({ cls := "VowelTorusModel", name := "isLetter", desc := "(I)Z" } : Jvm.MethodName)) ∈ lw_all := lw_g (lw_at lw_m8 75 rfl) rfl
theorem q1843 : (Jvm.Cond.code ({ cls := "VowelTorusModel", name := "isLetter", desc := "(I)Z" } : Jvm.MethodName) prog_12_method_18_code (1 : Nat) (Option.some Jvm.ClassFile.FieldType.boolean)) ∈ lw_all := lw_g (lw_at lw_m8 76 rfl) rfl
theorem q1844 : (Jvm.Cond.methodLink "VowelTorusModel" (109 : Nat) ({ cls := "VowelTorusModel", name := "tells", desc := "(III)I" } : Jvm.MethodName)) ∈ lw_all := lw_g (lw_at lw_m8 77 rfl) rfl
theorem q1845 : (Jvm.Cond.privateMethod ({ cls := "VowelTorusModel", name := "tells", desc := "(III)I" } : Jvm.MethodName)) ∈ lw_tbl := lw_at lw_m8 78 rfl
theorem q1846 : (Jvm.Cond.instanceMethod ({ cls := "VowelTorusModel", name := "tells", desc := "(III)I" } : Jvm.MethodName)) ∈ lw_all := lw_g (lw_at lw_m8 79 rfl) rfl
theorem q1847 : (Jvm.Cond.code ({ cls := "VowelTorusModel", name := "tells", desc := "(III)I" } : Jvm.MethodName) prog_12_method_20_code (5 : Nat) (Option.some Jvm.ClassFile.FieldType.int)) ∈ lw_all := lw_g (lw_at lw_m8 80 rfl) rfl
theorem q1848 : (Jvm.Cond.methodLink "VowelTorusModel" (94 : Nat) ({ cls := "VowelTorusModel", name := "refused", desc := "(III)I" } : Jvm.MethodName)) ∈ lw_all := lw_g (lw_at lw_m8 81 rfl) rfl
theorem q1849 : (Jvm.Cond.privateMethod ({ cls := "VowelTorusModel", name := "refused", desc := "(III)I" } : Jvm.MethodName)) ∈ lw_tbl := lw_at lw_m8 82 rfl
theorem q1850 : (Jvm.Cond.instanceMethod ({ cls := "VowelTorusModel", name := "refused", desc := "(III)I" } : Jvm.MethodName)) ∈ lw_all := lw_g (lw_at lw_m8 83 rfl) rfl
theorem q1851 : (Jvm.Cond.code ({ cls := "VowelTorusModel", name := "refused", desc := "(III)I" } : Jvm.MethodName) prog_12_method_6_code (4 : Nat) (Option.some Jvm.ClassFile.FieldType.int)) ∈ lw_all := lw_g (lw_at lw_m8 84 rfl) rfl
theorem q1852 : (Jvm.Cond.methodLink "VowelTorusModel" (98 : Nat) ({ cls := "VowelTorusModel", name := "signOf", desc := "(I)C" } : Jvm.MethodName)) ∈ lw_all := lw_g (lw_at lw_m8 85 rfl) rfl
theorem q1853 : (Jvm.Cond.static ({ cls := "VowelTorusModel", name := "signOf", desc := "(I)C" } : Jvm.MethodName)) ∈ lw_all := lw_g (lw_at lw_m8 86 rfl) rfl
theorem q1854 : (Jvm.Cond.code ({ cls := "VowelTorusModel", name := "signOf", desc := "(I)C" } : Jvm.MethodName) prog_12_method_19_code (1 : Nat) (Option.some Jvm.ClassFile.FieldType.char)) ∈ lw_all := lw_g (lw_at lw_m8 87 rfl) rfl
theorem q1856 : (Jvm.Cond.instanceMethod ({ cls := "VowelTorusModel", name := "goal", desc := "(IC)C" } : Jvm.MethodName)) ∈ lw_all := lw_g (lw_at lw_m8 89 rfl) rfl
theorem q1857 : (Jvm.Cond.selects "VowelTorusModel" ({ cls := "VowelTorusModel", name := "goal", desc := "(IC)C" } : Jvm.MethodName) ({ cls := "VowelTorusModel", name := "goal", desc := "(IC)C" } : Jvm.MethodName)) ∈ lw_all := lw_g (lw_at lw_m8 90 rfl) rfl
theorem q1858 : (Jvm.Cond.code ({ cls := "VowelTorusModel", name := "goal", desc := "(IC)C" } : Jvm.MethodName) prog_12_method_24_code (3 : Nat) (Option.some Jvm.ClassFile.FieldType.char)) ∈ lw_all := lw_g (lw_at lw_m8 91 rfl) rfl
theorem q1859 : (Jvm.Cond.methodLink "VowelTorusModel" (115 : Nat) ({ cls := "VowelTorusModel", name := "goals", desc := "(II)I" } : Jvm.MethodName)) ∈ lw_all := lw_g (lw_at lw_m8 92 rfl) rfl
theorem q1860 : (Jvm.Cond.privateMethod ({ cls := "VowelTorusModel", name := "goals", desc := "(II)I" } : Jvm.MethodName)) ∈ lw_tbl := lw_at lw_m8 93 rfl
theorem q1861 : (Jvm.Cond.instanceMethod ({ cls := "VowelTorusModel", name := "goals", desc := "(II)I" } : Jvm.MethodName)) ∈ lw_all := lw_g (lw_at lw_m8 94 rfl) rfl
theorem q1862 : (Jvm.Cond.code ({ cls := "VowelTorusModel", name := "goals", desc := "(II)I" } : Jvm.MethodName) prog_12_method_23_code (3 : Nat) (Option.some Jvm.ClassFile.FieldType.int)) ∈ lw_all := lw_g (lw_at lw_m8 95 rfl) rfl
theorem q1864 : (Jvm.Cond.instanceMethod ({ cls := "VowelTorusModel", name := "turn", desc := "(I)I" } : Jvm.MethodName)) ∈ lw_all := lw_g (lw_at lw_m8 97 rfl) rfl
theorem q1865 : (Jvm.Cond.selects "VowelTorusModel" ({ cls := "VowelTorusModel", name := "turn", desc := "(I)I" } : Jvm.MethodName) ({ cls := "VowelTorusModel", name := "turn", desc := "(I)I" } : Jvm.MethodName)) ∈ lw_all := lw_g (lw_at lw_m8 98 rfl) rfl
theorem q1866 : (Jvm.Cond.code ({ cls := "VowelTorusModel", name := "turn", desc := "(I)I" } : Jvm.MethodName) prog_12_method_35_code (2 : Nat) (Option.some Jvm.ClassFile.FieldType.int)) ∈ lw_all := lw_g (lw_at lw_m8 99 rfl) rfl
theorem q1867 : (Jvm.Cond.methodLink "VowelTorusModel" (149 : Nat) ({ cls := "VowelTorusModel", name := "turnsOne", desc := "(I)I" } : Jvm.MethodName)) ∈ lw_all := lw_g (lw_at lw_m8 100 rfl) rfl
theorem q1868 : (Jvm.Cond.privateMethod ({ cls := "VowelTorusModel", name := "turnsOne", desc := "(I)I" } : Jvm.MethodName)) ∈ lw_tbl := lw_at lw_m8 101 rfl
theorem q1869 : (Jvm.Cond.instanceMethod ({ cls := "VowelTorusModel", name := "turnsOne", desc := "(I)I" } : Jvm.MethodName)) ∈ lw_all := lw_g (lw_at lw_m8 102 rfl) rfl
theorem q1870 : (Jvm.Cond.code ({ cls := "VowelTorusModel", name := "turnsOne", desc := "(I)I" } : Jvm.MethodName) prog_12_method_34_code (2 : Nat) (Option.some Jvm.ClassFile.FieldType.int)) ∈ lw_all := lw_g (lw_at lw_m8 103 rfl) rfl
theorem q1871 : (Jvm.Cond.methodLink "VowelTorusModel" (140 : Nat) ({ cls := "VowelTorusModel", name := "isTurn", desc := "(I)Z" } : Jvm.MethodName)) ∈ lw_all := lw_g (lw_at lw_m8 104 rfl) rfl
theorem q1872 : (Jvm.Cond.privateMethod ({ cls := "VowelTorusModel", name := "isTurn", desc := "(I)Z" } : Jvm.MethodName)) ∈ lw_tbl := lw_at lw_m8 105 rfl
theorem q1873 : (Jvm.Cond.instanceMethod ({ cls := "VowelTorusModel", name := "isTurn", desc := "(I)Z" } : Jvm.MethodName)) ∈ lw_all := lw_g (lw_at lw_m8 106 rfl) rfl
theorem q1874 : (Jvm.Cond.code ({ cls := "VowelTorusModel", name := "isTurn", desc := "(I)Z" } : Jvm.MethodName) prog_12_method_14_code (2 : Nat) (Option.some Jvm.ClassFile.FieldType.boolean)) ∈ lw_all := lw_g (lw_at lw_m8 107 rfl) rfl
theorem q1875 : (Jvm.Cond.methodLink "VowelTorusModel" (74 : Nat) ({ cls := "VowelTorusModel", name := "lines", desc := "()I" } : Jvm.MethodName)) ∈ lw_all := lw_g (lw_at lw_m8 108 rfl) rfl
theorem q1876 : (Jvm.Cond.privateMethod ({ cls := "VowelTorusModel", name := "lines", desc := "()I" } : Jvm.MethodName)) ∈ lw_tbl := lw_at lw_m8 109 rfl
theorem q1877 : (Jvm.Cond.instanceMethod ({ cls := "VowelTorusModel", name := "lines", desc := "()I" } : Jvm.MethodName)) ∈ lw_all := lw_g (lw_at lw_m8 110 rfl) rfl
theorem q1878 : (Jvm.Cond.code ({ cls := "VowelTorusModel", name := "lines", desc := "()I" } : Jvm.MethodName) prog_12_method_11_code (1 : Nat) (Option.some Jvm.ClassFile.FieldType.int)) ∈ lw_all := lw_g (lw_at lw_m8 111 rfl) rfl
theorem q1879 : (Jvm.Cond.methodLink "VowelTorusModel" (143 : Nat) ({ cls := "VowelTorusModel", name := "isOpen", desc := "(I)Z" } : Jvm.MethodName)) ∈ lw_all := lw_g (lw_at lw_m8 112 rfl) rfl
theorem q1880 : (Jvm.Cond.privateMethod ({ cls := "VowelTorusModel", name := "isOpen", desc := "(I)Z" } : Jvm.MethodName)) ∈ lw_tbl := lw_at lw_m8 113 rfl
theorem q1881 : (Jvm.Cond.instanceMethod ({ cls := "VowelTorusModel", name := "isOpen", desc := "(I)Z" } : Jvm.MethodName)) ∈ lw_all := lw_g (lw_at lw_m8 114 rfl) rfl
theorem q1882 : (Jvm.Cond.code ({ cls := "VowelTorusModel", name := "isOpen", desc := "(I)Z" } : Jvm.MethodName) prog_12_method_31_code (2 : Nat) (Option.some Jvm.ClassFile.FieldType.boolean)) ∈ lw_all := lw_g (lw_at lw_m8 115 rfl) rfl
theorem q1883 : (Jvm.Cond.methodLink "VowelTorusModel" (146 : Nat) ({ cls := "VowelTorusModel", name := "makesByHand", desc := "(I)I" } : Jvm.MethodName)) ∈ lw_all := lw_g (lw_at lw_m8 116 rfl) rfl
theorem q1884 : (Jvm.Cond.privateMethod ({ cls := "VowelTorusModel", name := "makesByHand", desc := "(I)I" } : Jvm.MethodName)) ∈ lw_tbl := lw_at lw_m8 117 rfl
theorem q1885 : (Jvm.Cond.instanceMethod ({ cls := "VowelTorusModel", name := "makesByHand", desc := "(I)I" } : Jvm.MethodName)) ∈ lw_all := lw_g (lw_at lw_m8 118 rfl) rfl
theorem q1886 : (Jvm.Cond.code ({ cls := "VowelTorusModel", name := "makesByHand", desc := "(I)I" } : Jvm.MethodName) prog_12_method_33_code (4 : Nat) (Option.some Jvm.ClassFile.FieldType.int)) ∈ lw_all := lw_g (lw_at lw_m8 119 rfl) rfl
theorem q1887 : (Jvm.Cond.methodLink "VowelTorusModel" (134 : Nat) ({ cls := "VowelTorusModel", name := "homes", desc := "()I" } : Jvm.MethodName)) ∈ lw_all := lw_g (lw_at lw_m8 120 rfl) rfl
theorem q1888 : (Jvm.Cond.privateMethod ({ cls := "VowelTorusModel", name := "homes", desc := "()I" } : Jvm.MethodName)) ∈ lw_tbl := lw_at lw_m8 121 rfl
theorem q1889 : (Jvm.Cond.instanceMethod ({ cls := "VowelTorusModel", name := "homes", desc := "()I" } : Jvm.MethodName)) ∈ lw_all := lw_g (lw_at lw_m8 122 rfl) rfl
theorem q1890 : (Jvm.Cond.code ({ cls := "VowelTorusModel", name := "homes", desc := "()I" } : Jvm.MethodName) prog_12_method_30_code (1 : Nat) (Option.some Jvm.ClassFile.FieldType.int)) ∈ lw_all := lw_g (lw_at lw_m8 123 rfl) rfl
theorem q1891 : (Jvm.Cond.methodLink "VowelTorusModel" (121 : Nat) ({ cls := "VowelTorusModel", name := "tries", desc := "()V" } : Jvm.MethodName)) ∈ lw_all := lw_g (lw_at lw_m8 124 rfl) rfl
theorem q1892 : (Jvm.Cond.privateMethod ({ cls := "VowelTorusModel", name := "tries", desc := "()V" } : Jvm.MethodName)) ∈ lw_tbl := lw_at lw_m8 125 rfl
theorem q1893 : (Jvm.Cond.instanceMethod ({ cls := "VowelTorusModel", name := "tries", desc := "()V" } : Jvm.MethodName)) ∈ lw_all := lw_g (lw_at lw_m8 126 rfl) rfl
theorem q1894 : (Jvm.Cond.code ({ cls := "VowelTorusModel", name := "tries", desc := "()V" } : Jvm.MethodName) prog_12_method_26_code (2 : Nat) (Option.none : Option Jvm.ClassFile.FieldType)) ∈ lw_all := lw_g (lw_at lw_m8 127 rfl) rfl
theorem q1895 : (Jvm.Cond.methodLink "VowelTorusModel" (124 : Nat) ({ cls := "VowelTorusModel", name := "homeTried", desc := "()I" } : Jvm.MethodName)) ∈ lw_all := lw_g (lw_at lw_m8 128 rfl) rfl
theorem q1896 : (Jvm.Cond.privateMethod ({ cls := "VowelTorusModel", name := "homeTried", desc := "()I" } : Jvm.MethodName)) ∈ lw_tbl := lw_at lw_m8 129 rfl
theorem q1897 : (Jvm.Cond.instanceMethod ({ cls := "VowelTorusModel", name := "homeTried", desc := "()I" } : Jvm.MethodName)) ∈ lw_all := lw_g (lw_at lw_m8 130 rfl) rfl
theorem q1898 : (Jvm.Cond.code ({ cls := "VowelTorusModel", name := "homeTried", desc := "()I" } : Jvm.MethodName) prog_12_method_29_code (3 : Nat) (Option.some Jvm.ClassFile.FieldType.int)) ∈ lw_all := lw_g (lw_at lw_m8 131 rfl) rfl
theorem q1899 : (Jvm.Cond.methodLink "VowelTorusModel" (137 : Nat) ({ cls := "VowelTorusModel", name := "makes", desc := "(I)I" } : Jvm.MethodName)) ∈ lw_all := lw_g (lw_at lw_m8 132 rfl) rfl
theorem q1900 : (Jvm.Cond.privateMethod ({ cls := "VowelTorusModel", name := "makes", desc := "(I)I" } : Jvm.MethodName)) ∈ lw_tbl := lw_at lw_m8 133 rfl
theorem q1901 : (Jvm.Cond.instanceMethod ({ cls := "VowelTorusModel", name := "makes", desc := "(I)I" } : Jvm.MethodName)) ∈ lw_all := lw_g (lw_at lw_m8 134 rfl) rfl
theorem q1902 : (Jvm.Cond.code ({ cls := "VowelTorusModel", name := "makes", desc := "(I)I" } : Jvm.MethodName) prog_12_method_32_code (2 : Nat) (Option.some Jvm.ClassFile.FieldType.int)) ∈ lw_all := lw_g (lw_at lw_m8 135 rfl) rfl
theorem q1903 : (Jvm.Cond.methodLink "VowelTorusModel" (127 : Nat) ({ cls := "VowelTorusModel", name := "turnsTried", desc := "(I)V" } : Jvm.MethodName)) ∈ lw_all := lw_g (lw_at lw_m8 136 rfl) rfl
theorem q1904 : (Jvm.Cond.privateMethod ({ cls := "VowelTorusModel", name := "turnsTried", desc := "(I)V" } : Jvm.MethodName)) ∈ lw_tbl := lw_at lw_m8 137 rfl
theorem q1905 : (Jvm.Cond.instanceMethod ({ cls := "VowelTorusModel", name := "turnsTried", desc := "(I)V" } : Jvm.MethodName)) ∈ lw_all := lw_g (lw_at lw_m8 138 rfl) rfl
theorem q1906 : (Jvm.Cond.code ({ cls := "VowelTorusModel", name := "turnsTried", desc := "(I)V" } : Jvm.MethodName) prog_12_method_27_code (3 : Nat) (Option.none : Option Jvm.ClassFile.FieldType)) ∈ lw_all := lw_g (lw_at lw_m8 139 rfl) rfl
theorem q1907 : (Jvm.Cond.methodLink "VowelTorusModel" (118 : Nat) ({ cls := "VowelTorusModel", name := "goes", desc := "(II)I" } : Jvm.MethodName)) ∈ lw_all := lw_g (lw_at lw_m8 140 rfl) rfl
theorem q1908 : (Jvm.Cond.privateMethod ({ cls := "VowelTorusModel", name := "goes", desc := "(II)I" } : Jvm.MethodName)) ∈ lw_tbl := lw_at lw_m8 141 rfl
theorem q1909 : (Jvm.Cond.instanceMethod ({ cls := "VowelTorusModel", name := "goes", desc := "(II)I" } : Jvm.MethodName)) ∈ lw_all := lw_g (lw_at lw_m8 142 rfl) rfl
theorem q1910 : (Jvm.Cond.code ({ cls := "VowelTorusModel", name := "goes", desc := "(II)I" } : Jvm.MethodName) prog_12_method_25_code (7 : Nat) (Option.some Jvm.ClassFile.FieldType.int)) ∈ lw_all := lw_g (lw_at lw_m8 143 rfl) rfl
theorem q1911 : (Jvm.Cond.methodLink "VowelTorusModel" (131 : Nat) ({ cls := "VowelTorusModel", name := "takesTried", desc := "()V" } : Jvm.MethodName)) ∈ lw_all := lw_g (lw_at lw_m8 144 rfl) rfl
theorem q1912 : (Jvm.Cond.privateMethod ({ cls := "VowelTorusModel", name := "takesTried", desc := "()V" } : Jvm.MethodName)) ∈ lw_tbl := lw_at lw_m8 145 rfl
theorem q1913 : (Jvm.Cond.instanceMethod ({ cls := "VowelTorusModel", name := "takesTried", desc := "()V" } : Jvm.MethodName)) ∈ lw_all := lw_g (lw_at lw_m8 146 rfl) rfl
theorem q1914 : (Jvm.Cond.code ({ cls := "VowelTorusModel", name := "takesTried", desc := "()V" } : Jvm.MethodName) prog_12_method_28_code (2 : Nat) (Option.none : Option Jvm.ClassFile.FieldType)) ∈ lw_all := lw_g (lw_at lw_m8 147 rfl) rfl
theorem q1916 : (Jvm.Cond.instanceMethod ({ cls := "VowelTorusModel", name := "swap", desc := "(II)I" } : Jvm.MethodName)) ∈ lw_all := lw_g (lw_at lw_m8 149 rfl) rfl
theorem q1917 : (Jvm.Cond.selects "VowelTorusModel" ({ cls := "VowelTorusModel", name := "swap", desc := "(II)I" } : Jvm.MethodName) ({ cls := "VowelTorusModel", name := "swap", desc := "(II)I" } : Jvm.MethodName)) ∈ lw_all := lw_g (lw_at lw_m8 150 rfl) rfl
theorem q1918 : (Jvm.Cond.code ({ cls := "VowelTorusModel", name := "swap", desc := "(II)I" } : Jvm.MethodName) prog_12_method_37_code (3 : Nat) (Option.some Jvm.ClassFile.FieldType.int)) ∈ lw_all := lw_g (lw_at lw_m8 151 rfl) rfl
theorem q1919 : (Jvm.Cond.methodLink "VowelTorusModel" (152 : Nat) ({ cls := "VowelTorusModel", name := "swaps", desc := "(II)I" } : Jvm.MethodName)) ∈ lw_all := lw_g (lw_at lw_m8 152 rfl) rfl
theorem q1920 : (Jvm.Cond.privateMethod ({ cls := "VowelTorusModel", name := "swaps", desc := "(II)I" } : Jvm.MethodName)) ∈ lw_tbl := lw_at lw_m8 153 rfl
theorem q1921 : (Jvm.Cond.instanceMethod ({ cls := "VowelTorusModel", name := "swaps", desc := "(II)I" } : Jvm.MethodName)) ∈ lw_all := lw_g (lw_at lw_m8 154 rfl) rfl
theorem q1922 : (Jvm.Cond.code ({ cls := "VowelTorusModel", name := "swaps", desc := "(II)I" } : Jvm.MethodName) prog_12_method_36_code (4 : Nat) (Option.some Jvm.ClassFile.FieldType.int)) ∈ lw_all := lw_g (lw_at lw_m8 155 rfl) rfl
theorem q1924 : (Jvm.Cond.instanceMethod ({ cls := "VowelTorusModel", name := "bar", desc := "(I)Z" } : Jvm.MethodName)) ∈ lw_all := lw_g (lw_at lw_m8 157 rfl) rfl
theorem q1925 : (Jvm.Cond.selects "VowelTorusModel" ({ cls := "VowelTorusModel", name := "bar", desc := "(I)Z" } : Jvm.MethodName) ({ cls := "VowelTorusModel", name := "bar", desc := "(I)Z" } : Jvm.MethodName)) ∈ lw_all := lw_g (lw_at lw_m8 158 rfl) rfl
theorem q1926 : (Jvm.Cond.code ({ cls := "VowelTorusModel", name := "bar", desc := "(I)Z" } : Jvm.MethodName) prog_12_method_39_code (2 : Nat) (Option.some Jvm.ClassFile.FieldType.boolean)) ∈ lw_all := lw_g (lw_at lw_m8 159 rfl) rfl
theorem q1927 : (Jvm.Cond.methodLink "VowelTorusModel" (158 : Nat) ({ cls := "VowelTorusModel", name := "bars", desc := "(I)I" } : Jvm.MethodName)) ∈ lw_all := lw_g (lw_at lw_m8 160 rfl) rfl
theorem q1928 : (Jvm.Cond.privateMethod ({ cls := "VowelTorusModel", name := "bars", desc := "(I)I" } : Jvm.MethodName)) ∈ lw_tbl := lw_at lw_m8 161 rfl
theorem q1929 : (Jvm.Cond.instanceMethod ({ cls := "VowelTorusModel", name := "bars", desc := "(I)I" } : Jvm.MethodName)) ∈ lw_all := lw_g (lw_at lw_m8 162 rfl) rfl
theorem q1930 : (Jvm.Cond.code ({ cls := "VowelTorusModel", name := "bars", desc := "(I)I" } : Jvm.MethodName) prog_12_method_38_code (2 : Nat) (Option.some Jvm.ClassFile.FieldType.int)) ∈ lw_all := lw_g (lw_at lw_m8 163 rfl) rfl
theorem q1931 : (Jvm.Cond.methodLink "VowelTorusModel" (155 : Nat) ({ cls := "VowelTorusModel", name := "isLine", desc := "(I)Z" } : Jvm.MethodName)) ∈ lw_all := lw_g (lw_at lw_m8 164 rfl) rfl
theorem q1932 : (Jvm.Cond.privateMethod ({ cls := "VowelTorusModel", name := "isLine", desc := "(I)Z" } : Jvm.MethodName)) ∈ lw_tbl := lw_at lw_m8 165 rfl
theorem q1933 : (Jvm.Cond.instanceMethod ({ cls := "VowelTorusModel", name := "isLine", desc := "(I)Z" } : Jvm.MethodName)) ∈ lw_all := lw_g (lw_at lw_m8 166 rfl) rfl
theorem q1934 : (Jvm.Cond.code ({ cls := "VowelTorusModel", name := "isLine", desc := "(I)Z" } : Jvm.MethodName) prog_12_method_13_code (2 : Nat) (Option.some Jvm.ClassFile.FieldType.boolean)) ∈ lw_all := lw_g (lw_at lw_m8 167 rfl) rfl
theorem q1936 : (Jvm.Cond.instanceMethod ({ cls := "VowelTorusModel", name := "scramble", desc := "(II)I" } : Jvm.MethodName)) ∈ lw_all := lw_g (lw_at lw_m8 169 rfl) rfl
theorem q1937 : (Jvm.Cond.selects "VowelTorusModel" ({ cls := "VowelTorusModel", name := "scramble", desc := "(II)I" } : Jvm.MethodName) ({ cls := "VowelTorusModel", name := "scramble", desc := "(II)I" } : Jvm.MethodName)) ∈ lw_all := lw_g (lw_at lw_m8 170 rfl) rfl
theorem q1938 : (Jvm.Cond.code ({ cls := "VowelTorusModel", name := "scramble", desc := "(II)I" } : Jvm.MethodName) prog_12_method_41_code (3 : Nat) (Option.some Jvm.ClassFile.FieldType.int)) ∈ lw_all := lw_g (lw_at lw_m8 171 rfl) rfl
theorem q1939 : (Jvm.Cond.methodLink "VowelTorusModel" (161 : Nat) ({ cls := "VowelTorusModel", name := "scrambles", desc := "(II)I" } : Jvm.MethodName)) ∈ lw_all := lw_g (lw_at lw_m8 172 rfl) rfl
theorem q1940 : (Jvm.Cond.privateMethod ({ cls := "VowelTorusModel", name := "scrambles", desc := "(II)I" } : Jvm.MethodName)) ∈ lw_tbl := lw_at lw_m8 173 rfl
theorem q1941 : (Jvm.Cond.instanceMethod ({ cls := "VowelTorusModel", name := "scrambles", desc := "(II)I" } : Jvm.MethodName)) ∈ lw_all := lw_g (lw_at lw_m8 174 rfl) rfl
theorem q1942 : (Jvm.Cond.code ({ cls := "VowelTorusModel", name := "scrambles", desc := "(II)I" } : Jvm.MethodName) prog_12_method_40_code (8 : Nat) (Option.some Jvm.ClassFile.FieldType.int)) ∈ lw_all := lw_g (lw_at lw_m8 175 rfl) rfl
theorem q1944 : (Jvm.Cond.instanceMethod ({ cls := "VowelTorusModel", name := "away", desc := "(Z)I" } : Jvm.MethodName)) ∈ lw_all := lw_g (lw_at lw_m8 177 rfl) rfl
theorem q1945 : (Jvm.Cond.selects "VowelTorusModel" ({ cls := "VowelTorusModel", name := "away", desc := "(Z)I" } : Jvm.MethodName) ({ cls := "VowelTorusModel", name := "away", desc := "(Z)I" } : Jvm.MethodName)) ∈ lw_all := lw_g (lw_at lw_m8 178 rfl) rfl
theorem q1946 : (Jvm.Cond.code ({ cls := "VowelTorusModel", name := "away", desc := "(Z)I" } : Jvm.MethodName) prog_12_method_44_code (3 : Nat) (Option.some Jvm.ClassFile.FieldType.int)) ∈ lw_all := lw_g (lw_at lw_m8 179 rfl) rfl
theorem q1947 : (Jvm.Cond.methodLink "VowelTorusModel" (171 : Nat) ({ cls := "VowelTorusModel", name := "shortest", desc := "()I" } : Jvm.MethodName)) ∈ lw_all := lw_g (lw_at lw_m8 180 rfl) rfl
theorem q1948 : (Jvm.Cond.privateMethod ({ cls := "VowelTorusModel", name := "shortest", desc := "()I" } : Jvm.MethodName)) ∈ lw_tbl := lw_at lw_m8 181 rfl
theorem q1949 : (Jvm.Cond.instanceMethod ({ cls := "VowelTorusModel", name := "shortest", desc := "()I" } : Jvm.MethodName)) ∈ lw_all := lw_g (lw_at lw_m8 182 rfl) rfl
theorem q1950 : (Jvm.Cond.code ({ cls := "VowelTorusModel", name := "shortest", desc := "()I" } : Jvm.MethodName) prog_12_method_43_code (4 : Nat) (Option.some Jvm.ClassFile.FieldType.int)) ∈ lw_all := lw_g (lw_at lw_m8 183 rfl) rfl
theorem q1951 : (Jvm.Cond.methodLink "VowelTorusModel" (167 : Nat) ({ cls := "VowelTorusModel", name := "leads", desc := "(II)Z" } : Jvm.MethodName)) ∈ lw_all := lw_g (lw_at lw_m8 184 rfl) rfl
theorem q1952 : (Jvm.Cond.privateMethod ({ cls := "VowelTorusModel", name := "leads", desc := "(II)Z" } : Jvm.MethodName)) ∈ lw_tbl := lw_at lw_m8 185 rfl
theorem q1953 : (Jvm.Cond.instanceMethod ({ cls := "VowelTorusModel", name := "leads", desc := "(II)Z" } : Jvm.MethodName)) ∈ lw_all := lw_g (lw_at lw_m8 186 rfl) rfl
theorem q1954 : (Jvm.Cond.code ({ cls := "VowelTorusModel", name := "leads", desc := "(II)Z" } : Jvm.MethodName) prog_12_method_42_code (8 : Nat) (Option.some Jvm.ClassFile.FieldType.boolean)) ∈ lw_all := lw_g (lw_at lw_m8 187 rfl) rfl
theorem q1956 : (Jvm.Cond.instanceMethod ({ cls := "VowelTorusModel", name := "firstTurn", desc := "()I" } : Jvm.MethodName)) ∈ lw_all := lw_g (lw_at lw_m8 189 rfl) rfl
theorem q1957 : (Jvm.Cond.selects "VowelTorusModel" ({ cls := "VowelTorusModel", name := "firstTurn", desc := "()I" } : Jvm.MethodName) ({ cls := "VowelTorusModel", name := "firstTurn", desc := "()I" } : Jvm.MethodName)) ∈ lw_all := lw_g (lw_at lw_m8 190 rfl) rfl
theorem q1958 : (Jvm.Cond.code ({ cls := "VowelTorusModel", name := "firstTurn", desc := "()I" } : Jvm.MethodName) prog_12_method_45_code (2 : Nat) (Option.some Jvm.ClassFile.FieldType.int)) ∈ lw_all := lw_g (lw_at lw_m8 191 rfl) rfl
theorem q1960 : (Jvm.Cond.instanceMethod ({ cls := "VowelTorusModel", name := "isOut", desc := "()Z" } : Jvm.MethodName)) ∈ lw_all := lw_g (lw_at lw_m8 193 rfl) rfl
theorem q1961 : (Jvm.Cond.selects "VowelTorusModel" ({ cls := "VowelTorusModel", name := "isOut", desc := "()Z" } : Jvm.MethodName) ({ cls := "VowelTorusModel", name := "isOut", desc := "()Z" } : Jvm.MethodName)) ∈ lw_all := lw_g (lw_at lw_m8 194 rfl) rfl
theorem q1962 : (Jvm.Cond.code ({ cls := "VowelTorusModel", name := "isOut", desc := "()Z" } : Jvm.MethodName) prog_12_method_51_code (1 : Nat) (Option.some Jvm.ClassFile.FieldType.boolean)) ∈ lw_all := lw_g (lw_at lw_m8 195 rfl) rfl
theorem q1963 : (Jvm.Cond.methodLink "VowelTorusModel" (187 : Nat) ({ cls := "VowelTorusModel", name := "isOutOfReach", desc := "()Z" } : Jvm.MethodName)) ∈ lw_all := lw_g (lw_at lw_m8 196 rfl) rfl
theorem q1964 : (Jvm.Cond.privateMethod ({ cls := "VowelTorusModel", name := "isOutOfReach", desc := "()Z" } : Jvm.MethodName)) ∈ lw_tbl := lw_at lw_m8 197 rfl
theorem q1965 : (Jvm.Cond.instanceMethod ({ cls := "VowelTorusModel", name := "isOutOfReach", desc := "()Z" } : Jvm.MethodName)) ∈ lw_all := lw_g (lw_at lw_m8 198 rfl) rfl
theorem q1966 : (Jvm.Cond.code ({ cls := "VowelTorusModel", name := "isOutOfReach", desc := "()Z" } : Jvm.MethodName) prog_12_method_50_code (2 : Nat) (Option.some Jvm.ClassFile.FieldType.boolean)) ∈ lw_all := lw_g (lw_at lw_m8 199 rfl) rfl
theorem q1967 : (Jvm.Cond.methodLink "VowelTorusModel" (177 : Nat) ({ cls := "VowelTorusModel", name := "lacksLetters", desc := "()Z" } : Jvm.MethodName)) ∈ lw_all := lw_g (lw_at lw_m8 200 rfl) rfl
theorem q1968 : (Jvm.Cond.privateMethod ({ cls := "VowelTorusModel", name := "lacksLetters", desc := "()Z" } : Jvm.MethodName)) ∈ lw_tbl := lw_at lw_m8 201 rfl
theorem q1969 : (Jvm.Cond.instanceMethod ({ cls := "VowelTorusModel", name := "lacksLetters", desc := "()Z" } : Jvm.MethodName)) ∈ lw_all := lw_g (lw_at lw_m8 202 rfl) rfl
theorem q1970 : (Jvm.Cond.code ({ cls := "VowelTorusModel", name := "lacksLetters", desc := "()Z" } : Jvm.MethodName) prog_12_method_47_code (3 : Nat) (Option.some Jvm.ClassFile.FieldType.boolean)) ∈ lw_all := lw_g (lw_at lw_m8 203 rfl) rfl
theorem q1971 : (Jvm.Cond.methodLink "VowelTorusModel" (174 : Nat) ({ cls := "VowelTorusModel", name := "timesOf", desc := "(II)I" } : Jvm.MethodName)) ∈ lw_all := lw_g (lw_at lw_m8 204 rfl) rfl
theorem q1972 : (Jvm.Cond.privateMethod ({ cls := "VowelTorusModel", name := "timesOf", desc := "(II)I" } : Jvm.MethodName)) ∈ lw_tbl := lw_at lw_m8 205 rfl
theorem q1973 : (Jvm.Cond.instanceMethod ({ cls := "VowelTorusModel", name := "timesOf", desc := "(II)I" } : Jvm.MethodName)) ∈ lw_all := lw_g (lw_at lw_m8 206 rfl) rfl
theorem q1974 : (Jvm.Cond.code ({ cls := "VowelTorusModel", name := "timesOf", desc := "(II)I" } : Jvm.MethodName) prog_12_method_46_code (5 : Nat) (Option.some Jvm.ClassFile.FieldType.int)) ∈ lw_all := lw_g (lw_at lw_m8 207 rfl) rfl
theorem q1975 : (Jvm.Cond.methodLink "VowelTorusModel" (181 : Nat) ({ cls := "VowelTorusModel", name := "unlike", desc := "()I" } : Jvm.MethodName)) ∈ lw_all := lw_g (lw_at lw_m8 208 rfl) rfl
theorem q1976 : (Jvm.Cond.privateMethod ({ cls := "VowelTorusModel", name := "unlike", desc := "()I" } : Jvm.MethodName)) ∈ lw_tbl := lw_at lw_m8 209 rfl
theorem q1977 : (Jvm.Cond.instanceMethod ({ cls := "VowelTorusModel", name := "unlike", desc := "()I" } : Jvm.MethodName)) ∈ lw_all := lw_g (lw_at lw_m8 210 rfl) rfl
theorem q1978 : (Jvm.Cond.code ({ cls := "VowelTorusModel", name := "unlike", desc := "()I" } : Jvm.MethodName) prog_12_method_48_code (3 : Nat) (Option.some Jvm.ClassFile.FieldType.int)) ∈ lw_all := lw_g (lw_at lw_m8 211 rfl) rfl
theorem q1979 : (Jvm.Cond.methodLink "VowelTorusModel" (184 : Nat) ({ cls := "VowelTorusModel", name := "swapsAreOdd", desc := "()Z" } : Jvm.MethodName)) ∈ lw_all := lw_g (lw_at lw_m8 212 rfl) rfl
theorem q1980 : (Jvm.Cond.privateMethod ({ cls := "VowelTorusModel", name := "swapsAreOdd", desc := "()Z" } : Jvm.MethodName)) ∈ lw_tbl := lw_at lw_m8 213 rfl
theorem q1981 : (Jvm.Cond.instanceMethod ({ cls := "VowelTorusModel", name := "swapsAreOdd", desc := "()Z" } : Jvm.MethodName)) ∈ lw_all := lw_g (lw_at lw_m8 214 rfl) rfl
theorem q1982 : (Jvm.Cond.code ({ cls := "VowelTorusModel", name := "swapsAreOdd", desc := "()Z" } : Jvm.MethodName) prog_12_method_49_code (4 : Nat) (Option.some Jvm.ClassFile.FieldType.boolean)) ∈ lw_all := lw_g (lw_at lw_m8 215 rfl) rfl
theorem q1984 : (Jvm.Cond.instanceMethod ({ cls := "VowelTorusModel", name := "isOdd", desc := "(Z)Z" } : Jvm.MethodName)) ∈ lw_all := lw_g (lw_at lw_m8 217 rfl) rfl
theorem q1985 : (Jvm.Cond.selects "VowelTorusModel" ({ cls := "VowelTorusModel", name := "isOdd", desc := "(Z)Z" } : Jvm.MethodName) ({ cls := "VowelTorusModel", name := "isOdd", desc := "(Z)Z" } : Jvm.MethodName)) ∈ lw_all := lw_g (lw_at lw_m8 218 rfl) rfl
theorem q1986 : (Jvm.Cond.code ({ cls := "VowelTorusModel", name := "isOdd", desc := "(Z)Z" } : Jvm.MethodName) prog_12_method_52_code (3 : Nat) (Option.some Jvm.ClassFile.FieldType.boolean)) ∈ lw_all := lw_g (lw_at lw_m8 219 rfl) rfl
theorem q1988 : (Jvm.Cond.instanceMethod ({ cls := "VowelTorusModel", name := "step", desc := "()I" } : Jvm.MethodName)) ∈ lw_all := lw_g (lw_at lw_m8 221 rfl) rfl
theorem q1989 : (Jvm.Cond.selects "VowelTorusModel" ({ cls := "VowelTorusModel", name := "step", desc := "()I" } : Jvm.MethodName) ({ cls := "VowelTorusModel", name := "step", desc := "()I" } : Jvm.MethodName)) ∈ lw_all := lw_g (lw_at lw_m8 222 rfl) rfl
theorem q1990 : (Jvm.Cond.code ({ cls := "VowelTorusModel", name := "step", desc := "()I" } : Jvm.MethodName) prog_12_method_54_code (1 : Nat) (Option.some Jvm.ClassFile.FieldType.int)) ∈ lw_all := lw_g (lw_at lw_m8 223 rfl) rfl
theorem q1991 : (Jvm.Cond.methodLink "VowelTorusModel" (190 : Nat) ({ cls := "VowelTorusModel", name := "steps", desc := "()I" } : Jvm.MethodName)) ∈ lw_all := lw_g (lw_at lw_m8 224 rfl) rfl
theorem q1992 : (Jvm.Cond.privateMethod ({ cls := "VowelTorusModel", name := "steps", desc := "()I" } : Jvm.MethodName)) ∈ lw_tbl := lw_at lw_m8 225 rfl
theorem q1993 : (Jvm.Cond.instanceMethod ({ cls := "VowelTorusModel", name := "steps", desc := "()I" } : Jvm.MethodName)) ∈ lw_all := lw_g (lw_at lw_m8 226 rfl) rfl
theorem q1994 : (Jvm.Cond.code ({ cls := "VowelTorusModel", name := "steps", desc := "()I" } : Jvm.MethodName) prog_12_method_53_code (3 : Nat) (Option.some Jvm.ClassFile.FieldType.int)) ∈ lw_all := lw_g (lw_at lw_m8 227 rfl) rfl
theorem q1996 : (Jvm.Cond.instanceMethod ({ cls := "VowelTorusModel", name := "letter", desc := "(I)C" } : Jvm.MethodName)) ∈ lw_all := lw_g (lw_at lw_m8 229 rfl) rfl
theorem q1997 : (Jvm.Cond.selects "VowelTorusModel" ({ cls := "VowelTorusModel", name := "letter", desc := "(I)C" } : Jvm.MethodName) ({ cls := "VowelTorusModel", name := "letter", desc := "(I)C" } : Jvm.MethodName)) ∈ lw_all := lw_g (lw_at lw_m8 230 rfl) rfl
theorem q1998 : (Jvm.Cond.code ({ cls := "VowelTorusModel", name := "letter", desc := "(I)C" } : Jvm.MethodName) prog_12_method_55_code (2 : Nat) (Option.some Jvm.ClassFile.FieldType.char)) ∈ lw_all := lw_g (lw_at lw_m8 231 rfl) rfl
theorem q2000 : (Jvm.Cond.instanceMethod ({ cls := "VowelTorusModel", name := "sign", desc := "(I)C" } : Jvm.MethodName)) ∈ lw_all := lw_g (lw_at lw_m8 233 rfl) rfl
theorem q2001 : (Jvm.Cond.selects "VowelTorusModel" ({ cls := "VowelTorusModel", name := "sign", desc := "(I)C" } : Jvm.MethodName) ({ cls := "VowelTorusModel", name := "sign", desc := "(I)C" } : Jvm.MethodName)) ∈ lw_all := lw_g (lw_at lw_m8 234 rfl) rfl
theorem q2002 : (Jvm.Cond.code ({ cls := "VowelTorusModel", name := "sign", desc := "(I)C" } : Jvm.MethodName) prog_12_method_56_code (2 : Nat) (Option.some Jvm.ClassFile.FieldType.char)) ∈ lw_all := lw_g (lw_at lw_m8 235 rfl) rfl
theorem q2004 : (Jvm.Cond.instanceMethod ({ cls := "VowelTorusModel", name := "isBarred", desc := "(I)Z" } : Jvm.MethodName)) ∈ lw_all := lw_g (lw_at lw_m8 237 rfl) rfl
theorem q2005 : (Jvm.Cond.selects "VowelTorusModel" ({ cls := "VowelTorusModel", name := "isBarred", desc := "(I)Z" } : Jvm.MethodName) ({ cls := "VowelTorusModel", name := "isBarred", desc := "(I)Z" } : Jvm.MethodName)) ∈ lw_all := lw_g (lw_at lw_m8 238 rfl) rfl
theorem q2006 : (Jvm.Cond.code ({ cls := "VowelTorusModel", name := "isBarred", desc := "(I)Z" } : Jvm.MethodName) prog_12_method_57_code (2 : Nat) (Option.some Jvm.ClassFile.FieldType.boolean)) ∈ lw_all := lw_g (lw_at lw_m8 239 rfl) rfl
theorem q2008 : (Jvm.Cond.instanceMethod ({ cls := "VowelTorusModel", name := "boardOf", desc := "(I)I" } : Jvm.MethodName)) ∈ lw_all := lw_g (lw_at lw_m9 1 rfl) rfl
theorem q2009 : (Jvm.Cond.selects "VowelTorusModel" ({ cls := "VowelTorusModel", name := "boardOf", desc := "(I)I" } : Jvm.MethodName) ({ cls := "VowelTorusModel", name := "boardOf", desc := "(I)I" } : Jvm.MethodName)) ∈ lw_all := lw_g (lw_at lw_m9 2 rfl) rfl
theorem q2010 : (Jvm.Cond.code ({ cls := "VowelTorusModel", name := "boardOf", desc := "(I)I" } : Jvm.MethodName) prog_12_method_60_code (2 : Nat) (Option.some Jvm.ClassFile.FieldType.int)) ∈ lw_all := lw_g (lw_at lw_m9 3 rfl) rfl
theorem q2011 : (Jvm.Cond.methodLink "VowelTorusModel" (193 : Nat) ({ cls := "VowelTorusModel", name := "barredLines", desc := "()I" } : Jvm.MethodName)) ∈ lw_all := lw_g (lw_at lw_m9 4 rfl) rfl
theorem q2012 : (Jvm.Cond.privateMethod ({ cls := "VowelTorusModel", name := "barredLines", desc := "()I" } : Jvm.MethodName)) ∈ lw_tbl := lw_at lw_m9 5 rfl
theorem q2013 : (Jvm.Cond.instanceMethod ({ cls := "VowelTorusModel", name := "barredLines", desc := "()I" } : Jvm.MethodName)) ∈ lw_all := lw_g (lw_at lw_m9 6 rfl) rfl
theorem q2014 : (Jvm.Cond.code ({ cls := "VowelTorusModel", name := "barredLines", desc := "()I" } : Jvm.MethodName) prog_12_method_58_code (3 : Nat) (Option.some Jvm.ClassFile.FieldType.int)) ∈ lw_all := lw_g (lw_at lw_m9 7 rfl) rfl
theorem q2016 : (Jvm.Cond.instanceMethod ({ cls := "VowelTorusModel", name := "home", desc := "()I" } : Jvm.MethodName)) ∈ lw_all := lw_g (lw_at lw_m9 9 rfl) rfl
theorem q2017 : (Jvm.Cond.selects "VowelTorusModel" ({ cls := "VowelTorusModel", name := "home", desc := "()I" } : Jvm.MethodName) ({ cls := "VowelTorusModel", name := "home", desc := "()I" } : Jvm.MethodName)) ∈ lw_all := lw_g (lw_at lw_m9 10 rfl) rfl
theorem q2018 : (Jvm.Cond.code ({ cls := "VowelTorusModel", name := "home", desc := "()I" } : Jvm.MethodName) prog_12_method_61_code (1 : Nat) (Option.some Jvm.ClassFile.FieldType.int)) ∈ lw_all := lw_g (lw_at lw_m9 11 rfl) rfl
theorem q2020 : (Jvm.Cond.instanceMethod ({ cls := "VowelTorusModel", name := "would", desc := "(I)I" } : Jvm.MethodName)) ∈ lw_all := lw_g (lw_at lw_m9 13 rfl) rfl
theorem q2021 : (Jvm.Cond.selects "VowelTorusModel" ({ cls := "VowelTorusModel", name := "would", desc := "(I)I" } : Jvm.MethodName) ({ cls := "VowelTorusModel", name := "would", desc := "(I)I" } : Jvm.MethodName)) ∈ lw_all := lw_g (lw_at lw_m9 14 rfl) rfl
theorem q2022 : (Jvm.Cond.code ({ cls := "VowelTorusModel", name := "would", desc := "(I)I" } : Jvm.MethodName) prog_12_method_63_code (2 : Nat) (Option.some Jvm.ClassFile.FieldType.int)) ∈ lw_all := lw_g (lw_at lw_m9 15 rfl) rfl
theorem q2023 : (Jvm.Cond.methodLink "VowelTorusModel" (196 : Nat) ({ cls := "VowelTorusModel", name := "homeBehind", desc := "(I)I" } : Jvm.MethodName)) ∈ lw_all := lw_g (lw_at lw_m9 16 rfl) rfl
theorem q2024 : (Jvm.Cond.privateMethod ({ cls := "VowelTorusModel", name := "homeBehind", desc := "(I)I" } : Jvm.MethodName)) ∈ lw_tbl := lw_at lw_m9 17 rfl
theorem q2025 : (Jvm.Cond.instanceMethod ({ cls := "VowelTorusModel", name := "homeBehind", desc := "(I)I" } : Jvm.MethodName)) ∈ lw_all := lw_g (lw_at lw_m9 18 rfl) rfl
theorem q2026 : (Jvm.Cond.code ({ cls := "VowelTorusModel", name := "homeBehind", desc := "(I)I" } : Jvm.MethodName) prog_12_method_62_code (2 : Nat) (Option.some Jvm.ClassFile.FieldType.int)) ∈ lw_all := lw_g (lw_at lw_m9 19 rfl) rfl
theorem q2028 : (Jvm.Cond.instanceMethod ({ cls := "VowelTorusModel", name := "best", desc := "()I" } : Jvm.MethodName)) ∈ lw_all := lw_g (lw_at lw_m9 21 rfl) rfl
theorem q2029 : (Jvm.Cond.selects "VowelTorusModel" ({ cls := "VowelTorusModel", name := "best", desc := "()I" } : Jvm.MethodName) ({ cls := "VowelTorusModel", name := "best", desc := "()I" } : Jvm.MethodName)) ∈ lw_all := lw_g (lw_at lw_m9 22 rfl) rfl
theorem q2030 : (Jvm.Cond.code ({ cls := "VowelTorusModel", name := "best", desc := "()I" } : Jvm.MethodName) prog_12_method_64_code (5 : Nat) (Option.some Jvm.ClassFile.FieldType.int)) ∈ lw_all := lw_g (lw_at lw_m9 23 rfl) rfl
theorem q2032 : (Jvm.Cond.instanceMethod ({ cls := "VowelTorusModel", name := "where", desc := "(III)I" } : Jvm.MethodName)) ∈ lw_all := lw_g (lw_at lw_m9 25 rfl) rfl
theorem q2033 : (Jvm.Cond.selects "VowelTorusModel" ({ cls := "VowelTorusModel", name := "where", desc := "(III)I" } : Jvm.MethodName) ({ cls := "VowelTorusModel", name := "where", desc := "(III)I" } : Jvm.MethodName)) ∈ lw_all := lw_g (lw_at lw_m9 26 rfl) rfl
theorem q2034 : (Jvm.Cond.code ({ cls := "VowelTorusModel", name := "where", desc := "(III)I" } : Jvm.MethodName) prog_12_method_65_code (6 : Nat) (Option.some Jvm.ClassFile.FieldType.int)) ∈ lw_all := lw_g (lw_at lw_m9 27 rfl) rfl
theorem q2036 : (Jvm.Cond.instanceMethod ({ cls := "VowelTorusModel", name := "far", desc := "(II)I" } : Jvm.MethodName)) ∈ lw_all := lw_g (lw_at lw_m9 29 rfl) rfl
theorem q2037 : (Jvm.Cond.selects "VowelTorusModel" ({ cls := "VowelTorusModel", name := "far", desc := "(II)I" } : Jvm.MethodName) ({ cls := "VowelTorusModel", name := "far", desc := "(II)I" } : Jvm.MethodName)) ∈ lw_all := lw_g (lw_at lw_m9 30 rfl) rfl
theorem q2038 : (Jvm.Cond.code ({ cls := "VowelTorusModel", name := "far", desc := "(II)I" } : Jvm.MethodName) prog_12_method_68_code (3 : Nat) (Option.some Jvm.ClassFile.FieldType.int)) ∈ lw_all := lw_g (lw_at lw_m9 31 rfl) rfl
theorem q2039 : (Jvm.Cond.methodLink "VowelTorusModel" (202 : Nat) ({ cls := "VowelTorusModel", name := "stepsBetween", desc := "(III)I" } : Jvm.MethodName)) ∈ lw_all := lw_g (lw_at lw_m9 32 rfl) rfl
theorem q2040 : (Jvm.Cond.privateMethod ({ cls := "VowelTorusModel", name := "stepsBetween", desc := "(III)I" } : Jvm.MethodName)) ∈ lw_tbl := lw_at lw_m9 33 rfl
theorem q2041 : (Jvm.Cond.instanceMethod ({ cls := "VowelTorusModel", name := "stepsBetween", desc := "(III)I" } : Jvm.MethodName)) ∈ lw_all := lw_g (lw_at lw_m9 34 rfl) rfl
theorem q2042 : (Jvm.Cond.code ({ cls := "VowelTorusModel", name := "stepsBetween", desc := "(III)I" } : Jvm.MethodName) prog_12_method_67_code (4 : Nat) (Option.some Jvm.ClassFile.FieldType.int)) ∈ lw_all := lw_g (lw_at lw_m9 35 rfl) rfl
theorem q2043 : (Jvm.Cond.methodLink "VowelTorusModel" (199 : Nat) ({ cls := "VowelTorusModel", name := "round", desc := "(III)I" } : Jvm.MethodName)) ∈ lw_all := lw_g (lw_at lw_m9 36 rfl) rfl
theorem q2044 : (Jvm.Cond.static ({ cls := "VowelTorusModel", name := "round", desc := "(III)I" } : Jvm.MethodName)) ∈ lw_all := lw_g (lw_at lw_m9 37 rfl) rfl
theorem q2045 : (Jvm.Cond.code ({ cls := "VowelTorusModel", name := "round", desc := "(III)I" } : Jvm.MethodName) prog_12_method_66_code (4 : Nat) (Option.some Jvm.ClassFile.FieldType.int)) ∈ lw_all := lw_g (lw_at lw_m9 38 rfl) rfl
theorem q2047 : (Jvm.Cond.instanceMethod ({ cls := "VowelTorusModel", name := "sings", desc := "(I)Z" } : Jvm.MethodName)) ∈ lw_all := lw_g (lw_at lw_m9 40 rfl) rfl
theorem q2048 : (Jvm.Cond.selects "VowelTorusModel" ({ cls := "VowelTorusModel", name := "sings", desc := "(I)Z" } : Jvm.MethodName) ({ cls := "VowelTorusModel", name := "sings", desc := "(I)Z" } : Jvm.MethodName)) ∈ lw_all := lw_g (lw_at lw_m9 41 rfl) rfl
theorem q2049 : (Jvm.Cond.code ({ cls := "VowelTorusModel", name := "sings", desc := "(I)Z" } : Jvm.MethodName) prog_12_method_74_code (2 : Nat) (Option.some Jvm.ClassFile.FieldType.boolean)) ∈ lw_all := lw_g (lw_at lw_m9 42 rfl) rfl
theorem q2050 : (Jvm.Cond.methodLink "VowelTorusModel" (220 : Nat) ({ cls := "VowelTorusModel", name := "isSinging", desc := "(I)Z" } : Jvm.MethodName)) ∈ lw_all := lw_g (lw_at lw_m9 43 rfl) rfl
theorem q2051 : (Jvm.Cond.privateMethod ({ cls := "VowelTorusModel", name := "isSinging", desc := "(I)Z" } : Jvm.MethodName)) ∈ lw_tbl := lw_at lw_m9 44 rfl
theorem q2052 : (Jvm.Cond.instanceMethod ({ cls := "VowelTorusModel", name := "isSinging", desc := "(I)Z" } : Jvm.MethodName)) ∈ lw_all := lw_g (lw_at lw_m9 45 rfl) rfl
theorem q2053 : (Jvm.Cond.code ({ cls := "VowelTorusModel", name := "isSinging", desc := "(I)Z" } : Jvm.MethodName) prog_12_method_73_code (4 : Nat) (Option.some Jvm.ClassFile.FieldType.boolean)) ∈ lw_all := lw_g (lw_at lw_m9 46 rfl) rfl
theorem q2054 : (Jvm.Cond.methodLink "VowelTorusModel" (217 : Nat) ({ cls := "VowelTorusModel", name := "vowels", desc := "(I)I" } : Jvm.MethodName)) ∈ lw_all := lw_g (lw_at lw_m9 47 rfl) rfl
theorem q2055 : (Jvm.Cond.privateMethod ({ cls := "VowelTorusModel", name := "vowels", desc := "(I)I" } : Jvm.MethodName)) ∈ lw_tbl := lw_at lw_m9 48 rfl
theorem q2056 : (Jvm.Cond.instanceMethod ({ cls := "VowelTorusModel", name := "vowels", desc := "(I)I" } : Jvm.MethodName)) ∈ lw_all := lw_g (lw_at lw_m9 49 rfl) rfl
theorem q2057 : (Jvm.Cond.code ({ cls := "VowelTorusModel", name := "vowels", desc := "(I)I" } : Jvm.MethodName) prog_12_method_72_code (4 : Nat) (Option.some Jvm.ClassFile.FieldType.int)) ∈ lw_all := lw_g (lw_at lw_m9 50 rfl) rfl
theorem q2058 : (Jvm.Cond.methodLink "VowelTorusModel" (205 : Nat) ({ cls := "VowelTorusModel", name := "lengthOf", desc := "(I)I" } : Jvm.MethodName)) ∈ lw_all := lw_g (lw_at lw_m9 51 rfl) rfl
theorem q2059 : (Jvm.Cond.privateMethod ({ cls := "VowelTorusModel", name := "lengthOf", desc := "(I)I" } : Jvm.MethodName)) ∈ lw_tbl := lw_at lw_m9 52 rfl
theorem q2060 : (Jvm.Cond.instanceMethod ({ cls := "VowelTorusModel", name := "lengthOf", desc := "(I)I" } : Jvm.MethodName)) ∈ lw_all := lw_g (lw_at lw_m9 53 rfl) rfl
theorem q2061 : (Jvm.Cond.code ({ cls := "VowelTorusModel", name := "lengthOf", desc := "(I)I" } : Jvm.MethodName) prog_12_method_69_code (2 : Nat) (Option.some Jvm.ClassFile.FieldType.int)) ∈ lw_all := lw_g (lw_at lw_m9 54 rfl) rfl
theorem q2062 : (Jvm.Cond.methodLink "VowelTorusModel" (214 : Nat) ({ cls := "VowelTorusModel", name := "isVowelOn", desc := "(II)Z" } : Jvm.MethodName)) ∈ lw_all := lw_g (lw_at lw_m9 55 rfl) rfl
theorem q2063 : (Jvm.Cond.privateMethod ({ cls := "VowelTorusModel", name := "isVowelOn", desc := "(II)Z" } : Jvm.MethodName)) ∈ lw_tbl := lw_at lw_m9 56 rfl
theorem q2064 : (Jvm.Cond.instanceMethod ({ cls := "VowelTorusModel", name := "isVowelOn", desc := "(II)Z" } : Jvm.MethodName)) ∈ lw_all := lw_g (lw_at lw_m9 57 rfl) rfl
theorem q2065 : (Jvm.Cond.code ({ cls := "VowelTorusModel", name := "isVowelOn", desc := "(II)Z" } : Jvm.MethodName) prog_12_method_71_code (3 : Nat) (Option.some Jvm.ClassFile.FieldType.boolean)) ∈ lw_all := lw_g (lw_at lw_m9 58 rfl) rfl
theorem q2066 : (Jvm.Cond.methodLink "VowelTorusModel" (208 : Nat) ({ cls := "VowelTorusModel", name := "placeOn", desc := "(II)I" } : Jvm.MethodName)) ∈ lw_all := lw_g (lw_at lw_m9 59 rfl) rfl
theorem q2067 : (Jvm.Cond.privateMethod ({ cls := "VowelTorusModel", name := "placeOn", desc := "(II)I" } : Jvm.MethodName)) ∈ lw_tbl := lw_at lw_m9 60 rfl
theorem q2068 : (Jvm.Cond.instanceMethod ({ cls := "VowelTorusModel", name := "placeOn", desc := "(II)I" } : Jvm.MethodName)) ∈ lw_all := lw_g (lw_at lw_m9 61 rfl) rfl
theorem q2069 : (Jvm.Cond.code ({ cls := "VowelTorusModel", name := "placeOn", desc := "(II)I" } : Jvm.MethodName) prog_12_method_70_code (3 : Nat) (Option.some Jvm.ClassFile.FieldType.int)) ∈ lw_all := lw_g (lw_at lw_m9 62 rfl) rfl
theorem q2070 : (Jvm.Cond.methodLink "VowelTorusModel" (211 : Nat) ({ cls := "VowelTorusModel", name := "isVowel", desc := "(I)Z" } : Jvm.MethodName)) ∈ lw_all := lw_g (lw_at lw_m9 63 rfl) rfl
theorem q2071 : (Jvm.Cond.static ({ cls := "VowelTorusModel", name := "isVowel", desc := "(I)Z" } : Jvm.MethodName)) ∈ lw_all := lw_g (lw_at lw_m9 64 rfl) rfl
theorem q2072 : (Jvm.Cond.code ({ cls := "VowelTorusModel", name := "isVowel", desc := "(I)Z" } : Jvm.MethodName) prog_12_method_59_code (1 : Nat) (Option.some Jvm.ClassFile.FieldType.boolean)) ∈ lw_all := lw_g (lw_at lw_m9 65 rfl) rfl
theorem q2074 : (Jvm.Cond.instanceMethod ({ cls := "VowelTorusModel", name := "singing", desc := "()I" } : Jvm.MethodName)) ∈ lw_all := lw_g (lw_at lw_m9 67 rfl) rfl
theorem q2075 : (Jvm.Cond.selects "VowelTorusModel" ({ cls := "VowelTorusModel", name := "singing", desc := "()I" } : Jvm.MethodName) ({ cls := "VowelTorusModel", name := "singing", desc := "()I" } : Jvm.MethodName)) ∈ lw_all := lw_g (lw_at lw_m9 68 rfl) rfl
theorem q2076 : (Jvm.Cond.code ({ cls := "VowelTorusModel", name := "singing", desc := "()I" } : Jvm.MethodName) prog_12_method_75_code (3 : Nat) (Option.some Jvm.ClassFile.FieldType.int)) ∈ lw_all := lw_g (lw_at lw_m9 69 rfl) rfl
theorem q2078 : (Jvm.Cond.instanceMethod ({ cls := "VowelTorusModel", name := "ranked", desc := "(I)I" } : Jvm.MethodName)) ∈ lw_all := lw_g (lw_at lw_m9 71 rfl) rfl
theorem q2079 : (Jvm.Cond.selects "VowelTorusModel" ({ cls := "VowelTorusModel", name := "ranked", desc := "(I)I" } : Jvm.MethodName) ({ cls := "VowelTorusModel", name := "ranked", desc := "(I)I" } : Jvm.MethodName)) ∈ lw_all := lw_g (lw_at lw_m9 72 rfl) rfl
theorem q2080 : (Jvm.Cond.code ({ cls := "VowelTorusModel", name := "ranked", desc := "(I)I" } : Jvm.MethodName) prog_12_method_76_code (5 : Nat) (Option.some Jvm.ClassFile.FieldType.int)) ∈ lw_all := lw_g (lw_at lw_m9 73 rfl) rfl
theorem q2082 : (Jvm.Cond.instanceMethod ({ cls := "VowelTorusModel", name := "text", desc := "()I" } : Jvm.MethodName)) ∈ lw_all := lw_g (lw_at lw_m9 75 rfl) rfl
theorem q2083 : (Jvm.Cond.selects "VowelTorusModel" ({ cls := "VowelTorusModel", name := "text", desc := "()I" } : Jvm.MethodName) ({ cls := "VowelTorusModel", name := "text", desc := "()I" } : Jvm.MethodName)) ∈ lw_all := lw_g (lw_at lw_m9 76 rfl) rfl
theorem q2084 : (Jvm.Cond.code ({ cls := "VowelTorusModel", name := "text", desc := "()I" } : Jvm.MethodName) prog_12_method_79_code (1 : Nat) (Option.some Jvm.ClassFile.FieldType.int)) ∈ lw_all := lw_g (lw_at lw_m9 77 rfl) rfl
theorem q2085 : (Jvm.Cond.methodLink "VowelTorusModel" (229 : Nat) ({ cls := "VowelTorusModel", name := "writesAll", desc := "(I)I" } : Jvm.MethodName)) ∈ lw_all := lw_g (lw_at lw_m9 78 rfl) rfl
theorem q2086 : (Jvm.Cond.privateMethod ({ cls := "VowelTorusModel", name := "writesAll", desc := "(I)I" } : Jvm.MethodName)) ∈ lw_tbl := lw_at lw_m9 79 rfl
theorem q2087 : (Jvm.Cond.instanceMethod ({ cls := "VowelTorusModel", name := "writesAll", desc := "(I)I" } : Jvm.MethodName)) ∈ lw_all := lw_g (lw_at lw_m9 80 rfl) rfl
theorem q2088 : (Jvm.Cond.code ({ cls := "VowelTorusModel", name := "writesAll", desc := "(I)I" } : Jvm.MethodName) prog_12_method_78_code (3 : Nat) (Option.some Jvm.ClassFile.FieldType.int)) ∈ lw_all := lw_g (lw_at lw_m9 81 rfl) rfl
theorem q2089 : (Jvm.Cond.methodLink "VowelTorusModel" (226 : Nat) ({ cls := "VowelTorusModel", name := "writes", desc := "(I)V" } : Jvm.MethodName)) ∈ lw_all := lw_g (lw_at lw_m9 82 rfl) rfl
theorem q2090 : (Jvm.Cond.privateMethod ({ cls := "VowelTorusModel", name := "writes", desc := "(I)V" } : Jvm.MethodName)) ∈ lw_tbl := lw_at lw_m9 83 rfl
theorem q2091 : (Jvm.Cond.instanceMethod ({ cls := "VowelTorusModel", name := "writes", desc := "(I)V" } : Jvm.MethodName)) ∈ lw_all := lw_g (lw_at lw_m9 84 rfl) rfl
theorem q2092 : (Jvm.Cond.code ({ cls := "VowelTorusModel", name := "writes", desc := "(I)V" } : Jvm.MethodName) prog_12_method_77_code (2 : Nat) (Option.none : Option Jvm.ClassFile.FieldType)) ∈ lw_all := lw_g (lw_at lw_m9 85 rfl) rfl
theorem q2094 : (Jvm.Cond.instanceMethod ({ cls := "VowelTorusModel", name := "goalText", desc := "()I" } : Jvm.MethodName)) ∈ lw_all := lw_g (lw_at lw_m9 87 rfl) rfl
theorem q2095 : (Jvm.Cond.selects "VowelTorusModel" ({ cls := "VowelTorusModel", name := "goalText", desc := "()I" } : Jvm.MethodName) ({ cls := "VowelTorusModel", name := "goalText", desc := "()I" } : Jvm.MethodName)) ∈ lw_all := lw_g (lw_at lw_m9 88 rfl) rfl
theorem q2096 : (Jvm.Cond.code ({ cls := "VowelTorusModel", name := "goalText", desc := "()I" } : Jvm.MethodName) prog_12_method_80_code (1 : Nat) (Option.some Jvm.ClassFile.FieldType.int)) ∈ lw_all := lw_g (lw_at lw_m9 89 rfl) rfl
theorem q2098 : (Jvm.Cond.instanceMethod ({ cls := "VowelTorusModel", name := "lineText", desc := "(I)I" } : Jvm.MethodName)) ∈ lw_all := lw_g (lw_at lw_m9 91 rfl) rfl
theorem q2099 : (Jvm.Cond.selects "VowelTorusModel" ({ cls := "VowelTorusModel", name := "lineText", desc := "(I)I" } : Jvm.MethodName) ({ cls := "VowelTorusModel", name := "lineText", desc := "(I)I" } : Jvm.MethodName)) ∈ lw_all := lw_g (lw_at lw_m9 92 rfl) rfl
theorem q2100 : (Jvm.Cond.code ({ cls := "VowelTorusModel", name := "lineText", desc := "(I)I" } : Jvm.MethodName) prog_12_method_81_code (3 : Nat) (Option.some Jvm.ClassFile.FieldType.int)) ∈ lw_all := lw_g (lw_at lw_m9 93 rfl) rfl
theorem q2102 : (Jvm.Cond.instanceMethod ({ cls := "VowelTorusModel", name := "character", desc := "(I)C" } : Jvm.MethodName)) ∈ lw_all := lw_g (lw_at lw_m9 95 rfl) rfl
theorem q2103 : (Jvm.Cond.selects "VowelTorusModel" ({ cls := "VowelTorusModel", name := "character", desc := "(I)C" } : Jvm.MethodName) ({ cls := "VowelTorusModel", name := "character", desc := "(I)C" } : Jvm.MethodName)) ∈ lw_all := lw_g (lw_at lw_m9 96 rfl) rfl
theorem q2104 : (Jvm.Cond.code ({ cls := "VowelTorusModel", name := "character", desc := "(I)C" } : Jvm.MethodName) prog_12_method_82_code (2 : Nat) (Option.some Jvm.ClassFile.FieldType.char)) ∈ lw_all := lw_g (lw_at lw_m9 97 rfl) rfl
theorem q2106 : (Jvm.Cond.instanceMethod ({ cls := "VowelTorusModel", name := "append", desc := "(C)I" } : Jvm.MethodName)) ∈ lw_all := lw_g (lw_at lw_m9 99 rfl) rfl
theorem q2107 : (Jvm.Cond.selects "VowelTorusModel" ({ cls := "VowelTorusModel", name := "append", desc := "(C)I" } : Jvm.MethodName) ({ cls := "VowelTorusModel", name := "append", desc := "(C)I" } : Jvm.MethodName)) ∈ lw_all := lw_g (lw_at lw_m9 100 rfl) rfl
theorem q2108 : (Jvm.Cond.code ({ cls := "VowelTorusModel", name := "append", desc := "(C)I" } : Jvm.MethodName) prog_12_method_83_code (2 : Nat) (Option.some Jvm.ClassFile.FieldType.int)) ∈ lw_all := lw_g (lw_at lw_m9 101 rfl) rfl
theorem q2110 : (Jvm.Cond.instanceMethod ({ cls := "VowelTorusModel", name := "run", desc := "()I" } : Jvm.MethodName)) ∈ lw_all := lw_g (lw_at lw_m9 103 rfl) rfl
theorem q2111 : (Jvm.Cond.selects "VowelTorusModel" ({ cls := "VowelTorusModel", name := "run", desc := "()I" } : Jvm.MethodName) ({ cls := "VowelTorusModel", name := "run", desc := "()I" } : Jvm.MethodName)) ∈ lw_all := lw_g (lw_at lw_m9 104 rfl) rfl
theorem q2112 : (Jvm.Cond.code ({ cls := "VowelTorusModel", name := "run", desc := "()I" } : Jvm.MethodName) prog_12_method_90_code (5 : Nat) (Option.some Jvm.ClassFile.FieldType.int)) ∈ lw_all := lw_g (lw_at lw_m9 105 rfl) rfl
theorem q2113 : (Jvm.Cond.methodLink "VowelTorusModel" (254 : Nat) ({ cls := "VowelTorusModel", name := "readsOrder", desc := "(I)V" } : Jvm.MethodName)) ∈ lw_all := lw_g (lw_at lw_m9 106 rfl) rfl
theorem q2114 : (Jvm.Cond.privateMethod ({ cls := "VowelTorusModel", name := "readsOrder", desc := "(I)V" } : Jvm.MethodName)) ∈ lw_tbl := lw_at lw_m9 107 rfl
theorem q2115 : (Jvm.Cond.instanceMethod ({ cls := "VowelTorusModel", name := "readsOrder", desc := "(I)V" } : Jvm.MethodName)) ∈ lw_all := lw_g (lw_at lw_m9 108 rfl) rfl
theorem q2116 : (Jvm.Cond.code ({ cls := "VowelTorusModel", name := "readsOrder", desc := "(I)V" } : Jvm.MethodName) prog_12_method_88_code (3 : Nat) (Option.none : Option Jvm.ClassFile.FieldType)) ∈ lw_all := lw_g (lw_at lw_m9 109 rfl) rfl
theorem q2117 : (Jvm.Cond.methodLink "VowelTorusModel" (241 : Nat) ({ cls := "VowelTorusModel", name := "here", desc := "()I" } : Jvm.MethodName)) ∈ lw_all := lw_g (lw_at lw_m9 110 rfl) rfl
theorem q2118 : (Jvm.Cond.privateMethod ({ cls := "VowelTorusModel", name := "here", desc := "()I" } : Jvm.MethodName)) ∈ lw_tbl := lw_at lw_m9 111 rfl
theorem q2119 : (Jvm.Cond.instanceMethod ({ cls := "VowelTorusModel", name := "here", desc := "()I" } : Jvm.MethodName)) ∈ lw_all := lw_g (lw_at lw_m9 112 rfl) rfl
theorem q2120 : (Jvm.Cond.code ({ cls := "VowelTorusModel", name := "here", desc := "()I" } : Jvm.MethodName) prog_12_method_84_code (1 : Nat) (Option.some Jvm.ClassFile.FieldType.int)) ∈ lw_all := lw_g (lw_at lw_m9 113 rfl) rfl
theorem q2121 : (Jvm.Cond.methodLink "VowelTorusModel" (244 : Nat) ({ cls := "VowelTorusModel", name := "figures", desc := "(I)I" } : Jvm.MethodName)) ∈ lw_all := lw_g (lw_at lw_m9 114 rfl) rfl
theorem q2122 : (Jvm.Cond.privateMethod ({ cls := "VowelTorusModel", name := "figures", desc := "(I)I" } : Jvm.MethodName)) ∈ lw_tbl := lw_at lw_m9 115 rfl
theorem q2123 : (Jvm.Cond.instanceMethod ({ cls := "VowelTorusModel", name := "figures", desc := "(I)I" } : Jvm.MethodName)) ∈ lw_all := lw_g (lw_at lw_m9 116 rfl) rfl
theorem q2124 : (Jvm.Cond.code ({ cls := "VowelTorusModel", name := "figures", desc := "(I)I" } : Jvm.MethodName) prog_12_method_86_code (4 : Nat) (Option.some Jvm.ClassFile.FieldType.int)) ∈ lw_all := lw_g (lw_at lw_m9 117 rfl) rfl
theorem q2125 : (Jvm.Cond.methodLink "VowelTorusModel" (247 : Nat) ({ cls := "VowelTorusModel", name := "readsSign", desc := "(Z)I" } : Jvm.MethodName)) ∈ lw_all := lw_g (lw_at lw_m9 118 rfl) rfl
theorem q2126 : (Jvm.Cond.privateMethod ({ cls := "VowelTorusModel", name := "readsSign", desc := "(Z)I" } : Jvm.MethodName)) ∈ lw_tbl := lw_at lw_m9 119 rfl
theorem q2127 : (Jvm.Cond.instanceMethod ({ cls := "VowelTorusModel", name := "readsSign", desc := "(Z)I" } : Jvm.MethodName)) ∈ lw_all := lw_g (lw_at lw_m9 120 rfl) rfl
theorem q2128 : (Jvm.Cond.code ({ cls := "VowelTorusModel", name := "readsSign", desc := "(Z)I" } : Jvm.MethodName) prog_12_method_87_code (3 : Nat) (Option.some Jvm.ClassFile.FieldType.int)) ∈ lw_all := lw_g (lw_at lw_m9 121 rfl) rfl
theorem q2129 : (Jvm.Cond.methodLink "VowelTorusModel" (251 : Nat) ({ cls := "VowelTorusModel", name := "needs", desc := "(I)V" } : Jvm.MethodName)) ∈ lw_all := lw_g (lw_at lw_m9 122 rfl) rfl
theorem q2130 : (Jvm.Cond.privateMethod ({ cls := "VowelTorusModel", name := "needs", desc := "(I)V" } : Jvm.MethodName)) ∈ lw_tbl := lw_at lw_m9 123 rfl
theorem q2131 : (Jvm.Cond.instanceMethod ({ cls := "VowelTorusModel", name := "needs", desc := "(I)V" } : Jvm.MethodName)) ∈ lw_all := lw_g (lw_at lw_m9 124 rfl) rfl
theorem q2132 : (Jvm.Cond.code ({ cls := "VowelTorusModel", name := "needs", desc := "(I)V" } : Jvm.MethodName) prog_12_method_85_code (2 : Nat) (Option.none : Option Jvm.ClassFile.FieldType)) ∈ lw_all := lw_g (lw_at lw_m9 125 rfl) rfl
theorem q2133 : (Jvm.Cond.methodLink "VowelTorusModel" (257 : Nat) ({ cls := "VowelTorusModel", name := "does", desc := "(I)I" } : Jvm.MethodName)) ∈ lw_all := lw_g (lw_at lw_m9 126 rfl) rfl
theorem q2134 : (Jvm.Cond.privateMethod ({ cls := "VowelTorusModel", name := "does", desc := "(I)I" } : Jvm.MethodName)) ∈ lw_tbl := lw_at lw_m9 127 rfl
theorem q2135 : (Jvm.Cond.instanceMethod ({ cls := "VowelTorusModel", name := "does", desc := "(I)I" } : Jvm.MethodName)) ∈ lw_all := lw_g (lw_at lw_m9 128 rfl) rfl
theorem q2136 : (Jvm.Cond.code ({ cls := "VowelTorusModel", name := "does", desc := "(I)I" } : Jvm.MethodName) prog_12_method_89_code (4 : Nat) (Option.some Jvm.ClassFile.FieldType.int)) ∈ lw_all := lw_g (lw_at lw_m9 129 rfl) rfl
theorem q2138 : (Jvm.Cond.instanceMethod ({ cls := "VowelTorusModel", name := "errorPosition", desc := "()I" } : Jvm.MethodName)) ∈ lw_all := lw_g (lw_at lw_m9 131 rfl) rfl
theorem q2139 : (Jvm.Cond.selects "VowelTorusModel" ({ cls := "VowelTorusModel", name := "errorPosition", desc := "()I" } : Jvm.MethodName) ({ cls := "VowelTorusModel", name := "errorPosition", desc := "()I" } : Jvm.MethodName)) ∈ lw_all := lw_g (lw_at lw_m9 132 rfl) rfl
theorem q2140 : (Jvm.Cond.code ({ cls := "VowelTorusModel", name := "errorPosition", desc := "()I" } : Jvm.MethodName) prog_12_method_91_code (1 : Nat) (Option.some Jvm.ClassFile.FieldType.int)) ∈ lw_all := lw_g (lw_at lw_m9 133 rfl) rfl
theorem q2142 : (Jvm.Cond.instanceMethod ({ cls := "VowelTorusModel", name := "refusal", desc := "(Z)I" } : Jvm.MethodName)) ∈ lw_all := lw_g (lw_at lw_m9 135 rfl) rfl
theorem q2143 : (Jvm.Cond.selects "VowelTorusModel" ({ cls := "VowelTorusModel", name := "refusal", desc := "(Z)I" } : Jvm.MethodName) ({ cls := "VowelTorusModel", name := "refusal", desc := "(Z)I" } : Jvm.MethodName)) ∈ lw_all := lw_g (lw_at lw_m9 136 rfl) rfl
theorem q2144 : (Jvm.Cond.code ({ cls := "VowelTorusModel", name := "refusal", desc := "(Z)I" } : Jvm.MethodName) prog_12_method_92_code (2 : Nat) (Option.some Jvm.ClassFile.FieldType.int)) ∈ lw_all := lw_g (lw_at lw_m9 137 rfl) rfl
theorem q2146 : (Jvm.Cond.instanceMethod ({ cls := "VowelTorusModel", name := "account", desc := "(I)I" } : Jvm.MethodName)) ∈ lw_all := lw_g (lw_at lw_m9 139 rfl) rfl
theorem q2147 : (Jvm.Cond.selects "VowelTorusModel" ({ cls := "VowelTorusModel", name := "account", desc := "(I)I" } : Jvm.MethodName) ({ cls := "VowelTorusModel", name := "account", desc := "(I)I" } : Jvm.MethodName)) ∈ lw_all := lw_g (lw_at lw_m9 140 rfl) rfl
theorem q2148 : (Jvm.Cond.code ({ cls := "VowelTorusModel", name := "account", desc := "(I)I" } : Jvm.MethodName) prog_12_method_93_code (2 : Nat) (Option.some Jvm.ClassFile.FieldType.int)) ∈ lw_all := lw_g (lw_at lw_m9 141 rfl) rfl
theorem q2150 : (Jvm.Cond.instanceMethod ({ cls := "VowelTorusModel", name := "isWell", desc := "()Z" } : Jvm.MethodName)) ∈ lw_all := lw_g (lw_at lw_m9 143 rfl) rfl
theorem q2151 : (Jvm.Cond.selects "VowelTorusModel" ({ cls := "VowelTorusModel", name := "isWell", desc := "()Z" } : Jvm.MethodName) ({ cls := "VowelTorusModel", name := "isWell", desc := "()Z" } : Jvm.MethodName)) ∈ lw_all := lw_g (lw_at lw_m9 144 rfl) rfl
theorem q2152 : (Jvm.Cond.code ({ cls := "VowelTorusModel", name := "isWell", desc := "()Z" } : Jvm.MethodName) prog_12_method_94_code (1 : Nat) (Option.some Jvm.ClassFile.FieldType.boolean)) ∈ lw_all := lw_g (lw_at lw_m9 145 rfl) rfl
theorem q2154 : (Jvm.Cond.instanceMethod ({ cls := "VowelTorusModel", name := "meanFar", desc := "()D" } : Jvm.MethodName)) ∈ lw_all := lw_g (lw_at lw_m9 147 rfl) rfl
theorem q2155 : (Jvm.Cond.selects "VowelTorusModel" ({ cls := "VowelTorusModel", name := "meanFar", desc := "()D" } : Jvm.MethodName) ({ cls := "VowelTorusModel", name := "meanFar", desc := "()D" } : Jvm.MethodName)) ∈ lw_all := lw_g (lw_at lw_m9 148 rfl) rfl
theorem q2156 : (Jvm.Cond.code ({ cls := "VowelTorusModel", name := "meanFar", desc := "()D" } : Jvm.MethodName) prog_12_method_96_code (5 : Nat) (Option.some Jvm.ClassFile.FieldType.double)) ∈ lw_all := lw_g (lw_at lw_m9 149 rfl) rfl
theorem q2157 : (Jvm.Cond.methodLink "VowelTorusModel" (260 : Nat) ({ cls := "VowelTorusModel", name := "farFromHome", desc := "(I)I" } : Jvm.MethodName)) ∈ lw_all := lw_g (lw_at lw_m9 150 rfl) rfl
theorem q2158 : (Jvm.Cond.privateMethod ({ cls := "VowelTorusModel", name := "farFromHome", desc := "(I)I" } : Jvm.MethodName)) ∈ lw_tbl := lw_at lw_m9 151 rfl
theorem q2159 : (Jvm.Cond.instanceMethod ({ cls := "VowelTorusModel", name := "farFromHome", desc := "(I)I" } : Jvm.MethodName)) ∈ lw_all := lw_g (lw_at lw_m9 152 rfl) rfl
theorem q2160 : (Jvm.Cond.code ({ cls := "VowelTorusModel", name := "farFromHome", desc := "(I)I" } : Jvm.MethodName) prog_12_method_95_code (5 : Nat) (Option.some Jvm.ClassFile.FieldType.int)) ∈ lw_all := lw_g (lw_at lw_m9 153 rfl) rfl
theorem q2162 : (Jvm.Cond.instanceMethod ({ cls := "VowelTorusModel", name := "homeShare", desc := "()F" } : Jvm.MethodName)) ∈ lw_all := lw_g (lw_at lw_m9 155 rfl) rfl
theorem q2163 : (Jvm.Cond.selects "VowelTorusModel" ({ cls := "VowelTorusModel", name := "homeShare", desc := "()F" } : Jvm.MethodName) ({ cls := "VowelTorusModel", name := "homeShare", desc := "()F" } : Jvm.MethodName)) ∈ lw_all := lw_g (lw_at lw_m9 156 rfl) rfl
theorem q2164 : (Jvm.Cond.code ({ cls := "VowelTorusModel", name := "homeShare", desc := "()F" } : Jvm.MethodName) prog_12_method_97_code (1 : Nat) (Option.some Jvm.ClassFile.FieldType.float)) ∈ lw_all := lw_g (lw_at lw_m9 157 rfl) rfl
theorem q2166 : (Jvm.Cond.instanceMethod ({ cls := "VowelTorusModel", name := "undo", desc := "()I" } : Jvm.MethodName)) ∈ lw_all := lw_g (lw_at lw_m9 159 rfl) rfl
theorem q2167 : (Jvm.Cond.selects "VowelTorusModel" ({ cls := "VowelTorusModel", name := "undo", desc := "()I" } : Jvm.MethodName) ({ cls := "VowelTorusModel", name := "undo", desc := "()I" } : Jvm.MethodName)) ∈ lw_all := lw_g (lw_at lw_m9 160 rfl) rfl
theorem q2168 : (Jvm.Cond.code ({ cls := "VowelTorusModel", name := "undo", desc := "()I" } : Jvm.MethodName) prog_12_method_98_code (1 : Nat) (Option.some Jvm.ClassFile.FieldType.int)) ∈ lw_all := lw_g (lw_at lw_m9 161 rfl) rfl
theorem q2170 : (Jvm.Cond.instanceMethod ({ cls := "VowelTorusModel", name := "save", desc := "()I" } : Jvm.MethodName)) ∈ lw_all := lw_g (lw_at lw_m9 163 rfl) rfl
theorem q2171 : (Jvm.Cond.selects "VowelTorusModel" ({ cls := "VowelTorusModel", name := "save", desc := "()I" } : Jvm.MethodName) ({ cls := "VowelTorusModel", name := "save", desc := "()I" } : Jvm.MethodName)) ∈ lw_all := lw_g (lw_at lw_m9 164 rfl) rfl
theorem q2172 : (Jvm.Cond.code ({ cls := "VowelTorusModel", name := "save", desc := "()I" } : Jvm.MethodName) prog_12_method_99_code (1 : Nat) (Option.some Jvm.ClassFile.FieldType.int)) ∈ lw_all := lw_g (lw_at lw_m9 165 rfl) rfl
theorem q2174 : (Jvm.Cond.instanceMethod ({ cls := "VowelTorusModel", name := "restore", desc := "()I" } : Jvm.MethodName)) ∈ lw_all := lw_g (lw_at lw_m9 167 rfl) rfl
theorem q2175 : (Jvm.Cond.selects "VowelTorusModel" ({ cls := "VowelTorusModel", name := "restore", desc := "()I" } : Jvm.MethodName) ({ cls := "VowelTorusModel", name := "restore", desc := "()I" } : Jvm.MethodName)) ∈ lw_all := lw_g (lw_at lw_m9 168 rfl) rfl
theorem q2176 : (Jvm.Cond.code ({ cls := "VowelTorusModel", name := "restore", desc := "()I" } : Jvm.MethodName) prog_12_method_100_code (1 : Nat) (Option.some Jvm.ClassFile.FieldType.int)) ∈ lw_all := lw_g (lw_at lw_m9 169 rfl) rfl
theorem q2202 : (Jvm.Cond.castable "VowelTorusModel" "java/lang/Object") ∈ lw_tbl := lw_at lw_m9 195 rfl
theorem in_X5 : ∀ w ∈ wsX50, w ∈ lw_all := lw_in wsX50 [1748, 1750, 1752, 1754, 1756, 1758, 1760, 1762, 1764, 1766, 1768, 1770, 1772, 1774, 1776, 1778, 1780, 1782, 1784, 1786, 1788] (by decide +kernel) (by decide +kernel)
