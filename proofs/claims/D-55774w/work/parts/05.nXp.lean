/-! VowelTorus$Puzzle -/
set_option maxRecDepth 100000
def RX2 : String := "VowelTorus$Puzzle"
def TX2 : u_T := fun k => match k with
  | 0 => ("VowelTorus$Puzzle", "rows", "I", false)
  | 1 => ("VowelTorus$Puzzle", "columns", "I", false)
  | 2 => ("VowelTorus$Puzzle", "letters", "[C", false)
  | 3 => ("VowelTorus$Puzzle", "goal", "[C", false)
  | 4 => ("VowelTorus$Puzzle", "bars", "[Z", false)
  | 5 => ("VowelTorus$Puzzle", "turned", "I", false)
  | 6 => ("VowelTorus$Puzzle", "swapped", "I", false)
  | 7 => ("VowelTorus$Puzzle", "scrambled", "I", false)
  | 8 => ("VowelTorus$Puzzle", "stepped", "I", false)
  | 9 => ("VowelTorus$Puzzle", "boards", "I", false)
  | 10 => ("VowelTorus$Puzzle", "reached", "I", false)
  | 11 => ("VowelTorus$Puzzle", "ahead", "[C", true)
  | 12 => ("VowelTorus$Puzzle", "turnsTo", "[I", true)
  | _ => ("VowelTorus$Puzzle", "aheadMany", "I", false)
def tyX2 : Nat → FieldType := fun k => match k with
  | 0 => .int
  | 1 => .int
  | 2 => .array .char
  | 3 => .array .char
  | 4 => .array .boolean
  | 5 => .int
  | 6 => .int
  | 7 => .int
  | 8 => .int
  | 9 => .int
  | 10 => .int
  | 11 => .array .char
  | 12 => .array .int
  | _ => .int
abbrev wsX20 : List Cond := u_ws RX2 TX2 14
set_option maxRecDepth 100000 in
theorem nmX2 : ∀ a, a < 14 → ∀ b, b < 14 → a ≠ b → (TX2 a).2.1 ≠ (TX2 b).2.1 := by decide +kernel
set_option maxRecDepth 100000 in
theorem tyX2_ok : ∀ k, k < 14 → parseFieldDescriptor (TX2 k).2.2.1 = some (tyX2 k) := by decide +kernel
abbrev cX2_init : ByteArray := prog_5_method_1_code
def yX2_init : MethodName := ⟨RX2, "<init>", "()V"⟩
def dkwX2_init_2 : List UInt8 := [6, 6, 182, 0, 29, 177]
abbrev dktX2_init_2 : List UInt8 := dkwX2_init_2 ++ []
def dkwX2_init_1 : List UInt8 := [188, 4, 181, 0, 18, 42, 17, 5, 133, 188, 5, 181, 0, 22, 42, 17, 0, 157, 188, 10, 181, 0, 25, 42]
abbrev dktX2_init_1 : List UInt8 := dkwX2_init_1 ++ dktX2_init_2
def dkwX2_init_0 : List UInt8 := [42, 183, 0, 3, 42, 16, 9, 188, 5, 181, 0, 9, 42, 16, 9, 188, 5, 181, 0, 15, 42, 16, 6]
abbrev dktX2_init_0 : List UInt8 := dkwX2_init_0 ++ dktX2_init_1
theorem dksX2_init_0 : cX2_init.data.toList.drop 0 = dktX2_init_0 := by decide +kernel
theorem dksX2_init_1 : cX2_init.data.toList.drop 23 = dktX2_init_1 := dk_seg dksX2_init_0 23 rfl rfl
theorem dksX2_init_2 : cX2_init.data.toList.drop 47 = dktX2_init_2 := dk_seg dksX2_init_1 24 rfl rfl
theorem dX2_init_0 : decode cX2_init 0 = .ok (.aload_n 0, 1) := dk_42 (dk_at dksX2_init_0 0 rfl rfl)
theorem dX2_init_1 : decode cX2_init 1 = .ok (.invokespecial 3, 3) := dk_183 0 3 (dk_at dksX2_init_0 1 rfl rfl)
theorem dX2_init_4 : decode cX2_init 4 = .ok (.aload_n 0, 1) := dk_42 (dk_at dksX2_init_0 4 rfl rfl)
theorem dX2_init_5 : decode cX2_init 5 = .ok (.bipush 9, 2) := dk_16 9 (dk_at dksX2_init_0 5 rfl rfl)
theorem dX2_init_7 : decode cX2_init 7 = .ok (.newarray .char, 2) := dk_188_5 (dk_at dksX2_init_0 7 rfl rfl)
theorem dX2_init_9 : decode cX2_init 9 = .ok (.putfield 9, 3) := dk_181 0 9 (dk_at dksX2_init_0 9 rfl rfl)
theorem dX2_init_12 : decode cX2_init 12 = .ok (.aload_n 0, 1) := dk_42 (dk_at dksX2_init_0 12 rfl rfl)
theorem dX2_init_13 : decode cX2_init 13 = .ok (.bipush 9, 2) := dk_16 9 (dk_at dksX2_init_0 13 rfl rfl)
theorem dX2_init_15 : decode cX2_init 15 = .ok (.newarray .char, 2) := dk_188_5 (dk_at dksX2_init_0 15 rfl rfl)
theorem dX2_init_17 : decode cX2_init 17 = .ok (.putfield 15, 3) := dk_181 0 15 (dk_at dksX2_init_0 17 rfl rfl)
theorem dX2_init_20 : decode cX2_init 20 = .ok (.aload_n 0, 1) := dk_42 (dk_at dksX2_init_0 20 rfl rfl)
theorem dX2_init_21 : decode cX2_init 21 = .ok (.bipush 6, 2) := dk_16 6 (dk_at dksX2_init_0 21 rfl rfl)
theorem dX2_init_23 : decode cX2_init 23 = .ok (.newarray .boolean, 2) := dk_188_4 (dk_at dksX2_init_1 0 rfl rfl)
theorem dX2_init_25 : decode cX2_init 25 = .ok (.putfield 18, 3) := dk_181 0 18 (dk_at dksX2_init_1 2 rfl rfl)
theorem dX2_init_28 : decode cX2_init 28 = .ok (.aload_n 0, 1) := dk_42 (dk_at dksX2_init_1 5 rfl rfl)
theorem dX2_init_29 : decode cX2_init 29 = .ok (.sipush 1413, 3) := dk_17 5 133 (dk_at dksX2_init_1 6 rfl rfl)
theorem dX2_init_32 : decode cX2_init 32 = .ok (.newarray .char, 2) := dk_188_5 (dk_at dksX2_init_1 9 rfl rfl)
theorem dX2_init_34 : decode cX2_init 34 = .ok (.putfield 22, 3) := dk_181 0 22 (dk_at dksX2_init_1 11 rfl rfl)
theorem dX2_init_37 : decode cX2_init 37 = .ok (.aload_n 0, 1) := dk_42 (dk_at dksX2_init_1 14 rfl rfl)
theorem dX2_init_38 : decode cX2_init 38 = .ok (.sipush 157, 3) := dk_17 0 157 (dk_at dksX2_init_1 15 rfl rfl)
theorem dX2_init_41 : decode cX2_init 41 = .ok (.newarray .int, 2) := dk_188_10 (dk_at dksX2_init_1 18 rfl rfl)
theorem dX2_init_43 : decode cX2_init 43 = .ok (.putfield 25, 3) := dk_181 0 25 (dk_at dksX2_init_1 20 rfl rfl)
theorem dX2_init_46 : decode cX2_init 46 = .ok (.aload_n 0, 1) := dk_42 (dk_at dksX2_init_1 23 rfl rfl)
theorem dX2_init_47 : decode cX2_init 47 = .ok (.iconst 3, 1) := dk_6 (dk_at dksX2_init_2 0 rfl rfl)
theorem dX2_init_48 : decode cX2_init 48 = .ok (.iconst 3, 1) := dk_6 (dk_at dksX2_init_2 1 rfl rfl)
theorem dX2_init_49 : decode cX2_init 49 = .ok (.invokevirtual 29, 3) := dk_182 0 29 (dk_at dksX2_init_2 2 rfl rfl)
theorem dX2_init_52 : decode cX2_init 52 = .ok (.return_, 1) := dk_177 (dk_at dksX2_init_2 5 rfl rfl)
abbrev cX2_makes : ByteArray := prog_5_method_3_code
def yX2_makes : MethodName := ⟨RX2, "makes", "(II)V"⟩
def dkwX2_makes_2 : List UInt8 := [3, 62, 29, 16, 6, 162, 0, 16, 42, 180, 0, 18, 29, 3, 84, 132, 3, 1, 167, 255, 240, 177]
abbrev dktX2_makes_2 : List UInt8 := dkwX2_makes_2 ++ []
def dkwX2_makes_1 : List UInt8 := [16, 97, 29, 96, 146, 85, 42, 180, 0, 15, 29, 42, 180, 0, 9, 29, 52, 85, 132, 3, 1, 167, 255, 224]
abbrev dktX2_makes_1 : List UInt8 := dkwX2_makes_1 ++ dktX2_makes_2
def dkwX2_makes_0 : List UInt8 := [42, 27, 181, 0, 33, 42, 28, 181, 0, 37, 3, 62, 29, 16, 9, 162, 0, 32, 42, 180, 0, 9, 29]
abbrev dktX2_makes_0 : List UInt8 := dkwX2_makes_0 ++ dktX2_makes_1
theorem dksX2_makes_0 : cX2_makes.data.toList.drop 0 = dktX2_makes_0 := by decide +kernel
theorem dksX2_makes_1 : cX2_makes.data.toList.drop 23 = dktX2_makes_1 := dk_seg dksX2_makes_0 23 rfl rfl
theorem dksX2_makes_2 : cX2_makes.data.toList.drop 47 = dktX2_makes_2 := dk_seg dksX2_makes_1 24 rfl rfl
theorem dX2_makes_0 : decode cX2_makes 0 = .ok (.aload_n 0, 1) := dk_42 (dk_at dksX2_makes_0 0 rfl rfl)
theorem dX2_makes_1 : decode cX2_makes 1 = .ok (.iload_n 1, 1) := dk_27 (dk_at dksX2_makes_0 1 rfl rfl)
theorem dX2_makes_2 : decode cX2_makes 2 = .ok (.putfield 33, 3) := dk_181 0 33 (dk_at dksX2_makes_0 2 rfl rfl)
theorem dX2_makes_5 : decode cX2_makes 5 = .ok (.aload_n 0, 1) := dk_42 (dk_at dksX2_makes_0 5 rfl rfl)
theorem dX2_makes_6 : decode cX2_makes 6 = .ok (.iload_n 2, 1) := dk_28 (dk_at dksX2_makes_0 6 rfl rfl)
theorem dX2_makes_7 : decode cX2_makes 7 = .ok (.putfield 37, 3) := dk_181 0 37 (dk_at dksX2_makes_0 7 rfl rfl)
theorem dX2_makes_10 : decode cX2_makes 10 = .ok (.iconst 0, 1) := dk_3 (dk_at dksX2_makes_0 10 rfl rfl)
theorem dX2_makes_11 : decode cX2_makes 11 = .ok (.istore_n 3, 1) := dk_62 (dk_at dksX2_makes_0 11 rfl rfl)
theorem dX2_makes_12 : decode cX2_makes 12 = .ok (.iload_n 3, 1) := dk_29 (dk_at dksX2_makes_0 12 rfl rfl)
theorem dX2_makes_13 : decode cX2_makes 13 = .ok (.bipush 9, 2) := dk_16 9 (dk_at dksX2_makes_0 13 rfl rfl)
theorem dX2_makes_15 : decode cX2_makes 15 = .ok (.if_icmp .ge 32, 3) := dk_162 0 32 (dk_at dksX2_makes_0 15 rfl rfl)
theorem dX2_makes_18 : decode cX2_makes 18 = .ok (.aload_n 0, 1) := dk_42 (dk_at dksX2_makes_0 18 rfl rfl)
theorem dX2_makes_19 : decode cX2_makes 19 = .ok (.getfield 9, 3) := dk_180 0 9 (dk_at dksX2_makes_0 19 rfl rfl)
theorem dX2_makes_22 : decode cX2_makes 22 = .ok (.iload_n 3, 1) := dk_29 (dk_at dksX2_makes_0 22 rfl rfl)
theorem dX2_makes_23 : decode cX2_makes 23 = .ok (.bipush 97, 2) := dk_16 97 (dk_at dksX2_makes_1 0 rfl rfl)
theorem dX2_makes_25 : decode cX2_makes 25 = .ok (.iload_n 3, 1) := dk_29 (dk_at dksX2_makes_1 2 rfl rfl)
theorem dX2_makes_26 : decode cX2_makes 26 = .ok (.iadd, 1) := dk_96 (dk_at dksX2_makes_1 3 rfl rfl)
theorem dX2_makes_27 : decode cX2_makes 27 = .ok (.i2c, 1) := dk_146 (dk_at dksX2_makes_1 4 rfl rfl)
theorem dX2_makes_28 : decode cX2_makes 28 = .ok (.castore, 1) := dk_85 (dk_at dksX2_makes_1 5 rfl rfl)
theorem dX2_makes_29 : decode cX2_makes 29 = .ok (.aload_n 0, 1) := dk_42 (dk_at dksX2_makes_1 6 rfl rfl)
theorem dX2_makes_30 : decode cX2_makes 30 = .ok (.getfield 15, 3) := dk_180 0 15 (dk_at dksX2_makes_1 7 rfl rfl)
theorem dX2_makes_33 : decode cX2_makes 33 = .ok (.iload_n 3, 1) := dk_29 (dk_at dksX2_makes_1 10 rfl rfl)
theorem dX2_makes_34 : decode cX2_makes 34 = .ok (.aload_n 0, 1) := dk_42 (dk_at dksX2_makes_1 11 rfl rfl)
theorem dX2_makes_35 : decode cX2_makes 35 = .ok (.getfield 9, 3) := dk_180 0 9 (dk_at dksX2_makes_1 12 rfl rfl)
theorem dX2_makes_38 : decode cX2_makes 38 = .ok (.iload_n 3, 1) := dk_29 (dk_at dksX2_makes_1 15 rfl rfl)
theorem dX2_makes_39 : decode cX2_makes 39 = .ok (.caload, 1) := dk_52 (dk_at dksX2_makes_1 16 rfl rfl)
theorem dX2_makes_40 : decode cX2_makes 40 = .ok (.castore, 1) := dk_85 (dk_at dksX2_makes_1 17 rfl rfl)
theorem dX2_makes_41 : decode cX2_makes 41 = .ok (.iinc 3 1, 3) := dk_132 3 1 (dk_at dksX2_makes_1 18 rfl rfl)
theorem dX2_makes_44 : decode cX2_makes 44 = .ok (.goto (-32), 3) := dk_167 255 224 (dk_at dksX2_makes_1 21 rfl rfl)
theorem dX2_makes_47 : decode cX2_makes 47 = .ok (.iconst 0, 1) := dk_3 (dk_at dksX2_makes_2 0 rfl rfl)
theorem dX2_makes_48 : decode cX2_makes 48 = .ok (.istore_n 3, 1) := dk_62 (dk_at dksX2_makes_2 1 rfl rfl)
theorem dX2_makes_49 : decode cX2_makes 49 = .ok (.iload_n 3, 1) := dk_29 (dk_at dksX2_makes_2 2 rfl rfl)
theorem dX2_makes_50 : decode cX2_makes 50 = .ok (.bipush 6, 2) := dk_16 6 (dk_at dksX2_makes_2 3 rfl rfl)
theorem dX2_makes_52 : decode cX2_makes 52 = .ok (.if_icmp .ge 16, 3) := dk_162 0 16 (dk_at dksX2_makes_2 5 rfl rfl)
theorem dX2_makes_55 : decode cX2_makes 55 = .ok (.aload_n 0, 1) := dk_42 (dk_at dksX2_makes_2 8 rfl rfl)
theorem dX2_makes_56 : decode cX2_makes 56 = .ok (.getfield 18, 3) := dk_180 0 18 (dk_at dksX2_makes_2 9 rfl rfl)
theorem dX2_makes_59 : decode cX2_makes 59 = .ok (.iload_n 3, 1) := dk_29 (dk_at dksX2_makes_2 12 rfl rfl)
theorem dX2_makes_60 : decode cX2_makes 60 = .ok (.iconst 0, 1) := dk_3 (dk_at dksX2_makes_2 13 rfl rfl)
theorem dX2_makes_61 : decode cX2_makes 61 = .ok (.bastore, 1) := dk_84 (dk_at dksX2_makes_2 14 rfl rfl)
theorem dX2_makes_62 : decode cX2_makes 62 = .ok (.iinc 3 1, 3) := dk_132 3 1 (dk_at dksX2_makes_2 15 rfl rfl)
theorem dX2_makes_65 : decode cX2_makes 65 = .ok (.goto (-16), 3) := dk_167 255 240 (dk_at dksX2_makes_2 18 rfl rfl)
theorem dX2_makes_68 : decode cX2_makes 68 = .ok (.return_, 1) := dk_177 (dk_at dksX2_makes_2 21 rfl rfl)
abbrev cX2_isOut : ByteArray := prog_5_method_41_code
def yX2_isOut : MethodName := ⟨RX2, "isOut", "()Z"⟩
def dkwX2_isOut_1 : List UInt8 := [4, 182, 0, 163, 153, 0, 14, 42, 182, 0, 166, 153, 0, 7, 4, 167, 0, 4, 3, 172]
abbrev dktX2_isOut_1 : List UInt8 := dkwX2_isOut_1 ++ []
def dkwX2_isOut_0 : List UInt8 := [42, 182, 0, 157, 154, 0, 34, 42, 180, 0, 33, 6, 160, 0, 30, 42, 180, 0, 37, 6, 160, 0, 22, 42]
abbrev dktX2_isOut_0 : List UInt8 := dkwX2_isOut_0 ++ dktX2_isOut_1
theorem dksX2_isOut_0 : cX2_isOut.data.toList.drop 0 = dktX2_isOut_0 := by decide +kernel
theorem dksX2_isOut_1 : cX2_isOut.data.toList.drop 24 = dktX2_isOut_1 := dk_seg dksX2_isOut_0 24 rfl rfl
theorem dX2_isOut_0 : decode cX2_isOut 0 = .ok (.aload_n 0, 1) := dk_42 (dk_at dksX2_isOut_0 0 rfl rfl)
theorem dX2_isOut_1 : decode cX2_isOut 1 = .ok (.invokevirtual 157, 3) := dk_182 0 157 (dk_at dksX2_isOut_0 1 rfl rfl)
theorem dX2_isOut_4 : decode cX2_isOut 4 = .ok (.ifCond .ne 34, 3) := dk_154 0 34 (dk_at dksX2_isOut_0 4 rfl rfl)
theorem dX2_isOut_7 : decode cX2_isOut 7 = .ok (.aload_n 0, 1) := dk_42 (dk_at dksX2_isOut_0 7 rfl rfl)
theorem dX2_isOut_8 : decode cX2_isOut 8 = .ok (.getfield 33, 3) := dk_180 0 33 (dk_at dksX2_isOut_0 8 rfl rfl)
theorem dX2_isOut_11 : decode cX2_isOut 11 = .ok (.iconst 3, 1) := dk_6 (dk_at dksX2_isOut_0 11 rfl rfl)
theorem dX2_isOut_12 : decode cX2_isOut 12 = .ok (.if_icmp .ne 30, 3) := dk_160 0 30 (dk_at dksX2_isOut_0 12 rfl rfl)
theorem dX2_isOut_15 : decode cX2_isOut 15 = .ok (.aload_n 0, 1) := dk_42 (dk_at dksX2_isOut_0 15 rfl rfl)
theorem dX2_isOut_16 : decode cX2_isOut 16 = .ok (.getfield 37, 3) := dk_180 0 37 (dk_at dksX2_isOut_0 16 rfl rfl)
theorem dX2_isOut_19 : decode cX2_isOut 19 = .ok (.iconst 3, 1) := dk_6 (dk_at dksX2_isOut_0 19 rfl rfl)
theorem dX2_isOut_20 : decode cX2_isOut 20 = .ok (.if_icmp .ne 22, 3) := dk_160 0 22 (dk_at dksX2_isOut_0 20 rfl rfl)
theorem dX2_isOut_23 : decode cX2_isOut 23 = .ok (.aload_n 0, 1) := dk_42 (dk_at dksX2_isOut_0 23 rfl rfl)
theorem dX2_isOut_24 : decode cX2_isOut 24 = .ok (.iconst 1, 1) := dk_4 (dk_at dksX2_isOut_1 0 rfl rfl)
theorem dX2_isOut_25 : decode cX2_isOut 25 = .ok (.invokevirtual 163, 3) := dk_182 0 163 (dk_at dksX2_isOut_1 1 rfl rfl)
theorem dX2_isOut_28 : decode cX2_isOut 28 = .ok (.ifCond .eq 14, 3) := dk_153 0 14 (dk_at dksX2_isOut_1 4 rfl rfl)
theorem dX2_isOut_31 : decode cX2_isOut 31 = .ok (.aload_n 0, 1) := dk_42 (dk_at dksX2_isOut_1 7 rfl rfl)
theorem dX2_isOut_32 : decode cX2_isOut 32 = .ok (.invokevirtual 166, 3) := dk_182 0 166 (dk_at dksX2_isOut_1 8 rfl rfl)
theorem dX2_isOut_35 : decode cX2_isOut 35 = .ok (.ifCond .eq 7, 3) := dk_153 0 7 (dk_at dksX2_isOut_1 11 rfl rfl)
theorem dX2_isOut_38 : decode cX2_isOut 38 = .ok (.iconst 1, 1) := dk_4 (dk_at dksX2_isOut_1 14 rfl rfl)
theorem dX2_isOut_39 : decode cX2_isOut 39 = .ok (.goto 4, 3) := dk_167 0 4 (dk_at dksX2_isOut_1 15 rfl rfl)
theorem dX2_isOut_42 : decode cX2_isOut 42 = .ok (.iconst 0, 1) := dk_3 (dk_at dksX2_isOut_1 18 rfl rfl)
theorem dX2_isOut_43 : decode cX2_isOut 43 = .ok (.ireturn, 1) := dk_172 (dk_at dksX2_isOut_1 19 rfl rfl)
abbrev cX2_isLacking : ByteArray := prog_5_method_35_code
def yX2_isLacking : MethodName := ⟨RX2, "isLacking", "()Z"⟩
def dkwX2_isLacking_2 : List UInt8 := [96, 146, 61, 167, 255, 210, 27, 172]
abbrev dktX2_isLacking_2 : List UInt8 := dkwX2_isLacking_2 ++ []
def dkwX2_isLacking_1 : List UInt8 := [42, 180, 0, 9, 42, 182, 0, 68, 28, 184, 0, 143, 164, 0, 7, 4, 167, 0, 4, 3, 128, 60, 28, 4]
abbrev dktX2_isLacking_1 : List UInt8 := dkwX2_isLacking_1 ++ dktX2_isLacking_2
def dkwX2_isLacking_0 : List UInt8 := [3, 60, 16, 97, 61, 28, 16, 108, 163, 0, 46, 27, 42, 180, 0, 15, 42, 182, 0, 68, 28, 184, 0, 143]
abbrev dktX2_isLacking_0 : List UInt8 := dkwX2_isLacking_0 ++ dktX2_isLacking_1
theorem dksX2_isLacking_0 : cX2_isLacking.data.toList.drop 0 = dktX2_isLacking_0 := by decide +kernel
theorem dksX2_isLacking_1 : cX2_isLacking.data.toList.drop 24 = dktX2_isLacking_1 := dk_seg dksX2_isLacking_0 24 rfl rfl
theorem dksX2_isLacking_2 : cX2_isLacking.data.toList.drop 48 = dktX2_isLacking_2 := dk_seg dksX2_isLacking_1 24 rfl rfl
theorem dX2_isLacking_0 : decode cX2_isLacking 0 = .ok (.iconst 0, 1) := dk_3 (dk_at dksX2_isLacking_0 0 rfl rfl)
theorem dX2_isLacking_1 : decode cX2_isLacking 1 = .ok (.istore_n 1, 1) := dk_60 (dk_at dksX2_isLacking_0 1 rfl rfl)
theorem dX2_isLacking_2 : decode cX2_isLacking 2 = .ok (.bipush 97, 2) := dk_16 97 (dk_at dksX2_isLacking_0 2 rfl rfl)
theorem dX2_isLacking_4 : decode cX2_isLacking 4 = .ok (.istore_n 2, 1) := dk_61 (dk_at dksX2_isLacking_0 4 rfl rfl)
theorem dX2_isLacking_5 : decode cX2_isLacking 5 = .ok (.iload_n 2, 1) := dk_28 (dk_at dksX2_isLacking_0 5 rfl rfl)
theorem dX2_isLacking_6 : decode cX2_isLacking 6 = .ok (.bipush 108, 2) := dk_16 108 (dk_at dksX2_isLacking_0 6 rfl rfl)
theorem dX2_isLacking_8 : decode cX2_isLacking 8 = .ok (.if_icmp .gt 46, 3) := dk_163 0 46 (dk_at dksX2_isLacking_0 8 rfl rfl)
theorem dX2_isLacking_11 : decode cX2_isLacking 11 = .ok (.iload_n 1, 1) := dk_27 (dk_at dksX2_isLacking_0 11 rfl rfl)
theorem dX2_isLacking_12 : decode cX2_isLacking 12 = .ok (.aload_n 0, 1) := dk_42 (dk_at dksX2_isLacking_0 12 rfl rfl)
theorem dX2_isLacking_13 : decode cX2_isLacking 13 = .ok (.getfield 15, 3) := dk_180 0 15 (dk_at dksX2_isLacking_0 13 rfl rfl)
theorem dX2_isLacking_16 : decode cX2_isLacking 16 = .ok (.aload_n 0, 1) := dk_42 (dk_at dksX2_isLacking_0 16 rfl rfl)
theorem dX2_isLacking_17 : decode cX2_isLacking 17 = .ok (.invokevirtual 68, 3) := dk_182 0 68 (dk_at dksX2_isLacking_0 17 rfl rfl)
theorem dX2_isLacking_20 : decode cX2_isLacking 20 = .ok (.iload_n 2, 1) := dk_28 (dk_at dksX2_isLacking_0 20 rfl rfl)
theorem dX2_isLacking_21 : decode cX2_isLacking 21 = .ok (.invokestatic 143, 3) := dk_184 0 143 (dk_at dksX2_isLacking_0 21 rfl rfl)
theorem dX2_isLacking_24 : decode cX2_isLacking 24 = .ok (.aload_n 0, 1) := dk_42 (dk_at dksX2_isLacking_1 0 rfl rfl)
theorem dX2_isLacking_25 : decode cX2_isLacking 25 = .ok (.getfield 9, 3) := dk_180 0 9 (dk_at dksX2_isLacking_1 1 rfl rfl)
theorem dX2_isLacking_28 : decode cX2_isLacking 28 = .ok (.aload_n 0, 1) := dk_42 (dk_at dksX2_isLacking_1 4 rfl rfl)
theorem dX2_isLacking_29 : decode cX2_isLacking 29 = .ok (.invokevirtual 68, 3) := dk_182 0 68 (dk_at dksX2_isLacking_1 5 rfl rfl)
theorem dX2_isLacking_32 : decode cX2_isLacking 32 = .ok (.iload_n 2, 1) := dk_28 (dk_at dksX2_isLacking_1 8 rfl rfl)
theorem dX2_isLacking_33 : decode cX2_isLacking 33 = .ok (.invokestatic 143, 3) := dk_184 0 143 (dk_at dksX2_isLacking_1 9 rfl rfl)
theorem dX2_isLacking_36 : decode cX2_isLacking 36 = .ok (.if_icmp .le 7, 3) := dk_164 0 7 (dk_at dksX2_isLacking_1 12 rfl rfl)
theorem dX2_isLacking_39 : decode cX2_isLacking 39 = .ok (.iconst 1, 1) := dk_4 (dk_at dksX2_isLacking_1 15 rfl rfl)
theorem dX2_isLacking_40 : decode cX2_isLacking 40 = .ok (.goto 4, 3) := dk_167 0 4 (dk_at dksX2_isLacking_1 16 rfl rfl)
theorem dX2_isLacking_43 : decode cX2_isLacking 43 = .ok (.iconst 0, 1) := dk_3 (dk_at dksX2_isLacking_1 19 rfl rfl)
theorem dX2_isLacking_44 : decode cX2_isLacking 44 = .ok (.ior, 1) := dk_128 (dk_at dksX2_isLacking_1 20 rfl rfl)
theorem dX2_isLacking_45 : decode cX2_isLacking 45 = .ok (.istore_n 1, 1) := dk_60 (dk_at dksX2_isLacking_1 21 rfl rfl)
theorem dX2_isLacking_46 : decode cX2_isLacking 46 = .ok (.iload_n 2, 1) := dk_28 (dk_at dksX2_isLacking_1 22 rfl rfl)
theorem dX2_isLacking_47 : decode cX2_isLacking 47 = .ok (.iconst 1, 1) := dk_4 (dk_at dksX2_isLacking_1 23 rfl rfl)
theorem dX2_isLacking_48 : decode cX2_isLacking 48 = .ok (.iadd, 1) := dk_96 (dk_at dksX2_isLacking_2 0 rfl rfl)
theorem dX2_isLacking_49 : decode cX2_isLacking 49 = .ok (.i2c, 1) := dk_146 (dk_at dksX2_isLacking_2 1 rfl rfl)
theorem dX2_isLacking_50 : decode cX2_isLacking 50 = .ok (.istore_n 2, 1) := dk_61 (dk_at dksX2_isLacking_2 2 rfl rfl)
theorem dX2_isLacking_51 : decode cX2_isLacking 51 = .ok (.goto (-46), 3) := dk_167 255 210 (dk_at dksX2_isLacking_2 3 rfl rfl)
theorem dX2_isLacking_54 : decode cX2_isLacking 54 = .ok (.iload_n 1, 1) := dk_27 (dk_at dksX2_isLacking_2 6 rfl rfl)
theorem dX2_isLacking_55 : decode cX2_isLacking 55 = .ok (.ireturn, 1) := dk_172 (dk_at dksX2_isLacking_2 7 rfl rfl)
abbrev cX2_places : ByteArray := prog_5_method_4_code
def yX2_places : MethodName := ⟨RX2, "places", "()I"⟩
def dkwX2_places_0 : List UInt8 := [42, 180, 0, 33, 42, 180, 0, 37, 104, 172]
abbrev dktX2_places_0 : List UInt8 := dkwX2_places_0 ++ []
theorem dksX2_places_0 : cX2_places.data.toList.drop 0 = dktX2_places_0 := by decide +kernel
theorem dX2_places_0 : decode cX2_places 0 = .ok (.aload_n 0, 1) := dk_42 (dk_at dksX2_places_0 0 rfl rfl)
theorem dX2_places_1 : decode cX2_places 1 = .ok (.getfield 33, 3) := dk_180 0 33 (dk_at dksX2_places_0 1 rfl rfl)
theorem dX2_places_4 : decode cX2_places 4 = .ok (.aload_n 0, 1) := dk_42 (dk_at dksX2_places_0 4 rfl rfl)
theorem dX2_places_5 : decode cX2_places 5 = .ok (.getfield 37, 3) := dk_180 0 37 (dk_at dksX2_places_0 5 rfl rfl)
theorem dX2_places_8 : decode cX2_places 8 = .ok (.imul, 1) := dk_104 (dk_at dksX2_places_0 8 rfl rfl)
theorem dX2_places_9 : decode cX2_places 9 = .ok (.ireturn, 1) := dk_172 (dk_at dksX2_places_0 9 rfl rfl)
abbrev cX2_count : ByteArray := prog_5_method_32_code
def yX2_count : MethodName := ⟨RX2, "count", "([CIC)I"⟩
def dkwX2_count_1 : List UInt8 := [3, 96, 62, 132, 4, 1, 167, 255, 231, 29, 172]
abbrev dktX2_count_1 : List UInt8 := dkwX2_count_1 ++ []
def dkwX2_count_0 : List UInt8 := [3, 62, 3, 54, 4, 21, 4, 27, 162, 0, 25, 29, 42, 21, 4, 52, 28, 160, 0, 7, 4, 167, 0, 4]
abbrev dktX2_count_0 : List UInt8 := dkwX2_count_0 ++ dktX2_count_1
theorem dksX2_count_0 : cX2_count.data.toList.drop 0 = dktX2_count_0 := by decide +kernel
theorem dksX2_count_1 : cX2_count.data.toList.drop 24 = dktX2_count_1 := dk_seg dksX2_count_0 24 rfl rfl
theorem dX2_count_0 : decode cX2_count 0 = .ok (.iconst 0, 1) := dk_3 (dk_at dksX2_count_0 0 rfl rfl)
theorem dX2_count_1 : decode cX2_count 1 = .ok (.istore_n 3, 1) := dk_62 (dk_at dksX2_count_0 1 rfl rfl)
theorem dX2_count_2 : decode cX2_count 2 = .ok (.iconst 0, 1) := dk_3 (dk_at dksX2_count_0 2 rfl rfl)
theorem dX2_count_3 : decode cX2_count 3 = .ok (.istore 4, 2) := dk_54 4 (dk_at dksX2_count_0 3 rfl rfl)
theorem dX2_count_5 : decode cX2_count 5 = .ok (.iload 4, 2) := dk_21 4 (dk_at dksX2_count_0 5 rfl rfl)
theorem dX2_count_7 : decode cX2_count 7 = .ok (.iload_n 1, 1) := dk_27 (dk_at dksX2_count_0 7 rfl rfl)
theorem dX2_count_8 : decode cX2_count 8 = .ok (.if_icmp .ge 25, 3) := dk_162 0 25 (dk_at dksX2_count_0 8 rfl rfl)
theorem dX2_count_11 : decode cX2_count 11 = .ok (.iload_n 3, 1) := dk_29 (dk_at dksX2_count_0 11 rfl rfl)
theorem dX2_count_12 : decode cX2_count 12 = .ok (.aload_n 0, 1) := dk_42 (dk_at dksX2_count_0 12 rfl rfl)
theorem dX2_count_13 : decode cX2_count 13 = .ok (.iload 4, 2) := dk_21 4 (dk_at dksX2_count_0 13 rfl rfl)
theorem dX2_count_15 : decode cX2_count 15 = .ok (.caload, 1) := dk_52 (dk_at dksX2_count_0 15 rfl rfl)
theorem dX2_count_16 : decode cX2_count 16 = .ok (.iload_n 2, 1) := dk_28 (dk_at dksX2_count_0 16 rfl rfl)
theorem dX2_count_17 : decode cX2_count 17 = .ok (.if_icmp .ne 7, 3) := dk_160 0 7 (dk_at dksX2_count_0 17 rfl rfl)
theorem dX2_count_20 : decode cX2_count 20 = .ok (.iconst 1, 1) := dk_4 (dk_at dksX2_count_0 20 rfl rfl)
theorem dX2_count_21 : decode cX2_count 21 = .ok (.goto 4, 3) := dk_167 0 4 (dk_at dksX2_count_0 21 rfl rfl)
theorem dX2_count_24 : decode cX2_count 24 = .ok (.iconst 0, 1) := dk_3 (dk_at dksX2_count_1 0 rfl rfl)
theorem dX2_count_25 : decode cX2_count 25 = .ok (.iadd, 1) := dk_96 (dk_at dksX2_count_1 1 rfl rfl)
theorem dX2_count_26 : decode cX2_count 26 = .ok (.istore_n 3, 1) := dk_62 (dk_at dksX2_count_1 2 rfl rfl)
theorem dX2_count_27 : decode cX2_count 27 = .ok (.iinc 4 1, 3) := dk_132 4 1 (dk_at dksX2_count_1 3 rfl rfl)
theorem dX2_count_30 : decode cX2_count 30 = .ok (.goto (-25), 3) := dk_167 255 231 (dk_at dksX2_count_1 6 rfl rfl)
theorem dX2_count_33 : decode cX2_count 33 = .ok (.iload_n 3, 1) := dk_29 (dk_at dksX2_count_1 9 rfl rfl)
theorem dX2_count_34 : decode cX2_count 34 = .ok (.ireturn, 1) := dk_172 (dk_at dksX2_count_1 10 rfl rfl)
abbrev cX2_hasParity : ByteArray := prog_5_method_38_code
def yX2_hasParity : MethodName := ⟨RX2, "hasParity", "(I)Z"⟩
def dkwX2_hasParity_1 : List UInt8 := [154, 0, 7, 4, 167, 0, 4, 3, 172]
abbrev dktX2_hasParity_1 : List UInt8 := dkwX2_hasParity_1 ++ []
def dkwX2_hasParity_0 : List UInt8 := [42, 182, 0, 151, 42, 182, 0, 68, 160, 0, 22, 42, 182, 0, 154, 27, 163, 0, 14, 42, 182, 0, 157]
abbrev dktX2_hasParity_0 : List UInt8 := dkwX2_hasParity_0 ++ dktX2_hasParity_1
theorem dksX2_hasParity_0 : cX2_hasParity.data.toList.drop 0 = dktX2_hasParity_0 := by decide +kernel
theorem dksX2_hasParity_1 : cX2_hasParity.data.toList.drop 23 = dktX2_hasParity_1 := dk_seg dksX2_hasParity_0 23 rfl rfl
theorem dX2_hasParity_0 : decode cX2_hasParity 0 = .ok (.aload_n 0, 1) := dk_42 (dk_at dksX2_hasParity_0 0 rfl rfl)
theorem dX2_hasParity_1 : decode cX2_hasParity 1 = .ok (.invokevirtual 151, 3) := dk_182 0 151 (dk_at dksX2_hasParity_0 1 rfl rfl)
theorem dX2_hasParity_4 : decode cX2_hasParity 4 = .ok (.aload_n 0, 1) := dk_42 (dk_at dksX2_hasParity_0 4 rfl rfl)
theorem dX2_hasParity_5 : decode cX2_hasParity 5 = .ok (.invokevirtual 68, 3) := dk_182 0 68 (dk_at dksX2_hasParity_0 5 rfl rfl)
theorem dX2_hasParity_8 : decode cX2_hasParity 8 = .ok (.if_icmp .ne 22, 3) := dk_160 0 22 (dk_at dksX2_hasParity_0 8 rfl rfl)
theorem dX2_hasParity_11 : decode cX2_hasParity 11 = .ok (.aload_n 0, 1) := dk_42 (dk_at dksX2_hasParity_0 11 rfl rfl)
theorem dX2_hasParity_12 : decode cX2_hasParity 12 = .ok (.invokevirtual 154, 3) := dk_182 0 154 (dk_at dksX2_hasParity_0 12 rfl rfl)
theorem dX2_hasParity_15 : decode cX2_hasParity 15 = .ok (.iload_n 1, 1) := dk_27 (dk_at dksX2_hasParity_0 15 rfl rfl)
theorem dX2_hasParity_16 : decode cX2_hasParity 16 = .ok (.if_icmp .gt 14, 3) := dk_163 0 14 (dk_at dksX2_hasParity_0 16 rfl rfl)
theorem dX2_hasParity_19 : decode cX2_hasParity 19 = .ok (.aload_n 0, 1) := dk_42 (dk_at dksX2_hasParity_0 19 rfl rfl)
theorem dX2_hasParity_20 : decode cX2_hasParity 20 = .ok (.invokevirtual 157, 3) := dk_182 0 157 (dk_at dksX2_hasParity_0 20 rfl rfl)
theorem dX2_hasParity_23 : decode cX2_hasParity 23 = .ok (.ifCond .ne 7, 3) := dk_154 0 7 (dk_at dksX2_hasParity_1 0 rfl rfl)
theorem dX2_hasParity_26 : decode cX2_hasParity 26 = .ok (.iconst 1, 1) := dk_4 (dk_at dksX2_hasParity_1 3 rfl rfl)
theorem dX2_hasParity_27 : decode cX2_hasParity 27 = .ok (.goto 4, 3) := dk_167 0 4 (dk_at dksX2_hasParity_1 4 rfl rfl)
theorem dX2_hasParity_30 : decode cX2_hasParity 30 = .ok (.iconst 0, 1) := dk_3 (dk_at dksX2_hasParity_1 7 rfl rfl)
theorem dX2_hasParity_31 : decode cX2_hasParity 31 = .ok (.ireturn, 1) := dk_172 (dk_at dksX2_hasParity_1 8 rfl rfl)
abbrev cX2_unlike : ByteArray := prog_5_method_33_code
def yX2_unlike : MethodName := ⟨RX2, "unlike", "()I"⟩
def dkwX2_unlike_1 : List UInt8 := [158, 0, 7, 4, 167, 0, 4, 3, 96, 60, 28, 4, 96, 146, 61, 167, 255, 222, 27, 172]
abbrev dktX2_unlike_1 : List UInt8 := dkwX2_unlike_1 ++ []
def dkwX2_unlike_0 : List UInt8 := [3, 60, 16, 97, 61, 28, 16, 108, 163, 0, 34, 27, 42, 180, 0, 9, 42, 182, 0, 68, 28, 184, 0, 143]
abbrev dktX2_unlike_0 : List UInt8 := dkwX2_unlike_0 ++ dktX2_unlike_1
theorem dksX2_unlike_0 : cX2_unlike.data.toList.drop 0 = dktX2_unlike_0 := by decide +kernel
theorem dksX2_unlike_1 : cX2_unlike.data.toList.drop 24 = dktX2_unlike_1 := dk_seg dksX2_unlike_0 24 rfl rfl
theorem dX2_unlike_0 : decode cX2_unlike 0 = .ok (.iconst 0, 1) := dk_3 (dk_at dksX2_unlike_0 0 rfl rfl)
theorem dX2_unlike_1 : decode cX2_unlike 1 = .ok (.istore_n 1, 1) := dk_60 (dk_at dksX2_unlike_0 1 rfl rfl)
theorem dX2_unlike_2 : decode cX2_unlike 2 = .ok (.bipush 97, 2) := dk_16 97 (dk_at dksX2_unlike_0 2 rfl rfl)
theorem dX2_unlike_4 : decode cX2_unlike 4 = .ok (.istore_n 2, 1) := dk_61 (dk_at dksX2_unlike_0 4 rfl rfl)
theorem dX2_unlike_5 : decode cX2_unlike 5 = .ok (.iload_n 2, 1) := dk_28 (dk_at dksX2_unlike_0 5 rfl rfl)
theorem dX2_unlike_6 : decode cX2_unlike 6 = .ok (.bipush 108, 2) := dk_16 108 (dk_at dksX2_unlike_0 6 rfl rfl)
theorem dX2_unlike_8 : decode cX2_unlike 8 = .ok (.if_icmp .gt 34, 3) := dk_163 0 34 (dk_at dksX2_unlike_0 8 rfl rfl)
theorem dX2_unlike_11 : decode cX2_unlike 11 = .ok (.iload_n 1, 1) := dk_27 (dk_at dksX2_unlike_0 11 rfl rfl)
theorem dX2_unlike_12 : decode cX2_unlike 12 = .ok (.aload_n 0, 1) := dk_42 (dk_at dksX2_unlike_0 12 rfl rfl)
theorem dX2_unlike_13 : decode cX2_unlike 13 = .ok (.getfield 9, 3) := dk_180 0 9 (dk_at dksX2_unlike_0 13 rfl rfl)
theorem dX2_unlike_16 : decode cX2_unlike 16 = .ok (.aload_n 0, 1) := dk_42 (dk_at dksX2_unlike_0 16 rfl rfl)
theorem dX2_unlike_17 : decode cX2_unlike 17 = .ok (.invokevirtual 68, 3) := dk_182 0 68 (dk_at dksX2_unlike_0 17 rfl rfl)
theorem dX2_unlike_20 : decode cX2_unlike 20 = .ok (.iload_n 2, 1) := dk_28 (dk_at dksX2_unlike_0 20 rfl rfl)
theorem dX2_unlike_21 : decode cX2_unlike 21 = .ok (.invokestatic 143, 3) := dk_184 0 143 (dk_at dksX2_unlike_0 21 rfl rfl)
theorem dX2_unlike_24 : decode cX2_unlike 24 = .ok (.ifCond .le 7, 3) := dk_158 0 7 (dk_at dksX2_unlike_1 0 rfl rfl)
theorem dX2_unlike_27 : decode cX2_unlike 27 = .ok (.iconst 1, 1) := dk_4 (dk_at dksX2_unlike_1 3 rfl rfl)
theorem dX2_unlike_28 : decode cX2_unlike 28 = .ok (.goto 4, 3) := dk_167 0 4 (dk_at dksX2_unlike_1 4 rfl rfl)
theorem dX2_unlike_31 : decode cX2_unlike 31 = .ok (.iconst 0, 1) := dk_3 (dk_at dksX2_unlike_1 7 rfl rfl)
theorem dX2_unlike_32 : decode cX2_unlike 32 = .ok (.iadd, 1) := dk_96 (dk_at dksX2_unlike_1 8 rfl rfl)
theorem dX2_unlike_33 : decode cX2_unlike 33 = .ok (.istore_n 1, 1) := dk_60 (dk_at dksX2_unlike_1 9 rfl rfl)
theorem dX2_unlike_34 : decode cX2_unlike 34 = .ok (.iload_n 2, 1) := dk_28 (dk_at dksX2_unlike_1 10 rfl rfl)
theorem dX2_unlike_35 : decode cX2_unlike 35 = .ok (.iconst 1, 1) := dk_4 (dk_at dksX2_unlike_1 11 rfl rfl)
theorem dX2_unlike_36 : decode cX2_unlike 36 = .ok (.iadd, 1) := dk_96 (dk_at dksX2_unlike_1 12 rfl rfl)
theorem dX2_unlike_37 : decode cX2_unlike 37 = .ok (.i2c, 1) := dk_146 (dk_at dksX2_unlike_1 13 rfl rfl)
theorem dX2_unlike_38 : decode cX2_unlike 38 = .ok (.istore_n 2, 1) := dk_61 (dk_at dksX2_unlike_1 14 rfl rfl)
theorem dX2_unlike_39 : decode cX2_unlike 39 = .ok (.goto (-34), 3) := dk_167 255 222 (dk_at dksX2_unlike_1 15 rfl rfl)
theorem dX2_unlike_42 : decode cX2_unlike 42 = .ok (.iload_n 1, 1) := dk_27 (dk_at dksX2_unlike_1 18 rfl rfl)
theorem dX2_unlike_43 : decode cX2_unlike 43 = .ok (.ireturn, 1) := dk_172 (dk_at dksX2_unlike_1 19 rfl rfl)
abbrev cX2_anyMany : ByteArray := prog_5_method_34_code
def yX2_anyMany : MethodName := ⟨RX2, "anyMany", "()I"⟩
def dkwX2_anyMany_0 : List UInt8 := [42, 180, 0, 15, 42, 182, 0, 68, 16, 46, 184, 0, 143, 172]
abbrev dktX2_anyMany_0 : List UInt8 := dkwX2_anyMany_0 ++ []
theorem dksX2_anyMany_0 : cX2_anyMany.data.toList.drop 0 = dktX2_anyMany_0 := by decide +kernel
theorem dX2_anyMany_0 : decode cX2_anyMany 0 = .ok (.aload_n 0, 1) := dk_42 (dk_at dksX2_anyMany_0 0 rfl rfl)
theorem dX2_anyMany_1 : decode cX2_anyMany 1 = .ok (.getfield 15, 3) := dk_180 0 15 (dk_at dksX2_anyMany_0 1 rfl rfl)
theorem dX2_anyMany_4 : decode cX2_anyMany 4 = .ok (.aload_n 0, 1) := dk_42 (dk_at dksX2_anyMany_0 4 rfl rfl)
theorem dX2_anyMany_5 : decode cX2_anyMany 5 = .ok (.invokevirtual 68, 3) := dk_182 0 68 (dk_at dksX2_anyMany_0 5 rfl rfl)
theorem dX2_anyMany_8 : decode cX2_anyMany 8 = .ok (.bipush 46, 2) := dk_16 46 (dk_at dksX2_anyMany_0 8 rfl rfl)
theorem dX2_anyMany_10 : decode cX2_anyMany 10 = .ok (.invokestatic 143, 3) := dk_184 0 143 (dk_at dksX2_anyMany_0 10 rfl rfl)
theorem dX2_anyMany_13 : decode cX2_anyMany 13 = .ok (.ireturn, 1) := dk_172 (dk_at dksX2_anyMany_0 13 rfl rfl)
abbrev cX2_isOdd : ByteArray := prog_5_method_39_code
def yX2_isOdd : MethodName := ⟨RX2, "isOdd", "()Z"⟩
def dkwX2_isOdd_3 : List UInt8 := [132, 3, 1, 167, 255, 193, 28, 172]
abbrev dktX2_isOdd_3 : List UInt8 := dkwX2_isOdd_3 ++ []
def dkwX2_isOdd_2 : List UInt8 := [167, 255, 233, 28, 21, 4, 158, 0, 14, 21, 4, 5, 112, 154, 0, 7, 4, 167, 0, 4, 3, 130, 61]
abbrev dktX2_isOdd_2 : List UInt8 := dkwX2_isOdd_2 ++ dktX2_isOdd_3
def dkwX2_isOdd_1 : List UInt8 := [21, 5, 51, 154, 0, 22, 43, 21, 5, 4, 84, 132, 4, 1, 42, 21, 5, 182, 0, 160, 54, 5]
abbrev dktX2_isOdd_1 : List UInt8 := dkwX2_isOdd_1 ++ dktX2_isOdd_2
def dkwX2_isOdd_0 : List UInt8 := [16, 9, 188, 4, 76, 3, 61, 3, 62, 29, 42, 182, 0, 68, 162, 0, 61, 3, 54, 4, 29, 54, 5, 43]
abbrev dktX2_isOdd_0 : List UInt8 := dkwX2_isOdd_0 ++ dktX2_isOdd_1
theorem dksX2_isOdd_0 : cX2_isOdd.data.toList.drop 0 = dktX2_isOdd_0 := by decide +kernel
theorem dksX2_isOdd_1 : cX2_isOdd.data.toList.drop 24 = dktX2_isOdd_1 := dk_seg dksX2_isOdd_0 24 rfl rfl
theorem dksX2_isOdd_2 : cX2_isOdd.data.toList.drop 46 = dktX2_isOdd_2 := dk_seg dksX2_isOdd_1 22 rfl rfl
theorem dksX2_isOdd_3 : cX2_isOdd.data.toList.drop 69 = dktX2_isOdd_3 := dk_seg dksX2_isOdd_2 23 rfl rfl
theorem dX2_isOdd_0 : decode cX2_isOdd 0 = .ok (.bipush 9, 2) := dk_16 9 (dk_at dksX2_isOdd_0 0 rfl rfl)
theorem dX2_isOdd_2 : decode cX2_isOdd 2 = .ok (.newarray .boolean, 2) := dk_188_4 (dk_at dksX2_isOdd_0 2 rfl rfl)
theorem dX2_isOdd_4 : decode cX2_isOdd 4 = .ok (.astore_n 1, 1) := dk_76 (dk_at dksX2_isOdd_0 4 rfl rfl)
theorem dX2_isOdd_5 : decode cX2_isOdd 5 = .ok (.iconst 0, 1) := dk_3 (dk_at dksX2_isOdd_0 5 rfl rfl)
theorem dX2_isOdd_6 : decode cX2_isOdd 6 = .ok (.istore_n 2, 1) := dk_61 (dk_at dksX2_isOdd_0 6 rfl rfl)
theorem dX2_isOdd_7 : decode cX2_isOdd 7 = .ok (.iconst 0, 1) := dk_3 (dk_at dksX2_isOdd_0 7 rfl rfl)
theorem dX2_isOdd_8 : decode cX2_isOdd 8 = .ok (.istore_n 3, 1) := dk_62 (dk_at dksX2_isOdd_0 8 rfl rfl)
theorem dX2_isOdd_9 : decode cX2_isOdd 9 = .ok (.iload_n 3, 1) := dk_29 (dk_at dksX2_isOdd_0 9 rfl rfl)
theorem dX2_isOdd_10 : decode cX2_isOdd 10 = .ok (.aload_n 0, 1) := dk_42 (dk_at dksX2_isOdd_0 10 rfl rfl)
theorem dX2_isOdd_11 : decode cX2_isOdd 11 = .ok (.invokevirtual 68, 3) := dk_182 0 68 (dk_at dksX2_isOdd_0 11 rfl rfl)
theorem dX2_isOdd_14 : decode cX2_isOdd 14 = .ok (.if_icmp .ge 61, 3) := dk_162 0 61 (dk_at dksX2_isOdd_0 14 rfl rfl)
theorem dX2_isOdd_17 : decode cX2_isOdd 17 = .ok (.iconst 0, 1) := dk_3 (dk_at dksX2_isOdd_0 17 rfl rfl)
theorem dX2_isOdd_18 : decode cX2_isOdd 18 = .ok (.istore 4, 2) := dk_54 4 (dk_at dksX2_isOdd_0 18 rfl rfl)
theorem dX2_isOdd_20 : decode cX2_isOdd 20 = .ok (.iload_n 3, 1) := dk_29 (dk_at dksX2_isOdd_0 20 rfl rfl)
theorem dX2_isOdd_21 : decode cX2_isOdd 21 = .ok (.istore 5, 2) := dk_54 5 (dk_at dksX2_isOdd_0 21 rfl rfl)
theorem dX2_isOdd_23 : decode cX2_isOdd 23 = .ok (.aload_n 1, 1) := dk_43 (dk_at dksX2_isOdd_0 23 rfl rfl)
theorem dX2_isOdd_24 : decode cX2_isOdd 24 = .ok (.iload 5, 2) := dk_21 5 (dk_at dksX2_isOdd_1 0 rfl rfl)
theorem dX2_isOdd_26 : decode cX2_isOdd 26 = .ok (.baload, 1) := dk_51 (dk_at dksX2_isOdd_1 2 rfl rfl)
theorem dX2_isOdd_27 : decode cX2_isOdd 27 = .ok (.ifCond .ne 22, 3) := dk_154 0 22 (dk_at dksX2_isOdd_1 3 rfl rfl)
theorem dX2_isOdd_30 : decode cX2_isOdd 30 = .ok (.aload_n 1, 1) := dk_43 (dk_at dksX2_isOdd_1 6 rfl rfl)
theorem dX2_isOdd_31 : decode cX2_isOdd 31 = .ok (.iload 5, 2) := dk_21 5 (dk_at dksX2_isOdd_1 7 rfl rfl)
theorem dX2_isOdd_33 : decode cX2_isOdd 33 = .ok (.iconst 1, 1) := dk_4 (dk_at dksX2_isOdd_1 9 rfl rfl)
theorem dX2_isOdd_34 : decode cX2_isOdd 34 = .ok (.bastore, 1) := dk_84 (dk_at dksX2_isOdd_1 10 rfl rfl)
theorem dX2_isOdd_35 : decode cX2_isOdd 35 = .ok (.iinc 4 1, 3) := dk_132 4 1 (dk_at dksX2_isOdd_1 11 rfl rfl)
theorem dX2_isOdd_38 : decode cX2_isOdd 38 = .ok (.aload_n 0, 1) := dk_42 (dk_at dksX2_isOdd_1 14 rfl rfl)
theorem dX2_isOdd_39 : decode cX2_isOdd 39 = .ok (.iload 5, 2) := dk_21 5 (dk_at dksX2_isOdd_1 15 rfl rfl)
theorem dX2_isOdd_41 : decode cX2_isOdd 41 = .ok (.invokevirtual 160, 3) := dk_182 0 160 (dk_at dksX2_isOdd_1 17 rfl rfl)
theorem dX2_isOdd_44 : decode cX2_isOdd 44 = .ok (.istore 5, 2) := dk_54 5 (dk_at dksX2_isOdd_1 20 rfl rfl)
theorem dX2_isOdd_46 : decode cX2_isOdd 46 = .ok (.goto (-23), 3) := dk_167 255 233 (dk_at dksX2_isOdd_2 0 rfl rfl)
theorem dX2_isOdd_49 : decode cX2_isOdd 49 = .ok (.iload_n 2, 1) := dk_28 (dk_at dksX2_isOdd_2 3 rfl rfl)
theorem dX2_isOdd_50 : decode cX2_isOdd 50 = .ok (.iload 4, 2) := dk_21 4 (dk_at dksX2_isOdd_2 4 rfl rfl)
theorem dX2_isOdd_52 : decode cX2_isOdd 52 = .ok (.ifCond .le 14, 3) := dk_158 0 14 (dk_at dksX2_isOdd_2 6 rfl rfl)
theorem dX2_isOdd_55 : decode cX2_isOdd 55 = .ok (.iload 4, 2) := dk_21 4 (dk_at dksX2_isOdd_2 9 rfl rfl)
theorem dX2_isOdd_57 : decode cX2_isOdd 57 = .ok (.iconst 2, 1) := dk_5 (dk_at dksX2_isOdd_2 11 rfl rfl)
theorem dX2_isOdd_58 : decode cX2_isOdd 58 = .ok (.irem, 1) := dk_112 (dk_at dksX2_isOdd_2 12 rfl rfl)
theorem dX2_isOdd_59 : decode cX2_isOdd 59 = .ok (.ifCond .ne 7, 3) := dk_154 0 7 (dk_at dksX2_isOdd_2 13 rfl rfl)
theorem dX2_isOdd_62 : decode cX2_isOdd 62 = .ok (.iconst 1, 1) := dk_4 (dk_at dksX2_isOdd_2 16 rfl rfl)
theorem dX2_isOdd_63 : decode cX2_isOdd 63 = .ok (.goto 4, 3) := dk_167 0 4 (dk_at dksX2_isOdd_2 17 rfl rfl)
theorem dX2_isOdd_66 : decode cX2_isOdd 66 = .ok (.iconst 0, 1) := dk_3 (dk_at dksX2_isOdd_2 20 rfl rfl)
theorem dX2_isOdd_67 : decode cX2_isOdd 67 = .ok (.ixor, 1) := dk_130 (dk_at dksX2_isOdd_2 21 rfl rfl)
theorem dX2_isOdd_68 : decode cX2_isOdd 68 = .ok (.istore_n 2, 1) := dk_61 (dk_at dksX2_isOdd_2 22 rfl rfl)
theorem dX2_isOdd_69 : decode cX2_isOdd 69 = .ok (.iinc 3 1, 3) := dk_132 3 1 (dk_at dksX2_isOdd_3 0 rfl rfl)
theorem dX2_isOdd_72 : decode cX2_isOdd 72 = .ok (.goto (-63), 3) := dk_167 255 193 (dk_at dksX2_isOdd_3 3 rfl rfl)
theorem dX2_isOdd_75 : decode cX2_isOdd 75 = .ok (.iload_n 2, 1) := dk_28 (dk_at dksX2_isOdd_3 6 rfl rfl)
theorem dX2_isOdd_76 : decode cX2_isOdd 76 = .ok (.ireturn, 1) := dk_172 (dk_at dksX2_isOdd_3 7 rfl rfl)
abbrev cX2_homeOf : ByteArray := prog_5_method_37_code
def yX2_homeOf : MethodName := ⟨RX2, "homeOf", "(I)I"⟩
def dkwX2_homeOf_1 : List UInt8 := [180, 0, 15, 16, 46, 182, 0, 147, 167, 0, 4, 28, 172]
abbrev dktX2_homeOf_1 : List UInt8 := dkwX2_homeOf_1 ++ []
def dkwX2_homeOf_0 : List UInt8 := [42, 42, 180, 0, 15, 42, 180, 0, 9, 27, 52, 182, 0, 147, 61, 28, 2, 160, 0, 16, 42, 42]
abbrev dktX2_homeOf_0 : List UInt8 := dkwX2_homeOf_0 ++ dktX2_homeOf_1
theorem dksX2_homeOf_0 : cX2_homeOf.data.toList.drop 0 = dktX2_homeOf_0 := by decide +kernel
theorem dksX2_homeOf_1 : cX2_homeOf.data.toList.drop 22 = dktX2_homeOf_1 := dk_seg dksX2_homeOf_0 22 rfl rfl
theorem dX2_homeOf_0 : decode cX2_homeOf 0 = .ok (.aload_n 0, 1) := dk_42 (dk_at dksX2_homeOf_0 0 rfl rfl)
theorem dX2_homeOf_1 : decode cX2_homeOf 1 = .ok (.aload_n 0, 1) := dk_42 (dk_at dksX2_homeOf_0 1 rfl rfl)
theorem dX2_homeOf_2 : decode cX2_homeOf 2 = .ok (.getfield 15, 3) := dk_180 0 15 (dk_at dksX2_homeOf_0 2 rfl rfl)
theorem dX2_homeOf_5 : decode cX2_homeOf 5 = .ok (.aload_n 0, 1) := dk_42 (dk_at dksX2_homeOf_0 5 rfl rfl)
theorem dX2_homeOf_6 : decode cX2_homeOf 6 = .ok (.getfield 9, 3) := dk_180 0 9 (dk_at dksX2_homeOf_0 6 rfl rfl)
theorem dX2_homeOf_9 : decode cX2_homeOf 9 = .ok (.iload_n 1, 1) := dk_27 (dk_at dksX2_homeOf_0 9 rfl rfl)
theorem dX2_homeOf_10 : decode cX2_homeOf 10 = .ok (.caload, 1) := dk_52 (dk_at dksX2_homeOf_0 10 rfl rfl)
theorem dX2_homeOf_11 : decode cX2_homeOf 11 = .ok (.invokevirtual 147, 3) := dk_182 0 147 (dk_at dksX2_homeOf_0 11 rfl rfl)
theorem dX2_homeOf_14 : decode cX2_homeOf 14 = .ok (.istore_n 2, 1) := dk_61 (dk_at dksX2_homeOf_0 14 rfl rfl)
theorem dX2_homeOf_15 : decode cX2_homeOf 15 = .ok (.iload_n 2, 1) := dk_28 (dk_at dksX2_homeOf_0 15 rfl rfl)
theorem dX2_homeOf_16 : decode cX2_homeOf 16 = .ok (.iconst (-1), 1) := dk_2 (dk_at dksX2_homeOf_0 16 rfl rfl)
theorem dX2_homeOf_17 : decode cX2_homeOf 17 = .ok (.if_icmp .ne 16, 3) := dk_160 0 16 (dk_at dksX2_homeOf_0 17 rfl rfl)
theorem dX2_homeOf_20 : decode cX2_homeOf 20 = .ok (.aload_n 0, 1) := dk_42 (dk_at dksX2_homeOf_0 20 rfl rfl)
theorem dX2_homeOf_21 : decode cX2_homeOf 21 = .ok (.aload_n 0, 1) := dk_42 (dk_at dksX2_homeOf_0 21 rfl rfl)
theorem dX2_homeOf_22 : decode cX2_homeOf 22 = .ok (.getfield 15, 3) := dk_180 0 15 (dk_at dksX2_homeOf_1 0 rfl rfl)
theorem dX2_homeOf_25 : decode cX2_homeOf 25 = .ok (.bipush 46, 2) := dk_16 46 (dk_at dksX2_homeOf_1 3 rfl rfl)
theorem dX2_homeOf_27 : decode cX2_homeOf 27 = .ok (.invokevirtual 147, 3) := dk_182 0 147 (dk_at dksX2_homeOf_1 5 rfl rfl)
theorem dX2_homeOf_30 : decode cX2_homeOf 30 = .ok (.goto 4, 3) := dk_167 0 4 (dk_at dksX2_homeOf_1 8 rfl rfl)
theorem dX2_homeOf_33 : decode cX2_homeOf 33 = .ok (.iload_n 2, 1) := dk_28 (dk_at dksX2_homeOf_1 11 rfl rfl)
theorem dX2_homeOf_34 : decode cX2_homeOf 34 = .ok (.ireturn, 1) := dk_172 (dk_at dksX2_homeOf_1 12 rfl rfl)
abbrev cX2_placeOf : ByteArray := prog_5_method_36_code
def yX2_placeOf : MethodName := ⟨RX2, "placeOf", "([CC)I"⟩
def dkwX2_placeOf_1 : List UInt8 := [167, 255, 236, 2, 172]
abbrev dktX2_placeOf_1 : List UInt8 := dkwX2_placeOf_1 ++ []
def dkwX2_placeOf_0 : List UInt8 := [3, 62, 29, 42, 182, 0, 68, 162, 0, 18, 43, 29, 52, 28, 160, 0, 5, 29, 172, 132, 3, 1]
abbrev dktX2_placeOf_0 : List UInt8 := dkwX2_placeOf_0 ++ dktX2_placeOf_1
theorem dksX2_placeOf_0 : cX2_placeOf.data.toList.drop 0 = dktX2_placeOf_0 := by decide +kernel
theorem dksX2_placeOf_1 : cX2_placeOf.data.toList.drop 22 = dktX2_placeOf_1 := dk_seg dksX2_placeOf_0 22 rfl rfl
theorem dX2_placeOf_0 : decode cX2_placeOf 0 = .ok (.iconst 0, 1) := dk_3 (dk_at dksX2_placeOf_0 0 rfl rfl)
theorem dX2_placeOf_1 : decode cX2_placeOf 1 = .ok (.istore_n 3, 1) := dk_62 (dk_at dksX2_placeOf_0 1 rfl rfl)
theorem dX2_placeOf_2 : decode cX2_placeOf 2 = .ok (.iload_n 3, 1) := dk_29 (dk_at dksX2_placeOf_0 2 rfl rfl)
theorem dX2_placeOf_3 : decode cX2_placeOf 3 = .ok (.aload_n 0, 1) := dk_42 (dk_at dksX2_placeOf_0 3 rfl rfl)
theorem dX2_placeOf_4 : decode cX2_placeOf 4 = .ok (.invokevirtual 68, 3) := dk_182 0 68 (dk_at dksX2_placeOf_0 4 rfl rfl)
theorem dX2_placeOf_7 : decode cX2_placeOf 7 = .ok (.if_icmp .ge 18, 3) := dk_162 0 18 (dk_at dksX2_placeOf_0 7 rfl rfl)
theorem dX2_placeOf_10 : decode cX2_placeOf 10 = .ok (.aload_n 1, 1) := dk_43 (dk_at dksX2_placeOf_0 10 rfl rfl)
theorem dX2_placeOf_11 : decode cX2_placeOf 11 = .ok (.iload_n 3, 1) := dk_29 (dk_at dksX2_placeOf_0 11 rfl rfl)
theorem dX2_placeOf_12 : decode cX2_placeOf 12 = .ok (.caload, 1) := dk_52 (dk_at dksX2_placeOf_0 12 rfl rfl)
theorem dX2_placeOf_13 : decode cX2_placeOf 13 = .ok (.iload_n 2, 1) := dk_28 (dk_at dksX2_placeOf_0 13 rfl rfl)
theorem dX2_placeOf_14 : decode cX2_placeOf 14 = .ok (.if_icmp .ne 5, 3) := dk_160 0 5 (dk_at dksX2_placeOf_0 14 rfl rfl)
theorem dX2_placeOf_17 : decode cX2_placeOf 17 = .ok (.iload_n 3, 1) := dk_29 (dk_at dksX2_placeOf_0 17 rfl rfl)
theorem dX2_placeOf_18 : decode cX2_placeOf 18 = .ok (.ireturn, 1) := dk_172 (dk_at dksX2_placeOf_0 18 rfl rfl)
theorem dX2_placeOf_19 : decode cX2_placeOf 19 = .ok (.iinc 3 1, 3) := dk_132 3 1 (dk_at dksX2_placeOf_0 19 rfl rfl)
theorem dX2_placeOf_22 : decode cX2_placeOf 22 = .ok (.goto (-20), 3) := dk_167 255 236 (dk_at dksX2_placeOf_1 0 rfl rfl)
theorem dX2_placeOf_25 : decode cX2_placeOf 25 = .ok (.iconst (-1), 1) := dk_2 (dk_at dksX2_placeOf_1 3 rfl rfl)
theorem dX2_placeOf_26 : decode cX2_placeOf 26 = .ok (.ireturn, 1) := dk_172 (dk_at dksX2_placeOf_1 4 rfl rfl)
abbrev cX2_home : ByteArray := prog_5_method_20_code
def yX2_home : MethodName := ⟨RX2, "home", "()I"⟩
def dkwX2_home_1 : List UInt8 := [167, 0, 4, 3, 96, 60, 132, 2, 1, 167, 255, 229, 27, 172]
abbrev dktX2_home_1 : List UInt8 := dkwX2_home_1 ++ []
def dkwX2_home_0 : List UInt8 := [3, 60, 3, 61, 28, 42, 182, 0, 68, 162, 0, 25, 27, 42, 28, 182, 0, 96, 153, 0, 7, 4]
abbrev dktX2_home_0 : List UInt8 := dkwX2_home_0 ++ dktX2_home_1
theorem dksX2_home_0 : cX2_home.data.toList.drop 0 = dktX2_home_0 := by decide +kernel
theorem dksX2_home_1 : cX2_home.data.toList.drop 22 = dktX2_home_1 := dk_seg dksX2_home_0 22 rfl rfl
theorem dX2_home_0 : decode cX2_home 0 = .ok (.iconst 0, 1) := dk_3 (dk_at dksX2_home_0 0 rfl rfl)
theorem dX2_home_1 : decode cX2_home 1 = .ok (.istore_n 1, 1) := dk_60 (dk_at dksX2_home_0 1 rfl rfl)
theorem dX2_home_2 : decode cX2_home 2 = .ok (.iconst 0, 1) := dk_3 (dk_at dksX2_home_0 2 rfl rfl)
theorem dX2_home_3 : decode cX2_home 3 = .ok (.istore_n 2, 1) := dk_61 (dk_at dksX2_home_0 3 rfl rfl)
theorem dX2_home_4 : decode cX2_home 4 = .ok (.iload_n 2, 1) := dk_28 (dk_at dksX2_home_0 4 rfl rfl)
theorem dX2_home_5 : decode cX2_home 5 = .ok (.aload_n 0, 1) := dk_42 (dk_at dksX2_home_0 5 rfl rfl)
theorem dX2_home_6 : decode cX2_home 6 = .ok (.invokevirtual 68, 3) := dk_182 0 68 (dk_at dksX2_home_0 6 rfl rfl)
theorem dX2_home_9 : decode cX2_home 9 = .ok (.if_icmp .ge 25, 3) := dk_162 0 25 (dk_at dksX2_home_0 9 rfl rfl)
theorem dX2_home_12 : decode cX2_home 12 = .ok (.iload_n 1, 1) := dk_27 (dk_at dksX2_home_0 12 rfl rfl)
theorem dX2_home_13 : decode cX2_home 13 = .ok (.aload_n 0, 1) := dk_42 (dk_at dksX2_home_0 13 rfl rfl)
theorem dX2_home_14 : decode cX2_home 14 = .ok (.iload_n 2, 1) := dk_28 (dk_at dksX2_home_0 14 rfl rfl)
theorem dX2_home_15 : decode cX2_home 15 = .ok (.invokevirtual 96, 3) := dk_182 0 96 (dk_at dksX2_home_0 15 rfl rfl)
theorem dX2_home_18 : decode cX2_home 18 = .ok (.ifCond .eq 7, 3) := dk_153 0 7 (dk_at dksX2_home_0 18 rfl rfl)
theorem dX2_home_21 : decode cX2_home 21 = .ok (.iconst 1, 1) := dk_4 (dk_at dksX2_home_0 21 rfl rfl)
theorem dX2_home_22 : decode cX2_home 22 = .ok (.goto 4, 3) := dk_167 0 4 (dk_at dksX2_home_1 0 rfl rfl)
theorem dX2_home_25 : decode cX2_home 25 = .ok (.iconst 0, 1) := dk_3 (dk_at dksX2_home_1 3 rfl rfl)
theorem dX2_home_26 : decode cX2_home 26 = .ok (.iadd, 1) := dk_96 (dk_at dksX2_home_1 4 rfl rfl)
theorem dX2_home_27 : decode cX2_home 27 = .ok (.istore_n 1, 1) := dk_60 (dk_at dksX2_home_1 5 rfl rfl)
theorem dX2_home_28 : decode cX2_home 28 = .ok (.iinc 2 1, 3) := dk_132 2 1 (dk_at dksX2_home_1 6 rfl rfl)
theorem dX2_home_31 : decode cX2_home 31 = .ok (.goto (-27), 3) := dk_167 255 229 (dk_at dksX2_home_1 9 rfl rfl)
theorem dX2_home_34 : decode cX2_home 34 = .ok (.iload_n 1, 1) := dk_27 (dk_at dksX2_home_1 12 rfl rfl)
theorem dX2_home_35 : decode cX2_home 35 = .ok (.ireturn, 1) := dk_172 (dk_at dksX2_home_1 13 rfl rfl)
abbrev cX2_isHome : ByteArray := prog_5_method_19_code
def yX2_isHome : MethodName := ⟨RX2, "isHome", "(I)Z"⟩
def dkwX2_isHome_0 : List UInt8 := [42, 180, 0, 9, 27, 52, 42, 180, 0, 15, 27, 52, 184, 0, 92, 172]
abbrev dktX2_isHome_0 : List UInt8 := dkwX2_isHome_0 ++ []
theorem dksX2_isHome_0 : cX2_isHome.data.toList.drop 0 = dktX2_isHome_0 := by decide +kernel
theorem dX2_isHome_0 : decode cX2_isHome 0 = .ok (.aload_n 0, 1) := dk_42 (dk_at dksX2_isHome_0 0 rfl rfl)
theorem dX2_isHome_1 : decode cX2_isHome 1 = .ok (.getfield 9, 3) := dk_180 0 9 (dk_at dksX2_isHome_0 1 rfl rfl)
theorem dX2_isHome_4 : decode cX2_isHome 4 = .ok (.iload_n 1, 1) := dk_27 (dk_at dksX2_isHome_0 4 rfl rfl)
theorem dX2_isHome_5 : decode cX2_isHome 5 = .ok (.caload, 1) := dk_52 (dk_at dksX2_isHome_0 5 rfl rfl)
theorem dX2_isHome_6 : decode cX2_isHome 6 = .ok (.aload_n 0, 1) := dk_42 (dk_at dksX2_isHome_0 6 rfl rfl)
theorem dX2_isHome_7 : decode cX2_isHome 7 = .ok (.getfield 15, 3) := dk_180 0 15 (dk_at dksX2_isHome_0 7 rfl rfl)
theorem dX2_isHome_10 : decode cX2_isHome 10 = .ok (.iload_n 1, 1) := dk_27 (dk_at dksX2_isHome_0 10 rfl rfl)
theorem dX2_isHome_11 : decode cX2_isHome 11 = .ok (.caload, 1) := dk_52 (dk_at dksX2_isHome_0 11 rfl rfl)
theorem dX2_isHome_12 : decode cX2_isHome 12 = .ok (.invokestatic 92, 3) := dk_184 0 92 (dk_at dksX2_isHome_0 12 rfl rfl)
theorem dX2_isHome_15 : decode cX2_isHome 15 = .ok (.ireturn, 1) := dk_172 (dk_at dksX2_isHome_0 15 rfl rfl)
abbrev cX2_fits : ByteArray := prog_5_method_18_code
def yX2_fits : MethodName := ⟨RX2, "fits", "(CC)Z"⟩
def dkwX2_fits_0 : List UInt8 := [27, 16, 46, 159, 0, 8, 27, 26, 160, 0, 7, 4, 167, 0, 4, 3, 172]
abbrev dktX2_fits_0 : List UInt8 := dkwX2_fits_0 ++ []
theorem dksX2_fits_0 : cX2_fits.data.toList.drop 0 = dktX2_fits_0 := by decide +kernel
theorem dX2_fits_0 : decode cX2_fits 0 = .ok (.iload_n 1, 1) := dk_27 (dk_at dksX2_fits_0 0 rfl rfl)
theorem dX2_fits_1 : decode cX2_fits 1 = .ok (.bipush 46, 2) := dk_16 46 (dk_at dksX2_fits_0 1 rfl rfl)
theorem dX2_fits_3 : decode cX2_fits 3 = .ok (.if_icmp .eq 8, 3) := dk_159 0 8 (dk_at dksX2_fits_0 3 rfl rfl)
theorem dX2_fits_6 : decode cX2_fits 6 = .ok (.iload_n 1, 1) := dk_27 (dk_at dksX2_fits_0 6 rfl rfl)
theorem dX2_fits_7 : decode cX2_fits 7 = .ok (.iload_n 0, 1) := dk_26 (dk_at dksX2_fits_0 7 rfl rfl)
theorem dX2_fits_8 : decode cX2_fits 8 = .ok (.if_icmp .ne 7, 3) := dk_160 0 7 (dk_at dksX2_fits_0 8 rfl rfl)
theorem dX2_fits_11 : decode cX2_fits 11 = .ok (.iconst 1, 1) := dk_4 (dk_at dksX2_fits_0 11 rfl rfl)
theorem dX2_fits_12 : decode cX2_fits 12 = .ok (.goto 4, 3) := dk_167 0 4 (dk_at dksX2_fits_0 12 rfl rfl)
theorem dX2_fits_15 : decode cX2_fits 15 = .ok (.iconst 0, 1) := dk_3 (dk_at dksX2_fits_0 15 rfl rfl)
theorem dX2_fits_16 : decode cX2_fits 16 = .ok (.ireturn, 1) := dk_172 (dk_at dksX2_fits_0 16 rfl rfl)
abbrev cX2_lines : ByteArray := prog_5_method_5_code
def yX2_lines : MethodName := ⟨RX2, "lines", "()I"⟩
def dkwX2_lines_0 : List UInt8 := [42, 180, 0, 33, 42, 180, 0, 37, 96, 172]
abbrev dktX2_lines_0 : List UInt8 := dkwX2_lines_0 ++ []
theorem dksX2_lines_0 : cX2_lines.data.toList.drop 0 = dktX2_lines_0 := by decide +kernel
theorem dX2_lines_0 : decode cX2_lines 0 = .ok (.aload_n 0, 1) := dk_42 (dk_at dksX2_lines_0 0 rfl rfl)
theorem dX2_lines_1 : decode cX2_lines 1 = .ok (.getfield 33, 3) := dk_180 0 33 (dk_at dksX2_lines_0 1 rfl rfl)
theorem dX2_lines_4 : decode cX2_lines 4 = .ok (.aload_n 0, 1) := dk_42 (dk_at dksX2_lines_0 4 rfl rfl)
theorem dX2_lines_5 : decode cX2_lines 5 = .ok (.getfield 37, 3) := dk_180 0 37 (dk_at dksX2_lines_0 5 rfl rfl)
theorem dX2_lines_8 : decode cX2_lines 8 = .ok (.iadd, 1) := dk_96 (dk_at dksX2_lines_0 8 rfl rfl)
theorem dX2_lines_9 : decode cX2_lines 9 = .ok (.ireturn, 1) := dk_172 (dk_at dksX2_lines_0 9 rfl rfl)
abbrev cX2_sings : ByteArray := prog_5_method_55_code
def yX2_sings : MethodName := ⟨RX2, "sings", "(I)Z"⟩
def dkwX2_sings_3 : List UInt8 := [154, 0, 7, 4, 167, 0, 4, 3, 126, 62, 132, 4, 1, 167, 255, 199, 29, 172]
abbrev dktX2_sings_3 : List UInt8 := dkwX2_sings_3 ++ []
def dkwX2_sings_2 : List UInt8 := [153, 0, 25, 42, 180, 0, 9, 42, 27, 21, 4, 4, 96, 28, 112, 182, 0, 88, 52, 184, 0, 196]
abbrev dktX2_sings_2 : List UInt8 := dkwX2_sings_2 ++ dktX2_sings_3
def dkwX2_sings_1 : List UInt8 := [21, 4, 28, 162, 0, 57, 29, 42, 180, 0, 9, 42, 27, 21, 4, 182, 0, 88, 52, 184, 0, 196]
abbrev dktX2_sings_1 : List UInt8 := dkwX2_sings_1 ++ dktX2_sings_2
def dkwX2_sings_0 : List UInt8 := [42, 27, 182, 0, 85, 61, 42, 27, 182, 0, 200, 158, 0, 7, 4, 167, 0, 4, 3, 62, 3, 54, 4]
abbrev dktX2_sings_0 : List UInt8 := dkwX2_sings_0 ++ dktX2_sings_1
theorem dksX2_sings_0 : cX2_sings.data.toList.drop 0 = dktX2_sings_0 := by decide +kernel
theorem dksX2_sings_1 : cX2_sings.data.toList.drop 23 = dktX2_sings_1 := dk_seg dksX2_sings_0 23 rfl rfl
theorem dksX2_sings_2 : cX2_sings.data.toList.drop 45 = dktX2_sings_2 := dk_seg dksX2_sings_1 22 rfl rfl
theorem dksX2_sings_3 : cX2_sings.data.toList.drop 67 = dktX2_sings_3 := dk_seg dksX2_sings_2 22 rfl rfl
theorem dX2_sings_0 : decode cX2_sings 0 = .ok (.aload_n 0, 1) := dk_42 (dk_at dksX2_sings_0 0 rfl rfl)
theorem dX2_sings_1 : decode cX2_sings 1 = .ok (.iload_n 1, 1) := dk_27 (dk_at dksX2_sings_0 1 rfl rfl)
theorem dX2_sings_2 : decode cX2_sings 2 = .ok (.invokevirtual 85, 3) := dk_182 0 85 (dk_at dksX2_sings_0 2 rfl rfl)
theorem dX2_sings_5 : decode cX2_sings 5 = .ok (.istore_n 2, 1) := dk_61 (dk_at dksX2_sings_0 5 rfl rfl)
theorem dX2_sings_6 : decode cX2_sings 6 = .ok (.aload_n 0, 1) := dk_42 (dk_at dksX2_sings_0 6 rfl rfl)
theorem dX2_sings_7 : decode cX2_sings 7 = .ok (.iload_n 1, 1) := dk_27 (dk_at dksX2_sings_0 7 rfl rfl)
theorem dX2_sings_8 : decode cX2_sings 8 = .ok (.invokevirtual 200, 3) := dk_182 0 200 (dk_at dksX2_sings_0 8 rfl rfl)
theorem dX2_sings_11 : decode cX2_sings 11 = .ok (.ifCond .le 7, 3) := dk_158 0 7 (dk_at dksX2_sings_0 11 rfl rfl)
theorem dX2_sings_14 : decode cX2_sings 14 = .ok (.iconst 1, 1) := dk_4 (dk_at dksX2_sings_0 14 rfl rfl)
theorem dX2_sings_15 : decode cX2_sings 15 = .ok (.goto 4, 3) := dk_167 0 4 (dk_at dksX2_sings_0 15 rfl rfl)
theorem dX2_sings_18 : decode cX2_sings 18 = .ok (.iconst 0, 1) := dk_3 (dk_at dksX2_sings_0 18 rfl rfl)
theorem dX2_sings_19 : decode cX2_sings 19 = .ok (.istore_n 3, 1) := dk_62 (dk_at dksX2_sings_0 19 rfl rfl)
theorem dX2_sings_20 : decode cX2_sings 20 = .ok (.iconst 0, 1) := dk_3 (dk_at dksX2_sings_0 20 rfl rfl)
theorem dX2_sings_21 : decode cX2_sings 21 = .ok (.istore 4, 2) := dk_54 4 (dk_at dksX2_sings_0 21 rfl rfl)
theorem dX2_sings_23 : decode cX2_sings 23 = .ok (.iload 4, 2) := dk_21 4 (dk_at dksX2_sings_1 0 rfl rfl)
theorem dX2_sings_25 : decode cX2_sings 25 = .ok (.iload_n 2, 1) := dk_28 (dk_at dksX2_sings_1 2 rfl rfl)
theorem dX2_sings_26 : decode cX2_sings 26 = .ok (.if_icmp .ge 57, 3) := dk_162 0 57 (dk_at dksX2_sings_1 3 rfl rfl)
theorem dX2_sings_29 : decode cX2_sings 29 = .ok (.iload_n 3, 1) := dk_29 (dk_at dksX2_sings_1 6 rfl rfl)
theorem dX2_sings_30 : decode cX2_sings 30 = .ok (.aload_n 0, 1) := dk_42 (dk_at dksX2_sings_1 7 rfl rfl)
theorem dX2_sings_31 : decode cX2_sings 31 = .ok (.getfield 9, 3) := dk_180 0 9 (dk_at dksX2_sings_1 8 rfl rfl)
theorem dX2_sings_34 : decode cX2_sings 34 = .ok (.aload_n 0, 1) := dk_42 (dk_at dksX2_sings_1 11 rfl rfl)
theorem dX2_sings_35 : decode cX2_sings 35 = .ok (.iload_n 1, 1) := dk_27 (dk_at dksX2_sings_1 12 rfl rfl)
theorem dX2_sings_36 : decode cX2_sings 36 = .ok (.iload 4, 2) := dk_21 4 (dk_at dksX2_sings_1 13 rfl rfl)
theorem dX2_sings_38 : decode cX2_sings 38 = .ok (.invokevirtual 88, 3) := dk_182 0 88 (dk_at dksX2_sings_1 15 rfl rfl)
theorem dX2_sings_41 : decode cX2_sings 41 = .ok (.caload, 1) := dk_52 (dk_at dksX2_sings_1 18 rfl rfl)
theorem dX2_sings_42 : decode cX2_sings 42 = .ok (.invokestatic 196, 3) := dk_184 0 196 (dk_at dksX2_sings_1 19 rfl rfl)
theorem dX2_sings_45 : decode cX2_sings 45 = .ok (.ifCond .eq 25, 3) := dk_153 0 25 (dk_at dksX2_sings_2 0 rfl rfl)
theorem dX2_sings_48 : decode cX2_sings 48 = .ok (.aload_n 0, 1) := dk_42 (dk_at dksX2_sings_2 3 rfl rfl)
theorem dX2_sings_49 : decode cX2_sings 49 = .ok (.getfield 9, 3) := dk_180 0 9 (dk_at dksX2_sings_2 4 rfl rfl)
theorem dX2_sings_52 : decode cX2_sings 52 = .ok (.aload_n 0, 1) := dk_42 (dk_at dksX2_sings_2 7 rfl rfl)
theorem dX2_sings_53 : decode cX2_sings 53 = .ok (.iload_n 1, 1) := dk_27 (dk_at dksX2_sings_2 8 rfl rfl)
theorem dX2_sings_54 : decode cX2_sings 54 = .ok (.iload 4, 2) := dk_21 4 (dk_at dksX2_sings_2 9 rfl rfl)
theorem dX2_sings_56 : decode cX2_sings 56 = .ok (.iconst 1, 1) := dk_4 (dk_at dksX2_sings_2 11 rfl rfl)
theorem dX2_sings_57 : decode cX2_sings 57 = .ok (.iadd, 1) := dk_96 (dk_at dksX2_sings_2 12 rfl rfl)
theorem dX2_sings_58 : decode cX2_sings 58 = .ok (.iload_n 2, 1) := dk_28 (dk_at dksX2_sings_2 13 rfl rfl)
theorem dX2_sings_59 : decode cX2_sings 59 = .ok (.irem, 1) := dk_112 (dk_at dksX2_sings_2 14 rfl rfl)
theorem dX2_sings_60 : decode cX2_sings 60 = .ok (.invokevirtual 88, 3) := dk_182 0 88 (dk_at dksX2_sings_2 15 rfl rfl)
theorem dX2_sings_63 : decode cX2_sings 63 = .ok (.caload, 1) := dk_52 (dk_at dksX2_sings_2 18 rfl rfl)
theorem dX2_sings_64 : decode cX2_sings 64 = .ok (.invokestatic 196, 3) := dk_184 0 196 (dk_at dksX2_sings_2 19 rfl rfl)
theorem dX2_sings_67 : decode cX2_sings 67 = .ok (.ifCond .ne 7, 3) := dk_154 0 7 (dk_at dksX2_sings_3 0 rfl rfl)
theorem dX2_sings_70 : decode cX2_sings 70 = .ok (.iconst 1, 1) := dk_4 (dk_at dksX2_sings_3 3 rfl rfl)
theorem dX2_sings_71 : decode cX2_sings 71 = .ok (.goto 4, 3) := dk_167 0 4 (dk_at dksX2_sings_3 4 rfl rfl)
theorem dX2_sings_74 : decode cX2_sings 74 = .ok (.iconst 0, 1) := dk_3 (dk_at dksX2_sings_3 7 rfl rfl)
theorem dX2_sings_75 : decode cX2_sings 75 = .ok (.iand, 1) := dk_126 (dk_at dksX2_sings_3 8 rfl rfl)
theorem dX2_sings_76 : decode cX2_sings 76 = .ok (.istore_n 3, 1) := dk_62 (dk_at dksX2_sings_3 9 rfl rfl)
theorem dX2_sings_77 : decode cX2_sings 77 = .ok (.iinc 4 1, 3) := dk_132 4 1 (dk_at dksX2_sings_3 10 rfl rfl)
theorem dX2_sings_80 : decode cX2_sings 80 = .ok (.goto (-57), 3) := dk_167 255 199 (dk_at dksX2_sings_3 13 rfl rfl)
theorem dX2_sings_83 : decode cX2_sings 83 = .ok (.iload_n 3, 1) := dk_29 (dk_at dksX2_sings_3 16 rfl rfl)
theorem dX2_sings_84 : decode cX2_sings 84 = .ok (.ireturn, 1) := dk_172 (dk_at dksX2_sings_3 17 rfl rfl)
abbrev cX2_sizeOf : ByteArray := prog_5_method_10_code
def yX2_sizeOf : MethodName := ⟨RX2, "sizeOf", "(I)I"⟩
def dkwX2_sizeOf_0 : List UInt8 := [27, 42, 180, 0, 33, 162, 0, 10, 42, 180, 0, 37, 167, 0, 7, 42, 180, 0, 33, 172]
abbrev dktX2_sizeOf_0 : List UInt8 := dkwX2_sizeOf_0 ++ []
theorem dksX2_sizeOf_0 : cX2_sizeOf.data.toList.drop 0 = dktX2_sizeOf_0 := by decide +kernel
theorem dX2_sizeOf_0 : decode cX2_sizeOf 0 = .ok (.iload_n 1, 1) := dk_27 (dk_at dksX2_sizeOf_0 0 rfl rfl)
theorem dX2_sizeOf_1 : decode cX2_sizeOf 1 = .ok (.aload_n 0, 1) := dk_42 (dk_at dksX2_sizeOf_0 1 rfl rfl)
theorem dX2_sizeOf_2 : decode cX2_sizeOf 2 = .ok (.getfield 33, 3) := dk_180 0 33 (dk_at dksX2_sizeOf_0 2 rfl rfl)
theorem dX2_sizeOf_5 : decode cX2_sizeOf 5 = .ok (.if_icmp .ge 10, 3) := dk_162 0 10 (dk_at dksX2_sizeOf_0 5 rfl rfl)
theorem dX2_sizeOf_8 : decode cX2_sizeOf 8 = .ok (.aload_n 0, 1) := dk_42 (dk_at dksX2_sizeOf_0 8 rfl rfl)
theorem dX2_sizeOf_9 : decode cX2_sizeOf 9 = .ok (.getfield 37, 3) := dk_180 0 37 (dk_at dksX2_sizeOf_0 9 rfl rfl)
theorem dX2_sizeOf_12 : decode cX2_sizeOf 12 = .ok (.goto 7, 3) := dk_167 0 7 (dk_at dksX2_sizeOf_0 12 rfl rfl)
theorem dX2_sizeOf_15 : decode cX2_sizeOf 15 = .ok (.aload_n 0, 1) := dk_42 (dk_at dksX2_sizeOf_0 15 rfl rfl)
theorem dX2_sizeOf_16 : decode cX2_sizeOf 16 = .ok (.getfield 33, 3) := dk_180 0 33 (dk_at dksX2_sizeOf_0 16 rfl rfl)
theorem dX2_sizeOf_19 : decode cX2_sizeOf 19 = .ok (.ireturn, 1) := dk_172 (dk_at dksX2_sizeOf_0 19 rfl rfl)
abbrev cX2_vowelsOn : ByteArray := prog_5_method_54_code
def yX2_vowelsOn : MethodName := ⟨RX2, "vowelsOn", "(I)I"⟩
def dkwX2_vowelsOn_1 : List UInt8 := [52, 184, 0, 196, 153, 0, 7, 4, 167, 0, 4, 3, 96, 61, 132, 3, 1, 167, 255, 219, 28, 172]
abbrev dktX2_vowelsOn_1 : List UInt8 := dkwX2_vowelsOn_1 ++ []
def dkwX2_vowelsOn_0 : List UInt8 := [3, 61, 3, 62, 29, 42, 27, 182, 0, 85, 162, 0, 34, 28, 42, 180, 0, 9, 42, 27, 29, 182, 0, 88]
abbrev dktX2_vowelsOn_0 : List UInt8 := dkwX2_vowelsOn_0 ++ dktX2_vowelsOn_1
theorem dksX2_vowelsOn_0 : cX2_vowelsOn.data.toList.drop 0 = dktX2_vowelsOn_0 := by decide +kernel
theorem dksX2_vowelsOn_1 : cX2_vowelsOn.data.toList.drop 24 = dktX2_vowelsOn_1 := dk_seg dksX2_vowelsOn_0 24 rfl rfl
theorem dX2_vowelsOn_0 : decode cX2_vowelsOn 0 = .ok (.iconst 0, 1) := dk_3 (dk_at dksX2_vowelsOn_0 0 rfl rfl)
theorem dX2_vowelsOn_1 : decode cX2_vowelsOn 1 = .ok (.istore_n 2, 1) := dk_61 (dk_at dksX2_vowelsOn_0 1 rfl rfl)
theorem dX2_vowelsOn_2 : decode cX2_vowelsOn 2 = .ok (.iconst 0, 1) := dk_3 (dk_at dksX2_vowelsOn_0 2 rfl rfl)
theorem dX2_vowelsOn_3 : decode cX2_vowelsOn 3 = .ok (.istore_n 3, 1) := dk_62 (dk_at dksX2_vowelsOn_0 3 rfl rfl)
theorem dX2_vowelsOn_4 : decode cX2_vowelsOn 4 = .ok (.iload_n 3, 1) := dk_29 (dk_at dksX2_vowelsOn_0 4 rfl rfl)
theorem dX2_vowelsOn_5 : decode cX2_vowelsOn 5 = .ok (.aload_n 0, 1) := dk_42 (dk_at dksX2_vowelsOn_0 5 rfl rfl)
theorem dX2_vowelsOn_6 : decode cX2_vowelsOn 6 = .ok (.iload_n 1, 1) := dk_27 (dk_at dksX2_vowelsOn_0 6 rfl rfl)
theorem dX2_vowelsOn_7 : decode cX2_vowelsOn 7 = .ok (.invokevirtual 85, 3) := dk_182 0 85 (dk_at dksX2_vowelsOn_0 7 rfl rfl)
theorem dX2_vowelsOn_10 : decode cX2_vowelsOn 10 = .ok (.if_icmp .ge 34, 3) := dk_162 0 34 (dk_at dksX2_vowelsOn_0 10 rfl rfl)
theorem dX2_vowelsOn_13 : decode cX2_vowelsOn 13 = .ok (.iload_n 2, 1) := dk_28 (dk_at dksX2_vowelsOn_0 13 rfl rfl)
theorem dX2_vowelsOn_14 : decode cX2_vowelsOn 14 = .ok (.aload_n 0, 1) := dk_42 (dk_at dksX2_vowelsOn_0 14 rfl rfl)
theorem dX2_vowelsOn_15 : decode cX2_vowelsOn 15 = .ok (.getfield 9, 3) := dk_180 0 9 (dk_at dksX2_vowelsOn_0 15 rfl rfl)
theorem dX2_vowelsOn_18 : decode cX2_vowelsOn 18 = .ok (.aload_n 0, 1) := dk_42 (dk_at dksX2_vowelsOn_0 18 rfl rfl)
theorem dX2_vowelsOn_19 : decode cX2_vowelsOn 19 = .ok (.iload_n 1, 1) := dk_27 (dk_at dksX2_vowelsOn_0 19 rfl rfl)
theorem dX2_vowelsOn_20 : decode cX2_vowelsOn 20 = .ok (.iload_n 3, 1) := dk_29 (dk_at dksX2_vowelsOn_0 20 rfl rfl)
theorem dX2_vowelsOn_21 : decode cX2_vowelsOn 21 = .ok (.invokevirtual 88, 3) := dk_182 0 88 (dk_at dksX2_vowelsOn_0 21 rfl rfl)
theorem dX2_vowelsOn_24 : decode cX2_vowelsOn 24 = .ok (.caload, 1) := dk_52 (dk_at dksX2_vowelsOn_1 0 rfl rfl)
theorem dX2_vowelsOn_25 : decode cX2_vowelsOn 25 = .ok (.invokestatic 196, 3) := dk_184 0 196 (dk_at dksX2_vowelsOn_1 1 rfl rfl)
theorem dX2_vowelsOn_28 : decode cX2_vowelsOn 28 = .ok (.ifCond .eq 7, 3) := dk_153 0 7 (dk_at dksX2_vowelsOn_1 4 rfl rfl)
theorem dX2_vowelsOn_31 : decode cX2_vowelsOn 31 = .ok (.iconst 1, 1) := dk_4 (dk_at dksX2_vowelsOn_1 7 rfl rfl)
theorem dX2_vowelsOn_32 : decode cX2_vowelsOn 32 = .ok (.goto 4, 3) := dk_167 0 4 (dk_at dksX2_vowelsOn_1 8 rfl rfl)
theorem dX2_vowelsOn_35 : decode cX2_vowelsOn 35 = .ok (.iconst 0, 1) := dk_3 (dk_at dksX2_vowelsOn_1 11 rfl rfl)
theorem dX2_vowelsOn_36 : decode cX2_vowelsOn 36 = .ok (.iadd, 1) := dk_96 (dk_at dksX2_vowelsOn_1 12 rfl rfl)
theorem dX2_vowelsOn_37 : decode cX2_vowelsOn 37 = .ok (.istore_n 2, 1) := dk_61 (dk_at dksX2_vowelsOn_1 13 rfl rfl)
theorem dX2_vowelsOn_38 : decode cX2_vowelsOn 38 = .ok (.iinc 3 1, 3) := dk_132 3 1 (dk_at dksX2_vowelsOn_1 14 rfl rfl)
theorem dX2_vowelsOn_41 : decode cX2_vowelsOn 41 = .ok (.goto (-37), 3) := dk_167 255 219 (dk_at dksX2_vowelsOn_1 17 rfl rfl)
theorem dX2_vowelsOn_44 : decode cX2_vowelsOn 44 = .ok (.iload_n 2, 1) := dk_28 (dk_at dksX2_vowelsOn_1 20 rfl rfl)
theorem dX2_vowelsOn_45 : decode cX2_vowelsOn 45 = .ok (.ireturn, 1) := dk_172 (dk_at dksX2_vowelsOn_1 21 rfl rfl)
abbrev cX2_placeOn : ByteArray := prog_5_method_11_code
def yX2_placeOn : MethodName := ⟨RX2, "placeOn", "(II)I"⟩
def dkwX2_placeOn_1 : List UInt8 := [104, 27, 96, 42, 180, 0, 33, 100, 172]
abbrev dktX2_placeOn_1 : List UInt8 := dkwX2_placeOn_1 ++ []
def dkwX2_placeOn_0 : List UInt8 := [27, 42, 180, 0, 33, 162, 0, 14, 27, 42, 180, 0, 37, 104, 28, 96, 167, 0, 16, 28, 42, 180, 0, 37]
abbrev dktX2_placeOn_0 : List UInt8 := dkwX2_placeOn_0 ++ dktX2_placeOn_1
theorem dksX2_placeOn_0 : cX2_placeOn.data.toList.drop 0 = dktX2_placeOn_0 := by decide +kernel
theorem dksX2_placeOn_1 : cX2_placeOn.data.toList.drop 24 = dktX2_placeOn_1 := dk_seg dksX2_placeOn_0 24 rfl rfl
theorem dX2_placeOn_0 : decode cX2_placeOn 0 = .ok (.iload_n 1, 1) := dk_27 (dk_at dksX2_placeOn_0 0 rfl rfl)
theorem dX2_placeOn_1 : decode cX2_placeOn 1 = .ok (.aload_n 0, 1) := dk_42 (dk_at dksX2_placeOn_0 1 rfl rfl)
theorem dX2_placeOn_2 : decode cX2_placeOn 2 = .ok (.getfield 33, 3) := dk_180 0 33 (dk_at dksX2_placeOn_0 2 rfl rfl)
theorem dX2_placeOn_5 : decode cX2_placeOn 5 = .ok (.if_icmp .ge 14, 3) := dk_162 0 14 (dk_at dksX2_placeOn_0 5 rfl rfl)
theorem dX2_placeOn_8 : decode cX2_placeOn 8 = .ok (.iload_n 1, 1) := dk_27 (dk_at dksX2_placeOn_0 8 rfl rfl)
theorem dX2_placeOn_9 : decode cX2_placeOn 9 = .ok (.aload_n 0, 1) := dk_42 (dk_at dksX2_placeOn_0 9 rfl rfl)
theorem dX2_placeOn_10 : decode cX2_placeOn 10 = .ok (.getfield 37, 3) := dk_180 0 37 (dk_at dksX2_placeOn_0 10 rfl rfl)
theorem dX2_placeOn_13 : decode cX2_placeOn 13 = .ok (.imul, 1) := dk_104 (dk_at dksX2_placeOn_0 13 rfl rfl)
theorem dX2_placeOn_14 : decode cX2_placeOn 14 = .ok (.iload_n 2, 1) := dk_28 (dk_at dksX2_placeOn_0 14 rfl rfl)
theorem dX2_placeOn_15 : decode cX2_placeOn 15 = .ok (.iadd, 1) := dk_96 (dk_at dksX2_placeOn_0 15 rfl rfl)
theorem dX2_placeOn_16 : decode cX2_placeOn 16 = .ok (.goto 16, 3) := dk_167 0 16 (dk_at dksX2_placeOn_0 16 rfl rfl)
theorem dX2_placeOn_19 : decode cX2_placeOn 19 = .ok (.iload_n 2, 1) := dk_28 (dk_at dksX2_placeOn_0 19 rfl rfl)
theorem dX2_placeOn_20 : decode cX2_placeOn 20 = .ok (.aload_n 0, 1) := dk_42 (dk_at dksX2_placeOn_0 20 rfl rfl)
theorem dX2_placeOn_21 : decode cX2_placeOn 21 = .ok (.getfield 37, 3) := dk_180 0 37 (dk_at dksX2_placeOn_0 21 rfl rfl)
theorem dX2_placeOn_24 : decode cX2_placeOn 24 = .ok (.imul, 1) := dk_104 (dk_at dksX2_placeOn_1 0 rfl rfl)
theorem dX2_placeOn_25 : decode cX2_placeOn 25 = .ok (.iload_n 1, 1) := dk_27 (dk_at dksX2_placeOn_1 1 rfl rfl)
theorem dX2_placeOn_26 : decode cX2_placeOn 26 = .ok (.iadd, 1) := dk_96 (dk_at dksX2_placeOn_1 2 rfl rfl)
theorem dX2_placeOn_27 : decode cX2_placeOn 27 = .ok (.aload_n 0, 1) := dk_42 (dk_at dksX2_placeOn_1 3 rfl rfl)
theorem dX2_placeOn_28 : decode cX2_placeOn 28 = .ok (.getfield 33, 3) := dk_180 0 33 (dk_at dksX2_placeOn_1 4 rfl rfl)
theorem dX2_placeOn_31 : decode cX2_placeOn 31 = .ok (.isub, 1) := dk_100 (dk_at dksX2_placeOn_1 7 rfl rfl)
theorem dX2_placeOn_32 : decode cX2_placeOn 32 = .ok (.ireturn, 1) := dk_172 (dk_at dksX2_placeOn_1 8 rfl rfl)
abbrev cX2_writes : ByteArray := prog_5_method_63_code
def yX2_writes : MethodName := ⟨RX2, "writes", "(Ljava/lang/StringBuilder;[C)V"⟩
def dkwX2_writes_1 : List UInt8 := [16, 47, 182, 0, 224, 87, 43, 44, 29, 52, 182, 0, 224, 87, 132, 3, 1, 167, 255, 217, 177]
abbrev dktX2_writes_1 : List UInt8 := dkwX2_writes_1 ++ []
def dkwX2_writes_0 : List UInt8 := [3, 62, 29, 42, 182, 0, 68, 162, 0, 37, 29, 158, 0, 19, 29, 42, 180, 0, 37, 112, 154, 0, 10, 43]
abbrev dktX2_writes_0 : List UInt8 := dkwX2_writes_0 ++ dktX2_writes_1
theorem dksX2_writes_0 : cX2_writes.data.toList.drop 0 = dktX2_writes_0 := by decide +kernel
theorem dksX2_writes_1 : cX2_writes.data.toList.drop 24 = dktX2_writes_1 := dk_seg dksX2_writes_0 24 rfl rfl
theorem dX2_writes_0 : decode cX2_writes 0 = .ok (.iconst 0, 1) := dk_3 (dk_at dksX2_writes_0 0 rfl rfl)
theorem dX2_writes_1 : decode cX2_writes 1 = .ok (.istore_n 3, 1) := dk_62 (dk_at dksX2_writes_0 1 rfl rfl)
theorem dX2_writes_2 : decode cX2_writes 2 = .ok (.iload_n 3, 1) := dk_29 (dk_at dksX2_writes_0 2 rfl rfl)
theorem dX2_writes_3 : decode cX2_writes 3 = .ok (.aload_n 0, 1) := dk_42 (dk_at dksX2_writes_0 3 rfl rfl)
theorem dX2_writes_4 : decode cX2_writes 4 = .ok (.invokevirtual 68, 3) := dk_182 0 68 (dk_at dksX2_writes_0 4 rfl rfl)
theorem dX2_writes_7 : decode cX2_writes 7 = .ok (.if_icmp .ge 37, 3) := dk_162 0 37 (dk_at dksX2_writes_0 7 rfl rfl)
theorem dX2_writes_10 : decode cX2_writes 10 = .ok (.iload_n 3, 1) := dk_29 (dk_at dksX2_writes_0 10 rfl rfl)
theorem dX2_writes_11 : decode cX2_writes 11 = .ok (.ifCond .le 19, 3) := dk_158 0 19 (dk_at dksX2_writes_0 11 rfl rfl)
theorem dX2_writes_14 : decode cX2_writes 14 = .ok (.iload_n 3, 1) := dk_29 (dk_at dksX2_writes_0 14 rfl rfl)
theorem dX2_writes_15 : decode cX2_writes 15 = .ok (.aload_n 0, 1) := dk_42 (dk_at dksX2_writes_0 15 rfl rfl)
theorem dX2_writes_16 : decode cX2_writes 16 = .ok (.getfield 37, 3) := dk_180 0 37 (dk_at dksX2_writes_0 16 rfl rfl)
theorem dX2_writes_19 : decode cX2_writes 19 = .ok (.irem, 1) := dk_112 (dk_at dksX2_writes_0 19 rfl rfl)
theorem dX2_writes_20 : decode cX2_writes 20 = .ok (.ifCond .ne 10, 3) := dk_154 0 10 (dk_at dksX2_writes_0 20 rfl rfl)
theorem dX2_writes_23 : decode cX2_writes 23 = .ok (.aload_n 1, 1) := dk_43 (dk_at dksX2_writes_0 23 rfl rfl)
theorem dX2_writes_24 : decode cX2_writes 24 = .ok (.bipush 47, 2) := dk_16 47 (dk_at dksX2_writes_1 0 rfl rfl)
theorem dX2_writes_26 : decode cX2_writes 26 = .ok (.invokevirtual 224, 3) := dk_182 0 224 (dk_at dksX2_writes_1 2 rfl rfl)
theorem dX2_writes_29 : decode cX2_writes 29 = .ok (.pop, 1) := dk_87 (dk_at dksX2_writes_1 5 rfl rfl)
theorem dX2_writes_30 : decode cX2_writes 30 = .ok (.aload_n 1, 1) := dk_43 (dk_at dksX2_writes_1 6 rfl rfl)
theorem dX2_writes_31 : decode cX2_writes 31 = .ok (.aload_n 2, 1) := dk_44 (dk_at dksX2_writes_1 7 rfl rfl)
theorem dX2_writes_32 : decode cX2_writes 32 = .ok (.iload_n 3, 1) := dk_29 (dk_at dksX2_writes_1 8 rfl rfl)
theorem dX2_writes_33 : decode cX2_writes 33 = .ok (.caload, 1) := dk_52 (dk_at dksX2_writes_1 9 rfl rfl)
theorem dX2_writes_34 : decode cX2_writes 34 = .ok (.invokevirtual 224, 3) := dk_182 0 224 (dk_at dksX2_writes_1 10 rfl rfl)
theorem dX2_writes_37 : decode cX2_writes 37 = .ok (.pop, 1) := dk_87 (dk_at dksX2_writes_1 13 rfl rfl)
theorem dX2_writes_38 : decode cX2_writes 38 = .ok (.iinc 3 1, 3) := dk_132 3 1 (dk_at dksX2_writes_1 14 rfl rfl)
theorem dX2_writes_41 : decode cX2_writes 41 = .ok (.goto (-39), 3) := dk_167 255 217 (dk_at dksX2_writes_1 17 rfl rfl)
theorem dX2_writes_44 : decode cX2_writes 44 = .ok (.return_, 1) := dk_177 (dk_at dksX2_writes_1 20 rfl rfl)
abbrev cX2_isWell : ByteArray := prog_5_method_62_code
def yX2_isWell : MethodName := ⟨RX2, "isWell", "()Z"⟩
def dkwX2_isWell_2 : List UInt8 := [182, 0, 163, 153, 0, 14, 42, 182, 0, 166, 42, 182, 0, 221, 160, 0, 7, 4, 167, 0, 4, 3, 172]
abbrev dktX2_isWell_2 : List UInt8 := dkwX2_isWell_2 ++ []
def dkwX2_isWell_1 : List UInt8 := [154, 0, 7, 4, 167, 0, 4, 3, 61, 28, 153, 0, 33, 42, 182, 0, 218, 153, 0, 26, 42, 3]
abbrev dktX2_isWell_1 : List UInt8 := dkwX2_isWell_1 ++ dktX2_isWell_2
def dkwX2_isWell_0 : List UInt8 := [42, 182, 0, 179, 60, 27, 42, 182, 0, 215, 160, 0, 19, 27, 2, 159, 0, 10, 42, 182, 0, 176]
abbrev dktX2_isWell_0 : List UInt8 := dkwX2_isWell_0 ++ dktX2_isWell_1
theorem dksX2_isWell_0 : cX2_isWell.data.toList.drop 0 = dktX2_isWell_0 := by decide +kernel
theorem dksX2_isWell_1 : cX2_isWell.data.toList.drop 22 = dktX2_isWell_1 := dk_seg dksX2_isWell_0 22 rfl rfl
theorem dksX2_isWell_2 : cX2_isWell.data.toList.drop 44 = dktX2_isWell_2 := dk_seg dksX2_isWell_1 22 rfl rfl
theorem dX2_isWell_0 : decode cX2_isWell 0 = .ok (.aload_n 0, 1) := dk_42 (dk_at dksX2_isWell_0 0 rfl rfl)
theorem dX2_isWell_1 : decode cX2_isWell 1 = .ok (.invokevirtual 179, 3) := dk_182 0 179 (dk_at dksX2_isWell_0 1 rfl rfl)
theorem dX2_isWell_4 : decode cX2_isWell 4 = .ok (.istore_n 1, 1) := dk_60 (dk_at dksX2_isWell_0 4 rfl rfl)
theorem dX2_isWell_5 : decode cX2_isWell 5 = .ok (.iload_n 1, 1) := dk_27 (dk_at dksX2_isWell_0 5 rfl rfl)
theorem dX2_isWell_6 : decode cX2_isWell 6 = .ok (.aload_n 0, 1) := dk_42 (dk_at dksX2_isWell_0 6 rfl rfl)
theorem dX2_isWell_7 : decode cX2_isWell 7 = .ok (.invokevirtual 215, 3) := dk_182 0 215 (dk_at dksX2_isWell_0 7 rfl rfl)
theorem dX2_isWell_10 : decode cX2_isWell 10 = .ok (.if_icmp .ne 19, 3) := dk_160 0 19 (dk_at dksX2_isWell_0 10 rfl rfl)
theorem dX2_isWell_13 : decode cX2_isWell 13 = .ok (.iload_n 1, 1) := dk_27 (dk_at dksX2_isWell_0 13 rfl rfl)
theorem dX2_isWell_14 : decode cX2_isWell 14 = .ok (.iconst (-1), 1) := dk_2 (dk_at dksX2_isWell_0 14 rfl rfl)
theorem dX2_isWell_15 : decode cX2_isWell 15 = .ok (.if_icmp .eq 10, 3) := dk_159 0 10 (dk_at dksX2_isWell_0 15 rfl rfl)
theorem dX2_isWell_18 : decode cX2_isWell 18 = .ok (.aload_n 0, 1) := dk_42 (dk_at dksX2_isWell_0 18 rfl rfl)
theorem dX2_isWell_19 : decode cX2_isWell 19 = .ok (.invokevirtual 176, 3) := dk_182 0 176 (dk_at dksX2_isWell_0 19 rfl rfl)
theorem dX2_isWell_22 : decode cX2_isWell 22 = .ok (.ifCond .ne 7, 3) := dk_154 0 7 (dk_at dksX2_isWell_1 0 rfl rfl)
theorem dX2_isWell_25 : decode cX2_isWell 25 = .ok (.iconst 1, 1) := dk_4 (dk_at dksX2_isWell_1 3 rfl rfl)
theorem dX2_isWell_26 : decode cX2_isWell 26 = .ok (.goto 4, 3) := dk_167 0 4 (dk_at dksX2_isWell_1 4 rfl rfl)
theorem dX2_isWell_29 : decode cX2_isWell 29 = .ok (.iconst 0, 1) := dk_3 (dk_at dksX2_isWell_1 7 rfl rfl)
theorem dX2_isWell_30 : decode cX2_isWell 30 = .ok (.istore_n 2, 1) := dk_61 (dk_at dksX2_isWell_1 8 rfl rfl)
theorem dX2_isWell_31 : decode cX2_isWell 31 = .ok (.iload_n 2, 1) := dk_28 (dk_at dksX2_isWell_1 9 rfl rfl)
theorem dX2_isWell_32 : decode cX2_isWell 32 = .ok (.ifCond .eq 33, 3) := dk_153 0 33 (dk_at dksX2_isWell_1 10 rfl rfl)
theorem dX2_isWell_35 : decode cX2_isWell 35 = .ok (.aload_n 0, 1) := dk_42 (dk_at dksX2_isWell_1 13 rfl rfl)
theorem dX2_isWell_36 : decode cX2_isWell 36 = .ok (.invokevirtual 218, 3) := dk_182 0 218 (dk_at dksX2_isWell_1 14 rfl rfl)
theorem dX2_isWell_39 : decode cX2_isWell 39 = .ok (.ifCond .eq 26, 3) := dk_153 0 26 (dk_at dksX2_isWell_1 17 rfl rfl)
theorem dX2_isWell_42 : decode cX2_isWell 42 = .ok (.aload_n 0, 1) := dk_42 (dk_at dksX2_isWell_1 20 rfl rfl)
theorem dX2_isWell_43 : decode cX2_isWell 43 = .ok (.iconst 0, 1) := dk_3 (dk_at dksX2_isWell_1 21 rfl rfl)
theorem dX2_isWell_44 : decode cX2_isWell 44 = .ok (.invokevirtual 163, 3) := dk_182 0 163 (dk_at dksX2_isWell_2 0 rfl rfl)
theorem dX2_isWell_47 : decode cX2_isWell 47 = .ok (.ifCond .eq 14, 3) := dk_153 0 14 (dk_at dksX2_isWell_2 3 rfl rfl)
theorem dX2_isWell_50 : decode cX2_isWell 50 = .ok (.aload_n 0, 1) := dk_42 (dk_at dksX2_isWell_2 6 rfl rfl)
theorem dX2_isWell_51 : decode cX2_isWell 51 = .ok (.invokevirtual 166, 3) := dk_182 0 166 (dk_at dksX2_isWell_2 7 rfl rfl)
theorem dX2_isWell_54 : decode cX2_isWell 54 = .ok (.aload_n 0, 1) := dk_42 (dk_at dksX2_isWell_2 10 rfl rfl)
theorem dX2_isWell_55 : decode cX2_isWell 55 = .ok (.invokevirtual 221, 3) := dk_182 0 221 (dk_at dksX2_isWell_2 11 rfl rfl)
theorem dX2_isWell_58 : decode cX2_isWell 58 = .ok (.if_icmp .ne 7, 3) := dk_160 0 7 (dk_at dksX2_isWell_2 14 rfl rfl)
theorem dX2_isWell_61 : decode cX2_isWell 61 = .ok (.iconst 1, 1) := dk_4 (dk_at dksX2_isWell_2 17 rfl rfl)
theorem dX2_isWell_62 : decode cX2_isWell 62 = .ok (.goto 4, 3) := dk_167 0 4 (dk_at dksX2_isWell_2 18 rfl rfl)
theorem dX2_isWell_65 : decode cX2_isWell 65 = .ok (.iconst 0, 1) := dk_3 (dk_at dksX2_isWell_2 21 rfl rfl)
theorem dX2_isWell_66 : decode cX2_isWell 66 = .ok (.ireturn, 1) := dk_172 (dk_at dksX2_isWell_2 22 rfl rfl)
abbrev cX2_away : ByteArray := prog_5_method_28_code
def yX2_away : MethodName := ⟨RX2, "away", "()I"⟩
def dkwX2_away_3 : List UInt8 := [167, 255, 205, 27, 6, 164, 0, 7, 2, 167, 0, 4, 27, 172]
abbrev dktX2_away_3 : List UInt8 := dkwX2_away_3 ++ []
def dkwX2_away_2 : List UInt8 := [42, 182, 0, 128, 4, 96, 184, 0, 131, 60, 42, 42, 180, 0, 15, 28, 182, 0, 103, 132, 2, 1]
abbrev dktX2_away_2 : List UInt8 := dkwX2_away_2 ++ dktX2_away_3
def dkwX2_away_1 : List UInt8 := [162, 0, 49, 42, 28, 182, 0, 109, 153, 0, 35, 42, 42, 180, 0, 15, 28, 184, 0, 106, 182, 0, 103, 27]
abbrev dktX2_away_1 : List UInt8 := dkwX2_away_1 ++ dktX2_away_2
def dkwX2_away_0 : List UInt8 := [42, 3, 181, 0, 115, 42, 3, 5, 182, 0, 122, 42, 182, 0, 128, 60, 3, 61, 28, 42, 182, 0, 75]
abbrev dktX2_away_0 : List UInt8 := dkwX2_away_0 ++ dktX2_away_1
theorem dksX2_away_0 : cX2_away.data.toList.drop 0 = dktX2_away_0 := by decide +kernel
theorem dksX2_away_1 : cX2_away.data.toList.drop 23 = dktX2_away_1 := dk_seg dksX2_away_0 23 rfl rfl
theorem dksX2_away_2 : cX2_away.data.toList.drop 47 = dktX2_away_2 := dk_seg dksX2_away_1 24 rfl rfl
theorem dksX2_away_3 : cX2_away.data.toList.drop 69 = dktX2_away_3 := dk_seg dksX2_away_2 22 rfl rfl
theorem dX2_away_0 : decode cX2_away 0 = .ok (.aload_n 0, 1) := dk_42 (dk_at dksX2_away_0 0 rfl rfl)
theorem dX2_away_1 : decode cX2_away 1 = .ok (.iconst 0, 1) := dk_3 (dk_at dksX2_away_0 1 rfl rfl)
theorem dX2_away_2 : decode cX2_away 2 = .ok (.putfield 115, 3) := dk_181 0 115 (dk_at dksX2_away_0 2 rfl rfl)
theorem dX2_away_5 : decode cX2_away 5 = .ok (.aload_n 0, 1) := dk_42 (dk_at dksX2_away_0 5 rfl rfl)
theorem dX2_away_6 : decode cX2_away 6 = .ok (.iconst 0, 1) := dk_3 (dk_at dksX2_away_0 6 rfl rfl)
theorem dX2_away_7 : decode cX2_away 7 = .ok (.iconst 2, 1) := dk_5 (dk_at dksX2_away_0 7 rfl rfl)
theorem dX2_away_8 : decode cX2_away 8 = .ok (.invokevirtual 122, 3) := dk_182 0 122 (dk_at dksX2_away_0 8 rfl rfl)
theorem dX2_away_11 : decode cX2_away 11 = .ok (.aload_n 0, 1) := dk_42 (dk_at dksX2_away_0 11 rfl rfl)
theorem dX2_away_12 : decode cX2_away 12 = .ok (.invokevirtual 128, 3) := dk_182 0 128 (dk_at dksX2_away_0 12 rfl rfl)
theorem dX2_away_15 : decode cX2_away 15 = .ok (.istore_n 1, 1) := dk_60 (dk_at dksX2_away_0 15 rfl rfl)
theorem dX2_away_16 : decode cX2_away 16 = .ok (.iconst 0, 1) := dk_3 (dk_at dksX2_away_0 16 rfl rfl)
theorem dX2_away_17 : decode cX2_away 17 = .ok (.istore_n 2, 1) := dk_61 (dk_at dksX2_away_0 17 rfl rfl)
theorem dX2_away_18 : decode cX2_away 18 = .ok (.iload_n 2, 1) := dk_28 (dk_at dksX2_away_0 18 rfl rfl)
theorem dX2_away_19 : decode cX2_away 19 = .ok (.aload_n 0, 1) := dk_42 (dk_at dksX2_away_0 19 rfl rfl)
theorem dX2_away_20 : decode cX2_away 20 = .ok (.invokevirtual 75, 3) := dk_182 0 75 (dk_at dksX2_away_0 20 rfl rfl)
theorem dX2_away_23 : decode cX2_away 23 = .ok (.if_icmp .ge 49, 3) := dk_162 0 49 (dk_at dksX2_away_1 0 rfl rfl)
theorem dX2_away_26 : decode cX2_away 26 = .ok (.aload_n 0, 1) := dk_42 (dk_at dksX2_away_1 3 rfl rfl)
theorem dX2_away_27 : decode cX2_away 27 = .ok (.iload_n 2, 1) := dk_28 (dk_at dksX2_away_1 4 rfl rfl)
theorem dX2_away_28 : decode cX2_away 28 = .ok (.invokevirtual 109, 3) := dk_182 0 109 (dk_at dksX2_away_1 5 rfl rfl)
theorem dX2_away_31 : decode cX2_away 31 = .ok (.ifCond .eq 35, 3) := dk_153 0 35 (dk_at dksX2_away_1 8 rfl rfl)
theorem dX2_away_34 : decode cX2_away 34 = .ok (.aload_n 0, 1) := dk_42 (dk_at dksX2_away_1 11 rfl rfl)
theorem dX2_away_35 : decode cX2_away 35 = .ok (.aload_n 0, 1) := dk_42 (dk_at dksX2_away_1 12 rfl rfl)
theorem dX2_away_36 : decode cX2_away 36 = .ok (.getfield 15, 3) := dk_180 0 15 (dk_at dksX2_away_1 13 rfl rfl)
theorem dX2_away_39 : decode cX2_away 39 = .ok (.iload_n 2, 1) := dk_28 (dk_at dksX2_away_1 16 rfl rfl)
theorem dX2_away_40 : decode cX2_away 40 = .ok (.invokestatic 106, 3) := dk_184 0 106 (dk_at dksX2_away_1 17 rfl rfl)
theorem dX2_away_43 : decode cX2_away 43 = .ok (.invokevirtual 103, 3) := dk_182 0 103 (dk_at dksX2_away_1 20 rfl rfl)
theorem dX2_away_46 : decode cX2_away 46 = .ok (.iload_n 1, 1) := dk_27 (dk_at dksX2_away_1 23 rfl rfl)
theorem dX2_away_47 : decode cX2_away 47 = .ok (.aload_n 0, 1) := dk_42 (dk_at dksX2_away_2 0 rfl rfl)
theorem dX2_away_48 : decode cX2_away 48 = .ok (.invokevirtual 128, 3) := dk_182 0 128 (dk_at dksX2_away_2 1 rfl rfl)
theorem dX2_away_51 : decode cX2_away 51 = .ok (.iconst 1, 1) := dk_4 (dk_at dksX2_away_2 4 rfl rfl)
theorem dX2_away_52 : decode cX2_away 52 = .ok (.iadd, 1) := dk_96 (dk_at dksX2_away_2 5 rfl rfl)
theorem dX2_away_53 : decode cX2_away 53 = .ok (.invokestatic 131, 3) := dk_184 0 131 (dk_at dksX2_away_2 6 rfl rfl)
theorem dX2_away_56 : decode cX2_away 56 = .ok (.istore_n 1, 1) := dk_60 (dk_at dksX2_away_2 9 rfl rfl)
theorem dX2_away_57 : decode cX2_away 57 = .ok (.aload_n 0, 1) := dk_42 (dk_at dksX2_away_2 10 rfl rfl)
theorem dX2_away_58 : decode cX2_away 58 = .ok (.aload_n 0, 1) := dk_42 (dk_at dksX2_away_2 11 rfl rfl)
theorem dX2_away_59 : decode cX2_away 59 = .ok (.getfield 15, 3) := dk_180 0 15 (dk_at dksX2_away_2 12 rfl rfl)
theorem dX2_away_62 : decode cX2_away 62 = .ok (.iload_n 2, 1) := dk_28 (dk_at dksX2_away_2 15 rfl rfl)
theorem dX2_away_63 : decode cX2_away 63 = .ok (.invokevirtual 103, 3) := dk_182 0 103 (dk_at dksX2_away_2 16 rfl rfl)
theorem dX2_away_66 : decode cX2_away 66 = .ok (.iinc 2 1, 3) := dk_132 2 1 (dk_at dksX2_away_2 19 rfl rfl)
theorem dX2_away_69 : decode cX2_away 69 = .ok (.goto (-51), 3) := dk_167 255 205 (dk_at dksX2_away_3 0 rfl rfl)
theorem dX2_away_72 : decode cX2_away 72 = .ok (.iload_n 1, 1) := dk_27 (dk_at dksX2_away_3 3 rfl rfl)
theorem dX2_away_73 : decode cX2_away 73 = .ok (.iconst 3, 1) := dk_6 (dk_at dksX2_away_3 4 rfl rfl)
theorem dX2_away_74 : decode cX2_away 74 = .ok (.if_icmp .le 7, 3) := dk_164 0 7 (dk_at dksX2_away_3 5 rfl rfl)
theorem dX2_away_77 : decode cX2_away 77 = .ok (.iconst (-1), 1) := dk_2 (dk_at dksX2_away_3 8 rfl rfl)
theorem dX2_away_78 : decode cX2_away 78 = .ok (.goto 4, 3) := dk_167 0 4 (dk_at dksX2_away_3 9 rfl rfl)
theorem dX2_away_81 : decode cX2_away 81 = .ok (.iload_n 1, 1) := dk_27 (dk_at dksX2_away_3 12 rfl rfl)
theorem dX2_away_82 : decode cX2_away 82 = .ok (.ireturn, 1) := dk_172 (dk_at dksX2_away_3 13 rfl rfl)
abbrev cX2_goesAhead : ByteArray := prog_5_method_25_code
def yX2_goesAhead : MethodName := ⟨RX2, "goesAhead", "(II)V"⟩
def dkwX2_goesAhead_2 : List UInt8 := [42, 180, 0, 9, 29, 184, 0, 106, 182, 0, 103, 132, 3, 1, 167, 255, 203, 177]
abbrev dktX2_goesAhead_2 : List UInt8 := dkwX2_goesAhead_2 ++ []
def dkwX2_goesAhead_1 : List UInt8 := [182, 0, 109, 153, 0, 32, 42, 42, 180, 0, 9, 29, 182, 0, 103, 42, 27, 4, 96, 28, 182, 0, 122, 42]
abbrev dktX2_goesAhead_1 : List UInt8 := dkwX2_goesAhead_1 ++ dktX2_goesAhead_2
def dkwX2_goesAhead_0 : List UInt8 := [42, 27, 182, 0, 118, 3, 62, 29, 42, 182, 0, 75, 162, 0, 51, 27, 28, 162, 0, 46, 42, 29]
abbrev dktX2_goesAhead_0 : List UInt8 := dkwX2_goesAhead_0 ++ dktX2_goesAhead_1
theorem dksX2_goesAhead_0 : cX2_goesAhead.data.toList.drop 0 = dktX2_goesAhead_0 := by decide +kernel
theorem dksX2_goesAhead_1 : cX2_goesAhead.data.toList.drop 22 = dktX2_goesAhead_1 := dk_seg dksX2_goesAhead_0 22 rfl rfl
theorem dksX2_goesAhead_2 : cX2_goesAhead.data.toList.drop 46 = dktX2_goesAhead_2 := dk_seg dksX2_goesAhead_1 24 rfl rfl
theorem dX2_goesAhead_0 : decode cX2_goesAhead 0 = .ok (.aload_n 0, 1) := dk_42 (dk_at dksX2_goesAhead_0 0 rfl rfl)
theorem dX2_goesAhead_1 : decode cX2_goesAhead 1 = .ok (.iload_n 1, 1) := dk_27 (dk_at dksX2_goesAhead_0 1 rfl rfl)
theorem dX2_goesAhead_2 : decode cX2_goesAhead 2 = .ok (.invokevirtual 118, 3) := dk_182 0 118 (dk_at dksX2_goesAhead_0 2 rfl rfl)
theorem dX2_goesAhead_5 : decode cX2_goesAhead 5 = .ok (.iconst 0, 1) := dk_3 (dk_at dksX2_goesAhead_0 5 rfl rfl)
theorem dX2_goesAhead_6 : decode cX2_goesAhead 6 = .ok (.istore_n 3, 1) := dk_62 (dk_at dksX2_goesAhead_0 6 rfl rfl)
theorem dX2_goesAhead_7 : decode cX2_goesAhead 7 = .ok (.iload_n 3, 1) := dk_29 (dk_at dksX2_goesAhead_0 7 rfl rfl)
theorem dX2_goesAhead_8 : decode cX2_goesAhead 8 = .ok (.aload_n 0, 1) := dk_42 (dk_at dksX2_goesAhead_0 8 rfl rfl)
theorem dX2_goesAhead_9 : decode cX2_goesAhead 9 = .ok (.invokevirtual 75, 3) := dk_182 0 75 (dk_at dksX2_goesAhead_0 9 rfl rfl)
theorem dX2_goesAhead_12 : decode cX2_goesAhead 12 = .ok (.if_icmp .ge 51, 3) := dk_162 0 51 (dk_at dksX2_goesAhead_0 12 rfl rfl)
theorem dX2_goesAhead_15 : decode cX2_goesAhead 15 = .ok (.iload_n 1, 1) := dk_27 (dk_at dksX2_goesAhead_0 15 rfl rfl)
theorem dX2_goesAhead_16 : decode cX2_goesAhead 16 = .ok (.iload_n 2, 1) := dk_28 (dk_at dksX2_goesAhead_0 16 rfl rfl)
theorem dX2_goesAhead_17 : decode cX2_goesAhead 17 = .ok (.if_icmp .ge 46, 3) := dk_162 0 46 (dk_at dksX2_goesAhead_0 17 rfl rfl)
theorem dX2_goesAhead_20 : decode cX2_goesAhead 20 = .ok (.aload_n 0, 1) := dk_42 (dk_at dksX2_goesAhead_0 20 rfl rfl)
theorem dX2_goesAhead_21 : decode cX2_goesAhead 21 = .ok (.iload_n 3, 1) := dk_29 (dk_at dksX2_goesAhead_0 21 rfl rfl)
theorem dX2_goesAhead_22 : decode cX2_goesAhead 22 = .ok (.invokevirtual 109, 3) := dk_182 0 109 (dk_at dksX2_goesAhead_1 0 rfl rfl)
theorem dX2_goesAhead_25 : decode cX2_goesAhead 25 = .ok (.ifCond .eq 32, 3) := dk_153 0 32 (dk_at dksX2_goesAhead_1 3 rfl rfl)
theorem dX2_goesAhead_28 : decode cX2_goesAhead 28 = .ok (.aload_n 0, 1) := dk_42 (dk_at dksX2_goesAhead_1 6 rfl rfl)
theorem dX2_goesAhead_29 : decode cX2_goesAhead 29 = .ok (.aload_n 0, 1) := dk_42 (dk_at dksX2_goesAhead_1 7 rfl rfl)
theorem dX2_goesAhead_30 : decode cX2_goesAhead 30 = .ok (.getfield 9, 3) := dk_180 0 9 (dk_at dksX2_goesAhead_1 8 rfl rfl)
theorem dX2_goesAhead_33 : decode cX2_goesAhead 33 = .ok (.iload_n 3, 1) := dk_29 (dk_at dksX2_goesAhead_1 11 rfl rfl)
theorem dX2_goesAhead_34 : decode cX2_goesAhead 34 = .ok (.invokevirtual 103, 3) := dk_182 0 103 (dk_at dksX2_goesAhead_1 12 rfl rfl)
theorem dX2_goesAhead_37 : decode cX2_goesAhead 37 = .ok (.aload_n 0, 1) := dk_42 (dk_at dksX2_goesAhead_1 15 rfl rfl)
theorem dX2_goesAhead_38 : decode cX2_goesAhead 38 = .ok (.iload_n 1, 1) := dk_27 (dk_at dksX2_goesAhead_1 16 rfl rfl)
theorem dX2_goesAhead_39 : decode cX2_goesAhead 39 = .ok (.iconst 1, 1) := dk_4 (dk_at dksX2_goesAhead_1 17 rfl rfl)
theorem dX2_goesAhead_40 : decode cX2_goesAhead 40 = .ok (.iadd, 1) := dk_96 (dk_at dksX2_goesAhead_1 18 rfl rfl)
theorem dX2_goesAhead_41 : decode cX2_goesAhead 41 = .ok (.iload_n 2, 1) := dk_28 (dk_at dksX2_goesAhead_1 19 rfl rfl)
theorem dX2_goesAhead_42 : decode cX2_goesAhead 42 = .ok (.invokevirtual 122, 3) := dk_182 0 122 (dk_at dksX2_goesAhead_1 20 rfl rfl)
theorem dX2_goesAhead_45 : decode cX2_goesAhead 45 = .ok (.aload_n 0, 1) := dk_42 (dk_at dksX2_goesAhead_1 23 rfl rfl)
theorem dX2_goesAhead_46 : decode cX2_goesAhead 46 = .ok (.aload_n 0, 1) := dk_42 (dk_at dksX2_goesAhead_2 0 rfl rfl)
theorem dX2_goesAhead_47 : decode cX2_goesAhead 47 = .ok (.getfield 9, 3) := dk_180 0 9 (dk_at dksX2_goesAhead_2 1 rfl rfl)
theorem dX2_goesAhead_50 : decode cX2_goesAhead 50 = .ok (.iload_n 3, 1) := dk_29 (dk_at dksX2_goesAhead_2 4 rfl rfl)
theorem dX2_goesAhead_51 : decode cX2_goesAhead 51 = .ok (.invokestatic 106, 3) := dk_184 0 106 (dk_at dksX2_goesAhead_2 5 rfl rfl)
theorem dX2_goesAhead_54 : decode cX2_goesAhead 54 = .ok (.invokevirtual 103, 3) := dk_182 0 103 (dk_at dksX2_goesAhead_2 8 rfl rfl)
theorem dX2_goesAhead_57 : decode cX2_goesAhead 57 = .ok (.iinc 3 1, 3) := dk_132 3 1 (dk_at dksX2_goesAhead_2 11 rfl rfl)
theorem dX2_goesAhead_60 : decode cX2_goesAhead 60 = .ok (.goto (-53), 3) := dk_167 255 203 (dk_at dksX2_goesAhead_2 14 rfl rfl)
theorem dX2_goesAhead_63 : decode cX2_goesAhead 63 = .ok (.return_, 1) := dk_177 (dk_at dksX2_goesAhead_2 17 rfl rfl)
abbrev cX2_addsAhead : ByteArray := prog_5_method_24_code
def yX2_addsAhead : MethodName := ⟨RX2, "addsAhead", "(I)V"⟩
def dkwX2_addsAhead_1 : List UInt8 := [180, 0, 25, 42, 180, 0, 115, 27, 79, 42, 89, 180, 0, 115, 4, 96, 181, 0, 115, 177]
abbrev dktX2_addsAhead_1 : List UInt8 := dkwX2_addsAhead_1 ++ []
def dkwX2_addsAhead_0 : List UInt8 := [42, 180, 0, 9, 3, 42, 180, 0, 22, 16, 9, 42, 180, 0, 115, 104, 16, 9, 184, 0, 40, 42]
abbrev dktX2_addsAhead_0 : List UInt8 := dkwX2_addsAhead_0 ++ dktX2_addsAhead_1
theorem dksX2_addsAhead_0 : cX2_addsAhead.data.toList.drop 0 = dktX2_addsAhead_0 := by decide +kernel
theorem dksX2_addsAhead_1 : cX2_addsAhead.data.toList.drop 22 = dktX2_addsAhead_1 := dk_seg dksX2_addsAhead_0 22 rfl rfl
theorem dX2_addsAhead_0 : decode cX2_addsAhead 0 = .ok (.aload_n 0, 1) := dk_42 (dk_at dksX2_addsAhead_0 0 rfl rfl)
theorem dX2_addsAhead_1 : decode cX2_addsAhead 1 = .ok (.getfield 9, 3) := dk_180 0 9 (dk_at dksX2_addsAhead_0 1 rfl rfl)
theorem dX2_addsAhead_4 : decode cX2_addsAhead 4 = .ok (.iconst 0, 1) := dk_3 (dk_at dksX2_addsAhead_0 4 rfl rfl)
theorem dX2_addsAhead_5 : decode cX2_addsAhead 5 = .ok (.aload_n 0, 1) := dk_42 (dk_at dksX2_addsAhead_0 5 rfl rfl)
theorem dX2_addsAhead_6 : decode cX2_addsAhead 6 = .ok (.getfield 22, 3) := dk_180 0 22 (dk_at dksX2_addsAhead_0 6 rfl rfl)
theorem dX2_addsAhead_9 : decode cX2_addsAhead 9 = .ok (.bipush 9, 2) := dk_16 9 (dk_at dksX2_addsAhead_0 9 rfl rfl)
theorem dX2_addsAhead_11 : decode cX2_addsAhead 11 = .ok (.aload_n 0, 1) := dk_42 (dk_at dksX2_addsAhead_0 11 rfl rfl)
theorem dX2_addsAhead_12 : decode cX2_addsAhead 12 = .ok (.getfield 115, 3) := dk_180 0 115 (dk_at dksX2_addsAhead_0 12 rfl rfl)
theorem dX2_addsAhead_15 : decode cX2_addsAhead 15 = .ok (.imul, 1) := dk_104 (dk_at dksX2_addsAhead_0 15 rfl rfl)
theorem dX2_addsAhead_16 : decode cX2_addsAhead 16 = .ok (.bipush 9, 2) := dk_16 9 (dk_at dksX2_addsAhead_0 16 rfl rfl)
theorem dX2_addsAhead_18 : decode cX2_addsAhead 18 = .ok (.invokestatic 40, 3) := dk_184 0 40 (dk_at dksX2_addsAhead_0 18 rfl rfl)
theorem dX2_addsAhead_21 : decode cX2_addsAhead 21 = .ok (.aload_n 0, 1) := dk_42 (dk_at dksX2_addsAhead_0 21 rfl rfl)
theorem dX2_addsAhead_22 : decode cX2_addsAhead 22 = .ok (.getfield 25, 3) := dk_180 0 25 (dk_at dksX2_addsAhead_1 0 rfl rfl)
theorem dX2_addsAhead_25 : decode cX2_addsAhead 25 = .ok (.aload_n 0, 1) := dk_42 (dk_at dksX2_addsAhead_1 3 rfl rfl)
theorem dX2_addsAhead_26 : decode cX2_addsAhead 26 = .ok (.getfield 115, 3) := dk_180 0 115 (dk_at dksX2_addsAhead_1 4 rfl rfl)
theorem dX2_addsAhead_29 : decode cX2_addsAhead 29 = .ok (.iload_n 1, 1) := dk_27 (dk_at dksX2_addsAhead_1 7 rfl rfl)
theorem dX2_addsAhead_30 : decode cX2_addsAhead 30 = .ok (.iastore, 1) := dk_79 (dk_at dksX2_addsAhead_1 8 rfl rfl)
theorem dX2_addsAhead_31 : decode cX2_addsAhead 31 = .ok (.aload_n 0, 1) := dk_42 (dk_at dksX2_addsAhead_1 9 rfl rfl)
theorem dX2_addsAhead_32 : decode cX2_addsAhead 32 = .ok (.dup, 1) := dk_89 (dk_at dksX2_addsAhead_1 10 rfl rfl)
theorem dX2_addsAhead_33 : decode cX2_addsAhead 33 = .ok (.getfield 115, 3) := dk_180 0 115 (dk_at dksX2_addsAhead_1 11 rfl rfl)
theorem dX2_addsAhead_36 : decode cX2_addsAhead 36 = .ok (.iconst 1, 1) := dk_4 (dk_at dksX2_addsAhead_1 14 rfl rfl)
theorem dX2_addsAhead_37 : decode cX2_addsAhead 37 = .ok (.iadd, 1) := dk_96 (dk_at dksX2_addsAhead_1 15 rfl rfl)
theorem dX2_addsAhead_38 : decode cX2_addsAhead 38 = .ok (.putfield 115, 3) := dk_181 0 115 (dk_at dksX2_addsAhead_1 16 rfl rfl)
theorem dX2_addsAhead_41 : decode cX2_addsAhead 41 = .ok (.return_, 1) := dk_177 (dk_at dksX2_addsAhead_1 19 rfl rfl)
abbrev cX2_turns : ByteArray := prog_5_method_6_code
def yX2_turns : MethodName := ⟨RX2, "turns", "()I"⟩
def dkwX2_turns_0 : List UInt8 := [5, 42, 182, 0, 64, 104, 172]
abbrev dktX2_turns_0 : List UInt8 := dkwX2_turns_0 ++ []
theorem dksX2_turns_0 : cX2_turns.data.toList.drop 0 = dktX2_turns_0 := by decide +kernel
theorem dX2_turns_0 : decode cX2_turns 0 = .ok (.iconst 2, 1) := dk_5 (dk_at dksX2_turns_0 0 rfl rfl)
theorem dX2_turns_1 : decode cX2_turns 1 = .ok (.aload_n 0, 1) := dk_42 (dk_at dksX2_turns_0 1 rfl rfl)
theorem dX2_turns_2 : decode cX2_turns 2 = .ok (.invokevirtual 64, 3) := dk_182 0 64 (dk_at dksX2_turns_0 2 rfl rfl)
theorem dX2_turns_5 : decode cX2_turns 5 = .ok (.imul, 1) := dk_104 (dk_at dksX2_turns_0 5 rfl rfl)
theorem dX2_turns_6 : decode cX2_turns 6 = .ok (.ireturn, 1) := dk_172 (dk_at dksX2_turns_0 6 rfl rfl)
abbrev cX2_can : ByteArray := prog_5_method_17_code
def yX2_can : MethodName := ⟨RX2, "can", "(I)Z"⟩
def dkwX2_can_0 : List UInt8 := [42, 180, 0, 18, 27, 5, 108, 51, 154, 0, 7, 4, 167, 0, 4, 3, 172]
abbrev dktX2_can_0 : List UInt8 := dkwX2_can_0 ++ []
theorem dksX2_can_0 : cX2_can.data.toList.drop 0 = dktX2_can_0 := by decide +kernel
theorem dX2_can_0 : decode cX2_can 0 = .ok (.aload_n 0, 1) := dk_42 (dk_at dksX2_can_0 0 rfl rfl)
theorem dX2_can_1 : decode cX2_can 1 = .ok (.getfield 18, 3) := dk_180 0 18 (dk_at dksX2_can_0 1 rfl rfl)
theorem dX2_can_4 : decode cX2_can 4 = .ok (.iload_n 1, 1) := dk_27 (dk_at dksX2_can_0 4 rfl rfl)
theorem dX2_can_5 : decode cX2_can 5 = .ok (.iconst 2, 1) := dk_5 (dk_at dksX2_can_0 5 rfl rfl)
theorem dX2_can_6 : decode cX2_can 6 = .ok (.idiv, 1) := dk_108 (dk_at dksX2_can_0 6 rfl rfl)
theorem dX2_can_7 : decode cX2_can 7 = .ok (.baload, 1) := dk_51 (dk_at dksX2_can_0 7 rfl rfl)
theorem dX2_can_8 : decode cX2_can 8 = .ok (.ifCond .ne 7, 3) := dk_154 0 7 (dk_at dksX2_can_0 8 rfl rfl)
theorem dX2_can_11 : decode cX2_can 11 = .ok (.iconst 1, 1) := dk_4 (dk_at dksX2_can_0 11 rfl rfl)
theorem dX2_can_12 : decode cX2_can 12 = .ok (.goto 4, 3) := dk_167 0 4 (dk_at dksX2_can_0 12 rfl rfl)
theorem dX2_can_15 : decode cX2_can 15 = .ok (.iconst 0, 1) := dk_3 (dk_at dksX2_can_0 15 rfl rfl)
theorem dX2_can_16 : decode cX2_can 16 = .ok (.ireturn, 1) := dk_172 (dk_at dksX2_can_0 16 rfl rfl)
abbrev cX2_turns_2 : ByteArray := prog_5_method_15_code
def yX2_turns_2 : MethodName := ⟨RX2, "turns", "([CI)V"⟩
def dkwX2_turns_2_5 : List UInt8 := [42, 29, 21, 5, 153, 0, 8, 21, 4, 167, 0, 4, 3, 182, 0, 88, 21, 6, 85, 177]
abbrev dktX2_turns_2_5 : List UInt8 := dkwX2_turns_2_5 ++ []
def dkwX2_turns_2_4 : List UInt8 := [42, 29, 21, 8, 182, 0, 88, 43, 42, 29, 21, 9, 182, 0, 88, 52, 85, 132, 7, 1, 167, 255, 190, 43]
abbrev dktX2_turns_2_4 : List UInt8 := dkwX2_turns_2_4 ++ dktX2_turns_2_5
def dkwX2_turns_2_3 : List UInt8 := [54, 8, 21, 5, 153, 0, 10, 21, 7, 4, 96, 167, 0, 10, 21, 4, 21, 7, 100, 4, 100, 54, 9, 43]
abbrev dktX2_turns_2_3 : List UInt8 := dkwX2_turns_2_3 ++ dktX2_turns_2_4
def dkwX2_turns_2_2 : List UInt8 := [54, 7, 21, 7, 21, 4, 162, 0, 65, 21, 5, 153, 0, 8, 21, 7, 167, 0, 8, 21, 4, 21, 7, 100]
abbrev dktX2_turns_2_2 : List UInt8 := dkwX2_turns_2_2 ++ dktX2_turns_2_3
def dkwX2_turns_2_1 : List UInt8 := [3, 54, 5, 43, 42, 29, 21, 5, 153, 0, 7, 3, 167, 0, 5, 21, 4, 182, 0, 88, 52, 54, 6, 3]
abbrev dktX2_turns_2_1 : List UInt8 := dkwX2_turns_2_1 ++ dktX2_turns_2_2
def dkwX2_turns_2_0 : List UInt8 := [28, 5, 108, 62, 42, 29, 182, 0, 85, 4, 100, 54, 4, 28, 5, 112, 4, 160, 0, 7, 4, 167, 0, 4]
abbrev dktX2_turns_2_0 : List UInt8 := dkwX2_turns_2_0 ++ dktX2_turns_2_1
theorem dksX2_turns_2_0 : cX2_turns_2.data.toList.drop 0 = dktX2_turns_2_0 := by decide +kernel
theorem dksX2_turns_2_1 : cX2_turns_2.data.toList.drop 24 = dktX2_turns_2_1 := dk_seg dksX2_turns_2_0 24 rfl rfl
theorem dksX2_turns_2_2 : cX2_turns_2.data.toList.drop 48 = dktX2_turns_2_2 := dk_seg dksX2_turns_2_1 24 rfl rfl
theorem dksX2_turns_2_3 : cX2_turns_2.data.toList.drop 72 = dktX2_turns_2_3 := dk_seg dksX2_turns_2_2 24 rfl rfl
theorem dksX2_turns_2_4 : cX2_turns_2.data.toList.drop 96 = dktX2_turns_2_4 := dk_seg dksX2_turns_2_3 24 rfl rfl
theorem dksX2_turns_2_5 : cX2_turns_2.data.toList.drop 120 = dktX2_turns_2_5 := dk_seg dksX2_turns_2_4 24 rfl rfl
theorem dX2_turns_2_0 : decode cX2_turns_2 0 = .ok (.iload_n 2, 1) := dk_28 (dk_at dksX2_turns_2_0 0 rfl rfl)
theorem dX2_turns_2_1 : decode cX2_turns_2 1 = .ok (.iconst 2, 1) := dk_5 (dk_at dksX2_turns_2_0 1 rfl rfl)
theorem dX2_turns_2_2 : decode cX2_turns_2 2 = .ok (.idiv, 1) := dk_108 (dk_at dksX2_turns_2_0 2 rfl rfl)
theorem dX2_turns_2_3 : decode cX2_turns_2 3 = .ok (.istore_n 3, 1) := dk_62 (dk_at dksX2_turns_2_0 3 rfl rfl)
theorem dX2_turns_2_4 : decode cX2_turns_2 4 = .ok (.aload_n 0, 1) := dk_42 (dk_at dksX2_turns_2_0 4 rfl rfl)
theorem dX2_turns_2_5 : decode cX2_turns_2 5 = .ok (.iload_n 3, 1) := dk_29 (dk_at dksX2_turns_2_0 5 rfl rfl)
theorem dX2_turns_2_6 : decode cX2_turns_2 6 = .ok (.invokevirtual 85, 3) := dk_182 0 85 (dk_at dksX2_turns_2_0 6 rfl rfl)
theorem dX2_turns_2_9 : decode cX2_turns_2 9 = .ok (.iconst 1, 1) := dk_4 (dk_at dksX2_turns_2_0 9 rfl rfl)
theorem dX2_turns_2_10 : decode cX2_turns_2 10 = .ok (.isub, 1) := dk_100 (dk_at dksX2_turns_2_0 10 rfl rfl)
theorem dX2_turns_2_11 : decode cX2_turns_2 11 = .ok (.istore 4, 2) := dk_54 4 (dk_at dksX2_turns_2_0 11 rfl rfl)
theorem dX2_turns_2_13 : decode cX2_turns_2 13 = .ok (.iload_n 2, 1) := dk_28 (dk_at dksX2_turns_2_0 13 rfl rfl)
theorem dX2_turns_2_14 : decode cX2_turns_2 14 = .ok (.iconst 2, 1) := dk_5 (dk_at dksX2_turns_2_0 14 rfl rfl)
theorem dX2_turns_2_15 : decode cX2_turns_2 15 = .ok (.irem, 1) := dk_112 (dk_at dksX2_turns_2_0 15 rfl rfl)
theorem dX2_turns_2_16 : decode cX2_turns_2 16 = .ok (.iconst 1, 1) := dk_4 (dk_at dksX2_turns_2_0 16 rfl rfl)
theorem dX2_turns_2_17 : decode cX2_turns_2 17 = .ok (.if_icmp .ne 7, 3) := dk_160 0 7 (dk_at dksX2_turns_2_0 17 rfl rfl)
theorem dX2_turns_2_20 : decode cX2_turns_2 20 = .ok (.iconst 1, 1) := dk_4 (dk_at dksX2_turns_2_0 20 rfl rfl)
theorem dX2_turns_2_21 : decode cX2_turns_2 21 = .ok (.goto 4, 3) := dk_167 0 4 (dk_at dksX2_turns_2_0 21 rfl rfl)
theorem dX2_turns_2_24 : decode cX2_turns_2 24 = .ok (.iconst 0, 1) := dk_3 (dk_at dksX2_turns_2_1 0 rfl rfl)
theorem dX2_turns_2_25 : decode cX2_turns_2 25 = .ok (.istore 5, 2) := dk_54 5 (dk_at dksX2_turns_2_1 1 rfl rfl)
theorem dX2_turns_2_27 : decode cX2_turns_2 27 = .ok (.aload_n 1, 1) := dk_43 (dk_at dksX2_turns_2_1 3 rfl rfl)
theorem dX2_turns_2_28 : decode cX2_turns_2 28 = .ok (.aload_n 0, 1) := dk_42 (dk_at dksX2_turns_2_1 4 rfl rfl)
theorem dX2_turns_2_29 : decode cX2_turns_2 29 = .ok (.iload_n 3, 1) := dk_29 (dk_at dksX2_turns_2_1 5 rfl rfl)
theorem dX2_turns_2_30 : decode cX2_turns_2 30 = .ok (.iload 5, 2) := dk_21 5 (dk_at dksX2_turns_2_1 6 rfl rfl)
theorem dX2_turns_2_32 : decode cX2_turns_2 32 = .ok (.ifCond .eq 7, 3) := dk_153 0 7 (dk_at dksX2_turns_2_1 8 rfl rfl)
theorem dX2_turns_2_35 : decode cX2_turns_2 35 = .ok (.iconst 0, 1) := dk_3 (dk_at dksX2_turns_2_1 11 rfl rfl)
theorem dX2_turns_2_36 : decode cX2_turns_2 36 = .ok (.goto 5, 3) := dk_167 0 5 (dk_at dksX2_turns_2_1 12 rfl rfl)
theorem dX2_turns_2_39 : decode cX2_turns_2 39 = .ok (.iload 4, 2) := dk_21 4 (dk_at dksX2_turns_2_1 15 rfl rfl)
theorem dX2_turns_2_41 : decode cX2_turns_2 41 = .ok (.invokevirtual 88, 3) := dk_182 0 88 (dk_at dksX2_turns_2_1 17 rfl rfl)
theorem dX2_turns_2_44 : decode cX2_turns_2 44 = .ok (.caload, 1) := dk_52 (dk_at dksX2_turns_2_1 20 rfl rfl)
theorem dX2_turns_2_45 : decode cX2_turns_2 45 = .ok (.istore 6, 2) := dk_54 6 (dk_at dksX2_turns_2_1 21 rfl rfl)
theorem dX2_turns_2_47 : decode cX2_turns_2 47 = .ok (.iconst 0, 1) := dk_3 (dk_at dksX2_turns_2_1 23 rfl rfl)
theorem dX2_turns_2_48 : decode cX2_turns_2 48 = .ok (.istore 7, 2) := dk_54 7 (dk_at dksX2_turns_2_2 0 rfl rfl)
theorem dX2_turns_2_50 : decode cX2_turns_2 50 = .ok (.iload 7, 2) := dk_21 7 (dk_at dksX2_turns_2_2 2 rfl rfl)
theorem dX2_turns_2_52 : decode cX2_turns_2 52 = .ok (.iload 4, 2) := dk_21 4 (dk_at dksX2_turns_2_2 4 rfl rfl)
theorem dX2_turns_2_54 : decode cX2_turns_2 54 = .ok (.if_icmp .ge 65, 3) := dk_162 0 65 (dk_at dksX2_turns_2_2 6 rfl rfl)
theorem dX2_turns_2_57 : decode cX2_turns_2 57 = .ok (.iload 5, 2) := dk_21 5 (dk_at dksX2_turns_2_2 9 rfl rfl)
theorem dX2_turns_2_59 : decode cX2_turns_2 59 = .ok (.ifCond .eq 8, 3) := dk_153 0 8 (dk_at dksX2_turns_2_2 11 rfl rfl)
theorem dX2_turns_2_62 : decode cX2_turns_2 62 = .ok (.iload 7, 2) := dk_21 7 (dk_at dksX2_turns_2_2 14 rfl rfl)
theorem dX2_turns_2_64 : decode cX2_turns_2 64 = .ok (.goto 8, 3) := dk_167 0 8 (dk_at dksX2_turns_2_2 16 rfl rfl)
theorem dX2_turns_2_67 : decode cX2_turns_2 67 = .ok (.iload 4, 2) := dk_21 4 (dk_at dksX2_turns_2_2 19 rfl rfl)
theorem dX2_turns_2_69 : decode cX2_turns_2 69 = .ok (.iload 7, 2) := dk_21 7 (dk_at dksX2_turns_2_2 21 rfl rfl)
theorem dX2_turns_2_71 : decode cX2_turns_2 71 = .ok (.isub, 1) := dk_100 (dk_at dksX2_turns_2_2 23 rfl rfl)
theorem dX2_turns_2_72 : decode cX2_turns_2 72 = .ok (.istore 8, 2) := dk_54 8 (dk_at dksX2_turns_2_3 0 rfl rfl)
theorem dX2_turns_2_74 : decode cX2_turns_2 74 = .ok (.iload 5, 2) := dk_21 5 (dk_at dksX2_turns_2_3 2 rfl rfl)
theorem dX2_turns_2_76 : decode cX2_turns_2 76 = .ok (.ifCond .eq 10, 3) := dk_153 0 10 (dk_at dksX2_turns_2_3 4 rfl rfl)
theorem dX2_turns_2_79 : decode cX2_turns_2 79 = .ok (.iload 7, 2) := dk_21 7 (dk_at dksX2_turns_2_3 7 rfl rfl)
theorem dX2_turns_2_81 : decode cX2_turns_2 81 = .ok (.iconst 1, 1) := dk_4 (dk_at dksX2_turns_2_3 9 rfl rfl)
theorem dX2_turns_2_82 : decode cX2_turns_2 82 = .ok (.iadd, 1) := dk_96 (dk_at dksX2_turns_2_3 10 rfl rfl)
theorem dX2_turns_2_83 : decode cX2_turns_2 83 = .ok (.goto 10, 3) := dk_167 0 10 (dk_at dksX2_turns_2_3 11 rfl rfl)
theorem dX2_turns_2_86 : decode cX2_turns_2 86 = .ok (.iload 4, 2) := dk_21 4 (dk_at dksX2_turns_2_3 14 rfl rfl)
theorem dX2_turns_2_88 : decode cX2_turns_2 88 = .ok (.iload 7, 2) := dk_21 7 (dk_at dksX2_turns_2_3 16 rfl rfl)
theorem dX2_turns_2_90 : decode cX2_turns_2 90 = .ok (.isub, 1) := dk_100 (dk_at dksX2_turns_2_3 18 rfl rfl)
theorem dX2_turns_2_91 : decode cX2_turns_2 91 = .ok (.iconst 1, 1) := dk_4 (dk_at dksX2_turns_2_3 19 rfl rfl)
theorem dX2_turns_2_92 : decode cX2_turns_2 92 = .ok (.isub, 1) := dk_100 (dk_at dksX2_turns_2_3 20 rfl rfl)
theorem dX2_turns_2_93 : decode cX2_turns_2 93 = .ok (.istore 9, 2) := dk_54 9 (dk_at dksX2_turns_2_3 21 rfl rfl)
theorem dX2_turns_2_95 : decode cX2_turns_2 95 = .ok (.aload_n 1, 1) := dk_43 (dk_at dksX2_turns_2_3 23 rfl rfl)
theorem dX2_turns_2_96 : decode cX2_turns_2 96 = .ok (.aload_n 0, 1) := dk_42 (dk_at dksX2_turns_2_4 0 rfl rfl)
theorem dX2_turns_2_97 : decode cX2_turns_2 97 = .ok (.iload_n 3, 1) := dk_29 (dk_at dksX2_turns_2_4 1 rfl rfl)
theorem dX2_turns_2_98 : decode cX2_turns_2 98 = .ok (.iload 8, 2) := dk_21 8 (dk_at dksX2_turns_2_4 2 rfl rfl)
theorem dX2_turns_2_100 : decode cX2_turns_2 100 = .ok (.invokevirtual 88, 3) := dk_182 0 88 (dk_at dksX2_turns_2_4 4 rfl rfl)
theorem dX2_turns_2_103 : decode cX2_turns_2 103 = .ok (.aload_n 1, 1) := dk_43 (dk_at dksX2_turns_2_4 7 rfl rfl)
theorem dX2_turns_2_104 : decode cX2_turns_2 104 = .ok (.aload_n 0, 1) := dk_42 (dk_at dksX2_turns_2_4 8 rfl rfl)
theorem dX2_turns_2_105 : decode cX2_turns_2 105 = .ok (.iload_n 3, 1) := dk_29 (dk_at dksX2_turns_2_4 9 rfl rfl)
theorem dX2_turns_2_106 : decode cX2_turns_2 106 = .ok (.iload 9, 2) := dk_21 9 (dk_at dksX2_turns_2_4 10 rfl rfl)
theorem dX2_turns_2_108 : decode cX2_turns_2 108 = .ok (.invokevirtual 88, 3) := dk_182 0 88 (dk_at dksX2_turns_2_4 12 rfl rfl)
theorem dX2_turns_2_111 : decode cX2_turns_2 111 = .ok (.caload, 1) := dk_52 (dk_at dksX2_turns_2_4 15 rfl rfl)
theorem dX2_turns_2_112 : decode cX2_turns_2 112 = .ok (.castore, 1) := dk_85 (dk_at dksX2_turns_2_4 16 rfl rfl)
theorem dX2_turns_2_113 : decode cX2_turns_2 113 = .ok (.iinc 7 1, 3) := dk_132 7 1 (dk_at dksX2_turns_2_4 17 rfl rfl)
theorem dX2_turns_2_116 : decode cX2_turns_2 116 = .ok (.goto (-66), 3) := dk_167 255 190 (dk_at dksX2_turns_2_4 20 rfl rfl)
theorem dX2_turns_2_119 : decode cX2_turns_2 119 = .ok (.aload_n 1, 1) := dk_43 (dk_at dksX2_turns_2_4 23 rfl rfl)
theorem dX2_turns_2_120 : decode cX2_turns_2 120 = .ok (.aload_n 0, 1) := dk_42 (dk_at dksX2_turns_2_5 0 rfl rfl)
theorem dX2_turns_2_121 : decode cX2_turns_2 121 = .ok (.iload_n 3, 1) := dk_29 (dk_at dksX2_turns_2_5 1 rfl rfl)
theorem dX2_turns_2_122 : decode cX2_turns_2 122 = .ok (.iload 5, 2) := dk_21 5 (dk_at dksX2_turns_2_5 2 rfl rfl)
theorem dX2_turns_2_124 : decode cX2_turns_2 124 = .ok (.ifCond .eq 8, 3) := dk_153 0 8 (dk_at dksX2_turns_2_5 4 rfl rfl)
theorem dX2_turns_2_127 : decode cX2_turns_2 127 = .ok (.iload 4, 2) := dk_21 4 (dk_at dksX2_turns_2_5 7 rfl rfl)
theorem dX2_turns_2_129 : decode cX2_turns_2 129 = .ok (.goto 4, 3) := dk_167 0 4 (dk_at dksX2_turns_2_5 9 rfl rfl)
theorem dX2_turns_2_132 : decode cX2_turns_2 132 = .ok (.iconst 0, 1) := dk_3 (dk_at dksX2_turns_2_5 12 rfl rfl)
theorem dX2_turns_2_133 : decode cX2_turns_2 133 = .ok (.invokevirtual 88, 3) := dk_182 0 88 (dk_at dksX2_turns_2_5 13 rfl rfl)
theorem dX2_turns_2_136 : decode cX2_turns_2 136 = .ok (.iload 6, 2) := dk_21 6 (dk_at dksX2_turns_2_5 16 rfl rfl)
theorem dX2_turns_2_138 : decode cX2_turns_2 138 = .ok (.castore, 1) := dk_85 (dk_at dksX2_turns_2_5 18 rfl rfl)
theorem dX2_turns_2_139 : decode cX2_turns_2 139 = .ok (.return_, 1) := dk_177 (dk_at dksX2_turns_2_5 19 rfl rfl)
abbrev cX2_back : ByteArray := prog_5_method_16_code
def yX2_back : MethodName := ⟨RX2, "back", "(I)I"⟩
def dkwX2_back_0 : List UInt8 := [26, 5, 112, 154, 0, 9, 26, 4, 96, 167, 0, 6, 26, 4, 100, 172]
abbrev dktX2_back_0 : List UInt8 := dkwX2_back_0 ++ []
theorem dksX2_back_0 : cX2_back.data.toList.drop 0 = dktX2_back_0 := by decide +kernel
theorem dX2_back_0 : decode cX2_back 0 = .ok (.iload_n 0, 1) := dk_26 (dk_at dksX2_back_0 0 rfl rfl)
theorem dX2_back_1 : decode cX2_back 1 = .ok (.iconst 2, 1) := dk_5 (dk_at dksX2_back_0 1 rfl rfl)
theorem dX2_back_2 : decode cX2_back 2 = .ok (.irem, 1) := dk_112 (dk_at dksX2_back_0 2 rfl rfl)
theorem dX2_back_3 : decode cX2_back 3 = .ok (.ifCond .ne 9, 3) := dk_154 0 9 (dk_at dksX2_back_0 3 rfl rfl)
theorem dX2_back_6 : decode cX2_back 6 = .ok (.iload_n 0, 1) := dk_26 (dk_at dksX2_back_0 6 rfl rfl)
theorem dX2_back_7 : decode cX2_back 7 = .ok (.iconst 1, 1) := dk_4 (dk_at dksX2_back_0 7 rfl rfl)
theorem dX2_back_8 : decode cX2_back 8 = .ok (.iadd, 1) := dk_96 (dk_at dksX2_back_0 8 rfl rfl)
theorem dX2_back_9 : decode cX2_back 9 = .ok (.goto 6, 3) := dk_167 0 6 (dk_at dksX2_back_0 9 rfl rfl)
theorem dX2_back_12 : decode cX2_back 12 = .ok (.iload_n 0, 1) := dk_26 (dk_at dksX2_back_0 12 rfl rfl)
theorem dX2_back_13 : decode cX2_back 13 = .ok (.iconst 1, 1) := dk_4 (dk_at dksX2_back_0 13 rfl rfl)
theorem dX2_back_14 : decode cX2_back 14 = .ok (.isub, 1) := dk_100 (dk_at dksX2_back_0 14 rfl rfl)
theorem dX2_back_15 : decode cX2_back 15 = .ok (.ireturn, 1) := dk_172 (dk_at dksX2_back_0 15 rfl rfl)
abbrev cX2_met : ByteArray := prog_5_method_27_code
def yX2_met : MethodName := ⟨RX2, "met", "()I"⟩
def dkwX2_met_2 : List UInt8 := [172]
abbrev dktX2_met_2 : List UInt8 := dkwX2_met_2 ++ []
def dkwX2_met_1 : List UInt8 := [182, 0, 125, 153, 0, 12, 42, 180, 0, 25, 28, 46, 167, 0, 4, 27, 60, 132, 2, 1, 167, 255, 216, 27]
abbrev dktX2_met_1 : List UInt8 := dkwX2_met_1 ++ dktX2_met_2
def dkwX2_met_0 : List UInt8 := [7, 60, 3, 61, 28, 42, 180, 0, 115, 162, 0, 38, 42, 180, 0, 25, 28, 46, 27, 162, 0, 20, 42, 28]
abbrev dktX2_met_0 : List UInt8 := dkwX2_met_0 ++ dktX2_met_1
theorem dksX2_met_0 : cX2_met.data.toList.drop 0 = dktX2_met_0 := by decide +kernel
theorem dksX2_met_1 : cX2_met.data.toList.drop 24 = dktX2_met_1 := dk_seg dksX2_met_0 24 rfl rfl
theorem dksX2_met_2 : cX2_met.data.toList.drop 48 = dktX2_met_2 := dk_seg dksX2_met_1 24 rfl rfl
theorem dX2_met_0 : decode cX2_met 0 = .ok (.iconst 4, 1) := dk_7 (dk_at dksX2_met_0 0 rfl rfl)
theorem dX2_met_1 : decode cX2_met 1 = .ok (.istore_n 1, 1) := dk_60 (dk_at dksX2_met_0 1 rfl rfl)
theorem dX2_met_2 : decode cX2_met 2 = .ok (.iconst 0, 1) := dk_3 (dk_at dksX2_met_0 2 rfl rfl)
theorem dX2_met_3 : decode cX2_met 3 = .ok (.istore_n 2, 1) := dk_61 (dk_at dksX2_met_0 3 rfl rfl)
theorem dX2_met_4 : decode cX2_met 4 = .ok (.iload_n 2, 1) := dk_28 (dk_at dksX2_met_0 4 rfl rfl)
theorem dX2_met_5 : decode cX2_met 5 = .ok (.aload_n 0, 1) := dk_42 (dk_at dksX2_met_0 5 rfl rfl)
theorem dX2_met_6 : decode cX2_met 6 = .ok (.getfield 115, 3) := dk_180 0 115 (dk_at dksX2_met_0 6 rfl rfl)
theorem dX2_met_9 : decode cX2_met 9 = .ok (.if_icmp .ge 38, 3) := dk_162 0 38 (dk_at dksX2_met_0 9 rfl rfl)
theorem dX2_met_12 : decode cX2_met 12 = .ok (.aload_n 0, 1) := dk_42 (dk_at dksX2_met_0 12 rfl rfl)
theorem dX2_met_13 : decode cX2_met 13 = .ok (.getfield 25, 3) := dk_180 0 25 (dk_at dksX2_met_0 13 rfl rfl)
theorem dX2_met_16 : decode cX2_met 16 = .ok (.iload_n 2, 1) := dk_28 (dk_at dksX2_met_0 16 rfl rfl)
theorem dX2_met_17 : decode cX2_met 17 = .ok (.iaload, 1) := dk_46 (dk_at dksX2_met_0 17 rfl rfl)
theorem dX2_met_18 : decode cX2_met 18 = .ok (.iload_n 1, 1) := dk_27 (dk_at dksX2_met_0 18 rfl rfl)
theorem dX2_met_19 : decode cX2_met 19 = .ok (.if_icmp .ge 20, 3) := dk_162 0 20 (dk_at dksX2_met_0 19 rfl rfl)
theorem dX2_met_22 : decode cX2_met 22 = .ok (.aload_n 0, 1) := dk_42 (dk_at dksX2_met_0 22 rfl rfl)
theorem dX2_met_23 : decode cX2_met 23 = .ok (.iload_n 2, 1) := dk_28 (dk_at dksX2_met_0 23 rfl rfl)
theorem dX2_met_24 : decode cX2_met 24 = .ok (.invokevirtual 125, 3) := dk_182 0 125 (dk_at dksX2_met_1 0 rfl rfl)
theorem dX2_met_27 : decode cX2_met 27 = .ok (.ifCond .eq 12, 3) := dk_153 0 12 (dk_at dksX2_met_1 3 rfl rfl)
theorem dX2_met_30 : decode cX2_met 30 = .ok (.aload_n 0, 1) := dk_42 (dk_at dksX2_met_1 6 rfl rfl)
theorem dX2_met_31 : decode cX2_met 31 = .ok (.getfield 25, 3) := dk_180 0 25 (dk_at dksX2_met_1 7 rfl rfl)
theorem dX2_met_34 : decode cX2_met 34 = .ok (.iload_n 2, 1) := dk_28 (dk_at dksX2_met_1 10 rfl rfl)
theorem dX2_met_35 : decode cX2_met 35 = .ok (.iaload, 1) := dk_46 (dk_at dksX2_met_1 11 rfl rfl)
theorem dX2_met_36 : decode cX2_met 36 = .ok (.goto 4, 3) := dk_167 0 4 (dk_at dksX2_met_1 12 rfl rfl)
theorem dX2_met_39 : decode cX2_met 39 = .ok (.iload_n 1, 1) := dk_27 (dk_at dksX2_met_1 15 rfl rfl)
theorem dX2_met_40 : decode cX2_met 40 = .ok (.istore_n 1, 1) := dk_60 (dk_at dksX2_met_1 16 rfl rfl)
theorem dX2_met_41 : decode cX2_met 41 = .ok (.iinc 2 1, 3) := dk_132 2 1 (dk_at dksX2_met_1 17 rfl rfl)
theorem dX2_met_44 : decode cX2_met 44 = .ok (.goto (-40), 3) := dk_167 255 216 (dk_at dksX2_met_1 20 rfl rfl)
theorem dX2_met_47 : decode cX2_met 47 = .ok (.iload_n 1, 1) := dk_27 (dk_at dksX2_met_1 23 rfl rfl)
theorem dX2_met_48 : decode cX2_met 48 = .ok (.ireturn, 1) := dk_172 (dk_at dksX2_met_2 0 rfl rfl)
abbrev cX2_meets : ByteArray := prog_5_method_26_code
def yX2_meets : MethodName := ⟨RX2, "meets", "(I)Z"⟩
def dkwX2_meets_1 : List UInt8 := [180, 0, 15, 28, 52, 184, 0, 92, 154, 0, 5, 3, 172, 132, 2, 1, 167, 255, 220, 4, 172]
abbrev dktX2_meets_1 : List UInt8 := dkwX2_meets_1 ++ []
def dkwX2_meets_0 : List UInt8 := [3, 61, 28, 42, 182, 0, 68, 162, 0, 34, 42, 180, 0, 22, 16, 9, 27, 104, 28, 96, 52, 42]
abbrev dktX2_meets_0 : List UInt8 := dkwX2_meets_0 ++ dktX2_meets_1
theorem dksX2_meets_0 : cX2_meets.data.toList.drop 0 = dktX2_meets_0 := by decide +kernel
theorem dksX2_meets_1 : cX2_meets.data.toList.drop 22 = dktX2_meets_1 := dk_seg dksX2_meets_0 22 rfl rfl
theorem dX2_meets_0 : decode cX2_meets 0 = .ok (.iconst 0, 1) := dk_3 (dk_at dksX2_meets_0 0 rfl rfl)
theorem dX2_meets_1 : decode cX2_meets 1 = .ok (.istore_n 2, 1) := dk_61 (dk_at dksX2_meets_0 1 rfl rfl)
theorem dX2_meets_2 : decode cX2_meets 2 = .ok (.iload_n 2, 1) := dk_28 (dk_at dksX2_meets_0 2 rfl rfl)
theorem dX2_meets_3 : decode cX2_meets 3 = .ok (.aload_n 0, 1) := dk_42 (dk_at dksX2_meets_0 3 rfl rfl)
theorem dX2_meets_4 : decode cX2_meets 4 = .ok (.invokevirtual 68, 3) := dk_182 0 68 (dk_at dksX2_meets_0 4 rfl rfl)
theorem dX2_meets_7 : decode cX2_meets 7 = .ok (.if_icmp .ge 34, 3) := dk_162 0 34 (dk_at dksX2_meets_0 7 rfl rfl)
theorem dX2_meets_10 : decode cX2_meets 10 = .ok (.aload_n 0, 1) := dk_42 (dk_at dksX2_meets_0 10 rfl rfl)
theorem dX2_meets_11 : decode cX2_meets 11 = .ok (.getfield 22, 3) := dk_180 0 22 (dk_at dksX2_meets_0 11 rfl rfl)
theorem dX2_meets_14 : decode cX2_meets 14 = .ok (.bipush 9, 2) := dk_16 9 (dk_at dksX2_meets_0 14 rfl rfl)
theorem dX2_meets_16 : decode cX2_meets 16 = .ok (.iload_n 1, 1) := dk_27 (dk_at dksX2_meets_0 16 rfl rfl)
theorem dX2_meets_17 : decode cX2_meets 17 = .ok (.imul, 1) := dk_104 (dk_at dksX2_meets_0 17 rfl rfl)
theorem dX2_meets_18 : decode cX2_meets 18 = .ok (.iload_n 2, 1) := dk_28 (dk_at dksX2_meets_0 18 rfl rfl)
theorem dX2_meets_19 : decode cX2_meets 19 = .ok (.iadd, 1) := dk_96 (dk_at dksX2_meets_0 19 rfl rfl)
theorem dX2_meets_20 : decode cX2_meets 20 = .ok (.caload, 1) := dk_52 (dk_at dksX2_meets_0 20 rfl rfl)
theorem dX2_meets_21 : decode cX2_meets 21 = .ok (.aload_n 0, 1) := dk_42 (dk_at dksX2_meets_0 21 rfl rfl)
theorem dX2_meets_22 : decode cX2_meets 22 = .ok (.getfield 15, 3) := dk_180 0 15 (dk_at dksX2_meets_1 0 rfl rfl)
theorem dX2_meets_25 : decode cX2_meets 25 = .ok (.iload_n 2, 1) := dk_28 (dk_at dksX2_meets_1 3 rfl rfl)
theorem dX2_meets_26 : decode cX2_meets 26 = .ok (.caload, 1) := dk_52 (dk_at dksX2_meets_1 4 rfl rfl)
theorem dX2_meets_27 : decode cX2_meets 27 = .ok (.invokestatic 92, 3) := dk_184 0 92 (dk_at dksX2_meets_1 5 rfl rfl)
theorem dX2_meets_30 : decode cX2_meets 30 = .ok (.ifCond .ne 5, 3) := dk_154 0 5 (dk_at dksX2_meets_1 8 rfl rfl)
theorem dX2_meets_33 : decode cX2_meets 33 = .ok (.iconst 0, 1) := dk_3 (dk_at dksX2_meets_1 11 rfl rfl)
theorem dX2_meets_34 : decode cX2_meets 34 = .ok (.ireturn, 1) := dk_172 (dk_at dksX2_meets_1 12 rfl rfl)
theorem dX2_meets_35 : decode cX2_meets 35 = .ok (.iinc 2 1, 3) := dk_132 2 1 (dk_at dksX2_meets_1 13 rfl rfl)
theorem dX2_meets_38 : decode cX2_meets 38 = .ok (.goto (-36), 3) := dk_167 255 220 (dk_at dksX2_meets_1 16 rfl rfl)
theorem dX2_meets_41 : decode cX2_meets 41 = .ok (.iconst 1, 1) := dk_4 (dk_at dksX2_meets_1 19 rfl rfl)
theorem dX2_meets_42 : decode cX2_meets 42 = .ok (.ireturn, 1) := dk_172 (dk_at dksX2_meets_1 20 rfl rfl)
abbrev cX2_awayAgain : ByteArray := prog_5_method_30_code
def yX2_awayAgain : MethodName := ⟨RX2, "awayAgain", "()I"⟩
def dkwX2_awayAgain_1 : List UInt8 := [172]
abbrev dktX2_awayAgain_1 : List UInt8 := dkwX2_awayAgain_1 ++ []
def dkwX2_awayAgain_0 : List UInt8 := [3, 60, 27, 6, 163, 0, 19, 42, 27, 182, 0, 140, 153, 0, 5, 27, 172, 132, 1, 1, 167, 255, 238, 2]
abbrev dktX2_awayAgain_0 : List UInt8 := dkwX2_awayAgain_0 ++ dktX2_awayAgain_1
theorem dksX2_awayAgain_0 : cX2_awayAgain.data.toList.drop 0 = dktX2_awayAgain_0 := by decide +kernel
theorem dksX2_awayAgain_1 : cX2_awayAgain.data.toList.drop 24 = dktX2_awayAgain_1 := dk_seg dksX2_awayAgain_0 24 rfl rfl
theorem dX2_awayAgain_0 : decode cX2_awayAgain 0 = .ok (.iconst 0, 1) := dk_3 (dk_at dksX2_awayAgain_0 0 rfl rfl)
theorem dX2_awayAgain_1 : decode cX2_awayAgain 1 = .ok (.istore_n 1, 1) := dk_60 (dk_at dksX2_awayAgain_0 1 rfl rfl)
theorem dX2_awayAgain_2 : decode cX2_awayAgain 2 = .ok (.iload_n 1, 1) := dk_27 (dk_at dksX2_awayAgain_0 2 rfl rfl)
theorem dX2_awayAgain_3 : decode cX2_awayAgain 3 = .ok (.iconst 3, 1) := dk_6 (dk_at dksX2_awayAgain_0 3 rfl rfl)
theorem dX2_awayAgain_4 : decode cX2_awayAgain 4 = .ok (.if_icmp .gt 19, 3) := dk_163 0 19 (dk_at dksX2_awayAgain_0 4 rfl rfl)
theorem dX2_awayAgain_7 : decode cX2_awayAgain 7 = .ok (.aload_n 0, 1) := dk_42 (dk_at dksX2_awayAgain_0 7 rfl rfl)
theorem dX2_awayAgain_8 : decode cX2_awayAgain 8 = .ok (.iload_n 1, 1) := dk_27 (dk_at dksX2_awayAgain_0 8 rfl rfl)
theorem dX2_awayAgain_9 : decode cX2_awayAgain 9 = .ok (.invokevirtual 140, 3) := dk_182 0 140 (dk_at dksX2_awayAgain_0 9 rfl rfl)
theorem dX2_awayAgain_12 : decode cX2_awayAgain 12 = .ok (.ifCond .eq 5, 3) := dk_153 0 5 (dk_at dksX2_awayAgain_0 12 rfl rfl)
theorem dX2_awayAgain_15 : decode cX2_awayAgain 15 = .ok (.iload_n 1, 1) := dk_27 (dk_at dksX2_awayAgain_0 15 rfl rfl)
theorem dX2_awayAgain_16 : decode cX2_awayAgain 16 = .ok (.ireturn, 1) := dk_172 (dk_at dksX2_awayAgain_0 16 rfl rfl)
theorem dX2_awayAgain_17 : decode cX2_awayAgain 17 = .ok (.iinc 1 1, 3) := dk_132 1 1 (dk_at dksX2_awayAgain_0 17 rfl rfl)
theorem dX2_awayAgain_20 : decode cX2_awayAgain 20 = .ok (.goto (-18), 3) := dk_167 255 238 (dk_at dksX2_awayAgain_0 20 rfl rfl)
theorem dX2_awayAgain_23 : decode cX2_awayAgain 23 = .ok (.iconst (-1), 1) := dk_2 (dk_at dksX2_awayAgain_0 23 rfl rfl)
theorem dX2_awayAgain_24 : decode cX2_awayAgain 24 = .ok (.ireturn, 1) := dk_172 (dk_at dksX2_awayAgain_1 0 rfl rfl)
abbrev cX2_isIn : ByteArray := prog_5_method_29_code
def yX2_isIn : MethodName := ⟨RX2, "isIn", "(I)Z"⟩
def dkwX2_isIn_2 : List UInt8 := [182, 0, 140, 61, 42, 42, 180, 0, 9, 29, 184, 0, 106, 182, 0, 103, 132, 3, 1, 167, 255, 204, 28, 172]
abbrev dktX2_isIn_2 : List UInt8 := dkwX2_isIn_2 ++ []
def dkwX2_isIn_1 : List UInt8 := [154, 0, 46, 42, 29, 182, 0, 109, 153, 0, 32, 42, 42, 180, 0, 9, 29, 182, 0, 103, 42, 27, 4, 100]
abbrev dktX2_isIn_1 : List UInt8 := dkwX2_isIn_1 ++ dktX2_isIn_2
def dkwX2_isIn_0 : List UInt8 := [27, 154, 0, 8, 42, 182, 0, 136, 172, 3, 61, 3, 62, 29, 42, 182, 0, 75, 162, 0, 50, 28]
abbrev dktX2_isIn_0 : List UInt8 := dkwX2_isIn_0 ++ dktX2_isIn_1
theorem dksX2_isIn_0 : cX2_isIn.data.toList.drop 0 = dktX2_isIn_0 := by decide +kernel
theorem dksX2_isIn_1 : cX2_isIn.data.toList.drop 22 = dktX2_isIn_1 := dk_seg dksX2_isIn_0 22 rfl rfl
theorem dksX2_isIn_2 : cX2_isIn.data.toList.drop 46 = dktX2_isIn_2 := dk_seg dksX2_isIn_1 24 rfl rfl
theorem dX2_isIn_0 : decode cX2_isIn 0 = .ok (.iload_n 1, 1) := dk_27 (dk_at dksX2_isIn_0 0 rfl rfl)
theorem dX2_isIn_1 : decode cX2_isIn 1 = .ok (.ifCond .ne 8, 3) := dk_154 0 8 (dk_at dksX2_isIn_0 1 rfl rfl)
theorem dX2_isIn_4 : decode cX2_isIn 4 = .ok (.aload_n 0, 1) := dk_42 (dk_at dksX2_isIn_0 4 rfl rfl)
theorem dX2_isIn_5 : decode cX2_isIn 5 = .ok (.invokevirtual 136, 3) := dk_182 0 136 (dk_at dksX2_isIn_0 5 rfl rfl)
theorem dX2_isIn_8 : decode cX2_isIn 8 = .ok (.ireturn, 1) := dk_172 (dk_at dksX2_isIn_0 8 rfl rfl)
theorem dX2_isIn_9 : decode cX2_isIn 9 = .ok (.iconst 0, 1) := dk_3 (dk_at dksX2_isIn_0 9 rfl rfl)
theorem dX2_isIn_10 : decode cX2_isIn 10 = .ok (.istore_n 2, 1) := dk_61 (dk_at dksX2_isIn_0 10 rfl rfl)
theorem dX2_isIn_11 : decode cX2_isIn 11 = .ok (.iconst 0, 1) := dk_3 (dk_at dksX2_isIn_0 11 rfl rfl)
theorem dX2_isIn_12 : decode cX2_isIn 12 = .ok (.istore_n 3, 1) := dk_62 (dk_at dksX2_isIn_0 12 rfl rfl)
theorem dX2_isIn_13 : decode cX2_isIn 13 = .ok (.iload_n 3, 1) := dk_29 (dk_at dksX2_isIn_0 13 rfl rfl)
theorem dX2_isIn_14 : decode cX2_isIn 14 = .ok (.aload_n 0, 1) := dk_42 (dk_at dksX2_isIn_0 14 rfl rfl)
theorem dX2_isIn_15 : decode cX2_isIn 15 = .ok (.invokevirtual 75, 3) := dk_182 0 75 (dk_at dksX2_isIn_0 15 rfl rfl)
theorem dX2_isIn_18 : decode cX2_isIn 18 = .ok (.if_icmp .ge 50, 3) := dk_162 0 50 (dk_at dksX2_isIn_0 18 rfl rfl)
theorem dX2_isIn_21 : decode cX2_isIn 21 = .ok (.iload_n 2, 1) := dk_28 (dk_at dksX2_isIn_0 21 rfl rfl)
theorem dX2_isIn_22 : decode cX2_isIn 22 = .ok (.ifCond .ne 46, 3) := dk_154 0 46 (dk_at dksX2_isIn_1 0 rfl rfl)
theorem dX2_isIn_25 : decode cX2_isIn 25 = .ok (.aload_n 0, 1) := dk_42 (dk_at dksX2_isIn_1 3 rfl rfl)
theorem dX2_isIn_26 : decode cX2_isIn 26 = .ok (.iload_n 3, 1) := dk_29 (dk_at dksX2_isIn_1 4 rfl rfl)
theorem dX2_isIn_27 : decode cX2_isIn 27 = .ok (.invokevirtual 109, 3) := dk_182 0 109 (dk_at dksX2_isIn_1 5 rfl rfl)
theorem dX2_isIn_30 : decode cX2_isIn 30 = .ok (.ifCond .eq 32, 3) := dk_153 0 32 (dk_at dksX2_isIn_1 8 rfl rfl)
theorem dX2_isIn_33 : decode cX2_isIn 33 = .ok (.aload_n 0, 1) := dk_42 (dk_at dksX2_isIn_1 11 rfl rfl)
theorem dX2_isIn_34 : decode cX2_isIn 34 = .ok (.aload_n 0, 1) := dk_42 (dk_at dksX2_isIn_1 12 rfl rfl)
theorem dX2_isIn_35 : decode cX2_isIn 35 = .ok (.getfield 9, 3) := dk_180 0 9 (dk_at dksX2_isIn_1 13 rfl rfl)
theorem dX2_isIn_38 : decode cX2_isIn 38 = .ok (.iload_n 3, 1) := dk_29 (dk_at dksX2_isIn_1 16 rfl rfl)
theorem dX2_isIn_39 : decode cX2_isIn 39 = .ok (.invokevirtual 103, 3) := dk_182 0 103 (dk_at dksX2_isIn_1 17 rfl rfl)
theorem dX2_isIn_42 : decode cX2_isIn 42 = .ok (.aload_n 0, 1) := dk_42 (dk_at dksX2_isIn_1 20 rfl rfl)
theorem dX2_isIn_43 : decode cX2_isIn 43 = .ok (.iload_n 1, 1) := dk_27 (dk_at dksX2_isIn_1 21 rfl rfl)
theorem dX2_isIn_44 : decode cX2_isIn 44 = .ok (.iconst 1, 1) := dk_4 (dk_at dksX2_isIn_1 22 rfl rfl)
theorem dX2_isIn_45 : decode cX2_isIn 45 = .ok (.isub, 1) := dk_100 (dk_at dksX2_isIn_1 23 rfl rfl)
theorem dX2_isIn_46 : decode cX2_isIn 46 = .ok (.invokevirtual 140, 3) := dk_182 0 140 (dk_at dksX2_isIn_2 0 rfl rfl)
theorem dX2_isIn_49 : decode cX2_isIn 49 = .ok (.istore_n 2, 1) := dk_61 (dk_at dksX2_isIn_2 3 rfl rfl)
theorem dX2_isIn_50 : decode cX2_isIn 50 = .ok (.aload_n 0, 1) := dk_42 (dk_at dksX2_isIn_2 4 rfl rfl)
theorem dX2_isIn_51 : decode cX2_isIn 51 = .ok (.aload_n 0, 1) := dk_42 (dk_at dksX2_isIn_2 5 rfl rfl)
theorem dX2_isIn_52 : decode cX2_isIn 52 = .ok (.getfield 9, 3) := dk_180 0 9 (dk_at dksX2_isIn_2 6 rfl rfl)
theorem dX2_isIn_55 : decode cX2_isIn 55 = .ok (.iload_n 3, 1) := dk_29 (dk_at dksX2_isIn_2 9 rfl rfl)
theorem dX2_isIn_56 : decode cX2_isIn 56 = .ok (.invokestatic 106, 3) := dk_184 0 106 (dk_at dksX2_isIn_2 10 rfl rfl)
theorem dX2_isIn_59 : decode cX2_isIn 59 = .ok (.invokevirtual 103, 3) := dk_182 0 103 (dk_at dksX2_isIn_2 13 rfl rfl)
theorem dX2_isIn_62 : decode cX2_isIn 62 = .ok (.iinc 3 1, 3) := dk_132 3 1 (dk_at dksX2_isIn_2 16 rfl rfl)
theorem dX2_isIn_65 : decode cX2_isIn 65 = .ok (.goto (-52), 3) := dk_167 255 204 (dk_at dksX2_isIn_2 19 rfl rfl)
theorem dX2_isIn_68 : decode cX2_isIn 68 = .ok (.iload_n 2, 1) := dk_28 (dk_at dksX2_isIn_2 22 rfl rfl)
theorem dX2_isIn_69 : decode cX2_isIn 69 = .ok (.ireturn, 1) := dk_172 (dk_at dksX2_isIn_2 23 rfl rfl)
abbrev cX2_isReached : ByteArray := prog_5_method_21_code
def yX2_isReached : MethodName := ⟨RX2, "isReached", "()Z"⟩
def dkwX2_isReached_0 : List UInt8 := [42, 182, 0, 100, 42, 182, 0, 68, 160, 0, 7, 4, 167, 0, 4, 3, 172]
abbrev dktX2_isReached_0 : List UInt8 := dkwX2_isReached_0 ++ []
theorem dksX2_isReached_0 : cX2_isReached.data.toList.drop 0 = dktX2_isReached_0 := by decide +kernel
theorem dX2_isReached_0 : decode cX2_isReached 0 = .ok (.aload_n 0, 1) := dk_42 (dk_at dksX2_isReached_0 0 rfl rfl)
theorem dX2_isReached_1 : decode cX2_isReached 1 = .ok (.invokevirtual 100, 3) := dk_182 0 100 (dk_at dksX2_isReached_0 1 rfl rfl)
theorem dX2_isReached_4 : decode cX2_isReached 4 = .ok (.aload_n 0, 1) := dk_42 (dk_at dksX2_isReached_0 4 rfl rfl)
theorem dX2_isReached_5 : decode cX2_isReached 5 = .ok (.invokevirtual 68, 3) := dk_182 0 68 (dk_at dksX2_isReached_0 5 rfl rfl)
theorem dX2_isReached_8 : decode cX2_isReached 8 = .ok (.if_icmp .ne 7, 3) := dk_160 0 7 (dk_at dksX2_isReached_0 8 rfl rfl)
theorem dX2_isReached_11 : decode cX2_isReached 11 = .ok (.iconst 1, 1) := dk_4 (dk_at dksX2_isReached_0 11 rfl rfl)
theorem dX2_isReached_12 : decode cX2_isReached 12 = .ok (.goto 4, 3) := dk_167 0 4 (dk_at dksX2_isReached_0 12 rfl rfl)
theorem dX2_isReached_15 : decode cX2_isReached 15 = .ok (.iconst 0, 1) := dk_3 (dk_at dksX2_isReached_0 15 rfl rfl)
theorem dX2_isReached_16 : decode cX2_isReached 16 = .ok (.ireturn, 1) := dk_172 (dk_at dksX2_isReached_0 16 rfl rfl)
abbrev cX2_areTurnsRight : ByteArray := prog_5_method_61_code
def yX2_areTurnsRight : MethodName := ⟨RX2, "areTurnsRight", "()Z"⟩
def dkwX2_areTurnsRight_1 : List UInt8 := [167, 255, 237, 27, 172]
abbrev dktX2_areTurnsRight_1 : List UInt8 := dkwX2_areTurnsRight_1 ++ []
def dkwX2_areTurnsRight_0 : List UInt8 := [4, 60, 3, 61, 28, 42, 182, 0, 75, 162, 0, 17, 27, 42, 28, 182, 0, 212, 126, 60, 132, 2, 1]
abbrev dktX2_areTurnsRight_0 : List UInt8 := dkwX2_areTurnsRight_0 ++ dktX2_areTurnsRight_1
theorem dksX2_areTurnsRight_0 : cX2_areTurnsRight.data.toList.drop 0 = dktX2_areTurnsRight_0 := by decide +kernel
theorem dksX2_areTurnsRight_1 : cX2_areTurnsRight.data.toList.drop 23 = dktX2_areTurnsRight_1 := dk_seg dksX2_areTurnsRight_0 23 rfl rfl
theorem dX2_areTurnsRight_0 : decode cX2_areTurnsRight 0 = .ok (.iconst 1, 1) := dk_4 (dk_at dksX2_areTurnsRight_0 0 rfl rfl)
theorem dX2_areTurnsRight_1 : decode cX2_areTurnsRight 1 = .ok (.istore_n 1, 1) := dk_60 (dk_at dksX2_areTurnsRight_0 1 rfl rfl)
theorem dX2_areTurnsRight_2 : decode cX2_areTurnsRight 2 = .ok (.iconst 0, 1) := dk_3 (dk_at dksX2_areTurnsRight_0 2 rfl rfl)
theorem dX2_areTurnsRight_3 : decode cX2_areTurnsRight 3 = .ok (.istore_n 2, 1) := dk_61 (dk_at dksX2_areTurnsRight_0 3 rfl rfl)
theorem dX2_areTurnsRight_4 : decode cX2_areTurnsRight 4 = .ok (.iload_n 2, 1) := dk_28 (dk_at dksX2_areTurnsRight_0 4 rfl rfl)
theorem dX2_areTurnsRight_5 : decode cX2_areTurnsRight 5 = .ok (.aload_n 0, 1) := dk_42 (dk_at dksX2_areTurnsRight_0 5 rfl rfl)
theorem dX2_areTurnsRight_6 : decode cX2_areTurnsRight 6 = .ok (.invokevirtual 75, 3) := dk_182 0 75 (dk_at dksX2_areTurnsRight_0 6 rfl rfl)
theorem dX2_areTurnsRight_9 : decode cX2_areTurnsRight 9 = .ok (.if_icmp .ge 17, 3) := dk_162 0 17 (dk_at dksX2_areTurnsRight_0 9 rfl rfl)
theorem dX2_areTurnsRight_12 : decode cX2_areTurnsRight 12 = .ok (.iload_n 1, 1) := dk_27 (dk_at dksX2_areTurnsRight_0 12 rfl rfl)
theorem dX2_areTurnsRight_13 : decode cX2_areTurnsRight 13 = .ok (.aload_n 0, 1) := dk_42 (dk_at dksX2_areTurnsRight_0 13 rfl rfl)
theorem dX2_areTurnsRight_14 : decode cX2_areTurnsRight 14 = .ok (.iload_n 2, 1) := dk_28 (dk_at dksX2_areTurnsRight_0 14 rfl rfl)
theorem dX2_areTurnsRight_15 : decode cX2_areTurnsRight 15 = .ok (.invokevirtual 212, 3) := dk_182 0 212 (dk_at dksX2_areTurnsRight_0 15 rfl rfl)
theorem dX2_areTurnsRight_18 : decode cX2_areTurnsRight 18 = .ok (.iand, 1) := dk_126 (dk_at dksX2_areTurnsRight_0 18 rfl rfl)
theorem dX2_areTurnsRight_19 : decode cX2_areTurnsRight 19 = .ok (.istore_n 1, 1) := dk_60 (dk_at dksX2_areTurnsRight_0 19 rfl rfl)
theorem dX2_areTurnsRight_20 : decode cX2_areTurnsRight 20 = .ok (.iinc 2 1, 3) := dk_132 2 1 (dk_at dksX2_areTurnsRight_0 20 rfl rfl)
theorem dX2_areTurnsRight_23 : decode cX2_areTurnsRight 23 = .ok (.goto (-19), 3) := dk_167 255 237 (dk_at dksX2_areTurnsRight_1 0 rfl rfl)
theorem dX2_areTurnsRight_26 : decode cX2_areTurnsRight 26 = .ok (.iload_n 1, 1) := dk_27 (dk_at dksX2_areTurnsRight_1 3 rfl rfl)
theorem dX2_areTurnsRight_27 : decode cX2_areTurnsRight 27 = .ok (.ireturn, 1) := dk_172 (dk_at dksX2_areTurnsRight_1 4 rfl rfl)
abbrev cX2_isTurnedBack : ByteArray := prog_5_method_60_code
def yX2_isTurnedBack : MethodName := ⟨RX2, "isTurnedBack", "(I)Z"⟩
def dkwX2_isTurnedBack_2 : List UInt8 := [28, 172]
abbrev dktX2_isTurnedBack_2 : List UInt8 := dkwX2_isTurnedBack_2 ++ []
def dkwX2_isTurnedBack_1 : List UInt8 := [184, 0, 106, 4, 182, 0, 209, 29, 160, 0, 7, 4, 167, 0, 4, 3, 126, 61, 132, 3, 1, 167, 255, 217]
abbrev dktX2_isTurnedBack_1 : List UInt8 := dkwX2_isTurnedBack_1 ++ dktX2_isTurnedBack_2
def dkwX2_isTurnedBack_0 : List UInt8 := [4, 61, 3, 62, 29, 42, 182, 0, 68, 162, 0, 37, 28, 42, 42, 29, 27, 4, 182, 0, 209, 27]
abbrev dktX2_isTurnedBack_0 : List UInt8 := dkwX2_isTurnedBack_0 ++ dktX2_isTurnedBack_1
theorem dksX2_isTurnedBack_0 : cX2_isTurnedBack.data.toList.drop 0 = dktX2_isTurnedBack_0 := by decide +kernel
theorem dksX2_isTurnedBack_1 : cX2_isTurnedBack.data.toList.drop 22 = dktX2_isTurnedBack_1 := dk_seg dksX2_isTurnedBack_0 22 rfl rfl
theorem dksX2_isTurnedBack_2 : cX2_isTurnedBack.data.toList.drop 46 = dktX2_isTurnedBack_2 := dk_seg dksX2_isTurnedBack_1 24 rfl rfl
theorem dX2_isTurnedBack_0 : decode cX2_isTurnedBack 0 = .ok (.iconst 1, 1) := dk_4 (dk_at dksX2_isTurnedBack_0 0 rfl rfl)
theorem dX2_isTurnedBack_1 : decode cX2_isTurnedBack 1 = .ok (.istore_n 2, 1) := dk_61 (dk_at dksX2_isTurnedBack_0 1 rfl rfl)
theorem dX2_isTurnedBack_2 : decode cX2_isTurnedBack 2 = .ok (.iconst 0, 1) := dk_3 (dk_at dksX2_isTurnedBack_0 2 rfl rfl)
theorem dX2_isTurnedBack_3 : decode cX2_isTurnedBack 3 = .ok (.istore_n 3, 1) := dk_62 (dk_at dksX2_isTurnedBack_0 3 rfl rfl)
theorem dX2_isTurnedBack_4 : decode cX2_isTurnedBack 4 = .ok (.iload_n 3, 1) := dk_29 (dk_at dksX2_isTurnedBack_0 4 rfl rfl)
theorem dX2_isTurnedBack_5 : decode cX2_isTurnedBack 5 = .ok (.aload_n 0, 1) := dk_42 (dk_at dksX2_isTurnedBack_0 5 rfl rfl)
theorem dX2_isTurnedBack_6 : decode cX2_isTurnedBack 6 = .ok (.invokevirtual 68, 3) := dk_182 0 68 (dk_at dksX2_isTurnedBack_0 6 rfl rfl)
theorem dX2_isTurnedBack_9 : decode cX2_isTurnedBack 9 = .ok (.if_icmp .ge 37, 3) := dk_162 0 37 (dk_at dksX2_isTurnedBack_0 9 rfl rfl)
theorem dX2_isTurnedBack_12 : decode cX2_isTurnedBack 12 = .ok (.iload_n 2, 1) := dk_28 (dk_at dksX2_isTurnedBack_0 12 rfl rfl)
theorem dX2_isTurnedBack_13 : decode cX2_isTurnedBack 13 = .ok (.aload_n 0, 1) := dk_42 (dk_at dksX2_isTurnedBack_0 13 rfl rfl)
theorem dX2_isTurnedBack_14 : decode cX2_isTurnedBack 14 = .ok (.aload_n 0, 1) := dk_42 (dk_at dksX2_isTurnedBack_0 14 rfl rfl)
theorem dX2_isTurnedBack_15 : decode cX2_isTurnedBack 15 = .ok (.iload_n 3, 1) := dk_29 (dk_at dksX2_isTurnedBack_0 15 rfl rfl)
theorem dX2_isTurnedBack_16 : decode cX2_isTurnedBack 16 = .ok (.iload_n 1, 1) := dk_27 (dk_at dksX2_isTurnedBack_0 16 rfl rfl)
theorem dX2_isTurnedBack_17 : decode cX2_isTurnedBack 17 = .ok (.iconst 1, 1) := dk_4 (dk_at dksX2_isTurnedBack_0 17 rfl rfl)
theorem dX2_isTurnedBack_18 : decode cX2_isTurnedBack 18 = .ok (.invokevirtual 209, 3) := dk_182 0 209 (dk_at dksX2_isTurnedBack_0 18 rfl rfl)
theorem dX2_isTurnedBack_21 : decode cX2_isTurnedBack 21 = .ok (.iload_n 1, 1) := dk_27 (dk_at dksX2_isTurnedBack_0 21 rfl rfl)
theorem dX2_isTurnedBack_22 : decode cX2_isTurnedBack 22 = .ok (.invokestatic 106, 3) := dk_184 0 106 (dk_at dksX2_isTurnedBack_1 0 rfl rfl)
theorem dX2_isTurnedBack_25 : decode cX2_isTurnedBack 25 = .ok (.iconst 1, 1) := dk_4 (dk_at dksX2_isTurnedBack_1 3 rfl rfl)
theorem dX2_isTurnedBack_26 : decode cX2_isTurnedBack 26 = .ok (.invokevirtual 209, 3) := dk_182 0 209 (dk_at dksX2_isTurnedBack_1 4 rfl rfl)
theorem dX2_isTurnedBack_29 : decode cX2_isTurnedBack 29 = .ok (.iload_n 3, 1) := dk_29 (dk_at dksX2_isTurnedBack_1 7 rfl rfl)
theorem dX2_isTurnedBack_30 : decode cX2_isTurnedBack 30 = .ok (.if_icmp .ne 7, 3) := dk_160 0 7 (dk_at dksX2_isTurnedBack_1 8 rfl rfl)
theorem dX2_isTurnedBack_33 : decode cX2_isTurnedBack 33 = .ok (.iconst 1, 1) := dk_4 (dk_at dksX2_isTurnedBack_1 11 rfl rfl)
theorem dX2_isTurnedBack_34 : decode cX2_isTurnedBack 34 = .ok (.goto 4, 3) := dk_167 0 4 (dk_at dksX2_isTurnedBack_1 12 rfl rfl)
theorem dX2_isTurnedBack_37 : decode cX2_isTurnedBack 37 = .ok (.iconst 0, 1) := dk_3 (dk_at dksX2_isTurnedBack_1 15 rfl rfl)
theorem dX2_isTurnedBack_38 : decode cX2_isTurnedBack 38 = .ok (.iand, 1) := dk_126 (dk_at dksX2_isTurnedBack_1 16 rfl rfl)
theorem dX2_isTurnedBack_39 : decode cX2_isTurnedBack 39 = .ok (.istore_n 2, 1) := dk_61 (dk_at dksX2_isTurnedBack_1 17 rfl rfl)
theorem dX2_isTurnedBack_40 : decode cX2_isTurnedBack 40 = .ok (.iinc 3 1, 3) := dk_132 3 1 (dk_at dksX2_isTurnedBack_1 18 rfl rfl)
theorem dX2_isTurnedBack_43 : decode cX2_isTurnedBack 43 = .ok (.goto (-39), 3) := dk_167 255 217 (dk_at dksX2_isTurnedBack_1 21 rfl rfl)
theorem dX2_isTurnedBack_46 : decode cX2_isTurnedBack 46 = .ok (.iload_n 2, 1) := dk_28 (dk_at dksX2_isTurnedBack_2 0 rfl rfl)
theorem dX2_isTurnedBack_47 : decode cX2_isTurnedBack 47 = .ok (.ireturn, 1) := dk_172 (dk_at dksX2_isTurnedBack_2 1 rfl rfl)
abbrev cX2_where : ByteArray := prog_5_method_51_code
def yX2_where : MethodName := ⟨RX2, "where", "(III)I"⟩
def dkwX2_where_3 : List UInt8 := [21, 6, 21, 7, 96, 21, 5, 112, 182, 0, 88, 172]
abbrev dktX2_where_3 : List UInt8 := dkwX2_where_3 ++ []
def dkwX2_where_2 : List UInt8 := [54, 6, 28, 5, 112, 154, 0, 7, 29, 167, 0, 9, 21, 5, 4, 100, 29, 104, 54, 7, 42, 21, 4]
abbrev dktX2_where_2 : List UInt8 := dkwX2_where_2 ++ dktX2_where_3
def dkwX2_where_1 : List UInt8 := [54, 5, 21, 4, 42, 180, 0, 33, 162, 0, 11, 42, 27, 182, 0, 82, 167, 0, 8, 42, 27, 182, 0, 78]
abbrev dktX2_where_1 : List UInt8 := dkwX2_where_1 ++ dktX2_where_2
def dkwX2_where_0 : List UInt8 := [28, 5, 108, 54, 4, 42, 27, 21, 4, 182, 0, 185, 154, 0, 5, 27, 172, 42, 21, 4, 182, 0, 85]
abbrev dktX2_where_0 : List UInt8 := dkwX2_where_0 ++ dktX2_where_1
theorem dksX2_where_0 : cX2_where.data.toList.drop 0 = dktX2_where_0 := by decide +kernel
theorem dksX2_where_1 : cX2_where.data.toList.drop 23 = dktX2_where_1 := dk_seg dksX2_where_0 23 rfl rfl
theorem dksX2_where_2 : cX2_where.data.toList.drop 47 = dktX2_where_2 := dk_seg dksX2_where_1 24 rfl rfl
theorem dksX2_where_3 : cX2_where.data.toList.drop 70 = dktX2_where_3 := dk_seg dksX2_where_2 23 rfl rfl
theorem dX2_where_0 : decode cX2_where 0 = .ok (.iload_n 2, 1) := dk_28 (dk_at dksX2_where_0 0 rfl rfl)
theorem dX2_where_1 : decode cX2_where 1 = .ok (.iconst 2, 1) := dk_5 (dk_at dksX2_where_0 1 rfl rfl)
theorem dX2_where_2 : decode cX2_where 2 = .ok (.idiv, 1) := dk_108 (dk_at dksX2_where_0 2 rfl rfl)
theorem dX2_where_3 : decode cX2_where 3 = .ok (.istore 4, 2) := dk_54 4 (dk_at dksX2_where_0 3 rfl rfl)
theorem dX2_where_5 : decode cX2_where 5 = .ok (.aload_n 0, 1) := dk_42 (dk_at dksX2_where_0 5 rfl rfl)
theorem dX2_where_6 : decode cX2_where 6 = .ok (.iload_n 1, 1) := dk_27 (dk_at dksX2_where_0 6 rfl rfl)
theorem dX2_where_7 : decode cX2_where 7 = .ok (.iload 4, 2) := dk_21 4 (dk_at dksX2_where_0 7 rfl rfl)
theorem dX2_where_9 : decode cX2_where 9 = .ok (.invokevirtual 185, 3) := dk_182 0 185 (dk_at dksX2_where_0 9 rfl rfl)
theorem dX2_where_12 : decode cX2_where 12 = .ok (.ifCond .ne 5, 3) := dk_154 0 5 (dk_at dksX2_where_0 12 rfl rfl)
theorem dX2_where_15 : decode cX2_where 15 = .ok (.iload_n 1, 1) := dk_27 (dk_at dksX2_where_0 15 rfl rfl)
theorem dX2_where_16 : decode cX2_where 16 = .ok (.ireturn, 1) := dk_172 (dk_at dksX2_where_0 16 rfl rfl)
theorem dX2_where_17 : decode cX2_where 17 = .ok (.aload_n 0, 1) := dk_42 (dk_at dksX2_where_0 17 rfl rfl)
theorem dX2_where_18 : decode cX2_where 18 = .ok (.iload 4, 2) := dk_21 4 (dk_at dksX2_where_0 18 rfl rfl)
theorem dX2_where_20 : decode cX2_where 20 = .ok (.invokevirtual 85, 3) := dk_182 0 85 (dk_at dksX2_where_0 20 rfl rfl)
theorem dX2_where_23 : decode cX2_where 23 = .ok (.istore 5, 2) := dk_54 5 (dk_at dksX2_where_1 0 rfl rfl)
theorem dX2_where_25 : decode cX2_where 25 = .ok (.iload 4, 2) := dk_21 4 (dk_at dksX2_where_1 2 rfl rfl)
theorem dX2_where_27 : decode cX2_where 27 = .ok (.aload_n 0, 1) := dk_42 (dk_at dksX2_where_1 4 rfl rfl)
theorem dX2_where_28 : decode cX2_where 28 = .ok (.getfield 33, 3) := dk_180 0 33 (dk_at dksX2_where_1 5 rfl rfl)
theorem dX2_where_31 : decode cX2_where 31 = .ok (.if_icmp .ge 11, 3) := dk_162 0 11 (dk_at dksX2_where_1 8 rfl rfl)
theorem dX2_where_34 : decode cX2_where 34 = .ok (.aload_n 0, 1) := dk_42 (dk_at dksX2_where_1 11 rfl rfl)
theorem dX2_where_35 : decode cX2_where 35 = .ok (.iload_n 1, 1) := dk_27 (dk_at dksX2_where_1 12 rfl rfl)
theorem dX2_where_36 : decode cX2_where 36 = .ok (.invokevirtual 82, 3) := dk_182 0 82 (dk_at dksX2_where_1 13 rfl rfl)
theorem dX2_where_39 : decode cX2_where 39 = .ok (.goto 8, 3) := dk_167 0 8 (dk_at dksX2_where_1 16 rfl rfl)
theorem dX2_where_42 : decode cX2_where 42 = .ok (.aload_n 0, 1) := dk_42 (dk_at dksX2_where_1 19 rfl rfl)
theorem dX2_where_43 : decode cX2_where 43 = .ok (.iload_n 1, 1) := dk_27 (dk_at dksX2_where_1 20 rfl rfl)
theorem dX2_where_44 : decode cX2_where 44 = .ok (.invokevirtual 78, 3) := dk_182 0 78 (dk_at dksX2_where_1 21 rfl rfl)
theorem dX2_where_47 : decode cX2_where 47 = .ok (.istore 6, 2) := dk_54 6 (dk_at dksX2_where_2 0 rfl rfl)
theorem dX2_where_49 : decode cX2_where 49 = .ok (.iload_n 2, 1) := dk_28 (dk_at dksX2_where_2 2 rfl rfl)
theorem dX2_where_50 : decode cX2_where 50 = .ok (.iconst 2, 1) := dk_5 (dk_at dksX2_where_2 3 rfl rfl)
theorem dX2_where_51 : decode cX2_where 51 = .ok (.irem, 1) := dk_112 (dk_at dksX2_where_2 4 rfl rfl)
theorem dX2_where_52 : decode cX2_where 52 = .ok (.ifCond .ne 7, 3) := dk_154 0 7 (dk_at dksX2_where_2 5 rfl rfl)
theorem dX2_where_55 : decode cX2_where 55 = .ok (.iload_n 3, 1) := dk_29 (dk_at dksX2_where_2 8 rfl rfl)
theorem dX2_where_56 : decode cX2_where 56 = .ok (.goto 9, 3) := dk_167 0 9 (dk_at dksX2_where_2 9 rfl rfl)
theorem dX2_where_59 : decode cX2_where 59 = .ok (.iload 5, 2) := dk_21 5 (dk_at dksX2_where_2 12 rfl rfl)
theorem dX2_where_61 : decode cX2_where 61 = .ok (.iconst 1, 1) := dk_4 (dk_at dksX2_where_2 14 rfl rfl)
theorem dX2_where_62 : decode cX2_where 62 = .ok (.isub, 1) := dk_100 (dk_at dksX2_where_2 15 rfl rfl)
theorem dX2_where_63 : decode cX2_where 63 = .ok (.iload_n 3, 1) := dk_29 (dk_at dksX2_where_2 16 rfl rfl)
theorem dX2_where_64 : decode cX2_where 64 = .ok (.imul, 1) := dk_104 (dk_at dksX2_where_2 17 rfl rfl)
theorem dX2_where_65 : decode cX2_where 65 = .ok (.istore 7, 2) := dk_54 7 (dk_at dksX2_where_2 18 rfl rfl)
theorem dX2_where_67 : decode cX2_where 67 = .ok (.aload_n 0, 1) := dk_42 (dk_at dksX2_where_2 20 rfl rfl)
theorem dX2_where_68 : decode cX2_where 68 = .ok (.iload 4, 2) := dk_21 4 (dk_at dksX2_where_2 21 rfl rfl)
theorem dX2_where_70 : decode cX2_where 70 = .ok (.iload 6, 2) := dk_21 6 (dk_at dksX2_where_3 0 rfl rfl)
theorem dX2_where_72 : decode cX2_where 72 = .ok (.iload 7, 2) := dk_21 7 (dk_at dksX2_where_3 2 rfl rfl)
theorem dX2_where_74 : decode cX2_where 74 = .ok (.iadd, 1) := dk_96 (dk_at dksX2_where_3 4 rfl rfl)
theorem dX2_where_75 : decode cX2_where 75 = .ok (.iload 5, 2) := dk_21 5 (dk_at dksX2_where_3 5 rfl rfl)
theorem dX2_where_77 : decode cX2_where 77 = .ok (.irem, 1) := dk_112 (dk_at dksX2_where_3 7 rfl rfl)
theorem dX2_where_78 : decode cX2_where 78 = .ok (.invokevirtual 88, 3) := dk_182 0 88 (dk_at dksX2_where_3 8 rfl rfl)
theorem dX2_where_81 : decode cX2_where 81 = .ok (.ireturn, 1) := dk_172 (dk_at dksX2_where_3 11 rfl rfl)
abbrev cX2_isOn : ByteArray := prog_5_method_14_code
def yX2_isOn : MethodName := ⟨RX2, "isOn", "(II)Z"⟩
def dkwX2_isOn_1 : List UInt8 := [167, 0, 22, 42, 27, 182, 0, 82, 28, 42, 180, 0, 33, 100, 160, 0, 7, 4, 167, 0, 4, 3, 172]
abbrev dktX2_isOn_1 : List UInt8 := dkwX2_isOn_1 ++ []
def dkwX2_isOn_0 : List UInt8 := [28, 42, 180, 0, 33, 162, 0, 20, 42, 27, 182, 0, 78, 28, 160, 0, 7, 4, 167, 0, 26, 3]
abbrev dktX2_isOn_0 : List UInt8 := dkwX2_isOn_0 ++ dktX2_isOn_1
theorem dksX2_isOn_0 : cX2_isOn.data.toList.drop 0 = dktX2_isOn_0 := by decide +kernel
theorem dksX2_isOn_1 : cX2_isOn.data.toList.drop 22 = dktX2_isOn_1 := dk_seg dksX2_isOn_0 22 rfl rfl
theorem dX2_isOn_0 : decode cX2_isOn 0 = .ok (.iload_n 2, 1) := dk_28 (dk_at dksX2_isOn_0 0 rfl rfl)
theorem dX2_isOn_1 : decode cX2_isOn 1 = .ok (.aload_n 0, 1) := dk_42 (dk_at dksX2_isOn_0 1 rfl rfl)
theorem dX2_isOn_2 : decode cX2_isOn 2 = .ok (.getfield 33, 3) := dk_180 0 33 (dk_at dksX2_isOn_0 2 rfl rfl)
theorem dX2_isOn_5 : decode cX2_isOn 5 = .ok (.if_icmp .ge 20, 3) := dk_162 0 20 (dk_at dksX2_isOn_0 5 rfl rfl)
theorem dX2_isOn_8 : decode cX2_isOn 8 = .ok (.aload_n 0, 1) := dk_42 (dk_at dksX2_isOn_0 8 rfl rfl)
theorem dX2_isOn_9 : decode cX2_isOn 9 = .ok (.iload_n 1, 1) := dk_27 (dk_at dksX2_isOn_0 9 rfl rfl)
theorem dX2_isOn_10 : decode cX2_isOn 10 = .ok (.invokevirtual 78, 3) := dk_182 0 78 (dk_at dksX2_isOn_0 10 rfl rfl)
theorem dX2_isOn_13 : decode cX2_isOn 13 = .ok (.iload_n 2, 1) := dk_28 (dk_at dksX2_isOn_0 13 rfl rfl)
theorem dX2_isOn_14 : decode cX2_isOn 14 = .ok (.if_icmp .ne 7, 3) := dk_160 0 7 (dk_at dksX2_isOn_0 14 rfl rfl)
theorem dX2_isOn_17 : decode cX2_isOn 17 = .ok (.iconst 1, 1) := dk_4 (dk_at dksX2_isOn_0 17 rfl rfl)
theorem dX2_isOn_18 : decode cX2_isOn 18 = .ok (.goto 26, 3) := dk_167 0 26 (dk_at dksX2_isOn_0 18 rfl rfl)
theorem dX2_isOn_21 : decode cX2_isOn 21 = .ok (.iconst 0, 1) := dk_3 (dk_at dksX2_isOn_0 21 rfl rfl)
theorem dX2_isOn_22 : decode cX2_isOn 22 = .ok (.goto 22, 3) := dk_167 0 22 (dk_at dksX2_isOn_1 0 rfl rfl)
theorem dX2_isOn_25 : decode cX2_isOn 25 = .ok (.aload_n 0, 1) := dk_42 (dk_at dksX2_isOn_1 3 rfl rfl)
theorem dX2_isOn_26 : decode cX2_isOn 26 = .ok (.iload_n 1, 1) := dk_27 (dk_at dksX2_isOn_1 4 rfl rfl)
theorem dX2_isOn_27 : decode cX2_isOn 27 = .ok (.invokevirtual 82, 3) := dk_182 0 82 (dk_at dksX2_isOn_1 5 rfl rfl)
theorem dX2_isOn_30 : decode cX2_isOn 30 = .ok (.iload_n 2, 1) := dk_28 (dk_at dksX2_isOn_1 8 rfl rfl)
theorem dX2_isOn_31 : decode cX2_isOn 31 = .ok (.aload_n 0, 1) := dk_42 (dk_at dksX2_isOn_1 9 rfl rfl)
theorem dX2_isOn_32 : decode cX2_isOn 32 = .ok (.getfield 33, 3) := dk_180 0 33 (dk_at dksX2_isOn_1 10 rfl rfl)
theorem dX2_isOn_35 : decode cX2_isOn 35 = .ok (.isub, 1) := dk_100 (dk_at dksX2_isOn_1 13 rfl rfl)
theorem dX2_isOn_36 : decode cX2_isOn 36 = .ok (.if_icmp .ne 7, 3) := dk_160 0 7 (dk_at dksX2_isOn_1 14 rfl rfl)
theorem dX2_isOn_39 : decode cX2_isOn 39 = .ok (.iconst 1, 1) := dk_4 (dk_at dksX2_isOn_1 17 rfl rfl)
theorem dX2_isOn_40 : decode cX2_isOn 40 = .ok (.goto 4, 3) := dk_167 0 4 (dk_at dksX2_isOn_1 18 rfl rfl)
theorem dX2_isOn_43 : decode cX2_isOn 43 = .ok (.iconst 0, 1) := dk_3 (dk_at dksX2_isOn_1 21 rfl rfl)
theorem dX2_isOn_44 : decode cX2_isOn 44 = .ok (.ireturn, 1) := dk_172 (dk_at dksX2_isOn_1 22 rfl rfl)
abbrev cX2_rowOf : ByteArray := prog_5_method_12_code
def yX2_rowOf : MethodName := ⟨RX2, "rowOf", "(I)I"⟩
def dkwX2_rowOf_0 : List UInt8 := [27, 42, 180, 0, 37, 108, 172]
abbrev dktX2_rowOf_0 : List UInt8 := dkwX2_rowOf_0 ++ []
theorem dksX2_rowOf_0 : cX2_rowOf.data.toList.drop 0 = dktX2_rowOf_0 := by decide +kernel
theorem dX2_rowOf_0 : decode cX2_rowOf 0 = .ok (.iload_n 1, 1) := dk_27 (dk_at dksX2_rowOf_0 0 rfl rfl)
theorem dX2_rowOf_1 : decode cX2_rowOf 1 = .ok (.aload_n 0, 1) := dk_42 (dk_at dksX2_rowOf_0 1 rfl rfl)
theorem dX2_rowOf_2 : decode cX2_rowOf 2 = .ok (.getfield 37, 3) := dk_180 0 37 (dk_at dksX2_rowOf_0 2 rfl rfl)
theorem dX2_rowOf_5 : decode cX2_rowOf 5 = .ok (.idiv, 1) := dk_108 (dk_at dksX2_rowOf_0 5 rfl rfl)
theorem dX2_rowOf_6 : decode cX2_rowOf 6 = .ok (.ireturn, 1) := dk_172 (dk_at dksX2_rowOf_0 6 rfl rfl)
abbrev cX2_columnOf : ByteArray := prog_5_method_13_code
def yX2_columnOf : MethodName := ⟨RX2, "columnOf", "(I)I"⟩
def dkwX2_columnOf_0 : List UInt8 := [27, 42, 180, 0, 37, 112, 172]
abbrev dktX2_columnOf_0 : List UInt8 := dkwX2_columnOf_0 ++ []
theorem dksX2_columnOf_0 : cX2_columnOf.data.toList.drop 0 = dktX2_columnOf_0 := by decide +kernel
theorem dX2_columnOf_0 : decode cX2_columnOf 0 = .ok (.iload_n 1, 1) := dk_27 (dk_at dksX2_columnOf_0 0 rfl rfl)
theorem dX2_columnOf_1 : decode cX2_columnOf 1 = .ok (.aload_n 0, 1) := dk_42 (dk_at dksX2_columnOf_0 1 rfl rfl)
theorem dX2_columnOf_2 : decode cX2_columnOf 2 = .ok (.getfield 37, 3) := dk_180 0 37 (dk_at dksX2_columnOf_0 2 rfl rfl)
theorem dX2_columnOf_5 : decode cX2_columnOf 5 = .ok (.irem, 1) := dk_112 (dk_at dksX2_columnOf_0 5 rfl rfl)
theorem dX2_columnOf_6 : decode cX2_columnOf 6 = .ok (.ireturn, 1) := dk_172 (dk_at dksX2_columnOf_0 6 rfl rfl)
abbrev cX2_isOddAgain : ByteArray := prog_5_method_40_code
def yX2_isOddAgain : MethodName := ⟨RX2, "isOddAgain", "()Z"⟩
def dkwX2_isOddAgain_2 : List UInt8 := [132, 2, 1, 167, 255, 211, 27, 172]
abbrev dktX2_isOddAgain_2 : List UInt8 := dkwX2_isOddAgain_2 ++ []
def dkwX2_isOddAgain_1 : List UInt8 := [182, 0, 160, 42, 28, 182, 0, 160, 164, 0, 7, 4, 167, 0, 4, 3, 130, 60, 132, 3, 1, 167, 255, 227]
abbrev dktX2_isOddAgain_1 : List UInt8 := dkwX2_isOddAgain_1 ++ dktX2_isOddAgain_2
def dkwX2_isOddAgain_0 : List UInt8 := [3, 60, 3, 61, 28, 42, 182, 0, 68, 162, 0, 43, 3, 62, 29, 28, 162, 0, 30, 27, 42, 29]
abbrev dktX2_isOddAgain_0 : List UInt8 := dkwX2_isOddAgain_0 ++ dktX2_isOddAgain_1
theorem dksX2_isOddAgain_0 : cX2_isOddAgain.data.toList.drop 0 = dktX2_isOddAgain_0 := by decide +kernel
theorem dksX2_isOddAgain_1 : cX2_isOddAgain.data.toList.drop 22 = dktX2_isOddAgain_1 := dk_seg dksX2_isOddAgain_0 22 rfl rfl
theorem dksX2_isOddAgain_2 : cX2_isOddAgain.data.toList.drop 46 = dktX2_isOddAgain_2 := dk_seg dksX2_isOddAgain_1 24 rfl rfl
theorem dX2_isOddAgain_0 : decode cX2_isOddAgain 0 = .ok (.iconst 0, 1) := dk_3 (dk_at dksX2_isOddAgain_0 0 rfl rfl)
theorem dX2_isOddAgain_1 : decode cX2_isOddAgain 1 = .ok (.istore_n 1, 1) := dk_60 (dk_at dksX2_isOddAgain_0 1 rfl rfl)
theorem dX2_isOddAgain_2 : decode cX2_isOddAgain 2 = .ok (.iconst 0, 1) := dk_3 (dk_at dksX2_isOddAgain_0 2 rfl rfl)
theorem dX2_isOddAgain_3 : decode cX2_isOddAgain 3 = .ok (.istore_n 2, 1) := dk_61 (dk_at dksX2_isOddAgain_0 3 rfl rfl)
theorem dX2_isOddAgain_4 : decode cX2_isOddAgain 4 = .ok (.iload_n 2, 1) := dk_28 (dk_at dksX2_isOddAgain_0 4 rfl rfl)
theorem dX2_isOddAgain_5 : decode cX2_isOddAgain 5 = .ok (.aload_n 0, 1) := dk_42 (dk_at dksX2_isOddAgain_0 5 rfl rfl)
theorem dX2_isOddAgain_6 : decode cX2_isOddAgain 6 = .ok (.invokevirtual 68, 3) := dk_182 0 68 (dk_at dksX2_isOddAgain_0 6 rfl rfl)
theorem dX2_isOddAgain_9 : decode cX2_isOddAgain 9 = .ok (.if_icmp .ge 43, 3) := dk_162 0 43 (dk_at dksX2_isOddAgain_0 9 rfl rfl)
theorem dX2_isOddAgain_12 : decode cX2_isOddAgain 12 = .ok (.iconst 0, 1) := dk_3 (dk_at dksX2_isOddAgain_0 12 rfl rfl)
theorem dX2_isOddAgain_13 : decode cX2_isOddAgain 13 = .ok (.istore_n 3, 1) := dk_62 (dk_at dksX2_isOddAgain_0 13 rfl rfl)
theorem dX2_isOddAgain_14 : decode cX2_isOddAgain 14 = .ok (.iload_n 3, 1) := dk_29 (dk_at dksX2_isOddAgain_0 14 rfl rfl)
theorem dX2_isOddAgain_15 : decode cX2_isOddAgain 15 = .ok (.iload_n 2, 1) := dk_28 (dk_at dksX2_isOddAgain_0 15 rfl rfl)
theorem dX2_isOddAgain_16 : decode cX2_isOddAgain 16 = .ok (.if_icmp .ge 30, 3) := dk_162 0 30 (dk_at dksX2_isOddAgain_0 16 rfl rfl)
theorem dX2_isOddAgain_19 : decode cX2_isOddAgain 19 = .ok (.iload_n 1, 1) := dk_27 (dk_at dksX2_isOddAgain_0 19 rfl rfl)
theorem dX2_isOddAgain_20 : decode cX2_isOddAgain 20 = .ok (.aload_n 0, 1) := dk_42 (dk_at dksX2_isOddAgain_0 20 rfl rfl)
theorem dX2_isOddAgain_21 : decode cX2_isOddAgain 21 = .ok (.iload_n 3, 1) := dk_29 (dk_at dksX2_isOddAgain_0 21 rfl rfl)
theorem dX2_isOddAgain_22 : decode cX2_isOddAgain 22 = .ok (.invokevirtual 160, 3) := dk_182 0 160 (dk_at dksX2_isOddAgain_1 0 rfl rfl)
theorem dX2_isOddAgain_25 : decode cX2_isOddAgain 25 = .ok (.aload_n 0, 1) := dk_42 (dk_at dksX2_isOddAgain_1 3 rfl rfl)
theorem dX2_isOddAgain_26 : decode cX2_isOddAgain 26 = .ok (.iload_n 2, 1) := dk_28 (dk_at dksX2_isOddAgain_1 4 rfl rfl)
theorem dX2_isOddAgain_27 : decode cX2_isOddAgain 27 = .ok (.invokevirtual 160, 3) := dk_182 0 160 (dk_at dksX2_isOddAgain_1 5 rfl rfl)
theorem dX2_isOddAgain_30 : decode cX2_isOddAgain 30 = .ok (.if_icmp .le 7, 3) := dk_164 0 7 (dk_at dksX2_isOddAgain_1 8 rfl rfl)
theorem dX2_isOddAgain_33 : decode cX2_isOddAgain 33 = .ok (.iconst 1, 1) := dk_4 (dk_at dksX2_isOddAgain_1 11 rfl rfl)
theorem dX2_isOddAgain_34 : decode cX2_isOddAgain 34 = .ok (.goto 4, 3) := dk_167 0 4 (dk_at dksX2_isOddAgain_1 12 rfl rfl)
theorem dX2_isOddAgain_37 : decode cX2_isOddAgain 37 = .ok (.iconst 0, 1) := dk_3 (dk_at dksX2_isOddAgain_1 15 rfl rfl)
theorem dX2_isOddAgain_38 : decode cX2_isOddAgain 38 = .ok (.ixor, 1) := dk_130 (dk_at dksX2_isOddAgain_1 16 rfl rfl)
theorem dX2_isOddAgain_39 : decode cX2_isOddAgain 39 = .ok (.istore_n 1, 1) := dk_60 (dk_at dksX2_isOddAgain_1 17 rfl rfl)
theorem dX2_isOddAgain_40 : decode cX2_isOddAgain 40 = .ok (.iinc 3 1, 3) := dk_132 3 1 (dk_at dksX2_isOddAgain_1 18 rfl rfl)
theorem dX2_isOddAgain_43 : decode cX2_isOddAgain 43 = .ok (.goto (-29), 3) := dk_167 255 227 (dk_at dksX2_isOddAgain_1 21 rfl rfl)
theorem dX2_isOddAgain_46 : decode cX2_isOddAgain 46 = .ok (.iinc 2 1, 3) := dk_132 2 1 (dk_at dksX2_isOddAgain_2 0 rfl rfl)
theorem dX2_isOddAgain_49 : decode cX2_isOddAgain 49 = .ok (.goto (-45), 3) := dk_167 255 211 (dk_at dksX2_isOddAgain_2 3 rfl rfl)
theorem dX2_isOddAgain_52 : decode cX2_isOddAgain 52 = .ok (.iload_n 1, 1) := dk_27 (dk_at dksX2_isOddAgain_2 6 rfl rfl)
theorem dX2_isOddAgain_53 : decode cX2_isOddAgain 53 = .ok (.ireturn, 1) := dk_172 (dk_at dksX2_isOddAgain_2 7 rfl rfl)
abbrev cX2_take : ByteArray := prog_5_method_2_code
def yX2_take : MethodName := ⟨RX2, "take", "(LVowelTorus$Puzzle;)V"⟩
def dkwX2_take_4 : List UInt8 := [43, 180, 0, 58, 181, 0, 58, 42, 43, 180, 0, 61, 181, 0, 61, 177]
abbrev dktX2_take_4 : List UInt8 := dkwX2_take_4 ++ []
def dkwX2_take_3 : List UInt8 := [43, 180, 0, 49, 181, 0, 49, 42, 43, 180, 0, 52, 181, 0, 52, 42, 43, 180, 0, 55, 181, 0, 55, 42]
abbrev dktX2_take_3 : List UInt8 := dkwX2_take_3 ++ dktX2_take_4
def dkwX2_take_2 : List UInt8 := [43, 180, 0, 18, 3, 42, 180, 0, 18, 3, 16, 6, 184, 0, 40, 42, 43, 180, 0, 46, 181, 0, 46, 42]
abbrev dktX2_take_2 : List UInt8 := dkwX2_take_2 ++ dktX2_take_3
def dkwX2_take_1 : List UInt8 := [180, 0, 9, 3, 16, 9, 184, 0, 40, 43, 180, 0, 15, 3, 42, 180, 0, 15, 3, 16, 9, 184, 0, 40]
abbrev dktX2_take_1 : List UInt8 := dkwX2_take_1 ++ dktX2_take_2
def dkwX2_take_0 : List UInt8 := [42, 43, 180, 0, 33, 181, 0, 33, 42, 43, 180, 0, 37, 181, 0, 37, 43, 180, 0, 9, 3, 42]
abbrev dktX2_take_0 : List UInt8 := dkwX2_take_0 ++ dktX2_take_1
theorem dksX2_take_0 : cX2_take.data.toList.drop 0 = dktX2_take_0 := by decide +kernel
theorem dksX2_take_1 : cX2_take.data.toList.drop 22 = dktX2_take_1 := dk_seg dksX2_take_0 22 rfl rfl
theorem dksX2_take_2 : cX2_take.data.toList.drop 46 = dktX2_take_2 := dk_seg dksX2_take_1 24 rfl rfl
theorem dksX2_take_3 : cX2_take.data.toList.drop 70 = dktX2_take_3 := dk_seg dksX2_take_2 24 rfl rfl
theorem dksX2_take_4 : cX2_take.data.toList.drop 94 = dktX2_take_4 := dk_seg dksX2_take_3 24 rfl rfl
theorem dX2_take_0 : decode cX2_take 0 = .ok (.aload_n 0, 1) := dk_42 (dk_at dksX2_take_0 0 rfl rfl)
theorem dX2_take_1 : decode cX2_take 1 = .ok (.aload_n 1, 1) := dk_43 (dk_at dksX2_take_0 1 rfl rfl)
theorem dX2_take_2 : decode cX2_take 2 = .ok (.getfield 33, 3) := dk_180 0 33 (dk_at dksX2_take_0 2 rfl rfl)
theorem dX2_take_5 : decode cX2_take 5 = .ok (.putfield 33, 3) := dk_181 0 33 (dk_at dksX2_take_0 5 rfl rfl)
theorem dX2_take_8 : decode cX2_take 8 = .ok (.aload_n 0, 1) := dk_42 (dk_at dksX2_take_0 8 rfl rfl)
theorem dX2_take_9 : decode cX2_take 9 = .ok (.aload_n 1, 1) := dk_43 (dk_at dksX2_take_0 9 rfl rfl)
theorem dX2_take_10 : decode cX2_take 10 = .ok (.getfield 37, 3) := dk_180 0 37 (dk_at dksX2_take_0 10 rfl rfl)
theorem dX2_take_13 : decode cX2_take 13 = .ok (.putfield 37, 3) := dk_181 0 37 (dk_at dksX2_take_0 13 rfl rfl)
theorem dX2_take_16 : decode cX2_take 16 = .ok (.aload_n 1, 1) := dk_43 (dk_at dksX2_take_0 16 rfl rfl)
theorem dX2_take_17 : decode cX2_take 17 = .ok (.getfield 9, 3) := dk_180 0 9 (dk_at dksX2_take_0 17 rfl rfl)
theorem dX2_take_20 : decode cX2_take 20 = .ok (.iconst 0, 1) := dk_3 (dk_at dksX2_take_0 20 rfl rfl)
theorem dX2_take_21 : decode cX2_take 21 = .ok (.aload_n 0, 1) := dk_42 (dk_at dksX2_take_0 21 rfl rfl)
theorem dX2_take_22 : decode cX2_take 22 = .ok (.getfield 9, 3) := dk_180 0 9 (dk_at dksX2_take_1 0 rfl rfl)
theorem dX2_take_25 : decode cX2_take 25 = .ok (.iconst 0, 1) := dk_3 (dk_at dksX2_take_1 3 rfl rfl)
theorem dX2_take_26 : decode cX2_take 26 = .ok (.bipush 9, 2) := dk_16 9 (dk_at dksX2_take_1 4 rfl rfl)
theorem dX2_take_28 : decode cX2_take 28 = .ok (.invokestatic 40, 3) := dk_184 0 40 (dk_at dksX2_take_1 6 rfl rfl)
theorem dX2_take_31 : decode cX2_take 31 = .ok (.aload_n 1, 1) := dk_43 (dk_at dksX2_take_1 9 rfl rfl)
theorem dX2_take_32 : decode cX2_take 32 = .ok (.getfield 15, 3) := dk_180 0 15 (dk_at dksX2_take_1 10 rfl rfl)
theorem dX2_take_35 : decode cX2_take 35 = .ok (.iconst 0, 1) := dk_3 (dk_at dksX2_take_1 13 rfl rfl)
theorem dX2_take_36 : decode cX2_take 36 = .ok (.aload_n 0, 1) := dk_42 (dk_at dksX2_take_1 14 rfl rfl)
theorem dX2_take_37 : decode cX2_take 37 = .ok (.getfield 15, 3) := dk_180 0 15 (dk_at dksX2_take_1 15 rfl rfl)
theorem dX2_take_40 : decode cX2_take 40 = .ok (.iconst 0, 1) := dk_3 (dk_at dksX2_take_1 18 rfl rfl)
theorem dX2_take_41 : decode cX2_take 41 = .ok (.bipush 9, 2) := dk_16 9 (dk_at dksX2_take_1 19 rfl rfl)
theorem dX2_take_43 : decode cX2_take 43 = .ok (.invokestatic 40, 3) := dk_184 0 40 (dk_at dksX2_take_1 21 rfl rfl)
theorem dX2_take_46 : decode cX2_take 46 = .ok (.aload_n 1, 1) := dk_43 (dk_at dksX2_take_2 0 rfl rfl)
theorem dX2_take_47 : decode cX2_take 47 = .ok (.getfield 18, 3) := dk_180 0 18 (dk_at dksX2_take_2 1 rfl rfl)
theorem dX2_take_50 : decode cX2_take 50 = .ok (.iconst 0, 1) := dk_3 (dk_at dksX2_take_2 4 rfl rfl)
theorem dX2_take_51 : decode cX2_take 51 = .ok (.aload_n 0, 1) := dk_42 (dk_at dksX2_take_2 5 rfl rfl)
theorem dX2_take_52 : decode cX2_take 52 = .ok (.getfield 18, 3) := dk_180 0 18 (dk_at dksX2_take_2 6 rfl rfl)
theorem dX2_take_55 : decode cX2_take 55 = .ok (.iconst 0, 1) := dk_3 (dk_at dksX2_take_2 9 rfl rfl)
theorem dX2_take_56 : decode cX2_take 56 = .ok (.bipush 6, 2) := dk_16 6 (dk_at dksX2_take_2 10 rfl rfl)
theorem dX2_take_58 : decode cX2_take 58 = .ok (.invokestatic 40, 3) := dk_184 0 40 (dk_at dksX2_take_2 12 rfl rfl)
theorem dX2_take_61 : decode cX2_take 61 = .ok (.aload_n 0, 1) := dk_42 (dk_at dksX2_take_2 15 rfl rfl)
theorem dX2_take_62 : decode cX2_take 62 = .ok (.aload_n 1, 1) := dk_43 (dk_at dksX2_take_2 16 rfl rfl)
theorem dX2_take_63 : decode cX2_take 63 = .ok (.getfield 46, 3) := dk_180 0 46 (dk_at dksX2_take_2 17 rfl rfl)
theorem dX2_take_66 : decode cX2_take 66 = .ok (.putfield 46, 3) := dk_181 0 46 (dk_at dksX2_take_2 20 rfl rfl)
theorem dX2_take_69 : decode cX2_take 69 = .ok (.aload_n 0, 1) := dk_42 (dk_at dksX2_take_2 23 rfl rfl)
theorem dX2_take_70 : decode cX2_take 70 = .ok (.aload_n 1, 1) := dk_43 (dk_at dksX2_take_3 0 rfl rfl)
theorem dX2_take_71 : decode cX2_take 71 = .ok (.getfield 49, 3) := dk_180 0 49 (dk_at dksX2_take_3 1 rfl rfl)
theorem dX2_take_74 : decode cX2_take 74 = .ok (.putfield 49, 3) := dk_181 0 49 (dk_at dksX2_take_3 4 rfl rfl)
theorem dX2_take_77 : decode cX2_take 77 = .ok (.aload_n 0, 1) := dk_42 (dk_at dksX2_take_3 7 rfl rfl)
theorem dX2_take_78 : decode cX2_take 78 = .ok (.aload_n 1, 1) := dk_43 (dk_at dksX2_take_3 8 rfl rfl)
theorem dX2_take_79 : decode cX2_take 79 = .ok (.getfield 52, 3) := dk_180 0 52 (dk_at dksX2_take_3 9 rfl rfl)
theorem dX2_take_82 : decode cX2_take 82 = .ok (.putfield 52, 3) := dk_181 0 52 (dk_at dksX2_take_3 12 rfl rfl)
theorem dX2_take_85 : decode cX2_take 85 = .ok (.aload_n 0, 1) := dk_42 (dk_at dksX2_take_3 15 rfl rfl)
theorem dX2_take_86 : decode cX2_take 86 = .ok (.aload_n 1, 1) := dk_43 (dk_at dksX2_take_3 16 rfl rfl)
theorem dX2_take_87 : decode cX2_take 87 = .ok (.getfield 55, 3) := dk_180 0 55 (dk_at dksX2_take_3 17 rfl rfl)
theorem dX2_take_90 : decode cX2_take 90 = .ok (.putfield 55, 3) := dk_181 0 55 (dk_at dksX2_take_3 20 rfl rfl)
theorem dX2_take_93 : decode cX2_take 93 = .ok (.aload_n 0, 1) := dk_42 (dk_at dksX2_take_3 23 rfl rfl)
theorem dX2_take_94 : decode cX2_take 94 = .ok (.aload_n 1, 1) := dk_43 (dk_at dksX2_take_4 0 rfl rfl)
theorem dX2_take_95 : decode cX2_take 95 = .ok (.getfield 58, 3) := dk_180 0 58 (dk_at dksX2_take_4 1 rfl rfl)
theorem dX2_take_98 : decode cX2_take 98 = .ok (.putfield 58, 3) := dk_181 0 58 (dk_at dksX2_take_4 4 rfl rfl)
theorem dX2_take_101 : decode cX2_take 101 = .ok (.aload_n 0, 1) := dk_42 (dk_at dksX2_take_4 7 rfl rfl)
theorem dX2_take_102 : decode cX2_take 102 = .ok (.aload_n 1, 1) := dk_43 (dk_at dksX2_take_4 8 rfl rfl)
theorem dX2_take_103 : decode cX2_take 103 = .ok (.getfield 61, 3) := dk_180 0 61 (dk_at dksX2_take_4 9 rfl rfl)
theorem dX2_take_106 : decode cX2_take 106 = .ok (.putfield 61, 3) := dk_181 0 61 (dk_at dksX2_take_4 12 rfl rfl)
theorem dX2_take_109 : decode cX2_take 109 = .ok (.return_, 1) := dk_177 (dk_at dksX2_take_4 15 rfl rfl)
abbrev cX2_board : ByteArray := prog_5_method_44_code
def yX2_board : MethodName := ⟨RX2, "board", "(II)I"⟩
def dkwX2_board_0 : List UInt8 := [42, 27, 28, 182, 0, 29, 42, 89, 180, 0, 58, 4, 96, 181, 0, 58, 42, 182, 0, 68, 172]
abbrev dktX2_board_0 : List UInt8 := dkwX2_board_0 ++ []
theorem dksX2_board_0 : cX2_board.data.toList.drop 0 = dktX2_board_0 := by decide +kernel
theorem dX2_board_0 : decode cX2_board 0 = .ok (.aload_n 0, 1) := dk_42 (dk_at dksX2_board_0 0 rfl rfl)
theorem dX2_board_1 : decode cX2_board 1 = .ok (.iload_n 1, 1) := dk_27 (dk_at dksX2_board_0 1 rfl rfl)
theorem dX2_board_2 : decode cX2_board 2 = .ok (.iload_n 2, 1) := dk_28 (dk_at dksX2_board_0 2 rfl rfl)
theorem dX2_board_3 : decode cX2_board 3 = .ok (.invokevirtual 29, 3) := dk_182 0 29 (dk_at dksX2_board_0 3 rfl rfl)
theorem dX2_board_6 : decode cX2_board 6 = .ok (.aload_n 0, 1) := dk_42 (dk_at dksX2_board_0 6 rfl rfl)
theorem dX2_board_7 : decode cX2_board 7 = .ok (.dup, 1) := dk_89 (dk_at dksX2_board_0 7 rfl rfl)
theorem dX2_board_8 : decode cX2_board 8 = .ok (.getfield 58, 3) := dk_180 0 58 (dk_at dksX2_board_0 8 rfl rfl)
theorem dX2_board_11 : decode cX2_board 11 = .ok (.iconst 1, 1) := dk_4 (dk_at dksX2_board_0 11 rfl rfl)
theorem dX2_board_12 : decode cX2_board 12 = .ok (.iadd, 1) := dk_96 (dk_at dksX2_board_0 12 rfl rfl)
theorem dX2_board_13 : decode cX2_board 13 = .ok (.putfield 58, 3) := dk_181 0 58 (dk_at dksX2_board_0 13 rfl rfl)
theorem dX2_board_16 : decode cX2_board 16 = .ok (.aload_n 0, 1) := dk_42 (dk_at dksX2_board_0 16 rfl rfl)
theorem dX2_board_17 : decode cX2_board 17 = .ok (.invokevirtual 68, 3) := dk_182 0 68 (dk_at dksX2_board_0 17 rfl rfl)
theorem dX2_board_20 : decode cX2_board 20 = .ok (.ireturn, 1) := dk_172 (dk_at dksX2_board_0 20 rfl rfl)
abbrev cX2_take_2 : ByteArray := prog_5_method_65_code
def yX2_take_2 : MethodName := ⟨RX2, "take", "(Ljava/lang/Object;)V"⟩
def dkwX2_take_2_0 : List UInt8 := [42, 43, 192, 0, 10, 182, 0, 233, 177]
abbrev dktX2_take_2_0 : List UInt8 := dkwX2_take_2_0 ++ []
theorem dksX2_take_2_0 : cX2_take_2.data.toList.drop 0 = dktX2_take_2_0 := by decide +kernel
theorem dX2_take_2_0 : decode cX2_take_2 0 = .ok (.aload_n 0, 1) := dk_42 (dk_at dksX2_take_2_0 0 rfl rfl)
theorem dX2_take_2_1 : decode cX2_take_2 1 = .ok (.aload_n 1, 1) := dk_43 (dk_at dksX2_take_2_0 1 rfl rfl)
theorem dX2_take_2_2 : decode cX2_take_2 2 = .ok (.checkcast 10, 3) := dk_192 0 10 (dk_at dksX2_take_2_0 2 rfl rfl)
theorem dX2_take_2_5 : decode cX2_take_2 5 = .ok (.invokevirtual 233, 3) := dk_182 0 233 (dk_at dksX2_take_2_0 5 rfl rfl)
theorem dX2_take_2_8 : decode cX2_take_2 8 = .ok (.return_, 1) := dk_177 (dk_at dksX2_take_2_0 8 rfl rfl)
abbrev cX2_isPlace : ByteArray := prog_5_method_7_code
def yX2_isPlace : MethodName := ⟨RX2, "isPlace", "(I)Z"⟩
def dkwX2_isPlace_0 : List UInt8 := [27, 3, 42, 182, 0, 68, 4, 100, 184, 0, 71, 172]
abbrev dktX2_isPlace_0 : List UInt8 := dkwX2_isPlace_0 ++ []
theorem dksX2_isPlace_0 : cX2_isPlace.data.toList.drop 0 = dktX2_isPlace_0 := by decide +kernel
theorem dX2_isPlace_0 : decode cX2_isPlace 0 = .ok (.iload_n 1, 1) := dk_27 (dk_at dksX2_isPlace_0 0 rfl rfl)
theorem dX2_isPlace_1 : decode cX2_isPlace 1 = .ok (.iconst 0, 1) := dk_3 (dk_at dksX2_isPlace_0 1 rfl rfl)
theorem dX2_isPlace_2 : decode cX2_isPlace 2 = .ok (.aload_n 0, 1) := dk_42 (dk_at dksX2_isPlace_0 2 rfl rfl)
theorem dX2_isPlace_3 : decode cX2_isPlace 3 = .ok (.invokevirtual 68, 3) := dk_182 0 68 (dk_at dksX2_isPlace_0 3 rfl rfl)
theorem dX2_isPlace_6 : decode cX2_isPlace 6 = .ok (.iconst 1, 1) := dk_4 (dk_at dksX2_isPlace_0 6 rfl rfl)
theorem dX2_isPlace_7 : decode cX2_isPlace 7 = .ok (.isub, 1) := dk_100 (dk_at dksX2_isPlace_0 7 rfl rfl)
theorem dX2_isPlace_8 : decode cX2_isPlace 8 = .ok (.invokestatic 71, 3) := dk_184 0 71 (dk_at dksX2_isPlace_0 8 rfl rfl)
theorem dX2_isPlace_11 : decode cX2_isPlace 11 = .ok (.ireturn, 1) := dk_172 (dk_at dksX2_isPlace_0 11 rfl rfl)
abbrev cX2_put : ByteArray := prog_5_method_42_code
def yX2_put : MethodName := ⟨RX2, "put", "(IC)C"⟩
def dkwX2_put_1 : List UInt8 := [180, 0, 9, 27, 28, 85, 29, 172]
abbrev dktX2_put_1 : List UInt8 := dkwX2_put_1 ++ []
def dkwX2_put_0 : List UInt8 := [42, 180, 0, 9, 27, 52, 62, 29, 28, 160, 0, 7, 4, 167, 0, 4, 3, 5, 27, 184, 0, 169, 42]
abbrev dktX2_put_0 : List UInt8 := dkwX2_put_0 ++ dktX2_put_1
theorem dksX2_put_0 : cX2_put.data.toList.drop 0 = dktX2_put_0 := by decide +kernel
theorem dksX2_put_1 : cX2_put.data.toList.drop 23 = dktX2_put_1 := dk_seg dksX2_put_0 23 rfl rfl
theorem dX2_put_0 : decode cX2_put 0 = .ok (.aload_n 0, 1) := dk_42 (dk_at dksX2_put_0 0 rfl rfl)
theorem dX2_put_1 : decode cX2_put 1 = .ok (.getfield 9, 3) := dk_180 0 9 (dk_at dksX2_put_0 1 rfl rfl)
theorem dX2_put_4 : decode cX2_put 4 = .ok (.iload_n 1, 1) := dk_27 (dk_at dksX2_put_0 4 rfl rfl)
theorem dX2_put_5 : decode cX2_put 5 = .ok (.caload, 1) := dk_52 (dk_at dksX2_put_0 5 rfl rfl)
theorem dX2_put_6 : decode cX2_put 6 = .ok (.istore_n 3, 1) := dk_62 (dk_at dksX2_put_0 6 rfl rfl)
theorem dX2_put_7 : decode cX2_put 7 = .ok (.iload_n 3, 1) := dk_29 (dk_at dksX2_put_0 7 rfl rfl)
theorem dX2_put_8 : decode cX2_put 8 = .ok (.iload_n 2, 1) := dk_28 (dk_at dksX2_put_0 8 rfl rfl)
theorem dX2_put_9 : decode cX2_put 9 = .ok (.if_icmp .ne 7, 3) := dk_160 0 7 (dk_at dksX2_put_0 9 rfl rfl)
theorem dX2_put_12 : decode cX2_put 12 = .ok (.iconst 1, 1) := dk_4 (dk_at dksX2_put_0 12 rfl rfl)
theorem dX2_put_13 : decode cX2_put 13 = .ok (.goto 4, 3) := dk_167 0 4 (dk_at dksX2_put_0 13 rfl rfl)
theorem dX2_put_16 : decode cX2_put 16 = .ok (.iconst 0, 1) := dk_3 (dk_at dksX2_put_0 16 rfl rfl)
theorem dX2_put_17 : decode cX2_put 17 = .ok (.iconst 2, 1) := dk_5 (dk_at dksX2_put_0 17 rfl rfl)
theorem dX2_put_18 : decode cX2_put 18 = .ok (.iload_n 1, 1) := dk_27 (dk_at dksX2_put_0 18 rfl rfl)
theorem dX2_put_19 : decode cX2_put 19 = .ok (.invokestatic 169, 3) := dk_184 0 169 (dk_at dksX2_put_0 19 rfl rfl)
theorem dX2_put_22 : decode cX2_put 22 = .ok (.aload_n 0, 1) := dk_42 (dk_at dksX2_put_0 22 rfl rfl)
theorem dX2_put_23 : decode cX2_put 23 = .ok (.getfield 9, 3) := dk_180 0 9 (dk_at dksX2_put_1 0 rfl rfl)
theorem dX2_put_26 : decode cX2_put 26 = .ok (.iload_n 1, 1) := dk_27 (dk_at dksX2_put_1 3 rfl rfl)
theorem dX2_put_27 : decode cX2_put 27 = .ok (.iload_n 2, 1) := dk_28 (dk_at dksX2_put_1 4 rfl rfl)
theorem dX2_put_28 : decode cX2_put 28 = .ok (.castore, 1) := dk_85 (dk_at dksX2_put_1 5 rfl rfl)
theorem dX2_put_29 : decode cX2_put 29 = .ok (.iload_n 3, 1) := dk_29 (dk_at dksX2_put_1 6 rfl rfl)
theorem dX2_put_30 : decode cX2_put 30 = .ok (.ireturn, 1) := dk_172 (dk_at dksX2_put_1 7 rfl rfl)
abbrev cX2_goal : ByteArray := prog_5_method_43_code
def yX2_goal : MethodName := ⟨RX2, "goal", "(IC)C"⟩
def dkwX2_goal_1 : List UInt8 := [180, 0, 15, 27, 28, 85, 29, 172]
abbrev dktX2_goal_1 : List UInt8 := dkwX2_goal_1 ++ []
def dkwX2_goal_0 : List UInt8 := [42, 180, 0, 15, 27, 52, 62, 29, 28, 160, 0, 7, 4, 167, 0, 4, 3, 5, 27, 184, 0, 169, 42]
abbrev dktX2_goal_0 : List UInt8 := dkwX2_goal_0 ++ dktX2_goal_1
theorem dksX2_goal_0 : cX2_goal.data.toList.drop 0 = dktX2_goal_0 := by decide +kernel
theorem dksX2_goal_1 : cX2_goal.data.toList.drop 23 = dktX2_goal_1 := dk_seg dksX2_goal_0 23 rfl rfl
theorem dX2_goal_0 : decode cX2_goal 0 = .ok (.aload_n 0, 1) := dk_42 (dk_at dksX2_goal_0 0 rfl rfl)
theorem dX2_goal_1 : decode cX2_goal 1 = .ok (.getfield 15, 3) := dk_180 0 15 (dk_at dksX2_goal_0 1 rfl rfl)
theorem dX2_goal_4 : decode cX2_goal 4 = .ok (.iload_n 1, 1) := dk_27 (dk_at dksX2_goal_0 4 rfl rfl)
theorem dX2_goal_5 : decode cX2_goal 5 = .ok (.caload, 1) := dk_52 (dk_at dksX2_goal_0 5 rfl rfl)
theorem dX2_goal_6 : decode cX2_goal 6 = .ok (.istore_n 3, 1) := dk_62 (dk_at dksX2_goal_0 6 rfl rfl)
theorem dX2_goal_7 : decode cX2_goal 7 = .ok (.iload_n 3, 1) := dk_29 (dk_at dksX2_goal_0 7 rfl rfl)
theorem dX2_goal_8 : decode cX2_goal 8 = .ok (.iload_n 2, 1) := dk_28 (dk_at dksX2_goal_0 8 rfl rfl)
theorem dX2_goal_9 : decode cX2_goal 9 = .ok (.if_icmp .ne 7, 3) := dk_160 0 7 (dk_at dksX2_goal_0 9 rfl rfl)
theorem dX2_goal_12 : decode cX2_goal 12 = .ok (.iconst 1, 1) := dk_4 (dk_at dksX2_goal_0 12 rfl rfl)
theorem dX2_goal_13 : decode cX2_goal 13 = .ok (.goto 4, 3) := dk_167 0 4 (dk_at dksX2_goal_0 13 rfl rfl)
theorem dX2_goal_16 : decode cX2_goal 16 = .ok (.iconst 0, 1) := dk_3 (dk_at dksX2_goal_0 16 rfl rfl)
theorem dX2_goal_17 : decode cX2_goal 17 = .ok (.iconst 2, 1) := dk_5 (dk_at dksX2_goal_0 17 rfl rfl)
theorem dX2_goal_18 : decode cX2_goal 18 = .ok (.iload_n 1, 1) := dk_27 (dk_at dksX2_goal_0 18 rfl rfl)
theorem dX2_goal_19 : decode cX2_goal 19 = .ok (.invokestatic 169, 3) := dk_184 0 169 (dk_at dksX2_goal_0 19 rfl rfl)
theorem dX2_goal_22 : decode cX2_goal 22 = .ok (.aload_n 0, 1) := dk_42 (dk_at dksX2_goal_0 22 rfl rfl)
theorem dX2_goal_23 : decode cX2_goal 23 = .ok (.getfield 15, 3) := dk_180 0 15 (dk_at dksX2_goal_1 0 rfl rfl)
theorem dX2_goal_26 : decode cX2_goal 26 = .ok (.iload_n 1, 1) := dk_27 (dk_at dksX2_goal_1 3 rfl rfl)
theorem dX2_goal_27 : decode cX2_goal 27 = .ok (.iload_n 2, 1) := dk_28 (dk_at dksX2_goal_1 4 rfl rfl)
theorem dX2_goal_28 : decode cX2_goal 28 = .ok (.castore, 1) := dk_85 (dk_at dksX2_goal_1 5 rfl rfl)
theorem dX2_goal_29 : decode cX2_goal 29 = .ok (.iload_n 3, 1) := dk_29 (dk_at dksX2_goal_1 6 rfl rfl)
theorem dX2_goal_30 : decode cX2_goal 30 = .ok (.ireturn, 1) := dk_172 (dk_at dksX2_goal_1 7 rfl rfl)
abbrev cX2_isTurn : ByteArray := prog_5_method_9_code
def yX2_isTurn : MethodName := ⟨RX2, "isTurn", "(I)Z"⟩
def dkwX2_isTurn_0 : List UInt8 := [27, 3, 42, 182, 0, 75, 4, 100, 184, 0, 71, 172]
abbrev dktX2_isTurn_0 : List UInt8 := dkwX2_isTurn_0 ++ []
theorem dksX2_isTurn_0 : cX2_isTurn.data.toList.drop 0 = dktX2_isTurn_0 := by decide +kernel
theorem dX2_isTurn_0 : decode cX2_isTurn 0 = .ok (.iload_n 1, 1) := dk_27 (dk_at dksX2_isTurn_0 0 rfl rfl)
theorem dX2_isTurn_1 : decode cX2_isTurn 1 = .ok (.iconst 0, 1) := dk_3 (dk_at dksX2_isTurn_0 1 rfl rfl)
theorem dX2_isTurn_2 : decode cX2_isTurn 2 = .ok (.aload_n 0, 1) := dk_42 (dk_at dksX2_isTurn_0 2 rfl rfl)
theorem dX2_isTurn_3 : decode cX2_isTurn 3 = .ok (.invokevirtual 75, 3) := dk_182 0 75 (dk_at dksX2_isTurn_0 3 rfl rfl)
theorem dX2_isTurn_6 : decode cX2_isTurn 6 = .ok (.iconst 1, 1) := dk_4 (dk_at dksX2_isTurn_0 6 rfl rfl)
theorem dX2_isTurn_7 : decode cX2_isTurn 7 = .ok (.isub, 1) := dk_100 (dk_at dksX2_isTurn_0 7 rfl rfl)
theorem dX2_isTurn_8 : decode cX2_isTurn 8 = .ok (.invokestatic 71, 3) := dk_184 0 71 (dk_at dksX2_isTurn_0 8 rfl rfl)
theorem dX2_isTurn_11 : decode cX2_isTurn 11 = .ok (.ireturn, 1) := dk_172 (dk_at dksX2_isTurn_0 11 rfl rfl)
abbrev cX2_turn : ByteArray := prog_5_method_46_code
def yX2_turn : MethodName := ⟨RX2, "turn", "(I)I"⟩
def dkwX2_turn_1 : List UInt8 := [182, 0, 173, 172]
abbrev dktX2_turn_1 : List UInt8 := dkwX2_turn_1 ++ []
def dkwX2_turn_0 : List UInt8 := [42, 27, 182, 0, 109, 154, 0, 7, 4, 167, 0, 4, 3, 4, 27, 5, 108, 184, 0, 169, 42, 27]
abbrev dktX2_turn_0 : List UInt8 := dkwX2_turn_0 ++ dktX2_turn_1
theorem dksX2_turn_0 : cX2_turn.data.toList.drop 0 = dktX2_turn_0 := by decide +kernel
theorem dksX2_turn_1 : cX2_turn.data.toList.drop 22 = dktX2_turn_1 := dk_seg dksX2_turn_0 22 rfl rfl
theorem dX2_turn_0 : decode cX2_turn 0 = .ok (.aload_n 0, 1) := dk_42 (dk_at dksX2_turn_0 0 rfl rfl)
theorem dX2_turn_1 : decode cX2_turn 1 = .ok (.iload_n 1, 1) := dk_27 (dk_at dksX2_turn_0 1 rfl rfl)
theorem dX2_turn_2 : decode cX2_turn 2 = .ok (.invokevirtual 109, 3) := dk_182 0 109 (dk_at dksX2_turn_0 2 rfl rfl)
theorem dX2_turn_5 : decode cX2_turn 5 = .ok (.ifCond .ne 7, 3) := dk_154 0 7 (dk_at dksX2_turn_0 5 rfl rfl)
theorem dX2_turn_8 : decode cX2_turn 8 = .ok (.iconst 1, 1) := dk_4 (dk_at dksX2_turn_0 8 rfl rfl)
theorem dX2_turn_9 : decode cX2_turn 9 = .ok (.goto 4, 3) := dk_167 0 4 (dk_at dksX2_turn_0 9 rfl rfl)
theorem dX2_turn_12 : decode cX2_turn 12 = .ok (.iconst 0, 1) := dk_3 (dk_at dksX2_turn_0 12 rfl rfl)
theorem dX2_turn_13 : decode cX2_turn 13 = .ok (.iconst 1, 1) := dk_4 (dk_at dksX2_turn_0 13 rfl rfl)
theorem dX2_turn_14 : decode cX2_turn 14 = .ok (.iload_n 1, 1) := dk_27 (dk_at dksX2_turn_0 14 rfl rfl)
theorem dX2_turn_15 : decode cX2_turn 15 = .ok (.iconst 2, 1) := dk_5 (dk_at dksX2_turn_0 15 rfl rfl)
theorem dX2_turn_16 : decode cX2_turn 16 = .ok (.idiv, 1) := dk_108 (dk_at dksX2_turn_0 16 rfl rfl)
theorem dX2_turn_17 : decode cX2_turn 17 = .ok (.invokestatic 169, 3) := dk_184 0 169 (dk_at dksX2_turn_0 17 rfl rfl)
theorem dX2_turn_20 : decode cX2_turn 20 = .ok (.aload_n 0, 1) := dk_42 (dk_at dksX2_turn_0 20 rfl rfl)
theorem dX2_turn_21 : decode cX2_turn 21 = .ok (.iload_n 1, 1) := dk_27 (dk_at dksX2_turn_0 21 rfl rfl)
theorem dX2_turn_22 : decode cX2_turn 22 = .ok (.invokevirtual 173, 3) := dk_182 0 173 (dk_at dksX2_turn_1 0 rfl rfl)
theorem dX2_turn_25 : decode cX2_turn 25 = .ok (.ireturn, 1) := dk_172 (dk_at dksX2_turn_1 3 rfl rfl)
abbrev cX2_makesTurn : ByteArray := prog_5_method_45_code
def yX2_makesTurn : MethodName := ⟨RX2, "makesTurn", "(I)I"⟩
def dkwX2_makesTurn_2 : List UInt8 := [181, 0, 61, 42, 182, 0, 100, 172]
abbrev dktX2_makesTurn_2 : List UInt8 := dkwX2_makesTurn_2 ++ []
def dkwX2_makesTurn_1 : List UInt8 := [42, 89, 180, 0, 61, 42, 182, 0, 136, 153, 0, 11, 28, 154, 0, 7, 4, 167, 0, 4, 3, 96]
abbrev dktX2_makesTurn_1 : List UInt8 := dkwX2_makesTurn_1 ++ dktX2_makesTurn_2
def dkwX2_makesTurn_0 : List UInt8 := [42, 182, 0, 136, 61, 42, 42, 180, 0, 9, 27, 182, 0, 103, 42, 89, 180, 0, 46, 4, 96, 181, 0, 46]
abbrev dktX2_makesTurn_0 : List UInt8 := dkwX2_makesTurn_0 ++ dktX2_makesTurn_1
theorem dksX2_makesTurn_0 : cX2_makesTurn.data.toList.drop 0 = dktX2_makesTurn_0 := by decide +kernel
theorem dksX2_makesTurn_1 : cX2_makesTurn.data.toList.drop 24 = dktX2_makesTurn_1 := dk_seg dksX2_makesTurn_0 24 rfl rfl
theorem dksX2_makesTurn_2 : cX2_makesTurn.data.toList.drop 46 = dktX2_makesTurn_2 := dk_seg dksX2_makesTurn_1 22 rfl rfl
theorem dX2_makesTurn_0 : decode cX2_makesTurn 0 = .ok (.aload_n 0, 1) := dk_42 (dk_at dksX2_makesTurn_0 0 rfl rfl)
theorem dX2_makesTurn_1 : decode cX2_makesTurn 1 = .ok (.invokevirtual 136, 3) := dk_182 0 136 (dk_at dksX2_makesTurn_0 1 rfl rfl)
theorem dX2_makesTurn_4 : decode cX2_makesTurn 4 = .ok (.istore_n 2, 1) := dk_61 (dk_at dksX2_makesTurn_0 4 rfl rfl)
theorem dX2_makesTurn_5 : decode cX2_makesTurn 5 = .ok (.aload_n 0, 1) := dk_42 (dk_at dksX2_makesTurn_0 5 rfl rfl)
theorem dX2_makesTurn_6 : decode cX2_makesTurn 6 = .ok (.aload_n 0, 1) := dk_42 (dk_at dksX2_makesTurn_0 6 rfl rfl)
theorem dX2_makesTurn_7 : decode cX2_makesTurn 7 = .ok (.getfield 9, 3) := dk_180 0 9 (dk_at dksX2_makesTurn_0 7 rfl rfl)
theorem dX2_makesTurn_10 : decode cX2_makesTurn 10 = .ok (.iload_n 1, 1) := dk_27 (dk_at dksX2_makesTurn_0 10 rfl rfl)
theorem dX2_makesTurn_11 : decode cX2_makesTurn 11 = .ok (.invokevirtual 103, 3) := dk_182 0 103 (dk_at dksX2_makesTurn_0 11 rfl rfl)
theorem dX2_makesTurn_14 : decode cX2_makesTurn 14 = .ok (.aload_n 0, 1) := dk_42 (dk_at dksX2_makesTurn_0 14 rfl rfl)
theorem dX2_makesTurn_15 : decode cX2_makesTurn 15 = .ok (.dup, 1) := dk_89 (dk_at dksX2_makesTurn_0 15 rfl rfl)
theorem dX2_makesTurn_16 : decode cX2_makesTurn 16 = .ok (.getfield 46, 3) := dk_180 0 46 (dk_at dksX2_makesTurn_0 16 rfl rfl)
theorem dX2_makesTurn_19 : decode cX2_makesTurn 19 = .ok (.iconst 1, 1) := dk_4 (dk_at dksX2_makesTurn_0 19 rfl rfl)
theorem dX2_makesTurn_20 : decode cX2_makesTurn 20 = .ok (.iadd, 1) := dk_96 (dk_at dksX2_makesTurn_0 20 rfl rfl)
theorem dX2_makesTurn_21 : decode cX2_makesTurn 21 = .ok (.putfield 46, 3) := dk_181 0 46 (dk_at dksX2_makesTurn_0 21 rfl rfl)
theorem dX2_makesTurn_24 : decode cX2_makesTurn 24 = .ok (.aload_n 0, 1) := dk_42 (dk_at dksX2_makesTurn_1 0 rfl rfl)
theorem dX2_makesTurn_25 : decode cX2_makesTurn 25 = .ok (.dup, 1) := dk_89 (dk_at dksX2_makesTurn_1 1 rfl rfl)
theorem dX2_makesTurn_26 : decode cX2_makesTurn 26 = .ok (.getfield 61, 3) := dk_180 0 61 (dk_at dksX2_makesTurn_1 2 rfl rfl)
theorem dX2_makesTurn_29 : decode cX2_makesTurn 29 = .ok (.aload_n 0, 1) := dk_42 (dk_at dksX2_makesTurn_1 5 rfl rfl)
theorem dX2_makesTurn_30 : decode cX2_makesTurn 30 = .ok (.invokevirtual 136, 3) := dk_182 0 136 (dk_at dksX2_makesTurn_1 6 rfl rfl)
theorem dX2_makesTurn_33 : decode cX2_makesTurn 33 = .ok (.ifCond .eq 11, 3) := dk_153 0 11 (dk_at dksX2_makesTurn_1 9 rfl rfl)
theorem dX2_makesTurn_36 : decode cX2_makesTurn 36 = .ok (.iload_n 2, 1) := dk_28 (dk_at dksX2_makesTurn_1 12 rfl rfl)
theorem dX2_makesTurn_37 : decode cX2_makesTurn 37 = .ok (.ifCond .ne 7, 3) := dk_154 0 7 (dk_at dksX2_makesTurn_1 13 rfl rfl)
theorem dX2_makesTurn_40 : decode cX2_makesTurn 40 = .ok (.iconst 1, 1) := dk_4 (dk_at dksX2_makesTurn_1 16 rfl rfl)
theorem dX2_makesTurn_41 : decode cX2_makesTurn 41 = .ok (.goto 4, 3) := dk_167 0 4 (dk_at dksX2_makesTurn_1 17 rfl rfl)
theorem dX2_makesTurn_44 : decode cX2_makesTurn 44 = .ok (.iconst 0, 1) := dk_3 (dk_at dksX2_makesTurn_1 20 rfl rfl)
theorem dX2_makesTurn_45 : decode cX2_makesTurn 45 = .ok (.iadd, 1) := dk_96 (dk_at dksX2_makesTurn_1 21 rfl rfl)
theorem dX2_makesTurn_46 : decode cX2_makesTurn 46 = .ok (.putfield 61, 3) := dk_181 0 61 (dk_at dksX2_makesTurn_2 0 rfl rfl)
theorem dX2_makesTurn_49 : decode cX2_makesTurn 49 = .ok (.aload_n 0, 1) := dk_42 (dk_at dksX2_makesTurn_2 3 rfl rfl)
theorem dX2_makesTurn_50 : decode cX2_makesTurn 50 = .ok (.invokevirtual 100, 3) := dk_182 0 100 (dk_at dksX2_makesTurn_2 4 rfl rfl)
theorem dX2_makesTurn_53 : decode cX2_makesTurn 53 = .ok (.ireturn, 1) := dk_172 (dk_at dksX2_makesTurn_2 7 rfl rfl)
abbrev cX2_swap : ByteArray := prog_5_method_47_code
def yX2_swap : MethodName := ⟨RX2, "swap", "(II)I"⟩
def dkwX2_swap_2 : List UInt8 := [96, 181, 0, 49, 42, 182, 0, 100, 172]
abbrev dktX2_swap_2 : List UInt8 := dkwX2_swap_2 ++ []
def dkwX2_swap_1 : List UInt8 := [180, 0, 9, 27, 42, 180, 0, 9, 28, 52, 85, 42, 180, 0, 9, 28, 29, 85, 42, 89, 180, 0, 49, 4]
abbrev dktX2_swap_1 : List UInt8 := dkwX2_swap_1 ++ dktX2_swap_2
def dkwX2_swap_0 : List UInt8 := [27, 28, 160, 0, 7, 4, 167, 0, 4, 3, 6, 27, 184, 0, 169, 42, 180, 0, 9, 27, 52, 62, 42]
abbrev dktX2_swap_0 : List UInt8 := dkwX2_swap_0 ++ dktX2_swap_1
theorem dksX2_swap_0 : cX2_swap.data.toList.drop 0 = dktX2_swap_0 := by decide +kernel
theorem dksX2_swap_1 : cX2_swap.data.toList.drop 23 = dktX2_swap_1 := dk_seg dksX2_swap_0 23 rfl rfl
theorem dksX2_swap_2 : cX2_swap.data.toList.drop 47 = dktX2_swap_2 := dk_seg dksX2_swap_1 24 rfl rfl
theorem dX2_swap_0 : decode cX2_swap 0 = .ok (.iload_n 1, 1) := dk_27 (dk_at dksX2_swap_0 0 rfl rfl)
theorem dX2_swap_1 : decode cX2_swap 1 = .ok (.iload_n 2, 1) := dk_28 (dk_at dksX2_swap_0 1 rfl rfl)
theorem dX2_swap_2 : decode cX2_swap 2 = .ok (.if_icmp .ne 7, 3) := dk_160 0 7 (dk_at dksX2_swap_0 2 rfl rfl)
theorem dX2_swap_5 : decode cX2_swap 5 = .ok (.iconst 1, 1) := dk_4 (dk_at dksX2_swap_0 5 rfl rfl)
theorem dX2_swap_6 : decode cX2_swap 6 = .ok (.goto 4, 3) := dk_167 0 4 (dk_at dksX2_swap_0 6 rfl rfl)
theorem dX2_swap_9 : decode cX2_swap 9 = .ok (.iconst 0, 1) := dk_3 (dk_at dksX2_swap_0 9 rfl rfl)
theorem dX2_swap_10 : decode cX2_swap 10 = .ok (.iconst 3, 1) := dk_6 (dk_at dksX2_swap_0 10 rfl rfl)
theorem dX2_swap_11 : decode cX2_swap 11 = .ok (.iload_n 1, 1) := dk_27 (dk_at dksX2_swap_0 11 rfl rfl)
theorem dX2_swap_12 : decode cX2_swap 12 = .ok (.invokestatic 169, 3) := dk_184 0 169 (dk_at dksX2_swap_0 12 rfl rfl)
theorem dX2_swap_15 : decode cX2_swap 15 = .ok (.aload_n 0, 1) := dk_42 (dk_at dksX2_swap_0 15 rfl rfl)
theorem dX2_swap_16 : decode cX2_swap 16 = .ok (.getfield 9, 3) := dk_180 0 9 (dk_at dksX2_swap_0 16 rfl rfl)
theorem dX2_swap_19 : decode cX2_swap 19 = .ok (.iload_n 1, 1) := dk_27 (dk_at dksX2_swap_0 19 rfl rfl)
theorem dX2_swap_20 : decode cX2_swap 20 = .ok (.caload, 1) := dk_52 (dk_at dksX2_swap_0 20 rfl rfl)
theorem dX2_swap_21 : decode cX2_swap 21 = .ok (.istore_n 3, 1) := dk_62 (dk_at dksX2_swap_0 21 rfl rfl)
theorem dX2_swap_22 : decode cX2_swap 22 = .ok (.aload_n 0, 1) := dk_42 (dk_at dksX2_swap_0 22 rfl rfl)
theorem dX2_swap_23 : decode cX2_swap 23 = .ok (.getfield 9, 3) := dk_180 0 9 (dk_at dksX2_swap_1 0 rfl rfl)
theorem dX2_swap_26 : decode cX2_swap 26 = .ok (.iload_n 1, 1) := dk_27 (dk_at dksX2_swap_1 3 rfl rfl)
theorem dX2_swap_27 : decode cX2_swap 27 = .ok (.aload_n 0, 1) := dk_42 (dk_at dksX2_swap_1 4 rfl rfl)
theorem dX2_swap_28 : decode cX2_swap 28 = .ok (.getfield 9, 3) := dk_180 0 9 (dk_at dksX2_swap_1 5 rfl rfl)
theorem dX2_swap_31 : decode cX2_swap 31 = .ok (.iload_n 2, 1) := dk_28 (dk_at dksX2_swap_1 8 rfl rfl)
theorem dX2_swap_32 : decode cX2_swap 32 = .ok (.caload, 1) := dk_52 (dk_at dksX2_swap_1 9 rfl rfl)
theorem dX2_swap_33 : decode cX2_swap 33 = .ok (.castore, 1) := dk_85 (dk_at dksX2_swap_1 10 rfl rfl)
theorem dX2_swap_34 : decode cX2_swap 34 = .ok (.aload_n 0, 1) := dk_42 (dk_at dksX2_swap_1 11 rfl rfl)
theorem dX2_swap_35 : decode cX2_swap 35 = .ok (.getfield 9, 3) := dk_180 0 9 (dk_at dksX2_swap_1 12 rfl rfl)
theorem dX2_swap_38 : decode cX2_swap 38 = .ok (.iload_n 2, 1) := dk_28 (dk_at dksX2_swap_1 15 rfl rfl)
theorem dX2_swap_39 : decode cX2_swap 39 = .ok (.iload_n 3, 1) := dk_29 (dk_at dksX2_swap_1 16 rfl rfl)
theorem dX2_swap_40 : decode cX2_swap 40 = .ok (.castore, 1) := dk_85 (dk_at dksX2_swap_1 17 rfl rfl)
theorem dX2_swap_41 : decode cX2_swap 41 = .ok (.aload_n 0, 1) := dk_42 (dk_at dksX2_swap_1 18 rfl rfl)
theorem dX2_swap_42 : decode cX2_swap 42 = .ok (.dup, 1) := dk_89 (dk_at dksX2_swap_1 19 rfl rfl)
theorem dX2_swap_43 : decode cX2_swap 43 = .ok (.getfield 49, 3) := dk_180 0 49 (dk_at dksX2_swap_1 20 rfl rfl)
theorem dX2_swap_46 : decode cX2_swap 46 = .ok (.iconst 1, 1) := dk_4 (dk_at dksX2_swap_1 23 rfl rfl)
theorem dX2_swap_47 : decode cX2_swap 47 = .ok (.iadd, 1) := dk_96 (dk_at dksX2_swap_2 0 rfl rfl)
theorem dX2_swap_48 : decode cX2_swap 48 = .ok (.putfield 49, 3) := dk_181 0 49 (dk_at dksX2_swap_2 1 rfl rfl)
theorem dX2_swap_51 : decode cX2_swap 51 = .ok (.aload_n 0, 1) := dk_42 (dk_at dksX2_swap_2 4 rfl rfl)
theorem dX2_swap_52 : decode cX2_swap 52 = .ok (.invokevirtual 100, 3) := dk_182 0 100 (dk_at dksX2_swap_2 5 rfl rfl)
theorem dX2_swap_55 : decode cX2_swap 55 = .ok (.ireturn, 1) := dk_172 (dk_at dksX2_swap_2 8 rfl rfl)
abbrev cX2_isLine : ByteArray := prog_5_method_8_code
def yX2_isLine : MethodName := ⟨RX2, "isLine", "(I)Z"⟩
def dkwX2_isLine_0 : List UInt8 := [27, 3, 42, 182, 0, 64, 4, 100, 184, 0, 71, 172]
abbrev dktX2_isLine_0 : List UInt8 := dkwX2_isLine_0 ++ []
theorem dksX2_isLine_0 : cX2_isLine.data.toList.drop 0 = dktX2_isLine_0 := by decide +kernel
theorem dX2_isLine_0 : decode cX2_isLine 0 = .ok (.iload_n 1, 1) := dk_27 (dk_at dksX2_isLine_0 0 rfl rfl)
theorem dX2_isLine_1 : decode cX2_isLine 1 = .ok (.iconst 0, 1) := dk_3 (dk_at dksX2_isLine_0 1 rfl rfl)
theorem dX2_isLine_2 : decode cX2_isLine 2 = .ok (.aload_n 0, 1) := dk_42 (dk_at dksX2_isLine_0 2 rfl rfl)
theorem dX2_isLine_3 : decode cX2_isLine 3 = .ok (.invokevirtual 64, 3) := dk_182 0 64 (dk_at dksX2_isLine_0 3 rfl rfl)
theorem dX2_isLine_6 : decode cX2_isLine 6 = .ok (.iconst 1, 1) := dk_4 (dk_at dksX2_isLine_0 6 rfl rfl)
theorem dX2_isLine_7 : decode cX2_isLine 7 = .ok (.isub, 1) := dk_100 (dk_at dksX2_isLine_0 7 rfl rfl)
theorem dX2_isLine_8 : decode cX2_isLine 8 = .ok (.invokestatic 71, 3) := dk_184 0 71 (dk_at dksX2_isLine_0 8 rfl rfl)
theorem dX2_isLine_11 : decode cX2_isLine 11 = .ok (.ireturn, 1) := dk_172 (dk_at dksX2_isLine_0 11 rfl rfl)
abbrev cX2_bar : ByteArray := prog_5_method_48_code
def yX2_bar : MethodName := ⟨RX2, "bar", "(I)Z"⟩
def dkwX2_bar_1 : List UInt8 := [27, 51, 172]
abbrev dktX2_bar_1 : List UInt8 := dkwX2_bar_1 ++ []
def dkwX2_bar_0 : List UInt8 := [42, 180, 0, 18, 27, 42, 180, 0, 18, 27, 51, 154, 0, 7, 4, 167, 0, 4, 3, 84, 42, 180, 0, 18]
abbrev dktX2_bar_0 : List UInt8 := dkwX2_bar_0 ++ dktX2_bar_1
theorem dksX2_bar_0 : cX2_bar.data.toList.drop 0 = dktX2_bar_0 := by decide +kernel
theorem dksX2_bar_1 : cX2_bar.data.toList.drop 24 = dktX2_bar_1 := dk_seg dksX2_bar_0 24 rfl rfl
theorem dX2_bar_0 : decode cX2_bar 0 = .ok (.aload_n 0, 1) := dk_42 (dk_at dksX2_bar_0 0 rfl rfl)
theorem dX2_bar_1 : decode cX2_bar 1 = .ok (.getfield 18, 3) := dk_180 0 18 (dk_at dksX2_bar_0 1 rfl rfl)
theorem dX2_bar_4 : decode cX2_bar 4 = .ok (.iload_n 1, 1) := dk_27 (dk_at dksX2_bar_0 4 rfl rfl)
theorem dX2_bar_5 : decode cX2_bar 5 = .ok (.aload_n 0, 1) := dk_42 (dk_at dksX2_bar_0 5 rfl rfl)
theorem dX2_bar_6 : decode cX2_bar 6 = .ok (.getfield 18, 3) := dk_180 0 18 (dk_at dksX2_bar_0 6 rfl rfl)
theorem dX2_bar_9 : decode cX2_bar 9 = .ok (.iload_n 1, 1) := dk_27 (dk_at dksX2_bar_0 9 rfl rfl)
theorem dX2_bar_10 : decode cX2_bar 10 = .ok (.baload, 1) := dk_51 (dk_at dksX2_bar_0 10 rfl rfl)
theorem dX2_bar_11 : decode cX2_bar 11 = .ok (.ifCond .ne 7, 3) := dk_154 0 7 (dk_at dksX2_bar_0 11 rfl rfl)
theorem dX2_bar_14 : decode cX2_bar 14 = .ok (.iconst 1, 1) := dk_4 (dk_at dksX2_bar_0 14 rfl rfl)
theorem dX2_bar_15 : decode cX2_bar 15 = .ok (.goto 4, 3) := dk_167 0 4 (dk_at dksX2_bar_0 15 rfl rfl)
theorem dX2_bar_18 : decode cX2_bar 18 = .ok (.iconst 0, 1) := dk_3 (dk_at dksX2_bar_0 18 rfl rfl)
theorem dX2_bar_19 : decode cX2_bar 19 = .ok (.bastore, 1) := dk_84 (dk_at dksX2_bar_0 19 rfl rfl)
theorem dX2_bar_20 : decode cX2_bar 20 = .ok (.aload_n 0, 1) := dk_42 (dk_at dksX2_bar_0 20 rfl rfl)
theorem dX2_bar_21 : decode cX2_bar 21 = .ok (.getfield 18, 3) := dk_180 0 18 (dk_at dksX2_bar_0 21 rfl rfl)
theorem dX2_bar_24 : decode cX2_bar 24 = .ok (.iload_n 1, 1) := dk_27 (dk_at dksX2_bar_1 0 rfl rfl)
theorem dX2_bar_25 : decode cX2_bar 25 = .ok (.baload, 1) := dk_51 (dk_at dksX2_bar_1 1 rfl rfl)
theorem dX2_bar_26 : decode cX2_bar 26 = .ok (.ireturn, 1) := dk_172 (dk_at dksX2_bar_1 2 rfl rfl)
abbrev cX2_scramble : ByteArray := prog_5_method_49_code
def yX2_scramble : MethodName := ⟨RX2, "scramble", "(II)I"⟩
def dkwX2_scramble_3 : List UInt8 := [181, 0, 46, 42, 89, 180, 0, 52, 4, 96, 181, 0, 52, 21, 4, 172]
abbrev dktX2_scramble_3 : List UInt8 := dkwX2_scramble_3 ++ []
def dkwX2_scramble_2 : List UInt8 := [21, 6, 182, 0, 103, 132, 4, 1, 132, 5, 1, 167, 255, 205, 42, 89, 180, 0, 46, 21, 4, 96]
abbrev dktX2_scramble_2 : List UInt8 := dkwX2_scramble_2 ++ dktX2_scramble_3
def dkwX2_scramble_1 : List UInt8 := [112, 62, 29, 42, 182, 0, 75, 112, 54, 6, 42, 21, 6, 182, 0, 109, 153, 0, 16, 42, 42, 180, 0, 9]
abbrev dktX2_scramble_1 : List UInt8 := dkwX2_scramble_1 ++ dktX2_scramble_2
def dkwX2_scramble_0 : List UInt8 := [27, 62, 3, 54, 4, 3, 54, 5, 21, 5, 28, 162, 0, 51, 16, 73, 29, 104, 16, 41, 96, 17, 3, 232]
abbrev dktX2_scramble_0 : List UInt8 := dkwX2_scramble_0 ++ dktX2_scramble_1
theorem dksX2_scramble_0 : cX2_scramble.data.toList.drop 0 = dktX2_scramble_0 := by decide +kernel
theorem dksX2_scramble_1 : cX2_scramble.data.toList.drop 24 = dktX2_scramble_1 := dk_seg dksX2_scramble_0 24 rfl rfl
theorem dksX2_scramble_2 : cX2_scramble.data.toList.drop 48 = dktX2_scramble_2 := dk_seg dksX2_scramble_1 24 rfl rfl
theorem dksX2_scramble_3 : cX2_scramble.data.toList.drop 70 = dktX2_scramble_3 := dk_seg dksX2_scramble_2 22 rfl rfl
theorem dX2_scramble_0 : decode cX2_scramble 0 = .ok (.iload_n 1, 1) := dk_27 (dk_at dksX2_scramble_0 0 rfl rfl)
theorem dX2_scramble_1 : decode cX2_scramble 1 = .ok (.istore_n 3, 1) := dk_62 (dk_at dksX2_scramble_0 1 rfl rfl)
theorem dX2_scramble_2 : decode cX2_scramble 2 = .ok (.iconst 0, 1) := dk_3 (dk_at dksX2_scramble_0 2 rfl rfl)
theorem dX2_scramble_3 : decode cX2_scramble 3 = .ok (.istore 4, 2) := dk_54 4 (dk_at dksX2_scramble_0 3 rfl rfl)
theorem dX2_scramble_5 : decode cX2_scramble 5 = .ok (.iconst 0, 1) := dk_3 (dk_at dksX2_scramble_0 5 rfl rfl)
theorem dX2_scramble_6 : decode cX2_scramble 6 = .ok (.istore 5, 2) := dk_54 5 (dk_at dksX2_scramble_0 6 rfl rfl)
theorem dX2_scramble_8 : decode cX2_scramble 8 = .ok (.iload 5, 2) := dk_21 5 (dk_at dksX2_scramble_0 8 rfl rfl)
theorem dX2_scramble_10 : decode cX2_scramble 10 = .ok (.iload_n 2, 1) := dk_28 (dk_at dksX2_scramble_0 10 rfl rfl)
theorem dX2_scramble_11 : decode cX2_scramble 11 = .ok (.if_icmp .ge 51, 3) := dk_162 0 51 (dk_at dksX2_scramble_0 11 rfl rfl)
theorem dX2_scramble_14 : decode cX2_scramble 14 = .ok (.bipush 73, 2) := dk_16 73 (dk_at dksX2_scramble_0 14 rfl rfl)
theorem dX2_scramble_16 : decode cX2_scramble 16 = .ok (.iload_n 3, 1) := dk_29 (dk_at dksX2_scramble_0 16 rfl rfl)
theorem dX2_scramble_17 : decode cX2_scramble 17 = .ok (.imul, 1) := dk_104 (dk_at dksX2_scramble_0 17 rfl rfl)
theorem dX2_scramble_18 : decode cX2_scramble 18 = .ok (.bipush 41, 2) := dk_16 41 (dk_at dksX2_scramble_0 18 rfl rfl)
theorem dX2_scramble_20 : decode cX2_scramble 20 = .ok (.iadd, 1) := dk_96 (dk_at dksX2_scramble_0 20 rfl rfl)
theorem dX2_scramble_21 : decode cX2_scramble 21 = .ok (.sipush 1000, 3) := dk_17 3 232 (dk_at dksX2_scramble_0 21 rfl rfl)
theorem dX2_scramble_24 : decode cX2_scramble 24 = .ok (.irem, 1) := dk_112 (dk_at dksX2_scramble_1 0 rfl rfl)
theorem dX2_scramble_25 : decode cX2_scramble 25 = .ok (.istore_n 3, 1) := dk_62 (dk_at dksX2_scramble_1 1 rfl rfl)
theorem dX2_scramble_26 : decode cX2_scramble 26 = .ok (.iload_n 3, 1) := dk_29 (dk_at dksX2_scramble_1 2 rfl rfl)
theorem dX2_scramble_27 : decode cX2_scramble 27 = .ok (.aload_n 0, 1) := dk_42 (dk_at dksX2_scramble_1 3 rfl rfl)
theorem dX2_scramble_28 : decode cX2_scramble 28 = .ok (.invokevirtual 75, 3) := dk_182 0 75 (dk_at dksX2_scramble_1 4 rfl rfl)
theorem dX2_scramble_31 : decode cX2_scramble 31 = .ok (.irem, 1) := dk_112 (dk_at dksX2_scramble_1 7 rfl rfl)
theorem dX2_scramble_32 : decode cX2_scramble 32 = .ok (.istore 6, 2) := dk_54 6 (dk_at dksX2_scramble_1 8 rfl rfl)
theorem dX2_scramble_34 : decode cX2_scramble 34 = .ok (.aload_n 0, 1) := dk_42 (dk_at dksX2_scramble_1 10 rfl rfl)
theorem dX2_scramble_35 : decode cX2_scramble 35 = .ok (.iload 6, 2) := dk_21 6 (dk_at dksX2_scramble_1 11 rfl rfl)
theorem dX2_scramble_37 : decode cX2_scramble 37 = .ok (.invokevirtual 109, 3) := dk_182 0 109 (dk_at dksX2_scramble_1 13 rfl rfl)
theorem dX2_scramble_40 : decode cX2_scramble 40 = .ok (.ifCond .eq 16, 3) := dk_153 0 16 (dk_at dksX2_scramble_1 16 rfl rfl)
theorem dX2_scramble_43 : decode cX2_scramble 43 = .ok (.aload_n 0, 1) := dk_42 (dk_at dksX2_scramble_1 19 rfl rfl)
theorem dX2_scramble_44 : decode cX2_scramble 44 = .ok (.aload_n 0, 1) := dk_42 (dk_at dksX2_scramble_1 20 rfl rfl)
theorem dX2_scramble_45 : decode cX2_scramble 45 = .ok (.getfield 9, 3) := dk_180 0 9 (dk_at dksX2_scramble_1 21 rfl rfl)
theorem dX2_scramble_48 : decode cX2_scramble 48 = .ok (.iload 6, 2) := dk_21 6 (dk_at dksX2_scramble_2 0 rfl rfl)
theorem dX2_scramble_50 : decode cX2_scramble 50 = .ok (.invokevirtual 103, 3) := dk_182 0 103 (dk_at dksX2_scramble_2 2 rfl rfl)
theorem dX2_scramble_53 : decode cX2_scramble 53 = .ok (.iinc 4 1, 3) := dk_132 4 1 (dk_at dksX2_scramble_2 5 rfl rfl)
theorem dX2_scramble_56 : decode cX2_scramble 56 = .ok (.iinc 5 1, 3) := dk_132 5 1 (dk_at dksX2_scramble_2 8 rfl rfl)
theorem dX2_scramble_59 : decode cX2_scramble 59 = .ok (.goto (-51), 3) := dk_167 255 205 (dk_at dksX2_scramble_2 11 rfl rfl)
theorem dX2_scramble_62 : decode cX2_scramble 62 = .ok (.aload_n 0, 1) := dk_42 (dk_at dksX2_scramble_2 14 rfl rfl)
theorem dX2_scramble_63 : decode cX2_scramble 63 = .ok (.dup, 1) := dk_89 (dk_at dksX2_scramble_2 15 rfl rfl)
theorem dX2_scramble_64 : decode cX2_scramble 64 = .ok (.getfield 46, 3) := dk_180 0 46 (dk_at dksX2_scramble_2 16 rfl rfl)
theorem dX2_scramble_67 : decode cX2_scramble 67 = .ok (.iload 4, 2) := dk_21 4 (dk_at dksX2_scramble_2 19 rfl rfl)
theorem dX2_scramble_69 : decode cX2_scramble 69 = .ok (.iadd, 1) := dk_96 (dk_at dksX2_scramble_2 21 rfl rfl)
theorem dX2_scramble_70 : decode cX2_scramble 70 = .ok (.putfield 46, 3) := dk_181 0 46 (dk_at dksX2_scramble_3 0 rfl rfl)
theorem dX2_scramble_73 : decode cX2_scramble 73 = .ok (.aload_n 0, 1) := dk_42 (dk_at dksX2_scramble_3 3 rfl rfl)
theorem dX2_scramble_74 : decode cX2_scramble 74 = .ok (.dup, 1) := dk_89 (dk_at dksX2_scramble_3 4 rfl rfl)
theorem dX2_scramble_75 : decode cX2_scramble 75 = .ok (.getfield 52, 3) := dk_180 0 52 (dk_at dksX2_scramble_3 5 rfl rfl)
theorem dX2_scramble_78 : decode cX2_scramble 78 = .ok (.iconst 1, 1) := dk_4 (dk_at dksX2_scramble_3 8 rfl rfl)
theorem dX2_scramble_79 : decode cX2_scramble 79 = .ok (.iadd, 1) := dk_96 (dk_at dksX2_scramble_3 9 rfl rfl)
theorem dX2_scramble_80 : decode cX2_scramble 80 = .ok (.putfield 52, 3) := dk_181 0 52 (dk_at dksX2_scramble_3 10 rfl rfl)
theorem dX2_scramble_83 : decode cX2_scramble 83 = .ok (.iload 4, 2) := dk_21 4 (dk_at dksX2_scramble_3 13 rfl rfl)
theorem dX2_scramble_85 : decode cX2_scramble 85 = .ok (.ireturn, 1) := dk_172 (dk_at dksX2_scramble_3 15 rfl rfl)
abbrev cX2_step : ByteArray := prog_5_method_50_code
def yX2_step : MethodName := ⟨RX2, "step", "()I"⟩
def dkwX2_step_2 : List UInt8 := [61, 42, 28, 182, 0, 173, 62, 42, 89, 180, 0, 55, 4, 96, 181, 0, 55, 28, 172]
abbrev dktX2_step_2 : List UInt8 := dkwX2_step_2 ++ []
def dkwX2_step_1 : List UInt8 := [182, 0, 100, 100, 184, 0, 169, 42, 182, 0, 179, 60, 27, 2, 160, 0, 5, 2, 172, 42, 27, 182, 0, 182]
abbrev dktX2_step_1 : List UInt8 := dkwX2_step_1 ++ dktX2_step_2
def dkwX2_step_0 : List UInt8 := [42, 182, 0, 136, 8, 42, 182, 0, 68, 184, 0, 169, 42, 182, 0, 176, 7, 42, 182, 0, 68, 42]
abbrev dktX2_step_0 : List UInt8 := dkwX2_step_0 ++ dktX2_step_1
theorem dksX2_step_0 : cX2_step.data.toList.drop 0 = dktX2_step_0 := by decide +kernel
theorem dksX2_step_1 : cX2_step.data.toList.drop 22 = dktX2_step_1 := dk_seg dksX2_step_0 22 rfl rfl
theorem dksX2_step_2 : cX2_step.data.toList.drop 46 = dktX2_step_2 := dk_seg dksX2_step_1 24 rfl rfl
theorem dX2_step_0 : decode cX2_step 0 = .ok (.aload_n 0, 1) := dk_42 (dk_at dksX2_step_0 0 rfl rfl)
theorem dX2_step_1 : decode cX2_step 1 = .ok (.invokevirtual 136, 3) := dk_182 0 136 (dk_at dksX2_step_0 1 rfl rfl)
theorem dX2_step_4 : decode cX2_step 4 = .ok (.iconst 5, 1) := dk_8 (dk_at dksX2_step_0 4 rfl rfl)
theorem dX2_step_5 : decode cX2_step 5 = .ok (.aload_n 0, 1) := dk_42 (dk_at dksX2_step_0 5 rfl rfl)
theorem dX2_step_6 : decode cX2_step 6 = .ok (.invokevirtual 68, 3) := dk_182 0 68 (dk_at dksX2_step_0 6 rfl rfl)
theorem dX2_step_9 : decode cX2_step 9 = .ok (.invokestatic 169, 3) := dk_184 0 169 (dk_at dksX2_step_0 9 rfl rfl)
theorem dX2_step_12 : decode cX2_step 12 = .ok (.aload_n 0, 1) := dk_42 (dk_at dksX2_step_0 12 rfl rfl)
theorem dX2_step_13 : decode cX2_step 13 = .ok (.invokevirtual 176, 3) := dk_182 0 176 (dk_at dksX2_step_0 13 rfl rfl)
theorem dX2_step_16 : decode cX2_step 16 = .ok (.iconst 4, 1) := dk_7 (dk_at dksX2_step_0 16 rfl rfl)
theorem dX2_step_17 : decode cX2_step 17 = .ok (.aload_n 0, 1) := dk_42 (dk_at dksX2_step_0 17 rfl rfl)
theorem dX2_step_18 : decode cX2_step 18 = .ok (.invokevirtual 68, 3) := dk_182 0 68 (dk_at dksX2_step_0 18 rfl rfl)
theorem dX2_step_21 : decode cX2_step 21 = .ok (.aload_n 0, 1) := dk_42 (dk_at dksX2_step_0 21 rfl rfl)
theorem dX2_step_22 : decode cX2_step 22 = .ok (.invokevirtual 100, 3) := dk_182 0 100 (dk_at dksX2_step_1 0 rfl rfl)
theorem dX2_step_25 : decode cX2_step 25 = .ok (.isub, 1) := dk_100 (dk_at dksX2_step_1 3 rfl rfl)
theorem dX2_step_26 : decode cX2_step 26 = .ok (.invokestatic 169, 3) := dk_184 0 169 (dk_at dksX2_step_1 4 rfl rfl)
theorem dX2_step_29 : decode cX2_step 29 = .ok (.aload_n 0, 1) := dk_42 (dk_at dksX2_step_1 7 rfl rfl)
theorem dX2_step_30 : decode cX2_step 30 = .ok (.invokevirtual 179, 3) := dk_182 0 179 (dk_at dksX2_step_1 8 rfl rfl)
theorem dX2_step_33 : decode cX2_step 33 = .ok (.istore_n 1, 1) := dk_60 (dk_at dksX2_step_1 11 rfl rfl)
theorem dX2_step_34 : decode cX2_step 34 = .ok (.iload_n 1, 1) := dk_27 (dk_at dksX2_step_1 12 rfl rfl)
theorem dX2_step_35 : decode cX2_step 35 = .ok (.iconst (-1), 1) := dk_2 (dk_at dksX2_step_1 13 rfl rfl)
theorem dX2_step_36 : decode cX2_step 36 = .ok (.if_icmp .ne 5, 3) := dk_160 0 5 (dk_at dksX2_step_1 14 rfl rfl)
theorem dX2_step_39 : decode cX2_step 39 = .ok (.iconst (-1), 1) := dk_2 (dk_at dksX2_step_1 17 rfl rfl)
theorem dX2_step_40 : decode cX2_step 40 = .ok (.ireturn, 1) := dk_172 (dk_at dksX2_step_1 18 rfl rfl)
theorem dX2_step_41 : decode cX2_step 41 = .ok (.aload_n 0, 1) := dk_42 (dk_at dksX2_step_1 19 rfl rfl)
theorem dX2_step_42 : decode cX2_step 42 = .ok (.iload_n 1, 1) := dk_27 (dk_at dksX2_step_1 20 rfl rfl)
theorem dX2_step_43 : decode cX2_step 43 = .ok (.invokevirtual 182, 3) := dk_182 0 182 (dk_at dksX2_step_1 21 rfl rfl)
theorem dX2_step_46 : decode cX2_step 46 = .ok (.istore_n 2, 1) := dk_61 (dk_at dksX2_step_2 0 rfl rfl)
theorem dX2_step_47 : decode cX2_step 47 = .ok (.aload_n 0, 1) := dk_42 (dk_at dksX2_step_2 1 rfl rfl)
theorem dX2_step_48 : decode cX2_step 48 = .ok (.iload_n 2, 1) := dk_28 (dk_at dksX2_step_2 2 rfl rfl)
theorem dX2_step_49 : decode cX2_step 49 = .ok (.invokevirtual 173, 3) := dk_182 0 173 (dk_at dksX2_step_2 3 rfl rfl)
theorem dX2_step_52 : decode cX2_step 52 = .ok (.istore_n 3, 1) := dk_62 (dk_at dksX2_step_2 6 rfl rfl)
theorem dX2_step_53 : decode cX2_step 53 = .ok (.aload_n 0, 1) := dk_42 (dk_at dksX2_step_2 7 rfl rfl)
theorem dX2_step_54 : decode cX2_step 54 = .ok (.dup, 1) := dk_89 (dk_at dksX2_step_2 8 rfl rfl)
theorem dX2_step_55 : decode cX2_step 55 = .ok (.getfield 55, 3) := dk_180 0 55 (dk_at dksX2_step_2 9 rfl rfl)
theorem dX2_step_58 : decode cX2_step 58 = .ok (.iconst 1, 1) := dk_4 (dk_at dksX2_step_2 12 rfl rfl)
theorem dX2_step_59 : decode cX2_step 59 = .ok (.iadd, 1) := dk_96 (dk_at dksX2_step_2 13 rfl rfl)
theorem dX2_step_60 : decode cX2_step 60 = .ok (.putfield 55, 3) := dk_181 0 55 (dk_at dksX2_step_2 14 rfl rfl)
theorem dX2_step_63 : decode cX2_step 63 = .ok (.iload_n 2, 1) := dk_28 (dk_at dksX2_step_2 17 rfl rfl)
theorem dX2_step_64 : decode cX2_step 64 = .ok (.ireturn, 1) := dk_172 (dk_at dksX2_step_2 18 rfl rfl)
abbrev cX2_firstTurn : ByteArray := prog_5_method_31_code
def yX2_firstTurn : MethodName := ⟨RX2, "firstTurn", "(I)I"⟩
def dkwX2_firstTurn_2 : List UInt8 := [28, 184, 0, 106, 182, 0, 103, 29, 153, 0, 5, 28, 172, 132, 2, 1, 167, 255, 194, 2, 172]
abbrev dktX2_firstTurn_2 : List UInt8 := dkwX2_firstTurn_2 ++ []
def dkwX2_firstTurn_1 : List UInt8 := [153, 0, 17, 42, 27, 4, 100, 182, 0, 140, 153, 0, 7, 4, 167, 0, 4, 3, 62, 42, 42, 180, 0, 9]
abbrev dktX2_firstTurn_1 : List UInt8 := dkwX2_firstTurn_1 ++ dktX2_firstTurn_2
def dkwX2_firstTurn_0 : List UInt8 := [3, 61, 28, 42, 182, 0, 75, 162, 0, 60, 42, 42, 180, 0, 9, 28, 182, 0, 103, 42, 28, 182, 0, 109]
abbrev dktX2_firstTurn_0 : List UInt8 := dkwX2_firstTurn_0 ++ dktX2_firstTurn_1
theorem dksX2_firstTurn_0 : cX2_firstTurn.data.toList.drop 0 = dktX2_firstTurn_0 := by decide +kernel
theorem dksX2_firstTurn_1 : cX2_firstTurn.data.toList.drop 24 = dktX2_firstTurn_1 := dk_seg dksX2_firstTurn_0 24 rfl rfl
theorem dksX2_firstTurn_2 : cX2_firstTurn.data.toList.drop 48 = dktX2_firstTurn_2 := dk_seg dksX2_firstTurn_1 24 rfl rfl
theorem dX2_firstTurn_0 : decode cX2_firstTurn 0 = .ok (.iconst 0, 1) := dk_3 (dk_at dksX2_firstTurn_0 0 rfl rfl)
theorem dX2_firstTurn_1 : decode cX2_firstTurn 1 = .ok (.istore_n 2, 1) := dk_61 (dk_at dksX2_firstTurn_0 1 rfl rfl)
theorem dX2_firstTurn_2 : decode cX2_firstTurn 2 = .ok (.iload_n 2, 1) := dk_28 (dk_at dksX2_firstTurn_0 2 rfl rfl)
theorem dX2_firstTurn_3 : decode cX2_firstTurn 3 = .ok (.aload_n 0, 1) := dk_42 (dk_at dksX2_firstTurn_0 3 rfl rfl)
theorem dX2_firstTurn_4 : decode cX2_firstTurn 4 = .ok (.invokevirtual 75, 3) := dk_182 0 75 (dk_at dksX2_firstTurn_0 4 rfl rfl)
theorem dX2_firstTurn_7 : decode cX2_firstTurn 7 = .ok (.if_icmp .ge 60, 3) := dk_162 0 60 (dk_at dksX2_firstTurn_0 7 rfl rfl)
theorem dX2_firstTurn_10 : decode cX2_firstTurn 10 = .ok (.aload_n 0, 1) := dk_42 (dk_at dksX2_firstTurn_0 10 rfl rfl)
theorem dX2_firstTurn_11 : decode cX2_firstTurn 11 = .ok (.aload_n 0, 1) := dk_42 (dk_at dksX2_firstTurn_0 11 rfl rfl)
theorem dX2_firstTurn_12 : decode cX2_firstTurn 12 = .ok (.getfield 9, 3) := dk_180 0 9 (dk_at dksX2_firstTurn_0 12 rfl rfl)
theorem dX2_firstTurn_15 : decode cX2_firstTurn 15 = .ok (.iload_n 2, 1) := dk_28 (dk_at dksX2_firstTurn_0 15 rfl rfl)
theorem dX2_firstTurn_16 : decode cX2_firstTurn 16 = .ok (.invokevirtual 103, 3) := dk_182 0 103 (dk_at dksX2_firstTurn_0 16 rfl rfl)
theorem dX2_firstTurn_19 : decode cX2_firstTurn 19 = .ok (.aload_n 0, 1) := dk_42 (dk_at dksX2_firstTurn_0 19 rfl rfl)
theorem dX2_firstTurn_20 : decode cX2_firstTurn 20 = .ok (.iload_n 2, 1) := dk_28 (dk_at dksX2_firstTurn_0 20 rfl rfl)
theorem dX2_firstTurn_21 : decode cX2_firstTurn 21 = .ok (.invokevirtual 109, 3) := dk_182 0 109 (dk_at dksX2_firstTurn_0 21 rfl rfl)
theorem dX2_firstTurn_24 : decode cX2_firstTurn 24 = .ok (.ifCond .eq 17, 3) := dk_153 0 17 (dk_at dksX2_firstTurn_1 0 rfl rfl)
theorem dX2_firstTurn_27 : decode cX2_firstTurn 27 = .ok (.aload_n 0, 1) := dk_42 (dk_at dksX2_firstTurn_1 3 rfl rfl)
theorem dX2_firstTurn_28 : decode cX2_firstTurn 28 = .ok (.iload_n 1, 1) := dk_27 (dk_at dksX2_firstTurn_1 4 rfl rfl)
theorem dX2_firstTurn_29 : decode cX2_firstTurn 29 = .ok (.iconst 1, 1) := dk_4 (dk_at dksX2_firstTurn_1 5 rfl rfl)
theorem dX2_firstTurn_30 : decode cX2_firstTurn 30 = .ok (.isub, 1) := dk_100 (dk_at dksX2_firstTurn_1 6 rfl rfl)
theorem dX2_firstTurn_31 : decode cX2_firstTurn 31 = .ok (.invokevirtual 140, 3) := dk_182 0 140 (dk_at dksX2_firstTurn_1 7 rfl rfl)
theorem dX2_firstTurn_34 : decode cX2_firstTurn 34 = .ok (.ifCond .eq 7, 3) := dk_153 0 7 (dk_at dksX2_firstTurn_1 10 rfl rfl)
theorem dX2_firstTurn_37 : decode cX2_firstTurn 37 = .ok (.iconst 1, 1) := dk_4 (dk_at dksX2_firstTurn_1 13 rfl rfl)
theorem dX2_firstTurn_38 : decode cX2_firstTurn 38 = .ok (.goto 4, 3) := dk_167 0 4 (dk_at dksX2_firstTurn_1 14 rfl rfl)
theorem dX2_firstTurn_41 : decode cX2_firstTurn 41 = .ok (.iconst 0, 1) := dk_3 (dk_at dksX2_firstTurn_1 17 rfl rfl)
theorem dX2_firstTurn_42 : decode cX2_firstTurn 42 = .ok (.istore_n 3, 1) := dk_62 (dk_at dksX2_firstTurn_1 18 rfl rfl)
theorem dX2_firstTurn_43 : decode cX2_firstTurn 43 = .ok (.aload_n 0, 1) := dk_42 (dk_at dksX2_firstTurn_1 19 rfl rfl)
theorem dX2_firstTurn_44 : decode cX2_firstTurn 44 = .ok (.aload_n 0, 1) := dk_42 (dk_at dksX2_firstTurn_1 20 rfl rfl)
theorem dX2_firstTurn_45 : decode cX2_firstTurn 45 = .ok (.getfield 9, 3) := dk_180 0 9 (dk_at dksX2_firstTurn_1 21 rfl rfl)
theorem dX2_firstTurn_48 : decode cX2_firstTurn 48 = .ok (.iload_n 2, 1) := dk_28 (dk_at dksX2_firstTurn_2 0 rfl rfl)
theorem dX2_firstTurn_49 : decode cX2_firstTurn 49 = .ok (.invokestatic 106, 3) := dk_184 0 106 (dk_at dksX2_firstTurn_2 1 rfl rfl)
theorem dX2_firstTurn_52 : decode cX2_firstTurn 52 = .ok (.invokevirtual 103, 3) := dk_182 0 103 (dk_at dksX2_firstTurn_2 4 rfl rfl)
theorem dX2_firstTurn_55 : decode cX2_firstTurn 55 = .ok (.iload_n 3, 1) := dk_29 (dk_at dksX2_firstTurn_2 7 rfl rfl)
theorem dX2_firstTurn_56 : decode cX2_firstTurn 56 = .ok (.ifCond .eq 5, 3) := dk_153 0 5 (dk_at dksX2_firstTurn_2 8 rfl rfl)
theorem dX2_firstTurn_59 : decode cX2_firstTurn 59 = .ok (.iload_n 2, 1) := dk_28 (dk_at dksX2_firstTurn_2 11 rfl rfl)
theorem dX2_firstTurn_60 : decode cX2_firstTurn 60 = .ok (.ireturn, 1) := dk_172 (dk_at dksX2_firstTurn_2 12 rfl rfl)
theorem dX2_firstTurn_61 : decode cX2_firstTurn 61 = .ok (.iinc 2 1, 3) := dk_132 2 1 (dk_at dksX2_firstTurn_2 13 rfl rfl)
theorem dX2_firstTurn_64 : decode cX2_firstTurn 64 = .ok (.goto (-62), 3) := dk_167 255 194 (dk_at dksX2_firstTurn_2 16 rfl rfl)
theorem dX2_firstTurn_67 : decode cX2_firstTurn 67 = .ok (.iconst (-1), 1) := dk_2 (dk_at dksX2_firstTurn_2 19 rfl rfl)
theorem dX2_firstTurn_68 : decode cX2_firstTurn 68 = .ok (.ireturn, 1) := dk_172 (dk_at dksX2_firstTurn_2 20 rfl rfl)
abbrev cX2_vowels : ByteArray := prog_5_method_56_code
def yX2_vowels : MethodName := ⟨RX2, "vowels", "()I"⟩
def dkwX2_vowels_1 : List UInt8 := [167, 255, 237, 27, 172]
abbrev dktX2_vowels_1 : List UInt8 := dkwX2_vowels_1 ++ []
def dkwX2_vowels_0 : List UInt8 := [3, 60, 3, 61, 28, 42, 180, 0, 33, 162, 0, 17, 27, 42, 28, 182, 0, 200, 96, 60, 132, 2, 1]
abbrev dktX2_vowels_0 : List UInt8 := dkwX2_vowels_0 ++ dktX2_vowels_1
theorem dksX2_vowels_0 : cX2_vowels.data.toList.drop 0 = dktX2_vowels_0 := by decide +kernel
theorem dksX2_vowels_1 : cX2_vowels.data.toList.drop 23 = dktX2_vowels_1 := dk_seg dksX2_vowels_0 23 rfl rfl
theorem dX2_vowels_0 : decode cX2_vowels 0 = .ok (.iconst 0, 1) := dk_3 (dk_at dksX2_vowels_0 0 rfl rfl)
theorem dX2_vowels_1 : decode cX2_vowels 1 = .ok (.istore_n 1, 1) := dk_60 (dk_at dksX2_vowels_0 1 rfl rfl)
theorem dX2_vowels_2 : decode cX2_vowels 2 = .ok (.iconst 0, 1) := dk_3 (dk_at dksX2_vowels_0 2 rfl rfl)
theorem dX2_vowels_3 : decode cX2_vowels 3 = .ok (.istore_n 2, 1) := dk_61 (dk_at dksX2_vowels_0 3 rfl rfl)
theorem dX2_vowels_4 : decode cX2_vowels 4 = .ok (.iload_n 2, 1) := dk_28 (dk_at dksX2_vowels_0 4 rfl rfl)
theorem dX2_vowels_5 : decode cX2_vowels 5 = .ok (.aload_n 0, 1) := dk_42 (dk_at dksX2_vowels_0 5 rfl rfl)
theorem dX2_vowels_6 : decode cX2_vowels 6 = .ok (.getfield 33, 3) := dk_180 0 33 (dk_at dksX2_vowels_0 6 rfl rfl)
theorem dX2_vowels_9 : decode cX2_vowels 9 = .ok (.if_icmp .ge 17, 3) := dk_162 0 17 (dk_at dksX2_vowels_0 9 rfl rfl)
theorem dX2_vowels_12 : decode cX2_vowels 12 = .ok (.iload_n 1, 1) := dk_27 (dk_at dksX2_vowels_0 12 rfl rfl)
theorem dX2_vowels_13 : decode cX2_vowels 13 = .ok (.aload_n 0, 1) := dk_42 (dk_at dksX2_vowels_0 13 rfl rfl)
theorem dX2_vowels_14 : decode cX2_vowels 14 = .ok (.iload_n 2, 1) := dk_28 (dk_at dksX2_vowels_0 14 rfl rfl)
theorem dX2_vowels_15 : decode cX2_vowels 15 = .ok (.invokevirtual 200, 3) := dk_182 0 200 (dk_at dksX2_vowels_0 15 rfl rfl)
theorem dX2_vowels_18 : decode cX2_vowels 18 = .ok (.iadd, 1) := dk_96 (dk_at dksX2_vowels_0 18 rfl rfl)
theorem dX2_vowels_19 : decode cX2_vowels 19 = .ok (.istore_n 1, 1) := dk_60 (dk_at dksX2_vowels_0 19 rfl rfl)
theorem dX2_vowels_20 : decode cX2_vowels 20 = .ok (.iinc 2 1, 3) := dk_132 2 1 (dk_at dksX2_vowels_0 20 rfl rfl)
theorem dX2_vowels_23 : decode cX2_vowels 23 = .ok (.goto (-19), 3) := dk_167 255 237 (dk_at dksX2_vowels_1 0 rfl rfl)
theorem dX2_vowels_26 : decode cX2_vowels 26 = .ok (.iload_n 1, 1) := dk_27 (dk_at dksX2_vowels_1 3 rfl rfl)
theorem dX2_vowels_27 : decode cX2_vowels 27 = .ok (.ireturn, 1) := dk_172 (dk_at dksX2_vowels_1 4 rfl rfl)
abbrev cX2_would : ByteArray := prog_5_method_22_code
def yX2_would : MethodName := ⟨RX2, "would", "(I)I"⟩
def dkwX2_would_1 : List UInt8 := [182, 0, 103, 28, 172]
abbrev dktX2_would_1 : List UInt8 := dkwX2_would_1 ++ []
def dkwX2_would_0 : List UInt8 := [42, 42, 180, 0, 9, 27, 182, 0, 103, 42, 182, 0, 100, 61, 42, 42, 180, 0, 9, 27, 184, 0, 106]
abbrev dktX2_would_0 : List UInt8 := dkwX2_would_0 ++ dktX2_would_1
theorem dksX2_would_0 : cX2_would.data.toList.drop 0 = dktX2_would_0 := by decide +kernel
theorem dksX2_would_1 : cX2_would.data.toList.drop 23 = dktX2_would_1 := dk_seg dksX2_would_0 23 rfl rfl
theorem dX2_would_0 : decode cX2_would 0 = .ok (.aload_n 0, 1) := dk_42 (dk_at dksX2_would_0 0 rfl rfl)
theorem dX2_would_1 : decode cX2_would 1 = .ok (.aload_n 0, 1) := dk_42 (dk_at dksX2_would_0 1 rfl rfl)
theorem dX2_would_2 : decode cX2_would 2 = .ok (.getfield 9, 3) := dk_180 0 9 (dk_at dksX2_would_0 2 rfl rfl)
theorem dX2_would_5 : decode cX2_would 5 = .ok (.iload_n 1, 1) := dk_27 (dk_at dksX2_would_0 5 rfl rfl)
theorem dX2_would_6 : decode cX2_would 6 = .ok (.invokevirtual 103, 3) := dk_182 0 103 (dk_at dksX2_would_0 6 rfl rfl)
theorem dX2_would_9 : decode cX2_would 9 = .ok (.aload_n 0, 1) := dk_42 (dk_at dksX2_would_0 9 rfl rfl)
theorem dX2_would_10 : decode cX2_would 10 = .ok (.invokevirtual 100, 3) := dk_182 0 100 (dk_at dksX2_would_0 10 rfl rfl)
theorem dX2_would_13 : decode cX2_would 13 = .ok (.istore_n 2, 1) := dk_61 (dk_at dksX2_would_0 13 rfl rfl)
theorem dX2_would_14 : decode cX2_would 14 = .ok (.aload_n 0, 1) := dk_42 (dk_at dksX2_would_0 14 rfl rfl)
theorem dX2_would_15 : decode cX2_would 15 = .ok (.aload_n 0, 1) := dk_42 (dk_at dksX2_would_0 15 rfl rfl)
theorem dX2_would_16 : decode cX2_would 16 = .ok (.getfield 9, 3) := dk_180 0 9 (dk_at dksX2_would_0 16 rfl rfl)
theorem dX2_would_19 : decode cX2_would 19 = .ok (.iload_n 1, 1) := dk_27 (dk_at dksX2_would_0 19 rfl rfl)
theorem dX2_would_20 : decode cX2_would 20 = .ok (.invokestatic 106, 3) := dk_184 0 106 (dk_at dksX2_would_0 20 rfl rfl)
theorem dX2_would_23 : decode cX2_would 23 = .ok (.invokevirtual 103, 3) := dk_182 0 103 (dk_at dksX2_would_1 0 rfl rfl)
theorem dX2_would_26 : decode cX2_would 26 = .ok (.iload_n 2, 1) := dk_28 (dk_at dksX2_would_1 3 rfl rfl)
theorem dX2_would_27 : decode cX2_would 27 = .ok (.ireturn, 1) := dk_172 (dk_at dksX2_would_1 4 rfl rfl)
abbrev cX2_best : ByteArray := prog_5_method_23_code
def yX2_best : MethodName := ⟨RX2, "best", "()I"⟩
def dkwX2_best_2 : List UInt8 := [132, 2, 1, 167, 255, 213, 27, 172]
abbrev dktX2_best_2 : List UInt8 := dkwX2_best_2 ++ []
def dkwX2_best_1 : List UInt8 := [159, 0, 16, 42, 28, 182, 0, 112, 42, 27, 182, 0, 112, 164, 0, 7, 28, 167, 0, 4, 27, 60]
abbrev dktX2_best_1 : List UInt8 := dkwX2_best_1 ++ dktX2_best_2
def dkwX2_best_0 : List UInt8 := [2, 60, 3, 61, 28, 42, 182, 0, 75, 162, 0, 41, 42, 28, 182, 0, 109, 153, 0, 25, 27, 2]
abbrev dktX2_best_0 : List UInt8 := dkwX2_best_0 ++ dktX2_best_1
theorem dksX2_best_0 : cX2_best.data.toList.drop 0 = dktX2_best_0 := by decide +kernel
theorem dksX2_best_1 : cX2_best.data.toList.drop 22 = dktX2_best_1 := dk_seg dksX2_best_0 22 rfl rfl
theorem dksX2_best_2 : cX2_best.data.toList.drop 44 = dktX2_best_2 := dk_seg dksX2_best_1 22 rfl rfl
theorem dX2_best_0 : decode cX2_best 0 = .ok (.iconst (-1), 1) := dk_2 (dk_at dksX2_best_0 0 rfl rfl)
theorem dX2_best_1 : decode cX2_best 1 = .ok (.istore_n 1, 1) := dk_60 (dk_at dksX2_best_0 1 rfl rfl)
theorem dX2_best_2 : decode cX2_best 2 = .ok (.iconst 0, 1) := dk_3 (dk_at dksX2_best_0 2 rfl rfl)
theorem dX2_best_3 : decode cX2_best 3 = .ok (.istore_n 2, 1) := dk_61 (dk_at dksX2_best_0 3 rfl rfl)
theorem dX2_best_4 : decode cX2_best 4 = .ok (.iload_n 2, 1) := dk_28 (dk_at dksX2_best_0 4 rfl rfl)
theorem dX2_best_5 : decode cX2_best 5 = .ok (.aload_n 0, 1) := dk_42 (dk_at dksX2_best_0 5 rfl rfl)
theorem dX2_best_6 : decode cX2_best 6 = .ok (.invokevirtual 75, 3) := dk_182 0 75 (dk_at dksX2_best_0 6 rfl rfl)
theorem dX2_best_9 : decode cX2_best 9 = .ok (.if_icmp .ge 41, 3) := dk_162 0 41 (dk_at dksX2_best_0 9 rfl rfl)
theorem dX2_best_12 : decode cX2_best 12 = .ok (.aload_n 0, 1) := dk_42 (dk_at dksX2_best_0 12 rfl rfl)
theorem dX2_best_13 : decode cX2_best 13 = .ok (.iload_n 2, 1) := dk_28 (dk_at dksX2_best_0 13 rfl rfl)
theorem dX2_best_14 : decode cX2_best 14 = .ok (.invokevirtual 109, 3) := dk_182 0 109 (dk_at dksX2_best_0 14 rfl rfl)
theorem dX2_best_17 : decode cX2_best 17 = .ok (.ifCond .eq 25, 3) := dk_153 0 25 (dk_at dksX2_best_0 17 rfl rfl)
theorem dX2_best_20 : decode cX2_best 20 = .ok (.iload_n 1, 1) := dk_27 (dk_at dksX2_best_0 20 rfl rfl)
theorem dX2_best_21 : decode cX2_best 21 = .ok (.iconst (-1), 1) := dk_2 (dk_at dksX2_best_0 21 rfl rfl)
theorem dX2_best_22 : decode cX2_best 22 = .ok (.if_icmp .eq 16, 3) := dk_159 0 16 (dk_at dksX2_best_1 0 rfl rfl)
theorem dX2_best_25 : decode cX2_best 25 = .ok (.aload_n 0, 1) := dk_42 (dk_at dksX2_best_1 3 rfl rfl)
theorem dX2_best_26 : decode cX2_best 26 = .ok (.iload_n 2, 1) := dk_28 (dk_at dksX2_best_1 4 rfl rfl)
theorem dX2_best_27 : decode cX2_best 27 = .ok (.invokevirtual 112, 3) := dk_182 0 112 (dk_at dksX2_best_1 5 rfl rfl)
theorem dX2_best_30 : decode cX2_best 30 = .ok (.aload_n 0, 1) := dk_42 (dk_at dksX2_best_1 8 rfl rfl)
theorem dX2_best_31 : decode cX2_best 31 = .ok (.iload_n 1, 1) := dk_27 (dk_at dksX2_best_1 9 rfl rfl)
theorem dX2_best_32 : decode cX2_best 32 = .ok (.invokevirtual 112, 3) := dk_182 0 112 (dk_at dksX2_best_1 10 rfl rfl)
theorem dX2_best_35 : decode cX2_best 35 = .ok (.if_icmp .le 7, 3) := dk_164 0 7 (dk_at dksX2_best_1 13 rfl rfl)
theorem dX2_best_38 : decode cX2_best 38 = .ok (.iload_n 2, 1) := dk_28 (dk_at dksX2_best_1 16 rfl rfl)
theorem dX2_best_39 : decode cX2_best 39 = .ok (.goto 4, 3) := dk_167 0 4 (dk_at dksX2_best_1 17 rfl rfl)
theorem dX2_best_42 : decode cX2_best 42 = .ok (.iload_n 1, 1) := dk_27 (dk_at dksX2_best_1 20 rfl rfl)
theorem dX2_best_43 : decode cX2_best 43 = .ok (.istore_n 1, 1) := dk_60 (dk_at dksX2_best_1 21 rfl rfl)
theorem dX2_best_44 : decode cX2_best 44 = .ok (.iinc 2 1, 3) := dk_132 2 1 (dk_at dksX2_best_2 0 rfl rfl)
theorem dX2_best_47 : decode cX2_best 47 = .ok (.goto (-43), 3) := dk_167 255 213 (dk_at dksX2_best_2 3 rfl rfl)
theorem dX2_best_50 : decode cX2_best 50 = .ok (.iload_n 1, 1) := dk_27 (dk_at dksX2_best_2 6 rfl rfl)
theorem dX2_best_51 : decode cX2_best 51 = .ok (.ireturn, 1) := dk_172 (dk_at dksX2_best_2 7 rfl rfl)
abbrev cX2_far : ByteArray := prog_5_method_53_code
def yX2_far : MethodName := ⟨RX2, "far", "(II)I"⟩
def dkwX2_far_1 : List UInt8 := [182, 0, 82, 42, 180, 0, 37, 184, 0, 192, 96, 172]
abbrev dktX2_far_1 : List UInt8 := dkwX2_far_1 ++ []
def dkwX2_far_0 : List UInt8 := [42, 27, 182, 0, 78, 42, 28, 182, 0, 78, 42, 180, 0, 33, 184, 0, 192, 42, 27, 182, 0, 82, 42, 28]
abbrev dktX2_far_0 : List UInt8 := dkwX2_far_0 ++ dktX2_far_1
theorem dksX2_far_0 : cX2_far.data.toList.drop 0 = dktX2_far_0 := by decide +kernel
theorem dksX2_far_1 : cX2_far.data.toList.drop 24 = dktX2_far_1 := dk_seg dksX2_far_0 24 rfl rfl
theorem dX2_far_0 : decode cX2_far 0 = .ok (.aload_n 0, 1) := dk_42 (dk_at dksX2_far_0 0 rfl rfl)
theorem dX2_far_1 : decode cX2_far 1 = .ok (.iload_n 1, 1) := dk_27 (dk_at dksX2_far_0 1 rfl rfl)
theorem dX2_far_2 : decode cX2_far 2 = .ok (.invokevirtual 78, 3) := dk_182 0 78 (dk_at dksX2_far_0 2 rfl rfl)
theorem dX2_far_5 : decode cX2_far 5 = .ok (.aload_n 0, 1) := dk_42 (dk_at dksX2_far_0 5 rfl rfl)
theorem dX2_far_6 : decode cX2_far 6 = .ok (.iload_n 2, 1) := dk_28 (dk_at dksX2_far_0 6 rfl rfl)
theorem dX2_far_7 : decode cX2_far 7 = .ok (.invokevirtual 78, 3) := dk_182 0 78 (dk_at dksX2_far_0 7 rfl rfl)
theorem dX2_far_10 : decode cX2_far 10 = .ok (.aload_n 0, 1) := dk_42 (dk_at dksX2_far_0 10 rfl rfl)
theorem dX2_far_11 : decode cX2_far 11 = .ok (.getfield 33, 3) := dk_180 0 33 (dk_at dksX2_far_0 11 rfl rfl)
theorem dX2_far_14 : decode cX2_far 14 = .ok (.invokestatic 192, 3) := dk_184 0 192 (dk_at dksX2_far_0 14 rfl rfl)
theorem dX2_far_17 : decode cX2_far 17 = .ok (.aload_n 0, 1) := dk_42 (dk_at dksX2_far_0 17 rfl rfl)
theorem dX2_far_18 : decode cX2_far 18 = .ok (.iload_n 1, 1) := dk_27 (dk_at dksX2_far_0 18 rfl rfl)
theorem dX2_far_19 : decode cX2_far 19 = .ok (.invokevirtual 82, 3) := dk_182 0 82 (dk_at dksX2_far_0 19 rfl rfl)
theorem dX2_far_22 : decode cX2_far 22 = .ok (.aload_n 0, 1) := dk_42 (dk_at dksX2_far_0 22 rfl rfl)
theorem dX2_far_23 : decode cX2_far 23 = .ok (.iload_n 2, 1) := dk_28 (dk_at dksX2_far_0 23 rfl rfl)
theorem dX2_far_24 : decode cX2_far 24 = .ok (.invokevirtual 82, 3) := dk_182 0 82 (dk_at dksX2_far_1 0 rfl rfl)
theorem dX2_far_27 : decode cX2_far 27 = .ok (.aload_n 0, 1) := dk_42 (dk_at dksX2_far_1 3 rfl rfl)
theorem dX2_far_28 : decode cX2_far 28 = .ok (.getfield 37, 3) := dk_180 0 37 (dk_at dksX2_far_1 4 rfl rfl)
theorem dX2_far_31 : decode cX2_far 31 = .ok (.invokestatic 192, 3) := dk_184 0 192 (dk_at dksX2_far_1 7 rfl rfl)
theorem dX2_far_34 : decode cX2_far 34 = .ok (.iadd, 1) := dk_96 (dk_at dksX2_far_1 10 rfl rfl)
theorem dX2_far_35 : decode cX2_far 35 = .ok (.ireturn, 1) := dk_172 (dk_at dksX2_far_1 11 rfl rfl)
abbrev cX2_round : ByteArray := prog_5_method_52_code
def yX2_round : MethodName := ⟨RX2, "round", "(III)I"⟩
def dkwX2_round_0 : List UInt8 := [26, 27, 100, 184, 0, 189, 62, 29, 28, 29, 100, 184, 0, 131, 172]
abbrev dktX2_round_0 : List UInt8 := dkwX2_round_0 ++ []
theorem dksX2_round_0 : cX2_round.data.toList.drop 0 = dktX2_round_0 := by decide +kernel
theorem dX2_round_0 : decode cX2_round 0 = .ok (.iload_n 0, 1) := dk_26 (dk_at dksX2_round_0 0 rfl rfl)
theorem dX2_round_1 : decode cX2_round 1 = .ok (.iload_n 1, 1) := dk_27 (dk_at dksX2_round_0 1 rfl rfl)
theorem dX2_round_2 : decode cX2_round 2 = .ok (.isub, 1) := dk_100 (dk_at dksX2_round_0 2 rfl rfl)
theorem dX2_round_3 : decode cX2_round 3 = .ok (.invokestatic 189, 3) := dk_184 0 189 (dk_at dksX2_round_0 3 rfl rfl)
theorem dX2_round_6 : decode cX2_round 6 = .ok (.istore_n 3, 1) := dk_62 (dk_at dksX2_round_0 6 rfl rfl)
theorem dX2_round_7 : decode cX2_round 7 = .ok (.iload_n 3, 1) := dk_29 (dk_at dksX2_round_0 7 rfl rfl)
theorem dX2_round_8 : decode cX2_round 8 = .ok (.iload_n 2, 1) := dk_28 (dk_at dksX2_round_0 8 rfl rfl)
theorem dX2_round_9 : decode cX2_round 9 = .ok (.iload_n 3, 1) := dk_29 (dk_at dksX2_round_0 9 rfl rfl)
theorem dX2_round_10 : decode cX2_round 10 = .ok (.isub, 1) := dk_100 (dk_at dksX2_round_0 10 rfl rfl)
theorem dX2_round_11 : decode cX2_round 11 = .ok (.invokestatic 131, 3) := dk_184 0 131 (dk_at dksX2_round_0 11 rfl rfl)
theorem dX2_round_14 : decode cX2_round 14 = .ok (.ireturn, 1) := dk_172 (dk_at dksX2_round_0 14 rfl rfl)
abbrev cX2_writesLine : ByteArray := prog_5_method_64_code
def yX2_writesLine : MethodName := ⟨RX2, "writesLine", "(Ljava/lang/StringBuilder;I)V"⟩
def dkwX2_writesLine_2 : List UInt8 := [167, 255, 228, 42, 28, 182, 0, 230, 153, 0, 10, 43, 16, 33, 182, 0, 224, 87, 177]
abbrev dktX2_writesLine_2 : List UInt8 := dkwX2_writesLine_2 ++ []
def dkwX2_writesLine_1 : List UInt8 := [162, 0, 25, 43, 42, 180, 0, 9, 42, 28, 29, 182, 0, 88, 52, 182, 0, 224, 87, 132, 3, 1]
abbrev dktX2_writesLine_1 : List UInt8 := dkwX2_writesLine_1 ++ dktX2_writesLine_2
def dkwX2_writesLine_0 : List UInt8 := [42, 180, 0, 18, 28, 51, 153, 0, 10, 43, 16, 35, 182, 0, 224, 87, 3, 62, 29, 42, 28, 182, 0, 85]
abbrev dktX2_writesLine_0 : List UInt8 := dkwX2_writesLine_0 ++ dktX2_writesLine_1
theorem dksX2_writesLine_0 : cX2_writesLine.data.toList.drop 0 = dktX2_writesLine_0 := by decide +kernel
theorem dksX2_writesLine_1 : cX2_writesLine.data.toList.drop 24 = dktX2_writesLine_1 := dk_seg dksX2_writesLine_0 24 rfl rfl
theorem dksX2_writesLine_2 : cX2_writesLine.data.toList.drop 46 = dktX2_writesLine_2 := dk_seg dksX2_writesLine_1 22 rfl rfl
theorem dX2_writesLine_0 : decode cX2_writesLine 0 = .ok (.aload_n 0, 1) := dk_42 (dk_at dksX2_writesLine_0 0 rfl rfl)
theorem dX2_writesLine_1 : decode cX2_writesLine 1 = .ok (.getfield 18, 3) := dk_180 0 18 (dk_at dksX2_writesLine_0 1 rfl rfl)
theorem dX2_writesLine_4 : decode cX2_writesLine 4 = .ok (.iload_n 2, 1) := dk_28 (dk_at dksX2_writesLine_0 4 rfl rfl)
theorem dX2_writesLine_5 : decode cX2_writesLine 5 = .ok (.baload, 1) := dk_51 (dk_at dksX2_writesLine_0 5 rfl rfl)
theorem dX2_writesLine_6 : decode cX2_writesLine 6 = .ok (.ifCond .eq 10, 3) := dk_153 0 10 (dk_at dksX2_writesLine_0 6 rfl rfl)
theorem dX2_writesLine_9 : decode cX2_writesLine 9 = .ok (.aload_n 1, 1) := dk_43 (dk_at dksX2_writesLine_0 9 rfl rfl)
theorem dX2_writesLine_10 : decode cX2_writesLine 10 = .ok (.bipush 35, 2) := dk_16 35 (dk_at dksX2_writesLine_0 10 rfl rfl)
theorem dX2_writesLine_12 : decode cX2_writesLine 12 = .ok (.invokevirtual 224, 3) := dk_182 0 224 (dk_at dksX2_writesLine_0 12 rfl rfl)
theorem dX2_writesLine_15 : decode cX2_writesLine 15 = .ok (.pop, 1) := dk_87 (dk_at dksX2_writesLine_0 15 rfl rfl)
theorem dX2_writesLine_16 : decode cX2_writesLine 16 = .ok (.iconst 0, 1) := dk_3 (dk_at dksX2_writesLine_0 16 rfl rfl)
theorem dX2_writesLine_17 : decode cX2_writesLine 17 = .ok (.istore_n 3, 1) := dk_62 (dk_at dksX2_writesLine_0 17 rfl rfl)
theorem dX2_writesLine_18 : decode cX2_writesLine 18 = .ok (.iload_n 3, 1) := dk_29 (dk_at dksX2_writesLine_0 18 rfl rfl)
theorem dX2_writesLine_19 : decode cX2_writesLine 19 = .ok (.aload_n 0, 1) := dk_42 (dk_at dksX2_writesLine_0 19 rfl rfl)
theorem dX2_writesLine_20 : decode cX2_writesLine 20 = .ok (.iload_n 2, 1) := dk_28 (dk_at dksX2_writesLine_0 20 rfl rfl)
theorem dX2_writesLine_21 : decode cX2_writesLine 21 = .ok (.invokevirtual 85, 3) := dk_182 0 85 (dk_at dksX2_writesLine_0 21 rfl rfl)
theorem dX2_writesLine_24 : decode cX2_writesLine 24 = .ok (.if_icmp .ge 25, 3) := dk_162 0 25 (dk_at dksX2_writesLine_1 0 rfl rfl)
theorem dX2_writesLine_27 : decode cX2_writesLine 27 = .ok (.aload_n 1, 1) := dk_43 (dk_at dksX2_writesLine_1 3 rfl rfl)
theorem dX2_writesLine_28 : decode cX2_writesLine 28 = .ok (.aload_n 0, 1) := dk_42 (dk_at dksX2_writesLine_1 4 rfl rfl)
theorem dX2_writesLine_29 : decode cX2_writesLine 29 = .ok (.getfield 9, 3) := dk_180 0 9 (dk_at dksX2_writesLine_1 5 rfl rfl)
theorem dX2_writesLine_32 : decode cX2_writesLine 32 = .ok (.aload_n 0, 1) := dk_42 (dk_at dksX2_writesLine_1 8 rfl rfl)
theorem dX2_writesLine_33 : decode cX2_writesLine 33 = .ok (.iload_n 2, 1) := dk_28 (dk_at dksX2_writesLine_1 9 rfl rfl)
theorem dX2_writesLine_34 : decode cX2_writesLine 34 = .ok (.iload_n 3, 1) := dk_29 (dk_at dksX2_writesLine_1 10 rfl rfl)
theorem dX2_writesLine_35 : decode cX2_writesLine 35 = .ok (.invokevirtual 88, 3) := dk_182 0 88 (dk_at dksX2_writesLine_1 11 rfl rfl)
theorem dX2_writesLine_38 : decode cX2_writesLine 38 = .ok (.caload, 1) := dk_52 (dk_at dksX2_writesLine_1 14 rfl rfl)
theorem dX2_writesLine_39 : decode cX2_writesLine 39 = .ok (.invokevirtual 224, 3) := dk_182 0 224 (dk_at dksX2_writesLine_1 15 rfl rfl)
theorem dX2_writesLine_42 : decode cX2_writesLine 42 = .ok (.pop, 1) := dk_87 (dk_at dksX2_writesLine_1 18 rfl rfl)
theorem dX2_writesLine_43 : decode cX2_writesLine 43 = .ok (.iinc 3 1, 3) := dk_132 3 1 (dk_at dksX2_writesLine_1 19 rfl rfl)
theorem dX2_writesLine_46 : decode cX2_writesLine 46 = .ok (.goto (-28), 3) := dk_167 255 228 (dk_at dksX2_writesLine_2 0 rfl rfl)
theorem dX2_writesLine_49 : decode cX2_writesLine 49 = .ok (.aload_n 0, 1) := dk_42 (dk_at dksX2_writesLine_2 3 rfl rfl)
theorem dX2_writesLine_50 : decode cX2_writesLine 50 = .ok (.iload_n 2, 1) := dk_28 (dk_at dksX2_writesLine_2 4 rfl rfl)
theorem dX2_writesLine_51 : decode cX2_writesLine 51 = .ok (.invokevirtual 230, 3) := dk_182 0 230 (dk_at dksX2_writesLine_2 5 rfl rfl)
theorem dX2_writesLine_54 : decode cX2_writesLine 54 = .ok (.ifCond .eq 10, 3) := dk_153 0 10 (dk_at dksX2_writesLine_2 8 rfl rfl)
theorem dX2_writesLine_57 : decode cX2_writesLine 57 = .ok (.aload_n 1, 1) := dk_43 (dk_at dksX2_writesLine_2 11 rfl rfl)
theorem dX2_writesLine_58 : decode cX2_writesLine 58 = .ok (.bipush 33, 2) := dk_16 33 (dk_at dksX2_writesLine_2 12 rfl rfl)
theorem dX2_writesLine_60 : decode cX2_writesLine 60 = .ok (.invokevirtual 224, 3) := dk_182 0 224 (dk_at dksX2_writesLine_2 14 rfl rfl)
theorem dX2_writesLine_63 : decode cX2_writesLine 63 = .ok (.pop, 1) := dk_87 (dk_at dksX2_writesLine_2 17 rfl rfl)
theorem dX2_writesLine_64 : decode cX2_writesLine 64 = .ok (.return_, 1) := dk_177 (dk_at dksX2_writesLine_2 18 rfl rfl)
abbrev cX2_farKnown : ByteArray := prog_5_method_58_code
def yX2_farKnown : MethodName := ⟨RX2, "farKnown", "()I"⟩
def dkwX2_farKnown_1 : List UInt8 := [167, 0, 4, 3, 96, 60, 132, 2, 1, 167, 255, 229, 27, 172]
abbrev dktX2_farKnown_1 : List UInt8 := dkwX2_farKnown_1 ++ []
def dkwX2_farKnown_0 : List UInt8 := [3, 60, 3, 61, 28, 42, 182, 0, 68, 162, 0, 25, 27, 42, 28, 182, 0, 203, 153, 0, 7, 4]
abbrev dktX2_farKnown_0 : List UInt8 := dkwX2_farKnown_0 ++ dktX2_farKnown_1
theorem dksX2_farKnown_0 : cX2_farKnown.data.toList.drop 0 = dktX2_farKnown_0 := by decide +kernel
theorem dksX2_farKnown_1 : cX2_farKnown.data.toList.drop 22 = dktX2_farKnown_1 := dk_seg dksX2_farKnown_0 22 rfl rfl
theorem dX2_farKnown_0 : decode cX2_farKnown 0 = .ok (.iconst 0, 1) := dk_3 (dk_at dksX2_farKnown_0 0 rfl rfl)
theorem dX2_farKnown_1 : decode cX2_farKnown 1 = .ok (.istore_n 1, 1) := dk_60 (dk_at dksX2_farKnown_0 1 rfl rfl)
theorem dX2_farKnown_2 : decode cX2_farKnown 2 = .ok (.iconst 0, 1) := dk_3 (dk_at dksX2_farKnown_0 2 rfl rfl)
theorem dX2_farKnown_3 : decode cX2_farKnown 3 = .ok (.istore_n 2, 1) := dk_61 (dk_at dksX2_farKnown_0 3 rfl rfl)
theorem dX2_farKnown_4 : decode cX2_farKnown 4 = .ok (.iload_n 2, 1) := dk_28 (dk_at dksX2_farKnown_0 4 rfl rfl)
theorem dX2_farKnown_5 : decode cX2_farKnown 5 = .ok (.aload_n 0, 1) := dk_42 (dk_at dksX2_farKnown_0 5 rfl rfl)
theorem dX2_farKnown_6 : decode cX2_farKnown 6 = .ok (.invokevirtual 68, 3) := dk_182 0 68 (dk_at dksX2_farKnown_0 6 rfl rfl)
theorem dX2_farKnown_9 : decode cX2_farKnown 9 = .ok (.if_icmp .ge 25, 3) := dk_162 0 25 (dk_at dksX2_farKnown_0 9 rfl rfl)
theorem dX2_farKnown_12 : decode cX2_farKnown 12 = .ok (.iload_n 1, 1) := dk_27 (dk_at dksX2_farKnown_0 12 rfl rfl)
theorem dX2_farKnown_13 : decode cX2_farKnown 13 = .ok (.aload_n 0, 1) := dk_42 (dk_at dksX2_farKnown_0 13 rfl rfl)
theorem dX2_farKnown_14 : decode cX2_farKnown 14 = .ok (.iload_n 2, 1) := dk_28 (dk_at dksX2_farKnown_0 14 rfl rfl)
theorem dX2_farKnown_15 : decode cX2_farKnown 15 = .ok (.invokevirtual 203, 3) := dk_182 0 203 (dk_at dksX2_farKnown_0 15 rfl rfl)
theorem dX2_farKnown_18 : decode cX2_farKnown 18 = .ok (.ifCond .eq 7, 3) := dk_153 0 7 (dk_at dksX2_farKnown_0 18 rfl rfl)
theorem dX2_farKnown_21 : decode cX2_farKnown 21 = .ok (.iconst 1, 1) := dk_4 (dk_at dksX2_farKnown_0 21 rfl rfl)
theorem dX2_farKnown_22 : decode cX2_farKnown 22 = .ok (.goto 4, 3) := dk_167 0 4 (dk_at dksX2_farKnown_1 0 rfl rfl)
theorem dX2_farKnown_25 : decode cX2_farKnown 25 = .ok (.iconst 0, 1) := dk_3 (dk_at dksX2_farKnown_1 3 rfl rfl)
theorem dX2_farKnown_26 : decode cX2_farKnown 26 = .ok (.iadd, 1) := dk_96 (dk_at dksX2_farKnown_1 4 rfl rfl)
theorem dX2_farKnown_27 : decode cX2_farKnown 27 = .ok (.istore_n 1, 1) := dk_60 (dk_at dksX2_farKnown_1 5 rfl rfl)
theorem dX2_farKnown_28 : decode cX2_farKnown 28 = .ok (.iinc 2 1, 3) := dk_132 2 1 (dk_at dksX2_farKnown_1 6 rfl rfl)
theorem dX2_farKnown_31 : decode cX2_farKnown 31 = .ok (.goto (-27), 3) := dk_167 255 229 (dk_at dksX2_farKnown_1 9 rfl rfl)
theorem dX2_farKnown_34 : decode cX2_farKnown 34 = .ok (.iload_n 1, 1) := dk_27 (dk_at dksX2_farKnown_1 12 rfl rfl)
theorem dX2_farKnown_35 : decode cX2_farKnown 35 = .ok (.ireturn, 1) := dk_172 (dk_at dksX2_farKnown_1 13 rfl rfl)
abbrev cX2_isFarKnown : ByteArray := prog_5_method_57_code
def yX2_isFarKnown : MethodName := ⟨RX2, "isFarKnown", "(I)Z"⟩
def dkwX2_isFarKnown_1 : List UInt8 := [52, 184, 0, 143, 4, 160, 0, 7, 4, 167, 0, 4, 3, 172]
abbrev dktX2_isFarKnown_1 : List UInt8 := dkwX2_isFarKnown_1 ++ []
def dkwX2_isFarKnown_0 : List UInt8 := [42, 180, 0, 15, 27, 52, 16, 46, 159, 0, 28, 42, 180, 0, 9, 42, 182, 0, 68, 42, 180, 0, 15, 27]
abbrev dktX2_isFarKnown_0 : List UInt8 := dkwX2_isFarKnown_0 ++ dktX2_isFarKnown_1
theorem dksX2_isFarKnown_0 : cX2_isFarKnown.data.toList.drop 0 = dktX2_isFarKnown_0 := by decide +kernel
theorem dksX2_isFarKnown_1 : cX2_isFarKnown.data.toList.drop 24 = dktX2_isFarKnown_1 := dk_seg dksX2_isFarKnown_0 24 rfl rfl
theorem dX2_isFarKnown_0 : decode cX2_isFarKnown 0 = .ok (.aload_n 0, 1) := dk_42 (dk_at dksX2_isFarKnown_0 0 rfl rfl)
theorem dX2_isFarKnown_1 : decode cX2_isFarKnown 1 = .ok (.getfield 15, 3) := dk_180 0 15 (dk_at dksX2_isFarKnown_0 1 rfl rfl)
theorem dX2_isFarKnown_4 : decode cX2_isFarKnown 4 = .ok (.iload_n 1, 1) := dk_27 (dk_at dksX2_isFarKnown_0 4 rfl rfl)
theorem dX2_isFarKnown_5 : decode cX2_isFarKnown 5 = .ok (.caload, 1) := dk_52 (dk_at dksX2_isFarKnown_0 5 rfl rfl)
theorem dX2_isFarKnown_6 : decode cX2_isFarKnown 6 = .ok (.bipush 46, 2) := dk_16 46 (dk_at dksX2_isFarKnown_0 6 rfl rfl)
theorem dX2_isFarKnown_8 : decode cX2_isFarKnown 8 = .ok (.if_icmp .eq 28, 3) := dk_159 0 28 (dk_at dksX2_isFarKnown_0 8 rfl rfl)
theorem dX2_isFarKnown_11 : decode cX2_isFarKnown 11 = .ok (.aload_n 0, 1) := dk_42 (dk_at dksX2_isFarKnown_0 11 rfl rfl)
theorem dX2_isFarKnown_12 : decode cX2_isFarKnown 12 = .ok (.getfield 9, 3) := dk_180 0 9 (dk_at dksX2_isFarKnown_0 12 rfl rfl)
theorem dX2_isFarKnown_15 : decode cX2_isFarKnown 15 = .ok (.aload_n 0, 1) := dk_42 (dk_at dksX2_isFarKnown_0 15 rfl rfl)
theorem dX2_isFarKnown_16 : decode cX2_isFarKnown 16 = .ok (.invokevirtual 68, 3) := dk_182 0 68 (dk_at dksX2_isFarKnown_0 16 rfl rfl)
theorem dX2_isFarKnown_19 : decode cX2_isFarKnown 19 = .ok (.aload_n 0, 1) := dk_42 (dk_at dksX2_isFarKnown_0 19 rfl rfl)
theorem dX2_isFarKnown_20 : decode cX2_isFarKnown 20 = .ok (.getfield 15, 3) := dk_180 0 15 (dk_at dksX2_isFarKnown_0 20 rfl rfl)
theorem dX2_isFarKnown_23 : decode cX2_isFarKnown 23 = .ok (.iload_n 1, 1) := dk_27 (dk_at dksX2_isFarKnown_0 23 rfl rfl)
theorem dX2_isFarKnown_24 : decode cX2_isFarKnown 24 = .ok (.caload, 1) := dk_52 (dk_at dksX2_isFarKnown_1 0 rfl rfl)
theorem dX2_isFarKnown_25 : decode cX2_isFarKnown 25 = .ok (.invokestatic 143, 3) := dk_184 0 143 (dk_at dksX2_isFarKnown_1 1 rfl rfl)
theorem dX2_isFarKnown_28 : decode cX2_isFarKnown 28 = .ok (.iconst 1, 1) := dk_4 (dk_at dksX2_isFarKnown_1 4 rfl rfl)
theorem dX2_isFarKnown_29 : decode cX2_isFarKnown 29 = .ok (.if_icmp .ne 7, 3) := dk_160 0 7 (dk_at dksX2_isFarKnown_1 5 rfl rfl)
theorem dX2_isFarKnown_32 : decode cX2_isFarKnown 32 = .ok (.iconst 1, 1) := dk_4 (dk_at dksX2_isFarKnown_1 8 rfl rfl)
theorem dX2_isFarKnown_33 : decode cX2_isFarKnown 33 = .ok (.goto 4, 3) := dk_167 0 4 (dk_at dksX2_isFarKnown_1 9 rfl rfl)
theorem dX2_isFarKnown_36 : decode cX2_isFarKnown 36 = .ok (.iconst 0, 1) := dk_3 (dk_at dksX2_isFarKnown_1 12 rfl rfl)
theorem dX2_isFarKnown_37 : decode cX2_isFarKnown 37 = .ok (.ireturn, 1) := dk_172 (dk_at dksX2_isFarKnown_1 13 rfl rfl)
abbrev cX2_farAll : ByteArray := prog_5_method_59_code
def yX2_farAll : MethodName := ⟨RX2, "farAll", "()I"⟩
def dkwX2_farAll_2 : List UInt8 := [132, 2, 1, 167, 255, 211, 27, 172]
abbrev dktX2_farAll_2 : List UInt8 := dkwX2_farAll_2 ++ []
def dkwX2_farAll_1 : List UInt8 := [42, 180, 0, 9, 42, 180, 0, 15, 28, 52, 182, 0, 147, 182, 0, 206, 167, 0, 4, 3, 96, 60]
abbrev dktX2_farAll_1 : List UInt8 := dkwX2_farAll_1 ++ dktX2_farAll_2
def dkwX2_farAll_0 : List UInt8 := [3, 60, 3, 61, 28, 42, 182, 0, 68, 162, 0, 43, 27, 42, 28, 182, 0, 203, 153, 0, 25, 42, 28, 42]
abbrev dktX2_farAll_0 : List UInt8 := dkwX2_farAll_0 ++ dktX2_farAll_1
theorem dksX2_farAll_0 : cX2_farAll.data.toList.drop 0 = dktX2_farAll_0 := by decide +kernel
theorem dksX2_farAll_1 : cX2_farAll.data.toList.drop 24 = dktX2_farAll_1 := dk_seg dksX2_farAll_0 24 rfl rfl
theorem dksX2_farAll_2 : cX2_farAll.data.toList.drop 46 = dktX2_farAll_2 := dk_seg dksX2_farAll_1 22 rfl rfl
theorem dX2_farAll_0 : decode cX2_farAll 0 = .ok (.iconst 0, 1) := dk_3 (dk_at dksX2_farAll_0 0 rfl rfl)
theorem dX2_farAll_1 : decode cX2_farAll 1 = .ok (.istore_n 1, 1) := dk_60 (dk_at dksX2_farAll_0 1 rfl rfl)
theorem dX2_farAll_2 : decode cX2_farAll 2 = .ok (.iconst 0, 1) := dk_3 (dk_at dksX2_farAll_0 2 rfl rfl)
theorem dX2_farAll_3 : decode cX2_farAll 3 = .ok (.istore_n 2, 1) := dk_61 (dk_at dksX2_farAll_0 3 rfl rfl)
theorem dX2_farAll_4 : decode cX2_farAll 4 = .ok (.iload_n 2, 1) := dk_28 (dk_at dksX2_farAll_0 4 rfl rfl)
theorem dX2_farAll_5 : decode cX2_farAll 5 = .ok (.aload_n 0, 1) := dk_42 (dk_at dksX2_farAll_0 5 rfl rfl)
theorem dX2_farAll_6 : decode cX2_farAll 6 = .ok (.invokevirtual 68, 3) := dk_182 0 68 (dk_at dksX2_farAll_0 6 rfl rfl)
theorem dX2_farAll_9 : decode cX2_farAll 9 = .ok (.if_icmp .ge 43, 3) := dk_162 0 43 (dk_at dksX2_farAll_0 9 rfl rfl)
theorem dX2_farAll_12 : decode cX2_farAll 12 = .ok (.iload_n 1, 1) := dk_27 (dk_at dksX2_farAll_0 12 rfl rfl)
theorem dX2_farAll_13 : decode cX2_farAll 13 = .ok (.aload_n 0, 1) := dk_42 (dk_at dksX2_farAll_0 13 rfl rfl)
theorem dX2_farAll_14 : decode cX2_farAll 14 = .ok (.iload_n 2, 1) := dk_28 (dk_at dksX2_farAll_0 14 rfl rfl)
theorem dX2_farAll_15 : decode cX2_farAll 15 = .ok (.invokevirtual 203, 3) := dk_182 0 203 (dk_at dksX2_farAll_0 15 rfl rfl)
theorem dX2_farAll_18 : decode cX2_farAll 18 = .ok (.ifCond .eq 25, 3) := dk_153 0 25 (dk_at dksX2_farAll_0 18 rfl rfl)
theorem dX2_farAll_21 : decode cX2_farAll 21 = .ok (.aload_n 0, 1) := dk_42 (dk_at dksX2_farAll_0 21 rfl rfl)
theorem dX2_farAll_22 : decode cX2_farAll 22 = .ok (.iload_n 2, 1) := dk_28 (dk_at dksX2_farAll_0 22 rfl rfl)
theorem dX2_farAll_23 : decode cX2_farAll 23 = .ok (.aload_n 0, 1) := dk_42 (dk_at dksX2_farAll_0 23 rfl rfl)
theorem dX2_farAll_24 : decode cX2_farAll 24 = .ok (.aload_n 0, 1) := dk_42 (dk_at dksX2_farAll_1 0 rfl rfl)
theorem dX2_farAll_25 : decode cX2_farAll 25 = .ok (.getfield 9, 3) := dk_180 0 9 (dk_at dksX2_farAll_1 1 rfl rfl)
theorem dX2_farAll_28 : decode cX2_farAll 28 = .ok (.aload_n 0, 1) := dk_42 (dk_at dksX2_farAll_1 4 rfl rfl)
theorem dX2_farAll_29 : decode cX2_farAll 29 = .ok (.getfield 15, 3) := dk_180 0 15 (dk_at dksX2_farAll_1 5 rfl rfl)
theorem dX2_farAll_32 : decode cX2_farAll 32 = .ok (.iload_n 2, 1) := dk_28 (dk_at dksX2_farAll_1 8 rfl rfl)
theorem dX2_farAll_33 : decode cX2_farAll 33 = .ok (.caload, 1) := dk_52 (dk_at dksX2_farAll_1 9 rfl rfl)
theorem dX2_farAll_34 : decode cX2_farAll 34 = .ok (.invokevirtual 147, 3) := dk_182 0 147 (dk_at dksX2_farAll_1 10 rfl rfl)
theorem dX2_farAll_37 : decode cX2_farAll 37 = .ok (.invokevirtual 206, 3) := dk_182 0 206 (dk_at dksX2_farAll_1 13 rfl rfl)
theorem dX2_farAll_40 : decode cX2_farAll 40 = .ok (.goto 4, 3) := dk_167 0 4 (dk_at dksX2_farAll_1 16 rfl rfl)
theorem dX2_farAll_43 : decode cX2_farAll 43 = .ok (.iconst 0, 1) := dk_3 (dk_at dksX2_farAll_1 19 rfl rfl)
theorem dX2_farAll_44 : decode cX2_farAll 44 = .ok (.iadd, 1) := dk_96 (dk_at dksX2_farAll_1 20 rfl rfl)
theorem dX2_farAll_45 : decode cX2_farAll 45 = .ok (.istore_n 1, 1) := dk_60 (dk_at dksX2_farAll_1 21 rfl rfl)
theorem dX2_farAll_46 : decode cX2_farAll 46 = .ok (.iinc 2 1, 3) := dk_132 2 1 (dk_at dksX2_farAll_2 0 rfl rfl)
theorem dX2_farAll_49 : decode cX2_farAll 49 = .ok (.goto (-45), 3) := dk_167 255 211 (dk_at dksX2_farAll_2 3 rfl rfl)
theorem dX2_farAll_52 : decode cX2_farAll 52 = .ok (.iload_n 1, 1) := dk_27 (dk_at dksX2_farAll_2 6 rfl rfl)
theorem dX2_farAll_53 : decode cX2_farAll 53 = .ok (.ireturn, 1) := dk_172 (dk_at dksX2_farAll_2 7 rfl rfl)
theorem q89 : (Jvm.Cond.initialized "VowelTorus$Puzzle") ∈ lw_all := lw_g (lw_at lw_m1 2 rfl) rfl
theorem q132 : (Jvm.Cond.instantiable "VowelTorus$Puzzle" (14 : Nat)) ∈ lw_all := lw_g (lw_at lw_m1 45 rfl) rfl
theorem q134 : (Jvm.Cond.instanceMethod ({ cls := "VowelTorus$Puzzle", name := "<init>", desc := "()V" } : Jvm.MethodName)) ∈ lw_all := lw_g (lw_at lw_m1 47 rfl) rfl
theorem q135 : (Jvm.Cond.code ({ cls := "VowelTorus$Puzzle", name := "<init>", desc := "()V" } : Jvm.MethodName) prog_5_method_1_code (1 : Nat) (Option.none : Option Jvm.ClassFile.FieldType)) ∈ lw_all := lw_g (lw_at lw_m1 48 rfl) rfl
theorem q136 : (Jvm.Cond.methodLink "VowelTorus$Puzzle" (3 : Nat) ({ cls := "java/lang/Object", name := "<init>", desc := "()V" } : Jvm.MethodName)) ∈ lw_all := lw_g (lw_at lw_m1 49 rfl) rfl
theorem q137 : (Jvm.Cond.methodLink "VowelTorus$Puzzle" (29 : Nat) ({ cls := "VowelTorus$Puzzle", name := "makes", desc := "(II)V" } : Jvm.MethodName)) ∈ lw_all := lw_g (lw_at lw_m1 50 rfl) rfl
theorem q138 : (Jvm.Cond.instanceMethod ({ cls := "VowelTorus$Puzzle", name := "makes", desc := "(II)V" } : Jvm.MethodName)) ∈ lw_all := lw_g (lw_at lw_m1 51 rfl) rfl
theorem q139 : (Jvm.Cond.selects "VowelTorus$Puzzle" ({ cls := "VowelTorus$Puzzle", name := "makes", desc := "(II)V" } : Jvm.MethodName) ({ cls := "VowelTorus$Puzzle", name := "makes", desc := "(II)V" } : Jvm.MethodName)) ∈ lw_all := lw_g (lw_at lw_m1 52 rfl) rfl
theorem q140 : (Jvm.Cond.code ({ cls := "VowelTorus$Puzzle", name := "makes", desc := "(II)V" } : Jvm.MethodName) prog_5_method_3_code (4 : Nat) (Option.none : Option Jvm.ClassFile.FieldType)) ∈ lw_all := lw_g (lw_at lw_m1 53 rfl) rfl
theorem q141 : (Jvm.Cond.fieldLink "VowelTorus$Puzzle" (33 : Nat) "VowelTorus$Puzzle" "rows" "I") ∈ lw_all := lw_g (lw_at lw_m1 54 rfl) rfl
theorem q143 : (Jvm.Cond.fieldLink "VowelTorus$Puzzle" (37 : Nat) "VowelTorus$Puzzle" "columns" "I") ∈ lw_all := lw_g (lw_at lw_m1 56 rfl) rfl
theorem q145 : (Jvm.Cond.fieldLink "VowelTorus$Puzzle" (9 : Nat) "VowelTorus$Puzzle" "letters" "[C") ∈ lw_all := lw_g (lw_at lw_m1 58 rfl) rfl
theorem q147 : (Jvm.Cond.fieldLink "VowelTorus$Puzzle" (15 : Nat) "VowelTorus$Puzzle" "goal" "[C") ∈ lw_all := lw_g (lw_at lw_m1 60 rfl) rfl
theorem q149 : (Jvm.Cond.fieldLink "VowelTorus$Puzzle" (18 : Nat) "VowelTorus$Puzzle" "bars" "[Z") ∈ lw_all := lw_g (lw_at lw_m1 62 rfl) rfl
theorem q151 : (Jvm.Cond.fieldLink "VowelTorus$Puzzle" (46 : Nat) "VowelTorus$Puzzle" "turned" "I") ∈ lw_all := lw_g (lw_at lw_m1 64 rfl) rfl
theorem q153 : (Jvm.Cond.fieldLink "VowelTorus$Puzzle" (49 : Nat) "VowelTorus$Puzzle" "swapped" "I") ∈ lw_all := lw_g (lw_at lw_m1 66 rfl) rfl
theorem q155 : (Jvm.Cond.fieldLink "VowelTorus$Puzzle" (52 : Nat) "VowelTorus$Puzzle" "scrambled" "I") ∈ lw_all := lw_g (lw_at lw_m1 68 rfl) rfl
theorem q157 : (Jvm.Cond.fieldLink "VowelTorus$Puzzle" (55 : Nat) "VowelTorus$Puzzle" "stepped" "I") ∈ lw_all := lw_g (lw_at lw_m1 70 rfl) rfl
theorem q159 : (Jvm.Cond.fieldLink "VowelTorus$Puzzle" (58 : Nat) "VowelTorus$Puzzle" "boards" "I") ∈ lw_all := lw_g (lw_at lw_m1 72 rfl) rfl
theorem q161 : (Jvm.Cond.fieldLink "VowelTorus$Puzzle" (61 : Nat) "VowelTorus$Puzzle" "reached" "I") ∈ lw_all := lw_g (lw_at lw_m1 74 rfl) rfl
theorem q163 : (Jvm.Cond.fieldLink "VowelTorus$Puzzle" (22 : Nat) "VowelTorus$Puzzle" "ahead" "[C") ∈ lw_all := lw_g (lw_at lw_m1 76 rfl) rfl
theorem q164 : (Jvm.Cond.fieldLink "VowelTorus$Puzzle" (25 : Nat) "VowelTorus$Puzzle" "turnsTo" "[I") ∈ lw_all := lw_g (lw_at lw_m1 77 rfl) rfl
theorem q165 : (Jvm.Cond.fieldLink "VowelTorus$Puzzle" (115 : Nat) "VowelTorus$Puzzle" "aheadMany" "I") ∈ lw_all := lw_g (lw_at lw_m1 78 rfl) rfl
theorem q166 : (Jvm.Cond.lays "VowelTorus$Puzzle" "VowelTorus$Puzzle" "rows" "I") ∈ lw_all := lw_g (lw_at lw_m1 79 rfl) rfl
theorem q167 : (Jvm.Cond.soleField "VowelTorus$Puzzle" "rows") ∈ lw_all := lw_g (lw_at lw_m1 80 rfl) rfl
theorem q168 : (Jvm.Cond.lays "VowelTorus$Puzzle" "VowelTorus$Puzzle" "columns" "I") ∈ lw_all := lw_g (lw_at lw_m1 81 rfl) rfl
theorem q169 : (Jvm.Cond.soleField "VowelTorus$Puzzle" "columns") ∈ lw_all := lw_g (lw_at lw_m1 82 rfl) rfl
theorem q170 : (Jvm.Cond.lays "VowelTorus$Puzzle" "VowelTorus$Puzzle" "letters" "[C") ∈ lw_all := lw_g (lw_at lw_m1 83 rfl) rfl
theorem q171 : (Jvm.Cond.soleField "VowelTorus$Puzzle" "letters") ∈ lw_all := lw_g (lw_at lw_m1 84 rfl) rfl
theorem q172 : (Jvm.Cond.lays "VowelTorus$Puzzle" "VowelTorus$Puzzle" "goal" "[C") ∈ lw_all := lw_g (lw_at lw_m1 85 rfl) rfl
theorem q173 : (Jvm.Cond.soleField "VowelTorus$Puzzle" "goal") ∈ lw_all := lw_g (lw_at lw_m1 86 rfl) rfl
theorem q174 : (Jvm.Cond.lays "VowelTorus$Puzzle" "VowelTorus$Puzzle" "bars" "[Z") ∈ lw_all := lw_g (lw_at lw_m1 87 rfl) rfl
theorem q175 : (Jvm.Cond.soleField "VowelTorus$Puzzle" "bars") ∈ lw_all := lw_g (lw_at lw_m1 88 rfl) rfl
theorem q176 : (Jvm.Cond.lays "VowelTorus$Puzzle" "VowelTorus$Puzzle" "turned" "I") ∈ lw_all := lw_g (lw_at lw_m1 89 rfl) rfl
theorem q177 : (Jvm.Cond.soleField "VowelTorus$Puzzle" "turned") ∈ lw_all := lw_g (lw_at lw_m1 90 rfl) rfl
theorem q178 : (Jvm.Cond.lays "VowelTorus$Puzzle" "VowelTorus$Puzzle" "swapped" "I") ∈ lw_all := lw_g (lw_at lw_m1 91 rfl) rfl
theorem q179 : (Jvm.Cond.soleField "VowelTorus$Puzzle" "swapped") ∈ lw_all := lw_g (lw_at lw_m1 92 rfl) rfl
theorem q180 : (Jvm.Cond.lays "VowelTorus$Puzzle" "VowelTorus$Puzzle" "scrambled" "I") ∈ lw_all := lw_g (lw_at lw_m1 93 rfl) rfl
theorem q181 : (Jvm.Cond.soleField "VowelTorus$Puzzle" "scrambled") ∈ lw_all := lw_g (lw_at lw_m1 94 rfl) rfl
theorem q182 : (Jvm.Cond.lays "VowelTorus$Puzzle" "VowelTorus$Puzzle" "stepped" "I") ∈ lw_all := lw_g (lw_at lw_m1 95 rfl) rfl
theorem q183 : (Jvm.Cond.soleField "VowelTorus$Puzzle" "stepped") ∈ lw_all := lw_g (lw_at lw_m1 96 rfl) rfl
theorem q184 : (Jvm.Cond.lays "VowelTorus$Puzzle" "VowelTorus$Puzzle" "boards" "I") ∈ lw_all := lw_g (lw_at lw_m1 97 rfl) rfl
theorem q185 : (Jvm.Cond.soleField "VowelTorus$Puzzle" "boards") ∈ lw_all := lw_g (lw_at lw_m1 98 rfl) rfl
theorem q186 : (Jvm.Cond.lays "VowelTorus$Puzzle" "VowelTorus$Puzzle" "reached" "I") ∈ lw_all := lw_g (lw_at lw_m1 99 rfl) rfl
theorem q187 : (Jvm.Cond.soleField "VowelTorus$Puzzle" "reached") ∈ lw_all := lw_g (lw_at lw_m1 100 rfl) rfl
theorem q188 : (Jvm.Cond.laysFinal "VowelTorus$Puzzle" "VowelTorus$Puzzle" "ahead" "[C") ∈ lw_all := lw_g (lw_at lw_m1 101 rfl) rfl
theorem q189 : (Jvm.Cond.soleField "VowelTorus$Puzzle" "ahead") ∈ lw_all := lw_g (lw_at lw_m1 102 rfl) rfl
theorem q190 : (Jvm.Cond.laysFinal "VowelTorus$Puzzle" "VowelTorus$Puzzle" "turnsTo" "[I") ∈ lw_all := lw_g (lw_at lw_m1 103 rfl) rfl
theorem q191 : (Jvm.Cond.soleField "VowelTorus$Puzzle" "turnsTo") ∈ lw_all := lw_g (lw_at lw_m1 104 rfl) rfl
theorem q192 : (Jvm.Cond.lays "VowelTorus$Puzzle" "VowelTorus$Puzzle" "aheadMany" "I") ∈ lw_all := lw_g (lw_at lw_m1 105 rfl) rfl
theorem q193 : (Jvm.Cond.soleField "VowelTorus$Puzzle" "aheadMany") ∈ lw_all := lw_g (lw_at lw_m1 106 rfl) rfl
theorem q194 : (Jvm.Cond.superclass "VowelTorus$Puzzle" "java/lang/Object") ∈ lw_all := lw_g (lw_at lw_m1 107 rfl) rfl
theorem q397 : (Jvm.Cond.selects "VowelTorus$Puzzle" ({ cls := "java/lang/Object", name := "getClass", desc := "()Ljava/lang/Class;" } : Jvm.MethodName) ({ cls := "java/lang/Object", name := "getClass", desc := "()Ljava/lang/Class;" } : Jvm.MethodName)) ∈ lw_all := lw_g (lw_at lw_m2 70 rfl) rfl
theorem q467 : (Jvm.Cond.instanceMethod ({ cls := "VowelTorus$Puzzle", name := "isOut", desc := "()Z" } : Jvm.MethodName)) ∈ lw_all := lw_g (lw_at lw_m2 140 rfl) rfl
theorem q468 : (Jvm.Cond.selects "VowelTorus$Puzzle" ({ cls := "VowelTorus$Puzzle", name := "isOut", desc := "()Z" } : Jvm.MethodName) ({ cls := "VowelTorus$Puzzle", name := "isOut", desc := "()Z" } : Jvm.MethodName)) ∈ lw_all := lw_g (lw_at lw_m2 141 rfl) rfl
theorem q469 : (Jvm.Cond.code ({ cls := "VowelTorus$Puzzle", name := "isOut", desc := "()Z" } : Jvm.MethodName) prog_5_method_41_code (1 : Nat) (Option.some Jvm.ClassFile.FieldType.boolean)) ∈ lw_all := lw_g (lw_at lw_m2 142 rfl) rfl
theorem q470 : (Jvm.Cond.methodLink "VowelTorus$Puzzle" (157 : Nat) ({ cls := "VowelTorus$Puzzle", name := "isLacking", desc := "()Z" } : Jvm.MethodName)) ∈ lw_all := lw_g (lw_at lw_m2 143 rfl) rfl
theorem q471 : (Jvm.Cond.privateMethod ({ cls := "VowelTorus$Puzzle", name := "isLacking", desc := "()Z" } : Jvm.MethodName)) ∈ lw_tbl := lw_at lw_m2 144 rfl
theorem q472 : (Jvm.Cond.instanceMethod ({ cls := "VowelTorus$Puzzle", name := "isLacking", desc := "()Z" } : Jvm.MethodName)) ∈ lw_all := lw_g (lw_at lw_m2 145 rfl) rfl
theorem q473 : (Jvm.Cond.code ({ cls := "VowelTorus$Puzzle", name := "isLacking", desc := "()Z" } : Jvm.MethodName) prog_5_method_35_code (3 : Nat) (Option.some Jvm.ClassFile.FieldType.boolean)) ∈ lw_all := lw_g (lw_at lw_m2 146 rfl) rfl
theorem q474 : (Jvm.Cond.methodLink "VowelTorus$Puzzle" (68 : Nat) ({ cls := "VowelTorus$Puzzle", name := "places", desc := "()I" } : Jvm.MethodName)) ∈ lw_all := lw_g (lw_at lw_m2 147 rfl) rfl
theorem q475 : (Jvm.Cond.instanceMethod ({ cls := "VowelTorus$Puzzle", name := "places", desc := "()I" } : Jvm.MethodName)) ∈ lw_all := lw_g (lw_at lw_m2 148 rfl) rfl
theorem q476 : (Jvm.Cond.selects "VowelTorus$Puzzle" ({ cls := "VowelTorus$Puzzle", name := "places", desc := "()I" } : Jvm.MethodName) ({ cls := "VowelTorus$Puzzle", name := "places", desc := "()I" } : Jvm.MethodName)) ∈ lw_all := lw_g (lw_at lw_m2 149 rfl) rfl
theorem q477 : (Jvm.Cond.code ({ cls := "VowelTorus$Puzzle", name := "places", desc := "()I" } : Jvm.MethodName) prog_5_method_4_code (1 : Nat) (Option.some Jvm.ClassFile.FieldType.int)) ∈ lw_all := lw_g (lw_at lw_m2 150 rfl) rfl
theorem q478 : (Jvm.Cond.methodLink "VowelTorus$Puzzle" (143 : Nat) ({ cls := "VowelTorus$Puzzle", name := "count", desc := "([CIC)I" } : Jvm.MethodName)) ∈ lw_all := lw_g (lw_at lw_m2 151 rfl) rfl
theorem q479 : (Jvm.Cond.static ({ cls := "VowelTorus$Puzzle", name := "count", desc := "([CIC)I" } : Jvm.MethodName)) ∈ lw_all := lw_g (lw_at lw_m2 152 rfl) rfl
theorem q480 : (Jvm.Cond.code ({ cls := "VowelTorus$Puzzle", name := "count", desc := "([CIC)I" } : Jvm.MethodName) prog_5_method_32_code (5 : Nat) (Option.some Jvm.ClassFile.FieldType.int)) ∈ lw_all := lw_g (lw_at lw_m2 153 rfl) rfl
theorem q481 : (Jvm.Cond.methodLink "VowelTorus$Puzzle" (163 : Nat) ({ cls := "VowelTorus$Puzzle", name := "hasParity", desc := "(I)Z" } : Jvm.MethodName)) ∈ lw_all := lw_g (lw_at lw_m2 154 rfl) rfl
theorem q482 : (Jvm.Cond.instanceMethod ({ cls := "VowelTorus$Puzzle", name := "hasParity", desc := "(I)Z" } : Jvm.MethodName)) ∈ lw_all := lw_g (lw_at lw_m2 155 rfl) rfl
theorem q483 : (Jvm.Cond.selects "VowelTorus$Puzzle" ({ cls := "VowelTorus$Puzzle", name := "hasParity", desc := "(I)Z" } : Jvm.MethodName) ({ cls := "VowelTorus$Puzzle", name := "hasParity", desc := "(I)Z" } : Jvm.MethodName)) ∈ lw_all := lw_g (lw_at lw_m2 156 rfl) rfl
theorem q484 : (Jvm.Cond.code ({ cls := "VowelTorus$Puzzle", name := "hasParity", desc := "(I)Z" } : Jvm.MethodName) prog_5_method_38_code (2 : Nat) (Option.some Jvm.ClassFile.FieldType.boolean)) ∈ lw_all := lw_g (lw_at lw_m2 157 rfl) rfl
theorem q485 : (Jvm.Cond.methodLink "VowelTorus$Puzzle" (151 : Nat) ({ cls := "VowelTorus$Puzzle", name := "unlike", desc := "()I" } : Jvm.MethodName)) ∈ lw_all := lw_g (lw_at lw_m2 158 rfl) rfl
theorem q486 : (Jvm.Cond.instanceMethod ({ cls := "VowelTorus$Puzzle", name := "unlike", desc := "()I" } : Jvm.MethodName)) ∈ lw_all := lw_g (lw_at lw_m2 159 rfl) rfl
theorem q487 : (Jvm.Cond.selects "VowelTorus$Puzzle" ({ cls := "VowelTorus$Puzzle", name := "unlike", desc := "()I" } : Jvm.MethodName) ({ cls := "VowelTorus$Puzzle", name := "unlike", desc := "()I" } : Jvm.MethodName)) ∈ lw_all := lw_g (lw_at lw_m2 160 rfl) rfl
theorem q488 : (Jvm.Cond.code ({ cls := "VowelTorus$Puzzle", name := "unlike", desc := "()I" } : Jvm.MethodName) prog_5_method_33_code (3 : Nat) (Option.some Jvm.ClassFile.FieldType.int)) ∈ lw_all := lw_g (lw_at lw_m2 161 rfl) rfl
theorem q489 : (Jvm.Cond.methodLink "VowelTorus$Puzzle" (154 : Nat) ({ cls := "VowelTorus$Puzzle", name := "anyMany", desc := "()I" } : Jvm.MethodName)) ∈ lw_all := lw_g (lw_at lw_m2 162 rfl) rfl
theorem q490 : (Jvm.Cond.instanceMethod ({ cls := "VowelTorus$Puzzle", name := "anyMany", desc := "()I" } : Jvm.MethodName)) ∈ lw_all := lw_g (lw_at lw_m2 163 rfl) rfl
theorem q491 : (Jvm.Cond.selects "VowelTorus$Puzzle" ({ cls := "VowelTorus$Puzzle", name := "anyMany", desc := "()I" } : Jvm.MethodName) ({ cls := "VowelTorus$Puzzle", name := "anyMany", desc := "()I" } : Jvm.MethodName)) ∈ lw_all := lw_g (lw_at lw_m2 164 rfl) rfl
theorem q492 : (Jvm.Cond.code ({ cls := "VowelTorus$Puzzle", name := "anyMany", desc := "()I" } : Jvm.MethodName) prog_5_method_34_code (1 : Nat) (Option.some Jvm.ClassFile.FieldType.int)) ∈ lw_all := lw_g (lw_at lw_m2 165 rfl) rfl
theorem q493 : (Jvm.Cond.methodLink "VowelTorus$Puzzle" (166 : Nat) ({ cls := "VowelTorus$Puzzle", name := "isOdd", desc := "()Z" } : Jvm.MethodName)) ∈ lw_all := lw_g (lw_at lw_m2 166 rfl) rfl
theorem q494 : (Jvm.Cond.instanceMethod ({ cls := "VowelTorus$Puzzle", name := "isOdd", desc := "()Z" } : Jvm.MethodName)) ∈ lw_all := lw_g (lw_at lw_m2 167 rfl) rfl
theorem q495 : (Jvm.Cond.selects "VowelTorus$Puzzle" ({ cls := "VowelTorus$Puzzle", name := "isOdd", desc := "()Z" } : Jvm.MethodName) ({ cls := "VowelTorus$Puzzle", name := "isOdd", desc := "()Z" } : Jvm.MethodName)) ∈ lw_all := lw_g (lw_at lw_m2 168 rfl) rfl
theorem q496 : (Jvm.Cond.code ({ cls := "VowelTorus$Puzzle", name := "isOdd", desc := "()Z" } : Jvm.MethodName) prog_5_method_39_code (6 : Nat) (Option.some Jvm.ClassFile.FieldType.boolean)) ∈ lw_all := lw_g (lw_at lw_m2 169 rfl) rfl
theorem q497 : (Jvm.Cond.methodLink "VowelTorus$Puzzle" (160 : Nat) ({ cls := "VowelTorus$Puzzle", name := "homeOf", desc := "(I)I" } : Jvm.MethodName)) ∈ lw_all := lw_g (lw_at lw_m2 170 rfl) rfl
theorem q498 : (Jvm.Cond.privateMethod ({ cls := "VowelTorus$Puzzle", name := "homeOf", desc := "(I)I" } : Jvm.MethodName)) ∈ lw_tbl := lw_at lw_m2 171 rfl
theorem q499 : (Jvm.Cond.instanceMethod ({ cls := "VowelTorus$Puzzle", name := "homeOf", desc := "(I)I" } : Jvm.MethodName)) ∈ lw_all := lw_g (lw_at lw_m2 172 rfl) rfl
theorem q500 : (Jvm.Cond.code ({ cls := "VowelTorus$Puzzle", name := "homeOf", desc := "(I)I" } : Jvm.MethodName) prog_5_method_37_code (3 : Nat) (Option.some Jvm.ClassFile.FieldType.int)) ∈ lw_all := lw_g (lw_at lw_m2 173 rfl) rfl
theorem q501 : (Jvm.Cond.methodLink "VowelTorus$Puzzle" (147 : Nat) ({ cls := "VowelTorus$Puzzle", name := "placeOf", desc := "([CC)I" } : Jvm.MethodName)) ∈ lw_all := lw_g (lw_at lw_m2 174 rfl) rfl
theorem q502 : (Jvm.Cond.privateMethod ({ cls := "VowelTorus$Puzzle", name := "placeOf", desc := "([CC)I" } : Jvm.MethodName)) ∈ lw_tbl := lw_at lw_m2 175 rfl
theorem q503 : (Jvm.Cond.instanceMethod ({ cls := "VowelTorus$Puzzle", name := "placeOf", desc := "([CC)I" } : Jvm.MethodName)) ∈ lw_all := lw_g (lw_at lw_m2 176 rfl) rfl
theorem q504 : (Jvm.Cond.code ({ cls := "VowelTorus$Puzzle", name := "placeOf", desc := "([CC)I" } : Jvm.MethodName) prog_5_method_36_code (4 : Nat) (Option.some Jvm.ClassFile.FieldType.int)) ∈ lw_all := lw_g (lw_at lw_m2 177 rfl) rfl
theorem q510 : (Jvm.Cond.instanceMethod ({ cls := "VowelTorus$Puzzle", name := "home", desc := "()I" } : Jvm.MethodName)) ∈ lw_all := lw_g (lw_at lw_m2 183 rfl) rfl
theorem q511 : (Jvm.Cond.selects "VowelTorus$Puzzle" ({ cls := "VowelTorus$Puzzle", name := "home", desc := "()I" } : Jvm.MethodName) ({ cls := "VowelTorus$Puzzle", name := "home", desc := "()I" } : Jvm.MethodName)) ∈ lw_all := lw_g (lw_at lw_m2 184 rfl) rfl
theorem q512 : (Jvm.Cond.code ({ cls := "VowelTorus$Puzzle", name := "home", desc := "()I" } : Jvm.MethodName) prog_5_method_20_code (3 : Nat) (Option.some Jvm.ClassFile.FieldType.int)) ∈ lw_all := lw_g (lw_at lw_m2 185 rfl) rfl
theorem q513 : (Jvm.Cond.methodLink "VowelTorus$Puzzle" (96 : Nat) ({ cls := "VowelTorus$Puzzle", name := "isHome", desc := "(I)Z" } : Jvm.MethodName)) ∈ lw_all := lw_g (lw_at lw_m2 186 rfl) rfl
theorem q514 : (Jvm.Cond.instanceMethod ({ cls := "VowelTorus$Puzzle", name := "isHome", desc := "(I)Z" } : Jvm.MethodName)) ∈ lw_all := lw_g (lw_at lw_m2 187 rfl) rfl
theorem q515 : (Jvm.Cond.selects "VowelTorus$Puzzle" ({ cls := "VowelTorus$Puzzle", name := "isHome", desc := "(I)Z" } : Jvm.MethodName) ({ cls := "VowelTorus$Puzzle", name := "isHome", desc := "(I)Z" } : Jvm.MethodName)) ∈ lw_all := lw_g (lw_at lw_m2 188 rfl) rfl
theorem q516 : (Jvm.Cond.code ({ cls := "VowelTorus$Puzzle", name := "isHome", desc := "(I)Z" } : Jvm.MethodName) prog_5_method_19_code (2 : Nat) (Option.some Jvm.ClassFile.FieldType.boolean)) ∈ lw_all := lw_g (lw_at lw_m2 189 rfl) rfl
theorem q517 : (Jvm.Cond.methodLink "VowelTorus$Puzzle" (92 : Nat) ({ cls := "VowelTorus$Puzzle", name := "fits", desc := "(CC)Z" } : Jvm.MethodName)) ∈ lw_all := lw_g (lw_at lw_m2 190 rfl) rfl
theorem q518 : (Jvm.Cond.static ({ cls := "VowelTorus$Puzzle", name := "fits", desc := "(CC)Z" } : Jvm.MethodName)) ∈ lw_all := lw_g (lw_at lw_m2 191 rfl) rfl
theorem q519 : (Jvm.Cond.code ({ cls := "VowelTorus$Puzzle", name := "fits", desc := "(CC)Z" } : Jvm.MethodName) prog_5_method_18_code (2 : Nat) (Option.some Jvm.ClassFile.FieldType.boolean)) ∈ lw_all := lw_g (lw_at lw_m2 192 rfl) rfl
theorem q541 : (Jvm.Cond.instanceMethod ({ cls := "VowelTorus$Puzzle", name := "lines", desc := "()I" } : Jvm.MethodName)) ∈ lw_all := lw_g (lw_at lw_m2 214 rfl) rfl
theorem q542 : (Jvm.Cond.selects "VowelTorus$Puzzle" ({ cls := "VowelTorus$Puzzle", name := "lines", desc := "()I" } : Jvm.MethodName) ({ cls := "VowelTorus$Puzzle", name := "lines", desc := "()I" } : Jvm.MethodName)) ∈ lw_all := lw_g (lw_at lw_m2 215 rfl) rfl
theorem q543 : (Jvm.Cond.code ({ cls := "VowelTorus$Puzzle", name := "lines", desc := "()I" } : Jvm.MethodName) prog_5_method_5_code (1 : Nat) (Option.some Jvm.ClassFile.FieldType.int)) ∈ lw_all := lw_g (lw_at lw_m2 216 rfl) rfl
theorem q577 : (Jvm.Cond.instanceMethod ({ cls := "VowelTorus$Puzzle", name := "sings", desc := "(I)Z" } : Jvm.MethodName)) ∈ lw_all := lw_g (lw_at lw_m3 10 rfl) rfl
theorem q578 : (Jvm.Cond.selects "VowelTorus$Puzzle" ({ cls := "VowelTorus$Puzzle", name := "sings", desc := "(I)Z" } : Jvm.MethodName) ({ cls := "VowelTorus$Puzzle", name := "sings", desc := "(I)Z" } : Jvm.MethodName)) ∈ lw_all := lw_g (lw_at lw_m3 11 rfl) rfl
theorem q579 : (Jvm.Cond.code ({ cls := "VowelTorus$Puzzle", name := "sings", desc := "(I)Z" } : Jvm.MethodName) prog_5_method_55_code (5 : Nat) (Option.some Jvm.ClassFile.FieldType.boolean)) ∈ lw_all := lw_g (lw_at lw_m3 12 rfl) rfl
theorem q580 : (Jvm.Cond.methodLink "VowelTorus$Puzzle" (85 : Nat) ({ cls := "VowelTorus$Puzzle", name := "sizeOf", desc := "(I)I" } : Jvm.MethodName)) ∈ lw_all := lw_g (lw_at lw_m3 13 rfl) rfl
theorem q581 : (Jvm.Cond.instanceMethod ({ cls := "VowelTorus$Puzzle", name := "sizeOf", desc := "(I)I" } : Jvm.MethodName)) ∈ lw_all := lw_g (lw_at lw_m3 14 rfl) rfl
theorem q582 : (Jvm.Cond.selects "VowelTorus$Puzzle" ({ cls := "VowelTorus$Puzzle", name := "sizeOf", desc := "(I)I" } : Jvm.MethodName) ({ cls := "VowelTorus$Puzzle", name := "sizeOf", desc := "(I)I" } : Jvm.MethodName)) ∈ lw_all := lw_g (lw_at lw_m3 15 rfl) rfl
theorem q583 : (Jvm.Cond.code ({ cls := "VowelTorus$Puzzle", name := "sizeOf", desc := "(I)I" } : Jvm.MethodName) prog_5_method_10_code (2 : Nat) (Option.some Jvm.ClassFile.FieldType.int)) ∈ lw_all := lw_g (lw_at lw_m3 16 rfl) rfl
theorem q584 : (Jvm.Cond.methodLink "VowelTorus$Puzzle" (200 : Nat) ({ cls := "VowelTorus$Puzzle", name := "vowelsOn", desc := "(I)I" } : Jvm.MethodName)) ∈ lw_all := lw_g (lw_at lw_m3 17 rfl) rfl
theorem q585 : (Jvm.Cond.instanceMethod ({ cls := "VowelTorus$Puzzle", name := "vowelsOn", desc := "(I)I" } : Jvm.MethodName)) ∈ lw_all := lw_g (lw_at lw_m3 18 rfl) rfl
theorem q586 : (Jvm.Cond.selects "VowelTorus$Puzzle" ({ cls := "VowelTorus$Puzzle", name := "vowelsOn", desc := "(I)I" } : Jvm.MethodName) ({ cls := "VowelTorus$Puzzle", name := "vowelsOn", desc := "(I)I" } : Jvm.MethodName)) ∈ lw_all := lw_g (lw_at lw_m3 19 rfl) rfl
theorem q587 : (Jvm.Cond.code ({ cls := "VowelTorus$Puzzle", name := "vowelsOn", desc := "(I)I" } : Jvm.MethodName) prog_5_method_54_code (4 : Nat) (Option.some Jvm.ClassFile.FieldType.int)) ∈ lw_all := lw_g (lw_at lw_m3 20 rfl) rfl
theorem q588 : (Jvm.Cond.methodLink "VowelTorus$Puzzle" (88 : Nat) ({ cls := "VowelTorus$Puzzle", name := "placeOn", desc := "(II)I" } : Jvm.MethodName)) ∈ lw_all := lw_g (lw_at lw_m3 21 rfl) rfl
theorem q589 : (Jvm.Cond.instanceMethod ({ cls := "VowelTorus$Puzzle", name := "placeOn", desc := "(II)I" } : Jvm.MethodName)) ∈ lw_all := lw_g (lw_at lw_m3 22 rfl) rfl
theorem q590 : (Jvm.Cond.selects "VowelTorus$Puzzle" ({ cls := "VowelTorus$Puzzle", name := "placeOn", desc := "(II)I" } : Jvm.MethodName) ({ cls := "VowelTorus$Puzzle", name := "placeOn", desc := "(II)I" } : Jvm.MethodName)) ∈ lw_all := lw_g (lw_at lw_m3 23 rfl) rfl
theorem q591 : (Jvm.Cond.code ({ cls := "VowelTorus$Puzzle", name := "placeOn", desc := "(II)I" } : Jvm.MethodName) prog_5_method_11_code (3 : Nat) (Option.some Jvm.ClassFile.FieldType.int)) ∈ lw_all := lw_g (lw_at lw_m3 24 rfl) rfl
theorem q592 : (Jvm.Cond.methodLinkNest "VowelTorus$Puzzle" (196 : Nat) ({ cls := "VowelTorus", name := "isVowel", desc := "(C)Z" } : Jvm.MethodName) "VowelTorus") ∈ lw_tbl := lw_at lw_m3 25 rfl
theorem q967 : (Jvm.Cond.instanceMethod ({ cls := "VowelTorus$Puzzle", name := "writes", desc := "(Ljava/lang/StringBuilder;[C)V" } : Jvm.MethodName)) ∈ lw_all := lw_g (lw_at lw_m4 160 rfl) rfl
theorem q968 : (Jvm.Cond.selects "VowelTorus$Puzzle" ({ cls := "VowelTorus$Puzzle", name := "writes", desc := "(Ljava/lang/StringBuilder;[C)V" } : Jvm.MethodName) ({ cls := "VowelTorus$Puzzle", name := "writes", desc := "(Ljava/lang/StringBuilder;[C)V" } : Jvm.MethodName)) ∈ lw_all := lw_g (lw_at lw_m4 161 rfl) rfl
theorem q969 : (Jvm.Cond.code ({ cls := "VowelTorus$Puzzle", name := "writes", desc := "(Ljava/lang/StringBuilder;[C)V" } : Jvm.MethodName) prog_5_method_63_code (4 : Nat) (Option.none : Option Jvm.ClassFile.FieldType)) ∈ lw_all := lw_g (lw_at lw_m4 162 rfl) rfl
theorem q970 : (Jvm.Cond.methodLink "VowelTorus$Puzzle" (224 : Nat) ({ cls := "java/lang/StringBuilder", name := "append", desc := "(C)Ljava/lang/StringBuilder;" } : Jvm.MethodName)) ∈ lw_all := lw_g (lw_at lw_m4 163 rfl) rfl
theorem q1006 : (Jvm.Cond.instanceMethod ({ cls := "VowelTorus$Puzzle", name := "isWell", desc := "()Z" } : Jvm.MethodName)) ∈ lw_all := lw_g (lw_at lw_m4 199 rfl) rfl
theorem q1007 : (Jvm.Cond.selects "VowelTorus$Puzzle" ({ cls := "VowelTorus$Puzzle", name := "isWell", desc := "()Z" } : Jvm.MethodName) ({ cls := "VowelTorus$Puzzle", name := "isWell", desc := "()Z" } : Jvm.MethodName)) ∈ lw_all := lw_g (lw_at lw_m4 200 rfl) rfl
theorem q1008 : (Jvm.Cond.code ({ cls := "VowelTorus$Puzzle", name := "isWell", desc := "()Z" } : Jvm.MethodName) prog_5_method_62_code (3 : Nat) (Option.some Jvm.ClassFile.FieldType.boolean)) ∈ lw_all := lw_g (lw_at lw_m4 201 rfl) rfl
theorem q1009 : (Jvm.Cond.methodLink "VowelTorus$Puzzle" (179 : Nat) ({ cls := "VowelTorus$Puzzle", name := "away", desc := "()I" } : Jvm.MethodName)) ∈ lw_all := lw_g (lw_at lw_m4 202 rfl) rfl
theorem q1010 : (Jvm.Cond.instanceMethod ({ cls := "VowelTorus$Puzzle", name := "away", desc := "()I" } : Jvm.MethodName)) ∈ lw_all := lw_g (lw_at lw_m4 203 rfl) rfl
theorem q1011 : (Jvm.Cond.selects "VowelTorus$Puzzle" ({ cls := "VowelTorus$Puzzle", name := "away", desc := "()I" } : Jvm.MethodName) ({ cls := "VowelTorus$Puzzle", name := "away", desc := "()I" } : Jvm.MethodName)) ∈ lw_all := lw_g (lw_at lw_m4 204 rfl) rfl
theorem q1012 : (Jvm.Cond.code ({ cls := "VowelTorus$Puzzle", name := "away", desc := "()I" } : Jvm.MethodName) prog_5_method_28_code (3 : Nat) (Option.some Jvm.ClassFile.FieldType.int)) ∈ lw_all := lw_g (lw_at lw_m4 205 rfl) rfl
theorem q1013 : (Jvm.Cond.methodLink "VowelTorus$Puzzle" (122 : Nat) ({ cls := "VowelTorus$Puzzle", name := "goesAhead", desc := "(II)V" } : Jvm.MethodName)) ∈ lw_all := lw_g (lw_at lw_m4 206 rfl) rfl
theorem q1014 : (Jvm.Cond.privateMethod ({ cls := "VowelTorus$Puzzle", name := "goesAhead", desc := "(II)V" } : Jvm.MethodName)) ∈ lw_tbl := lw_at lw_m4 207 rfl
theorem q1015 : (Jvm.Cond.instanceMethod ({ cls := "VowelTorus$Puzzle", name := "goesAhead", desc := "(II)V" } : Jvm.MethodName)) ∈ lw_all := lw_g (lw_at lw_m4 208 rfl) rfl
theorem q1016 : (Jvm.Cond.code ({ cls := "VowelTorus$Puzzle", name := "goesAhead", desc := "(II)V" } : Jvm.MethodName) prog_5_method_25_code (4 : Nat) (Option.none : Option Jvm.ClassFile.FieldType)) ∈ lw_all := lw_g (lw_at lw_m4 209 rfl) rfl
theorem q1017 : (Jvm.Cond.methodLink "VowelTorus$Puzzle" (118 : Nat) ({ cls := "VowelTorus$Puzzle", name := "addsAhead", desc := "(I)V" } : Jvm.MethodName)) ∈ lw_all := lw_g (lw_at lw_m4 210 rfl) rfl
theorem q1018 : (Jvm.Cond.privateMethod ({ cls := "VowelTorus$Puzzle", name := "addsAhead", desc := "(I)V" } : Jvm.MethodName)) ∈ lw_tbl := lw_at lw_m4 211 rfl
theorem q1019 : (Jvm.Cond.instanceMethod ({ cls := "VowelTorus$Puzzle", name := "addsAhead", desc := "(I)V" } : Jvm.MethodName)) ∈ lw_all := lw_g (lw_at lw_m4 212 rfl) rfl
theorem q1020 : (Jvm.Cond.code ({ cls := "VowelTorus$Puzzle", name := "addsAhead", desc := "(I)V" } : Jvm.MethodName) prog_5_method_24_code (2 : Nat) (Option.none : Option Jvm.ClassFile.FieldType)) ∈ lw_all := lw_g (lw_at lw_m4 213 rfl) rfl
theorem q1021 : (Jvm.Cond.methodLink "VowelTorus$Puzzle" (40 : Nat) ({ cls := "java/lang/System", name := "arraycopy", desc := "(Ljava/lang/Object;ILjava/lang/Object;II)V" } : Jvm.MethodName)) ∈ lw_all := lw_g (lw_at lw_m4 214 rfl) rfl
theorem q1022 : (Jvm.Cond.methodLink "VowelTorus$Puzzle" (75 : Nat) ({ cls := "VowelTorus$Puzzle", name := "turns", desc := "()I" } : Jvm.MethodName)) ∈ lw_all := lw_g (lw_at lw_m4 215 rfl) rfl
theorem q1023 : (Jvm.Cond.instanceMethod ({ cls := "VowelTorus$Puzzle", name := "turns", desc := "()I" } : Jvm.MethodName)) ∈ lw_all := lw_g (lw_at lw_m4 216 rfl) rfl
theorem q1024 : (Jvm.Cond.selects "VowelTorus$Puzzle" ({ cls := "VowelTorus$Puzzle", name := "turns", desc := "()I" } : Jvm.MethodName) ({ cls := "VowelTorus$Puzzle", name := "turns", desc := "()I" } : Jvm.MethodName)) ∈ lw_all := lw_g (lw_at lw_m4 217 rfl) rfl
theorem q1025 : (Jvm.Cond.code ({ cls := "VowelTorus$Puzzle", name := "turns", desc := "()I" } : Jvm.MethodName) prog_5_method_6_code (1 : Nat) (Option.some Jvm.ClassFile.FieldType.int)) ∈ lw_all := lw_g (lw_at lw_m4 218 rfl) rfl
theorem q1026 : (Jvm.Cond.methodLink "VowelTorus$Puzzle" (64 : Nat) ({ cls := "VowelTorus$Puzzle", name := "lines", desc := "()I" } : Jvm.MethodName)) ∈ lw_all := lw_g (lw_at lw_m4 219 rfl) rfl
theorem q1027 : (Jvm.Cond.methodLink "VowelTorus$Puzzle" (109 : Nat) ({ cls := "VowelTorus$Puzzle", name := "can", desc := "(I)Z" } : Jvm.MethodName)) ∈ lw_all := lw_g (lw_at lw_m4 220 rfl) rfl
theorem q1028 : (Jvm.Cond.instanceMethod ({ cls := "VowelTorus$Puzzle", name := "can", desc := "(I)Z" } : Jvm.MethodName)) ∈ lw_all := lw_g (lw_at lw_m4 221 rfl) rfl
theorem q1029 : (Jvm.Cond.selects "VowelTorus$Puzzle" ({ cls := "VowelTorus$Puzzle", name := "can", desc := "(I)Z" } : Jvm.MethodName) ({ cls := "VowelTorus$Puzzle", name := "can", desc := "(I)Z" } : Jvm.MethodName)) ∈ lw_all := lw_g (lw_at lw_m4 222 rfl) rfl
theorem q1030 : (Jvm.Cond.code ({ cls := "VowelTorus$Puzzle", name := "can", desc := "(I)Z" } : Jvm.MethodName) prog_5_method_17_code (2 : Nat) (Option.some Jvm.ClassFile.FieldType.boolean)) ∈ lw_all := lw_g (lw_at lw_m4 223 rfl) rfl
theorem q1031 : (Jvm.Cond.methodLink "VowelTorus$Puzzle" (103 : Nat) ({ cls := "VowelTorus$Puzzle", name := "turns", desc := "([CI)V" } : Jvm.MethodName)) ∈ lw_all := lw_g (lw_at lw_m4 224 rfl) rfl
theorem q1032 : (Jvm.Cond.instanceMethod ({ cls := "VowelTorus$Puzzle", name := "turns", desc := "([CI)V" } : Jvm.MethodName)) ∈ lw_all := lw_g (lw_at lw_m4 225 rfl) rfl
theorem q1033 : (Jvm.Cond.selects "VowelTorus$Puzzle" ({ cls := "VowelTorus$Puzzle", name := "turns", desc := "([CI)V" } : Jvm.MethodName) ({ cls := "VowelTorus$Puzzle", name := "turns", desc := "([CI)V" } : Jvm.MethodName)) ∈ lw_all := lw_g (lw_at lw_m4 226 rfl) rfl
theorem q1034 : (Jvm.Cond.code ({ cls := "VowelTorus$Puzzle", name := "turns", desc := "([CI)V" } : Jvm.MethodName) prog_5_method_15_code (10 : Nat) (Option.none : Option Jvm.ClassFile.FieldType)) ∈ lw_all := lw_g (lw_at lw_m4 227 rfl) rfl
theorem q1035 : (Jvm.Cond.methodLink "VowelTorus$Puzzle" (106 : Nat) ({ cls := "VowelTorus$Puzzle", name := "back", desc := "(I)I" } : Jvm.MethodName)) ∈ lw_all := lw_g (lw_at lw_m4 228 rfl) rfl
theorem q1036 : (Jvm.Cond.static ({ cls := "VowelTorus$Puzzle", name := "back", desc := "(I)I" } : Jvm.MethodName)) ∈ lw_all := lw_g (lw_at lw_m4 229 rfl) rfl
theorem q1037 : (Jvm.Cond.code ({ cls := "VowelTorus$Puzzle", name := "back", desc := "(I)I" } : Jvm.MethodName) prog_5_method_16_code (1 : Nat) (Option.some Jvm.ClassFile.FieldType.int)) ∈ lw_all := lw_g (lw_at lw_m4 230 rfl) rfl
theorem q1038 : (Jvm.Cond.methodLink "VowelTorus$Puzzle" (128 : Nat) ({ cls := "VowelTorus$Puzzle", name := "met", desc := "()I" } : Jvm.MethodName)) ∈ lw_all := lw_g (lw_at lw_m4 231 rfl) rfl
theorem q1039 : (Jvm.Cond.privateMethod ({ cls := "VowelTorus$Puzzle", name := "met", desc := "()I" } : Jvm.MethodName)) ∈ lw_tbl := lw_at lw_m4 232 rfl
theorem q1040 : (Jvm.Cond.instanceMethod ({ cls := "VowelTorus$Puzzle", name := "met", desc := "()I" } : Jvm.MethodName)) ∈ lw_all := lw_g (lw_at lw_m4 233 rfl) rfl
theorem q1041 : (Jvm.Cond.code ({ cls := "VowelTorus$Puzzle", name := "met", desc := "()I" } : Jvm.MethodName) prog_5_method_27_code (3 : Nat) (Option.some Jvm.ClassFile.FieldType.int)) ∈ lw_all := lw_g (lw_at lw_m4 234 rfl) rfl
theorem q1042 : (Jvm.Cond.methodLink "VowelTorus$Puzzle" (125 : Nat) ({ cls := "VowelTorus$Puzzle", name := "meets", desc := "(I)Z" } : Jvm.MethodName)) ∈ lw_all := lw_g (lw_at lw_m4 235 rfl) rfl
theorem q1043 : (Jvm.Cond.privateMethod ({ cls := "VowelTorus$Puzzle", name := "meets", desc := "(I)Z" } : Jvm.MethodName)) ∈ lw_tbl := lw_at lw_m4 236 rfl
theorem q1044 : (Jvm.Cond.instanceMethod ({ cls := "VowelTorus$Puzzle", name := "meets", desc := "(I)Z" } : Jvm.MethodName)) ∈ lw_all := lw_g (lw_at lw_m4 237 rfl) rfl
theorem q1045 : (Jvm.Cond.code ({ cls := "VowelTorus$Puzzle", name := "meets", desc := "(I)Z" } : Jvm.MethodName) prog_5_method_26_code (3 : Nat) (Option.some Jvm.ClassFile.FieldType.boolean)) ∈ lw_all := lw_g (lw_at lw_m4 238 rfl) rfl
theorem q1046 : (Jvm.Cond.methodLink "VowelTorus$Puzzle" (131 : Nat) ({ cls := "java/lang/Math", name := "min", desc := "(II)I" } : Jvm.MethodName)) ∈ lw_all := lw_g (lw_at lw_m4 239 rfl) rfl
theorem q1047 : (Jvm.Cond.methodLink "VowelTorus$Puzzle" (215 : Nat) ({ cls := "VowelTorus$Puzzle", name := "awayAgain", desc := "()I" } : Jvm.MethodName)) ∈ lw_all := lw_g (lw_at lw_m5 0 rfl) rfl
theorem q1048 : (Jvm.Cond.instanceMethod ({ cls := "VowelTorus$Puzzle", name := "awayAgain", desc := "()I" } : Jvm.MethodName)) ∈ lw_all := lw_g (lw_at lw_m5 1 rfl) rfl
theorem q1049 : (Jvm.Cond.selects "VowelTorus$Puzzle" ({ cls := "VowelTorus$Puzzle", name := "awayAgain", desc := "()I" } : Jvm.MethodName) ({ cls := "VowelTorus$Puzzle", name := "awayAgain", desc := "()I" } : Jvm.MethodName)) ∈ lw_all := lw_g (lw_at lw_m5 2 rfl) rfl
theorem q1050 : (Jvm.Cond.code ({ cls := "VowelTorus$Puzzle", name := "awayAgain", desc := "()I" } : Jvm.MethodName) prog_5_method_30_code (2 : Nat) (Option.some Jvm.ClassFile.FieldType.int)) ∈ lw_all := lw_g (lw_at lw_m5 3 rfl) rfl
theorem q1051 : (Jvm.Cond.methodLink "VowelTorus$Puzzle" (140 : Nat) ({ cls := "VowelTorus$Puzzle", name := "isIn", desc := "(I)Z" } : Jvm.MethodName)) ∈ lw_all := lw_g (lw_at lw_m5 4 rfl) rfl
theorem q1052 : (Jvm.Cond.privateMethod ({ cls := "VowelTorus$Puzzle", name := "isIn", desc := "(I)Z" } : Jvm.MethodName)) ∈ lw_tbl := lw_at lw_m5 5 rfl
theorem q1053 : (Jvm.Cond.instanceMethod ({ cls := "VowelTorus$Puzzle", name := "isIn", desc := "(I)Z" } : Jvm.MethodName)) ∈ lw_all := lw_g (lw_at lw_m5 6 rfl) rfl
theorem q1054 : (Jvm.Cond.code ({ cls := "VowelTorus$Puzzle", name := "isIn", desc := "(I)Z" } : Jvm.MethodName) prog_5_method_29_code (4 : Nat) (Option.some Jvm.ClassFile.FieldType.boolean)) ∈ lw_all := lw_g (lw_at lw_m5 7 rfl) rfl
theorem q1055 : (Jvm.Cond.methodLink "VowelTorus$Puzzle" (136 : Nat) ({ cls := "VowelTorus$Puzzle", name := "isReached", desc := "()Z" } : Jvm.MethodName)) ∈ lw_all := lw_g (lw_at lw_m5 8 rfl) rfl
theorem q1056 : (Jvm.Cond.instanceMethod ({ cls := "VowelTorus$Puzzle", name := "isReached", desc := "()Z" } : Jvm.MethodName)) ∈ lw_all := lw_g (lw_at lw_m5 9 rfl) rfl
theorem q1057 : (Jvm.Cond.selects "VowelTorus$Puzzle" ({ cls := "VowelTorus$Puzzle", name := "isReached", desc := "()Z" } : Jvm.MethodName) ({ cls := "VowelTorus$Puzzle", name := "isReached", desc := "()Z" } : Jvm.MethodName)) ∈ lw_all := lw_g (lw_at lw_m5 10 rfl) rfl
theorem q1058 : (Jvm.Cond.code ({ cls := "VowelTorus$Puzzle", name := "isReached", desc := "()Z" } : Jvm.MethodName) prog_5_method_21_code (1 : Nat) (Option.some Jvm.ClassFile.FieldType.boolean)) ∈ lw_all := lw_g (lw_at lw_m5 11 rfl) rfl
theorem q1059 : (Jvm.Cond.methodLink "VowelTorus$Puzzle" (100 : Nat) ({ cls := "VowelTorus$Puzzle", name := "home", desc := "()I" } : Jvm.MethodName)) ∈ lw_all := lw_g (lw_at lw_m5 12 rfl) rfl
theorem q1060 : (Jvm.Cond.methodLink "VowelTorus$Puzzle" (176 : Nat) ({ cls := "VowelTorus$Puzzle", name := "isOut", desc := "()Z" } : Jvm.MethodName)) ∈ lw_all := lw_g (lw_at lw_m5 13 rfl) rfl
theorem q1061 : (Jvm.Cond.methodLink "VowelTorus$Puzzle" (218 : Nat) ({ cls := "VowelTorus$Puzzle", name := "areTurnsRight", desc := "()Z" } : Jvm.MethodName)) ∈ lw_all := lw_g (lw_at lw_m5 14 rfl) rfl
theorem q1062 : (Jvm.Cond.instanceMethod ({ cls := "VowelTorus$Puzzle", name := "areTurnsRight", desc := "()Z" } : Jvm.MethodName)) ∈ lw_all := lw_g (lw_at lw_m5 15 rfl) rfl
theorem q1063 : (Jvm.Cond.selects "VowelTorus$Puzzle" ({ cls := "VowelTorus$Puzzle", name := "areTurnsRight", desc := "()Z" } : Jvm.MethodName) ({ cls := "VowelTorus$Puzzle", name := "areTurnsRight", desc := "()Z" } : Jvm.MethodName)) ∈ lw_all := lw_g (lw_at lw_m5 16 rfl) rfl
theorem q1064 : (Jvm.Cond.code ({ cls := "VowelTorus$Puzzle", name := "areTurnsRight", desc := "()Z" } : Jvm.MethodName) prog_5_method_61_code (3 : Nat) (Option.some Jvm.ClassFile.FieldType.boolean)) ∈ lw_all := lw_g (lw_at lw_m5 17 rfl) rfl
theorem q1065 : (Jvm.Cond.methodLink "VowelTorus$Puzzle" (212 : Nat) ({ cls := "VowelTorus$Puzzle", name := "isTurnedBack", desc := "(I)Z" } : Jvm.MethodName)) ∈ lw_all := lw_g (lw_at lw_m5 18 rfl) rfl
theorem q1066 : (Jvm.Cond.privateMethod ({ cls := "VowelTorus$Puzzle", name := "isTurnedBack", desc := "(I)Z" } : Jvm.MethodName)) ∈ lw_tbl := lw_at lw_m5 19 rfl
theorem q1067 : (Jvm.Cond.instanceMethod ({ cls := "VowelTorus$Puzzle", name := "isTurnedBack", desc := "(I)Z" } : Jvm.MethodName)) ∈ lw_all := lw_g (lw_at lw_m5 20 rfl) rfl
theorem q1068 : (Jvm.Cond.code ({ cls := "VowelTorus$Puzzle", name := "isTurnedBack", desc := "(I)Z" } : Jvm.MethodName) prog_5_method_60_code (4 : Nat) (Option.some Jvm.ClassFile.FieldType.boolean)) ∈ lw_all := lw_g (lw_at lw_m5 21 rfl) rfl
theorem q1069 : (Jvm.Cond.methodLink "VowelTorus$Puzzle" (209 : Nat) ({ cls := "VowelTorus$Puzzle", name := "where", desc := "(III)I" } : Jvm.MethodName)) ∈ lw_all := lw_g (lw_at lw_m5 22 rfl) rfl
theorem q1070 : (Jvm.Cond.instanceMethod ({ cls := "VowelTorus$Puzzle", name := "where", desc := "(III)I" } : Jvm.MethodName)) ∈ lw_all := lw_g (lw_at lw_m5 23 rfl) rfl
theorem q1071 : (Jvm.Cond.selects "VowelTorus$Puzzle" ({ cls := "VowelTorus$Puzzle", name := "where", desc := "(III)I" } : Jvm.MethodName) ({ cls := "VowelTorus$Puzzle", name := "where", desc := "(III)I" } : Jvm.MethodName)) ∈ lw_all := lw_g (lw_at lw_m5 24 rfl) rfl
theorem q1072 : (Jvm.Cond.code ({ cls := "VowelTorus$Puzzle", name := "where", desc := "(III)I" } : Jvm.MethodName) prog_5_method_51_code (8 : Nat) (Option.some Jvm.ClassFile.FieldType.int)) ∈ lw_all := lw_g (lw_at lw_m5 25 rfl) rfl
theorem q1073 : (Jvm.Cond.methodLink "VowelTorus$Puzzle" (185 : Nat) ({ cls := "VowelTorus$Puzzle", name := "isOn", desc := "(II)Z" } : Jvm.MethodName)) ∈ lw_all := lw_g (lw_at lw_m5 26 rfl) rfl
theorem q1074 : (Jvm.Cond.instanceMethod ({ cls := "VowelTorus$Puzzle", name := "isOn", desc := "(II)Z" } : Jvm.MethodName)) ∈ lw_all := lw_g (lw_at lw_m5 27 rfl) rfl
theorem q1075 : (Jvm.Cond.selects "VowelTorus$Puzzle" ({ cls := "VowelTorus$Puzzle", name := "isOn", desc := "(II)Z" } : Jvm.MethodName) ({ cls := "VowelTorus$Puzzle", name := "isOn", desc := "(II)Z" } : Jvm.MethodName)) ∈ lw_all := lw_g (lw_at lw_m5 28 rfl) rfl
theorem q1076 : (Jvm.Cond.code ({ cls := "VowelTorus$Puzzle", name := "isOn", desc := "(II)Z" } : Jvm.MethodName) prog_5_method_14_code (3 : Nat) (Option.some Jvm.ClassFile.FieldType.boolean)) ∈ lw_all := lw_g (lw_at lw_m5 29 rfl) rfl
theorem q1077 : (Jvm.Cond.methodLink "VowelTorus$Puzzle" (78 : Nat) ({ cls := "VowelTorus$Puzzle", name := "rowOf", desc := "(I)I" } : Jvm.MethodName)) ∈ lw_all := lw_g (lw_at lw_m5 30 rfl) rfl
theorem q1078 : (Jvm.Cond.privateMethod ({ cls := "VowelTorus$Puzzle", name := "rowOf", desc := "(I)I" } : Jvm.MethodName)) ∈ lw_tbl := lw_at lw_m5 31 rfl
theorem q1079 : (Jvm.Cond.instanceMethod ({ cls := "VowelTorus$Puzzle", name := "rowOf", desc := "(I)I" } : Jvm.MethodName)) ∈ lw_all := lw_g (lw_at lw_m5 32 rfl) rfl
theorem q1080 : (Jvm.Cond.code ({ cls := "VowelTorus$Puzzle", name := "rowOf", desc := "(I)I" } : Jvm.MethodName) prog_5_method_12_code (2 : Nat) (Option.some Jvm.ClassFile.FieldType.int)) ∈ lw_all := lw_g (lw_at lw_m5 33 rfl) rfl
theorem q1081 : (Jvm.Cond.methodLink "VowelTorus$Puzzle" (82 : Nat) ({ cls := "VowelTorus$Puzzle", name := "columnOf", desc := "(I)I" } : Jvm.MethodName)) ∈ lw_all := lw_g (lw_at lw_m5 34 rfl) rfl
theorem q1082 : (Jvm.Cond.privateMethod ({ cls := "VowelTorus$Puzzle", name := "columnOf", desc := "(I)I" } : Jvm.MethodName)) ∈ lw_tbl := lw_at lw_m5 35 rfl
theorem q1083 : (Jvm.Cond.instanceMethod ({ cls := "VowelTorus$Puzzle", name := "columnOf", desc := "(I)I" } : Jvm.MethodName)) ∈ lw_all := lw_g (lw_at lw_m5 36 rfl) rfl
theorem q1084 : (Jvm.Cond.code ({ cls := "VowelTorus$Puzzle", name := "columnOf", desc := "(I)I" } : Jvm.MethodName) prog_5_method_13_code (2 : Nat) (Option.some Jvm.ClassFile.FieldType.int)) ∈ lw_all := lw_g (lw_at lw_m5 37 rfl) rfl
theorem q1085 : (Jvm.Cond.methodLink "VowelTorus$Puzzle" (221 : Nat) ({ cls := "VowelTorus$Puzzle", name := "isOddAgain", desc := "()Z" } : Jvm.MethodName)) ∈ lw_all := lw_g (lw_at lw_m5 38 rfl) rfl
theorem q1086 : (Jvm.Cond.instanceMethod ({ cls := "VowelTorus$Puzzle", name := "isOddAgain", desc := "()Z" } : Jvm.MethodName)) ∈ lw_all := lw_g (lw_at lw_m5 39 rfl) rfl
theorem q1087 : (Jvm.Cond.selects "VowelTorus$Puzzle" ({ cls := "VowelTorus$Puzzle", name := "isOddAgain", desc := "()Z" } : Jvm.MethodName) ({ cls := "VowelTorus$Puzzle", name := "isOddAgain", desc := "()Z" } : Jvm.MethodName)) ∈ lw_all := lw_g (lw_at lw_m5 40 rfl) rfl
theorem q1088 : (Jvm.Cond.code ({ cls := "VowelTorus$Puzzle", name := "isOddAgain", desc := "()Z" } : Jvm.MethodName) prog_5_method_40_code (4 : Nat) (Option.some Jvm.ClassFile.FieldType.boolean)) ∈ lw_all := lw_g (lw_at lw_m5 41 rfl) rfl
theorem q1099 : (Jvm.Cond.instanceMethod ({ cls := "VowelTorus$Puzzle", name := "take", desc := "(LVowelTorus$Puzzle;)V" } : Jvm.MethodName)) ∈ lw_all := lw_g (lw_at lw_m5 52 rfl) rfl
theorem q1100 : (Jvm.Cond.selects "VowelTorus$Puzzle" ({ cls := "VowelTorus$Puzzle", name := "take", desc := "(LVowelTorus$Puzzle;)V" } : Jvm.MethodName) ({ cls := "VowelTorus$Puzzle", name := "take", desc := "(LVowelTorus$Puzzle;)V" } : Jvm.MethodName)) ∈ lw_all := lw_g (lw_at lw_m5 53 rfl) rfl
theorem q1101 : (Jvm.Cond.code ({ cls := "VowelTorus$Puzzle", name := "take", desc := "(LVowelTorus$Puzzle;)V" } : Jvm.MethodName) prog_5_method_2_code (2 : Nat) (Option.none : Option Jvm.ClassFile.FieldType)) ∈ lw_all := lw_g (lw_at lw_m5 54 rfl) rfl
theorem q1129 : (Jvm.Cond.instanceMethod ({ cls := "VowelTorus$Puzzle", name := "board", desc := "(II)I" } : Jvm.MethodName)) ∈ lw_all := lw_g (lw_at lw_m5 82 rfl) rfl
theorem q1130 : (Jvm.Cond.selects "VowelTorus$Puzzle" ({ cls := "VowelTorus$Puzzle", name := "board", desc := "(II)I" } : Jvm.MethodName) ({ cls := "VowelTorus$Puzzle", name := "board", desc := "(II)I" } : Jvm.MethodName)) ∈ lw_all := lw_g (lw_at lw_m5 83 rfl) rfl
theorem q1131 : (Jvm.Cond.code ({ cls := "VowelTorus$Puzzle", name := "board", desc := "(II)I" } : Jvm.MethodName) prog_5_method_44_code (3 : Nat) (Option.some Jvm.ClassFile.FieldType.int)) ∈ lw_all := lw_g (lw_at lw_m5 84 rfl) rfl
theorem q1160 : (Jvm.Cond.castable "VowelTorus$Puzzle" "VowelTorus$Taken") ∈ lw_tbl := lw_at lw_m5 113 rfl
theorem q1161 : (Jvm.Cond.selects "VowelTorus$Puzzle" ({ cls := "VowelTorus$Taken", name := "take", desc := "(Ljava/lang/Object;)V" } : Jvm.MethodName) ({ cls := "VowelTorus$Puzzle", name := "take", desc := "(Ljava/lang/Object;)V" } : Jvm.MethodName)) ∈ lw_all := lw_g (lw_at lw_m5 114 rfl) rfl
theorem q1162 : (Jvm.Cond.unhidden "VowelTorus$Puzzle" "take" "(Ljava/lang/Object;)V") ∈ lw_tbl := lw_at lw_m5 115 rfl
theorem q1163 : (Jvm.Cond.instanceMethod ({ cls := "VowelTorus$Puzzle", name := "take", desc := "(Ljava/lang/Object;)V" } : Jvm.MethodName)) ∈ lw_all := lw_g (lw_at lw_m5 116 rfl) rfl
theorem q1164 : (Jvm.Cond.publicMethod ({ cls := "VowelTorus$Puzzle", name := "take", desc := "(Ljava/lang/Object;)V" } : Jvm.MethodName)) ∈ lw_tbl := lw_at lw_m5 117 rfl
theorem q1165 : (Jvm.Cond.code ({ cls := "VowelTorus$Puzzle", name := "take", desc := "(Ljava/lang/Object;)V" } : Jvm.MethodName) prog_5_method_65_code (2 : Nat) (Option.none : Option Jvm.ClassFile.FieldType)) ∈ lw_all := lw_g (lw_at lw_m5 118 rfl) rfl
theorem q1166 : (Jvm.Cond.classLink "VowelTorus$Puzzle" (10 : Nat) "VowelTorus$Puzzle") ∈ lw_all := lw_g (lw_at lw_m5 119 rfl) rfl
theorem q1167 : (Jvm.Cond.methodLink "VowelTorus$Puzzle" (233 : Nat) ({ cls := "VowelTorus$Puzzle", name := "take", desc := "(LVowelTorus$Puzzle;)V" } : Jvm.MethodName)) ∈ lw_all := lw_g (lw_at lw_m5 120 rfl) rfl
theorem q1185 : (Jvm.Cond.instanceMethod ({ cls := "VowelTorus$Puzzle", name := "isPlace", desc := "(I)Z" } : Jvm.MethodName)) ∈ lw_all := lw_g (lw_at lw_m5 138 rfl) rfl
theorem q1186 : (Jvm.Cond.selects "VowelTorus$Puzzle" ({ cls := "VowelTorus$Puzzle", name := "isPlace", desc := "(I)Z" } : Jvm.MethodName) ({ cls := "VowelTorus$Puzzle", name := "isPlace", desc := "(I)Z" } : Jvm.MethodName)) ∈ lw_all := lw_g (lw_at lw_m5 139 rfl) rfl
theorem q1187 : (Jvm.Cond.code ({ cls := "VowelTorus$Puzzle", name := "isPlace", desc := "(I)Z" } : Jvm.MethodName) prog_5_method_7_code (2 : Nat) (Option.some Jvm.ClassFile.FieldType.boolean)) ∈ lw_all := lw_g (lw_at lw_m5 140 rfl) rfl
theorem q1188 : (Jvm.Cond.methodLinkNest "VowelTorus$Puzzle" (71 : Nat) ({ cls := "VowelTorus", name := "in", desc := "(III)Z" } : Jvm.MethodName) "VowelTorus") ∈ lw_tbl := lw_at lw_m5 141 rfl
theorem q1211 : (Jvm.Cond.instanceMethod ({ cls := "VowelTorus$Puzzle", name := "put", desc := "(IC)C" } : Jvm.MethodName)) ∈ lw_all := lw_g (lw_at lw_m5 164 rfl) rfl
theorem q1212 : (Jvm.Cond.selects "VowelTorus$Puzzle" ({ cls := "VowelTorus$Puzzle", name := "put", desc := "(IC)C" } : Jvm.MethodName) ({ cls := "VowelTorus$Puzzle", name := "put", desc := "(IC)C" } : Jvm.MethodName)) ∈ lw_all := lw_g (lw_at lw_m5 165 rfl) rfl
theorem q1213 : (Jvm.Cond.code ({ cls := "VowelTorus$Puzzle", name := "put", desc := "(IC)C" } : Jvm.MethodName) prog_5_method_42_code (4 : Nat) (Option.some Jvm.ClassFile.FieldType.char)) ∈ lw_all := lw_g (lw_at lw_m5 166 rfl) rfl
theorem q1214 : (Jvm.Cond.methodLinkNest "VowelTorus$Puzzle" (169 : Nat) ({ cls := "VowelTorus", name := "refuse", desc := "(ZII)V" } : Jvm.MethodName) "VowelTorus") ∈ lw_tbl := lw_at lw_m5 167 rfl
theorem q1266 : (Jvm.Cond.instanceMethod ({ cls := "VowelTorus$Puzzle", name := "goal", desc := "(IC)C" } : Jvm.MethodName)) ∈ lw_all := lw_g (lw_at lw_m5 219 rfl) rfl
theorem q1267 : (Jvm.Cond.selects "VowelTorus$Puzzle" ({ cls := "VowelTorus$Puzzle", name := "goal", desc := "(IC)C" } : Jvm.MethodName) ({ cls := "VowelTorus$Puzzle", name := "goal", desc := "(IC)C" } : Jvm.MethodName)) ∈ lw_all := lw_g (lw_at lw_m5 220 rfl) rfl
theorem q1268 : (Jvm.Cond.code ({ cls := "VowelTorus$Puzzle", name := "goal", desc := "(IC)C" } : Jvm.MethodName) prog_5_method_43_code (4 : Nat) (Option.some Jvm.ClassFile.FieldType.char)) ∈ lw_all := lw_g (lw_at lw_m5 221 rfl) rfl
theorem q1277 : (Jvm.Cond.instanceMethod ({ cls := "VowelTorus$Puzzle", name := "isTurn", desc := "(I)Z" } : Jvm.MethodName)) ∈ lw_all := lw_g (lw_at lw_m5 230 rfl) rfl
theorem q1278 : (Jvm.Cond.selects "VowelTorus$Puzzle" ({ cls := "VowelTorus$Puzzle", name := "isTurn", desc := "(I)Z" } : Jvm.MethodName) ({ cls := "VowelTorus$Puzzle", name := "isTurn", desc := "(I)Z" } : Jvm.MethodName)) ∈ lw_all := lw_g (lw_at lw_m5 231 rfl) rfl
theorem q1279 : (Jvm.Cond.code ({ cls := "VowelTorus$Puzzle", name := "isTurn", desc := "(I)Z" } : Jvm.MethodName) prog_5_method_9_code (2 : Nat) (Option.some Jvm.ClassFile.FieldType.boolean)) ∈ lw_all := lw_g (lw_at lw_m5 232 rfl) rfl
theorem q1281 : (Jvm.Cond.instanceMethod ({ cls := "VowelTorus$Puzzle", name := "turn", desc := "(I)I" } : Jvm.MethodName)) ∈ lw_all := lw_g (lw_at lw_m5 234 rfl) rfl
theorem q1282 : (Jvm.Cond.selects "VowelTorus$Puzzle" ({ cls := "VowelTorus$Puzzle", name := "turn", desc := "(I)I" } : Jvm.MethodName) ({ cls := "VowelTorus$Puzzle", name := "turn", desc := "(I)I" } : Jvm.MethodName)) ∈ lw_all := lw_g (lw_at lw_m5 235 rfl) rfl
theorem q1283 : (Jvm.Cond.code ({ cls := "VowelTorus$Puzzle", name := "turn", desc := "(I)I" } : Jvm.MethodName) prog_5_method_46_code (2 : Nat) (Option.some Jvm.ClassFile.FieldType.int)) ∈ lw_all := lw_g (lw_at lw_m5 236 rfl) rfl
theorem q1284 : (Jvm.Cond.methodLink "VowelTorus$Puzzle" (173 : Nat) ({ cls := "VowelTorus$Puzzle", name := "makesTurn", desc := "(I)I" } : Jvm.MethodName)) ∈ lw_all := lw_g (lw_at lw_m5 237 rfl) rfl
theorem q1285 : (Jvm.Cond.privateMethod ({ cls := "VowelTorus$Puzzle", name := "makesTurn", desc := "(I)I" } : Jvm.MethodName)) ∈ lw_tbl := lw_at lw_m5 238 rfl
theorem q1286 : (Jvm.Cond.instanceMethod ({ cls := "VowelTorus$Puzzle", name := "makesTurn", desc := "(I)I" } : Jvm.MethodName)) ∈ lw_all := lw_g (lw_at lw_m5 239 rfl) rfl
theorem q1287 : (Jvm.Cond.code ({ cls := "VowelTorus$Puzzle", name := "makesTurn", desc := "(I)I" } : Jvm.MethodName) prog_5_method_45_code (3 : Nat) (Option.some Jvm.ClassFile.FieldType.int)) ∈ lw_all := lw_g (lw_at lw_m6 0 rfl) rfl
theorem q1296 : (Jvm.Cond.instanceMethod ({ cls := "VowelTorus$Puzzle", name := "swap", desc := "(II)I" } : Jvm.MethodName)) ∈ lw_all := lw_g (lw_at lw_m6 9 rfl) rfl
theorem q1297 : (Jvm.Cond.selects "VowelTorus$Puzzle" ({ cls := "VowelTorus$Puzzle", name := "swap", desc := "(II)I" } : Jvm.MethodName) ({ cls := "VowelTorus$Puzzle", name := "swap", desc := "(II)I" } : Jvm.MethodName)) ∈ lw_all := lw_g (lw_at lw_m6 10 rfl) rfl
theorem q1298 : (Jvm.Cond.code ({ cls := "VowelTorus$Puzzle", name := "swap", desc := "(II)I" } : Jvm.MethodName) prog_5_method_47_code (4 : Nat) (Option.some Jvm.ClassFile.FieldType.int)) ∈ lw_all := lw_g (lw_at lw_m6 11 rfl) rfl
theorem q1311 : (Jvm.Cond.instanceMethod ({ cls := "VowelTorus$Puzzle", name := "isLine", desc := "(I)Z" } : Jvm.MethodName)) ∈ lw_all := lw_g (lw_at lw_m6 24 rfl) rfl
theorem q1312 : (Jvm.Cond.selects "VowelTorus$Puzzle" ({ cls := "VowelTorus$Puzzle", name := "isLine", desc := "(I)Z" } : Jvm.MethodName) ({ cls := "VowelTorus$Puzzle", name := "isLine", desc := "(I)Z" } : Jvm.MethodName)) ∈ lw_all := lw_g (lw_at lw_m6 25 rfl) rfl
theorem q1313 : (Jvm.Cond.code ({ cls := "VowelTorus$Puzzle", name := "isLine", desc := "(I)Z" } : Jvm.MethodName) prog_5_method_8_code (2 : Nat) (Option.some Jvm.ClassFile.FieldType.boolean)) ∈ lw_all := lw_g (lw_at lw_m6 26 rfl) rfl
theorem q1315 : (Jvm.Cond.instanceMethod ({ cls := "VowelTorus$Puzzle", name := "bar", desc := "(I)Z" } : Jvm.MethodName)) ∈ lw_all := lw_g (lw_at lw_m6 28 rfl) rfl
theorem q1316 : (Jvm.Cond.selects "VowelTorus$Puzzle" ({ cls := "VowelTorus$Puzzle", name := "bar", desc := "(I)Z" } : Jvm.MethodName) ({ cls := "VowelTorus$Puzzle", name := "bar", desc := "(I)Z" } : Jvm.MethodName)) ∈ lw_all := lw_g (lw_at lw_m6 29 rfl) rfl
theorem q1317 : (Jvm.Cond.code ({ cls := "VowelTorus$Puzzle", name := "bar", desc := "(I)Z" } : Jvm.MethodName) prog_5_method_48_code (2 : Nat) (Option.some Jvm.ClassFile.FieldType.boolean)) ∈ lw_all := lw_g (lw_at lw_m6 30 rfl) rfl
theorem q1329 : (Jvm.Cond.instanceMethod ({ cls := "VowelTorus$Puzzle", name := "scramble", desc := "(II)I" } : Jvm.MethodName)) ∈ lw_all := lw_g (lw_at lw_m6 42 rfl) rfl
theorem q1330 : (Jvm.Cond.selects "VowelTorus$Puzzle" ({ cls := "VowelTorus$Puzzle", name := "scramble", desc := "(II)I" } : Jvm.MethodName) ({ cls := "VowelTorus$Puzzle", name := "scramble", desc := "(II)I" } : Jvm.MethodName)) ∈ lw_all := lw_g (lw_at lw_m6 43 rfl) rfl
theorem q1331 : (Jvm.Cond.code ({ cls := "VowelTorus$Puzzle", name := "scramble", desc := "(II)I" } : Jvm.MethodName) prog_5_method_49_code (7 : Nat) (Option.some Jvm.ClassFile.FieldType.int)) ∈ lw_all := lw_g (lw_at lw_m6 44 rfl) rfl
theorem q1341 : (Jvm.Cond.instanceMethod ({ cls := "VowelTorus$Puzzle", name := "step", desc := "()I" } : Jvm.MethodName)) ∈ lw_all := lw_g (lw_at lw_m6 54 rfl) rfl
theorem q1342 : (Jvm.Cond.selects "VowelTorus$Puzzle" ({ cls := "VowelTorus$Puzzle", name := "step", desc := "()I" } : Jvm.MethodName) ({ cls := "VowelTorus$Puzzle", name := "step", desc := "()I" } : Jvm.MethodName)) ∈ lw_all := lw_g (lw_at lw_m6 55 rfl) rfl
theorem q1343 : (Jvm.Cond.code ({ cls := "VowelTorus$Puzzle", name := "step", desc := "()I" } : Jvm.MethodName) prog_5_method_50_code (4 : Nat) (Option.some Jvm.ClassFile.FieldType.int)) ∈ lw_all := lw_g (lw_at lw_m6 56 rfl) rfl
theorem q1344 : (Jvm.Cond.methodLink "VowelTorus$Puzzle" (182 : Nat) ({ cls := "VowelTorus$Puzzle", name := "firstTurn", desc := "(I)I" } : Jvm.MethodName)) ∈ lw_all := lw_g (lw_at lw_m6 57 rfl) rfl
theorem q1345 : (Jvm.Cond.instanceMethod ({ cls := "VowelTorus$Puzzle", name := "firstTurn", desc := "(I)I" } : Jvm.MethodName)) ∈ lw_all := lw_g (lw_at lw_m6 58 rfl) rfl
theorem q1346 : (Jvm.Cond.selects "VowelTorus$Puzzle" ({ cls := "VowelTorus$Puzzle", name := "firstTurn", desc := "(I)I" } : Jvm.MethodName) ({ cls := "VowelTorus$Puzzle", name := "firstTurn", desc := "(I)I" } : Jvm.MethodName)) ∈ lw_all := lw_g (lw_at lw_m6 59 rfl) rfl
theorem q1347 : (Jvm.Cond.code ({ cls := "VowelTorus$Puzzle", name := "firstTurn", desc := "(I)I" } : Jvm.MethodName) prog_5_method_31_code (4 : Nat) (Option.some Jvm.ClassFile.FieldType.int)) ∈ lw_all := lw_g (lw_at lw_m6 60 rfl) rfl
theorem q1386 : (Jvm.Cond.instanceMethod ({ cls := "VowelTorus$Puzzle", name := "vowels", desc := "()I" } : Jvm.MethodName)) ∈ lw_all := lw_g (lw_at lw_m6 99 rfl) rfl
theorem q1387 : (Jvm.Cond.selects "VowelTorus$Puzzle" ({ cls := "VowelTorus$Puzzle", name := "vowels", desc := "()I" } : Jvm.MethodName) ({ cls := "VowelTorus$Puzzle", name := "vowels", desc := "()I" } : Jvm.MethodName)) ∈ lw_all := lw_g (lw_at lw_m6 100 rfl) rfl
theorem q1388 : (Jvm.Cond.code ({ cls := "VowelTorus$Puzzle", name := "vowels", desc := "()I" } : Jvm.MethodName) prog_5_method_56_code (3 : Nat) (Option.some Jvm.ClassFile.FieldType.int)) ∈ lw_all := lw_g (lw_at lw_m6 101 rfl) rfl
theorem q1425 : (Jvm.Cond.instanceMethod ({ cls := "VowelTorus$Puzzle", name := "would", desc := "(I)I" } : Jvm.MethodName)) ∈ lw_all := lw_g (lw_at lw_m6 138 rfl) rfl
theorem q1426 : (Jvm.Cond.selects "VowelTorus$Puzzle" ({ cls := "VowelTorus$Puzzle", name := "would", desc := "(I)I" } : Jvm.MethodName) ({ cls := "VowelTorus$Puzzle", name := "would", desc := "(I)I" } : Jvm.MethodName)) ∈ lw_all := lw_g (lw_at lw_m6 139 rfl) rfl
theorem q1427 : (Jvm.Cond.code ({ cls := "VowelTorus$Puzzle", name := "would", desc := "(I)I" } : Jvm.MethodName) prog_5_method_22_code (3 : Nat) (Option.some Jvm.ClassFile.FieldType.int)) ∈ lw_all := lw_g (lw_at lw_m6 140 rfl) rfl
theorem q1436 : (Jvm.Cond.instanceMethod ({ cls := "VowelTorus$Puzzle", name := "best", desc := "()I" } : Jvm.MethodName)) ∈ lw_all := lw_g (lw_at lw_m6 149 rfl) rfl
theorem q1437 : (Jvm.Cond.selects "VowelTorus$Puzzle" ({ cls := "VowelTorus$Puzzle", name := "best", desc := "()I" } : Jvm.MethodName) ({ cls := "VowelTorus$Puzzle", name := "best", desc := "()I" } : Jvm.MethodName)) ∈ lw_all := lw_g (lw_at lw_m6 150 rfl) rfl
theorem q1438 : (Jvm.Cond.code ({ cls := "VowelTorus$Puzzle", name := "best", desc := "()I" } : Jvm.MethodName) prog_5_method_23_code (3 : Nat) (Option.some Jvm.ClassFile.FieldType.int)) ∈ lw_all := lw_g (lw_at lw_m6 151 rfl) rfl
theorem q1439 : (Jvm.Cond.methodLink "VowelTorus$Puzzle" (112 : Nat) ({ cls := "VowelTorus$Puzzle", name := "would", desc := "(I)I" } : Jvm.MethodName)) ∈ lw_all := lw_g (lw_at lw_m6 152 rfl) rfl
theorem q1456 : (Jvm.Cond.instanceMethod ({ cls := "VowelTorus$Puzzle", name := "far", desc := "(II)I" } : Jvm.MethodName)) ∈ lw_all := lw_g (lw_at lw_m6 169 rfl) rfl
theorem q1457 : (Jvm.Cond.selects "VowelTorus$Puzzle" ({ cls := "VowelTorus$Puzzle", name := "far", desc := "(II)I" } : Jvm.MethodName) ({ cls := "VowelTorus$Puzzle", name := "far", desc := "(II)I" } : Jvm.MethodName)) ∈ lw_all := lw_g (lw_at lw_m6 170 rfl) rfl
theorem q1458 : (Jvm.Cond.code ({ cls := "VowelTorus$Puzzle", name := "far", desc := "(II)I" } : Jvm.MethodName) prog_5_method_53_code (3 : Nat) (Option.some Jvm.ClassFile.FieldType.int)) ∈ lw_all := lw_g (lw_at lw_m6 171 rfl) rfl
theorem q1459 : (Jvm.Cond.methodLink "VowelTorus$Puzzle" (192 : Nat) ({ cls := "VowelTorus$Puzzle", name := "round", desc := "(III)I" } : Jvm.MethodName)) ∈ lw_all := lw_g (lw_at lw_m6 172 rfl) rfl
theorem q1460 : (Jvm.Cond.static ({ cls := "VowelTorus$Puzzle", name := "round", desc := "(III)I" } : Jvm.MethodName)) ∈ lw_all := lw_g (lw_at lw_m6 173 rfl) rfl
theorem q1461 : (Jvm.Cond.code ({ cls := "VowelTorus$Puzzle", name := "round", desc := "(III)I" } : Jvm.MethodName) prog_5_method_52_code (4 : Nat) (Option.some Jvm.ClassFile.FieldType.int)) ∈ lw_all := lw_g (lw_at lw_m6 174 rfl) rfl
theorem q1462 : (Jvm.Cond.methodLink "VowelTorus$Puzzle" (189 : Nat) ({ cls := "java/lang/Math", name := "abs", desc := "(I)I" } : Jvm.MethodName)) ∈ lw_all := lw_g (lw_at lw_m6 175 rfl) rfl
theorem q1504 : (Jvm.Cond.instanceMethod ({ cls := "VowelTorus$Puzzle", name := "writesLine", desc := "(Ljava/lang/StringBuilder;I)V" } : Jvm.MethodName)) ∈ lw_all := lw_g (lw_at lw_m6 217 rfl) rfl
theorem q1505 : (Jvm.Cond.selects "VowelTorus$Puzzle" ({ cls := "VowelTorus$Puzzle", name := "writesLine", desc := "(Ljava/lang/StringBuilder;I)V" } : Jvm.MethodName) ({ cls := "VowelTorus$Puzzle", name := "writesLine", desc := "(Ljava/lang/StringBuilder;I)V" } : Jvm.MethodName)) ∈ lw_all := lw_g (lw_at lw_m6 218 rfl) rfl
theorem q1506 : (Jvm.Cond.code ({ cls := "VowelTorus$Puzzle", name := "writesLine", desc := "(Ljava/lang/StringBuilder;I)V" } : Jvm.MethodName) prog_5_method_64_code (4 : Nat) (Option.none : Option Jvm.ClassFile.FieldType)) ∈ lw_all := lw_g (lw_at lw_m6 219 rfl) rfl
theorem q1507 : (Jvm.Cond.methodLink "VowelTorus$Puzzle" (230 : Nat) ({ cls := "VowelTorus$Puzzle", name := "sings", desc := "(I)Z" } : Jvm.MethodName)) ∈ lw_all := lw_g (lw_at lw_m6 220 rfl) rfl
theorem q1671 : (Jvm.Cond.instanceMethod ({ cls := "VowelTorus$Puzzle", name := "farKnown", desc := "()I" } : Jvm.MethodName)) ∈ lw_all := lw_g (lw_at lw_m7 144 rfl) rfl
theorem q1672 : (Jvm.Cond.selects "VowelTorus$Puzzle" ({ cls := "VowelTorus$Puzzle", name := "farKnown", desc := "()I" } : Jvm.MethodName) ({ cls := "VowelTorus$Puzzle", name := "farKnown", desc := "()I" } : Jvm.MethodName)) ∈ lw_all := lw_g (lw_at lw_m7 145 rfl) rfl
theorem q1673 : (Jvm.Cond.code ({ cls := "VowelTorus$Puzzle", name := "farKnown", desc := "()I" } : Jvm.MethodName) prog_5_method_58_code (3 : Nat) (Option.some Jvm.ClassFile.FieldType.int)) ∈ lw_all := lw_g (lw_at lw_m7 146 rfl) rfl
theorem q1674 : (Jvm.Cond.methodLink "VowelTorus$Puzzle" (203 : Nat) ({ cls := "VowelTorus$Puzzle", name := "isFarKnown", desc := "(I)Z" } : Jvm.MethodName)) ∈ lw_all := lw_g (lw_at lw_m7 147 rfl) rfl
theorem q1675 : (Jvm.Cond.privateMethod ({ cls := "VowelTorus$Puzzle", name := "isFarKnown", desc := "(I)Z" } : Jvm.MethodName)) ∈ lw_tbl := lw_at lw_m7 148 rfl
theorem q1676 : (Jvm.Cond.instanceMethod ({ cls := "VowelTorus$Puzzle", name := "isFarKnown", desc := "(I)Z" } : Jvm.MethodName)) ∈ lw_all := lw_g (lw_at lw_m7 149 rfl) rfl
theorem q1677 : (Jvm.Cond.code ({ cls := "VowelTorus$Puzzle", name := "isFarKnown", desc := "(I)Z" } : Jvm.MethodName) prog_5_method_57_code (2 : Nat) (Option.some Jvm.ClassFile.FieldType.boolean)) ∈ lw_all := lw_g (lw_at lw_m7 150 rfl) rfl
theorem q1684 : (Jvm.Cond.instanceMethod ({ cls := "VowelTorus$Puzzle", name := "farAll", desc := "()I" } : Jvm.MethodName)) ∈ lw_all := lw_g (lw_at lw_m7 157 rfl) rfl
theorem q1685 : (Jvm.Cond.selects "VowelTorus$Puzzle" ({ cls := "VowelTorus$Puzzle", name := "farAll", desc := "()I" } : Jvm.MethodName) ({ cls := "VowelTorus$Puzzle", name := "farAll", desc := "()I" } : Jvm.MethodName)) ∈ lw_all := lw_g (lw_at lw_m7 158 rfl) rfl
theorem q1686 : (Jvm.Cond.code ({ cls := "VowelTorus$Puzzle", name := "farAll", desc := "()I" } : Jvm.MethodName) prog_5_method_59_code (3 : Nat) (Option.some Jvm.ClassFile.FieldType.int)) ∈ lw_all := lw_g (lw_at lw_m7 159 rfl) rfl
theorem q1687 : (Jvm.Cond.methodLink "VowelTorus$Puzzle" (206 : Nat) ({ cls := "VowelTorus$Puzzle", name := "far", desc := "(II)I" } : Jvm.MethodName)) ∈ lw_all := lw_g (lw_at lw_m7 160 rfl) rfl
theorem q2196 : (Jvm.Cond.castable "VowelTorus$Puzzle" "java/lang/Object") ∈ lw_tbl := lw_at lw_m9 189 rfl
theorem in_X2 : ∀ w ∈ wsX20, w ∈ lw_all := lw_in wsX20 [166, 168, 170, 172, 174, 176, 178, 180, 182, 184, 186, 188, 190, 192] (by decide +kernel) (by decide +kernel)
