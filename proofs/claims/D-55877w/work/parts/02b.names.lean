/-! SkipSchoolModel -/
set_option maxRecDepth 100000
def RX3 : String := "SkipSchoolModel"
def TX3 : u_T := fun k => match k with
  | 0 => ("SkipSchoolModel", "g", "[I", true)
  | 1 => ("SkipSchoolModel", "kept", "[I", true)
  | 2 => ("SkipSchoolModel", "saved", "[I", true)
  | 3 => ("SkipSchoolModel", "before", "[I", true)
  | 4 => ("SkipSchoolModel", "isSaved", "Z", false)
  | 5 => ("SkipSchoolModel", "changes", "I", false)
  | 6 => ("SkipSchoolModel", "isWithin", "Z", false)
  | 7 => ("SkipSchoolModel", "code", "I", false)
  | 8 => ("SkipSchoolModel", "reason", "I", false)
  | 9 => ("SkipSchoolModel", "detail", "I", false)
  | 10 => ("SkipSchoolModel", "input", "[I", true)
  | 11 => ("SkipSchoolModel", "length", "I", false)
  | 12 => ("SkipSchoolModel", "error", "I", false)
  | 13 => ("SkipSchoolModel", "item", "I", false)
  | 14 => ("SkipSchoolModel", "signs", "[C", true)
  | 15 => ("SkipSchoolModel", "signMany", "I", false)
  | 16 => ("SkipSchoolModel", "at", "I", false)
  | 17 => ("SkipSchoolModel", "told", "[I", true)
  | _ => ("SkipSchoolModel", "toldMany", "I", false)
def tyX3 : Nat → FieldType := fun k => match k with
  | 0 => .array .int
  | 1 => .array .int
  | 2 => .array .int
  | 3 => .array .int
  | 4 => .boolean
  | 5 => .int
  | 6 => .boolean
  | 7 => .int
  | 8 => .int
  | 9 => .int
  | 10 => .array .int
  | 11 => .int
  | 12 => .int
  | 13 => .int
  | 14 => .array .char
  | 15 => .int
  | 16 => .int
  | 17 => .array .int
  | _ => .int
abbrev wsX30 : List Cond := u_ws RX3 TX3 19
set_option maxRecDepth 100000 in
theorem nmX3 : ∀ a, a < 19 → ∀ b, b < 19 → a ≠ b → (TX3 a).2.1 ≠ (TX3 b).2.1 := by decide +kernel
set_option maxRecDepth 100000 in
theorem tyX3_ok : ∀ k, k < 19 → parseFieldDescriptor (TX3 k).2.2.1 = some (tyX3 k) := by decide +kernel
abbrev cX3_init : ByteArray := prog_11_method_1_code
def yX3_init : MethodName := ⟨RX3, "<init>", "()V"⟩
def dkwX3_init_3 : List UInt8 := [17, 0, 155, 188, 10, 181, 0, 36, 42, 182, 0, 39, 177]
abbrev dktX3_init_3 : List UInt8 := dkwX3_init_3 ++ []
def dkwX3_init_2 : List UInt8 := [181, 0, 22, 42, 2, 181, 0, 25, 42, 2, 181, 0, 29, 42, 16, 40, 188, 5, 181, 0, 32, 42]
abbrev dktX3_init_2 : List UInt8 := dkwX3_init_2 ++ dktX3_init_3
def dkwX3_init_1 : List UInt8 := [17, 1, 48, 188, 10, 181, 0, 16, 42, 17, 1, 48, 188, 10, 181, 0, 19, 42, 16, 60, 188, 10]
abbrev dktX3_init_1 : List UInt8 := dkwX3_init_1 ++ dktX3_init_2
def dkwX3_init_0 : List UInt8 := [42, 183, 0, 1, 42, 17, 1, 48, 188, 10, 181, 0, 7, 42, 17, 9, 128, 188, 10, 181, 0, 13, 42]
abbrev dktX3_init_0 : List UInt8 := dkwX3_init_0 ++ dktX3_init_1
theorem dksX3_init_0 : cX3_init.data.toList.drop 0 = dktX3_init_0 := by decide +kernel
theorem dksX3_init_1 : cX3_init.data.toList.drop 23 = dktX3_init_1 := dk_seg dksX3_init_0 23 rfl rfl
theorem dksX3_init_2 : cX3_init.data.toList.drop 45 = dktX3_init_2 := dk_seg dksX3_init_1 22 rfl rfl
theorem dksX3_init_3 : cX3_init.data.toList.drop 67 = dktX3_init_3 := dk_seg dksX3_init_2 22 rfl rfl
theorem dX3_init_0 : decode cX3_init 0 = .ok (.aload_n 0, 1) := dk_42 (dk_at dksX3_init_0 0 rfl rfl)
theorem dX3_init_1 : decode cX3_init 1 = .ok (.invokespecial 1, 3) := dk_183 0 1 (dk_at dksX3_init_0 1 rfl rfl)
theorem dX3_init_4 : decode cX3_init 4 = .ok (.aload_n 0, 1) := dk_42 (dk_at dksX3_init_0 4 rfl rfl)
theorem dX3_init_5 : decode cX3_init 5 = .ok (.sipush 304, 3) := dk_17 1 48 (dk_at dksX3_init_0 5 rfl rfl)
theorem dX3_init_8 : decode cX3_init 8 = .ok (.newarray .int, 2) := dk_188_10 (dk_at dksX3_init_0 8 rfl rfl)
theorem dX3_init_10 : decode cX3_init 10 = .ok (.putfield 7, 3) := dk_181 0 7 (dk_at dksX3_init_0 10 rfl rfl)
theorem dX3_init_13 : decode cX3_init 13 = .ok (.aload_n 0, 1) := dk_42 (dk_at dksX3_init_0 13 rfl rfl)
theorem dX3_init_14 : decode cX3_init 14 = .ok (.sipush 2432, 3) := dk_17 9 128 (dk_at dksX3_init_0 14 rfl rfl)
theorem dX3_init_17 : decode cX3_init 17 = .ok (.newarray .int, 2) := dk_188_10 (dk_at dksX3_init_0 17 rfl rfl)
theorem dX3_init_19 : decode cX3_init 19 = .ok (.putfield 13, 3) := dk_181 0 13 (dk_at dksX3_init_0 19 rfl rfl)
theorem dX3_init_22 : decode cX3_init 22 = .ok (.aload_n 0, 1) := dk_42 (dk_at dksX3_init_0 22 rfl rfl)
theorem dX3_init_23 : decode cX3_init 23 = .ok (.sipush 304, 3) := dk_17 1 48 (dk_at dksX3_init_1 0 rfl rfl)
theorem dX3_init_26 : decode cX3_init 26 = .ok (.newarray .int, 2) := dk_188_10 (dk_at dksX3_init_1 3 rfl rfl)
theorem dX3_init_28 : decode cX3_init 28 = .ok (.putfield 16, 3) := dk_181 0 16 (dk_at dksX3_init_1 5 rfl rfl)
theorem dX3_init_31 : decode cX3_init 31 = .ok (.aload_n 0, 1) := dk_42 (dk_at dksX3_init_1 8 rfl rfl)
theorem dX3_init_32 : decode cX3_init 32 = .ok (.sipush 304, 3) := dk_17 1 48 (dk_at dksX3_init_1 9 rfl rfl)
theorem dX3_init_35 : decode cX3_init 35 = .ok (.newarray .int, 2) := dk_188_10 (dk_at dksX3_init_1 12 rfl rfl)
theorem dX3_init_37 : decode cX3_init 37 = .ok (.putfield 19, 3) := dk_181 0 19 (dk_at dksX3_init_1 14 rfl rfl)
theorem dX3_init_40 : decode cX3_init 40 = .ok (.aload_n 0, 1) := dk_42 (dk_at dksX3_init_1 17 rfl rfl)
theorem dX3_init_41 : decode cX3_init 41 = .ok (.bipush 60, 2) := dk_16 60 (dk_at dksX3_init_1 18 rfl rfl)
theorem dX3_init_43 : decode cX3_init 43 = .ok (.newarray .int, 2) := dk_188_10 (dk_at dksX3_init_1 20 rfl rfl)
theorem dX3_init_45 : decode cX3_init 45 = .ok (.putfield 22, 3) := dk_181 0 22 (dk_at dksX3_init_2 0 rfl rfl)
theorem dX3_init_48 : decode cX3_init 48 = .ok (.aload_n 0, 1) := dk_42 (dk_at dksX3_init_2 3 rfl rfl)
theorem dX3_init_49 : decode cX3_init 49 = .ok (.iconst (-1), 1) := dk_2 (dk_at dksX3_init_2 4 rfl rfl)
theorem dX3_init_50 : decode cX3_init 50 = .ok (.putfield 25, 3) := dk_181 0 25 (dk_at dksX3_init_2 5 rfl rfl)
theorem dX3_init_53 : decode cX3_init 53 = .ok (.aload_n 0, 1) := dk_42 (dk_at dksX3_init_2 8 rfl rfl)
theorem dX3_init_54 : decode cX3_init 54 = .ok (.iconst (-1), 1) := dk_2 (dk_at dksX3_init_2 9 rfl rfl)
theorem dX3_init_55 : decode cX3_init 55 = .ok (.putfield 29, 3) := dk_181 0 29 (dk_at dksX3_init_2 10 rfl rfl)
theorem dX3_init_58 : decode cX3_init 58 = .ok (.aload_n 0, 1) := dk_42 (dk_at dksX3_init_2 13 rfl rfl)
theorem dX3_init_59 : decode cX3_init 59 = .ok (.bipush 40, 2) := dk_16 40 (dk_at dksX3_init_2 14 rfl rfl)
theorem dX3_init_61 : decode cX3_init 61 = .ok (.newarray .char, 2) := dk_188_5 (dk_at dksX3_init_2 16 rfl rfl)
theorem dX3_init_63 : decode cX3_init 63 = .ok (.putfield 32, 3) := dk_181 0 32 (dk_at dksX3_init_2 18 rfl rfl)
theorem dX3_init_66 : decode cX3_init 66 = .ok (.aload_n 0, 1) := dk_42 (dk_at dksX3_init_2 21 rfl rfl)
theorem dX3_init_67 : decode cX3_init 67 = .ok (.sipush 155, 3) := dk_17 0 155 (dk_at dksX3_init_3 0 rfl rfl)
theorem dX3_init_70 : decode cX3_init 70 = .ok (.newarray .int, 2) := dk_188_10 (dk_at dksX3_init_3 3 rfl rfl)
theorem dX3_init_72 : decode cX3_init 72 = .ok (.putfield 36, 3) := dk_181 0 36 (dk_at dksX3_init_3 5 rfl rfl)
theorem dX3_init_75 : decode cX3_init 75 = .ok (.aload_n 0, 1) := dk_42 (dk_at dksX3_init_3 8 rfl rfl)
theorem dX3_init_76 : decode cX3_init 76 = .ok (.invokevirtual 39, 3) := dk_182 0 39 (dk_at dksX3_init_3 9 rfl rfl)
theorem dX3_init_79 : decode cX3_init 79 = .ok (.return_, 1) := dk_177 (dk_at dksX3_init_3 12 rfl rfl)
abbrev cX3_empties : ByteArray := prog_11_method_10_code
def yX3_empties : MethodName := ⟨RX3, "empties", "()V"⟩
def dkwX3_empties_2 : List UInt8 := [177]
abbrev dktX3_empties_2 : List UInt8 := dkwX3_empties_2 ++ []
def dkwX3_empties_1 : List UInt8 := [17, 0, 174, 60, 27, 17, 1, 38, 162, 0, 16, 42, 180, 0, 7, 27, 2, 79, 132, 1, 1, 167, 255, 239]
abbrev dktX3_empties_1 : List UInt8 := dkwX3_empties_1 ++ dktX3_empties_2
def dkwX3_empties_0 : List UInt8 := [3, 60, 27, 17, 1, 48, 162, 0, 16, 42, 180, 0, 7, 27, 3, 79, 132, 1, 1, 167, 255, 239]
abbrev dktX3_empties_0 : List UInt8 := dkwX3_empties_0 ++ dktX3_empties_1
theorem dksX3_empties_0 : cX3_empties.data.toList.drop 0 = dktX3_empties_0 := by decide +kernel
theorem dksX3_empties_1 : cX3_empties.data.toList.drop 22 = dktX3_empties_1 := dk_seg dksX3_empties_0 22 rfl rfl
theorem dksX3_empties_2 : cX3_empties.data.toList.drop 46 = dktX3_empties_2 := dk_seg dksX3_empties_1 24 rfl rfl
theorem dX3_empties_0 : decode cX3_empties 0 = .ok (.iconst 0, 1) := dk_3 (dk_at dksX3_empties_0 0 rfl rfl)
theorem dX3_empties_1 : decode cX3_empties 1 = .ok (.istore_n 1, 1) := dk_60 (dk_at dksX3_empties_0 1 rfl rfl)
theorem dX3_empties_2 : decode cX3_empties 2 = .ok (.iload_n 1, 1) := dk_27 (dk_at dksX3_empties_0 2 rfl rfl)
theorem dX3_empties_3 : decode cX3_empties 3 = .ok (.sipush 304, 3) := dk_17 1 48 (dk_at dksX3_empties_0 3 rfl rfl)
theorem dX3_empties_6 : decode cX3_empties 6 = .ok (.if_icmp .ge 16, 3) := dk_162 0 16 (dk_at dksX3_empties_0 6 rfl rfl)
theorem dX3_empties_9 : decode cX3_empties 9 = .ok (.aload_n 0, 1) := dk_42 (dk_at dksX3_empties_0 9 rfl rfl)
theorem dX3_empties_10 : decode cX3_empties 10 = .ok (.getfield 7, 3) := dk_180 0 7 (dk_at dksX3_empties_0 10 rfl rfl)
theorem dX3_empties_13 : decode cX3_empties 13 = .ok (.iload_n 1, 1) := dk_27 (dk_at dksX3_empties_0 13 rfl rfl)
theorem dX3_empties_14 : decode cX3_empties 14 = .ok (.iconst 0, 1) := dk_3 (dk_at dksX3_empties_0 14 rfl rfl)
theorem dX3_empties_15 : decode cX3_empties 15 = .ok (.iastore, 1) := dk_79 (dk_at dksX3_empties_0 15 rfl rfl)
theorem dX3_empties_16 : decode cX3_empties 16 = .ok (.iinc 1 1, 3) := dk_132 1 1 (dk_at dksX3_empties_0 16 rfl rfl)
theorem dX3_empties_19 : decode cX3_empties 19 = .ok (.goto (-17), 3) := dk_167 255 239 (dk_at dksX3_empties_0 19 rfl rfl)
theorem dX3_empties_22 : decode cX3_empties 22 = .ok (.sipush 174, 3) := dk_17 0 174 (dk_at dksX3_empties_1 0 rfl rfl)
theorem dX3_empties_25 : decode cX3_empties 25 = .ok (.istore_n 1, 1) := dk_60 (dk_at dksX3_empties_1 3 rfl rfl)
theorem dX3_empties_26 : decode cX3_empties 26 = .ok (.iload_n 1, 1) := dk_27 (dk_at dksX3_empties_1 4 rfl rfl)
theorem dX3_empties_27 : decode cX3_empties 27 = .ok (.sipush 294, 3) := dk_17 1 38 (dk_at dksX3_empties_1 5 rfl rfl)
theorem dX3_empties_30 : decode cX3_empties 30 = .ok (.if_icmp .ge 16, 3) := dk_162 0 16 (dk_at dksX3_empties_1 8 rfl rfl)
theorem dX3_empties_33 : decode cX3_empties 33 = .ok (.aload_n 0, 1) := dk_42 (dk_at dksX3_empties_1 11 rfl rfl)
theorem dX3_empties_34 : decode cX3_empties 34 = .ok (.getfield 7, 3) := dk_180 0 7 (dk_at dksX3_empties_1 12 rfl rfl)
theorem dX3_empties_37 : decode cX3_empties 37 = .ok (.iload_n 1, 1) := dk_27 (dk_at dksX3_empties_1 15 rfl rfl)
theorem dX3_empties_38 : decode cX3_empties 38 = .ok (.iconst (-1), 1) := dk_2 (dk_at dksX3_empties_1 16 rfl rfl)
theorem dX3_empties_39 : decode cX3_empties 39 = .ok (.iastore, 1) := dk_79 (dk_at dksX3_empties_1 17 rfl rfl)
theorem dX3_empties_40 : decode cX3_empties 40 = .ok (.iinc 1 1, 3) := dk_132 1 1 (dk_at dksX3_empties_1 18 rfl rfl)
theorem dX3_empties_43 : decode cX3_empties 43 = .ok (.goto (-17), 3) := dk_167 255 239 (dk_at dksX3_empties_1 21 rfl rfl)
theorem dX3_empties_46 : decode cX3_empties 46 = .ok (.return_, 1) := dk_177 (dk_at dksX3_empties_2 0 rfl rfl)
abbrev cX3_thrown : ByteArray := prog_11_method_2_code
def yX3_thrown : MethodName := ⟨RX3, "thrown", "()I"⟩
theorem dX3_thrown_0 : decode cX3_thrown 0 = .ok (.aload_n 0, 1) := by decide +kernel
theorem dX3_thrown_1 : decode cX3_thrown 1 = .ok (.getfield 42, 3) := by decide +kernel
theorem dX3_thrown_4 : decode cX3_thrown 4 = .ok (.ireturn, 1) := by decide +kernel
abbrev cX3_clear : ByteArray := prog_11_method_11_code
def yX3_clear : MethodName := ⟨RX3, "clear", "()I"⟩
def dkwX3_clear_0 : List UInt8 := [42, 3, 181, 0, 42, 42, 180, 0, 7, 3, 46, 60, 42, 182, 0, 39, 42, 3, 181, 0, 55, 27, 172]
abbrev dktX3_clear_0 : List UInt8 := dkwX3_clear_0 ++ []
theorem dksX3_clear_0 : cX3_clear.data.toList.drop 0 = dktX3_clear_0 := by decide +kernel
theorem dX3_clear_0 : decode cX3_clear 0 = .ok (.aload_n 0, 1) := dk_42 (dk_at dksX3_clear_0 0 rfl rfl)
theorem dX3_clear_1 : decode cX3_clear 1 = .ok (.iconst 0, 1) := dk_3 (dk_at dksX3_clear_0 1 rfl rfl)
theorem dX3_clear_2 : decode cX3_clear 2 = .ok (.putfield 42, 3) := dk_181 0 42 (dk_at dksX3_clear_0 2 rfl rfl)
theorem dX3_clear_5 : decode cX3_clear 5 = .ok (.aload_n 0, 1) := dk_42 (dk_at dksX3_clear_0 5 rfl rfl)
theorem dX3_clear_6 : decode cX3_clear 6 = .ok (.getfield 7, 3) := dk_180 0 7 (dk_at dksX3_clear_0 6 rfl rfl)
theorem dX3_clear_9 : decode cX3_clear 9 = .ok (.iconst 0, 1) := dk_3 (dk_at dksX3_clear_0 9 rfl rfl)
theorem dX3_clear_10 : decode cX3_clear 10 = .ok (.iaload, 1) := dk_46 (dk_at dksX3_clear_0 10 rfl rfl)
theorem dX3_clear_11 : decode cX3_clear 11 = .ok (.istore_n 1, 1) := dk_60 (dk_at dksX3_clear_0 11 rfl rfl)
theorem dX3_clear_12 : decode cX3_clear 12 = .ok (.aload_n 0, 1) := dk_42 (dk_at dksX3_clear_0 12 rfl rfl)
theorem dX3_clear_13 : decode cX3_clear 13 = .ok (.invokevirtual 39, 3) := dk_182 0 39 (dk_at dksX3_clear_0 13 rfl rfl)
theorem dX3_clear_16 : decode cX3_clear 16 = .ok (.aload_n 0, 1) := dk_42 (dk_at dksX3_clear_0 16 rfl rfl)
theorem dX3_clear_17 : decode cX3_clear 17 = .ok (.iconst 0, 1) := dk_3 (dk_at dksX3_clear_0 17 rfl rfl)
theorem dX3_clear_18 : decode cX3_clear 18 = .ok (.putfield 55, 3) := dk_181 0 55 (dk_at dksX3_clear_0 18 rfl rfl)
theorem dX3_clear_21 : decode cX3_clear 21 = .ok (.iload_n 1, 1) := dk_27 (dk_at dksX3_clear_0 21 rfl rfl)
theorem dX3_clear_22 : decode cX3_clear 22 = .ok (.ireturn, 1) := dk_172 (dk_at dksX3_clear_0 22 rfl rfl)
abbrev cX3_stone : ByteArray := prog_11_method_21_code
def yX3_stone : MethodName := ⟨RX3, "stone", "(II)I"⟩
def dkwX3_stone_6 : List UInt8 := [16, 9, 2, 182, 0, 82, 29, 172]
abbrev dktX3_stone_6 : List UInt8 := dkwX3_stone_6 ++ []
def dkwX3_stone_5 : List UInt8 := [29, 6, 2, 182, 0, 82, 42, 29, 8, 2, 182, 0, 82, 42, 29, 16, 8, 2, 182, 0, 82, 42, 29]
abbrev dktX3_stone_5 : List UInt8 := dkwX3_stone_5 ++ dktX3_stone_6
def dkwX3_stone_4 : List UInt8 := [182, 0, 82, 132, 4, 1, 167, 255, 238, 42, 29, 3, 27, 182, 0, 82, 42, 29, 4, 28, 182, 0, 82, 42]
abbrev dktX3_stone_4 : List UInt8 := dkwX3_stone_4 ++ dktX3_stone_5
def dkwX3_stone_3 : List UInt8 := [180, 0, 7, 3, 92, 46, 4, 96, 79, 3, 54, 4, 21, 4, 16, 14, 162, 0, 17, 42, 29, 21, 4, 3]
abbrev dktX3_stone_3 : List UInt8 := dkwX3_stone_3 ++ dktX3_stone_4
def dkwX3_stone_2 : List UInt8 := [5, 4, 16, 10, 182, 0, 74, 172, 42, 42, 180, 0, 7, 182, 0, 78, 42, 180, 0, 7, 3, 46, 62, 42]
abbrev dktX3_stone_2 : List UInt8 := dkwX3_stone_2 ++ dktX3_stone_3
def dkwX3_stone_1 : List UInt8 := [167, 0, 4, 4, 182, 0, 70, 153, 0, 5, 3, 172, 42, 180, 0, 7, 3, 46, 16, 10, 160, 0, 12, 42]
abbrev dktX3_stone_1 : List UInt8 := dkwX3_stone_1 ++ dktX3_stone_2
def dkwX3_stone_0 : List UInt8 := [42, 27, 3, 16, 9, 184, 0, 62, 153, 0, 17, 28, 4, 16, 9, 184, 0, 62, 153, 0, 7, 3]
abbrev dktX3_stone_0 : List UInt8 := dkwX3_stone_0 ++ dktX3_stone_1
theorem dksX3_stone_0 : cX3_stone.data.toList.drop 0 = dktX3_stone_0 := by decide +kernel
theorem dksX3_stone_1 : cX3_stone.data.toList.drop 22 = dktX3_stone_1 := dk_seg dksX3_stone_0 22 rfl rfl
theorem dksX3_stone_2 : cX3_stone.data.toList.drop 46 = dktX3_stone_2 := dk_seg dksX3_stone_1 24 rfl rfl
theorem dksX3_stone_3 : cX3_stone.data.toList.drop 70 = dktX3_stone_3 := dk_seg dksX3_stone_2 24 rfl rfl
theorem dksX3_stone_4 : cX3_stone.data.toList.drop 94 = dktX3_stone_4 := dk_seg dksX3_stone_3 24 rfl rfl
theorem dksX3_stone_5 : cX3_stone.data.toList.drop 118 = dktX3_stone_5 := dk_seg dksX3_stone_4 24 rfl rfl
theorem dksX3_stone_6 : cX3_stone.data.toList.drop 141 = dktX3_stone_6 := dk_seg dksX3_stone_5 23 rfl rfl
theorem dX3_stone_0 : decode cX3_stone 0 = .ok (.aload_n 0, 1) := dk_42 (dk_at dksX3_stone_0 0 rfl rfl)
theorem dX3_stone_1 : decode cX3_stone 1 = .ok (.iload_n 1, 1) := dk_27 (dk_at dksX3_stone_0 1 rfl rfl)
theorem dX3_stone_2 : decode cX3_stone 2 = .ok (.iconst 0, 1) := dk_3 (dk_at dksX3_stone_0 2 rfl rfl)
theorem dX3_stone_3 : decode cX3_stone 3 = .ok (.bipush 9, 2) := dk_16 9 (dk_at dksX3_stone_0 3 rfl rfl)
theorem dX3_stone_5 : decode cX3_stone 5 = .ok (.invokestatic 62, 3) := dk_184 0 62 (dk_at dksX3_stone_0 5 rfl rfl)
theorem dX3_stone_8 : decode cX3_stone 8 = .ok (.ifCond .eq 17, 3) := dk_153 0 17 (dk_at dksX3_stone_0 8 rfl rfl)
theorem dX3_stone_11 : decode cX3_stone 11 = .ok (.iload_n 2, 1) := dk_28 (dk_at dksX3_stone_0 11 rfl rfl)
theorem dX3_stone_12 : decode cX3_stone 12 = .ok (.iconst 1, 1) := dk_4 (dk_at dksX3_stone_0 12 rfl rfl)
theorem dX3_stone_13 : decode cX3_stone 13 = .ok (.bipush 9, 2) := dk_16 9 (dk_at dksX3_stone_0 13 rfl rfl)
theorem dX3_stone_15 : decode cX3_stone 15 = .ok (.invokestatic 62, 3) := dk_184 0 62 (dk_at dksX3_stone_0 15 rfl rfl)
theorem dX3_stone_18 : decode cX3_stone 18 = .ok (.ifCond .eq 7, 3) := dk_153 0 7 (dk_at dksX3_stone_0 18 rfl rfl)
theorem dX3_stone_21 : decode cX3_stone 21 = .ok (.iconst 0, 1) := dk_3 (dk_at dksX3_stone_0 21 rfl rfl)
theorem dX3_stone_22 : decode cX3_stone 22 = .ok (.goto 4, 3) := dk_167 0 4 (dk_at dksX3_stone_1 0 rfl rfl)
theorem dX3_stone_25 : decode cX3_stone 25 = .ok (.iconst 1, 1) := dk_4 (dk_at dksX3_stone_1 3 rfl rfl)
theorem dX3_stone_26 : decode cX3_stone 26 = .ok (.invokevirtual 70, 3) := dk_182 0 70 (dk_at dksX3_stone_1 4 rfl rfl)
theorem dX3_stone_29 : decode cX3_stone 29 = .ok (.ifCond .eq 5, 3) := dk_153 0 5 (dk_at dksX3_stone_1 7 rfl rfl)
theorem dX3_stone_32 : decode cX3_stone 32 = .ok (.iconst 0, 1) := dk_3 (dk_at dksX3_stone_1 10 rfl rfl)
theorem dX3_stone_33 : decode cX3_stone 33 = .ok (.ireturn, 1) := dk_172 (dk_at dksX3_stone_1 11 rfl rfl)
theorem dX3_stone_34 : decode cX3_stone 34 = .ok (.aload_n 0, 1) := dk_42 (dk_at dksX3_stone_1 12 rfl rfl)
theorem dX3_stone_35 : decode cX3_stone 35 = .ok (.getfield 7, 3) := dk_180 0 7 (dk_at dksX3_stone_1 13 rfl rfl)
theorem dX3_stone_38 : decode cX3_stone 38 = .ok (.iconst 0, 1) := dk_3 (dk_at dksX3_stone_1 16 rfl rfl)
theorem dX3_stone_39 : decode cX3_stone 39 = .ok (.iaload, 1) := dk_46 (dk_at dksX3_stone_1 17 rfl rfl)
theorem dX3_stone_40 : decode cX3_stone 40 = .ok (.bipush 10, 2) := dk_16 10 (dk_at dksX3_stone_1 18 rfl rfl)
theorem dX3_stone_42 : decode cX3_stone 42 = .ok (.if_icmp .ne 12, 3) := dk_160 0 12 (dk_at dksX3_stone_1 20 rfl rfl)
theorem dX3_stone_45 : decode cX3_stone 45 = .ok (.aload_n 0, 1) := dk_42 (dk_at dksX3_stone_1 23 rfl rfl)
theorem dX3_stone_46 : decode cX3_stone 46 = .ok (.iconst 2, 1) := dk_5 (dk_at dksX3_stone_2 0 rfl rfl)
theorem dX3_stone_47 : decode cX3_stone 47 = .ok (.iconst 1, 1) := dk_4 (dk_at dksX3_stone_2 1 rfl rfl)
theorem dX3_stone_48 : decode cX3_stone 48 = .ok (.bipush 10, 2) := dk_16 10 (dk_at dksX3_stone_2 2 rfl rfl)
theorem dX3_stone_50 : decode cX3_stone 50 = .ok (.invokevirtual 74, 3) := dk_182 0 74 (dk_at dksX3_stone_2 4 rfl rfl)
theorem dX3_stone_53 : decode cX3_stone 53 = .ok (.ireturn, 1) := dk_172 (dk_at dksX3_stone_2 7 rfl rfl)
theorem dX3_stone_54 : decode cX3_stone 54 = .ok (.aload_n 0, 1) := dk_42 (dk_at dksX3_stone_2 8 rfl rfl)
theorem dX3_stone_55 : decode cX3_stone 55 = .ok (.aload_n 0, 1) := dk_42 (dk_at dksX3_stone_2 9 rfl rfl)
theorem dX3_stone_56 : decode cX3_stone 56 = .ok (.getfield 7, 3) := dk_180 0 7 (dk_at dksX3_stone_2 10 rfl rfl)
theorem dX3_stone_59 : decode cX3_stone 59 = .ok (.invokevirtual 78, 3) := dk_182 0 78 (dk_at dksX3_stone_2 13 rfl rfl)
theorem dX3_stone_62 : decode cX3_stone 62 = .ok (.aload_n 0, 1) := dk_42 (dk_at dksX3_stone_2 16 rfl rfl)
theorem dX3_stone_63 : decode cX3_stone 63 = .ok (.getfield 7, 3) := dk_180 0 7 (dk_at dksX3_stone_2 17 rfl rfl)
theorem dX3_stone_66 : decode cX3_stone 66 = .ok (.iconst 0, 1) := dk_3 (dk_at dksX3_stone_2 20 rfl rfl)
theorem dX3_stone_67 : decode cX3_stone 67 = .ok (.iaload, 1) := dk_46 (dk_at dksX3_stone_2 21 rfl rfl)
theorem dX3_stone_68 : decode cX3_stone 68 = .ok (.istore_n 3, 1) := dk_62 (dk_at dksX3_stone_2 22 rfl rfl)
theorem dX3_stone_69 : decode cX3_stone 69 = .ok (.aload_n 0, 1) := dk_42 (dk_at dksX3_stone_2 23 rfl rfl)
theorem dX3_stone_70 : decode cX3_stone 70 = .ok (.getfield 7, 3) := dk_180 0 7 (dk_at dksX3_stone_3 0 rfl rfl)
theorem dX3_stone_73 : decode cX3_stone 73 = .ok (.iconst 0, 1) := dk_3 (dk_at dksX3_stone_3 3 rfl rfl)
theorem dX3_stone_74 : decode cX3_stone 74 = .ok (.dup2, 1) := dk_92 (dk_at dksX3_stone_3 4 rfl rfl)
theorem dX3_stone_75 : decode cX3_stone 75 = .ok (.iaload, 1) := dk_46 (dk_at dksX3_stone_3 5 rfl rfl)
theorem dX3_stone_76 : decode cX3_stone 76 = .ok (.iconst 1, 1) := dk_4 (dk_at dksX3_stone_3 6 rfl rfl)
theorem dX3_stone_77 : decode cX3_stone 77 = .ok (.iadd, 1) := dk_96 (dk_at dksX3_stone_3 7 rfl rfl)
theorem dX3_stone_78 : decode cX3_stone 78 = .ok (.iastore, 1) := dk_79 (dk_at dksX3_stone_3 8 rfl rfl)
theorem dX3_stone_79 : decode cX3_stone 79 = .ok (.iconst 0, 1) := dk_3 (dk_at dksX3_stone_3 9 rfl rfl)
theorem dX3_stone_80 : decode cX3_stone 80 = .ok (.istore 4, 2) := dk_54 4 (dk_at dksX3_stone_3 10 rfl rfl)
theorem dX3_stone_82 : decode cX3_stone 82 = .ok (.iload 4, 2) := dk_21 4 (dk_at dksX3_stone_3 12 rfl rfl)
theorem dX3_stone_84 : decode cX3_stone 84 = .ok (.bipush 14, 2) := dk_16 14 (dk_at dksX3_stone_3 14 rfl rfl)
theorem dX3_stone_86 : decode cX3_stone 86 = .ok (.if_icmp .ge 17, 3) := dk_162 0 17 (dk_at dksX3_stone_3 16 rfl rfl)
theorem dX3_stone_89 : decode cX3_stone 89 = .ok (.aload_n 0, 1) := dk_42 (dk_at dksX3_stone_3 19 rfl rfl)
theorem dX3_stone_90 : decode cX3_stone 90 = .ok (.iload_n 3, 1) := dk_29 (dk_at dksX3_stone_3 20 rfl rfl)
theorem dX3_stone_91 : decode cX3_stone 91 = .ok (.iload 4, 2) := dk_21 4 (dk_at dksX3_stone_3 21 rfl rfl)
theorem dX3_stone_93 : decode cX3_stone 93 = .ok (.iconst 0, 1) := dk_3 (dk_at dksX3_stone_3 23 rfl rfl)
theorem dX3_stone_94 : decode cX3_stone 94 = .ok (.invokevirtual 82, 3) := dk_182 0 82 (dk_at dksX3_stone_4 0 rfl rfl)
theorem dX3_stone_97 : decode cX3_stone 97 = .ok (.iinc 4 1, 3) := dk_132 4 1 (dk_at dksX3_stone_4 3 rfl rfl)
theorem dX3_stone_100 : decode cX3_stone 100 = .ok (.goto (-18), 3) := dk_167 255 238 (dk_at dksX3_stone_4 6 rfl rfl)
theorem dX3_stone_103 : decode cX3_stone 103 = .ok (.aload_n 0, 1) := dk_42 (dk_at dksX3_stone_4 9 rfl rfl)
theorem dX3_stone_104 : decode cX3_stone 104 = .ok (.iload_n 3, 1) := dk_29 (dk_at dksX3_stone_4 10 rfl rfl)
theorem dX3_stone_105 : decode cX3_stone 105 = .ok (.iconst 0, 1) := dk_3 (dk_at dksX3_stone_4 11 rfl rfl)
theorem dX3_stone_106 : decode cX3_stone 106 = .ok (.iload_n 1, 1) := dk_27 (dk_at dksX3_stone_4 12 rfl rfl)
theorem dX3_stone_107 : decode cX3_stone 107 = .ok (.invokevirtual 82, 3) := dk_182 0 82 (dk_at dksX3_stone_4 13 rfl rfl)
theorem dX3_stone_110 : decode cX3_stone 110 = .ok (.aload_n 0, 1) := dk_42 (dk_at dksX3_stone_4 16 rfl rfl)
theorem dX3_stone_111 : decode cX3_stone 111 = .ok (.iload_n 3, 1) := dk_29 (dk_at dksX3_stone_4 17 rfl rfl)
theorem dX3_stone_112 : decode cX3_stone 112 = .ok (.iconst 1, 1) := dk_4 (dk_at dksX3_stone_4 18 rfl rfl)
theorem dX3_stone_113 : decode cX3_stone 113 = .ok (.iload_n 2, 1) := dk_28 (dk_at dksX3_stone_4 19 rfl rfl)
theorem dX3_stone_114 : decode cX3_stone 114 = .ok (.invokevirtual 82, 3) := dk_182 0 82 (dk_at dksX3_stone_4 20 rfl rfl)
theorem dX3_stone_117 : decode cX3_stone 117 = .ok (.aload_n 0, 1) := dk_42 (dk_at dksX3_stone_4 23 rfl rfl)
theorem dX3_stone_118 : decode cX3_stone 118 = .ok (.iload_n 3, 1) := dk_29 (dk_at dksX3_stone_5 0 rfl rfl)
theorem dX3_stone_119 : decode cX3_stone 119 = .ok (.iconst 3, 1) := dk_6 (dk_at dksX3_stone_5 1 rfl rfl)
theorem dX3_stone_120 : decode cX3_stone 120 = .ok (.iconst (-1), 1) := dk_2 (dk_at dksX3_stone_5 2 rfl rfl)
theorem dX3_stone_121 : decode cX3_stone 121 = .ok (.invokevirtual 82, 3) := dk_182 0 82 (dk_at dksX3_stone_5 3 rfl rfl)
theorem dX3_stone_124 : decode cX3_stone 124 = .ok (.aload_n 0, 1) := dk_42 (dk_at dksX3_stone_5 6 rfl rfl)
theorem dX3_stone_125 : decode cX3_stone 125 = .ok (.iload_n 3, 1) := dk_29 (dk_at dksX3_stone_5 7 rfl rfl)
theorem dX3_stone_126 : decode cX3_stone 126 = .ok (.iconst 5, 1) := dk_8 (dk_at dksX3_stone_5 8 rfl rfl)
theorem dX3_stone_127 : decode cX3_stone 127 = .ok (.iconst (-1), 1) := dk_2 (dk_at dksX3_stone_5 9 rfl rfl)
theorem dX3_stone_128 : decode cX3_stone 128 = .ok (.invokevirtual 82, 3) := dk_182 0 82 (dk_at dksX3_stone_5 10 rfl rfl)
theorem dX3_stone_131 : decode cX3_stone 131 = .ok (.aload_n 0, 1) := dk_42 (dk_at dksX3_stone_5 13 rfl rfl)
theorem dX3_stone_132 : decode cX3_stone 132 = .ok (.iload_n 3, 1) := dk_29 (dk_at dksX3_stone_5 14 rfl rfl)
theorem dX3_stone_133 : decode cX3_stone 133 = .ok (.bipush 8, 2) := dk_16 8 (dk_at dksX3_stone_5 15 rfl rfl)
theorem dX3_stone_135 : decode cX3_stone 135 = .ok (.iconst (-1), 1) := dk_2 (dk_at dksX3_stone_5 17 rfl rfl)
theorem dX3_stone_136 : decode cX3_stone 136 = .ok (.invokevirtual 82, 3) := dk_182 0 82 (dk_at dksX3_stone_5 18 rfl rfl)
theorem dX3_stone_139 : decode cX3_stone 139 = .ok (.aload_n 0, 1) := dk_42 (dk_at dksX3_stone_5 21 rfl rfl)
theorem dX3_stone_140 : decode cX3_stone 140 = .ok (.iload_n 3, 1) := dk_29 (dk_at dksX3_stone_5 22 rfl rfl)
theorem dX3_stone_141 : decode cX3_stone 141 = .ok (.bipush 9, 2) := dk_16 9 (dk_at dksX3_stone_6 0 rfl rfl)
theorem dX3_stone_143 : decode cX3_stone 143 = .ok (.iconst (-1), 1) := dk_2 (dk_at dksX3_stone_6 2 rfl rfl)
theorem dX3_stone_144 : decode cX3_stone 144 = .ok (.invokevirtual 82, 3) := dk_182 0 82 (dk_at dksX3_stone_6 3 rfl rfl)
theorem dX3_stone_147 : decode cX3_stone 147 = .ok (.iload_n 3, 1) := dk_29 (dk_at dksX3_stone_6 6 rfl rfl)
theorem dX3_stone_148 : decode cX3_stone 148 = .ok (.ireturn, 1) := dk_172 (dk_at dksX3_stone_6 7 rfl rfl)
abbrev cX3_in : ByteArray := prog_11_method_5_code
def yX3_in : MethodName := ⟨RX3, "in", "(III)Z"⟩
def dkwX3_in_0 : List UInt8 := [26, 27, 161, 0, 12, 26, 28, 163, 0, 7, 4, 167, 0, 4, 3, 172]
abbrev dktX3_in_0 : List UInt8 := dkwX3_in_0 ++ []
theorem dksX3_in_0 : cX3_in.data.toList.drop 0 = dktX3_in_0 := by decide +kernel
theorem dX3_in_0 : decode cX3_in 0 = .ok (.iload_n 0, 1) := dk_26 (dk_at dksX3_in_0 0 rfl rfl)
theorem dX3_in_1 : decode cX3_in 1 = .ok (.iload_n 1, 1) := dk_27 (dk_at dksX3_in_0 1 rfl rfl)
theorem dX3_in_2 : decode cX3_in 2 = .ok (.if_icmp .lt 12, 3) := dk_161 0 12 (dk_at dksX3_in_0 2 rfl rfl)
theorem dX3_in_5 : decode cX3_in 5 = .ok (.iload_n 0, 1) := dk_26 (dk_at dksX3_in_0 5 rfl rfl)
theorem dX3_in_6 : decode cX3_in 6 = .ok (.iload_n 2, 1) := dk_28 (dk_at dksX3_in_0 6 rfl rfl)
theorem dX3_in_7 : decode cX3_in 7 = .ok (.if_icmp .gt 7, 3) := dk_163 0 7 (dk_at dksX3_in_0 7 rfl rfl)
theorem dX3_in_10 : decode cX3_in 10 = .ok (.iconst 1, 1) := dk_4 (dk_at dksX3_in_0 10 rfl rfl)
theorem dX3_in_11 : decode cX3_in 11 = .ok (.goto 4, 3) := dk_167 0 4 (dk_at dksX3_in_0 11 rfl rfl)
theorem dX3_in_14 : decode cX3_in 14 = .ok (.iconst 0, 1) := dk_3 (dk_at dksX3_in_0 14 rfl rfl)
theorem dX3_in_15 : decode cX3_in 15 = .ok (.ireturn, 1) := dk_172 (dk_at dksX3_in_0 15 rfl rfl)
abbrev cX3_fails : ByteArray := prog_11_method_3_code
def yX3_fails : MethodName := ⟨RX3, "fails", "(I)Z"⟩
def dkwX3_fails_0 : List UInt8 := [42, 27, 181, 0, 42, 27, 158, 0, 7, 4, 167, 0, 4, 3, 172]
abbrev dktX3_fails_0 : List UInt8 := dkwX3_fails_0 ++ []
theorem dksX3_fails_0 : cX3_fails.data.toList.drop 0 = dktX3_fails_0 := by decide +kernel
theorem dX3_fails_0 : decode cX3_fails 0 = .ok (.aload_n 0, 1) := dk_42 (dk_at dksX3_fails_0 0 rfl rfl)
theorem dX3_fails_1 : decode cX3_fails 1 = .ok (.iload_n 1, 1) := dk_27 (dk_at dksX3_fails_0 1 rfl rfl)
theorem dX3_fails_2 : decode cX3_fails 2 = .ok (.putfield 42, 3) := dk_181 0 42 (dk_at dksX3_fails_0 2 rfl rfl)
theorem dX3_fails_5 : decode cX3_fails 5 = .ok (.iload_n 1, 1) := dk_27 (dk_at dksX3_fails_0 5 rfl rfl)
theorem dX3_fails_6 : decode cX3_fails 6 = .ok (.ifCond .le 7, 3) := dk_158 0 7 (dk_at dksX3_fails_0 6 rfl rfl)
theorem dX3_fails_9 : decode cX3_fails 9 = .ok (.iconst 1, 1) := dk_4 (dk_at dksX3_fails_0 9 rfl rfl)
theorem dX3_fails_10 : decode cX3_fails 10 = .ok (.goto 4, 3) := dk_167 0 4 (dk_at dksX3_fails_0 10 rfl rfl)
theorem dX3_fails_13 : decode cX3_fails 13 = .ok (.iconst 0, 1) := dk_3 (dk_at dksX3_fails_0 13 rfl rfl)
theorem dX3_fails_14 : decode cX3_fails 14 = .ok (.ireturn, 1) := dk_172 (dk_at dksX3_fails_0 14 rfl rfl)
abbrev cX3_refuses : ByteArray := prog_11_method_4_code
def yX3_refuses : MethodName := ⟨RX3, "refuses", "(III)I"⟩
def dkwX3_refuses_0 : List UInt8 := [42, 27, 181, 0, 42, 42, 28, 181, 0, 45, 42, 29, 181, 0, 48, 3, 172]
abbrev dktX3_refuses_0 : List UInt8 := dkwX3_refuses_0 ++ []
theorem dksX3_refuses_0 : cX3_refuses.data.toList.drop 0 = dktX3_refuses_0 := by decide +kernel
theorem dX3_refuses_0 : decode cX3_refuses 0 = .ok (.aload_n 0, 1) := dk_42 (dk_at dksX3_refuses_0 0 rfl rfl)
theorem dX3_refuses_1 : decode cX3_refuses 1 = .ok (.iload_n 1, 1) := dk_27 (dk_at dksX3_refuses_0 1 rfl rfl)
theorem dX3_refuses_2 : decode cX3_refuses 2 = .ok (.putfield 42, 3) := dk_181 0 42 (dk_at dksX3_refuses_0 2 rfl rfl)
theorem dX3_refuses_5 : decode cX3_refuses 5 = .ok (.aload_n 0, 1) := dk_42 (dk_at dksX3_refuses_0 5 rfl rfl)
theorem dX3_refuses_6 : decode cX3_refuses 6 = .ok (.iload_n 2, 1) := dk_28 (dk_at dksX3_refuses_0 6 rfl rfl)
theorem dX3_refuses_7 : decode cX3_refuses 7 = .ok (.putfield 45, 3) := dk_181 0 45 (dk_at dksX3_refuses_0 7 rfl rfl)
theorem dX3_refuses_10 : decode cX3_refuses 10 = .ok (.aload_n 0, 1) := dk_42 (dk_at dksX3_refuses_0 10 rfl rfl)
theorem dX3_refuses_11 : decode cX3_refuses 11 = .ok (.iload_n 3, 1) := dk_29 (dk_at dksX3_refuses_0 11 rfl rfl)
theorem dX3_refuses_12 : decode cX3_refuses 12 = .ok (.putfield 48, 3) := dk_181 0 48 (dk_at dksX3_refuses_0 12 rfl rfl)
theorem dX3_refuses_15 : decode cX3_refuses 15 = .ok (.iconst 0, 1) := dk_3 (dk_at dksX3_refuses_0 15 rfl rfl)
theorem dX3_refuses_16 : decode cX3_refuses 16 = .ok (.ireturn, 1) := dk_172 (dk_at dksX3_refuses_0 16 rfl rfl)
abbrev cX3_keeps : ByteArray := prog_11_method_9_code
def yX3_keeps : MethodName := ⟨RX3, "keeps", "([I)V"⟩
def dkwX3_keeps_3 : List UInt8 := [17, 1, 48, 42, 180, 0, 55, 104, 184, 0, 58, 42, 89, 180, 0, 55, 4, 96, 181, 0, 55, 177]
abbrev dktX3_keeps_3 : List UInt8 := dkwX3_keeps_3 ++ []
def dkwX3_keeps_2 : List UInt8 := [132, 2, 1, 167, 255, 230, 42, 89, 180, 0, 55, 4, 100, 181, 0, 55, 43, 3, 42, 180, 0, 13]
abbrev dktX3_keeps_2 : List UInt8 := dkwX3_keeps_2 ++ dktX3_keeps_3
def dkwX3_keeps_1 : List UInt8 := [28, 17, 8, 80, 162, 0, 25, 42, 180, 0, 13, 28, 42, 180, 0, 13, 28, 17, 1, 48, 96, 46, 79]
abbrev dktX3_keeps_1 : List UInt8 := dkwX3_keeps_1 ++ dktX3_keeps_2
def dkwX3_keeps_0 : List UInt8 := [42, 3, 181, 0, 42, 42, 180, 0, 51, 153, 0, 4, 177, 42, 180, 0, 55, 16, 8, 160, 0, 44, 3, 61]
abbrev dktX3_keeps_0 : List UInt8 := dkwX3_keeps_0 ++ dktX3_keeps_1
theorem dksX3_keeps_0 : cX3_keeps.data.toList.drop 0 = dktX3_keeps_0 := by decide +kernel
theorem dksX3_keeps_1 : cX3_keeps.data.toList.drop 24 = dktX3_keeps_1 := dk_seg dksX3_keeps_0 24 rfl rfl
theorem dksX3_keeps_2 : cX3_keeps.data.toList.drop 47 = dktX3_keeps_2 := dk_seg dksX3_keeps_1 23 rfl rfl
theorem dksX3_keeps_3 : cX3_keeps.data.toList.drop 69 = dktX3_keeps_3 := dk_seg dksX3_keeps_2 22 rfl rfl
theorem dX3_keeps_0 : decode cX3_keeps 0 = .ok (.aload_n 0, 1) := dk_42 (dk_at dksX3_keeps_0 0 rfl rfl)
theorem dX3_keeps_1 : decode cX3_keeps 1 = .ok (.iconst 0, 1) := dk_3 (dk_at dksX3_keeps_0 1 rfl rfl)
theorem dX3_keeps_2 : decode cX3_keeps 2 = .ok (.putfield 42, 3) := dk_181 0 42 (dk_at dksX3_keeps_0 2 rfl rfl)
theorem dX3_keeps_5 : decode cX3_keeps 5 = .ok (.aload_n 0, 1) := dk_42 (dk_at dksX3_keeps_0 5 rfl rfl)
theorem dX3_keeps_6 : decode cX3_keeps 6 = .ok (.getfield 51, 3) := dk_180 0 51 (dk_at dksX3_keeps_0 6 rfl rfl)
theorem dX3_keeps_9 : decode cX3_keeps 9 = .ok (.ifCond .eq 4, 3) := dk_153 0 4 (dk_at dksX3_keeps_0 9 rfl rfl)
theorem dX3_keeps_12 : decode cX3_keeps 12 = .ok (.return_, 1) := dk_177 (dk_at dksX3_keeps_0 12 rfl rfl)
theorem dX3_keeps_13 : decode cX3_keeps 13 = .ok (.aload_n 0, 1) := dk_42 (dk_at dksX3_keeps_0 13 rfl rfl)
theorem dX3_keeps_14 : decode cX3_keeps 14 = .ok (.getfield 55, 3) := dk_180 0 55 (dk_at dksX3_keeps_0 14 rfl rfl)
theorem dX3_keeps_17 : decode cX3_keeps 17 = .ok (.bipush 8, 2) := dk_16 8 (dk_at dksX3_keeps_0 17 rfl rfl)
theorem dX3_keeps_19 : decode cX3_keeps 19 = .ok (.if_icmp .ne 44, 3) := dk_160 0 44 (dk_at dksX3_keeps_0 19 rfl rfl)
theorem dX3_keeps_22 : decode cX3_keeps 22 = .ok (.iconst 0, 1) := dk_3 (dk_at dksX3_keeps_0 22 rfl rfl)
theorem dX3_keeps_23 : decode cX3_keeps 23 = .ok (.istore_n 2, 1) := dk_61 (dk_at dksX3_keeps_0 23 rfl rfl)
theorem dX3_keeps_24 : decode cX3_keeps 24 = .ok (.iload_n 2, 1) := dk_28 (dk_at dksX3_keeps_1 0 rfl rfl)
theorem dX3_keeps_25 : decode cX3_keeps 25 = .ok (.sipush 2128, 3) := dk_17 8 80 (dk_at dksX3_keeps_1 1 rfl rfl)
theorem dX3_keeps_28 : decode cX3_keeps 28 = .ok (.if_icmp .ge 25, 3) := dk_162 0 25 (dk_at dksX3_keeps_1 4 rfl rfl)
theorem dX3_keeps_31 : decode cX3_keeps 31 = .ok (.aload_n 0, 1) := dk_42 (dk_at dksX3_keeps_1 7 rfl rfl)
theorem dX3_keeps_32 : decode cX3_keeps 32 = .ok (.getfield 13, 3) := dk_180 0 13 (dk_at dksX3_keeps_1 8 rfl rfl)
theorem dX3_keeps_35 : decode cX3_keeps 35 = .ok (.iload_n 2, 1) := dk_28 (dk_at dksX3_keeps_1 11 rfl rfl)
theorem dX3_keeps_36 : decode cX3_keeps 36 = .ok (.aload_n 0, 1) := dk_42 (dk_at dksX3_keeps_1 12 rfl rfl)
theorem dX3_keeps_37 : decode cX3_keeps 37 = .ok (.getfield 13, 3) := dk_180 0 13 (dk_at dksX3_keeps_1 13 rfl rfl)
theorem dX3_keeps_40 : decode cX3_keeps 40 = .ok (.iload_n 2, 1) := dk_28 (dk_at dksX3_keeps_1 16 rfl rfl)
theorem dX3_keeps_41 : decode cX3_keeps 41 = .ok (.sipush 304, 3) := dk_17 1 48 (dk_at dksX3_keeps_1 17 rfl rfl)
theorem dX3_keeps_44 : decode cX3_keeps 44 = .ok (.iadd, 1) := dk_96 (dk_at dksX3_keeps_1 20 rfl rfl)
theorem dX3_keeps_45 : decode cX3_keeps 45 = .ok (.iaload, 1) := dk_46 (dk_at dksX3_keeps_1 21 rfl rfl)
theorem dX3_keeps_46 : decode cX3_keeps 46 = .ok (.iastore, 1) := dk_79 (dk_at dksX3_keeps_1 22 rfl rfl)
theorem dX3_keeps_47 : decode cX3_keeps 47 = .ok (.iinc 2 1, 3) := dk_132 2 1 (dk_at dksX3_keeps_2 0 rfl rfl)
theorem dX3_keeps_50 : decode cX3_keeps 50 = .ok (.goto (-26), 3) := dk_167 255 230 (dk_at dksX3_keeps_2 3 rfl rfl)
theorem dX3_keeps_53 : decode cX3_keeps 53 = .ok (.aload_n 0, 1) := dk_42 (dk_at dksX3_keeps_2 6 rfl rfl)
theorem dX3_keeps_54 : decode cX3_keeps 54 = .ok (.dup, 1) := dk_89 (dk_at dksX3_keeps_2 7 rfl rfl)
theorem dX3_keeps_55 : decode cX3_keeps 55 = .ok (.getfield 55, 3) := dk_180 0 55 (dk_at dksX3_keeps_2 8 rfl rfl)
theorem dX3_keeps_58 : decode cX3_keeps 58 = .ok (.iconst 1, 1) := dk_4 (dk_at dksX3_keeps_2 11 rfl rfl)
theorem dX3_keeps_59 : decode cX3_keeps 59 = .ok (.isub, 1) := dk_100 (dk_at dksX3_keeps_2 12 rfl rfl)
theorem dX3_keeps_60 : decode cX3_keeps 60 = .ok (.putfield 55, 3) := dk_181 0 55 (dk_at dksX3_keeps_2 13 rfl rfl)
theorem dX3_keeps_63 : decode cX3_keeps 63 = .ok (.aload_n 1, 1) := dk_43 (dk_at dksX3_keeps_2 16 rfl rfl)
theorem dX3_keeps_64 : decode cX3_keeps 64 = .ok (.iconst 0, 1) := dk_3 (dk_at dksX3_keeps_2 17 rfl rfl)
theorem dX3_keeps_65 : decode cX3_keeps 65 = .ok (.aload_n 0, 1) := dk_42 (dk_at dksX3_keeps_2 18 rfl rfl)
theorem dX3_keeps_66 : decode cX3_keeps 66 = .ok (.getfield 13, 3) := dk_180 0 13 (dk_at dksX3_keeps_2 19 rfl rfl)
theorem dX3_keeps_69 : decode cX3_keeps 69 = .ok (.sipush 304, 3) := dk_17 1 48 (dk_at dksX3_keeps_3 0 rfl rfl)
theorem dX3_keeps_72 : decode cX3_keeps 72 = .ok (.aload_n 0, 1) := dk_42 (dk_at dksX3_keeps_3 3 rfl rfl)
theorem dX3_keeps_73 : decode cX3_keeps 73 = .ok (.getfield 55, 3) := dk_180 0 55 (dk_at dksX3_keeps_3 4 rfl rfl)
theorem dX3_keeps_76 : decode cX3_keeps 76 = .ok (.imul, 1) := dk_104 (dk_at dksX3_keeps_3 7 rfl rfl)
theorem dX3_keeps_77 : decode cX3_keeps 77 = .ok (.invokestatic 58, 3) := dk_184 0 58 (dk_at dksX3_keeps_3 8 rfl rfl)
theorem dX3_keeps_80 : decode cX3_keeps 80 = .ok (.aload_n 0, 1) := dk_42 (dk_at dksX3_keeps_3 11 rfl rfl)
theorem dX3_keeps_81 : decode cX3_keeps 81 = .ok (.dup, 1) := dk_89 (dk_at dksX3_keeps_3 12 rfl rfl)
theorem dX3_keeps_82 : decode cX3_keeps 82 = .ok (.getfield 55, 3) := dk_180 0 55 (dk_at dksX3_keeps_3 13 rfl rfl)
theorem dX3_keeps_85 : decode cX3_keeps 85 = .ok (.iconst 1, 1) := dk_4 (dk_at dksX3_keeps_3 16 rfl rfl)
theorem dX3_keeps_86 : decode cX3_keeps 86 = .ok (.iadd, 1) := dk_96 (dk_at dksX3_keeps_3 17 rfl rfl)
theorem dX3_keeps_87 : decode cX3_keeps 87 = .ok (.putfield 55, 3) := dk_181 0 55 (dk_at dksX3_keeps_3 18 rfl rfl)
theorem dX3_keeps_90 : decode cX3_keeps 90 = .ok (.return_, 1) := dk_177 (dk_at dksX3_keeps_3 21 rfl rfl)
abbrev cX3_copies : ByteArray := prog_11_method_8_code
def yX3_copies : MethodName := ⟨RX3, "copies", "([II[II)V"⟩
def dkwX3_copies_1 : List UInt8 := [132, 4, 1, 167, 255, 233, 177]
abbrev dktX3_copies_1 : List UInt8 := dkwX3_copies_1 ++ []
def dkwX3_copies_0 : List UInt8 := [3, 54, 4, 21, 4, 17, 1, 48, 162, 0, 21, 44, 29, 21, 4, 96, 42, 27, 21, 4, 96, 46, 79]
abbrev dktX3_copies_0 : List UInt8 := dkwX3_copies_0 ++ dktX3_copies_1
theorem dksX3_copies_0 : cX3_copies.data.toList.drop 0 = dktX3_copies_0 := by decide +kernel
theorem dksX3_copies_1 : cX3_copies.data.toList.drop 23 = dktX3_copies_1 := dk_seg dksX3_copies_0 23 rfl rfl
theorem dX3_copies_0 : decode cX3_copies 0 = .ok (.iconst 0, 1) := dk_3 (dk_at dksX3_copies_0 0 rfl rfl)
theorem dX3_copies_1 : decode cX3_copies 1 = .ok (.istore 4, 2) := dk_54 4 (dk_at dksX3_copies_0 1 rfl rfl)
theorem dX3_copies_3 : decode cX3_copies 3 = .ok (.iload 4, 2) := dk_21 4 (dk_at dksX3_copies_0 3 rfl rfl)
theorem dX3_copies_5 : decode cX3_copies 5 = .ok (.sipush 304, 3) := dk_17 1 48 (dk_at dksX3_copies_0 5 rfl rfl)
theorem dX3_copies_8 : decode cX3_copies 8 = .ok (.if_icmp .ge 21, 3) := dk_162 0 21 (dk_at dksX3_copies_0 8 rfl rfl)
theorem dX3_copies_11 : decode cX3_copies 11 = .ok (.aload_n 2, 1) := dk_44 (dk_at dksX3_copies_0 11 rfl rfl)
theorem dX3_copies_12 : decode cX3_copies 12 = .ok (.iload_n 3, 1) := dk_29 (dk_at dksX3_copies_0 12 rfl rfl)
theorem dX3_copies_13 : decode cX3_copies 13 = .ok (.iload 4, 2) := dk_21 4 (dk_at dksX3_copies_0 13 rfl rfl)
theorem dX3_copies_15 : decode cX3_copies 15 = .ok (.iadd, 1) := dk_96 (dk_at dksX3_copies_0 15 rfl rfl)
theorem dX3_copies_16 : decode cX3_copies 16 = .ok (.aload_n 0, 1) := dk_42 (dk_at dksX3_copies_0 16 rfl rfl)
theorem dX3_copies_17 : decode cX3_copies 17 = .ok (.iload_n 1, 1) := dk_27 (dk_at dksX3_copies_0 17 rfl rfl)
theorem dX3_copies_18 : decode cX3_copies 18 = .ok (.iload 4, 2) := dk_21 4 (dk_at dksX3_copies_0 18 rfl rfl)
theorem dX3_copies_20 : decode cX3_copies 20 = .ok (.iadd, 1) := dk_96 (dk_at dksX3_copies_0 20 rfl rfl)
theorem dX3_copies_21 : decode cX3_copies 21 = .ok (.iaload, 1) := dk_46 (dk_at dksX3_copies_0 21 rfl rfl)
theorem dX3_copies_22 : decode cX3_copies 22 = .ok (.iastore, 1) := dk_79 (dk_at dksX3_copies_0 22 rfl rfl)
theorem dX3_copies_23 : decode cX3_copies 23 = .ok (.iinc 4 1, 3) := dk_132 4 1 (dk_at dksX3_copies_1 0 rfl rfl)
theorem dX3_copies_26 : decode cX3_copies 26 = .ok (.goto (-23), 3) := dk_167 255 233 (dk_at dksX3_copies_1 3 rfl rfl)
theorem dX3_copies_29 : decode cX3_copies 29 = .ok (.return_, 1) := dk_177 (dk_at dksX3_copies_1 6 rfl rfl)
abbrev cX3_lays : ByteArray := prog_11_method_13_code
def yX3_lays : MethodName := ⟨RX3, "lays", "(III)V"⟩
def dkwX3_lays_0 : List UInt8 := [42, 180, 0, 7, 16, 10, 16, 14, 27, 104, 96, 28, 96, 29, 79, 177]
abbrev dktX3_lays_0 : List UInt8 := dkwX3_lays_0 ++ []
theorem dksX3_lays_0 : cX3_lays.data.toList.drop 0 = dktX3_lays_0 := by decide +kernel
theorem dX3_lays_0 : decode cX3_lays 0 = .ok (.aload_n 0, 1) := dk_42 (dk_at dksX3_lays_0 0 rfl rfl)
theorem dX3_lays_1 : decode cX3_lays 1 = .ok (.getfield 7, 3) := dk_180 0 7 (dk_at dksX3_lays_0 1 rfl rfl)
theorem dX3_lays_4 : decode cX3_lays 4 = .ok (.bipush 10, 2) := dk_16 10 (dk_at dksX3_lays_0 4 rfl rfl)
theorem dX3_lays_6 : decode cX3_lays 6 = .ok (.bipush 14, 2) := dk_16 14 (dk_at dksX3_lays_0 6 rfl rfl)
theorem dX3_lays_8 : decode cX3_lays 8 = .ok (.iload_n 1, 1) := dk_27 (dk_at dksX3_lays_0 8 rfl rfl)
theorem dX3_lays_9 : decode cX3_lays 9 = .ok (.imul, 1) := dk_104 (dk_at dksX3_lays_0 9 rfl rfl)
theorem dX3_lays_10 : decode cX3_lays 10 = .ok (.iadd, 1) := dk_96 (dk_at dksX3_lays_0 10 rfl rfl)
theorem dX3_lays_11 : decode cX3_lays 11 = .ok (.iload_n 2, 1) := dk_28 (dk_at dksX3_lays_0 11 rfl rfl)
theorem dX3_lays_12 : decode cX3_lays 12 = .ok (.iadd, 1) := dk_96 (dk_at dksX3_lays_0 12 rfl rfl)
theorem dX3_lays_13 : decode cX3_lays 13 = .ok (.iload_n 3, 1) := dk_29 (dk_at dksX3_lays_0 13 rfl rfl)
theorem dX3_lays_14 : decode cX3_lays 14 = .ok (.iastore, 1) := dk_79 (dk_at dksX3_lays_0 14 rfl rfl)
theorem dX3_lays_15 : decode cX3_lays 15 = .ok (.return_, 1) := dk_177 (dk_at dksX3_lays_0 15 rfl rfl)
abbrev cX3_river : ByteArray := prog_11_method_22_code
def yX3_river : MethodName := ⟨RX3, "river", "(II)I"⟩
def dkwX3_river_6 : List UInt8 := [46, 4, 100, 172]
abbrev dktX3_river_6 : List UInt8 := dkwX3_river_6 ++ []
def dkwX3_river_5 : List UInt8 := [42, 180, 0, 7, 29, 6, 96, 2, 79, 42, 180, 0, 7, 4, 92, 46, 4, 96, 79, 42, 180, 0, 7, 4]
abbrev dktX3_river_5 : List UInt8 := dkwX3_river_5 ++ dktX3_river_6
def dkwX3_river_4 : List UInt8 := [132, 4, 1, 167, 255, 236, 42, 180, 0, 7, 29, 3, 96, 27, 79, 42, 180, 0, 7, 29, 4, 96, 28, 79]
abbrev dktX3_river_4 : List UInt8 := dkwX3_river_4 ++ dktX3_river_5
def dkwX3_river_3 : List UInt8 := [46, 104, 96, 62, 3, 54, 4, 21, 4, 16, 6, 162, 0, 19, 42, 180, 0, 7, 29, 21, 4, 96, 3, 79]
abbrev dktX3_river_3 : List UInt8 := dkwX3_river_3 ++ dktX3_river_4
def dkwX3_river_2 : List UInt8 := [4, 7, 182, 0, 74, 172, 42, 42, 180, 0, 7, 182, 0, 78, 17, 0, 150, 16, 6, 42, 180, 0, 7, 4]
abbrev dktX3_river_2 : List UInt8 := dkwX3_river_2 ++ dktX3_river_3
def dkwX3_river_1 : List UInt8 := [167, 0, 4, 4, 182, 0, 70, 153, 0, 5, 3, 172, 42, 180, 0, 7, 4, 46, 7, 160, 0, 11, 42, 5]
abbrev dktX3_river_1 : List UInt8 := dkwX3_river_1 ++ dktX3_river_2
def dkwX3_river_0 : List UInt8 := [42, 27, 8, 16, 60, 184, 0, 62, 153, 0, 17, 28, 3, 16, 9, 184, 0, 62, 153, 0, 7, 3]
abbrev dktX3_river_0 : List UInt8 := dkwX3_river_0 ++ dktX3_river_1
theorem dksX3_river_0 : cX3_river.data.toList.drop 0 = dktX3_river_0 := by decide +kernel
theorem dksX3_river_1 : cX3_river.data.toList.drop 22 = dktX3_river_1 := dk_seg dksX3_river_0 22 rfl rfl
theorem dksX3_river_2 : cX3_river.data.toList.drop 46 = dktX3_river_2 := dk_seg dksX3_river_1 24 rfl rfl
theorem dksX3_river_3 : cX3_river.data.toList.drop 70 = dktX3_river_3 := dk_seg dksX3_river_2 24 rfl rfl
theorem dksX3_river_4 : cX3_river.data.toList.drop 94 = dktX3_river_4 := dk_seg dksX3_river_3 24 rfl rfl
theorem dksX3_river_5 : cX3_river.data.toList.drop 118 = dktX3_river_5 := dk_seg dksX3_river_4 24 rfl rfl
theorem dksX3_river_6 : cX3_river.data.toList.drop 142 = dktX3_river_6 := dk_seg dksX3_river_5 24 rfl rfl
theorem dX3_river_0 : decode cX3_river 0 = .ok (.aload_n 0, 1) := dk_42 (dk_at dksX3_river_0 0 rfl rfl)
theorem dX3_river_1 : decode cX3_river 1 = .ok (.iload_n 1, 1) := dk_27 (dk_at dksX3_river_0 1 rfl rfl)
theorem dX3_river_2 : decode cX3_river 2 = .ok (.iconst 5, 1) := dk_8 (dk_at dksX3_river_0 2 rfl rfl)
theorem dX3_river_3 : decode cX3_river 3 = .ok (.bipush 60, 2) := dk_16 60 (dk_at dksX3_river_0 3 rfl rfl)
theorem dX3_river_5 : decode cX3_river 5 = .ok (.invokestatic 62, 3) := dk_184 0 62 (dk_at dksX3_river_0 5 rfl rfl)
theorem dX3_river_8 : decode cX3_river 8 = .ok (.ifCond .eq 17, 3) := dk_153 0 17 (dk_at dksX3_river_0 8 rfl rfl)
theorem dX3_river_11 : decode cX3_river 11 = .ok (.iload_n 2, 1) := dk_28 (dk_at dksX3_river_0 11 rfl rfl)
theorem dX3_river_12 : decode cX3_river 12 = .ok (.iconst 0, 1) := dk_3 (dk_at dksX3_river_0 12 rfl rfl)
theorem dX3_river_13 : decode cX3_river 13 = .ok (.bipush 9, 2) := dk_16 9 (dk_at dksX3_river_0 13 rfl rfl)
theorem dX3_river_15 : decode cX3_river 15 = .ok (.invokestatic 62, 3) := dk_184 0 62 (dk_at dksX3_river_0 15 rfl rfl)
theorem dX3_river_18 : decode cX3_river 18 = .ok (.ifCond .eq 7, 3) := dk_153 0 7 (dk_at dksX3_river_0 18 rfl rfl)
theorem dX3_river_21 : decode cX3_river 21 = .ok (.iconst 0, 1) := dk_3 (dk_at dksX3_river_0 21 rfl rfl)
theorem dX3_river_22 : decode cX3_river 22 = .ok (.goto 4, 3) := dk_167 0 4 (dk_at dksX3_river_1 0 rfl rfl)
theorem dX3_river_25 : decode cX3_river 25 = .ok (.iconst 1, 1) := dk_4 (dk_at dksX3_river_1 3 rfl rfl)
theorem dX3_river_26 : decode cX3_river 26 = .ok (.invokevirtual 70, 3) := dk_182 0 70 (dk_at dksX3_river_1 4 rfl rfl)
theorem dX3_river_29 : decode cX3_river 29 = .ok (.ifCond .eq 5, 3) := dk_153 0 5 (dk_at dksX3_river_1 7 rfl rfl)
theorem dX3_river_32 : decode cX3_river 32 = .ok (.iconst 0, 1) := dk_3 (dk_at dksX3_river_1 10 rfl rfl)
theorem dX3_river_33 : decode cX3_river 33 = .ok (.ireturn, 1) := dk_172 (dk_at dksX3_river_1 11 rfl rfl)
theorem dX3_river_34 : decode cX3_river 34 = .ok (.aload_n 0, 1) := dk_42 (dk_at dksX3_river_1 12 rfl rfl)
theorem dX3_river_35 : decode cX3_river 35 = .ok (.getfield 7, 3) := dk_180 0 7 (dk_at dksX3_river_1 13 rfl rfl)
theorem dX3_river_38 : decode cX3_river 38 = .ok (.iconst 1, 1) := dk_4 (dk_at dksX3_river_1 16 rfl rfl)
theorem dX3_river_39 : decode cX3_river 39 = .ok (.iaload, 1) := dk_46 (dk_at dksX3_river_1 17 rfl rfl)
theorem dX3_river_40 : decode cX3_river 40 = .ok (.iconst 4, 1) := dk_7 (dk_at dksX3_river_1 18 rfl rfl)
theorem dX3_river_41 : decode cX3_river 41 = .ok (.if_icmp .ne 11, 3) := dk_160 0 11 (dk_at dksX3_river_1 19 rfl rfl)
theorem dX3_river_44 : decode cX3_river 44 = .ok (.aload_n 0, 1) := dk_42 (dk_at dksX3_river_1 22 rfl rfl)
theorem dX3_river_45 : decode cX3_river 45 = .ok (.iconst 2, 1) := dk_5 (dk_at dksX3_river_1 23 rfl rfl)
theorem dX3_river_46 : decode cX3_river 46 = .ok (.iconst 1, 1) := dk_4 (dk_at dksX3_river_2 0 rfl rfl)
theorem dX3_river_47 : decode cX3_river 47 = .ok (.iconst 4, 1) := dk_7 (dk_at dksX3_river_2 1 rfl rfl)
theorem dX3_river_48 : decode cX3_river 48 = .ok (.invokevirtual 74, 3) := dk_182 0 74 (dk_at dksX3_river_2 2 rfl rfl)
theorem dX3_river_51 : decode cX3_river 51 = .ok (.ireturn, 1) := dk_172 (dk_at dksX3_river_2 5 rfl rfl)
theorem dX3_river_52 : decode cX3_river 52 = .ok (.aload_n 0, 1) := dk_42 (dk_at dksX3_river_2 6 rfl rfl)
theorem dX3_river_53 : decode cX3_river 53 = .ok (.aload_n 0, 1) := dk_42 (dk_at dksX3_river_2 7 rfl rfl)
theorem dX3_river_54 : decode cX3_river 54 = .ok (.getfield 7, 3) := dk_180 0 7 (dk_at dksX3_river_2 8 rfl rfl)
theorem dX3_river_57 : decode cX3_river 57 = .ok (.invokevirtual 78, 3) := dk_182 0 78 (dk_at dksX3_river_2 11 rfl rfl)
theorem dX3_river_60 : decode cX3_river 60 = .ok (.sipush 150, 3) := dk_17 0 150 (dk_at dksX3_river_2 14 rfl rfl)
theorem dX3_river_63 : decode cX3_river 63 = .ok (.bipush 6, 2) := dk_16 6 (dk_at dksX3_river_2 17 rfl rfl)
theorem dX3_river_65 : decode cX3_river 65 = .ok (.aload_n 0, 1) := dk_42 (dk_at dksX3_river_2 19 rfl rfl)
theorem dX3_river_66 : decode cX3_river 66 = .ok (.getfield 7, 3) := dk_180 0 7 (dk_at dksX3_river_2 20 rfl rfl)
theorem dX3_river_69 : decode cX3_river 69 = .ok (.iconst 1, 1) := dk_4 (dk_at dksX3_river_2 23 rfl rfl)
theorem dX3_river_70 : decode cX3_river 70 = .ok (.iaload, 1) := dk_46 (dk_at dksX3_river_3 0 rfl rfl)
theorem dX3_river_71 : decode cX3_river 71 = .ok (.imul, 1) := dk_104 (dk_at dksX3_river_3 1 rfl rfl)
theorem dX3_river_72 : decode cX3_river 72 = .ok (.iadd, 1) := dk_96 (dk_at dksX3_river_3 2 rfl rfl)
theorem dX3_river_73 : decode cX3_river 73 = .ok (.istore_n 3, 1) := dk_62 (dk_at dksX3_river_3 3 rfl rfl)
theorem dX3_river_74 : decode cX3_river 74 = .ok (.iconst 0, 1) := dk_3 (dk_at dksX3_river_3 4 rfl rfl)
theorem dX3_river_75 : decode cX3_river 75 = .ok (.istore 4, 2) := dk_54 4 (dk_at dksX3_river_3 5 rfl rfl)
theorem dX3_river_77 : decode cX3_river 77 = .ok (.iload 4, 2) := dk_21 4 (dk_at dksX3_river_3 7 rfl rfl)
theorem dX3_river_79 : decode cX3_river 79 = .ok (.bipush 6, 2) := dk_16 6 (dk_at dksX3_river_3 9 rfl rfl)
theorem dX3_river_81 : decode cX3_river 81 = .ok (.if_icmp .ge 19, 3) := dk_162 0 19 (dk_at dksX3_river_3 11 rfl rfl)
theorem dX3_river_84 : decode cX3_river 84 = .ok (.aload_n 0, 1) := dk_42 (dk_at dksX3_river_3 14 rfl rfl)
theorem dX3_river_85 : decode cX3_river 85 = .ok (.getfield 7, 3) := dk_180 0 7 (dk_at dksX3_river_3 15 rfl rfl)
theorem dX3_river_88 : decode cX3_river 88 = .ok (.iload_n 3, 1) := dk_29 (dk_at dksX3_river_3 18 rfl rfl)
theorem dX3_river_89 : decode cX3_river 89 = .ok (.iload 4, 2) := dk_21 4 (dk_at dksX3_river_3 19 rfl rfl)
theorem dX3_river_91 : decode cX3_river 91 = .ok (.iadd, 1) := dk_96 (dk_at dksX3_river_3 21 rfl rfl)
theorem dX3_river_92 : decode cX3_river 92 = .ok (.iconst 0, 1) := dk_3 (dk_at dksX3_river_3 22 rfl rfl)
theorem dX3_river_93 : decode cX3_river 93 = .ok (.iastore, 1) := dk_79 (dk_at dksX3_river_3 23 rfl rfl)
theorem dX3_river_94 : decode cX3_river 94 = .ok (.iinc 4 1, 3) := dk_132 4 1 (dk_at dksX3_river_4 0 rfl rfl)
theorem dX3_river_97 : decode cX3_river 97 = .ok (.goto (-20), 3) := dk_167 255 236 (dk_at dksX3_river_4 3 rfl rfl)
theorem dX3_river_100 : decode cX3_river 100 = .ok (.aload_n 0, 1) := dk_42 (dk_at dksX3_river_4 6 rfl rfl)
theorem dX3_river_101 : decode cX3_river 101 = .ok (.getfield 7, 3) := dk_180 0 7 (dk_at dksX3_river_4 7 rfl rfl)
theorem dX3_river_104 : decode cX3_river 104 = .ok (.iload_n 3, 1) := dk_29 (dk_at dksX3_river_4 10 rfl rfl)
theorem dX3_river_105 : decode cX3_river 105 = .ok (.iconst 0, 1) := dk_3 (dk_at dksX3_river_4 11 rfl rfl)
theorem dX3_river_106 : decode cX3_river 106 = .ok (.iadd, 1) := dk_96 (dk_at dksX3_river_4 12 rfl rfl)
theorem dX3_river_107 : decode cX3_river 107 = .ok (.iload_n 1, 1) := dk_27 (dk_at dksX3_river_4 13 rfl rfl)
theorem dX3_river_108 : decode cX3_river 108 = .ok (.iastore, 1) := dk_79 (dk_at dksX3_river_4 14 rfl rfl)
theorem dX3_river_109 : decode cX3_river 109 = .ok (.aload_n 0, 1) := dk_42 (dk_at dksX3_river_4 15 rfl rfl)
theorem dX3_river_110 : decode cX3_river 110 = .ok (.getfield 7, 3) := dk_180 0 7 (dk_at dksX3_river_4 16 rfl rfl)
theorem dX3_river_113 : decode cX3_river 113 = .ok (.iload_n 3, 1) := dk_29 (dk_at dksX3_river_4 19 rfl rfl)
theorem dX3_river_114 : decode cX3_river 114 = .ok (.iconst 1, 1) := dk_4 (dk_at dksX3_river_4 20 rfl rfl)
theorem dX3_river_115 : decode cX3_river 115 = .ok (.iadd, 1) := dk_96 (dk_at dksX3_river_4 21 rfl rfl)
theorem dX3_river_116 : decode cX3_river 116 = .ok (.iload_n 2, 1) := dk_28 (dk_at dksX3_river_4 22 rfl rfl)
theorem dX3_river_117 : decode cX3_river 117 = .ok (.iastore, 1) := dk_79 (dk_at dksX3_river_4 23 rfl rfl)
theorem dX3_river_118 : decode cX3_river 118 = .ok (.aload_n 0, 1) := dk_42 (dk_at dksX3_river_5 0 rfl rfl)
theorem dX3_river_119 : decode cX3_river 119 = .ok (.getfield 7, 3) := dk_180 0 7 (dk_at dksX3_river_5 1 rfl rfl)
theorem dX3_river_122 : decode cX3_river 122 = .ok (.iload_n 3, 1) := dk_29 (dk_at dksX3_river_5 4 rfl rfl)
theorem dX3_river_123 : decode cX3_river 123 = .ok (.iconst 3, 1) := dk_6 (dk_at dksX3_river_5 5 rfl rfl)
theorem dX3_river_124 : decode cX3_river 124 = .ok (.iadd, 1) := dk_96 (dk_at dksX3_river_5 6 rfl rfl)
theorem dX3_river_125 : decode cX3_river 125 = .ok (.iconst (-1), 1) := dk_2 (dk_at dksX3_river_5 7 rfl rfl)
theorem dX3_river_126 : decode cX3_river 126 = .ok (.iastore, 1) := dk_79 (dk_at dksX3_river_5 8 rfl rfl)
theorem dX3_river_127 : decode cX3_river 127 = .ok (.aload_n 0, 1) := dk_42 (dk_at dksX3_river_5 9 rfl rfl)
theorem dX3_river_128 : decode cX3_river 128 = .ok (.getfield 7, 3) := dk_180 0 7 (dk_at dksX3_river_5 10 rfl rfl)
theorem dX3_river_131 : decode cX3_river 131 = .ok (.iconst 1, 1) := dk_4 (dk_at dksX3_river_5 13 rfl rfl)
theorem dX3_river_132 : decode cX3_river 132 = .ok (.dup2, 1) := dk_92 (dk_at dksX3_river_5 14 rfl rfl)
theorem dX3_river_133 : decode cX3_river 133 = .ok (.iaload, 1) := dk_46 (dk_at dksX3_river_5 15 rfl rfl)
theorem dX3_river_134 : decode cX3_river 134 = .ok (.iconst 1, 1) := dk_4 (dk_at dksX3_river_5 16 rfl rfl)
theorem dX3_river_135 : decode cX3_river 135 = .ok (.iadd, 1) := dk_96 (dk_at dksX3_river_5 17 rfl rfl)
theorem dX3_river_136 : decode cX3_river 136 = .ok (.iastore, 1) := dk_79 (dk_at dksX3_river_5 18 rfl rfl)
theorem dX3_river_137 : decode cX3_river 137 = .ok (.aload_n 0, 1) := dk_42 (dk_at dksX3_river_5 19 rfl rfl)
theorem dX3_river_138 : decode cX3_river 138 = .ok (.getfield 7, 3) := dk_180 0 7 (dk_at dksX3_river_5 20 rfl rfl)
theorem dX3_river_141 : decode cX3_river 141 = .ok (.iconst 1, 1) := dk_4 (dk_at dksX3_river_5 23 rfl rfl)
theorem dX3_river_142 : decode cX3_river 142 = .ok (.iaload, 1) := dk_46 (dk_at dksX3_river_6 0 rfl rfl)
theorem dX3_river_143 : decode cX3_river 143 = .ok (.iconst 1, 1) := dk_4 (dk_at dksX3_river_6 1 rfl rfl)
theorem dX3_river_144 : decode cX3_river 144 = .ok (.isub, 1) := dk_100 (dk_at dksX3_river_6 2 rfl rfl)
theorem dX3_river_145 : decode cX3_river 145 = .ok (.ireturn, 1) := dk_172 (dk_at dksX3_river_6 3 rfl rfl)
abbrev cX3_calm : ByteArray := prog_11_method_23_code
def yX3_calm : MethodName := ⟨RX3, "calm", "(II)I"⟩
def dkwX3_calm_3 : List UInt8 := [16, 6, 27, 104, 96, 4, 96, 28, 79, 29, 172]
abbrev dktX3_calm_3 : List UInt8 := dkwX3_calm_3 ++ []
def dkwX3_calm_2 : List UInt8 := [42, 6, 16, 7, 28, 182, 0, 74, 172, 42, 42, 180, 0, 7, 182, 0, 78, 42, 180, 0, 7, 17, 0, 150]
abbrev dktX3_calm_2 : List UInt8 := dkwX3_calm_2 ++ dktX3_calm_3
def dkwX3_calm_1 : List UInt8 := [167, 0, 4, 5, 182, 0, 70, 153, 0, 5, 3, 172, 42, 27, 4, 182, 0, 89, 62, 29, 28, 160, 0, 12]
abbrev dktX3_calm_1 : List UInt8 := dkwX3_calm_1 ++ dktX3_calm_2
def dkwX3_calm_0 : List UInt8 := [42, 42, 27, 182, 0, 86, 154, 0, 7, 4, 167, 0, 18, 28, 3, 16, 9, 184, 0, 62, 153, 0, 7, 3]
abbrev dktX3_calm_0 : List UInt8 := dkwX3_calm_0 ++ dktX3_calm_1
theorem dksX3_calm_0 : cX3_calm.data.toList.drop 0 = dktX3_calm_0 := by decide +kernel
theorem dksX3_calm_1 : cX3_calm.data.toList.drop 24 = dktX3_calm_1 := dk_seg dksX3_calm_0 24 rfl rfl
theorem dksX3_calm_2 : cX3_calm.data.toList.drop 48 = dktX3_calm_2 := dk_seg dksX3_calm_1 24 rfl rfl
theorem dksX3_calm_3 : cX3_calm.data.toList.drop 72 = dktX3_calm_3 := dk_seg dksX3_calm_2 24 rfl rfl
theorem dX3_calm_0 : decode cX3_calm 0 = .ok (.aload_n 0, 1) := dk_42 (dk_at dksX3_calm_0 0 rfl rfl)
theorem dX3_calm_1 : decode cX3_calm 1 = .ok (.aload_n 0, 1) := dk_42 (dk_at dksX3_calm_0 1 rfl rfl)
theorem dX3_calm_2 : decode cX3_calm 2 = .ok (.iload_n 1, 1) := dk_27 (dk_at dksX3_calm_0 2 rfl rfl)
theorem dX3_calm_3 : decode cX3_calm 3 = .ok (.invokevirtual 86, 3) := dk_182 0 86 (dk_at dksX3_calm_0 3 rfl rfl)
theorem dX3_calm_6 : decode cX3_calm 6 = .ok (.ifCond .ne 7, 3) := dk_154 0 7 (dk_at dksX3_calm_0 6 rfl rfl)
theorem dX3_calm_9 : decode cX3_calm 9 = .ok (.iconst 1, 1) := dk_4 (dk_at dksX3_calm_0 9 rfl rfl)
theorem dX3_calm_10 : decode cX3_calm 10 = .ok (.goto 18, 3) := dk_167 0 18 (dk_at dksX3_calm_0 10 rfl rfl)
theorem dX3_calm_13 : decode cX3_calm 13 = .ok (.iload_n 2, 1) := dk_28 (dk_at dksX3_calm_0 13 rfl rfl)
theorem dX3_calm_14 : decode cX3_calm 14 = .ok (.iconst 0, 1) := dk_3 (dk_at dksX3_calm_0 14 rfl rfl)
theorem dX3_calm_15 : decode cX3_calm 15 = .ok (.bipush 9, 2) := dk_16 9 (dk_at dksX3_calm_0 15 rfl rfl)
theorem dX3_calm_17 : decode cX3_calm 17 = .ok (.invokestatic 62, 3) := dk_184 0 62 (dk_at dksX3_calm_0 17 rfl rfl)
theorem dX3_calm_20 : decode cX3_calm 20 = .ok (.ifCond .eq 7, 3) := dk_153 0 7 (dk_at dksX3_calm_0 20 rfl rfl)
theorem dX3_calm_23 : decode cX3_calm 23 = .ok (.iconst 0, 1) := dk_3 (dk_at dksX3_calm_0 23 rfl rfl)
theorem dX3_calm_24 : decode cX3_calm 24 = .ok (.goto 4, 3) := dk_167 0 4 (dk_at dksX3_calm_1 0 rfl rfl)
theorem dX3_calm_27 : decode cX3_calm 27 = .ok (.iconst 2, 1) := dk_5 (dk_at dksX3_calm_1 3 rfl rfl)
theorem dX3_calm_28 : decode cX3_calm 28 = .ok (.invokevirtual 70, 3) := dk_182 0 70 (dk_at dksX3_calm_1 4 rfl rfl)
theorem dX3_calm_31 : decode cX3_calm 31 = .ok (.ifCond .eq 5, 3) := dk_153 0 5 (dk_at dksX3_calm_1 7 rfl rfl)
theorem dX3_calm_34 : decode cX3_calm 34 = .ok (.iconst 0, 1) := dk_3 (dk_at dksX3_calm_1 10 rfl rfl)
theorem dX3_calm_35 : decode cX3_calm 35 = .ok (.ireturn, 1) := dk_172 (dk_at dksX3_calm_1 11 rfl rfl)
theorem dX3_calm_36 : decode cX3_calm 36 = .ok (.aload_n 0, 1) := dk_42 (dk_at dksX3_calm_1 12 rfl rfl)
theorem dX3_calm_37 : decode cX3_calm 37 = .ok (.iload_n 1, 1) := dk_27 (dk_at dksX3_calm_1 13 rfl rfl)
theorem dX3_calm_38 : decode cX3_calm 38 = .ok (.iconst 1, 1) := dk_4 (dk_at dksX3_calm_1 14 rfl rfl)
theorem dX3_calm_39 : decode cX3_calm 39 = .ok (.invokevirtual 89, 3) := dk_182 0 89 (dk_at dksX3_calm_1 15 rfl rfl)
theorem dX3_calm_42 : decode cX3_calm 42 = .ok (.istore_n 3, 1) := dk_62 (dk_at dksX3_calm_1 18 rfl rfl)
theorem dX3_calm_43 : decode cX3_calm 43 = .ok (.iload_n 3, 1) := dk_29 (dk_at dksX3_calm_1 19 rfl rfl)
theorem dX3_calm_44 : decode cX3_calm 44 = .ok (.iload_n 2, 1) := dk_28 (dk_at dksX3_calm_1 20 rfl rfl)
theorem dX3_calm_45 : decode cX3_calm 45 = .ok (.if_icmp .ne 12, 3) := dk_160 0 12 (dk_at dksX3_calm_1 21 rfl rfl)
theorem dX3_calm_48 : decode cX3_calm 48 = .ok (.aload_n 0, 1) := dk_42 (dk_at dksX3_calm_2 0 rfl rfl)
theorem dX3_calm_49 : decode cX3_calm 49 = .ok (.iconst 3, 1) := dk_6 (dk_at dksX3_calm_2 1 rfl rfl)
theorem dX3_calm_50 : decode cX3_calm 50 = .ok (.bipush 7, 2) := dk_16 7 (dk_at dksX3_calm_2 2 rfl rfl)
theorem dX3_calm_52 : decode cX3_calm 52 = .ok (.iload_n 2, 1) := dk_28 (dk_at dksX3_calm_2 4 rfl rfl)
theorem dX3_calm_53 : decode cX3_calm 53 = .ok (.invokevirtual 74, 3) := dk_182 0 74 (dk_at dksX3_calm_2 5 rfl rfl)
theorem dX3_calm_56 : decode cX3_calm 56 = .ok (.ireturn, 1) := dk_172 (dk_at dksX3_calm_2 8 rfl rfl)
theorem dX3_calm_57 : decode cX3_calm 57 = .ok (.aload_n 0, 1) := dk_42 (dk_at dksX3_calm_2 9 rfl rfl)
theorem dX3_calm_58 : decode cX3_calm 58 = .ok (.aload_n 0, 1) := dk_42 (dk_at dksX3_calm_2 10 rfl rfl)
theorem dX3_calm_59 : decode cX3_calm 59 = .ok (.getfield 7, 3) := dk_180 0 7 (dk_at dksX3_calm_2 11 rfl rfl)
theorem dX3_calm_62 : decode cX3_calm 62 = .ok (.invokevirtual 78, 3) := dk_182 0 78 (dk_at dksX3_calm_2 14 rfl rfl)
theorem dX3_calm_65 : decode cX3_calm 65 = .ok (.aload_n 0, 1) := dk_42 (dk_at dksX3_calm_2 17 rfl rfl)
theorem dX3_calm_66 : decode cX3_calm 66 = .ok (.getfield 7, 3) := dk_180 0 7 (dk_at dksX3_calm_2 18 rfl rfl)
theorem dX3_calm_69 : decode cX3_calm 69 = .ok (.sipush 150, 3) := dk_17 0 150 (dk_at dksX3_calm_2 21 rfl rfl)
theorem dX3_calm_72 : decode cX3_calm 72 = .ok (.bipush 6, 2) := dk_16 6 (dk_at dksX3_calm_3 0 rfl rfl)
theorem dX3_calm_74 : decode cX3_calm 74 = .ok (.iload_n 1, 1) := dk_27 (dk_at dksX3_calm_3 2 rfl rfl)
theorem dX3_calm_75 : decode cX3_calm 75 = .ok (.imul, 1) := dk_104 (dk_at dksX3_calm_3 3 rfl rfl)
theorem dX3_calm_76 : decode cX3_calm 76 = .ok (.iadd, 1) := dk_96 (dk_at dksX3_calm_3 4 rfl rfl)
theorem dX3_calm_77 : decode cX3_calm 77 = .ok (.iconst 1, 1) := dk_4 (dk_at dksX3_calm_3 5 rfl rfl)
theorem dX3_calm_78 : decode cX3_calm 78 = .ok (.iadd, 1) := dk_96 (dk_at dksX3_calm_3 6 rfl rfl)
theorem dX3_calm_79 : decode cX3_calm 79 = .ok (.iload_n 2, 1) := dk_28 (dk_at dksX3_calm_3 7 rfl rfl)
theorem dX3_calm_80 : decode cX3_calm 80 = .ok (.iastore, 1) := dk_79 (dk_at dksX3_calm_3 8 rfl rfl)
theorem dX3_calm_81 : decode cX3_calm 81 = .ok (.iload_n 3, 1) := dk_29 (dk_at dksX3_calm_3 9 rfl rfl)
theorem dX3_calm_82 : decode cX3_calm 82 = .ok (.ireturn, 1) := dk_172 (dk_at dksX3_calm_3 10 rfl rfl)
abbrev cX3_isRiver : ByteArray := prog_11_method_17_code
def yX3_isRiver : MethodName := ⟨RX3, "isRiver", "(I)Z"⟩
def dkwX3_isRiver_0 : List UInt8 := [27, 3, 42, 180, 0, 7, 4, 46, 4, 100, 184, 0, 62, 172]
abbrev dktX3_isRiver_0 : List UInt8 := dkwX3_isRiver_0 ++ []
theorem dksX3_isRiver_0 : cX3_isRiver.data.toList.drop 0 = dktX3_isRiver_0 := by decide +kernel
theorem dX3_isRiver_0 : decode cX3_isRiver 0 = .ok (.iload_n 1, 1) := dk_27 (dk_at dksX3_isRiver_0 0 rfl rfl)
theorem dX3_isRiver_1 : decode cX3_isRiver 1 = .ok (.iconst 0, 1) := dk_3 (dk_at dksX3_isRiver_0 1 rfl rfl)
theorem dX3_isRiver_2 : decode cX3_isRiver 2 = .ok (.aload_n 0, 1) := dk_42 (dk_at dksX3_isRiver_0 2 rfl rfl)
theorem dX3_isRiver_3 : decode cX3_isRiver 3 = .ok (.getfield 7, 3) := dk_180 0 7 (dk_at dksX3_isRiver_0 3 rfl rfl)
theorem dX3_isRiver_6 : decode cX3_isRiver 6 = .ok (.iconst 1, 1) := dk_4 (dk_at dksX3_isRiver_0 6 rfl rfl)
theorem dX3_isRiver_7 : decode cX3_isRiver 7 = .ok (.iaload, 1) := dk_46 (dk_at dksX3_isRiver_0 7 rfl rfl)
theorem dX3_isRiver_8 : decode cX3_isRiver 8 = .ok (.iconst 1, 1) := dk_4 (dk_at dksX3_isRiver_0 8 rfl rfl)
theorem dX3_isRiver_9 : decode cX3_isRiver 9 = .ok (.isub, 1) := dk_100 (dk_at dksX3_isRiver_0 9 rfl rfl)
theorem dX3_isRiver_10 : decode cX3_isRiver 10 = .ok (.invokestatic 62, 3) := dk_184 0 62 (dk_at dksX3_isRiver_0 10 rfl rfl)
theorem dX3_isRiver_13 : decode cX3_isRiver 13 = .ok (.ireturn, 1) := dk_172 (dk_at dksX3_isRiver_0 13 rfl rfl)
abbrev cX3_its : ByteArray := prog_11_method_14_code
def yX3_its : MethodName := ⟨RX3, "its", "(II)I"⟩
def dkwX3_its_0 : List UInt8 := [42, 180, 0, 7, 17, 0, 150, 16, 6, 27, 104, 96, 28, 96, 46, 172]
abbrev dktX3_its_0 : List UInt8 := dkwX3_its_0 ++ []
theorem dksX3_its_0 : cX3_its.data.toList.drop 0 = dktX3_its_0 := by decide +kernel
theorem dX3_its_0 : decode cX3_its 0 = .ok (.aload_n 0, 1) := dk_42 (dk_at dksX3_its_0 0 rfl rfl)
theorem dX3_its_1 : decode cX3_its 1 = .ok (.getfield 7, 3) := dk_180 0 7 (dk_at dksX3_its_0 1 rfl rfl)
theorem dX3_its_4 : decode cX3_its 4 = .ok (.sipush 150, 3) := dk_17 0 150 (dk_at dksX3_its_0 4 rfl rfl)
theorem dX3_its_7 : decode cX3_its 7 = .ok (.bipush 6, 2) := dk_16 6 (dk_at dksX3_its_0 7 rfl rfl)
theorem dX3_its_9 : decode cX3_its 9 = .ok (.iload_n 1, 1) := dk_27 (dk_at dksX3_its_0 9 rfl rfl)
theorem dX3_its_10 : decode cX3_its 10 = .ok (.imul, 1) := dk_104 (dk_at dksX3_its_0 10 rfl rfl)
theorem dX3_its_11 : decode cX3_its 11 = .ok (.iadd, 1) := dk_96 (dk_at dksX3_its_0 11 rfl rfl)
theorem dX3_its_12 : decode cX3_its 12 = .ok (.iload_n 2, 1) := dk_28 (dk_at dksX3_its_0 12 rfl rfl)
theorem dX3_its_13 : decode cX3_its 13 = .ok (.iadd, 1) := dk_96 (dk_at dksX3_its_0 13 rfl rfl)
theorem dX3_its_14 : decode cX3_its 14 = .ok (.iaload, 1) := dk_46 (dk_at dksX3_its_0 14 rfl rfl)
theorem dX3_its_15 : decode cX3_its 15 = .ok (.ireturn, 1) := dk_172 (dk_at dksX3_its_0 15 rfl rfl)
abbrev cX3_stoneOf : ByteArray := prog_11_method_28_code
def yX3_stoneOf : MethodName := ⟨RX3, "stoneOf", "(II)I"⟩
def dkwX3_stoneOf_5 : List UInt8 := [182, 0, 102, 172, 42, 27, 28, 182, 0, 66, 172]
abbrev dktX3_stoneOf_5 : List UInt8 := dkwX3_stoneOf_5 ++ []
def dkwX3_stoneOf_4 : List UInt8 := [182, 0, 66, 172, 42, 27, 16, 6, 182, 0, 66, 172, 42, 27, 16, 7, 182, 0, 66, 172, 42, 27]
abbrev dktX3_stoneOf_4 : List UInt8 := dkwX3_stoneOf_4 ++ dktX3_stoneOf_5
def dkwX3_stoneOf_3 : List UInt8 := [42, 27, 182, 0, 98, 172, 42, 27, 6, 182, 0, 66, 172, 42, 27, 7, 182, 0, 66, 172, 42, 27, 8]
abbrev dktX3_stoneOf_3 : List UInt8 := dkwX3_stoneOf_3 ++ dktX3_stoneOf_4
def dkwX3_stoneOf_2 : List UInt8 := [170, 0, 0, 0, 0, 0, 92, 0, 0, 0, 3, 0, 0, 0, 9, 0, 0, 0, 43, 0, 0, 0, 49, 0, 0, 0, 56, 0, 0, 0, 63, 0, 0, 0, 70, 0, 0, 0, 78, 0, 0, 0, 86]
abbrev dktX3_stoneOf_2 : List UInt8 := dkwX3_stoneOf_2 ++ dktX3_stoneOf_3
def dkwX3_stoneOf_1 : List UInt8 := [167, 0, 4, 5, 182, 0, 70, 153, 0, 5, 3, 172, 28]
abbrev dktX3_stoneOf_1 : List UInt8 := dkwX3_stoneOf_1 ++ dktX3_stoneOf_2
def dkwX3_stoneOf_0 : List UInt8 := [42, 42, 27, 182, 0, 95, 154, 0, 7, 4, 167, 0, 18, 28, 3, 16, 9, 184, 0, 62, 153, 0, 7, 3]
abbrev dktX3_stoneOf_0 : List UInt8 := dkwX3_stoneOf_0 ++ dktX3_stoneOf_1
theorem dksX3_stoneOf_0 : cX3_stoneOf.data.toList.drop 0 = dktX3_stoneOf_0 := by decide +kernel
theorem dksX3_stoneOf_1 : cX3_stoneOf.data.toList.drop 24 = dktX3_stoneOf_1 := dk_seg dksX3_stoneOf_0 24 rfl rfl
theorem dksX3_stoneOf_2 : cX3_stoneOf.data.toList.drop 37 = dktX3_stoneOf_2 := dk_seg dksX3_stoneOf_1 13 rfl rfl
theorem dksX3_stoneOf_3 : cX3_stoneOf.data.toList.drop 80 = dktX3_stoneOf_3 := dk_seg dksX3_stoneOf_2 43 rfl rfl
theorem dksX3_stoneOf_4 : cX3_stoneOf.data.toList.drop 103 = dktX3_stoneOf_4 := dk_seg dksX3_stoneOf_3 23 rfl rfl
theorem dksX3_stoneOf_5 : cX3_stoneOf.data.toList.drop 125 = dktX3_stoneOf_5 := dk_seg dksX3_stoneOf_4 22 rfl rfl
theorem dX3_stoneOf_0 : decode cX3_stoneOf 0 = .ok (.aload_n 0, 1) := dk_42 (dk_at dksX3_stoneOf_0 0 rfl rfl)
theorem dX3_stoneOf_1 : decode cX3_stoneOf 1 = .ok (.aload_n 0, 1) := dk_42 (dk_at dksX3_stoneOf_0 1 rfl rfl)
theorem dX3_stoneOf_2 : decode cX3_stoneOf 2 = .ok (.iload_n 1, 1) := dk_27 (dk_at dksX3_stoneOf_0 2 rfl rfl)
theorem dX3_stoneOf_3 : decode cX3_stoneOf 3 = .ok (.invokevirtual 95, 3) := dk_182 0 95 (dk_at dksX3_stoneOf_0 3 rfl rfl)
theorem dX3_stoneOf_6 : decode cX3_stoneOf 6 = .ok (.ifCond .ne 7, 3) := dk_154 0 7 (dk_at dksX3_stoneOf_0 6 rfl rfl)
theorem dX3_stoneOf_9 : decode cX3_stoneOf 9 = .ok (.iconst 1, 1) := dk_4 (dk_at dksX3_stoneOf_0 9 rfl rfl)
theorem dX3_stoneOf_10 : decode cX3_stoneOf 10 = .ok (.goto 18, 3) := dk_167 0 18 (dk_at dksX3_stoneOf_0 10 rfl rfl)
theorem dX3_stoneOf_13 : decode cX3_stoneOf 13 = .ok (.iload_n 2, 1) := dk_28 (dk_at dksX3_stoneOf_0 13 rfl rfl)
theorem dX3_stoneOf_14 : decode cX3_stoneOf 14 = .ok (.iconst 0, 1) := dk_3 (dk_at dksX3_stoneOf_0 14 rfl rfl)
theorem dX3_stoneOf_15 : decode cX3_stoneOf 15 = .ok (.bipush 9, 2) := dk_16 9 (dk_at dksX3_stoneOf_0 15 rfl rfl)
theorem dX3_stoneOf_17 : decode cX3_stoneOf 17 = .ok (.invokestatic 62, 3) := dk_184 0 62 (dk_at dksX3_stoneOf_0 17 rfl rfl)
theorem dX3_stoneOf_20 : decode cX3_stoneOf 20 = .ok (.ifCond .eq 7, 3) := dk_153 0 7 (dk_at dksX3_stoneOf_0 20 rfl rfl)
theorem dX3_stoneOf_23 : decode cX3_stoneOf 23 = .ok (.iconst 0, 1) := dk_3 (dk_at dksX3_stoneOf_0 23 rfl rfl)
theorem dX3_stoneOf_24 : decode cX3_stoneOf 24 = .ok (.goto 4, 3) := dk_167 0 4 (dk_at dksX3_stoneOf_1 0 rfl rfl)
theorem dX3_stoneOf_27 : decode cX3_stoneOf 27 = .ok (.iconst 2, 1) := dk_5 (dk_at dksX3_stoneOf_1 3 rfl rfl)
theorem dX3_stoneOf_28 : decode cX3_stoneOf 28 = .ok (.invokevirtual 70, 3) := dk_182 0 70 (dk_at dksX3_stoneOf_1 4 rfl rfl)
theorem dX3_stoneOf_31 : decode cX3_stoneOf 31 = .ok (.ifCond .eq 5, 3) := dk_153 0 5 (dk_at dksX3_stoneOf_1 7 rfl rfl)
theorem dX3_stoneOf_34 : decode cX3_stoneOf 34 = .ok (.iconst 0, 1) := dk_3 (dk_at dksX3_stoneOf_1 10 rfl rfl)
theorem dX3_stoneOf_35 : decode cX3_stoneOf 35 = .ok (.ireturn, 1) := dk_172 (dk_at dksX3_stoneOf_1 11 rfl rfl)
theorem dX3_stoneOf_36 : decode cX3_stoneOf 36 = .ok (.iload_n 2, 1) := dk_28 (dk_at dksX3_stoneOf_1 12 rfl rfl)
theorem dX3_stoneOf_37 : decode cX3_stoneOf 37 = .ok (.tableswitch 92 3 9 #[43, 49, 56, 63, 70, 78, 86], 43) := by decide +kernel
theorem dX3_stoneOf_80 : decode cX3_stoneOf 80 = .ok (.aload_n 0, 1) := dk_42 (dk_at dksX3_stoneOf_3 0 rfl rfl)
theorem dX3_stoneOf_81 : decode cX3_stoneOf 81 = .ok (.iload_n 1, 1) := dk_27 (dk_at dksX3_stoneOf_3 1 rfl rfl)
theorem dX3_stoneOf_82 : decode cX3_stoneOf 82 = .ok (.invokevirtual 98, 3) := dk_182 0 98 (dk_at dksX3_stoneOf_3 2 rfl rfl)
theorem dX3_stoneOf_85 : decode cX3_stoneOf 85 = .ok (.ireturn, 1) := dk_172 (dk_at dksX3_stoneOf_3 5 rfl rfl)
theorem dX3_stoneOf_86 : decode cX3_stoneOf 86 = .ok (.aload_n 0, 1) := dk_42 (dk_at dksX3_stoneOf_3 6 rfl rfl)
theorem dX3_stoneOf_87 : decode cX3_stoneOf 87 = .ok (.iload_n 1, 1) := dk_27 (dk_at dksX3_stoneOf_3 7 rfl rfl)
theorem dX3_stoneOf_88 : decode cX3_stoneOf 88 = .ok (.iconst 3, 1) := dk_6 (dk_at dksX3_stoneOf_3 8 rfl rfl)
theorem dX3_stoneOf_89 : decode cX3_stoneOf 89 = .ok (.invokevirtual 66, 3) := dk_182 0 66 (dk_at dksX3_stoneOf_3 9 rfl rfl)
theorem dX3_stoneOf_92 : decode cX3_stoneOf 92 = .ok (.ireturn, 1) := dk_172 (dk_at dksX3_stoneOf_3 12 rfl rfl)
theorem dX3_stoneOf_93 : decode cX3_stoneOf 93 = .ok (.aload_n 0, 1) := dk_42 (dk_at dksX3_stoneOf_3 13 rfl rfl)
theorem dX3_stoneOf_94 : decode cX3_stoneOf 94 = .ok (.iload_n 1, 1) := dk_27 (dk_at dksX3_stoneOf_3 14 rfl rfl)
theorem dX3_stoneOf_95 : decode cX3_stoneOf 95 = .ok (.iconst 4, 1) := dk_7 (dk_at dksX3_stoneOf_3 15 rfl rfl)
theorem dX3_stoneOf_96 : decode cX3_stoneOf 96 = .ok (.invokevirtual 66, 3) := dk_182 0 66 (dk_at dksX3_stoneOf_3 16 rfl rfl)
theorem dX3_stoneOf_99 : decode cX3_stoneOf 99 = .ok (.ireturn, 1) := dk_172 (dk_at dksX3_stoneOf_3 19 rfl rfl)
theorem dX3_stoneOf_100 : decode cX3_stoneOf 100 = .ok (.aload_n 0, 1) := dk_42 (dk_at dksX3_stoneOf_3 20 rfl rfl)
theorem dX3_stoneOf_101 : decode cX3_stoneOf 101 = .ok (.iload_n 1, 1) := dk_27 (dk_at dksX3_stoneOf_3 21 rfl rfl)
theorem dX3_stoneOf_102 : decode cX3_stoneOf 102 = .ok (.iconst 5, 1) := dk_8 (dk_at dksX3_stoneOf_3 22 rfl rfl)
theorem dX3_stoneOf_103 : decode cX3_stoneOf 103 = .ok (.invokevirtual 66, 3) := dk_182 0 66 (dk_at dksX3_stoneOf_4 0 rfl rfl)
theorem dX3_stoneOf_106 : decode cX3_stoneOf 106 = .ok (.ireturn, 1) := dk_172 (dk_at dksX3_stoneOf_4 3 rfl rfl)
theorem dX3_stoneOf_107 : decode cX3_stoneOf 107 = .ok (.aload_n 0, 1) := dk_42 (dk_at dksX3_stoneOf_4 4 rfl rfl)
theorem dX3_stoneOf_108 : decode cX3_stoneOf 108 = .ok (.iload_n 1, 1) := dk_27 (dk_at dksX3_stoneOf_4 5 rfl rfl)
theorem dX3_stoneOf_109 : decode cX3_stoneOf 109 = .ok (.bipush 6, 2) := dk_16 6 (dk_at dksX3_stoneOf_4 6 rfl rfl)
theorem dX3_stoneOf_111 : decode cX3_stoneOf 111 = .ok (.invokevirtual 66, 3) := dk_182 0 66 (dk_at dksX3_stoneOf_4 8 rfl rfl)
theorem dX3_stoneOf_114 : decode cX3_stoneOf 114 = .ok (.ireturn, 1) := dk_172 (dk_at dksX3_stoneOf_4 11 rfl rfl)
theorem dX3_stoneOf_115 : decode cX3_stoneOf 115 = .ok (.aload_n 0, 1) := dk_42 (dk_at dksX3_stoneOf_4 12 rfl rfl)
theorem dX3_stoneOf_116 : decode cX3_stoneOf 116 = .ok (.iload_n 1, 1) := dk_27 (dk_at dksX3_stoneOf_4 13 rfl rfl)
theorem dX3_stoneOf_117 : decode cX3_stoneOf 117 = .ok (.bipush 7, 2) := dk_16 7 (dk_at dksX3_stoneOf_4 14 rfl rfl)
theorem dX3_stoneOf_119 : decode cX3_stoneOf 119 = .ok (.invokevirtual 66, 3) := dk_182 0 66 (dk_at dksX3_stoneOf_4 16 rfl rfl)
theorem dX3_stoneOf_122 : decode cX3_stoneOf 122 = .ok (.ireturn, 1) := dk_172 (dk_at dksX3_stoneOf_4 19 rfl rfl)
theorem dX3_stoneOf_123 : decode cX3_stoneOf 123 = .ok (.aload_n 0, 1) := dk_42 (dk_at dksX3_stoneOf_4 20 rfl rfl)
theorem dX3_stoneOf_124 : decode cX3_stoneOf 124 = .ok (.iload_n 1, 1) := dk_27 (dk_at dksX3_stoneOf_4 21 rfl rfl)
theorem dX3_stoneOf_125 : decode cX3_stoneOf 125 = .ok (.invokevirtual 102, 3) := dk_182 0 102 (dk_at dksX3_stoneOf_5 0 rfl rfl)
theorem dX3_stoneOf_128 : decode cX3_stoneOf 128 = .ok (.ireturn, 1) := dk_172 (dk_at dksX3_stoneOf_5 3 rfl rfl)
theorem dX3_stoneOf_129 : decode cX3_stoneOf 129 = .ok (.aload_n 0, 1) := dk_42 (dk_at dksX3_stoneOf_5 4 rfl rfl)
theorem dX3_stoneOf_130 : decode cX3_stoneOf 130 = .ok (.iload_n 1, 1) := dk_27 (dk_at dksX3_stoneOf_5 5 rfl rfl)
theorem dX3_stoneOf_131 : decode cX3_stoneOf 131 = .ok (.iload_n 2, 1) := dk_28 (dk_at dksX3_stoneOf_5 6 rfl rfl)
theorem dX3_stoneOf_132 : decode cX3_stoneOf 132 = .ok (.invokevirtual 66, 3) := dk_182 0 66 (dk_at dksX3_stoneOf_5 7 rfl rfl)
theorem dX3_stoneOf_135 : decode cX3_stoneOf 135 = .ok (.ireturn, 1) := dk_172 (dk_at dksX3_stoneOf_5 10 rfl rfl)
abbrev cX3_isStone : ByteArray := prog_11_method_16_code
def yX3_isStone : MethodName := ⟨RX3, "isStone", "(I)Z"⟩
def dkwX3_isStone_0 : List UInt8 := [27, 3, 42, 180, 0, 7, 3, 46, 4, 100, 184, 0, 62, 172]
abbrev dktX3_isStone_0 : List UInt8 := dkwX3_isStone_0 ++ []
theorem dksX3_isStone_0 : cX3_isStone.data.toList.drop 0 = dktX3_isStone_0 := by decide +kernel
theorem dX3_isStone_0 : decode cX3_isStone 0 = .ok (.iload_n 1, 1) := dk_27 (dk_at dksX3_isStone_0 0 rfl rfl)
theorem dX3_isStone_1 : decode cX3_isStone 1 = .ok (.iconst 0, 1) := dk_3 (dk_at dksX3_isStone_0 1 rfl rfl)
theorem dX3_isStone_2 : decode cX3_isStone 2 = .ok (.aload_n 0, 1) := dk_42 (dk_at dksX3_isStone_0 2 rfl rfl)
theorem dX3_isStone_3 : decode cX3_isStone 3 = .ok (.getfield 7, 3) := dk_180 0 7 (dk_at dksX3_isStone_0 3 rfl rfl)
theorem dX3_isStone_6 : decode cX3_isStone 6 = .ok (.iconst 0, 1) := dk_3 (dk_at dksX3_isStone_0 6 rfl rfl)
theorem dX3_isStone_7 : decode cX3_isStone 7 = .ok (.iaload, 1) := dk_46 (dk_at dksX3_isStone_0 7 rfl rfl)
theorem dX3_isStone_8 : decode cX3_isStone 8 = .ok (.iconst 1, 1) := dk_4 (dk_at dksX3_isStone_0 8 rfl rfl)
theorem dX3_isStone_9 : decode cX3_isStone 9 = .ok (.isub, 1) := dk_100 (dk_at dksX3_isStone_0 9 rfl rfl)
theorem dX3_isStone_10 : decode cX3_isStone 10 = .ok (.invokestatic 62, 3) := dk_184 0 62 (dk_at dksX3_isStone_0 10 rfl rfl)
theorem dX3_isStone_13 : decode cX3_isStone 13 = .ok (.ireturn, 1) := dk_172 (dk_at dksX3_isStone_0 13 rfl rfl)
abbrev cX3_ownAngle : ByteArray := prog_11_method_24_code
def yX3_ownAngle : MethodName := ⟨RX3, "ownAngle", "(I)I"⟩
def dkwX3_ownAngle_0 : List UInt8 := [16, 10, 5, 42, 27, 3, 182, 0, 66, 104, 96, 42, 27, 4, 182, 0, 66, 100, 172]
abbrev dktX3_ownAngle_0 : List UInt8 := dkwX3_ownAngle_0 ++ []
theorem dksX3_ownAngle_0 : cX3_ownAngle.data.toList.drop 0 = dktX3_ownAngle_0 := by decide +kernel
theorem dX3_ownAngle_0 : decode cX3_ownAngle 0 = .ok (.bipush 10, 2) := dk_16 10 (dk_at dksX3_ownAngle_0 0 rfl rfl)
theorem dX3_ownAngle_2 : decode cX3_ownAngle 2 = .ok (.iconst 2, 1) := dk_5 (dk_at dksX3_ownAngle_0 2 rfl rfl)
theorem dX3_ownAngle_3 : decode cX3_ownAngle 3 = .ok (.aload_n 0, 1) := dk_42 (dk_at dksX3_ownAngle_0 3 rfl rfl)
theorem dX3_ownAngle_4 : decode cX3_ownAngle 4 = .ok (.iload_n 1, 1) := dk_27 (dk_at dksX3_ownAngle_0 4 rfl rfl)
theorem dX3_ownAngle_5 : decode cX3_ownAngle 5 = .ok (.iconst 0, 1) := dk_3 (dk_at dksX3_ownAngle_0 5 rfl rfl)
theorem dX3_ownAngle_6 : decode cX3_ownAngle 6 = .ok (.invokevirtual 66, 3) := dk_182 0 66 (dk_at dksX3_ownAngle_0 6 rfl rfl)
theorem dX3_ownAngle_9 : decode cX3_ownAngle 9 = .ok (.imul, 1) := dk_104 (dk_at dksX3_ownAngle_0 9 rfl rfl)
theorem dX3_ownAngle_10 : decode cX3_ownAngle 10 = .ok (.iadd, 1) := dk_96 (dk_at dksX3_ownAngle_0 10 rfl rfl)
theorem dX3_ownAngle_11 : decode cX3_ownAngle 11 = .ok (.aload_n 0, 1) := dk_42 (dk_at dksX3_ownAngle_0 11 rfl rfl)
theorem dX3_ownAngle_12 : decode cX3_ownAngle 12 = .ok (.iload_n 1, 1) := dk_27 (dk_at dksX3_ownAngle_0 12 rfl rfl)
theorem dX3_ownAngle_13 : decode cX3_ownAngle 13 = .ok (.iconst 1, 1) := dk_4 (dk_at dksX3_ownAngle_0 13 rfl rfl)
theorem dX3_ownAngle_14 : decode cX3_ownAngle 14 = .ok (.invokevirtual 66, 3) := dk_182 0 66 (dk_at dksX3_ownAngle_0 14 rfl rfl)
theorem dX3_ownAngle_17 : decode cX3_ownAngle 17 = .ok (.isub, 1) := dk_100 (dk_at dksX3_ownAngle_0 17 rfl rfl)
theorem dX3_ownAngle_18 : decode cX3_ownAngle 18 = .ok (.ireturn, 1) := dk_172 (dk_at dksX3_ownAngle_0 18 rfl rfl)
abbrev cX3_of : ByteArray := prog_11_method_12_code
def yX3_of : MethodName := ⟨RX3, "of", "(II)I"⟩
def dkwX3_of_0 : List UInt8 := [42, 180, 0, 7, 16, 10, 16, 14, 27, 104, 96, 28, 96, 46, 172]
abbrev dktX3_of_0 : List UInt8 := dkwX3_of_0 ++ []
theorem dksX3_of_0 : cX3_of.data.toList.drop 0 = dktX3_of_0 := by decide +kernel
theorem dX3_of_0 : decode cX3_of 0 = .ok (.aload_n 0, 1) := dk_42 (dk_at dksX3_of_0 0 rfl rfl)
theorem dX3_of_1 : decode cX3_of 1 = .ok (.getfield 7, 3) := dk_180 0 7 (dk_at dksX3_of_0 1 rfl rfl)
theorem dX3_of_4 : decode cX3_of 4 = .ok (.bipush 10, 2) := dk_16 10 (dk_at dksX3_of_0 4 rfl rfl)
theorem dX3_of_6 : decode cX3_of 6 = .ok (.bipush 14, 2) := dk_16 14 (dk_at dksX3_of_0 6 rfl rfl)
theorem dX3_of_8 : decode cX3_of 8 = .ok (.iload_n 1, 1) := dk_27 (dk_at dksX3_of_0 8 rfl rfl)
theorem dX3_of_9 : decode cX3_of 9 = .ok (.imul, 1) := dk_104 (dk_at dksX3_of_0 9 rfl rfl)
theorem dX3_of_10 : decode cX3_of 10 = .ok (.iadd, 1) := dk_96 (dk_at dksX3_of_0 10 rfl rfl)
theorem dX3_of_11 : decode cX3_of 11 = .ok (.iload_n 2, 1) := dk_28 (dk_at dksX3_of_0 11 rfl rfl)
theorem dX3_of_12 : decode cX3_of 12 = .ok (.iadd, 1) := dk_96 (dk_at dksX3_of_0 12 rfl rfl)
theorem dX3_of_13 : decode cX3_of 13 = .ok (.iaload, 1) := dk_46 (dk_at dksX3_of_0 13 rfl rfl)
theorem dX3_of_14 : decode cX3_of 14 = .ok (.ireturn, 1) := dk_172 (dk_at dksX3_of_0 14 rfl rfl)
abbrev cX3_daysFor : ByteArray := prog_11_method_25_code
def yX3_daysFor : MethodName := ⟨RX3, "daysFor", "(I)I"⟩
def dkwX3_daysFor_2 : List UInt8 := [172]
abbrev dktX3_daysFor_2 : List UInt8 := dkwX3_daysFor_2 ++ []
def dkwX3_daysFor_1 : List UInt8 := [42, 180, 0, 7, 29, 46, 27, 160, 0, 7, 4, 167, 0, 4, 3, 96, 61, 132, 3, 1, 167, 255, 218, 28]
abbrev dktX3_daysFor_1 : List UInt8 := dkwX3_daysFor_1 ++ dktX3_daysFor_2
def dkwX3_daysFor_0 : List UInt8 := [3, 61, 17, 0, 174, 62, 29, 17, 0, 174, 16, 30, 42, 180, 0, 7, 4, 46, 104, 96, 162, 0, 27, 28]
abbrev dktX3_daysFor_0 : List UInt8 := dkwX3_daysFor_0 ++ dktX3_daysFor_1
theorem dksX3_daysFor_0 : cX3_daysFor.data.toList.drop 0 = dktX3_daysFor_0 := by decide +kernel
theorem dksX3_daysFor_1 : cX3_daysFor.data.toList.drop 24 = dktX3_daysFor_1 := dk_seg dksX3_daysFor_0 24 rfl rfl
theorem dksX3_daysFor_2 : cX3_daysFor.data.toList.drop 48 = dktX3_daysFor_2 := dk_seg dksX3_daysFor_1 24 rfl rfl
theorem dX3_daysFor_0 : decode cX3_daysFor 0 = .ok (.iconst 0, 1) := dk_3 (dk_at dksX3_daysFor_0 0 rfl rfl)
theorem dX3_daysFor_1 : decode cX3_daysFor 1 = .ok (.istore_n 2, 1) := dk_61 (dk_at dksX3_daysFor_0 1 rfl rfl)
theorem dX3_daysFor_2 : decode cX3_daysFor 2 = .ok (.sipush 174, 3) := dk_17 0 174 (dk_at dksX3_daysFor_0 2 rfl rfl)
theorem dX3_daysFor_5 : decode cX3_daysFor 5 = .ok (.istore_n 3, 1) := dk_62 (dk_at dksX3_daysFor_0 5 rfl rfl)
theorem dX3_daysFor_6 : decode cX3_daysFor 6 = .ok (.iload_n 3, 1) := dk_29 (dk_at dksX3_daysFor_0 6 rfl rfl)
theorem dX3_daysFor_7 : decode cX3_daysFor 7 = .ok (.sipush 174, 3) := dk_17 0 174 (dk_at dksX3_daysFor_0 7 rfl rfl)
theorem dX3_daysFor_10 : decode cX3_daysFor 10 = .ok (.bipush 30, 2) := dk_16 30 (dk_at dksX3_daysFor_0 10 rfl rfl)
theorem dX3_daysFor_12 : decode cX3_daysFor 12 = .ok (.aload_n 0, 1) := dk_42 (dk_at dksX3_daysFor_0 12 rfl rfl)
theorem dX3_daysFor_13 : decode cX3_daysFor 13 = .ok (.getfield 7, 3) := dk_180 0 7 (dk_at dksX3_daysFor_0 13 rfl rfl)
theorem dX3_daysFor_16 : decode cX3_daysFor 16 = .ok (.iconst 1, 1) := dk_4 (dk_at dksX3_daysFor_0 16 rfl rfl)
theorem dX3_daysFor_17 : decode cX3_daysFor 17 = .ok (.iaload, 1) := dk_46 (dk_at dksX3_daysFor_0 17 rfl rfl)
theorem dX3_daysFor_18 : decode cX3_daysFor 18 = .ok (.imul, 1) := dk_104 (dk_at dksX3_daysFor_0 18 rfl rfl)
theorem dX3_daysFor_19 : decode cX3_daysFor 19 = .ok (.iadd, 1) := dk_96 (dk_at dksX3_daysFor_0 19 rfl rfl)
theorem dX3_daysFor_20 : decode cX3_daysFor 20 = .ok (.if_icmp .ge 27, 3) := dk_162 0 27 (dk_at dksX3_daysFor_0 20 rfl rfl)
theorem dX3_daysFor_23 : decode cX3_daysFor 23 = .ok (.iload_n 2, 1) := dk_28 (dk_at dksX3_daysFor_0 23 rfl rfl)
theorem dX3_daysFor_24 : decode cX3_daysFor 24 = .ok (.aload_n 0, 1) := dk_42 (dk_at dksX3_daysFor_1 0 rfl rfl)
theorem dX3_daysFor_25 : decode cX3_daysFor 25 = .ok (.getfield 7, 3) := dk_180 0 7 (dk_at dksX3_daysFor_1 1 rfl rfl)
theorem dX3_daysFor_28 : decode cX3_daysFor 28 = .ok (.iload_n 3, 1) := dk_29 (dk_at dksX3_daysFor_1 4 rfl rfl)
theorem dX3_daysFor_29 : decode cX3_daysFor 29 = .ok (.iaload, 1) := dk_46 (dk_at dksX3_daysFor_1 5 rfl rfl)
theorem dX3_daysFor_30 : decode cX3_daysFor 30 = .ok (.iload_n 1, 1) := dk_27 (dk_at dksX3_daysFor_1 6 rfl rfl)
theorem dX3_daysFor_31 : decode cX3_daysFor 31 = .ok (.if_icmp .ne 7, 3) := dk_160 0 7 (dk_at dksX3_daysFor_1 7 rfl rfl)
theorem dX3_daysFor_34 : decode cX3_daysFor 34 = .ok (.iconst 1, 1) := dk_4 (dk_at dksX3_daysFor_1 10 rfl rfl)
theorem dX3_daysFor_35 : decode cX3_daysFor 35 = .ok (.goto 4, 3) := dk_167 0 4 (dk_at dksX3_daysFor_1 11 rfl rfl)
theorem dX3_daysFor_38 : decode cX3_daysFor 38 = .ok (.iconst 0, 1) := dk_3 (dk_at dksX3_daysFor_1 14 rfl rfl)
theorem dX3_daysFor_39 : decode cX3_daysFor 39 = .ok (.iadd, 1) := dk_96 (dk_at dksX3_daysFor_1 15 rfl rfl)
theorem dX3_daysFor_40 : decode cX3_daysFor 40 = .ok (.istore_n 2, 1) := dk_61 (dk_at dksX3_daysFor_1 16 rfl rfl)
theorem dX3_daysFor_41 : decode cX3_daysFor 41 = .ok (.iinc 3 1, 3) := dk_132 3 1 (dk_at dksX3_daysFor_1 17 rfl rfl)
theorem dX3_daysFor_44 : decode cX3_daysFor 44 = .ok (.goto (-38), 3) := dk_167 255 218 (dk_at dksX3_daysFor_1 20 rfl rfl)
theorem dX3_daysFor_47 : decode cX3_daysFor 47 = .ok (.iload_n 2, 1) := dk_28 (dk_at dksX3_daysFor_1 23 rfl rfl)
theorem dX3_daysFor_48 : decode cX3_daysFor 48 = .ok (.ireturn, 1) := dk_172 (dk_at dksX3_daysFor_2 0 rfl rfl)
abbrev cX3_grade : ByteArray := prog_11_method_30_code
def yX3_grade : MethodName := ⟨RX3, "grade", "(I)C"⟩
def dkwX3_grade_1 : List UInt8 := [167, 0, 8, 42, 27, 182, 0, 105, 172]
abbrev dktX3_grade_1 : List UInt8 := dkwX3_grade_1 ++ []
def dkwX3_grade_0 : List UInt8 := [42, 42, 27, 182, 0, 95, 153, 0, 7, 3, 167, 0, 4, 4, 182, 0, 70, 153, 0, 8, 16, 32]
abbrev dktX3_grade_0 : List UInt8 := dkwX3_grade_0 ++ dktX3_grade_1
theorem dksX3_grade_0 : cX3_grade.data.toList.drop 0 = dktX3_grade_0 := by decide +kernel
theorem dksX3_grade_1 : cX3_grade.data.toList.drop 22 = dktX3_grade_1 := dk_seg dksX3_grade_0 22 rfl rfl
theorem dX3_grade_0 : decode cX3_grade 0 = .ok (.aload_n 0, 1) := dk_42 (dk_at dksX3_grade_0 0 rfl rfl)
theorem dX3_grade_1 : decode cX3_grade 1 = .ok (.aload_n 0, 1) := dk_42 (dk_at dksX3_grade_0 1 rfl rfl)
theorem dX3_grade_2 : decode cX3_grade 2 = .ok (.iload_n 1, 1) := dk_27 (dk_at dksX3_grade_0 2 rfl rfl)
theorem dX3_grade_3 : decode cX3_grade 3 = .ok (.invokevirtual 95, 3) := dk_182 0 95 (dk_at dksX3_grade_0 3 rfl rfl)
theorem dX3_grade_6 : decode cX3_grade 6 = .ok (.ifCond .eq 7, 3) := dk_153 0 7 (dk_at dksX3_grade_0 6 rfl rfl)
theorem dX3_grade_9 : decode cX3_grade 9 = .ok (.iconst 0, 1) := dk_3 (dk_at dksX3_grade_0 9 rfl rfl)
theorem dX3_grade_10 : decode cX3_grade 10 = .ok (.goto 4, 3) := dk_167 0 4 (dk_at dksX3_grade_0 10 rfl rfl)
theorem dX3_grade_13 : decode cX3_grade 13 = .ok (.iconst 1, 1) := dk_4 (dk_at dksX3_grade_0 13 rfl rfl)
theorem dX3_grade_14 : decode cX3_grade 14 = .ok (.invokevirtual 70, 3) := dk_182 0 70 (dk_at dksX3_grade_0 14 rfl rfl)
theorem dX3_grade_17 : decode cX3_grade 17 = .ok (.ifCond .eq 8, 3) := dk_153 0 8 (dk_at dksX3_grade_0 17 rfl rfl)
theorem dX3_grade_20 : decode cX3_grade 20 = .ok (.bipush 32, 2) := dk_16 32 (dk_at dksX3_grade_0 20 rfl rfl)
theorem dX3_grade_22 : decode cX3_grade 22 = .ok (.goto 8, 3) := dk_167 0 8 (dk_at dksX3_grade_1 0 rfl rfl)
theorem dX3_grade_25 : decode cX3_grade 25 = .ok (.aload_n 0, 1) := dk_42 (dk_at dksX3_grade_1 3 rfl rfl)
theorem dX3_grade_26 : decode cX3_grade 26 = .ok (.iload_n 1, 1) := dk_27 (dk_at dksX3_grade_1 4 rfl rfl)
theorem dX3_grade_27 : decode cX3_grade 27 = .ok (.invokevirtual 105, 3) := dk_182 0 105 (dk_at dksX3_grade_1 5 rfl rfl)
theorem dX3_grade_30 : decode cX3_grade 30 = .ok (.ireturn, 1) := dk_172 (dk_at dksX3_grade_1 8 rfl rfl)
abbrev cX3_gradeOf : ByteArray := prog_11_method_29_code
def yX3_gradeOf : MethodName := ⟨RX3, "gradeOf", "(I)C"⟩
def dkwX3_gradeOf_2 : List UInt8 := [167, 0, 16, 28, 16, 20, 161, 0, 8, 16, 100, 167, 0, 5, 16, 101, 172]
abbrev dktX3_gradeOf_2 : List UInt8 := dkwX3_gradeOf_2 ++ []
def dkwX3_gradeOf_1 : List UInt8 := [16, 97, 167, 0, 38, 28, 16, 60, 161, 0, 8, 16, 98, 167, 0, 27, 28, 16, 40, 161, 0, 8, 16, 99]
abbrev dktX3_gradeOf_1 : List UInt8 := dkwX3_gradeOf_1 ++ dktX3_gradeOf_2
def dkwX3_gradeOf_0 : List UInt8 := [42, 27, 5, 182, 0, 66, 5, 108, 8, 42, 27, 3, 182, 0, 66, 104, 96, 61, 28, 16, 80, 161, 0, 8]
abbrev dktX3_gradeOf_0 : List UInt8 := dkwX3_gradeOf_0 ++ dktX3_gradeOf_1
theorem dksX3_gradeOf_0 : cX3_gradeOf.data.toList.drop 0 = dktX3_gradeOf_0 := by decide +kernel
theorem dksX3_gradeOf_1 : cX3_gradeOf.data.toList.drop 24 = dktX3_gradeOf_1 := dk_seg dksX3_gradeOf_0 24 rfl rfl
theorem dksX3_gradeOf_2 : cX3_gradeOf.data.toList.drop 48 = dktX3_gradeOf_2 := dk_seg dksX3_gradeOf_1 24 rfl rfl
theorem dX3_gradeOf_0 : decode cX3_gradeOf 0 = .ok (.aload_n 0, 1) := dk_42 (dk_at dksX3_gradeOf_0 0 rfl rfl)
theorem dX3_gradeOf_1 : decode cX3_gradeOf 1 = .ok (.iload_n 1, 1) := dk_27 (dk_at dksX3_gradeOf_0 1 rfl rfl)
theorem dX3_gradeOf_2 : decode cX3_gradeOf 2 = .ok (.iconst 2, 1) := dk_5 (dk_at dksX3_gradeOf_0 2 rfl rfl)
theorem dX3_gradeOf_3 : decode cX3_gradeOf 3 = .ok (.invokevirtual 66, 3) := dk_182 0 66 (dk_at dksX3_gradeOf_0 3 rfl rfl)
theorem dX3_gradeOf_6 : decode cX3_gradeOf 6 = .ok (.iconst 2, 1) := dk_5 (dk_at dksX3_gradeOf_0 6 rfl rfl)
theorem dX3_gradeOf_7 : decode cX3_gradeOf 7 = .ok (.idiv, 1) := dk_108 (dk_at dksX3_gradeOf_0 7 rfl rfl)
theorem dX3_gradeOf_8 : decode cX3_gradeOf 8 = .ok (.iconst 5, 1) := dk_8 (dk_at dksX3_gradeOf_0 8 rfl rfl)
theorem dX3_gradeOf_9 : decode cX3_gradeOf 9 = .ok (.aload_n 0, 1) := dk_42 (dk_at dksX3_gradeOf_0 9 rfl rfl)
theorem dX3_gradeOf_10 : decode cX3_gradeOf 10 = .ok (.iload_n 1, 1) := dk_27 (dk_at dksX3_gradeOf_0 10 rfl rfl)
theorem dX3_gradeOf_11 : decode cX3_gradeOf 11 = .ok (.iconst 0, 1) := dk_3 (dk_at dksX3_gradeOf_0 11 rfl rfl)
theorem dX3_gradeOf_12 : decode cX3_gradeOf 12 = .ok (.invokevirtual 66, 3) := dk_182 0 66 (dk_at dksX3_gradeOf_0 12 rfl rfl)
theorem dX3_gradeOf_15 : decode cX3_gradeOf 15 = .ok (.imul, 1) := dk_104 (dk_at dksX3_gradeOf_0 15 rfl rfl)
theorem dX3_gradeOf_16 : decode cX3_gradeOf 16 = .ok (.iadd, 1) := dk_96 (dk_at dksX3_gradeOf_0 16 rfl rfl)
theorem dX3_gradeOf_17 : decode cX3_gradeOf 17 = .ok (.istore_n 2, 1) := dk_61 (dk_at dksX3_gradeOf_0 17 rfl rfl)
theorem dX3_gradeOf_18 : decode cX3_gradeOf 18 = .ok (.iload_n 2, 1) := dk_28 (dk_at dksX3_gradeOf_0 18 rfl rfl)
theorem dX3_gradeOf_19 : decode cX3_gradeOf 19 = .ok (.bipush 80, 2) := dk_16 80 (dk_at dksX3_gradeOf_0 19 rfl rfl)
theorem dX3_gradeOf_21 : decode cX3_gradeOf 21 = .ok (.if_icmp .lt 8, 3) := dk_161 0 8 (dk_at dksX3_gradeOf_0 21 rfl rfl)
theorem dX3_gradeOf_24 : decode cX3_gradeOf 24 = .ok (.bipush 97, 2) := dk_16 97 (dk_at dksX3_gradeOf_1 0 rfl rfl)
theorem dX3_gradeOf_26 : decode cX3_gradeOf 26 = .ok (.goto 38, 3) := dk_167 0 38 (dk_at dksX3_gradeOf_1 2 rfl rfl)
theorem dX3_gradeOf_29 : decode cX3_gradeOf 29 = .ok (.iload_n 2, 1) := dk_28 (dk_at dksX3_gradeOf_1 5 rfl rfl)
theorem dX3_gradeOf_30 : decode cX3_gradeOf 30 = .ok (.bipush 60, 2) := dk_16 60 (dk_at dksX3_gradeOf_1 6 rfl rfl)
theorem dX3_gradeOf_32 : decode cX3_gradeOf 32 = .ok (.if_icmp .lt 8, 3) := dk_161 0 8 (dk_at dksX3_gradeOf_1 8 rfl rfl)
theorem dX3_gradeOf_35 : decode cX3_gradeOf 35 = .ok (.bipush 98, 2) := dk_16 98 (dk_at dksX3_gradeOf_1 11 rfl rfl)
theorem dX3_gradeOf_37 : decode cX3_gradeOf 37 = .ok (.goto 27, 3) := dk_167 0 27 (dk_at dksX3_gradeOf_1 13 rfl rfl)
theorem dX3_gradeOf_40 : decode cX3_gradeOf 40 = .ok (.iload_n 2, 1) := dk_28 (dk_at dksX3_gradeOf_1 16 rfl rfl)
theorem dX3_gradeOf_41 : decode cX3_gradeOf 41 = .ok (.bipush 40, 2) := dk_16 40 (dk_at dksX3_gradeOf_1 17 rfl rfl)
theorem dX3_gradeOf_43 : decode cX3_gradeOf 43 = .ok (.if_icmp .lt 8, 3) := dk_161 0 8 (dk_at dksX3_gradeOf_1 19 rfl rfl)
theorem dX3_gradeOf_46 : decode cX3_gradeOf 46 = .ok (.bipush 99, 2) := dk_16 99 (dk_at dksX3_gradeOf_1 22 rfl rfl)
theorem dX3_gradeOf_48 : decode cX3_gradeOf 48 = .ok (.goto 16, 3) := dk_167 0 16 (dk_at dksX3_gradeOf_2 0 rfl rfl)
theorem dX3_gradeOf_51 : decode cX3_gradeOf 51 = .ok (.iload_n 2, 1) := dk_28 (dk_at dksX3_gradeOf_2 3 rfl rfl)
theorem dX3_gradeOf_52 : decode cX3_gradeOf 52 = .ok (.bipush 20, 2) := dk_16 20 (dk_at dksX3_gradeOf_2 4 rfl rfl)
theorem dX3_gradeOf_54 : decode cX3_gradeOf 54 = .ok (.if_icmp .lt 8, 3) := dk_161 0 8 (dk_at dksX3_gradeOf_2 6 rfl rfl)
theorem dX3_gradeOf_57 : decode cX3_gradeOf 57 = .ok (.bipush 100, 2) := dk_16 100 (dk_at dksX3_gradeOf_2 9 rfl rfl)
theorem dX3_gradeOf_59 : decode cX3_gradeOf 59 = .ok (.goto 5, 3) := dk_167 0 5 (dk_at dksX3_gradeOf_2 11 rfl rfl)
theorem dX3_gradeOf_62 : decode cX3_gradeOf 62 = .ok (.bipush 101, 2) := dk_16 101 (dk_at dksX3_gradeOf_2 14 rfl rfl)
theorem dX3_gradeOf_64 : decode cX3_gradeOf 64 = .ok (.ireturn, 1) := dk_172 (dk_at dksX3_gradeOf_2 16 rfl rfl)
abbrev cX3_riverOf : ByteArray := prog_11_method_31_code
def yX3_riverOf : MethodName := ⟨RX3, "riverOf", "(II)I"⟩
def dkwX3_riverOf_4 : List UInt8 := [182, 0, 89, 172, 42, 27, 6, 182, 0, 89, 172, 42, 27, 182, 0, 112, 172, 42, 27, 7, 182, 0, 89, 172]
abbrev dktX3_riverOf_4 : List UInt8 := dkwX3_riverOf_4 ++ []
def dkwX3_riverOf_3 : List UInt8 := [42, 27, 3, 182, 0, 89, 172, 42, 27, 4, 182, 0, 89, 172, 42, 27, 182, 0, 109, 172, 42, 27, 5]
abbrev dktX3_riverOf_3 : List UInt8 := dkwX3_riverOf_3 ++ dktX3_riverOf_4
def dkwX3_riverOf_2 : List UInt8 := [170, 0, 0, 0, 0, 0, 79, 0, 0, 0, 0, 0, 0, 0, 5, 0, 0, 0, 39, 0, 0, 0, 46, 0, 0, 0, 53, 0, 0, 0, 59, 0, 0, 0, 66, 0, 0, 0, 73]
abbrev dktX3_riverOf_2 : List UInt8 := dkwX3_riverOf_2 ++ dktX3_riverOf_3
def dkwX3_riverOf_1 : List UInt8 := [167, 0, 4, 5, 182, 0, 70, 153, 0, 5, 3, 172, 28]
abbrev dktX3_riverOf_1 : List UInt8 := dkwX3_riverOf_1 ++ dktX3_riverOf_2
def dkwX3_riverOf_0 : List UInt8 := [42, 42, 27, 182, 0, 86, 154, 0, 7, 4, 167, 0, 18, 28, 3, 16, 6, 184, 0, 62, 153, 0, 7, 3]
abbrev dktX3_riverOf_0 : List UInt8 := dkwX3_riverOf_0 ++ dktX3_riverOf_1
theorem dksX3_riverOf_0 : cX3_riverOf.data.toList.drop 0 = dktX3_riverOf_0 := by decide +kernel
theorem dksX3_riverOf_1 : cX3_riverOf.data.toList.drop 24 = dktX3_riverOf_1 := dk_seg dksX3_riverOf_0 24 rfl rfl
theorem dksX3_riverOf_2 : cX3_riverOf.data.toList.drop 37 = dktX3_riverOf_2 := dk_seg dksX3_riverOf_1 13 rfl rfl
theorem dksX3_riverOf_3 : cX3_riverOf.data.toList.drop 76 = dktX3_riverOf_3 := dk_seg dksX3_riverOf_2 39 rfl rfl
theorem dksX3_riverOf_4 : cX3_riverOf.data.toList.drop 99 = dktX3_riverOf_4 := dk_seg dksX3_riverOf_3 23 rfl rfl
theorem dX3_riverOf_0 : decode cX3_riverOf 0 = .ok (.aload_n 0, 1) := dk_42 (dk_at dksX3_riverOf_0 0 rfl rfl)
theorem dX3_riverOf_1 : decode cX3_riverOf 1 = .ok (.aload_n 0, 1) := dk_42 (dk_at dksX3_riverOf_0 1 rfl rfl)
theorem dX3_riverOf_2 : decode cX3_riverOf 2 = .ok (.iload_n 1, 1) := dk_27 (dk_at dksX3_riverOf_0 2 rfl rfl)
theorem dX3_riverOf_3 : decode cX3_riverOf 3 = .ok (.invokevirtual 86, 3) := dk_182 0 86 (dk_at dksX3_riverOf_0 3 rfl rfl)
theorem dX3_riverOf_6 : decode cX3_riverOf 6 = .ok (.ifCond .ne 7, 3) := dk_154 0 7 (dk_at dksX3_riverOf_0 6 rfl rfl)
theorem dX3_riverOf_9 : decode cX3_riverOf 9 = .ok (.iconst 1, 1) := dk_4 (dk_at dksX3_riverOf_0 9 rfl rfl)
theorem dX3_riverOf_10 : decode cX3_riverOf 10 = .ok (.goto 18, 3) := dk_167 0 18 (dk_at dksX3_riverOf_0 10 rfl rfl)
theorem dX3_riverOf_13 : decode cX3_riverOf 13 = .ok (.iload_n 2, 1) := dk_28 (dk_at dksX3_riverOf_0 13 rfl rfl)
theorem dX3_riverOf_14 : decode cX3_riverOf 14 = .ok (.iconst 0, 1) := dk_3 (dk_at dksX3_riverOf_0 14 rfl rfl)
theorem dX3_riverOf_15 : decode cX3_riverOf 15 = .ok (.bipush 6, 2) := dk_16 6 (dk_at dksX3_riverOf_0 15 rfl rfl)
theorem dX3_riverOf_17 : decode cX3_riverOf 17 = .ok (.invokestatic 62, 3) := dk_184 0 62 (dk_at dksX3_riverOf_0 17 rfl rfl)
theorem dX3_riverOf_20 : decode cX3_riverOf 20 = .ok (.ifCond .eq 7, 3) := dk_153 0 7 (dk_at dksX3_riverOf_0 20 rfl rfl)
theorem dX3_riverOf_23 : decode cX3_riverOf 23 = .ok (.iconst 0, 1) := dk_3 (dk_at dksX3_riverOf_0 23 rfl rfl)
theorem dX3_riverOf_24 : decode cX3_riverOf 24 = .ok (.goto 4, 3) := dk_167 0 4 (dk_at dksX3_riverOf_1 0 rfl rfl)
theorem dX3_riverOf_27 : decode cX3_riverOf 27 = .ok (.iconst 2, 1) := dk_5 (dk_at dksX3_riverOf_1 3 rfl rfl)
theorem dX3_riverOf_28 : decode cX3_riverOf 28 = .ok (.invokevirtual 70, 3) := dk_182 0 70 (dk_at dksX3_riverOf_1 4 rfl rfl)
theorem dX3_riverOf_31 : decode cX3_riverOf 31 = .ok (.ifCond .eq 5, 3) := dk_153 0 5 (dk_at dksX3_riverOf_1 7 rfl rfl)
theorem dX3_riverOf_34 : decode cX3_riverOf 34 = .ok (.iconst 0, 1) := dk_3 (dk_at dksX3_riverOf_1 10 rfl rfl)
theorem dX3_riverOf_35 : decode cX3_riverOf 35 = .ok (.ireturn, 1) := dk_172 (dk_at dksX3_riverOf_1 11 rfl rfl)
theorem dX3_riverOf_36 : decode cX3_riverOf 36 = .ok (.iload_n 2, 1) := dk_28 (dk_at dksX3_riverOf_1 12 rfl rfl)
theorem dX3_riverOf_37 : decode cX3_riverOf 37 = .ok (.tableswitch 79 0 5 #[39, 46, 53, 59, 66, 73], 39) := by decide +kernel
theorem dX3_riverOf_76 : decode cX3_riverOf 76 = .ok (.aload_n 0, 1) := dk_42 (dk_at dksX3_riverOf_3 0 rfl rfl)
theorem dX3_riverOf_77 : decode cX3_riverOf 77 = .ok (.iload_n 1, 1) := dk_27 (dk_at dksX3_riverOf_3 1 rfl rfl)
theorem dX3_riverOf_78 : decode cX3_riverOf 78 = .ok (.iconst 0, 1) := dk_3 (dk_at dksX3_riverOf_3 2 rfl rfl)
theorem dX3_riverOf_79 : decode cX3_riverOf 79 = .ok (.invokevirtual 89, 3) := dk_182 0 89 (dk_at dksX3_riverOf_3 3 rfl rfl)
theorem dX3_riverOf_82 : decode cX3_riverOf 82 = .ok (.ireturn, 1) := dk_172 (dk_at dksX3_riverOf_3 6 rfl rfl)
theorem dX3_riverOf_83 : decode cX3_riverOf 83 = .ok (.aload_n 0, 1) := dk_42 (dk_at dksX3_riverOf_3 7 rfl rfl)
theorem dX3_riverOf_84 : decode cX3_riverOf 84 = .ok (.iload_n 1, 1) := dk_27 (dk_at dksX3_riverOf_3 8 rfl rfl)
theorem dX3_riverOf_85 : decode cX3_riverOf 85 = .ok (.iconst 1, 1) := dk_4 (dk_at dksX3_riverOf_3 9 rfl rfl)
theorem dX3_riverOf_86 : decode cX3_riverOf 86 = .ok (.invokevirtual 89, 3) := dk_182 0 89 (dk_at dksX3_riverOf_3 10 rfl rfl)
theorem dX3_riverOf_89 : decode cX3_riverOf 89 = .ok (.ireturn, 1) := dk_172 (dk_at dksX3_riverOf_3 13 rfl rfl)
theorem dX3_riverOf_90 : decode cX3_riverOf 90 = .ok (.aload_n 0, 1) := dk_42 (dk_at dksX3_riverOf_3 14 rfl rfl)
theorem dX3_riverOf_91 : decode cX3_riverOf 91 = .ok (.iload_n 1, 1) := dk_27 (dk_at dksX3_riverOf_3 15 rfl rfl)
theorem dX3_riverOf_92 : decode cX3_riverOf 92 = .ok (.invokevirtual 109, 3) := dk_182 0 109 (dk_at dksX3_riverOf_3 16 rfl rfl)
theorem dX3_riverOf_95 : decode cX3_riverOf 95 = .ok (.ireturn, 1) := dk_172 (dk_at dksX3_riverOf_3 19 rfl rfl)
theorem dX3_riverOf_96 : decode cX3_riverOf 96 = .ok (.aload_n 0, 1) := dk_42 (dk_at dksX3_riverOf_3 20 rfl rfl)
theorem dX3_riverOf_97 : decode cX3_riverOf 97 = .ok (.iload_n 1, 1) := dk_27 (dk_at dksX3_riverOf_3 21 rfl rfl)
theorem dX3_riverOf_98 : decode cX3_riverOf 98 = .ok (.iconst 2, 1) := dk_5 (dk_at dksX3_riverOf_3 22 rfl rfl)
theorem dX3_riverOf_99 : decode cX3_riverOf 99 = .ok (.invokevirtual 89, 3) := dk_182 0 89 (dk_at dksX3_riverOf_4 0 rfl rfl)
theorem dX3_riverOf_102 : decode cX3_riverOf 102 = .ok (.ireturn, 1) := dk_172 (dk_at dksX3_riverOf_4 3 rfl rfl)
theorem dX3_riverOf_103 : decode cX3_riverOf 103 = .ok (.aload_n 0, 1) := dk_42 (dk_at dksX3_riverOf_4 4 rfl rfl)
theorem dX3_riverOf_104 : decode cX3_riverOf 104 = .ok (.iload_n 1, 1) := dk_27 (dk_at dksX3_riverOf_4 5 rfl rfl)
theorem dX3_riverOf_105 : decode cX3_riverOf 105 = .ok (.iconst 3, 1) := dk_6 (dk_at dksX3_riverOf_4 6 rfl rfl)
theorem dX3_riverOf_106 : decode cX3_riverOf 106 = .ok (.invokevirtual 89, 3) := dk_182 0 89 (dk_at dksX3_riverOf_4 7 rfl rfl)
theorem dX3_riverOf_109 : decode cX3_riverOf 109 = .ok (.ireturn, 1) := dk_172 (dk_at dksX3_riverOf_4 10 rfl rfl)
theorem dX3_riverOf_110 : decode cX3_riverOf 110 = .ok (.aload_n 0, 1) := dk_42 (dk_at dksX3_riverOf_4 11 rfl rfl)
theorem dX3_riverOf_111 : decode cX3_riverOf 111 = .ok (.iload_n 1, 1) := dk_27 (dk_at dksX3_riverOf_4 12 rfl rfl)
theorem dX3_riverOf_112 : decode cX3_riverOf 112 = .ok (.invokevirtual 112, 3) := dk_182 0 112 (dk_at dksX3_riverOf_4 13 rfl rfl)
theorem dX3_riverOf_115 : decode cX3_riverOf 115 = .ok (.ireturn, 1) := dk_172 (dk_at dksX3_riverOf_4 16 rfl rfl)
theorem dX3_riverOf_116 : decode cX3_riverOf 116 = .ok (.aload_n 0, 1) := dk_42 (dk_at dksX3_riverOf_4 17 rfl rfl)
theorem dX3_riverOf_117 : decode cX3_riverOf 117 = .ok (.iload_n 1, 1) := dk_27 (dk_at dksX3_riverOf_4 18 rfl rfl)
theorem dX3_riverOf_118 : decode cX3_riverOf 118 = .ok (.iconst 4, 1) := dk_7 (dk_at dksX3_riverOf_4 19 rfl rfl)
theorem dX3_riverOf_119 : decode cX3_riverOf 119 = .ok (.invokevirtual 89, 3) := dk_182 0 89 (dk_at dksX3_riverOf_4 20 rfl rfl)
theorem dX3_riverOf_122 : decode cX3_riverOf 122 = .ok (.ireturn, 1) := dk_172 (dk_at dksX3_riverOf_4 23 rfl rfl)
abbrev cX3_daysOf : ByteArray := prog_11_method_26_code
def yX3_daysOf : MethodName := ⟨RX3, "daysOf", "(I)I"⟩
def dkwX3_daysOf_1 : List UInt8 := [3, 96, 61, 132, 3, 1, 167, 255, 230, 28, 172]
abbrev dktX3_daysOf_1 : List UInt8 := dkwX3_daysOf_1 ++ []
def dkwX3_daysOf_0 : List UInt8 := [3, 61, 3, 62, 29, 16, 30, 162, 0, 26, 28, 42, 27, 29, 182, 0, 92, 155, 0, 7, 4, 167, 0, 4]
abbrev dktX3_daysOf_0 : List UInt8 := dkwX3_daysOf_0 ++ dktX3_daysOf_1
theorem dksX3_daysOf_0 : cX3_daysOf.data.toList.drop 0 = dktX3_daysOf_0 := by decide +kernel
theorem dksX3_daysOf_1 : cX3_daysOf.data.toList.drop 24 = dktX3_daysOf_1 := dk_seg dksX3_daysOf_0 24 rfl rfl
theorem dX3_daysOf_0 : decode cX3_daysOf 0 = .ok (.iconst 0, 1) := dk_3 (dk_at dksX3_daysOf_0 0 rfl rfl)
theorem dX3_daysOf_1 : decode cX3_daysOf 1 = .ok (.istore_n 2, 1) := dk_61 (dk_at dksX3_daysOf_0 1 rfl rfl)
theorem dX3_daysOf_2 : decode cX3_daysOf 2 = .ok (.iconst 0, 1) := dk_3 (dk_at dksX3_daysOf_0 2 rfl rfl)
theorem dX3_daysOf_3 : decode cX3_daysOf 3 = .ok (.istore_n 3, 1) := dk_62 (dk_at dksX3_daysOf_0 3 rfl rfl)
theorem dX3_daysOf_4 : decode cX3_daysOf 4 = .ok (.iload_n 3, 1) := dk_29 (dk_at dksX3_daysOf_0 4 rfl rfl)
theorem dX3_daysOf_5 : decode cX3_daysOf 5 = .ok (.bipush 30, 2) := dk_16 30 (dk_at dksX3_daysOf_0 5 rfl rfl)
theorem dX3_daysOf_7 : decode cX3_daysOf 7 = .ok (.if_icmp .ge 26, 3) := dk_162 0 26 (dk_at dksX3_daysOf_0 7 rfl rfl)
theorem dX3_daysOf_10 : decode cX3_daysOf 10 = .ok (.iload_n 2, 1) := dk_28 (dk_at dksX3_daysOf_0 10 rfl rfl)
theorem dX3_daysOf_11 : decode cX3_daysOf 11 = .ok (.aload_n 0, 1) := dk_42 (dk_at dksX3_daysOf_0 11 rfl rfl)
theorem dX3_daysOf_12 : decode cX3_daysOf 12 = .ok (.iload_n 1, 1) := dk_27 (dk_at dksX3_daysOf_0 12 rfl rfl)
theorem dX3_daysOf_13 : decode cX3_daysOf 13 = .ok (.iload_n 3, 1) := dk_29 (dk_at dksX3_daysOf_0 13 rfl rfl)
theorem dX3_daysOf_14 : decode cX3_daysOf 14 = .ok (.invokevirtual 92, 3) := dk_182 0 92 (dk_at dksX3_daysOf_0 14 rfl rfl)
theorem dX3_daysOf_17 : decode cX3_daysOf 17 = .ok (.ifCond .lt 7, 3) := dk_155 0 7 (dk_at dksX3_daysOf_0 17 rfl rfl)
theorem dX3_daysOf_20 : decode cX3_daysOf 20 = .ok (.iconst 1, 1) := dk_4 (dk_at dksX3_daysOf_0 20 rfl rfl)
theorem dX3_daysOf_21 : decode cX3_daysOf 21 = .ok (.goto 4, 3) := dk_167 0 4 (dk_at dksX3_daysOf_0 21 rfl rfl)
theorem dX3_daysOf_24 : decode cX3_daysOf 24 = .ok (.iconst 0, 1) := dk_3 (dk_at dksX3_daysOf_1 0 rfl rfl)
theorem dX3_daysOf_25 : decode cX3_daysOf 25 = .ok (.iadd, 1) := dk_96 (dk_at dksX3_daysOf_1 1 rfl rfl)
theorem dX3_daysOf_26 : decode cX3_daysOf 26 = .ok (.istore_n 2, 1) := dk_61 (dk_at dksX3_daysOf_1 2 rfl rfl)
theorem dX3_daysOf_27 : decode cX3_daysOf 27 = .ok (.iinc 3 1, 3) := dk_132 3 1 (dk_at dksX3_daysOf_1 3 rfl rfl)
theorem dX3_daysOf_30 : decode cX3_daysOf 30 = .ok (.goto (-26), 3) := dk_167 255 230 (dk_at dksX3_daysOf_1 6 rfl rfl)
theorem dX3_daysOf_33 : decode cX3_daysOf 33 = .ok (.iload_n 2, 1) := dk_28 (dk_at dksX3_daysOf_1 9 rfl rfl)
theorem dX3_daysOf_34 : decode cX3_daysOf 34 = .ok (.ireturn, 1) := dk_172 (dk_at dksX3_daysOf_1 10 rfl rfl)
abbrev cX3_bookedFor : ByteArray := prog_11_method_15_code
def yX3_bookedFor : MethodName := ⟨RX3, "bookedFor", "(II)I"⟩
def dkwX3_bookedFor_0 : List UInt8 := [42, 180, 0, 7, 17, 0, 174, 16, 30, 27, 104, 96, 28, 96, 46, 172]
abbrev dktX3_bookedFor_0 : List UInt8 := dkwX3_bookedFor_0 ++ []
theorem dksX3_bookedFor_0 : cX3_bookedFor.data.toList.drop 0 = dktX3_bookedFor_0 := by decide +kernel
theorem dX3_bookedFor_0 : decode cX3_bookedFor 0 = .ok (.aload_n 0, 1) := dk_42 (dk_at dksX3_bookedFor_0 0 rfl rfl)
theorem dX3_bookedFor_1 : decode cX3_bookedFor 1 = .ok (.getfield 7, 3) := dk_180 0 7 (dk_at dksX3_bookedFor_0 1 rfl rfl)
theorem dX3_bookedFor_4 : decode cX3_bookedFor 4 = .ok (.sipush 174, 3) := dk_17 0 174 (dk_at dksX3_bookedFor_0 4 rfl rfl)
theorem dX3_bookedFor_7 : decode cX3_bookedFor 7 = .ok (.bipush 30, 2) := dk_16 30 (dk_at dksX3_bookedFor_0 7 rfl rfl)
theorem dX3_bookedFor_9 : decode cX3_bookedFor 9 = .ok (.iload_n 1, 1) := dk_27 (dk_at dksX3_bookedFor_0 9 rfl rfl)
theorem dX3_bookedFor_10 : decode cX3_bookedFor 10 = .ok (.imul, 1) := dk_104 (dk_at dksX3_bookedFor_0 10 rfl rfl)
theorem dX3_bookedFor_11 : decode cX3_bookedFor 11 = .ok (.iadd, 1) := dk_96 (dk_at dksX3_bookedFor_0 11 rfl rfl)
theorem dX3_bookedFor_12 : decode cX3_bookedFor 12 = .ok (.iload_n 2, 1) := dk_28 (dk_at dksX3_bookedFor_0 12 rfl rfl)
theorem dX3_bookedFor_13 : decode cX3_bookedFor 13 = .ok (.iadd, 1) := dk_96 (dk_at dksX3_bookedFor_0 13 rfl rfl)
theorem dX3_bookedFor_14 : decode cX3_bookedFor 14 = .ok (.iaload, 1) := dk_46 (dk_at dksX3_bookedFor_0 14 rfl rfl)
theorem dX3_bookedFor_15 : decode cX3_bookedFor 15 = .ok (.ireturn, 1) := dk_172 (dk_at dksX3_bookedFor_0 15 rfl rfl)
abbrev cX3_stay : ByteArray := prog_11_method_27_code
def yX3_stay : MethodName := ⟨RX3, "stay", "(I)I"⟩
def dkwX3_stay_2 : List UInt8 := [61, 132, 3, 1, 167, 255, 210, 28, 172]
abbrev dktX3_stay_2 : List UInt8 := dkwX3_stay_2 ++ []
def dkwX3_stay_1 : List UInt8 := [159, 0, 18, 27, 16, 9, 160, 0, 16, 42, 29, 8, 182, 0, 66, 155, 0, 7, 4, 167, 0, 4, 3, 96]
abbrev dktX3_stay_1 : List UInt8 := dkwX3_stay_1 ++ dktX3_stay_2
def dkwX3_stay_0 : List UInt8 := [3, 61, 3, 62, 29, 42, 180, 0, 7, 3, 46, 162, 0, 42, 28, 42, 29, 8, 182, 0, 66, 27]
abbrev dktX3_stay_0 : List UInt8 := dkwX3_stay_0 ++ dktX3_stay_1
theorem dksX3_stay_0 : cX3_stay.data.toList.drop 0 = dktX3_stay_0 := by decide +kernel
theorem dksX3_stay_1 : cX3_stay.data.toList.drop 22 = dktX3_stay_1 := dk_seg dksX3_stay_0 22 rfl rfl
theorem dksX3_stay_2 : cX3_stay.data.toList.drop 46 = dktX3_stay_2 := dk_seg dksX3_stay_1 24 rfl rfl
theorem dX3_stay_0 : decode cX3_stay 0 = .ok (.iconst 0, 1) := dk_3 (dk_at dksX3_stay_0 0 rfl rfl)
theorem dX3_stay_1 : decode cX3_stay 1 = .ok (.istore_n 2, 1) := dk_61 (dk_at dksX3_stay_0 1 rfl rfl)
theorem dX3_stay_2 : decode cX3_stay 2 = .ok (.iconst 0, 1) := dk_3 (dk_at dksX3_stay_0 2 rfl rfl)
theorem dX3_stay_3 : decode cX3_stay 3 = .ok (.istore_n 3, 1) := dk_62 (dk_at dksX3_stay_0 3 rfl rfl)
theorem dX3_stay_4 : decode cX3_stay 4 = .ok (.iload_n 3, 1) := dk_29 (dk_at dksX3_stay_0 4 rfl rfl)
theorem dX3_stay_5 : decode cX3_stay 5 = .ok (.aload_n 0, 1) := dk_42 (dk_at dksX3_stay_0 5 rfl rfl)
theorem dX3_stay_6 : decode cX3_stay 6 = .ok (.getfield 7, 3) := dk_180 0 7 (dk_at dksX3_stay_0 6 rfl rfl)
theorem dX3_stay_9 : decode cX3_stay 9 = .ok (.iconst 0, 1) := dk_3 (dk_at dksX3_stay_0 9 rfl rfl)
theorem dX3_stay_10 : decode cX3_stay 10 = .ok (.iaload, 1) := dk_46 (dk_at dksX3_stay_0 10 rfl rfl)
theorem dX3_stay_11 : decode cX3_stay 11 = .ok (.if_icmp .ge 42, 3) := dk_162 0 42 (dk_at dksX3_stay_0 11 rfl rfl)
theorem dX3_stay_14 : decode cX3_stay 14 = .ok (.iload_n 2, 1) := dk_28 (dk_at dksX3_stay_0 14 rfl rfl)
theorem dX3_stay_15 : decode cX3_stay 15 = .ok (.aload_n 0, 1) := dk_42 (dk_at dksX3_stay_0 15 rfl rfl)
theorem dX3_stay_16 : decode cX3_stay 16 = .ok (.iload_n 3, 1) := dk_29 (dk_at dksX3_stay_0 16 rfl rfl)
theorem dX3_stay_17 : decode cX3_stay 17 = .ok (.iconst 5, 1) := dk_8 (dk_at dksX3_stay_0 17 rfl rfl)
theorem dX3_stay_18 : decode cX3_stay 18 = .ok (.invokevirtual 66, 3) := dk_182 0 66 (dk_at dksX3_stay_0 18 rfl rfl)
theorem dX3_stay_21 : decode cX3_stay 21 = .ok (.iload_n 1, 1) := dk_27 (dk_at dksX3_stay_0 21 rfl rfl)
theorem dX3_stay_22 : decode cX3_stay 22 = .ok (.if_icmp .eq 18, 3) := dk_159 0 18 (dk_at dksX3_stay_1 0 rfl rfl)
theorem dX3_stay_25 : decode cX3_stay 25 = .ok (.iload_n 1, 1) := dk_27 (dk_at dksX3_stay_1 3 rfl rfl)
theorem dX3_stay_26 : decode cX3_stay 26 = .ok (.bipush 9, 2) := dk_16 9 (dk_at dksX3_stay_1 4 rfl rfl)
theorem dX3_stay_28 : decode cX3_stay 28 = .ok (.if_icmp .ne 16, 3) := dk_160 0 16 (dk_at dksX3_stay_1 6 rfl rfl)
theorem dX3_stay_31 : decode cX3_stay 31 = .ok (.aload_n 0, 1) := dk_42 (dk_at dksX3_stay_1 9 rfl rfl)
theorem dX3_stay_32 : decode cX3_stay 32 = .ok (.iload_n 3, 1) := dk_29 (dk_at dksX3_stay_1 10 rfl rfl)
theorem dX3_stay_33 : decode cX3_stay 33 = .ok (.iconst 5, 1) := dk_8 (dk_at dksX3_stay_1 11 rfl rfl)
theorem dX3_stay_34 : decode cX3_stay 34 = .ok (.invokevirtual 66, 3) := dk_182 0 66 (dk_at dksX3_stay_1 12 rfl rfl)
theorem dX3_stay_37 : decode cX3_stay 37 = .ok (.ifCond .lt 7, 3) := dk_155 0 7 (dk_at dksX3_stay_1 15 rfl rfl)
theorem dX3_stay_40 : decode cX3_stay 40 = .ok (.iconst 1, 1) := dk_4 (dk_at dksX3_stay_1 18 rfl rfl)
theorem dX3_stay_41 : decode cX3_stay 41 = .ok (.goto 4, 3) := dk_167 0 4 (dk_at dksX3_stay_1 19 rfl rfl)
theorem dX3_stay_44 : decode cX3_stay 44 = .ok (.iconst 0, 1) := dk_3 (dk_at dksX3_stay_1 22 rfl rfl)
theorem dX3_stay_45 : decode cX3_stay 45 = .ok (.iadd, 1) := dk_96 (dk_at dksX3_stay_1 23 rfl rfl)
theorem dX3_stay_46 : decode cX3_stay 46 = .ok (.istore_n 2, 1) := dk_61 (dk_at dksX3_stay_2 0 rfl rfl)
theorem dX3_stay_47 : decode cX3_stay 47 = .ok (.iinc 3 1, 3) := dk_132 3 1 (dk_at dksX3_stay_2 1 rfl rfl)
theorem dX3_stay_50 : decode cX3_stay 50 = .ok (.goto (-46), 3) := dk_167 255 210 (dk_at dksX3_stay_2 4 rfl rfl)
theorem dX3_stay_53 : decode cX3_stay 53 = .ok (.iload_n 2, 1) := dk_28 (dk_at dksX3_stay_2 7 rfl rfl)
theorem dX3_stay_54 : decode cX3_stay 54 = .ok (.ireturn, 1) := dk_172 (dk_at dksX3_stay_2 8 rfl rfl)
abbrev cX3_book : ByteArray := prog_11_method_32_code
def yX3_book : MethodName := ⟨RX3, "book", "(III)I"⟩
def dkwX3_book_4 : List UInt8 := [42, 180, 0, 7, 17, 0, 174, 16, 30, 28, 104, 96, 29, 96, 27, 79, 42, 28, 182, 0, 109, 172]
abbrev dktX3_book_4 : List UInt8 := dkwX3_book_4 ++ []
def dkwX3_book_3 : List UInt8 := [155, 0, 16, 42, 6, 5, 42, 28, 29, 182, 0, 92, 182, 0, 74, 172, 42, 42, 180, 0, 7, 182, 0, 78]
abbrev dktX3_book_3 : List UInt8 := dkwX3_book_3 ++ dktX3_book_4
def dkwX3_book_2 : List UInt8 := [153, 0, 17, 42, 6, 7, 42, 27, 16, 10, 182, 0, 66, 182, 0, 74, 172, 42, 28, 29, 182, 0, 92]
abbrev dktX3_book_2 : List UInt8 := dkwX3_book_2 ++ dktX3_book_3
def dkwX3_book_1 : List UInt8 := [184, 0, 115, 153, 0, 7, 3, 167, 0, 4, 5, 182, 0, 70, 153, 0, 5, 3, 172, 42, 27, 182, 0, 118]
abbrev dktX3_book_1 : List UInt8 := dkwX3_book_1 ++ dktX3_book_2
def dkwX3_book_0 : List UInt8 := [42, 42, 27, 182, 0, 95, 153, 0, 11, 42, 28, 182, 0, 86, 154, 0, 7, 4, 167, 0, 15, 29]
abbrev dktX3_book_0 : List UInt8 := dkwX3_book_0 ++ dktX3_book_1
theorem dksX3_book_0 : cX3_book.data.toList.drop 0 = dktX3_book_0 := by decide +kernel
theorem dksX3_book_1 : cX3_book.data.toList.drop 22 = dktX3_book_1 := dk_seg dksX3_book_0 22 rfl rfl
theorem dksX3_book_2 : cX3_book.data.toList.drop 46 = dktX3_book_2 := dk_seg dksX3_book_1 24 rfl rfl
theorem dksX3_book_3 : cX3_book.data.toList.drop 69 = dktX3_book_3 := dk_seg dksX3_book_2 23 rfl rfl
theorem dksX3_book_4 : cX3_book.data.toList.drop 93 = dktX3_book_4 := dk_seg dksX3_book_3 24 rfl rfl
theorem dX3_book_0 : decode cX3_book 0 = .ok (.aload_n 0, 1) := dk_42 (dk_at dksX3_book_0 0 rfl rfl)
theorem dX3_book_1 : decode cX3_book 1 = .ok (.aload_n 0, 1) := dk_42 (dk_at dksX3_book_0 1 rfl rfl)
theorem dX3_book_2 : decode cX3_book 2 = .ok (.iload_n 1, 1) := dk_27 (dk_at dksX3_book_0 2 rfl rfl)
theorem dX3_book_3 : decode cX3_book 3 = .ok (.invokevirtual 95, 3) := dk_182 0 95 (dk_at dksX3_book_0 3 rfl rfl)
theorem dX3_book_6 : decode cX3_book 6 = .ok (.ifCond .eq 11, 3) := dk_153 0 11 (dk_at dksX3_book_0 6 rfl rfl)
theorem dX3_book_9 : decode cX3_book 9 = .ok (.aload_n 0, 1) := dk_42 (dk_at dksX3_book_0 9 rfl rfl)
theorem dX3_book_10 : decode cX3_book 10 = .ok (.iload_n 2, 1) := dk_28 (dk_at dksX3_book_0 10 rfl rfl)
theorem dX3_book_11 : decode cX3_book 11 = .ok (.invokevirtual 86, 3) := dk_182 0 86 (dk_at dksX3_book_0 11 rfl rfl)
theorem dX3_book_14 : decode cX3_book 14 = .ok (.ifCond .ne 7, 3) := dk_154 0 7 (dk_at dksX3_book_0 14 rfl rfl)
theorem dX3_book_17 : decode cX3_book 17 = .ok (.iconst 1, 1) := dk_4 (dk_at dksX3_book_0 17 rfl rfl)
theorem dX3_book_18 : decode cX3_book 18 = .ok (.goto 15, 3) := dk_167 0 15 (dk_at dksX3_book_0 18 rfl rfl)
theorem dX3_book_21 : decode cX3_book 21 = .ok (.iload_n 3, 1) := dk_29 (dk_at dksX3_book_0 21 rfl rfl)
theorem dX3_book_22 : decode cX3_book 22 = .ok (.invokestatic 115, 3) := dk_184 0 115 (dk_at dksX3_book_1 0 rfl rfl)
theorem dX3_book_25 : decode cX3_book 25 = .ok (.ifCond .eq 7, 3) := dk_153 0 7 (dk_at dksX3_book_1 3 rfl rfl)
theorem dX3_book_28 : decode cX3_book 28 = .ok (.iconst 0, 1) := dk_3 (dk_at dksX3_book_1 6 rfl rfl)
theorem dX3_book_29 : decode cX3_book 29 = .ok (.goto 4, 3) := dk_167 0 4 (dk_at dksX3_book_1 7 rfl rfl)
theorem dX3_book_32 : decode cX3_book 32 = .ok (.iconst 2, 1) := dk_5 (dk_at dksX3_book_1 10 rfl rfl)
theorem dX3_book_33 : decode cX3_book 33 = .ok (.invokevirtual 70, 3) := dk_182 0 70 (dk_at dksX3_book_1 11 rfl rfl)
theorem dX3_book_36 : decode cX3_book 36 = .ok (.ifCond .eq 5, 3) := dk_153 0 5 (dk_at dksX3_book_1 14 rfl rfl)
theorem dX3_book_39 : decode cX3_book 39 = .ok (.iconst 0, 1) := dk_3 (dk_at dksX3_book_1 17 rfl rfl)
theorem dX3_book_40 : decode cX3_book 40 = .ok (.ireturn, 1) := dk_172 (dk_at dksX3_book_1 18 rfl rfl)
theorem dX3_book_41 : decode cX3_book 41 = .ok (.aload_n 0, 1) := dk_42 (dk_at dksX3_book_1 19 rfl rfl)
theorem dX3_book_42 : decode cX3_book 42 = .ok (.iload_n 1, 1) := dk_27 (dk_at dksX3_book_1 20 rfl rfl)
theorem dX3_book_43 : decode cX3_book 43 = .ok (.invokevirtual 118, 3) := dk_182 0 118 (dk_at dksX3_book_1 21 rfl rfl)
theorem dX3_book_46 : decode cX3_book 46 = .ok (.ifCond .eq 17, 3) := dk_153 0 17 (dk_at dksX3_book_2 0 rfl rfl)
theorem dX3_book_49 : decode cX3_book 49 = .ok (.aload_n 0, 1) := dk_42 (dk_at dksX3_book_2 3 rfl rfl)
theorem dX3_book_50 : decode cX3_book 50 = .ok (.iconst 3, 1) := dk_6 (dk_at dksX3_book_2 4 rfl rfl)
theorem dX3_book_51 : decode cX3_book 51 = .ok (.iconst 4, 1) := dk_7 (dk_at dksX3_book_2 5 rfl rfl)
theorem dX3_book_52 : decode cX3_book 52 = .ok (.aload_n 0, 1) := dk_42 (dk_at dksX3_book_2 6 rfl rfl)
theorem dX3_book_53 : decode cX3_book 53 = .ok (.iload_n 1, 1) := dk_27 (dk_at dksX3_book_2 7 rfl rfl)
theorem dX3_book_54 : decode cX3_book 54 = .ok (.bipush 10, 2) := dk_16 10 (dk_at dksX3_book_2 8 rfl rfl)
theorem dX3_book_56 : decode cX3_book 56 = .ok (.invokevirtual 66, 3) := dk_182 0 66 (dk_at dksX3_book_2 10 rfl rfl)
theorem dX3_book_59 : decode cX3_book 59 = .ok (.invokevirtual 74, 3) := dk_182 0 74 (dk_at dksX3_book_2 13 rfl rfl)
theorem dX3_book_62 : decode cX3_book 62 = .ok (.ireturn, 1) := dk_172 (dk_at dksX3_book_2 16 rfl rfl)
theorem dX3_book_63 : decode cX3_book 63 = .ok (.aload_n 0, 1) := dk_42 (dk_at dksX3_book_2 17 rfl rfl)
theorem dX3_book_64 : decode cX3_book 64 = .ok (.iload_n 2, 1) := dk_28 (dk_at dksX3_book_2 18 rfl rfl)
theorem dX3_book_65 : decode cX3_book 65 = .ok (.iload_n 3, 1) := dk_29 (dk_at dksX3_book_2 19 rfl rfl)
theorem dX3_book_66 : decode cX3_book 66 = .ok (.invokevirtual 92, 3) := dk_182 0 92 (dk_at dksX3_book_2 20 rfl rfl)
theorem dX3_book_69 : decode cX3_book 69 = .ok (.ifCond .lt 16, 3) := dk_155 0 16 (dk_at dksX3_book_3 0 rfl rfl)
theorem dX3_book_72 : decode cX3_book 72 = .ok (.aload_n 0, 1) := dk_42 (dk_at dksX3_book_3 3 rfl rfl)
theorem dX3_book_73 : decode cX3_book 73 = .ok (.iconst 3, 1) := dk_6 (dk_at dksX3_book_3 4 rfl rfl)
theorem dX3_book_74 : decode cX3_book 74 = .ok (.iconst 2, 1) := dk_5 (dk_at dksX3_book_3 5 rfl rfl)
theorem dX3_book_75 : decode cX3_book 75 = .ok (.aload_n 0, 1) := dk_42 (dk_at dksX3_book_3 6 rfl rfl)
theorem dX3_book_76 : decode cX3_book 76 = .ok (.iload_n 2, 1) := dk_28 (dk_at dksX3_book_3 7 rfl rfl)
theorem dX3_book_77 : decode cX3_book 77 = .ok (.iload_n 3, 1) := dk_29 (dk_at dksX3_book_3 8 rfl rfl)
theorem dX3_book_78 : decode cX3_book 78 = .ok (.invokevirtual 92, 3) := dk_182 0 92 (dk_at dksX3_book_3 9 rfl rfl)
theorem dX3_book_81 : decode cX3_book 81 = .ok (.invokevirtual 74, 3) := dk_182 0 74 (dk_at dksX3_book_3 12 rfl rfl)
theorem dX3_book_84 : decode cX3_book 84 = .ok (.ireturn, 1) := dk_172 (dk_at dksX3_book_3 15 rfl rfl)
theorem dX3_book_85 : decode cX3_book 85 = .ok (.aload_n 0, 1) := dk_42 (dk_at dksX3_book_3 16 rfl rfl)
theorem dX3_book_86 : decode cX3_book 86 = .ok (.aload_n 0, 1) := dk_42 (dk_at dksX3_book_3 17 rfl rfl)
theorem dX3_book_87 : decode cX3_book 87 = .ok (.getfield 7, 3) := dk_180 0 7 (dk_at dksX3_book_3 18 rfl rfl)
theorem dX3_book_90 : decode cX3_book 90 = .ok (.invokevirtual 78, 3) := dk_182 0 78 (dk_at dksX3_book_3 21 rfl rfl)
theorem dX3_book_93 : decode cX3_book 93 = .ok (.aload_n 0, 1) := dk_42 (dk_at dksX3_book_4 0 rfl rfl)
theorem dX3_book_94 : decode cX3_book 94 = .ok (.getfield 7, 3) := dk_180 0 7 (dk_at dksX3_book_4 1 rfl rfl)
theorem dX3_book_97 : decode cX3_book 97 = .ok (.sipush 174, 3) := dk_17 0 174 (dk_at dksX3_book_4 4 rfl rfl)
theorem dX3_book_100 : decode cX3_book 100 = .ok (.bipush 30, 2) := dk_16 30 (dk_at dksX3_book_4 7 rfl rfl)
theorem dX3_book_102 : decode cX3_book 102 = .ok (.iload_n 2, 1) := dk_28 (dk_at dksX3_book_4 9 rfl rfl)
theorem dX3_book_103 : decode cX3_book 103 = .ok (.imul, 1) := dk_104 (dk_at dksX3_book_4 10 rfl rfl)
theorem dX3_book_104 : decode cX3_book 104 = .ok (.iadd, 1) := dk_96 (dk_at dksX3_book_4 11 rfl rfl)
theorem dX3_book_105 : decode cX3_book 105 = .ok (.iload_n 3, 1) := dk_29 (dk_at dksX3_book_4 12 rfl rfl)
theorem dX3_book_106 : decode cX3_book 106 = .ok (.iadd, 1) := dk_96 (dk_at dksX3_book_4 13 rfl rfl)
theorem dX3_book_107 : decode cX3_book 107 = .ok (.iload_n 1, 1) := dk_27 (dk_at dksX3_book_4 14 rfl rfl)
theorem dX3_book_108 : decode cX3_book 108 = .ok (.iastore, 1) := dk_79 (dk_at dksX3_book_4 15 rfl rfl)
theorem dX3_book_109 : decode cX3_book 109 = .ok (.aload_n 0, 1) := dk_42 (dk_at dksX3_book_4 16 rfl rfl)
theorem dX3_book_110 : decode cX3_book 110 = .ok (.iload_n 2, 1) := dk_28 (dk_at dksX3_book_4 17 rfl rfl)
theorem dX3_book_111 : decode cX3_book 111 = .ok (.invokevirtual 109, 3) := dk_182 0 109 (dk_at dksX3_book_4 18 rfl rfl)
theorem dX3_book_114 : decode cX3_book 114 = .ok (.ireturn, 1) := dk_172 (dk_at dksX3_book_4 21 rfl rfl)
abbrev cX3_isAhead : ByteArray := prog_11_method_19_code
def yX3_isAhead : MethodName := ⟨RX3, "isAhead", "(I)Z"⟩
def dkwX3_isAhead_0 : List UInt8 := [26, 3, 16, 29, 184, 0, 62, 172]
abbrev dktX3_isAhead_0 : List UInt8 := dkwX3_isAhead_0 ++ []
theorem dksX3_isAhead_0 : cX3_isAhead.data.toList.drop 0 = dktX3_isAhead_0 := by decide +kernel
theorem dX3_isAhead_0 : decode cX3_isAhead 0 = .ok (.iload_n 0, 1) := dk_26 (dk_at dksX3_isAhead_0 0 rfl rfl)
theorem dX3_isAhead_1 : decode cX3_isAhead 1 = .ok (.iconst 0, 1) := dk_3 (dk_at dksX3_isAhead_0 1 rfl rfl)
theorem dX3_isAhead_2 : decode cX3_isAhead 2 = .ok (.bipush 29, 2) := dk_16 29 (dk_at dksX3_isAhead_0 2 rfl rfl)
theorem dX3_isAhead_4 : decode cX3_isAhead 4 = .ok (.invokestatic 62, 3) := dk_184 0 62 (dk_at dksX3_isAhead_0 4 rfl rfl)
theorem dX3_isAhead_7 : decode cX3_isAhead 7 = .ok (.ireturn, 1) := dk_172 (dk_at dksX3_isAhead_0 7 rfl rfl)
abbrev cX3_isSunk : ByteArray := prog_11_method_18_code
def yX3_isSunk : MethodName := ⟨RX3, "isSunk", "(I)Z"⟩
def dkwX3_isSunk_0 : List UInt8 := [42, 27, 8, 182, 0, 66, 16, 254, 160, 0, 7, 4, 167, 0, 4, 3, 172]
abbrev dktX3_isSunk_0 : List UInt8 := dkwX3_isSunk_0 ++ []
theorem dksX3_isSunk_0 : cX3_isSunk.data.toList.drop 0 = dktX3_isSunk_0 := by decide +kernel
theorem dX3_isSunk_0 : decode cX3_isSunk 0 = .ok (.aload_n 0, 1) := dk_42 (dk_at dksX3_isSunk_0 0 rfl rfl)
theorem dX3_isSunk_1 : decode cX3_isSunk 1 = .ok (.iload_n 1, 1) := dk_27 (dk_at dksX3_isSunk_0 1 rfl rfl)
theorem dX3_isSunk_2 : decode cX3_isSunk 2 = .ok (.iconst 5, 1) := dk_8 (dk_at dksX3_isSunk_0 2 rfl rfl)
theorem dX3_isSunk_3 : decode cX3_isSunk 3 = .ok (.invokevirtual 66, 3) := dk_182 0 66 (dk_at dksX3_isSunk_0 3 rfl rfl)
theorem dX3_isSunk_6 : decode cX3_isSunk 6 = .ok (.bipush (-2), 2) := dk_16 254 (dk_at dksX3_isSunk_0 6 rfl rfl)
theorem dX3_isSunk_8 : decode cX3_isSunk 8 = .ok (.if_icmp .ne 7, 3) := dk_160 0 7 (dk_at dksX3_isSunk_0 8 rfl rfl)
theorem dX3_isSunk_11 : decode cX3_isSunk 11 = .ok (.iconst 1, 1) := dk_4 (dk_at dksX3_isSunk_0 11 rfl rfl)
theorem dX3_isSunk_12 : decode cX3_isSunk 12 = .ok (.goto 4, 3) := dk_167 0 4 (dk_at dksX3_isSunk_0 12 rfl rfl)
theorem dX3_isSunk_15 : decode cX3_isSunk 15 = .ok (.iconst 0, 1) := dk_3 (dk_at dksX3_isSunk_0 15 rfl rfl)
theorem dX3_isSunk_16 : decode cX3_isSunk 16 = .ok (.ireturn, 1) := dk_172 (dk_at dksX3_isSunk_0 16 rfl rfl)
abbrev cX3_free : ByteArray := prog_11_method_33_code
def yX3_free : MethodName := ⟨RX3, "free", "(II)I"⟩
def dkwX3_free_3 : List UInt8 := [16, 30, 27, 104, 96, 28, 96, 2, 79, 29, 172]
abbrev dktX3_free_3 : List UInt8 := dkwX3_free_3 ++ []
def dkwX3_free_2 : List UInt8 := [42, 27, 182, 0, 109, 182, 0, 74, 172, 42, 42, 180, 0, 7, 182, 0, 78, 42, 180, 0, 7, 17, 0, 174]
abbrev dktX3_free_2 : List UInt8 := dkwX3_free_2 ++ dktX3_free_3
def dkwX3_free_1 : List UInt8 := [5, 182, 0, 70, 153, 0, 5, 3, 172, 42, 27, 28, 182, 0, 92, 62, 29, 156, 0, 16, 42, 6, 16, 10]
abbrev dktX3_free_1 : List UInt8 := dkwX3_free_1 ++ dktX3_free_2
def dkwX3_free_0 : List UInt8 := [42, 42, 27, 182, 0, 86, 154, 0, 7, 4, 167, 0, 15, 28, 184, 0, 115, 153, 0, 7, 3, 167, 0, 4]
abbrev dktX3_free_0 : List UInt8 := dkwX3_free_0 ++ dktX3_free_1
theorem dksX3_free_0 : cX3_free.data.toList.drop 0 = dktX3_free_0 := by decide +kernel
theorem dksX3_free_1 : cX3_free.data.toList.drop 24 = dktX3_free_1 := dk_seg dksX3_free_0 24 rfl rfl
theorem dksX3_free_2 : cX3_free.data.toList.drop 48 = dktX3_free_2 := dk_seg dksX3_free_1 24 rfl rfl
theorem dksX3_free_3 : cX3_free.data.toList.drop 72 = dktX3_free_3 := dk_seg dksX3_free_2 24 rfl rfl
theorem dX3_free_0 : decode cX3_free 0 = .ok (.aload_n 0, 1) := dk_42 (dk_at dksX3_free_0 0 rfl rfl)
theorem dX3_free_1 : decode cX3_free 1 = .ok (.aload_n 0, 1) := dk_42 (dk_at dksX3_free_0 1 rfl rfl)
theorem dX3_free_2 : decode cX3_free 2 = .ok (.iload_n 1, 1) := dk_27 (dk_at dksX3_free_0 2 rfl rfl)
theorem dX3_free_3 : decode cX3_free 3 = .ok (.invokevirtual 86, 3) := dk_182 0 86 (dk_at dksX3_free_0 3 rfl rfl)
theorem dX3_free_6 : decode cX3_free 6 = .ok (.ifCond .ne 7, 3) := dk_154 0 7 (dk_at dksX3_free_0 6 rfl rfl)
theorem dX3_free_9 : decode cX3_free 9 = .ok (.iconst 1, 1) := dk_4 (dk_at dksX3_free_0 9 rfl rfl)
theorem dX3_free_10 : decode cX3_free 10 = .ok (.goto 15, 3) := dk_167 0 15 (dk_at dksX3_free_0 10 rfl rfl)
theorem dX3_free_13 : decode cX3_free 13 = .ok (.iload_n 2, 1) := dk_28 (dk_at dksX3_free_0 13 rfl rfl)
theorem dX3_free_14 : decode cX3_free 14 = .ok (.invokestatic 115, 3) := dk_184 0 115 (dk_at dksX3_free_0 14 rfl rfl)
theorem dX3_free_17 : decode cX3_free 17 = .ok (.ifCond .eq 7, 3) := dk_153 0 7 (dk_at dksX3_free_0 17 rfl rfl)
theorem dX3_free_20 : decode cX3_free 20 = .ok (.iconst 0, 1) := dk_3 (dk_at dksX3_free_0 20 rfl rfl)
theorem dX3_free_21 : decode cX3_free 21 = .ok (.goto 4, 3) := dk_167 0 4 (dk_at dksX3_free_0 21 rfl rfl)
theorem dX3_free_24 : decode cX3_free 24 = .ok (.iconst 2, 1) := dk_5 (dk_at dksX3_free_1 0 rfl rfl)
theorem dX3_free_25 : decode cX3_free 25 = .ok (.invokevirtual 70, 3) := dk_182 0 70 (dk_at dksX3_free_1 1 rfl rfl)
theorem dX3_free_28 : decode cX3_free 28 = .ok (.ifCond .eq 5, 3) := dk_153 0 5 (dk_at dksX3_free_1 4 rfl rfl)
theorem dX3_free_31 : decode cX3_free 31 = .ok (.iconst 0, 1) := dk_3 (dk_at dksX3_free_1 7 rfl rfl)
theorem dX3_free_32 : decode cX3_free 32 = .ok (.ireturn, 1) := dk_172 (dk_at dksX3_free_1 8 rfl rfl)
theorem dX3_free_33 : decode cX3_free 33 = .ok (.aload_n 0, 1) := dk_42 (dk_at dksX3_free_1 9 rfl rfl)
theorem dX3_free_34 : decode cX3_free 34 = .ok (.iload_n 1, 1) := dk_27 (dk_at dksX3_free_1 10 rfl rfl)
theorem dX3_free_35 : decode cX3_free 35 = .ok (.iload_n 2, 1) := dk_28 (dk_at dksX3_free_1 11 rfl rfl)
theorem dX3_free_36 : decode cX3_free 36 = .ok (.invokevirtual 92, 3) := dk_182 0 92 (dk_at dksX3_free_1 12 rfl rfl)
theorem dX3_free_39 : decode cX3_free 39 = .ok (.istore_n 3, 1) := dk_62 (dk_at dksX3_free_1 15 rfl rfl)
theorem dX3_free_40 : decode cX3_free 40 = .ok (.iload_n 3, 1) := dk_29 (dk_at dksX3_free_1 16 rfl rfl)
theorem dX3_free_41 : decode cX3_free 41 = .ok (.ifCond .ge 16, 3) := dk_156 0 16 (dk_at dksX3_free_1 17 rfl rfl)
theorem dX3_free_44 : decode cX3_free 44 = .ok (.aload_n 0, 1) := dk_42 (dk_at dksX3_free_1 20 rfl rfl)
theorem dX3_free_45 : decode cX3_free 45 = .ok (.iconst 3, 1) := dk_6 (dk_at dksX3_free_1 21 rfl rfl)
theorem dX3_free_46 : decode cX3_free 46 = .ok (.bipush 10, 2) := dk_16 10 (dk_at dksX3_free_1 22 rfl rfl)
theorem dX3_free_48 : decode cX3_free 48 = .ok (.aload_n 0, 1) := dk_42 (dk_at dksX3_free_2 0 rfl rfl)
theorem dX3_free_49 : decode cX3_free 49 = .ok (.iload_n 1, 1) := dk_27 (dk_at dksX3_free_2 1 rfl rfl)
theorem dX3_free_50 : decode cX3_free 50 = .ok (.invokevirtual 109, 3) := dk_182 0 109 (dk_at dksX3_free_2 2 rfl rfl)
theorem dX3_free_53 : decode cX3_free 53 = .ok (.invokevirtual 74, 3) := dk_182 0 74 (dk_at dksX3_free_2 5 rfl rfl)
theorem dX3_free_56 : decode cX3_free 56 = .ok (.ireturn, 1) := dk_172 (dk_at dksX3_free_2 8 rfl rfl)
theorem dX3_free_57 : decode cX3_free 57 = .ok (.aload_n 0, 1) := dk_42 (dk_at dksX3_free_2 9 rfl rfl)
theorem dX3_free_58 : decode cX3_free 58 = .ok (.aload_n 0, 1) := dk_42 (dk_at dksX3_free_2 10 rfl rfl)
theorem dX3_free_59 : decode cX3_free 59 = .ok (.getfield 7, 3) := dk_180 0 7 (dk_at dksX3_free_2 11 rfl rfl)
theorem dX3_free_62 : decode cX3_free 62 = .ok (.invokevirtual 78, 3) := dk_182 0 78 (dk_at dksX3_free_2 14 rfl rfl)
theorem dX3_free_65 : decode cX3_free 65 = .ok (.aload_n 0, 1) := dk_42 (dk_at dksX3_free_2 17 rfl rfl)
theorem dX3_free_66 : decode cX3_free 66 = .ok (.getfield 7, 3) := dk_180 0 7 (dk_at dksX3_free_2 18 rfl rfl)
theorem dX3_free_69 : decode cX3_free 69 = .ok (.sipush 174, 3) := dk_17 0 174 (dk_at dksX3_free_2 21 rfl rfl)
theorem dX3_free_72 : decode cX3_free 72 = .ok (.bipush 30, 2) := dk_16 30 (dk_at dksX3_free_3 0 rfl rfl)
theorem dX3_free_74 : decode cX3_free 74 = .ok (.iload_n 1, 1) := dk_27 (dk_at dksX3_free_3 2 rfl rfl)
theorem dX3_free_75 : decode cX3_free 75 = .ok (.imul, 1) := dk_104 (dk_at dksX3_free_3 3 rfl rfl)
theorem dX3_free_76 : decode cX3_free 76 = .ok (.iadd, 1) := dk_96 (dk_at dksX3_free_3 4 rfl rfl)
theorem dX3_free_77 : decode cX3_free 77 = .ok (.iload_n 2, 1) := dk_28 (dk_at dksX3_free_3 5 rfl rfl)
theorem dX3_free_78 : decode cX3_free 78 = .ok (.iadd, 1) := dk_96 (dk_at dksX3_free_3 6 rfl rfl)
theorem dX3_free_79 : decode cX3_free 79 = .ok (.iconst (-1), 1) := dk_2 (dk_at dksX3_free_3 7 rfl rfl)
theorem dX3_free_80 : decode cX3_free 80 = .ok (.iastore, 1) := dk_79 (dk_at dksX3_free_3 8 rfl rfl)
theorem dX3_free_81 : decode cX3_free 81 = .ok (.iload_n 3, 1) := dk_29 (dk_at dksX3_free_3 9 rfl rfl)
theorem dX3_free_82 : decode cX3_free 82 = .ok (.ireturn, 1) := dk_172 (dk_at dksX3_free_3 10 rfl rfl)
abbrev cX3_booked : ByteArray := prog_11_method_34_code
def yX3_booked : MethodName := ⟨RX3, "booked", "(II)I"⟩
def dkwX3_booked_1 : List UInt8 := [5, 182, 0, 70, 153, 0, 7, 3, 167, 0, 9, 42, 27, 28, 182, 0, 92, 172]
abbrev dktX3_booked_1 : List UInt8 := dkwX3_booked_1 ++ []
def dkwX3_booked_0 : List UInt8 := [42, 42, 27, 182, 0, 86, 154, 0, 7, 4, 167, 0, 15, 28, 184, 0, 115, 153, 0, 7, 3, 167, 0, 4]
abbrev dktX3_booked_0 : List UInt8 := dkwX3_booked_0 ++ dktX3_booked_1
theorem dksX3_booked_0 : cX3_booked.data.toList.drop 0 = dktX3_booked_0 := by decide +kernel
theorem dksX3_booked_1 : cX3_booked.data.toList.drop 24 = dktX3_booked_1 := dk_seg dksX3_booked_0 24 rfl rfl
theorem dX3_booked_0 : decode cX3_booked 0 = .ok (.aload_n 0, 1) := dk_42 (dk_at dksX3_booked_0 0 rfl rfl)
theorem dX3_booked_1 : decode cX3_booked 1 = .ok (.aload_n 0, 1) := dk_42 (dk_at dksX3_booked_0 1 rfl rfl)
theorem dX3_booked_2 : decode cX3_booked 2 = .ok (.iload_n 1, 1) := dk_27 (dk_at dksX3_booked_0 2 rfl rfl)
theorem dX3_booked_3 : decode cX3_booked 3 = .ok (.invokevirtual 86, 3) := dk_182 0 86 (dk_at dksX3_booked_0 3 rfl rfl)
theorem dX3_booked_6 : decode cX3_booked 6 = .ok (.ifCond .ne 7, 3) := dk_154 0 7 (dk_at dksX3_booked_0 6 rfl rfl)
theorem dX3_booked_9 : decode cX3_booked 9 = .ok (.iconst 1, 1) := dk_4 (dk_at dksX3_booked_0 9 rfl rfl)
theorem dX3_booked_10 : decode cX3_booked 10 = .ok (.goto 15, 3) := dk_167 0 15 (dk_at dksX3_booked_0 10 rfl rfl)
theorem dX3_booked_13 : decode cX3_booked 13 = .ok (.iload_n 2, 1) := dk_28 (dk_at dksX3_booked_0 13 rfl rfl)
theorem dX3_booked_14 : decode cX3_booked 14 = .ok (.invokestatic 115, 3) := dk_184 0 115 (dk_at dksX3_booked_0 14 rfl rfl)
theorem dX3_booked_17 : decode cX3_booked 17 = .ok (.ifCond .eq 7, 3) := dk_153 0 7 (dk_at dksX3_booked_0 17 rfl rfl)
theorem dX3_booked_20 : decode cX3_booked 20 = .ok (.iconst 0, 1) := dk_3 (dk_at dksX3_booked_0 20 rfl rfl)
theorem dX3_booked_21 : decode cX3_booked 21 = .ok (.goto 4, 3) := dk_167 0 4 (dk_at dksX3_booked_0 21 rfl rfl)
theorem dX3_booked_24 : decode cX3_booked 24 = .ok (.iconst 2, 1) := dk_5 (dk_at dksX3_booked_1 0 rfl rfl)
theorem dX3_booked_25 : decode cX3_booked 25 = .ok (.invokevirtual 70, 3) := dk_182 0 70 (dk_at dksX3_booked_1 1 rfl rfl)
theorem dX3_booked_28 : decode cX3_booked 28 = .ok (.ifCond .eq 7, 3) := dk_153 0 7 (dk_at dksX3_booked_1 4 rfl rfl)
theorem dX3_booked_31 : decode cX3_booked 31 = .ok (.iconst 0, 1) := dk_3 (dk_at dksX3_booked_1 7 rfl rfl)
theorem dX3_booked_32 : decode cX3_booked 32 = .ok (.goto 9, 3) := dk_167 0 9 (dk_at dksX3_booked_1 8 rfl rfl)
theorem dX3_booked_35 : decode cX3_booked 35 = .ok (.aload_n 0, 1) := dk_42 (dk_at dksX3_booked_1 11 rfl rfl)
theorem dX3_booked_36 : decode cX3_booked 36 = .ok (.iload_n 1, 1) := dk_27 (dk_at dksX3_booked_1 12 rfl rfl)
theorem dX3_booked_37 : decode cX3_booked 37 = .ok (.iload_n 2, 1) := dk_28 (dk_at dksX3_booked_1 13 rfl rfl)
theorem dX3_booked_38 : decode cX3_booked 38 = .ok (.invokevirtual 92, 3) := dk_182 0 92 (dk_at dksX3_booked_1 14 rfl rfl)
theorem dX3_booked_41 : decode cX3_booked 41 = .ok (.ireturn, 1) := dk_172 (dk_at dksX3_booked_1 17 rfl rfl)
abbrev cX3_nextFree : ByteArray := prog_11_method_35_code
def yX3_nextFree : MethodName := ⟨RX3, "nextFree", "(II)I"⟩
def dkwX3_nextFree_3 : List UInt8 := [21, 4, 4, 96, 28, 100, 172, 132, 4, 1, 167, 255, 216, 42, 6, 181, 0, 42, 3, 172]
abbrev dktX3_nextFree_3 : List UInt8 := dkwX3_nextFree_3 ++ []
def dkwX3_nextFree_2 : List UInt8 := [42, 27, 21, 4, 182, 0, 92, 155, 0, 7, 3, 167, 0, 6, 29, 4, 96, 62, 29, 28, 160, 0, 10]
abbrev dktX3_nextFree_2 : List UInt8 := dkwX3_nextFree_2 ++ dktX3_nextFree_3
def dkwX3_nextFree_1 : List UInt8 := [167, 0, 4, 5, 182, 0, 70, 153, 0, 5, 3, 172, 3, 62, 3, 54, 4, 21, 4, 16, 30, 162, 0, 39]
abbrev dktX3_nextFree_1 : List UInt8 := dkwX3_nextFree_1 ++ dktX3_nextFree_2
def dkwX3_nextFree_0 : List UInt8 := [42, 42, 27, 182, 0, 86, 154, 0, 7, 4, 167, 0, 18, 28, 4, 16, 30, 184, 0, 62, 153, 0, 7, 3]
abbrev dktX3_nextFree_0 : List UInt8 := dkwX3_nextFree_0 ++ dktX3_nextFree_1
theorem dksX3_nextFree_0 : cX3_nextFree.data.toList.drop 0 = dktX3_nextFree_0 := by decide +kernel
theorem dksX3_nextFree_1 : cX3_nextFree.data.toList.drop 24 = dktX3_nextFree_1 := dk_seg dksX3_nextFree_0 24 rfl rfl
theorem dksX3_nextFree_2 : cX3_nextFree.data.toList.drop 48 = dktX3_nextFree_2 := dk_seg dksX3_nextFree_1 24 rfl rfl
theorem dksX3_nextFree_3 : cX3_nextFree.data.toList.drop 71 = dktX3_nextFree_3 := dk_seg dksX3_nextFree_2 23 rfl rfl
theorem dX3_nextFree_0 : decode cX3_nextFree 0 = .ok (.aload_n 0, 1) := dk_42 (dk_at dksX3_nextFree_0 0 rfl rfl)
theorem dX3_nextFree_1 : decode cX3_nextFree 1 = .ok (.aload_n 0, 1) := dk_42 (dk_at dksX3_nextFree_0 1 rfl rfl)
theorem dX3_nextFree_2 : decode cX3_nextFree 2 = .ok (.iload_n 1, 1) := dk_27 (dk_at dksX3_nextFree_0 2 rfl rfl)
theorem dX3_nextFree_3 : decode cX3_nextFree 3 = .ok (.invokevirtual 86, 3) := dk_182 0 86 (dk_at dksX3_nextFree_0 3 rfl rfl)
theorem dX3_nextFree_6 : decode cX3_nextFree 6 = .ok (.ifCond .ne 7, 3) := dk_154 0 7 (dk_at dksX3_nextFree_0 6 rfl rfl)
theorem dX3_nextFree_9 : decode cX3_nextFree 9 = .ok (.iconst 1, 1) := dk_4 (dk_at dksX3_nextFree_0 9 rfl rfl)
theorem dX3_nextFree_10 : decode cX3_nextFree 10 = .ok (.goto 18, 3) := dk_167 0 18 (dk_at dksX3_nextFree_0 10 rfl rfl)
theorem dX3_nextFree_13 : decode cX3_nextFree 13 = .ok (.iload_n 2, 1) := dk_28 (dk_at dksX3_nextFree_0 13 rfl rfl)
theorem dX3_nextFree_14 : decode cX3_nextFree 14 = .ok (.iconst 1, 1) := dk_4 (dk_at dksX3_nextFree_0 14 rfl rfl)
theorem dX3_nextFree_15 : decode cX3_nextFree 15 = .ok (.bipush 30, 2) := dk_16 30 (dk_at dksX3_nextFree_0 15 rfl rfl)
theorem dX3_nextFree_17 : decode cX3_nextFree 17 = .ok (.invokestatic 62, 3) := dk_184 0 62 (dk_at dksX3_nextFree_0 17 rfl rfl)
theorem dX3_nextFree_20 : decode cX3_nextFree 20 = .ok (.ifCond .eq 7, 3) := dk_153 0 7 (dk_at dksX3_nextFree_0 20 rfl rfl)
theorem dX3_nextFree_23 : decode cX3_nextFree 23 = .ok (.iconst 0, 1) := dk_3 (dk_at dksX3_nextFree_0 23 rfl rfl)
theorem dX3_nextFree_24 : decode cX3_nextFree 24 = .ok (.goto 4, 3) := dk_167 0 4 (dk_at dksX3_nextFree_1 0 rfl rfl)
theorem dX3_nextFree_27 : decode cX3_nextFree 27 = .ok (.iconst 2, 1) := dk_5 (dk_at dksX3_nextFree_1 3 rfl rfl)
theorem dX3_nextFree_28 : decode cX3_nextFree 28 = .ok (.invokevirtual 70, 3) := dk_182 0 70 (dk_at dksX3_nextFree_1 4 rfl rfl)
theorem dX3_nextFree_31 : decode cX3_nextFree 31 = .ok (.ifCond .eq 5, 3) := dk_153 0 5 (dk_at dksX3_nextFree_1 7 rfl rfl)
theorem dX3_nextFree_34 : decode cX3_nextFree 34 = .ok (.iconst 0, 1) := dk_3 (dk_at dksX3_nextFree_1 10 rfl rfl)
theorem dX3_nextFree_35 : decode cX3_nextFree 35 = .ok (.ireturn, 1) := dk_172 (dk_at dksX3_nextFree_1 11 rfl rfl)
theorem dX3_nextFree_36 : decode cX3_nextFree 36 = .ok (.iconst 0, 1) := dk_3 (dk_at dksX3_nextFree_1 12 rfl rfl)
theorem dX3_nextFree_37 : decode cX3_nextFree 37 = .ok (.istore_n 3, 1) := dk_62 (dk_at dksX3_nextFree_1 13 rfl rfl)
theorem dX3_nextFree_38 : decode cX3_nextFree 38 = .ok (.iconst 0, 1) := dk_3 (dk_at dksX3_nextFree_1 14 rfl rfl)
theorem dX3_nextFree_39 : decode cX3_nextFree 39 = .ok (.istore 4, 2) := dk_54 4 (dk_at dksX3_nextFree_1 15 rfl rfl)
theorem dX3_nextFree_41 : decode cX3_nextFree 41 = .ok (.iload 4, 2) := dk_21 4 (dk_at dksX3_nextFree_1 17 rfl rfl)
theorem dX3_nextFree_43 : decode cX3_nextFree 43 = .ok (.bipush 30, 2) := dk_16 30 (dk_at dksX3_nextFree_1 19 rfl rfl)
theorem dX3_nextFree_45 : decode cX3_nextFree 45 = .ok (.if_icmp .ge 39, 3) := dk_162 0 39 (dk_at dksX3_nextFree_1 21 rfl rfl)
theorem dX3_nextFree_48 : decode cX3_nextFree 48 = .ok (.aload_n 0, 1) := dk_42 (dk_at dksX3_nextFree_2 0 rfl rfl)
theorem dX3_nextFree_49 : decode cX3_nextFree 49 = .ok (.iload_n 1, 1) := dk_27 (dk_at dksX3_nextFree_2 1 rfl rfl)
theorem dX3_nextFree_50 : decode cX3_nextFree 50 = .ok (.iload 4, 2) := dk_21 4 (dk_at dksX3_nextFree_2 2 rfl rfl)
theorem dX3_nextFree_52 : decode cX3_nextFree 52 = .ok (.invokevirtual 92, 3) := dk_182 0 92 (dk_at dksX3_nextFree_2 4 rfl rfl)
theorem dX3_nextFree_55 : decode cX3_nextFree 55 = .ok (.ifCond .lt 7, 3) := dk_155 0 7 (dk_at dksX3_nextFree_2 7 rfl rfl)
theorem dX3_nextFree_58 : decode cX3_nextFree 58 = .ok (.iconst 0, 1) := dk_3 (dk_at dksX3_nextFree_2 10 rfl rfl)
theorem dX3_nextFree_59 : decode cX3_nextFree 59 = .ok (.goto 6, 3) := dk_167 0 6 (dk_at dksX3_nextFree_2 11 rfl rfl)
theorem dX3_nextFree_62 : decode cX3_nextFree 62 = .ok (.iload_n 3, 1) := dk_29 (dk_at dksX3_nextFree_2 14 rfl rfl)
theorem dX3_nextFree_63 : decode cX3_nextFree 63 = .ok (.iconst 1, 1) := dk_4 (dk_at dksX3_nextFree_2 15 rfl rfl)
theorem dX3_nextFree_64 : decode cX3_nextFree 64 = .ok (.iadd, 1) := dk_96 (dk_at dksX3_nextFree_2 16 rfl rfl)
theorem dX3_nextFree_65 : decode cX3_nextFree 65 = .ok (.istore_n 3, 1) := dk_62 (dk_at dksX3_nextFree_2 17 rfl rfl)
theorem dX3_nextFree_66 : decode cX3_nextFree 66 = .ok (.iload_n 3, 1) := dk_29 (dk_at dksX3_nextFree_2 18 rfl rfl)
theorem dX3_nextFree_67 : decode cX3_nextFree 67 = .ok (.iload_n 2, 1) := dk_28 (dk_at dksX3_nextFree_2 19 rfl rfl)
theorem dX3_nextFree_68 : decode cX3_nextFree 68 = .ok (.if_icmp .ne 10, 3) := dk_160 0 10 (dk_at dksX3_nextFree_2 20 rfl rfl)
theorem dX3_nextFree_71 : decode cX3_nextFree 71 = .ok (.iload 4, 2) := dk_21 4 (dk_at dksX3_nextFree_3 0 rfl rfl)
theorem dX3_nextFree_73 : decode cX3_nextFree 73 = .ok (.iconst 1, 1) := dk_4 (dk_at dksX3_nextFree_3 2 rfl rfl)
theorem dX3_nextFree_74 : decode cX3_nextFree 74 = .ok (.iadd, 1) := dk_96 (dk_at dksX3_nextFree_3 3 rfl rfl)
theorem dX3_nextFree_75 : decode cX3_nextFree 75 = .ok (.iload_n 2, 1) := dk_28 (dk_at dksX3_nextFree_3 4 rfl rfl)
theorem dX3_nextFree_76 : decode cX3_nextFree 76 = .ok (.isub, 1) := dk_100 (dk_at dksX3_nextFree_3 5 rfl rfl)
theorem dX3_nextFree_77 : decode cX3_nextFree 77 = .ok (.ireturn, 1) := dk_172 (dk_at dksX3_nextFree_3 6 rfl rfl)
theorem dX3_nextFree_78 : decode cX3_nextFree 78 = .ok (.iinc 4 1, 3) := dk_132 4 1 (dk_at dksX3_nextFree_3 7 rfl rfl)
theorem dX3_nextFree_81 : decode cX3_nextFree 81 = .ok (.goto (-40), 3) := dk_167 255 216 (dk_at dksX3_nextFree_3 10 rfl rfl)
theorem dX3_nextFree_84 : decode cX3_nextFree 84 = .ok (.aload_n 0, 1) := dk_42 (dk_at dksX3_nextFree_3 13 rfl rfl)
theorem dX3_nextFree_85 : decode cX3_nextFree 85 = .ok (.iconst 3, 1) := dk_6 (dk_at dksX3_nextFree_3 14 rfl rfl)
theorem dX3_nextFree_86 : decode cX3_nextFree 86 = .ok (.putfield 42, 3) := dk_181 0 42 (dk_at dksX3_nextFree_3 15 rfl rfl)
theorem dX3_nextFree_89 : decode cX3_nextFree 89 = .ok (.iconst 0, 1) := dk_3 (dk_at dksX3_nextFree_3 18 rfl rfl)
theorem dX3_nextFree_90 : decode cX3_nextFree 90 = .ok (.ireturn, 1) := dk_172 (dk_at dksX3_nextFree_3 19 rfl rfl)
abbrev cX3_teach : ByteArray := prog_11_method_40_code
def yX3_teach : MethodName := ⟨RX3, "teach", "(I)I"⟩
def dkwX3_teach_6 : List UInt8 := [182, 0, 82, 42, 180, 0, 7, 6, 92, 46, 4, 96, 79, 42, 27, 5, 182, 0, 66, 172]
abbrev dktX3_teach_6 : List UInt8 := dkwX3_teach_6 ++ []
def dkwX3_teach_5 : List UInt8 := [182, 0, 66, 5, 108, 96, 16, 99, 184, 0, 130, 182, 0, 82, 42, 27, 16, 8, 42, 180, 0, 7, 5, 46]
abbrev dktX3_teach_5 : List UInt8 := dkwX3_teach_5 ++ dktX3_teach_6
def dkwX3_teach_4 : List UInt8 := [172, 42, 42, 180, 0, 7, 182, 0, 78, 42, 27, 5, 42, 27, 5, 182, 0, 66, 4, 96, 42, 27, 3]
abbrev dktX3_teach_4 : List UInt8 := dkwX3_teach_4 ++ dktX3_teach_5
def dkwX3_teach_3 : List UInt8 := [182, 0, 74, 172, 42, 27, 5, 182, 0, 66, 16, 99, 160, 0, 13, 42, 5, 16, 9, 16, 99, 182, 0, 74]
abbrev dktX3_teach_3 : List UInt8 := dkwX3_teach_3 ++ dktX3_teach_4
def dkwX3_teach_2 : List UInt8 := [182, 0, 66, 42, 180, 0, 7, 5, 46, 160, 0, 17, 42, 5, 16, 8, 42, 180, 0, 7, 5, 46]
abbrev dktX3_teach_2 : List UInt8 := dkwX3_teach_2 ++ dktX3_teach_3
def dkwX3_teach_1 : List UInt8 := [182, 0, 118, 153, 0, 17, 42, 5, 7, 42, 27, 16, 10, 182, 0, 66, 182, 0, 74, 172, 42, 27, 16, 8]
abbrev dktX3_teach_1 : List UInt8 := dkwX3_teach_1 ++ dktX3_teach_2
def dkwX3_teach_0 : List UInt8 := [42, 42, 27, 182, 0, 95, 153, 0, 7, 3, 167, 0, 4, 4, 182, 0, 70, 153, 0, 5, 3, 172, 42, 27]
abbrev dktX3_teach_0 : List UInt8 := dkwX3_teach_0 ++ dktX3_teach_1
theorem dksX3_teach_0 : cX3_teach.data.toList.drop 0 = dktX3_teach_0 := by decide +kernel
theorem dksX3_teach_1 : cX3_teach.data.toList.drop 24 = dktX3_teach_1 := dk_seg dksX3_teach_0 24 rfl rfl
theorem dksX3_teach_2 : cX3_teach.data.toList.drop 48 = dktX3_teach_2 := dk_seg dksX3_teach_1 24 rfl rfl
theorem dksX3_teach_3 : cX3_teach.data.toList.drop 70 = dktX3_teach_3 := dk_seg dksX3_teach_2 22 rfl rfl
theorem dksX3_teach_4 : cX3_teach.data.toList.drop 94 = dktX3_teach_4 := dk_seg dksX3_teach_3 24 rfl rfl
theorem dksX3_teach_5 : cX3_teach.data.toList.drop 117 = dktX3_teach_5 := dk_seg dksX3_teach_4 23 rfl rfl
theorem dksX3_teach_6 : cX3_teach.data.toList.drop 141 = dktX3_teach_6 := dk_seg dksX3_teach_5 24 rfl rfl
theorem dX3_teach_0 : decode cX3_teach 0 = .ok (.aload_n 0, 1) := dk_42 (dk_at dksX3_teach_0 0 rfl rfl)
theorem dX3_teach_1 : decode cX3_teach 1 = .ok (.aload_n 0, 1) := dk_42 (dk_at dksX3_teach_0 1 rfl rfl)
theorem dX3_teach_2 : decode cX3_teach 2 = .ok (.iload_n 1, 1) := dk_27 (dk_at dksX3_teach_0 2 rfl rfl)
theorem dX3_teach_3 : decode cX3_teach 3 = .ok (.invokevirtual 95, 3) := dk_182 0 95 (dk_at dksX3_teach_0 3 rfl rfl)
theorem dX3_teach_6 : decode cX3_teach 6 = .ok (.ifCond .eq 7, 3) := dk_153 0 7 (dk_at dksX3_teach_0 6 rfl rfl)
theorem dX3_teach_9 : decode cX3_teach 9 = .ok (.iconst 0, 1) := dk_3 (dk_at dksX3_teach_0 9 rfl rfl)
theorem dX3_teach_10 : decode cX3_teach 10 = .ok (.goto 4, 3) := dk_167 0 4 (dk_at dksX3_teach_0 10 rfl rfl)
theorem dX3_teach_13 : decode cX3_teach 13 = .ok (.iconst 1, 1) := dk_4 (dk_at dksX3_teach_0 13 rfl rfl)
theorem dX3_teach_14 : decode cX3_teach 14 = .ok (.invokevirtual 70, 3) := dk_182 0 70 (dk_at dksX3_teach_0 14 rfl rfl)
theorem dX3_teach_17 : decode cX3_teach 17 = .ok (.ifCond .eq 5, 3) := dk_153 0 5 (dk_at dksX3_teach_0 17 rfl rfl)
theorem dX3_teach_20 : decode cX3_teach 20 = .ok (.iconst 0, 1) := dk_3 (dk_at dksX3_teach_0 20 rfl rfl)
theorem dX3_teach_21 : decode cX3_teach 21 = .ok (.ireturn, 1) := dk_172 (dk_at dksX3_teach_0 21 rfl rfl)
theorem dX3_teach_22 : decode cX3_teach 22 = .ok (.aload_n 0, 1) := dk_42 (dk_at dksX3_teach_0 22 rfl rfl)
theorem dX3_teach_23 : decode cX3_teach 23 = .ok (.iload_n 1, 1) := dk_27 (dk_at dksX3_teach_0 23 rfl rfl)
theorem dX3_teach_24 : decode cX3_teach 24 = .ok (.invokevirtual 118, 3) := dk_182 0 118 (dk_at dksX3_teach_1 0 rfl rfl)
theorem dX3_teach_27 : decode cX3_teach 27 = .ok (.ifCond .eq 17, 3) := dk_153 0 17 (dk_at dksX3_teach_1 3 rfl rfl)
theorem dX3_teach_30 : decode cX3_teach 30 = .ok (.aload_n 0, 1) := dk_42 (dk_at dksX3_teach_1 6 rfl rfl)
theorem dX3_teach_31 : decode cX3_teach 31 = .ok (.iconst 2, 1) := dk_5 (dk_at dksX3_teach_1 7 rfl rfl)
theorem dX3_teach_32 : decode cX3_teach 32 = .ok (.iconst 4, 1) := dk_7 (dk_at dksX3_teach_1 8 rfl rfl)
theorem dX3_teach_33 : decode cX3_teach 33 = .ok (.aload_n 0, 1) := dk_42 (dk_at dksX3_teach_1 9 rfl rfl)
theorem dX3_teach_34 : decode cX3_teach 34 = .ok (.iload_n 1, 1) := dk_27 (dk_at dksX3_teach_1 10 rfl rfl)
theorem dX3_teach_35 : decode cX3_teach 35 = .ok (.bipush 10, 2) := dk_16 10 (dk_at dksX3_teach_1 11 rfl rfl)
theorem dX3_teach_37 : decode cX3_teach 37 = .ok (.invokevirtual 66, 3) := dk_182 0 66 (dk_at dksX3_teach_1 13 rfl rfl)
theorem dX3_teach_40 : decode cX3_teach 40 = .ok (.invokevirtual 74, 3) := dk_182 0 74 (dk_at dksX3_teach_1 16 rfl rfl)
theorem dX3_teach_43 : decode cX3_teach 43 = .ok (.ireturn, 1) := dk_172 (dk_at dksX3_teach_1 19 rfl rfl)
theorem dX3_teach_44 : decode cX3_teach 44 = .ok (.aload_n 0, 1) := dk_42 (dk_at dksX3_teach_1 20 rfl rfl)
theorem dX3_teach_45 : decode cX3_teach 45 = .ok (.iload_n 1, 1) := dk_27 (dk_at dksX3_teach_1 21 rfl rfl)
theorem dX3_teach_46 : decode cX3_teach 46 = .ok (.bipush 8, 2) := dk_16 8 (dk_at dksX3_teach_1 22 rfl rfl)
theorem dX3_teach_48 : decode cX3_teach 48 = .ok (.invokevirtual 66, 3) := dk_182 0 66 (dk_at dksX3_teach_2 0 rfl rfl)
theorem dX3_teach_51 : decode cX3_teach 51 = .ok (.aload_n 0, 1) := dk_42 (dk_at dksX3_teach_2 3 rfl rfl)
theorem dX3_teach_52 : decode cX3_teach 52 = .ok (.getfield 7, 3) := dk_180 0 7 (dk_at dksX3_teach_2 4 rfl rfl)
theorem dX3_teach_55 : decode cX3_teach 55 = .ok (.iconst 2, 1) := dk_5 (dk_at dksX3_teach_2 7 rfl rfl)
theorem dX3_teach_56 : decode cX3_teach 56 = .ok (.iaload, 1) := dk_46 (dk_at dksX3_teach_2 8 rfl rfl)
theorem dX3_teach_57 : decode cX3_teach 57 = .ok (.if_icmp .ne 17, 3) := dk_160 0 17 (dk_at dksX3_teach_2 9 rfl rfl)
theorem dX3_teach_60 : decode cX3_teach 60 = .ok (.aload_n 0, 1) := dk_42 (dk_at dksX3_teach_2 12 rfl rfl)
theorem dX3_teach_61 : decode cX3_teach 61 = .ok (.iconst 2, 1) := dk_5 (dk_at dksX3_teach_2 13 rfl rfl)
theorem dX3_teach_62 : decode cX3_teach 62 = .ok (.bipush 8, 2) := dk_16 8 (dk_at dksX3_teach_2 14 rfl rfl)
theorem dX3_teach_64 : decode cX3_teach 64 = .ok (.aload_n 0, 1) := dk_42 (dk_at dksX3_teach_2 16 rfl rfl)
theorem dX3_teach_65 : decode cX3_teach 65 = .ok (.getfield 7, 3) := dk_180 0 7 (dk_at dksX3_teach_2 17 rfl rfl)
theorem dX3_teach_68 : decode cX3_teach 68 = .ok (.iconst 2, 1) := dk_5 (dk_at dksX3_teach_2 20 rfl rfl)
theorem dX3_teach_69 : decode cX3_teach 69 = .ok (.iaload, 1) := dk_46 (dk_at dksX3_teach_2 21 rfl rfl)
theorem dX3_teach_70 : decode cX3_teach 70 = .ok (.invokevirtual 74, 3) := dk_182 0 74 (dk_at dksX3_teach_3 0 rfl rfl)
theorem dX3_teach_73 : decode cX3_teach 73 = .ok (.ireturn, 1) := dk_172 (dk_at dksX3_teach_3 3 rfl rfl)
theorem dX3_teach_74 : decode cX3_teach 74 = .ok (.aload_n 0, 1) := dk_42 (dk_at dksX3_teach_3 4 rfl rfl)
theorem dX3_teach_75 : decode cX3_teach 75 = .ok (.iload_n 1, 1) := dk_27 (dk_at dksX3_teach_3 5 rfl rfl)
theorem dX3_teach_76 : decode cX3_teach 76 = .ok (.iconst 2, 1) := dk_5 (dk_at dksX3_teach_3 6 rfl rfl)
theorem dX3_teach_77 : decode cX3_teach 77 = .ok (.invokevirtual 66, 3) := dk_182 0 66 (dk_at dksX3_teach_3 7 rfl rfl)
theorem dX3_teach_80 : decode cX3_teach 80 = .ok (.bipush 99, 2) := dk_16 99 (dk_at dksX3_teach_3 10 rfl rfl)
theorem dX3_teach_82 : decode cX3_teach 82 = .ok (.if_icmp .ne 13, 3) := dk_160 0 13 (dk_at dksX3_teach_3 12 rfl rfl)
theorem dX3_teach_85 : decode cX3_teach 85 = .ok (.aload_n 0, 1) := dk_42 (dk_at dksX3_teach_3 15 rfl rfl)
theorem dX3_teach_86 : decode cX3_teach 86 = .ok (.iconst 2, 1) := dk_5 (dk_at dksX3_teach_3 16 rfl rfl)
theorem dX3_teach_87 : decode cX3_teach 87 = .ok (.bipush 9, 2) := dk_16 9 (dk_at dksX3_teach_3 17 rfl rfl)
theorem dX3_teach_89 : decode cX3_teach 89 = .ok (.bipush 99, 2) := dk_16 99 (dk_at dksX3_teach_3 19 rfl rfl)
theorem dX3_teach_91 : decode cX3_teach 91 = .ok (.invokevirtual 74, 3) := dk_182 0 74 (dk_at dksX3_teach_3 21 rfl rfl)
theorem dX3_teach_94 : decode cX3_teach 94 = .ok (.ireturn, 1) := dk_172 (dk_at dksX3_teach_4 0 rfl rfl)
theorem dX3_teach_95 : decode cX3_teach 95 = .ok (.aload_n 0, 1) := dk_42 (dk_at dksX3_teach_4 1 rfl rfl)
theorem dX3_teach_96 : decode cX3_teach 96 = .ok (.aload_n 0, 1) := dk_42 (dk_at dksX3_teach_4 2 rfl rfl)
theorem dX3_teach_97 : decode cX3_teach 97 = .ok (.getfield 7, 3) := dk_180 0 7 (dk_at dksX3_teach_4 3 rfl rfl)
theorem dX3_teach_100 : decode cX3_teach 100 = .ok (.invokevirtual 78, 3) := dk_182 0 78 (dk_at dksX3_teach_4 6 rfl rfl)
theorem dX3_teach_103 : decode cX3_teach 103 = .ok (.aload_n 0, 1) := dk_42 (dk_at dksX3_teach_4 9 rfl rfl)
theorem dX3_teach_104 : decode cX3_teach 104 = .ok (.iload_n 1, 1) := dk_27 (dk_at dksX3_teach_4 10 rfl rfl)
theorem dX3_teach_105 : decode cX3_teach 105 = .ok (.iconst 2, 1) := dk_5 (dk_at dksX3_teach_4 11 rfl rfl)
theorem dX3_teach_106 : decode cX3_teach 106 = .ok (.aload_n 0, 1) := dk_42 (dk_at dksX3_teach_4 12 rfl rfl)
theorem dX3_teach_107 : decode cX3_teach 107 = .ok (.iload_n 1, 1) := dk_27 (dk_at dksX3_teach_4 13 rfl rfl)
theorem dX3_teach_108 : decode cX3_teach 108 = .ok (.iconst 2, 1) := dk_5 (dk_at dksX3_teach_4 14 rfl rfl)
theorem dX3_teach_109 : decode cX3_teach 109 = .ok (.invokevirtual 66, 3) := dk_182 0 66 (dk_at dksX3_teach_4 15 rfl rfl)
theorem dX3_teach_112 : decode cX3_teach 112 = .ok (.iconst 1, 1) := dk_4 (dk_at dksX3_teach_4 18 rfl rfl)
theorem dX3_teach_113 : decode cX3_teach 113 = .ok (.iadd, 1) := dk_96 (dk_at dksX3_teach_4 19 rfl rfl)
theorem dX3_teach_114 : decode cX3_teach 114 = .ok (.aload_n 0, 1) := dk_42 (dk_at dksX3_teach_4 20 rfl rfl)
theorem dX3_teach_115 : decode cX3_teach 115 = .ok (.iload_n 1, 1) := dk_27 (dk_at dksX3_teach_4 21 rfl rfl)
theorem dX3_teach_116 : decode cX3_teach 116 = .ok (.iconst 0, 1) := dk_3 (dk_at dksX3_teach_4 22 rfl rfl)
theorem dX3_teach_117 : decode cX3_teach 117 = .ok (.invokevirtual 66, 3) := dk_182 0 66 (dk_at dksX3_teach_5 0 rfl rfl)
theorem dX3_teach_120 : decode cX3_teach 120 = .ok (.iconst 2, 1) := dk_5 (dk_at dksX3_teach_5 3 rfl rfl)
theorem dX3_teach_121 : decode cX3_teach 121 = .ok (.idiv, 1) := dk_108 (dk_at dksX3_teach_5 4 rfl rfl)
theorem dX3_teach_122 : decode cX3_teach 122 = .ok (.iadd, 1) := dk_96 (dk_at dksX3_teach_5 5 rfl rfl)
theorem dX3_teach_123 : decode cX3_teach 123 = .ok (.bipush 99, 2) := dk_16 99 (dk_at dksX3_teach_5 6 rfl rfl)
theorem dX3_teach_125 : decode cX3_teach 125 = .ok (.invokestatic 130, 3) := dk_184 0 130 (dk_at dksX3_teach_5 8 rfl rfl)
theorem dX3_teach_128 : decode cX3_teach 128 = .ok (.invokevirtual 82, 3) := dk_182 0 82 (dk_at dksX3_teach_5 11 rfl rfl)
theorem dX3_teach_131 : decode cX3_teach 131 = .ok (.aload_n 0, 1) := dk_42 (dk_at dksX3_teach_5 14 rfl rfl)
theorem dX3_teach_132 : decode cX3_teach 132 = .ok (.iload_n 1, 1) := dk_27 (dk_at dksX3_teach_5 15 rfl rfl)
theorem dX3_teach_133 : decode cX3_teach 133 = .ok (.bipush 8, 2) := dk_16 8 (dk_at dksX3_teach_5 16 rfl rfl)
theorem dX3_teach_135 : decode cX3_teach 135 = .ok (.aload_n 0, 1) := dk_42 (dk_at dksX3_teach_5 18 rfl rfl)
theorem dX3_teach_136 : decode cX3_teach 136 = .ok (.getfield 7, 3) := dk_180 0 7 (dk_at dksX3_teach_5 19 rfl rfl)
theorem dX3_teach_139 : decode cX3_teach 139 = .ok (.iconst 2, 1) := dk_5 (dk_at dksX3_teach_5 22 rfl rfl)
theorem dX3_teach_140 : decode cX3_teach 140 = .ok (.iaload, 1) := dk_46 (dk_at dksX3_teach_5 23 rfl rfl)
theorem dX3_teach_141 : decode cX3_teach 141 = .ok (.invokevirtual 82, 3) := dk_182 0 82 (dk_at dksX3_teach_6 0 rfl rfl)
theorem dX3_teach_144 : decode cX3_teach 144 = .ok (.aload_n 0, 1) := dk_42 (dk_at dksX3_teach_6 3 rfl rfl)
theorem dX3_teach_145 : decode cX3_teach 145 = .ok (.getfield 7, 3) := dk_180 0 7 (dk_at dksX3_teach_6 4 rfl rfl)
theorem dX3_teach_148 : decode cX3_teach 148 = .ok (.iconst 3, 1) := dk_6 (dk_at dksX3_teach_6 7 rfl rfl)
theorem dX3_teach_149 : decode cX3_teach 149 = .ok (.dup2, 1) := dk_92 (dk_at dksX3_teach_6 8 rfl rfl)
theorem dX3_teach_150 : decode cX3_teach 150 = .ok (.iaload, 1) := dk_46 (dk_at dksX3_teach_6 9 rfl rfl)
theorem dX3_teach_151 : decode cX3_teach 151 = .ok (.iconst 1, 1) := dk_4 (dk_at dksX3_teach_6 10 rfl rfl)
theorem dX3_teach_152 : decode cX3_teach 152 = .ok (.iadd, 1) := dk_96 (dk_at dksX3_teach_6 11 rfl rfl)
theorem dX3_teach_153 : decode cX3_teach 153 = .ok (.iastore, 1) := dk_79 (dk_at dksX3_teach_6 12 rfl rfl)
theorem dX3_teach_154 : decode cX3_teach 154 = .ok (.aload_n 0, 1) := dk_42 (dk_at dksX3_teach_6 13 rfl rfl)
theorem dX3_teach_155 : decode cX3_teach 155 = .ok (.iload_n 1, 1) := dk_27 (dk_at dksX3_teach_6 14 rfl rfl)
theorem dX3_teach_156 : decode cX3_teach 156 = .ok (.iconst 2, 1) := dk_5 (dk_at dksX3_teach_6 15 rfl rfl)
theorem dX3_teach_157 : decode cX3_teach 157 = .ok (.invokevirtual 66, 3) := dk_182 0 66 (dk_at dksX3_teach_6 16 rfl rfl)
theorem dX3_teach_160 : decode cX3_teach 160 = .ok (.ireturn, 1) := dk_172 (dk_at dksX3_teach_6 19 rfl rfl)
abbrev cX3_atMost : ByteArray := prog_11_method_6_code
def yX3_atMost : MethodName := ⟨RX3, "atMost", "(II)I"⟩
def dkwX3_atMost_0 : List UInt8 := [26, 27, 162, 0, 7, 26, 167, 0, 4, 27, 172]
abbrev dktX3_atMost_0 : List UInt8 := dkwX3_atMost_0 ++ []
theorem dksX3_atMost_0 : cX3_atMost.data.toList.drop 0 = dktX3_atMost_0 := by decide +kernel
theorem dX3_atMost_0 : decode cX3_atMost 0 = .ok (.iload_n 0, 1) := dk_26 (dk_at dksX3_atMost_0 0 rfl rfl)
theorem dX3_atMost_1 : decode cX3_atMost 1 = .ok (.iload_n 1, 1) := dk_27 (dk_at dksX3_atMost_0 1 rfl rfl)
theorem dX3_atMost_2 : decode cX3_atMost 2 = .ok (.if_icmp .ge 7, 3) := dk_162 0 7 (dk_at dksX3_atMost_0 2 rfl rfl)
theorem dX3_atMost_5 : decode cX3_atMost 5 = .ok (.iload_n 0, 1) := dk_26 (dk_at dksX3_atMost_0 5 rfl rfl)
theorem dX3_atMost_6 : decode cX3_atMost 6 = .ok (.goto 4, 3) := dk_167 0 4 (dk_at dksX3_atMost_0 6 rfl rfl)
theorem dX3_atMost_9 : decode cX3_atMost 9 = .ok (.iload_n 1, 1) := dk_27 (dk_at dksX3_atMost_0 9 rfl rfl)
theorem dX3_atMost_10 : decode cX3_atMost 10 = .ok (.ireturn, 1) := dk_172 (dk_at dksX3_atMost_0 10 rfl rfl)
abbrev cX3_trial : ByteArray := prog_11_method_42_code
def yX3_trial : MethodName := ⟨RX3, "trial", "(IIII)I"⟩
def dkwX3_trial_6 : List UInt8 := [96, 79, 21, 5, 172]
abbrev dktX3_trial_6 : List UInt8 := dkwX3_trial_6 ++ []
def dkwX3_trial_5 : List UInt8 := [182, 0, 82, 42, 27, 16, 9, 42, 180, 0, 7, 5, 46, 182, 0, 82, 42, 180, 0, 7, 7, 92, 46, 4]
abbrev dktX3_trial_5 : List UInt8 := dkwX3_trial_5 ++ dktX3_trial_6
def dkwX3_trial_4 : List UInt8 := [163, 0, 12, 42, 27, 6, 182, 0, 66, 156, 0, 18, 42, 27, 6, 29, 182, 0, 82, 42, 27, 7, 21, 5]
abbrev dktX3_trial_4 : List UInt8 := dkwX3_trial_4 ++ dktX3_trial_5
def dkwX3_trial_3 : List UInt8 := [182, 0, 78, 42, 27, 28, 29, 21, 4, 182, 0, 141, 54, 5, 21, 5, 42, 27, 7, 182, 0, 66]
abbrev dktX3_trial_3 : List UInt8 := dkwX3_trial_3 ++ dktX3_trial_4
def dkwX3_trial_2 : List UInt8 := [46, 160, 0, 17, 42, 6, 16, 8, 42, 180, 0, 7, 5, 46, 182, 0, 74, 172, 42, 42, 180, 0, 7]
abbrev dktX3_trial_2 : List UInt8 := dkwX3_trial_2 ++ dktX3_trial_3
def dkwX3_trial_1 : List UInt8 := [7, 42, 27, 16, 10, 182, 0, 66, 182, 0, 74, 172, 42, 27, 16, 9, 182, 0, 66, 42, 180, 0, 7, 5]
abbrev dktX3_trial_1 : List UInt8 := dkwX3_trial_1 ++ dktX3_trial_2
def dkwX3_trial_0 : List UInt8 := [42, 27, 28, 29, 21, 4, 182, 0, 137, 153, 0, 5, 3, 172, 42, 27, 182, 0, 118, 153, 0, 17, 42, 6]
abbrev dktX3_trial_0 : List UInt8 := dkwX3_trial_0 ++ dktX3_trial_1
theorem dksX3_trial_0 : cX3_trial.data.toList.drop 0 = dktX3_trial_0 := by decide +kernel
theorem dksX3_trial_1 : cX3_trial.data.toList.drop 24 = dktX3_trial_1 := dk_seg dksX3_trial_0 24 rfl rfl
theorem dksX3_trial_2 : cX3_trial.data.toList.drop 48 = dktX3_trial_2 := dk_seg dksX3_trial_1 24 rfl rfl
theorem dksX3_trial_3 : cX3_trial.data.toList.drop 71 = dktX3_trial_3 := dk_seg dksX3_trial_2 23 rfl rfl
theorem dksX3_trial_4 : cX3_trial.data.toList.drop 93 = dktX3_trial_4 := dk_seg dksX3_trial_3 22 rfl rfl
theorem dksX3_trial_5 : cX3_trial.data.toList.drop 117 = dktX3_trial_5 := dk_seg dksX3_trial_4 24 rfl rfl
theorem dksX3_trial_6 : cX3_trial.data.toList.drop 141 = dktX3_trial_6 := dk_seg dksX3_trial_5 24 rfl rfl
theorem dX3_trial_0 : decode cX3_trial 0 = .ok (.aload_n 0, 1) := dk_42 (dk_at dksX3_trial_0 0 rfl rfl)
theorem dX3_trial_1 : decode cX3_trial 1 = .ok (.iload_n 1, 1) := dk_27 (dk_at dksX3_trial_0 1 rfl rfl)
theorem dX3_trial_2 : decode cX3_trial 2 = .ok (.iload_n 2, 1) := dk_28 (dk_at dksX3_trial_0 2 rfl rfl)
theorem dX3_trial_3 : decode cX3_trial 3 = .ok (.iload_n 3, 1) := dk_29 (dk_at dksX3_trial_0 3 rfl rfl)
theorem dX3_trial_4 : decode cX3_trial 4 = .ok (.iload 4, 2) := dk_21 4 (dk_at dksX3_trial_0 4 rfl rfl)
theorem dX3_trial_6 : decode cX3_trial 6 = .ok (.invokevirtual 137, 3) := dk_182 0 137 (dk_at dksX3_trial_0 6 rfl rfl)
theorem dX3_trial_9 : decode cX3_trial 9 = .ok (.ifCond .eq 5, 3) := dk_153 0 5 (dk_at dksX3_trial_0 9 rfl rfl)
theorem dX3_trial_12 : decode cX3_trial 12 = .ok (.iconst 0, 1) := dk_3 (dk_at dksX3_trial_0 12 rfl rfl)
theorem dX3_trial_13 : decode cX3_trial 13 = .ok (.ireturn, 1) := dk_172 (dk_at dksX3_trial_0 13 rfl rfl)
theorem dX3_trial_14 : decode cX3_trial 14 = .ok (.aload_n 0, 1) := dk_42 (dk_at dksX3_trial_0 14 rfl rfl)
theorem dX3_trial_15 : decode cX3_trial 15 = .ok (.iload_n 1, 1) := dk_27 (dk_at dksX3_trial_0 15 rfl rfl)
theorem dX3_trial_16 : decode cX3_trial 16 = .ok (.invokevirtual 118, 3) := dk_182 0 118 (dk_at dksX3_trial_0 16 rfl rfl)
theorem dX3_trial_19 : decode cX3_trial 19 = .ok (.ifCond .eq 17, 3) := dk_153 0 17 (dk_at dksX3_trial_0 19 rfl rfl)
theorem dX3_trial_22 : decode cX3_trial 22 = .ok (.aload_n 0, 1) := dk_42 (dk_at dksX3_trial_0 22 rfl rfl)
theorem dX3_trial_23 : decode cX3_trial 23 = .ok (.iconst 3, 1) := dk_6 (dk_at dksX3_trial_0 23 rfl rfl)
theorem dX3_trial_24 : decode cX3_trial 24 = .ok (.iconst 4, 1) := dk_7 (dk_at dksX3_trial_1 0 rfl rfl)
theorem dX3_trial_25 : decode cX3_trial 25 = .ok (.aload_n 0, 1) := dk_42 (dk_at dksX3_trial_1 1 rfl rfl)
theorem dX3_trial_26 : decode cX3_trial 26 = .ok (.iload_n 1, 1) := dk_27 (dk_at dksX3_trial_1 2 rfl rfl)
theorem dX3_trial_27 : decode cX3_trial 27 = .ok (.bipush 10, 2) := dk_16 10 (dk_at dksX3_trial_1 3 rfl rfl)
theorem dX3_trial_29 : decode cX3_trial 29 = .ok (.invokevirtual 66, 3) := dk_182 0 66 (dk_at dksX3_trial_1 5 rfl rfl)
theorem dX3_trial_32 : decode cX3_trial 32 = .ok (.invokevirtual 74, 3) := dk_182 0 74 (dk_at dksX3_trial_1 8 rfl rfl)
theorem dX3_trial_35 : decode cX3_trial 35 = .ok (.ireturn, 1) := dk_172 (dk_at dksX3_trial_1 11 rfl rfl)
theorem dX3_trial_36 : decode cX3_trial 36 = .ok (.aload_n 0, 1) := dk_42 (dk_at dksX3_trial_1 12 rfl rfl)
theorem dX3_trial_37 : decode cX3_trial 37 = .ok (.iload_n 1, 1) := dk_27 (dk_at dksX3_trial_1 13 rfl rfl)
theorem dX3_trial_38 : decode cX3_trial 38 = .ok (.bipush 9, 2) := dk_16 9 (dk_at dksX3_trial_1 14 rfl rfl)
theorem dX3_trial_40 : decode cX3_trial 40 = .ok (.invokevirtual 66, 3) := dk_182 0 66 (dk_at dksX3_trial_1 16 rfl rfl)
theorem dX3_trial_43 : decode cX3_trial 43 = .ok (.aload_n 0, 1) := dk_42 (dk_at dksX3_trial_1 19 rfl rfl)
theorem dX3_trial_44 : decode cX3_trial 44 = .ok (.getfield 7, 3) := dk_180 0 7 (dk_at dksX3_trial_1 20 rfl rfl)
theorem dX3_trial_47 : decode cX3_trial 47 = .ok (.iconst 2, 1) := dk_5 (dk_at dksX3_trial_1 23 rfl rfl)
theorem dX3_trial_48 : decode cX3_trial 48 = .ok (.iaload, 1) := dk_46 (dk_at dksX3_trial_2 0 rfl rfl)
theorem dX3_trial_49 : decode cX3_trial 49 = .ok (.if_icmp .ne 17, 3) := dk_160 0 17 (dk_at dksX3_trial_2 1 rfl rfl)
theorem dX3_trial_52 : decode cX3_trial 52 = .ok (.aload_n 0, 1) := dk_42 (dk_at dksX3_trial_2 4 rfl rfl)
theorem dX3_trial_53 : decode cX3_trial 53 = .ok (.iconst 3, 1) := dk_6 (dk_at dksX3_trial_2 5 rfl rfl)
theorem dX3_trial_54 : decode cX3_trial 54 = .ok (.bipush 8, 2) := dk_16 8 (dk_at dksX3_trial_2 6 rfl rfl)
theorem dX3_trial_56 : decode cX3_trial 56 = .ok (.aload_n 0, 1) := dk_42 (dk_at dksX3_trial_2 8 rfl rfl)
theorem dX3_trial_57 : decode cX3_trial 57 = .ok (.getfield 7, 3) := dk_180 0 7 (dk_at dksX3_trial_2 9 rfl rfl)
theorem dX3_trial_60 : decode cX3_trial 60 = .ok (.iconst 2, 1) := dk_5 (dk_at dksX3_trial_2 12 rfl rfl)
theorem dX3_trial_61 : decode cX3_trial 61 = .ok (.iaload, 1) := dk_46 (dk_at dksX3_trial_2 13 rfl rfl)
theorem dX3_trial_62 : decode cX3_trial 62 = .ok (.invokevirtual 74, 3) := dk_182 0 74 (dk_at dksX3_trial_2 14 rfl rfl)
theorem dX3_trial_65 : decode cX3_trial 65 = .ok (.ireturn, 1) := dk_172 (dk_at dksX3_trial_2 17 rfl rfl)
theorem dX3_trial_66 : decode cX3_trial 66 = .ok (.aload_n 0, 1) := dk_42 (dk_at dksX3_trial_2 18 rfl rfl)
theorem dX3_trial_67 : decode cX3_trial 67 = .ok (.aload_n 0, 1) := dk_42 (dk_at dksX3_trial_2 19 rfl rfl)
theorem dX3_trial_68 : decode cX3_trial 68 = .ok (.getfield 7, 3) := dk_180 0 7 (dk_at dksX3_trial_2 20 rfl rfl)
theorem dX3_trial_71 : decode cX3_trial 71 = .ok (.invokevirtual 78, 3) := dk_182 0 78 (dk_at dksX3_trial_3 0 rfl rfl)
theorem dX3_trial_74 : decode cX3_trial 74 = .ok (.aload_n 0, 1) := dk_42 (dk_at dksX3_trial_3 3 rfl rfl)
theorem dX3_trial_75 : decode cX3_trial 75 = .ok (.iload_n 1, 1) := dk_27 (dk_at dksX3_trial_3 4 rfl rfl)
theorem dX3_trial_76 : decode cX3_trial 76 = .ok (.iload_n 2, 1) := dk_28 (dk_at dksX3_trial_3 5 rfl rfl)
theorem dX3_trial_77 : decode cX3_trial 77 = .ok (.iload_n 3, 1) := dk_29 (dk_at dksX3_trial_3 6 rfl rfl)
theorem dX3_trial_78 : decode cX3_trial 78 = .ok (.iload 4, 2) := dk_21 4 (dk_at dksX3_trial_3 7 rfl rfl)
theorem dX3_trial_80 : decode cX3_trial 80 = .ok (.invokevirtual 141, 3) := dk_182 0 141 (dk_at dksX3_trial_3 9 rfl rfl)
theorem dX3_trial_83 : decode cX3_trial 83 = .ok (.istore 5, 2) := dk_54 5 (dk_at dksX3_trial_3 12 rfl rfl)
theorem dX3_trial_85 : decode cX3_trial 85 = .ok (.iload 5, 2) := dk_21 5 (dk_at dksX3_trial_3 14 rfl rfl)
theorem dX3_trial_87 : decode cX3_trial 87 = .ok (.aload_n 0, 1) := dk_42 (dk_at dksX3_trial_3 16 rfl rfl)
theorem dX3_trial_88 : decode cX3_trial 88 = .ok (.iload_n 1, 1) := dk_27 (dk_at dksX3_trial_3 17 rfl rfl)
theorem dX3_trial_89 : decode cX3_trial 89 = .ok (.iconst 4, 1) := dk_7 (dk_at dksX3_trial_3 18 rfl rfl)
theorem dX3_trial_90 : decode cX3_trial 90 = .ok (.invokevirtual 66, 3) := dk_182 0 66 (dk_at dksX3_trial_3 19 rfl rfl)
theorem dX3_trial_93 : decode cX3_trial 93 = .ok (.if_icmp .gt 12, 3) := dk_163 0 12 (dk_at dksX3_trial_4 0 rfl rfl)
theorem dX3_trial_96 : decode cX3_trial 96 = .ok (.aload_n 0, 1) := dk_42 (dk_at dksX3_trial_4 3 rfl rfl)
theorem dX3_trial_97 : decode cX3_trial 97 = .ok (.iload_n 1, 1) := dk_27 (dk_at dksX3_trial_4 4 rfl rfl)
theorem dX3_trial_98 : decode cX3_trial 98 = .ok (.iconst 3, 1) := dk_6 (dk_at dksX3_trial_4 5 rfl rfl)
theorem dX3_trial_99 : decode cX3_trial 99 = .ok (.invokevirtual 66, 3) := dk_182 0 66 (dk_at dksX3_trial_4 6 rfl rfl)
theorem dX3_trial_102 : decode cX3_trial 102 = .ok (.ifCond .ge 18, 3) := dk_156 0 18 (dk_at dksX3_trial_4 9 rfl rfl)
theorem dX3_trial_105 : decode cX3_trial 105 = .ok (.aload_n 0, 1) := dk_42 (dk_at dksX3_trial_4 12 rfl rfl)
theorem dX3_trial_106 : decode cX3_trial 106 = .ok (.iload_n 1, 1) := dk_27 (dk_at dksX3_trial_4 13 rfl rfl)
theorem dX3_trial_107 : decode cX3_trial 107 = .ok (.iconst 3, 1) := dk_6 (dk_at dksX3_trial_4 14 rfl rfl)
theorem dX3_trial_108 : decode cX3_trial 108 = .ok (.iload_n 3, 1) := dk_29 (dk_at dksX3_trial_4 15 rfl rfl)
theorem dX3_trial_109 : decode cX3_trial 109 = .ok (.invokevirtual 82, 3) := dk_182 0 82 (dk_at dksX3_trial_4 16 rfl rfl)
theorem dX3_trial_112 : decode cX3_trial 112 = .ok (.aload_n 0, 1) := dk_42 (dk_at dksX3_trial_4 19 rfl rfl)
theorem dX3_trial_113 : decode cX3_trial 113 = .ok (.iload_n 1, 1) := dk_27 (dk_at dksX3_trial_4 20 rfl rfl)
theorem dX3_trial_114 : decode cX3_trial 114 = .ok (.iconst 4, 1) := dk_7 (dk_at dksX3_trial_4 21 rfl rfl)
theorem dX3_trial_115 : decode cX3_trial 115 = .ok (.iload 5, 2) := dk_21 5 (dk_at dksX3_trial_4 22 rfl rfl)
theorem dX3_trial_117 : decode cX3_trial 117 = .ok (.invokevirtual 82, 3) := dk_182 0 82 (dk_at dksX3_trial_5 0 rfl rfl)
theorem dX3_trial_120 : decode cX3_trial 120 = .ok (.aload_n 0, 1) := dk_42 (dk_at dksX3_trial_5 3 rfl rfl)
theorem dX3_trial_121 : decode cX3_trial 121 = .ok (.iload_n 1, 1) := dk_27 (dk_at dksX3_trial_5 4 rfl rfl)
theorem dX3_trial_122 : decode cX3_trial 122 = .ok (.bipush 9, 2) := dk_16 9 (dk_at dksX3_trial_5 5 rfl rfl)
theorem dX3_trial_124 : decode cX3_trial 124 = .ok (.aload_n 0, 1) := dk_42 (dk_at dksX3_trial_5 7 rfl rfl)
theorem dX3_trial_125 : decode cX3_trial 125 = .ok (.getfield 7, 3) := dk_180 0 7 (dk_at dksX3_trial_5 8 rfl rfl)
theorem dX3_trial_128 : decode cX3_trial 128 = .ok (.iconst 2, 1) := dk_5 (dk_at dksX3_trial_5 11 rfl rfl)
theorem dX3_trial_129 : decode cX3_trial 129 = .ok (.iaload, 1) := dk_46 (dk_at dksX3_trial_5 12 rfl rfl)
theorem dX3_trial_130 : decode cX3_trial 130 = .ok (.invokevirtual 82, 3) := dk_182 0 82 (dk_at dksX3_trial_5 13 rfl rfl)
theorem dX3_trial_133 : decode cX3_trial 133 = .ok (.aload_n 0, 1) := dk_42 (dk_at dksX3_trial_5 16 rfl rfl)
theorem dX3_trial_134 : decode cX3_trial 134 = .ok (.getfield 7, 3) := dk_180 0 7 (dk_at dksX3_trial_5 17 rfl rfl)
theorem dX3_trial_137 : decode cX3_trial 137 = .ok (.iconst 4, 1) := dk_7 (dk_at dksX3_trial_5 20 rfl rfl)
theorem dX3_trial_138 : decode cX3_trial 138 = .ok (.dup2, 1) := dk_92 (dk_at dksX3_trial_5 21 rfl rfl)
theorem dX3_trial_139 : decode cX3_trial 139 = .ok (.iaload, 1) := dk_46 (dk_at dksX3_trial_5 22 rfl rfl)
theorem dX3_trial_140 : decode cX3_trial 140 = .ok (.iconst 1, 1) := dk_4 (dk_at dksX3_trial_5 23 rfl rfl)
theorem dX3_trial_141 : decode cX3_trial 141 = .ok (.iadd, 1) := dk_96 (dk_at dksX3_trial_6 0 rfl rfl)
theorem dX3_trial_142 : decode cX3_trial 142 = .ok (.iastore, 1) := dk_79 (dk_at dksX3_trial_6 1 rfl rfl)
theorem dX3_trial_143 : decode cX3_trial 143 = .ok (.iload 5, 2) := dk_21 5 (dk_at dksX3_trial_6 2 rfl rfl)
theorem dX3_trial_145 : decode cX3_trial 145 = .ok (.ireturn, 1) := dk_172 (dk_at dksX3_trial_6 4 rfl rfl)
abbrev cX3_isWrong : ByteArray := prog_11_method_41_code
def yX3_isWrong : MethodName := ⟨RX3, "isWrong", "(IIII)Z"⟩
def dkwX3_isWrong_1 : List UInt8 := [184, 0, 133, 153, 0, 7, 3, 167, 0, 4, 5, 182, 0, 70, 172]
abbrev dktX3_isWrong_1 : List UInt8 := dkwX3_isWrong_1 ++ []
def dkwX3_isWrong_0 : List UInt8 := [42, 42, 27, 182, 0, 95, 153, 0, 11, 42, 28, 182, 0, 86, 154, 0, 7, 4, 167, 0, 17, 29, 21, 4]
abbrev dktX3_isWrong_0 : List UInt8 := dkwX3_isWrong_0 ++ dktX3_isWrong_1
theorem dksX3_isWrong_0 : cX3_isWrong.data.toList.drop 0 = dktX3_isWrong_0 := by decide +kernel
theorem dksX3_isWrong_1 : cX3_isWrong.data.toList.drop 24 = dktX3_isWrong_1 := dk_seg dksX3_isWrong_0 24 rfl rfl
theorem dX3_isWrong_0 : decode cX3_isWrong 0 = .ok (.aload_n 0, 1) := dk_42 (dk_at dksX3_isWrong_0 0 rfl rfl)
theorem dX3_isWrong_1 : decode cX3_isWrong 1 = .ok (.aload_n 0, 1) := dk_42 (dk_at dksX3_isWrong_0 1 rfl rfl)
theorem dX3_isWrong_2 : decode cX3_isWrong 2 = .ok (.iload_n 1, 1) := dk_27 (dk_at dksX3_isWrong_0 2 rfl rfl)
theorem dX3_isWrong_3 : decode cX3_isWrong 3 = .ok (.invokevirtual 95, 3) := dk_182 0 95 (dk_at dksX3_isWrong_0 3 rfl rfl)
theorem dX3_isWrong_6 : decode cX3_isWrong 6 = .ok (.ifCond .eq 11, 3) := dk_153 0 11 (dk_at dksX3_isWrong_0 6 rfl rfl)
theorem dX3_isWrong_9 : decode cX3_isWrong 9 = .ok (.aload_n 0, 1) := dk_42 (dk_at dksX3_isWrong_0 9 rfl rfl)
theorem dX3_isWrong_10 : decode cX3_isWrong 10 = .ok (.iload_n 2, 1) := dk_28 (dk_at dksX3_isWrong_0 10 rfl rfl)
theorem dX3_isWrong_11 : decode cX3_isWrong 11 = .ok (.invokevirtual 86, 3) := dk_182 0 86 (dk_at dksX3_isWrong_0 11 rfl rfl)
theorem dX3_isWrong_14 : decode cX3_isWrong 14 = .ok (.ifCond .ne 7, 3) := dk_154 0 7 (dk_at dksX3_isWrong_0 14 rfl rfl)
theorem dX3_isWrong_17 : decode cX3_isWrong 17 = .ok (.iconst 1, 1) := dk_4 (dk_at dksX3_isWrong_0 17 rfl rfl)
theorem dX3_isWrong_18 : decode cX3_isWrong 18 = .ok (.goto 17, 3) := dk_167 0 17 (dk_at dksX3_isWrong_0 18 rfl rfl)
theorem dX3_isWrong_21 : decode cX3_isWrong 21 = .ok (.iload_n 3, 1) := dk_29 (dk_at dksX3_isWrong_0 21 rfl rfl)
theorem dX3_isWrong_22 : decode cX3_isWrong 22 = .ok (.iload 4, 2) := dk_21 4 (dk_at dksX3_isWrong_0 22 rfl rfl)
theorem dX3_isWrong_24 : decode cX3_isWrong 24 = .ok (.invokestatic 133, 3) := dk_184 0 133 (dk_at dksX3_isWrong_1 0 rfl rfl)
theorem dX3_isWrong_27 : decode cX3_isWrong 27 = .ok (.ifCond .eq 7, 3) := dk_153 0 7 (dk_at dksX3_isWrong_1 3 rfl rfl)
theorem dX3_isWrong_30 : decode cX3_isWrong 30 = .ok (.iconst 0, 1) := dk_3 (dk_at dksX3_isWrong_1 6 rfl rfl)
theorem dX3_isWrong_31 : decode cX3_isWrong 31 = .ok (.goto 4, 3) := dk_167 0 4 (dk_at dksX3_isWrong_1 7 rfl rfl)
theorem dX3_isWrong_34 : decode cX3_isWrong 34 = .ok (.iconst 2, 1) := dk_5 (dk_at dksX3_isWrong_1 10 rfl rfl)
theorem dX3_isWrong_35 : decode cX3_isWrong 35 = .ok (.invokevirtual 70, 3) := dk_182 0 70 (dk_at dksX3_isWrong_1 11 rfl rfl)
theorem dX3_isWrong_38 : decode cX3_isWrong 38 = .ok (.ireturn, 1) := dk_172 (dk_at dksX3_isWrong_1 14 rfl rfl)
abbrev cX3_isThrow : ByteArray := prog_11_method_20_code
def yX3_isThrow : MethodName := ⟨RX3, "isThrow", "(II)Z"⟩
def dkwX3_isThrow_1 : List UInt8 := [3, 172]
abbrev dktX3_isThrow_1 : List UInt8 := dkwX3_isThrow_1 ++ []
def dkwX3_isThrow_0 : List UInt8 := [26, 3, 16, 90, 184, 0, 62, 153, 0, 17, 27, 4, 16, 20, 184, 0, 62, 153, 0, 7, 4, 167, 0, 4]
abbrev dktX3_isThrow_0 : List UInt8 := dkwX3_isThrow_0 ++ dktX3_isThrow_1
theorem dksX3_isThrow_0 : cX3_isThrow.data.toList.drop 0 = dktX3_isThrow_0 := by decide +kernel
theorem dksX3_isThrow_1 : cX3_isThrow.data.toList.drop 24 = dktX3_isThrow_1 := dk_seg dksX3_isThrow_0 24 rfl rfl
theorem dX3_isThrow_0 : decode cX3_isThrow 0 = .ok (.iload_n 0, 1) := dk_26 (dk_at dksX3_isThrow_0 0 rfl rfl)
theorem dX3_isThrow_1 : decode cX3_isThrow 1 = .ok (.iconst 0, 1) := dk_3 (dk_at dksX3_isThrow_0 1 rfl rfl)
theorem dX3_isThrow_2 : decode cX3_isThrow 2 = .ok (.bipush 90, 2) := dk_16 90 (dk_at dksX3_isThrow_0 2 rfl rfl)
theorem dX3_isThrow_4 : decode cX3_isThrow 4 = .ok (.invokestatic 62, 3) := dk_184 0 62 (dk_at dksX3_isThrow_0 4 rfl rfl)
theorem dX3_isThrow_7 : decode cX3_isThrow 7 = .ok (.ifCond .eq 17, 3) := dk_153 0 17 (dk_at dksX3_isThrow_0 7 rfl rfl)
theorem dX3_isThrow_10 : decode cX3_isThrow 10 = .ok (.iload_n 1, 1) := dk_27 (dk_at dksX3_isThrow_0 10 rfl rfl)
theorem dX3_isThrow_11 : decode cX3_isThrow 11 = .ok (.iconst 1, 1) := dk_4 (dk_at dksX3_isThrow_0 11 rfl rfl)
theorem dX3_isThrow_12 : decode cX3_isThrow 12 = .ok (.bipush 20, 2) := dk_16 20 (dk_at dksX3_isThrow_0 12 rfl rfl)
theorem dX3_isThrow_14 : decode cX3_isThrow 14 = .ok (.invokestatic 62, 3) := dk_184 0 62 (dk_at dksX3_isThrow_0 14 rfl rfl)
theorem dX3_isThrow_17 : decode cX3_isThrow 17 = .ok (.ifCond .eq 7, 3) := dk_153 0 7 (dk_at dksX3_isThrow_0 17 rfl rfl)
theorem dX3_isThrow_20 : decode cX3_isThrow 20 = .ok (.iconst 1, 1) := dk_4 (dk_at dksX3_isThrow_0 20 rfl rfl)
theorem dX3_isThrow_21 : decode cX3_isThrow 21 = .ok (.goto 4, 3) := dk_167 0 4 (dk_at dksX3_isThrow_0 21 rfl rfl)
theorem dX3_isThrow_24 : decode cX3_isThrow 24 = .ok (.iconst 0, 1) := dk_3 (dk_at dksX3_isThrow_1 0 rfl rfl)
theorem dX3_isThrow_25 : decode cX3_isThrow 25 = .ok (.ireturn, 1) := dk_172 (dk_at dksX3_isThrow_1 1 rfl rfl)
abbrev cX3_skipsOf : ByteArray := prog_11_method_38_code
def yX3_skipsOf : MethodName := ⟨RX3, "skipsOf", "(IIII)I"⟩
def dkwX3_skipsOf_1 : List UInt8 := [158, 0, 16, 132, 5, 1, 21, 7, 21, 6, 100, 54, 7, 167, 255, 241, 21, 5, 172]
abbrev dktX3_skipsOf_1 : List UInt8 := dkwX3_skipsOf_1 ++ []
def dkwX3_skipsOf_0 : List UInt8 := [3, 54, 5, 42, 27, 28, 29, 182, 0, 124, 54, 6, 42, 27, 21, 4, 182, 0, 127, 54, 7, 21, 7]
abbrev dktX3_skipsOf_0 : List UInt8 := dkwX3_skipsOf_0 ++ dktX3_skipsOf_1
theorem dksX3_skipsOf_0 : cX3_skipsOf.data.toList.drop 0 = dktX3_skipsOf_0 := by decide +kernel
theorem dksX3_skipsOf_1 : cX3_skipsOf.data.toList.drop 23 = dktX3_skipsOf_1 := dk_seg dksX3_skipsOf_0 23 rfl rfl
theorem dX3_skipsOf_0 : decode cX3_skipsOf 0 = .ok (.iconst 0, 1) := dk_3 (dk_at dksX3_skipsOf_0 0 rfl rfl)
theorem dX3_skipsOf_1 : decode cX3_skipsOf 1 = .ok (.istore 5, 2) := dk_54 5 (dk_at dksX3_skipsOf_0 1 rfl rfl)
theorem dX3_skipsOf_3 : decode cX3_skipsOf 3 = .ok (.aload_n 0, 1) := dk_42 (dk_at dksX3_skipsOf_0 3 rfl rfl)
theorem dX3_skipsOf_4 : decode cX3_skipsOf 4 = .ok (.iload_n 1, 1) := dk_27 (dk_at dksX3_skipsOf_0 4 rfl rfl)
theorem dX3_skipsOf_5 : decode cX3_skipsOf 5 = .ok (.iload_n 2, 1) := dk_28 (dk_at dksX3_skipsOf_0 5 rfl rfl)
theorem dX3_skipsOf_6 : decode cX3_skipsOf 6 = .ok (.iload_n 3, 1) := dk_29 (dk_at dksX3_skipsOf_0 6 rfl rfl)
theorem dX3_skipsOf_7 : decode cX3_skipsOf 7 = .ok (.invokevirtual 124, 3) := dk_182 0 124 (dk_at dksX3_skipsOf_0 7 rfl rfl)
theorem dX3_skipsOf_10 : decode cX3_skipsOf 10 = .ok (.istore 6, 2) := dk_54 6 (dk_at dksX3_skipsOf_0 10 rfl rfl)
theorem dX3_skipsOf_12 : decode cX3_skipsOf 12 = .ok (.aload_n 0, 1) := dk_42 (dk_at dksX3_skipsOf_0 12 rfl rfl)
theorem dX3_skipsOf_13 : decode cX3_skipsOf 13 = .ok (.iload_n 1, 1) := dk_27 (dk_at dksX3_skipsOf_0 13 rfl rfl)
theorem dX3_skipsOf_14 : decode cX3_skipsOf 14 = .ok (.iload 4, 2) := dk_21 4 (dk_at dksX3_skipsOf_0 14 rfl rfl)
theorem dX3_skipsOf_16 : decode cX3_skipsOf 16 = .ok (.invokevirtual 127, 3) := dk_182 0 127 (dk_at dksX3_skipsOf_0 16 rfl rfl)
theorem dX3_skipsOf_19 : decode cX3_skipsOf 19 = .ok (.istore 7, 2) := dk_54 7 (dk_at dksX3_skipsOf_0 19 rfl rfl)
theorem dX3_skipsOf_21 : decode cX3_skipsOf 21 = .ok (.iload 7, 2) := dk_21 7 (dk_at dksX3_skipsOf_0 21 rfl rfl)
theorem dX3_skipsOf_23 : decode cX3_skipsOf 23 = .ok (.ifCond .le 16, 3) := dk_158 0 16 (dk_at dksX3_skipsOf_1 0 rfl rfl)
theorem dX3_skipsOf_26 : decode cX3_skipsOf 26 = .ok (.iinc 5 1, 3) := dk_132 5 1 (dk_at dksX3_skipsOf_1 3 rfl rfl)
theorem dX3_skipsOf_29 : decode cX3_skipsOf 29 = .ok (.iload 7, 2) := dk_21 7 (dk_at dksX3_skipsOf_1 6 rfl rfl)
theorem dX3_skipsOf_31 : decode cX3_skipsOf 31 = .ok (.iload 6, 2) := dk_21 6 (dk_at dksX3_skipsOf_1 8 rfl rfl)
theorem dX3_skipsOf_33 : decode cX3_skipsOf 33 = .ok (.isub, 1) := dk_100 (dk_at dksX3_skipsOf_1 10 rfl rfl)
theorem dX3_skipsOf_34 : decode cX3_skipsOf 34 = .ok (.istore 7, 2) := dk_54 7 (dk_at dksX3_skipsOf_1 11 rfl rfl)
theorem dX3_skipsOf_36 : decode cX3_skipsOf 36 = .ok (.goto (-15), 3) := dk_167 255 241 (dk_at dksX3_skipsOf_1 13 rfl rfl)
theorem dX3_skipsOf_39 : decode cX3_skipsOf 39 = .ok (.iload 5, 2) := dk_21 5 (dk_at dksX3_skipsOf_1 16 rfl rfl)
theorem dX3_skipsOf_41 : decode cX3_skipsOf 41 = .ok (.ireturn, 1) := dk_172 (dk_at dksX3_skipsOf_1 18 rfl rfl)
abbrev cX3_drag : ByteArray := prog_11_method_37_code
def yX3_drag : MethodName := ⟨RX3, "drag", "(III)I"⟩
def dkwX3_drag_1 : List UInt8 := [96, 172]
abbrev dktX3_drag_1 : List UInt8 := dkwX3_drag_1 ++ []
def dkwX3_drag_0 : List UInt8 := [4, 29, 42, 27, 182, 0, 98, 184, 0, 121, 6, 108, 96, 16, 9, 42, 28, 4, 182, 0, 89, 100, 5, 108]
abbrev dktX3_drag_0 : List UInt8 := dkwX3_drag_0 ++ dktX3_drag_1
theorem dksX3_drag_0 : cX3_drag.data.toList.drop 0 = dktX3_drag_0 := by decide +kernel
theorem dksX3_drag_1 : cX3_drag.data.toList.drop 24 = dktX3_drag_1 := dk_seg dksX3_drag_0 24 rfl rfl
theorem dX3_drag_0 : decode cX3_drag 0 = .ok (.iconst 1, 1) := dk_4 (dk_at dksX3_drag_0 0 rfl rfl)
theorem dX3_drag_1 : decode cX3_drag 1 = .ok (.iload_n 3, 1) := dk_29 (dk_at dksX3_drag_0 1 rfl rfl)
theorem dX3_drag_2 : decode cX3_drag 2 = .ok (.aload_n 0, 1) := dk_42 (dk_at dksX3_drag_0 2 rfl rfl)
theorem dX3_drag_3 : decode cX3_drag 3 = .ok (.iload_n 1, 1) := dk_27 (dk_at dksX3_drag_0 3 rfl rfl)
theorem dX3_drag_4 : decode cX3_drag 4 = .ok (.invokevirtual 98, 3) := dk_182 0 98 (dk_at dksX3_drag_0 4 rfl rfl)
theorem dX3_drag_7 : decode cX3_drag 7 = .ok (.invokestatic 121, 3) := dk_184 0 121 (dk_at dksX3_drag_0 7 rfl rfl)
theorem dX3_drag_10 : decode cX3_drag 10 = .ok (.iconst 3, 1) := dk_6 (dk_at dksX3_drag_0 10 rfl rfl)
theorem dX3_drag_11 : decode cX3_drag 11 = .ok (.idiv, 1) := dk_108 (dk_at dksX3_drag_0 11 rfl rfl)
theorem dX3_drag_12 : decode cX3_drag 12 = .ok (.iadd, 1) := dk_96 (dk_at dksX3_drag_0 12 rfl rfl)
theorem dX3_drag_13 : decode cX3_drag 13 = .ok (.bipush 9, 2) := dk_16 9 (dk_at dksX3_drag_0 13 rfl rfl)
theorem dX3_drag_15 : decode cX3_drag 15 = .ok (.aload_n 0, 1) := dk_42 (dk_at dksX3_drag_0 15 rfl rfl)
theorem dX3_drag_16 : decode cX3_drag 16 = .ok (.iload_n 2, 1) := dk_28 (dk_at dksX3_drag_0 16 rfl rfl)
theorem dX3_drag_17 : decode cX3_drag 17 = .ok (.iconst 1, 1) := dk_4 (dk_at dksX3_drag_0 17 rfl rfl)
theorem dX3_drag_18 : decode cX3_drag 18 = .ok (.invokevirtual 89, 3) := dk_182 0 89 (dk_at dksX3_drag_0 18 rfl rfl)
theorem dX3_drag_21 : decode cX3_drag 21 = .ok (.isub, 1) := dk_100 (dk_at dksX3_drag_0 21 rfl rfl)
theorem dX3_drag_22 : decode cX3_drag 22 = .ok (.iconst 2, 1) := dk_5 (dk_at dksX3_drag_0 22 rfl rfl)
theorem dX3_drag_23 : decode cX3_drag 23 = .ok (.idiv, 1) := dk_108 (dk_at dksX3_drag_0 23 rfl rfl)
theorem dX3_drag_24 : decode cX3_drag 24 = .ok (.iadd, 1) := dk_96 (dk_at dksX3_drag_1 0 rfl rfl)
theorem dX3_drag_25 : decode cX3_drag 25 = .ok (.ireturn, 1) := dk_172 (dk_at dksX3_drag_1 1 rfl rfl)
abbrev cX3_apart : ByteArray := prog_11_method_7_code
def yX3_apart : MethodName := ⟨RX3, "apart", "(II)I"⟩
def dkwX3_apart_0 : List UInt8 := [26, 27, 162, 0, 9, 27, 26, 100, 167, 0, 6, 26, 27, 100, 172]
abbrev dktX3_apart_0 : List UInt8 := dkwX3_apart_0 ++ []
theorem dksX3_apart_0 : cX3_apart.data.toList.drop 0 = dktX3_apart_0 := by decide +kernel
theorem dX3_apart_0 : decode cX3_apart 0 = .ok (.iload_n 0, 1) := dk_26 (dk_at dksX3_apart_0 0 rfl rfl)
theorem dX3_apart_1 : decode cX3_apart 1 = .ok (.iload_n 1, 1) := dk_27 (dk_at dksX3_apart_0 1 rfl rfl)
theorem dX3_apart_2 : decode cX3_apart 2 = .ok (.if_icmp .ge 9, 3) := dk_162 0 9 (dk_at dksX3_apart_0 2 rfl rfl)
theorem dX3_apart_5 : decode cX3_apart 5 = .ok (.iload_n 1, 1) := dk_27 (dk_at dksX3_apart_0 5 rfl rfl)
theorem dX3_apart_6 : decode cX3_apart 6 = .ok (.iload_n 0, 1) := dk_26 (dk_at dksX3_apart_0 6 rfl rfl)
theorem dX3_apart_7 : decode cX3_apart 7 = .ok (.isub, 1) := dk_100 (dk_at dksX3_apart_0 7 rfl rfl)
theorem dX3_apart_8 : decode cX3_apart 8 = .ok (.goto 6, 3) := dk_167 0 6 (dk_at dksX3_apart_0 8 rfl rfl)
theorem dX3_apart_11 : decode cX3_apart 11 = .ok (.iload_n 0, 1) := dk_26 (dk_at dksX3_apart_0 11 rfl rfl)
theorem dX3_apart_12 : decode cX3_apart 12 = .ok (.iload_n 1, 1) := dk_27 (dk_at dksX3_apart_0 12 rfl rfl)
theorem dX3_apart_13 : decode cX3_apart 13 = .ok (.isub, 1) := dk_100 (dk_at dksX3_apart_0 13 rfl rfl)
theorem dX3_apart_14 : decode cX3_apart 14 = .ok (.ireturn, 1) := dk_172 (dk_at dksX3_apart_0 14 rfl rfl)
abbrev cX3_strength : ByteArray := prog_11_method_36_code
def yX3_strength : MethodName := ⟨RX3, "strength", "(II)I"⟩
def dkwX3_strength_1 : List UInt8 := [182, 0, 66, 100, 172]
abbrev dktX3_strength_1 : List UInt8 := dkwX3_strength_1 ++ []
def dkwX3_strength_0 : List UInt8 := [28, 42, 27, 3, 182, 0, 66, 5, 96, 104, 42, 27, 5, 182, 0, 66, 8, 108, 96, 42, 27, 4]
abbrev dktX3_strength_0 : List UInt8 := dkwX3_strength_0 ++ dktX3_strength_1
theorem dksX3_strength_0 : cX3_strength.data.toList.drop 0 = dktX3_strength_0 := by decide +kernel
theorem dksX3_strength_1 : cX3_strength.data.toList.drop 22 = dktX3_strength_1 := dk_seg dksX3_strength_0 22 rfl rfl
theorem dX3_strength_0 : decode cX3_strength 0 = .ok (.iload_n 2, 1) := dk_28 (dk_at dksX3_strength_0 0 rfl rfl)
theorem dX3_strength_1 : decode cX3_strength 1 = .ok (.aload_n 0, 1) := dk_42 (dk_at dksX3_strength_0 1 rfl rfl)
theorem dX3_strength_2 : decode cX3_strength 2 = .ok (.iload_n 1, 1) := dk_27 (dk_at dksX3_strength_0 2 rfl rfl)
theorem dX3_strength_3 : decode cX3_strength 3 = .ok (.iconst 0, 1) := dk_3 (dk_at dksX3_strength_0 3 rfl rfl)
theorem dX3_strength_4 : decode cX3_strength 4 = .ok (.invokevirtual 66, 3) := dk_182 0 66 (dk_at dksX3_strength_0 4 rfl rfl)
theorem dX3_strength_7 : decode cX3_strength 7 = .ok (.iconst 2, 1) := dk_5 (dk_at dksX3_strength_0 7 rfl rfl)
theorem dX3_strength_8 : decode cX3_strength 8 = .ok (.iadd, 1) := dk_96 (dk_at dksX3_strength_0 8 rfl rfl)
theorem dX3_strength_9 : decode cX3_strength 9 = .ok (.imul, 1) := dk_104 (dk_at dksX3_strength_0 9 rfl rfl)
theorem dX3_strength_10 : decode cX3_strength 10 = .ok (.aload_n 0, 1) := dk_42 (dk_at dksX3_strength_0 10 rfl rfl)
theorem dX3_strength_11 : decode cX3_strength 11 = .ok (.iload_n 1, 1) := dk_27 (dk_at dksX3_strength_0 11 rfl rfl)
theorem dX3_strength_12 : decode cX3_strength 12 = .ok (.iconst 2, 1) := dk_5 (dk_at dksX3_strength_0 12 rfl rfl)
theorem dX3_strength_13 : decode cX3_strength 13 = .ok (.invokevirtual 66, 3) := dk_182 0 66 (dk_at dksX3_strength_0 13 rfl rfl)
theorem dX3_strength_16 : decode cX3_strength 16 = .ok (.iconst 5, 1) := dk_8 (dk_at dksX3_strength_0 16 rfl rfl)
theorem dX3_strength_17 : decode cX3_strength 17 = .ok (.idiv, 1) := dk_108 (dk_at dksX3_strength_0 17 rfl rfl)
theorem dX3_strength_18 : decode cX3_strength 18 = .ok (.iadd, 1) := dk_96 (dk_at dksX3_strength_0 18 rfl rfl)
theorem dX3_strength_19 : decode cX3_strength 19 = .ok (.aload_n 0, 1) := dk_42 (dk_at dksX3_strength_0 19 rfl rfl)
theorem dX3_strength_20 : decode cX3_strength 20 = .ok (.iload_n 1, 1) := dk_27 (dk_at dksX3_strength_0 20 rfl rfl)
theorem dX3_strength_21 : decode cX3_strength 21 = .ok (.iconst 1, 1) := dk_4 (dk_at dksX3_strength_0 21 rfl rfl)
theorem dX3_strength_22 : decode cX3_strength 22 = .ok (.invokevirtual 66, 3) := dk_182 0 66 (dk_at dksX3_strength_1 0 rfl rfl)
theorem dX3_strength_25 : decode cX3_strength 25 = .ok (.isub, 1) := dk_100 (dk_at dksX3_strength_1 3 rfl rfl)
theorem dX3_strength_26 : decode cX3_strength 26 = .ok (.ireturn, 1) := dk_172 (dk_at dksX3_strength_1 4 rfl rfl)
abbrev cX3_skim : ByteArray := prog_11_method_43_code
def yX3_skim : MethodName := ⟨RX3, "skim", "(IIII)I"⟩
def dkwX3_skim_14 : List UInt8 := [16, 8, 46, 96, 27, 79, 42, 180, 0, 7, 16, 8, 92, 46, 4, 96, 79, 21, 5, 116, 172]
abbrev dktX3_skim_14 : List UInt8 := dkwX3_skim_14 ++ []
def dkwX3_skim_13 : List UInt8 := [16, 6, 28, 104, 96, 7, 96, 92, 46, 4, 96, 79, 42, 180, 0, 7, 17, 1, 38, 42, 180, 0, 7]
abbrev dktX3_skim_13 : List UInt8 := dkwX3_skim_13 ++ dktX3_skim_14
def dkwX3_skim_12 : List UInt8 := [182, 0, 82, 42, 27, 16, 10, 42, 180, 0, 7, 5, 46, 182, 0, 82, 42, 180, 0, 7, 17, 0, 150]
abbrev dktX3_skim_12 : List UInt8 := dkwX3_skim_12 ++ dktX3_skim_13
def dkwX3_skim_11 : List UInt8 := [182, 0, 82, 42, 180, 0, 7, 16, 6, 92, 46, 4, 96, 79, 21, 5, 172, 42, 27, 8, 16, 254]
abbrev dktX3_skim_11 : List UInt8 := dkwX3_skim_11 ++ dktX3_skim_12
def dkwX3_skim_10 : List UInt8 := [42, 27, 8, 28, 182, 0, 82, 42, 27, 5, 42, 27, 5, 182, 0, 66, 21, 5, 96, 16, 99, 184, 0, 130]
abbrev dktX3_skim_10 : List UInt8 := dkwX3_skim_10 ++ dktX3_skim_11
def dkwX3_skim_9 : List UInt8 := [21, 5, 79, 42, 180, 0, 7, 17, 0, 150, 16, 6, 28, 104, 96, 6, 96, 27, 79, 21, 6, 153, 0, 44]
abbrev dktX3_skim_9 : List UInt8 := dkwX3_skim_9 ++ dktX3_skim_10
def dkwX3_skim_8 : List UInt8 := [42, 28, 5, 182, 0, 89, 164, 0, 36, 42, 180, 0, 7, 17, 0, 150, 16, 6, 28, 104, 96, 5, 96]
abbrev dktX3_skim_8 : List UInt8 := dkwX3_skim_8 ++ dktX3_skim_9
def dkwX3_skim_7 : List UInt8 := [79, 42, 180, 0, 7, 16, 7, 92, 46, 21, 5, 96, 79, 42, 28, 6, 182, 0, 89, 155, 0, 14, 21, 5]
abbrev dktX3_skim_7 : List UInt8 := dkwX3_skim_7 ++ dktX3_skim_8
def dkwX3_skim_6 : List UInt8 := [16, 7, 42, 27, 16, 7, 182, 0, 66, 21, 5, 96, 182, 0, 82, 42, 180, 0, 7, 8, 92, 46, 4, 96]
abbrev dktX3_skim_6 : List UInt8 := dkwX3_skim_6 ++ dktX3_skim_7
def dkwX3_skim_5 : List UInt8 := [167, 0, 4, 3, 54, 6, 42, 27, 16, 6, 42, 27, 16, 6, 182, 0, 66, 4, 96, 182, 0, 82, 42, 27]
abbrev dktX3_skim_5 : List UInt8 := dkwX3_skim_5 ++ dktX3_skim_6
def dkwX3_skim_4 : List UInt8 := [182, 0, 141, 54, 5, 42, 27, 28, 29, 21, 4, 182, 0, 145, 42, 28, 3, 182, 0, 89, 161, 0, 7, 4]
abbrev dktX3_skim_4 : List UInt8 := dkwX3_skim_4 ++ dktX3_skim_5
def dkwX3_skim_3 : List UInt8 := [28, 3, 182, 0, 92, 182, 0, 74, 172, 42, 42, 180, 0, 7, 182, 0, 78, 42, 27, 28, 29, 21, 4]
abbrev dktX3_skim_3 : List UInt8 := dkwX3_skim_3 ++ dktX3_skim_4
def dkwX3_skim_2 : List UInt8 := [42, 27, 8, 182, 0, 66, 182, 0, 74, 172, 42, 28, 3, 182, 0, 92, 27, 159, 0, 16, 42, 6, 6, 42]
abbrev dktX3_skim_2 : List UInt8 := dkwX3_skim_2 ++ dktX3_skim_3
def dkwX3_skim_1 : List UInt8 := [7, 42, 27, 16, 10, 182, 0, 66, 182, 0, 74, 172, 42, 27, 8, 182, 0, 66, 155, 0, 16, 42, 6, 8]
abbrev dktX3_skim_1 : List UInt8 := dkwX3_skim_1 ++ dktX3_skim_2
def dkwX3_skim_0 : List UInt8 := [42, 27, 28, 29, 21, 4, 182, 0, 137, 153, 0, 5, 3, 172, 42, 27, 182, 0, 118, 153, 0, 17, 42, 6]
abbrev dktX3_skim_0 : List UInt8 := dkwX3_skim_0 ++ dktX3_skim_1
theorem dksX3_skim_0 : cX3_skim.data.toList.drop 0 = dktX3_skim_0 := by decide +kernel
theorem dksX3_skim_1 : cX3_skim.data.toList.drop 24 = dktX3_skim_1 := dk_seg dksX3_skim_0 24 rfl rfl
theorem dksX3_skim_2 : cX3_skim.data.toList.drop 48 = dktX3_skim_2 := dk_seg dksX3_skim_1 24 rfl rfl
theorem dksX3_skim_3 : cX3_skim.data.toList.drop 72 = dktX3_skim_3 := dk_seg dksX3_skim_2 24 rfl rfl
theorem dksX3_skim_4 : cX3_skim.data.toList.drop 95 = dktX3_skim_4 := dk_seg dksX3_skim_3 23 rfl rfl
theorem dksX3_skim_5 : cX3_skim.data.toList.drop 119 = dktX3_skim_5 := dk_seg dksX3_skim_4 24 rfl rfl
theorem dksX3_skim_6 : cX3_skim.data.toList.drop 143 = dktX3_skim_6 := dk_seg dksX3_skim_5 24 rfl rfl
theorem dksX3_skim_7 : cX3_skim.data.toList.drop 167 = dktX3_skim_7 := dk_seg dksX3_skim_6 24 rfl rfl
theorem dksX3_skim_8 : cX3_skim.data.toList.drop 191 = dktX3_skim_8 := dk_seg dksX3_skim_7 24 rfl rfl
theorem dksX3_skim_9 : cX3_skim.data.toList.drop 214 = dktX3_skim_9 := dk_seg dksX3_skim_8 23 rfl rfl
theorem dksX3_skim_10 : cX3_skim.data.toList.drop 238 = dktX3_skim_10 := dk_seg dksX3_skim_9 24 rfl rfl
theorem dksX3_skim_11 : cX3_skim.data.toList.drop 262 = dktX3_skim_11 := dk_seg dksX3_skim_10 24 rfl rfl
theorem dksX3_skim_12 : cX3_skim.data.toList.drop 284 = dktX3_skim_12 := dk_seg dksX3_skim_11 22 rfl rfl
theorem dksX3_skim_13 : cX3_skim.data.toList.drop 307 = dktX3_skim_13 := dk_seg dksX3_skim_12 23 rfl rfl
theorem dksX3_skim_14 : cX3_skim.data.toList.drop 330 = dktX3_skim_14 := dk_seg dksX3_skim_13 23 rfl rfl
theorem dX3_skim_0 : decode cX3_skim 0 = .ok (.aload_n 0, 1) := dk_42 (dk_at dksX3_skim_0 0 rfl rfl)
theorem dX3_skim_1 : decode cX3_skim 1 = .ok (.iload_n 1, 1) := dk_27 (dk_at dksX3_skim_0 1 rfl rfl)
theorem dX3_skim_2 : decode cX3_skim 2 = .ok (.iload_n 2, 1) := dk_28 (dk_at dksX3_skim_0 2 rfl rfl)
theorem dX3_skim_3 : decode cX3_skim 3 = .ok (.iload_n 3, 1) := dk_29 (dk_at dksX3_skim_0 3 rfl rfl)
theorem dX3_skim_4 : decode cX3_skim 4 = .ok (.iload 4, 2) := dk_21 4 (dk_at dksX3_skim_0 4 rfl rfl)
theorem dX3_skim_6 : decode cX3_skim 6 = .ok (.invokevirtual 137, 3) := dk_182 0 137 (dk_at dksX3_skim_0 6 rfl rfl)
theorem dX3_skim_9 : decode cX3_skim 9 = .ok (.ifCond .eq 5, 3) := dk_153 0 5 (dk_at dksX3_skim_0 9 rfl rfl)
theorem dX3_skim_12 : decode cX3_skim 12 = .ok (.iconst 0, 1) := dk_3 (dk_at dksX3_skim_0 12 rfl rfl)
theorem dX3_skim_13 : decode cX3_skim 13 = .ok (.ireturn, 1) := dk_172 (dk_at dksX3_skim_0 13 rfl rfl)
theorem dX3_skim_14 : decode cX3_skim 14 = .ok (.aload_n 0, 1) := dk_42 (dk_at dksX3_skim_0 14 rfl rfl)
theorem dX3_skim_15 : decode cX3_skim 15 = .ok (.iload_n 1, 1) := dk_27 (dk_at dksX3_skim_0 15 rfl rfl)
theorem dX3_skim_16 : decode cX3_skim 16 = .ok (.invokevirtual 118, 3) := dk_182 0 118 (dk_at dksX3_skim_0 16 rfl rfl)
theorem dX3_skim_19 : decode cX3_skim 19 = .ok (.ifCond .eq 17, 3) := dk_153 0 17 (dk_at dksX3_skim_0 19 rfl rfl)
theorem dX3_skim_22 : decode cX3_skim 22 = .ok (.aload_n 0, 1) := dk_42 (dk_at dksX3_skim_0 22 rfl rfl)
theorem dX3_skim_23 : decode cX3_skim 23 = .ok (.iconst 3, 1) := dk_6 (dk_at dksX3_skim_0 23 rfl rfl)
theorem dX3_skim_24 : decode cX3_skim 24 = .ok (.iconst 4, 1) := dk_7 (dk_at dksX3_skim_1 0 rfl rfl)
theorem dX3_skim_25 : decode cX3_skim 25 = .ok (.aload_n 0, 1) := dk_42 (dk_at dksX3_skim_1 1 rfl rfl)
theorem dX3_skim_26 : decode cX3_skim 26 = .ok (.iload_n 1, 1) := dk_27 (dk_at dksX3_skim_1 2 rfl rfl)
theorem dX3_skim_27 : decode cX3_skim 27 = .ok (.bipush 10, 2) := dk_16 10 (dk_at dksX3_skim_1 3 rfl rfl)
theorem dX3_skim_29 : decode cX3_skim 29 = .ok (.invokevirtual 66, 3) := dk_182 0 66 (dk_at dksX3_skim_1 5 rfl rfl)
theorem dX3_skim_32 : decode cX3_skim 32 = .ok (.invokevirtual 74, 3) := dk_182 0 74 (dk_at dksX3_skim_1 8 rfl rfl)
theorem dX3_skim_35 : decode cX3_skim 35 = .ok (.ireturn, 1) := dk_172 (dk_at dksX3_skim_1 11 rfl rfl)
theorem dX3_skim_36 : decode cX3_skim 36 = .ok (.aload_n 0, 1) := dk_42 (dk_at dksX3_skim_1 12 rfl rfl)
theorem dX3_skim_37 : decode cX3_skim 37 = .ok (.iload_n 1, 1) := dk_27 (dk_at dksX3_skim_1 13 rfl rfl)
theorem dX3_skim_38 : decode cX3_skim 38 = .ok (.iconst 5, 1) := dk_8 (dk_at dksX3_skim_1 14 rfl rfl)
theorem dX3_skim_39 : decode cX3_skim 39 = .ok (.invokevirtual 66, 3) := dk_182 0 66 (dk_at dksX3_skim_1 15 rfl rfl)
theorem dX3_skim_42 : decode cX3_skim 42 = .ok (.ifCond .lt 16, 3) := dk_155 0 16 (dk_at dksX3_skim_1 18 rfl rfl)
theorem dX3_skim_45 : decode cX3_skim 45 = .ok (.aload_n 0, 1) := dk_42 (dk_at dksX3_skim_1 21 rfl rfl)
theorem dX3_skim_46 : decode cX3_skim 46 = .ok (.iconst 3, 1) := dk_6 (dk_at dksX3_skim_1 22 rfl rfl)
theorem dX3_skim_47 : decode cX3_skim 47 = .ok (.iconst 5, 1) := dk_8 (dk_at dksX3_skim_1 23 rfl rfl)
theorem dX3_skim_48 : decode cX3_skim 48 = .ok (.aload_n 0, 1) := dk_42 (dk_at dksX3_skim_2 0 rfl rfl)
theorem dX3_skim_49 : decode cX3_skim 49 = .ok (.iload_n 1, 1) := dk_27 (dk_at dksX3_skim_2 1 rfl rfl)
theorem dX3_skim_50 : decode cX3_skim 50 = .ok (.iconst 5, 1) := dk_8 (dk_at dksX3_skim_2 2 rfl rfl)
theorem dX3_skim_51 : decode cX3_skim 51 = .ok (.invokevirtual 66, 3) := dk_182 0 66 (dk_at dksX3_skim_2 3 rfl rfl)
theorem dX3_skim_54 : decode cX3_skim 54 = .ok (.invokevirtual 74, 3) := dk_182 0 74 (dk_at dksX3_skim_2 6 rfl rfl)
theorem dX3_skim_57 : decode cX3_skim 57 = .ok (.ireturn, 1) := dk_172 (dk_at dksX3_skim_2 9 rfl rfl)
theorem dX3_skim_58 : decode cX3_skim 58 = .ok (.aload_n 0, 1) := dk_42 (dk_at dksX3_skim_2 10 rfl rfl)
theorem dX3_skim_59 : decode cX3_skim 59 = .ok (.iload_n 2, 1) := dk_28 (dk_at dksX3_skim_2 11 rfl rfl)
theorem dX3_skim_60 : decode cX3_skim 60 = .ok (.iconst 0, 1) := dk_3 (dk_at dksX3_skim_2 12 rfl rfl)
theorem dX3_skim_61 : decode cX3_skim 61 = .ok (.invokevirtual 92, 3) := dk_182 0 92 (dk_at dksX3_skim_2 13 rfl rfl)
theorem dX3_skim_64 : decode cX3_skim 64 = .ok (.iload_n 1, 1) := dk_27 (dk_at dksX3_skim_2 16 rfl rfl)
theorem dX3_skim_65 : decode cX3_skim 65 = .ok (.if_icmp .eq 16, 3) := dk_159 0 16 (dk_at dksX3_skim_2 17 rfl rfl)
theorem dX3_skim_68 : decode cX3_skim 68 = .ok (.aload_n 0, 1) := dk_42 (dk_at dksX3_skim_2 20 rfl rfl)
theorem dX3_skim_69 : decode cX3_skim 69 = .ok (.iconst 3, 1) := dk_6 (dk_at dksX3_skim_2 21 rfl rfl)
theorem dX3_skim_70 : decode cX3_skim 70 = .ok (.iconst 3, 1) := dk_6 (dk_at dksX3_skim_2 22 rfl rfl)
theorem dX3_skim_71 : decode cX3_skim 71 = .ok (.aload_n 0, 1) := dk_42 (dk_at dksX3_skim_2 23 rfl rfl)
theorem dX3_skim_72 : decode cX3_skim 72 = .ok (.iload_n 2, 1) := dk_28 (dk_at dksX3_skim_3 0 rfl rfl)
theorem dX3_skim_73 : decode cX3_skim 73 = .ok (.iconst 0, 1) := dk_3 (dk_at dksX3_skim_3 1 rfl rfl)
theorem dX3_skim_74 : decode cX3_skim 74 = .ok (.invokevirtual 92, 3) := dk_182 0 92 (dk_at dksX3_skim_3 2 rfl rfl)
theorem dX3_skim_77 : decode cX3_skim 77 = .ok (.invokevirtual 74, 3) := dk_182 0 74 (dk_at dksX3_skim_3 5 rfl rfl)
theorem dX3_skim_80 : decode cX3_skim 80 = .ok (.ireturn, 1) := dk_172 (dk_at dksX3_skim_3 8 rfl rfl)
theorem dX3_skim_81 : decode cX3_skim 81 = .ok (.aload_n 0, 1) := dk_42 (dk_at dksX3_skim_3 9 rfl rfl)
theorem dX3_skim_82 : decode cX3_skim 82 = .ok (.aload_n 0, 1) := dk_42 (dk_at dksX3_skim_3 10 rfl rfl)
theorem dX3_skim_83 : decode cX3_skim 83 = .ok (.getfield 7, 3) := dk_180 0 7 (dk_at dksX3_skim_3 11 rfl rfl)
theorem dX3_skim_86 : decode cX3_skim 86 = .ok (.invokevirtual 78, 3) := dk_182 0 78 (dk_at dksX3_skim_3 14 rfl rfl)
theorem dX3_skim_89 : decode cX3_skim 89 = .ok (.aload_n 0, 1) := dk_42 (dk_at dksX3_skim_3 17 rfl rfl)
theorem dX3_skim_90 : decode cX3_skim 90 = .ok (.iload_n 1, 1) := dk_27 (dk_at dksX3_skim_3 18 rfl rfl)
theorem dX3_skim_91 : decode cX3_skim 91 = .ok (.iload_n 2, 1) := dk_28 (dk_at dksX3_skim_3 19 rfl rfl)
theorem dX3_skim_92 : decode cX3_skim 92 = .ok (.iload_n 3, 1) := dk_29 (dk_at dksX3_skim_3 20 rfl rfl)
theorem dX3_skim_93 : decode cX3_skim 93 = .ok (.iload 4, 2) := dk_21 4 (dk_at dksX3_skim_3 21 rfl rfl)
theorem dX3_skim_95 : decode cX3_skim 95 = .ok (.invokevirtual 141, 3) := dk_182 0 141 (dk_at dksX3_skim_4 0 rfl rfl)
theorem dX3_skim_98 : decode cX3_skim 98 = .ok (.istore 5, 2) := dk_54 5 (dk_at dksX3_skim_4 3 rfl rfl)
theorem dX3_skim_100 : decode cX3_skim 100 = .ok (.aload_n 0, 1) := dk_42 (dk_at dksX3_skim_4 5 rfl rfl)
theorem dX3_skim_101 : decode cX3_skim 101 = .ok (.iload_n 1, 1) := dk_27 (dk_at dksX3_skim_4 6 rfl rfl)
theorem dX3_skim_102 : decode cX3_skim 102 = .ok (.iload_n 2, 1) := dk_28 (dk_at dksX3_skim_4 7 rfl rfl)
theorem dX3_skim_103 : decode cX3_skim 103 = .ok (.iload_n 3, 1) := dk_29 (dk_at dksX3_skim_4 8 rfl rfl)
theorem dX3_skim_104 : decode cX3_skim 104 = .ok (.iload 4, 2) := dk_21 4 (dk_at dksX3_skim_4 9 rfl rfl)
theorem dX3_skim_106 : decode cX3_skim 106 = .ok (.invokevirtual 145, 3) := dk_182 0 145 (dk_at dksX3_skim_4 11 rfl rfl)
theorem dX3_skim_109 : decode cX3_skim 109 = .ok (.aload_n 0, 1) := dk_42 (dk_at dksX3_skim_4 14 rfl rfl)
theorem dX3_skim_110 : decode cX3_skim 110 = .ok (.iload_n 2, 1) := dk_28 (dk_at dksX3_skim_4 15 rfl rfl)
theorem dX3_skim_111 : decode cX3_skim 111 = .ok (.iconst 0, 1) := dk_3 (dk_at dksX3_skim_4 16 rfl rfl)
theorem dX3_skim_112 : decode cX3_skim 112 = .ok (.invokevirtual 89, 3) := dk_182 0 89 (dk_at dksX3_skim_4 17 rfl rfl)
theorem dX3_skim_115 : decode cX3_skim 115 = .ok (.if_icmp .lt 7, 3) := dk_161 0 7 (dk_at dksX3_skim_4 20 rfl rfl)
theorem dX3_skim_118 : decode cX3_skim 118 = .ok (.iconst 1, 1) := dk_4 (dk_at dksX3_skim_4 23 rfl rfl)
theorem dX3_skim_119 : decode cX3_skim 119 = .ok (.goto 4, 3) := dk_167 0 4 (dk_at dksX3_skim_5 0 rfl rfl)
theorem dX3_skim_122 : decode cX3_skim 122 = .ok (.iconst 0, 1) := dk_3 (dk_at dksX3_skim_5 3 rfl rfl)
theorem dX3_skim_123 : decode cX3_skim 123 = .ok (.istore 6, 2) := dk_54 6 (dk_at dksX3_skim_5 4 rfl rfl)
theorem dX3_skim_125 : decode cX3_skim 125 = .ok (.aload_n 0, 1) := dk_42 (dk_at dksX3_skim_5 6 rfl rfl)
theorem dX3_skim_126 : decode cX3_skim 126 = .ok (.iload_n 1, 1) := dk_27 (dk_at dksX3_skim_5 7 rfl rfl)
theorem dX3_skim_127 : decode cX3_skim 127 = .ok (.bipush 6, 2) := dk_16 6 (dk_at dksX3_skim_5 8 rfl rfl)
theorem dX3_skim_129 : decode cX3_skim 129 = .ok (.aload_n 0, 1) := dk_42 (dk_at dksX3_skim_5 10 rfl rfl)
theorem dX3_skim_130 : decode cX3_skim 130 = .ok (.iload_n 1, 1) := dk_27 (dk_at dksX3_skim_5 11 rfl rfl)
theorem dX3_skim_131 : decode cX3_skim 131 = .ok (.bipush 6, 2) := dk_16 6 (dk_at dksX3_skim_5 12 rfl rfl)
theorem dX3_skim_133 : decode cX3_skim 133 = .ok (.invokevirtual 66, 3) := dk_182 0 66 (dk_at dksX3_skim_5 14 rfl rfl)
theorem dX3_skim_136 : decode cX3_skim 136 = .ok (.iconst 1, 1) := dk_4 (dk_at dksX3_skim_5 17 rfl rfl)
theorem dX3_skim_137 : decode cX3_skim 137 = .ok (.iadd, 1) := dk_96 (dk_at dksX3_skim_5 18 rfl rfl)
theorem dX3_skim_138 : decode cX3_skim 138 = .ok (.invokevirtual 82, 3) := dk_182 0 82 (dk_at dksX3_skim_5 19 rfl rfl)
theorem dX3_skim_141 : decode cX3_skim 141 = .ok (.aload_n 0, 1) := dk_42 (dk_at dksX3_skim_5 22 rfl rfl)
theorem dX3_skim_142 : decode cX3_skim 142 = .ok (.iload_n 1, 1) := dk_27 (dk_at dksX3_skim_5 23 rfl rfl)
theorem dX3_skim_143 : decode cX3_skim 143 = .ok (.bipush 7, 2) := dk_16 7 (dk_at dksX3_skim_6 0 rfl rfl)
theorem dX3_skim_145 : decode cX3_skim 145 = .ok (.aload_n 0, 1) := dk_42 (dk_at dksX3_skim_6 2 rfl rfl)
theorem dX3_skim_146 : decode cX3_skim 146 = .ok (.iload_n 1, 1) := dk_27 (dk_at dksX3_skim_6 3 rfl rfl)
theorem dX3_skim_147 : decode cX3_skim 147 = .ok (.bipush 7, 2) := dk_16 7 (dk_at dksX3_skim_6 4 rfl rfl)
theorem dX3_skim_149 : decode cX3_skim 149 = .ok (.invokevirtual 66, 3) := dk_182 0 66 (dk_at dksX3_skim_6 6 rfl rfl)
theorem dX3_skim_152 : decode cX3_skim 152 = .ok (.iload 5, 2) := dk_21 5 (dk_at dksX3_skim_6 9 rfl rfl)
theorem dX3_skim_154 : decode cX3_skim 154 = .ok (.iadd, 1) := dk_96 (dk_at dksX3_skim_6 11 rfl rfl)
theorem dX3_skim_155 : decode cX3_skim 155 = .ok (.invokevirtual 82, 3) := dk_182 0 82 (dk_at dksX3_skim_6 12 rfl rfl)
theorem dX3_skim_158 : decode cX3_skim 158 = .ok (.aload_n 0, 1) := dk_42 (dk_at dksX3_skim_6 15 rfl rfl)
theorem dX3_skim_159 : decode cX3_skim 159 = .ok (.getfield 7, 3) := dk_180 0 7 (dk_at dksX3_skim_6 16 rfl rfl)
theorem dX3_skim_162 : decode cX3_skim 162 = .ok (.iconst 5, 1) := dk_8 (dk_at dksX3_skim_6 19 rfl rfl)
theorem dX3_skim_163 : decode cX3_skim 163 = .ok (.dup2, 1) := dk_92 (dk_at dksX3_skim_6 20 rfl rfl)
theorem dX3_skim_164 : decode cX3_skim 164 = .ok (.iaload, 1) := dk_46 (dk_at dksX3_skim_6 21 rfl rfl)
theorem dX3_skim_165 : decode cX3_skim 165 = .ok (.iconst 1, 1) := dk_4 (dk_at dksX3_skim_6 22 rfl rfl)
theorem dX3_skim_166 : decode cX3_skim 166 = .ok (.iadd, 1) := dk_96 (dk_at dksX3_skim_6 23 rfl rfl)
theorem dX3_skim_167 : decode cX3_skim 167 = .ok (.iastore, 1) := dk_79 (dk_at dksX3_skim_7 0 rfl rfl)
theorem dX3_skim_168 : decode cX3_skim 168 = .ok (.aload_n 0, 1) := dk_42 (dk_at dksX3_skim_7 1 rfl rfl)
theorem dX3_skim_169 : decode cX3_skim 169 = .ok (.getfield 7, 3) := dk_180 0 7 (dk_at dksX3_skim_7 2 rfl rfl)
theorem dX3_skim_172 : decode cX3_skim 172 = .ok (.bipush 7, 2) := dk_16 7 (dk_at dksX3_skim_7 5 rfl rfl)
theorem dX3_skim_174 : decode cX3_skim 174 = .ok (.dup2, 1) := dk_92 (dk_at dksX3_skim_7 7 rfl rfl)
theorem dX3_skim_175 : decode cX3_skim 175 = .ok (.iaload, 1) := dk_46 (dk_at dksX3_skim_7 8 rfl rfl)
theorem dX3_skim_176 : decode cX3_skim 176 = .ok (.iload 5, 2) := dk_21 5 (dk_at dksX3_skim_7 9 rfl rfl)
theorem dX3_skim_178 : decode cX3_skim 178 = .ok (.iadd, 1) := dk_96 (dk_at dksX3_skim_7 11 rfl rfl)
theorem dX3_skim_179 : decode cX3_skim 179 = .ok (.iastore, 1) := dk_79 (dk_at dksX3_skim_7 12 rfl rfl)
theorem dX3_skim_180 : decode cX3_skim 180 = .ok (.aload_n 0, 1) := dk_42 (dk_at dksX3_skim_7 13 rfl rfl)
theorem dX3_skim_181 : decode cX3_skim 181 = .ok (.iload_n 2, 1) := dk_28 (dk_at dksX3_skim_7 14 rfl rfl)
theorem dX3_skim_182 : decode cX3_skim 182 = .ok (.iconst 3, 1) := dk_6 (dk_at dksX3_skim_7 15 rfl rfl)
theorem dX3_skim_183 : decode cX3_skim 183 = .ok (.invokevirtual 89, 3) := dk_182 0 89 (dk_at dksX3_skim_7 16 rfl rfl)
theorem dX3_skim_186 : decode cX3_skim 186 = .ok (.ifCond .lt 14, 3) := dk_155 0 14 (dk_at dksX3_skim_7 19 rfl rfl)
theorem dX3_skim_189 : decode cX3_skim 189 = .ok (.iload 5, 2) := dk_21 5 (dk_at dksX3_skim_7 22 rfl rfl)
theorem dX3_skim_191 : decode cX3_skim 191 = .ok (.aload_n 0, 1) := dk_42 (dk_at dksX3_skim_8 0 rfl rfl)
theorem dX3_skim_192 : decode cX3_skim 192 = .ok (.iload_n 2, 1) := dk_28 (dk_at dksX3_skim_8 1 rfl rfl)
theorem dX3_skim_193 : decode cX3_skim 193 = .ok (.iconst 2, 1) := dk_5 (dk_at dksX3_skim_8 2 rfl rfl)
theorem dX3_skim_194 : decode cX3_skim 194 = .ok (.invokevirtual 89, 3) := dk_182 0 89 (dk_at dksX3_skim_8 3 rfl rfl)
theorem dX3_skim_197 : decode cX3_skim 197 = .ok (.if_icmp .le 36, 3) := dk_164 0 36 (dk_at dksX3_skim_8 6 rfl rfl)
theorem dX3_skim_200 : decode cX3_skim 200 = .ok (.aload_n 0, 1) := dk_42 (dk_at dksX3_skim_8 9 rfl rfl)
theorem dX3_skim_201 : decode cX3_skim 201 = .ok (.getfield 7, 3) := dk_180 0 7 (dk_at dksX3_skim_8 10 rfl rfl)
theorem dX3_skim_204 : decode cX3_skim 204 = .ok (.sipush 150, 3) := dk_17 0 150 (dk_at dksX3_skim_8 13 rfl rfl)
theorem dX3_skim_207 : decode cX3_skim 207 = .ok (.bipush 6, 2) := dk_16 6 (dk_at dksX3_skim_8 16 rfl rfl)
theorem dX3_skim_209 : decode cX3_skim 209 = .ok (.iload_n 2, 1) := dk_28 (dk_at dksX3_skim_8 18 rfl rfl)
theorem dX3_skim_210 : decode cX3_skim 210 = .ok (.imul, 1) := dk_104 (dk_at dksX3_skim_8 19 rfl rfl)
theorem dX3_skim_211 : decode cX3_skim 211 = .ok (.iadd, 1) := dk_96 (dk_at dksX3_skim_8 20 rfl rfl)
theorem dX3_skim_212 : decode cX3_skim 212 = .ok (.iconst 2, 1) := dk_5 (dk_at dksX3_skim_8 21 rfl rfl)
theorem dX3_skim_213 : decode cX3_skim 213 = .ok (.iadd, 1) := dk_96 (dk_at dksX3_skim_8 22 rfl rfl)
theorem dX3_skim_214 : decode cX3_skim 214 = .ok (.iload 5, 2) := dk_21 5 (dk_at dksX3_skim_9 0 rfl rfl)
theorem dX3_skim_216 : decode cX3_skim 216 = .ok (.iastore, 1) := dk_79 (dk_at dksX3_skim_9 2 rfl rfl)
theorem dX3_skim_217 : decode cX3_skim 217 = .ok (.aload_n 0, 1) := dk_42 (dk_at dksX3_skim_9 3 rfl rfl)
theorem dX3_skim_218 : decode cX3_skim 218 = .ok (.getfield 7, 3) := dk_180 0 7 (dk_at dksX3_skim_9 4 rfl rfl)
theorem dX3_skim_221 : decode cX3_skim 221 = .ok (.sipush 150, 3) := dk_17 0 150 (dk_at dksX3_skim_9 7 rfl rfl)
theorem dX3_skim_224 : decode cX3_skim 224 = .ok (.bipush 6, 2) := dk_16 6 (dk_at dksX3_skim_9 10 rfl rfl)
theorem dX3_skim_226 : decode cX3_skim 226 = .ok (.iload_n 2, 1) := dk_28 (dk_at dksX3_skim_9 12 rfl rfl)
theorem dX3_skim_227 : decode cX3_skim 227 = .ok (.imul, 1) := dk_104 (dk_at dksX3_skim_9 13 rfl rfl)
theorem dX3_skim_228 : decode cX3_skim 228 = .ok (.iadd, 1) := dk_96 (dk_at dksX3_skim_9 14 rfl rfl)
theorem dX3_skim_229 : decode cX3_skim 229 = .ok (.iconst 3, 1) := dk_6 (dk_at dksX3_skim_9 15 rfl rfl)
theorem dX3_skim_230 : decode cX3_skim 230 = .ok (.iadd, 1) := dk_96 (dk_at dksX3_skim_9 16 rfl rfl)
theorem dX3_skim_231 : decode cX3_skim 231 = .ok (.iload_n 1, 1) := dk_27 (dk_at dksX3_skim_9 17 rfl rfl)
theorem dX3_skim_232 : decode cX3_skim 232 = .ok (.iastore, 1) := dk_79 (dk_at dksX3_skim_9 18 rfl rfl)
theorem dX3_skim_233 : decode cX3_skim 233 = .ok (.iload 6, 2) := dk_21 6 (dk_at dksX3_skim_9 19 rfl rfl)
theorem dX3_skim_235 : decode cX3_skim 235 = .ok (.ifCond .eq 44, 3) := dk_153 0 44 (dk_at dksX3_skim_9 21 rfl rfl)
theorem dX3_skim_238 : decode cX3_skim 238 = .ok (.aload_n 0, 1) := dk_42 (dk_at dksX3_skim_10 0 rfl rfl)
theorem dX3_skim_239 : decode cX3_skim 239 = .ok (.iload_n 1, 1) := dk_27 (dk_at dksX3_skim_10 1 rfl rfl)
theorem dX3_skim_240 : decode cX3_skim 240 = .ok (.iconst 5, 1) := dk_8 (dk_at dksX3_skim_10 2 rfl rfl)
theorem dX3_skim_241 : decode cX3_skim 241 = .ok (.iload_n 2, 1) := dk_28 (dk_at dksX3_skim_10 3 rfl rfl)
theorem dX3_skim_242 : decode cX3_skim 242 = .ok (.invokevirtual 82, 3) := dk_182 0 82 (dk_at dksX3_skim_10 4 rfl rfl)
theorem dX3_skim_245 : decode cX3_skim 245 = .ok (.aload_n 0, 1) := dk_42 (dk_at dksX3_skim_10 7 rfl rfl)
theorem dX3_skim_246 : decode cX3_skim 246 = .ok (.iload_n 1, 1) := dk_27 (dk_at dksX3_skim_10 8 rfl rfl)
theorem dX3_skim_247 : decode cX3_skim 247 = .ok (.iconst 2, 1) := dk_5 (dk_at dksX3_skim_10 9 rfl rfl)
theorem dX3_skim_248 : decode cX3_skim 248 = .ok (.aload_n 0, 1) := dk_42 (dk_at dksX3_skim_10 10 rfl rfl)
theorem dX3_skim_249 : decode cX3_skim 249 = .ok (.iload_n 1, 1) := dk_27 (dk_at dksX3_skim_10 11 rfl rfl)
theorem dX3_skim_250 : decode cX3_skim 250 = .ok (.iconst 2, 1) := dk_5 (dk_at dksX3_skim_10 12 rfl rfl)
theorem dX3_skim_251 : decode cX3_skim 251 = .ok (.invokevirtual 66, 3) := dk_182 0 66 (dk_at dksX3_skim_10 13 rfl rfl)
theorem dX3_skim_254 : decode cX3_skim 254 = .ok (.iload 5, 2) := dk_21 5 (dk_at dksX3_skim_10 16 rfl rfl)
theorem dX3_skim_256 : decode cX3_skim 256 = .ok (.iadd, 1) := dk_96 (dk_at dksX3_skim_10 18 rfl rfl)
theorem dX3_skim_257 : decode cX3_skim 257 = .ok (.bipush 99, 2) := dk_16 99 (dk_at dksX3_skim_10 19 rfl rfl)
theorem dX3_skim_259 : decode cX3_skim 259 = .ok (.invokestatic 130, 3) := dk_184 0 130 (dk_at dksX3_skim_10 21 rfl rfl)
theorem dX3_skim_262 : decode cX3_skim 262 = .ok (.invokevirtual 82, 3) := dk_182 0 82 (dk_at dksX3_skim_11 0 rfl rfl)
theorem dX3_skim_265 : decode cX3_skim 265 = .ok (.aload_n 0, 1) := dk_42 (dk_at dksX3_skim_11 3 rfl rfl)
theorem dX3_skim_266 : decode cX3_skim 266 = .ok (.getfield 7, 3) := dk_180 0 7 (dk_at dksX3_skim_11 4 rfl rfl)
theorem dX3_skim_269 : decode cX3_skim 269 = .ok (.bipush 6, 2) := dk_16 6 (dk_at dksX3_skim_11 7 rfl rfl)
theorem dX3_skim_271 : decode cX3_skim 271 = .ok (.dup2, 1) := dk_92 (dk_at dksX3_skim_11 9 rfl rfl)
theorem dX3_skim_272 : decode cX3_skim 272 = .ok (.iaload, 1) := dk_46 (dk_at dksX3_skim_11 10 rfl rfl)
theorem dX3_skim_273 : decode cX3_skim 273 = .ok (.iconst 1, 1) := dk_4 (dk_at dksX3_skim_11 11 rfl rfl)
theorem dX3_skim_274 : decode cX3_skim 274 = .ok (.iadd, 1) := dk_96 (dk_at dksX3_skim_11 12 rfl rfl)
theorem dX3_skim_275 : decode cX3_skim 275 = .ok (.iastore, 1) := dk_79 (dk_at dksX3_skim_11 13 rfl rfl)
theorem dX3_skim_276 : decode cX3_skim 276 = .ok (.iload 5, 2) := dk_21 5 (dk_at dksX3_skim_11 14 rfl rfl)
theorem dX3_skim_278 : decode cX3_skim 278 = .ok (.ireturn, 1) := dk_172 (dk_at dksX3_skim_11 16 rfl rfl)
theorem dX3_skim_279 : decode cX3_skim 279 = .ok (.aload_n 0, 1) := dk_42 (dk_at dksX3_skim_11 17 rfl rfl)
theorem dX3_skim_280 : decode cX3_skim 280 = .ok (.iload_n 1, 1) := dk_27 (dk_at dksX3_skim_11 18 rfl rfl)
theorem dX3_skim_281 : decode cX3_skim 281 = .ok (.iconst 5, 1) := dk_8 (dk_at dksX3_skim_11 19 rfl rfl)
theorem dX3_skim_282 : decode cX3_skim 282 = .ok (.bipush (-2), 2) := dk_16 254 (dk_at dksX3_skim_11 20 rfl rfl)
theorem dX3_skim_284 : decode cX3_skim 284 = .ok (.invokevirtual 82, 3) := dk_182 0 82 (dk_at dksX3_skim_12 0 rfl rfl)
theorem dX3_skim_287 : decode cX3_skim 287 = .ok (.aload_n 0, 1) := dk_42 (dk_at dksX3_skim_12 3 rfl rfl)
theorem dX3_skim_288 : decode cX3_skim 288 = .ok (.iload_n 1, 1) := dk_27 (dk_at dksX3_skim_12 4 rfl rfl)
theorem dX3_skim_289 : decode cX3_skim 289 = .ok (.bipush 10, 2) := dk_16 10 (dk_at dksX3_skim_12 5 rfl rfl)
theorem dX3_skim_291 : decode cX3_skim 291 = .ok (.aload_n 0, 1) := dk_42 (dk_at dksX3_skim_12 7 rfl rfl)
theorem dX3_skim_292 : decode cX3_skim 292 = .ok (.getfield 7, 3) := dk_180 0 7 (dk_at dksX3_skim_12 8 rfl rfl)
theorem dX3_skim_295 : decode cX3_skim 295 = .ok (.iconst 2, 1) := dk_5 (dk_at dksX3_skim_12 11 rfl rfl)
theorem dX3_skim_296 : decode cX3_skim 296 = .ok (.iaload, 1) := dk_46 (dk_at dksX3_skim_12 12 rfl rfl)
theorem dX3_skim_297 : decode cX3_skim 297 = .ok (.invokevirtual 82, 3) := dk_182 0 82 (dk_at dksX3_skim_12 13 rfl rfl)
theorem dX3_skim_300 : decode cX3_skim 300 = .ok (.aload_n 0, 1) := dk_42 (dk_at dksX3_skim_12 16 rfl rfl)
theorem dX3_skim_301 : decode cX3_skim 301 = .ok (.getfield 7, 3) := dk_180 0 7 (dk_at dksX3_skim_12 17 rfl rfl)
theorem dX3_skim_304 : decode cX3_skim 304 = .ok (.sipush 150, 3) := dk_17 0 150 (dk_at dksX3_skim_12 20 rfl rfl)
theorem dX3_skim_307 : decode cX3_skim 307 = .ok (.bipush 6, 2) := dk_16 6 (dk_at dksX3_skim_13 0 rfl rfl)
theorem dX3_skim_309 : decode cX3_skim 309 = .ok (.iload_n 2, 1) := dk_28 (dk_at dksX3_skim_13 2 rfl rfl)
theorem dX3_skim_310 : decode cX3_skim 310 = .ok (.imul, 1) := dk_104 (dk_at dksX3_skim_13 3 rfl rfl)
theorem dX3_skim_311 : decode cX3_skim 311 = .ok (.iadd, 1) := dk_96 (dk_at dksX3_skim_13 4 rfl rfl)
theorem dX3_skim_312 : decode cX3_skim 312 = .ok (.iconst 4, 1) := dk_7 (dk_at dksX3_skim_13 5 rfl rfl)
theorem dX3_skim_313 : decode cX3_skim 313 = .ok (.iadd, 1) := dk_96 (dk_at dksX3_skim_13 6 rfl rfl)
theorem dX3_skim_314 : decode cX3_skim 314 = .ok (.dup2, 1) := dk_92 (dk_at dksX3_skim_13 7 rfl rfl)
theorem dX3_skim_315 : decode cX3_skim 315 = .ok (.iaload, 1) := dk_46 (dk_at dksX3_skim_13 8 rfl rfl)
theorem dX3_skim_316 : decode cX3_skim 316 = .ok (.iconst 1, 1) := dk_4 (dk_at dksX3_skim_13 9 rfl rfl)
theorem dX3_skim_317 : decode cX3_skim 317 = .ok (.iadd, 1) := dk_96 (dk_at dksX3_skim_13 10 rfl rfl)
theorem dX3_skim_318 : decode cX3_skim 318 = .ok (.iastore, 1) := dk_79 (dk_at dksX3_skim_13 11 rfl rfl)
theorem dX3_skim_319 : decode cX3_skim 319 = .ok (.aload_n 0, 1) := dk_42 (dk_at dksX3_skim_13 12 rfl rfl)
theorem dX3_skim_320 : decode cX3_skim 320 = .ok (.getfield 7, 3) := dk_180 0 7 (dk_at dksX3_skim_13 13 rfl rfl)
theorem dX3_skim_323 : decode cX3_skim 323 = .ok (.sipush 294, 3) := dk_17 1 38 (dk_at dksX3_skim_13 16 rfl rfl)
theorem dX3_skim_326 : decode cX3_skim 326 = .ok (.aload_n 0, 1) := dk_42 (dk_at dksX3_skim_13 19 rfl rfl)
theorem dX3_skim_327 : decode cX3_skim 327 = .ok (.getfield 7, 3) := dk_180 0 7 (dk_at dksX3_skim_13 20 rfl rfl)
theorem dX3_skim_330 : decode cX3_skim 330 = .ok (.bipush 8, 2) := dk_16 8 (dk_at dksX3_skim_14 0 rfl rfl)
theorem dX3_skim_332 : decode cX3_skim 332 = .ok (.iaload, 1) := dk_46 (dk_at dksX3_skim_14 2 rfl rfl)
theorem dX3_skim_333 : decode cX3_skim 333 = .ok (.iadd, 1) := dk_96 (dk_at dksX3_skim_14 3 rfl rfl)
theorem dX3_skim_334 : decode cX3_skim 334 = .ok (.iload_n 1, 1) := dk_27 (dk_at dksX3_skim_14 4 rfl rfl)
theorem dX3_skim_335 : decode cX3_skim 335 = .ok (.iastore, 1) := dk_79 (dk_at dksX3_skim_14 5 rfl rfl)
theorem dX3_skim_336 : decode cX3_skim 336 = .ok (.aload_n 0, 1) := dk_42 (dk_at dksX3_skim_14 6 rfl rfl)
theorem dX3_skim_337 : decode cX3_skim 337 = .ok (.getfield 7, 3) := dk_180 0 7 (dk_at dksX3_skim_14 7 rfl rfl)
theorem dX3_skim_340 : decode cX3_skim 340 = .ok (.bipush 8, 2) := dk_16 8 (dk_at dksX3_skim_14 10 rfl rfl)
theorem dX3_skim_342 : decode cX3_skim 342 = .ok (.dup2, 1) := dk_92 (dk_at dksX3_skim_14 12 rfl rfl)
theorem dX3_skim_343 : decode cX3_skim 343 = .ok (.iaload, 1) := dk_46 (dk_at dksX3_skim_14 13 rfl rfl)
theorem dX3_skim_344 : decode cX3_skim 344 = .ok (.iconst 1, 1) := dk_4 (dk_at dksX3_skim_14 14 rfl rfl)
theorem dX3_skim_345 : decode cX3_skim 345 = .ok (.iadd, 1) := dk_96 (dk_at dksX3_skim_14 15 rfl rfl)
theorem dX3_skim_346 : decode cX3_skim 346 = .ok (.iastore, 1) := dk_79 (dk_at dksX3_skim_14 16 rfl rfl)
theorem dX3_skim_347 : decode cX3_skim 347 = .ok (.iload 5, 2) := dk_21 5 (dk_at dksX3_skim_14 17 rfl rfl)
theorem dX3_skim_349 : decode cX3_skim 349 = .ok (.ineg, 1) := dk_116 (dk_at dksX3_skim_14 19 rfl rfl)
theorem dX3_skim_350 : decode cX3_skim 350 = .ok (.ireturn, 1) := dk_172 (dk_at dksX3_skim_14 20 rfl rfl)
abbrev cX3_wayOf : ByteArray := prog_11_method_39_code
def yX3_wayOf : MethodName := ⟨RX3, "wayOf", "(IIII)I"⟩
def dkwX3_wayOf_2 : List UInt8 := [21, 5, 172]
abbrev dktX3_wayOf_2 : List UInt8 := dkwX3_wayOf_2 ++ []
def dkwX3_wayOf_1 : List UInt8 := [158, 0, 24, 21, 5, 4, 21, 7, 8, 108, 96, 96, 54, 5, 21, 7, 21, 6, 100, 54, 7, 167, 255, 233]
abbrev dktX3_wayOf_1 : List UInt8 := dkwX3_wayOf_1 ++ dktX3_wayOf_2
def dkwX3_wayOf_0 : List UInt8 := [3, 54, 5, 42, 27, 28, 29, 182, 0, 124, 54, 6, 42, 27, 21, 4, 182, 0, 127, 54, 7, 21, 7]
abbrev dktX3_wayOf_0 : List UInt8 := dkwX3_wayOf_0 ++ dktX3_wayOf_1
theorem dksX3_wayOf_0 : cX3_wayOf.data.toList.drop 0 = dktX3_wayOf_0 := by decide +kernel
theorem dksX3_wayOf_1 : cX3_wayOf.data.toList.drop 23 = dktX3_wayOf_1 := dk_seg dksX3_wayOf_0 23 rfl rfl
theorem dksX3_wayOf_2 : cX3_wayOf.data.toList.drop 47 = dktX3_wayOf_2 := dk_seg dksX3_wayOf_1 24 rfl rfl
theorem dX3_wayOf_0 : decode cX3_wayOf 0 = .ok (.iconst 0, 1) := dk_3 (dk_at dksX3_wayOf_0 0 rfl rfl)
theorem dX3_wayOf_1 : decode cX3_wayOf 1 = .ok (.istore 5, 2) := dk_54 5 (dk_at dksX3_wayOf_0 1 rfl rfl)
theorem dX3_wayOf_3 : decode cX3_wayOf 3 = .ok (.aload_n 0, 1) := dk_42 (dk_at dksX3_wayOf_0 3 rfl rfl)
theorem dX3_wayOf_4 : decode cX3_wayOf 4 = .ok (.iload_n 1, 1) := dk_27 (dk_at dksX3_wayOf_0 4 rfl rfl)
theorem dX3_wayOf_5 : decode cX3_wayOf 5 = .ok (.iload_n 2, 1) := dk_28 (dk_at dksX3_wayOf_0 5 rfl rfl)
theorem dX3_wayOf_6 : decode cX3_wayOf 6 = .ok (.iload_n 3, 1) := dk_29 (dk_at dksX3_wayOf_0 6 rfl rfl)
theorem dX3_wayOf_7 : decode cX3_wayOf 7 = .ok (.invokevirtual 124, 3) := dk_182 0 124 (dk_at dksX3_wayOf_0 7 rfl rfl)
theorem dX3_wayOf_10 : decode cX3_wayOf 10 = .ok (.istore 6, 2) := dk_54 6 (dk_at dksX3_wayOf_0 10 rfl rfl)
theorem dX3_wayOf_12 : decode cX3_wayOf 12 = .ok (.aload_n 0, 1) := dk_42 (dk_at dksX3_wayOf_0 12 rfl rfl)
theorem dX3_wayOf_13 : decode cX3_wayOf 13 = .ok (.iload_n 1, 1) := dk_27 (dk_at dksX3_wayOf_0 13 rfl rfl)
theorem dX3_wayOf_14 : decode cX3_wayOf 14 = .ok (.iload 4, 2) := dk_21 4 (dk_at dksX3_wayOf_0 14 rfl rfl)
theorem dX3_wayOf_16 : decode cX3_wayOf 16 = .ok (.invokevirtual 127, 3) := dk_182 0 127 (dk_at dksX3_wayOf_0 16 rfl rfl)
theorem dX3_wayOf_19 : decode cX3_wayOf 19 = .ok (.istore 7, 2) := dk_54 7 (dk_at dksX3_wayOf_0 19 rfl rfl)
theorem dX3_wayOf_21 : decode cX3_wayOf 21 = .ok (.iload 7, 2) := dk_21 7 (dk_at dksX3_wayOf_0 21 rfl rfl)
theorem dX3_wayOf_23 : decode cX3_wayOf 23 = .ok (.ifCond .le 24, 3) := dk_158 0 24 (dk_at dksX3_wayOf_1 0 rfl rfl)
theorem dX3_wayOf_26 : decode cX3_wayOf 26 = .ok (.iload 5, 2) := dk_21 5 (dk_at dksX3_wayOf_1 3 rfl rfl)
theorem dX3_wayOf_28 : decode cX3_wayOf 28 = .ok (.iconst 1, 1) := dk_4 (dk_at dksX3_wayOf_1 5 rfl rfl)
theorem dX3_wayOf_29 : decode cX3_wayOf 29 = .ok (.iload 7, 2) := dk_21 7 (dk_at dksX3_wayOf_1 6 rfl rfl)
theorem dX3_wayOf_31 : decode cX3_wayOf 31 = .ok (.iconst 5, 1) := dk_8 (dk_at dksX3_wayOf_1 8 rfl rfl)
theorem dX3_wayOf_32 : decode cX3_wayOf 32 = .ok (.idiv, 1) := dk_108 (dk_at dksX3_wayOf_1 9 rfl rfl)
theorem dX3_wayOf_33 : decode cX3_wayOf 33 = .ok (.iadd, 1) := dk_96 (dk_at dksX3_wayOf_1 10 rfl rfl)
theorem dX3_wayOf_34 : decode cX3_wayOf 34 = .ok (.iadd, 1) := dk_96 (dk_at dksX3_wayOf_1 11 rfl rfl)
theorem dX3_wayOf_35 : decode cX3_wayOf 35 = .ok (.istore 5, 2) := dk_54 5 (dk_at dksX3_wayOf_1 12 rfl rfl)
theorem dX3_wayOf_37 : decode cX3_wayOf 37 = .ok (.iload 7, 2) := dk_21 7 (dk_at dksX3_wayOf_1 14 rfl rfl)
theorem dX3_wayOf_39 : decode cX3_wayOf 39 = .ok (.iload 6, 2) := dk_21 6 (dk_at dksX3_wayOf_1 16 rfl rfl)
theorem dX3_wayOf_41 : decode cX3_wayOf 41 = .ok (.isub, 1) := dk_100 (dk_at dksX3_wayOf_1 18 rfl rfl)
theorem dX3_wayOf_42 : decode cX3_wayOf 42 = .ok (.istore 7, 2) := dk_54 7 (dk_at dksX3_wayOf_1 19 rfl rfl)
theorem dX3_wayOf_44 : decode cX3_wayOf 44 = .ok (.goto (-23), 3) := dk_167 255 233 (dk_at dksX3_wayOf_1 21 rfl rfl)
theorem dX3_wayOf_47 : decode cX3_wayOf 47 = .ok (.iload 5, 2) := dk_21 5 (dk_at dksX3_wayOf_2 0 rfl rfl)
theorem dX3_wayOf_49 : decode cX3_wayOf 49 = .ok (.ireturn, 1) := dk_172 (dk_at dksX3_wayOf_2 2 rfl rfl)
abbrev cX3_fetch : ByteArray := prog_11_method_44_code
def yX3_fetch : MethodName := ⟨RX3, "fetch", "(I)I"⟩
def dkwX3_fetch_3 : List UInt8 := [180, 0, 7, 182, 0, 78, 42, 27, 8, 2, 182, 0, 82, 42, 16, 9, 182, 0, 112, 172]
abbrev dktX3_fetch_3 : List UInt8 := dkwX3_fetch_3 ++ []
def dkwX3_fetch_2 : List UInt8 := [182, 0, 66, 2, 160, 0, 17, 42, 5, 16, 6, 42, 16, 9, 182, 0, 112, 182, 0, 74, 172, 42, 42]
abbrev dktX3_fetch_2 : List UInt8 := dkwX3_fetch_2 ++ dktX3_fetch_3
def dkwX3_fetch_1 : List UInt8 := [182, 0, 118, 153, 0, 17, 42, 5, 7, 42, 27, 16, 10, 182, 0, 66, 182, 0, 74, 172, 42, 27, 8]
abbrev dktX3_fetch_1 : List UInt8 := dkwX3_fetch_1 ++ dktX3_fetch_2
def dkwX3_fetch_0 : List UInt8 := [42, 42, 27, 182, 0, 95, 153, 0, 7, 3, 167, 0, 4, 4, 182, 0, 70, 153, 0, 5, 3, 172, 42, 27]
abbrev dktX3_fetch_0 : List UInt8 := dkwX3_fetch_0 ++ dktX3_fetch_1
theorem dksX3_fetch_0 : cX3_fetch.data.toList.drop 0 = dktX3_fetch_0 := by decide +kernel
theorem dksX3_fetch_1 : cX3_fetch.data.toList.drop 24 = dktX3_fetch_1 := dk_seg dksX3_fetch_0 24 rfl rfl
theorem dksX3_fetch_2 : cX3_fetch.data.toList.drop 47 = dktX3_fetch_2 := dk_seg dksX3_fetch_1 23 rfl rfl
theorem dksX3_fetch_3 : cX3_fetch.data.toList.drop 70 = dktX3_fetch_3 := dk_seg dksX3_fetch_2 23 rfl rfl
theorem dX3_fetch_0 : decode cX3_fetch 0 = .ok (.aload_n 0, 1) := dk_42 (dk_at dksX3_fetch_0 0 rfl rfl)
theorem dX3_fetch_1 : decode cX3_fetch 1 = .ok (.aload_n 0, 1) := dk_42 (dk_at dksX3_fetch_0 1 rfl rfl)
theorem dX3_fetch_2 : decode cX3_fetch 2 = .ok (.iload_n 1, 1) := dk_27 (dk_at dksX3_fetch_0 2 rfl rfl)
theorem dX3_fetch_3 : decode cX3_fetch 3 = .ok (.invokevirtual 95, 3) := dk_182 0 95 (dk_at dksX3_fetch_0 3 rfl rfl)
theorem dX3_fetch_6 : decode cX3_fetch 6 = .ok (.ifCond .eq 7, 3) := dk_153 0 7 (dk_at dksX3_fetch_0 6 rfl rfl)
theorem dX3_fetch_9 : decode cX3_fetch 9 = .ok (.iconst 0, 1) := dk_3 (dk_at dksX3_fetch_0 9 rfl rfl)
theorem dX3_fetch_10 : decode cX3_fetch 10 = .ok (.goto 4, 3) := dk_167 0 4 (dk_at dksX3_fetch_0 10 rfl rfl)
theorem dX3_fetch_13 : decode cX3_fetch 13 = .ok (.iconst 1, 1) := dk_4 (dk_at dksX3_fetch_0 13 rfl rfl)
theorem dX3_fetch_14 : decode cX3_fetch 14 = .ok (.invokevirtual 70, 3) := dk_182 0 70 (dk_at dksX3_fetch_0 14 rfl rfl)
theorem dX3_fetch_17 : decode cX3_fetch 17 = .ok (.ifCond .eq 5, 3) := dk_153 0 5 (dk_at dksX3_fetch_0 17 rfl rfl)
theorem dX3_fetch_20 : decode cX3_fetch 20 = .ok (.iconst 0, 1) := dk_3 (dk_at dksX3_fetch_0 20 rfl rfl)
theorem dX3_fetch_21 : decode cX3_fetch 21 = .ok (.ireturn, 1) := dk_172 (dk_at dksX3_fetch_0 21 rfl rfl)
theorem dX3_fetch_22 : decode cX3_fetch 22 = .ok (.aload_n 0, 1) := dk_42 (dk_at dksX3_fetch_0 22 rfl rfl)
theorem dX3_fetch_23 : decode cX3_fetch 23 = .ok (.iload_n 1, 1) := dk_27 (dk_at dksX3_fetch_0 23 rfl rfl)
theorem dX3_fetch_24 : decode cX3_fetch 24 = .ok (.invokevirtual 118, 3) := dk_182 0 118 (dk_at dksX3_fetch_1 0 rfl rfl)
theorem dX3_fetch_27 : decode cX3_fetch 27 = .ok (.ifCond .eq 17, 3) := dk_153 0 17 (dk_at dksX3_fetch_1 3 rfl rfl)
theorem dX3_fetch_30 : decode cX3_fetch 30 = .ok (.aload_n 0, 1) := dk_42 (dk_at dksX3_fetch_1 6 rfl rfl)
theorem dX3_fetch_31 : decode cX3_fetch 31 = .ok (.iconst 2, 1) := dk_5 (dk_at dksX3_fetch_1 7 rfl rfl)
theorem dX3_fetch_32 : decode cX3_fetch 32 = .ok (.iconst 4, 1) := dk_7 (dk_at dksX3_fetch_1 8 rfl rfl)
theorem dX3_fetch_33 : decode cX3_fetch 33 = .ok (.aload_n 0, 1) := dk_42 (dk_at dksX3_fetch_1 9 rfl rfl)
theorem dX3_fetch_34 : decode cX3_fetch 34 = .ok (.iload_n 1, 1) := dk_27 (dk_at dksX3_fetch_1 10 rfl rfl)
theorem dX3_fetch_35 : decode cX3_fetch 35 = .ok (.bipush 10, 2) := dk_16 10 (dk_at dksX3_fetch_1 11 rfl rfl)
theorem dX3_fetch_37 : decode cX3_fetch 37 = .ok (.invokevirtual 66, 3) := dk_182 0 66 (dk_at dksX3_fetch_1 13 rfl rfl)
theorem dX3_fetch_40 : decode cX3_fetch 40 = .ok (.invokevirtual 74, 3) := dk_182 0 74 (dk_at dksX3_fetch_1 16 rfl rfl)
theorem dX3_fetch_43 : decode cX3_fetch 43 = .ok (.ireturn, 1) := dk_172 (dk_at dksX3_fetch_1 19 rfl rfl)
theorem dX3_fetch_44 : decode cX3_fetch 44 = .ok (.aload_n 0, 1) := dk_42 (dk_at dksX3_fetch_1 20 rfl rfl)
theorem dX3_fetch_45 : decode cX3_fetch 45 = .ok (.iload_n 1, 1) := dk_27 (dk_at dksX3_fetch_1 21 rfl rfl)
theorem dX3_fetch_46 : decode cX3_fetch 46 = .ok (.iconst 5, 1) := dk_8 (dk_at dksX3_fetch_1 22 rfl rfl)
theorem dX3_fetch_47 : decode cX3_fetch 47 = .ok (.invokevirtual 66, 3) := dk_182 0 66 (dk_at dksX3_fetch_2 0 rfl rfl)
theorem dX3_fetch_50 : decode cX3_fetch 50 = .ok (.iconst (-1), 1) := dk_2 (dk_at dksX3_fetch_2 3 rfl rfl)
theorem dX3_fetch_51 : decode cX3_fetch 51 = .ok (.if_icmp .ne 17, 3) := dk_160 0 17 (dk_at dksX3_fetch_2 4 rfl rfl)
theorem dX3_fetch_54 : decode cX3_fetch 54 = .ok (.aload_n 0, 1) := dk_42 (dk_at dksX3_fetch_2 7 rfl rfl)
theorem dX3_fetch_55 : decode cX3_fetch 55 = .ok (.iconst 2, 1) := dk_5 (dk_at dksX3_fetch_2 8 rfl rfl)
theorem dX3_fetch_56 : decode cX3_fetch 56 = .ok (.bipush 6, 2) := dk_16 6 (dk_at dksX3_fetch_2 9 rfl rfl)
theorem dX3_fetch_58 : decode cX3_fetch 58 = .ok (.aload_n 0, 1) := dk_42 (dk_at dksX3_fetch_2 11 rfl rfl)
theorem dX3_fetch_59 : decode cX3_fetch 59 = .ok (.bipush 9, 2) := dk_16 9 (dk_at dksX3_fetch_2 12 rfl rfl)
theorem dX3_fetch_61 : decode cX3_fetch 61 = .ok (.invokevirtual 112, 3) := dk_182 0 112 (dk_at dksX3_fetch_2 14 rfl rfl)
theorem dX3_fetch_64 : decode cX3_fetch 64 = .ok (.invokevirtual 74, 3) := dk_182 0 74 (dk_at dksX3_fetch_2 17 rfl rfl)
theorem dX3_fetch_67 : decode cX3_fetch 67 = .ok (.ireturn, 1) := dk_172 (dk_at dksX3_fetch_2 20 rfl rfl)
theorem dX3_fetch_68 : decode cX3_fetch 68 = .ok (.aload_n 0, 1) := dk_42 (dk_at dksX3_fetch_2 21 rfl rfl)
theorem dX3_fetch_69 : decode cX3_fetch 69 = .ok (.aload_n 0, 1) := dk_42 (dk_at dksX3_fetch_2 22 rfl rfl)
theorem dX3_fetch_70 : decode cX3_fetch 70 = .ok (.getfield 7, 3) := dk_180 0 7 (dk_at dksX3_fetch_3 0 rfl rfl)
theorem dX3_fetch_73 : decode cX3_fetch 73 = .ok (.invokevirtual 78, 3) := dk_182 0 78 (dk_at dksX3_fetch_3 3 rfl rfl)
theorem dX3_fetch_76 : decode cX3_fetch 76 = .ok (.aload_n 0, 1) := dk_42 (dk_at dksX3_fetch_3 6 rfl rfl)
theorem dX3_fetch_77 : decode cX3_fetch 77 = .ok (.iload_n 1, 1) := dk_27 (dk_at dksX3_fetch_3 7 rfl rfl)
theorem dX3_fetch_78 : decode cX3_fetch 78 = .ok (.iconst 5, 1) := dk_8 (dk_at dksX3_fetch_3 8 rfl rfl)
theorem dX3_fetch_79 : decode cX3_fetch 79 = .ok (.iconst (-1), 1) := dk_2 (dk_at dksX3_fetch_3 9 rfl rfl)
theorem dX3_fetch_80 : decode cX3_fetch 80 = .ok (.invokevirtual 82, 3) := dk_182 0 82 (dk_at dksX3_fetch_3 10 rfl rfl)
theorem dX3_fetch_83 : decode cX3_fetch 83 = .ok (.aload_n 0, 1) := dk_42 (dk_at dksX3_fetch_3 13 rfl rfl)
theorem dX3_fetch_84 : decode cX3_fetch 84 = .ok (.bipush 9, 2) := dk_16 9 (dk_at dksX3_fetch_3 14 rfl rfl)
theorem dX3_fetch_86 : decode cX3_fetch 86 = .ok (.invokevirtual 112, 3) := dk_182 0 112 (dk_at dksX3_fetch_3 16 rfl rfl)
theorem dX3_fetch_89 : decode cX3_fetch 89 = .ok (.ireturn, 1) := dk_172 (dk_at dksX3_fetch_3 19 rfl rfl)
abbrev cX3_day : ByteArray := prog_11_method_45_code
def yX3_day : MethodName := ⟨RX3, "day", "()I"⟩
def dkwX3_day_4 : List UInt8 := [60, 132, 2, 1, 167, 255, 168, 42, 180, 0, 7, 5, 92, 46, 4, 96, 79, 27, 172]
abbrev dktX3_day_4 : List UInt8 := dkwX3_day_4 ++ []
def dkwX3_day_3 : List UInt8 := [96, 16, 30, 96, 4, 100, 2, 79, 27, 42, 28, 3, 182, 0, 92, 155, 0, 7, 4, 167, 0, 4, 3, 96]
abbrev dktX3_day_3 : List UInt8 := dkwX3_day_3 ++ dktX3_day_4
def dkwX3_day_2 : List UInt8 := [29, 4, 96, 182, 0, 92, 79, 132, 3, 1, 167, 255, 222, 42, 180, 0, 7, 17, 0, 174, 16, 30, 28, 104]
abbrev dktX3_day_2 : List UInt8 := dkwX3_day_2 ++ dktX3_day_3
def dkwX3_day_1 : List UInt8 := [29, 4, 96, 16, 30, 162, 0, 32, 42, 180, 0, 7, 17, 0, 174, 16, 30, 28, 104, 96, 29, 96, 42, 28]
abbrev dktX3_day_1 : List UInt8 := dkwX3_day_1 ++ dktX3_day_2
def dkwX3_day_0 : List UInt8 := [42, 42, 180, 0, 7, 182, 0, 78, 3, 60, 3, 61, 28, 42, 180, 0, 7, 4, 46, 162, 0, 84, 3, 62]
abbrev dktX3_day_0 : List UInt8 := dkwX3_day_0 ++ dktX3_day_1
theorem dksX3_day_0 : cX3_day.data.toList.drop 0 = dktX3_day_0 := by decide +kernel
theorem dksX3_day_1 : cX3_day.data.toList.drop 24 = dktX3_day_1 := dk_seg dksX3_day_0 24 rfl rfl
theorem dksX3_day_2 : cX3_day.data.toList.drop 48 = dktX3_day_2 := dk_seg dksX3_day_1 24 rfl rfl
theorem dksX3_day_3 : cX3_day.data.toList.drop 72 = dktX3_day_3 := dk_seg dksX3_day_2 24 rfl rfl
theorem dksX3_day_4 : cX3_day.data.toList.drop 96 = dktX3_day_4 := dk_seg dksX3_day_3 24 rfl rfl
theorem dX3_day_0 : decode cX3_day 0 = .ok (.aload_n 0, 1) := dk_42 (dk_at dksX3_day_0 0 rfl rfl)
theorem dX3_day_1 : decode cX3_day 1 = .ok (.aload_n 0, 1) := dk_42 (dk_at dksX3_day_0 1 rfl rfl)
theorem dX3_day_2 : decode cX3_day 2 = .ok (.getfield 7, 3) := dk_180 0 7 (dk_at dksX3_day_0 2 rfl rfl)
theorem dX3_day_5 : decode cX3_day 5 = .ok (.invokevirtual 78, 3) := dk_182 0 78 (dk_at dksX3_day_0 5 rfl rfl)
theorem dX3_day_8 : decode cX3_day 8 = .ok (.iconst 0, 1) := dk_3 (dk_at dksX3_day_0 8 rfl rfl)
theorem dX3_day_9 : decode cX3_day 9 = .ok (.istore_n 1, 1) := dk_60 (dk_at dksX3_day_0 9 rfl rfl)
theorem dX3_day_10 : decode cX3_day 10 = .ok (.iconst 0, 1) := dk_3 (dk_at dksX3_day_0 10 rfl rfl)
theorem dX3_day_11 : decode cX3_day 11 = .ok (.istore_n 2, 1) := dk_61 (dk_at dksX3_day_0 11 rfl rfl)
theorem dX3_day_12 : decode cX3_day 12 = .ok (.iload_n 2, 1) := dk_28 (dk_at dksX3_day_0 12 rfl rfl)
theorem dX3_day_13 : decode cX3_day 13 = .ok (.aload_n 0, 1) := dk_42 (dk_at dksX3_day_0 13 rfl rfl)
theorem dX3_day_14 : decode cX3_day 14 = .ok (.getfield 7, 3) := dk_180 0 7 (dk_at dksX3_day_0 14 rfl rfl)
theorem dX3_day_17 : decode cX3_day 17 = .ok (.iconst 1, 1) := dk_4 (dk_at dksX3_day_0 17 rfl rfl)
theorem dX3_day_18 : decode cX3_day 18 = .ok (.iaload, 1) := dk_46 (dk_at dksX3_day_0 18 rfl rfl)
theorem dX3_day_19 : decode cX3_day 19 = .ok (.if_icmp .ge 84, 3) := dk_162 0 84 (dk_at dksX3_day_0 19 rfl rfl)
theorem dX3_day_22 : decode cX3_day 22 = .ok (.iconst 0, 1) := dk_3 (dk_at dksX3_day_0 22 rfl rfl)
theorem dX3_day_23 : decode cX3_day 23 = .ok (.istore_n 3, 1) := dk_62 (dk_at dksX3_day_0 23 rfl rfl)
theorem dX3_day_24 : decode cX3_day 24 = .ok (.iload_n 3, 1) := dk_29 (dk_at dksX3_day_1 0 rfl rfl)
theorem dX3_day_25 : decode cX3_day 25 = .ok (.iconst 1, 1) := dk_4 (dk_at dksX3_day_1 1 rfl rfl)
theorem dX3_day_26 : decode cX3_day 26 = .ok (.iadd, 1) := dk_96 (dk_at dksX3_day_1 2 rfl rfl)
theorem dX3_day_27 : decode cX3_day 27 = .ok (.bipush 30, 2) := dk_16 30 (dk_at dksX3_day_1 3 rfl rfl)
theorem dX3_day_29 : decode cX3_day 29 = .ok (.if_icmp .ge 32, 3) := dk_162 0 32 (dk_at dksX3_day_1 5 rfl rfl)
theorem dX3_day_32 : decode cX3_day 32 = .ok (.aload_n 0, 1) := dk_42 (dk_at dksX3_day_1 8 rfl rfl)
theorem dX3_day_33 : decode cX3_day 33 = .ok (.getfield 7, 3) := dk_180 0 7 (dk_at dksX3_day_1 9 rfl rfl)
theorem dX3_day_36 : decode cX3_day 36 = .ok (.sipush 174, 3) := dk_17 0 174 (dk_at dksX3_day_1 12 rfl rfl)
theorem dX3_day_39 : decode cX3_day 39 = .ok (.bipush 30, 2) := dk_16 30 (dk_at dksX3_day_1 15 rfl rfl)
theorem dX3_day_41 : decode cX3_day 41 = .ok (.iload_n 2, 1) := dk_28 (dk_at dksX3_day_1 17 rfl rfl)
theorem dX3_day_42 : decode cX3_day 42 = .ok (.imul, 1) := dk_104 (dk_at dksX3_day_1 18 rfl rfl)
theorem dX3_day_43 : decode cX3_day 43 = .ok (.iadd, 1) := dk_96 (dk_at dksX3_day_1 19 rfl rfl)
theorem dX3_day_44 : decode cX3_day 44 = .ok (.iload_n 3, 1) := dk_29 (dk_at dksX3_day_1 20 rfl rfl)
theorem dX3_day_45 : decode cX3_day 45 = .ok (.iadd, 1) := dk_96 (dk_at dksX3_day_1 21 rfl rfl)
theorem dX3_day_46 : decode cX3_day 46 = .ok (.aload_n 0, 1) := dk_42 (dk_at dksX3_day_1 22 rfl rfl)
theorem dX3_day_47 : decode cX3_day 47 = .ok (.iload_n 2, 1) := dk_28 (dk_at dksX3_day_1 23 rfl rfl)
theorem dX3_day_48 : decode cX3_day 48 = .ok (.iload_n 3, 1) := dk_29 (dk_at dksX3_day_2 0 rfl rfl)
theorem dX3_day_49 : decode cX3_day 49 = .ok (.iconst 1, 1) := dk_4 (dk_at dksX3_day_2 1 rfl rfl)
theorem dX3_day_50 : decode cX3_day 50 = .ok (.iadd, 1) := dk_96 (dk_at dksX3_day_2 2 rfl rfl)
theorem dX3_day_51 : decode cX3_day 51 = .ok (.invokevirtual 92, 3) := dk_182 0 92 (dk_at dksX3_day_2 3 rfl rfl)
theorem dX3_day_54 : decode cX3_day 54 = .ok (.iastore, 1) := dk_79 (dk_at dksX3_day_2 6 rfl rfl)
theorem dX3_day_55 : decode cX3_day 55 = .ok (.iinc 3 1, 3) := dk_132 3 1 (dk_at dksX3_day_2 7 rfl rfl)
theorem dX3_day_58 : decode cX3_day 58 = .ok (.goto (-34), 3) := dk_167 255 222 (dk_at dksX3_day_2 10 rfl rfl)
theorem dX3_day_61 : decode cX3_day 61 = .ok (.aload_n 0, 1) := dk_42 (dk_at dksX3_day_2 13 rfl rfl)
theorem dX3_day_62 : decode cX3_day 62 = .ok (.getfield 7, 3) := dk_180 0 7 (dk_at dksX3_day_2 14 rfl rfl)
theorem dX3_day_65 : decode cX3_day 65 = .ok (.sipush 174, 3) := dk_17 0 174 (dk_at dksX3_day_2 17 rfl rfl)
theorem dX3_day_68 : decode cX3_day 68 = .ok (.bipush 30, 2) := dk_16 30 (dk_at dksX3_day_2 20 rfl rfl)
theorem dX3_day_70 : decode cX3_day 70 = .ok (.iload_n 2, 1) := dk_28 (dk_at dksX3_day_2 22 rfl rfl)
theorem dX3_day_71 : decode cX3_day 71 = .ok (.imul, 1) := dk_104 (dk_at dksX3_day_2 23 rfl rfl)
theorem dX3_day_72 : decode cX3_day 72 = .ok (.iadd, 1) := dk_96 (dk_at dksX3_day_3 0 rfl rfl)
theorem dX3_day_73 : decode cX3_day 73 = .ok (.bipush 30, 2) := dk_16 30 (dk_at dksX3_day_3 1 rfl rfl)
theorem dX3_day_75 : decode cX3_day 75 = .ok (.iadd, 1) := dk_96 (dk_at dksX3_day_3 3 rfl rfl)
theorem dX3_day_76 : decode cX3_day 76 = .ok (.iconst 1, 1) := dk_4 (dk_at dksX3_day_3 4 rfl rfl)
theorem dX3_day_77 : decode cX3_day 77 = .ok (.isub, 1) := dk_100 (dk_at dksX3_day_3 5 rfl rfl)
theorem dX3_day_78 : decode cX3_day 78 = .ok (.iconst (-1), 1) := dk_2 (dk_at dksX3_day_3 6 rfl rfl)
theorem dX3_day_79 : decode cX3_day 79 = .ok (.iastore, 1) := dk_79 (dk_at dksX3_day_3 7 rfl rfl)
theorem dX3_day_80 : decode cX3_day 80 = .ok (.iload_n 1, 1) := dk_27 (dk_at dksX3_day_3 8 rfl rfl)
theorem dX3_day_81 : decode cX3_day 81 = .ok (.aload_n 0, 1) := dk_42 (dk_at dksX3_day_3 9 rfl rfl)
theorem dX3_day_82 : decode cX3_day 82 = .ok (.iload_n 2, 1) := dk_28 (dk_at dksX3_day_3 10 rfl rfl)
theorem dX3_day_83 : decode cX3_day 83 = .ok (.iconst 0, 1) := dk_3 (dk_at dksX3_day_3 11 rfl rfl)
theorem dX3_day_84 : decode cX3_day 84 = .ok (.invokevirtual 92, 3) := dk_182 0 92 (dk_at dksX3_day_3 12 rfl rfl)
theorem dX3_day_87 : decode cX3_day 87 = .ok (.ifCond .lt 7, 3) := dk_155 0 7 (dk_at dksX3_day_3 15 rfl rfl)
theorem dX3_day_90 : decode cX3_day 90 = .ok (.iconst 1, 1) := dk_4 (dk_at dksX3_day_3 18 rfl rfl)
theorem dX3_day_91 : decode cX3_day 91 = .ok (.goto 4, 3) := dk_167 0 4 (dk_at dksX3_day_3 19 rfl rfl)
theorem dX3_day_94 : decode cX3_day 94 = .ok (.iconst 0, 1) := dk_3 (dk_at dksX3_day_3 22 rfl rfl)
theorem dX3_day_95 : decode cX3_day 95 = .ok (.iadd, 1) := dk_96 (dk_at dksX3_day_3 23 rfl rfl)
theorem dX3_day_96 : decode cX3_day 96 = .ok (.istore_n 1, 1) := dk_60 (dk_at dksX3_day_4 0 rfl rfl)
theorem dX3_day_97 : decode cX3_day 97 = .ok (.iinc 2 1, 3) := dk_132 2 1 (dk_at dksX3_day_4 1 rfl rfl)
theorem dX3_day_100 : decode cX3_day 100 = .ok (.goto (-88), 3) := dk_167 255 168 (dk_at dksX3_day_4 4 rfl rfl)
theorem dX3_day_103 : decode cX3_day 103 = .ok (.aload_n 0, 1) := dk_42 (dk_at dksX3_day_4 7 rfl rfl)
theorem dX3_day_104 : decode cX3_day 104 = .ok (.getfield 7, 3) := dk_180 0 7 (dk_at dksX3_day_4 8 rfl rfl)
theorem dX3_day_107 : decode cX3_day 107 = .ok (.iconst 2, 1) := dk_5 (dk_at dksX3_day_4 11 rfl rfl)
theorem dX3_day_108 : decode cX3_day 108 = .ok (.dup2, 1) := dk_92 (dk_at dksX3_day_4 12 rfl rfl)
theorem dX3_day_109 : decode cX3_day 109 = .ok (.iaload, 1) := dk_46 (dk_at dksX3_day_4 13 rfl rfl)
theorem dX3_day_110 : decode cX3_day 110 = .ok (.iconst 1, 1) := dk_4 (dk_at dksX3_day_4 14 rfl rfl)
theorem dX3_day_111 : decode cX3_day 111 = .ok (.iadd, 1) := dk_96 (dk_at dksX3_day_4 15 rfl rfl)
theorem dX3_day_112 : decode cX3_day 112 = .ok (.iastore, 1) := dk_79 (dk_at dksX3_day_4 16 rfl rfl)
theorem dX3_day_113 : decode cX3_day 113 = .ok (.iload_n 1, 1) := dk_27 (dk_at dksX3_day_4 17 rfl rfl)
theorem dX3_day_114 : decode cX3_day 114 = .ok (.ireturn, 1) := dk_172 (dk_at dksX3_day_4 18 rfl rfl)
abbrev cX3_skips : ByteArray := prog_11_method_46_code
def yX3_skips : MethodName := ⟨RX3, "skips", "(IIIIZ)I"⟩
def dkwX3_skips_1 : List UInt8 := [182, 0, 141, 172]
abbrev dktX3_skips_1 : List UInt8 := dkwX3_skips_1 ++ []
def dkwX3_skips_0 : List UInt8 := [42, 27, 28, 29, 21, 4, 182, 0, 137, 153, 0, 7, 3, 167, 0, 12, 42, 27, 28, 29, 21, 4]
abbrev dktX3_skips_0 : List UInt8 := dkwX3_skips_0 ++ dktX3_skips_1
theorem dksX3_skips_0 : cX3_skips.data.toList.drop 0 = dktX3_skips_0 := by decide +kernel
theorem dksX3_skips_1 : cX3_skips.data.toList.drop 22 = dktX3_skips_1 := dk_seg dksX3_skips_0 22 rfl rfl
theorem dX3_skips_0 : decode cX3_skips 0 = .ok (.aload_n 0, 1) := dk_42 (dk_at dksX3_skips_0 0 rfl rfl)
theorem dX3_skips_1 : decode cX3_skips 1 = .ok (.iload_n 1, 1) := dk_27 (dk_at dksX3_skips_0 1 rfl rfl)
theorem dX3_skips_2 : decode cX3_skips 2 = .ok (.iload_n 2, 1) := dk_28 (dk_at dksX3_skips_0 2 rfl rfl)
theorem dX3_skips_3 : decode cX3_skips 3 = .ok (.iload_n 3, 1) := dk_29 (dk_at dksX3_skips_0 3 rfl rfl)
theorem dX3_skips_4 : decode cX3_skips 4 = .ok (.iload 4, 2) := dk_21 4 (dk_at dksX3_skips_0 4 rfl rfl)
theorem dX3_skips_6 : decode cX3_skips 6 = .ok (.invokevirtual 137, 3) := dk_182 0 137 (dk_at dksX3_skips_0 6 rfl rfl)
theorem dX3_skips_9 : decode cX3_skips 9 = .ok (.ifCond .eq 7, 3) := dk_153 0 7 (dk_at dksX3_skips_0 9 rfl rfl)
theorem dX3_skips_12 : decode cX3_skips 12 = .ok (.iconst 0, 1) := dk_3 (dk_at dksX3_skips_0 12 rfl rfl)
theorem dX3_skips_13 : decode cX3_skips 13 = .ok (.goto 12, 3) := dk_167 0 12 (dk_at dksX3_skips_0 13 rfl rfl)
theorem dX3_skips_16 : decode cX3_skips 16 = .ok (.aload_n 0, 1) := dk_42 (dk_at dksX3_skips_0 16 rfl rfl)
theorem dX3_skips_17 : decode cX3_skips 17 = .ok (.iload_n 1, 1) := dk_27 (dk_at dksX3_skips_0 17 rfl rfl)
theorem dX3_skips_18 : decode cX3_skips 18 = .ok (.iload_n 2, 1) := dk_28 (dk_at dksX3_skips_0 18 rfl rfl)
theorem dX3_skips_19 : decode cX3_skips 19 = .ok (.iload_n 3, 1) := dk_29 (dk_at dksX3_skips_0 19 rfl rfl)
theorem dX3_skips_20 : decode cX3_skips 20 = .ok (.iload 4, 2) := dk_21 4 (dk_at dksX3_skips_0 20 rfl rfl)
theorem dX3_skips_22 : decode cX3_skips 22 = .ok (.invokevirtual 141, 3) := dk_182 0 141 (dk_at dksX3_skips_1 0 rfl rfl)
theorem dX3_skips_25 : decode cX3_skips 25 = .ok (.ireturn, 1) := dk_172 (dk_at dksX3_skips_1 3 rfl rfl)
abbrev cX3_way : ByteArray := prog_11_method_47_code
def yX3_way : MethodName := ⟨RX3, "way", "(IIIIZ)I"⟩
def dkwX3_way_1 : List UInt8 := [182, 0, 145, 172]
abbrev dktX3_way_1 : List UInt8 := dkwX3_way_1 ++ []
def dkwX3_way_0 : List UInt8 := [42, 27, 28, 29, 21, 4, 182, 0, 137, 153, 0, 7, 3, 167, 0, 12, 42, 27, 28, 29, 21, 4]
abbrev dktX3_way_0 : List UInt8 := dkwX3_way_0 ++ dktX3_way_1
theorem dksX3_way_0 : cX3_way.data.toList.drop 0 = dktX3_way_0 := by decide +kernel
theorem dksX3_way_1 : cX3_way.data.toList.drop 22 = dktX3_way_1 := dk_seg dksX3_way_0 22 rfl rfl
theorem dX3_way_0 : decode cX3_way 0 = .ok (.aload_n 0, 1) := dk_42 (dk_at dksX3_way_0 0 rfl rfl)
theorem dX3_way_1 : decode cX3_way 1 = .ok (.iload_n 1, 1) := dk_27 (dk_at dksX3_way_0 1 rfl rfl)
theorem dX3_way_2 : decode cX3_way 2 = .ok (.iload_n 2, 1) := dk_28 (dk_at dksX3_way_0 2 rfl rfl)
theorem dX3_way_3 : decode cX3_way 3 = .ok (.iload_n 3, 1) := dk_29 (dk_at dksX3_way_0 3 rfl rfl)
theorem dX3_way_4 : decode cX3_way 4 = .ok (.iload 4, 2) := dk_21 4 (dk_at dksX3_way_0 4 rfl rfl)
theorem dX3_way_6 : decode cX3_way 6 = .ok (.invokevirtual 137, 3) := dk_182 0 137 (dk_at dksX3_way_0 6 rfl rfl)
theorem dX3_way_9 : decode cX3_way 9 = .ok (.ifCond .eq 7, 3) := dk_153 0 7 (dk_at dksX3_way_0 9 rfl rfl)
theorem dX3_way_12 : decode cX3_way 12 = .ok (.iconst 0, 1) := dk_3 (dk_at dksX3_way_0 12 rfl rfl)
theorem dX3_way_13 : decode cX3_way 13 = .ok (.goto 12, 3) := dk_167 0 12 (dk_at dksX3_way_0 13 rfl rfl)
theorem dX3_way_16 : decode cX3_way 16 = .ok (.aload_n 0, 1) := dk_42 (dk_at dksX3_way_0 16 rfl rfl)
theorem dX3_way_17 : decode cX3_way 17 = .ok (.iload_n 1, 1) := dk_27 (dk_at dksX3_way_0 17 rfl rfl)
theorem dX3_way_18 : decode cX3_way 18 = .ok (.iload_n 2, 1) := dk_28 (dk_at dksX3_way_0 18 rfl rfl)
theorem dX3_way_19 : decode cX3_way 19 = .ok (.iload_n 3, 1) := dk_29 (dk_at dksX3_way_0 19 rfl rfl)
theorem dX3_way_20 : decode cX3_way 20 = .ok (.iload 4, 2) := dk_21 4 (dk_at dksX3_way_0 20 rfl rfl)
theorem dX3_way_22 : decode cX3_way 22 = .ok (.invokevirtual 145, 3) := dk_182 0 145 (dk_at dksX3_way_1 0 rfl rfl)
theorem dX3_way_25 : decode cX3_way 25 = .ok (.ireturn, 1) := dk_172 (dk_at dksX3_way_1 3 rfl rfl)
abbrev cX3_bestAngle : ByteArray := prog_11_method_48_code
def yX3_bestAngle : MethodName := ⟨RX3, "bestAngle", "(III)I"⟩
def dkwX3_bestAngle_2 : List UInt8 := [21, 5, 54, 4, 132, 5, 1, 167, 255, 221, 21, 4, 172]
abbrev dktX3_bestAngle_2 : List UInt8 := dkwX3_bestAngle_2 ++ []
def dkwX3_bestAngle_1 : List UInt8 := [163, 0, 34, 42, 27, 28, 21, 5, 29, 182, 0, 145, 42, 27, 28, 21, 4, 29, 182, 0, 145, 164, 0, 7]
abbrev dktX3_bestAngle_1 : List UInt8 := dkwX3_bestAngle_1 ++ dktX3_bestAngle_2
def dkwX3_bestAngle_0 : List UInt8 := [42, 27, 28, 3, 29, 182, 0, 137, 153, 0, 5, 3, 172, 3, 54, 4, 4, 54, 5, 21, 5, 16, 90]
abbrev dktX3_bestAngle_0 : List UInt8 := dkwX3_bestAngle_0 ++ dktX3_bestAngle_1
theorem dksX3_bestAngle_0 : cX3_bestAngle.data.toList.drop 0 = dktX3_bestAngle_0 := by decide +kernel
theorem dksX3_bestAngle_1 : cX3_bestAngle.data.toList.drop 23 = dktX3_bestAngle_1 := dk_seg dksX3_bestAngle_0 23 rfl rfl
theorem dksX3_bestAngle_2 : cX3_bestAngle.data.toList.drop 47 = dktX3_bestAngle_2 := dk_seg dksX3_bestAngle_1 24 rfl rfl
theorem dX3_bestAngle_0 : decode cX3_bestAngle 0 = .ok (.aload_n 0, 1) := dk_42 (dk_at dksX3_bestAngle_0 0 rfl rfl)
theorem dX3_bestAngle_1 : decode cX3_bestAngle 1 = .ok (.iload_n 1, 1) := dk_27 (dk_at dksX3_bestAngle_0 1 rfl rfl)
theorem dX3_bestAngle_2 : decode cX3_bestAngle 2 = .ok (.iload_n 2, 1) := dk_28 (dk_at dksX3_bestAngle_0 2 rfl rfl)
theorem dX3_bestAngle_3 : decode cX3_bestAngle 3 = .ok (.iconst 0, 1) := dk_3 (dk_at dksX3_bestAngle_0 3 rfl rfl)
theorem dX3_bestAngle_4 : decode cX3_bestAngle 4 = .ok (.iload_n 3, 1) := dk_29 (dk_at dksX3_bestAngle_0 4 rfl rfl)
theorem dX3_bestAngle_5 : decode cX3_bestAngle 5 = .ok (.invokevirtual 137, 3) := dk_182 0 137 (dk_at dksX3_bestAngle_0 5 rfl rfl)
theorem dX3_bestAngle_8 : decode cX3_bestAngle 8 = .ok (.ifCond .eq 5, 3) := dk_153 0 5 (dk_at dksX3_bestAngle_0 8 rfl rfl)
theorem dX3_bestAngle_11 : decode cX3_bestAngle 11 = .ok (.iconst 0, 1) := dk_3 (dk_at dksX3_bestAngle_0 11 rfl rfl)
theorem dX3_bestAngle_12 : decode cX3_bestAngle 12 = .ok (.ireturn, 1) := dk_172 (dk_at dksX3_bestAngle_0 12 rfl rfl)
theorem dX3_bestAngle_13 : decode cX3_bestAngle 13 = .ok (.iconst 0, 1) := dk_3 (dk_at dksX3_bestAngle_0 13 rfl rfl)
theorem dX3_bestAngle_14 : decode cX3_bestAngle 14 = .ok (.istore 4, 2) := dk_54 4 (dk_at dksX3_bestAngle_0 14 rfl rfl)
theorem dX3_bestAngle_16 : decode cX3_bestAngle 16 = .ok (.iconst 1, 1) := dk_4 (dk_at dksX3_bestAngle_0 16 rfl rfl)
theorem dX3_bestAngle_17 : decode cX3_bestAngle 17 = .ok (.istore 5, 2) := dk_54 5 (dk_at dksX3_bestAngle_0 17 rfl rfl)
theorem dX3_bestAngle_19 : decode cX3_bestAngle 19 = .ok (.iload 5, 2) := dk_21 5 (dk_at dksX3_bestAngle_0 19 rfl rfl)
theorem dX3_bestAngle_21 : decode cX3_bestAngle 21 = .ok (.bipush 90, 2) := dk_16 90 (dk_at dksX3_bestAngle_0 21 rfl rfl)
theorem dX3_bestAngle_23 : decode cX3_bestAngle 23 = .ok (.if_icmp .gt 34, 3) := dk_163 0 34 (dk_at dksX3_bestAngle_1 0 rfl rfl)
theorem dX3_bestAngle_26 : decode cX3_bestAngle 26 = .ok (.aload_n 0, 1) := dk_42 (dk_at dksX3_bestAngle_1 3 rfl rfl)
theorem dX3_bestAngle_27 : decode cX3_bestAngle 27 = .ok (.iload_n 1, 1) := dk_27 (dk_at dksX3_bestAngle_1 4 rfl rfl)
theorem dX3_bestAngle_28 : decode cX3_bestAngle 28 = .ok (.iload_n 2, 1) := dk_28 (dk_at dksX3_bestAngle_1 5 rfl rfl)
theorem dX3_bestAngle_29 : decode cX3_bestAngle 29 = .ok (.iload 5, 2) := dk_21 5 (dk_at dksX3_bestAngle_1 6 rfl rfl)
theorem dX3_bestAngle_31 : decode cX3_bestAngle 31 = .ok (.iload_n 3, 1) := dk_29 (dk_at dksX3_bestAngle_1 8 rfl rfl)
theorem dX3_bestAngle_32 : decode cX3_bestAngle 32 = .ok (.invokevirtual 145, 3) := dk_182 0 145 (dk_at dksX3_bestAngle_1 9 rfl rfl)
theorem dX3_bestAngle_35 : decode cX3_bestAngle 35 = .ok (.aload_n 0, 1) := dk_42 (dk_at dksX3_bestAngle_1 12 rfl rfl)
theorem dX3_bestAngle_36 : decode cX3_bestAngle 36 = .ok (.iload_n 1, 1) := dk_27 (dk_at dksX3_bestAngle_1 13 rfl rfl)
theorem dX3_bestAngle_37 : decode cX3_bestAngle 37 = .ok (.iload_n 2, 1) := dk_28 (dk_at dksX3_bestAngle_1 14 rfl rfl)
theorem dX3_bestAngle_38 : decode cX3_bestAngle 38 = .ok (.iload 4, 2) := dk_21 4 (dk_at dksX3_bestAngle_1 15 rfl rfl)
theorem dX3_bestAngle_40 : decode cX3_bestAngle 40 = .ok (.iload_n 3, 1) := dk_29 (dk_at dksX3_bestAngle_1 17 rfl rfl)
theorem dX3_bestAngle_41 : decode cX3_bestAngle 41 = .ok (.invokevirtual 145, 3) := dk_182 0 145 (dk_at dksX3_bestAngle_1 18 rfl rfl)
theorem dX3_bestAngle_44 : decode cX3_bestAngle 44 = .ok (.if_icmp .le 7, 3) := dk_164 0 7 (dk_at dksX3_bestAngle_1 21 rfl rfl)
theorem dX3_bestAngle_47 : decode cX3_bestAngle 47 = .ok (.iload 5, 2) := dk_21 5 (dk_at dksX3_bestAngle_2 0 rfl rfl)
theorem dX3_bestAngle_49 : decode cX3_bestAngle 49 = .ok (.istore 4, 2) := dk_54 4 (dk_at dksX3_bestAngle_2 2 rfl rfl)
theorem dX3_bestAngle_51 : decode cX3_bestAngle 51 = .ok (.iinc 5 1, 3) := dk_132 5 1 (dk_at dksX3_bestAngle_2 4 rfl rfl)
theorem dX3_bestAngle_54 : decode cX3_bestAngle 54 = .ok (.goto (-35), 3) := dk_167 255 221 (dk_at dksX3_bestAngle_2 7 rfl rfl)
theorem dX3_bestAngle_57 : decode cX3_bestAngle 57 = .ok (.iload 4, 2) := dk_21 4 (dk_at dksX3_bestAngle_2 10 rfl rfl)
theorem dX3_bestAngle_59 : decode cX3_bestAngle 59 = .ok (.ireturn, 1) := dk_172 (dk_at dksX3_bestAngle_2 12 rfl rfl)
abbrev cX3_leastSpeed : ByteArray := prog_11_method_49_code
def yX3_leastSpeed : MethodName := ⟨RX3, "leastSpeed", "(III)I"⟩
def dkwX3_leastSpeed_2 : List UInt8 := [167, 255, 225, 42, 6, 181, 0, 42, 3, 172]
abbrev dktX3_leastSpeed_2 : List UInt8 := dkwX3_leastSpeed_2 ++ []
def dkwX3_leastSpeed_1 : List UInt8 := [27, 28, 29, 21, 4, 182, 0, 145, 42, 28, 3, 182, 0, 89, 161, 0, 6, 21, 4, 172, 132, 4, 1]
abbrev dktX3_leastSpeed_1 : List UInt8 := dkwX3_leastSpeed_1 ++ dktX3_leastSpeed_2
def dkwX3_leastSpeed_0 : List UInt8 := [42, 27, 28, 29, 4, 182, 0, 137, 153, 0, 5, 3, 172, 4, 54, 4, 21, 4, 16, 20, 163, 0, 30, 42]
abbrev dktX3_leastSpeed_0 : List UInt8 := dkwX3_leastSpeed_0 ++ dktX3_leastSpeed_1
theorem dksX3_leastSpeed_0 : cX3_leastSpeed.data.toList.drop 0 = dktX3_leastSpeed_0 := by decide +kernel
theorem dksX3_leastSpeed_1 : cX3_leastSpeed.data.toList.drop 24 = dktX3_leastSpeed_1 := dk_seg dksX3_leastSpeed_0 24 rfl rfl
theorem dksX3_leastSpeed_2 : cX3_leastSpeed.data.toList.drop 47 = dktX3_leastSpeed_2 := dk_seg dksX3_leastSpeed_1 23 rfl rfl
theorem dX3_leastSpeed_0 : decode cX3_leastSpeed 0 = .ok (.aload_n 0, 1) := dk_42 (dk_at dksX3_leastSpeed_0 0 rfl rfl)
theorem dX3_leastSpeed_1 : decode cX3_leastSpeed 1 = .ok (.iload_n 1, 1) := dk_27 (dk_at dksX3_leastSpeed_0 1 rfl rfl)
theorem dX3_leastSpeed_2 : decode cX3_leastSpeed 2 = .ok (.iload_n 2, 1) := dk_28 (dk_at dksX3_leastSpeed_0 2 rfl rfl)
theorem dX3_leastSpeed_3 : decode cX3_leastSpeed 3 = .ok (.iload_n 3, 1) := dk_29 (dk_at dksX3_leastSpeed_0 3 rfl rfl)
theorem dX3_leastSpeed_4 : decode cX3_leastSpeed 4 = .ok (.iconst 1, 1) := dk_4 (dk_at dksX3_leastSpeed_0 4 rfl rfl)
theorem dX3_leastSpeed_5 : decode cX3_leastSpeed 5 = .ok (.invokevirtual 137, 3) := dk_182 0 137 (dk_at dksX3_leastSpeed_0 5 rfl rfl)
theorem dX3_leastSpeed_8 : decode cX3_leastSpeed 8 = .ok (.ifCond .eq 5, 3) := dk_153 0 5 (dk_at dksX3_leastSpeed_0 8 rfl rfl)
theorem dX3_leastSpeed_11 : decode cX3_leastSpeed 11 = .ok (.iconst 0, 1) := dk_3 (dk_at dksX3_leastSpeed_0 11 rfl rfl)
theorem dX3_leastSpeed_12 : decode cX3_leastSpeed 12 = .ok (.ireturn, 1) := dk_172 (dk_at dksX3_leastSpeed_0 12 rfl rfl)
theorem dX3_leastSpeed_13 : decode cX3_leastSpeed 13 = .ok (.iconst 1, 1) := dk_4 (dk_at dksX3_leastSpeed_0 13 rfl rfl)
theorem dX3_leastSpeed_14 : decode cX3_leastSpeed 14 = .ok (.istore 4, 2) := dk_54 4 (dk_at dksX3_leastSpeed_0 14 rfl rfl)
theorem dX3_leastSpeed_16 : decode cX3_leastSpeed 16 = .ok (.iload 4, 2) := dk_21 4 (dk_at dksX3_leastSpeed_0 16 rfl rfl)
theorem dX3_leastSpeed_18 : decode cX3_leastSpeed 18 = .ok (.bipush 20, 2) := dk_16 20 (dk_at dksX3_leastSpeed_0 18 rfl rfl)
theorem dX3_leastSpeed_20 : decode cX3_leastSpeed 20 = .ok (.if_icmp .gt 30, 3) := dk_163 0 30 (dk_at dksX3_leastSpeed_0 20 rfl rfl)
theorem dX3_leastSpeed_23 : decode cX3_leastSpeed 23 = .ok (.aload_n 0, 1) := dk_42 (dk_at dksX3_leastSpeed_0 23 rfl rfl)
theorem dX3_leastSpeed_24 : decode cX3_leastSpeed 24 = .ok (.iload_n 1, 1) := dk_27 (dk_at dksX3_leastSpeed_1 0 rfl rfl)
theorem dX3_leastSpeed_25 : decode cX3_leastSpeed 25 = .ok (.iload_n 2, 1) := dk_28 (dk_at dksX3_leastSpeed_1 1 rfl rfl)
theorem dX3_leastSpeed_26 : decode cX3_leastSpeed 26 = .ok (.iload_n 3, 1) := dk_29 (dk_at dksX3_leastSpeed_1 2 rfl rfl)
theorem dX3_leastSpeed_27 : decode cX3_leastSpeed 27 = .ok (.iload 4, 2) := dk_21 4 (dk_at dksX3_leastSpeed_1 3 rfl rfl)
theorem dX3_leastSpeed_29 : decode cX3_leastSpeed 29 = .ok (.invokevirtual 145, 3) := dk_182 0 145 (dk_at dksX3_leastSpeed_1 5 rfl rfl)
theorem dX3_leastSpeed_32 : decode cX3_leastSpeed 32 = .ok (.aload_n 0, 1) := dk_42 (dk_at dksX3_leastSpeed_1 8 rfl rfl)
theorem dX3_leastSpeed_33 : decode cX3_leastSpeed 33 = .ok (.iload_n 2, 1) := dk_28 (dk_at dksX3_leastSpeed_1 9 rfl rfl)
theorem dX3_leastSpeed_34 : decode cX3_leastSpeed 34 = .ok (.iconst 0, 1) := dk_3 (dk_at dksX3_leastSpeed_1 10 rfl rfl)
theorem dX3_leastSpeed_35 : decode cX3_leastSpeed 35 = .ok (.invokevirtual 89, 3) := dk_182 0 89 (dk_at dksX3_leastSpeed_1 11 rfl rfl)
theorem dX3_leastSpeed_38 : decode cX3_leastSpeed 38 = .ok (.if_icmp .lt 6, 3) := dk_161 0 6 (dk_at dksX3_leastSpeed_1 14 rfl rfl)
theorem dX3_leastSpeed_41 : decode cX3_leastSpeed 41 = .ok (.iload 4, 2) := dk_21 4 (dk_at dksX3_leastSpeed_1 17 rfl rfl)
theorem dX3_leastSpeed_43 : decode cX3_leastSpeed 43 = .ok (.ireturn, 1) := dk_172 (dk_at dksX3_leastSpeed_1 19 rfl rfl)
theorem dX3_leastSpeed_44 : decode cX3_leastSpeed 44 = .ok (.iinc 4 1, 3) := dk_132 4 1 (dk_at dksX3_leastSpeed_1 20 rfl rfl)
theorem dX3_leastSpeed_47 : decode cX3_leastSpeed 47 = .ok (.goto (-31), 3) := dk_167 255 225 (dk_at dksX3_leastSpeed_2 0 rfl rfl)
theorem dX3_leastSpeed_50 : decode cX3_leastSpeed 50 = .ok (.aload_n 0, 1) := dk_42 (dk_at dksX3_leastSpeed_2 3 rfl rfl)
theorem dX3_leastSpeed_51 : decode cX3_leastSpeed 51 = .ok (.iconst 3, 1) := dk_6 (dk_at dksX3_leastSpeed_2 4 rfl rfl)
theorem dX3_leastSpeed_52 : decode cX3_leastSpeed 52 = .ok (.putfield 42, 3) := dk_181 0 42 (dk_at dksX3_leastSpeed_2 5 rfl rfl)
theorem dX3_leastSpeed_55 : decode cX3_leastSpeed 55 = .ok (.iconst 0, 1) := dk_3 (dk_at dksX3_leastSpeed_2 8 rfl rfl)
theorem dX3_leastSpeed_56 : decode cX3_leastSpeed 56 = .ok (.ireturn, 1) := dk_172 (dk_at dksX3_leastSpeed_2 9 rfl rfl)
abbrev cX3_alumnus : ByteArray := prog_11_method_50_code
def yX3_alumnus : MethodName := ⟨RX3, "alumnus", "(I)I"⟩
def dkwX3_alumnus_1 : List UInt8 := [182, 0, 70, 153, 0, 7, 3, 167, 0, 13, 42, 180, 0, 7, 17, 1, 38, 27, 96, 46, 172]
abbrev dktX3_alumnus_1 : List UInt8 := dkwX3_alumnus_1 ++ []
def dkwX3_alumnus_0 : List UInt8 := [42, 27, 3, 42, 180, 0, 7, 16, 8, 46, 4, 100, 184, 0, 62, 153, 0, 7, 3, 167, 0, 4, 4]
abbrev dktX3_alumnus_0 : List UInt8 := dkwX3_alumnus_0 ++ dktX3_alumnus_1
theorem dksX3_alumnus_0 : cX3_alumnus.data.toList.drop 0 = dktX3_alumnus_0 := by decide +kernel
theorem dksX3_alumnus_1 : cX3_alumnus.data.toList.drop 23 = dktX3_alumnus_1 := dk_seg dksX3_alumnus_0 23 rfl rfl
theorem dX3_alumnus_0 : decode cX3_alumnus 0 = .ok (.aload_n 0, 1) := dk_42 (dk_at dksX3_alumnus_0 0 rfl rfl)
theorem dX3_alumnus_1 : decode cX3_alumnus 1 = .ok (.iload_n 1, 1) := dk_27 (dk_at dksX3_alumnus_0 1 rfl rfl)
theorem dX3_alumnus_2 : decode cX3_alumnus 2 = .ok (.iconst 0, 1) := dk_3 (dk_at dksX3_alumnus_0 2 rfl rfl)
theorem dX3_alumnus_3 : decode cX3_alumnus 3 = .ok (.aload_n 0, 1) := dk_42 (dk_at dksX3_alumnus_0 3 rfl rfl)
theorem dX3_alumnus_4 : decode cX3_alumnus 4 = .ok (.getfield 7, 3) := dk_180 0 7 (dk_at dksX3_alumnus_0 4 rfl rfl)
theorem dX3_alumnus_7 : decode cX3_alumnus 7 = .ok (.bipush 8, 2) := dk_16 8 (dk_at dksX3_alumnus_0 7 rfl rfl)
theorem dX3_alumnus_9 : decode cX3_alumnus 9 = .ok (.iaload, 1) := dk_46 (dk_at dksX3_alumnus_0 9 rfl rfl)
theorem dX3_alumnus_10 : decode cX3_alumnus 10 = .ok (.iconst 1, 1) := dk_4 (dk_at dksX3_alumnus_0 10 rfl rfl)
theorem dX3_alumnus_11 : decode cX3_alumnus 11 = .ok (.isub, 1) := dk_100 (dk_at dksX3_alumnus_0 11 rfl rfl)
theorem dX3_alumnus_12 : decode cX3_alumnus 12 = .ok (.invokestatic 62, 3) := dk_184 0 62 (dk_at dksX3_alumnus_0 12 rfl rfl)
theorem dX3_alumnus_15 : decode cX3_alumnus 15 = .ok (.ifCond .eq 7, 3) := dk_153 0 7 (dk_at dksX3_alumnus_0 15 rfl rfl)
theorem dX3_alumnus_18 : decode cX3_alumnus 18 = .ok (.iconst 0, 1) := dk_3 (dk_at dksX3_alumnus_0 18 rfl rfl)
theorem dX3_alumnus_19 : decode cX3_alumnus 19 = .ok (.goto 4, 3) := dk_167 0 4 (dk_at dksX3_alumnus_0 19 rfl rfl)
theorem dX3_alumnus_22 : decode cX3_alumnus 22 = .ok (.iconst 1, 1) := dk_4 (dk_at dksX3_alumnus_0 22 rfl rfl)
theorem dX3_alumnus_23 : decode cX3_alumnus 23 = .ok (.invokevirtual 70, 3) := dk_182 0 70 (dk_at dksX3_alumnus_1 0 rfl rfl)
theorem dX3_alumnus_26 : decode cX3_alumnus 26 = .ok (.ifCond .eq 7, 3) := dk_153 0 7 (dk_at dksX3_alumnus_1 3 rfl rfl)
theorem dX3_alumnus_29 : decode cX3_alumnus 29 = .ok (.iconst 0, 1) := dk_3 (dk_at dksX3_alumnus_1 6 rfl rfl)
theorem dX3_alumnus_30 : decode cX3_alumnus 30 = .ok (.goto 13, 3) := dk_167 0 13 (dk_at dksX3_alumnus_1 7 rfl rfl)
theorem dX3_alumnus_33 : decode cX3_alumnus 33 = .ok (.aload_n 0, 1) := dk_42 (dk_at dksX3_alumnus_1 10 rfl rfl)
theorem dX3_alumnus_34 : decode cX3_alumnus 34 = .ok (.getfield 7, 3) := dk_180 0 7 (dk_at dksX3_alumnus_1 11 rfl rfl)
theorem dX3_alumnus_37 : decode cX3_alumnus 37 = .ok (.sipush 294, 3) := dk_17 1 38 (dk_at dksX3_alumnus_1 14 rfl rfl)
theorem dX3_alumnus_40 : decode cX3_alumnus 40 = .ok (.iload_n 1, 1) := dk_27 (dk_at dksX3_alumnus_1 17 rfl rfl)
theorem dX3_alumnus_41 : decode cX3_alumnus 41 = .ok (.iadd, 1) := dk_96 (dk_at dksX3_alumnus_1 18 rfl rfl)
theorem dX3_alumnus_42 : decode cX3_alumnus 42 = .ok (.iaload, 1) := dk_46 (dk_at dksX3_alumnus_1 19 rfl rfl)
theorem dX3_alumnus_43 : decode cX3_alumnus 43 = .ok (.ireturn, 1) := dk_172 (dk_at dksX3_alumnus_1 20 rfl rfl)
abbrev cX3_sankOn : ByteArray := prog_11_method_51_code
def yX3_sankOn : MethodName := ⟨RX3, "sankOn", "(I)I"⟩
def dkwX3_sankOn_1 : List UInt8 := [167, 0, 4, 5, 182, 0, 70, 153, 0, 7, 3, 167, 0, 10, 42, 27, 16, 10, 182, 0, 66, 172]
abbrev dktX3_sankOn_1 : List UInt8 := dkwX3_sankOn_1 ++ []
def dkwX3_sankOn_0 : List UInt8 := [42, 42, 27, 182, 0, 95, 154, 0, 7, 4, 167, 0, 16, 42, 27, 182, 0, 118, 153, 0, 7, 3]
abbrev dktX3_sankOn_0 : List UInt8 := dkwX3_sankOn_0 ++ dktX3_sankOn_1
theorem dksX3_sankOn_0 : cX3_sankOn.data.toList.drop 0 = dktX3_sankOn_0 := by decide +kernel
theorem dksX3_sankOn_1 : cX3_sankOn.data.toList.drop 22 = dktX3_sankOn_1 := dk_seg dksX3_sankOn_0 22 rfl rfl
theorem dX3_sankOn_0 : decode cX3_sankOn 0 = .ok (.aload_n 0, 1) := dk_42 (dk_at dksX3_sankOn_0 0 rfl rfl)
theorem dX3_sankOn_1 : decode cX3_sankOn 1 = .ok (.aload_n 0, 1) := dk_42 (dk_at dksX3_sankOn_0 1 rfl rfl)
theorem dX3_sankOn_2 : decode cX3_sankOn 2 = .ok (.iload_n 1, 1) := dk_27 (dk_at dksX3_sankOn_0 2 rfl rfl)
theorem dX3_sankOn_3 : decode cX3_sankOn 3 = .ok (.invokevirtual 95, 3) := dk_182 0 95 (dk_at dksX3_sankOn_0 3 rfl rfl)
theorem dX3_sankOn_6 : decode cX3_sankOn 6 = .ok (.ifCond .ne 7, 3) := dk_154 0 7 (dk_at dksX3_sankOn_0 6 rfl rfl)
theorem dX3_sankOn_9 : decode cX3_sankOn 9 = .ok (.iconst 1, 1) := dk_4 (dk_at dksX3_sankOn_0 9 rfl rfl)
theorem dX3_sankOn_10 : decode cX3_sankOn 10 = .ok (.goto 16, 3) := dk_167 0 16 (dk_at dksX3_sankOn_0 10 rfl rfl)
theorem dX3_sankOn_13 : decode cX3_sankOn 13 = .ok (.aload_n 0, 1) := dk_42 (dk_at dksX3_sankOn_0 13 rfl rfl)
theorem dX3_sankOn_14 : decode cX3_sankOn 14 = .ok (.iload_n 1, 1) := dk_27 (dk_at dksX3_sankOn_0 14 rfl rfl)
theorem dX3_sankOn_15 : decode cX3_sankOn 15 = .ok (.invokevirtual 118, 3) := dk_182 0 118 (dk_at dksX3_sankOn_0 15 rfl rfl)
theorem dX3_sankOn_18 : decode cX3_sankOn 18 = .ok (.ifCond .eq 7, 3) := dk_153 0 7 (dk_at dksX3_sankOn_0 18 rfl rfl)
theorem dX3_sankOn_21 : decode cX3_sankOn 21 = .ok (.iconst 0, 1) := dk_3 (dk_at dksX3_sankOn_0 21 rfl rfl)
theorem dX3_sankOn_22 : decode cX3_sankOn 22 = .ok (.goto 4, 3) := dk_167 0 4 (dk_at dksX3_sankOn_1 0 rfl rfl)
theorem dX3_sankOn_25 : decode cX3_sankOn 25 = .ok (.iconst 2, 1) := dk_5 (dk_at dksX3_sankOn_1 3 rfl rfl)
theorem dX3_sankOn_26 : decode cX3_sankOn 26 = .ok (.invokevirtual 70, 3) := dk_182 0 70 (dk_at dksX3_sankOn_1 4 rfl rfl)
theorem dX3_sankOn_29 : decode cX3_sankOn 29 = .ok (.ifCond .eq 7, 3) := dk_153 0 7 (dk_at dksX3_sankOn_1 7 rfl rfl)
theorem dX3_sankOn_32 : decode cX3_sankOn 32 = .ok (.iconst 0, 1) := dk_3 (dk_at dksX3_sankOn_1 10 rfl rfl)
theorem dX3_sankOn_33 : decode cX3_sankOn 33 = .ok (.goto 10, 3) := dk_167 0 10 (dk_at dksX3_sankOn_1 11 rfl rfl)
theorem dX3_sankOn_36 : decode cX3_sankOn 36 = .ok (.aload_n 0, 1) := dk_42 (dk_at dksX3_sankOn_1 14 rfl rfl)
theorem dX3_sankOn_37 : decode cX3_sankOn 37 = .ok (.iload_n 1, 1) := dk_27 (dk_at dksX3_sankOn_1 15 rfl rfl)
theorem dX3_sankOn_38 : decode cX3_sankOn 38 = .ok (.bipush 10, 2) := dk_16 10 (dk_at dksX3_sankOn_1 16 rfl rfl)
theorem dX3_sankOn_40 : decode cX3_sankOn 40 = .ok (.invokevirtual 66, 3) := dk_182 0 66 (dk_at dksX3_sankOn_1 18 rfl rfl)
theorem dX3_sankOn_43 : decode cX3_sankOn 43 = .ok (.ireturn, 1) := dk_172 (dk_at dksX3_sankOn_1 21 rfl rfl)
abbrev cX3_ranked : ByteArray := prog_11_method_52_code
def yX3_ranked : MethodName := ⟨RX3, "ranked", "(II)I"⟩
def dkwX3_ranked_6 : List UInt8 := [132, 4, 1, 167, 255, 159, 42, 5, 181, 0, 42, 3, 172]
abbrev dktX3_ranked_6 : List UInt8 := dkwX3_ranked_6 ++ []
def dkwX3_ranked_5 : List UInt8 := [167, 0, 4, 3, 96, 54, 5, 132, 6, 1, 167, 255, 191, 21, 5, 28, 160, 0, 6, 21, 4, 172]
abbrev dktX3_ranked_5 : List UInt8 := dkwX3_ranked_5 ++ dktX3_ranked_6
def dkwX3_ranked_4 : List UInt8 := [21, 6, 29, 182, 0, 66, 42, 21, 4, 29, 182, 0, 66, 160, 0, 14, 21, 6, 21, 4, 162, 0, 7, 4]
abbrev dktX3_ranked_4 : List UInt8 := dkwX3_ranked_4 ++ dktX3_ranked_5
def dkwX3_ranked_3 : List UInt8 := [162, 0, 60, 21, 5, 42, 21, 6, 29, 182, 0, 66, 42, 21, 4, 29, 182, 0, 66, 163, 0, 27, 42]
abbrev dktX3_ranked_3 : List UInt8 := dkwX3_ranked_3 ++ dktX3_ranked_4
def dkwX3_ranked_2 : List UInt8 := [42, 180, 0, 7, 3, 46, 162, 0, 92, 3, 54, 5, 3, 54, 6, 21, 6, 42, 180, 0, 7, 3, 46]
abbrev dktX3_ranked_2 : List UInt8 := dkwX3_ranked_2 ++ dktX3_ranked_3
def dkwX3_ranked_1 : List UInt8 := [154, 0, 7, 5, 167, 0, 14, 27, 4, 160, 0, 8, 16, 7, 167, 0, 4, 7, 62, 3, 54, 4, 21, 4]
abbrev dktX3_ranked_1 : List UInt8 := dkwX3_ranked_1 ++ dktX3_ranked_2
def dkwX3_ranked_0 : List UInt8 := [42, 27, 3, 5, 184, 0, 62, 153, 0, 7, 3, 167, 0, 4, 4, 182, 0, 70, 153, 0, 5, 3, 172, 27]
abbrev dktX3_ranked_0 : List UInt8 := dkwX3_ranked_0 ++ dktX3_ranked_1
theorem dksX3_ranked_0 : cX3_ranked.data.toList.drop 0 = dktX3_ranked_0 := by decide +kernel
theorem dksX3_ranked_1 : cX3_ranked.data.toList.drop 24 = dktX3_ranked_1 := dk_seg dksX3_ranked_0 24 rfl rfl
theorem dksX3_ranked_2 : cX3_ranked.data.toList.drop 48 = dktX3_ranked_2 := dk_seg dksX3_ranked_1 24 rfl rfl
theorem dksX3_ranked_3 : cX3_ranked.data.toList.drop 71 = dktX3_ranked_3 := dk_seg dksX3_ranked_2 23 rfl rfl
theorem dksX3_ranked_4 : cX3_ranked.data.toList.drop 94 = dktX3_ranked_4 := dk_seg dksX3_ranked_3 23 rfl rfl
theorem dksX3_ranked_5 : cX3_ranked.data.toList.drop 118 = dktX3_ranked_5 := dk_seg dksX3_ranked_4 24 rfl rfl
theorem dksX3_ranked_6 : cX3_ranked.data.toList.drop 140 = dktX3_ranked_6 := dk_seg dksX3_ranked_5 22 rfl rfl
theorem dX3_ranked_0 : decode cX3_ranked 0 = .ok (.aload_n 0, 1) := dk_42 (dk_at dksX3_ranked_0 0 rfl rfl)
theorem dX3_ranked_1 : decode cX3_ranked 1 = .ok (.iload_n 1, 1) := dk_27 (dk_at dksX3_ranked_0 1 rfl rfl)
theorem dX3_ranked_2 : decode cX3_ranked 2 = .ok (.iconst 0, 1) := dk_3 (dk_at dksX3_ranked_0 2 rfl rfl)
theorem dX3_ranked_3 : decode cX3_ranked 3 = .ok (.iconst 2, 1) := dk_5 (dk_at dksX3_ranked_0 3 rfl rfl)
theorem dX3_ranked_4 : decode cX3_ranked 4 = .ok (.invokestatic 62, 3) := dk_184 0 62 (dk_at dksX3_ranked_0 4 rfl rfl)
theorem dX3_ranked_7 : decode cX3_ranked 7 = .ok (.ifCond .eq 7, 3) := dk_153 0 7 (dk_at dksX3_ranked_0 7 rfl rfl)
theorem dX3_ranked_10 : decode cX3_ranked 10 = .ok (.iconst 0, 1) := dk_3 (dk_at dksX3_ranked_0 10 rfl rfl)
theorem dX3_ranked_11 : decode cX3_ranked 11 = .ok (.goto 4, 3) := dk_167 0 4 (dk_at dksX3_ranked_0 11 rfl rfl)
theorem dX3_ranked_14 : decode cX3_ranked 14 = .ok (.iconst 1, 1) := dk_4 (dk_at dksX3_ranked_0 14 rfl rfl)
theorem dX3_ranked_15 : decode cX3_ranked 15 = .ok (.invokevirtual 70, 3) := dk_182 0 70 (dk_at dksX3_ranked_0 15 rfl rfl)
theorem dX3_ranked_18 : decode cX3_ranked 18 = .ok (.ifCond .eq 5, 3) := dk_153 0 5 (dk_at dksX3_ranked_0 18 rfl rfl)
theorem dX3_ranked_21 : decode cX3_ranked 21 = .ok (.iconst 0, 1) := dk_3 (dk_at dksX3_ranked_0 21 rfl rfl)
theorem dX3_ranked_22 : decode cX3_ranked 22 = .ok (.ireturn, 1) := dk_172 (dk_at dksX3_ranked_0 22 rfl rfl)
theorem dX3_ranked_23 : decode cX3_ranked 23 = .ok (.iload_n 1, 1) := dk_27 (dk_at dksX3_ranked_0 23 rfl rfl)
theorem dX3_ranked_24 : decode cX3_ranked 24 = .ok (.ifCond .ne 7, 3) := dk_154 0 7 (dk_at dksX3_ranked_1 0 rfl rfl)
theorem dX3_ranked_27 : decode cX3_ranked 27 = .ok (.iconst 2, 1) := dk_5 (dk_at dksX3_ranked_1 3 rfl rfl)
theorem dX3_ranked_28 : decode cX3_ranked 28 = .ok (.goto 14, 3) := dk_167 0 14 (dk_at dksX3_ranked_1 4 rfl rfl)
theorem dX3_ranked_31 : decode cX3_ranked 31 = .ok (.iload_n 1, 1) := dk_27 (dk_at dksX3_ranked_1 7 rfl rfl)
theorem dX3_ranked_32 : decode cX3_ranked 32 = .ok (.iconst 1, 1) := dk_4 (dk_at dksX3_ranked_1 8 rfl rfl)
theorem dX3_ranked_33 : decode cX3_ranked 33 = .ok (.if_icmp .ne 8, 3) := dk_160 0 8 (dk_at dksX3_ranked_1 9 rfl rfl)
theorem dX3_ranked_36 : decode cX3_ranked 36 = .ok (.bipush 7, 2) := dk_16 7 (dk_at dksX3_ranked_1 12 rfl rfl)
theorem dX3_ranked_38 : decode cX3_ranked 38 = .ok (.goto 4, 3) := dk_167 0 4 (dk_at dksX3_ranked_1 14 rfl rfl)
theorem dX3_ranked_41 : decode cX3_ranked 41 = .ok (.iconst 4, 1) := dk_7 (dk_at dksX3_ranked_1 17 rfl rfl)
theorem dX3_ranked_42 : decode cX3_ranked 42 = .ok (.istore_n 3, 1) := dk_62 (dk_at dksX3_ranked_1 18 rfl rfl)
theorem dX3_ranked_43 : decode cX3_ranked 43 = .ok (.iconst 0, 1) := dk_3 (dk_at dksX3_ranked_1 19 rfl rfl)
theorem dX3_ranked_44 : decode cX3_ranked 44 = .ok (.istore 4, 2) := dk_54 4 (dk_at dksX3_ranked_1 20 rfl rfl)
theorem dX3_ranked_46 : decode cX3_ranked 46 = .ok (.iload 4, 2) := dk_21 4 (dk_at dksX3_ranked_1 22 rfl rfl)
theorem dX3_ranked_48 : decode cX3_ranked 48 = .ok (.aload_n 0, 1) := dk_42 (dk_at dksX3_ranked_2 0 rfl rfl)
theorem dX3_ranked_49 : decode cX3_ranked 49 = .ok (.getfield 7, 3) := dk_180 0 7 (dk_at dksX3_ranked_2 1 rfl rfl)
theorem dX3_ranked_52 : decode cX3_ranked 52 = .ok (.iconst 0, 1) := dk_3 (dk_at dksX3_ranked_2 4 rfl rfl)
theorem dX3_ranked_53 : decode cX3_ranked 53 = .ok (.iaload, 1) := dk_46 (dk_at dksX3_ranked_2 5 rfl rfl)
theorem dX3_ranked_54 : decode cX3_ranked 54 = .ok (.if_icmp .ge 92, 3) := dk_162 0 92 (dk_at dksX3_ranked_2 6 rfl rfl)
theorem dX3_ranked_57 : decode cX3_ranked 57 = .ok (.iconst 0, 1) := dk_3 (dk_at dksX3_ranked_2 9 rfl rfl)
theorem dX3_ranked_58 : decode cX3_ranked 58 = .ok (.istore 5, 2) := dk_54 5 (dk_at dksX3_ranked_2 10 rfl rfl)
theorem dX3_ranked_60 : decode cX3_ranked 60 = .ok (.iconst 0, 1) := dk_3 (dk_at dksX3_ranked_2 12 rfl rfl)
theorem dX3_ranked_61 : decode cX3_ranked 61 = .ok (.istore 6, 2) := dk_54 6 (dk_at dksX3_ranked_2 13 rfl rfl)
theorem dX3_ranked_63 : decode cX3_ranked 63 = .ok (.iload 6, 2) := dk_21 6 (dk_at dksX3_ranked_2 15 rfl rfl)
theorem dX3_ranked_65 : decode cX3_ranked 65 = .ok (.aload_n 0, 1) := dk_42 (dk_at dksX3_ranked_2 17 rfl rfl)
theorem dX3_ranked_66 : decode cX3_ranked 66 = .ok (.getfield 7, 3) := dk_180 0 7 (dk_at dksX3_ranked_2 18 rfl rfl)
theorem dX3_ranked_69 : decode cX3_ranked 69 = .ok (.iconst 0, 1) := dk_3 (dk_at dksX3_ranked_2 21 rfl rfl)
theorem dX3_ranked_70 : decode cX3_ranked 70 = .ok (.iaload, 1) := dk_46 (dk_at dksX3_ranked_2 22 rfl rfl)
theorem dX3_ranked_71 : decode cX3_ranked 71 = .ok (.if_icmp .ge 60, 3) := dk_162 0 60 (dk_at dksX3_ranked_3 0 rfl rfl)
theorem dX3_ranked_74 : decode cX3_ranked 74 = .ok (.iload 5, 2) := dk_21 5 (dk_at dksX3_ranked_3 3 rfl rfl)
theorem dX3_ranked_76 : decode cX3_ranked 76 = .ok (.aload_n 0, 1) := dk_42 (dk_at dksX3_ranked_3 5 rfl rfl)
theorem dX3_ranked_77 : decode cX3_ranked 77 = .ok (.iload 6, 2) := dk_21 6 (dk_at dksX3_ranked_3 6 rfl rfl)
theorem dX3_ranked_79 : decode cX3_ranked 79 = .ok (.iload_n 3, 1) := dk_29 (dk_at dksX3_ranked_3 8 rfl rfl)
theorem dX3_ranked_80 : decode cX3_ranked 80 = .ok (.invokevirtual 66, 3) := dk_182 0 66 (dk_at dksX3_ranked_3 9 rfl rfl)
theorem dX3_ranked_83 : decode cX3_ranked 83 = .ok (.aload_n 0, 1) := dk_42 (dk_at dksX3_ranked_3 12 rfl rfl)
theorem dX3_ranked_84 : decode cX3_ranked 84 = .ok (.iload 4, 2) := dk_21 4 (dk_at dksX3_ranked_3 13 rfl rfl)
theorem dX3_ranked_86 : decode cX3_ranked 86 = .ok (.iload_n 3, 1) := dk_29 (dk_at dksX3_ranked_3 15 rfl rfl)
theorem dX3_ranked_87 : decode cX3_ranked 87 = .ok (.invokevirtual 66, 3) := dk_182 0 66 (dk_at dksX3_ranked_3 16 rfl rfl)
theorem dX3_ranked_90 : decode cX3_ranked 90 = .ok (.if_icmp .gt 27, 3) := dk_163 0 27 (dk_at dksX3_ranked_3 19 rfl rfl)
theorem dX3_ranked_93 : decode cX3_ranked 93 = .ok (.aload_n 0, 1) := dk_42 (dk_at dksX3_ranked_3 22 rfl rfl)
theorem dX3_ranked_94 : decode cX3_ranked 94 = .ok (.iload 6, 2) := dk_21 6 (dk_at dksX3_ranked_4 0 rfl rfl)
theorem dX3_ranked_96 : decode cX3_ranked 96 = .ok (.iload_n 3, 1) := dk_29 (dk_at dksX3_ranked_4 2 rfl rfl)
theorem dX3_ranked_97 : decode cX3_ranked 97 = .ok (.invokevirtual 66, 3) := dk_182 0 66 (dk_at dksX3_ranked_4 3 rfl rfl)
theorem dX3_ranked_100 : decode cX3_ranked 100 = .ok (.aload_n 0, 1) := dk_42 (dk_at dksX3_ranked_4 6 rfl rfl)
theorem dX3_ranked_101 : decode cX3_ranked 101 = .ok (.iload 4, 2) := dk_21 4 (dk_at dksX3_ranked_4 7 rfl rfl)
theorem dX3_ranked_103 : decode cX3_ranked 103 = .ok (.iload_n 3, 1) := dk_29 (dk_at dksX3_ranked_4 9 rfl rfl)
theorem dX3_ranked_104 : decode cX3_ranked 104 = .ok (.invokevirtual 66, 3) := dk_182 0 66 (dk_at dksX3_ranked_4 10 rfl rfl)
theorem dX3_ranked_107 : decode cX3_ranked 107 = .ok (.if_icmp .ne 14, 3) := dk_160 0 14 (dk_at dksX3_ranked_4 13 rfl rfl)
theorem dX3_ranked_110 : decode cX3_ranked 110 = .ok (.iload 6, 2) := dk_21 6 (dk_at dksX3_ranked_4 16 rfl rfl)
theorem dX3_ranked_112 : decode cX3_ranked 112 = .ok (.iload 4, 2) := dk_21 4 (dk_at dksX3_ranked_4 18 rfl rfl)
theorem dX3_ranked_114 : decode cX3_ranked 114 = .ok (.if_icmp .ge 7, 3) := dk_162 0 7 (dk_at dksX3_ranked_4 20 rfl rfl)
theorem dX3_ranked_117 : decode cX3_ranked 117 = .ok (.iconst 1, 1) := dk_4 (dk_at dksX3_ranked_4 23 rfl rfl)
theorem dX3_ranked_118 : decode cX3_ranked 118 = .ok (.goto 4, 3) := dk_167 0 4 (dk_at dksX3_ranked_5 0 rfl rfl)
theorem dX3_ranked_121 : decode cX3_ranked 121 = .ok (.iconst 0, 1) := dk_3 (dk_at dksX3_ranked_5 3 rfl rfl)
theorem dX3_ranked_122 : decode cX3_ranked 122 = .ok (.iadd, 1) := dk_96 (dk_at dksX3_ranked_5 4 rfl rfl)
theorem dX3_ranked_123 : decode cX3_ranked 123 = .ok (.istore 5, 2) := dk_54 5 (dk_at dksX3_ranked_5 5 rfl rfl)
theorem dX3_ranked_125 : decode cX3_ranked 125 = .ok (.iinc 6 1, 3) := dk_132 6 1 (dk_at dksX3_ranked_5 7 rfl rfl)
theorem dX3_ranked_128 : decode cX3_ranked 128 = .ok (.goto (-65), 3) := dk_167 255 191 (dk_at dksX3_ranked_5 10 rfl rfl)
theorem dX3_ranked_131 : decode cX3_ranked 131 = .ok (.iload 5, 2) := dk_21 5 (dk_at dksX3_ranked_5 13 rfl rfl)
theorem dX3_ranked_133 : decode cX3_ranked 133 = .ok (.iload_n 2, 1) := dk_28 (dk_at dksX3_ranked_5 15 rfl rfl)
theorem dX3_ranked_134 : decode cX3_ranked 134 = .ok (.if_icmp .ne 6, 3) := dk_160 0 6 (dk_at dksX3_ranked_5 16 rfl rfl)
theorem dX3_ranked_137 : decode cX3_ranked 137 = .ok (.iload 4, 2) := dk_21 4 (dk_at dksX3_ranked_5 19 rfl rfl)
theorem dX3_ranked_139 : decode cX3_ranked 139 = .ok (.ireturn, 1) := dk_172 (dk_at dksX3_ranked_5 21 rfl rfl)
theorem dX3_ranked_140 : decode cX3_ranked 140 = .ok (.iinc 4 1, 3) := dk_132 4 1 (dk_at dksX3_ranked_6 0 rfl rfl)
theorem dX3_ranked_143 : decode cX3_ranked 143 = .ok (.goto (-97), 3) := dk_167 255 159 (dk_at dksX3_ranked_6 3 rfl rfl)
theorem dX3_ranked_146 : decode cX3_ranked 146 = .ok (.aload_n 0, 1) := dk_42 (dk_at dksX3_ranked_6 6 rfl rfl)
theorem dX3_ranked_147 : decode cX3_ranked 147 = .ok (.iconst 2, 1) := dk_5 (dk_at dksX3_ranked_6 7 rfl rfl)
theorem dX3_ranked_148 : decode cX3_ranked 148 = .ok (.putfield 42, 3) := dk_181 0 42 (dk_at dksX3_ranked_6 8 rfl rfl)
theorem dX3_ranked_151 : decode cX3_ranked 151 = .ok (.iconst 0, 1) := dk_3 (dk_at dksX3_ranked_6 11 rfl rfl)
theorem dX3_ranked_152 : decode cX3_ranked 152 = .ok (.ireturn, 1) := dk_172 (dk_at dksX3_ranked_6 12 rfl rfl)
abbrev cX3_graded : ByteArray := prog_11_method_53_code
def yX3_graded : MethodName := ⟨RX3, "graded", "(C)I"⟩
def dkwX3_graded_2 : List UInt8 := [160, 0, 7, 4, 167, 0, 4, 3, 96, 61, 132, 3, 1, 167, 255, 226, 28, 172]
abbrev dktX3_graded_2 : List UInt8 := dkwX3_graded_2 ++ []
def dkwX3_graded_1 : List UInt8 := [172, 3, 61, 3, 62, 29, 42, 180, 0, 7, 3, 46, 162, 0, 26, 28, 42, 29, 182, 0, 105, 27]
abbrev dktX3_graded_1 : List UInt8 := dkwX3_graded_1 ++ dktX3_graded_2
def dkwX3_graded_0 : List UInt8 := [42, 27, 16, 97, 16, 101, 184, 0, 62, 153, 0, 7, 3, 167, 0, 4, 4, 182, 0, 70, 153, 0, 5, 3]
abbrev dktX3_graded_0 : List UInt8 := dkwX3_graded_0 ++ dktX3_graded_1
theorem dksX3_graded_0 : cX3_graded.data.toList.drop 0 = dktX3_graded_0 := by decide +kernel
theorem dksX3_graded_1 : cX3_graded.data.toList.drop 24 = dktX3_graded_1 := dk_seg dksX3_graded_0 24 rfl rfl
theorem dksX3_graded_2 : cX3_graded.data.toList.drop 46 = dktX3_graded_2 := dk_seg dksX3_graded_1 22 rfl rfl
theorem dX3_graded_0 : decode cX3_graded 0 = .ok (.aload_n 0, 1) := dk_42 (dk_at dksX3_graded_0 0 rfl rfl)
theorem dX3_graded_1 : decode cX3_graded 1 = .ok (.iload_n 1, 1) := dk_27 (dk_at dksX3_graded_0 1 rfl rfl)
theorem dX3_graded_2 : decode cX3_graded 2 = .ok (.bipush 97, 2) := dk_16 97 (dk_at dksX3_graded_0 2 rfl rfl)
theorem dX3_graded_4 : decode cX3_graded 4 = .ok (.bipush 101, 2) := dk_16 101 (dk_at dksX3_graded_0 4 rfl rfl)
theorem dX3_graded_6 : decode cX3_graded 6 = .ok (.invokestatic 62, 3) := dk_184 0 62 (dk_at dksX3_graded_0 6 rfl rfl)
theorem dX3_graded_9 : decode cX3_graded 9 = .ok (.ifCond .eq 7, 3) := dk_153 0 7 (dk_at dksX3_graded_0 9 rfl rfl)
theorem dX3_graded_12 : decode cX3_graded 12 = .ok (.iconst 0, 1) := dk_3 (dk_at dksX3_graded_0 12 rfl rfl)
theorem dX3_graded_13 : decode cX3_graded 13 = .ok (.goto 4, 3) := dk_167 0 4 (dk_at dksX3_graded_0 13 rfl rfl)
theorem dX3_graded_16 : decode cX3_graded 16 = .ok (.iconst 1, 1) := dk_4 (dk_at dksX3_graded_0 16 rfl rfl)
theorem dX3_graded_17 : decode cX3_graded 17 = .ok (.invokevirtual 70, 3) := dk_182 0 70 (dk_at dksX3_graded_0 17 rfl rfl)
theorem dX3_graded_20 : decode cX3_graded 20 = .ok (.ifCond .eq 5, 3) := dk_153 0 5 (dk_at dksX3_graded_0 20 rfl rfl)
theorem dX3_graded_23 : decode cX3_graded 23 = .ok (.iconst 0, 1) := dk_3 (dk_at dksX3_graded_0 23 rfl rfl)
theorem dX3_graded_24 : decode cX3_graded 24 = .ok (.ireturn, 1) := dk_172 (dk_at dksX3_graded_1 0 rfl rfl)
theorem dX3_graded_25 : decode cX3_graded 25 = .ok (.iconst 0, 1) := dk_3 (dk_at dksX3_graded_1 1 rfl rfl)
theorem dX3_graded_26 : decode cX3_graded 26 = .ok (.istore_n 2, 1) := dk_61 (dk_at dksX3_graded_1 2 rfl rfl)
theorem dX3_graded_27 : decode cX3_graded 27 = .ok (.iconst 0, 1) := dk_3 (dk_at dksX3_graded_1 3 rfl rfl)
theorem dX3_graded_28 : decode cX3_graded 28 = .ok (.istore_n 3, 1) := dk_62 (dk_at dksX3_graded_1 4 rfl rfl)
theorem dX3_graded_29 : decode cX3_graded 29 = .ok (.iload_n 3, 1) := dk_29 (dk_at dksX3_graded_1 5 rfl rfl)
theorem dX3_graded_30 : decode cX3_graded 30 = .ok (.aload_n 0, 1) := dk_42 (dk_at dksX3_graded_1 6 rfl rfl)
theorem dX3_graded_31 : decode cX3_graded 31 = .ok (.getfield 7, 3) := dk_180 0 7 (dk_at dksX3_graded_1 7 rfl rfl)
theorem dX3_graded_34 : decode cX3_graded 34 = .ok (.iconst 0, 1) := dk_3 (dk_at dksX3_graded_1 10 rfl rfl)
theorem dX3_graded_35 : decode cX3_graded 35 = .ok (.iaload, 1) := dk_46 (dk_at dksX3_graded_1 11 rfl rfl)
theorem dX3_graded_36 : decode cX3_graded 36 = .ok (.if_icmp .ge 26, 3) := dk_162 0 26 (dk_at dksX3_graded_1 12 rfl rfl)
theorem dX3_graded_39 : decode cX3_graded 39 = .ok (.iload_n 2, 1) := dk_28 (dk_at dksX3_graded_1 15 rfl rfl)
theorem dX3_graded_40 : decode cX3_graded 40 = .ok (.aload_n 0, 1) := dk_42 (dk_at dksX3_graded_1 16 rfl rfl)
theorem dX3_graded_41 : decode cX3_graded 41 = .ok (.iload_n 3, 1) := dk_29 (dk_at dksX3_graded_1 17 rfl rfl)
theorem dX3_graded_42 : decode cX3_graded 42 = .ok (.invokevirtual 105, 3) := dk_182 0 105 (dk_at dksX3_graded_1 18 rfl rfl)
theorem dX3_graded_45 : decode cX3_graded 45 = .ok (.iload_n 1, 1) := dk_27 (dk_at dksX3_graded_1 21 rfl rfl)
theorem dX3_graded_46 : decode cX3_graded 46 = .ok (.if_icmp .ne 7, 3) := dk_160 0 7 (dk_at dksX3_graded_2 0 rfl rfl)
theorem dX3_graded_49 : decode cX3_graded 49 = .ok (.iconst 1, 1) := dk_4 (dk_at dksX3_graded_2 3 rfl rfl)
theorem dX3_graded_50 : decode cX3_graded 50 = .ok (.goto 4, 3) := dk_167 0 4 (dk_at dksX3_graded_2 4 rfl rfl)
theorem dX3_graded_53 : decode cX3_graded 53 = .ok (.iconst 0, 1) := dk_3 (dk_at dksX3_graded_2 7 rfl rfl)
theorem dX3_graded_54 : decode cX3_graded 54 = .ok (.iadd, 1) := dk_96 (dk_at dksX3_graded_2 8 rfl rfl)
theorem dX3_graded_55 : decode cX3_graded 55 = .ok (.istore_n 2, 1) := dk_61 (dk_at dksX3_graded_2 9 rfl rfl)
theorem dX3_graded_56 : decode cX3_graded 56 = .ok (.iinc 3 1, 3) := dk_132 3 1 (dk_at dksX3_graded_2 10 rfl rfl)
theorem dX3_graded_59 : decode cX3_graded 59 = .ok (.goto (-30), 3) := dk_167 255 226 (dk_at dksX3_graded_2 13 rfl rfl)
theorem dX3_graded_62 : decode cX3_graded 62 = .ok (.iload_n 2, 1) := dk_28 (dk_at dksX3_graded_2 16 rfl rfl)
theorem dX3_graded_63 : decode cX3_graded 63 = .ok (.ireturn, 1) := dk_172 (dk_at dksX3_graded_2 17 rfl rfl)
abbrev cX3_isRight : ByteArray := prog_11_method_54_code
def yX3_isRight : MethodName := ⟨RX3, "isRight", "()Z"⟩
def dkwX3_isRight_1 : List UInt8 := [167, 0, 4, 3, 172]
abbrev dktX3_isRight_1 : List UInt8 := dkwX3_isRight_1 ++ []
def dkwX3_isRight_0 : List UInt8 := [42, 3, 181, 0, 42, 42, 16, 254, 182, 0, 112, 42, 180, 0, 7, 16, 8, 46, 160, 0, 7, 4]
abbrev dktX3_isRight_0 : List UInt8 := dkwX3_isRight_0 ++ dktX3_isRight_1
theorem dksX3_isRight_0 : cX3_isRight.data.toList.drop 0 = dktX3_isRight_0 := by decide +kernel
theorem dksX3_isRight_1 : cX3_isRight.data.toList.drop 22 = dktX3_isRight_1 := dk_seg dksX3_isRight_0 22 rfl rfl
theorem dX3_isRight_0 : decode cX3_isRight 0 = .ok (.aload_n 0, 1) := dk_42 (dk_at dksX3_isRight_0 0 rfl rfl)
theorem dX3_isRight_1 : decode cX3_isRight 1 = .ok (.iconst 0, 1) := dk_3 (dk_at dksX3_isRight_0 1 rfl rfl)
theorem dX3_isRight_2 : decode cX3_isRight 2 = .ok (.putfield 42, 3) := dk_181 0 42 (dk_at dksX3_isRight_0 2 rfl rfl)
theorem dX3_isRight_5 : decode cX3_isRight 5 = .ok (.aload_n 0, 1) := dk_42 (dk_at dksX3_isRight_0 5 rfl rfl)
theorem dX3_isRight_6 : decode cX3_isRight 6 = .ok (.bipush (-2), 2) := dk_16 254 (dk_at dksX3_isRight_0 6 rfl rfl)
theorem dX3_isRight_8 : decode cX3_isRight 8 = .ok (.invokevirtual 112, 3) := dk_182 0 112 (dk_at dksX3_isRight_0 8 rfl rfl)
theorem dX3_isRight_11 : decode cX3_isRight 11 = .ok (.aload_n 0, 1) := dk_42 (dk_at dksX3_isRight_0 11 rfl rfl)
theorem dX3_isRight_12 : decode cX3_isRight 12 = .ok (.getfield 7, 3) := dk_180 0 7 (dk_at dksX3_isRight_0 12 rfl rfl)
theorem dX3_isRight_15 : decode cX3_isRight 15 = .ok (.bipush 8, 2) := dk_16 8 (dk_at dksX3_isRight_0 15 rfl rfl)
theorem dX3_isRight_17 : decode cX3_isRight 17 = .ok (.iaload, 1) := dk_46 (dk_at dksX3_isRight_0 17 rfl rfl)
theorem dX3_isRight_18 : decode cX3_isRight 18 = .ok (.if_icmp .ne 7, 3) := dk_160 0 7 (dk_at dksX3_isRight_0 18 rfl rfl)
theorem dX3_isRight_21 : decode cX3_isRight 21 = .ok (.iconst 1, 1) := dk_4 (dk_at dksX3_isRight_0 21 rfl rfl)
theorem dX3_isRight_22 : decode cX3_isRight 22 = .ok (.goto 4, 3) := dk_167 0 4 (dk_at dksX3_isRight_1 0 rfl rfl)
theorem dX3_isRight_25 : decode cX3_isRight 25 = .ok (.iconst 0, 1) := dk_3 (dk_at dksX3_isRight_1 3 rfl rfl)
theorem dX3_isRight_26 : decode cX3_isRight 26 = .ok (.ireturn, 1) := dk_172 (dk_at dksX3_isRight_1 4 rfl rfl)
abbrev cX3_line : ByteArray := prog_11_method_57_code
def yX3_line : MethodName := ⟨RX3, "line", "(I)I"⟩
def dkwX3_line_5 : List UInt8 := [155, 0, 19, 42, 16, 62, 182, 0, 151, 42, 42, 27, 8, 182, 0, 66, 182, 0, 155, 42, 180, 0, 148, 172]
abbrev dktX3_line_5 : List UInt8 := dkwX3_line_5 ++ []
def dkwX3_line_4 : List UInt8 := [27, 182, 0, 118, 153, 0, 12, 42, 16, 33, 182, 0, 151, 167, 0, 28, 42, 27, 8, 182, 0, 66]
abbrev dktX3_line_4 : List UInt8 := dkwX3_line_4 ++ dktX3_line_5
def dkwX3_line_3 : List UInt8 := [6, 182, 0, 66, 155, 0, 19, 42, 16, 64, 182, 0, 151, 42, 42, 27, 6, 182, 0, 66, 182, 0, 155, 42]
abbrev dktX3_line_3 : List UInt8 := dkwX3_line_3 ++ dktX3_line_4
def dkwX3_line_2 : List UInt8 := [182, 0, 66, 182, 0, 155, 42, 16, 42, 182, 0, 151, 42, 42, 27, 5, 182, 0, 66, 182, 0, 155, 42, 27]
abbrev dktX3_line_2 : List UInt8 := dkwX3_line_2 ++ dktX3_line_3
def dkwX3_line_1 : List UInt8 := [181, 0, 148, 42, 42, 27, 3, 182, 0, 66, 182, 0, 155, 42, 16, 47, 182, 0, 151, 42, 42, 27, 4]
abbrev dktX3_line_1 : List UInt8 := dkwX3_line_1 ++ dktX3_line_2
def dkwX3_line_0 : List UInt8 := [42, 42, 27, 182, 0, 95, 153, 0, 7, 3, 167, 0, 4, 4, 182, 0, 70, 153, 0, 5, 3, 172, 42, 3]
abbrev dktX3_line_0 : List UInt8 := dkwX3_line_0 ++ dktX3_line_1
theorem dksX3_line_0 : cX3_line.data.toList.drop 0 = dktX3_line_0 := by decide +kernel
theorem dksX3_line_1 : cX3_line.data.toList.drop 24 = dktX3_line_1 := dk_seg dksX3_line_0 24 rfl rfl
theorem dksX3_line_2 : cX3_line.data.toList.drop 47 = dktX3_line_2 := dk_seg dksX3_line_1 23 rfl rfl
theorem dksX3_line_3 : cX3_line.data.toList.drop 71 = dktX3_line_3 := dk_seg dksX3_line_2 24 rfl rfl
theorem dksX3_line_4 : cX3_line.data.toList.drop 95 = dktX3_line_4 := dk_seg dksX3_line_3 24 rfl rfl
theorem dksX3_line_5 : cX3_line.data.toList.drop 117 = dktX3_line_5 := dk_seg dksX3_line_4 22 rfl rfl
theorem dX3_line_0 : decode cX3_line 0 = .ok (.aload_n 0, 1) := dk_42 (dk_at dksX3_line_0 0 rfl rfl)
theorem dX3_line_1 : decode cX3_line 1 = .ok (.aload_n 0, 1) := dk_42 (dk_at dksX3_line_0 1 rfl rfl)
theorem dX3_line_2 : decode cX3_line 2 = .ok (.iload_n 1, 1) := dk_27 (dk_at dksX3_line_0 2 rfl rfl)
theorem dX3_line_3 : decode cX3_line 3 = .ok (.invokevirtual 95, 3) := dk_182 0 95 (dk_at dksX3_line_0 3 rfl rfl)
theorem dX3_line_6 : decode cX3_line 6 = .ok (.ifCond .eq 7, 3) := dk_153 0 7 (dk_at dksX3_line_0 6 rfl rfl)
theorem dX3_line_9 : decode cX3_line 9 = .ok (.iconst 0, 1) := dk_3 (dk_at dksX3_line_0 9 rfl rfl)
theorem dX3_line_10 : decode cX3_line 10 = .ok (.goto 4, 3) := dk_167 0 4 (dk_at dksX3_line_0 10 rfl rfl)
theorem dX3_line_13 : decode cX3_line 13 = .ok (.iconst 1, 1) := dk_4 (dk_at dksX3_line_0 13 rfl rfl)
theorem dX3_line_14 : decode cX3_line 14 = .ok (.invokevirtual 70, 3) := dk_182 0 70 (dk_at dksX3_line_0 14 rfl rfl)
theorem dX3_line_17 : decode cX3_line 17 = .ok (.ifCond .eq 5, 3) := dk_153 0 5 (dk_at dksX3_line_0 17 rfl rfl)
theorem dX3_line_20 : decode cX3_line 20 = .ok (.iconst 0, 1) := dk_3 (dk_at dksX3_line_0 20 rfl rfl)
theorem dX3_line_21 : decode cX3_line 21 = .ok (.ireturn, 1) := dk_172 (dk_at dksX3_line_0 21 rfl rfl)
theorem dX3_line_22 : decode cX3_line 22 = .ok (.aload_n 0, 1) := dk_42 (dk_at dksX3_line_0 22 rfl rfl)
theorem dX3_line_23 : decode cX3_line 23 = .ok (.iconst 0, 1) := dk_3 (dk_at dksX3_line_0 23 rfl rfl)
theorem dX3_line_24 : decode cX3_line 24 = .ok (.putfield 148, 3) := dk_181 0 148 (dk_at dksX3_line_1 0 rfl rfl)
theorem dX3_line_27 : decode cX3_line 27 = .ok (.aload_n 0, 1) := dk_42 (dk_at dksX3_line_1 3 rfl rfl)
theorem dX3_line_28 : decode cX3_line 28 = .ok (.aload_n 0, 1) := dk_42 (dk_at dksX3_line_1 4 rfl rfl)
theorem dX3_line_29 : decode cX3_line 29 = .ok (.iload_n 1, 1) := dk_27 (dk_at dksX3_line_1 5 rfl rfl)
theorem dX3_line_30 : decode cX3_line 30 = .ok (.iconst 0, 1) := dk_3 (dk_at dksX3_line_1 6 rfl rfl)
theorem dX3_line_31 : decode cX3_line 31 = .ok (.invokevirtual 66, 3) := dk_182 0 66 (dk_at dksX3_line_1 7 rfl rfl)
theorem dX3_line_34 : decode cX3_line 34 = .ok (.invokevirtual 155, 3) := dk_182 0 155 (dk_at dksX3_line_1 10 rfl rfl)
theorem dX3_line_37 : decode cX3_line 37 = .ok (.aload_n 0, 1) := dk_42 (dk_at dksX3_line_1 13 rfl rfl)
theorem dX3_line_38 : decode cX3_line 38 = .ok (.bipush 47, 2) := dk_16 47 (dk_at dksX3_line_1 14 rfl rfl)
theorem dX3_line_40 : decode cX3_line 40 = .ok (.invokevirtual 151, 3) := dk_182 0 151 (dk_at dksX3_line_1 16 rfl rfl)
theorem dX3_line_43 : decode cX3_line 43 = .ok (.aload_n 0, 1) := dk_42 (dk_at dksX3_line_1 19 rfl rfl)
theorem dX3_line_44 : decode cX3_line 44 = .ok (.aload_n 0, 1) := dk_42 (dk_at dksX3_line_1 20 rfl rfl)
theorem dX3_line_45 : decode cX3_line 45 = .ok (.iload_n 1, 1) := dk_27 (dk_at dksX3_line_1 21 rfl rfl)
theorem dX3_line_46 : decode cX3_line 46 = .ok (.iconst 1, 1) := dk_4 (dk_at dksX3_line_1 22 rfl rfl)
theorem dX3_line_47 : decode cX3_line 47 = .ok (.invokevirtual 66, 3) := dk_182 0 66 (dk_at dksX3_line_2 0 rfl rfl)
theorem dX3_line_50 : decode cX3_line 50 = .ok (.invokevirtual 155, 3) := dk_182 0 155 (dk_at dksX3_line_2 3 rfl rfl)
theorem dX3_line_53 : decode cX3_line 53 = .ok (.aload_n 0, 1) := dk_42 (dk_at dksX3_line_2 6 rfl rfl)
theorem dX3_line_54 : decode cX3_line 54 = .ok (.bipush 42, 2) := dk_16 42 (dk_at dksX3_line_2 7 rfl rfl)
theorem dX3_line_56 : decode cX3_line 56 = .ok (.invokevirtual 151, 3) := dk_182 0 151 (dk_at dksX3_line_2 9 rfl rfl)
theorem dX3_line_59 : decode cX3_line 59 = .ok (.aload_n 0, 1) := dk_42 (dk_at dksX3_line_2 12 rfl rfl)
theorem dX3_line_60 : decode cX3_line 60 = .ok (.aload_n 0, 1) := dk_42 (dk_at dksX3_line_2 13 rfl rfl)
theorem dX3_line_61 : decode cX3_line 61 = .ok (.iload_n 1, 1) := dk_27 (dk_at dksX3_line_2 14 rfl rfl)
theorem dX3_line_62 : decode cX3_line 62 = .ok (.iconst 2, 1) := dk_5 (dk_at dksX3_line_2 15 rfl rfl)
theorem dX3_line_63 : decode cX3_line 63 = .ok (.invokevirtual 66, 3) := dk_182 0 66 (dk_at dksX3_line_2 16 rfl rfl)
theorem dX3_line_66 : decode cX3_line 66 = .ok (.invokevirtual 155, 3) := dk_182 0 155 (dk_at dksX3_line_2 19 rfl rfl)
theorem dX3_line_69 : decode cX3_line 69 = .ok (.aload_n 0, 1) := dk_42 (dk_at dksX3_line_2 22 rfl rfl)
theorem dX3_line_70 : decode cX3_line 70 = .ok (.iload_n 1, 1) := dk_27 (dk_at dksX3_line_2 23 rfl rfl)
theorem dX3_line_71 : decode cX3_line 71 = .ok (.iconst 3, 1) := dk_6 (dk_at dksX3_line_3 0 rfl rfl)
theorem dX3_line_72 : decode cX3_line 72 = .ok (.invokevirtual 66, 3) := dk_182 0 66 (dk_at dksX3_line_3 1 rfl rfl)
theorem dX3_line_75 : decode cX3_line 75 = .ok (.ifCond .lt 19, 3) := dk_155 0 19 (dk_at dksX3_line_3 4 rfl rfl)
theorem dX3_line_78 : decode cX3_line 78 = .ok (.aload_n 0, 1) := dk_42 (dk_at dksX3_line_3 7 rfl rfl)
theorem dX3_line_79 : decode cX3_line 79 = .ok (.bipush 64, 2) := dk_16 64 (dk_at dksX3_line_3 8 rfl rfl)
theorem dX3_line_81 : decode cX3_line 81 = .ok (.invokevirtual 151, 3) := dk_182 0 151 (dk_at dksX3_line_3 10 rfl rfl)
theorem dX3_line_84 : decode cX3_line 84 = .ok (.aload_n 0, 1) := dk_42 (dk_at dksX3_line_3 13 rfl rfl)
theorem dX3_line_85 : decode cX3_line 85 = .ok (.aload_n 0, 1) := dk_42 (dk_at dksX3_line_3 14 rfl rfl)
theorem dX3_line_86 : decode cX3_line 86 = .ok (.iload_n 1, 1) := dk_27 (dk_at dksX3_line_3 15 rfl rfl)
theorem dX3_line_87 : decode cX3_line 87 = .ok (.iconst 3, 1) := dk_6 (dk_at dksX3_line_3 16 rfl rfl)
theorem dX3_line_88 : decode cX3_line 88 = .ok (.invokevirtual 66, 3) := dk_182 0 66 (dk_at dksX3_line_3 17 rfl rfl)
theorem dX3_line_91 : decode cX3_line 91 = .ok (.invokevirtual 155, 3) := dk_182 0 155 (dk_at dksX3_line_3 20 rfl rfl)
theorem dX3_line_94 : decode cX3_line 94 = .ok (.aload_n 0, 1) := dk_42 (dk_at dksX3_line_3 23 rfl rfl)
theorem dX3_line_95 : decode cX3_line 95 = .ok (.iload_n 1, 1) := dk_27 (dk_at dksX3_line_4 0 rfl rfl)
theorem dX3_line_96 : decode cX3_line 96 = .ok (.invokevirtual 118, 3) := dk_182 0 118 (dk_at dksX3_line_4 1 rfl rfl)
theorem dX3_line_99 : decode cX3_line 99 = .ok (.ifCond .eq 12, 3) := dk_153 0 12 (dk_at dksX3_line_4 4 rfl rfl)
theorem dX3_line_102 : decode cX3_line 102 = .ok (.aload_n 0, 1) := dk_42 (dk_at dksX3_line_4 7 rfl rfl)
theorem dX3_line_103 : decode cX3_line 103 = .ok (.bipush 33, 2) := dk_16 33 (dk_at dksX3_line_4 8 rfl rfl)
theorem dX3_line_105 : decode cX3_line 105 = .ok (.invokevirtual 151, 3) := dk_182 0 151 (dk_at dksX3_line_4 10 rfl rfl)
theorem dX3_line_108 : decode cX3_line 108 = .ok (.goto 28, 3) := dk_167 0 28 (dk_at dksX3_line_4 13 rfl rfl)
theorem dX3_line_111 : decode cX3_line 111 = .ok (.aload_n 0, 1) := dk_42 (dk_at dksX3_line_4 16 rfl rfl)
theorem dX3_line_112 : decode cX3_line 112 = .ok (.iload_n 1, 1) := dk_27 (dk_at dksX3_line_4 17 rfl rfl)
theorem dX3_line_113 : decode cX3_line 113 = .ok (.iconst 5, 1) := dk_8 (dk_at dksX3_line_4 18 rfl rfl)
theorem dX3_line_114 : decode cX3_line 114 = .ok (.invokevirtual 66, 3) := dk_182 0 66 (dk_at dksX3_line_4 19 rfl rfl)
theorem dX3_line_117 : decode cX3_line 117 = .ok (.ifCond .lt 19, 3) := dk_155 0 19 (dk_at dksX3_line_5 0 rfl rfl)
theorem dX3_line_120 : decode cX3_line 120 = .ok (.aload_n 0, 1) := dk_42 (dk_at dksX3_line_5 3 rfl rfl)
theorem dX3_line_121 : decode cX3_line 121 = .ok (.bipush 62, 2) := dk_16 62 (dk_at dksX3_line_5 4 rfl rfl)
theorem dX3_line_123 : decode cX3_line 123 = .ok (.invokevirtual 151, 3) := dk_182 0 151 (dk_at dksX3_line_5 6 rfl rfl)
theorem dX3_line_126 : decode cX3_line 126 = .ok (.aload_n 0, 1) := dk_42 (dk_at dksX3_line_5 9 rfl rfl)
theorem dX3_line_127 : decode cX3_line 127 = .ok (.aload_n 0, 1) := dk_42 (dk_at dksX3_line_5 10 rfl rfl)
theorem dX3_line_128 : decode cX3_line 128 = .ok (.iload_n 1, 1) := dk_27 (dk_at dksX3_line_5 11 rfl rfl)
theorem dX3_line_129 : decode cX3_line 129 = .ok (.iconst 5, 1) := dk_8 (dk_at dksX3_line_5 12 rfl rfl)
theorem dX3_line_130 : decode cX3_line 130 = .ok (.invokevirtual 66, 3) := dk_182 0 66 (dk_at dksX3_line_5 13 rfl rfl)
theorem dX3_line_133 : decode cX3_line 133 = .ok (.invokevirtual 155, 3) := dk_182 0 155 (dk_at dksX3_line_5 16 rfl rfl)
theorem dX3_line_136 : decode cX3_line 136 = .ok (.aload_n 0, 1) := dk_42 (dk_at dksX3_line_5 19 rfl rfl)
theorem dX3_line_137 : decode cX3_line 137 = .ok (.getfield 148, 3) := dk_180 0 148 (dk_at dksX3_line_5 20 rfl rfl)
theorem dX3_line_140 : decode cX3_line 140 = .ok (.ireturn, 1) := dk_172 (dk_at dksX3_line_5 23 rfl rfl)
abbrev cX3_writesNumber : ByteArray := prog_11_method_56_code
def yX3_writesNumber : MethodName := ⟨RX3, "writesNumber", "(I)V"⟩
def dkwX3_writesNumber_1 : List UInt8 := [96, 182, 0, 151, 177]
abbrev dktX3_writesNumber_1 : List UInt8 := dkwX3_writesNumber_1 ++ []
def dkwX3_writesNumber_0 : List UInt8 := [27, 16, 9, 164, 0, 14, 42, 16, 48, 27, 16, 10, 108, 96, 182, 0, 151, 42, 16, 48, 27, 16, 10, 112]
abbrev dktX3_writesNumber_0 : List UInt8 := dkwX3_writesNumber_0 ++ dktX3_writesNumber_1
theorem dksX3_writesNumber_0 : cX3_writesNumber.data.toList.drop 0 = dktX3_writesNumber_0 := by decide +kernel
theorem dksX3_writesNumber_1 : cX3_writesNumber.data.toList.drop 24 = dktX3_writesNumber_1 := dk_seg dksX3_writesNumber_0 24 rfl rfl
theorem dX3_writesNumber_0 : decode cX3_writesNumber 0 = .ok (.iload_n 1, 1) := dk_27 (dk_at dksX3_writesNumber_0 0 rfl rfl)
theorem dX3_writesNumber_1 : decode cX3_writesNumber 1 = .ok (.bipush 9, 2) := dk_16 9 (dk_at dksX3_writesNumber_0 1 rfl rfl)
theorem dX3_writesNumber_3 : decode cX3_writesNumber 3 = .ok (.if_icmp .le 14, 3) := dk_164 0 14 (dk_at dksX3_writesNumber_0 3 rfl rfl)
theorem dX3_writesNumber_6 : decode cX3_writesNumber 6 = .ok (.aload_n 0, 1) := dk_42 (dk_at dksX3_writesNumber_0 6 rfl rfl)
theorem dX3_writesNumber_7 : decode cX3_writesNumber 7 = .ok (.bipush 48, 2) := dk_16 48 (dk_at dksX3_writesNumber_0 7 rfl rfl)
theorem dX3_writesNumber_9 : decode cX3_writesNumber 9 = .ok (.iload_n 1, 1) := dk_27 (dk_at dksX3_writesNumber_0 9 rfl rfl)
theorem dX3_writesNumber_10 : decode cX3_writesNumber 10 = .ok (.bipush 10, 2) := dk_16 10 (dk_at dksX3_writesNumber_0 10 rfl rfl)
theorem dX3_writesNumber_12 : decode cX3_writesNumber 12 = .ok (.idiv, 1) := dk_108 (dk_at dksX3_writesNumber_0 12 rfl rfl)
theorem dX3_writesNumber_13 : decode cX3_writesNumber 13 = .ok (.iadd, 1) := dk_96 (dk_at dksX3_writesNumber_0 13 rfl rfl)
theorem dX3_writesNumber_14 : decode cX3_writesNumber 14 = .ok (.invokevirtual 151, 3) := dk_182 0 151 (dk_at dksX3_writesNumber_0 14 rfl rfl)
theorem dX3_writesNumber_17 : decode cX3_writesNumber 17 = .ok (.aload_n 0, 1) := dk_42 (dk_at dksX3_writesNumber_0 17 rfl rfl)
theorem dX3_writesNumber_18 : decode cX3_writesNumber 18 = .ok (.bipush 48, 2) := dk_16 48 (dk_at dksX3_writesNumber_0 18 rfl rfl)
theorem dX3_writesNumber_20 : decode cX3_writesNumber 20 = .ok (.iload_n 1, 1) := dk_27 (dk_at dksX3_writesNumber_0 20 rfl rfl)
theorem dX3_writesNumber_21 : decode cX3_writesNumber 21 = .ok (.bipush 10, 2) := dk_16 10 (dk_at dksX3_writesNumber_0 21 rfl rfl)
theorem dX3_writesNumber_23 : decode cX3_writesNumber 23 = .ok (.irem, 1) := dk_112 (dk_at dksX3_writesNumber_0 23 rfl rfl)
theorem dX3_writesNumber_24 : decode cX3_writesNumber 24 = .ok (.iadd, 1) := dk_96 (dk_at dksX3_writesNumber_1 0 rfl rfl)
theorem dX3_writesNumber_25 : decode cX3_writesNumber 25 = .ok (.invokevirtual 151, 3) := dk_182 0 151 (dk_at dksX3_writesNumber_1 1 rfl rfl)
theorem dX3_writesNumber_28 : decode cX3_writesNumber 28 = .ok (.return_, 1) := dk_177 (dk_at dksX3_writesNumber_1 4 rfl rfl)
abbrev cX3_writes : ByteArray := prog_11_method_55_code
def yX3_writes : MethodName := ⟨RX3, "writes", "(I)V"⟩
def dkwX3_writes_0 : List UInt8 := [42, 180, 0, 32, 42, 180, 0, 148, 27, 146, 85, 42, 89, 180, 0, 148, 4, 96, 181, 0, 148, 177]
abbrev dktX3_writes_0 : List UInt8 := dkwX3_writes_0 ++ []
theorem dksX3_writes_0 : cX3_writes.data.toList.drop 0 = dktX3_writes_0 := by decide +kernel
theorem dX3_writes_0 : decode cX3_writes 0 = .ok (.aload_n 0, 1) := dk_42 (dk_at dksX3_writes_0 0 rfl rfl)
theorem dX3_writes_1 : decode cX3_writes 1 = .ok (.getfield 32, 3) := dk_180 0 32 (dk_at dksX3_writes_0 1 rfl rfl)
theorem dX3_writes_4 : decode cX3_writes 4 = .ok (.aload_n 0, 1) := dk_42 (dk_at dksX3_writes_0 4 rfl rfl)
theorem dX3_writes_5 : decode cX3_writes 5 = .ok (.getfield 148, 3) := dk_180 0 148 (dk_at dksX3_writes_0 5 rfl rfl)
theorem dX3_writes_8 : decode cX3_writes 8 = .ok (.iload_n 1, 1) := dk_27 (dk_at dksX3_writes_0 8 rfl rfl)
theorem dX3_writes_9 : decode cX3_writes 9 = .ok (.i2c, 1) := dk_146 (dk_at dksX3_writes_0 9 rfl rfl)
theorem dX3_writes_10 : decode cX3_writes 10 = .ok (.castore, 1) := dk_85 (dk_at dksX3_writes_0 10 rfl rfl)
theorem dX3_writes_11 : decode cX3_writes 11 = .ok (.aload_n 0, 1) := dk_42 (dk_at dksX3_writes_0 11 rfl rfl)
theorem dX3_writes_12 : decode cX3_writes 12 = .ok (.dup, 1) := dk_89 (dk_at dksX3_writes_0 12 rfl rfl)
theorem dX3_writes_13 : decode cX3_writes 13 = .ok (.getfield 148, 3) := dk_180 0 148 (dk_at dksX3_writes_0 13 rfl rfl)
theorem dX3_writes_16 : decode cX3_writes 16 = .ok (.iconst 1, 1) := dk_4 (dk_at dksX3_writes_0 16 rfl rfl)
theorem dX3_writes_17 : decode cX3_writes 17 = .ok (.iadd, 1) := dk_96 (dk_at dksX3_writes_0 17 rfl rfl)
theorem dX3_writes_18 : decode cX3_writes 18 = .ok (.putfield 148, 3) := dk_181 0 148 (dk_at dksX3_writes_0 18 rfl rfl)
theorem dX3_writes_21 : decode cX3_writes 21 = .ok (.return_, 1) := dk_177 (dk_at dksX3_writes_0 21 rfl rfl)
abbrev cX3_riverLine : ByteArray := prog_11_method_58_code
def yX3_riverLine : MethodName := ⟨RX3, "riverLine", "(I)I"⟩
def dkwX3_riverLine_3 : List UInt8 := [180, 0, 148, 172]
abbrev dktX3_riverLine_3 : List UInt8 := dkwX3_riverLine_3 ++ []
def dkwX3_riverLine_2 : List UInt8 := [167, 0, 12, 16, 48, 42, 27, 28, 182, 0, 92, 96, 182, 0, 151, 132, 2, 1, 167, 255, 220, 42]
abbrev dktX3_riverLine_2 : List UInt8 := dkwX3_riverLine_2 ++ dktX3_riverLine_3
def dkwX3_riverLine_1 : List UInt8 := [181, 0, 148, 3, 61, 28, 16, 30, 162, 0, 36, 42, 42, 27, 28, 182, 0, 92, 156, 0, 8, 16, 46]
abbrev dktX3_riverLine_1 : List UInt8 := dkwX3_riverLine_1 ++ dktX3_riverLine_2
def dkwX3_riverLine_0 : List UInt8 := [42, 42, 27, 182, 0, 86, 153, 0, 7, 3, 167, 0, 4, 4, 182, 0, 70, 153, 0, 5, 3, 172, 42, 3]
abbrev dktX3_riverLine_0 : List UInt8 := dkwX3_riverLine_0 ++ dktX3_riverLine_1
theorem dksX3_riverLine_0 : cX3_riverLine.data.toList.drop 0 = dktX3_riverLine_0 := by decide +kernel
theorem dksX3_riverLine_1 : cX3_riverLine.data.toList.drop 24 = dktX3_riverLine_1 := dk_seg dksX3_riverLine_0 24 rfl rfl
theorem dksX3_riverLine_2 : cX3_riverLine.data.toList.drop 47 = dktX3_riverLine_2 := dk_seg dksX3_riverLine_1 23 rfl rfl
theorem dksX3_riverLine_3 : cX3_riverLine.data.toList.drop 69 = dktX3_riverLine_3 := dk_seg dksX3_riverLine_2 22 rfl rfl
theorem dX3_riverLine_0 : decode cX3_riverLine 0 = .ok (.aload_n 0, 1) := dk_42 (dk_at dksX3_riverLine_0 0 rfl rfl)
theorem dX3_riverLine_1 : decode cX3_riverLine 1 = .ok (.aload_n 0, 1) := dk_42 (dk_at dksX3_riverLine_0 1 rfl rfl)
theorem dX3_riverLine_2 : decode cX3_riverLine 2 = .ok (.iload_n 1, 1) := dk_27 (dk_at dksX3_riverLine_0 2 rfl rfl)
theorem dX3_riverLine_3 : decode cX3_riverLine 3 = .ok (.invokevirtual 86, 3) := dk_182 0 86 (dk_at dksX3_riverLine_0 3 rfl rfl)
theorem dX3_riverLine_6 : decode cX3_riverLine 6 = .ok (.ifCond .eq 7, 3) := dk_153 0 7 (dk_at dksX3_riverLine_0 6 rfl rfl)
theorem dX3_riverLine_9 : decode cX3_riverLine 9 = .ok (.iconst 0, 1) := dk_3 (dk_at dksX3_riverLine_0 9 rfl rfl)
theorem dX3_riverLine_10 : decode cX3_riverLine 10 = .ok (.goto 4, 3) := dk_167 0 4 (dk_at dksX3_riverLine_0 10 rfl rfl)
theorem dX3_riverLine_13 : decode cX3_riverLine 13 = .ok (.iconst 1, 1) := dk_4 (dk_at dksX3_riverLine_0 13 rfl rfl)
theorem dX3_riverLine_14 : decode cX3_riverLine 14 = .ok (.invokevirtual 70, 3) := dk_182 0 70 (dk_at dksX3_riverLine_0 14 rfl rfl)
theorem dX3_riverLine_17 : decode cX3_riverLine 17 = .ok (.ifCond .eq 5, 3) := dk_153 0 5 (dk_at dksX3_riverLine_0 17 rfl rfl)
theorem dX3_riverLine_20 : decode cX3_riverLine 20 = .ok (.iconst 0, 1) := dk_3 (dk_at dksX3_riverLine_0 20 rfl rfl)
theorem dX3_riverLine_21 : decode cX3_riverLine 21 = .ok (.ireturn, 1) := dk_172 (dk_at dksX3_riverLine_0 21 rfl rfl)
theorem dX3_riverLine_22 : decode cX3_riverLine 22 = .ok (.aload_n 0, 1) := dk_42 (dk_at dksX3_riverLine_0 22 rfl rfl)
theorem dX3_riverLine_23 : decode cX3_riverLine 23 = .ok (.iconst 0, 1) := dk_3 (dk_at dksX3_riverLine_0 23 rfl rfl)
theorem dX3_riverLine_24 : decode cX3_riverLine 24 = .ok (.putfield 148, 3) := dk_181 0 148 (dk_at dksX3_riverLine_1 0 rfl rfl)
theorem dX3_riverLine_27 : decode cX3_riverLine 27 = .ok (.iconst 0, 1) := dk_3 (dk_at dksX3_riverLine_1 3 rfl rfl)
theorem dX3_riverLine_28 : decode cX3_riverLine 28 = .ok (.istore_n 2, 1) := dk_61 (dk_at dksX3_riverLine_1 4 rfl rfl)
theorem dX3_riverLine_29 : decode cX3_riverLine 29 = .ok (.iload_n 2, 1) := dk_28 (dk_at dksX3_riverLine_1 5 rfl rfl)
theorem dX3_riverLine_30 : decode cX3_riverLine 30 = .ok (.bipush 30, 2) := dk_16 30 (dk_at dksX3_riverLine_1 6 rfl rfl)
theorem dX3_riverLine_32 : decode cX3_riverLine 32 = .ok (.if_icmp .ge 36, 3) := dk_162 0 36 (dk_at dksX3_riverLine_1 8 rfl rfl)
theorem dX3_riverLine_35 : decode cX3_riverLine 35 = .ok (.aload_n 0, 1) := dk_42 (dk_at dksX3_riverLine_1 11 rfl rfl)
theorem dX3_riverLine_36 : decode cX3_riverLine 36 = .ok (.aload_n 0, 1) := dk_42 (dk_at dksX3_riverLine_1 12 rfl rfl)
theorem dX3_riverLine_37 : decode cX3_riverLine 37 = .ok (.iload_n 1, 1) := dk_27 (dk_at dksX3_riverLine_1 13 rfl rfl)
theorem dX3_riverLine_38 : decode cX3_riverLine 38 = .ok (.iload_n 2, 1) := dk_28 (dk_at dksX3_riverLine_1 14 rfl rfl)
theorem dX3_riverLine_39 : decode cX3_riverLine 39 = .ok (.invokevirtual 92, 3) := dk_182 0 92 (dk_at dksX3_riverLine_1 15 rfl rfl)
theorem dX3_riverLine_42 : decode cX3_riverLine 42 = .ok (.ifCond .ge 8, 3) := dk_156 0 8 (dk_at dksX3_riverLine_1 18 rfl rfl)
theorem dX3_riverLine_45 : decode cX3_riverLine 45 = .ok (.bipush 46, 2) := dk_16 46 (dk_at dksX3_riverLine_1 21 rfl rfl)
theorem dX3_riverLine_47 : decode cX3_riverLine 47 = .ok (.goto 12, 3) := dk_167 0 12 (dk_at dksX3_riverLine_2 0 rfl rfl)
theorem dX3_riverLine_50 : decode cX3_riverLine 50 = .ok (.bipush 48, 2) := dk_16 48 (dk_at dksX3_riverLine_2 3 rfl rfl)
theorem dX3_riverLine_52 : decode cX3_riverLine 52 = .ok (.aload_n 0, 1) := dk_42 (dk_at dksX3_riverLine_2 5 rfl rfl)
theorem dX3_riverLine_53 : decode cX3_riverLine 53 = .ok (.iload_n 1, 1) := dk_27 (dk_at dksX3_riverLine_2 6 rfl rfl)
theorem dX3_riverLine_54 : decode cX3_riverLine 54 = .ok (.iload_n 2, 1) := dk_28 (dk_at dksX3_riverLine_2 7 rfl rfl)
theorem dX3_riverLine_55 : decode cX3_riverLine 55 = .ok (.invokevirtual 92, 3) := dk_182 0 92 (dk_at dksX3_riverLine_2 8 rfl rfl)
theorem dX3_riverLine_58 : decode cX3_riverLine 58 = .ok (.iadd, 1) := dk_96 (dk_at dksX3_riverLine_2 11 rfl rfl)
theorem dX3_riverLine_59 : decode cX3_riverLine 59 = .ok (.invokevirtual 151, 3) := dk_182 0 151 (dk_at dksX3_riverLine_2 12 rfl rfl)
theorem dX3_riverLine_62 : decode cX3_riverLine 62 = .ok (.iinc 2 1, 3) := dk_132 2 1 (dk_at dksX3_riverLine_2 15 rfl rfl)
theorem dX3_riverLine_65 : decode cX3_riverLine 65 = .ok (.goto (-36), 3) := dk_167 255 220 (dk_at dksX3_riverLine_2 18 rfl rfl)
theorem dX3_riverLine_68 : decode cX3_riverLine 68 = .ok (.aload_n 0, 1) := dk_42 (dk_at dksX3_riverLine_2 21 rfl rfl)
theorem dX3_riverLine_69 : decode cX3_riverLine 69 = .ok (.getfield 148, 3) := dk_180 0 148 (dk_at dksX3_riverLine_3 0 rfl rfl)
theorem dX3_riverLine_72 : decode cX3_riverLine 72 = .ok (.ireturn, 1) := dk_172 (dk_at dksX3_riverLine_3 3 rfl rfl)
abbrev cX3_character : ByteArray := prog_11_method_59_code
def yX3_character : MethodName := ⟨RX3, "character", "(I)C"⟩
def dkwX3_character_1 : List UInt8 := [153, 0, 8, 16, 32, 167, 0, 9, 42, 180, 0, 32, 27, 52, 172]
abbrev dktX3_character_1 : List UInt8 := dkwX3_character_1 ++ []
def dkwX3_character_0 : List UInt8 := [42, 27, 3, 42, 180, 0, 148, 4, 100, 184, 0, 62, 153, 0, 7, 3, 167, 0, 4, 4, 182, 0, 70]
abbrev dktX3_character_0 : List UInt8 := dkwX3_character_0 ++ dktX3_character_1
theorem dksX3_character_0 : cX3_character.data.toList.drop 0 = dktX3_character_0 := by decide +kernel
theorem dksX3_character_1 : cX3_character.data.toList.drop 23 = dktX3_character_1 := dk_seg dksX3_character_0 23 rfl rfl
theorem dX3_character_0 : decode cX3_character 0 = .ok (.aload_n 0, 1) := dk_42 (dk_at dksX3_character_0 0 rfl rfl)
theorem dX3_character_1 : decode cX3_character 1 = .ok (.iload_n 1, 1) := dk_27 (dk_at dksX3_character_0 1 rfl rfl)
theorem dX3_character_2 : decode cX3_character 2 = .ok (.iconst 0, 1) := dk_3 (dk_at dksX3_character_0 2 rfl rfl)
theorem dX3_character_3 : decode cX3_character 3 = .ok (.aload_n 0, 1) := dk_42 (dk_at dksX3_character_0 3 rfl rfl)
theorem dX3_character_4 : decode cX3_character 4 = .ok (.getfield 148, 3) := dk_180 0 148 (dk_at dksX3_character_0 4 rfl rfl)
theorem dX3_character_7 : decode cX3_character 7 = .ok (.iconst 1, 1) := dk_4 (dk_at dksX3_character_0 7 rfl rfl)
theorem dX3_character_8 : decode cX3_character 8 = .ok (.isub, 1) := dk_100 (dk_at dksX3_character_0 8 rfl rfl)
theorem dX3_character_9 : decode cX3_character 9 = .ok (.invokestatic 62, 3) := dk_184 0 62 (dk_at dksX3_character_0 9 rfl rfl)
theorem dX3_character_12 : decode cX3_character 12 = .ok (.ifCond .eq 7, 3) := dk_153 0 7 (dk_at dksX3_character_0 12 rfl rfl)
theorem dX3_character_15 : decode cX3_character 15 = .ok (.iconst 0, 1) := dk_3 (dk_at dksX3_character_0 15 rfl rfl)
theorem dX3_character_16 : decode cX3_character 16 = .ok (.goto 4, 3) := dk_167 0 4 (dk_at dksX3_character_0 16 rfl rfl)
theorem dX3_character_19 : decode cX3_character 19 = .ok (.iconst 1, 1) := dk_4 (dk_at dksX3_character_0 19 rfl rfl)
theorem dX3_character_20 : decode cX3_character 20 = .ok (.invokevirtual 70, 3) := dk_182 0 70 (dk_at dksX3_character_0 20 rfl rfl)
theorem dX3_character_23 : decode cX3_character 23 = .ok (.ifCond .eq 8, 3) := dk_153 0 8 (dk_at dksX3_character_1 0 rfl rfl)
theorem dX3_character_26 : decode cX3_character 26 = .ok (.bipush 32, 2) := dk_16 32 (dk_at dksX3_character_1 3 rfl rfl)
theorem dX3_character_28 : decode cX3_character 28 = .ok (.goto 9, 3) := dk_167 0 9 (dk_at dksX3_character_1 5 rfl rfl)
theorem dX3_character_31 : decode cX3_character 31 = .ok (.aload_n 0, 1) := dk_42 (dk_at dksX3_character_1 8 rfl rfl)
theorem dX3_character_32 : decode cX3_character 32 = .ok (.getfield 32, 3) := dk_180 0 32 (dk_at dksX3_character_1 9 rfl rfl)
theorem dX3_character_35 : decode cX3_character 35 = .ok (.iload_n 1, 1) := dk_27 (dk_at dksX3_character_1 12 rfl rfl)
theorem dX3_character_36 : decode cX3_character 36 = .ok (.caload, 1) := dk_52 (dk_at dksX3_character_1 13 rfl rfl)
theorem dX3_character_37 : decode cX3_character 37 = .ok (.ireturn, 1) := dk_172 (dk_at dksX3_character_1 14 rfl rfl)
abbrev cX3_refusal : ByteArray := prog_11_method_60_code
def yX3_refusal : MethodName := ⟨RX3, "refusal", "(Z)I"⟩
def dkwX3_refusal_1 : List UInt8 := [153, 0, 10, 42, 180, 0, 48, 167, 0, 7, 42, 180, 0, 45, 172]
abbrev dktX3_refusal_1 : List UInt8 := dkwX3_refusal_1 ++ []
def dkwX3_refusal_0 : List UInt8 := [42, 42, 180, 0, 45, 154, 0, 7, 4, 167, 0, 4, 3, 182, 0, 70, 153, 0, 7, 3, 167, 0, 18, 27]
abbrev dktX3_refusal_0 : List UInt8 := dkwX3_refusal_0 ++ dktX3_refusal_1
theorem dksX3_refusal_0 : cX3_refusal.data.toList.drop 0 = dktX3_refusal_0 := by decide +kernel
theorem dksX3_refusal_1 : cX3_refusal.data.toList.drop 24 = dktX3_refusal_1 := dk_seg dksX3_refusal_0 24 rfl rfl
theorem dX3_refusal_0 : decode cX3_refusal 0 = .ok (.aload_n 0, 1) := dk_42 (dk_at dksX3_refusal_0 0 rfl rfl)
theorem dX3_refusal_1 : decode cX3_refusal 1 = .ok (.aload_n 0, 1) := dk_42 (dk_at dksX3_refusal_0 1 rfl rfl)
theorem dX3_refusal_2 : decode cX3_refusal 2 = .ok (.getfield 45, 3) := dk_180 0 45 (dk_at dksX3_refusal_0 2 rfl rfl)
theorem dX3_refusal_5 : decode cX3_refusal 5 = .ok (.ifCond .ne 7, 3) := dk_154 0 7 (dk_at dksX3_refusal_0 5 rfl rfl)
theorem dX3_refusal_8 : decode cX3_refusal 8 = .ok (.iconst 1, 1) := dk_4 (dk_at dksX3_refusal_0 8 rfl rfl)
theorem dX3_refusal_9 : decode cX3_refusal 9 = .ok (.goto 4, 3) := dk_167 0 4 (dk_at dksX3_refusal_0 9 rfl rfl)
theorem dX3_refusal_12 : decode cX3_refusal 12 = .ok (.iconst 0, 1) := dk_3 (dk_at dksX3_refusal_0 12 rfl rfl)
theorem dX3_refusal_13 : decode cX3_refusal 13 = .ok (.invokevirtual 70, 3) := dk_182 0 70 (dk_at dksX3_refusal_0 13 rfl rfl)
theorem dX3_refusal_16 : decode cX3_refusal 16 = .ok (.ifCond .eq 7, 3) := dk_153 0 7 (dk_at dksX3_refusal_0 16 rfl rfl)
theorem dX3_refusal_19 : decode cX3_refusal 19 = .ok (.iconst 0, 1) := dk_3 (dk_at dksX3_refusal_0 19 rfl rfl)
theorem dX3_refusal_20 : decode cX3_refusal 20 = .ok (.goto 18, 3) := dk_167 0 18 (dk_at dksX3_refusal_0 20 rfl rfl)
theorem dX3_refusal_23 : decode cX3_refusal 23 = .ok (.iload_n 1, 1) := dk_27 (dk_at dksX3_refusal_0 23 rfl rfl)
theorem dX3_refusal_24 : decode cX3_refusal 24 = .ok (.ifCond .eq 10, 3) := dk_153 0 10 (dk_at dksX3_refusal_1 0 rfl rfl)
theorem dX3_refusal_27 : decode cX3_refusal 27 = .ok (.aload_n 0, 1) := dk_42 (dk_at dksX3_refusal_1 3 rfl rfl)
theorem dX3_refusal_28 : decode cX3_refusal 28 = .ok (.getfield 48, 3) := dk_180 0 48 (dk_at dksX3_refusal_1 4 rfl rfl)
theorem dX3_refusal_31 : decode cX3_refusal 31 = .ok (.goto 7, 3) := dk_167 0 7 (dk_at dksX3_refusal_1 7 rfl rfl)
theorem dX3_refusal_34 : decode cX3_refusal 34 = .ok (.aload_n 0, 1) := dk_42 (dk_at dksX3_refusal_1 10 rfl rfl)
theorem dX3_refusal_35 : decode cX3_refusal 35 = .ok (.getfield 45, 3) := dk_180 0 45 (dk_at dksX3_refusal_1 11 rfl rfl)
theorem dX3_refusal_38 : decode cX3_refusal 38 = .ok (.ireturn, 1) := dk_172 (dk_at dksX3_refusal_1 14 rfl rfl)
abbrev cX3_account : ByteArray := prog_11_method_62_code
def yX3_account : MethodName := ⟨RX3, "account", "(I)I"⟩
def dkwX3_account_6 : List UInt8 := [172, 42, 180, 0, 7, 27, 46, 172]
abbrev dktX3_account_6 : List UInt8 := dkwX3_account_6 ++ []
def dkwX3_account_5 : List UInt8 := [180, 0, 7, 16, 6, 46, 172, 42, 180, 0, 7, 16, 7, 46, 172, 42, 180, 0, 162, 172, 42, 180, 0, 55]
abbrev dktX3_account_5 : List UInt8 := dkwX3_account_5 ++ dktX3_account_6
def dkwX3_account_4 : List UInt8 := [172, 42, 180, 0, 7, 6, 46, 172, 42, 180, 0, 7, 7, 46, 172, 42, 180, 0, 7, 8, 46, 172, 42]
abbrev dktX3_account_4 : List UInt8 := dkwX3_account_4 ++ dktX3_account_5
def dkwX3_account_3 : List UInt8 := [42, 2, 182, 0, 112, 172, 42, 16, 9, 182, 0, 112, 172, 42, 16, 254, 182, 0, 112, 172, 42, 182, 0, 158]
abbrev dktX3_account_3 : List UInt8 := dkwX3_account_3 ++ dktX3_account_4
def dkwX3_account_2 : List UInt8 := [170, 0, 0, 0, 0, 0, 131, 0, 0, 0, 3, 0, 0, 0, 13, 0, 0, 0, 59, 0, 0, 0, 65, 0, 0, 0, 72, 0, 0, 0, 79, 0, 0, 0, 84, 0, 0, 0, 91, 0, 0, 0, 98, 0, 0, 0, 105, 0, 0, 0, 113, 0, 0, 0, 121, 0, 0, 0, 126]
abbrev dktX3_account_2 : List UInt8 := dkwX3_account_2 ++ dktX3_account_3
def dkwX3_account_1 : List UInt8 := [27]
abbrev dktX3_account_1 : List UInt8 := dkwX3_account_1 ++ dktX3_account_2
def dkwX3_account_0 : List UInt8 := [42, 27, 3, 16, 13, 184, 0, 62, 153, 0, 7, 3, 167, 0, 4, 4, 182, 0, 70, 153, 0, 5, 3, 172]
abbrev dktX3_account_0 : List UInt8 := dkwX3_account_0 ++ dktX3_account_1
theorem dksX3_account_0 : cX3_account.data.toList.drop 0 = dktX3_account_0 := by decide +kernel
theorem dksX3_account_1 : cX3_account.data.toList.drop 24 = dktX3_account_1 := dk_seg dksX3_account_0 24 rfl rfl
theorem dksX3_account_2 : cX3_account.data.toList.drop 25 = dktX3_account_2 := dk_seg dksX3_account_1 1 rfl rfl
theorem dksX3_account_3 : cX3_account.data.toList.drop 84 = dktX3_account_3 := dk_seg dksX3_account_2 59 rfl rfl
theorem dksX3_account_4 : cX3_account.data.toList.drop 108 = dktX3_account_4 := dk_seg dksX3_account_3 24 rfl rfl
theorem dksX3_account_5 : cX3_account.data.toList.drop 131 = dktX3_account_5 := dk_seg dksX3_account_4 23 rfl rfl
theorem dksX3_account_6 : cX3_account.data.toList.drop 155 = dktX3_account_6 := dk_seg dksX3_account_5 24 rfl rfl
theorem dX3_account_0 : decode cX3_account 0 = .ok (.aload_n 0, 1) := dk_42 (dk_at dksX3_account_0 0 rfl rfl)
theorem dX3_account_1 : decode cX3_account 1 = .ok (.iload_n 1, 1) := dk_27 (dk_at dksX3_account_0 1 rfl rfl)
theorem dX3_account_2 : decode cX3_account 2 = .ok (.iconst 0, 1) := dk_3 (dk_at dksX3_account_0 2 rfl rfl)
theorem dX3_account_3 : decode cX3_account 3 = .ok (.bipush 13, 2) := dk_16 13 (dk_at dksX3_account_0 3 rfl rfl)
theorem dX3_account_5 : decode cX3_account 5 = .ok (.invokestatic 62, 3) := dk_184 0 62 (dk_at dksX3_account_0 5 rfl rfl)
theorem dX3_account_8 : decode cX3_account 8 = .ok (.ifCond .eq 7, 3) := dk_153 0 7 (dk_at dksX3_account_0 8 rfl rfl)
theorem dX3_account_11 : decode cX3_account 11 = .ok (.iconst 0, 1) := dk_3 (dk_at dksX3_account_0 11 rfl rfl)
theorem dX3_account_12 : decode cX3_account 12 = .ok (.goto 4, 3) := dk_167 0 4 (dk_at dksX3_account_0 12 rfl rfl)
theorem dX3_account_15 : decode cX3_account 15 = .ok (.iconst 1, 1) := dk_4 (dk_at dksX3_account_0 15 rfl rfl)
theorem dX3_account_16 : decode cX3_account 16 = .ok (.invokevirtual 70, 3) := dk_182 0 70 (dk_at dksX3_account_0 16 rfl rfl)
theorem dX3_account_19 : decode cX3_account 19 = .ok (.ifCond .eq 5, 3) := dk_153 0 5 (dk_at dksX3_account_0 19 rfl rfl)
theorem dX3_account_22 : decode cX3_account 22 = .ok (.iconst 0, 1) := dk_3 (dk_at dksX3_account_0 22 rfl rfl)
theorem dX3_account_23 : decode cX3_account 23 = .ok (.ireturn, 1) := dk_172 (dk_at dksX3_account_0 23 rfl rfl)
theorem dX3_account_24 : decode cX3_account 24 = .ok (.iload_n 1, 1) := dk_27 (dk_at dksX3_account_1 0 rfl rfl)
theorem dX3_account_25 : decode cX3_account 25 = .ok (.tableswitch 131 3 13 #[59, 65, 72, 79, 84, 91, 98, 105, 113, 121, 126], 59) := by decide +kernel
theorem dX3_account_84 : decode cX3_account 84 = .ok (.aload_n 0, 1) := dk_42 (dk_at dksX3_account_3 0 rfl rfl)
theorem dX3_account_85 : decode cX3_account 85 = .ok (.iconst (-1), 1) := dk_2 (dk_at dksX3_account_3 1 rfl rfl)
theorem dX3_account_86 : decode cX3_account 86 = .ok (.invokevirtual 112, 3) := dk_182 0 112 (dk_at dksX3_account_3 2 rfl rfl)
theorem dX3_account_89 : decode cX3_account 89 = .ok (.ireturn, 1) := dk_172 (dk_at dksX3_account_3 5 rfl rfl)
theorem dX3_account_90 : decode cX3_account 90 = .ok (.aload_n 0, 1) := dk_42 (dk_at dksX3_account_3 6 rfl rfl)
theorem dX3_account_91 : decode cX3_account 91 = .ok (.bipush 9, 2) := dk_16 9 (dk_at dksX3_account_3 7 rfl rfl)
theorem dX3_account_93 : decode cX3_account 93 = .ok (.invokevirtual 112, 3) := dk_182 0 112 (dk_at dksX3_account_3 9 rfl rfl)
theorem dX3_account_96 : decode cX3_account 96 = .ok (.ireturn, 1) := dk_172 (dk_at dksX3_account_3 12 rfl rfl)
theorem dX3_account_97 : decode cX3_account 97 = .ok (.aload_n 0, 1) := dk_42 (dk_at dksX3_account_3 13 rfl rfl)
theorem dX3_account_98 : decode cX3_account 98 = .ok (.bipush (-2), 2) := dk_16 254 (dk_at dksX3_account_3 14 rfl rfl)
theorem dX3_account_100 : decode cX3_account 100 = .ok (.invokevirtual 112, 3) := dk_182 0 112 (dk_at dksX3_account_3 16 rfl rfl)
theorem dX3_account_103 : decode cX3_account 103 = .ok (.ireturn, 1) := dk_172 (dk_at dksX3_account_3 19 rfl rfl)
theorem dX3_account_104 : decode cX3_account 104 = .ok (.aload_n 0, 1) := dk_42 (dk_at dksX3_account_3 20 rfl rfl)
theorem dX3_account_105 : decode cX3_account 105 = .ok (.invokevirtual 158, 3) := dk_182 0 158 (dk_at dksX3_account_3 21 rfl rfl)
theorem dX3_account_108 : decode cX3_account 108 = .ok (.ireturn, 1) := dk_172 (dk_at dksX3_account_4 0 rfl rfl)
theorem dX3_account_109 : decode cX3_account 109 = .ok (.aload_n 0, 1) := dk_42 (dk_at dksX3_account_4 1 rfl rfl)
theorem dX3_account_110 : decode cX3_account 110 = .ok (.getfield 7, 3) := dk_180 0 7 (dk_at dksX3_account_4 2 rfl rfl)
theorem dX3_account_113 : decode cX3_account 113 = .ok (.iconst 3, 1) := dk_6 (dk_at dksX3_account_4 5 rfl rfl)
theorem dX3_account_114 : decode cX3_account 114 = .ok (.iaload, 1) := dk_46 (dk_at dksX3_account_4 6 rfl rfl)
theorem dX3_account_115 : decode cX3_account 115 = .ok (.ireturn, 1) := dk_172 (dk_at dksX3_account_4 7 rfl rfl)
theorem dX3_account_116 : decode cX3_account 116 = .ok (.aload_n 0, 1) := dk_42 (dk_at dksX3_account_4 8 rfl rfl)
theorem dX3_account_117 : decode cX3_account 117 = .ok (.getfield 7, 3) := dk_180 0 7 (dk_at dksX3_account_4 9 rfl rfl)
theorem dX3_account_120 : decode cX3_account 120 = .ok (.iconst 4, 1) := dk_7 (dk_at dksX3_account_4 12 rfl rfl)
theorem dX3_account_121 : decode cX3_account 121 = .ok (.iaload, 1) := dk_46 (dk_at dksX3_account_4 13 rfl rfl)
theorem dX3_account_122 : decode cX3_account 122 = .ok (.ireturn, 1) := dk_172 (dk_at dksX3_account_4 14 rfl rfl)
theorem dX3_account_123 : decode cX3_account 123 = .ok (.aload_n 0, 1) := dk_42 (dk_at dksX3_account_4 15 rfl rfl)
theorem dX3_account_124 : decode cX3_account 124 = .ok (.getfield 7, 3) := dk_180 0 7 (dk_at dksX3_account_4 16 rfl rfl)
theorem dX3_account_127 : decode cX3_account 127 = .ok (.iconst 5, 1) := dk_8 (dk_at dksX3_account_4 19 rfl rfl)
theorem dX3_account_128 : decode cX3_account 128 = .ok (.iaload, 1) := dk_46 (dk_at dksX3_account_4 20 rfl rfl)
theorem dX3_account_129 : decode cX3_account 129 = .ok (.ireturn, 1) := dk_172 (dk_at dksX3_account_4 21 rfl rfl)
theorem dX3_account_130 : decode cX3_account 130 = .ok (.aload_n 0, 1) := dk_42 (dk_at dksX3_account_4 22 rfl rfl)
theorem dX3_account_131 : decode cX3_account 131 = .ok (.getfield 7, 3) := dk_180 0 7 (dk_at dksX3_account_5 0 rfl rfl)
theorem dX3_account_134 : decode cX3_account 134 = .ok (.bipush 6, 2) := dk_16 6 (dk_at dksX3_account_5 3 rfl rfl)
theorem dX3_account_136 : decode cX3_account 136 = .ok (.iaload, 1) := dk_46 (dk_at dksX3_account_5 5 rfl rfl)
theorem dX3_account_137 : decode cX3_account 137 = .ok (.ireturn, 1) := dk_172 (dk_at dksX3_account_5 6 rfl rfl)
theorem dX3_account_138 : decode cX3_account 138 = .ok (.aload_n 0, 1) := dk_42 (dk_at dksX3_account_5 7 rfl rfl)
theorem dX3_account_139 : decode cX3_account 139 = .ok (.getfield 7, 3) := dk_180 0 7 (dk_at dksX3_account_5 8 rfl rfl)
theorem dX3_account_142 : decode cX3_account 142 = .ok (.bipush 7, 2) := dk_16 7 (dk_at dksX3_account_5 11 rfl rfl)
theorem dX3_account_144 : decode cX3_account 144 = .ok (.iaload, 1) := dk_46 (dk_at dksX3_account_5 13 rfl rfl)
theorem dX3_account_145 : decode cX3_account 145 = .ok (.ireturn, 1) := dk_172 (dk_at dksX3_account_5 14 rfl rfl)
theorem dX3_account_146 : decode cX3_account 146 = .ok (.aload_n 0, 1) := dk_42 (dk_at dksX3_account_5 15 rfl rfl)
theorem dX3_account_147 : decode cX3_account 147 = .ok (.getfield 162, 3) := dk_180 0 162 (dk_at dksX3_account_5 16 rfl rfl)
theorem dX3_account_150 : decode cX3_account 150 = .ok (.ireturn, 1) := dk_172 (dk_at dksX3_account_5 19 rfl rfl)
theorem dX3_account_151 : decode cX3_account 151 = .ok (.aload_n 0, 1) := dk_42 (dk_at dksX3_account_5 20 rfl rfl)
theorem dX3_account_152 : decode cX3_account 152 = .ok (.getfield 55, 3) := dk_180 0 55 (dk_at dksX3_account_5 21 rfl rfl)
theorem dX3_account_155 : decode cX3_account 155 = .ok (.ireturn, 1) := dk_172 (dk_at dksX3_account_6 0 rfl rfl)
theorem dX3_account_156 : decode cX3_account 156 = .ok (.aload_n 0, 1) := dk_42 (dk_at dksX3_account_6 1 rfl rfl)
theorem dX3_account_157 : decode cX3_account 157 = .ok (.getfield 7, 3) := dk_180 0 7 (dk_at dksX3_account_6 2 rfl rfl)
theorem dX3_account_160 : decode cX3_account 160 = .ok (.iload_n 1, 1) := dk_27 (dk_at dksX3_account_6 5 rfl rfl)
theorem dX3_account_161 : decode cX3_account 161 = .ok (.iaload, 1) := dk_46 (dk_at dksX3_account_6 6 rfl rfl)
theorem dX3_account_162 : decode cX3_account 162 = .ok (.ireturn, 1) := dk_172 (dk_at dksX3_account_6 7 rfl rfl)
abbrev cX3_bookings : ByteArray := prog_11_method_61_code
def yX3_bookings : MethodName := ⟨RX3, "bookings", "()I"⟩
def dkwX3_bookings_1 : List UInt8 := [132, 2, 1, 167, 255, 235, 27, 172]
abbrev dktX3_bookings_1 : List UInt8 := dkwX3_bookings_1 ++ []
def dkwX3_bookings_0 : List UInt8 := [3, 60, 3, 61, 28, 42, 180, 0, 7, 4, 46, 162, 0, 17, 27, 42, 28, 182, 0, 109, 96, 60]
abbrev dktX3_bookings_0 : List UInt8 := dkwX3_bookings_0 ++ dktX3_bookings_1
theorem dksX3_bookings_0 : cX3_bookings.data.toList.drop 0 = dktX3_bookings_0 := by decide +kernel
theorem dksX3_bookings_1 : cX3_bookings.data.toList.drop 22 = dktX3_bookings_1 := dk_seg dksX3_bookings_0 22 rfl rfl
theorem dX3_bookings_0 : decode cX3_bookings 0 = .ok (.iconst 0, 1) := dk_3 (dk_at dksX3_bookings_0 0 rfl rfl)
theorem dX3_bookings_1 : decode cX3_bookings 1 = .ok (.istore_n 1, 1) := dk_60 (dk_at dksX3_bookings_0 1 rfl rfl)
theorem dX3_bookings_2 : decode cX3_bookings 2 = .ok (.iconst 0, 1) := dk_3 (dk_at dksX3_bookings_0 2 rfl rfl)
theorem dX3_bookings_3 : decode cX3_bookings 3 = .ok (.istore_n 2, 1) := dk_61 (dk_at dksX3_bookings_0 3 rfl rfl)
theorem dX3_bookings_4 : decode cX3_bookings 4 = .ok (.iload_n 2, 1) := dk_28 (dk_at dksX3_bookings_0 4 rfl rfl)
theorem dX3_bookings_5 : decode cX3_bookings 5 = .ok (.aload_n 0, 1) := dk_42 (dk_at dksX3_bookings_0 5 rfl rfl)
theorem dX3_bookings_6 : decode cX3_bookings 6 = .ok (.getfield 7, 3) := dk_180 0 7 (dk_at dksX3_bookings_0 6 rfl rfl)
theorem dX3_bookings_9 : decode cX3_bookings 9 = .ok (.iconst 1, 1) := dk_4 (dk_at dksX3_bookings_0 9 rfl rfl)
theorem dX3_bookings_10 : decode cX3_bookings 10 = .ok (.iaload, 1) := dk_46 (dk_at dksX3_bookings_0 10 rfl rfl)
theorem dX3_bookings_11 : decode cX3_bookings 11 = .ok (.if_icmp .ge 17, 3) := dk_162 0 17 (dk_at dksX3_bookings_0 11 rfl rfl)
theorem dX3_bookings_14 : decode cX3_bookings 14 = .ok (.iload_n 1, 1) := dk_27 (dk_at dksX3_bookings_0 14 rfl rfl)
theorem dX3_bookings_15 : decode cX3_bookings 15 = .ok (.aload_n 0, 1) := dk_42 (dk_at dksX3_bookings_0 15 rfl rfl)
theorem dX3_bookings_16 : decode cX3_bookings 16 = .ok (.iload_n 2, 1) := dk_28 (dk_at dksX3_bookings_0 16 rfl rfl)
theorem dX3_bookings_17 : decode cX3_bookings 17 = .ok (.invokevirtual 109, 3) := dk_182 0 109 (dk_at dksX3_bookings_0 17 rfl rfl)
theorem dX3_bookings_20 : decode cX3_bookings 20 = .ok (.iadd, 1) := dk_96 (dk_at dksX3_bookings_0 20 rfl rfl)
theorem dX3_bookings_21 : decode cX3_bookings 21 = .ok (.istore_n 1, 1) := dk_60 (dk_at dksX3_bookings_0 21 rfl rfl)
theorem dX3_bookings_22 : decode cX3_bookings 22 = .ok (.iinc 2 1, 3) := dk_132 2 1 (dk_at dksX3_bookings_1 0 rfl rfl)
theorem dX3_bookings_25 : decode cX3_bookings 25 = .ok (.goto (-21), 3) := dk_167 255 235 (dk_at dksX3_bookings_1 3 rfl rfl)
theorem dX3_bookings_28 : decode cX3_bookings 28 = .ok (.iload_n 1, 1) := dk_27 (dk_at dksX3_bookings_1 6 rfl rfl)
theorem dX3_bookings_29 : decode cX3_bookings 29 = .ok (.ireturn, 1) := dk_172 (dk_at dksX3_bookings_1 7 rfl rfl)
abbrev cX3_meanSkill : ByteArray := prog_11_method_63_code
def yX3_meanSkill : MethodName := ⟨RX3, "meanSkill", "()D"⟩
def dkwX3_meanSkill_2 : List UInt8 := [132, 2, 1, 167, 255, 234, 27, 135, 42, 180, 0, 7, 3, 46, 135, 111, 175]
abbrev dktX3_meanSkill_2 : List UInt8 := dkwX3_meanSkill_2 ++ []
def dkwX3_meanSkill_1 : List UInt8 := [60, 3, 61, 28, 42, 180, 0, 7, 3, 46, 162, 0, 18, 27, 42, 28, 5, 182, 0, 66, 96, 60]
abbrev dktX3_meanSkill_1 : List UInt8 := dkwX3_meanSkill_1 ++ dktX3_meanSkill_2
def dkwX3_meanSkill_0 : List UInt8 := [42, 42, 180, 0, 7, 3, 46, 154, 0, 7, 4, 167, 0, 4, 3, 182, 0, 70, 153, 0, 5, 14, 175, 3]
abbrev dktX3_meanSkill_0 : List UInt8 := dkwX3_meanSkill_0 ++ dktX3_meanSkill_1
theorem dksX3_meanSkill_0 : cX3_meanSkill.data.toList.drop 0 = dktX3_meanSkill_0 := by decide +kernel
theorem dksX3_meanSkill_1 : cX3_meanSkill.data.toList.drop 24 = dktX3_meanSkill_1 := dk_seg dksX3_meanSkill_0 24 rfl rfl
theorem dksX3_meanSkill_2 : cX3_meanSkill.data.toList.drop 46 = dktX3_meanSkill_2 := dk_seg dksX3_meanSkill_1 22 rfl rfl
theorem dX3_meanSkill_0 : decode cX3_meanSkill 0 = .ok (.aload_n 0, 1) := dk_42 (dk_at dksX3_meanSkill_0 0 rfl rfl)
theorem dX3_meanSkill_1 : decode cX3_meanSkill 1 = .ok (.aload_n 0, 1) := dk_42 (dk_at dksX3_meanSkill_0 1 rfl rfl)
theorem dX3_meanSkill_2 : decode cX3_meanSkill 2 = .ok (.getfield 7, 3) := dk_180 0 7 (dk_at dksX3_meanSkill_0 2 rfl rfl)
theorem dX3_meanSkill_5 : decode cX3_meanSkill 5 = .ok (.iconst 0, 1) := dk_3 (dk_at dksX3_meanSkill_0 5 rfl rfl)
theorem dX3_meanSkill_6 : decode cX3_meanSkill 6 = .ok (.iaload, 1) := dk_46 (dk_at dksX3_meanSkill_0 6 rfl rfl)
theorem dX3_meanSkill_7 : decode cX3_meanSkill 7 = .ok (.ifCond .ne 7, 3) := dk_154 0 7 (dk_at dksX3_meanSkill_0 7 rfl rfl)
theorem dX3_meanSkill_10 : decode cX3_meanSkill 10 = .ok (.iconst 1, 1) := dk_4 (dk_at dksX3_meanSkill_0 10 rfl rfl)
theorem dX3_meanSkill_11 : decode cX3_meanSkill 11 = .ok (.goto 4, 3) := dk_167 0 4 (dk_at dksX3_meanSkill_0 11 rfl rfl)
theorem dX3_meanSkill_14 : decode cX3_meanSkill 14 = .ok (.iconst 0, 1) := dk_3 (dk_at dksX3_meanSkill_0 14 rfl rfl)
theorem dX3_meanSkill_15 : decode cX3_meanSkill 15 = .ok (.invokevirtual 70, 3) := dk_182 0 70 (dk_at dksX3_meanSkill_0 15 rfl rfl)
theorem dX3_meanSkill_18 : decode cX3_meanSkill 18 = .ok (.ifCond .eq 5, 3) := dk_153 0 5 (dk_at dksX3_meanSkill_0 18 rfl rfl)
theorem dX3_meanSkill_21 : decode cX3_meanSkill 21 = .ok (.dconst 0, 1) := dk_14 (dk_at dksX3_meanSkill_0 21 rfl rfl)
theorem dX3_meanSkill_22 : decode cX3_meanSkill 22 = .ok (.dreturn, 1) := dk_175 (dk_at dksX3_meanSkill_0 22 rfl rfl)
theorem dX3_meanSkill_23 : decode cX3_meanSkill 23 = .ok (.iconst 0, 1) := dk_3 (dk_at dksX3_meanSkill_0 23 rfl rfl)
theorem dX3_meanSkill_24 : decode cX3_meanSkill 24 = .ok (.istore_n 1, 1) := dk_60 (dk_at dksX3_meanSkill_1 0 rfl rfl)
theorem dX3_meanSkill_25 : decode cX3_meanSkill 25 = .ok (.iconst 0, 1) := dk_3 (dk_at dksX3_meanSkill_1 1 rfl rfl)
theorem dX3_meanSkill_26 : decode cX3_meanSkill 26 = .ok (.istore_n 2, 1) := dk_61 (dk_at dksX3_meanSkill_1 2 rfl rfl)
theorem dX3_meanSkill_27 : decode cX3_meanSkill 27 = .ok (.iload_n 2, 1) := dk_28 (dk_at dksX3_meanSkill_1 3 rfl rfl)
theorem dX3_meanSkill_28 : decode cX3_meanSkill 28 = .ok (.aload_n 0, 1) := dk_42 (dk_at dksX3_meanSkill_1 4 rfl rfl)
theorem dX3_meanSkill_29 : decode cX3_meanSkill 29 = .ok (.getfield 7, 3) := dk_180 0 7 (dk_at dksX3_meanSkill_1 5 rfl rfl)
theorem dX3_meanSkill_32 : decode cX3_meanSkill 32 = .ok (.iconst 0, 1) := dk_3 (dk_at dksX3_meanSkill_1 8 rfl rfl)
theorem dX3_meanSkill_33 : decode cX3_meanSkill 33 = .ok (.iaload, 1) := dk_46 (dk_at dksX3_meanSkill_1 9 rfl rfl)
theorem dX3_meanSkill_34 : decode cX3_meanSkill 34 = .ok (.if_icmp .ge 18, 3) := dk_162 0 18 (dk_at dksX3_meanSkill_1 10 rfl rfl)
theorem dX3_meanSkill_37 : decode cX3_meanSkill 37 = .ok (.iload_n 1, 1) := dk_27 (dk_at dksX3_meanSkill_1 13 rfl rfl)
theorem dX3_meanSkill_38 : decode cX3_meanSkill 38 = .ok (.aload_n 0, 1) := dk_42 (dk_at dksX3_meanSkill_1 14 rfl rfl)
theorem dX3_meanSkill_39 : decode cX3_meanSkill 39 = .ok (.iload_n 2, 1) := dk_28 (dk_at dksX3_meanSkill_1 15 rfl rfl)
theorem dX3_meanSkill_40 : decode cX3_meanSkill 40 = .ok (.iconst 2, 1) := dk_5 (dk_at dksX3_meanSkill_1 16 rfl rfl)
theorem dX3_meanSkill_41 : decode cX3_meanSkill 41 = .ok (.invokevirtual 66, 3) := dk_182 0 66 (dk_at dksX3_meanSkill_1 17 rfl rfl)
theorem dX3_meanSkill_44 : decode cX3_meanSkill 44 = .ok (.iadd, 1) := dk_96 (dk_at dksX3_meanSkill_1 20 rfl rfl)
theorem dX3_meanSkill_45 : decode cX3_meanSkill 45 = .ok (.istore_n 1, 1) := dk_60 (dk_at dksX3_meanSkill_1 21 rfl rfl)
theorem dX3_meanSkill_46 : decode cX3_meanSkill 46 = .ok (.iinc 2 1, 3) := dk_132 2 1 (dk_at dksX3_meanSkill_2 0 rfl rfl)
theorem dX3_meanSkill_49 : decode cX3_meanSkill 49 = .ok (.goto (-22), 3) := dk_167 255 234 (dk_at dksX3_meanSkill_2 3 rfl rfl)
theorem dX3_meanSkill_52 : decode cX3_meanSkill 52 = .ok (.iload_n 1, 1) := dk_27 (dk_at dksX3_meanSkill_2 6 rfl rfl)
theorem dX3_meanSkill_53 : decode cX3_meanSkill 53 = .ok (.i2d, 1) := dk_135 (dk_at dksX3_meanSkill_2 7 rfl rfl)
theorem dX3_meanSkill_54 : decode cX3_meanSkill 54 = .ok (.aload_n 0, 1) := dk_42 (dk_at dksX3_meanSkill_2 8 rfl rfl)
theorem dX3_meanSkill_55 : decode cX3_meanSkill 55 = .ok (.getfield 7, 3) := dk_180 0 7 (dk_at dksX3_meanSkill_2 9 rfl rfl)
theorem dX3_meanSkill_58 : decode cX3_meanSkill 58 = .ok (.iconst 0, 1) := dk_3 (dk_at dksX3_meanSkill_2 12 rfl rfl)
theorem dX3_meanSkill_59 : decode cX3_meanSkill 59 = .ok (.iaload, 1) := dk_46 (dk_at dksX3_meanSkill_2 13 rfl rfl)
theorem dX3_meanSkill_60 : decode cX3_meanSkill 60 = .ok (.i2d, 1) := dk_135 (dk_at dksX3_meanSkill_2 14 rfl rfl)
theorem dX3_meanSkill_61 : decode cX3_meanSkill 61 = .ok (.ddiv, 1) := dk_111 (dk_at dksX3_meanSkill_2 15 rfl rfl)
theorem dX3_meanSkill_62 : decode cX3_meanSkill 62 = .ok (.dreturn, 1) := dk_175 (dk_at dksX3_meanSkill_2 16 rfl rfl)
abbrev cX3_crossShare : ByteArray := prog_11_method_64_code
def yX3_crossShare : MethodName := ⟨RX3, "crossShare", "()F"⟩
def dkwX3_crossShare_1 : List UInt8 := [167, 0, 19, 42, 180, 0, 7, 16, 6, 46, 134, 42, 180, 0, 7, 8, 46, 134, 110, 174]
abbrev dktX3_crossShare_1 : List UInt8 := dkwX3_crossShare_1 ++ []
def dkwX3_crossShare_0 : List UInt8 := [42, 42, 180, 0, 7, 8, 46, 154, 0, 7, 4, 167, 0, 4, 3, 182, 0, 70, 153, 0, 7, 11]
abbrev dktX3_crossShare_0 : List UInt8 := dkwX3_crossShare_0 ++ dktX3_crossShare_1
theorem dksX3_crossShare_0 : cX3_crossShare.data.toList.drop 0 = dktX3_crossShare_0 := by decide +kernel
theorem dksX3_crossShare_1 : cX3_crossShare.data.toList.drop 22 = dktX3_crossShare_1 := dk_seg dksX3_crossShare_0 22 rfl rfl
theorem dX3_crossShare_0 : decode cX3_crossShare 0 = .ok (.aload_n 0, 1) := dk_42 (dk_at dksX3_crossShare_0 0 rfl rfl)
theorem dX3_crossShare_1 : decode cX3_crossShare 1 = .ok (.aload_n 0, 1) := dk_42 (dk_at dksX3_crossShare_0 1 rfl rfl)
theorem dX3_crossShare_2 : decode cX3_crossShare 2 = .ok (.getfield 7, 3) := dk_180 0 7 (dk_at dksX3_crossShare_0 2 rfl rfl)
theorem dX3_crossShare_5 : decode cX3_crossShare 5 = .ok (.iconst 5, 1) := dk_8 (dk_at dksX3_crossShare_0 5 rfl rfl)
theorem dX3_crossShare_6 : decode cX3_crossShare 6 = .ok (.iaload, 1) := dk_46 (dk_at dksX3_crossShare_0 6 rfl rfl)
theorem dX3_crossShare_7 : decode cX3_crossShare 7 = .ok (.ifCond .ne 7, 3) := dk_154 0 7 (dk_at dksX3_crossShare_0 7 rfl rfl)
theorem dX3_crossShare_10 : decode cX3_crossShare 10 = .ok (.iconst 1, 1) := dk_4 (dk_at dksX3_crossShare_0 10 rfl rfl)
theorem dX3_crossShare_11 : decode cX3_crossShare 11 = .ok (.goto 4, 3) := dk_167 0 4 (dk_at dksX3_crossShare_0 11 rfl rfl)
theorem dX3_crossShare_14 : decode cX3_crossShare 14 = .ok (.iconst 0, 1) := dk_3 (dk_at dksX3_crossShare_0 14 rfl rfl)
theorem dX3_crossShare_15 : decode cX3_crossShare 15 = .ok (.invokevirtual 70, 3) := dk_182 0 70 (dk_at dksX3_crossShare_0 15 rfl rfl)
theorem dX3_crossShare_18 : decode cX3_crossShare 18 = .ok (.ifCond .eq 7, 3) := dk_153 0 7 (dk_at dksX3_crossShare_0 18 rfl rfl)
theorem dX3_crossShare_21 : decode cX3_crossShare 21 = .ok (.fconst 0, 1) := dk_11 (dk_at dksX3_crossShare_0 21 rfl rfl)
theorem dX3_crossShare_22 : decode cX3_crossShare 22 = .ok (.goto 19, 3) := dk_167 0 19 (dk_at dksX3_crossShare_1 0 rfl rfl)
theorem dX3_crossShare_25 : decode cX3_crossShare 25 = .ok (.aload_n 0, 1) := dk_42 (dk_at dksX3_crossShare_1 3 rfl rfl)
theorem dX3_crossShare_26 : decode cX3_crossShare 26 = .ok (.getfield 7, 3) := dk_180 0 7 (dk_at dksX3_crossShare_1 4 rfl rfl)
theorem dX3_crossShare_29 : decode cX3_crossShare 29 = .ok (.bipush 6, 2) := dk_16 6 (dk_at dksX3_crossShare_1 7 rfl rfl)
theorem dX3_crossShare_31 : decode cX3_crossShare 31 = .ok (.iaload, 1) := dk_46 (dk_at dksX3_crossShare_1 9 rfl rfl)
theorem dX3_crossShare_32 : decode cX3_crossShare 32 = .ok (.i2f, 1) := dk_134 (dk_at dksX3_crossShare_1 10 rfl rfl)
theorem dX3_crossShare_33 : decode cX3_crossShare 33 = .ok (.aload_n 0, 1) := dk_42 (dk_at dksX3_crossShare_1 11 rfl rfl)
theorem dX3_crossShare_34 : decode cX3_crossShare 34 = .ok (.getfield 7, 3) := dk_180 0 7 (dk_at dksX3_crossShare_1 12 rfl rfl)
theorem dX3_crossShare_37 : decode cX3_crossShare 37 = .ok (.iconst 5, 1) := dk_8 (dk_at dksX3_crossShare_1 15 rfl rfl)
theorem dX3_crossShare_38 : decode cX3_crossShare 38 = .ok (.iaload, 1) := dk_46 (dk_at dksX3_crossShare_1 16 rfl rfl)
theorem dX3_crossShare_39 : decode cX3_crossShare 39 = .ok (.i2f, 1) := dk_134 (dk_at dksX3_crossShare_1 17 rfl rfl)
theorem dX3_crossShare_40 : decode cX3_crossShare 40 = .ok (.fdiv, 1) := dk_110 (dk_at dksX3_crossShare_1 18 rfl rfl)
theorem dX3_crossShare_41 : decode cX3_crossShare 41 = .ok (.freturn, 1) := dk_174 (dk_at dksX3_crossShare_1 19 rfl rfl)
abbrev cX3_append : ByteArray := prog_11_method_65_code
def yX3_append : MethodName := ⟨RX3, "append", "(I)I"⟩
def dkwX3_append_6 : List UInt8 := [4, 96, 181, 0, 162, 132, 4, 248, 167, 255, 209, 42, 180, 0, 162, 172]
abbrev dktX3_append_6 : List UInt8 := dkwX3_append_6 ++ []
def dkwX3_append_5 : List UInt8 := [21, 5, 154, 0, 6, 167, 0, 24, 42, 180, 0, 22, 42, 180, 0, 162, 21, 5, 79, 42, 89, 180, 0, 162]
abbrev dktX3_append_5 : List UInt8 := dkwX3_append_5 ++ dktX3_append_6
def dkwX3_append_4 : List UInt8 := [153, 0, 5, 3, 172, 16, 24, 54, 4, 21, 4, 155, 0, 48, 27, 21, 4, 124, 17, 0, 255, 126, 54, 5]
abbrev dktX3_append_4 : List UInt8 := dkwX3_append_4 ++ dktX3_append_5
def dkwX3_append_3 : List UInt8 := [4, 167, 0, 19, 42, 180, 0, 162, 28, 96, 16, 60, 164, 0, 7, 5, 167, 0, 4, 3, 182, 0, 70]
abbrev dktX3_append_3 : List UInt8 := dkwX3_append_3 ++ dktX3_append_4
def dkwX3_append_2 : List UInt8 := [28, 21, 5, 153, 0, 7, 4, 167, 0, 4, 3, 96, 61, 132, 4, 248, 167, 255, 200, 42, 29, 153, 0, 7]
abbrev dktX3_append_2 : List UInt8 := dkwX3_append_2 ++ dktX3_append_3
def dkwX3_append_1 : List UInt8 := [21, 5, 153, 0, 19, 21, 5, 16, 32, 16, 126, 184, 0, 62, 154, 0, 7, 4, 167, 0, 4, 3, 128, 62]
abbrev dktX3_append_1 : List UInt8 := dkwX3_append_1 ++ dktX3_append_2
def dkwX3_append_0 : List UInt8 := [3, 61, 3, 62, 16, 24, 54, 4, 21, 4, 155, 0, 57, 27, 21, 4, 124, 17, 0, 255, 126, 54, 5, 29]
abbrev dktX3_append_0 : List UInt8 := dkwX3_append_0 ++ dktX3_append_1
theorem dksX3_append_0 : cX3_append.data.toList.drop 0 = dktX3_append_0 := by decide +kernel
theorem dksX3_append_1 : cX3_append.data.toList.drop 24 = dktX3_append_1 := dk_seg dksX3_append_0 24 rfl rfl
theorem dksX3_append_2 : cX3_append.data.toList.drop 48 = dktX3_append_2 := dk_seg dksX3_append_1 24 rfl rfl
theorem dksX3_append_3 : cX3_append.data.toList.drop 72 = dktX3_append_3 := dk_seg dksX3_append_2 24 rfl rfl
theorem dksX3_append_4 : cX3_append.data.toList.drop 95 = dktX3_append_4 := dk_seg dksX3_append_3 23 rfl rfl
theorem dksX3_append_5 : cX3_append.data.toList.drop 119 = dktX3_append_5 := dk_seg dksX3_append_4 24 rfl rfl
theorem dksX3_append_6 : cX3_append.data.toList.drop 143 = dktX3_append_6 := dk_seg dksX3_append_5 24 rfl rfl
theorem dX3_append_0 : decode cX3_append 0 = .ok (.iconst 0, 1) := dk_3 (dk_at dksX3_append_0 0 rfl rfl)
theorem dX3_append_1 : decode cX3_append 1 = .ok (.istore_n 2, 1) := dk_61 (dk_at dksX3_append_0 1 rfl rfl)
theorem dX3_append_2 : decode cX3_append 2 = .ok (.iconst 0, 1) := dk_3 (dk_at dksX3_append_0 2 rfl rfl)
theorem dX3_append_3 : decode cX3_append 3 = .ok (.istore_n 3, 1) := dk_62 (dk_at dksX3_append_0 3 rfl rfl)
theorem dX3_append_4 : decode cX3_append 4 = .ok (.bipush 24, 2) := dk_16 24 (dk_at dksX3_append_0 4 rfl rfl)
theorem dX3_append_6 : decode cX3_append 6 = .ok (.istore 4, 2) := dk_54 4 (dk_at dksX3_append_0 6 rfl rfl)
theorem dX3_append_8 : decode cX3_append 8 = .ok (.iload 4, 2) := dk_21 4 (dk_at dksX3_append_0 8 rfl rfl)
theorem dX3_append_10 : decode cX3_append 10 = .ok (.ifCond .lt 57, 3) := dk_155 0 57 (dk_at dksX3_append_0 10 rfl rfl)
theorem dX3_append_13 : decode cX3_append 13 = .ok (.iload_n 1, 1) := dk_27 (dk_at dksX3_append_0 13 rfl rfl)
theorem dX3_append_14 : decode cX3_append 14 = .ok (.iload 4, 2) := dk_21 4 (dk_at dksX3_append_0 14 rfl rfl)
theorem dX3_append_16 : decode cX3_append 16 = .ok (.iushr, 1) := dk_124 (dk_at dksX3_append_0 16 rfl rfl)
theorem dX3_append_17 : decode cX3_append 17 = .ok (.sipush 255, 3) := dk_17 0 255 (dk_at dksX3_append_0 17 rfl rfl)
theorem dX3_append_20 : decode cX3_append 20 = .ok (.iand, 1) := dk_126 (dk_at dksX3_append_0 20 rfl rfl)
theorem dX3_append_21 : decode cX3_append 21 = .ok (.istore 5, 2) := dk_54 5 (dk_at dksX3_append_0 21 rfl rfl)
theorem dX3_append_23 : decode cX3_append 23 = .ok (.iload_n 3, 1) := dk_29 (dk_at dksX3_append_0 23 rfl rfl)
theorem dX3_append_24 : decode cX3_append 24 = .ok (.iload 5, 2) := dk_21 5 (dk_at dksX3_append_1 0 rfl rfl)
theorem dX3_append_26 : decode cX3_append 26 = .ok (.ifCond .eq 19, 3) := dk_153 0 19 (dk_at dksX3_append_1 2 rfl rfl)
theorem dX3_append_29 : decode cX3_append 29 = .ok (.iload 5, 2) := dk_21 5 (dk_at dksX3_append_1 5 rfl rfl)
theorem dX3_append_31 : decode cX3_append 31 = .ok (.bipush 32, 2) := dk_16 32 (dk_at dksX3_append_1 7 rfl rfl)
theorem dX3_append_33 : decode cX3_append 33 = .ok (.bipush 126, 2) := dk_16 126 (dk_at dksX3_append_1 9 rfl rfl)
theorem dX3_append_35 : decode cX3_append 35 = .ok (.invokestatic 62, 3) := dk_184 0 62 (dk_at dksX3_append_1 11 rfl rfl)
theorem dX3_append_38 : decode cX3_append 38 = .ok (.ifCond .ne 7, 3) := dk_154 0 7 (dk_at dksX3_append_1 14 rfl rfl)
theorem dX3_append_41 : decode cX3_append 41 = .ok (.iconst 1, 1) := dk_4 (dk_at dksX3_append_1 17 rfl rfl)
theorem dX3_append_42 : decode cX3_append 42 = .ok (.goto 4, 3) := dk_167 0 4 (dk_at dksX3_append_1 18 rfl rfl)
theorem dX3_append_45 : decode cX3_append 45 = .ok (.iconst 0, 1) := dk_3 (dk_at dksX3_append_1 21 rfl rfl)
theorem dX3_append_46 : decode cX3_append 46 = .ok (.ior, 1) := dk_128 (dk_at dksX3_append_1 22 rfl rfl)
theorem dX3_append_47 : decode cX3_append 47 = .ok (.istore_n 3, 1) := dk_62 (dk_at dksX3_append_1 23 rfl rfl)
theorem dX3_append_48 : decode cX3_append 48 = .ok (.iload_n 2, 1) := dk_28 (dk_at dksX3_append_2 0 rfl rfl)
theorem dX3_append_49 : decode cX3_append 49 = .ok (.iload 5, 2) := dk_21 5 (dk_at dksX3_append_2 1 rfl rfl)
theorem dX3_append_51 : decode cX3_append 51 = .ok (.ifCond .eq 7, 3) := dk_153 0 7 (dk_at dksX3_append_2 3 rfl rfl)
theorem dX3_append_54 : decode cX3_append 54 = .ok (.iconst 1, 1) := dk_4 (dk_at dksX3_append_2 6 rfl rfl)
theorem dX3_append_55 : decode cX3_append 55 = .ok (.goto 4, 3) := dk_167 0 4 (dk_at dksX3_append_2 7 rfl rfl)
theorem dX3_append_58 : decode cX3_append 58 = .ok (.iconst 0, 1) := dk_3 (dk_at dksX3_append_2 10 rfl rfl)
theorem dX3_append_59 : decode cX3_append 59 = .ok (.iadd, 1) := dk_96 (dk_at dksX3_append_2 11 rfl rfl)
theorem dX3_append_60 : decode cX3_append 60 = .ok (.istore_n 2, 1) := dk_61 (dk_at dksX3_append_2 12 rfl rfl)
theorem dX3_append_61 : decode cX3_append 61 = .ok (.iinc 4 (-8), 3) := dk_132 4 248 (dk_at dksX3_append_2 13 rfl rfl)
theorem dX3_append_64 : decode cX3_append 64 = .ok (.goto (-56), 3) := dk_167 255 200 (dk_at dksX3_append_2 16 rfl rfl)
theorem dX3_append_67 : decode cX3_append 67 = .ok (.aload_n 0, 1) := dk_42 (dk_at dksX3_append_2 19 rfl rfl)
theorem dX3_append_68 : decode cX3_append 68 = .ok (.iload_n 3, 1) := dk_29 (dk_at dksX3_append_2 20 rfl rfl)
theorem dX3_append_69 : decode cX3_append 69 = .ok (.ifCond .eq 7, 3) := dk_153 0 7 (dk_at dksX3_append_2 21 rfl rfl)
theorem dX3_append_72 : decode cX3_append 72 = .ok (.iconst 1, 1) := dk_4 (dk_at dksX3_append_3 0 rfl rfl)
theorem dX3_append_73 : decode cX3_append 73 = .ok (.goto 19, 3) := dk_167 0 19 (dk_at dksX3_append_3 1 rfl rfl)
theorem dX3_append_76 : decode cX3_append 76 = .ok (.aload_n 0, 1) := dk_42 (dk_at dksX3_append_3 4 rfl rfl)
theorem dX3_append_77 : decode cX3_append 77 = .ok (.getfield 162, 3) := dk_180 0 162 (dk_at dksX3_append_3 5 rfl rfl)
theorem dX3_append_80 : decode cX3_append 80 = .ok (.iload_n 2, 1) := dk_28 (dk_at dksX3_append_3 8 rfl rfl)
theorem dX3_append_81 : decode cX3_append 81 = .ok (.iadd, 1) := dk_96 (dk_at dksX3_append_3 9 rfl rfl)
theorem dX3_append_82 : decode cX3_append 82 = .ok (.bipush 60, 2) := dk_16 60 (dk_at dksX3_append_3 10 rfl rfl)
theorem dX3_append_84 : decode cX3_append 84 = .ok (.if_icmp .le 7, 3) := dk_164 0 7 (dk_at dksX3_append_3 12 rfl rfl)
theorem dX3_append_87 : decode cX3_append 87 = .ok (.iconst 2, 1) := dk_5 (dk_at dksX3_append_3 15 rfl rfl)
theorem dX3_append_88 : decode cX3_append 88 = .ok (.goto 4, 3) := dk_167 0 4 (dk_at dksX3_append_3 16 rfl rfl)
theorem dX3_append_91 : decode cX3_append 91 = .ok (.iconst 0, 1) := dk_3 (dk_at dksX3_append_3 19 rfl rfl)
theorem dX3_append_92 : decode cX3_append 92 = .ok (.invokevirtual 70, 3) := dk_182 0 70 (dk_at dksX3_append_3 20 rfl rfl)
theorem dX3_append_95 : decode cX3_append 95 = .ok (.ifCond .eq 5, 3) := dk_153 0 5 (dk_at dksX3_append_4 0 rfl rfl)
theorem dX3_append_98 : decode cX3_append 98 = .ok (.iconst 0, 1) := dk_3 (dk_at dksX3_append_4 3 rfl rfl)
theorem dX3_append_99 : decode cX3_append 99 = .ok (.ireturn, 1) := dk_172 (dk_at dksX3_append_4 4 rfl rfl)
theorem dX3_append_100 : decode cX3_append 100 = .ok (.bipush 24, 2) := dk_16 24 (dk_at dksX3_append_4 5 rfl rfl)
theorem dX3_append_102 : decode cX3_append 102 = .ok (.istore 4, 2) := dk_54 4 (dk_at dksX3_append_4 7 rfl rfl)
theorem dX3_append_104 : decode cX3_append 104 = .ok (.iload 4, 2) := dk_21 4 (dk_at dksX3_append_4 9 rfl rfl)
theorem dX3_append_106 : decode cX3_append 106 = .ok (.ifCond .lt 48, 3) := dk_155 0 48 (dk_at dksX3_append_4 11 rfl rfl)
theorem dX3_append_109 : decode cX3_append 109 = .ok (.iload_n 1, 1) := dk_27 (dk_at dksX3_append_4 14 rfl rfl)
theorem dX3_append_110 : decode cX3_append 110 = .ok (.iload 4, 2) := dk_21 4 (dk_at dksX3_append_4 15 rfl rfl)
theorem dX3_append_112 : decode cX3_append 112 = .ok (.iushr, 1) := dk_124 (dk_at dksX3_append_4 17 rfl rfl)
theorem dX3_append_113 : decode cX3_append 113 = .ok (.sipush 255, 3) := dk_17 0 255 (dk_at dksX3_append_4 18 rfl rfl)
theorem dX3_append_116 : decode cX3_append 116 = .ok (.iand, 1) := dk_126 (dk_at dksX3_append_4 21 rfl rfl)
theorem dX3_append_117 : decode cX3_append 117 = .ok (.istore 5, 2) := dk_54 5 (dk_at dksX3_append_4 22 rfl rfl)
theorem dX3_append_119 : decode cX3_append 119 = .ok (.iload 5, 2) := dk_21 5 (dk_at dksX3_append_5 0 rfl rfl)
theorem dX3_append_121 : decode cX3_append 121 = .ok (.ifCond .ne 6, 3) := dk_154 0 6 (dk_at dksX3_append_5 2 rfl rfl)
theorem dX3_append_124 : decode cX3_append 124 = .ok (.goto 24, 3) := dk_167 0 24 (dk_at dksX3_append_5 5 rfl rfl)
theorem dX3_append_127 : decode cX3_append 127 = .ok (.aload_n 0, 1) := dk_42 (dk_at dksX3_append_5 8 rfl rfl)
theorem dX3_append_128 : decode cX3_append 128 = .ok (.getfield 22, 3) := dk_180 0 22 (dk_at dksX3_append_5 9 rfl rfl)
theorem dX3_append_131 : decode cX3_append 131 = .ok (.aload_n 0, 1) := dk_42 (dk_at dksX3_append_5 12 rfl rfl)
theorem dX3_append_132 : decode cX3_append 132 = .ok (.getfield 162, 3) := dk_180 0 162 (dk_at dksX3_append_5 13 rfl rfl)
theorem dX3_append_135 : decode cX3_append 135 = .ok (.iload 5, 2) := dk_21 5 (dk_at dksX3_append_5 16 rfl rfl)
theorem dX3_append_137 : decode cX3_append 137 = .ok (.iastore, 1) := dk_79 (dk_at dksX3_append_5 18 rfl rfl)
theorem dX3_append_138 : decode cX3_append 138 = .ok (.aload_n 0, 1) := dk_42 (dk_at dksX3_append_5 19 rfl rfl)
theorem dX3_append_139 : decode cX3_append 139 = .ok (.dup, 1) := dk_89 (dk_at dksX3_append_5 20 rfl rfl)
theorem dX3_append_140 : decode cX3_append 140 = .ok (.getfield 162, 3) := dk_180 0 162 (dk_at dksX3_append_5 21 rfl rfl)
theorem dX3_append_143 : decode cX3_append 143 = .ok (.iconst 1, 1) := dk_4 (dk_at dksX3_append_6 0 rfl rfl)
theorem dX3_append_144 : decode cX3_append 144 = .ok (.iadd, 1) := dk_96 (dk_at dksX3_append_6 1 rfl rfl)
theorem dX3_append_145 : decode cX3_append 145 = .ok (.putfield 162, 3) := dk_181 0 162 (dk_at dksX3_append_6 2 rfl rfl)
theorem dX3_append_148 : decode cX3_append 148 = .ok (.iinc 4 (-8), 3) := dk_132 4 248 (dk_at dksX3_append_6 5 rfl rfl)
theorem dX3_append_151 : decode cX3_append 151 = .ok (.goto (-47), 3) := dk_167 255 209 (dk_at dksX3_append_6 8 rfl rfl)
theorem dX3_append_154 : decode cX3_append 154 = .ok (.aload_n 0, 1) := dk_42 (dk_at dksX3_append_6 11 rfl rfl)
theorem dX3_append_155 : decode cX3_append 155 = .ok (.getfield 162, 3) := dk_180 0 162 (dk_at dksX3_append_6 12 rfl rfl)
theorem dX3_append_158 : decode cX3_append 158 = .ok (.ireturn, 1) := dk_172 (dk_at dksX3_append_6 15 rfl rfl)
abbrev cX3_read : ByteArray := prog_11_method_77_code
def yX3_read : MethodName := ⟨RX3, "read", "()I"⟩
def dkwX3_read_6 : List UInt8 := [167, 0, 4, 29, 172, 42, 42, 180, 0, 19, 182, 0, 78, 42, 180, 0, 181, 172]
abbrev dktX3_read_6 : List UInt8 := dkwX3_read_6 ++ []
def dkwX3_read_5 : List UInt8 := [180, 0, 7, 3, 184, 0, 58, 42, 28, 181, 0, 29, 42, 5, 181, 0, 42, 29, 158, 0, 7, 3]
abbrev dktX3_read_5 : List UInt8 := dkwX3_read_5 ++ dktX3_read_6
def dkwX3_read_4 : List UInt8 := [132, 2, 1, 167, 255, 223, 42, 3, 181, 0, 51, 42, 180, 0, 42, 158, 0, 36, 42, 180, 0, 19, 3, 42]
abbrev dktX3_read_4 : List UInt8 := dkwX3_read_4 ++ dktX3_read_5
def dkwX3_read_3 : List UInt8 := [42, 180, 0, 42, 154, 0, 24, 42, 8, 28, 104, 182, 1, 4, 62, 42, 180, 0, 42, 154, 255, 229]
abbrev dktX3_read_3 : List UInt8 := dkwX3_read_3 ++ dktX3_read_4
def dkwX3_read_2 : List UInt8 := [180, 0, 19, 3, 184, 0, 58, 42, 4, 181, 0, 51, 3, 61, 3, 62, 28, 42, 180, 0, 181, 162, 0, 31]
abbrev dktX3_read_2 : List UInt8 := dkwX3_read_2 ++ dktX3_read_3
def dkwX3_read_1 : List UInt8 := [153, 0, 7, 3, 167, 0, 4, 4, 182, 0, 70, 153, 0, 5, 3, 172, 42, 180, 0, 7, 3, 42]
abbrev dktX3_read_1 : List UInt8 := dkwX3_read_1 ++ dktX3_read_2
def dkwX3_read_0 : List UInt8 := [42, 182, 1, 1, 60, 27, 154, 0, 11, 42, 42, 180, 0, 165, 181, 0, 25, 42, 3, 181, 0, 162, 42, 27]
abbrev dktX3_read_0 : List UInt8 := dkwX3_read_0 ++ dktX3_read_1
theorem dksX3_read_0 : cX3_read.data.toList.drop 0 = dktX3_read_0 := by decide +kernel
theorem dksX3_read_1 : cX3_read.data.toList.drop 24 = dktX3_read_1 := dk_seg dksX3_read_0 24 rfl rfl
theorem dksX3_read_2 : cX3_read.data.toList.drop 46 = dktX3_read_2 := dk_seg dksX3_read_1 22 rfl rfl
theorem dksX3_read_3 : cX3_read.data.toList.drop 70 = dktX3_read_3 := dk_seg dksX3_read_2 24 rfl rfl
theorem dksX3_read_4 : cX3_read.data.toList.drop 92 = dktX3_read_4 := dk_seg dksX3_read_3 22 rfl rfl
theorem dksX3_read_5 : cX3_read.data.toList.drop 116 = dktX3_read_5 := dk_seg dksX3_read_4 24 rfl rfl
theorem dksX3_read_6 : cX3_read.data.toList.drop 138 = dktX3_read_6 := dk_seg dksX3_read_5 22 rfl rfl
theorem dX3_read_0 : decode cX3_read 0 = .ok (.aload_n 0, 1) := dk_42 (dk_at dksX3_read_0 0 rfl rfl)
theorem dX3_read_1 : decode cX3_read 1 = .ok (.invokevirtual 257, 3) := dk_182 1 1 (dk_at dksX3_read_0 1 rfl rfl)
theorem dX3_read_4 : decode cX3_read 4 = .ok (.istore_n 1, 1) := dk_60 (dk_at dksX3_read_0 4 rfl rfl)
theorem dX3_read_5 : decode cX3_read 5 = .ok (.iload_n 1, 1) := dk_27 (dk_at dksX3_read_0 5 rfl rfl)
theorem dX3_read_6 : decode cX3_read 6 = .ok (.ifCond .ne 11, 3) := dk_154 0 11 (dk_at dksX3_read_0 6 rfl rfl)
theorem dX3_read_9 : decode cX3_read 9 = .ok (.aload_n 0, 1) := dk_42 (dk_at dksX3_read_0 9 rfl rfl)
theorem dX3_read_10 : decode cX3_read 10 = .ok (.aload_n 0, 1) := dk_42 (dk_at dksX3_read_0 10 rfl rfl)
theorem dX3_read_11 : decode cX3_read 11 = .ok (.getfield 165, 3) := dk_180 0 165 (dk_at dksX3_read_0 11 rfl rfl)
theorem dX3_read_14 : decode cX3_read 14 = .ok (.putfield 25, 3) := dk_181 0 25 (dk_at dksX3_read_0 14 rfl rfl)
theorem dX3_read_17 : decode cX3_read 17 = .ok (.aload_n 0, 1) := dk_42 (dk_at dksX3_read_0 17 rfl rfl)
theorem dX3_read_18 : decode cX3_read 18 = .ok (.iconst 0, 1) := dk_3 (dk_at dksX3_read_0 18 rfl rfl)
theorem dX3_read_19 : decode cX3_read 19 = .ok (.putfield 162, 3) := dk_181 0 162 (dk_at dksX3_read_0 19 rfl rfl)
theorem dX3_read_22 : decode cX3_read 22 = .ok (.aload_n 0, 1) := dk_42 (dk_at dksX3_read_0 22 rfl rfl)
theorem dX3_read_23 : decode cX3_read 23 = .ok (.iload_n 1, 1) := dk_27 (dk_at dksX3_read_0 23 rfl rfl)
theorem dX3_read_24 : decode cX3_read 24 = .ok (.ifCond .eq 7, 3) := dk_153 0 7 (dk_at dksX3_read_1 0 rfl rfl)
theorem dX3_read_27 : decode cX3_read 27 = .ok (.iconst 0, 1) := dk_3 (dk_at dksX3_read_1 3 rfl rfl)
theorem dX3_read_28 : decode cX3_read 28 = .ok (.goto 4, 3) := dk_167 0 4 (dk_at dksX3_read_1 4 rfl rfl)
theorem dX3_read_31 : decode cX3_read 31 = .ok (.iconst 1, 1) := dk_4 (dk_at dksX3_read_1 7 rfl rfl)
theorem dX3_read_32 : decode cX3_read 32 = .ok (.invokevirtual 70, 3) := dk_182 0 70 (dk_at dksX3_read_1 8 rfl rfl)
theorem dX3_read_35 : decode cX3_read 35 = .ok (.ifCond .eq 5, 3) := dk_153 0 5 (dk_at dksX3_read_1 11 rfl rfl)
theorem dX3_read_38 : decode cX3_read 38 = .ok (.iconst 0, 1) := dk_3 (dk_at dksX3_read_1 14 rfl rfl)
theorem dX3_read_39 : decode cX3_read 39 = .ok (.ireturn, 1) := dk_172 (dk_at dksX3_read_1 15 rfl rfl)
theorem dX3_read_40 : decode cX3_read 40 = .ok (.aload_n 0, 1) := dk_42 (dk_at dksX3_read_1 16 rfl rfl)
theorem dX3_read_41 : decode cX3_read 41 = .ok (.getfield 7, 3) := dk_180 0 7 (dk_at dksX3_read_1 17 rfl rfl)
theorem dX3_read_44 : decode cX3_read 44 = .ok (.iconst 0, 1) := dk_3 (dk_at dksX3_read_1 20 rfl rfl)
theorem dX3_read_45 : decode cX3_read 45 = .ok (.aload_n 0, 1) := dk_42 (dk_at dksX3_read_1 21 rfl rfl)
theorem dX3_read_46 : decode cX3_read 46 = .ok (.getfield 19, 3) := dk_180 0 19 (dk_at dksX3_read_2 0 rfl rfl)
theorem dX3_read_49 : decode cX3_read 49 = .ok (.iconst 0, 1) := dk_3 (dk_at dksX3_read_2 3 rfl rfl)
theorem dX3_read_50 : decode cX3_read 50 = .ok (.invokestatic 58, 3) := dk_184 0 58 (dk_at dksX3_read_2 4 rfl rfl)
theorem dX3_read_53 : decode cX3_read 53 = .ok (.aload_n 0, 1) := dk_42 (dk_at dksX3_read_2 7 rfl rfl)
theorem dX3_read_54 : decode cX3_read 54 = .ok (.iconst 1, 1) := dk_4 (dk_at dksX3_read_2 8 rfl rfl)
theorem dX3_read_55 : decode cX3_read 55 = .ok (.putfield 51, 3) := dk_181 0 51 (dk_at dksX3_read_2 9 rfl rfl)
theorem dX3_read_58 : decode cX3_read 58 = .ok (.iconst 0, 1) := dk_3 (dk_at dksX3_read_2 12 rfl rfl)
theorem dX3_read_59 : decode cX3_read 59 = .ok (.istore_n 2, 1) := dk_61 (dk_at dksX3_read_2 13 rfl rfl)
theorem dX3_read_60 : decode cX3_read 60 = .ok (.iconst 0, 1) := dk_3 (dk_at dksX3_read_2 14 rfl rfl)
theorem dX3_read_61 : decode cX3_read 61 = .ok (.istore_n 3, 1) := dk_62 (dk_at dksX3_read_2 15 rfl rfl)
theorem dX3_read_62 : decode cX3_read 62 = .ok (.iload_n 2, 1) := dk_28 (dk_at dksX3_read_2 16 rfl rfl)
theorem dX3_read_63 : decode cX3_read 63 = .ok (.aload_n 0, 1) := dk_42 (dk_at dksX3_read_2 17 rfl rfl)
theorem dX3_read_64 : decode cX3_read 64 = .ok (.getfield 181, 3) := dk_180 0 181 (dk_at dksX3_read_2 18 rfl rfl)
theorem dX3_read_67 : decode cX3_read 67 = .ok (.if_icmp .ge 31, 3) := dk_162 0 31 (dk_at dksX3_read_2 21 rfl rfl)
theorem dX3_read_70 : decode cX3_read 70 = .ok (.aload_n 0, 1) := dk_42 (dk_at dksX3_read_3 0 rfl rfl)
theorem dX3_read_71 : decode cX3_read 71 = .ok (.getfield 42, 3) := dk_180 0 42 (dk_at dksX3_read_3 1 rfl rfl)
theorem dX3_read_74 : decode cX3_read 74 = .ok (.ifCond .ne 24, 3) := dk_154 0 24 (dk_at dksX3_read_3 4 rfl rfl)
theorem dX3_read_77 : decode cX3_read 77 = .ok (.aload_n 0, 1) := dk_42 (dk_at dksX3_read_3 7 rfl rfl)
theorem dX3_read_78 : decode cX3_read 78 = .ok (.iconst 5, 1) := dk_8 (dk_at dksX3_read_3 8 rfl rfl)
theorem dX3_read_79 : decode cX3_read 79 = .ok (.iload_n 2, 1) := dk_28 (dk_at dksX3_read_3 9 rfl rfl)
theorem dX3_read_80 : decode cX3_read 80 = .ok (.imul, 1) := dk_104 (dk_at dksX3_read_3 10 rfl rfl)
theorem dX3_read_81 : decode cX3_read 81 = .ok (.invokevirtual 260, 3) := dk_182 1 4 (dk_at dksX3_read_3 11 rfl rfl)
theorem dX3_read_84 : decode cX3_read 84 = .ok (.istore_n 3, 1) := dk_62 (dk_at dksX3_read_3 14 rfl rfl)
theorem dX3_read_85 : decode cX3_read 85 = .ok (.aload_n 0, 1) := dk_42 (dk_at dksX3_read_3 15 rfl rfl)
theorem dX3_read_86 : decode cX3_read 86 = .ok (.getfield 42, 3) := dk_180 0 42 (dk_at dksX3_read_3 16 rfl rfl)
theorem dX3_read_89 : decode cX3_read 89 = .ok (.ifCond .ne (-27), 3) := dk_154 255 229 (dk_at dksX3_read_3 19 rfl rfl)
theorem dX3_read_92 : decode cX3_read 92 = .ok (.iinc 2 1, 3) := dk_132 2 1 (dk_at dksX3_read_4 0 rfl rfl)
theorem dX3_read_95 : decode cX3_read 95 = .ok (.goto (-33), 3) := dk_167 255 223 (dk_at dksX3_read_4 3 rfl rfl)
theorem dX3_read_98 : decode cX3_read 98 = .ok (.aload_n 0, 1) := dk_42 (dk_at dksX3_read_4 6 rfl rfl)
theorem dX3_read_99 : decode cX3_read 99 = .ok (.iconst 0, 1) := dk_3 (dk_at dksX3_read_4 7 rfl rfl)
theorem dX3_read_100 : decode cX3_read 100 = .ok (.putfield 51, 3) := dk_181 0 51 (dk_at dksX3_read_4 8 rfl rfl)
theorem dX3_read_103 : decode cX3_read 103 = .ok (.aload_n 0, 1) := dk_42 (dk_at dksX3_read_4 11 rfl rfl)
theorem dX3_read_104 : decode cX3_read 104 = .ok (.getfield 42, 3) := dk_180 0 42 (dk_at dksX3_read_4 12 rfl rfl)
theorem dX3_read_107 : decode cX3_read 107 = .ok (.ifCond .le 36, 3) := dk_158 0 36 (dk_at dksX3_read_4 15 rfl rfl)
theorem dX3_read_110 : decode cX3_read 110 = .ok (.aload_n 0, 1) := dk_42 (dk_at dksX3_read_4 18 rfl rfl)
theorem dX3_read_111 : decode cX3_read 111 = .ok (.getfield 19, 3) := dk_180 0 19 (dk_at dksX3_read_4 19 rfl rfl)
theorem dX3_read_114 : decode cX3_read 114 = .ok (.iconst 0, 1) := dk_3 (dk_at dksX3_read_4 22 rfl rfl)
theorem dX3_read_115 : decode cX3_read 115 = .ok (.aload_n 0, 1) := dk_42 (dk_at dksX3_read_4 23 rfl rfl)
theorem dX3_read_116 : decode cX3_read 116 = .ok (.getfield 7, 3) := dk_180 0 7 (dk_at dksX3_read_5 0 rfl rfl)
theorem dX3_read_119 : decode cX3_read 119 = .ok (.iconst 0, 1) := dk_3 (dk_at dksX3_read_5 3 rfl rfl)
theorem dX3_read_120 : decode cX3_read 120 = .ok (.invokestatic 58, 3) := dk_184 0 58 (dk_at dksX3_read_5 4 rfl rfl)
theorem dX3_read_123 : decode cX3_read 123 = .ok (.aload_n 0, 1) := dk_42 (dk_at dksX3_read_5 7 rfl rfl)
theorem dX3_read_124 : decode cX3_read 124 = .ok (.iload_n 2, 1) := dk_28 (dk_at dksX3_read_5 8 rfl rfl)
theorem dX3_read_125 : decode cX3_read 125 = .ok (.putfield 29, 3) := dk_181 0 29 (dk_at dksX3_read_5 9 rfl rfl)
theorem dX3_read_128 : decode cX3_read 128 = .ok (.aload_n 0, 1) := dk_42 (dk_at dksX3_read_5 12 rfl rfl)
theorem dX3_read_129 : decode cX3_read 129 = .ok (.iconst 2, 1) := dk_5 (dk_at dksX3_read_5 13 rfl rfl)
theorem dX3_read_130 : decode cX3_read 130 = .ok (.putfield 42, 3) := dk_181 0 42 (dk_at dksX3_read_5 14 rfl rfl)
theorem dX3_read_133 : decode cX3_read 133 = .ok (.iload_n 3, 1) := dk_29 (dk_at dksX3_read_5 17 rfl rfl)
theorem dX3_read_134 : decode cX3_read 134 = .ok (.ifCond .le 7, 3) := dk_158 0 7 (dk_at dksX3_read_5 18 rfl rfl)
theorem dX3_read_137 : decode cX3_read 137 = .ok (.iconst 0, 1) := dk_3 (dk_at dksX3_read_5 21 rfl rfl)
theorem dX3_read_138 : decode cX3_read 138 = .ok (.goto 4, 3) := dk_167 0 4 (dk_at dksX3_read_6 0 rfl rfl)
theorem dX3_read_141 : decode cX3_read 141 = .ok (.iload_n 3, 1) := dk_29 (dk_at dksX3_read_6 3 rfl rfl)
theorem dX3_read_142 : decode cX3_read 142 = .ok (.ireturn, 1) := dk_172 (dk_at dksX3_read_6 4 rfl rfl)
theorem dX3_read_143 : decode cX3_read 143 = .ok (.aload_n 0, 1) := dk_42 (dk_at dksX3_read_6 5 rfl rfl)
theorem dX3_read_144 : decode cX3_read 144 = .ok (.aload_n 0, 1) := dk_42 (dk_at dksX3_read_6 6 rfl rfl)
theorem dX3_read_145 : decode cX3_read 145 = .ok (.getfield 19, 3) := dk_180 0 19 (dk_at dksX3_read_6 7 rfl rfl)
theorem dX3_read_148 : decode cX3_read 148 = .ok (.invokevirtual 78, 3) := dk_182 0 78 (dk_at dksX3_read_6 10 rfl rfl)
theorem dX3_read_151 : decode cX3_read 151 = .ok (.aload_n 0, 1) := dk_42 (dk_at dksX3_read_6 13 rfl rfl)
theorem dX3_read_152 : decode cX3_read 152 = .ok (.getfield 181, 3) := dk_180 0 181 (dk_at dksX3_read_6 14 rfl rfl)
theorem dX3_read_155 : decode cX3_read 155 = .ok (.ireturn, 1) := dk_172 (dk_at dksX3_read_6 17 rfl rfl)
abbrev cX3_isText : ByteArray := prog_11_method_75_code
def yX3_isText : MethodName := ⟨RX3, "isText", "()Z"⟩
def dkwX3_isText_2 : List UInt8 := [160, 0, 7, 4, 167, 0, 4, 3, 172]
abbrev dktX3_isText_2 : List UInt8 := dkwX3_isText_2 ++ []
def dkwX3_isText_1 : List UInt8 := [4, 96, 181, 0, 181, 42, 16, 59, 182, 0, 178, 154, 255, 231, 42, 180, 0, 165, 42, 180, 0, 162]
abbrev dktX3_isText_1 : List UInt8 := dkwX3_isText_1 ++ dktX3_isText_2
def dkwX3_isText_0 : List UInt8 := [42, 3, 181, 0, 165, 42, 3, 181, 0, 181, 42, 182, 0, 223, 154, 0, 5, 3, 172, 42, 89, 180, 0, 181]
abbrev dktX3_isText_0 : List UInt8 := dkwX3_isText_0 ++ dktX3_isText_1
theorem dksX3_isText_0 : cX3_isText.data.toList.drop 0 = dktX3_isText_0 := by decide +kernel
theorem dksX3_isText_1 : cX3_isText.data.toList.drop 24 = dktX3_isText_1 := dk_seg dksX3_isText_0 24 rfl rfl
theorem dksX3_isText_2 : cX3_isText.data.toList.drop 46 = dktX3_isText_2 := dk_seg dksX3_isText_1 22 rfl rfl
theorem dX3_isText_0 : decode cX3_isText 0 = .ok (.aload_n 0, 1) := dk_42 (dk_at dksX3_isText_0 0 rfl rfl)
theorem dX3_isText_1 : decode cX3_isText 1 = .ok (.iconst 0, 1) := dk_3 (dk_at dksX3_isText_0 1 rfl rfl)
theorem dX3_isText_2 : decode cX3_isText 2 = .ok (.putfield 165, 3) := dk_181 0 165 (dk_at dksX3_isText_0 2 rfl rfl)
theorem dX3_isText_5 : decode cX3_isText 5 = .ok (.aload_n 0, 1) := dk_42 (dk_at dksX3_isText_0 5 rfl rfl)
theorem dX3_isText_6 : decode cX3_isText 6 = .ok (.iconst 0, 1) := dk_3 (dk_at dksX3_isText_0 6 rfl rfl)
theorem dX3_isText_7 : decode cX3_isText 7 = .ok (.putfield 181, 3) := dk_181 0 181 (dk_at dksX3_isText_0 7 rfl rfl)
theorem dX3_isText_10 : decode cX3_isText 10 = .ok (.aload_n 0, 1) := dk_42 (dk_at dksX3_isText_0 10 rfl rfl)
theorem dX3_isText_11 : decode cX3_isText 11 = .ok (.invokevirtual 223, 3) := dk_182 0 223 (dk_at dksX3_isText_0 11 rfl rfl)
theorem dX3_isText_14 : decode cX3_isText 14 = .ok (.ifCond .ne 5, 3) := dk_154 0 5 (dk_at dksX3_isText_0 14 rfl rfl)
theorem dX3_isText_17 : decode cX3_isText 17 = .ok (.iconst 0, 1) := dk_3 (dk_at dksX3_isText_0 17 rfl rfl)
theorem dX3_isText_18 : decode cX3_isText 18 = .ok (.ireturn, 1) := dk_172 (dk_at dksX3_isText_0 18 rfl rfl)
theorem dX3_isText_19 : decode cX3_isText 19 = .ok (.aload_n 0, 1) := dk_42 (dk_at dksX3_isText_0 19 rfl rfl)
theorem dX3_isText_20 : decode cX3_isText 20 = .ok (.dup, 1) := dk_89 (dk_at dksX3_isText_0 20 rfl rfl)
theorem dX3_isText_21 : decode cX3_isText 21 = .ok (.getfield 181, 3) := dk_180 0 181 (dk_at dksX3_isText_0 21 rfl rfl)
theorem dX3_isText_24 : decode cX3_isText 24 = .ok (.iconst 1, 1) := dk_4 (dk_at dksX3_isText_1 0 rfl rfl)
theorem dX3_isText_25 : decode cX3_isText 25 = .ok (.iadd, 1) := dk_96 (dk_at dksX3_isText_1 1 rfl rfl)
theorem dX3_isText_26 : decode cX3_isText 26 = .ok (.putfield 181, 3) := dk_181 0 181 (dk_at dksX3_isText_1 2 rfl rfl)
theorem dX3_isText_29 : decode cX3_isText 29 = .ok (.aload_n 0, 1) := dk_42 (dk_at dksX3_isText_1 5 rfl rfl)
theorem dX3_isText_30 : decode cX3_isText 30 = .ok (.bipush 59, 2) := dk_16 59 (dk_at dksX3_isText_1 6 rfl rfl)
theorem dX3_isText_32 : decode cX3_isText 32 = .ok (.invokevirtual 178, 3) := dk_182 0 178 (dk_at dksX3_isText_1 8 rfl rfl)
theorem dX3_isText_35 : decode cX3_isText 35 = .ok (.ifCond .ne (-25), 3) := dk_154 255 231 (dk_at dksX3_isText_1 11 rfl rfl)
theorem dX3_isText_38 : decode cX3_isText 38 = .ok (.aload_n 0, 1) := dk_42 (dk_at dksX3_isText_1 14 rfl rfl)
theorem dX3_isText_39 : decode cX3_isText 39 = .ok (.getfield 165, 3) := dk_180 0 165 (dk_at dksX3_isText_1 15 rfl rfl)
theorem dX3_isText_42 : decode cX3_isText 42 = .ok (.aload_n 0, 1) := dk_42 (dk_at dksX3_isText_1 18 rfl rfl)
theorem dX3_isText_43 : decode cX3_isText 43 = .ok (.getfield 162, 3) := dk_180 0 162 (dk_at dksX3_isText_1 19 rfl rfl)
theorem dX3_isText_46 : decode cX3_isText 46 = .ok (.if_icmp .ne 7, 3) := dk_160 0 7 (dk_at dksX3_isText_2 0 rfl rfl)
theorem dX3_isText_49 : decode cX3_isText 49 = .ok (.iconst 1, 1) := dk_4 (dk_at dksX3_isText_2 3 rfl rfl)
theorem dX3_isText_50 : decode cX3_isText 50 = .ok (.goto 4, 3) := dk_167 0 4 (dk_at dksX3_isText_2 4 rfl rfl)
theorem dX3_isText_53 : decode cX3_isText 53 = .ok (.iconst 0, 1) := dk_3 (dk_at dksX3_isText_2 7 rfl rfl)
theorem dX3_isText_54 : decode cX3_isText 54 = .ok (.ireturn, 1) := dk_172 (dk_at dksX3_isText_2 8 rfl rfl)
abbrev cX3_orderHere : ByteArray := prog_11_method_74_code
def yX3_orderHere : MethodName := ⟨RX3, "orderHere", "()Z"⟩
def dkwX3_orderHere_14 : List UInt8 := [153, 0, 7, 4, 167, 0, 4, 3, 172]
abbrev dktX3_orderHere_14 : List UInt8 := dkwX3_orderHere_14 ++ []
def dkwX3_orderHere_13 : List UInt8 := [153, 0, 9, 42, 27, 182, 0, 217, 172, 42, 16, 102, 182, 0, 178, 153, 0, 15, 42, 27, 182, 0, 220]
abbrev dktX3_orderHere_13 : List UInt8 := dkwX3_orderHere_13 ++ dktX3_orderHere_14
def dkwX3_orderHere_12 : List UInt8 := [153, 0, 16, 42, 18, 215, 182, 0, 192, 153, 0, 7, 4, 167, 0, 4, 3, 172, 42, 16, 116, 182, 0, 178]
abbrev dktX3_orderHere_12 : List UInt8 := dkwX3_orderHere_12 ++ dktX3_orderHere_13
def dkwX3_orderHere_11 : List UInt8 := [153, 0, 7, 4, 167, 0, 4, 3, 172, 42, 16, 100, 182, 0, 178, 153, 0, 27, 42, 16, 9, 182, 0, 187]
abbrev dktX3_orderHere_11 : List UInt8 := dkwX3_orderHere_11 ++ dktX3_orderHere_12
def dkwX3_orderHere_10 : List UInt8 := [182, 0, 184, 153, 0, 27, 42, 16, 61, 182, 0, 178, 153, 0, 18, 42, 27, 4, 96, 4, 182, 0, 184]
abbrev dktX3_orderHere_10 : List UInt8 := dkwX3_orderHere_10 ++ dktX3_orderHere_11
def dkwX3_orderHere_9 : List UInt8 := [153, 0, 56, 42, 16, 8, 182, 0, 187, 153, 0, 45, 42, 18, 213, 182, 0, 192, 153, 0, 36, 42, 27, 4]
abbrev dktX3_orderHere_9 : List UInt8 := dkwX3_orderHere_9 ++ dktX3_orderHere_10
def dkwX3_orderHere_8 : List UInt8 := [27, 5, 96, 5, 182, 0, 184, 153, 0, 7, 4, 167, 0, 4, 3, 172, 42, 16, 99, 182, 0, 178]
abbrev dktX3_orderHere_8 : List UInt8 := dkwX3_orderHere_8 ++ dktX3_orderHere_9
def dkwX3_orderHere_7 : List UInt8 := [153, 0, 38, 42, 27, 4, 96, 4, 182, 0, 184, 153, 0, 27, 42, 16, 43, 182, 0, 178, 153, 0, 18, 42]
abbrev dktX3_orderHere_7 : List UInt8 := dkwX3_orderHere_7 ++ dktX3_orderHere_8
def dkwX3_orderHere_6 : List UInt8 := [18, 211, 182, 0, 192, 153, 0, 56, 42, 27, 4, 182, 0, 184, 153, 0, 47, 42, 16, 62, 182, 0, 178]
abbrev dktX3_orderHere_6 : List UInt8 := dkwX3_orderHere_6 ++ dktX3_orderHere_7
def dkwX3_orderHere_5 : List UInt8 := [167, 0, 4, 3, 172, 42, 16, 98, 182, 0, 178, 153, 0, 75, 42, 5, 182, 0, 187, 153, 0, 65, 42]
abbrev dktX3_orderHere_5 : List UInt8 := dkwX3_orderHere_5 ++ dktX3_orderHere_6
def dkwX3_orderHere_4 : List UInt8 := [153, 0, 27, 42, 16, 47, 182, 0, 178, 153, 0, 18, 42, 27, 4, 96, 4, 182, 0, 184, 153, 0, 7, 4]
abbrev dktX3_orderHere_4 : List UInt8 := dkwX3_orderHere_4 ++ dktX3_orderHere_5
def dkwX3_orderHere_3 : List UInt8 := [4, 182, 0, 187, 153, 0, 45, 42, 18, 209, 182, 0, 192, 153, 0, 36, 42, 27, 5, 182, 0, 184]
abbrev dktX3_orderHere_3 : List UInt8 := dkwX3_orderHere_3 ++ dktX3_orderHere_4
def dkwX3_orderHere_2 : List UInt8 := [96, 4, 182, 0, 184, 153, 0, 7, 4, 167, 0, 4, 3, 172, 42, 16, 114, 182, 0, 178, 153, 0, 55, 42]
abbrev dktX3_orderHere_2 : List UInt8 := dkwX3_orderHere_2 ++ dktX3_orderHere_3
def dkwX3_orderHere_1 : List UInt8 := [153, 0, 36, 42, 18, 207, 182, 0, 192, 153, 0, 27, 42, 27, 4, 182, 0, 184, 153, 0, 18, 42, 27, 4]
abbrev dktX3_orderHere_1 : List UInt8 := dkwX3_orderHere_1 ++ dktX3_orderHere_2
def dkwX3_orderHere_0 : List UInt8 := [8, 42, 180, 0, 181, 104, 4, 96, 60, 42, 16, 115, 182, 0, 178, 153, 0, 46, 42, 3, 182, 0, 187]
abbrev dktX3_orderHere_0 : List UInt8 := dkwX3_orderHere_0 ++ dktX3_orderHere_1
theorem dksX3_orderHere_0 : cX3_orderHere.data.toList.drop 0 = dktX3_orderHere_0 := by decide +kernel
theorem dksX3_orderHere_1 : cX3_orderHere.data.toList.drop 23 = dktX3_orderHere_1 := dk_seg dksX3_orderHere_0 23 rfl rfl
theorem dksX3_orderHere_2 : cX3_orderHere.data.toList.drop 47 = dktX3_orderHere_2 := dk_seg dksX3_orderHere_1 24 rfl rfl
theorem dksX3_orderHere_3 : cX3_orderHere.data.toList.drop 71 = dktX3_orderHere_3 := dk_seg dksX3_orderHere_2 24 rfl rfl
theorem dksX3_orderHere_4 : cX3_orderHere.data.toList.drop 93 = dktX3_orderHere_4 := dk_seg dksX3_orderHere_3 22 rfl rfl
theorem dksX3_orderHere_5 : cX3_orderHere.data.toList.drop 117 = dktX3_orderHere_5 := dk_seg dksX3_orderHere_4 24 rfl rfl
theorem dksX3_orderHere_6 : cX3_orderHere.data.toList.drop 140 = dktX3_orderHere_6 := dk_seg dksX3_orderHere_5 23 rfl rfl
theorem dksX3_orderHere_7 : cX3_orderHere.data.toList.drop 163 = dktX3_orderHere_7 := dk_seg dksX3_orderHere_6 23 rfl rfl
theorem dksX3_orderHere_8 : cX3_orderHere.data.toList.drop 187 = dktX3_orderHere_8 := dk_seg dksX3_orderHere_7 24 rfl rfl
theorem dksX3_orderHere_9 : cX3_orderHere.data.toList.drop 209 = dktX3_orderHere_9 := dk_seg dksX3_orderHere_8 22 rfl rfl
theorem dksX3_orderHere_10 : cX3_orderHere.data.toList.drop 233 = dktX3_orderHere_10 := dk_seg dksX3_orderHere_9 24 rfl rfl
theorem dksX3_orderHere_11 : cX3_orderHere.data.toList.drop 256 = dktX3_orderHere_11 := dk_seg dksX3_orderHere_10 23 rfl rfl
theorem dksX3_orderHere_12 : cX3_orderHere.data.toList.drop 280 = dktX3_orderHere_12 := dk_seg dksX3_orderHere_11 24 rfl rfl
theorem dksX3_orderHere_13 : cX3_orderHere.data.toList.drop 304 = dktX3_orderHere_13 := dk_seg dksX3_orderHere_12 24 rfl rfl
theorem dksX3_orderHere_14 : cX3_orderHere.data.toList.drop 327 = dktX3_orderHere_14 := dk_seg dksX3_orderHere_13 23 rfl rfl
theorem dX3_orderHere_0 : decode cX3_orderHere 0 = .ok (.iconst 5, 1) := dk_8 (dk_at dksX3_orderHere_0 0 rfl rfl)
theorem dX3_orderHere_1 : decode cX3_orderHere 1 = .ok (.aload_n 0, 1) := dk_42 (dk_at dksX3_orderHere_0 1 rfl rfl)
theorem dX3_orderHere_2 : decode cX3_orderHere 2 = .ok (.getfield 181, 3) := dk_180 0 181 (dk_at dksX3_orderHere_0 2 rfl rfl)
theorem dX3_orderHere_5 : decode cX3_orderHere 5 = .ok (.imul, 1) := dk_104 (dk_at dksX3_orderHere_0 5 rfl rfl)
theorem dX3_orderHere_6 : decode cX3_orderHere 6 = .ok (.iconst 1, 1) := dk_4 (dk_at dksX3_orderHere_0 6 rfl rfl)
theorem dX3_orderHere_7 : decode cX3_orderHere 7 = .ok (.iadd, 1) := dk_96 (dk_at dksX3_orderHere_0 7 rfl rfl)
theorem dX3_orderHere_8 : decode cX3_orderHere 8 = .ok (.istore_n 1, 1) := dk_60 (dk_at dksX3_orderHere_0 8 rfl rfl)
theorem dX3_orderHere_9 : decode cX3_orderHere 9 = .ok (.aload_n 0, 1) := dk_42 (dk_at dksX3_orderHere_0 9 rfl rfl)
theorem dX3_orderHere_10 : decode cX3_orderHere 10 = .ok (.bipush 115, 2) := dk_16 115 (dk_at dksX3_orderHere_0 10 rfl rfl)
theorem dX3_orderHere_12 : decode cX3_orderHere 12 = .ok (.invokevirtual 178, 3) := dk_182 0 178 (dk_at dksX3_orderHere_0 12 rfl rfl)
theorem dX3_orderHere_15 : decode cX3_orderHere 15 = .ok (.ifCond .eq 46, 3) := dk_153 0 46 (dk_at dksX3_orderHere_0 15 rfl rfl)
theorem dX3_orderHere_18 : decode cX3_orderHere 18 = .ok (.aload_n 0, 1) := dk_42 (dk_at dksX3_orderHere_0 18 rfl rfl)
theorem dX3_orderHere_19 : decode cX3_orderHere 19 = .ok (.iconst 0, 1) := dk_3 (dk_at dksX3_orderHere_0 19 rfl rfl)
theorem dX3_orderHere_20 : decode cX3_orderHere 20 = .ok (.invokevirtual 187, 3) := dk_182 0 187 (dk_at dksX3_orderHere_0 20 rfl rfl)
theorem dX3_orderHere_23 : decode cX3_orderHere 23 = .ok (.ifCond .eq 36, 3) := dk_153 0 36 (dk_at dksX3_orderHere_1 0 rfl rfl)
theorem dX3_orderHere_26 : decode cX3_orderHere 26 = .ok (.aload_n 0, 1) := dk_42 (dk_at dksX3_orderHere_1 3 rfl rfl)
theorem dX3_orderHere_27 : decode cX3_orderHere 27 = .ok (.ldc 207, 2) := dk_18 207 (dk_at dksX3_orderHere_1 4 rfl rfl)
theorem dX3_orderHere_29 : decode cX3_orderHere 29 = .ok (.invokevirtual 192, 3) := dk_182 0 192 (dk_at dksX3_orderHere_1 6 rfl rfl)
theorem dX3_orderHere_32 : decode cX3_orderHere 32 = .ok (.ifCond .eq 27, 3) := dk_153 0 27 (dk_at dksX3_orderHere_1 9 rfl rfl)
theorem dX3_orderHere_35 : decode cX3_orderHere 35 = .ok (.aload_n 0, 1) := dk_42 (dk_at dksX3_orderHere_1 12 rfl rfl)
theorem dX3_orderHere_36 : decode cX3_orderHere 36 = .ok (.iload_n 1, 1) := dk_27 (dk_at dksX3_orderHere_1 13 rfl rfl)
theorem dX3_orderHere_37 : decode cX3_orderHere 37 = .ok (.iconst 1, 1) := dk_4 (dk_at dksX3_orderHere_1 14 rfl rfl)
theorem dX3_orderHere_38 : decode cX3_orderHere 38 = .ok (.invokevirtual 184, 3) := dk_182 0 184 (dk_at dksX3_orderHere_1 15 rfl rfl)
theorem dX3_orderHere_41 : decode cX3_orderHere 41 = .ok (.ifCond .eq 18, 3) := dk_153 0 18 (dk_at dksX3_orderHere_1 18 rfl rfl)
theorem dX3_orderHere_44 : decode cX3_orderHere 44 = .ok (.aload_n 0, 1) := dk_42 (dk_at dksX3_orderHere_1 21 rfl rfl)
theorem dX3_orderHere_45 : decode cX3_orderHere 45 = .ok (.iload_n 1, 1) := dk_27 (dk_at dksX3_orderHere_1 22 rfl rfl)
theorem dX3_orderHere_46 : decode cX3_orderHere 46 = .ok (.iconst 1, 1) := dk_4 (dk_at dksX3_orderHere_1 23 rfl rfl)
theorem dX3_orderHere_47 : decode cX3_orderHere 47 = .ok (.iadd, 1) := dk_96 (dk_at dksX3_orderHere_2 0 rfl rfl)
theorem dX3_orderHere_48 : decode cX3_orderHere 48 = .ok (.iconst 1, 1) := dk_4 (dk_at dksX3_orderHere_2 1 rfl rfl)
theorem dX3_orderHere_49 : decode cX3_orderHere 49 = .ok (.invokevirtual 184, 3) := dk_182 0 184 (dk_at dksX3_orderHere_2 2 rfl rfl)
theorem dX3_orderHere_52 : decode cX3_orderHere 52 = .ok (.ifCond .eq 7, 3) := dk_153 0 7 (dk_at dksX3_orderHere_2 5 rfl rfl)
theorem dX3_orderHere_55 : decode cX3_orderHere 55 = .ok (.iconst 1, 1) := dk_4 (dk_at dksX3_orderHere_2 8 rfl rfl)
theorem dX3_orderHere_56 : decode cX3_orderHere 56 = .ok (.goto 4, 3) := dk_167 0 4 (dk_at dksX3_orderHere_2 9 rfl rfl)
theorem dX3_orderHere_59 : decode cX3_orderHere 59 = .ok (.iconst 0, 1) := dk_3 (dk_at dksX3_orderHere_2 12 rfl rfl)
theorem dX3_orderHere_60 : decode cX3_orderHere 60 = .ok (.ireturn, 1) := dk_172 (dk_at dksX3_orderHere_2 13 rfl rfl)
theorem dX3_orderHere_61 : decode cX3_orderHere 61 = .ok (.aload_n 0, 1) := dk_42 (dk_at dksX3_orderHere_2 14 rfl rfl)
theorem dX3_orderHere_62 : decode cX3_orderHere 62 = .ok (.bipush 114, 2) := dk_16 114 (dk_at dksX3_orderHere_2 15 rfl rfl)
theorem dX3_orderHere_64 : decode cX3_orderHere 64 = .ok (.invokevirtual 178, 3) := dk_182 0 178 (dk_at dksX3_orderHere_2 17 rfl rfl)
theorem dX3_orderHere_67 : decode cX3_orderHere 67 = .ok (.ifCond .eq 55, 3) := dk_153 0 55 (dk_at dksX3_orderHere_2 20 rfl rfl)
theorem dX3_orderHere_70 : decode cX3_orderHere 70 = .ok (.aload_n 0, 1) := dk_42 (dk_at dksX3_orderHere_2 23 rfl rfl)
theorem dX3_orderHere_71 : decode cX3_orderHere 71 = .ok (.iconst 1, 1) := dk_4 (dk_at dksX3_orderHere_3 0 rfl rfl)
theorem dX3_orderHere_72 : decode cX3_orderHere 72 = .ok (.invokevirtual 187, 3) := dk_182 0 187 (dk_at dksX3_orderHere_3 1 rfl rfl)
theorem dX3_orderHere_75 : decode cX3_orderHere 75 = .ok (.ifCond .eq 45, 3) := dk_153 0 45 (dk_at dksX3_orderHere_3 4 rfl rfl)
theorem dX3_orderHere_78 : decode cX3_orderHere 78 = .ok (.aload_n 0, 1) := dk_42 (dk_at dksX3_orderHere_3 7 rfl rfl)
theorem dX3_orderHere_79 : decode cX3_orderHere 79 = .ok (.ldc 209, 2) := dk_18 209 (dk_at dksX3_orderHere_3 8 rfl rfl)
theorem dX3_orderHere_81 : decode cX3_orderHere 81 = .ok (.invokevirtual 192, 3) := dk_182 0 192 (dk_at dksX3_orderHere_3 10 rfl rfl)
theorem dX3_orderHere_84 : decode cX3_orderHere 84 = .ok (.ifCond .eq 36, 3) := dk_153 0 36 (dk_at dksX3_orderHere_3 13 rfl rfl)
theorem dX3_orderHere_87 : decode cX3_orderHere 87 = .ok (.aload_n 0, 1) := dk_42 (dk_at dksX3_orderHere_3 16 rfl rfl)
theorem dX3_orderHere_88 : decode cX3_orderHere 88 = .ok (.iload_n 1, 1) := dk_27 (dk_at dksX3_orderHere_3 17 rfl rfl)
theorem dX3_orderHere_89 : decode cX3_orderHere 89 = .ok (.iconst 2, 1) := dk_5 (dk_at dksX3_orderHere_3 18 rfl rfl)
theorem dX3_orderHere_90 : decode cX3_orderHere 90 = .ok (.invokevirtual 184, 3) := dk_182 0 184 (dk_at dksX3_orderHere_3 19 rfl rfl)
theorem dX3_orderHere_93 : decode cX3_orderHere 93 = .ok (.ifCond .eq 27, 3) := dk_153 0 27 (dk_at dksX3_orderHere_4 0 rfl rfl)
theorem dX3_orderHere_96 : decode cX3_orderHere 96 = .ok (.aload_n 0, 1) := dk_42 (dk_at dksX3_orderHere_4 3 rfl rfl)
theorem dX3_orderHere_97 : decode cX3_orderHere 97 = .ok (.bipush 47, 2) := dk_16 47 (dk_at dksX3_orderHere_4 4 rfl rfl)
theorem dX3_orderHere_99 : decode cX3_orderHere 99 = .ok (.invokevirtual 178, 3) := dk_182 0 178 (dk_at dksX3_orderHere_4 6 rfl rfl)
theorem dX3_orderHere_102 : decode cX3_orderHere 102 = .ok (.ifCond .eq 18, 3) := dk_153 0 18 (dk_at dksX3_orderHere_4 9 rfl rfl)
theorem dX3_orderHere_105 : decode cX3_orderHere 105 = .ok (.aload_n 0, 1) := dk_42 (dk_at dksX3_orderHere_4 12 rfl rfl)
theorem dX3_orderHere_106 : decode cX3_orderHere 106 = .ok (.iload_n 1, 1) := dk_27 (dk_at dksX3_orderHere_4 13 rfl rfl)
theorem dX3_orderHere_107 : decode cX3_orderHere 107 = .ok (.iconst 1, 1) := dk_4 (dk_at dksX3_orderHere_4 14 rfl rfl)
theorem dX3_orderHere_108 : decode cX3_orderHere 108 = .ok (.iadd, 1) := dk_96 (dk_at dksX3_orderHere_4 15 rfl rfl)
theorem dX3_orderHere_109 : decode cX3_orderHere 109 = .ok (.iconst 1, 1) := dk_4 (dk_at dksX3_orderHere_4 16 rfl rfl)
theorem dX3_orderHere_110 : decode cX3_orderHere 110 = .ok (.invokevirtual 184, 3) := dk_182 0 184 (dk_at dksX3_orderHere_4 17 rfl rfl)
theorem dX3_orderHere_113 : decode cX3_orderHere 113 = .ok (.ifCond .eq 7, 3) := dk_153 0 7 (dk_at dksX3_orderHere_4 20 rfl rfl)
theorem dX3_orderHere_116 : decode cX3_orderHere 116 = .ok (.iconst 1, 1) := dk_4 (dk_at dksX3_orderHere_4 23 rfl rfl)
theorem dX3_orderHere_117 : decode cX3_orderHere 117 = .ok (.goto 4, 3) := dk_167 0 4 (dk_at dksX3_orderHere_5 0 rfl rfl)
theorem dX3_orderHere_120 : decode cX3_orderHere 120 = .ok (.iconst 0, 1) := dk_3 (dk_at dksX3_orderHere_5 3 rfl rfl)
theorem dX3_orderHere_121 : decode cX3_orderHere 121 = .ok (.ireturn, 1) := dk_172 (dk_at dksX3_orderHere_5 4 rfl rfl)
theorem dX3_orderHere_122 : decode cX3_orderHere 122 = .ok (.aload_n 0, 1) := dk_42 (dk_at dksX3_orderHere_5 5 rfl rfl)
theorem dX3_orderHere_123 : decode cX3_orderHere 123 = .ok (.bipush 98, 2) := dk_16 98 (dk_at dksX3_orderHere_5 6 rfl rfl)
theorem dX3_orderHere_125 : decode cX3_orderHere 125 = .ok (.invokevirtual 178, 3) := dk_182 0 178 (dk_at dksX3_orderHere_5 8 rfl rfl)
theorem dX3_orderHere_128 : decode cX3_orderHere 128 = .ok (.ifCond .eq 75, 3) := dk_153 0 75 (dk_at dksX3_orderHere_5 11 rfl rfl)
theorem dX3_orderHere_131 : decode cX3_orderHere 131 = .ok (.aload_n 0, 1) := dk_42 (dk_at dksX3_orderHere_5 14 rfl rfl)
theorem dX3_orderHere_132 : decode cX3_orderHere 132 = .ok (.iconst 2, 1) := dk_5 (dk_at dksX3_orderHere_5 15 rfl rfl)
theorem dX3_orderHere_133 : decode cX3_orderHere 133 = .ok (.invokevirtual 187, 3) := dk_182 0 187 (dk_at dksX3_orderHere_5 16 rfl rfl)
theorem dX3_orderHere_136 : decode cX3_orderHere 136 = .ok (.ifCond .eq 65, 3) := dk_153 0 65 (dk_at dksX3_orderHere_5 19 rfl rfl)
theorem dX3_orderHere_139 : decode cX3_orderHere 139 = .ok (.aload_n 0, 1) := dk_42 (dk_at dksX3_orderHere_5 22 rfl rfl)
theorem dX3_orderHere_140 : decode cX3_orderHere 140 = .ok (.ldc 211, 2) := dk_18 211 (dk_at dksX3_orderHere_6 0 rfl rfl)
theorem dX3_orderHere_142 : decode cX3_orderHere 142 = .ok (.invokevirtual 192, 3) := dk_182 0 192 (dk_at dksX3_orderHere_6 2 rfl rfl)
theorem dX3_orderHere_145 : decode cX3_orderHere 145 = .ok (.ifCond .eq 56, 3) := dk_153 0 56 (dk_at dksX3_orderHere_6 5 rfl rfl)
theorem dX3_orderHere_148 : decode cX3_orderHere 148 = .ok (.aload_n 0, 1) := dk_42 (dk_at dksX3_orderHere_6 8 rfl rfl)
theorem dX3_orderHere_149 : decode cX3_orderHere 149 = .ok (.iload_n 1, 1) := dk_27 (dk_at dksX3_orderHere_6 9 rfl rfl)
theorem dX3_orderHere_150 : decode cX3_orderHere 150 = .ok (.iconst 1, 1) := dk_4 (dk_at dksX3_orderHere_6 10 rfl rfl)
theorem dX3_orderHere_151 : decode cX3_orderHere 151 = .ok (.invokevirtual 184, 3) := dk_182 0 184 (dk_at dksX3_orderHere_6 11 rfl rfl)
theorem dX3_orderHere_154 : decode cX3_orderHere 154 = .ok (.ifCond .eq 47, 3) := dk_153 0 47 (dk_at dksX3_orderHere_6 14 rfl rfl)
theorem dX3_orderHere_157 : decode cX3_orderHere 157 = .ok (.aload_n 0, 1) := dk_42 (dk_at dksX3_orderHere_6 17 rfl rfl)
theorem dX3_orderHere_158 : decode cX3_orderHere 158 = .ok (.bipush 62, 2) := dk_16 62 (dk_at dksX3_orderHere_6 18 rfl rfl)
theorem dX3_orderHere_160 : decode cX3_orderHere 160 = .ok (.invokevirtual 178, 3) := dk_182 0 178 (dk_at dksX3_orderHere_6 20 rfl rfl)
theorem dX3_orderHere_163 : decode cX3_orderHere 163 = .ok (.ifCond .eq 38, 3) := dk_153 0 38 (dk_at dksX3_orderHere_7 0 rfl rfl)
theorem dX3_orderHere_166 : decode cX3_orderHere 166 = .ok (.aload_n 0, 1) := dk_42 (dk_at dksX3_orderHere_7 3 rfl rfl)
theorem dX3_orderHere_167 : decode cX3_orderHere 167 = .ok (.iload_n 1, 1) := dk_27 (dk_at dksX3_orderHere_7 4 rfl rfl)
theorem dX3_orderHere_168 : decode cX3_orderHere 168 = .ok (.iconst 1, 1) := dk_4 (dk_at dksX3_orderHere_7 5 rfl rfl)
theorem dX3_orderHere_169 : decode cX3_orderHere 169 = .ok (.iadd, 1) := dk_96 (dk_at dksX3_orderHere_7 6 rfl rfl)
theorem dX3_orderHere_170 : decode cX3_orderHere 170 = .ok (.iconst 1, 1) := dk_4 (dk_at dksX3_orderHere_7 7 rfl rfl)
theorem dX3_orderHere_171 : decode cX3_orderHere 171 = .ok (.invokevirtual 184, 3) := dk_182 0 184 (dk_at dksX3_orderHere_7 8 rfl rfl)
theorem dX3_orderHere_174 : decode cX3_orderHere 174 = .ok (.ifCond .eq 27, 3) := dk_153 0 27 (dk_at dksX3_orderHere_7 11 rfl rfl)
theorem dX3_orderHere_177 : decode cX3_orderHere 177 = .ok (.aload_n 0, 1) := dk_42 (dk_at dksX3_orderHere_7 14 rfl rfl)
theorem dX3_orderHere_178 : decode cX3_orderHere 178 = .ok (.bipush 43, 2) := dk_16 43 (dk_at dksX3_orderHere_7 15 rfl rfl)
theorem dX3_orderHere_180 : decode cX3_orderHere 180 = .ok (.invokevirtual 178, 3) := dk_182 0 178 (dk_at dksX3_orderHere_7 17 rfl rfl)
theorem dX3_orderHere_183 : decode cX3_orderHere 183 = .ok (.ifCond .eq 18, 3) := dk_153 0 18 (dk_at dksX3_orderHere_7 20 rfl rfl)
theorem dX3_orderHere_186 : decode cX3_orderHere 186 = .ok (.aload_n 0, 1) := dk_42 (dk_at dksX3_orderHere_7 23 rfl rfl)
theorem dX3_orderHere_187 : decode cX3_orderHere 187 = .ok (.iload_n 1, 1) := dk_27 (dk_at dksX3_orderHere_8 0 rfl rfl)
theorem dX3_orderHere_188 : decode cX3_orderHere 188 = .ok (.iconst 2, 1) := dk_5 (dk_at dksX3_orderHere_8 1 rfl rfl)
theorem dX3_orderHere_189 : decode cX3_orderHere 189 = .ok (.iadd, 1) := dk_96 (dk_at dksX3_orderHere_8 2 rfl rfl)
theorem dX3_orderHere_190 : decode cX3_orderHere 190 = .ok (.iconst 2, 1) := dk_5 (dk_at dksX3_orderHere_8 3 rfl rfl)
theorem dX3_orderHere_191 : decode cX3_orderHere 191 = .ok (.invokevirtual 184, 3) := dk_182 0 184 (dk_at dksX3_orderHere_8 4 rfl rfl)
theorem dX3_orderHere_194 : decode cX3_orderHere 194 = .ok (.ifCond .eq 7, 3) := dk_153 0 7 (dk_at dksX3_orderHere_8 7 rfl rfl)
theorem dX3_orderHere_197 : decode cX3_orderHere 197 = .ok (.iconst 1, 1) := dk_4 (dk_at dksX3_orderHere_8 10 rfl rfl)
theorem dX3_orderHere_198 : decode cX3_orderHere 198 = .ok (.goto 4, 3) := dk_167 0 4 (dk_at dksX3_orderHere_8 11 rfl rfl)
theorem dX3_orderHere_201 : decode cX3_orderHere 201 = .ok (.iconst 0, 1) := dk_3 (dk_at dksX3_orderHere_8 14 rfl rfl)
theorem dX3_orderHere_202 : decode cX3_orderHere 202 = .ok (.ireturn, 1) := dk_172 (dk_at dksX3_orderHere_8 15 rfl rfl)
theorem dX3_orderHere_203 : decode cX3_orderHere 203 = .ok (.aload_n 0, 1) := dk_42 (dk_at dksX3_orderHere_8 16 rfl rfl)
theorem dX3_orderHere_204 : decode cX3_orderHere 204 = .ok (.bipush 99, 2) := dk_16 99 (dk_at dksX3_orderHere_8 17 rfl rfl)
theorem dX3_orderHere_206 : decode cX3_orderHere 206 = .ok (.invokevirtual 178, 3) := dk_182 0 178 (dk_at dksX3_orderHere_8 19 rfl rfl)
theorem dX3_orderHere_209 : decode cX3_orderHere 209 = .ok (.ifCond .eq 56, 3) := dk_153 0 56 (dk_at dksX3_orderHere_9 0 rfl rfl)
theorem dX3_orderHere_212 : decode cX3_orderHere 212 = .ok (.aload_n 0, 1) := dk_42 (dk_at dksX3_orderHere_9 3 rfl rfl)
theorem dX3_orderHere_213 : decode cX3_orderHere 213 = .ok (.bipush 8, 2) := dk_16 8 (dk_at dksX3_orderHere_9 4 rfl rfl)
theorem dX3_orderHere_215 : decode cX3_orderHere 215 = .ok (.invokevirtual 187, 3) := dk_182 0 187 (dk_at dksX3_orderHere_9 6 rfl rfl)
theorem dX3_orderHere_218 : decode cX3_orderHere 218 = .ok (.ifCond .eq 45, 3) := dk_153 0 45 (dk_at dksX3_orderHere_9 9 rfl rfl)
theorem dX3_orderHere_221 : decode cX3_orderHere 221 = .ok (.aload_n 0, 1) := dk_42 (dk_at dksX3_orderHere_9 12 rfl rfl)
theorem dX3_orderHere_222 : decode cX3_orderHere 222 = .ok (.ldc 213, 2) := dk_18 213 (dk_at dksX3_orderHere_9 13 rfl rfl)
theorem dX3_orderHere_224 : decode cX3_orderHere 224 = .ok (.invokevirtual 192, 3) := dk_182 0 192 (dk_at dksX3_orderHere_9 15 rfl rfl)
theorem dX3_orderHere_227 : decode cX3_orderHere 227 = .ok (.ifCond .eq 36, 3) := dk_153 0 36 (dk_at dksX3_orderHere_9 18 rfl rfl)
theorem dX3_orderHere_230 : decode cX3_orderHere 230 = .ok (.aload_n 0, 1) := dk_42 (dk_at dksX3_orderHere_9 21 rfl rfl)
theorem dX3_orderHere_231 : decode cX3_orderHere 231 = .ok (.iload_n 1, 1) := dk_27 (dk_at dksX3_orderHere_9 22 rfl rfl)
theorem dX3_orderHere_232 : decode cX3_orderHere 232 = .ok (.iconst 1, 1) := dk_4 (dk_at dksX3_orderHere_9 23 rfl rfl)
theorem dX3_orderHere_233 : decode cX3_orderHere 233 = .ok (.invokevirtual 184, 3) := dk_182 0 184 (dk_at dksX3_orderHere_10 0 rfl rfl)
theorem dX3_orderHere_236 : decode cX3_orderHere 236 = .ok (.ifCond .eq 27, 3) := dk_153 0 27 (dk_at dksX3_orderHere_10 3 rfl rfl)
theorem dX3_orderHere_239 : decode cX3_orderHere 239 = .ok (.aload_n 0, 1) := dk_42 (dk_at dksX3_orderHere_10 6 rfl rfl)
theorem dX3_orderHere_240 : decode cX3_orderHere 240 = .ok (.bipush 61, 2) := dk_16 61 (dk_at dksX3_orderHere_10 7 rfl rfl)
theorem dX3_orderHere_242 : decode cX3_orderHere 242 = .ok (.invokevirtual 178, 3) := dk_182 0 178 (dk_at dksX3_orderHere_10 9 rfl rfl)
theorem dX3_orderHere_245 : decode cX3_orderHere 245 = .ok (.ifCond .eq 18, 3) := dk_153 0 18 (dk_at dksX3_orderHere_10 12 rfl rfl)
theorem dX3_orderHere_248 : decode cX3_orderHere 248 = .ok (.aload_n 0, 1) := dk_42 (dk_at dksX3_orderHere_10 15 rfl rfl)
theorem dX3_orderHere_249 : decode cX3_orderHere 249 = .ok (.iload_n 1, 1) := dk_27 (dk_at dksX3_orderHere_10 16 rfl rfl)
theorem dX3_orderHere_250 : decode cX3_orderHere 250 = .ok (.iconst 1, 1) := dk_4 (dk_at dksX3_orderHere_10 17 rfl rfl)
theorem dX3_orderHere_251 : decode cX3_orderHere 251 = .ok (.iadd, 1) := dk_96 (dk_at dksX3_orderHere_10 18 rfl rfl)
theorem dX3_orderHere_252 : decode cX3_orderHere 252 = .ok (.iconst 1, 1) := dk_4 (dk_at dksX3_orderHere_10 19 rfl rfl)
theorem dX3_orderHere_253 : decode cX3_orderHere 253 = .ok (.invokevirtual 184, 3) := dk_182 0 184 (dk_at dksX3_orderHere_10 20 rfl rfl)
theorem dX3_orderHere_256 : decode cX3_orderHere 256 = .ok (.ifCond .eq 7, 3) := dk_153 0 7 (dk_at dksX3_orderHere_11 0 rfl rfl)
theorem dX3_orderHere_259 : decode cX3_orderHere 259 = .ok (.iconst 1, 1) := dk_4 (dk_at dksX3_orderHere_11 3 rfl rfl)
theorem dX3_orderHere_260 : decode cX3_orderHere 260 = .ok (.goto 4, 3) := dk_167 0 4 (dk_at dksX3_orderHere_11 4 rfl rfl)
theorem dX3_orderHere_263 : decode cX3_orderHere 263 = .ok (.iconst 0, 1) := dk_3 (dk_at dksX3_orderHere_11 7 rfl rfl)
theorem dX3_orderHere_264 : decode cX3_orderHere 264 = .ok (.ireturn, 1) := dk_172 (dk_at dksX3_orderHere_11 8 rfl rfl)
theorem dX3_orderHere_265 : decode cX3_orderHere 265 = .ok (.aload_n 0, 1) := dk_42 (dk_at dksX3_orderHere_11 9 rfl rfl)
theorem dX3_orderHere_266 : decode cX3_orderHere 266 = .ok (.bipush 100, 2) := dk_16 100 (dk_at dksX3_orderHere_11 10 rfl rfl)
theorem dX3_orderHere_268 : decode cX3_orderHere 268 = .ok (.invokevirtual 178, 3) := dk_182 0 178 (dk_at dksX3_orderHere_11 12 rfl rfl)
theorem dX3_orderHere_271 : decode cX3_orderHere 271 = .ok (.ifCond .eq 27, 3) := dk_153 0 27 (dk_at dksX3_orderHere_11 15 rfl rfl)
theorem dX3_orderHere_274 : decode cX3_orderHere 274 = .ok (.aload_n 0, 1) := dk_42 (dk_at dksX3_orderHere_11 18 rfl rfl)
theorem dX3_orderHere_275 : decode cX3_orderHere 275 = .ok (.bipush 9, 2) := dk_16 9 (dk_at dksX3_orderHere_11 19 rfl rfl)
theorem dX3_orderHere_277 : decode cX3_orderHere 277 = .ok (.invokevirtual 187, 3) := dk_182 0 187 (dk_at dksX3_orderHere_11 21 rfl rfl)
theorem dX3_orderHere_280 : decode cX3_orderHere 280 = .ok (.ifCond .eq 16, 3) := dk_153 0 16 (dk_at dksX3_orderHere_12 0 rfl rfl)
theorem dX3_orderHere_283 : decode cX3_orderHere 283 = .ok (.aload_n 0, 1) := dk_42 (dk_at dksX3_orderHere_12 3 rfl rfl)
theorem dX3_orderHere_284 : decode cX3_orderHere 284 = .ok (.ldc 215, 2) := dk_18 215 (dk_at dksX3_orderHere_12 4 rfl rfl)
theorem dX3_orderHere_286 : decode cX3_orderHere 286 = .ok (.invokevirtual 192, 3) := dk_182 0 192 (dk_at dksX3_orderHere_12 6 rfl rfl)
theorem dX3_orderHere_289 : decode cX3_orderHere 289 = .ok (.ifCond .eq 7, 3) := dk_153 0 7 (dk_at dksX3_orderHere_12 9 rfl rfl)
theorem dX3_orderHere_292 : decode cX3_orderHere 292 = .ok (.iconst 1, 1) := dk_4 (dk_at dksX3_orderHere_12 12 rfl rfl)
theorem dX3_orderHere_293 : decode cX3_orderHere 293 = .ok (.goto 4, 3) := dk_167 0 4 (dk_at dksX3_orderHere_12 13 rfl rfl)
theorem dX3_orderHere_296 : decode cX3_orderHere 296 = .ok (.iconst 0, 1) := dk_3 (dk_at dksX3_orderHere_12 16 rfl rfl)
theorem dX3_orderHere_297 : decode cX3_orderHere 297 = .ok (.ireturn, 1) := dk_172 (dk_at dksX3_orderHere_12 17 rfl rfl)
theorem dX3_orderHere_298 : decode cX3_orderHere 298 = .ok (.aload_n 0, 1) := dk_42 (dk_at dksX3_orderHere_12 18 rfl rfl)
theorem dX3_orderHere_299 : decode cX3_orderHere 299 = .ok (.bipush 116, 2) := dk_16 116 (dk_at dksX3_orderHere_12 19 rfl rfl)
theorem dX3_orderHere_301 : decode cX3_orderHere 301 = .ok (.invokevirtual 178, 3) := dk_182 0 178 (dk_at dksX3_orderHere_12 21 rfl rfl)
theorem dX3_orderHere_304 : decode cX3_orderHere 304 = .ok (.ifCond .eq 9, 3) := dk_153 0 9 (dk_at dksX3_orderHere_13 0 rfl rfl)
theorem dX3_orderHere_307 : decode cX3_orderHere 307 = .ok (.aload_n 0, 1) := dk_42 (dk_at dksX3_orderHere_13 3 rfl rfl)
theorem dX3_orderHere_308 : decode cX3_orderHere 308 = .ok (.iload_n 1, 1) := dk_27 (dk_at dksX3_orderHere_13 4 rfl rfl)
theorem dX3_orderHere_309 : decode cX3_orderHere 309 = .ok (.invokevirtual 217, 3) := dk_182 0 217 (dk_at dksX3_orderHere_13 5 rfl rfl)
theorem dX3_orderHere_312 : decode cX3_orderHere 312 = .ok (.ireturn, 1) := dk_172 (dk_at dksX3_orderHere_13 8 rfl rfl)
theorem dX3_orderHere_313 : decode cX3_orderHere 313 = .ok (.aload_n 0, 1) := dk_42 (dk_at dksX3_orderHere_13 9 rfl rfl)
theorem dX3_orderHere_314 : decode cX3_orderHere 314 = .ok (.bipush 102, 2) := dk_16 102 (dk_at dksX3_orderHere_13 10 rfl rfl)
theorem dX3_orderHere_316 : decode cX3_orderHere 316 = .ok (.invokevirtual 178, 3) := dk_182 0 178 (dk_at dksX3_orderHere_13 12 rfl rfl)
theorem dX3_orderHere_319 : decode cX3_orderHere 319 = .ok (.ifCond .eq 15, 3) := dk_153 0 15 (dk_at dksX3_orderHere_13 15 rfl rfl)
theorem dX3_orderHere_322 : decode cX3_orderHere 322 = .ok (.aload_n 0, 1) := dk_42 (dk_at dksX3_orderHere_13 18 rfl rfl)
theorem dX3_orderHere_323 : decode cX3_orderHere 323 = .ok (.iload_n 1, 1) := dk_27 (dk_at dksX3_orderHere_13 19 rfl rfl)
theorem dX3_orderHere_324 : decode cX3_orderHere 324 = .ok (.invokevirtual 220, 3) := dk_182 0 220 (dk_at dksX3_orderHere_13 20 rfl rfl)
theorem dX3_orderHere_327 : decode cX3_orderHere 327 = .ok (.ifCond .eq 7, 3) := dk_153 0 7 (dk_at dksX3_orderHere_14 0 rfl rfl)
theorem dX3_orderHere_330 : decode cX3_orderHere 330 = .ok (.iconst 1, 1) := dk_4 (dk_at dksX3_orderHere_14 3 rfl rfl)
theorem dX3_orderHere_331 : decode cX3_orderHere 331 = .ok (.goto 4, 3) := dk_167 0 4 (dk_at dksX3_orderHere_14 4 rfl rfl)
theorem dX3_orderHere_334 : decode cX3_orderHere 334 = .ok (.iconst 0, 1) := dk_3 (dk_at dksX3_orderHere_14 7 rfl rfl)
theorem dX3_orderHere_335 : decode cX3_orderHere 335 = .ok (.ireturn, 1) := dk_172 (dk_at dksX3_orderHere_14 8 rfl rfl)
abbrev cX3_skipsOver : ByteArray := prog_11_method_67_code
def yX3_skipsOver : MethodName := ⟨RX3, "skipsOver", "(I)Z"⟩
def dkwX3_skipsOver_0 : List UInt8 := [42, 182, 0, 168, 27, 159, 0, 5, 3, 172, 42, 89, 180, 0, 165, 4, 96, 181, 0, 165, 4, 172]
abbrev dktX3_skipsOver_0 : List UInt8 := dkwX3_skipsOver_0 ++ []
theorem dksX3_skipsOver_0 : cX3_skipsOver.data.toList.drop 0 = dktX3_skipsOver_0 := by decide +kernel
theorem dX3_skipsOver_0 : decode cX3_skipsOver 0 = .ok (.aload_n 0, 1) := dk_42 (dk_at dksX3_skipsOver_0 0 rfl rfl)
theorem dX3_skipsOver_1 : decode cX3_skipsOver 1 = .ok (.invokevirtual 168, 3) := dk_182 0 168 (dk_at dksX3_skipsOver_0 1 rfl rfl)
theorem dX3_skipsOver_4 : decode cX3_skipsOver 4 = .ok (.iload_n 1, 1) := dk_27 (dk_at dksX3_skipsOver_0 4 rfl rfl)
theorem dX3_skipsOver_5 : decode cX3_skipsOver 5 = .ok (.if_icmp .eq 5, 3) := dk_159 0 5 (dk_at dksX3_skipsOver_0 5 rfl rfl)
theorem dX3_skipsOver_8 : decode cX3_skipsOver 8 = .ok (.iconst 0, 1) := dk_3 (dk_at dksX3_skipsOver_0 8 rfl rfl)
theorem dX3_skipsOver_9 : decode cX3_skipsOver 9 = .ok (.ireturn, 1) := dk_172 (dk_at dksX3_skipsOver_0 9 rfl rfl)
theorem dX3_skipsOver_10 : decode cX3_skipsOver 10 = .ok (.aload_n 0, 1) := dk_42 (dk_at dksX3_skipsOver_0 10 rfl rfl)
theorem dX3_skipsOver_11 : decode cX3_skipsOver 11 = .ok (.dup, 1) := dk_89 (dk_at dksX3_skipsOver_0 11 rfl rfl)
theorem dX3_skipsOver_12 : decode cX3_skipsOver 12 = .ok (.getfield 165, 3) := dk_180 0 165 (dk_at dksX3_skipsOver_0 12 rfl rfl)
theorem dX3_skipsOver_15 : decode cX3_skipsOver 15 = .ok (.iconst 1, 1) := dk_4 (dk_at dksX3_skipsOver_0 15 rfl rfl)
theorem dX3_skipsOver_16 : decode cX3_skipsOver 16 = .ok (.iadd, 1) := dk_96 (dk_at dksX3_skipsOver_0 16 rfl rfl)
theorem dX3_skipsOver_17 : decode cX3_skipsOver 17 = .ok (.putfield 165, 3) := dk_181 0 165 (dk_at dksX3_skipsOver_0 17 rfl rfl)
theorem dX3_skipsOver_20 : decode cX3_skipsOver 20 = .ok (.iconst 1, 1) := dk_4 (dk_at dksX3_skipsOver_0 20 rfl rfl)
theorem dX3_skipsOver_21 : decode cX3_skipsOver 21 = .ok (.ireturn, 1) := dk_172 (dk_at dksX3_skipsOver_0 21 rfl rfl)
abbrev cX3_here : ByteArray := prog_11_method_66_code
def yX3_here : MethodName := ⟨RX3, "here", "()I"⟩
def dkwX3_here_1 : List UInt8 := [172]
abbrev dktX3_here_1 : List UInt8 := dkwX3_here_1 ++ []
def dkwX3_here_0 : List UInt8 := [42, 180, 0, 165, 42, 180, 0, 162, 162, 0, 15, 42, 180, 0, 22, 42, 180, 0, 165, 46, 167, 0, 4, 2]
abbrev dktX3_here_0 : List UInt8 := dkwX3_here_0 ++ dktX3_here_1
theorem dksX3_here_0 : cX3_here.data.toList.drop 0 = dktX3_here_0 := by decide +kernel
theorem dksX3_here_1 : cX3_here.data.toList.drop 24 = dktX3_here_1 := dk_seg dksX3_here_0 24 rfl rfl
theorem dX3_here_0 : decode cX3_here 0 = .ok (.aload_n 0, 1) := dk_42 (dk_at dksX3_here_0 0 rfl rfl)
theorem dX3_here_1 : decode cX3_here 1 = .ok (.getfield 165, 3) := dk_180 0 165 (dk_at dksX3_here_0 1 rfl rfl)
theorem dX3_here_4 : decode cX3_here 4 = .ok (.aload_n 0, 1) := dk_42 (dk_at dksX3_here_0 4 rfl rfl)
theorem dX3_here_5 : decode cX3_here 5 = .ok (.getfield 162, 3) := dk_180 0 162 (dk_at dksX3_here_0 5 rfl rfl)
theorem dX3_here_8 : decode cX3_here 8 = .ok (.if_icmp .ge 15, 3) := dk_162 0 15 (dk_at dksX3_here_0 8 rfl rfl)
theorem dX3_here_11 : decode cX3_here 11 = .ok (.aload_n 0, 1) := dk_42 (dk_at dksX3_here_0 11 rfl rfl)
theorem dX3_here_12 : decode cX3_here 12 = .ok (.getfield 22, 3) := dk_180 0 22 (dk_at dksX3_here_0 12 rfl rfl)
theorem dX3_here_15 : decode cX3_here 15 = .ok (.aload_n 0, 1) := dk_42 (dk_at dksX3_here_0 15 rfl rfl)
theorem dX3_here_16 : decode cX3_here 16 = .ok (.getfield 165, 3) := dk_180 0 165 (dk_at dksX3_here_0 16 rfl rfl)
theorem dX3_here_19 : decode cX3_here 19 = .ok (.iaload, 1) := dk_46 (dk_at dksX3_here_0 19 rfl rfl)
theorem dX3_here_20 : decode cX3_here 20 = .ok (.goto 4, 3) := dk_167 0 4 (dk_at dksX3_here_0 20 rfl rfl)
theorem dX3_here_23 : decode cX3_here 23 = .ok (.iconst (-1), 1) := dk_2 (dk_at dksX3_here_0 23 rfl rfl)
theorem dX3_here_24 : decode cX3_here 24 = .ok (.ireturn, 1) := dk_172 (dk_at dksX3_here_1 0 rfl rfl)
abbrev cX3_hasOrder : ByteArray := prog_11_method_70_code
def yX3_hasOrder : MethodName := ⟨RX3, "hasOrder", "(I)Z"⟩
def dkwX3_hasOrder_0 : List UInt8 := [42, 180, 0, 36, 8, 42, 180, 0, 181, 104, 27, 79, 4, 172]
abbrev dktX3_hasOrder_0 : List UInt8 := dkwX3_hasOrder_0 ++ []
theorem dksX3_hasOrder_0 : cX3_hasOrder.data.toList.drop 0 = dktX3_hasOrder_0 := by decide +kernel
theorem dX3_hasOrder_0 : decode cX3_hasOrder 0 = .ok (.aload_n 0, 1) := dk_42 (dk_at dksX3_hasOrder_0 0 rfl rfl)
theorem dX3_hasOrder_1 : decode cX3_hasOrder 1 = .ok (.getfield 36, 3) := dk_180 0 36 (dk_at dksX3_hasOrder_0 1 rfl rfl)
theorem dX3_hasOrder_4 : decode cX3_hasOrder 4 = .ok (.iconst 5, 1) := dk_8 (dk_at dksX3_hasOrder_0 4 rfl rfl)
theorem dX3_hasOrder_5 : decode cX3_hasOrder 5 = .ok (.aload_n 0, 1) := dk_42 (dk_at dksX3_hasOrder_0 5 rfl rfl)
theorem dX3_hasOrder_6 : decode cX3_hasOrder 6 = .ok (.getfield 181, 3) := dk_180 0 181 (dk_at dksX3_hasOrder_0 6 rfl rfl)
theorem dX3_hasOrder_9 : decode cX3_hasOrder 9 = .ok (.imul, 1) := dk_104 (dk_at dksX3_hasOrder_0 9 rfl rfl)
theorem dX3_hasOrder_10 : decode cX3_hasOrder 10 = .ok (.iload_n 1, 1) := dk_27 (dk_at dksX3_hasOrder_0 10 rfl rfl)
theorem dX3_hasOrder_11 : decode cX3_hasOrder 11 = .ok (.iastore, 1) := dk_79 (dk_at dksX3_hasOrder_0 11 rfl rfl)
theorem dX3_hasOrder_12 : decode cX3_hasOrder 12 = .ok (.iconst 1, 1) := dk_4 (dk_at dksX3_hasOrder_0 12 rfl rfl)
theorem dX3_hasOrder_13 : decode cX3_hasOrder 13 = .ok (.ireturn, 1) := dk_172 (dk_at dksX3_hasOrder_0 13 rfl rfl)
abbrev cX3_isWord : ByteArray := prog_11_method_68_code
def yX3_isWord : MethodName := ⟨RX3, "isWord", "(Ljava/lang/String;)Z"⟩
def dkwX3_isWord_1 : List UInt8 := [132, 2, 1, 167, 255, 231, 4, 172]
abbrev dktX3_isWord_1 : List UInt8 := dkwX3_isWord_1 ++ []
def dkwX3_isWord_0 : List UInt8 := [3, 61, 28, 43, 182, 0, 171, 162, 0, 23, 42, 43, 28, 182, 0, 175, 182, 0, 178, 154, 0, 5, 3, 172]
abbrev dktX3_isWord_0 : List UInt8 := dkwX3_isWord_0 ++ dktX3_isWord_1
theorem dksX3_isWord_0 : cX3_isWord.data.toList.drop 0 = dktX3_isWord_0 := by decide +kernel
theorem dksX3_isWord_1 : cX3_isWord.data.toList.drop 24 = dktX3_isWord_1 := dk_seg dksX3_isWord_0 24 rfl rfl
theorem dX3_isWord_0 : decode cX3_isWord 0 = .ok (.iconst 0, 1) := dk_3 (dk_at dksX3_isWord_0 0 rfl rfl)
theorem dX3_isWord_1 : decode cX3_isWord 1 = .ok (.istore_n 2, 1) := dk_61 (dk_at dksX3_isWord_0 1 rfl rfl)
theorem dX3_isWord_2 : decode cX3_isWord 2 = .ok (.iload_n 2, 1) := dk_28 (dk_at dksX3_isWord_0 2 rfl rfl)
theorem dX3_isWord_3 : decode cX3_isWord 3 = .ok (.aload_n 1, 1) := dk_43 (dk_at dksX3_isWord_0 3 rfl rfl)
theorem dX3_isWord_4 : decode cX3_isWord 4 = .ok (.invokevirtual 171, 3) := dk_182 0 171 (dk_at dksX3_isWord_0 4 rfl rfl)
theorem dX3_isWord_7 : decode cX3_isWord 7 = .ok (.if_icmp .ge 23, 3) := dk_162 0 23 (dk_at dksX3_isWord_0 7 rfl rfl)
theorem dX3_isWord_10 : decode cX3_isWord 10 = .ok (.aload_n 0, 1) := dk_42 (dk_at dksX3_isWord_0 10 rfl rfl)
theorem dX3_isWord_11 : decode cX3_isWord 11 = .ok (.aload_n 1, 1) := dk_43 (dk_at dksX3_isWord_0 11 rfl rfl)
theorem dX3_isWord_12 : decode cX3_isWord 12 = .ok (.iload_n 2, 1) := dk_28 (dk_at dksX3_isWord_0 12 rfl rfl)
theorem dX3_isWord_13 : decode cX3_isWord 13 = .ok (.invokevirtual 175, 3) := dk_182 0 175 (dk_at dksX3_isWord_0 13 rfl rfl)
theorem dX3_isWord_16 : decode cX3_isWord 16 = .ok (.invokevirtual 178, 3) := dk_182 0 178 (dk_at dksX3_isWord_0 16 rfl rfl)
theorem dX3_isWord_19 : decode cX3_isWord 19 = .ok (.ifCond .ne 5, 3) := dk_154 0 5 (dk_at dksX3_isWord_0 19 rfl rfl)
theorem dX3_isWord_22 : decode cX3_isWord 22 = .ok (.iconst 0, 1) := dk_3 (dk_at dksX3_isWord_0 22 rfl rfl)
theorem dX3_isWord_23 : decode cX3_isWord 23 = .ok (.ireturn, 1) := dk_172 (dk_at dksX3_isWord_0 23 rfl rfl)
theorem dX3_isWord_24 : decode cX3_isWord 24 = .ok (.iinc 2 1, 3) := dk_132 2 1 (dk_at dksX3_isWord_1 0 rfl rfl)
theorem dX3_isWord_27 : decode cX3_isWord 27 = .ok (.goto (-25), 3) := dk_167 255 231 (dk_at dksX3_isWord_1 3 rfl rfl)
theorem dX3_isWord_30 : decode cX3_isWord 30 = .ok (.iconst 1, 1) := dk_4 (dk_at dksX3_isWord_1 6 rfl rfl)
theorem dX3_isWord_31 : decode cX3_isWord 31 = .ok (.ireturn, 1) := dk_172 (dk_at dksX3_isWord_1 7 rfl rfl)
abbrev cX3_figures : ByteArray := prog_11_method_69_code
def yX3_figures : MethodName := ⟨RX3, "figures", "(II)Z"⟩
def dkwX3_figures_3 : List UInt8 := [4, 96, 181, 0, 165, 132, 3, 1, 167, 255, 201, 4, 172]
abbrev dktX3_figures_3 : List UInt8 := dkwX3_figures_3 ++ []
def dkwX3_figures_2 : List UInt8 := [27, 16, 10, 42, 180, 0, 36, 27, 46, 104, 42, 182, 0, 168, 96, 16, 48, 100, 79, 42, 89, 180, 0, 165]
abbrev dktX3_figures_2 : List UInt8 := dkwX3_figures_2 ++ dktX3_figures_3
def dkwX3_figures_1 : List UInt8 := [62, 29, 28, 162, 0, 56, 42, 182, 0, 168, 16, 48, 16, 57, 184, 0, 62, 153, 0, 42, 42, 180, 0, 36]
abbrev dktX3_figures_1 : List UInt8 := dkwX3_figures_1 ++ dktX3_figures_2
def dkwX3_figures_0 : List UInt8 := [42, 182, 0, 168, 16, 48, 16, 57, 184, 0, 62, 154, 0, 5, 3, 172, 42, 180, 0, 36, 27, 3, 79, 3]
abbrev dktX3_figures_0 : List UInt8 := dkwX3_figures_0 ++ dktX3_figures_1
theorem dksX3_figures_0 : cX3_figures.data.toList.drop 0 = dktX3_figures_0 := by decide +kernel
theorem dksX3_figures_1 : cX3_figures.data.toList.drop 24 = dktX3_figures_1 := dk_seg dksX3_figures_0 24 rfl rfl
theorem dksX3_figures_2 : cX3_figures.data.toList.drop 48 = dktX3_figures_2 := dk_seg dksX3_figures_1 24 rfl rfl
theorem dksX3_figures_3 : cX3_figures.data.toList.drop 72 = dktX3_figures_3 := dk_seg dksX3_figures_2 24 rfl rfl
theorem dX3_figures_0 : decode cX3_figures 0 = .ok (.aload_n 0, 1) := dk_42 (dk_at dksX3_figures_0 0 rfl rfl)
theorem dX3_figures_1 : decode cX3_figures 1 = .ok (.invokevirtual 168, 3) := dk_182 0 168 (dk_at dksX3_figures_0 1 rfl rfl)
theorem dX3_figures_4 : decode cX3_figures 4 = .ok (.bipush 48, 2) := dk_16 48 (dk_at dksX3_figures_0 4 rfl rfl)
theorem dX3_figures_6 : decode cX3_figures 6 = .ok (.bipush 57, 2) := dk_16 57 (dk_at dksX3_figures_0 6 rfl rfl)
theorem dX3_figures_8 : decode cX3_figures 8 = .ok (.invokestatic 62, 3) := dk_184 0 62 (dk_at dksX3_figures_0 8 rfl rfl)
theorem dX3_figures_11 : decode cX3_figures 11 = .ok (.ifCond .ne 5, 3) := dk_154 0 5 (dk_at dksX3_figures_0 11 rfl rfl)
theorem dX3_figures_14 : decode cX3_figures 14 = .ok (.iconst 0, 1) := dk_3 (dk_at dksX3_figures_0 14 rfl rfl)
theorem dX3_figures_15 : decode cX3_figures 15 = .ok (.ireturn, 1) := dk_172 (dk_at dksX3_figures_0 15 rfl rfl)
theorem dX3_figures_16 : decode cX3_figures 16 = .ok (.aload_n 0, 1) := dk_42 (dk_at dksX3_figures_0 16 rfl rfl)
theorem dX3_figures_17 : decode cX3_figures 17 = .ok (.getfield 36, 3) := dk_180 0 36 (dk_at dksX3_figures_0 17 rfl rfl)
theorem dX3_figures_20 : decode cX3_figures 20 = .ok (.iload_n 1, 1) := dk_27 (dk_at dksX3_figures_0 20 rfl rfl)
theorem dX3_figures_21 : decode cX3_figures 21 = .ok (.iconst 0, 1) := dk_3 (dk_at dksX3_figures_0 21 rfl rfl)
theorem dX3_figures_22 : decode cX3_figures 22 = .ok (.iastore, 1) := dk_79 (dk_at dksX3_figures_0 22 rfl rfl)
theorem dX3_figures_23 : decode cX3_figures 23 = .ok (.iconst 0, 1) := dk_3 (dk_at dksX3_figures_0 23 rfl rfl)
theorem dX3_figures_24 : decode cX3_figures 24 = .ok (.istore_n 3, 1) := dk_62 (dk_at dksX3_figures_1 0 rfl rfl)
theorem dX3_figures_25 : decode cX3_figures 25 = .ok (.iload_n 3, 1) := dk_29 (dk_at dksX3_figures_1 1 rfl rfl)
theorem dX3_figures_26 : decode cX3_figures 26 = .ok (.iload_n 2, 1) := dk_28 (dk_at dksX3_figures_1 2 rfl rfl)
theorem dX3_figures_27 : decode cX3_figures 27 = .ok (.if_icmp .ge 56, 3) := dk_162 0 56 (dk_at dksX3_figures_1 3 rfl rfl)
theorem dX3_figures_30 : decode cX3_figures 30 = .ok (.aload_n 0, 1) := dk_42 (dk_at dksX3_figures_1 6 rfl rfl)
theorem dX3_figures_31 : decode cX3_figures 31 = .ok (.invokevirtual 168, 3) := dk_182 0 168 (dk_at dksX3_figures_1 7 rfl rfl)
theorem dX3_figures_34 : decode cX3_figures 34 = .ok (.bipush 48, 2) := dk_16 48 (dk_at dksX3_figures_1 10 rfl rfl)
theorem dX3_figures_36 : decode cX3_figures 36 = .ok (.bipush 57, 2) := dk_16 57 (dk_at dksX3_figures_1 12 rfl rfl)
theorem dX3_figures_38 : decode cX3_figures 38 = .ok (.invokestatic 62, 3) := dk_184 0 62 (dk_at dksX3_figures_1 14 rfl rfl)
theorem dX3_figures_41 : decode cX3_figures 41 = .ok (.ifCond .eq 42, 3) := dk_153 0 42 (dk_at dksX3_figures_1 17 rfl rfl)
theorem dX3_figures_44 : decode cX3_figures 44 = .ok (.aload_n 0, 1) := dk_42 (dk_at dksX3_figures_1 20 rfl rfl)
theorem dX3_figures_45 : decode cX3_figures 45 = .ok (.getfield 36, 3) := dk_180 0 36 (dk_at dksX3_figures_1 21 rfl rfl)
theorem dX3_figures_48 : decode cX3_figures 48 = .ok (.iload_n 1, 1) := dk_27 (dk_at dksX3_figures_2 0 rfl rfl)
theorem dX3_figures_49 : decode cX3_figures 49 = .ok (.bipush 10, 2) := dk_16 10 (dk_at dksX3_figures_2 1 rfl rfl)
theorem dX3_figures_51 : decode cX3_figures 51 = .ok (.aload_n 0, 1) := dk_42 (dk_at dksX3_figures_2 3 rfl rfl)
theorem dX3_figures_52 : decode cX3_figures 52 = .ok (.getfield 36, 3) := dk_180 0 36 (dk_at dksX3_figures_2 4 rfl rfl)
theorem dX3_figures_55 : decode cX3_figures 55 = .ok (.iload_n 1, 1) := dk_27 (dk_at dksX3_figures_2 7 rfl rfl)
theorem dX3_figures_56 : decode cX3_figures 56 = .ok (.iaload, 1) := dk_46 (dk_at dksX3_figures_2 8 rfl rfl)
theorem dX3_figures_57 : decode cX3_figures 57 = .ok (.imul, 1) := dk_104 (dk_at dksX3_figures_2 9 rfl rfl)
theorem dX3_figures_58 : decode cX3_figures 58 = .ok (.aload_n 0, 1) := dk_42 (dk_at dksX3_figures_2 10 rfl rfl)
theorem dX3_figures_59 : decode cX3_figures 59 = .ok (.invokevirtual 168, 3) := dk_182 0 168 (dk_at dksX3_figures_2 11 rfl rfl)
theorem dX3_figures_62 : decode cX3_figures 62 = .ok (.iadd, 1) := dk_96 (dk_at dksX3_figures_2 14 rfl rfl)
theorem dX3_figures_63 : decode cX3_figures 63 = .ok (.bipush 48, 2) := dk_16 48 (dk_at dksX3_figures_2 15 rfl rfl)
theorem dX3_figures_65 : decode cX3_figures 65 = .ok (.isub, 1) := dk_100 (dk_at dksX3_figures_2 17 rfl rfl)
theorem dX3_figures_66 : decode cX3_figures 66 = .ok (.iastore, 1) := dk_79 (dk_at dksX3_figures_2 18 rfl rfl)
theorem dX3_figures_67 : decode cX3_figures 67 = .ok (.aload_n 0, 1) := dk_42 (dk_at dksX3_figures_2 19 rfl rfl)
theorem dX3_figures_68 : decode cX3_figures 68 = .ok (.dup, 1) := dk_89 (dk_at dksX3_figures_2 20 rfl rfl)
theorem dX3_figures_69 : decode cX3_figures 69 = .ok (.getfield 165, 3) := dk_180 0 165 (dk_at dksX3_figures_2 21 rfl rfl)
theorem dX3_figures_72 : decode cX3_figures 72 = .ok (.iconst 1, 1) := dk_4 (dk_at dksX3_figures_3 0 rfl rfl)
theorem dX3_figures_73 : decode cX3_figures 73 = .ok (.iadd, 1) := dk_96 (dk_at dksX3_figures_3 1 rfl rfl)
theorem dX3_figures_74 : decode cX3_figures 74 = .ok (.putfield 165, 3) := dk_181 0 165 (dk_at dksX3_figures_3 2 rfl rfl)
theorem dX3_figures_77 : decode cX3_figures 77 = .ok (.iinc 3 1, 3) := dk_132 3 1 (dk_at dksX3_figures_3 5 rfl rfl)
theorem dX3_figures_80 : decode cX3_figures 80 = .ok (.goto (-55), 3) := dk_167 255 201 (dk_at dksX3_figures_3 8 rfl rfl)
theorem dX3_figures_83 : decode cX3_figures 83 = .ok (.iconst 1, 1) := dk_4 (dk_at dksX3_figures_3 11 rfl rfl)
theorem dX3_figures_84 : decode cX3_figures 84 = .ok (.ireturn, 1) := dk_172 (dk_at dksX3_figures_3 12 rfl rfl)
abbrev cX3_withT : ByteArray := prog_11_method_72_code
def yX3_withT : MethodName := ⟨RX3, "withT", "(I)Z"⟩
def dkwX3_withT_5 : List UInt8 := [167, 0, 4, 3, 172]
abbrev dktX3_withT_5 : List UInt8 := dkwX3_withT_5 ++ []
def dkwX3_withT_4 : List UInt8 := [182, 0, 187, 153, 0, 24, 42, 18, 201, 182, 0, 192, 153, 0, 15, 42, 27, 182, 0, 198, 153, 0, 7, 4]
abbrev dktX3_withT_4 : List UInt8 := dkwX3_withT_4 ++ dktX3_withT_5
def dkwX3_withT_3 : List UInt8 := [182, 0, 198, 153, 0, 7, 4, 167, 0, 4, 3, 172, 42, 16, 104, 182, 0, 178, 153, 0, 33, 42, 16, 6]
abbrev dktX3_withT_3 : List UInt8 := dkwX3_withT_3 ++ dktX3_withT_4
def dkwX3_withT_2 : List UInt8 := [153, 0, 34, 42, 8, 182, 0, 187, 153, 0, 24, 42, 18, 196, 182, 0, 192, 153, 0, 15, 42, 27]
abbrev dktX3_withT_2 : List UInt8 := dkwX3_withT_2 ++ dktX3_withT_3
def dkwX3_withT_1 : List UInt8 := [153, 0, 16, 42, 27, 4, 182, 0, 184, 153, 0, 7, 4, 167, 0, 4, 3, 172, 42, 16, 114, 182, 0, 178]
abbrev dktX3_withT_1 : List UInt8 := dkwX3_withT_1 ++ dktX3_withT_2
def dkwX3_withT_0 : List UInt8 := [42, 16, 101, 182, 0, 178, 153, 0, 35, 42, 7, 182, 0, 187, 153, 0, 25, 42, 18, 190, 182, 0, 192]
abbrev dktX3_withT_0 : List UInt8 := dkwX3_withT_0 ++ dktX3_withT_1
theorem dksX3_withT_0 : cX3_withT.data.toList.drop 0 = dktX3_withT_0 := by decide +kernel
theorem dksX3_withT_1 : cX3_withT.data.toList.drop 23 = dktX3_withT_1 := dk_seg dksX3_withT_0 23 rfl rfl
theorem dksX3_withT_2 : cX3_withT.data.toList.drop 47 = dktX3_withT_2 := dk_seg dksX3_withT_1 24 rfl rfl
theorem dksX3_withT_3 : cX3_withT.data.toList.drop 69 = dktX3_withT_3 := dk_seg dksX3_withT_2 22 rfl rfl
theorem dksX3_withT_4 : cX3_withT.data.toList.drop 93 = dktX3_withT_4 := dk_seg dksX3_withT_3 24 rfl rfl
theorem dksX3_withT_5 : cX3_withT.data.toList.drop 117 = dktX3_withT_5 := dk_seg dksX3_withT_4 24 rfl rfl
theorem dX3_withT_0 : decode cX3_withT 0 = .ok (.aload_n 0, 1) := dk_42 (dk_at dksX3_withT_0 0 rfl rfl)
theorem dX3_withT_1 : decode cX3_withT 1 = .ok (.bipush 101, 2) := dk_16 101 (dk_at dksX3_withT_0 1 rfl rfl)
theorem dX3_withT_3 : decode cX3_withT 3 = .ok (.invokevirtual 178, 3) := dk_182 0 178 (dk_at dksX3_withT_0 3 rfl rfl)
theorem dX3_withT_6 : decode cX3_withT 6 = .ok (.ifCond .eq 35, 3) := dk_153 0 35 (dk_at dksX3_withT_0 6 rfl rfl)
theorem dX3_withT_9 : decode cX3_withT 9 = .ok (.aload_n 0, 1) := dk_42 (dk_at dksX3_withT_0 9 rfl rfl)
theorem dX3_withT_10 : decode cX3_withT 10 = .ok (.iconst 4, 1) := dk_7 (dk_at dksX3_withT_0 10 rfl rfl)
theorem dX3_withT_11 : decode cX3_withT 11 = .ok (.invokevirtual 187, 3) := dk_182 0 187 (dk_at dksX3_withT_0 11 rfl rfl)
theorem dX3_withT_14 : decode cX3_withT 14 = .ok (.ifCond .eq 25, 3) := dk_153 0 25 (dk_at dksX3_withT_0 14 rfl rfl)
theorem dX3_withT_17 : decode cX3_withT 17 = .ok (.aload_n 0, 1) := dk_42 (dk_at dksX3_withT_0 17 rfl rfl)
theorem dX3_withT_18 : decode cX3_withT 18 = .ok (.ldc 190, 2) := dk_18 190 (dk_at dksX3_withT_0 18 rfl rfl)
theorem dX3_withT_20 : decode cX3_withT 20 = .ok (.invokevirtual 192, 3) := dk_182 0 192 (dk_at dksX3_withT_0 20 rfl rfl)
theorem dX3_withT_23 : decode cX3_withT 23 = .ok (.ifCond .eq 16, 3) := dk_153 0 16 (dk_at dksX3_withT_1 0 rfl rfl)
theorem dX3_withT_26 : decode cX3_withT 26 = .ok (.aload_n 0, 1) := dk_42 (dk_at dksX3_withT_1 3 rfl rfl)
theorem dX3_withT_27 : decode cX3_withT 27 = .ok (.iload_n 1, 1) := dk_27 (dk_at dksX3_withT_1 4 rfl rfl)
theorem dX3_withT_28 : decode cX3_withT 28 = .ok (.iconst 1, 1) := dk_4 (dk_at dksX3_withT_1 5 rfl rfl)
theorem dX3_withT_29 : decode cX3_withT 29 = .ok (.invokevirtual 184, 3) := dk_182 0 184 (dk_at dksX3_withT_1 6 rfl rfl)
theorem dX3_withT_32 : decode cX3_withT 32 = .ok (.ifCond .eq 7, 3) := dk_153 0 7 (dk_at dksX3_withT_1 9 rfl rfl)
theorem dX3_withT_35 : decode cX3_withT 35 = .ok (.iconst 1, 1) := dk_4 (dk_at dksX3_withT_1 12 rfl rfl)
theorem dX3_withT_36 : decode cX3_withT 36 = .ok (.goto 4, 3) := dk_167 0 4 (dk_at dksX3_withT_1 13 rfl rfl)
theorem dX3_withT_39 : decode cX3_withT 39 = .ok (.iconst 0, 1) := dk_3 (dk_at dksX3_withT_1 16 rfl rfl)
theorem dX3_withT_40 : decode cX3_withT 40 = .ok (.ireturn, 1) := dk_172 (dk_at dksX3_withT_1 17 rfl rfl)
theorem dX3_withT_41 : decode cX3_withT 41 = .ok (.aload_n 0, 1) := dk_42 (dk_at dksX3_withT_1 18 rfl rfl)
theorem dX3_withT_42 : decode cX3_withT 42 = .ok (.bipush 114, 2) := dk_16 114 (dk_at dksX3_withT_1 19 rfl rfl)
theorem dX3_withT_44 : decode cX3_withT 44 = .ok (.invokevirtual 178, 3) := dk_182 0 178 (dk_at dksX3_withT_1 21 rfl rfl)
theorem dX3_withT_47 : decode cX3_withT 47 = .ok (.ifCond .eq 34, 3) := dk_153 0 34 (dk_at dksX3_withT_2 0 rfl rfl)
theorem dX3_withT_50 : decode cX3_withT 50 = .ok (.aload_n 0, 1) := dk_42 (dk_at dksX3_withT_2 3 rfl rfl)
theorem dX3_withT_51 : decode cX3_withT 51 = .ok (.iconst 5, 1) := dk_8 (dk_at dksX3_withT_2 4 rfl rfl)
theorem dX3_withT_52 : decode cX3_withT 52 = .ok (.invokevirtual 187, 3) := dk_182 0 187 (dk_at dksX3_withT_2 5 rfl rfl)
theorem dX3_withT_55 : decode cX3_withT 55 = .ok (.ifCond .eq 24, 3) := dk_153 0 24 (dk_at dksX3_withT_2 8 rfl rfl)
theorem dX3_withT_58 : decode cX3_withT 58 = .ok (.aload_n 0, 1) := dk_42 (dk_at dksX3_withT_2 11 rfl rfl)
theorem dX3_withT_59 : decode cX3_withT 59 = .ok (.ldc 196, 2) := dk_18 196 (dk_at dksX3_withT_2 12 rfl rfl)
theorem dX3_withT_61 : decode cX3_withT 61 = .ok (.invokevirtual 192, 3) := dk_182 0 192 (dk_at dksX3_withT_2 14 rfl rfl)
theorem dX3_withT_64 : decode cX3_withT 64 = .ok (.ifCond .eq 15, 3) := dk_153 0 15 (dk_at dksX3_withT_2 17 rfl rfl)
theorem dX3_withT_67 : decode cX3_withT 67 = .ok (.aload_n 0, 1) := dk_42 (dk_at dksX3_withT_2 20 rfl rfl)
theorem dX3_withT_68 : decode cX3_withT 68 = .ok (.iload_n 1, 1) := dk_27 (dk_at dksX3_withT_2 21 rfl rfl)
theorem dX3_withT_69 : decode cX3_withT 69 = .ok (.invokevirtual 198, 3) := dk_182 0 198 (dk_at dksX3_withT_3 0 rfl rfl)
theorem dX3_withT_72 : decode cX3_withT 72 = .ok (.ifCond .eq 7, 3) := dk_153 0 7 (dk_at dksX3_withT_3 3 rfl rfl)
theorem dX3_withT_75 : decode cX3_withT 75 = .ok (.iconst 1, 1) := dk_4 (dk_at dksX3_withT_3 6 rfl rfl)
theorem dX3_withT_76 : decode cX3_withT 76 = .ok (.goto 4, 3) := dk_167 0 4 (dk_at dksX3_withT_3 7 rfl rfl)
theorem dX3_withT_79 : decode cX3_withT 79 = .ok (.iconst 0, 1) := dk_3 (dk_at dksX3_withT_3 10 rfl rfl)
theorem dX3_withT_80 : decode cX3_withT 80 = .ok (.ireturn, 1) := dk_172 (dk_at dksX3_withT_3 11 rfl rfl)
theorem dX3_withT_81 : decode cX3_withT 81 = .ok (.aload_n 0, 1) := dk_42 (dk_at dksX3_withT_3 12 rfl rfl)
theorem dX3_withT_82 : decode cX3_withT 82 = .ok (.bipush 104, 2) := dk_16 104 (dk_at dksX3_withT_3 13 rfl rfl)
theorem dX3_withT_84 : decode cX3_withT 84 = .ok (.invokevirtual 178, 3) := dk_182 0 178 (dk_at dksX3_withT_3 15 rfl rfl)
theorem dX3_withT_87 : decode cX3_withT 87 = .ok (.ifCond .eq 33, 3) := dk_153 0 33 (dk_at dksX3_withT_3 18 rfl rfl)
theorem dX3_withT_90 : decode cX3_withT 90 = .ok (.aload_n 0, 1) := dk_42 (dk_at dksX3_withT_3 21 rfl rfl)
theorem dX3_withT_91 : decode cX3_withT 91 = .ok (.bipush 6, 2) := dk_16 6 (dk_at dksX3_withT_3 22 rfl rfl)
theorem dX3_withT_93 : decode cX3_withT 93 = .ok (.invokevirtual 187, 3) := dk_182 0 187 (dk_at dksX3_withT_4 0 rfl rfl)
theorem dX3_withT_96 : decode cX3_withT 96 = .ok (.ifCond .eq 24, 3) := dk_153 0 24 (dk_at dksX3_withT_4 3 rfl rfl)
theorem dX3_withT_99 : decode cX3_withT 99 = .ok (.aload_n 0, 1) := dk_42 (dk_at dksX3_withT_4 6 rfl rfl)
theorem dX3_withT_100 : decode cX3_withT 100 = .ok (.ldc 201, 2) := dk_18 201 (dk_at dksX3_withT_4 7 rfl rfl)
theorem dX3_withT_102 : decode cX3_withT 102 = .ok (.invokevirtual 192, 3) := dk_182 0 192 (dk_at dksX3_withT_4 9 rfl rfl)
theorem dX3_withT_105 : decode cX3_withT 105 = .ok (.ifCond .eq 15, 3) := dk_153 0 15 (dk_at dksX3_withT_4 12 rfl rfl)
theorem dX3_withT_108 : decode cX3_withT 108 = .ok (.aload_n 0, 1) := dk_42 (dk_at dksX3_withT_4 15 rfl rfl)
theorem dX3_withT_109 : decode cX3_withT 109 = .ok (.iload_n 1, 1) := dk_27 (dk_at dksX3_withT_4 16 rfl rfl)
theorem dX3_withT_110 : decode cX3_withT 110 = .ok (.invokevirtual 198, 3) := dk_182 0 198 (dk_at dksX3_withT_4 17 rfl rfl)
theorem dX3_withT_113 : decode cX3_withT 113 = .ok (.ifCond .eq 7, 3) := dk_153 0 7 (dk_at dksX3_withT_4 20 rfl rfl)
theorem dX3_withT_116 : decode cX3_withT 116 = .ok (.iconst 1, 1) := dk_4 (dk_at dksX3_withT_4 23 rfl rfl)
theorem dX3_withT_117 : decode cX3_withT 117 = .ok (.goto 4, 3) := dk_167 0 4 (dk_at dksX3_withT_5 0 rfl rfl)
theorem dX3_withT_120 : decode cX3_withT 120 = .ok (.iconst 0, 1) := dk_3 (dk_at dksX3_withT_5 3 rfl rfl)
theorem dX3_withT_121 : decode cX3_withT 121 = .ok (.ireturn, 1) := dk_172 (dk_at dksX3_withT_5 4 rfl rfl)
abbrev cX3_throwHere : ByteArray := prog_11_method_71_code
def yX3_throwHere : MethodName := ⟨RX3, "throwHere", "(I)Z"⟩
def dkwX3_throwHere_3 : List UInt8 := [167, 0, 4, 3, 172]
abbrev dktX3_throwHere_3 : List UInt8 := dkwX3_throwHere_3 ++ []
def dkwX3_throwHere_2 : List UInt8 := [153, 0, 27, 42, 16, 42, 182, 0, 178, 153, 0, 18, 42, 27, 6, 96, 5, 182, 0, 184, 153, 0, 7, 4]
abbrev dktX3_throwHere_2 : List UInt8 := dkwX3_throwHere_2 ++ dktX3_throwHere_3
def dkwX3_throwHere_1 : List UInt8 := [182, 0, 184, 153, 0, 47, 42, 16, 64, 182, 0, 178, 153, 0, 38, 42, 27, 5, 96, 5, 182, 0, 184]
abbrev dktX3_throwHere_1 : List UInt8 := dkwX3_throwHere_1 ++ dktX3_throwHere_2
def dkwX3_throwHere_0 : List UInt8 := [42, 27, 4, 182, 0, 184, 153, 0, 67, 42, 16, 62, 182, 0, 178, 153, 0, 58, 42, 27, 4, 96, 4]
abbrev dktX3_throwHere_0 : List UInt8 := dkwX3_throwHere_0 ++ dktX3_throwHere_1
theorem dksX3_throwHere_0 : cX3_throwHere.data.toList.drop 0 = dktX3_throwHere_0 := by decide +kernel
theorem dksX3_throwHere_1 : cX3_throwHere.data.toList.drop 23 = dktX3_throwHere_1 := dk_seg dksX3_throwHere_0 23 rfl rfl
theorem dksX3_throwHere_2 : cX3_throwHere.data.toList.drop 46 = dktX3_throwHere_2 := dk_seg dksX3_throwHere_1 23 rfl rfl
theorem dksX3_throwHere_3 : cX3_throwHere.data.toList.drop 70 = dktX3_throwHere_3 := dk_seg dksX3_throwHere_2 24 rfl rfl
theorem dX3_throwHere_0 : decode cX3_throwHere 0 = .ok (.aload_n 0, 1) := dk_42 (dk_at dksX3_throwHere_0 0 rfl rfl)
theorem dX3_throwHere_1 : decode cX3_throwHere 1 = .ok (.iload_n 1, 1) := dk_27 (dk_at dksX3_throwHere_0 1 rfl rfl)
theorem dX3_throwHere_2 : decode cX3_throwHere 2 = .ok (.iconst 1, 1) := dk_4 (dk_at dksX3_throwHere_0 2 rfl rfl)
theorem dX3_throwHere_3 : decode cX3_throwHere 3 = .ok (.invokevirtual 184, 3) := dk_182 0 184 (dk_at dksX3_throwHere_0 3 rfl rfl)
theorem dX3_throwHere_6 : decode cX3_throwHere 6 = .ok (.ifCond .eq 67, 3) := dk_153 0 67 (dk_at dksX3_throwHere_0 6 rfl rfl)
theorem dX3_throwHere_9 : decode cX3_throwHere 9 = .ok (.aload_n 0, 1) := dk_42 (dk_at dksX3_throwHere_0 9 rfl rfl)
theorem dX3_throwHere_10 : decode cX3_throwHere 10 = .ok (.bipush 62, 2) := dk_16 62 (dk_at dksX3_throwHere_0 10 rfl rfl)
theorem dX3_throwHere_12 : decode cX3_throwHere 12 = .ok (.invokevirtual 178, 3) := dk_182 0 178 (dk_at dksX3_throwHere_0 12 rfl rfl)
theorem dX3_throwHere_15 : decode cX3_throwHere 15 = .ok (.ifCond .eq 58, 3) := dk_153 0 58 (dk_at dksX3_throwHere_0 15 rfl rfl)
theorem dX3_throwHere_18 : decode cX3_throwHere 18 = .ok (.aload_n 0, 1) := dk_42 (dk_at dksX3_throwHere_0 18 rfl rfl)
theorem dX3_throwHere_19 : decode cX3_throwHere 19 = .ok (.iload_n 1, 1) := dk_27 (dk_at dksX3_throwHere_0 19 rfl rfl)
theorem dX3_throwHere_20 : decode cX3_throwHere 20 = .ok (.iconst 1, 1) := dk_4 (dk_at dksX3_throwHere_0 20 rfl rfl)
theorem dX3_throwHere_21 : decode cX3_throwHere 21 = .ok (.iadd, 1) := dk_96 (dk_at dksX3_throwHere_0 21 rfl rfl)
theorem dX3_throwHere_22 : decode cX3_throwHere 22 = .ok (.iconst 1, 1) := dk_4 (dk_at dksX3_throwHere_0 22 rfl rfl)
theorem dX3_throwHere_23 : decode cX3_throwHere 23 = .ok (.invokevirtual 184, 3) := dk_182 0 184 (dk_at dksX3_throwHere_1 0 rfl rfl)
theorem dX3_throwHere_26 : decode cX3_throwHere 26 = .ok (.ifCond .eq 47, 3) := dk_153 0 47 (dk_at dksX3_throwHere_1 3 rfl rfl)
theorem dX3_throwHere_29 : decode cX3_throwHere 29 = .ok (.aload_n 0, 1) := dk_42 (dk_at dksX3_throwHere_1 6 rfl rfl)
theorem dX3_throwHere_30 : decode cX3_throwHere 30 = .ok (.bipush 64, 2) := dk_16 64 (dk_at dksX3_throwHere_1 7 rfl rfl)
theorem dX3_throwHere_32 : decode cX3_throwHere 32 = .ok (.invokevirtual 178, 3) := dk_182 0 178 (dk_at dksX3_throwHere_1 9 rfl rfl)
theorem dX3_throwHere_35 : decode cX3_throwHere 35 = .ok (.ifCond .eq 38, 3) := dk_153 0 38 (dk_at dksX3_throwHere_1 12 rfl rfl)
theorem dX3_throwHere_38 : decode cX3_throwHere 38 = .ok (.aload_n 0, 1) := dk_42 (dk_at dksX3_throwHere_1 15 rfl rfl)
theorem dX3_throwHere_39 : decode cX3_throwHere 39 = .ok (.iload_n 1, 1) := dk_27 (dk_at dksX3_throwHere_1 16 rfl rfl)
theorem dX3_throwHere_40 : decode cX3_throwHere 40 = .ok (.iconst 2, 1) := dk_5 (dk_at dksX3_throwHere_1 17 rfl rfl)
theorem dX3_throwHere_41 : decode cX3_throwHere 41 = .ok (.iadd, 1) := dk_96 (dk_at dksX3_throwHere_1 18 rfl rfl)
theorem dX3_throwHere_42 : decode cX3_throwHere 42 = .ok (.iconst 2, 1) := dk_5 (dk_at dksX3_throwHere_1 19 rfl rfl)
theorem dX3_throwHere_43 : decode cX3_throwHere 43 = .ok (.invokevirtual 184, 3) := dk_182 0 184 (dk_at dksX3_throwHere_1 20 rfl rfl)
theorem dX3_throwHere_46 : decode cX3_throwHere 46 = .ok (.ifCond .eq 27, 3) := dk_153 0 27 (dk_at dksX3_throwHere_2 0 rfl rfl)
theorem dX3_throwHere_49 : decode cX3_throwHere 49 = .ok (.aload_n 0, 1) := dk_42 (dk_at dksX3_throwHere_2 3 rfl rfl)
theorem dX3_throwHere_50 : decode cX3_throwHere 50 = .ok (.bipush 42, 2) := dk_16 42 (dk_at dksX3_throwHere_2 4 rfl rfl)
theorem dX3_throwHere_52 : decode cX3_throwHere 52 = .ok (.invokevirtual 178, 3) := dk_182 0 178 (dk_at dksX3_throwHere_2 6 rfl rfl)
theorem dX3_throwHere_55 : decode cX3_throwHere 55 = .ok (.ifCond .eq 18, 3) := dk_153 0 18 (dk_at dksX3_throwHere_2 9 rfl rfl)
theorem dX3_throwHere_58 : decode cX3_throwHere 58 = .ok (.aload_n 0, 1) := dk_42 (dk_at dksX3_throwHere_2 12 rfl rfl)
theorem dX3_throwHere_59 : decode cX3_throwHere 59 = .ok (.iload_n 1, 1) := dk_27 (dk_at dksX3_throwHere_2 13 rfl rfl)
theorem dX3_throwHere_60 : decode cX3_throwHere 60 = .ok (.iconst 3, 1) := dk_6 (dk_at dksX3_throwHere_2 14 rfl rfl)
theorem dX3_throwHere_61 : decode cX3_throwHere 61 = .ok (.iadd, 1) := dk_96 (dk_at dksX3_throwHere_2 15 rfl rfl)
theorem dX3_throwHere_62 : decode cX3_throwHere 62 = .ok (.iconst 2, 1) := dk_5 (dk_at dksX3_throwHere_2 16 rfl rfl)
theorem dX3_throwHere_63 : decode cX3_throwHere 63 = .ok (.invokevirtual 184, 3) := dk_182 0 184 (dk_at dksX3_throwHere_2 17 rfl rfl)
theorem dX3_throwHere_66 : decode cX3_throwHere 66 = .ok (.ifCond .eq 7, 3) := dk_153 0 7 (dk_at dksX3_throwHere_2 20 rfl rfl)
theorem dX3_throwHere_69 : decode cX3_throwHere 69 = .ok (.iconst 1, 1) := dk_4 (dk_at dksX3_throwHere_2 23 rfl rfl)
theorem dX3_throwHere_70 : decode cX3_throwHere 70 = .ok (.goto 4, 3) := dk_167 0 4 (dk_at dksX3_throwHere_3 0 rfl rfl)
theorem dX3_throwHere_73 : decode cX3_throwHere 73 = .ok (.iconst 0, 1) := dk_3 (dk_at dksX3_throwHere_3 3 rfl rfl)
theorem dX3_throwHere_74 : decode cX3_throwHere 74 = .ok (.ireturn, 1) := dk_172 (dk_at dksX3_throwHere_3 4 rfl rfl)
abbrev cX3_withF : ByteArray := prog_11_method_73_code
def yX3_withF : MethodName := ⟨RX3, "withF", "(I)Z"⟩
def dkwX3_withF_4 : List UInt8 := [153, 0, 7, 4, 167, 0, 4, 3, 172]
abbrev dktX3_withF_4 : List UInt8 := dkwX3_withF_4 ++ []
def dkwX3_withF_3 : List UInt8 := [16, 7, 182, 0, 187, 153, 0, 25, 42, 18, 205, 182, 0, 192, 153, 0, 16, 42, 27, 4, 182, 0, 184]
abbrev dktX3_withF_3 : List UInt8 := dkwX3_withF_3 ++ dktX3_withF_4
def dkwX3_withF_2 : List UInt8 := [96, 5, 182, 0, 184, 153, 0, 7, 4, 167, 0, 4, 3, 172, 42, 16, 101, 182, 0, 178, 153, 0, 34, 42]
abbrev dktX3_withF_2 : List UInt8 := dkwX3_withF_2 ++ dktX3_withF_3
def dkwX3_withF_1 : List UInt8 := [153, 0, 36, 42, 27, 4, 182, 0, 184, 153, 0, 27, 42, 16, 43, 182, 0, 178, 153, 0, 18, 42, 27, 4]
abbrev dktX3_withF_1 : List UInt8 := dkwX3_withF_1 ++ dktX3_withF_2
def dkwX3_withF_0 : List UInt8 := [42, 16, 114, 182, 0, 178, 153, 0, 55, 42, 6, 182, 0, 187, 153, 0, 45, 42, 18, 203, 182, 0, 192]
abbrev dktX3_withF_0 : List UInt8 := dkwX3_withF_0 ++ dktX3_withF_1
theorem dksX3_withF_0 : cX3_withF.data.toList.drop 0 = dktX3_withF_0 := by decide +kernel
theorem dksX3_withF_1 : cX3_withF.data.toList.drop 23 = dktX3_withF_1 := dk_seg dksX3_withF_0 23 rfl rfl
theorem dksX3_withF_2 : cX3_withF.data.toList.drop 47 = dktX3_withF_2 := dk_seg dksX3_withF_1 24 rfl rfl
theorem dksX3_withF_3 : cX3_withF.data.toList.drop 71 = dktX3_withF_3 := dk_seg dksX3_withF_2 24 rfl rfl
theorem dksX3_withF_4 : cX3_withF.data.toList.drop 94 = dktX3_withF_4 := dk_seg dksX3_withF_3 23 rfl rfl
theorem dX3_withF_0 : decode cX3_withF 0 = .ok (.aload_n 0, 1) := dk_42 (dk_at dksX3_withF_0 0 rfl rfl)
theorem dX3_withF_1 : decode cX3_withF 1 = .ok (.bipush 114, 2) := dk_16 114 (dk_at dksX3_withF_0 1 rfl rfl)
theorem dX3_withF_3 : decode cX3_withF 3 = .ok (.invokevirtual 178, 3) := dk_182 0 178 (dk_at dksX3_withF_0 3 rfl rfl)
theorem dX3_withF_6 : decode cX3_withF 6 = .ok (.ifCond .eq 55, 3) := dk_153 0 55 (dk_at dksX3_withF_0 6 rfl rfl)
theorem dX3_withF_9 : decode cX3_withF 9 = .ok (.aload_n 0, 1) := dk_42 (dk_at dksX3_withF_0 9 rfl rfl)
theorem dX3_withF_10 : decode cX3_withF 10 = .ok (.iconst 3, 1) := dk_6 (dk_at dksX3_withF_0 10 rfl rfl)
theorem dX3_withF_11 : decode cX3_withF 11 = .ok (.invokevirtual 187, 3) := dk_182 0 187 (dk_at dksX3_withF_0 11 rfl rfl)
theorem dX3_withF_14 : decode cX3_withF 14 = .ok (.ifCond .eq 45, 3) := dk_153 0 45 (dk_at dksX3_withF_0 14 rfl rfl)
theorem dX3_withF_17 : decode cX3_withF 17 = .ok (.aload_n 0, 1) := dk_42 (dk_at dksX3_withF_0 17 rfl rfl)
theorem dX3_withF_18 : decode cX3_withF 18 = .ok (.ldc 203, 2) := dk_18 203 (dk_at dksX3_withF_0 18 rfl rfl)
theorem dX3_withF_20 : decode cX3_withF 20 = .ok (.invokevirtual 192, 3) := dk_182 0 192 (dk_at dksX3_withF_0 20 rfl rfl)
theorem dX3_withF_23 : decode cX3_withF 23 = .ok (.ifCond .eq 36, 3) := dk_153 0 36 (dk_at dksX3_withF_1 0 rfl rfl)
theorem dX3_withF_26 : decode cX3_withF 26 = .ok (.aload_n 0, 1) := dk_42 (dk_at dksX3_withF_1 3 rfl rfl)
theorem dX3_withF_27 : decode cX3_withF 27 = .ok (.iload_n 1, 1) := dk_27 (dk_at dksX3_withF_1 4 rfl rfl)
theorem dX3_withF_28 : decode cX3_withF 28 = .ok (.iconst 1, 1) := dk_4 (dk_at dksX3_withF_1 5 rfl rfl)
theorem dX3_withF_29 : decode cX3_withF 29 = .ok (.invokevirtual 184, 3) := dk_182 0 184 (dk_at dksX3_withF_1 6 rfl rfl)
theorem dX3_withF_32 : decode cX3_withF 32 = .ok (.ifCond .eq 27, 3) := dk_153 0 27 (dk_at dksX3_withF_1 9 rfl rfl)
theorem dX3_withF_35 : decode cX3_withF 35 = .ok (.aload_n 0, 1) := dk_42 (dk_at dksX3_withF_1 12 rfl rfl)
theorem dX3_withF_36 : decode cX3_withF 36 = .ok (.bipush 43, 2) := dk_16 43 (dk_at dksX3_withF_1 13 rfl rfl)
theorem dX3_withF_38 : decode cX3_withF 38 = .ok (.invokevirtual 178, 3) := dk_182 0 178 (dk_at dksX3_withF_1 15 rfl rfl)
theorem dX3_withF_41 : decode cX3_withF 41 = .ok (.ifCond .eq 18, 3) := dk_153 0 18 (dk_at dksX3_withF_1 18 rfl rfl)
theorem dX3_withF_44 : decode cX3_withF 44 = .ok (.aload_n 0, 1) := dk_42 (dk_at dksX3_withF_1 21 rfl rfl)
theorem dX3_withF_45 : decode cX3_withF 45 = .ok (.iload_n 1, 1) := dk_27 (dk_at dksX3_withF_1 22 rfl rfl)
theorem dX3_withF_46 : decode cX3_withF 46 = .ok (.iconst 1, 1) := dk_4 (dk_at dksX3_withF_1 23 rfl rfl)
theorem dX3_withF_47 : decode cX3_withF 47 = .ok (.iadd, 1) := dk_96 (dk_at dksX3_withF_2 0 rfl rfl)
theorem dX3_withF_48 : decode cX3_withF 48 = .ok (.iconst 2, 1) := dk_5 (dk_at dksX3_withF_2 1 rfl rfl)
theorem dX3_withF_49 : decode cX3_withF 49 = .ok (.invokevirtual 184, 3) := dk_182 0 184 (dk_at dksX3_withF_2 2 rfl rfl)
theorem dX3_withF_52 : decode cX3_withF 52 = .ok (.ifCond .eq 7, 3) := dk_153 0 7 (dk_at dksX3_withF_2 5 rfl rfl)
theorem dX3_withF_55 : decode cX3_withF 55 = .ok (.iconst 1, 1) := dk_4 (dk_at dksX3_withF_2 8 rfl rfl)
theorem dX3_withF_56 : decode cX3_withF 56 = .ok (.goto 4, 3) := dk_167 0 4 (dk_at dksX3_withF_2 9 rfl rfl)
theorem dX3_withF_59 : decode cX3_withF 59 = .ok (.iconst 0, 1) := dk_3 (dk_at dksX3_withF_2 12 rfl rfl)
theorem dX3_withF_60 : decode cX3_withF 60 = .ok (.ireturn, 1) := dk_172 (dk_at dksX3_withF_2 13 rfl rfl)
theorem dX3_withF_61 : decode cX3_withF 61 = .ok (.aload_n 0, 1) := dk_42 (dk_at dksX3_withF_2 14 rfl rfl)
theorem dX3_withF_62 : decode cX3_withF 62 = .ok (.bipush 101, 2) := dk_16 101 (dk_at dksX3_withF_2 15 rfl rfl)
theorem dX3_withF_64 : decode cX3_withF 64 = .ok (.invokevirtual 178, 3) := dk_182 0 178 (dk_at dksX3_withF_2 17 rfl rfl)
theorem dX3_withF_67 : decode cX3_withF 67 = .ok (.ifCond .eq 34, 3) := dk_153 0 34 (dk_at dksX3_withF_2 20 rfl rfl)
theorem dX3_withF_70 : decode cX3_withF 70 = .ok (.aload_n 0, 1) := dk_42 (dk_at dksX3_withF_2 23 rfl rfl)
theorem dX3_withF_71 : decode cX3_withF 71 = .ok (.bipush 7, 2) := dk_16 7 (dk_at dksX3_withF_3 0 rfl rfl)
theorem dX3_withF_73 : decode cX3_withF 73 = .ok (.invokevirtual 187, 3) := dk_182 0 187 (dk_at dksX3_withF_3 2 rfl rfl)
theorem dX3_withF_76 : decode cX3_withF 76 = .ok (.ifCond .eq 25, 3) := dk_153 0 25 (dk_at dksX3_withF_3 5 rfl rfl)
theorem dX3_withF_79 : decode cX3_withF 79 = .ok (.aload_n 0, 1) := dk_42 (dk_at dksX3_withF_3 8 rfl rfl)
theorem dX3_withF_80 : decode cX3_withF 80 = .ok (.ldc 205, 2) := dk_18 205 (dk_at dksX3_withF_3 9 rfl rfl)
theorem dX3_withF_82 : decode cX3_withF 82 = .ok (.invokevirtual 192, 3) := dk_182 0 192 (dk_at dksX3_withF_3 11 rfl rfl)
theorem dX3_withF_85 : decode cX3_withF 85 = .ok (.ifCond .eq 16, 3) := dk_153 0 16 (dk_at dksX3_withF_3 14 rfl rfl)
theorem dX3_withF_88 : decode cX3_withF 88 = .ok (.aload_n 0, 1) := dk_42 (dk_at dksX3_withF_3 17 rfl rfl)
theorem dX3_withF_89 : decode cX3_withF 89 = .ok (.iload_n 1, 1) := dk_27 (dk_at dksX3_withF_3 18 rfl rfl)
theorem dX3_withF_90 : decode cX3_withF 90 = .ok (.iconst 1, 1) := dk_4 (dk_at dksX3_withF_3 19 rfl rfl)
theorem dX3_withF_91 : decode cX3_withF 91 = .ok (.invokevirtual 184, 3) := dk_182 0 184 (dk_at dksX3_withF_3 20 rfl rfl)
theorem dX3_withF_94 : decode cX3_withF 94 = .ok (.ifCond .eq 7, 3) := dk_153 0 7 (dk_at dksX3_withF_4 0 rfl rfl)
theorem dX3_withF_97 : decode cX3_withF 97 = .ok (.iconst 1, 1) := dk_4 (dk_at dksX3_withF_4 3 rfl rfl)
theorem dX3_withF_98 : decode cX3_withF 98 = .ok (.goto 4, 3) := dk_167 0 4 (dk_at dksX3_withF_4 4 rfl rfl)
theorem dX3_withF_101 : decode cX3_withF 101 = .ok (.iconst 0, 1) := dk_3 (dk_at dksX3_withF_4 7 rfl rfl)
theorem dX3_withF_102 : decode cX3_withF 102 = .ok (.ireturn, 1) := dk_172 (dk_at dksX3_withF_4 8 rfl rfl)
abbrev cX3_carries : ByteArray := prog_11_method_76_code
def yX3_carries : MethodName := ⟨RX3, "carries", "(I)I"⟩
def dkwX3_carries_6 : List UInt8 := [172, 42, 28, 29, 182, 0, 251, 172, 42, 182, 0, 254, 172]
abbrev dktX3_carries_6 : List UInt8 := dkwX3_carries_6 ++ []
def dkwX3_carries_5 : List UInt8 := [180, 0, 36, 27, 6, 96, 46, 42, 180, 0, 36, 27, 7, 96, 46, 182, 0, 245, 172, 42, 28, 182, 0, 248]
abbrev dktX3_carries_5 : List UInt8 := dkwX3_carries_5 ++ dktX3_carries_6
def dkwX3_carries_4 : List UInt8 := [180, 0, 36, 27, 6, 96, 46, 42, 180, 0, 36, 27, 7, 96, 46, 182, 0, 242, 172, 42, 28, 29, 42]
abbrev dktX3_carries_4 : List UInt8 := dkwX3_carries_4 ++ dktX3_carries_5
def dkwX3_carries_3 : List UInt8 := [46, 182, 0, 233, 172, 42, 28, 29, 182, 0, 236, 172, 42, 28, 182, 0, 239, 172, 42, 28, 29, 42]
abbrev dktX3_carries_3 : List UInt8 := dkwX3_carries_3 ++ dktX3_carries_4
def dkwX3_carries_2 : List UInt8 := [42, 28, 29, 182, 0, 227, 172, 42, 28, 29, 182, 0, 230, 172, 42, 28, 29, 42, 180, 0, 36, 27, 6, 96]
abbrev dktX3_carries_2 : List UInt8 := dkwX3_carries_2 ++ dktX3_carries_3
def dkwX3_carries_1 : List UInt8 := [170, 0, 0, 0, 0, 0, 0, 153, 0, 0, 0, 0, 0, 0, 0, 8, 0, 0, 0, 52, 0, 0, 0, 59, 0, 0, 0, 66, 0, 0, 0, 81, 0, 0, 0, 88, 0, 0, 0, 94, 0, 0, 0, 117, 0, 0, 0, 140, 0, 0, 0, 146]
abbrev dktX3_carries_1 : List UInt8 := dkwX3_carries_1 ++ dktX3_carries_2
def dkwX3_carries_0 : List UInt8 := [42, 180, 0, 36, 27, 4, 96, 46, 61, 42, 180, 0, 36, 27, 5, 96, 46, 62, 42, 180, 0, 36, 27, 46]
abbrev dktX3_carries_0 : List UInt8 := dkwX3_carries_0 ++ dktX3_carries_1
theorem dksX3_carries_0 : cX3_carries.data.toList.drop 0 = dktX3_carries_0 := by decide +kernel
theorem dksX3_carries_1 : cX3_carries.data.toList.drop 24 = dktX3_carries_1 := dk_seg dksX3_carries_0 24 rfl rfl
theorem dksX3_carries_2 : cX3_carries.data.toList.drop 76 = dktX3_carries_2 := dk_seg dksX3_carries_1 52 rfl rfl
theorem dksX3_carries_3 : cX3_carries.data.toList.drop 100 = dktX3_carries_3 := dk_seg dksX3_carries_2 24 rfl rfl
theorem dksX3_carries_4 : cX3_carries.data.toList.drop 122 = dktX3_carries_4 := dk_seg dksX3_carries_3 22 rfl rfl
theorem dksX3_carries_5 : cX3_carries.data.toList.drop 145 = dktX3_carries_5 := dk_seg dksX3_carries_4 23 rfl rfl
theorem dksX3_carries_6 : cX3_carries.data.toList.drop 169 = dktX3_carries_6 := dk_seg dksX3_carries_5 24 rfl rfl
theorem dX3_carries_0 : decode cX3_carries 0 = .ok (.aload_n 0, 1) := dk_42 (dk_at dksX3_carries_0 0 rfl rfl)
theorem dX3_carries_1 : decode cX3_carries 1 = .ok (.getfield 36, 3) := dk_180 0 36 (dk_at dksX3_carries_0 1 rfl rfl)
theorem dX3_carries_4 : decode cX3_carries 4 = .ok (.iload_n 1, 1) := dk_27 (dk_at dksX3_carries_0 4 rfl rfl)
theorem dX3_carries_5 : decode cX3_carries 5 = .ok (.iconst 1, 1) := dk_4 (dk_at dksX3_carries_0 5 rfl rfl)
theorem dX3_carries_6 : decode cX3_carries 6 = .ok (.iadd, 1) := dk_96 (dk_at dksX3_carries_0 6 rfl rfl)
theorem dX3_carries_7 : decode cX3_carries 7 = .ok (.iaload, 1) := dk_46 (dk_at dksX3_carries_0 7 rfl rfl)
theorem dX3_carries_8 : decode cX3_carries 8 = .ok (.istore_n 2, 1) := dk_61 (dk_at dksX3_carries_0 8 rfl rfl)
theorem dX3_carries_9 : decode cX3_carries 9 = .ok (.aload_n 0, 1) := dk_42 (dk_at dksX3_carries_0 9 rfl rfl)
theorem dX3_carries_10 : decode cX3_carries 10 = .ok (.getfield 36, 3) := dk_180 0 36 (dk_at dksX3_carries_0 10 rfl rfl)
theorem dX3_carries_13 : decode cX3_carries 13 = .ok (.iload_n 1, 1) := dk_27 (dk_at dksX3_carries_0 13 rfl rfl)
theorem dX3_carries_14 : decode cX3_carries 14 = .ok (.iconst 2, 1) := dk_5 (dk_at dksX3_carries_0 14 rfl rfl)
theorem dX3_carries_15 : decode cX3_carries 15 = .ok (.iadd, 1) := dk_96 (dk_at dksX3_carries_0 15 rfl rfl)
theorem dX3_carries_16 : decode cX3_carries 16 = .ok (.iaload, 1) := dk_46 (dk_at dksX3_carries_0 16 rfl rfl)
theorem dX3_carries_17 : decode cX3_carries 17 = .ok (.istore_n 3, 1) := dk_62 (dk_at dksX3_carries_0 17 rfl rfl)
theorem dX3_carries_18 : decode cX3_carries 18 = .ok (.aload_n 0, 1) := dk_42 (dk_at dksX3_carries_0 18 rfl rfl)
theorem dX3_carries_19 : decode cX3_carries 19 = .ok (.getfield 36, 3) := dk_180 0 36 (dk_at dksX3_carries_0 19 rfl rfl)
theorem dX3_carries_22 : decode cX3_carries 22 = .ok (.iload_n 1, 1) := dk_27 (dk_at dksX3_carries_0 22 rfl rfl)
theorem dX3_carries_23 : decode cX3_carries 23 = .ok (.iaload, 1) := dk_46 (dk_at dksX3_carries_0 23 rfl rfl)
theorem dX3_carries_24 : decode cX3_carries 24 = .ok (.tableswitch 153 0 8 #[52, 59, 66, 81, 88, 94, 117, 140, 146], 52) := by decide +kernel
theorem dX3_carries_76 : decode cX3_carries 76 = .ok (.aload_n 0, 1) := dk_42 (dk_at dksX3_carries_2 0 rfl rfl)
theorem dX3_carries_77 : decode cX3_carries 77 = .ok (.iload_n 2, 1) := dk_28 (dk_at dksX3_carries_2 1 rfl rfl)
theorem dX3_carries_78 : decode cX3_carries 78 = .ok (.iload_n 3, 1) := dk_29 (dk_at dksX3_carries_2 2 rfl rfl)
theorem dX3_carries_79 : decode cX3_carries 79 = .ok (.invokevirtual 227, 3) := dk_182 0 227 (dk_at dksX3_carries_2 3 rfl rfl)
theorem dX3_carries_82 : decode cX3_carries 82 = .ok (.ireturn, 1) := dk_172 (dk_at dksX3_carries_2 6 rfl rfl)
theorem dX3_carries_83 : decode cX3_carries 83 = .ok (.aload_n 0, 1) := dk_42 (dk_at dksX3_carries_2 7 rfl rfl)
theorem dX3_carries_84 : decode cX3_carries 84 = .ok (.iload_n 2, 1) := dk_28 (dk_at dksX3_carries_2 8 rfl rfl)
theorem dX3_carries_85 : decode cX3_carries 85 = .ok (.iload_n 3, 1) := dk_29 (dk_at dksX3_carries_2 9 rfl rfl)
theorem dX3_carries_86 : decode cX3_carries 86 = .ok (.invokevirtual 230, 3) := dk_182 0 230 (dk_at dksX3_carries_2 10 rfl rfl)
theorem dX3_carries_89 : decode cX3_carries 89 = .ok (.ireturn, 1) := dk_172 (dk_at dksX3_carries_2 13 rfl rfl)
theorem dX3_carries_90 : decode cX3_carries 90 = .ok (.aload_n 0, 1) := dk_42 (dk_at dksX3_carries_2 14 rfl rfl)
theorem dX3_carries_91 : decode cX3_carries 91 = .ok (.iload_n 2, 1) := dk_28 (dk_at dksX3_carries_2 15 rfl rfl)
theorem dX3_carries_92 : decode cX3_carries 92 = .ok (.iload_n 3, 1) := dk_29 (dk_at dksX3_carries_2 16 rfl rfl)
theorem dX3_carries_93 : decode cX3_carries 93 = .ok (.aload_n 0, 1) := dk_42 (dk_at dksX3_carries_2 17 rfl rfl)
theorem dX3_carries_94 : decode cX3_carries 94 = .ok (.getfield 36, 3) := dk_180 0 36 (dk_at dksX3_carries_2 18 rfl rfl)
theorem dX3_carries_97 : decode cX3_carries 97 = .ok (.iload_n 1, 1) := dk_27 (dk_at dksX3_carries_2 21 rfl rfl)
theorem dX3_carries_98 : decode cX3_carries 98 = .ok (.iconst 3, 1) := dk_6 (dk_at dksX3_carries_2 22 rfl rfl)
theorem dX3_carries_99 : decode cX3_carries 99 = .ok (.iadd, 1) := dk_96 (dk_at dksX3_carries_2 23 rfl rfl)
theorem dX3_carries_100 : decode cX3_carries 100 = .ok (.iaload, 1) := dk_46 (dk_at dksX3_carries_3 0 rfl rfl)
theorem dX3_carries_101 : decode cX3_carries 101 = .ok (.invokevirtual 233, 3) := dk_182 0 233 (dk_at dksX3_carries_3 1 rfl rfl)
theorem dX3_carries_104 : decode cX3_carries 104 = .ok (.ireturn, 1) := dk_172 (dk_at dksX3_carries_3 4 rfl rfl)
theorem dX3_carries_105 : decode cX3_carries 105 = .ok (.aload_n 0, 1) := dk_42 (dk_at dksX3_carries_3 5 rfl rfl)
theorem dX3_carries_106 : decode cX3_carries 106 = .ok (.iload_n 2, 1) := dk_28 (dk_at dksX3_carries_3 6 rfl rfl)
theorem dX3_carries_107 : decode cX3_carries 107 = .ok (.iload_n 3, 1) := dk_29 (dk_at dksX3_carries_3 7 rfl rfl)
theorem dX3_carries_108 : decode cX3_carries 108 = .ok (.invokevirtual 236, 3) := dk_182 0 236 (dk_at dksX3_carries_3 8 rfl rfl)
theorem dX3_carries_111 : decode cX3_carries 111 = .ok (.ireturn, 1) := dk_172 (dk_at dksX3_carries_3 11 rfl rfl)
theorem dX3_carries_112 : decode cX3_carries 112 = .ok (.aload_n 0, 1) := dk_42 (dk_at dksX3_carries_3 12 rfl rfl)
theorem dX3_carries_113 : decode cX3_carries 113 = .ok (.iload_n 2, 1) := dk_28 (dk_at dksX3_carries_3 13 rfl rfl)
theorem dX3_carries_114 : decode cX3_carries 114 = .ok (.invokevirtual 239, 3) := dk_182 0 239 (dk_at dksX3_carries_3 14 rfl rfl)
theorem dX3_carries_117 : decode cX3_carries 117 = .ok (.ireturn, 1) := dk_172 (dk_at dksX3_carries_3 17 rfl rfl)
theorem dX3_carries_118 : decode cX3_carries 118 = .ok (.aload_n 0, 1) := dk_42 (dk_at dksX3_carries_3 18 rfl rfl)
theorem dX3_carries_119 : decode cX3_carries 119 = .ok (.iload_n 2, 1) := dk_28 (dk_at dksX3_carries_3 19 rfl rfl)
theorem dX3_carries_120 : decode cX3_carries 120 = .ok (.iload_n 3, 1) := dk_29 (dk_at dksX3_carries_3 20 rfl rfl)
theorem dX3_carries_121 : decode cX3_carries 121 = .ok (.aload_n 0, 1) := dk_42 (dk_at dksX3_carries_3 21 rfl rfl)
theorem dX3_carries_122 : decode cX3_carries 122 = .ok (.getfield 36, 3) := dk_180 0 36 (dk_at dksX3_carries_4 0 rfl rfl)
theorem dX3_carries_125 : decode cX3_carries 125 = .ok (.iload_n 1, 1) := dk_27 (dk_at dksX3_carries_4 3 rfl rfl)
theorem dX3_carries_126 : decode cX3_carries 126 = .ok (.iconst 3, 1) := dk_6 (dk_at dksX3_carries_4 4 rfl rfl)
theorem dX3_carries_127 : decode cX3_carries 127 = .ok (.iadd, 1) := dk_96 (dk_at dksX3_carries_4 5 rfl rfl)
theorem dX3_carries_128 : decode cX3_carries 128 = .ok (.iaload, 1) := dk_46 (dk_at dksX3_carries_4 6 rfl rfl)
theorem dX3_carries_129 : decode cX3_carries 129 = .ok (.aload_n 0, 1) := dk_42 (dk_at dksX3_carries_4 7 rfl rfl)
theorem dX3_carries_130 : decode cX3_carries 130 = .ok (.getfield 36, 3) := dk_180 0 36 (dk_at dksX3_carries_4 8 rfl rfl)
theorem dX3_carries_133 : decode cX3_carries 133 = .ok (.iload_n 1, 1) := dk_27 (dk_at dksX3_carries_4 11 rfl rfl)
theorem dX3_carries_134 : decode cX3_carries 134 = .ok (.iconst 4, 1) := dk_7 (dk_at dksX3_carries_4 12 rfl rfl)
theorem dX3_carries_135 : decode cX3_carries 135 = .ok (.iadd, 1) := dk_96 (dk_at dksX3_carries_4 13 rfl rfl)
theorem dX3_carries_136 : decode cX3_carries 136 = .ok (.iaload, 1) := dk_46 (dk_at dksX3_carries_4 14 rfl rfl)
theorem dX3_carries_137 : decode cX3_carries 137 = .ok (.invokevirtual 242, 3) := dk_182 0 242 (dk_at dksX3_carries_4 15 rfl rfl)
theorem dX3_carries_140 : decode cX3_carries 140 = .ok (.ireturn, 1) := dk_172 (dk_at dksX3_carries_4 18 rfl rfl)
theorem dX3_carries_141 : decode cX3_carries 141 = .ok (.aload_n 0, 1) := dk_42 (dk_at dksX3_carries_4 19 rfl rfl)
theorem dX3_carries_142 : decode cX3_carries 142 = .ok (.iload_n 2, 1) := dk_28 (dk_at dksX3_carries_4 20 rfl rfl)
theorem dX3_carries_143 : decode cX3_carries 143 = .ok (.iload_n 3, 1) := dk_29 (dk_at dksX3_carries_4 21 rfl rfl)
theorem dX3_carries_144 : decode cX3_carries 144 = .ok (.aload_n 0, 1) := dk_42 (dk_at dksX3_carries_4 22 rfl rfl)
theorem dX3_carries_145 : decode cX3_carries 145 = .ok (.getfield 36, 3) := dk_180 0 36 (dk_at dksX3_carries_5 0 rfl rfl)
theorem dX3_carries_148 : decode cX3_carries 148 = .ok (.iload_n 1, 1) := dk_27 (dk_at dksX3_carries_5 3 rfl rfl)
theorem dX3_carries_149 : decode cX3_carries 149 = .ok (.iconst 3, 1) := dk_6 (dk_at dksX3_carries_5 4 rfl rfl)
theorem dX3_carries_150 : decode cX3_carries 150 = .ok (.iadd, 1) := dk_96 (dk_at dksX3_carries_5 5 rfl rfl)
theorem dX3_carries_151 : decode cX3_carries 151 = .ok (.iaload, 1) := dk_46 (dk_at dksX3_carries_5 6 rfl rfl)
theorem dX3_carries_152 : decode cX3_carries 152 = .ok (.aload_n 0, 1) := dk_42 (dk_at dksX3_carries_5 7 rfl rfl)
theorem dX3_carries_153 : decode cX3_carries 153 = .ok (.getfield 36, 3) := dk_180 0 36 (dk_at dksX3_carries_5 8 rfl rfl)
theorem dX3_carries_156 : decode cX3_carries 156 = .ok (.iload_n 1, 1) := dk_27 (dk_at dksX3_carries_5 11 rfl rfl)
theorem dX3_carries_157 : decode cX3_carries 157 = .ok (.iconst 4, 1) := dk_7 (dk_at dksX3_carries_5 12 rfl rfl)
theorem dX3_carries_158 : decode cX3_carries 158 = .ok (.iadd, 1) := dk_96 (dk_at dksX3_carries_5 13 rfl rfl)
theorem dX3_carries_159 : decode cX3_carries 159 = .ok (.iaload, 1) := dk_46 (dk_at dksX3_carries_5 14 rfl rfl)
theorem dX3_carries_160 : decode cX3_carries 160 = .ok (.invokevirtual 245, 3) := dk_182 0 245 (dk_at dksX3_carries_5 15 rfl rfl)
theorem dX3_carries_163 : decode cX3_carries 163 = .ok (.ireturn, 1) := dk_172 (dk_at dksX3_carries_5 18 rfl rfl)
theorem dX3_carries_164 : decode cX3_carries 164 = .ok (.aload_n 0, 1) := dk_42 (dk_at dksX3_carries_5 19 rfl rfl)
theorem dX3_carries_165 : decode cX3_carries 165 = .ok (.iload_n 2, 1) := dk_28 (dk_at dksX3_carries_5 20 rfl rfl)
theorem dX3_carries_166 : decode cX3_carries 166 = .ok (.invokevirtual 248, 3) := dk_182 0 248 (dk_at dksX3_carries_5 21 rfl rfl)
theorem dX3_carries_169 : decode cX3_carries 169 = .ok (.ireturn, 1) := dk_172 (dk_at dksX3_carries_6 0 rfl rfl)
theorem dX3_carries_170 : decode cX3_carries 170 = .ok (.aload_n 0, 1) := dk_42 (dk_at dksX3_carries_6 1 rfl rfl)
theorem dX3_carries_171 : decode cX3_carries 171 = .ok (.iload_n 2, 1) := dk_28 (dk_at dksX3_carries_6 2 rfl rfl)
theorem dX3_carries_172 : decode cX3_carries 172 = .ok (.iload_n 3, 1) := dk_29 (dk_at dksX3_carries_6 3 rfl rfl)
theorem dX3_carries_173 : decode cX3_carries 173 = .ok (.invokevirtual 251, 3) := dk_182 0 251 (dk_at dksX3_carries_6 4 rfl rfl)
theorem dX3_carries_176 : decode cX3_carries 176 = .ok (.ireturn, 1) := dk_172 (dk_at dksX3_carries_6 7 rfl rfl)
theorem dX3_carries_177 : decode cX3_carries 177 = .ok (.aload_n 0, 1) := dk_42 (dk_at dksX3_carries_6 8 rfl rfl)
theorem dX3_carries_178 : decode cX3_carries 178 = .ok (.invokevirtual 254, 3) := dk_182 0 254 (dk_at dksX3_carries_6 9 rfl rfl)
theorem dX3_carries_181 : decode cX3_carries 181 = .ok (.ireturn, 1) := dk_172 (dk_at dksX3_carries_6 12 rfl rfl)
abbrev cX3_errorPosition : ByteArray := prog_11_method_78_code
def yX3_errorPosition : MethodName := ⟨RX3, "errorPosition", "()I"⟩
def dkwX3_errorPosition_1 : List UInt8 := [180, 0, 25, 172]
abbrev dktX3_errorPosition_1 : List UInt8 := dkwX3_errorPosition_1 ++ []
def dkwX3_errorPosition_0 : List UInt8 := [42, 42, 180, 0, 25, 156, 0, 7, 4, 167, 0, 4, 3, 182, 0, 70, 153, 0, 7, 3, 167, 0, 7, 42]
abbrev dktX3_errorPosition_0 : List UInt8 := dkwX3_errorPosition_0 ++ dktX3_errorPosition_1
theorem dksX3_errorPosition_0 : cX3_errorPosition.data.toList.drop 0 = dktX3_errorPosition_0 := by decide +kernel
theorem dksX3_errorPosition_1 : cX3_errorPosition.data.toList.drop 24 = dktX3_errorPosition_1 := dk_seg dksX3_errorPosition_0 24 rfl rfl
theorem dX3_errorPosition_0 : decode cX3_errorPosition 0 = .ok (.aload_n 0, 1) := dk_42 (dk_at dksX3_errorPosition_0 0 rfl rfl)
theorem dX3_errorPosition_1 : decode cX3_errorPosition 1 = .ok (.aload_n 0, 1) := dk_42 (dk_at dksX3_errorPosition_0 1 rfl rfl)
theorem dX3_errorPosition_2 : decode cX3_errorPosition 2 = .ok (.getfield 25, 3) := dk_180 0 25 (dk_at dksX3_errorPosition_0 2 rfl rfl)
theorem dX3_errorPosition_5 : decode cX3_errorPosition 5 = .ok (.ifCond .ge 7, 3) := dk_156 0 7 (dk_at dksX3_errorPosition_0 5 rfl rfl)
theorem dX3_errorPosition_8 : decode cX3_errorPosition 8 = .ok (.iconst 1, 1) := dk_4 (dk_at dksX3_errorPosition_0 8 rfl rfl)
theorem dX3_errorPosition_9 : decode cX3_errorPosition 9 = .ok (.goto 4, 3) := dk_167 0 4 (dk_at dksX3_errorPosition_0 9 rfl rfl)
theorem dX3_errorPosition_12 : decode cX3_errorPosition 12 = .ok (.iconst 0, 1) := dk_3 (dk_at dksX3_errorPosition_0 12 rfl rfl)
theorem dX3_errorPosition_13 : decode cX3_errorPosition 13 = .ok (.invokevirtual 70, 3) := dk_182 0 70 (dk_at dksX3_errorPosition_0 13 rfl rfl)
theorem dX3_errorPosition_16 : decode cX3_errorPosition 16 = .ok (.ifCond .eq 7, 3) := dk_153 0 7 (dk_at dksX3_errorPosition_0 16 rfl rfl)
theorem dX3_errorPosition_19 : decode cX3_errorPosition 19 = .ok (.iconst 0, 1) := dk_3 (dk_at dksX3_errorPosition_0 19 rfl rfl)
theorem dX3_errorPosition_20 : decode cX3_errorPosition 20 = .ok (.goto 7, 3) := dk_167 0 7 (dk_at dksX3_errorPosition_0 20 rfl rfl)
theorem dX3_errorPosition_23 : decode cX3_errorPosition 23 = .ok (.aload_n 0, 1) := dk_42 (dk_at dksX3_errorPosition_0 23 rfl rfl)
theorem dX3_errorPosition_24 : decode cX3_errorPosition 24 = .ok (.getfield 25, 3) := dk_180 0 25 (dk_at dksX3_errorPosition_1 0 rfl rfl)
theorem dX3_errorPosition_27 : decode cX3_errorPosition 27 = .ok (.ireturn, 1) := dk_172 (dk_at dksX3_errorPosition_1 3 rfl rfl)
abbrev cX3_refusedItem : ByteArray := prog_11_method_79_code
def yX3_refusedItem : MethodName := ⟨RX3, "refusedItem", "()I"⟩
def dkwX3_refusedItem_1 : List UInt8 := [180, 0, 29, 172]
abbrev dktX3_refusedItem_1 : List UInt8 := dkwX3_refusedItem_1 ++ []
def dkwX3_refusedItem_0 : List UInt8 := [42, 42, 180, 0, 29, 156, 0, 7, 4, 167, 0, 4, 3, 182, 0, 70, 153, 0, 7, 3, 167, 0, 7, 42]
abbrev dktX3_refusedItem_0 : List UInt8 := dkwX3_refusedItem_0 ++ dktX3_refusedItem_1
theorem dksX3_refusedItem_0 : cX3_refusedItem.data.toList.drop 0 = dktX3_refusedItem_0 := by decide +kernel
theorem dksX3_refusedItem_1 : cX3_refusedItem.data.toList.drop 24 = dktX3_refusedItem_1 := dk_seg dksX3_refusedItem_0 24 rfl rfl
theorem dX3_refusedItem_0 : decode cX3_refusedItem 0 = .ok (.aload_n 0, 1) := dk_42 (dk_at dksX3_refusedItem_0 0 rfl rfl)
theorem dX3_refusedItem_1 : decode cX3_refusedItem 1 = .ok (.aload_n 0, 1) := dk_42 (dk_at dksX3_refusedItem_0 1 rfl rfl)
theorem dX3_refusedItem_2 : decode cX3_refusedItem 2 = .ok (.getfield 29, 3) := dk_180 0 29 (dk_at dksX3_refusedItem_0 2 rfl rfl)
theorem dX3_refusedItem_5 : decode cX3_refusedItem 5 = .ok (.ifCond .ge 7, 3) := dk_156 0 7 (dk_at dksX3_refusedItem_0 5 rfl rfl)
theorem dX3_refusedItem_8 : decode cX3_refusedItem 8 = .ok (.iconst 1, 1) := dk_4 (dk_at dksX3_refusedItem_0 8 rfl rfl)
theorem dX3_refusedItem_9 : decode cX3_refusedItem 9 = .ok (.goto 4, 3) := dk_167 0 4 (dk_at dksX3_refusedItem_0 9 rfl rfl)
theorem dX3_refusedItem_12 : decode cX3_refusedItem 12 = .ok (.iconst 0, 1) := dk_3 (dk_at dksX3_refusedItem_0 12 rfl rfl)
theorem dX3_refusedItem_13 : decode cX3_refusedItem 13 = .ok (.invokevirtual 70, 3) := dk_182 0 70 (dk_at dksX3_refusedItem_0 13 rfl rfl)
theorem dX3_refusedItem_16 : decode cX3_refusedItem 16 = .ok (.ifCond .eq 7, 3) := dk_153 0 7 (dk_at dksX3_refusedItem_0 16 rfl rfl)
theorem dX3_refusedItem_19 : decode cX3_refusedItem 19 = .ok (.iconst 0, 1) := dk_3 (dk_at dksX3_refusedItem_0 19 rfl rfl)
theorem dX3_refusedItem_20 : decode cX3_refusedItem 20 = .ok (.goto 7, 3) := dk_167 0 7 (dk_at dksX3_refusedItem_0 20 rfl rfl)
theorem dX3_refusedItem_23 : decode cX3_refusedItem 23 = .ok (.aload_n 0, 1) := dk_42 (dk_at dksX3_refusedItem_0 23 rfl rfl)
theorem dX3_refusedItem_24 : decode cX3_refusedItem 24 = .ok (.getfield 29, 3) := dk_180 0 29 (dk_at dksX3_refusedItem_1 0 rfl rfl)
theorem dX3_refusedItem_27 : decode cX3_refusedItem 27 = .ok (.ireturn, 1) := dk_172 (dk_at dksX3_refusedItem_1 3 rfl rfl)
abbrev cX3_undo : ByteArray := prog_11_method_80_code
def yX3_undo : MethodName := ⟨RX3, "undo", "()I"⟩
def dkwX3_undo_2 : List UInt8 := [3, 184, 0, 58, 42, 180, 0, 55, 172]
abbrev dktX3_undo_2 : List UInt8 := dkwX3_undo_2 ++ []
def dkwX3_undo_1 : List UInt8 := [180, 0, 55, 4, 100, 181, 0, 55, 42, 180, 0, 13, 17, 1, 48, 42, 180, 0, 55, 104, 42, 180, 0, 7]
abbrev dktX3_undo_1 : List UInt8 := dkwX3_undo_1 ++ dktX3_undo_2
def dkwX3_undo_0 : List UInt8 := [42, 42, 180, 0, 55, 154, 0, 7, 4, 167, 0, 4, 3, 182, 0, 70, 153, 0, 5, 3, 172, 42, 89]
abbrev dktX3_undo_0 : List UInt8 := dkwX3_undo_0 ++ dktX3_undo_1
theorem dksX3_undo_0 : cX3_undo.data.toList.drop 0 = dktX3_undo_0 := by decide +kernel
theorem dksX3_undo_1 : cX3_undo.data.toList.drop 23 = dktX3_undo_1 := dk_seg dksX3_undo_0 23 rfl rfl
theorem dksX3_undo_2 : cX3_undo.data.toList.drop 47 = dktX3_undo_2 := dk_seg dksX3_undo_1 24 rfl rfl
theorem dX3_undo_0 : decode cX3_undo 0 = .ok (.aload_n 0, 1) := dk_42 (dk_at dksX3_undo_0 0 rfl rfl)
theorem dX3_undo_1 : decode cX3_undo 1 = .ok (.aload_n 0, 1) := dk_42 (dk_at dksX3_undo_0 1 rfl rfl)
theorem dX3_undo_2 : decode cX3_undo 2 = .ok (.getfield 55, 3) := dk_180 0 55 (dk_at dksX3_undo_0 2 rfl rfl)
theorem dX3_undo_5 : decode cX3_undo 5 = .ok (.ifCond .ne 7, 3) := dk_154 0 7 (dk_at dksX3_undo_0 5 rfl rfl)
theorem dX3_undo_8 : decode cX3_undo 8 = .ok (.iconst 1, 1) := dk_4 (dk_at dksX3_undo_0 8 rfl rfl)
theorem dX3_undo_9 : decode cX3_undo 9 = .ok (.goto 4, 3) := dk_167 0 4 (dk_at dksX3_undo_0 9 rfl rfl)
theorem dX3_undo_12 : decode cX3_undo 12 = .ok (.iconst 0, 1) := dk_3 (dk_at dksX3_undo_0 12 rfl rfl)
theorem dX3_undo_13 : decode cX3_undo 13 = .ok (.invokevirtual 70, 3) := dk_182 0 70 (dk_at dksX3_undo_0 13 rfl rfl)
theorem dX3_undo_16 : decode cX3_undo 16 = .ok (.ifCond .eq 5, 3) := dk_153 0 5 (dk_at dksX3_undo_0 16 rfl rfl)
theorem dX3_undo_19 : decode cX3_undo 19 = .ok (.iconst 0, 1) := dk_3 (dk_at dksX3_undo_0 19 rfl rfl)
theorem dX3_undo_20 : decode cX3_undo 20 = .ok (.ireturn, 1) := dk_172 (dk_at dksX3_undo_0 20 rfl rfl)
theorem dX3_undo_21 : decode cX3_undo 21 = .ok (.aload_n 0, 1) := dk_42 (dk_at dksX3_undo_0 21 rfl rfl)
theorem dX3_undo_22 : decode cX3_undo 22 = .ok (.dup, 1) := dk_89 (dk_at dksX3_undo_0 22 rfl rfl)
theorem dX3_undo_23 : decode cX3_undo 23 = .ok (.getfield 55, 3) := dk_180 0 55 (dk_at dksX3_undo_1 0 rfl rfl)
theorem dX3_undo_26 : decode cX3_undo 26 = .ok (.iconst 1, 1) := dk_4 (dk_at dksX3_undo_1 3 rfl rfl)
theorem dX3_undo_27 : decode cX3_undo 27 = .ok (.isub, 1) := dk_100 (dk_at dksX3_undo_1 4 rfl rfl)
theorem dX3_undo_28 : decode cX3_undo 28 = .ok (.putfield 55, 3) := dk_181 0 55 (dk_at dksX3_undo_1 5 rfl rfl)
theorem dX3_undo_31 : decode cX3_undo 31 = .ok (.aload_n 0, 1) := dk_42 (dk_at dksX3_undo_1 8 rfl rfl)
theorem dX3_undo_32 : decode cX3_undo 32 = .ok (.getfield 13, 3) := dk_180 0 13 (dk_at dksX3_undo_1 9 rfl rfl)
theorem dX3_undo_35 : decode cX3_undo 35 = .ok (.sipush 304, 3) := dk_17 1 48 (dk_at dksX3_undo_1 12 rfl rfl)
theorem dX3_undo_38 : decode cX3_undo 38 = .ok (.aload_n 0, 1) := dk_42 (dk_at dksX3_undo_1 15 rfl rfl)
theorem dX3_undo_39 : decode cX3_undo 39 = .ok (.getfield 55, 3) := dk_180 0 55 (dk_at dksX3_undo_1 16 rfl rfl)
theorem dX3_undo_42 : decode cX3_undo 42 = .ok (.imul, 1) := dk_104 (dk_at dksX3_undo_1 19 rfl rfl)
theorem dX3_undo_43 : decode cX3_undo 43 = .ok (.aload_n 0, 1) := dk_42 (dk_at dksX3_undo_1 20 rfl rfl)
theorem dX3_undo_44 : decode cX3_undo 44 = .ok (.getfield 7, 3) := dk_180 0 7 (dk_at dksX3_undo_1 21 rfl rfl)
theorem dX3_undo_47 : decode cX3_undo 47 = .ok (.iconst 0, 1) := dk_3 (dk_at dksX3_undo_2 0 rfl rfl)
theorem dX3_undo_48 : decode cX3_undo 48 = .ok (.invokestatic 58, 3) := dk_184 0 58 (dk_at dksX3_undo_2 1 rfl rfl)
theorem dX3_undo_51 : decode cX3_undo 51 = .ok (.aload_n 0, 1) := dk_42 (dk_at dksX3_undo_2 4 rfl rfl)
theorem dX3_undo_52 : decode cX3_undo 52 = .ok (.getfield 55, 3) := dk_180 0 55 (dk_at dksX3_undo_2 5 rfl rfl)
theorem dX3_undo_55 : decode cX3_undo 55 = .ok (.ireturn, 1) := dk_172 (dk_at dksX3_undo_2 8 rfl rfl)
abbrev cX3_snapshot : ByteArray := prog_11_method_81_code
def yX3_snapshot : MethodName := ⟨RX3, "snapshot", "()I"⟩
def dkwX3_snapshot_1 : List UInt8 := [180, 0, 7, 3, 46, 172]
abbrev dktX3_snapshot_1 : List UInt8 := dkwX3_snapshot_1 ++ []
def dkwX3_snapshot_0 : List UInt8 := [42, 3, 181, 0, 42, 42, 4, 181, 1, 7, 42, 180, 0, 7, 3, 42, 180, 0, 16, 3, 184, 0, 58, 42]
abbrev dktX3_snapshot_0 : List UInt8 := dkwX3_snapshot_0 ++ dktX3_snapshot_1
theorem dksX3_snapshot_0 : cX3_snapshot.data.toList.drop 0 = dktX3_snapshot_0 := by decide +kernel
theorem dksX3_snapshot_1 : cX3_snapshot.data.toList.drop 24 = dktX3_snapshot_1 := dk_seg dksX3_snapshot_0 24 rfl rfl
theorem dX3_snapshot_0 : decode cX3_snapshot 0 = .ok (.aload_n 0, 1) := dk_42 (dk_at dksX3_snapshot_0 0 rfl rfl)
theorem dX3_snapshot_1 : decode cX3_snapshot 1 = .ok (.iconst 0, 1) := dk_3 (dk_at dksX3_snapshot_0 1 rfl rfl)
theorem dX3_snapshot_2 : decode cX3_snapshot 2 = .ok (.putfield 42, 3) := dk_181 0 42 (dk_at dksX3_snapshot_0 2 rfl rfl)
theorem dX3_snapshot_5 : decode cX3_snapshot 5 = .ok (.aload_n 0, 1) := dk_42 (dk_at dksX3_snapshot_0 5 rfl rfl)
theorem dX3_snapshot_6 : decode cX3_snapshot 6 = .ok (.iconst 1, 1) := dk_4 (dk_at dksX3_snapshot_0 6 rfl rfl)
theorem dX3_snapshot_7 : decode cX3_snapshot 7 = .ok (.putfield 263, 3) := dk_181 1 7 (dk_at dksX3_snapshot_0 7 rfl rfl)
theorem dX3_snapshot_10 : decode cX3_snapshot 10 = .ok (.aload_n 0, 1) := dk_42 (dk_at dksX3_snapshot_0 10 rfl rfl)
theorem dX3_snapshot_11 : decode cX3_snapshot 11 = .ok (.getfield 7, 3) := dk_180 0 7 (dk_at dksX3_snapshot_0 11 rfl rfl)
theorem dX3_snapshot_14 : decode cX3_snapshot 14 = .ok (.iconst 0, 1) := dk_3 (dk_at dksX3_snapshot_0 14 rfl rfl)
theorem dX3_snapshot_15 : decode cX3_snapshot 15 = .ok (.aload_n 0, 1) := dk_42 (dk_at dksX3_snapshot_0 15 rfl rfl)
theorem dX3_snapshot_16 : decode cX3_snapshot 16 = .ok (.getfield 16, 3) := dk_180 0 16 (dk_at dksX3_snapshot_0 16 rfl rfl)
theorem dX3_snapshot_19 : decode cX3_snapshot 19 = .ok (.iconst 0, 1) := dk_3 (dk_at dksX3_snapshot_0 19 rfl rfl)
theorem dX3_snapshot_20 : decode cX3_snapshot 20 = .ok (.invokestatic 58, 3) := dk_184 0 58 (dk_at dksX3_snapshot_0 20 rfl rfl)
theorem dX3_snapshot_23 : decode cX3_snapshot 23 = .ok (.aload_n 0, 1) := dk_42 (dk_at dksX3_snapshot_0 23 rfl rfl)
theorem dX3_snapshot_24 : decode cX3_snapshot 24 = .ok (.getfield 7, 3) := dk_180 0 7 (dk_at dksX3_snapshot_1 0 rfl rfl)
theorem dX3_snapshot_27 : decode cX3_snapshot 27 = .ok (.iconst 0, 1) := dk_3 (dk_at dksX3_snapshot_1 3 rfl rfl)
theorem dX3_snapshot_28 : decode cX3_snapshot 28 = .ok (.iaload, 1) := dk_46 (dk_at dksX3_snapshot_1 4 rfl rfl)
theorem dX3_snapshot_29 : decode cX3_snapshot 29 = .ok (.ireturn, 1) := dk_172 (dk_at dksX3_snapshot_1 5 rfl rfl)
abbrev cX3_restore : ByteArray := prog_11_method_82_code
def yX3_restore : MethodName := ⟨RX3, "restore", "()I"⟩
def dkwX3_restore_1 : List UInt8 := [180, 0, 16, 3, 42, 180, 0, 7, 3, 184, 0, 58, 42, 3, 181, 0, 55, 42, 180, 0, 7, 3, 46, 172]
abbrev dktX3_restore_1 : List UInt8 := dkwX3_restore_1 ++ []
def dkwX3_restore_0 : List UInt8 := [42, 42, 180, 1, 7, 153, 0, 7, 3, 167, 0, 4, 4, 182, 0, 70, 153, 0, 5, 3, 172, 42]
abbrev dktX3_restore_0 : List UInt8 := dkwX3_restore_0 ++ dktX3_restore_1
theorem dksX3_restore_0 : cX3_restore.data.toList.drop 0 = dktX3_restore_0 := by decide +kernel
theorem dksX3_restore_1 : cX3_restore.data.toList.drop 22 = dktX3_restore_1 := dk_seg dksX3_restore_0 22 rfl rfl
theorem dX3_restore_0 : decode cX3_restore 0 = .ok (.aload_n 0, 1) := dk_42 (dk_at dksX3_restore_0 0 rfl rfl)
theorem dX3_restore_1 : decode cX3_restore 1 = .ok (.aload_n 0, 1) := dk_42 (dk_at dksX3_restore_0 1 rfl rfl)
theorem dX3_restore_2 : decode cX3_restore 2 = .ok (.getfield 263, 3) := dk_180 1 7 (dk_at dksX3_restore_0 2 rfl rfl)
theorem dX3_restore_5 : decode cX3_restore 5 = .ok (.ifCond .eq 7, 3) := dk_153 0 7 (dk_at dksX3_restore_0 5 rfl rfl)
theorem dX3_restore_8 : decode cX3_restore 8 = .ok (.iconst 0, 1) := dk_3 (dk_at dksX3_restore_0 8 rfl rfl)
theorem dX3_restore_9 : decode cX3_restore 9 = .ok (.goto 4, 3) := dk_167 0 4 (dk_at dksX3_restore_0 9 rfl rfl)
theorem dX3_restore_12 : decode cX3_restore 12 = .ok (.iconst 1, 1) := dk_4 (dk_at dksX3_restore_0 12 rfl rfl)
theorem dX3_restore_13 : decode cX3_restore 13 = .ok (.invokevirtual 70, 3) := dk_182 0 70 (dk_at dksX3_restore_0 13 rfl rfl)
theorem dX3_restore_16 : decode cX3_restore 16 = .ok (.ifCond .eq 5, 3) := dk_153 0 5 (dk_at dksX3_restore_0 16 rfl rfl)
theorem dX3_restore_19 : decode cX3_restore 19 = .ok (.iconst 0, 1) := dk_3 (dk_at dksX3_restore_0 19 rfl rfl)
theorem dX3_restore_20 : decode cX3_restore 20 = .ok (.ireturn, 1) := dk_172 (dk_at dksX3_restore_0 20 rfl rfl)
theorem dX3_restore_21 : decode cX3_restore 21 = .ok (.aload_n 0, 1) := dk_42 (dk_at dksX3_restore_0 21 rfl rfl)
theorem dX3_restore_22 : decode cX3_restore 22 = .ok (.getfield 16, 3) := dk_180 0 16 (dk_at dksX3_restore_1 0 rfl rfl)
theorem dX3_restore_25 : decode cX3_restore 25 = .ok (.iconst 0, 1) := dk_3 (dk_at dksX3_restore_1 3 rfl rfl)
theorem dX3_restore_26 : decode cX3_restore 26 = .ok (.aload_n 0, 1) := dk_42 (dk_at dksX3_restore_1 4 rfl rfl)
theorem dX3_restore_27 : decode cX3_restore 27 = .ok (.getfield 7, 3) := dk_180 0 7 (dk_at dksX3_restore_1 5 rfl rfl)
theorem dX3_restore_30 : decode cX3_restore 30 = .ok (.iconst 0, 1) := dk_3 (dk_at dksX3_restore_1 8 rfl rfl)
theorem dX3_restore_31 : decode cX3_restore 31 = .ok (.invokestatic 58, 3) := dk_184 0 58 (dk_at dksX3_restore_1 9 rfl rfl)
theorem dX3_restore_34 : decode cX3_restore 34 = .ok (.aload_n 0, 1) := dk_42 (dk_at dksX3_restore_1 12 rfl rfl)
theorem dX3_restore_35 : decode cX3_restore 35 = .ok (.iconst 0, 1) := dk_3 (dk_at dksX3_restore_1 13 rfl rfl)
theorem dX3_restore_36 : decode cX3_restore 36 = .ok (.putfield 55, 3) := dk_181 0 55 (dk_at dksX3_restore_1 14 rfl rfl)
theorem dX3_restore_39 : decode cX3_restore 39 = .ok (.aload_n 0, 1) := dk_42 (dk_at dksX3_restore_1 17 rfl rfl)
theorem dX3_restore_40 : decode cX3_restore 40 = .ok (.getfield 7, 3) := dk_180 0 7 (dk_at dksX3_restore_1 18 rfl rfl)
theorem dX3_restore_43 : decode cX3_restore 43 = .ok (.iconst 0, 1) := dk_3 (dk_at dksX3_restore_1 21 rfl rfl)
theorem dX3_restore_44 : decode cX3_restore 44 = .ok (.iaload, 1) := dk_46 (dk_at dksX3_restore_1 22 rfl rfl)
theorem dX3_restore_45 : decode cX3_restore 45 = .ok (.ireturn, 1) := dk_172 (dk_at dksX3_restore_1 23 rfl rfl)
theorem q83 : (Jvm.Cond.initialized "SkipSchoolModel") ∈ lw_all := lw_g (lw_at lw_m1 13 rfl) rfl
theorem q788 : (Jvm.Cond.selects "SkipSchoolModel" ({ cls := "java/lang/Object", name := "getClass", desc := "()Ljava/lang/Class;" } : Jvm.MethodName) ({ cls := "java/lang/Object", name := "getClass", desc := "()Ljava/lang/Class;" } : Jvm.MethodName)) ∈ lw_all := lw_g (lw_at lw_m3 238 rfl) rfl
theorem q2311 : (Jvm.Cond.instantiable "SkipSchoolModel" (19 : Nat)) ∈ lw_all := lw_g (lw_at lw_m10 81 rfl) rfl
theorem q2313 : (Jvm.Cond.instanceMethod ({ cls := "SkipSchoolModel", name := "<init>", desc := "()V" } : Jvm.MethodName)) ∈ lw_all := lw_g (lw_at lw_m10 83 rfl) rfl
theorem q2314 : (Jvm.Cond.code ({ cls := "SkipSchoolModel", name := "<init>", desc := "()V" } : Jvm.MethodName) prog_11_method_1_code (1 : Nat) (Option.none : Option Jvm.ClassFile.FieldType)) ∈ lw_all := lw_g (lw_at lw_m10 84 rfl) rfl
theorem q2315 : (Jvm.Cond.methodLink "SkipSchoolModel" (1 : Nat) ({ cls := "java/lang/Object", name := "<init>", desc := "()V" } : Jvm.MethodName)) ∈ lw_all := lw_g (lw_at lw_m10 85 rfl) rfl
theorem q2316 : (Jvm.Cond.methodLink "SkipSchoolModel" (39 : Nat) ({ cls := "SkipSchoolModel", name := "empties", desc := "()V" } : Jvm.MethodName)) ∈ lw_all := lw_g (lw_at lw_m10 86 rfl) rfl
theorem q2317 : (Jvm.Cond.privateMethod ({ cls := "SkipSchoolModel", name := "empties", desc := "()V" } : Jvm.MethodName)) ∈ lw_tbl := lw_at lw_m10 87 rfl
theorem q2318 : (Jvm.Cond.instanceMethod ({ cls := "SkipSchoolModel", name := "empties", desc := "()V" } : Jvm.MethodName)) ∈ lw_all := lw_g (lw_at lw_m10 88 rfl) rfl
theorem q2319 : (Jvm.Cond.code ({ cls := "SkipSchoolModel", name := "empties", desc := "()V" } : Jvm.MethodName) prog_11_method_10_code (2 : Nat) (Option.none : Option Jvm.ClassFile.FieldType)) ∈ lw_all := lw_g (lw_at lw_m10 89 rfl) rfl
theorem q2320 : (Jvm.Cond.fieldLink "SkipSchoolModel" (7 : Nat) "SkipSchoolModel" "g" "[I") ∈ lw_all := lw_g (lw_at lw_m10 90 rfl) rfl
theorem q2321 : (Jvm.Cond.fieldLink "SkipSchoolModel" (13 : Nat) "SkipSchoolModel" "kept" "[I") ∈ lw_all := lw_g (lw_at lw_m10 91 rfl) rfl
theorem q2322 : (Jvm.Cond.fieldLink "SkipSchoolModel" (16 : Nat) "SkipSchoolModel" "saved" "[I") ∈ lw_all := lw_g (lw_at lw_m10 92 rfl) rfl
theorem q2323 : (Jvm.Cond.fieldLink "SkipSchoolModel" (19 : Nat) "SkipSchoolModel" "before" "[I") ∈ lw_all := lw_g (lw_at lw_m10 93 rfl) rfl
theorem q2324 : (Jvm.Cond.fieldLink "SkipSchoolModel" (263 : Nat) "SkipSchoolModel" "isSaved" "Z") ∈ lw_all := lw_g (lw_at lw_m10 94 rfl) rfl
theorem q2325 : (Jvm.Cond.fieldLink "SkipSchoolModel" (55 : Nat) "SkipSchoolModel" "changes" "I") ∈ lw_all := lw_g (lw_at lw_m10 95 rfl) rfl
theorem q2326 : (Jvm.Cond.fieldLink "SkipSchoolModel" (51 : Nat) "SkipSchoolModel" "isWithin" "Z") ∈ lw_all := lw_g (lw_at lw_m10 96 rfl) rfl
theorem q2327 : (Jvm.Cond.fieldLink "SkipSchoolModel" (42 : Nat) "SkipSchoolModel" "code" "I") ∈ lw_all := lw_g (lw_at lw_m10 97 rfl) rfl
theorem q2328 : (Jvm.Cond.fieldLink "SkipSchoolModel" (45 : Nat) "SkipSchoolModel" "reason" "I") ∈ lw_all := lw_g (lw_at lw_m10 98 rfl) rfl
theorem q2329 : (Jvm.Cond.fieldLink "SkipSchoolModel" (48 : Nat) "SkipSchoolModel" "detail" "I") ∈ lw_all := lw_g (lw_at lw_m10 99 rfl) rfl
theorem q2330 : (Jvm.Cond.fieldLink "SkipSchoolModel" (22 : Nat) "SkipSchoolModel" "input" "[I") ∈ lw_all := lw_g (lw_at lw_m10 100 rfl) rfl
theorem q2331 : (Jvm.Cond.fieldLink "SkipSchoolModel" (162 : Nat) "SkipSchoolModel" "length" "I") ∈ lw_all := lw_g (lw_at lw_m10 101 rfl) rfl
theorem q2332 : (Jvm.Cond.fieldLink "SkipSchoolModel" (25 : Nat) "SkipSchoolModel" "error" "I") ∈ lw_all := lw_g (lw_at lw_m10 102 rfl) rfl
theorem q2333 : (Jvm.Cond.fieldLink "SkipSchoolModel" (29 : Nat) "SkipSchoolModel" "item" "I") ∈ lw_all := lw_g (lw_at lw_m10 103 rfl) rfl
theorem q2334 : (Jvm.Cond.fieldLink "SkipSchoolModel" (32 : Nat) "SkipSchoolModel" "signs" "[C") ∈ lw_all := lw_g (lw_at lw_m10 104 rfl) rfl
theorem q2335 : (Jvm.Cond.fieldLink "SkipSchoolModel" (148 : Nat) "SkipSchoolModel" "signMany" "I") ∈ lw_all := lw_g (lw_at lw_m10 105 rfl) rfl
theorem q2336 : (Jvm.Cond.fieldLink "SkipSchoolModel" (165 : Nat) "SkipSchoolModel" "at" "I") ∈ lw_all := lw_g (lw_at lw_m10 106 rfl) rfl
theorem q2337 : (Jvm.Cond.fieldLink "SkipSchoolModel" (36 : Nat) "SkipSchoolModel" "told" "[I") ∈ lw_all := lw_g (lw_at lw_m10 107 rfl) rfl
theorem q2338 : (Jvm.Cond.fieldLink "SkipSchoolModel" (181 : Nat) "SkipSchoolModel" "toldMany" "I") ∈ lw_all := lw_g (lw_at lw_m10 108 rfl) rfl
theorem q2339 : (Jvm.Cond.laysFinal "SkipSchoolModel" "SkipSchoolModel" "g" "[I") ∈ lw_all := lw_g (lw_at lw_m10 109 rfl) rfl
theorem q2340 : (Jvm.Cond.soleField "SkipSchoolModel" "g") ∈ lw_all := lw_g (lw_at lw_m10 110 rfl) rfl
theorem q2341 : (Jvm.Cond.laysFinal "SkipSchoolModel" "SkipSchoolModel" "kept" "[I") ∈ lw_all := lw_g (lw_at lw_m10 111 rfl) rfl
theorem q2342 : (Jvm.Cond.soleField "SkipSchoolModel" "kept") ∈ lw_all := lw_g (lw_at lw_m10 112 rfl) rfl
theorem q2343 : (Jvm.Cond.laysFinal "SkipSchoolModel" "SkipSchoolModel" "saved" "[I") ∈ lw_all := lw_g (lw_at lw_m10 113 rfl) rfl
theorem q2344 : (Jvm.Cond.soleField "SkipSchoolModel" "saved") ∈ lw_all := lw_g (lw_at lw_m10 114 rfl) rfl
theorem q2345 : (Jvm.Cond.laysFinal "SkipSchoolModel" "SkipSchoolModel" "before" "[I") ∈ lw_all := lw_g (lw_at lw_m10 115 rfl) rfl
theorem q2346 : (Jvm.Cond.soleField "SkipSchoolModel" "before") ∈ lw_all := lw_g (lw_at lw_m10 116 rfl) rfl
theorem q2347 : (Jvm.Cond.lays "SkipSchoolModel" "SkipSchoolModel" "isSaved" "Z") ∈ lw_all := lw_g (lw_at lw_m10 117 rfl) rfl
theorem q2348 : (Jvm.Cond.soleField "SkipSchoolModel" "isSaved") ∈ lw_all := lw_g (lw_at lw_m10 118 rfl) rfl
theorem q2349 : (Jvm.Cond.lays "SkipSchoolModel" "SkipSchoolModel" "changes" "I") ∈ lw_all := lw_g (lw_at lw_m10 119 rfl) rfl
theorem q2350 : (Jvm.Cond.soleField "SkipSchoolModel" "changes") ∈ lw_all := lw_g (lw_at lw_m10 120 rfl) rfl
theorem q2351 : (Jvm.Cond.lays "SkipSchoolModel" "SkipSchoolModel" "isWithin" "Z") ∈ lw_all := lw_g (lw_at lw_m10 121 rfl) rfl
theorem q2352 : (Jvm.Cond.soleField "SkipSchoolModel" "isWithin") ∈ lw_all := lw_g (lw_at lw_m10 122 rfl) rfl
theorem q2353 : (Jvm.Cond.lays "SkipSchoolModel" "SkipSchoolModel" "code" "I") ∈ lw_all := lw_g (lw_at lw_m10 123 rfl) rfl
theorem q2354 : (Jvm.Cond.soleField "SkipSchoolModel" "code") ∈ lw_all := lw_g (lw_at lw_m10 124 rfl) rfl
theorem q2355 : (Jvm.Cond.lays "SkipSchoolModel" "SkipSchoolModel" "reason" "I") ∈ lw_all := lw_g (lw_at lw_m10 125 rfl) rfl
theorem q2356 : (Jvm.Cond.soleField "SkipSchoolModel" "reason") ∈ lw_all := lw_g (lw_at lw_m10 126 rfl) rfl
theorem q2357 : (Jvm.Cond.lays "SkipSchoolModel" "SkipSchoolModel" "detail" "I") ∈ lw_all := lw_g (lw_at lw_m10 127 rfl) rfl
theorem q2358 : (Jvm.Cond.soleField "SkipSchoolModel" "detail") ∈ lw_all := lw_g (lw_at lw_m10 128 rfl) rfl
theorem q2359 : (Jvm.Cond.laysFinal "SkipSchoolModel" "SkipSchoolModel" "input" "[I") ∈ lw_all := lw_g (lw_at lw_m10 129 rfl) rfl
theorem q2360 : (Jvm.Cond.soleField "SkipSchoolModel" "input") ∈ lw_all := lw_g (lw_at lw_m10 130 rfl) rfl
theorem q2361 : (Jvm.Cond.lays "SkipSchoolModel" "SkipSchoolModel" "length" "I") ∈ lw_all := lw_g (lw_at lw_m10 131 rfl) rfl
theorem q2362 : (Jvm.Cond.soleField "SkipSchoolModel" "length") ∈ lw_all := lw_g (lw_at lw_m10 132 rfl) rfl
theorem q2363 : (Jvm.Cond.lays "SkipSchoolModel" "SkipSchoolModel" "error" "I") ∈ lw_all := lw_g (lw_at lw_m10 133 rfl) rfl
theorem q2364 : (Jvm.Cond.soleField "SkipSchoolModel" "error") ∈ lw_all := lw_g (lw_at lw_m10 134 rfl) rfl
theorem q2365 : (Jvm.Cond.lays "SkipSchoolModel" "SkipSchoolModel" "item" "I") ∈ lw_all := lw_g (lw_at lw_m10 135 rfl) rfl
theorem q2366 : (Jvm.Cond.soleField "SkipSchoolModel" "item") ∈ lw_all := lw_g (lw_at lw_m10 136 rfl) rfl
theorem q2367 : (Jvm.Cond.laysFinal "SkipSchoolModel" "SkipSchoolModel" "signs" "[C") ∈ lw_all := lw_g (lw_at lw_m10 137 rfl) rfl
theorem q2368 : (Jvm.Cond.soleField "SkipSchoolModel" "signs") ∈ lw_all := lw_g (lw_at lw_m10 138 rfl) rfl
theorem q2369 : (Jvm.Cond.lays "SkipSchoolModel" "SkipSchoolModel" "signMany" "I") ∈ lw_all := lw_g (lw_at lw_m10 139 rfl) rfl
theorem q2370 : (Jvm.Cond.soleField "SkipSchoolModel" "signMany") ∈ lw_all := lw_g (lw_at lw_m10 140 rfl) rfl
theorem q2371 : (Jvm.Cond.lays "SkipSchoolModel" "SkipSchoolModel" "at" "I") ∈ lw_all := lw_g (lw_at lw_m10 141 rfl) rfl
theorem q2372 : (Jvm.Cond.soleField "SkipSchoolModel" "at") ∈ lw_all := lw_g (lw_at lw_m10 142 rfl) rfl
theorem q2373 : (Jvm.Cond.laysFinal "SkipSchoolModel" "SkipSchoolModel" "told" "[I") ∈ lw_all := lw_g (lw_at lw_m10 143 rfl) rfl
theorem q2374 : (Jvm.Cond.soleField "SkipSchoolModel" "told") ∈ lw_all := lw_g (lw_at lw_m10 144 rfl) rfl
theorem q2375 : (Jvm.Cond.lays "SkipSchoolModel" "SkipSchoolModel" "toldMany" "I") ∈ lw_all := lw_g (lw_at lw_m10 145 rfl) rfl
theorem q2376 : (Jvm.Cond.soleField "SkipSchoolModel" "toldMany") ∈ lw_all := lw_g (lw_at lw_m10 146 rfl) rfl
theorem q2377 : (Jvm.Cond.superclass "SkipSchoolModel" "java/lang/Object") ∈ lw_all := lw_g (lw_at lw_m10 147 rfl) rfl
theorem q2380 : (Jvm.Cond.instanceMethod ({ cls := "SkipSchoolModel", name := "thrown", desc := "()I" } : Jvm.MethodName)) ∈ lw_all := lw_g (lw_at lw_m10 150 rfl) rfl
theorem q2381 : (Jvm.Cond.selects "SkipSchoolModel" ({ cls := "SkipSchoolModel", name := "thrown", desc := "()I" } : Jvm.MethodName) ({ cls := "SkipSchoolModel", name := "thrown", desc := "()I" } : Jvm.MethodName)) ∈ lw_all := lw_g (lw_at lw_m10 151 rfl) rfl
theorem q2382 : (Jvm.Cond.code ({ cls := "SkipSchoolModel", name := "thrown", desc := "()I" } : Jvm.MethodName) prog_11_method_2_code (1 : Nat) (Option.some Jvm.ClassFile.FieldType.int)) ∈ lw_all := lw_g (lw_at lw_m10 152 rfl) rfl
theorem q2384 : (Jvm.Cond.instanceMethod ({ cls := "SkipSchoolModel", name := "clear", desc := "()I" } : Jvm.MethodName)) ∈ lw_all := lw_g (lw_at lw_m10 154 rfl) rfl
theorem q2385 : (Jvm.Cond.selects "SkipSchoolModel" ({ cls := "SkipSchoolModel", name := "clear", desc := "()I" } : Jvm.MethodName) ({ cls := "SkipSchoolModel", name := "clear", desc := "()I" } : Jvm.MethodName)) ∈ lw_all := lw_g (lw_at lw_m10 155 rfl) rfl
theorem q2386 : (Jvm.Cond.code ({ cls := "SkipSchoolModel", name := "clear", desc := "()I" } : Jvm.MethodName) prog_11_method_11_code (2 : Nat) (Option.some Jvm.ClassFile.FieldType.int)) ∈ lw_all := lw_g (lw_at lw_m10 156 rfl) rfl
theorem q2388 : (Jvm.Cond.instanceMethod ({ cls := "SkipSchoolModel", name := "stone", desc := "(II)I" } : Jvm.MethodName)) ∈ lw_all := lw_g (lw_at lw_m10 158 rfl) rfl
theorem q2389 : (Jvm.Cond.selects "SkipSchoolModel" ({ cls := "SkipSchoolModel", name := "stone", desc := "(II)I" } : Jvm.MethodName) ({ cls := "SkipSchoolModel", name := "stone", desc := "(II)I" } : Jvm.MethodName)) ∈ lw_all := lw_g (lw_at lw_m10 159 rfl) rfl
theorem q2390 : (Jvm.Cond.code ({ cls := "SkipSchoolModel", name := "stone", desc := "(II)I" } : Jvm.MethodName) prog_11_method_21_code (5 : Nat) (Option.some Jvm.ClassFile.FieldType.int)) ∈ lw_all := lw_g (lw_at lw_m10 160 rfl) rfl
theorem q2391 : (Jvm.Cond.methodLink "SkipSchoolModel" (62 : Nat) ({ cls := "SkipSchoolModel", name := "in", desc := "(III)Z" } : Jvm.MethodName)) ∈ lw_all := lw_g (lw_at lw_m10 161 rfl) rfl
theorem q2392 : (Jvm.Cond.static ({ cls := "SkipSchoolModel", name := "in", desc := "(III)Z" } : Jvm.MethodName)) ∈ lw_all := lw_g (lw_at lw_m10 162 rfl) rfl
theorem q2393 : (Jvm.Cond.code ({ cls := "SkipSchoolModel", name := "in", desc := "(III)Z" } : Jvm.MethodName) prog_11_method_5_code (3 : Nat) (Option.some Jvm.ClassFile.FieldType.boolean)) ∈ lw_all := lw_g (lw_at lw_m10 163 rfl) rfl
theorem q2394 : (Jvm.Cond.methodLink "SkipSchoolModel" (70 : Nat) ({ cls := "SkipSchoolModel", name := "fails", desc := "(I)Z" } : Jvm.MethodName)) ∈ lw_all := lw_g (lw_at lw_m10 164 rfl) rfl
theorem q2395 : (Jvm.Cond.privateMethod ({ cls := "SkipSchoolModel", name := "fails", desc := "(I)Z" } : Jvm.MethodName)) ∈ lw_tbl := lw_at lw_m10 165 rfl
theorem q2396 : (Jvm.Cond.instanceMethod ({ cls := "SkipSchoolModel", name := "fails", desc := "(I)Z" } : Jvm.MethodName)) ∈ lw_all := lw_g (lw_at lw_m10 166 rfl) rfl
theorem q2397 : (Jvm.Cond.code ({ cls := "SkipSchoolModel", name := "fails", desc := "(I)Z" } : Jvm.MethodName) prog_11_method_3_code (2 : Nat) (Option.some Jvm.ClassFile.FieldType.boolean)) ∈ lw_all := lw_g (lw_at lw_m10 167 rfl) rfl
theorem q2398 : (Jvm.Cond.methodLink "SkipSchoolModel" (74 : Nat) ({ cls := "SkipSchoolModel", name := "refuses", desc := "(III)I" } : Jvm.MethodName)) ∈ lw_all := lw_g (lw_at lw_m10 168 rfl) rfl
theorem q2399 : (Jvm.Cond.privateMethod ({ cls := "SkipSchoolModel", name := "refuses", desc := "(III)I" } : Jvm.MethodName)) ∈ lw_tbl := lw_at lw_m10 169 rfl
theorem q2400 : (Jvm.Cond.instanceMethod ({ cls := "SkipSchoolModel", name := "refuses", desc := "(III)I" } : Jvm.MethodName)) ∈ lw_all := lw_g (lw_at lw_m10 170 rfl) rfl
theorem q2401 : (Jvm.Cond.code ({ cls := "SkipSchoolModel", name := "refuses", desc := "(III)I" } : Jvm.MethodName) prog_11_method_4_code (4 : Nat) (Option.some Jvm.ClassFile.FieldType.int)) ∈ lw_all := lw_g (lw_at lw_m10 171 rfl) rfl
theorem q2402 : (Jvm.Cond.methodLink "SkipSchoolModel" (78 : Nat) ({ cls := "SkipSchoolModel", name := "keeps", desc := "([I)V" } : Jvm.MethodName)) ∈ lw_all := lw_g (lw_at lw_m10 172 rfl) rfl
theorem q2403 : (Jvm.Cond.privateMethod ({ cls := "SkipSchoolModel", name := "keeps", desc := "([I)V" } : Jvm.MethodName)) ∈ lw_tbl := lw_at lw_m10 173 rfl
theorem q2404 : (Jvm.Cond.instanceMethod ({ cls := "SkipSchoolModel", name := "keeps", desc := "([I)V" } : Jvm.MethodName)) ∈ lw_all := lw_g (lw_at lw_m10 174 rfl) rfl
theorem q2405 : (Jvm.Cond.code ({ cls := "SkipSchoolModel", name := "keeps", desc := "([I)V" } : Jvm.MethodName) prog_11_method_9_code (3 : Nat) (Option.none : Option Jvm.ClassFile.FieldType)) ∈ lw_all := lw_g (lw_at lw_m10 175 rfl) rfl
theorem q2406 : (Jvm.Cond.methodLink "SkipSchoolModel" (58 : Nat) ({ cls := "SkipSchoolModel", name := "copies", desc := "([II[II)V" } : Jvm.MethodName)) ∈ lw_all := lw_g (lw_at lw_m10 176 rfl) rfl
theorem q2407 : (Jvm.Cond.static ({ cls := "SkipSchoolModel", name := "copies", desc := "([II[II)V" } : Jvm.MethodName)) ∈ lw_all := lw_g (lw_at lw_m10 177 rfl) rfl
theorem q2408 : (Jvm.Cond.code ({ cls := "SkipSchoolModel", name := "copies", desc := "([II[II)V" } : Jvm.MethodName) prog_11_method_8_code (5 : Nat) (Option.none : Option Jvm.ClassFile.FieldType)) ∈ lw_all := lw_g (lw_at lw_m10 178 rfl) rfl
theorem q2409 : (Jvm.Cond.methodLink "SkipSchoolModel" (82 : Nat) ({ cls := "SkipSchoolModel", name := "lays", desc := "(III)V" } : Jvm.MethodName)) ∈ lw_all := lw_g (lw_at lw_m10 179 rfl) rfl
theorem q2410 : (Jvm.Cond.privateMethod ({ cls := "SkipSchoolModel", name := "lays", desc := "(III)V" } : Jvm.MethodName)) ∈ lw_tbl := lw_at lw_m10 180 rfl
theorem q2411 : (Jvm.Cond.instanceMethod ({ cls := "SkipSchoolModel", name := "lays", desc := "(III)V" } : Jvm.MethodName)) ∈ lw_all := lw_g (lw_at lw_m10 181 rfl) rfl
theorem q2412 : (Jvm.Cond.code ({ cls := "SkipSchoolModel", name := "lays", desc := "(III)V" } : Jvm.MethodName) prog_11_method_13_code (4 : Nat) (Option.none : Option Jvm.ClassFile.FieldType)) ∈ lw_all := lw_g (lw_at lw_m10 182 rfl) rfl
theorem q2414 : (Jvm.Cond.instanceMethod ({ cls := "SkipSchoolModel", name := "river", desc := "(II)I" } : Jvm.MethodName)) ∈ lw_all := lw_g (lw_at lw_m10 184 rfl) rfl
theorem q2415 : (Jvm.Cond.selects "SkipSchoolModel" ({ cls := "SkipSchoolModel", name := "river", desc := "(II)I" } : Jvm.MethodName) ({ cls := "SkipSchoolModel", name := "river", desc := "(II)I" } : Jvm.MethodName)) ∈ lw_all := lw_g (lw_at lw_m10 185 rfl) rfl
theorem q2416 : (Jvm.Cond.code ({ cls := "SkipSchoolModel", name := "river", desc := "(II)I" } : Jvm.MethodName) prog_11_method_22_code (5 : Nat) (Option.some Jvm.ClassFile.FieldType.int)) ∈ lw_all := lw_g (lw_at lw_m10 186 rfl) rfl
theorem q2418 : (Jvm.Cond.instanceMethod ({ cls := "SkipSchoolModel", name := "calm", desc := "(II)I" } : Jvm.MethodName)) ∈ lw_all := lw_g (lw_at lw_m10 188 rfl) rfl
theorem q2419 : (Jvm.Cond.selects "SkipSchoolModel" ({ cls := "SkipSchoolModel", name := "calm", desc := "(II)I" } : Jvm.MethodName) ({ cls := "SkipSchoolModel", name := "calm", desc := "(II)I" } : Jvm.MethodName)) ∈ lw_all := lw_g (lw_at lw_m10 189 rfl) rfl
theorem q2420 : (Jvm.Cond.code ({ cls := "SkipSchoolModel", name := "calm", desc := "(II)I" } : Jvm.MethodName) prog_11_method_23_code (4 : Nat) (Option.some Jvm.ClassFile.FieldType.int)) ∈ lw_all := lw_g (lw_at lw_m10 190 rfl) rfl
theorem q2421 : (Jvm.Cond.methodLink "SkipSchoolModel" (86 : Nat) ({ cls := "SkipSchoolModel", name := "isRiver", desc := "(I)Z" } : Jvm.MethodName)) ∈ lw_all := lw_g (lw_at lw_m10 191 rfl) rfl
theorem q2422 : (Jvm.Cond.privateMethod ({ cls := "SkipSchoolModel", name := "isRiver", desc := "(I)Z" } : Jvm.MethodName)) ∈ lw_tbl := lw_at lw_m10 192 rfl
theorem q2423 : (Jvm.Cond.instanceMethod ({ cls := "SkipSchoolModel", name := "isRiver", desc := "(I)Z" } : Jvm.MethodName)) ∈ lw_all := lw_g (lw_at lw_m10 193 rfl) rfl
theorem q2424 : (Jvm.Cond.code ({ cls := "SkipSchoolModel", name := "isRiver", desc := "(I)Z" } : Jvm.MethodName) prog_11_method_17_code (2 : Nat) (Option.some Jvm.ClassFile.FieldType.boolean)) ∈ lw_all := lw_g (lw_at lw_m10 194 rfl) rfl
theorem q2425 : (Jvm.Cond.methodLink "SkipSchoolModel" (89 : Nat) ({ cls := "SkipSchoolModel", name := "its", desc := "(II)I" } : Jvm.MethodName)) ∈ lw_all := lw_g (lw_at lw_m10 195 rfl) rfl
theorem q2426 : (Jvm.Cond.privateMethod ({ cls := "SkipSchoolModel", name := "its", desc := "(II)I" } : Jvm.MethodName)) ∈ lw_tbl := lw_at lw_m10 196 rfl
theorem q2427 : (Jvm.Cond.instanceMethod ({ cls := "SkipSchoolModel", name := "its", desc := "(II)I" } : Jvm.MethodName)) ∈ lw_all := lw_g (lw_at lw_m10 197 rfl) rfl
theorem q2428 : (Jvm.Cond.code ({ cls := "SkipSchoolModel", name := "its", desc := "(II)I" } : Jvm.MethodName) prog_11_method_14_code (3 : Nat) (Option.some Jvm.ClassFile.FieldType.int)) ∈ lw_all := lw_g (lw_at lw_m10 198 rfl) rfl
theorem q2430 : (Jvm.Cond.instanceMethod ({ cls := "SkipSchoolModel", name := "stoneOf", desc := "(II)I" } : Jvm.MethodName)) ∈ lw_all := lw_g (lw_at lw_m10 200 rfl) rfl
theorem q2431 : (Jvm.Cond.selects "SkipSchoolModel" ({ cls := "SkipSchoolModel", name := "stoneOf", desc := "(II)I" } : Jvm.MethodName) ({ cls := "SkipSchoolModel", name := "stoneOf", desc := "(II)I" } : Jvm.MethodName)) ∈ lw_all := lw_g (lw_at lw_m10 201 rfl) rfl
theorem q2432 : (Jvm.Cond.code ({ cls := "SkipSchoolModel", name := "stoneOf", desc := "(II)I" } : Jvm.MethodName) prog_11_method_28_code (3 : Nat) (Option.some Jvm.ClassFile.FieldType.int)) ∈ lw_all := lw_g (lw_at lw_m10 202 rfl) rfl
theorem q2433 : (Jvm.Cond.methodLink "SkipSchoolModel" (95 : Nat) ({ cls := "SkipSchoolModel", name := "isStone", desc := "(I)Z" } : Jvm.MethodName)) ∈ lw_all := lw_g (lw_at lw_m10 203 rfl) rfl
theorem q2434 : (Jvm.Cond.privateMethod ({ cls := "SkipSchoolModel", name := "isStone", desc := "(I)Z" } : Jvm.MethodName)) ∈ lw_tbl := lw_at lw_m10 204 rfl
theorem q2435 : (Jvm.Cond.instanceMethod ({ cls := "SkipSchoolModel", name := "isStone", desc := "(I)Z" } : Jvm.MethodName)) ∈ lw_all := lw_g (lw_at lw_m10 205 rfl) rfl
theorem q2436 : (Jvm.Cond.code ({ cls := "SkipSchoolModel", name := "isStone", desc := "(I)Z" } : Jvm.MethodName) prog_11_method_16_code (2 : Nat) (Option.some Jvm.ClassFile.FieldType.boolean)) ∈ lw_all := lw_g (lw_at lw_m10 206 rfl) rfl
theorem q2437 : (Jvm.Cond.methodLink "SkipSchoolModel" (98 : Nat) ({ cls := "SkipSchoolModel", name := "ownAngle", desc := "(I)I" } : Jvm.MethodName)) ∈ lw_all := lw_g (lw_at lw_m10 207 rfl) rfl
theorem q2438 : (Jvm.Cond.privateMethod ({ cls := "SkipSchoolModel", name := "ownAngle", desc := "(I)I" } : Jvm.MethodName)) ∈ lw_tbl := lw_at lw_m10 208 rfl
theorem q2439 : (Jvm.Cond.instanceMethod ({ cls := "SkipSchoolModel", name := "ownAngle", desc := "(I)I" } : Jvm.MethodName)) ∈ lw_all := lw_g (lw_at lw_m10 209 rfl) rfl
theorem q2440 : (Jvm.Cond.code ({ cls := "SkipSchoolModel", name := "ownAngle", desc := "(I)I" } : Jvm.MethodName) prog_11_method_24_code (2 : Nat) (Option.some Jvm.ClassFile.FieldType.int)) ∈ lw_all := lw_g (lw_at lw_m10 210 rfl) rfl
theorem q2441 : (Jvm.Cond.methodLink "SkipSchoolModel" (66 : Nat) ({ cls := "SkipSchoolModel", name := "of", desc := "(II)I" } : Jvm.MethodName)) ∈ lw_all := lw_g (lw_at lw_m10 211 rfl) rfl
theorem q2442 : (Jvm.Cond.privateMethod ({ cls := "SkipSchoolModel", name := "of", desc := "(II)I" } : Jvm.MethodName)) ∈ lw_tbl := lw_at lw_m10 212 rfl
theorem q2443 : (Jvm.Cond.instanceMethod ({ cls := "SkipSchoolModel", name := "of", desc := "(II)I" } : Jvm.MethodName)) ∈ lw_all := lw_g (lw_at lw_m10 213 rfl) rfl
theorem q2444 : (Jvm.Cond.code ({ cls := "SkipSchoolModel", name := "of", desc := "(II)I" } : Jvm.MethodName) prog_11_method_12_code (3 : Nat) (Option.some Jvm.ClassFile.FieldType.int)) ∈ lw_all := lw_g (lw_at lw_m10 214 rfl) rfl
theorem q2445 : (Jvm.Cond.methodLink "SkipSchoolModel" (102 : Nat) ({ cls := "SkipSchoolModel", name := "daysFor", desc := "(I)I" } : Jvm.MethodName)) ∈ lw_all := lw_g (lw_at lw_m10 215 rfl) rfl
theorem q2446 : (Jvm.Cond.privateMethod ({ cls := "SkipSchoolModel", name := "daysFor", desc := "(I)I" } : Jvm.MethodName)) ∈ lw_tbl := lw_at lw_m10 216 rfl
theorem q2447 : (Jvm.Cond.instanceMethod ({ cls := "SkipSchoolModel", name := "daysFor", desc := "(I)I" } : Jvm.MethodName)) ∈ lw_all := lw_g (lw_at lw_m10 217 rfl) rfl
theorem q2448 : (Jvm.Cond.code ({ cls := "SkipSchoolModel", name := "daysFor", desc := "(I)I" } : Jvm.MethodName) prog_11_method_25_code (4 : Nat) (Option.some Jvm.ClassFile.FieldType.int)) ∈ lw_all := lw_g (lw_at lw_m10 218 rfl) rfl
theorem q2450 : (Jvm.Cond.instanceMethod ({ cls := "SkipSchoolModel", name := "grade", desc := "(I)C" } : Jvm.MethodName)) ∈ lw_all := lw_g (lw_at lw_m10 220 rfl) rfl
theorem q2451 : (Jvm.Cond.selects "SkipSchoolModel" ({ cls := "SkipSchoolModel", name := "grade", desc := "(I)C" } : Jvm.MethodName) ({ cls := "SkipSchoolModel", name := "grade", desc := "(I)C" } : Jvm.MethodName)) ∈ lw_all := lw_g (lw_at lw_m10 221 rfl) rfl
theorem q2452 : (Jvm.Cond.code ({ cls := "SkipSchoolModel", name := "grade", desc := "(I)C" } : Jvm.MethodName) prog_11_method_30_code (2 : Nat) (Option.some Jvm.ClassFile.FieldType.char)) ∈ lw_all := lw_g (lw_at lw_m10 222 rfl) rfl
theorem q2453 : (Jvm.Cond.methodLink "SkipSchoolModel" (105 : Nat) ({ cls := "SkipSchoolModel", name := "gradeOf", desc := "(I)C" } : Jvm.MethodName)) ∈ lw_all := lw_g (lw_at lw_m10 223 rfl) rfl
theorem q2454 : (Jvm.Cond.privateMethod ({ cls := "SkipSchoolModel", name := "gradeOf", desc := "(I)C" } : Jvm.MethodName)) ∈ lw_tbl := lw_at lw_m10 224 rfl
theorem q2455 : (Jvm.Cond.instanceMethod ({ cls := "SkipSchoolModel", name := "gradeOf", desc := "(I)C" } : Jvm.MethodName)) ∈ lw_all := lw_g (lw_at lw_m10 225 rfl) rfl
theorem q2456 : (Jvm.Cond.code ({ cls := "SkipSchoolModel", name := "gradeOf", desc := "(I)C" } : Jvm.MethodName) prog_11_method_29_code (3 : Nat) (Option.some Jvm.ClassFile.FieldType.char)) ∈ lw_all := lw_g (lw_at lw_m10 226 rfl) rfl
theorem q2458 : (Jvm.Cond.instanceMethod ({ cls := "SkipSchoolModel", name := "riverOf", desc := "(II)I" } : Jvm.MethodName)) ∈ lw_all := lw_g (lw_at lw_m10 228 rfl) rfl
theorem q2459 : (Jvm.Cond.selects "SkipSchoolModel" ({ cls := "SkipSchoolModel", name := "riverOf", desc := "(II)I" } : Jvm.MethodName) ({ cls := "SkipSchoolModel", name := "riverOf", desc := "(II)I" } : Jvm.MethodName)) ∈ lw_all := lw_g (lw_at lw_m10 229 rfl) rfl
theorem q2460 : (Jvm.Cond.code ({ cls := "SkipSchoolModel", name := "riverOf", desc := "(II)I" } : Jvm.MethodName) prog_11_method_31_code (3 : Nat) (Option.some Jvm.ClassFile.FieldType.int)) ∈ lw_all := lw_g (lw_at lw_m10 230 rfl) rfl
theorem q2461 : (Jvm.Cond.methodLink "SkipSchoolModel" (109 : Nat) ({ cls := "SkipSchoolModel", name := "daysOf", desc := "(I)I" } : Jvm.MethodName)) ∈ lw_all := lw_g (lw_at lw_m10 231 rfl) rfl
theorem q2462 : (Jvm.Cond.privateMethod ({ cls := "SkipSchoolModel", name := "daysOf", desc := "(I)I" } : Jvm.MethodName)) ∈ lw_tbl := lw_at lw_m10 232 rfl
theorem q2463 : (Jvm.Cond.instanceMethod ({ cls := "SkipSchoolModel", name := "daysOf", desc := "(I)I" } : Jvm.MethodName)) ∈ lw_all := lw_g (lw_at lw_m10 233 rfl) rfl
theorem q2464 : (Jvm.Cond.code ({ cls := "SkipSchoolModel", name := "daysOf", desc := "(I)I" } : Jvm.MethodName) prog_11_method_26_code (4 : Nat) (Option.some Jvm.ClassFile.FieldType.int)) ∈ lw_all := lw_g (lw_at lw_m10 234 rfl) rfl
theorem q2465 : (Jvm.Cond.methodLink "SkipSchoolModel" (92 : Nat) ({ cls := "SkipSchoolModel", name := "bookedFor", desc := "(II)I" } : Jvm.MethodName)) ∈ lw_all := lw_g (lw_at lw_m10 235 rfl) rfl
theorem q2466 : (Jvm.Cond.privateMethod ({ cls := "SkipSchoolModel", name := "bookedFor", desc := "(II)I" } : Jvm.MethodName)) ∈ lw_tbl := lw_at lw_m10 236 rfl
theorem q2467 : (Jvm.Cond.instanceMethod ({ cls := "SkipSchoolModel", name := "bookedFor", desc := "(II)I" } : Jvm.MethodName)) ∈ lw_all := lw_g (lw_at lw_m10 237 rfl) rfl
theorem q2468 : (Jvm.Cond.code ({ cls := "SkipSchoolModel", name := "bookedFor", desc := "(II)I" } : Jvm.MethodName) prog_11_method_15_code (3 : Nat) (Option.some Jvm.ClassFile.FieldType.int)) ∈ lw_all := lw_g (lw_at lw_m10 238 rfl) rfl
theorem q2469 : (Jvm.Cond.methodLink "SkipSchoolModel" (112 : Nat) ({ cls := "SkipSchoolModel", name := "stay", desc := "(I)I" } : Jvm.MethodName)) ∈ lw_all := lw_g (lw_at lw_m10 239 rfl) rfl
theorem q2470 : (Jvm.Cond.privateMethod ({ cls := "SkipSchoolModel", name := "stay", desc := "(I)I" } : Jvm.MethodName)) ∈ lw_tbl := lw_at lw_m11 0 rfl
theorem q2471 : (Jvm.Cond.instanceMethod ({ cls := "SkipSchoolModel", name := "stay", desc := "(I)I" } : Jvm.MethodName)) ∈ lw_all := lw_g (lw_at lw_m11 1 rfl) rfl
theorem q2472 : (Jvm.Cond.code ({ cls := "SkipSchoolModel", name := "stay", desc := "(I)I" } : Jvm.MethodName) prog_11_method_27_code (4 : Nat) (Option.some Jvm.ClassFile.FieldType.int)) ∈ lw_all := lw_g (lw_at lw_m11 2 rfl) rfl
theorem q2474 : (Jvm.Cond.instanceMethod ({ cls := "SkipSchoolModel", name := "book", desc := "(III)I" } : Jvm.MethodName)) ∈ lw_all := lw_g (lw_at lw_m11 4 rfl) rfl
theorem q2475 : (Jvm.Cond.selects "SkipSchoolModel" ({ cls := "SkipSchoolModel", name := "book", desc := "(III)I" } : Jvm.MethodName) ({ cls := "SkipSchoolModel", name := "book", desc := "(III)I" } : Jvm.MethodName)) ∈ lw_all := lw_g (lw_at lw_m11 5 rfl) rfl
theorem q2476 : (Jvm.Cond.code ({ cls := "SkipSchoolModel", name := "book", desc := "(III)I" } : Jvm.MethodName) prog_11_method_32_code (4 : Nat) (Option.some Jvm.ClassFile.FieldType.int)) ∈ lw_all := lw_g (lw_at lw_m11 6 rfl) rfl
theorem q2477 : (Jvm.Cond.methodLink "SkipSchoolModel" (115 : Nat) ({ cls := "SkipSchoolModel", name := "isAhead", desc := "(I)Z" } : Jvm.MethodName)) ∈ lw_all := lw_g (lw_at lw_m11 7 rfl) rfl
theorem q2478 : (Jvm.Cond.static ({ cls := "SkipSchoolModel", name := "isAhead", desc := "(I)Z" } : Jvm.MethodName)) ∈ lw_all := lw_g (lw_at lw_m11 8 rfl) rfl
theorem q2479 : (Jvm.Cond.code ({ cls := "SkipSchoolModel", name := "isAhead", desc := "(I)Z" } : Jvm.MethodName) prog_11_method_19_code (1 : Nat) (Option.some Jvm.ClassFile.FieldType.boolean)) ∈ lw_all := lw_g (lw_at lw_m11 9 rfl) rfl
theorem q2480 : (Jvm.Cond.methodLink "SkipSchoolModel" (118 : Nat) ({ cls := "SkipSchoolModel", name := "isSunk", desc := "(I)Z" } : Jvm.MethodName)) ∈ lw_all := lw_g (lw_at lw_m11 10 rfl) rfl
theorem q2481 : (Jvm.Cond.privateMethod ({ cls := "SkipSchoolModel", name := "isSunk", desc := "(I)Z" } : Jvm.MethodName)) ∈ lw_tbl := lw_at lw_m11 11 rfl
theorem q2482 : (Jvm.Cond.instanceMethod ({ cls := "SkipSchoolModel", name := "isSunk", desc := "(I)Z" } : Jvm.MethodName)) ∈ lw_all := lw_g (lw_at lw_m11 12 rfl) rfl
theorem q2483 : (Jvm.Cond.code ({ cls := "SkipSchoolModel", name := "isSunk", desc := "(I)Z" } : Jvm.MethodName) prog_11_method_18_code (2 : Nat) (Option.some Jvm.ClassFile.FieldType.boolean)) ∈ lw_all := lw_g (lw_at lw_m11 13 rfl) rfl
theorem q2485 : (Jvm.Cond.instanceMethod ({ cls := "SkipSchoolModel", name := "free", desc := "(II)I" } : Jvm.MethodName)) ∈ lw_all := lw_g (lw_at lw_m11 15 rfl) rfl
theorem q2486 : (Jvm.Cond.selects "SkipSchoolModel" ({ cls := "SkipSchoolModel", name := "free", desc := "(II)I" } : Jvm.MethodName) ({ cls := "SkipSchoolModel", name := "free", desc := "(II)I" } : Jvm.MethodName)) ∈ lw_all := lw_g (lw_at lw_m11 16 rfl) rfl
theorem q2487 : (Jvm.Cond.code ({ cls := "SkipSchoolModel", name := "free", desc := "(II)I" } : Jvm.MethodName) prog_11_method_33_code (4 : Nat) (Option.some Jvm.ClassFile.FieldType.int)) ∈ lw_all := lw_g (lw_at lw_m11 17 rfl) rfl
theorem q2489 : (Jvm.Cond.instanceMethod ({ cls := "SkipSchoolModel", name := "booked", desc := "(II)I" } : Jvm.MethodName)) ∈ lw_all := lw_g (lw_at lw_m11 19 rfl) rfl
theorem q2490 : (Jvm.Cond.selects "SkipSchoolModel" ({ cls := "SkipSchoolModel", name := "booked", desc := "(II)I" } : Jvm.MethodName) ({ cls := "SkipSchoolModel", name := "booked", desc := "(II)I" } : Jvm.MethodName)) ∈ lw_all := lw_g (lw_at lw_m11 20 rfl) rfl
theorem q2491 : (Jvm.Cond.code ({ cls := "SkipSchoolModel", name := "booked", desc := "(II)I" } : Jvm.MethodName) prog_11_method_34_code (3 : Nat) (Option.some Jvm.ClassFile.FieldType.int)) ∈ lw_all := lw_g (lw_at lw_m11 21 rfl) rfl
theorem q2493 : (Jvm.Cond.instanceMethod ({ cls := "SkipSchoolModel", name := "nextFree", desc := "(II)I" } : Jvm.MethodName)) ∈ lw_all := lw_g (lw_at lw_m11 23 rfl) rfl
theorem q2494 : (Jvm.Cond.selects "SkipSchoolModel" ({ cls := "SkipSchoolModel", name := "nextFree", desc := "(II)I" } : Jvm.MethodName) ({ cls := "SkipSchoolModel", name := "nextFree", desc := "(II)I" } : Jvm.MethodName)) ∈ lw_all := lw_g (lw_at lw_m11 24 rfl) rfl
theorem q2495 : (Jvm.Cond.code ({ cls := "SkipSchoolModel", name := "nextFree", desc := "(II)I" } : Jvm.MethodName) prog_11_method_35_code (5 : Nat) (Option.some Jvm.ClassFile.FieldType.int)) ∈ lw_all := lw_g (lw_at lw_m11 25 rfl) rfl
theorem q2497 : (Jvm.Cond.instanceMethod ({ cls := "SkipSchoolModel", name := "teach", desc := "(I)I" } : Jvm.MethodName)) ∈ lw_all := lw_g (lw_at lw_m11 27 rfl) rfl
theorem q2498 : (Jvm.Cond.selects "SkipSchoolModel" ({ cls := "SkipSchoolModel", name := "teach", desc := "(I)I" } : Jvm.MethodName) ({ cls := "SkipSchoolModel", name := "teach", desc := "(I)I" } : Jvm.MethodName)) ∈ lw_all := lw_g (lw_at lw_m11 28 rfl) rfl
theorem q2499 : (Jvm.Cond.code ({ cls := "SkipSchoolModel", name := "teach", desc := "(I)I" } : Jvm.MethodName) prog_11_method_40_code (2 : Nat) (Option.some Jvm.ClassFile.FieldType.int)) ∈ lw_all := lw_g (lw_at lw_m11 29 rfl) rfl
theorem q2500 : (Jvm.Cond.methodLink "SkipSchoolModel" (130 : Nat) ({ cls := "SkipSchoolModel", name := "atMost", desc := "(II)I" } : Jvm.MethodName)) ∈ lw_all := lw_g (lw_at lw_m11 30 rfl) rfl
theorem q2501 : (Jvm.Cond.static ({ cls := "SkipSchoolModel", name := "atMost", desc := "(II)I" } : Jvm.MethodName)) ∈ lw_all := lw_g (lw_at lw_m11 31 rfl) rfl
theorem q2502 : (Jvm.Cond.code ({ cls := "SkipSchoolModel", name := "atMost", desc := "(II)I" } : Jvm.MethodName) prog_11_method_6_code (2 : Nat) (Option.some Jvm.ClassFile.FieldType.int)) ∈ lw_all := lw_g (lw_at lw_m11 32 rfl) rfl
theorem q2504 : (Jvm.Cond.instanceMethod ({ cls := "SkipSchoolModel", name := "trial", desc := "(IIII)I" } : Jvm.MethodName)) ∈ lw_all := lw_g (lw_at lw_m11 34 rfl) rfl
theorem q2505 : (Jvm.Cond.selects "SkipSchoolModel" ({ cls := "SkipSchoolModel", name := "trial", desc := "(IIII)I" } : Jvm.MethodName) ({ cls := "SkipSchoolModel", name := "trial", desc := "(IIII)I" } : Jvm.MethodName)) ∈ lw_all := lw_g (lw_at lw_m11 35 rfl) rfl
theorem q2506 : (Jvm.Cond.code ({ cls := "SkipSchoolModel", name := "trial", desc := "(IIII)I" } : Jvm.MethodName) prog_11_method_42_code (6 : Nat) (Option.some Jvm.ClassFile.FieldType.int)) ∈ lw_all := lw_g (lw_at lw_m11 36 rfl) rfl
theorem q2507 : (Jvm.Cond.methodLink "SkipSchoolModel" (137 : Nat) ({ cls := "SkipSchoolModel", name := "isWrong", desc := "(IIII)Z" } : Jvm.MethodName)) ∈ lw_all := lw_g (lw_at lw_m11 37 rfl) rfl
theorem q2508 : (Jvm.Cond.privateMethod ({ cls := "SkipSchoolModel", name := "isWrong", desc := "(IIII)Z" } : Jvm.MethodName)) ∈ lw_tbl := lw_at lw_m11 38 rfl
theorem q2509 : (Jvm.Cond.instanceMethod ({ cls := "SkipSchoolModel", name := "isWrong", desc := "(IIII)Z" } : Jvm.MethodName)) ∈ lw_all := lw_g (lw_at lw_m11 39 rfl) rfl
theorem q2510 : (Jvm.Cond.code ({ cls := "SkipSchoolModel", name := "isWrong", desc := "(IIII)Z" } : Jvm.MethodName) prog_11_method_41_code (5 : Nat) (Option.some Jvm.ClassFile.FieldType.boolean)) ∈ lw_all := lw_g (lw_at lw_m11 40 rfl) rfl
theorem q2511 : (Jvm.Cond.methodLink "SkipSchoolModel" (133 : Nat) ({ cls := "SkipSchoolModel", name := "isThrow", desc := "(II)Z" } : Jvm.MethodName)) ∈ lw_all := lw_g (lw_at lw_m11 41 rfl) rfl
theorem q2512 : (Jvm.Cond.static ({ cls := "SkipSchoolModel", name := "isThrow", desc := "(II)Z" } : Jvm.MethodName)) ∈ lw_all := lw_g (lw_at lw_m11 42 rfl) rfl
theorem q2513 : (Jvm.Cond.code ({ cls := "SkipSchoolModel", name := "isThrow", desc := "(II)Z" } : Jvm.MethodName) prog_11_method_20_code (2 : Nat) (Option.some Jvm.ClassFile.FieldType.boolean)) ∈ lw_all := lw_g (lw_at lw_m11 43 rfl) rfl
theorem q2514 : (Jvm.Cond.methodLink "SkipSchoolModel" (141 : Nat) ({ cls := "SkipSchoolModel", name := "skipsOf", desc := "(IIII)I" } : Jvm.MethodName)) ∈ lw_all := lw_g (lw_at lw_m11 44 rfl) rfl
theorem q2515 : (Jvm.Cond.privateMethod ({ cls := "SkipSchoolModel", name := "skipsOf", desc := "(IIII)I" } : Jvm.MethodName)) ∈ lw_tbl := lw_at lw_m11 45 rfl
theorem q2516 : (Jvm.Cond.instanceMethod ({ cls := "SkipSchoolModel", name := "skipsOf", desc := "(IIII)I" } : Jvm.MethodName)) ∈ lw_all := lw_g (lw_at lw_m11 46 rfl) rfl
theorem q2517 : (Jvm.Cond.code ({ cls := "SkipSchoolModel", name := "skipsOf", desc := "(IIII)I" } : Jvm.MethodName) prog_11_method_38_code (8 : Nat) (Option.some Jvm.ClassFile.FieldType.int)) ∈ lw_all := lw_g (lw_at lw_m11 47 rfl) rfl
theorem q2518 : (Jvm.Cond.methodLink "SkipSchoolModel" (124 : Nat) ({ cls := "SkipSchoolModel", name := "drag", desc := "(III)I" } : Jvm.MethodName)) ∈ lw_all := lw_g (lw_at lw_m11 48 rfl) rfl
theorem q2519 : (Jvm.Cond.privateMethod ({ cls := "SkipSchoolModel", name := "drag", desc := "(III)I" } : Jvm.MethodName)) ∈ lw_tbl := lw_at lw_m11 49 rfl
theorem q2520 : (Jvm.Cond.instanceMethod ({ cls := "SkipSchoolModel", name := "drag", desc := "(III)I" } : Jvm.MethodName)) ∈ lw_all := lw_g (lw_at lw_m11 50 rfl) rfl
theorem q2521 : (Jvm.Cond.code ({ cls := "SkipSchoolModel", name := "drag", desc := "(III)I" } : Jvm.MethodName) prog_11_method_37_code (4 : Nat) (Option.some Jvm.ClassFile.FieldType.int)) ∈ lw_all := lw_g (lw_at lw_m11 51 rfl) rfl
theorem q2522 : (Jvm.Cond.methodLink "SkipSchoolModel" (121 : Nat) ({ cls := "SkipSchoolModel", name := "apart", desc := "(II)I" } : Jvm.MethodName)) ∈ lw_all := lw_g (lw_at lw_m11 52 rfl) rfl
theorem q2523 : (Jvm.Cond.static ({ cls := "SkipSchoolModel", name := "apart", desc := "(II)I" } : Jvm.MethodName)) ∈ lw_all := lw_g (lw_at lw_m11 53 rfl) rfl
theorem q2524 : (Jvm.Cond.code ({ cls := "SkipSchoolModel", name := "apart", desc := "(II)I" } : Jvm.MethodName) prog_11_method_7_code (2 : Nat) (Option.some Jvm.ClassFile.FieldType.int)) ∈ lw_all := lw_g (lw_at lw_m11 54 rfl) rfl
theorem q2525 : (Jvm.Cond.methodLink "SkipSchoolModel" (127 : Nat) ({ cls := "SkipSchoolModel", name := "strength", desc := "(II)I" } : Jvm.MethodName)) ∈ lw_all := lw_g (lw_at lw_m11 55 rfl) rfl
theorem q2526 : (Jvm.Cond.privateMethod ({ cls := "SkipSchoolModel", name := "strength", desc := "(II)I" } : Jvm.MethodName)) ∈ lw_tbl := lw_at lw_m11 56 rfl
theorem q2527 : (Jvm.Cond.instanceMethod ({ cls := "SkipSchoolModel", name := "strength", desc := "(II)I" } : Jvm.MethodName)) ∈ lw_all := lw_g (lw_at lw_m11 57 rfl) rfl
theorem q2528 : (Jvm.Cond.code ({ cls := "SkipSchoolModel", name := "strength", desc := "(II)I" } : Jvm.MethodName) prog_11_method_36_code (3 : Nat) (Option.some Jvm.ClassFile.FieldType.int)) ∈ lw_all := lw_g (lw_at lw_m11 58 rfl) rfl
theorem q2530 : (Jvm.Cond.instanceMethod ({ cls := "SkipSchoolModel", name := "skim", desc := "(IIII)I" } : Jvm.MethodName)) ∈ lw_all := lw_g (lw_at lw_m11 60 rfl) rfl
theorem q2531 : (Jvm.Cond.selects "SkipSchoolModel" ({ cls := "SkipSchoolModel", name := "skim", desc := "(IIII)I" } : Jvm.MethodName) ({ cls := "SkipSchoolModel", name := "skim", desc := "(IIII)I" } : Jvm.MethodName)) ∈ lw_all := lw_g (lw_at lw_m11 61 rfl) rfl
theorem q2532 : (Jvm.Cond.code ({ cls := "SkipSchoolModel", name := "skim", desc := "(IIII)I" } : Jvm.MethodName) prog_11_method_43_code (7 : Nat) (Option.some Jvm.ClassFile.FieldType.int)) ∈ lw_all := lw_g (lw_at lw_m11 62 rfl) rfl
theorem q2533 : (Jvm.Cond.methodLink "SkipSchoolModel" (145 : Nat) ({ cls := "SkipSchoolModel", name := "wayOf", desc := "(IIII)I" } : Jvm.MethodName)) ∈ lw_all := lw_g (lw_at lw_m11 63 rfl) rfl
theorem q2534 : (Jvm.Cond.privateMethod ({ cls := "SkipSchoolModel", name := "wayOf", desc := "(IIII)I" } : Jvm.MethodName)) ∈ lw_tbl := lw_at lw_m11 64 rfl
theorem q2535 : (Jvm.Cond.instanceMethod ({ cls := "SkipSchoolModel", name := "wayOf", desc := "(IIII)I" } : Jvm.MethodName)) ∈ lw_all := lw_g (lw_at lw_m11 65 rfl) rfl
theorem q2536 : (Jvm.Cond.code ({ cls := "SkipSchoolModel", name := "wayOf", desc := "(IIII)I" } : Jvm.MethodName) prog_11_method_39_code (8 : Nat) (Option.some Jvm.ClassFile.FieldType.int)) ∈ lw_all := lw_g (lw_at lw_m11 66 rfl) rfl
theorem q2538 : (Jvm.Cond.instanceMethod ({ cls := "SkipSchoolModel", name := "fetch", desc := "(I)I" } : Jvm.MethodName)) ∈ lw_all := lw_g (lw_at lw_m11 68 rfl) rfl
theorem q2539 : (Jvm.Cond.selects "SkipSchoolModel" ({ cls := "SkipSchoolModel", name := "fetch", desc := "(I)I" } : Jvm.MethodName) ({ cls := "SkipSchoolModel", name := "fetch", desc := "(I)I" } : Jvm.MethodName)) ∈ lw_all := lw_g (lw_at lw_m11 69 rfl) rfl
theorem q2540 : (Jvm.Cond.code ({ cls := "SkipSchoolModel", name := "fetch", desc := "(I)I" } : Jvm.MethodName) prog_11_method_44_code (2 : Nat) (Option.some Jvm.ClassFile.FieldType.int)) ∈ lw_all := lw_g (lw_at lw_m11 70 rfl) rfl
theorem q2542 : (Jvm.Cond.instanceMethod ({ cls := "SkipSchoolModel", name := "day", desc := "()I" } : Jvm.MethodName)) ∈ lw_all := lw_g (lw_at lw_m11 72 rfl) rfl
theorem q2543 : (Jvm.Cond.selects "SkipSchoolModel" ({ cls := "SkipSchoolModel", name := "day", desc := "()I" } : Jvm.MethodName) ({ cls := "SkipSchoolModel", name := "day", desc := "()I" } : Jvm.MethodName)) ∈ lw_all := lw_g (lw_at lw_m11 73 rfl) rfl
theorem q2544 : (Jvm.Cond.code ({ cls := "SkipSchoolModel", name := "day", desc := "()I" } : Jvm.MethodName) prog_11_method_45_code (4 : Nat) (Option.some Jvm.ClassFile.FieldType.int)) ∈ lw_all := lw_g (lw_at lw_m11 74 rfl) rfl
theorem q2546 : (Jvm.Cond.instanceMethod ({ cls := "SkipSchoolModel", name := "skips", desc := "(IIIIZ)I" } : Jvm.MethodName)) ∈ lw_all := lw_g (lw_at lw_m11 76 rfl) rfl
theorem q2547 : (Jvm.Cond.selects "SkipSchoolModel" ({ cls := "SkipSchoolModel", name := "skips", desc := "(IIIIZ)I" } : Jvm.MethodName) ({ cls := "SkipSchoolModel", name := "skips", desc := "(IIIIZ)I" } : Jvm.MethodName)) ∈ lw_all := lw_g (lw_at lw_m11 77 rfl) rfl
theorem q2548 : (Jvm.Cond.code ({ cls := "SkipSchoolModel", name := "skips", desc := "(IIIIZ)I" } : Jvm.MethodName) prog_11_method_46_code (6 : Nat) (Option.some Jvm.ClassFile.FieldType.int)) ∈ lw_all := lw_g (lw_at lw_m11 78 rfl) rfl
theorem q2550 : (Jvm.Cond.instanceMethod ({ cls := "SkipSchoolModel", name := "way", desc := "(IIIIZ)I" } : Jvm.MethodName)) ∈ lw_all := lw_g (lw_at lw_m11 80 rfl) rfl
theorem q2551 : (Jvm.Cond.selects "SkipSchoolModel" ({ cls := "SkipSchoolModel", name := "way", desc := "(IIIIZ)I" } : Jvm.MethodName) ({ cls := "SkipSchoolModel", name := "way", desc := "(IIIIZ)I" } : Jvm.MethodName)) ∈ lw_all := lw_g (lw_at lw_m11 81 rfl) rfl
theorem q2552 : (Jvm.Cond.code ({ cls := "SkipSchoolModel", name := "way", desc := "(IIIIZ)I" } : Jvm.MethodName) prog_11_method_47_code (6 : Nat) (Option.some Jvm.ClassFile.FieldType.int)) ∈ lw_all := lw_g (lw_at lw_m11 82 rfl) rfl
theorem q2554 : (Jvm.Cond.instanceMethod ({ cls := "SkipSchoolModel", name := "bestAngle", desc := "(III)I" } : Jvm.MethodName)) ∈ lw_all := lw_g (lw_at lw_m11 84 rfl) rfl
theorem q2555 : (Jvm.Cond.selects "SkipSchoolModel" ({ cls := "SkipSchoolModel", name := "bestAngle", desc := "(III)I" } : Jvm.MethodName) ({ cls := "SkipSchoolModel", name := "bestAngle", desc := "(III)I" } : Jvm.MethodName)) ∈ lw_all := lw_g (lw_at lw_m11 85 rfl) rfl
theorem q2556 : (Jvm.Cond.code ({ cls := "SkipSchoolModel", name := "bestAngle", desc := "(III)I" } : Jvm.MethodName) prog_11_method_48_code (6 : Nat) (Option.some Jvm.ClassFile.FieldType.int)) ∈ lw_all := lw_g (lw_at lw_m11 86 rfl) rfl
theorem q2558 : (Jvm.Cond.instanceMethod ({ cls := "SkipSchoolModel", name := "leastSpeed", desc := "(III)I" } : Jvm.MethodName)) ∈ lw_all := lw_g (lw_at lw_m11 88 rfl) rfl
theorem q2559 : (Jvm.Cond.selects "SkipSchoolModel" ({ cls := "SkipSchoolModel", name := "leastSpeed", desc := "(III)I" } : Jvm.MethodName) ({ cls := "SkipSchoolModel", name := "leastSpeed", desc := "(III)I" } : Jvm.MethodName)) ∈ lw_all := lw_g (lw_at lw_m11 89 rfl) rfl
theorem q2560 : (Jvm.Cond.code ({ cls := "SkipSchoolModel", name := "leastSpeed", desc := "(III)I" } : Jvm.MethodName) prog_11_method_49_code (5 : Nat) (Option.some Jvm.ClassFile.FieldType.int)) ∈ lw_all := lw_g (lw_at lw_m11 90 rfl) rfl
theorem q2562 : (Jvm.Cond.instanceMethod ({ cls := "SkipSchoolModel", name := "alumnus", desc := "(I)I" } : Jvm.MethodName)) ∈ lw_all := lw_g (lw_at lw_m11 92 rfl) rfl
theorem q2563 : (Jvm.Cond.selects "SkipSchoolModel" ({ cls := "SkipSchoolModel", name := "alumnus", desc := "(I)I" } : Jvm.MethodName) ({ cls := "SkipSchoolModel", name := "alumnus", desc := "(I)I" } : Jvm.MethodName)) ∈ lw_all := lw_g (lw_at lw_m11 93 rfl) rfl
theorem q2564 : (Jvm.Cond.code ({ cls := "SkipSchoolModel", name := "alumnus", desc := "(I)I" } : Jvm.MethodName) prog_11_method_50_code (2 : Nat) (Option.some Jvm.ClassFile.FieldType.int)) ∈ lw_all := lw_g (lw_at lw_m11 94 rfl) rfl
theorem q2566 : (Jvm.Cond.instanceMethod ({ cls := "SkipSchoolModel", name := "sankOn", desc := "(I)I" } : Jvm.MethodName)) ∈ lw_all := lw_g (lw_at lw_m11 96 rfl) rfl
theorem q2567 : (Jvm.Cond.selects "SkipSchoolModel" ({ cls := "SkipSchoolModel", name := "sankOn", desc := "(I)I" } : Jvm.MethodName) ({ cls := "SkipSchoolModel", name := "sankOn", desc := "(I)I" } : Jvm.MethodName)) ∈ lw_all := lw_g (lw_at lw_m11 97 rfl) rfl
theorem q2568 : (Jvm.Cond.code ({ cls := "SkipSchoolModel", name := "sankOn", desc := "(I)I" } : Jvm.MethodName) prog_11_method_51_code (2 : Nat) (Option.some Jvm.ClassFile.FieldType.int)) ∈ lw_all := lw_g (lw_at lw_m11 98 rfl) rfl
theorem q2570 : (Jvm.Cond.instanceMethod ({ cls := "SkipSchoolModel", name := "ranked", desc := "(II)I" } : Jvm.MethodName)) ∈ lw_all := lw_g (lw_at lw_m11 100 rfl) rfl
theorem q2571 : (Jvm.Cond.selects "SkipSchoolModel" ({ cls := "SkipSchoolModel", name := "ranked", desc := "(II)I" } : Jvm.MethodName) ({ cls := "SkipSchoolModel", name := "ranked", desc := "(II)I" } : Jvm.MethodName)) ∈ lw_all := lw_g (lw_at lw_m11 101 rfl) rfl
theorem q2572 : (Jvm.Cond.code ({ cls := "SkipSchoolModel", name := "ranked", desc := "(II)I" } : Jvm.MethodName) prog_11_method_52_code (7 : Nat) (Option.some Jvm.ClassFile.FieldType.int)) ∈ lw_all := lw_g (lw_at lw_m11 102 rfl) rfl
theorem q2574 : (Jvm.Cond.instanceMethod ({ cls := "SkipSchoolModel", name := "graded", desc := "(C)I" } : Jvm.MethodName)) ∈ lw_all := lw_g (lw_at lw_m11 104 rfl) rfl
theorem q2575 : (Jvm.Cond.selects "SkipSchoolModel" ({ cls := "SkipSchoolModel", name := "graded", desc := "(C)I" } : Jvm.MethodName) ({ cls := "SkipSchoolModel", name := "graded", desc := "(C)I" } : Jvm.MethodName)) ∈ lw_all := lw_g (lw_at lw_m11 105 rfl) rfl
theorem q2576 : (Jvm.Cond.code ({ cls := "SkipSchoolModel", name := "graded", desc := "(C)I" } : Jvm.MethodName) prog_11_method_53_code (4 : Nat) (Option.some Jvm.ClassFile.FieldType.int)) ∈ lw_all := lw_g (lw_at lw_m11 106 rfl) rfl
theorem q2578 : (Jvm.Cond.instanceMethod ({ cls := "SkipSchoolModel", name := "isRight", desc := "()Z" } : Jvm.MethodName)) ∈ lw_all := lw_g (lw_at lw_m11 108 rfl) rfl
theorem q2579 : (Jvm.Cond.selects "SkipSchoolModel" ({ cls := "SkipSchoolModel", name := "isRight", desc := "()Z" } : Jvm.MethodName) ({ cls := "SkipSchoolModel", name := "isRight", desc := "()Z" } : Jvm.MethodName)) ∈ lw_all := lw_g (lw_at lw_m11 109 rfl) rfl
theorem q2580 : (Jvm.Cond.code ({ cls := "SkipSchoolModel", name := "isRight", desc := "()Z" } : Jvm.MethodName) prog_11_method_54_code (1 : Nat) (Option.some Jvm.ClassFile.FieldType.boolean)) ∈ lw_all := lw_g (lw_at lw_m11 110 rfl) rfl
theorem q2582 : (Jvm.Cond.instanceMethod ({ cls := "SkipSchoolModel", name := "line", desc := "(I)I" } : Jvm.MethodName)) ∈ lw_all := lw_g (lw_at lw_m11 112 rfl) rfl
theorem q2583 : (Jvm.Cond.selects "SkipSchoolModel" ({ cls := "SkipSchoolModel", name := "line", desc := "(I)I" } : Jvm.MethodName) ({ cls := "SkipSchoolModel", name := "line", desc := "(I)I" } : Jvm.MethodName)) ∈ lw_all := lw_g (lw_at lw_m11 113 rfl) rfl
theorem q2584 : (Jvm.Cond.code ({ cls := "SkipSchoolModel", name := "line", desc := "(I)I" } : Jvm.MethodName) prog_11_method_57_code (2 : Nat) (Option.some Jvm.ClassFile.FieldType.int)) ∈ lw_all := lw_g (lw_at lw_m11 114 rfl) rfl
theorem q2585 : (Jvm.Cond.methodLink "SkipSchoolModel" (155 : Nat) ({ cls := "SkipSchoolModel", name := "writesNumber", desc := "(I)V" } : Jvm.MethodName)) ∈ lw_all := lw_g (lw_at lw_m11 115 rfl) rfl
theorem q2586 : (Jvm.Cond.privateMethod ({ cls := "SkipSchoolModel", name := "writesNumber", desc := "(I)V" } : Jvm.MethodName)) ∈ lw_tbl := lw_at lw_m11 116 rfl
theorem q2587 : (Jvm.Cond.instanceMethod ({ cls := "SkipSchoolModel", name := "writesNumber", desc := "(I)V" } : Jvm.MethodName)) ∈ lw_all := lw_g (lw_at lw_m11 117 rfl) rfl
theorem q2588 : (Jvm.Cond.code ({ cls := "SkipSchoolModel", name := "writesNumber", desc := "(I)V" } : Jvm.MethodName) prog_11_method_56_code (2 : Nat) (Option.none : Option Jvm.ClassFile.FieldType)) ∈ lw_all := lw_g (lw_at lw_m11 118 rfl) rfl
theorem q2589 : (Jvm.Cond.methodLink "SkipSchoolModel" (151 : Nat) ({ cls := "SkipSchoolModel", name := "writes", desc := "(I)V" } : Jvm.MethodName)) ∈ lw_all := lw_g (lw_at lw_m11 119 rfl) rfl
theorem q2590 : (Jvm.Cond.privateMethod ({ cls := "SkipSchoolModel", name := "writes", desc := "(I)V" } : Jvm.MethodName)) ∈ lw_tbl := lw_at lw_m11 120 rfl
theorem q2591 : (Jvm.Cond.instanceMethod ({ cls := "SkipSchoolModel", name := "writes", desc := "(I)V" } : Jvm.MethodName)) ∈ lw_all := lw_g (lw_at lw_m11 121 rfl) rfl
theorem q2592 : (Jvm.Cond.code ({ cls := "SkipSchoolModel", name := "writes", desc := "(I)V" } : Jvm.MethodName) prog_11_method_55_code (2 : Nat) (Option.none : Option Jvm.ClassFile.FieldType)) ∈ lw_all := lw_g (lw_at lw_m11 122 rfl) rfl
theorem q2594 : (Jvm.Cond.instanceMethod ({ cls := "SkipSchoolModel", name := "riverLine", desc := "(I)I" } : Jvm.MethodName)) ∈ lw_all := lw_g (lw_at lw_m11 124 rfl) rfl
theorem q2595 : (Jvm.Cond.selects "SkipSchoolModel" ({ cls := "SkipSchoolModel", name := "riverLine", desc := "(I)I" } : Jvm.MethodName) ({ cls := "SkipSchoolModel", name := "riverLine", desc := "(I)I" } : Jvm.MethodName)) ∈ lw_all := lw_g (lw_at lw_m11 125 rfl) rfl
theorem q2596 : (Jvm.Cond.code ({ cls := "SkipSchoolModel", name := "riverLine", desc := "(I)I" } : Jvm.MethodName) prog_11_method_58_code (3 : Nat) (Option.some Jvm.ClassFile.FieldType.int)) ∈ lw_all := lw_g (lw_at lw_m11 126 rfl) rfl
theorem q2598 : (Jvm.Cond.instanceMethod ({ cls := "SkipSchoolModel", name := "character", desc := "(I)C" } : Jvm.MethodName)) ∈ lw_all := lw_g (lw_at lw_m11 128 rfl) rfl
theorem q2599 : (Jvm.Cond.selects "SkipSchoolModel" ({ cls := "SkipSchoolModel", name := "character", desc := "(I)C" } : Jvm.MethodName) ({ cls := "SkipSchoolModel", name := "character", desc := "(I)C" } : Jvm.MethodName)) ∈ lw_all := lw_g (lw_at lw_m11 129 rfl) rfl
theorem q2600 : (Jvm.Cond.code ({ cls := "SkipSchoolModel", name := "character", desc := "(I)C" } : Jvm.MethodName) prog_11_method_59_code (2 : Nat) (Option.some Jvm.ClassFile.FieldType.char)) ∈ lw_all := lw_g (lw_at lw_m11 130 rfl) rfl
theorem q2602 : (Jvm.Cond.instanceMethod ({ cls := "SkipSchoolModel", name := "refusal", desc := "(Z)I" } : Jvm.MethodName)) ∈ lw_all := lw_g (lw_at lw_m11 132 rfl) rfl
theorem q2603 : (Jvm.Cond.selects "SkipSchoolModel" ({ cls := "SkipSchoolModel", name := "refusal", desc := "(Z)I" } : Jvm.MethodName) ({ cls := "SkipSchoolModel", name := "refusal", desc := "(Z)I" } : Jvm.MethodName)) ∈ lw_all := lw_g (lw_at lw_m11 133 rfl) rfl
theorem q2604 : (Jvm.Cond.code ({ cls := "SkipSchoolModel", name := "refusal", desc := "(Z)I" } : Jvm.MethodName) prog_11_method_60_code (2 : Nat) (Option.some Jvm.ClassFile.FieldType.int)) ∈ lw_all := lw_g (lw_at lw_m11 134 rfl) rfl
theorem q2606 : (Jvm.Cond.instanceMethod ({ cls := "SkipSchoolModel", name := "account", desc := "(I)I" } : Jvm.MethodName)) ∈ lw_all := lw_g (lw_at lw_m11 136 rfl) rfl
theorem q2607 : (Jvm.Cond.selects "SkipSchoolModel" ({ cls := "SkipSchoolModel", name := "account", desc := "(I)I" } : Jvm.MethodName) ({ cls := "SkipSchoolModel", name := "account", desc := "(I)I" } : Jvm.MethodName)) ∈ lw_all := lw_g (lw_at lw_m11 137 rfl) rfl
theorem q2608 : (Jvm.Cond.code ({ cls := "SkipSchoolModel", name := "account", desc := "(I)I" } : Jvm.MethodName) prog_11_method_62_code (2 : Nat) (Option.some Jvm.ClassFile.FieldType.int)) ∈ lw_all := lw_g (lw_at lw_m11 138 rfl) rfl
theorem q2609 : (Jvm.Cond.methodLink "SkipSchoolModel" (158 : Nat) ({ cls := "SkipSchoolModel", name := "bookings", desc := "()I" } : Jvm.MethodName)) ∈ lw_all := lw_g (lw_at lw_m11 139 rfl) rfl
theorem q2610 : (Jvm.Cond.privateMethod ({ cls := "SkipSchoolModel", name := "bookings", desc := "()I" } : Jvm.MethodName)) ∈ lw_tbl := lw_at lw_m11 140 rfl
theorem q2611 : (Jvm.Cond.instanceMethod ({ cls := "SkipSchoolModel", name := "bookings", desc := "()I" } : Jvm.MethodName)) ∈ lw_all := lw_g (lw_at lw_m11 141 rfl) rfl
theorem q2612 : (Jvm.Cond.code ({ cls := "SkipSchoolModel", name := "bookings", desc := "()I" } : Jvm.MethodName) prog_11_method_61_code (3 : Nat) (Option.some Jvm.ClassFile.FieldType.int)) ∈ lw_all := lw_g (lw_at lw_m11 142 rfl) rfl
theorem q2614 : (Jvm.Cond.instanceMethod ({ cls := "SkipSchoolModel", name := "meanSkill", desc := "()D" } : Jvm.MethodName)) ∈ lw_all := lw_g (lw_at lw_m11 144 rfl) rfl
theorem q2615 : (Jvm.Cond.selects "SkipSchoolModel" ({ cls := "SkipSchoolModel", name := "meanSkill", desc := "()D" } : Jvm.MethodName) ({ cls := "SkipSchoolModel", name := "meanSkill", desc := "()D" } : Jvm.MethodName)) ∈ lw_all := lw_g (lw_at lw_m11 145 rfl) rfl
theorem q2616 : (Jvm.Cond.code ({ cls := "SkipSchoolModel", name := "meanSkill", desc := "()D" } : Jvm.MethodName) prog_11_method_63_code (3 : Nat) (Option.some Jvm.ClassFile.FieldType.double)) ∈ lw_all := lw_g (lw_at lw_m11 146 rfl) rfl
theorem q2618 : (Jvm.Cond.instanceMethod ({ cls := "SkipSchoolModel", name := "crossShare", desc := "()F" } : Jvm.MethodName)) ∈ lw_all := lw_g (lw_at lw_m11 148 rfl) rfl
theorem q2619 : (Jvm.Cond.selects "SkipSchoolModel" ({ cls := "SkipSchoolModel", name := "crossShare", desc := "()F" } : Jvm.MethodName) ({ cls := "SkipSchoolModel", name := "crossShare", desc := "()F" } : Jvm.MethodName)) ∈ lw_all := lw_g (lw_at lw_m11 149 rfl) rfl
theorem q2620 : (Jvm.Cond.code ({ cls := "SkipSchoolModel", name := "crossShare", desc := "()F" } : Jvm.MethodName) prog_11_method_64_code (1 : Nat) (Option.some Jvm.ClassFile.FieldType.float)) ∈ lw_all := lw_g (lw_at lw_m11 150 rfl) rfl
theorem q2622 : (Jvm.Cond.instanceMethod ({ cls := "SkipSchoolModel", name := "append", desc := "(I)I" } : Jvm.MethodName)) ∈ lw_all := lw_g (lw_at lw_m11 152 rfl) rfl
theorem q2623 : (Jvm.Cond.selects "SkipSchoolModel" ({ cls := "SkipSchoolModel", name := "append", desc := "(I)I" } : Jvm.MethodName) ({ cls := "SkipSchoolModel", name := "append", desc := "(I)I" } : Jvm.MethodName)) ∈ lw_all := lw_g (lw_at lw_m11 153 rfl) rfl
theorem q2624 : (Jvm.Cond.code ({ cls := "SkipSchoolModel", name := "append", desc := "(I)I" } : Jvm.MethodName) prog_11_method_65_code (6 : Nat) (Option.some Jvm.ClassFile.FieldType.int)) ∈ lw_all := lw_g (lw_at lw_m11 154 rfl) rfl
theorem q2626 : (Jvm.Cond.instanceMethod ({ cls := "SkipSchoolModel", name := "read", desc := "()I" } : Jvm.MethodName)) ∈ lw_all := lw_g (lw_at lw_m11 156 rfl) rfl
theorem q2627 : (Jvm.Cond.selects "SkipSchoolModel" ({ cls := "SkipSchoolModel", name := "read", desc := "()I" } : Jvm.MethodName) ({ cls := "SkipSchoolModel", name := "read", desc := "()I" } : Jvm.MethodName)) ∈ lw_all := lw_g (lw_at lw_m11 157 rfl) rfl
theorem q2628 : (Jvm.Cond.code ({ cls := "SkipSchoolModel", name := "read", desc := "()I" } : Jvm.MethodName) prog_11_method_77_code (4 : Nat) (Option.some Jvm.ClassFile.FieldType.int)) ∈ lw_all := lw_g (lw_at lw_m11 158 rfl) rfl
theorem q2629 : (Jvm.Cond.methodLink "SkipSchoolModel" (257 : Nat) ({ cls := "SkipSchoolModel", name := "isText", desc := "()Z" } : Jvm.MethodName)) ∈ lw_all := lw_g (lw_at lw_m11 159 rfl) rfl
theorem q2630 : (Jvm.Cond.privateMethod ({ cls := "SkipSchoolModel", name := "isText", desc := "()Z" } : Jvm.MethodName)) ∈ lw_tbl := lw_at lw_m11 160 rfl
theorem q2631 : (Jvm.Cond.instanceMethod ({ cls := "SkipSchoolModel", name := "isText", desc := "()Z" } : Jvm.MethodName)) ∈ lw_all := lw_g (lw_at lw_m11 161 rfl) rfl
theorem q2632 : (Jvm.Cond.code ({ cls := "SkipSchoolModel", name := "isText", desc := "()Z" } : Jvm.MethodName) prog_11_method_75_code (1 : Nat) (Option.some Jvm.ClassFile.FieldType.boolean)) ∈ lw_all := lw_g (lw_at lw_m11 162 rfl) rfl
theorem q2633 : (Jvm.Cond.methodLink "SkipSchoolModel" (223 : Nat) ({ cls := "SkipSchoolModel", name := "orderHere", desc := "()Z" } : Jvm.MethodName)) ∈ lw_all := lw_g (lw_at lw_m11 163 rfl) rfl
theorem q2634 : (Jvm.Cond.privateMethod ({ cls := "SkipSchoolModel", name := "orderHere", desc := "()Z" } : Jvm.MethodName)) ∈ lw_tbl := lw_at lw_m11 164 rfl
theorem q2635 : (Jvm.Cond.instanceMethod ({ cls := "SkipSchoolModel", name := "orderHere", desc := "()Z" } : Jvm.MethodName)) ∈ lw_all := lw_g (lw_at lw_m11 165 rfl) rfl
theorem q2636 : (Jvm.Cond.code ({ cls := "SkipSchoolModel", name := "orderHere", desc := "()Z" } : Jvm.MethodName) prog_11_method_74_code (2 : Nat) (Option.some Jvm.ClassFile.FieldType.boolean)) ∈ lw_all := lw_g (lw_at lw_m11 166 rfl) rfl
theorem q2637 : (Jvm.Cond.methodLink "SkipSchoolModel" (178 : Nat) ({ cls := "SkipSchoolModel", name := "skipsOver", desc := "(I)Z" } : Jvm.MethodName)) ∈ lw_all := lw_g (lw_at lw_m11 167 rfl) rfl
theorem q2638 : (Jvm.Cond.privateMethod ({ cls := "SkipSchoolModel", name := "skipsOver", desc := "(I)Z" } : Jvm.MethodName)) ∈ lw_tbl := lw_at lw_m11 168 rfl
theorem q2639 : (Jvm.Cond.instanceMethod ({ cls := "SkipSchoolModel", name := "skipsOver", desc := "(I)Z" } : Jvm.MethodName)) ∈ lw_all := lw_g (lw_at lw_m11 169 rfl) rfl
theorem q2640 : (Jvm.Cond.code ({ cls := "SkipSchoolModel", name := "skipsOver", desc := "(I)Z" } : Jvm.MethodName) prog_11_method_67_code (2 : Nat) (Option.some Jvm.ClassFile.FieldType.boolean)) ∈ lw_all := lw_g (lw_at lw_m11 170 rfl) rfl
theorem q2641 : (Jvm.Cond.methodLink "SkipSchoolModel" (168 : Nat) ({ cls := "SkipSchoolModel", name := "here", desc := "()I" } : Jvm.MethodName)) ∈ lw_all := lw_g (lw_at lw_m11 171 rfl) rfl
theorem q2642 : (Jvm.Cond.privateMethod ({ cls := "SkipSchoolModel", name := "here", desc := "()I" } : Jvm.MethodName)) ∈ lw_tbl := lw_at lw_m11 172 rfl
theorem q2643 : (Jvm.Cond.instanceMethod ({ cls := "SkipSchoolModel", name := "here", desc := "()I" } : Jvm.MethodName)) ∈ lw_all := lw_g (lw_at lw_m11 173 rfl) rfl
theorem q2644 : (Jvm.Cond.code ({ cls := "SkipSchoolModel", name := "here", desc := "()I" } : Jvm.MethodName) prog_11_method_66_code (1 : Nat) (Option.some Jvm.ClassFile.FieldType.int)) ∈ lw_all := lw_g (lw_at lw_m11 174 rfl) rfl
theorem q2645 : (Jvm.Cond.methodLink "SkipSchoolModel" (187 : Nat) ({ cls := "SkipSchoolModel", name := "hasOrder", desc := "(I)Z" } : Jvm.MethodName)) ∈ lw_all := lw_g (lw_at lw_m11 175 rfl) rfl
theorem q2646 : (Jvm.Cond.privateMethod ({ cls := "SkipSchoolModel", name := "hasOrder", desc := "(I)Z" } : Jvm.MethodName)) ∈ lw_tbl := lw_at lw_m11 176 rfl
theorem q2647 : (Jvm.Cond.instanceMethod ({ cls := "SkipSchoolModel", name := "hasOrder", desc := "(I)Z" } : Jvm.MethodName)) ∈ lw_all := lw_g (lw_at lw_m11 177 rfl) rfl
theorem q2648 : (Jvm.Cond.code ({ cls := "SkipSchoolModel", name := "hasOrder", desc := "(I)Z" } : Jvm.MethodName) prog_11_method_70_code (2 : Nat) (Option.some Jvm.ClassFile.FieldType.boolean)) ∈ lw_all := lw_g (lw_at lw_m11 178 rfl) rfl
theorem q2649 : (Jvm.Cond.stringRef "SkipSchoolModel" (207 : Nat) "tone") ∈ lw_tbl := lw_at lw_m11 179 rfl
theorem q2650 : (Jvm.Cond.methodLink "SkipSchoolModel" (192 : Nat) ({ cls := "SkipSchoolModel", name := "isWord", desc := "(Ljava/lang/String;)Z" } : Jvm.MethodName)) ∈ lw_all := lw_g (lw_at lw_m11 180 rfl) rfl
theorem q2651 : (Jvm.Cond.privateMethod ({ cls := "SkipSchoolModel", name := "isWord", desc := "(Ljava/lang/String;)Z" } : Jvm.MethodName)) ∈ lw_tbl := lw_at lw_m11 181 rfl
theorem q2652 : (Jvm.Cond.instanceMethod ({ cls := "SkipSchoolModel", name := "isWord", desc := "(Ljava/lang/String;)Z" } : Jvm.MethodName)) ∈ lw_all := lw_g (lw_at lw_m11 182 rfl) rfl
theorem q2653 : (Jvm.Cond.code ({ cls := "SkipSchoolModel", name := "isWord", desc := "(Ljava/lang/String;)Z" } : Jvm.MethodName) prog_11_method_68_code (3 : Nat) (Option.some Jvm.ClassFile.FieldType.boolean)) ∈ lw_all := lw_g (lw_at lw_m11 183 rfl) rfl
theorem q2654 : (Jvm.Cond.methodLink "SkipSchoolModel" (171 : Nat) ({ cls := "java/lang/String", name := "length", desc := "()I" } : Jvm.MethodName)) ∈ lw_all := lw_g (lw_at lw_m11 184 rfl) rfl
theorem q2655 : (Jvm.Cond.methodLink "SkipSchoolModel" (175 : Nat) ({ cls := "java/lang/String", name := "charAt", desc := "(I)C" } : Jvm.MethodName)) ∈ lw_all := lw_g (lw_at lw_m11 185 rfl) rfl
theorem q2656 : (Jvm.Cond.methodLink "SkipSchoolModel" (184 : Nat) ({ cls := "SkipSchoolModel", name := "figures", desc := "(II)Z" } : Jvm.MethodName)) ∈ lw_all := lw_g (lw_at lw_m11 186 rfl) rfl
theorem q2657 : (Jvm.Cond.privateMethod ({ cls := "SkipSchoolModel", name := "figures", desc := "(II)Z" } : Jvm.MethodName)) ∈ lw_tbl := lw_at lw_m11 187 rfl
theorem q2658 : (Jvm.Cond.instanceMethod ({ cls := "SkipSchoolModel", name := "figures", desc := "(II)Z" } : Jvm.MethodName)) ∈ lw_all := lw_g (lw_at lw_m11 188 rfl) rfl
theorem q2659 : (Jvm.Cond.code ({ cls := "SkipSchoolModel", name := "figures", desc := "(II)Z" } : Jvm.MethodName) prog_11_method_69_code (4 : Nat) (Option.some Jvm.ClassFile.FieldType.boolean)) ∈ lw_all := lw_g (lw_at lw_m11 189 rfl) rfl
theorem q2660 : (Jvm.Cond.stringRef "SkipSchoolModel" (209 : Nat) "iver") ∈ lw_tbl := lw_at lw_m11 190 rfl
theorem q2661 : (Jvm.Cond.stringRef "SkipSchoolModel" (211 : Nat) "ook") ∈ lw_tbl := lw_at lw_m11 191 rfl
theorem q2662 : (Jvm.Cond.stringRef "SkipSchoolModel" (213 : Nat) "alm") ∈ lw_tbl := lw_at lw_m11 192 rfl
theorem q2663 : (Jvm.Cond.stringRef "SkipSchoolModel" (215 : Nat) "ay") ∈ lw_tbl := lw_at lw_m11 193 rfl
theorem q2664 : (Jvm.Cond.methodLink "SkipSchoolModel" (217 : Nat) ({ cls := "SkipSchoolModel", name := "withT", desc := "(I)Z" } : Jvm.MethodName)) ∈ lw_all := lw_g (lw_at lw_m11 194 rfl) rfl
theorem q2665 : (Jvm.Cond.privateMethod ({ cls := "SkipSchoolModel", name := "withT", desc := "(I)Z" } : Jvm.MethodName)) ∈ lw_tbl := lw_at lw_m11 195 rfl
theorem q2666 : (Jvm.Cond.instanceMethod ({ cls := "SkipSchoolModel", name := "withT", desc := "(I)Z" } : Jvm.MethodName)) ∈ lw_all := lw_g (lw_at lw_m11 196 rfl) rfl
theorem q2667 : (Jvm.Cond.code ({ cls := "SkipSchoolModel", name := "withT", desc := "(I)Z" } : Jvm.MethodName) prog_11_method_72_code (2 : Nat) (Option.some Jvm.ClassFile.FieldType.boolean)) ∈ lw_all := lw_g (lw_at lw_m11 197 rfl) rfl
theorem q2668 : (Jvm.Cond.stringRef "SkipSchoolModel" (190 : Nat) "ach") ∈ lw_tbl := lw_at lw_m11 198 rfl
theorem q2669 : (Jvm.Cond.stringRef "SkipSchoolModel" (196 : Nat) "y") ∈ lw_tbl := lw_at lw_m11 199 rfl
theorem q2670 : (Jvm.Cond.methodLink "SkipSchoolModel" (198 : Nat) ({ cls := "SkipSchoolModel", name := "throwHere", desc := "(I)Z" } : Jvm.MethodName)) ∈ lw_all := lw_g (lw_at lw_m11 200 rfl) rfl
theorem q2671 : (Jvm.Cond.privateMethod ({ cls := "SkipSchoolModel", name := "throwHere", desc := "(I)Z" } : Jvm.MethodName)) ∈ lw_tbl := lw_at lw_m11 201 rfl
theorem q2672 : (Jvm.Cond.instanceMethod ({ cls := "SkipSchoolModel", name := "throwHere", desc := "(I)Z" } : Jvm.MethodName)) ∈ lw_all := lw_g (lw_at lw_m11 202 rfl) rfl
theorem q2673 : (Jvm.Cond.code ({ cls := "SkipSchoolModel", name := "throwHere", desc := "(I)Z" } : Jvm.MethodName) prog_11_method_71_code (2 : Nat) (Option.some Jvm.ClassFile.FieldType.boolean)) ∈ lw_all := lw_g (lw_at lw_m11 203 rfl) rfl
theorem q2674 : (Jvm.Cond.stringRef "SkipSchoolModel" (201 : Nat) "row") ∈ lw_tbl := lw_at lw_m11 204 rfl
theorem q2675 : (Jvm.Cond.methodLink "SkipSchoolModel" (220 : Nat) ({ cls := "SkipSchoolModel", name := "withF", desc := "(I)Z" } : Jvm.MethodName)) ∈ lw_all := lw_g (lw_at lw_m11 205 rfl) rfl
theorem q2676 : (Jvm.Cond.privateMethod ({ cls := "SkipSchoolModel", name := "withF", desc := "(I)Z" } : Jvm.MethodName)) ∈ lw_tbl := lw_at lw_m11 206 rfl
theorem q2677 : (Jvm.Cond.instanceMethod ({ cls := "SkipSchoolModel", name := "withF", desc := "(I)Z" } : Jvm.MethodName)) ∈ lw_all := lw_g (lw_at lw_m11 207 rfl) rfl
theorem q2678 : (Jvm.Cond.code ({ cls := "SkipSchoolModel", name := "withF", desc := "(I)Z" } : Jvm.MethodName) prog_11_method_73_code (2 : Nat) (Option.some Jvm.ClassFile.FieldType.boolean)) ∈ lw_all := lw_g (lw_at lw_m11 208 rfl) rfl
theorem q2679 : (Jvm.Cond.stringRef "SkipSchoolModel" (203 : Nat) "ee") ∈ lw_tbl := lw_at lw_m11 209 rfl
theorem q2680 : (Jvm.Cond.stringRef "SkipSchoolModel" (205 : Nat) "tch") ∈ lw_tbl := lw_at lw_m11 210 rfl
theorem q2681 : (Jvm.Cond.methodLink "SkipSchoolModel" (260 : Nat) ({ cls := "SkipSchoolModel", name := "carries", desc := "(I)I" } : Jvm.MethodName)) ∈ lw_all := lw_g (lw_at lw_m11 211 rfl) rfl
theorem q2682 : (Jvm.Cond.privateMethod ({ cls := "SkipSchoolModel", name := "carries", desc := "(I)I" } : Jvm.MethodName)) ∈ lw_tbl := lw_at lw_m11 212 rfl
theorem q2683 : (Jvm.Cond.instanceMethod ({ cls := "SkipSchoolModel", name := "carries", desc := "(I)I" } : Jvm.MethodName)) ∈ lw_all := lw_g (lw_at lw_m11 213 rfl) rfl
theorem q2684 : (Jvm.Cond.code ({ cls := "SkipSchoolModel", name := "carries", desc := "(I)I" } : Jvm.MethodName) prog_11_method_76_code (4 : Nat) (Option.some Jvm.ClassFile.FieldType.int)) ∈ lw_all := lw_g (lw_at lw_m11 214 rfl) rfl
theorem q2685 : (Jvm.Cond.methodLink "SkipSchoolModel" (227 : Nat) ({ cls := "SkipSchoolModel", name := "stone", desc := "(II)I" } : Jvm.MethodName)) ∈ lw_all := lw_g (lw_at lw_m11 215 rfl) rfl
theorem q2686 : (Jvm.Cond.methodLink "SkipSchoolModel" (230 : Nat) ({ cls := "SkipSchoolModel", name := "river", desc := "(II)I" } : Jvm.MethodName)) ∈ lw_all := lw_g (lw_at lw_m11 216 rfl) rfl
theorem q2687 : (Jvm.Cond.methodLink "SkipSchoolModel" (233 : Nat) ({ cls := "SkipSchoolModel", name := "book", desc := "(III)I" } : Jvm.MethodName)) ∈ lw_all := lw_g (lw_at lw_m11 217 rfl) rfl
theorem q2688 : (Jvm.Cond.methodLink "SkipSchoolModel" (236 : Nat) ({ cls := "SkipSchoolModel", name := "free", desc := "(II)I" } : Jvm.MethodName)) ∈ lw_all := lw_g (lw_at lw_m11 218 rfl) rfl
theorem q2689 : (Jvm.Cond.methodLink "SkipSchoolModel" (239 : Nat) ({ cls := "SkipSchoolModel", name := "teach", desc := "(I)I" } : Jvm.MethodName)) ∈ lw_all := lw_g (lw_at lw_m11 219 rfl) rfl
theorem q2690 : (Jvm.Cond.methodLink "SkipSchoolModel" (242 : Nat) ({ cls := "SkipSchoolModel", name := "trial", desc := "(IIII)I" } : Jvm.MethodName)) ∈ lw_all := lw_g (lw_at lw_m11 220 rfl) rfl
theorem q2691 : (Jvm.Cond.methodLink "SkipSchoolModel" (245 : Nat) ({ cls := "SkipSchoolModel", name := "skim", desc := "(IIII)I" } : Jvm.MethodName)) ∈ lw_all := lw_g (lw_at lw_m11 221 rfl) rfl
theorem q2692 : (Jvm.Cond.methodLink "SkipSchoolModel" (248 : Nat) ({ cls := "SkipSchoolModel", name := "fetch", desc := "(I)I" } : Jvm.MethodName)) ∈ lw_all := lw_g (lw_at lw_m11 222 rfl) rfl
theorem q2693 : (Jvm.Cond.methodLink "SkipSchoolModel" (251 : Nat) ({ cls := "SkipSchoolModel", name := "calm", desc := "(II)I" } : Jvm.MethodName)) ∈ lw_all := lw_g (lw_at lw_m11 223 rfl) rfl
theorem q2694 : (Jvm.Cond.methodLink "SkipSchoolModel" (254 : Nat) ({ cls := "SkipSchoolModel", name := "day", desc := "()I" } : Jvm.MethodName)) ∈ lw_all := lw_g (lw_at lw_m11 224 rfl) rfl
theorem q2696 : (Jvm.Cond.instanceMethod ({ cls := "SkipSchoolModel", name := "errorPosition", desc := "()I" } : Jvm.MethodName)) ∈ lw_all := lw_g (lw_at lw_m11 226 rfl) rfl
theorem q2697 : (Jvm.Cond.selects "SkipSchoolModel" ({ cls := "SkipSchoolModel", name := "errorPosition", desc := "()I" } : Jvm.MethodName) ({ cls := "SkipSchoolModel", name := "errorPosition", desc := "()I" } : Jvm.MethodName)) ∈ lw_all := lw_g (lw_at lw_m11 227 rfl) rfl
theorem q2698 : (Jvm.Cond.code ({ cls := "SkipSchoolModel", name := "errorPosition", desc := "()I" } : Jvm.MethodName) prog_11_method_78_code (1 : Nat) (Option.some Jvm.ClassFile.FieldType.int)) ∈ lw_all := lw_g (lw_at lw_m11 228 rfl) rfl
theorem q2700 : (Jvm.Cond.instanceMethod ({ cls := "SkipSchoolModel", name := "refusedItem", desc := "()I" } : Jvm.MethodName)) ∈ lw_all := lw_g (lw_at lw_m11 230 rfl) rfl
theorem q2701 : (Jvm.Cond.selects "SkipSchoolModel" ({ cls := "SkipSchoolModel", name := "refusedItem", desc := "()I" } : Jvm.MethodName) ({ cls := "SkipSchoolModel", name := "refusedItem", desc := "()I" } : Jvm.MethodName)) ∈ lw_all := lw_g (lw_at lw_m11 231 rfl) rfl
theorem q2702 : (Jvm.Cond.code ({ cls := "SkipSchoolModel", name := "refusedItem", desc := "()I" } : Jvm.MethodName) prog_11_method_79_code (1 : Nat) (Option.some Jvm.ClassFile.FieldType.int)) ∈ lw_all := lw_g (lw_at lw_m11 232 rfl) rfl
theorem q2704 : (Jvm.Cond.instanceMethod ({ cls := "SkipSchoolModel", name := "undo", desc := "()I" } : Jvm.MethodName)) ∈ lw_all := lw_g (lw_at lw_m11 234 rfl) rfl
theorem q2705 : (Jvm.Cond.selects "SkipSchoolModel" ({ cls := "SkipSchoolModel", name := "undo", desc := "()I" } : Jvm.MethodName) ({ cls := "SkipSchoolModel", name := "undo", desc := "()I" } : Jvm.MethodName)) ∈ lw_all := lw_g (lw_at lw_m11 235 rfl) rfl
theorem q2706 : (Jvm.Cond.code ({ cls := "SkipSchoolModel", name := "undo", desc := "()I" } : Jvm.MethodName) prog_11_method_80_code (1 : Nat) (Option.some Jvm.ClassFile.FieldType.int)) ∈ lw_all := lw_g (lw_at lw_m11 236 rfl) rfl
theorem q2708 : (Jvm.Cond.instanceMethod ({ cls := "SkipSchoolModel", name := "snapshot", desc := "()I" } : Jvm.MethodName)) ∈ lw_all := lw_g (lw_at lw_m11 238 rfl) rfl
theorem q2709 : (Jvm.Cond.selects "SkipSchoolModel" ({ cls := "SkipSchoolModel", name := "snapshot", desc := "()I" } : Jvm.MethodName) ({ cls := "SkipSchoolModel", name := "snapshot", desc := "()I" } : Jvm.MethodName)) ∈ lw_all := lw_g (lw_at lw_m11 239 rfl) rfl
theorem q2710 : (Jvm.Cond.code ({ cls := "SkipSchoolModel", name := "snapshot", desc := "()I" } : Jvm.MethodName) prog_11_method_81_code (1 : Nat) (Option.some Jvm.ClassFile.FieldType.int)) ∈ lw_all := lw_g (lw_at lw_m12 0 rfl) rfl
theorem q2712 : (Jvm.Cond.instanceMethod ({ cls := "SkipSchoolModel", name := "restore", desc := "()I" } : Jvm.MethodName)) ∈ lw_all := lw_g (lw_at lw_m12 2 rfl) rfl
theorem q2713 : (Jvm.Cond.selects "SkipSchoolModel" ({ cls := "SkipSchoolModel", name := "restore", desc := "()I" } : Jvm.MethodName) ({ cls := "SkipSchoolModel", name := "restore", desc := "()I" } : Jvm.MethodName)) ∈ lw_all := lw_g (lw_at lw_m12 3 rfl) rfl
theorem q2714 : (Jvm.Cond.code ({ cls := "SkipSchoolModel", name := "restore", desc := "()I" } : Jvm.MethodName) prog_11_method_82_code (1 : Nat) (Option.some Jvm.ClassFile.FieldType.int)) ∈ lw_all := lw_g (lw_at lw_m12 4 rfl) rfl
theorem q2741 : (Jvm.Cond.castable "SkipSchoolModel" "java/lang/Object") ∈ lw_tbl := lw_at lw_m12 31 rfl
theorem in_X3 : ∀ w ∈ wsX30, w ∈ lw_all := lw_in wsX30 [2339, 2341, 2343, 2345, 2347, 2349, 2351, 2353, 2355, 2357, 2359, 2361, 2363, 2365, 2367, 2369, 2371, 2373, 2375] (by decide +kernel) (by decide +kernel)
