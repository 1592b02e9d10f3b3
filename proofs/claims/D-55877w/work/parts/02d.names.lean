/-! java/lang/Throwable -/
set_option maxRecDepth 100000
def RJ13 : String := "java/lang/Throwable"
def TJ13 : u_T := fun k => match k with
  | 0 => ("java/lang/Throwable", "cause", "Ljava/lang/Throwable;", false)
  | 1 => ("java/lang/Throwable", "stackTrace", "[Ljava/lang/StackTraceElement;", false)
  | 2 => ("java/lang/Throwable", "suppressedExceptions", "Ljava/util/List;", false)
  | 3 => ("java/lang/Throwable", "detailMessage", "Ljava/lang/String;", false)
  | _ => ("java/lang/Throwable", "backtrace", "Ljava/lang/Object;", false)
def tyJ13 : Nat → FieldType := fun k => match k with
  | 0 => .object "java/lang/Throwable"
  | 1 => .array (.object "java/lang/StackTraceElement")
  | 2 => .object "java/util/List"
  | 3 => .object "java/lang/String"
  | _ => .object "java/lang/Object"
abbrev wsJ130 : List Cond := u_ws RJ13 TJ13 5
theorem nmJ13 : ∀ a, a < 5 → ∀ b, b < 5 → a ≠ b → (TJ13 a).2.1 ≠ (TJ13 b).2.1 := by decide +kernel
theorem tyJ13_ok : ∀ k, k < 5 → parseFieldDescriptor (TJ13 k).2.2.1 = some (tyJ13 k) := by decide +kernel
abbrev cJ13_init : ByteArray := prog_37_method_1_code
def yJ13_init : MethodName := ⟨RJ13, "<init>", "()V"⟩
def dkwJ13_init_1 : List UInt8 := [182, 0, 27, 87, 177]
abbrev dktJ13_init_1 : List UInt8 := dkwJ13_init_1 ++ []
def dkwJ13_init_0 : List UInt8 := [42, 183, 0, 1, 42, 42, 181, 0, 7, 42, 178, 0, 13, 181, 0, 17, 42, 178, 0, 20, 181, 0, 24, 42]
abbrev dktJ13_init_0 : List UInt8 := dkwJ13_init_0 ++ dktJ13_init_1
theorem dksJ13_init_0 : cJ13_init.data.toList.drop 0 = dktJ13_init_0 := by decide +kernel
theorem dksJ13_init_1 : cJ13_init.data.toList.drop 24 = dktJ13_init_1 := dk_seg dksJ13_init_0 24 rfl rfl
theorem dJ13_init_0 : decode cJ13_init 0 = .ok (.aload_n 0, 1) := dk_42 (dk_at dksJ13_init_0 0 rfl rfl)
theorem dJ13_init_1 : decode cJ13_init 1 = .ok (.invokespecial 1, 3) := dk_183 0 1 (dk_at dksJ13_init_0 1 rfl rfl)
theorem dJ13_init_4 : decode cJ13_init 4 = .ok (.aload_n 0, 1) := dk_42 (dk_at dksJ13_init_0 4 rfl rfl)
theorem dJ13_init_5 : decode cJ13_init 5 = .ok (.aload_n 0, 1) := dk_42 (dk_at dksJ13_init_0 5 rfl rfl)
theorem dJ13_init_6 : decode cJ13_init 6 = .ok (.putfield 7, 3) := dk_181 0 7 (dk_at dksJ13_init_0 6 rfl rfl)
theorem dJ13_init_9 : decode cJ13_init 9 = .ok (.aload_n 0, 1) := dk_42 (dk_at dksJ13_init_0 9 rfl rfl)
theorem dJ13_init_10 : decode cJ13_init 10 = .ok (.getstatic 13, 3) := dk_178 0 13 (dk_at dksJ13_init_0 10 rfl rfl)
theorem dJ13_init_13 : decode cJ13_init 13 = .ok (.putfield 17, 3) := dk_181 0 17 (dk_at dksJ13_init_0 13 rfl rfl)
theorem dJ13_init_16 : decode cJ13_init 16 = .ok (.aload_n 0, 1) := dk_42 (dk_at dksJ13_init_0 16 rfl rfl)
theorem dJ13_init_17 : decode cJ13_init 17 = .ok (.getstatic 20, 3) := dk_178 0 20 (dk_at dksJ13_init_0 17 rfl rfl)
theorem dJ13_init_20 : decode cJ13_init 20 = .ok (.putfield 24, 3) := dk_181 0 24 (dk_at dksJ13_init_0 20 rfl rfl)
theorem dJ13_init_23 : decode cJ13_init 23 = .ok (.aload_n 0, 1) := dk_42 (dk_at dksJ13_init_0 23 rfl rfl)
theorem dJ13_init_24 : decode cJ13_init 24 = .ok (.invokevirtual 27, 3) := dk_182 0 27 (dk_at dksJ13_init_1 0 rfl rfl)
theorem dJ13_init_27 : decode cJ13_init 27 = .ok (.pop, 1) := dk_87 (dk_at dksJ13_init_1 3 rfl rfl)
theorem dJ13_init_28 : decode cJ13_init 28 = .ok (.return_, 1) := dk_177 (dk_at dksJ13_init_1 4 rfl rfl)
abbrev cJ13_init_2 : ByteArray := prog_37_method_2_code
def yJ13_init_2 : MethodName := ⟨RJ13, "<init>", "(Ljava/lang/String;)V"⟩
def dkwJ13_init_2_1 : List UInt8 := [182, 0, 27, 87, 42, 43, 181, 0, 31, 177]
abbrev dktJ13_init_2_1 : List UInt8 := dkwJ13_init_2_1 ++ []
def dkwJ13_init_2_0 : List UInt8 := [42, 183, 0, 1, 42, 42, 181, 0, 7, 42, 178, 0, 13, 181, 0, 17, 42, 178, 0, 20, 181, 0, 24, 42]
abbrev dktJ13_init_2_0 : List UInt8 := dkwJ13_init_2_0 ++ dktJ13_init_2_1
theorem dksJ13_init_2_0 : cJ13_init_2.data.toList.drop 0 = dktJ13_init_2_0 := by decide +kernel
theorem dksJ13_init_2_1 : cJ13_init_2.data.toList.drop 24 = dktJ13_init_2_1 := dk_seg dksJ13_init_2_0 24 rfl rfl
theorem dJ13_init_2_0 : decode cJ13_init_2 0 = .ok (.aload_n 0, 1) := dk_42 (dk_at dksJ13_init_2_0 0 rfl rfl)
theorem dJ13_init_2_1 : decode cJ13_init_2 1 = .ok (.invokespecial 1, 3) := dk_183 0 1 (dk_at dksJ13_init_2_0 1 rfl rfl)
theorem dJ13_init_2_4 : decode cJ13_init_2 4 = .ok (.aload_n 0, 1) := dk_42 (dk_at dksJ13_init_2_0 4 rfl rfl)
theorem dJ13_init_2_5 : decode cJ13_init_2 5 = .ok (.aload_n 0, 1) := dk_42 (dk_at dksJ13_init_2_0 5 rfl rfl)
theorem dJ13_init_2_6 : decode cJ13_init_2 6 = .ok (.putfield 7, 3) := dk_181 0 7 (dk_at dksJ13_init_2_0 6 rfl rfl)
theorem dJ13_init_2_9 : decode cJ13_init_2 9 = .ok (.aload_n 0, 1) := dk_42 (dk_at dksJ13_init_2_0 9 rfl rfl)
theorem dJ13_init_2_10 : decode cJ13_init_2 10 = .ok (.getstatic 13, 3) := dk_178 0 13 (dk_at dksJ13_init_2_0 10 rfl rfl)
theorem dJ13_init_2_13 : decode cJ13_init_2 13 = .ok (.putfield 17, 3) := dk_181 0 17 (dk_at dksJ13_init_2_0 13 rfl rfl)
theorem dJ13_init_2_16 : decode cJ13_init_2 16 = .ok (.aload_n 0, 1) := dk_42 (dk_at dksJ13_init_2_0 16 rfl rfl)
theorem dJ13_init_2_17 : decode cJ13_init_2 17 = .ok (.getstatic 20, 3) := dk_178 0 20 (dk_at dksJ13_init_2_0 17 rfl rfl)
theorem dJ13_init_2_20 : decode cJ13_init_2 20 = .ok (.putfield 24, 3) := dk_181 0 24 (dk_at dksJ13_init_2_0 20 rfl rfl)
theorem dJ13_init_2_23 : decode cJ13_init_2 23 = .ok (.aload_n 0, 1) := dk_42 (dk_at dksJ13_init_2_0 23 rfl rfl)
theorem dJ13_init_2_24 : decode cJ13_init_2 24 = .ok (.invokevirtual 27, 3) := dk_182 0 27 (dk_at dksJ13_init_2_1 0 rfl rfl)
theorem dJ13_init_2_27 : decode cJ13_init_2 27 = .ok (.pop, 1) := dk_87 (dk_at dksJ13_init_2_1 3 rfl rfl)
theorem dJ13_init_2_28 : decode cJ13_init_2 28 = .ok (.aload_n 0, 1) := dk_42 (dk_at dksJ13_init_2_1 4 rfl rfl)
theorem dJ13_init_2_29 : decode cJ13_init_2 29 = .ok (.aload_n 1, 1) := dk_43 (dk_at dksJ13_init_2_1 5 rfl rfl)
theorem dJ13_init_2_30 : decode cJ13_init_2 30 = .ok (.putfield 31, 3) := dk_181 0 31 (dk_at dksJ13_init_2_1 6 rfl rfl)
theorem dJ13_init_2_33 : decode cJ13_init_2 33 = .ok (.return_, 1) := dk_177 (dk_at dksJ13_init_2_1 9 rfl rfl)
abbrev cJ13_init_3 : ByteArray := prog_37_method_4_code
def yJ13_init_3 : MethodName := ⟨RJ13, "<init>", "(Ljava/lang/Throwable;)V"⟩
def dkwJ13_init_3_2 : List UInt8 := [181, 0, 7, 177]
abbrev dktJ13_init_3_2 : List UInt8 := dkwJ13_init_3_2 ++ []
def dkwJ13_init_3_1 : List UInt8 := [182, 0, 27, 87, 42, 43, 199, 0, 7, 1, 167, 0, 7, 43, 182, 0, 35, 181, 0, 31, 42, 43]
abbrev dktJ13_init_3_1 : List UInt8 := dkwJ13_init_3_1 ++ dktJ13_init_3_2
def dkwJ13_init_3_0 : List UInt8 := [42, 183, 0, 1, 42, 42, 181, 0, 7, 42, 178, 0, 13, 181, 0, 17, 42, 178, 0, 20, 181, 0, 24, 42]
abbrev dktJ13_init_3_0 : List UInt8 := dkwJ13_init_3_0 ++ dktJ13_init_3_1
theorem dksJ13_init_3_0 : cJ13_init_3.data.toList.drop 0 = dktJ13_init_3_0 := by decide +kernel
theorem dksJ13_init_3_1 : cJ13_init_3.data.toList.drop 24 = dktJ13_init_3_1 := dk_seg dksJ13_init_3_0 24 rfl rfl
theorem dksJ13_init_3_2 : cJ13_init_3.data.toList.drop 46 = dktJ13_init_3_2 := dk_seg dksJ13_init_3_1 22 rfl rfl
theorem dJ13_init_3_0 : decode cJ13_init_3 0 = .ok (.aload_n 0, 1) := dk_42 (dk_at dksJ13_init_3_0 0 rfl rfl)
theorem dJ13_init_3_1 : decode cJ13_init_3 1 = .ok (.invokespecial 1, 3) := dk_183 0 1 (dk_at dksJ13_init_3_0 1 rfl rfl)
theorem dJ13_init_3_4 : decode cJ13_init_3 4 = .ok (.aload_n 0, 1) := dk_42 (dk_at dksJ13_init_3_0 4 rfl rfl)
theorem dJ13_init_3_5 : decode cJ13_init_3 5 = .ok (.aload_n 0, 1) := dk_42 (dk_at dksJ13_init_3_0 5 rfl rfl)
theorem dJ13_init_3_6 : decode cJ13_init_3 6 = .ok (.putfield 7, 3) := dk_181 0 7 (dk_at dksJ13_init_3_0 6 rfl rfl)
theorem dJ13_init_3_9 : decode cJ13_init_3 9 = .ok (.aload_n 0, 1) := dk_42 (dk_at dksJ13_init_3_0 9 rfl rfl)
theorem dJ13_init_3_10 : decode cJ13_init_3 10 = .ok (.getstatic 13, 3) := dk_178 0 13 (dk_at dksJ13_init_3_0 10 rfl rfl)
theorem dJ13_init_3_13 : decode cJ13_init_3 13 = .ok (.putfield 17, 3) := dk_181 0 17 (dk_at dksJ13_init_3_0 13 rfl rfl)
theorem dJ13_init_3_16 : decode cJ13_init_3 16 = .ok (.aload_n 0, 1) := dk_42 (dk_at dksJ13_init_3_0 16 rfl rfl)
theorem dJ13_init_3_17 : decode cJ13_init_3 17 = .ok (.getstatic 20, 3) := dk_178 0 20 (dk_at dksJ13_init_3_0 17 rfl rfl)
theorem dJ13_init_3_20 : decode cJ13_init_3 20 = .ok (.putfield 24, 3) := dk_181 0 24 (dk_at dksJ13_init_3_0 20 rfl rfl)
theorem dJ13_init_3_23 : decode cJ13_init_3 23 = .ok (.aload_n 0, 1) := dk_42 (dk_at dksJ13_init_3_0 23 rfl rfl)
theorem dJ13_init_3_24 : decode cJ13_init_3 24 = .ok (.invokevirtual 27, 3) := dk_182 0 27 (dk_at dksJ13_init_3_1 0 rfl rfl)
theorem dJ13_init_3_27 : decode cJ13_init_3 27 = .ok (.pop, 1) := dk_87 (dk_at dksJ13_init_3_1 3 rfl rfl)
theorem dJ13_init_3_28 : decode cJ13_init_3 28 = .ok (.aload_n 0, 1) := dk_42 (dk_at dksJ13_init_3_1 4 rfl rfl)
theorem dJ13_init_3_29 : decode cJ13_init_3 29 = .ok (.aload_n 1, 1) := dk_43 (dk_at dksJ13_init_3_1 5 rfl rfl)
theorem dJ13_init_3_30 : decode cJ13_init_3 30 = .ok (.ifnonnull 7, 3) := dk_199 0 7 (dk_at dksJ13_init_3_1 6 rfl rfl)
theorem dJ13_init_3_33 : decode cJ13_init_3 33 = .ok (.aconst_null, 1) := dk_1 (dk_at dksJ13_init_3_1 9 rfl rfl)
theorem dJ13_init_3_34 : decode cJ13_init_3 34 = .ok (.goto 7, 3) := dk_167 0 7 (dk_at dksJ13_init_3_1 10 rfl rfl)
theorem dJ13_init_3_37 : decode cJ13_init_3 37 = .ok (.aload_n 1, 1) := dk_43 (dk_at dksJ13_init_3_1 13 rfl rfl)
theorem dJ13_init_3_38 : decode cJ13_init_3 38 = .ok (.invokevirtual 35, 3) := dk_182 0 35 (dk_at dksJ13_init_3_1 14 rfl rfl)
theorem dJ13_init_3_41 : decode cJ13_init_3 41 = .ok (.putfield 31, 3) := dk_181 0 31 (dk_at dksJ13_init_3_1 17 rfl rfl)
theorem dJ13_init_3_44 : decode cJ13_init_3 44 = .ok (.aload_n 0, 1) := dk_42 (dk_at dksJ13_init_3_1 20 rfl rfl)
theorem dJ13_init_3_45 : decode cJ13_init_3 45 = .ok (.aload_n 1, 1) := dk_43 (dk_at dksJ13_init_3_1 21 rfl rfl)
theorem dJ13_init_3_46 : decode cJ13_init_3 46 = .ok (.putfield 7, 3) := dk_181 0 7 (dk_at dksJ13_init_3_2 0 rfl rfl)
theorem dJ13_init_3_49 : decode cJ13_init_3 49 = .ok (.return_, 1) := dk_177 (dk_at dksJ13_init_3_2 3 rfl rfl)
abbrev cJ13_toString : ByteArray := prog_37_method_11_code
def yJ13_toString : MethodName := ⟨RJ13, "toString", "()Ljava/lang/String;"⟩
def dkwJ13_toString_1 : List UInt8 := [43, 182, 0, 49, 18, 81, 182, 0, 49, 44, 182, 0, 49, 182, 0, 60, 167, 0, 4, 43, 176]
abbrev dktJ13_toString_1 : List UInt8 := dkwJ13_toString_1 ++ []
def dkwJ13_toString_0 : List UInt8 := [42, 182, 0, 69, 182, 0, 73, 76, 42, 182, 0, 78, 77, 44, 198, 0, 29, 187, 0, 44, 89, 183, 0, 46]
abbrev dktJ13_toString_0 : List UInt8 := dkwJ13_toString_0 ++ dktJ13_toString_1
theorem dksJ13_toString_0 : cJ13_toString.data.toList.drop 0 = dktJ13_toString_0 := by decide +kernel
theorem dksJ13_toString_1 : cJ13_toString.data.toList.drop 24 = dktJ13_toString_1 := dk_seg dksJ13_toString_0 24 rfl rfl
theorem dJ13_toString_0 : decode cJ13_toString 0 = .ok (.aload_n 0, 1) := dk_42 (dk_at dksJ13_toString_0 0 rfl rfl)
theorem dJ13_toString_1 : decode cJ13_toString 1 = .ok (.invokevirtual 69, 3) := dk_182 0 69 (dk_at dksJ13_toString_0 1 rfl rfl)
theorem dJ13_toString_4 : decode cJ13_toString 4 = .ok (.invokevirtual 73, 3) := dk_182 0 73 (dk_at dksJ13_toString_0 4 rfl rfl)
theorem dJ13_toString_7 : decode cJ13_toString 7 = .ok (.astore_n 1, 1) := dk_76 (dk_at dksJ13_toString_0 7 rfl rfl)
theorem dJ13_toString_8 : decode cJ13_toString 8 = .ok (.aload_n 0, 1) := dk_42 (dk_at dksJ13_toString_0 8 rfl rfl)
theorem dJ13_toString_9 : decode cJ13_toString 9 = .ok (.invokevirtual 78, 3) := dk_182 0 78 (dk_at dksJ13_toString_0 9 rfl rfl)
theorem dJ13_toString_12 : decode cJ13_toString 12 = .ok (.astore_n 2, 1) := dk_77 (dk_at dksJ13_toString_0 12 rfl rfl)
theorem dJ13_toString_13 : decode cJ13_toString 13 = .ok (.aload_n 2, 1) := dk_44 (dk_at dksJ13_toString_0 13 rfl rfl)
theorem dJ13_toString_14 : decode cJ13_toString 14 = .ok (.ifnull 29, 3) := dk_198 0 29 (dk_at dksJ13_toString_0 14 rfl rfl)
theorem dJ13_toString_17 : decode cJ13_toString 17 = .ok (.new 44, 3) := dk_187 0 44 (dk_at dksJ13_toString_0 17 rfl rfl)
theorem dJ13_toString_20 : decode cJ13_toString 20 = .ok (.dup, 1) := dk_89 (dk_at dksJ13_toString_0 20 rfl rfl)
theorem dJ13_toString_21 : decode cJ13_toString 21 = .ok (.invokespecial 46, 3) := dk_183 0 46 (dk_at dksJ13_toString_0 21 rfl rfl)
theorem dJ13_toString_24 : decode cJ13_toString 24 = .ok (.aload_n 1, 1) := dk_43 (dk_at dksJ13_toString_1 0 rfl rfl)
theorem dJ13_toString_25 : decode cJ13_toString 25 = .ok (.invokevirtual 49, 3) := dk_182 0 49 (dk_at dksJ13_toString_1 1 rfl rfl)
theorem dJ13_toString_28 : decode cJ13_toString 28 = .ok (.ldc 81, 2) := dk_18 81 (dk_at dksJ13_toString_1 4 rfl rfl)
theorem dJ13_toString_30 : decode cJ13_toString 30 = .ok (.invokevirtual 49, 3) := dk_182 0 49 (dk_at dksJ13_toString_1 6 rfl rfl)
theorem dJ13_toString_33 : decode cJ13_toString 33 = .ok (.aload_n 2, 1) := dk_44 (dk_at dksJ13_toString_1 9 rfl rfl)
theorem dJ13_toString_34 : decode cJ13_toString 34 = .ok (.invokevirtual 49, 3) := dk_182 0 49 (dk_at dksJ13_toString_1 10 rfl rfl)
theorem dJ13_toString_37 : decode cJ13_toString 37 = .ok (.invokevirtual 60, 3) := dk_182 0 60 (dk_at dksJ13_toString_1 13 rfl rfl)
theorem dJ13_toString_40 : decode cJ13_toString 40 = .ok (.goto 4, 3) := dk_167 0 4 (dk_at dksJ13_toString_1 16 rfl rfl)
theorem dJ13_toString_43 : decode cJ13_toString 43 = .ok (.aload_n 1, 1) := dk_43 (dk_at dksJ13_toString_1 19 rfl rfl)
theorem dJ13_toString_44 : decode cJ13_toString 44 = .ok (.areturn, 1) := dk_176 (dk_at dksJ13_toString_1 20 rfl rfl)
abbrev cJ13_getLocalizedMessage : ByteArray := prog_37_method_7_code
def yJ13_getLocalizedMessage : MethodName := ⟨RJ13, "getLocalizedMessage", "()Ljava/lang/String;"⟩
theorem dJ13_getLocalizedMessage_0 : decode cJ13_getLocalizedMessage 0 = .ok (.aload_n 0, 1) := by decide +kernel
theorem dJ13_getLocalizedMessage_1 : decode cJ13_getLocalizedMessage 1 = .ok (.invokevirtual 39, 3) := by decide +kernel
theorem dJ13_getLocalizedMessage_4 : decode cJ13_getLocalizedMessage 4 = .ok (.areturn, 1) := by decide +kernel
abbrev cJ13_getMessage : ByteArray := prog_37_method_6_code
def yJ13_getMessage : MethodName := ⟨RJ13, "getMessage", "()Ljava/lang/String;"⟩
theorem dJ13_getMessage_0 : decode cJ13_getMessage 0 = .ok (.aload_n 0, 1) := by decide +kernel
theorem dJ13_getMessage_1 : decode cJ13_getMessage 1 = .ok (.getfield 31, 3) := by decide +kernel
theorem dJ13_getMessage_4 : decode cJ13_getMessage 4 = .ok (.areturn, 1) := by decide +kernel
abbrev cJ13_init_4 : ByteArray := prog_37_method_5_code
def yJ13_init_4 : MethodName := ⟨RJ13, "<init>", "(Ljava/lang/String;Ljava/lang/Throwable;ZZ)V"⟩
def dkwJ13_init_4_2 : List UInt8 := [44, 181, 0, 7, 29, 154, 0, 8, 42, 1, 181, 0, 24, 177]
abbrev dktJ13_init_4_2 : List UInt8 := dkwJ13_init_4_2 ++ []
def dkwJ13_init_4_1 : List UInt8 := [21, 4, 153, 0, 11, 42, 182, 0, 27, 87, 167, 0, 8, 42, 1, 181, 0, 17, 42, 43, 181, 0, 31, 42]
abbrev dktJ13_init_4_1 : List UInt8 := dkwJ13_init_4_1 ++ dktJ13_init_4_2
def dkwJ13_init_4_0 : List UInt8 := [42, 183, 0, 1, 42, 42, 181, 0, 7, 42, 178, 0, 13, 181, 0, 17, 42, 178, 0, 20, 181, 0, 24]
abbrev dktJ13_init_4_0 : List UInt8 := dkwJ13_init_4_0 ++ dktJ13_init_4_1
theorem dksJ13_init_4_0 : cJ13_init_4.data.toList.drop 0 = dktJ13_init_4_0 := by decide +kernel
theorem dksJ13_init_4_1 : cJ13_init_4.data.toList.drop 23 = dktJ13_init_4_1 := dk_seg dksJ13_init_4_0 23 rfl rfl
theorem dksJ13_init_4_2 : cJ13_init_4.data.toList.drop 47 = dktJ13_init_4_2 := dk_seg dksJ13_init_4_1 24 rfl rfl
theorem dJ13_init_4_0 : decode cJ13_init_4 0 = .ok (.aload_n 0, 1) := dk_42 (dk_at dksJ13_init_4_0 0 rfl rfl)
theorem dJ13_init_4_1 : decode cJ13_init_4 1 = .ok (.invokespecial 1, 3) := dk_183 0 1 (dk_at dksJ13_init_4_0 1 rfl rfl)
theorem dJ13_init_4_4 : decode cJ13_init_4 4 = .ok (.aload_n 0, 1) := dk_42 (dk_at dksJ13_init_4_0 4 rfl rfl)
theorem dJ13_init_4_5 : decode cJ13_init_4 5 = .ok (.aload_n 0, 1) := dk_42 (dk_at dksJ13_init_4_0 5 rfl rfl)
theorem dJ13_init_4_6 : decode cJ13_init_4 6 = .ok (.putfield 7, 3) := dk_181 0 7 (dk_at dksJ13_init_4_0 6 rfl rfl)
theorem dJ13_init_4_9 : decode cJ13_init_4 9 = .ok (.aload_n 0, 1) := dk_42 (dk_at dksJ13_init_4_0 9 rfl rfl)
theorem dJ13_init_4_10 : decode cJ13_init_4 10 = .ok (.getstatic 13, 3) := dk_178 0 13 (dk_at dksJ13_init_4_0 10 rfl rfl)
theorem dJ13_init_4_13 : decode cJ13_init_4 13 = .ok (.putfield 17, 3) := dk_181 0 17 (dk_at dksJ13_init_4_0 13 rfl rfl)
theorem dJ13_init_4_16 : decode cJ13_init_4 16 = .ok (.aload_n 0, 1) := dk_42 (dk_at dksJ13_init_4_0 16 rfl rfl)
theorem dJ13_init_4_17 : decode cJ13_init_4 17 = .ok (.getstatic 20, 3) := dk_178 0 20 (dk_at dksJ13_init_4_0 17 rfl rfl)
theorem dJ13_init_4_20 : decode cJ13_init_4 20 = .ok (.putfield 24, 3) := dk_181 0 24 (dk_at dksJ13_init_4_0 20 rfl rfl)
theorem dJ13_init_4_23 : decode cJ13_init_4 23 = .ok (.iload 4, 2) := dk_21 4 (dk_at dksJ13_init_4_1 0 rfl rfl)
theorem dJ13_init_4_25 : decode cJ13_init_4 25 = .ok (.ifCond .eq 11, 3) := dk_153 0 11 (dk_at dksJ13_init_4_1 2 rfl rfl)
theorem dJ13_init_4_28 : decode cJ13_init_4 28 = .ok (.aload_n 0, 1) := dk_42 (dk_at dksJ13_init_4_1 5 rfl rfl)
theorem dJ13_init_4_29 : decode cJ13_init_4 29 = .ok (.invokevirtual 27, 3) := dk_182 0 27 (dk_at dksJ13_init_4_1 6 rfl rfl)
theorem dJ13_init_4_32 : decode cJ13_init_4 32 = .ok (.pop, 1) := dk_87 (dk_at dksJ13_init_4_1 9 rfl rfl)
theorem dJ13_init_4_33 : decode cJ13_init_4 33 = .ok (.goto 8, 3) := dk_167 0 8 (dk_at dksJ13_init_4_1 10 rfl rfl)
theorem dJ13_init_4_36 : decode cJ13_init_4 36 = .ok (.aload_n 0, 1) := dk_42 (dk_at dksJ13_init_4_1 13 rfl rfl)
theorem dJ13_init_4_37 : decode cJ13_init_4 37 = .ok (.aconst_null, 1) := dk_1 (dk_at dksJ13_init_4_1 14 rfl rfl)
theorem dJ13_init_4_38 : decode cJ13_init_4 38 = .ok (.putfield 17, 3) := dk_181 0 17 (dk_at dksJ13_init_4_1 15 rfl rfl)
theorem dJ13_init_4_41 : decode cJ13_init_4 41 = .ok (.aload_n 0, 1) := dk_42 (dk_at dksJ13_init_4_1 18 rfl rfl)
theorem dJ13_init_4_42 : decode cJ13_init_4 42 = .ok (.aload_n 1, 1) := dk_43 (dk_at dksJ13_init_4_1 19 rfl rfl)
theorem dJ13_init_4_43 : decode cJ13_init_4 43 = .ok (.putfield 31, 3) := dk_181 0 31 (dk_at dksJ13_init_4_1 20 rfl rfl)
theorem dJ13_init_4_46 : decode cJ13_init_4 46 = .ok (.aload_n 0, 1) := dk_42 (dk_at dksJ13_init_4_1 23 rfl rfl)
theorem dJ13_init_4_47 : decode cJ13_init_4 47 = .ok (.aload_n 2, 1) := dk_44 (dk_at dksJ13_init_4_2 0 rfl rfl)
theorem dJ13_init_4_48 : decode cJ13_init_4 48 = .ok (.putfield 7, 3) := dk_181 0 7 (dk_at dksJ13_init_4_2 1 rfl rfl)
theorem dJ13_init_4_51 : decode cJ13_init_4 51 = .ok (.iload_n 3, 1) := dk_29 (dk_at dksJ13_init_4_2 4 rfl rfl)
theorem dJ13_init_4_52 : decode cJ13_init_4 52 = .ok (.ifCond .ne 8, 3) := dk_154 0 8 (dk_at dksJ13_init_4_2 5 rfl rfl)
theorem dJ13_init_4_55 : decode cJ13_init_4 55 = .ok (.aload_n 0, 1) := dk_42 (dk_at dksJ13_init_4_2 8 rfl rfl)
theorem dJ13_init_4_56 : decode cJ13_init_4 56 = .ok (.aconst_null, 1) := dk_1 (dk_at dksJ13_init_4_2 9 rfl rfl)
theorem dJ13_init_4_57 : decode cJ13_init_4 57 = .ok (.putfield 24, 3) := dk_181 0 24 (dk_at dksJ13_init_4_2 10 rfl rfl)
theorem dJ13_init_4_60 : decode cJ13_init_4 60 = .ok (.return_, 1) := dk_177 (dk_at dksJ13_init_4_2 13 rfl rfl)
theorem q87 : (Jvm.Cond.initialized "java/lang/Throwable") ∈ lw_all := lw_g (lw_at lw_m1 17 rfl) rfl
theorem q437 : (Jvm.Cond.declares ({ cls := "java/lang/Throwable", name := "<init>", desc := "()V" } : Jvm.MethodName)) ∈ lw_tbl := lw_at lw_m2 127 rfl
theorem q438 : (Jvm.Cond.declares ({ cls := "java/lang/Throwable", name := "<init>", desc := "(Ljava/lang/String;)V" } : Jvm.MethodName)) ∈ lw_tbl := lw_at lw_m2 128 rfl
theorem q442 : (Jvm.Cond.lays "java/lang/Throwable" "java/lang/Throwable" "cause" "Ljava/lang/Throwable;") ∈ lw_all := lw_g (lw_at lw_m2 132 rfl) rfl
theorem q444 : (Jvm.Cond.lays "java/lang/Throwable" "java/lang/Throwable" "stackTrace" "[Ljava/lang/StackTraceElement;") ∈ lw_all := lw_g (lw_at lw_m2 134 rfl) rfl
theorem q446 : (Jvm.Cond.lays "java/lang/Throwable" "java/lang/Throwable" "suppressedExceptions" "Ljava/util/List;") ∈ lw_all := lw_g (lw_at lw_m2 136 rfl) rfl
theorem q448 : (Jvm.Cond.lays "java/lang/Throwable" "java/lang/Throwable" "detailMessage" "Ljava/lang/String;") ∈ lw_all := lw_g (lw_at lw_m2 138 rfl) rfl
theorem q450 : (Jvm.Cond.lays "java/lang/Throwable" "java/lang/Throwable" "backtrace" "Ljava/lang/Object;") ∈ lw_all := lw_g (lw_at lw_m2 140 rfl) rfl
theorem q451 : (Jvm.Cond.fieldLink "java/lang/Throwable" (198 : Nat) "java/lang/Throwable" "backtrace" "Ljava/lang/Object;") ∈ lw_all := lw_g (lw_at lw_m2 141 rfl) rfl
theorem q452 : (Jvm.Cond.superclass "java/lang/Throwable" "java/lang/Object") ∈ lw_all := lw_g (lw_at lw_m2 142 rfl) rfl
theorem q453 : (Jvm.Cond.instanceMethod ({ cls := "java/lang/Throwable", name := "<init>", desc := "()V" } : Jvm.MethodName)) ∈ lw_all := lw_g (lw_at lw_m2 143 rfl) rfl
theorem q454 : (Jvm.Cond.code ({ cls := "java/lang/Throwable", name := "<init>", desc := "()V" } : Jvm.MethodName) prog_37_method_1_code (1 : Nat) (Option.none : Option Jvm.ClassFile.FieldType)) ∈ lw_all := lw_g (lw_at lw_m2 144 rfl) rfl
theorem q455 : (Jvm.Cond.methodLink "java/lang/Throwable" (1 : Nat) ({ cls := "java/lang/Object", name := "<init>", desc := "()V" } : Jvm.MethodName)) ∈ lw_all := lw_g (lw_at lw_m2 145 rfl) rfl
theorem q456 : (Jvm.Cond.fieldLink "java/lang/Throwable" (13 : Nat) "java/lang/Throwable" "UNASSIGNED_STACK" "[Ljava/lang/StackTraceElement;") ∈ lw_all := lw_g (lw_at lw_m2 146 rfl) rfl
theorem q457 : (Jvm.Cond.laysStatic "java/lang/Throwable" "UNASSIGNED_STACK" "[Ljava/lang/StackTraceElement;") ∈ lw_tbl := lw_at lw_m2 147 rfl
theorem q458 : (Jvm.Cond.fieldLink "java/lang/Throwable" (20 : Nat) "java/lang/Throwable" "SUPPRESSED_SENTINEL" "Ljava/util/List;") ∈ lw_all := lw_g (lw_at lw_m2 148 rfl) rfl
theorem q459 : (Jvm.Cond.laysStatic "java/lang/Throwable" "SUPPRESSED_SENTINEL" "Ljava/util/List;") ∈ lw_tbl := lw_at lw_m2 149 rfl
theorem q460 : (Jvm.Cond.methodLink "java/lang/Throwable" (27 : Nat) ({ cls := "java/lang/Throwable", name := "fillInStackTrace", desc := "()Ljava/lang/Throwable;" } : Jvm.MethodName)) ∈ lw_all := lw_g (lw_at lw_m2 150 rfl) rfl
theorem q461 : (Jvm.Cond.instanceMethod ({ cls := "java/lang/Throwable", name := "fillInStackTrace", desc := "()Ljava/lang/Throwable;" } : Jvm.MethodName)) ∈ lw_all := lw_g (lw_at lw_m2 151 rfl) rfl
theorem q462 : (Jvm.Cond.sameMethod "java/lang/Throwable" "java/lang/Throwable" "fillInStackTrace" "()Ljava/lang/Throwable;") ∈ lw_all := lw_g (lw_at lw_m2 152 rfl) rfl
theorem q471 : (Jvm.Cond.codeSync ({ cls := "java/lang/Throwable", name := "fillInStackTrace", desc := "()Ljava/lang/Throwable;" } : Jvm.MethodName) prog_37_method_18_code (1 : Nat) (Option.some (Jvm.ClassFile.FieldType.object "java/lang/Throwable"))) ∈ lw_all := lw_g (lw_at lw_m2 161 rfl) rfl
theorem q472 : (Jvm.Cond.methodLink "java/lang/Throwable" (202 : Nat) ({ cls := "java/lang/Throwable", name := "fillInStackTrace", desc := "(I)Ljava/lang/Throwable;" } : Jvm.MethodName)) ∈ lw_all := lw_g (lw_at lw_m2 162 rfl) rfl
theorem q473 : (Jvm.Cond.privateMethod ({ cls := "java/lang/Throwable", name := "fillInStackTrace", desc := "(I)Ljava/lang/Throwable;" } : Jvm.MethodName)) ∈ lw_tbl := lw_at lw_m2 163 rfl
theorem q474 : (Jvm.Cond.instanceMethod ({ cls := "java/lang/Throwable", name := "fillInStackTrace", desc := "(I)Ljava/lang/Throwable;" } : Jvm.MethodName)) ∈ lw_all := lw_g (lw_at lw_m2 164 rfl) rfl
theorem q475 : (Jvm.Cond.instantiable "java/lang/Throwable" (6 : Nat)) ∈ lw_all := lw_g (lw_at lw_m2 165 rfl) rfl
theorem q476 : (Jvm.Cond.native ({ cls := "java/lang/Throwable", name := "fillInStackTrace", desc := "(I)Ljava/lang/Throwable;" } : Jvm.MethodName)) ∈ lw_all := lw_g (lw_at lw_m2 166 rfl) rfl
theorem q691 : (Jvm.Cond.instanceMethod ({ cls := "java/lang/Throwable", name := "<init>", desc := "(Ljava/lang/String;)V" } : Jvm.MethodName)) ∈ lw_all := lw_g (lw_at lw_m3 141 rfl) rfl
theorem q692 : (Jvm.Cond.code ({ cls := "java/lang/Throwable", name := "<init>", desc := "(Ljava/lang/String;)V" } : Jvm.MethodName) prog_37_method_2_code (2 : Nat) (Option.none : Option Jvm.ClassFile.FieldType)) ∈ lw_all := lw_g (lw_at lw_m3 142 rfl) rfl
theorem q693 : (Jvm.Cond.fieldLink "java/lang/Throwable" (198 : Nat) "java/lang/Throwable" "backtrace" "Ljava/lang/Object;") ∈ lw_all := lw_g (lw_at lw_m3 143 rfl) rfl
theorem q694 : (Jvm.Cond.fieldLink "java/lang/Throwable" (31 : Nat) "java/lang/Throwable" "detailMessage" "Ljava/lang/String;") ∈ lw_all := lw_g (lw_at lw_m3 144 rfl) rfl
theorem q695 : (Jvm.Cond.fieldLink "java/lang/Throwable" (7 : Nat) "java/lang/Throwable" "cause" "Ljava/lang/Throwable;") ∈ lw_all := lw_g (lw_at lw_m3 145 rfl) rfl
theorem q696 : (Jvm.Cond.fieldLink "java/lang/Throwable" (17 : Nat) "java/lang/Throwable" "stackTrace" "[Ljava/lang/StackTraceElement;") ∈ lw_all := lw_g (lw_at lw_m3 146 rfl) rfl
theorem q697 : (Jvm.Cond.fieldLink "java/lang/Throwable" (24 : Nat) "java/lang/Throwable" "suppressedExceptions" "Ljava/util/List;") ∈ lw_all := lw_g (lw_at lw_m3 147 rfl) rfl
theorem q698 : (Jvm.Cond.soleField "java/lang/Throwable" "backtrace") ∈ lw_all := lw_g (lw_at lw_m3 148 rfl) rfl
theorem q699 : (Jvm.Cond.soleField "java/lang/Throwable" "detailMessage") ∈ lw_all := lw_g (lw_at lw_m3 149 rfl) rfl
theorem q700 : (Jvm.Cond.soleField "java/lang/Throwable" "cause") ∈ lw_all := lw_g (lw_at lw_m3 150 rfl) rfl
theorem q701 : (Jvm.Cond.soleField "java/lang/Throwable" "stackTrace") ∈ lw_all := lw_g (lw_at lw_m3 151 rfl) rfl
theorem q703 : (Jvm.Cond.soleField "java/lang/Throwable" "depth") ∈ lw_all := lw_g (lw_at lw_m3 153 rfl) rfl
theorem q704 : (Jvm.Cond.soleField "java/lang/Throwable" "suppressedExceptions") ∈ lw_all := lw_g (lw_at lw_m3 154 rfl) rfl
theorem q761 : (Jvm.Cond.instanceMethod ({ cls := "java/lang/Throwable", name := "<init>", desc := "(Ljava/lang/Throwable;)V" } : Jvm.MethodName)) ∈ lw_all := lw_g (lw_at lw_m3 211 rfl) rfl
theorem q762 : (Jvm.Cond.code ({ cls := "java/lang/Throwable", name := "<init>", desc := "(Ljava/lang/Throwable;)V" } : Jvm.MethodName) prog_37_method_4_code (2 : Nat) (Option.none : Option Jvm.ClassFile.FieldType)) ∈ lw_all := lw_g (lw_at lw_m3 212 rfl) rfl
theorem q763 : (Jvm.Cond.methodLink "java/lang/Throwable" (35 : Nat) ({ cls := "java/lang/Throwable", name := "toString", desc := "()Ljava/lang/String;" } : Jvm.MethodName)) ∈ lw_all := lw_g (lw_at lw_m3 213 rfl) rfl
theorem q764 : (Jvm.Cond.instanceMethod ({ cls := "java/lang/Throwable", name := "toString", desc := "()Ljava/lang/String;" } : Jvm.MethodName)) ∈ lw_all := lw_g (lw_at lw_m3 214 rfl) rfl
theorem q765 : (Jvm.Cond.sameMethod "java/lang/Throwable" "java/lang/Throwable" "toString" "()Ljava/lang/String;") ∈ lw_all := lw_g (lw_at lw_m3 215 rfl) rfl
theorem q775 : (Jvm.Cond.code ({ cls := "java/lang/Throwable", name := "toString", desc := "()Ljava/lang/String;" } : Jvm.MethodName) prog_37_method_11_code (3 : Nat) (Option.some (Jvm.ClassFile.FieldType.object "java/lang/String"))) ∈ lw_all := lw_g (lw_at lw_m3 225 rfl) rfl
theorem q776 : (Jvm.Cond.methodLink "java/lang/Throwable" (69 : Nat) ({ cls := "java/lang/Object", name := "getClass", desc := "()Ljava/lang/Class;" } : Jvm.MethodName)) ∈ lw_all := lw_g (lw_at lw_m3 226 rfl) rfl
theorem q810 : (Jvm.Cond.methodLink "java/lang/Throwable" (78 : Nat) ({ cls := "java/lang/Throwable", name := "getLocalizedMessage", desc := "()Ljava/lang/String;" } : Jvm.MethodName)) ∈ lw_all := lw_g (lw_at lw_m4 20 rfl) rfl
theorem q811 : (Jvm.Cond.instanceMethod ({ cls := "java/lang/Throwable", name := "getLocalizedMessage", desc := "()Ljava/lang/String;" } : Jvm.MethodName)) ∈ lw_all := lw_g (lw_at lw_m4 21 rfl) rfl
theorem q812 : (Jvm.Cond.sameMethod "java/lang/Throwable" "java/lang/Throwable" "getLocalizedMessage" "()Ljava/lang/String;") ∈ lw_all := lw_g (lw_at lw_m4 22 rfl) rfl
theorem q822 : (Jvm.Cond.code ({ cls := "java/lang/Throwable", name := "getLocalizedMessage", desc := "()Ljava/lang/String;" } : Jvm.MethodName) prog_37_method_7_code (1 : Nat) (Option.some (Jvm.ClassFile.FieldType.object "java/lang/String"))) ∈ lw_all := lw_g (lw_at lw_m4 32 rfl) rfl
theorem q823 : (Jvm.Cond.methodLink "java/lang/Throwable" (39 : Nat) ({ cls := "java/lang/Throwable", name := "getMessage", desc := "()Ljava/lang/String;" } : Jvm.MethodName)) ∈ lw_all := lw_g (lw_at lw_m4 33 rfl) rfl
theorem q824 : (Jvm.Cond.instanceMethod ({ cls := "java/lang/Throwable", name := "getMessage", desc := "()Ljava/lang/String;" } : Jvm.MethodName)) ∈ lw_all := lw_g (lw_at lw_m4 34 rfl) rfl
theorem q825 : (Jvm.Cond.sameMethod "java/lang/Throwable" "java/lang/Throwable" "getMessage" "()Ljava/lang/String;") ∈ lw_all := lw_g (lw_at lw_m4 35 rfl) rfl
theorem q835 : (Jvm.Cond.code ({ cls := "java/lang/Throwable", name := "getMessage", desc := "()Ljava/lang/String;" } : Jvm.MethodName) prog_37_method_6_code (1 : Nat) (Option.some (Jvm.ClassFile.FieldType.object "java/lang/String"))) ∈ lw_all := lw_g (lw_at lw_m4 45 rfl) rfl
theorem q836 : (Jvm.Cond.classLink "java/lang/Throwable" (44 : Nat) "java/lang/StringBuilder") ∈ lw_all := lw_g (lw_at lw_m4 46 rfl) rfl
theorem q837 : (Jvm.Cond.methodLink "java/lang/Throwable" (46 : Nat) ({ cls := "java/lang/StringBuilder", name := "<init>", desc := "()V" } : Jvm.MethodName)) ∈ lw_all := lw_g (lw_at lw_m4 47 rfl) rfl
theorem q838 : (Jvm.Cond.methodLink "java/lang/Throwable" (49 : Nat) ({ cls := "java/lang/StringBuilder", name := "append", desc := "(Ljava/lang/String;)Ljava/lang/StringBuilder;" } : Jvm.MethodName)) ∈ lw_all := lw_g (lw_at lw_m4 48 rfl) rfl
theorem q839 : (Jvm.Cond.stringRef "java/lang/Throwable" (81 : Nat) ": ") ∈ lw_tbl := lw_at lw_m4 49 rfl
theorem q840 : (Jvm.Cond.methodLink "java/lang/Throwable" (60 : Nat) ({ cls := "java/lang/StringBuilder", name := "toString", desc := "()Ljava/lang/String;" } : Jvm.MethodName)) ∈ lw_all := lw_g (lw_at lw_m4 50 rfl) rfl
theorem q1254 : (Jvm.Cond.instanceMethod ({ cls := "java/lang/Throwable", name := "<init>", desc := "(Ljava/lang/String;Ljava/lang/Throwable;ZZ)V" } : Jvm.MethodName)) ∈ lw_all := lw_g (lw_at lw_m5 224 rfl) rfl
theorem q1255 : (Jvm.Cond.code ({ cls := "java/lang/Throwable", name := "<init>", desc := "(Ljava/lang/String;Ljava/lang/Throwable;ZZ)V" } : Jvm.MethodName) prog_37_method_5_code (5 : Nat) (Option.none : Option Jvm.ClassFile.FieldType)) ∈ lw_all := lw_g (lw_at lw_m5 225 rfl) rfl
theorem q2716 : (Jvm.Cond.sameMethod "java/lang/Throwable" "java/lang/Throwable" "fillInStackTrace" "(I)Ljava/lang/Throwable;") ∈ lw_all := lw_g (lw_at lw_m12 6 rfl) rfl
theorem q2764 : (Jvm.Cond.castable "java/lang/Throwable" "java/lang/Object") ∈ lw_tbl := lw_at lw_m12 54 rfl
theorem in_J13 : ∀ w ∈ wsJ130, w ∈ lw_all := lw_in wsJ130 [442, 444, 446, 448, 450] (by decide +kernel) (by decide +kernel)

/-! java/lang/Exception -/
set_option maxRecDepth 100000
def RJ14 : String := "java/lang/Exception"
abbrev cJ14_init : ByteArray := prog_20_method_2_code
def yJ14_init : MethodName := ⟨RJ14, "<init>", "(Ljava/lang/String;)V"⟩
def dkwJ14_init_0 : List UInt8 := [42, 43, 183, 0, 7, 177]
abbrev dktJ14_init_0 : List UInt8 := dkwJ14_init_0 ++ []
theorem dksJ14_init_0 : cJ14_init.data.toList.drop 0 = dktJ14_init_0 := by decide +kernel
theorem dJ14_init_0 : decode cJ14_init 0 = .ok (.aload_n 0, 1) := dk_42 (dk_at dksJ14_init_0 0 rfl rfl)
theorem dJ14_init_1 : decode cJ14_init 1 = .ok (.aload_n 1, 1) := dk_43 (dk_at dksJ14_init_0 1 rfl rfl)
theorem dJ14_init_2 : decode cJ14_init 2 = .ok (.invokespecial 7, 3) := dk_183 0 7 (dk_at dksJ14_init_0 2 rfl rfl)
theorem dJ14_init_5 : decode cJ14_init 5 = .ok (.return_, 1) := dk_177 (dk_at dksJ14_init_0 5 rfl rfl)
abbrev cJ14_init_2 : ByteArray := prog_20_method_4_code
def yJ14_init_2 : MethodName := ⟨RJ14, "<init>", "(Ljava/lang/Throwable;)V"⟩
def dkwJ14_init_2_0 : List UInt8 := [42, 43, 183, 0, 13, 177]
abbrev dktJ14_init_2_0 : List UInt8 := dkwJ14_init_2_0 ++ []
theorem dksJ14_init_2_0 : cJ14_init_2.data.toList.drop 0 = dktJ14_init_2_0 := by decide +kernel
theorem dJ14_init_2_0 : decode cJ14_init_2 0 = .ok (.aload_n 0, 1) := dk_42 (dk_at dksJ14_init_2_0 0 rfl rfl)
theorem dJ14_init_2_1 : decode cJ14_init_2 1 = .ok (.aload_n 1, 1) := dk_43 (dk_at dksJ14_init_2_0 1 rfl rfl)
theorem dJ14_init_2_2 : decode cJ14_init_2 2 = .ok (.invokespecial 13, 3) := dk_183 0 13 (dk_at dksJ14_init_2_0 2 rfl rfl)
theorem dJ14_init_2_5 : decode cJ14_init_2 5 = .ok (.return_, 1) := dk_177 (dk_at dksJ14_init_2_0 5 rfl rfl)
abbrev cJ14_init_3 : ByteArray := prog_20_method_1_code
def yJ14_init_3 : MethodName := ⟨RJ14, "<init>", "()V"⟩
theorem dJ14_init_3_0 : decode cJ14_init_3 0 = .ok (.aload_n 0, 1) := by decide +kernel
theorem dJ14_init_3_1 : decode cJ14_init_3 1 = .ok (.invokespecial 1, 3) := by decide +kernel
theorem dJ14_init_3_4 : decode cJ14_init_3 4 = .ok (.return_, 1) := by decide +kernel
abbrev cJ14_init_4 : ByteArray := prog_20_method_5_code
def yJ14_init_4 : MethodName := ⟨RJ14, "<init>", "(Ljava/lang/String;Ljava/lang/Throwable;ZZ)V"⟩
def dkwJ14_init_4_0 : List UInt8 := [42, 43, 44, 29, 21, 4, 183, 0, 16, 177]
abbrev dktJ14_init_4_0 : List UInt8 := dkwJ14_init_4_0 ++ []
theorem dksJ14_init_4_0 : cJ14_init_4.data.toList.drop 0 = dktJ14_init_4_0 := by decide +kernel
theorem dJ14_init_4_0 : decode cJ14_init_4 0 = .ok (.aload_n 0, 1) := dk_42 (dk_at dksJ14_init_4_0 0 rfl rfl)
theorem dJ14_init_4_1 : decode cJ14_init_4 1 = .ok (.aload_n 1, 1) := dk_43 (dk_at dksJ14_init_4_0 1 rfl rfl)
theorem dJ14_init_4_2 : decode cJ14_init_4 2 = .ok (.aload_n 2, 1) := dk_44 (dk_at dksJ14_init_4_0 2 rfl rfl)
theorem dJ14_init_4_3 : decode cJ14_init_4 3 = .ok (.iload_n 3, 1) := dk_29 (dk_at dksJ14_init_4_0 3 rfl rfl)
theorem dJ14_init_4_4 : decode cJ14_init_4 4 = .ok (.iload 4, 2) := dk_21 4 (dk_at dksJ14_init_4_0 4 rfl rfl)
theorem dJ14_init_4_6 : decode cJ14_init_4 6 = .ok (.invokespecial 16, 3) := dk_183 0 16 (dk_at dksJ14_init_4_0 6 rfl rfl)
theorem dJ14_init_4_9 : decode cJ14_init_4 9 = .ok (.return_, 1) := dk_177 (dk_at dksJ14_init_4_0 9 rfl rfl)
theorem q88 : (Jvm.Cond.initialized "java/lang/Exception") ∈ lw_all := lw_g (lw_at lw_m1 18 rfl) rfl
theorem q435 : (Jvm.Cond.declares ({ cls := "java/lang/Exception", name := "<init>", desc := "()V" } : Jvm.MethodName)) ∈ lw_tbl := lw_at lw_m2 125 rfl
theorem q436 : (Jvm.Cond.declares ({ cls := "java/lang/Exception", name := "<init>", desc := "(Ljava/lang/String;)V" } : Jvm.MethodName)) ∈ lw_tbl := lw_at lw_m2 126 rfl
theorem q688 : (Jvm.Cond.instanceMethod ({ cls := "java/lang/Exception", name := "<init>", desc := "(Ljava/lang/String;)V" } : Jvm.MethodName)) ∈ lw_all := lw_g (lw_at lw_m3 138 rfl) rfl
theorem q689 : (Jvm.Cond.code ({ cls := "java/lang/Exception", name := "<init>", desc := "(Ljava/lang/String;)V" } : Jvm.MethodName) prog_20_method_2_code (2 : Nat) (Option.none : Option Jvm.ClassFile.FieldType)) ∈ lw_all := lw_g (lw_at lw_m3 139 rfl) rfl
theorem q690 : (Jvm.Cond.methodLink "java/lang/Exception" (7 : Nat) ({ cls := "java/lang/Throwable", name := "<init>", desc := "(Ljava/lang/String;)V" } : Jvm.MethodName)) ∈ lw_all := lw_g (lw_at lw_m3 140 rfl) rfl
theorem q758 : (Jvm.Cond.instanceMethod ({ cls := "java/lang/Exception", name := "<init>", desc := "(Ljava/lang/Throwable;)V" } : Jvm.MethodName)) ∈ lw_all := lw_g (lw_at lw_m3 208 rfl) rfl
theorem q759 : (Jvm.Cond.code ({ cls := "java/lang/Exception", name := "<init>", desc := "(Ljava/lang/Throwable;)V" } : Jvm.MethodName) prog_20_method_4_code (2 : Nat) (Option.none : Option Jvm.ClassFile.FieldType)) ∈ lw_all := lw_g (lw_at lw_m3 209 rfl) rfl
theorem q760 : (Jvm.Cond.methodLink "java/lang/Exception" (13 : Nat) ({ cls := "java/lang/Throwable", name := "<init>", desc := "(Ljava/lang/Throwable;)V" } : Jvm.MethodName)) ∈ lw_all := lw_g (lw_at lw_m3 210 rfl) rfl
theorem q862 : (Jvm.Cond.instanceMethod ({ cls := "java/lang/Exception", name := "<init>", desc := "()V" } : Jvm.MethodName)) ∈ lw_all := lw_g (lw_at lw_m4 72 rfl) rfl
theorem q863 : (Jvm.Cond.code ({ cls := "java/lang/Exception", name := "<init>", desc := "()V" } : Jvm.MethodName) prog_20_method_1_code (1 : Nat) (Option.none : Option Jvm.ClassFile.FieldType)) ∈ lw_all := lw_g (lw_at lw_m4 73 rfl) rfl
theorem q864 : (Jvm.Cond.methodLink "java/lang/Exception" (1 : Nat) ({ cls := "java/lang/Throwable", name := "<init>", desc := "()V" } : Jvm.MethodName)) ∈ lw_all := lw_g (lw_at lw_m4 74 rfl) rfl
theorem q1251 : (Jvm.Cond.instanceMethod ({ cls := "java/lang/Exception", name := "<init>", desc := "(Ljava/lang/String;Ljava/lang/Throwable;ZZ)V" } : Jvm.MethodName)) ∈ lw_all := lw_g (lw_at lw_m5 221 rfl) rfl
theorem q1252 : (Jvm.Cond.code ({ cls := "java/lang/Exception", name := "<init>", desc := "(Ljava/lang/String;Ljava/lang/Throwable;ZZ)V" } : Jvm.MethodName) prog_20_method_5_code (5 : Nat) (Option.none : Option Jvm.ClassFile.FieldType)) ∈ lw_all := lw_g (lw_at lw_m5 222 rfl) rfl
theorem q1253 : (Jvm.Cond.methodLink "java/lang/Exception" (16 : Nat) ({ cls := "java/lang/Throwable", name := "<init>", desc := "(Ljava/lang/String;Ljava/lang/Throwable;ZZ)V" } : Jvm.MethodName)) ∈ lw_all := lw_g (lw_at lw_m5 223 rfl) rfl

/-! java/lang/RuntimeException -/
set_option maxRecDepth 100000
def RJ15 : String := "java/lang/RuntimeException"
abbrev cJ15_init : ByteArray := prog_30_method_2_code
def yJ15_init : MethodName := ⟨RJ15, "<init>", "(Ljava/lang/String;)V"⟩
def dkwJ15_init_0 : List UInt8 := [42, 43, 183, 0, 7, 177]
abbrev dktJ15_init_0 : List UInt8 := dkwJ15_init_0 ++ []
theorem dksJ15_init_0 : cJ15_init.data.toList.drop 0 = dktJ15_init_0 := by decide +kernel
theorem dJ15_init_0 : decode cJ15_init 0 = .ok (.aload_n 0, 1) := dk_42 (dk_at dksJ15_init_0 0 rfl rfl)
theorem dJ15_init_1 : decode cJ15_init 1 = .ok (.aload_n 1, 1) := dk_43 (dk_at dksJ15_init_0 1 rfl rfl)
theorem dJ15_init_2 : decode cJ15_init 2 = .ok (.invokespecial 7, 3) := dk_183 0 7 (dk_at dksJ15_init_0 2 rfl rfl)
theorem dJ15_init_5 : decode cJ15_init 5 = .ok (.return_, 1) := dk_177 (dk_at dksJ15_init_0 5 rfl rfl)
abbrev cJ15_init_2 : ByteArray := prog_30_method_4_code
def yJ15_init_2 : MethodName := ⟨RJ15, "<init>", "(Ljava/lang/Throwable;)V"⟩
def dkwJ15_init_2_0 : List UInt8 := [42, 43, 183, 0, 13, 177]
abbrev dktJ15_init_2_0 : List UInt8 := dkwJ15_init_2_0 ++ []
theorem dksJ15_init_2_0 : cJ15_init_2.data.toList.drop 0 = dktJ15_init_2_0 := by decide +kernel
theorem dJ15_init_2_0 : decode cJ15_init_2 0 = .ok (.aload_n 0, 1) := dk_42 (dk_at dksJ15_init_2_0 0 rfl rfl)
theorem dJ15_init_2_1 : decode cJ15_init_2 1 = .ok (.aload_n 1, 1) := dk_43 (dk_at dksJ15_init_2_0 1 rfl rfl)
theorem dJ15_init_2_2 : decode cJ15_init_2 2 = .ok (.invokespecial 13, 3) := dk_183 0 13 (dk_at dksJ15_init_2_0 2 rfl rfl)
theorem dJ15_init_2_5 : decode cJ15_init_2 5 = .ok (.return_, 1) := dk_177 (dk_at dksJ15_init_2_0 5 rfl rfl)
abbrev cJ15_init_3 : ByteArray := prog_30_method_1_code
def yJ15_init_3 : MethodName := ⟨RJ15, "<init>", "()V"⟩
theorem dJ15_init_3_0 : decode cJ15_init_3 0 = .ok (.aload_n 0, 1) := by decide +kernel
theorem dJ15_init_3_1 : decode cJ15_init_3 1 = .ok (.invokespecial 1, 3) := by decide +kernel
theorem dJ15_init_3_4 : decode cJ15_init_3 4 = .ok (.return_, 1) := by decide +kernel
theorem q89 : (Jvm.Cond.initialized "java/lang/RuntimeException") ∈ lw_all := lw_g (lw_at lw_m1 19 rfl) rfl
theorem q433 : (Jvm.Cond.declares ({ cls := "java/lang/RuntimeException", name := "<init>", desc := "()V" } : Jvm.MethodName)) ∈ lw_tbl := lw_at lw_m2 123 rfl
theorem q434 : (Jvm.Cond.declares ({ cls := "java/lang/RuntimeException", name := "<init>", desc := "(Ljava/lang/String;)V" } : Jvm.MethodName)) ∈ lw_tbl := lw_at lw_m2 124 rfl
theorem q685 : (Jvm.Cond.instanceMethod ({ cls := "java/lang/RuntimeException", name := "<init>", desc := "(Ljava/lang/String;)V" } : Jvm.MethodName)) ∈ lw_all := lw_g (lw_at lw_m3 135 rfl) rfl
theorem q686 : (Jvm.Cond.code ({ cls := "java/lang/RuntimeException", name := "<init>", desc := "(Ljava/lang/String;)V" } : Jvm.MethodName) prog_30_method_2_code (2 : Nat) (Option.none : Option Jvm.ClassFile.FieldType)) ∈ lw_all := lw_g (lw_at lw_m3 136 rfl) rfl
theorem q687 : (Jvm.Cond.methodLink "java/lang/RuntimeException" (7 : Nat) ({ cls := "java/lang/Exception", name := "<init>", desc := "(Ljava/lang/String;)V" } : Jvm.MethodName)) ∈ lw_all := lw_g (lw_at lw_m3 137 rfl) rfl
theorem q755 : (Jvm.Cond.instanceMethod ({ cls := "java/lang/RuntimeException", name := "<init>", desc := "(Ljava/lang/Throwable;)V" } : Jvm.MethodName)) ∈ lw_all := lw_g (lw_at lw_m3 205 rfl) rfl
theorem q756 : (Jvm.Cond.code ({ cls := "java/lang/RuntimeException", name := "<init>", desc := "(Ljava/lang/Throwable;)V" } : Jvm.MethodName) prog_30_method_4_code (2 : Nat) (Option.none : Option Jvm.ClassFile.FieldType)) ∈ lw_all := lw_g (lw_at lw_m3 206 rfl) rfl
theorem q757 : (Jvm.Cond.methodLink "java/lang/RuntimeException" (13 : Nat) ({ cls := "java/lang/Exception", name := "<init>", desc := "(Ljava/lang/Throwable;)V" } : Jvm.MethodName)) ∈ lw_all := lw_g (lw_at lw_m3 207 rfl) rfl
theorem q859 : (Jvm.Cond.instanceMethod ({ cls := "java/lang/RuntimeException", name := "<init>", desc := "()V" } : Jvm.MethodName)) ∈ lw_all := lw_g (lw_at lw_m4 69 rfl) rfl
theorem q860 : (Jvm.Cond.code ({ cls := "java/lang/RuntimeException", name := "<init>", desc := "()V" } : Jvm.MethodName) prog_30_method_1_code (1 : Nat) (Option.none : Option Jvm.ClassFile.FieldType)) ∈ lw_all := lw_g (lw_at lw_m4 70 rfl) rfl
theorem q861 : (Jvm.Cond.methodLink "java/lang/RuntimeException" (1 : Nat) ({ cls := "java/lang/Exception", name := "<init>", desc := "()V" } : Jvm.MethodName)) ∈ lw_all := lw_g (lw_at lw_m4 71 rfl) rfl

/-! java/lang/IndexOutOfBoundsException -/
set_option maxRecDepth 100000
def RJ16 : String := "java/lang/IndexOutOfBoundsException"
def TJ16 : u_T := fun k => match k with
  | 0 => ("java/lang/Throwable", "cause", "Ljava/lang/Throwable;", false)
  | 1 => ("java/lang/Throwable", "stackTrace", "[Ljava/lang/StackTraceElement;", false)
  | 2 => ("java/lang/Throwable", "suppressedExceptions", "Ljava/util/List;", false)
  | 3 => ("java/lang/Throwable", "detailMessage", "Ljava/lang/String;", false)
  | 4 => ("java/lang/Throwable", "backtrace", "Ljava/lang/Object;", false)
  | _ => ("java/lang/Throwable", "depth", "I", false)
def tyJ16 : Nat → FieldType := fun k => match k with
  | 0 => .object "java/lang/Throwable"
  | 1 => .array (.object "java/lang/StackTraceElement")
  | 2 => .object "java/util/List"
  | 3 => .object "java/lang/String"
  | 4 => .object "java/lang/Object"
  | _ => .int
abbrev wsJ160 : List Cond := u_ws RJ16 TJ16 6
theorem nmJ16 : ∀ a, a < 6 → ∀ b, b < 6 → a ≠ b → (TJ16 a).2.1 ≠ (TJ16 b).2.1 := by decide +kernel
theorem tyJ16_ok : ∀ k, k < 6 → parseFieldDescriptor (TJ16 k).2.2.1 = some (tyJ16 k) := by decide +kernel
abbrev cJ16_init : ByteArray := prog_23_method_2_code
def yJ16_init : MethodName := ⟨RJ16, "<init>", "(Ljava/lang/String;)V"⟩
def dkwJ16_init_0 : List UInt8 := [42, 43, 183, 0, 7, 177]
abbrev dktJ16_init_0 : List UInt8 := dkwJ16_init_0 ++ []
theorem dksJ16_init_0 : cJ16_init.data.toList.drop 0 = dktJ16_init_0 := by decide +kernel
theorem dJ16_init_0 : decode cJ16_init 0 = .ok (.aload_n 0, 1) := dk_42 (dk_at dksJ16_init_0 0 rfl rfl)
theorem dJ16_init_1 : decode cJ16_init 1 = .ok (.aload_n 1, 1) := dk_43 (dk_at dksJ16_init_0 1 rfl rfl)
theorem dJ16_init_2 : decode cJ16_init 2 = .ok (.invokespecial 7, 3) := dk_183 0 7 (dk_at dksJ16_init_0 2 rfl rfl)
theorem dJ16_init_5 : decode cJ16_init 5 = .ok (.return_, 1) := dk_177 (dk_at dksJ16_init_0 5 rfl rfl)
abbrev cJ16_init_2 : ByteArray := prog_23_method_1_code
def yJ16_init_2 : MethodName := ⟨RJ16, "<init>", "()V"⟩
theorem dJ16_init_2_0 : decode cJ16_init_2 0 = .ok (.aload_n 0, 1) := by decide +kernel
theorem dJ16_init_2_1 : decode cJ16_init_2 1 = .ok (.invokespecial 1, 3) := by decide +kernel
theorem dJ16_init_2_4 : decode cJ16_init_2 4 = .ok (.return_, 1) := by decide +kernel
theorem q90 : (Jvm.Cond.initialized "java/lang/IndexOutOfBoundsException") ∈ lw_all := lw_g (lw_at lw_m1 20 rfl) rfl
theorem q431 : (Jvm.Cond.instantiable "java/lang/IndexOutOfBoundsException" (6 : Nat)) ∈ lw_all := lw_g (lw_at lw_m2 121 rfl) rfl
theorem q432 : (Jvm.Cond.castable "java/lang/IndexOutOfBoundsException" "java/lang/IndexOutOfBoundsException") ∈ lw_tbl := lw_at lw_m2 122 rfl
theorem q439 : (Jvm.Cond.selects "java/lang/IndexOutOfBoundsException" ({ cls := "java/lang/Throwable", name := "fillInStackTrace", desc := "(I)Ljava/lang/Throwable;" } : Jvm.MethodName) ({ cls := "java/lang/Throwable", name := "fillInStackTrace", desc := "(I)Ljava/lang/Throwable;" } : Jvm.MethodName)) ∈ lw_all := lw_g (lw_at lw_m2 129 rfl) rfl
theorem q440 : (Jvm.Cond.selects "java/lang/IndexOutOfBoundsException" ({ cls := "java/lang/Throwable", name := "fillInStackTrace", desc := "()Ljava/lang/Throwable;" } : Jvm.MethodName) ({ cls := "java/lang/Throwable", name := "fillInStackTrace", desc := "()Ljava/lang/Throwable;" } : Jvm.MethodName)) ∈ lw_all := lw_g (lw_at lw_m2 130 rfl) rfl
theorem q441 : (Jvm.Cond.lays "java/lang/IndexOutOfBoundsException" "java/lang/Throwable" "cause" "Ljava/lang/Throwable;") ∈ lw_all := lw_g (lw_at lw_m2 131 rfl) rfl
theorem q443 : (Jvm.Cond.lays "java/lang/IndexOutOfBoundsException" "java/lang/Throwable" "stackTrace" "[Ljava/lang/StackTraceElement;") ∈ lw_all := lw_g (lw_at lw_m2 133 rfl) rfl
theorem q445 : (Jvm.Cond.lays "java/lang/IndexOutOfBoundsException" "java/lang/Throwable" "suppressedExceptions" "Ljava/util/List;") ∈ lw_all := lw_g (lw_at lw_m2 135 rfl) rfl
theorem q447 : (Jvm.Cond.lays "java/lang/IndexOutOfBoundsException" "java/lang/Throwable" "detailMessage" "Ljava/lang/String;") ∈ lw_all := lw_g (lw_at lw_m2 137 rfl) rfl
theorem q449 : (Jvm.Cond.lays "java/lang/IndexOutOfBoundsException" "java/lang/Throwable" "backtrace" "Ljava/lang/Object;") ∈ lw_all := lw_g (lw_at lw_m2 139 rfl) rfl
theorem q733 : (Jvm.Cond.instanceMethod ({ cls := "java/lang/IndexOutOfBoundsException", name := "<init>", desc := "(Ljava/lang/String;)V" } : Jvm.MethodName)) ∈ lw_all := lw_g (lw_at lw_m3 183 rfl) rfl
theorem q734 : (Jvm.Cond.code ({ cls := "java/lang/IndexOutOfBoundsException", name := "<init>", desc := "(Ljava/lang/String;)V" } : Jvm.MethodName) prog_23_method_2_code (2 : Nat) (Option.none : Option Jvm.ClassFile.FieldType)) ∈ lw_all := lw_g (lw_at lw_m3 184 rfl) rfl
theorem q735 : (Jvm.Cond.methodLink "java/lang/IndexOutOfBoundsException" (7 : Nat) ({ cls := "java/lang/RuntimeException", name := "<init>", desc := "(Ljava/lang/String;)V" } : Jvm.MethodName)) ∈ lw_all := lw_g (lw_at lw_m3 185 rfl) rfl
theorem q736 : (Jvm.Cond.lays "java/lang/IndexOutOfBoundsException" "java/lang/Throwable" "depth" "I") ∈ lw_all := lw_g (lw_at lw_m3 186 rfl) rfl
theorem q737 : (Jvm.Cond.superclass "java/lang/IndexOutOfBoundsException" "java/lang/RuntimeException") ∈ lw_all := lw_g (lw_at lw_m3 187 rfl) rfl
theorem q772 : (Jvm.Cond.selects "java/lang/IndexOutOfBoundsException" ({ cls := "java/lang/Throwable", name := "toString", desc := "()Ljava/lang/String;" } : Jvm.MethodName) ({ cls := "java/lang/Throwable", name := "toString", desc := "()Ljava/lang/String;" } : Jvm.MethodName)) ∈ lw_all := lw_g (lw_at lw_m3 222 rfl) rfl
theorem q793 : (Jvm.Cond.selects "java/lang/IndexOutOfBoundsException" ({ cls := "java/lang/Object", name := "getClass", desc := "()Ljava/lang/Class;" } : Jvm.MethodName) ({ cls := "java/lang/Object", name := "getClass", desc := "()Ljava/lang/Class;" } : Jvm.MethodName)) ∈ lw_all := lw_g (lw_at lw_m4 3 rfl) rfl
theorem q819 : (Jvm.Cond.selects "java/lang/IndexOutOfBoundsException" ({ cls := "java/lang/Throwable", name := "getLocalizedMessage", desc := "()Ljava/lang/String;" } : Jvm.MethodName) ({ cls := "java/lang/Throwable", name := "getLocalizedMessage", desc := "()Ljava/lang/String;" } : Jvm.MethodName)) ∈ lw_all := lw_g (lw_at lw_m4 29 rfl) rfl
theorem q832 : (Jvm.Cond.selects "java/lang/IndexOutOfBoundsException" ({ cls := "java/lang/Throwable", name := "getMessage", desc := "()Ljava/lang/String;" } : Jvm.MethodName) ({ cls := "java/lang/Throwable", name := "getMessage", desc := "()Ljava/lang/String;" } : Jvm.MethodName)) ∈ lw_all := lw_g (lw_at lw_m4 42 rfl) rfl
theorem q1287 : (Jvm.Cond.instanceMethod ({ cls := "java/lang/IndexOutOfBoundsException", name := "<init>", desc := "()V" } : Jvm.MethodName)) ∈ lw_all := lw_g (lw_at lw_m6 17 rfl) rfl
theorem q1288 : (Jvm.Cond.code ({ cls := "java/lang/IndexOutOfBoundsException", name := "<init>", desc := "()V" } : Jvm.MethodName) prog_23_method_1_code (1 : Nat) (Option.none : Option Jvm.ClassFile.FieldType)) ∈ lw_all := lw_g (lw_at lw_m6 18 rfl) rfl
theorem q1289 : (Jvm.Cond.methodLink "java/lang/IndexOutOfBoundsException" (1 : Nat) ({ cls := "java/lang/RuntimeException", name := "<init>", desc := "()V" } : Jvm.MethodName)) ∈ lw_all := lw_g (lw_at lw_m6 19 rfl) rfl
theorem q1721 : (Jvm.Cond.declares ({ cls := "java/lang/IndexOutOfBoundsException", name := "<init>", desc := "()V" } : Jvm.MethodName)) ∈ lw_tbl := lw_at lw_m7 211 rfl
theorem q1722 : (Jvm.Cond.declares ({ cls := "java/lang/IndexOutOfBoundsException", name := "<init>", desc := "(Ljava/lang/String;)V" } : Jvm.MethodName)) ∈ lw_tbl := lw_at lw_m7 212 rfl
theorem q2747 : (Jvm.Cond.castable "java/lang/IndexOutOfBoundsException" "java/lang/Object") ∈ lw_tbl := lw_at lw_m12 37 rfl
theorem in_J16 : ∀ w ∈ wsJ160, w ∈ lw_all := lw_in wsJ160 [441, 443, 445, 447, 449, 736] (by decide +kernel) (by decide +kernel)

/-! jdk/internal/util/ArraysSupport -/
set_option maxRecDepth 100000
def RJ17 : String := "jdk/internal/util/ArraysSupport"
abbrev cJ17_newLength : ByteArray := prog_66_method_27_code
def yJ17_newLength : MethodName := ⟨RJ17, "newLength", "(III)I"⟩
def dkwJ17_newLength_1 : List UInt8 := [184, 0, 201, 172]
abbrev dktJ17_newLength_1 : List UInt8 := dkwJ17_newLength_1 ++ []
def dkwJ17_newLength_0 : List UInt8 := [26, 27, 28, 184, 0, 194, 96, 62, 3, 29, 162, 0, 11, 29, 18, 200, 163, 0, 5, 29, 172, 26, 27]
abbrev dktJ17_newLength_0 : List UInt8 := dkwJ17_newLength_0 ++ dktJ17_newLength_1
theorem dksJ17_newLength_0 : cJ17_newLength.data.toList.drop 0 = dktJ17_newLength_0 := by decide +kernel
theorem dksJ17_newLength_1 : cJ17_newLength.data.toList.drop 23 = dktJ17_newLength_1 := dk_seg dksJ17_newLength_0 23 rfl rfl
theorem dJ17_newLength_0 : decode cJ17_newLength 0 = .ok (.iload_n 0, 1) := dk_26 (dk_at dksJ17_newLength_0 0 rfl rfl)
theorem dJ17_newLength_1 : decode cJ17_newLength 1 = .ok (.iload_n 1, 1) := dk_27 (dk_at dksJ17_newLength_0 1 rfl rfl)
theorem dJ17_newLength_2 : decode cJ17_newLength 2 = .ok (.iload_n 2, 1) := dk_28 (dk_at dksJ17_newLength_0 2 rfl rfl)
theorem dJ17_newLength_3 : decode cJ17_newLength 3 = .ok (.invokestatic 194, 3) := dk_184 0 194 (dk_at dksJ17_newLength_0 3 rfl rfl)
theorem dJ17_newLength_6 : decode cJ17_newLength 6 = .ok (.iadd, 1) := dk_96 (dk_at dksJ17_newLength_0 6 rfl rfl)
theorem dJ17_newLength_7 : decode cJ17_newLength 7 = .ok (.istore_n 3, 1) := dk_62 (dk_at dksJ17_newLength_0 7 rfl rfl)
theorem dJ17_newLength_8 : decode cJ17_newLength 8 = .ok (.iconst 0, 1) := dk_3 (dk_at dksJ17_newLength_0 8 rfl rfl)
theorem dJ17_newLength_9 : decode cJ17_newLength 9 = .ok (.iload_n 3, 1) := dk_29 (dk_at dksJ17_newLength_0 9 rfl rfl)
theorem dJ17_newLength_10 : decode cJ17_newLength 10 = .ok (.if_icmp .ge 11, 3) := dk_162 0 11 (dk_at dksJ17_newLength_0 10 rfl rfl)
theorem dJ17_newLength_13 : decode cJ17_newLength 13 = .ok (.iload_n 3, 1) := dk_29 (dk_at dksJ17_newLength_0 13 rfl rfl)
theorem dJ17_newLength_14 : decode cJ17_newLength 14 = .ok (.ldc 200, 2) := dk_18 200 (dk_at dksJ17_newLength_0 14 rfl rfl)
theorem dJ17_newLength_16 : decode cJ17_newLength 16 = .ok (.if_icmp .gt 5, 3) := dk_163 0 5 (dk_at dksJ17_newLength_0 16 rfl rfl)
theorem dJ17_newLength_19 : decode cJ17_newLength 19 = .ok (.iload_n 3, 1) := dk_29 (dk_at dksJ17_newLength_0 19 rfl rfl)
theorem dJ17_newLength_20 : decode cJ17_newLength 20 = .ok (.ireturn, 1) := dk_172 (dk_at dksJ17_newLength_0 20 rfl rfl)
theorem dJ17_newLength_21 : decode cJ17_newLength 21 = .ok (.iload_n 0, 1) := dk_26 (dk_at dksJ17_newLength_0 21 rfl rfl)
theorem dJ17_newLength_22 : decode cJ17_newLength 22 = .ok (.iload_n 1, 1) := dk_27 (dk_at dksJ17_newLength_0 22 rfl rfl)
theorem dJ17_newLength_23 : decode cJ17_newLength 23 = .ok (.invokestatic 201, 3) := dk_184 0 201 (dk_at dksJ17_newLength_1 0 rfl rfl)
theorem dJ17_newLength_26 : decode cJ17_newLength 26 = .ok (.ireturn, 1) := dk_172 (dk_at dksJ17_newLength_1 3 rfl rfl)
abbrev cJ17_hugeLength : ByteArray := prog_66_method_28_code
def yJ17_hugeLength : MethodName := ⟨RJ17, "hugeLength", "(II)I"⟩
def dkwJ17_hugeLength_2 : List UInt8 := [191, 28, 18, 200, 163, 0, 6, 18, 200, 172, 28, 172]
abbrev dktJ17_hugeLength_2 : List UInt8 := dkwJ17_hugeLength_2 ++ []
def dkwJ17_hugeLength_1 : List UInt8 := [26, 182, 0, 98, 18, 208, 182, 0, 94, 27, 182, 0, 98, 18, 210, 182, 0, 94, 182, 0, 101, 183, 0, 212]
abbrev dktJ17_hugeLength_1 : List UInt8 := dkwJ17_hugeLength_1 ++ dktJ17_hugeLength_2
def dkwJ17_hugeLength_0 : List UInt8 := [26, 27, 96, 61, 28, 156, 0, 44, 187, 0, 204, 89, 187, 0, 89, 89, 183, 0, 91, 18, 206, 182, 0, 94]
abbrev dktJ17_hugeLength_0 : List UInt8 := dkwJ17_hugeLength_0 ++ dktJ17_hugeLength_1
theorem dksJ17_hugeLength_0 : cJ17_hugeLength.data.toList.drop 0 = dktJ17_hugeLength_0 := by decide +kernel
theorem dksJ17_hugeLength_1 : cJ17_hugeLength.data.toList.drop 24 = dktJ17_hugeLength_1 := dk_seg dksJ17_hugeLength_0 24 rfl rfl
theorem dksJ17_hugeLength_2 : cJ17_hugeLength.data.toList.drop 48 = dktJ17_hugeLength_2 := dk_seg dksJ17_hugeLength_1 24 rfl rfl
theorem dJ17_hugeLength_0 : decode cJ17_hugeLength 0 = .ok (.iload_n 0, 1) := dk_26 (dk_at dksJ17_hugeLength_0 0 rfl rfl)
theorem dJ17_hugeLength_1 : decode cJ17_hugeLength 1 = .ok (.iload_n 1, 1) := dk_27 (dk_at dksJ17_hugeLength_0 1 rfl rfl)
theorem dJ17_hugeLength_2 : decode cJ17_hugeLength 2 = .ok (.iadd, 1) := dk_96 (dk_at dksJ17_hugeLength_0 2 rfl rfl)
theorem dJ17_hugeLength_3 : decode cJ17_hugeLength 3 = .ok (.istore_n 2, 1) := dk_61 (dk_at dksJ17_hugeLength_0 3 rfl rfl)
theorem dJ17_hugeLength_4 : decode cJ17_hugeLength 4 = .ok (.iload_n 2, 1) := dk_28 (dk_at dksJ17_hugeLength_0 4 rfl rfl)
theorem dJ17_hugeLength_5 : decode cJ17_hugeLength 5 = .ok (.ifCond .ge 44, 3) := dk_156 0 44 (dk_at dksJ17_hugeLength_0 5 rfl rfl)
theorem dJ17_hugeLength_8 : decode cJ17_hugeLength 8 = .ok (.new 204, 3) := dk_187 0 204 (dk_at dksJ17_hugeLength_0 8 rfl rfl)
theorem dJ17_hugeLength_11 : decode cJ17_hugeLength 11 = .ok (.dup, 1) := dk_89 (dk_at dksJ17_hugeLength_0 11 rfl rfl)
theorem dJ17_hugeLength_12 : decode cJ17_hugeLength 12 = .ok (.new 89, 3) := dk_187 0 89 (dk_at dksJ17_hugeLength_0 12 rfl rfl)
theorem dJ17_hugeLength_15 : decode cJ17_hugeLength 15 = .ok (.dup, 1) := dk_89 (dk_at dksJ17_hugeLength_0 15 rfl rfl)
theorem dJ17_hugeLength_16 : decode cJ17_hugeLength 16 = .ok (.invokespecial 91, 3) := dk_183 0 91 (dk_at dksJ17_hugeLength_0 16 rfl rfl)
theorem dJ17_hugeLength_19 : decode cJ17_hugeLength 19 = .ok (.ldc 206, 2) := dk_18 206 (dk_at dksJ17_hugeLength_0 19 rfl rfl)
theorem dJ17_hugeLength_21 : decode cJ17_hugeLength 21 = .ok (.invokevirtual 94, 3) := dk_182 0 94 (dk_at dksJ17_hugeLength_0 21 rfl rfl)
theorem dJ17_hugeLength_24 : decode cJ17_hugeLength 24 = .ok (.iload_n 0, 1) := dk_26 (dk_at dksJ17_hugeLength_1 0 rfl rfl)
theorem dJ17_hugeLength_25 : decode cJ17_hugeLength 25 = .ok (.invokevirtual 98, 3) := dk_182 0 98 (dk_at dksJ17_hugeLength_1 1 rfl rfl)
theorem dJ17_hugeLength_28 : decode cJ17_hugeLength 28 = .ok (.ldc 208, 2) := dk_18 208 (dk_at dksJ17_hugeLength_1 4 rfl rfl)
theorem dJ17_hugeLength_30 : decode cJ17_hugeLength 30 = .ok (.invokevirtual 94, 3) := dk_182 0 94 (dk_at dksJ17_hugeLength_1 6 rfl rfl)
theorem dJ17_hugeLength_33 : decode cJ17_hugeLength 33 = .ok (.iload_n 1, 1) := dk_27 (dk_at dksJ17_hugeLength_1 9 rfl rfl)
theorem dJ17_hugeLength_34 : decode cJ17_hugeLength 34 = .ok (.invokevirtual 98, 3) := dk_182 0 98 (dk_at dksJ17_hugeLength_1 10 rfl rfl)
theorem dJ17_hugeLength_37 : decode cJ17_hugeLength 37 = .ok (.ldc 210, 2) := dk_18 210 (dk_at dksJ17_hugeLength_1 13 rfl rfl)
theorem dJ17_hugeLength_39 : decode cJ17_hugeLength 39 = .ok (.invokevirtual 94, 3) := dk_182 0 94 (dk_at dksJ17_hugeLength_1 15 rfl rfl)
theorem dJ17_hugeLength_42 : decode cJ17_hugeLength 42 = .ok (.invokevirtual 101, 3) := dk_182 0 101 (dk_at dksJ17_hugeLength_1 18 rfl rfl)
theorem dJ17_hugeLength_45 : decode cJ17_hugeLength 45 = .ok (.invokespecial 212, 3) := dk_183 0 212 (dk_at dksJ17_hugeLength_1 21 rfl rfl)
theorem dJ17_hugeLength_48 : decode cJ17_hugeLength 48 = .ok (.athrow, 1) := dk_191 (dk_at dksJ17_hugeLength_2 0 rfl rfl)
theorem dJ17_hugeLength_49 : decode cJ17_hugeLength 49 = .ok (.iload_n 2, 1) := dk_28 (dk_at dksJ17_hugeLength_2 1 rfl rfl)
theorem dJ17_hugeLength_50 : decode cJ17_hugeLength 50 = .ok (.ldc 200, 2) := dk_18 200 (dk_at dksJ17_hugeLength_2 2 rfl rfl)
theorem dJ17_hugeLength_52 : decode cJ17_hugeLength 52 = .ok (.if_icmp .gt 6, 3) := dk_163 0 6 (dk_at dksJ17_hugeLength_2 4 rfl rfl)
theorem dJ17_hugeLength_55 : decode cJ17_hugeLength 55 = .ok (.ldc 200, 2) := dk_18 200 (dk_at dksJ17_hugeLength_2 7 rfl rfl)
theorem dJ17_hugeLength_57 : decode cJ17_hugeLength 57 = .ok (.ireturn, 1) := dk_172 (dk_at dksJ17_hugeLength_2 9 rfl rfl)
theorem dJ17_hugeLength_58 : decode cJ17_hugeLength 58 = .ok (.iload_n 2, 1) := dk_28 (dk_at dksJ17_hugeLength_2 10 rfl rfl)
theorem dJ17_hugeLength_59 : decode cJ17_hugeLength 59 = .ok (.ireturn, 1) := dk_172 (dk_at dksJ17_hugeLength_2 11 rfl rfl)
abbrev cJ17_vectorizedHashCode : ByteArray := prog_66_method_4_code
def yJ17_vectorizedHashCode : MethodName := ⟨RJ17, "vectorizedHashCode", "(Ljava/lang/Object;IIII)I"⟩
def dkwJ17_vectorizedHashCode_6 : List UInt8 := [183, 0, 91, 18, 92, 182, 0, 94, 21, 4, 182, 0, 98, 182, 0, 101, 183, 0, 105, 191, 172]
abbrev dktJ17_vectorizedHashCode_6 : List UInt8 := dkwJ17_vectorizedHashCode_6 ++ []
def dkwJ17_vectorizedHashCode_5 : List UInt8 := [167, 0, 44, 29, 42, 192, 0, 82, 27, 28, 184, 0, 84, 167, 0, 31, 187, 0, 87, 89, 187, 0, 89, 89]
abbrev dktJ17_vectorizedHashCode_5 : List UInt8 := dkwJ17_vectorizedHashCode_5 ++ dktJ17_vectorizedHashCode_6
def dkwJ17_vectorizedHashCode_4 : List UInt8 := [29, 42, 192, 0, 60, 27, 28, 184, 0, 75, 167, 0, 57, 29, 42, 192, 0, 77, 27, 28, 184, 0, 79]
abbrev dktJ17_vectorizedHashCode_4 : List UInt8 := dkwJ17_vectorizedHashCode_4 ++ dktJ17_vectorizedHashCode_5
def dkwJ17_vectorizedHashCode_3 : List UInt8 := [192, 0, 60, 27, 28, 184, 0, 66, 167, 0, 83, 29, 42, 192, 0, 69, 27, 28, 184, 0, 71, 167, 0, 70]
abbrev dktJ17_vectorizedHashCode_3 : List UInt8 := dkwJ17_vectorizedHashCode_3 ++ dktJ17_vectorizedHashCode_4
def dkwJ17_vectorizedHashCode_2 : List UInt8 := [29, 42, 192, 0, 60, 27, 28, 184, 0, 62, 167, 0, 103, 42, 193, 0, 60, 153, 0, 16, 29, 42]
abbrev dktJ17_vectorizedHashCode_2 : List UInt8 := dkwJ17_vectorizedHashCode_2 ++ dktJ17_vectorizedHashCode_3
def dkwJ17_vectorizedHashCode_1 : List UInt8 := [170, 0, 0, 0, 0, 127, 0, 0, 0, 4, 0, 0, 0, 10, 0, 0, 0, 42, 0, 0, 0, 55, 0, 0, 0, 127, 0, 0, 0, 127, 0, 0, 0, 88, 0, 0, 0, 101, 0, 0, 0, 114]
abbrev dktJ17_vectorizedHashCode_1 : List UInt8 := dkwJ17_vectorizedHashCode_1 ++ dktJ17_vectorizedHashCode_2
def dkwJ17_vectorizedHashCode_0 : List UInt8 := [21, 4]
abbrev dktJ17_vectorizedHashCode_0 : List UInt8 := dkwJ17_vectorizedHashCode_0 ++ dktJ17_vectorizedHashCode_1
theorem dksJ17_vectorizedHashCode_0 : cJ17_vectorizedHashCode.data.toList.drop 0 = dktJ17_vectorizedHashCode_0 := by decide +kernel
theorem dksJ17_vectorizedHashCode_1 : cJ17_vectorizedHashCode.data.toList.drop 2 = dktJ17_vectorizedHashCode_1 := dk_seg dksJ17_vectorizedHashCode_0 2 rfl rfl
theorem dksJ17_vectorizedHashCode_2 : cJ17_vectorizedHashCode.data.toList.drop 44 = dktJ17_vectorizedHashCode_2 := dk_seg dksJ17_vectorizedHashCode_1 42 rfl rfl
theorem dksJ17_vectorizedHashCode_3 : cJ17_vectorizedHashCode.data.toList.drop 66 = dktJ17_vectorizedHashCode_3 := dk_seg dksJ17_vectorizedHashCode_2 22 rfl rfl
theorem dksJ17_vectorizedHashCode_4 : cJ17_vectorizedHashCode.data.toList.drop 90 = dktJ17_vectorizedHashCode_4 := dk_seg dksJ17_vectorizedHashCode_3 24 rfl rfl
theorem dksJ17_vectorizedHashCode_5 : cJ17_vectorizedHashCode.data.toList.drop 113 = dktJ17_vectorizedHashCode_5 := dk_seg dksJ17_vectorizedHashCode_4 23 rfl rfl
theorem dksJ17_vectorizedHashCode_6 : cJ17_vectorizedHashCode.data.toList.drop 137 = dktJ17_vectorizedHashCode_6 := dk_seg dksJ17_vectorizedHashCode_5 24 rfl rfl
theorem dJ17_vectorizedHashCode_0 : decode cJ17_vectorizedHashCode 0 = .ok (.iload 4, 2) := dk_21 4 (dk_at dksJ17_vectorizedHashCode_0 0 rfl rfl)
theorem dJ17_vectorizedHashCode_2 : decode cJ17_vectorizedHashCode 2 = .ok (.tableswitch 127 4 10 #[42, 55, 127, 127, 88, 101, 114], 42) := by decide +kernel
theorem dJ17_vectorizedHashCode_44 : decode cJ17_vectorizedHashCode 44 = .ok (.iload_n 3, 1) := dk_29 (dk_at dksJ17_vectorizedHashCode_2 0 rfl rfl)
theorem dJ17_vectorizedHashCode_45 : decode cJ17_vectorizedHashCode 45 = .ok (.aload_n 0, 1) := dk_42 (dk_at dksJ17_vectorizedHashCode_2 1 rfl rfl)
theorem dJ17_vectorizedHashCode_46 : decode cJ17_vectorizedHashCode 46 = .ok (.checkcast 60, 3) := dk_192 0 60 (dk_at dksJ17_vectorizedHashCode_2 2 rfl rfl)
theorem dJ17_vectorizedHashCode_49 : decode cJ17_vectorizedHashCode 49 = .ok (.iload_n 1, 1) := dk_27 (dk_at dksJ17_vectorizedHashCode_2 5 rfl rfl)
theorem dJ17_vectorizedHashCode_50 : decode cJ17_vectorizedHashCode 50 = .ok (.iload_n 2, 1) := dk_28 (dk_at dksJ17_vectorizedHashCode_2 6 rfl rfl)
theorem dJ17_vectorizedHashCode_51 : decode cJ17_vectorizedHashCode 51 = .ok (.invokestatic 62, 3) := dk_184 0 62 (dk_at dksJ17_vectorizedHashCode_2 7 rfl rfl)
theorem dJ17_vectorizedHashCode_54 : decode cJ17_vectorizedHashCode 54 = .ok (.goto 103, 3) := dk_167 0 103 (dk_at dksJ17_vectorizedHashCode_2 10 rfl rfl)
theorem dJ17_vectorizedHashCode_57 : decode cJ17_vectorizedHashCode 57 = .ok (.aload_n 0, 1) := dk_42 (dk_at dksJ17_vectorizedHashCode_2 13 rfl rfl)
theorem dJ17_vectorizedHashCode_58 : decode cJ17_vectorizedHashCode 58 = .ok (.instanceof 60, 3) := dk_193 0 60 (dk_at dksJ17_vectorizedHashCode_2 14 rfl rfl)
theorem dJ17_vectorizedHashCode_61 : decode cJ17_vectorizedHashCode 61 = .ok (.ifCond .eq 16, 3) := dk_153 0 16 (dk_at dksJ17_vectorizedHashCode_2 17 rfl rfl)
theorem dJ17_vectorizedHashCode_64 : decode cJ17_vectorizedHashCode 64 = .ok (.iload_n 3, 1) := dk_29 (dk_at dksJ17_vectorizedHashCode_2 20 rfl rfl)
theorem dJ17_vectorizedHashCode_65 : decode cJ17_vectorizedHashCode 65 = .ok (.aload_n 0, 1) := dk_42 (dk_at dksJ17_vectorizedHashCode_2 21 rfl rfl)
theorem dJ17_vectorizedHashCode_66 : decode cJ17_vectorizedHashCode 66 = .ok (.checkcast 60, 3) := dk_192 0 60 (dk_at dksJ17_vectorizedHashCode_3 0 rfl rfl)
theorem dJ17_vectorizedHashCode_69 : decode cJ17_vectorizedHashCode 69 = .ok (.iload_n 1, 1) := dk_27 (dk_at dksJ17_vectorizedHashCode_3 3 rfl rfl)
theorem dJ17_vectorizedHashCode_70 : decode cJ17_vectorizedHashCode 70 = .ok (.iload_n 2, 1) := dk_28 (dk_at dksJ17_vectorizedHashCode_3 4 rfl rfl)
theorem dJ17_vectorizedHashCode_71 : decode cJ17_vectorizedHashCode 71 = .ok (.invokestatic 66, 3) := dk_184 0 66 (dk_at dksJ17_vectorizedHashCode_3 5 rfl rfl)
theorem dJ17_vectorizedHashCode_74 : decode cJ17_vectorizedHashCode 74 = .ok (.goto 83, 3) := dk_167 0 83 (dk_at dksJ17_vectorizedHashCode_3 8 rfl rfl)
theorem dJ17_vectorizedHashCode_77 : decode cJ17_vectorizedHashCode 77 = .ok (.iload_n 3, 1) := dk_29 (dk_at dksJ17_vectorizedHashCode_3 11 rfl rfl)
theorem dJ17_vectorizedHashCode_78 : decode cJ17_vectorizedHashCode 78 = .ok (.aload_n 0, 1) := dk_42 (dk_at dksJ17_vectorizedHashCode_3 12 rfl rfl)
theorem dJ17_vectorizedHashCode_79 : decode cJ17_vectorizedHashCode 79 = .ok (.checkcast 69, 3) := dk_192 0 69 (dk_at dksJ17_vectorizedHashCode_3 13 rfl rfl)
theorem dJ17_vectorizedHashCode_82 : decode cJ17_vectorizedHashCode 82 = .ok (.iload_n 1, 1) := dk_27 (dk_at dksJ17_vectorizedHashCode_3 16 rfl rfl)
theorem dJ17_vectorizedHashCode_83 : decode cJ17_vectorizedHashCode 83 = .ok (.iload_n 2, 1) := dk_28 (dk_at dksJ17_vectorizedHashCode_3 17 rfl rfl)
theorem dJ17_vectorizedHashCode_84 : decode cJ17_vectorizedHashCode 84 = .ok (.invokestatic 71, 3) := dk_184 0 71 (dk_at dksJ17_vectorizedHashCode_3 18 rfl rfl)
theorem dJ17_vectorizedHashCode_87 : decode cJ17_vectorizedHashCode 87 = .ok (.goto 70, 3) := dk_167 0 70 (dk_at dksJ17_vectorizedHashCode_3 21 rfl rfl)
theorem dJ17_vectorizedHashCode_90 : decode cJ17_vectorizedHashCode 90 = .ok (.iload_n 3, 1) := dk_29 (dk_at dksJ17_vectorizedHashCode_4 0 rfl rfl)
theorem dJ17_vectorizedHashCode_91 : decode cJ17_vectorizedHashCode 91 = .ok (.aload_n 0, 1) := dk_42 (dk_at dksJ17_vectorizedHashCode_4 1 rfl rfl)
theorem dJ17_vectorizedHashCode_92 : decode cJ17_vectorizedHashCode 92 = .ok (.checkcast 60, 3) := dk_192 0 60 (dk_at dksJ17_vectorizedHashCode_4 2 rfl rfl)
theorem dJ17_vectorizedHashCode_95 : decode cJ17_vectorizedHashCode 95 = .ok (.iload_n 1, 1) := dk_27 (dk_at dksJ17_vectorizedHashCode_4 5 rfl rfl)
theorem dJ17_vectorizedHashCode_96 : decode cJ17_vectorizedHashCode 96 = .ok (.iload_n 2, 1) := dk_28 (dk_at dksJ17_vectorizedHashCode_4 6 rfl rfl)
theorem dJ17_vectorizedHashCode_97 : decode cJ17_vectorizedHashCode 97 = .ok (.invokestatic 75, 3) := dk_184 0 75 (dk_at dksJ17_vectorizedHashCode_4 7 rfl rfl)
theorem dJ17_vectorizedHashCode_100 : decode cJ17_vectorizedHashCode 100 = .ok (.goto 57, 3) := dk_167 0 57 (dk_at dksJ17_vectorizedHashCode_4 10 rfl rfl)
theorem dJ17_vectorizedHashCode_103 : decode cJ17_vectorizedHashCode 103 = .ok (.iload_n 3, 1) := dk_29 (dk_at dksJ17_vectorizedHashCode_4 13 rfl rfl)
theorem dJ17_vectorizedHashCode_104 : decode cJ17_vectorizedHashCode 104 = .ok (.aload_n 0, 1) := dk_42 (dk_at dksJ17_vectorizedHashCode_4 14 rfl rfl)
theorem dJ17_vectorizedHashCode_105 : decode cJ17_vectorizedHashCode 105 = .ok (.checkcast 77, 3) := dk_192 0 77 (dk_at dksJ17_vectorizedHashCode_4 15 rfl rfl)
theorem dJ17_vectorizedHashCode_108 : decode cJ17_vectorizedHashCode 108 = .ok (.iload_n 1, 1) := dk_27 (dk_at dksJ17_vectorizedHashCode_4 18 rfl rfl)
theorem dJ17_vectorizedHashCode_109 : decode cJ17_vectorizedHashCode 109 = .ok (.iload_n 2, 1) := dk_28 (dk_at dksJ17_vectorizedHashCode_4 19 rfl rfl)
theorem dJ17_vectorizedHashCode_110 : decode cJ17_vectorizedHashCode 110 = .ok (.invokestatic 79, 3) := dk_184 0 79 (dk_at dksJ17_vectorizedHashCode_4 20 rfl rfl)
theorem dJ17_vectorizedHashCode_113 : decode cJ17_vectorizedHashCode 113 = .ok (.goto 44, 3) := dk_167 0 44 (dk_at dksJ17_vectorizedHashCode_5 0 rfl rfl)
theorem dJ17_vectorizedHashCode_116 : decode cJ17_vectorizedHashCode 116 = .ok (.iload_n 3, 1) := dk_29 (dk_at dksJ17_vectorizedHashCode_5 3 rfl rfl)
theorem dJ17_vectorizedHashCode_117 : decode cJ17_vectorizedHashCode 117 = .ok (.aload_n 0, 1) := dk_42 (dk_at dksJ17_vectorizedHashCode_5 4 rfl rfl)
theorem dJ17_vectorizedHashCode_118 : decode cJ17_vectorizedHashCode 118 = .ok (.checkcast 82, 3) := dk_192 0 82 (dk_at dksJ17_vectorizedHashCode_5 5 rfl rfl)
theorem dJ17_vectorizedHashCode_121 : decode cJ17_vectorizedHashCode 121 = .ok (.iload_n 1, 1) := dk_27 (dk_at dksJ17_vectorizedHashCode_5 8 rfl rfl)
theorem dJ17_vectorizedHashCode_122 : decode cJ17_vectorizedHashCode 122 = .ok (.iload_n 2, 1) := dk_28 (dk_at dksJ17_vectorizedHashCode_5 9 rfl rfl)
theorem dJ17_vectorizedHashCode_123 : decode cJ17_vectorizedHashCode 123 = .ok (.invokestatic 84, 3) := dk_184 0 84 (dk_at dksJ17_vectorizedHashCode_5 10 rfl rfl)
theorem dJ17_vectorizedHashCode_126 : decode cJ17_vectorizedHashCode 126 = .ok (.goto 31, 3) := dk_167 0 31 (dk_at dksJ17_vectorizedHashCode_5 13 rfl rfl)
theorem dJ17_vectorizedHashCode_129 : decode cJ17_vectorizedHashCode 129 = .ok (.new 87, 3) := dk_187 0 87 (dk_at dksJ17_vectorizedHashCode_5 16 rfl rfl)
theorem dJ17_vectorizedHashCode_132 : decode cJ17_vectorizedHashCode 132 = .ok (.dup, 1) := dk_89 (dk_at dksJ17_vectorizedHashCode_5 19 rfl rfl)
theorem dJ17_vectorizedHashCode_133 : decode cJ17_vectorizedHashCode 133 = .ok (.new 89, 3) := dk_187 0 89 (dk_at dksJ17_vectorizedHashCode_5 20 rfl rfl)
theorem dJ17_vectorizedHashCode_136 : decode cJ17_vectorizedHashCode 136 = .ok (.dup, 1) := dk_89 (dk_at dksJ17_vectorizedHashCode_5 23 rfl rfl)
theorem dJ17_vectorizedHashCode_137 : decode cJ17_vectorizedHashCode 137 = .ok (.invokespecial 91, 3) := dk_183 0 91 (dk_at dksJ17_vectorizedHashCode_6 0 rfl rfl)
theorem dJ17_vectorizedHashCode_140 : decode cJ17_vectorizedHashCode 140 = .ok (.ldc 92, 2) := dk_18 92 (dk_at dksJ17_vectorizedHashCode_6 3 rfl rfl)
theorem dJ17_vectorizedHashCode_142 : decode cJ17_vectorizedHashCode 142 = .ok (.invokevirtual 94, 3) := dk_182 0 94 (dk_at dksJ17_vectorizedHashCode_6 5 rfl rfl)
theorem dJ17_vectorizedHashCode_145 : decode cJ17_vectorizedHashCode 145 = .ok (.iload 4, 2) := dk_21 4 (dk_at dksJ17_vectorizedHashCode_6 8 rfl rfl)
theorem dJ17_vectorizedHashCode_147 : decode cJ17_vectorizedHashCode 147 = .ok (.invokevirtual 98, 3) := dk_182 0 98 (dk_at dksJ17_vectorizedHashCode_6 10 rfl rfl)
theorem dJ17_vectorizedHashCode_150 : decode cJ17_vectorizedHashCode 150 = .ok (.invokevirtual 101, 3) := dk_182 0 101 (dk_at dksJ17_vectorizedHashCode_6 13 rfl rfl)
theorem dJ17_vectorizedHashCode_153 : decode cJ17_vectorizedHashCode 153 = .ok (.invokespecial 105, 3) := dk_183 0 105 (dk_at dksJ17_vectorizedHashCode_6 16 rfl rfl)
theorem dJ17_vectorizedHashCode_156 : decode cJ17_vectorizedHashCode 156 = .ok (.athrow, 1) := dk_191 (dk_at dksJ17_vectorizedHashCode_6 19 rfl rfl)
theorem dJ17_vectorizedHashCode_157 : decode cJ17_vectorizedHashCode 157 = .ok (.ireturn, 1) := dk_172 (dk_at dksJ17_vectorizedHashCode_6 20 rfl rfl)
abbrev cJ17_signedHashCode : ByteArray := prog_66_method_5_code
def yJ17_signedHashCode : MethodName := ⟨RJ17, "signedHashCode", "(I[BII)I"⟩
def dkwJ17_signedHashCode_1 : List UInt8 := [17, 0, 255, 126, 96, 59, 132, 5, 1, 167, 255, 232, 26, 172]
abbrev dktJ17_signedHashCode_1 : List UInt8 := dkwJ17_signedHashCode_1 ++ []
def dkwJ17_signedHashCode_0 : List UInt8 := [28, 29, 96, 54, 4, 28, 54, 5, 21, 5, 21, 4, 162, 0, 23, 16, 31, 26, 104, 43, 21, 5, 51]
abbrev dktJ17_signedHashCode_0 : List UInt8 := dkwJ17_signedHashCode_0 ++ dktJ17_signedHashCode_1
theorem dksJ17_signedHashCode_0 : cJ17_signedHashCode.data.toList.drop 0 = dktJ17_signedHashCode_0 := by decide +kernel
theorem dksJ17_signedHashCode_1 : cJ17_signedHashCode.data.toList.drop 23 = dktJ17_signedHashCode_1 := dk_seg dksJ17_signedHashCode_0 23 rfl rfl
theorem dJ17_signedHashCode_0 : decode cJ17_signedHashCode 0 = .ok (.iload_n 2, 1) := dk_28 (dk_at dksJ17_signedHashCode_0 0 rfl rfl)
theorem dJ17_signedHashCode_1 : decode cJ17_signedHashCode 1 = .ok (.iload_n 3, 1) := dk_29 (dk_at dksJ17_signedHashCode_0 1 rfl rfl)
theorem dJ17_signedHashCode_2 : decode cJ17_signedHashCode 2 = .ok (.iadd, 1) := dk_96 (dk_at dksJ17_signedHashCode_0 2 rfl rfl)
theorem dJ17_signedHashCode_3 : decode cJ17_signedHashCode 3 = .ok (.istore 4, 2) := dk_54 4 (dk_at dksJ17_signedHashCode_0 3 rfl rfl)
theorem dJ17_signedHashCode_5 : decode cJ17_signedHashCode 5 = .ok (.iload_n 2, 1) := dk_28 (dk_at dksJ17_signedHashCode_0 5 rfl rfl)
theorem dJ17_signedHashCode_6 : decode cJ17_signedHashCode 6 = .ok (.istore 5, 2) := dk_54 5 (dk_at dksJ17_signedHashCode_0 6 rfl rfl)
theorem dJ17_signedHashCode_8 : decode cJ17_signedHashCode 8 = .ok (.iload 5, 2) := dk_21 5 (dk_at dksJ17_signedHashCode_0 8 rfl rfl)
theorem dJ17_signedHashCode_10 : decode cJ17_signedHashCode 10 = .ok (.iload 4, 2) := dk_21 4 (dk_at dksJ17_signedHashCode_0 10 rfl rfl)
theorem dJ17_signedHashCode_12 : decode cJ17_signedHashCode 12 = .ok (.if_icmp .ge 23, 3) := dk_162 0 23 (dk_at dksJ17_signedHashCode_0 12 rfl rfl)
theorem dJ17_signedHashCode_15 : decode cJ17_signedHashCode 15 = .ok (.bipush 31, 2) := dk_16 31 (dk_at dksJ17_signedHashCode_0 15 rfl rfl)
theorem dJ17_signedHashCode_17 : decode cJ17_signedHashCode 17 = .ok (.iload_n 0, 1) := dk_26 (dk_at dksJ17_signedHashCode_0 17 rfl rfl)
theorem dJ17_signedHashCode_18 : decode cJ17_signedHashCode 18 = .ok (.imul, 1) := dk_104 (dk_at dksJ17_signedHashCode_0 18 rfl rfl)
theorem dJ17_signedHashCode_19 : decode cJ17_signedHashCode 19 = .ok (.aload_n 1, 1) := dk_43 (dk_at dksJ17_signedHashCode_0 19 rfl rfl)
theorem dJ17_signedHashCode_20 : decode cJ17_signedHashCode 20 = .ok (.iload 5, 2) := dk_21 5 (dk_at dksJ17_signedHashCode_0 20 rfl rfl)
theorem dJ17_signedHashCode_22 : decode cJ17_signedHashCode 22 = .ok (.baload, 1) := dk_51 (dk_at dksJ17_signedHashCode_0 22 rfl rfl)
theorem dJ17_signedHashCode_23 : decode cJ17_signedHashCode 23 = .ok (.sipush 255, 3) := dk_17 0 255 (dk_at dksJ17_signedHashCode_1 0 rfl rfl)
theorem dJ17_signedHashCode_26 : decode cJ17_signedHashCode 26 = .ok (.iand, 1) := dk_126 (dk_at dksJ17_signedHashCode_1 3 rfl rfl)
theorem dJ17_signedHashCode_27 : decode cJ17_signedHashCode 27 = .ok (.iadd, 1) := dk_96 (dk_at dksJ17_signedHashCode_1 4 rfl rfl)
theorem dJ17_signedHashCode_28 : decode cJ17_signedHashCode 28 = .ok (.istore_n 0, 1) := dk_59 (dk_at dksJ17_signedHashCode_1 5 rfl rfl)
theorem dJ17_signedHashCode_29 : decode cJ17_signedHashCode 29 = .ok (.iinc 5 1, 3) := dk_132 5 1 (dk_at dksJ17_signedHashCode_1 6 rfl rfl)
theorem dJ17_signedHashCode_32 : decode cJ17_signedHashCode 32 = .ok (.goto (-24), 3) := dk_167 255 232 (dk_at dksJ17_signedHashCode_1 9 rfl rfl)
theorem dJ17_signedHashCode_35 : decode cJ17_signedHashCode 35 = .ok (.iload_n 0, 1) := dk_26 (dk_at dksJ17_signedHashCode_1 12 rfl rfl)
theorem dJ17_signedHashCode_36 : decode cJ17_signedHashCode 36 = .ok (.ireturn, 1) := dk_172 (dk_at dksJ17_signedHashCode_1 13 rfl rfl)
abbrev cJ17_utf16hashCode : ByteArray := prog_66_method_10_code
def yJ17_utf16hashCode : MethodName := ⟨RJ17, "utf16hashCode", "(I[BII)I"⟩
def dkwJ17_utf16hashCode_1 : List UInt8 := [21, 5, 185, 0, 110, 3, 0, 96, 59, 132, 5, 1, 167, 255, 229, 26, 172]
abbrev dktJ17_utf16hashCode_1 : List UInt8 := dkwJ17_utf16hashCode_1 ++ []
def dkwJ17_utf16hashCode_0 : List UInt8 := [28, 29, 96, 54, 4, 28, 54, 5, 21, 5, 21, 4, 162, 0, 26, 16, 31, 26, 104, 178, 0, 106, 43]
abbrev dktJ17_utf16hashCode_0 : List UInt8 := dkwJ17_utf16hashCode_0 ++ dktJ17_utf16hashCode_1
theorem dksJ17_utf16hashCode_0 : cJ17_utf16hashCode.data.toList.drop 0 = dktJ17_utf16hashCode_0 := by decide +kernel
theorem dksJ17_utf16hashCode_1 : cJ17_utf16hashCode.data.toList.drop 23 = dktJ17_utf16hashCode_1 := dk_seg dksJ17_utf16hashCode_0 23 rfl rfl
theorem dJ17_utf16hashCode_0 : decode cJ17_utf16hashCode 0 = .ok (.iload_n 2, 1) := dk_28 (dk_at dksJ17_utf16hashCode_0 0 rfl rfl)
theorem dJ17_utf16hashCode_1 : decode cJ17_utf16hashCode 1 = .ok (.iload_n 3, 1) := dk_29 (dk_at dksJ17_utf16hashCode_0 1 rfl rfl)
theorem dJ17_utf16hashCode_2 : decode cJ17_utf16hashCode 2 = .ok (.iadd, 1) := dk_96 (dk_at dksJ17_utf16hashCode_0 2 rfl rfl)
theorem dJ17_utf16hashCode_3 : decode cJ17_utf16hashCode 3 = .ok (.istore 4, 2) := dk_54 4 (dk_at dksJ17_utf16hashCode_0 3 rfl rfl)
theorem dJ17_utf16hashCode_5 : decode cJ17_utf16hashCode 5 = .ok (.iload_n 2, 1) := dk_28 (dk_at dksJ17_utf16hashCode_0 5 rfl rfl)
theorem dJ17_utf16hashCode_6 : decode cJ17_utf16hashCode 6 = .ok (.istore 5, 2) := dk_54 5 (dk_at dksJ17_utf16hashCode_0 6 rfl rfl)
theorem dJ17_utf16hashCode_8 : decode cJ17_utf16hashCode 8 = .ok (.iload 5, 2) := dk_21 5 (dk_at dksJ17_utf16hashCode_0 8 rfl rfl)
theorem dJ17_utf16hashCode_10 : decode cJ17_utf16hashCode 10 = .ok (.iload 4, 2) := dk_21 4 (dk_at dksJ17_utf16hashCode_0 10 rfl rfl)
theorem dJ17_utf16hashCode_12 : decode cJ17_utf16hashCode 12 = .ok (.if_icmp .ge 26, 3) := dk_162 0 26 (dk_at dksJ17_utf16hashCode_0 12 rfl rfl)
theorem dJ17_utf16hashCode_15 : decode cJ17_utf16hashCode 15 = .ok (.bipush 31, 2) := dk_16 31 (dk_at dksJ17_utf16hashCode_0 15 rfl rfl)
theorem dJ17_utf16hashCode_17 : decode cJ17_utf16hashCode 17 = .ok (.iload_n 0, 1) := dk_26 (dk_at dksJ17_utf16hashCode_0 17 rfl rfl)
theorem dJ17_utf16hashCode_18 : decode cJ17_utf16hashCode 18 = .ok (.imul, 1) := dk_104 (dk_at dksJ17_utf16hashCode_0 18 rfl rfl)
theorem dJ17_utf16hashCode_19 : decode cJ17_utf16hashCode 19 = .ok (.getstatic 106, 3) := dk_178 0 106 (dk_at dksJ17_utf16hashCode_0 19 rfl rfl)
theorem dJ17_utf16hashCode_22 : decode cJ17_utf16hashCode 22 = .ok (.aload_n 1, 1) := dk_43 (dk_at dksJ17_utf16hashCode_0 22 rfl rfl)
theorem dJ17_utf16hashCode_23 : decode cJ17_utf16hashCode 23 = .ok (.iload 5, 2) := dk_21 5 (dk_at dksJ17_utf16hashCode_1 0 rfl rfl)
theorem dJ17_utf16hashCode_25 : decode cJ17_utf16hashCode 25 = .ok (.invokeinterface 110 3, 5) := by decide +kernel
theorem dJ17_utf16hashCode_30 : decode cJ17_utf16hashCode 30 = .ok (.iadd, 1) := dk_96 (dk_at dksJ17_utf16hashCode_1 7 rfl rfl)
theorem dJ17_utf16hashCode_31 : decode cJ17_utf16hashCode 31 = .ok (.istore_n 0, 1) := dk_59 (dk_at dksJ17_utf16hashCode_1 8 rfl rfl)
theorem dJ17_utf16hashCode_32 : decode cJ17_utf16hashCode 32 = .ok (.iinc 5 1, 3) := dk_132 5 1 (dk_at dksJ17_utf16hashCode_1 9 rfl rfl)
theorem dJ17_utf16hashCode_35 : decode cJ17_utf16hashCode 35 = .ok (.goto (-27), 3) := dk_167 255 229 (dk_at dksJ17_utf16hashCode_1 12 rfl rfl)
theorem dJ17_utf16hashCode_38 : decode cJ17_utf16hashCode 38 = .ok (.iload_n 0, 1) := dk_26 (dk_at dksJ17_utf16hashCode_1 15 rfl rfl)
theorem dJ17_utf16hashCode_39 : decode cJ17_utf16hashCode 39 = .ok (.ireturn, 1) := dk_172 (dk_at dksJ17_utf16hashCode_1 16 rfl rfl)
abbrev cJ17_hashCode : ByteArray := prog_66_method_7_code
def yJ17_hashCode : MethodName := ⟨RJ17, "hashCode", "(I[CII)I"⟩
def dkwJ17_hashCode_1 : List UInt8 := [59, 132, 5, 1, 167, 255, 236, 26, 172]
abbrev dktJ17_hashCode_1 : List UInt8 := dkwJ17_hashCode_1 ++ []
def dkwJ17_hashCode_0 : List UInt8 := [28, 29, 96, 54, 4, 28, 54, 5, 21, 5, 21, 4, 162, 0, 19, 16, 31, 26, 104, 43, 21, 5, 52, 96]
abbrev dktJ17_hashCode_0 : List UInt8 := dkwJ17_hashCode_0 ++ dktJ17_hashCode_1
theorem dksJ17_hashCode_0 : cJ17_hashCode.data.toList.drop 0 = dktJ17_hashCode_0 := by decide +kernel
theorem dksJ17_hashCode_1 : cJ17_hashCode.data.toList.drop 24 = dktJ17_hashCode_1 := dk_seg dksJ17_hashCode_0 24 rfl rfl
theorem dJ17_hashCode_0 : decode cJ17_hashCode 0 = .ok (.iload_n 2, 1) := dk_28 (dk_at dksJ17_hashCode_0 0 rfl rfl)
theorem dJ17_hashCode_1 : decode cJ17_hashCode 1 = .ok (.iload_n 3, 1) := dk_29 (dk_at dksJ17_hashCode_0 1 rfl rfl)
theorem dJ17_hashCode_2 : decode cJ17_hashCode 2 = .ok (.iadd, 1) := dk_96 (dk_at dksJ17_hashCode_0 2 rfl rfl)
theorem dJ17_hashCode_3 : decode cJ17_hashCode 3 = .ok (.istore 4, 2) := dk_54 4 (dk_at dksJ17_hashCode_0 3 rfl rfl)
theorem dJ17_hashCode_5 : decode cJ17_hashCode 5 = .ok (.iload_n 2, 1) := dk_28 (dk_at dksJ17_hashCode_0 5 rfl rfl)
theorem dJ17_hashCode_6 : decode cJ17_hashCode 6 = .ok (.istore 5, 2) := dk_54 5 (dk_at dksJ17_hashCode_0 6 rfl rfl)
theorem dJ17_hashCode_8 : decode cJ17_hashCode 8 = .ok (.iload 5, 2) := dk_21 5 (dk_at dksJ17_hashCode_0 8 rfl rfl)
theorem dJ17_hashCode_10 : decode cJ17_hashCode 10 = .ok (.iload 4, 2) := dk_21 4 (dk_at dksJ17_hashCode_0 10 rfl rfl)
theorem dJ17_hashCode_12 : decode cJ17_hashCode 12 = .ok (.if_icmp .ge 19, 3) := dk_162 0 19 (dk_at dksJ17_hashCode_0 12 rfl rfl)
theorem dJ17_hashCode_15 : decode cJ17_hashCode 15 = .ok (.bipush 31, 2) := dk_16 31 (dk_at dksJ17_hashCode_0 15 rfl rfl)
theorem dJ17_hashCode_17 : decode cJ17_hashCode 17 = .ok (.iload_n 0, 1) := dk_26 (dk_at dksJ17_hashCode_0 17 rfl rfl)
theorem dJ17_hashCode_18 : decode cJ17_hashCode 18 = .ok (.imul, 1) := dk_104 (dk_at dksJ17_hashCode_0 18 rfl rfl)
theorem dJ17_hashCode_19 : decode cJ17_hashCode 19 = .ok (.aload_n 1, 1) := dk_43 (dk_at dksJ17_hashCode_0 19 rfl rfl)
theorem dJ17_hashCode_20 : decode cJ17_hashCode 20 = .ok (.iload 5, 2) := dk_21 5 (dk_at dksJ17_hashCode_0 20 rfl rfl)
theorem dJ17_hashCode_22 : decode cJ17_hashCode 22 = .ok (.caload, 1) := dk_52 (dk_at dksJ17_hashCode_0 22 rfl rfl)
theorem dJ17_hashCode_23 : decode cJ17_hashCode 23 = .ok (.iadd, 1) := dk_96 (dk_at dksJ17_hashCode_0 23 rfl rfl)
theorem dJ17_hashCode_24 : decode cJ17_hashCode 24 = .ok (.istore_n 0, 1) := dk_59 (dk_at dksJ17_hashCode_1 0 rfl rfl)
theorem dJ17_hashCode_25 : decode cJ17_hashCode 25 = .ok (.iinc 5 1, 3) := dk_132 5 1 (dk_at dksJ17_hashCode_1 1 rfl rfl)
theorem dJ17_hashCode_28 : decode cJ17_hashCode 28 = .ok (.goto (-20), 3) := dk_167 255 236 (dk_at dksJ17_hashCode_1 4 rfl rfl)
theorem dJ17_hashCode_31 : decode cJ17_hashCode 31 = .ok (.iload_n 0, 1) := dk_26 (dk_at dksJ17_hashCode_1 7 rfl rfl)
theorem dJ17_hashCode_32 : decode cJ17_hashCode 32 = .ok (.ireturn, 1) := dk_172 (dk_at dksJ17_hashCode_1 8 rfl rfl)
abbrev cJ17_hashCode_2 : ByteArray := prog_66_method_6_code
def yJ17_hashCode_2 : MethodName := ⟨RJ17, "hashCode", "(I[BII)I"⟩
def dkwJ17_hashCode_2_1 : List UInt8 := [59, 132, 5, 1, 167, 255, 236, 26, 172]
abbrev dktJ17_hashCode_2_1 : List UInt8 := dkwJ17_hashCode_2_1 ++ []
def dkwJ17_hashCode_2_0 : List UInt8 := [28, 29, 96, 54, 4, 28, 54, 5, 21, 5, 21, 4, 162, 0, 19, 16, 31, 26, 104, 43, 21, 5, 51, 96]
abbrev dktJ17_hashCode_2_0 : List UInt8 := dkwJ17_hashCode_2_0 ++ dktJ17_hashCode_2_1
theorem dksJ17_hashCode_2_0 : cJ17_hashCode_2.data.toList.drop 0 = dktJ17_hashCode_2_0 := by decide +kernel
theorem dksJ17_hashCode_2_1 : cJ17_hashCode_2.data.toList.drop 24 = dktJ17_hashCode_2_1 := dk_seg dksJ17_hashCode_2_0 24 rfl rfl
theorem dJ17_hashCode_2_0 : decode cJ17_hashCode_2 0 = .ok (.iload_n 2, 1) := dk_28 (dk_at dksJ17_hashCode_2_0 0 rfl rfl)
theorem dJ17_hashCode_2_1 : decode cJ17_hashCode_2 1 = .ok (.iload_n 3, 1) := dk_29 (dk_at dksJ17_hashCode_2_0 1 rfl rfl)
theorem dJ17_hashCode_2_2 : decode cJ17_hashCode_2 2 = .ok (.iadd, 1) := dk_96 (dk_at dksJ17_hashCode_2_0 2 rfl rfl)
theorem dJ17_hashCode_2_3 : decode cJ17_hashCode_2 3 = .ok (.istore 4, 2) := dk_54 4 (dk_at dksJ17_hashCode_2_0 3 rfl rfl)
theorem dJ17_hashCode_2_5 : decode cJ17_hashCode_2 5 = .ok (.iload_n 2, 1) := dk_28 (dk_at dksJ17_hashCode_2_0 5 rfl rfl)
theorem dJ17_hashCode_2_6 : decode cJ17_hashCode_2 6 = .ok (.istore 5, 2) := dk_54 5 (dk_at dksJ17_hashCode_2_0 6 rfl rfl)
theorem dJ17_hashCode_2_8 : decode cJ17_hashCode_2 8 = .ok (.iload 5, 2) := dk_21 5 (dk_at dksJ17_hashCode_2_0 8 rfl rfl)
theorem dJ17_hashCode_2_10 : decode cJ17_hashCode_2 10 = .ok (.iload 4, 2) := dk_21 4 (dk_at dksJ17_hashCode_2_0 10 rfl rfl)
theorem dJ17_hashCode_2_12 : decode cJ17_hashCode_2 12 = .ok (.if_icmp .ge 19, 3) := dk_162 0 19 (dk_at dksJ17_hashCode_2_0 12 rfl rfl)
theorem dJ17_hashCode_2_15 : decode cJ17_hashCode_2 15 = .ok (.bipush 31, 2) := dk_16 31 (dk_at dksJ17_hashCode_2_0 15 rfl rfl)
theorem dJ17_hashCode_2_17 : decode cJ17_hashCode_2 17 = .ok (.iload_n 0, 1) := dk_26 (dk_at dksJ17_hashCode_2_0 17 rfl rfl)
theorem dJ17_hashCode_2_18 : decode cJ17_hashCode_2 18 = .ok (.imul, 1) := dk_104 (dk_at dksJ17_hashCode_2_0 18 rfl rfl)
theorem dJ17_hashCode_2_19 : decode cJ17_hashCode_2 19 = .ok (.aload_n 1, 1) := dk_43 (dk_at dksJ17_hashCode_2_0 19 rfl rfl)
theorem dJ17_hashCode_2_20 : decode cJ17_hashCode_2 20 = .ok (.iload 5, 2) := dk_21 5 (dk_at dksJ17_hashCode_2_0 20 rfl rfl)
theorem dJ17_hashCode_2_22 : decode cJ17_hashCode_2 22 = .ok (.baload, 1) := dk_51 (dk_at dksJ17_hashCode_2_0 22 rfl rfl)
theorem dJ17_hashCode_2_23 : decode cJ17_hashCode_2 23 = .ok (.iadd, 1) := dk_96 (dk_at dksJ17_hashCode_2_0 23 rfl rfl)
theorem dJ17_hashCode_2_24 : decode cJ17_hashCode_2 24 = .ok (.istore_n 0, 1) := dk_59 (dk_at dksJ17_hashCode_2_1 0 rfl rfl)
theorem dJ17_hashCode_2_25 : decode cJ17_hashCode_2 25 = .ok (.iinc 5 1, 3) := dk_132 5 1 (dk_at dksJ17_hashCode_2_1 1 rfl rfl)
theorem dJ17_hashCode_2_28 : decode cJ17_hashCode_2 28 = .ok (.goto (-20), 3) := dk_167 255 236 (dk_at dksJ17_hashCode_2_1 4 rfl rfl)
theorem dJ17_hashCode_2_31 : decode cJ17_hashCode_2 31 = .ok (.iload_n 0, 1) := dk_26 (dk_at dksJ17_hashCode_2_1 7 rfl rfl)
theorem dJ17_hashCode_2_32 : decode cJ17_hashCode_2 32 = .ok (.ireturn, 1) := dk_172 (dk_at dksJ17_hashCode_2_1 8 rfl rfl)
abbrev cJ17_hashCode_3 : ByteArray := prog_66_method_8_code
def yJ17_hashCode_3 : MethodName := ⟨RJ17, "hashCode", "(I[SII)I"⟩
def dkwJ17_hashCode_3_1 : List UInt8 := [59, 132, 5, 1, 167, 255, 236, 26, 172]
abbrev dktJ17_hashCode_3_1 : List UInt8 := dkwJ17_hashCode_3_1 ++ []
def dkwJ17_hashCode_3_0 : List UInt8 := [28, 29, 96, 54, 4, 28, 54, 5, 21, 5, 21, 4, 162, 0, 19, 16, 31, 26, 104, 43, 21, 5, 53, 96]
abbrev dktJ17_hashCode_3_0 : List UInt8 := dkwJ17_hashCode_3_0 ++ dktJ17_hashCode_3_1
theorem dksJ17_hashCode_3_0 : cJ17_hashCode_3.data.toList.drop 0 = dktJ17_hashCode_3_0 := by decide +kernel
theorem dksJ17_hashCode_3_1 : cJ17_hashCode_3.data.toList.drop 24 = dktJ17_hashCode_3_1 := dk_seg dksJ17_hashCode_3_0 24 rfl rfl
theorem dJ17_hashCode_3_0 : decode cJ17_hashCode_3 0 = .ok (.iload_n 2, 1) := dk_28 (dk_at dksJ17_hashCode_3_0 0 rfl rfl)
theorem dJ17_hashCode_3_1 : decode cJ17_hashCode_3 1 = .ok (.iload_n 3, 1) := dk_29 (dk_at dksJ17_hashCode_3_0 1 rfl rfl)
theorem dJ17_hashCode_3_2 : decode cJ17_hashCode_3 2 = .ok (.iadd, 1) := dk_96 (dk_at dksJ17_hashCode_3_0 2 rfl rfl)
theorem dJ17_hashCode_3_3 : decode cJ17_hashCode_3 3 = .ok (.istore 4, 2) := dk_54 4 (dk_at dksJ17_hashCode_3_0 3 rfl rfl)
theorem dJ17_hashCode_3_5 : decode cJ17_hashCode_3 5 = .ok (.iload_n 2, 1) := dk_28 (dk_at dksJ17_hashCode_3_0 5 rfl rfl)
theorem dJ17_hashCode_3_6 : decode cJ17_hashCode_3 6 = .ok (.istore 5, 2) := dk_54 5 (dk_at dksJ17_hashCode_3_0 6 rfl rfl)
theorem dJ17_hashCode_3_8 : decode cJ17_hashCode_3 8 = .ok (.iload 5, 2) := dk_21 5 (dk_at dksJ17_hashCode_3_0 8 rfl rfl)
theorem dJ17_hashCode_3_10 : decode cJ17_hashCode_3 10 = .ok (.iload 4, 2) := dk_21 4 (dk_at dksJ17_hashCode_3_0 10 rfl rfl)
theorem dJ17_hashCode_3_12 : decode cJ17_hashCode_3 12 = .ok (.if_icmp .ge 19, 3) := dk_162 0 19 (dk_at dksJ17_hashCode_3_0 12 rfl rfl)
theorem dJ17_hashCode_3_15 : decode cJ17_hashCode_3 15 = .ok (.bipush 31, 2) := dk_16 31 (dk_at dksJ17_hashCode_3_0 15 rfl rfl)
theorem dJ17_hashCode_3_17 : decode cJ17_hashCode_3 17 = .ok (.iload_n 0, 1) := dk_26 (dk_at dksJ17_hashCode_3_0 17 rfl rfl)
theorem dJ17_hashCode_3_18 : decode cJ17_hashCode_3 18 = .ok (.imul, 1) := dk_104 (dk_at dksJ17_hashCode_3_0 18 rfl rfl)
theorem dJ17_hashCode_3_19 : decode cJ17_hashCode_3 19 = .ok (.aload_n 1, 1) := dk_43 (dk_at dksJ17_hashCode_3_0 19 rfl rfl)
theorem dJ17_hashCode_3_20 : decode cJ17_hashCode_3 20 = .ok (.iload 5, 2) := dk_21 5 (dk_at dksJ17_hashCode_3_0 20 rfl rfl)
theorem dJ17_hashCode_3_22 : decode cJ17_hashCode_3 22 = .ok (.saload, 1) := dk_53 (dk_at dksJ17_hashCode_3_0 22 rfl rfl)
theorem dJ17_hashCode_3_23 : decode cJ17_hashCode_3 23 = .ok (.iadd, 1) := dk_96 (dk_at dksJ17_hashCode_3_0 23 rfl rfl)
theorem dJ17_hashCode_3_24 : decode cJ17_hashCode_3 24 = .ok (.istore_n 0, 1) := dk_59 (dk_at dksJ17_hashCode_3_1 0 rfl rfl)
theorem dJ17_hashCode_3_25 : decode cJ17_hashCode_3 25 = .ok (.iinc 5 1, 3) := dk_132 5 1 (dk_at dksJ17_hashCode_3_1 1 rfl rfl)
theorem dJ17_hashCode_3_28 : decode cJ17_hashCode_3 28 = .ok (.goto (-20), 3) := dk_167 255 236 (dk_at dksJ17_hashCode_3_1 4 rfl rfl)
theorem dJ17_hashCode_3_31 : decode cJ17_hashCode_3 31 = .ok (.iload_n 0, 1) := dk_26 (dk_at dksJ17_hashCode_3_1 7 rfl rfl)
theorem dJ17_hashCode_3_32 : decode cJ17_hashCode_3 32 = .ok (.ireturn, 1) := dk_172 (dk_at dksJ17_hashCode_3_1 8 rfl rfl)
abbrev cJ17_hashCode_4 : ByteArray := prog_66_method_9_code
def yJ17_hashCode_4 : MethodName := ⟨RJ17, "hashCode", "(I[III)I"⟩
def dkwJ17_hashCode_4_1 : List UInt8 := [59, 132, 5, 1, 167, 255, 236, 26, 172]
abbrev dktJ17_hashCode_4_1 : List UInt8 := dkwJ17_hashCode_4_1 ++ []
def dkwJ17_hashCode_4_0 : List UInt8 := [28, 29, 96, 54, 4, 28, 54, 5, 21, 5, 21, 4, 162, 0, 19, 16, 31, 26, 104, 43, 21, 5, 46, 96]
abbrev dktJ17_hashCode_4_0 : List UInt8 := dkwJ17_hashCode_4_0 ++ dktJ17_hashCode_4_1
theorem dksJ17_hashCode_4_0 : cJ17_hashCode_4.data.toList.drop 0 = dktJ17_hashCode_4_0 := by decide +kernel
theorem dksJ17_hashCode_4_1 : cJ17_hashCode_4.data.toList.drop 24 = dktJ17_hashCode_4_1 := dk_seg dksJ17_hashCode_4_0 24 rfl rfl
theorem dJ17_hashCode_4_0 : decode cJ17_hashCode_4 0 = .ok (.iload_n 2, 1) := dk_28 (dk_at dksJ17_hashCode_4_0 0 rfl rfl)
theorem dJ17_hashCode_4_1 : decode cJ17_hashCode_4 1 = .ok (.iload_n 3, 1) := dk_29 (dk_at dksJ17_hashCode_4_0 1 rfl rfl)
theorem dJ17_hashCode_4_2 : decode cJ17_hashCode_4 2 = .ok (.iadd, 1) := dk_96 (dk_at dksJ17_hashCode_4_0 2 rfl rfl)
theorem dJ17_hashCode_4_3 : decode cJ17_hashCode_4 3 = .ok (.istore 4, 2) := dk_54 4 (dk_at dksJ17_hashCode_4_0 3 rfl rfl)
theorem dJ17_hashCode_4_5 : decode cJ17_hashCode_4 5 = .ok (.iload_n 2, 1) := dk_28 (dk_at dksJ17_hashCode_4_0 5 rfl rfl)
theorem dJ17_hashCode_4_6 : decode cJ17_hashCode_4 6 = .ok (.istore 5, 2) := dk_54 5 (dk_at dksJ17_hashCode_4_0 6 rfl rfl)
theorem dJ17_hashCode_4_8 : decode cJ17_hashCode_4 8 = .ok (.iload 5, 2) := dk_21 5 (dk_at dksJ17_hashCode_4_0 8 rfl rfl)
theorem dJ17_hashCode_4_10 : decode cJ17_hashCode_4 10 = .ok (.iload 4, 2) := dk_21 4 (dk_at dksJ17_hashCode_4_0 10 rfl rfl)
theorem dJ17_hashCode_4_12 : decode cJ17_hashCode_4 12 = .ok (.if_icmp .ge 19, 3) := dk_162 0 19 (dk_at dksJ17_hashCode_4_0 12 rfl rfl)
theorem dJ17_hashCode_4_15 : decode cJ17_hashCode_4 15 = .ok (.bipush 31, 2) := dk_16 31 (dk_at dksJ17_hashCode_4_0 15 rfl rfl)
theorem dJ17_hashCode_4_17 : decode cJ17_hashCode_4 17 = .ok (.iload_n 0, 1) := dk_26 (dk_at dksJ17_hashCode_4_0 17 rfl rfl)
theorem dJ17_hashCode_4_18 : decode cJ17_hashCode_4 18 = .ok (.imul, 1) := dk_104 (dk_at dksJ17_hashCode_4_0 18 rfl rfl)
theorem dJ17_hashCode_4_19 : decode cJ17_hashCode_4 19 = .ok (.aload_n 1, 1) := dk_43 (dk_at dksJ17_hashCode_4_0 19 rfl rfl)
theorem dJ17_hashCode_4_20 : decode cJ17_hashCode_4 20 = .ok (.iload 5, 2) := dk_21 5 (dk_at dksJ17_hashCode_4_0 20 rfl rfl)
theorem dJ17_hashCode_4_22 : decode cJ17_hashCode_4 22 = .ok (.iaload, 1) := dk_46 (dk_at dksJ17_hashCode_4_0 22 rfl rfl)
theorem dJ17_hashCode_4_23 : decode cJ17_hashCode_4 23 = .ok (.iadd, 1) := dk_96 (dk_at dksJ17_hashCode_4_0 23 rfl rfl)
theorem dJ17_hashCode_4_24 : decode cJ17_hashCode_4 24 = .ok (.istore_n 0, 1) := dk_59 (dk_at dksJ17_hashCode_4_1 0 rfl rfl)
theorem dJ17_hashCode_4_25 : decode cJ17_hashCode_4 25 = .ok (.iinc 5 1, 3) := dk_132 5 1 (dk_at dksJ17_hashCode_4_1 1 rfl rfl)
theorem dJ17_hashCode_4_28 : decode cJ17_hashCode_4 28 = .ok (.goto (-20), 3) := dk_167 255 236 (dk_at dksJ17_hashCode_4_1 4 rfl rfl)
theorem dJ17_hashCode_4_31 : decode cJ17_hashCode_4 31 = .ok (.iload_n 0, 1) := dk_26 (dk_at dksJ17_hashCode_4_1 7 rfl rfl)
theorem dJ17_hashCode_4_32 : decode cJ17_hashCode_4 32 = .ok (.ireturn, 1) := dk_172 (dk_at dksJ17_hashCode_4_1 8 rfl rfl)
theorem q91 : (Jvm.Cond.initialized "jdk/internal/util/ArraysSupport") ∈ lw_all := lw_g (lw_at lw_m1 21 rfl) rfl
theorem q504 : (Jvm.Cond.static ({ cls := "jdk/internal/util/ArraysSupport", name := "newLength", desc := "(III)I" } : Jvm.MethodName)) ∈ lw_all := lw_g (lw_at lw_m2 194 rfl) rfl
theorem q505 : (Jvm.Cond.code ({ cls := "jdk/internal/util/ArraysSupport", name := "newLength", desc := "(III)I" } : Jvm.MethodName) prog_66_method_27_code (4 : Nat) (Option.some Jvm.ClassFile.FieldType.int)) ∈ lw_all := lw_g (lw_at lw_m2 195 rfl) rfl
theorem q506 : (Jvm.Cond.methodLink "jdk/internal/util/ArraysSupport" (194 : Nat) ({ cls := "java/lang/Math", name := "max", desc := "(II)I" } : Jvm.MethodName)) ∈ lw_all := lw_g (lw_at lw_m2 196 rfl) rfl
theorem q509 : (Jvm.Cond.constant "jdk/internal/util/ArraysSupport" (200 : Nat) (2147483639 : Int32)) ∈ lw_all := lw_g (lw_at lw_m2 199 rfl) rfl
theorem q510 : (Jvm.Cond.methodLink "jdk/internal/util/ArraysSupport" (201 : Nat) ({ cls := "jdk/internal/util/ArraysSupport", name := "hugeLength", desc := "(II)I" } : Jvm.MethodName)) ∈ lw_all := lw_g (lw_at lw_m2 200 rfl) rfl
theorem q511 : (Jvm.Cond.static ({ cls := "jdk/internal/util/ArraysSupport", name := "hugeLength", desc := "(II)I" } : Jvm.MethodName)) ∈ lw_all := lw_g (lw_at lw_m2 201 rfl) rfl
theorem q512 : (Jvm.Cond.code ({ cls := "jdk/internal/util/ArraysSupport", name := "hugeLength", desc := "(II)I" } : Jvm.MethodName) prog_66_method_28_code (3 : Nat) (Option.some Jvm.ClassFile.FieldType.int)) ∈ lw_all := lw_g (lw_at lw_m2 202 rfl) rfl
theorem q1152 : (Jvm.Cond.static ({ cls := "jdk/internal/util/ArraysSupport", name := "vectorizedHashCode", desc := "(Ljava/lang/Object;IIII)I" } : Jvm.MethodName)) ∈ lw_all := lw_g (lw_at lw_m5 122 rfl) rfl
theorem q1153 : (Jvm.Cond.code ({ cls := "jdk/internal/util/ArraysSupport", name := "vectorizedHashCode", desc := "(Ljava/lang/Object;IIII)I" } : Jvm.MethodName) prog_66_method_4_code (5 : Nat) (Option.some Jvm.ClassFile.FieldType.int)) ∈ lw_all := lw_g (lw_at lw_m5 123 rfl) rfl
theorem q1154 : (Jvm.Cond.classLink "jdk/internal/util/ArraysSupport" (60 : Nat) "[B") ∈ lw_all := lw_g (lw_at lw_m5 124 rfl) rfl
theorem q1155 : (Jvm.Cond.methodLink "jdk/internal/util/ArraysSupport" (62 : Nat) ({ cls := "jdk/internal/util/ArraysSupport", name := "signedHashCode", desc := "(I[BII)I" } : Jvm.MethodName)) ∈ lw_all := lw_g (lw_at lw_m5 125 rfl) rfl
theorem q1156 : (Jvm.Cond.static ({ cls := "jdk/internal/util/ArraysSupport", name := "signedHashCode", desc := "(I[BII)I" } : Jvm.MethodName)) ∈ lw_all := lw_g (lw_at lw_m5 126 rfl) rfl
theorem q1157 : (Jvm.Cond.code ({ cls := "jdk/internal/util/ArraysSupport", name := "signedHashCode", desc := "(I[BII)I" } : Jvm.MethodName) prog_66_method_5_code (6 : Nat) (Option.some Jvm.ClassFile.FieldType.int)) ∈ lw_all := lw_g (lw_at lw_m5 127 rfl) rfl
theorem q1158 : (Jvm.Cond.methodLink "jdk/internal/util/ArraysSupport" (66 : Nat) ({ cls := "jdk/internal/util/ArraysSupport", name := "utf16hashCode", desc := "(I[BII)I" } : Jvm.MethodName)) ∈ lw_all := lw_g (lw_at lw_m5 128 rfl) rfl
theorem q1159 : (Jvm.Cond.static ({ cls := "jdk/internal/util/ArraysSupport", name := "utf16hashCode", desc := "(I[BII)I" } : Jvm.MethodName)) ∈ lw_all := lw_g (lw_at lw_m5 129 rfl) rfl
theorem q1160 : (Jvm.Cond.code ({ cls := "jdk/internal/util/ArraysSupport", name := "utf16hashCode", desc := "(I[BII)I" } : Jvm.MethodName) prog_66_method_10_code (6 : Nat) (Option.some Jvm.ClassFile.FieldType.int)) ∈ lw_all := lw_g (lw_at lw_m5 130 rfl) rfl
theorem q1161 : (Jvm.Cond.fieldLink "jdk/internal/util/ArraysSupport" (106 : Nat) "jdk/internal/util/ArraysSupport" "JLA" "Ljdk/internal/access/JavaLangAccess;") ∈ lw_all := lw_g (lw_at lw_m5 131 rfl) rfl
theorem q1162 : (Jvm.Cond.laysStatic "jdk/internal/util/ArraysSupport" "JLA" "Ljdk/internal/access/JavaLangAccess;") ∈ lw_tbl := lw_at lw_m5 132 rfl
theorem q1163 : (Jvm.Cond.interfaceEntry "jdk/internal/util/ArraysSupport" (110 : Nat)) ∈ lw_tbl := lw_at lw_m5 133 rfl
theorem q1164 : (Jvm.Cond.methodLink "jdk/internal/util/ArraysSupport" (110 : Nat) ({ cls := "jdk/internal/access/JavaLangAccess", name := "getUTF16Char", desc := "([BI)C" } : Jvm.MethodName)) ∈ lw_all := lw_g (lw_at lw_m5 134 rfl) rfl
theorem q1174 : (Jvm.Cond.classLink "jdk/internal/util/ArraysSupport" (69 : Nat) "[C") ∈ lw_all := lw_g (lw_at lw_m5 144 rfl) rfl
theorem q1175 : (Jvm.Cond.methodLink "jdk/internal/util/ArraysSupport" (71 : Nat) ({ cls := "jdk/internal/util/ArraysSupport", name := "hashCode", desc := "(I[CII)I" } : Jvm.MethodName)) ∈ lw_all := lw_g (lw_at lw_m5 145 rfl) rfl
theorem q1176 : (Jvm.Cond.static ({ cls := "jdk/internal/util/ArraysSupport", name := "hashCode", desc := "(I[CII)I" } : Jvm.MethodName)) ∈ lw_all := lw_g (lw_at lw_m5 146 rfl) rfl
theorem q1177 : (Jvm.Cond.code ({ cls := "jdk/internal/util/ArraysSupport", name := "hashCode", desc := "(I[CII)I" } : Jvm.MethodName) prog_66_method_7_code (6 : Nat) (Option.some Jvm.ClassFile.FieldType.int)) ∈ lw_all := lw_g (lw_at lw_m5 147 rfl) rfl
theorem q1178 : (Jvm.Cond.methodLink "jdk/internal/util/ArraysSupport" (75 : Nat) ({ cls := "jdk/internal/util/ArraysSupport", name := "hashCode", desc := "(I[BII)I" } : Jvm.MethodName)) ∈ lw_all := lw_g (lw_at lw_m5 148 rfl) rfl
theorem q1179 : (Jvm.Cond.static ({ cls := "jdk/internal/util/ArraysSupport", name := "hashCode", desc := "(I[BII)I" } : Jvm.MethodName)) ∈ lw_all := lw_g (lw_at lw_m5 149 rfl) rfl
theorem q1180 : (Jvm.Cond.code ({ cls := "jdk/internal/util/ArraysSupport", name := "hashCode", desc := "(I[BII)I" } : Jvm.MethodName) prog_66_method_6_code (6 : Nat) (Option.some Jvm.ClassFile.FieldType.int)) ∈ lw_all := lw_g (lw_at lw_m5 150 rfl) rfl
theorem q1181 : (Jvm.Cond.classLink "jdk/internal/util/ArraysSupport" (77 : Nat) "[S") ∈ lw_all := lw_g (lw_at lw_m5 151 rfl) rfl
theorem q1182 : (Jvm.Cond.methodLink "jdk/internal/util/ArraysSupport" (79 : Nat) ({ cls := "jdk/internal/util/ArraysSupport", name := "hashCode", desc := "(I[SII)I" } : Jvm.MethodName)) ∈ lw_all := lw_g (lw_at lw_m5 152 rfl) rfl
theorem q1183 : (Jvm.Cond.static ({ cls := "jdk/internal/util/ArraysSupport", name := "hashCode", desc := "(I[SII)I" } : Jvm.MethodName)) ∈ lw_all := lw_g (lw_at lw_m5 153 rfl) rfl
theorem q1184 : (Jvm.Cond.code ({ cls := "jdk/internal/util/ArraysSupport", name := "hashCode", desc := "(I[SII)I" } : Jvm.MethodName) prog_66_method_8_code (6 : Nat) (Option.some Jvm.ClassFile.FieldType.int)) ∈ lw_all := lw_g (lw_at lw_m5 154 rfl) rfl
theorem q1185 : (Jvm.Cond.classLink "jdk/internal/util/ArraysSupport" (82 : Nat) "[I") ∈ lw_all := lw_g (lw_at lw_m5 155 rfl) rfl
theorem q1186 : (Jvm.Cond.methodLink "jdk/internal/util/ArraysSupport" (84 : Nat) ({ cls := "jdk/internal/util/ArraysSupport", name := "hashCode", desc := "(I[III)I" } : Jvm.MethodName)) ∈ lw_all := lw_g (lw_at lw_m5 156 rfl) rfl
theorem q1187 : (Jvm.Cond.static ({ cls := "jdk/internal/util/ArraysSupport", name := "hashCode", desc := "(I[III)I" } : Jvm.MethodName)) ∈ lw_all := lw_g (lw_at lw_m5 157 rfl) rfl
theorem q1188 : (Jvm.Cond.code ({ cls := "jdk/internal/util/ArraysSupport", name := "hashCode", desc := "(I[III)I" } : Jvm.MethodName) prog_66_method_9_code (6 : Nat) (Option.some Jvm.ClassFile.FieldType.int)) ∈ lw_all := lw_g (lw_at lw_m5 158 rfl) rfl
theorem q1189 : (Jvm.Cond.classLink "jdk/internal/util/ArraysSupport" (87 : Nat) "java/lang/IllegalArgumentException") ∈ lw_all := lw_g (lw_at lw_m5 159 rfl) rfl
theorem q1190 : (Jvm.Cond.classLink "jdk/internal/util/ArraysSupport" (89 : Nat) "java/lang/StringBuilder") ∈ lw_all := lw_g (lw_at lw_m5 160 rfl) rfl
theorem q1191 : (Jvm.Cond.methodLink "jdk/internal/util/ArraysSupport" (91 : Nat) ({ cls := "java/lang/StringBuilder", name := "<init>", desc := "()V" } : Jvm.MethodName)) ∈ lw_all := lw_g (lw_at lw_m5 161 rfl) rfl
theorem q1192 : (Jvm.Cond.stringRef "jdk/internal/util/ArraysSupport" (92 : Nat) "unrecognized basic type: ") ∈ lw_tbl := lw_at lw_m5 162 rfl
theorem q1193 : (Jvm.Cond.methodLink "jdk/internal/util/ArraysSupport" (94 : Nat) ({ cls := "java/lang/StringBuilder", name := "append", desc := "(Ljava/lang/String;)Ljava/lang/StringBuilder;" } : Jvm.MethodName)) ∈ lw_all := lw_g (lw_at lw_m5 163 rfl) rfl
theorem q1194 : (Jvm.Cond.methodLink "jdk/internal/util/ArraysSupport" (98 : Nat) ({ cls := "java/lang/StringBuilder", name := "append", desc := "(I)Ljava/lang/StringBuilder;" } : Jvm.MethodName)) ∈ lw_all := lw_g (lw_at lw_m5 164 rfl) rfl
theorem q1195 : (Jvm.Cond.methodLink "jdk/internal/util/ArraysSupport" (101 : Nat) ({ cls := "java/lang/StringBuilder", name := "toString", desc := "()Ljava/lang/String;" } : Jvm.MethodName)) ∈ lw_all := lw_g (lw_at lw_m5 165 rfl) rfl
theorem q1196 : (Jvm.Cond.methodLink "jdk/internal/util/ArraysSupport" (105 : Nat) ({ cls := "java/lang/IllegalArgumentException", name := "<init>", desc := "(Ljava/lang/String;)V" } : Jvm.MethodName)) ∈ lw_all := lw_g (lw_at lw_m5 166 rfl) rfl

/-! java/lang/Math -/
set_option maxRecDepth 100000
def RJ18 : String := "java/lang/Math"
abbrev cJ18_max : ByteArray := prog_28_method_65_code
def yJ18_max : MethodName := ⟨RJ18, "max", "(II)I"⟩
def dkwJ18_max_0 : List UInt8 := [26, 27, 161, 0, 7, 26, 167, 0, 4, 27, 172]
abbrev dktJ18_max_0 : List UInt8 := dkwJ18_max_0 ++ []
theorem dksJ18_max_0 : cJ18_max.data.toList.drop 0 = dktJ18_max_0 := by decide +kernel
theorem dJ18_max_0 : decode cJ18_max 0 = .ok (.iload_n 0, 1) := dk_26 (dk_at dksJ18_max_0 0 rfl rfl)
theorem dJ18_max_1 : decode cJ18_max 1 = .ok (.iload_n 1, 1) := dk_27 (dk_at dksJ18_max_0 1 rfl rfl)
theorem dJ18_max_2 : decode cJ18_max 2 = .ok (.if_icmp .lt 7, 3) := dk_161 0 7 (dk_at dksJ18_max_0 2 rfl rfl)
theorem dJ18_max_5 : decode cJ18_max 5 = .ok (.iload_n 0, 1) := dk_26 (dk_at dksJ18_max_0 5 rfl rfl)
theorem dJ18_max_6 : decode cJ18_max 6 = .ok (.goto 4, 3) := dk_167 0 4 (dk_at dksJ18_max_0 6 rfl rfl)
theorem dJ18_max_9 : decode cJ18_max 9 = .ok (.iload_n 1, 1) := dk_27 (dk_at dksJ18_max_0 9 rfl rfl)
theorem dJ18_max_10 : decode cJ18_max 10 = .ok (.ireturn, 1) := dk_172 (dk_at dksJ18_max_0 10 rfl rfl)
abbrev cJ18_min : ByteArray := prog_28_method_69_code
def yJ18_min : MethodName := ⟨RJ18, "min", "(II)I"⟩
def dkwJ18_min_0 : List UInt8 := [26, 27, 163, 0, 7, 26, 167, 0, 4, 27, 172]
abbrev dktJ18_min_0 : List UInt8 := dkwJ18_min_0 ++ []
theorem dksJ18_min_0 : cJ18_min.data.toList.drop 0 = dktJ18_min_0 := by decide +kernel
theorem dJ18_min_0 : decode cJ18_min 0 = .ok (.iload_n 0, 1) := dk_26 (dk_at dksJ18_min_0 0 rfl rfl)
theorem dJ18_min_1 : decode cJ18_min 1 = .ok (.iload_n 1, 1) := dk_27 (dk_at dksJ18_min_0 1 rfl rfl)
theorem dJ18_min_2 : decode cJ18_min 2 = .ok (.if_icmp .gt 7, 3) := dk_163 0 7 (dk_at dksJ18_min_0 2 rfl rfl)
theorem dJ18_min_5 : decode cJ18_min 5 = .ok (.iload_n 0, 1) := dk_26 (dk_at dksJ18_min_0 5 rfl rfl)
theorem dJ18_min_6 : decode cJ18_min 6 = .ok (.goto 4, 3) := dk_167 0 4 (dk_at dksJ18_min_0 6 rfl rfl)
theorem dJ18_min_9 : decode cJ18_min 9 = .ok (.iload_n 1, 1) := dk_27 (dk_at dksJ18_min_0 9 rfl rfl)
theorem dJ18_min_10 : decode cJ18_min 10 = .ok (.ireturn, 1) := dk_172 (dk_at dksJ18_min_0 10 rfl rfl)
abbrev cJ18_abs : ByteArray := prog_28_method_59_code
def yJ18_abs : MethodName := ⟨RJ18, "abs", "(I)I"⟩
def dkwJ18_abs_0 : List UInt8 := [26, 156, 0, 8, 26, 116, 167, 0, 4, 26, 172]
abbrev dktJ18_abs_0 : List UInt8 := dkwJ18_abs_0 ++ []
theorem dksJ18_abs_0 : cJ18_abs.data.toList.drop 0 = dktJ18_abs_0 := by decide +kernel
theorem dJ18_abs_0 : decode cJ18_abs 0 = .ok (.iload_n 0, 1) := dk_26 (dk_at dksJ18_abs_0 0 rfl rfl)
theorem dJ18_abs_1 : decode cJ18_abs 1 = .ok (.ifCond .ge 8, 3) := dk_156 0 8 (dk_at dksJ18_abs_0 1 rfl rfl)
theorem dJ18_abs_4 : decode cJ18_abs 4 = .ok (.iload_n 0, 1) := dk_26 (dk_at dksJ18_abs_0 4 rfl rfl)
theorem dJ18_abs_5 : decode cJ18_abs 5 = .ok (.ineg, 1) := dk_116 (dk_at dksJ18_abs_0 5 rfl rfl)
theorem dJ18_abs_6 : decode cJ18_abs 6 = .ok (.goto 4, 3) := dk_167 0 4 (dk_at dksJ18_abs_0 6 rfl rfl)
theorem dJ18_abs_9 : decode cJ18_abs 9 = .ok (.iload_n 0, 1) := dk_26 (dk_at dksJ18_abs_0 9 rfl rfl)
theorem dJ18_abs_10 : decode cJ18_abs 10 = .ok (.ireturn, 1) := dk_172 (dk_at dksJ18_abs_0 10 rfl rfl)
theorem q92 : (Jvm.Cond.initialized "java/lang/Math") ∈ lw_all := lw_g (lw_at lw_m1 22 rfl) rfl
theorem q507 : (Jvm.Cond.static ({ cls := "java/lang/Math", name := "max", desc := "(II)I" } : Jvm.MethodName)) ∈ lw_all := lw_g (lw_at lw_m2 197 rfl) rfl
theorem q508 : (Jvm.Cond.code ({ cls := "java/lang/Math", name := "max", desc := "(II)I" } : Jvm.MethodName) prog_28_method_65_code (2 : Nat) (Option.some Jvm.ClassFile.FieldType.int)) ∈ lw_all := lw_g (lw_at lw_m2 198 rfl) rfl
theorem q525 : (Jvm.Cond.static ({ cls := "java/lang/Math", name := "min", desc := "(II)I" } : Jvm.MethodName)) ∈ lw_all := lw_g (lw_at lw_m2 215 rfl) rfl
theorem q526 : (Jvm.Cond.code ({ cls := "java/lang/Math", name := "min", desc := "(II)I" } : Jvm.MethodName) prog_28_method_69_code (2 : Nat) (Option.some Jvm.ClassFile.FieldType.int)) ∈ lw_all := lw_g (lw_at lw_m2 216 rfl) rfl
theorem q1400 : (Jvm.Cond.static ({ cls := "java/lang/Math", name := "abs", desc := "(I)I" } : Jvm.MethodName)) ∈ lw_all := lw_g (lw_at lw_m6 130 rfl) rfl
theorem q1401 : (Jvm.Cond.code ({ cls := "java/lang/Math", name := "abs", desc := "(I)I" } : Jvm.MethodName) prog_28_method_59_code (1 : Nat) (Option.some Jvm.ClassFile.FieldType.int)) ∈ lw_all := lw_g (lw_at lw_m6 131 rfl) rfl

/-! java/util/Arrays -/
set_option maxRecDepth 100000
def RJ19 : String := "java/util/Arrays"
abbrev cJ19_copyOf : ByteArray := prog_50_method_121_code
def yJ19_copyOf : MethodName := ⟨RJ19, "copyOf", "([BI)[B"⟩
def dkwJ19_copyOf_1 : List UInt8 := [27, 184, 1, 48, 184, 0, 150, 44, 176]
abbrev dktJ19_copyOf_1 : List UInt8 := dkwJ19_copyOf_1 ++ []
def dkwJ19_copyOf_0 : List UInt8 := [27, 42, 190, 160, 0, 11, 42, 182, 1, 54, 192, 1, 55, 176, 27, 188, 8, 77, 42, 3, 44, 3, 42, 190]
abbrev dktJ19_copyOf_0 : List UInt8 := dkwJ19_copyOf_0 ++ dktJ19_copyOf_1
theorem dksJ19_copyOf_0 : cJ19_copyOf.data.toList.drop 0 = dktJ19_copyOf_0 := by decide +kernel
theorem dksJ19_copyOf_1 : cJ19_copyOf.data.toList.drop 24 = dktJ19_copyOf_1 := dk_seg dksJ19_copyOf_0 24 rfl rfl
theorem dJ19_copyOf_0 : decode cJ19_copyOf 0 = .ok (.iload_n 1, 1) := dk_27 (dk_at dksJ19_copyOf_0 0 rfl rfl)
theorem dJ19_copyOf_1 : decode cJ19_copyOf 1 = .ok (.aload_n 0, 1) := dk_42 (dk_at dksJ19_copyOf_0 1 rfl rfl)
theorem dJ19_copyOf_2 : decode cJ19_copyOf 2 = .ok (.arraylength, 1) := dk_190 (dk_at dksJ19_copyOf_0 2 rfl rfl)
theorem dJ19_copyOf_3 : decode cJ19_copyOf 3 = .ok (.if_icmp .ne 11, 3) := dk_160 0 11 (dk_at dksJ19_copyOf_0 3 rfl rfl)
theorem dJ19_copyOf_6 : decode cJ19_copyOf 6 = .ok (.aload_n 0, 1) := dk_42 (dk_at dksJ19_copyOf_0 6 rfl rfl)
theorem dJ19_copyOf_7 : decode cJ19_copyOf 7 = .ok (.invokevirtual 310, 3) := dk_182 1 54 (dk_at dksJ19_copyOf_0 7 rfl rfl)
theorem dJ19_copyOf_10 : decode cJ19_copyOf 10 = .ok (.checkcast 311, 3) := dk_192 1 55 (dk_at dksJ19_copyOf_0 10 rfl rfl)
theorem dJ19_copyOf_13 : decode cJ19_copyOf 13 = .ok (.areturn, 1) := dk_176 (dk_at dksJ19_copyOf_0 13 rfl rfl)
theorem dJ19_copyOf_14 : decode cJ19_copyOf 14 = .ok (.iload_n 1, 1) := dk_27 (dk_at dksJ19_copyOf_0 14 rfl rfl)
theorem dJ19_copyOf_15 : decode cJ19_copyOf 15 = .ok (.newarray .byte, 2) := dk_188_8 (dk_at dksJ19_copyOf_0 15 rfl rfl)
theorem dJ19_copyOf_17 : decode cJ19_copyOf 17 = .ok (.astore_n 2, 1) := dk_77 (dk_at dksJ19_copyOf_0 17 rfl rfl)
theorem dJ19_copyOf_18 : decode cJ19_copyOf 18 = .ok (.aload_n 0, 1) := dk_42 (dk_at dksJ19_copyOf_0 18 rfl rfl)
theorem dJ19_copyOf_19 : decode cJ19_copyOf 19 = .ok (.iconst 0, 1) := dk_3 (dk_at dksJ19_copyOf_0 19 rfl rfl)
theorem dJ19_copyOf_20 : decode cJ19_copyOf 20 = .ok (.aload_n 2, 1) := dk_44 (dk_at dksJ19_copyOf_0 20 rfl rfl)
theorem dJ19_copyOf_21 : decode cJ19_copyOf 21 = .ok (.iconst 0, 1) := dk_3 (dk_at dksJ19_copyOf_0 21 rfl rfl)
theorem dJ19_copyOf_22 : decode cJ19_copyOf 22 = .ok (.aload_n 0, 1) := dk_42 (dk_at dksJ19_copyOf_0 22 rfl rfl)
theorem dJ19_copyOf_23 : decode cJ19_copyOf 23 = .ok (.arraylength, 1) := dk_190 (dk_at dksJ19_copyOf_0 23 rfl rfl)
theorem dJ19_copyOf_24 : decode cJ19_copyOf 24 = .ok (.iload_n 1, 1) := dk_27 (dk_at dksJ19_copyOf_1 0 rfl rfl)
theorem dJ19_copyOf_25 : decode cJ19_copyOf 25 = .ok (.invokestatic 304, 3) := dk_184 1 48 (dk_at dksJ19_copyOf_1 1 rfl rfl)
theorem dJ19_copyOf_28 : decode cJ19_copyOf 28 = .ok (.invokestatic 150, 3) := dk_184 0 150 (dk_at dksJ19_copyOf_1 4 rfl rfl)
theorem dJ19_copyOf_31 : decode cJ19_copyOf 31 = .ok (.aload_n 2, 1) := dk_44 (dk_at dksJ19_copyOf_1 7 rfl rfl)
theorem dJ19_copyOf_32 : decode cJ19_copyOf 32 = .ok (.areturn, 1) := dk_176 (dk_at dksJ19_copyOf_1 8 rfl rfl)
abbrev cJ19_copyOfRange : ByteArray := prog_50_method_132_code
def yJ19_copyOfRange : MethodName := ⟨RJ19, "copyOfRange", "([BII)[B"⟩
def dkwJ19_copyOfRange_1 : List UInt8 := [176]
abbrev dktJ19_copyOfRange_1 : List UInt8 := dkwJ19_copyOfRange_1 ++ []
def dkwJ19_copyOfRange_0 : List UInt8 := [27, 154, 0, 9, 28, 42, 190, 159, 0, 10, 42, 27, 28, 184, 1, 83, 176, 42, 182, 1, 54, 192, 1, 55]
abbrev dktJ19_copyOfRange_0 : List UInt8 := dkwJ19_copyOfRange_0 ++ dktJ19_copyOfRange_1
theorem dksJ19_copyOfRange_0 : cJ19_copyOfRange.data.toList.drop 0 = dktJ19_copyOfRange_0 := by decide +kernel
theorem dksJ19_copyOfRange_1 : cJ19_copyOfRange.data.toList.drop 24 = dktJ19_copyOfRange_1 := dk_seg dksJ19_copyOfRange_0 24 rfl rfl
theorem dJ19_copyOfRange_0 : decode cJ19_copyOfRange 0 = .ok (.iload_n 1, 1) := dk_27 (dk_at dksJ19_copyOfRange_0 0 rfl rfl)
theorem dJ19_copyOfRange_1 : decode cJ19_copyOfRange 1 = .ok (.ifCond .ne 9, 3) := dk_154 0 9 (dk_at dksJ19_copyOfRange_0 1 rfl rfl)
theorem dJ19_copyOfRange_4 : decode cJ19_copyOfRange 4 = .ok (.iload_n 2, 1) := dk_28 (dk_at dksJ19_copyOfRange_0 4 rfl rfl)
theorem dJ19_copyOfRange_5 : decode cJ19_copyOfRange 5 = .ok (.aload_n 0, 1) := dk_42 (dk_at dksJ19_copyOfRange_0 5 rfl rfl)
theorem dJ19_copyOfRange_6 : decode cJ19_copyOfRange 6 = .ok (.arraylength, 1) := dk_190 (dk_at dksJ19_copyOfRange_0 6 rfl rfl)
theorem dJ19_copyOfRange_7 : decode cJ19_copyOfRange 7 = .ok (.if_icmp .eq 10, 3) := dk_159 0 10 (dk_at dksJ19_copyOfRange_0 7 rfl rfl)
theorem dJ19_copyOfRange_10 : decode cJ19_copyOfRange 10 = .ok (.aload_n 0, 1) := dk_42 (dk_at dksJ19_copyOfRange_0 10 rfl rfl)
theorem dJ19_copyOfRange_11 : decode cJ19_copyOfRange 11 = .ok (.iload_n 1, 1) := dk_27 (dk_at dksJ19_copyOfRange_0 11 rfl rfl)
theorem dJ19_copyOfRange_12 : decode cJ19_copyOfRange 12 = .ok (.iload_n 2, 1) := dk_28 (dk_at dksJ19_copyOfRange_0 12 rfl rfl)
theorem dJ19_copyOfRange_13 : decode cJ19_copyOfRange 13 = .ok (.invokestatic 339, 3) := dk_184 1 83 (dk_at dksJ19_copyOfRange_0 13 rfl rfl)
theorem dJ19_copyOfRange_16 : decode cJ19_copyOfRange 16 = .ok (.areturn, 1) := dk_176 (dk_at dksJ19_copyOfRange_0 16 rfl rfl)
theorem dJ19_copyOfRange_17 : decode cJ19_copyOfRange 17 = .ok (.aload_n 0, 1) := dk_42 (dk_at dksJ19_copyOfRange_0 17 rfl rfl)
theorem dJ19_copyOfRange_18 : decode cJ19_copyOfRange 18 = .ok (.invokevirtual 310, 3) := dk_182 1 54 (dk_at dksJ19_copyOfRange_0 18 rfl rfl)
theorem dJ19_copyOfRange_21 : decode cJ19_copyOfRange 21 = .ok (.checkcast 311, 3) := dk_192 1 55 (dk_at dksJ19_copyOfRange_0 21 rfl rfl)
theorem dJ19_copyOfRange_24 : decode cJ19_copyOfRange 24 = .ok (.areturn, 1) := dk_176 (dk_at dksJ19_copyOfRange_1 0 rfl rfl)
abbrev cJ19_copyOfRangeByte : ByteArray := prog_50_method_133_code
def yJ19_copyOfRangeByte : MethodName := ⟨RJ19, "copyOfRangeByte", "([BII)[B"⟩
def dkwJ19_copyOfRangeByte_1 : List UInt8 := [184, 1, 48, 184, 0, 150, 25, 4, 176]
abbrev dktJ19_copyOfRangeByte_1 : List UInt8 := dkwJ19_copyOfRangeByte_1 ++ []
def dkwJ19_copyOfRangeByte_0 : List UInt8 := [27, 28, 184, 1, 87, 28, 27, 100, 62, 29, 188, 8, 58, 4, 42, 27, 25, 4, 3, 42, 190, 27, 100, 29]
abbrev dktJ19_copyOfRangeByte_0 : List UInt8 := dkwJ19_copyOfRangeByte_0 ++ dktJ19_copyOfRangeByte_1
theorem dksJ19_copyOfRangeByte_0 : cJ19_copyOfRangeByte.data.toList.drop 0 = dktJ19_copyOfRangeByte_0 := by decide +kernel
theorem dksJ19_copyOfRangeByte_1 : cJ19_copyOfRangeByte.data.toList.drop 24 = dktJ19_copyOfRangeByte_1 := dk_seg dksJ19_copyOfRangeByte_0 24 rfl rfl
theorem dJ19_copyOfRangeByte_0 : decode cJ19_copyOfRangeByte 0 = .ok (.iload_n 1, 1) := dk_27 (dk_at dksJ19_copyOfRangeByte_0 0 rfl rfl)
theorem dJ19_copyOfRangeByte_1 : decode cJ19_copyOfRangeByte 1 = .ok (.iload_n 2, 1) := dk_28 (dk_at dksJ19_copyOfRangeByte_0 1 rfl rfl)
theorem dJ19_copyOfRangeByte_2 : decode cJ19_copyOfRangeByte 2 = .ok (.invokestatic 343, 3) := dk_184 1 87 (dk_at dksJ19_copyOfRangeByte_0 2 rfl rfl)
theorem dJ19_copyOfRangeByte_5 : decode cJ19_copyOfRangeByte 5 = .ok (.iload_n 2, 1) := dk_28 (dk_at dksJ19_copyOfRangeByte_0 5 rfl rfl)
theorem dJ19_copyOfRangeByte_6 : decode cJ19_copyOfRangeByte 6 = .ok (.iload_n 1, 1) := dk_27 (dk_at dksJ19_copyOfRangeByte_0 6 rfl rfl)
theorem dJ19_copyOfRangeByte_7 : decode cJ19_copyOfRangeByte 7 = .ok (.isub, 1) := dk_100 (dk_at dksJ19_copyOfRangeByte_0 7 rfl rfl)
theorem dJ19_copyOfRangeByte_8 : decode cJ19_copyOfRangeByte 8 = .ok (.istore_n 3, 1) := dk_62 (dk_at dksJ19_copyOfRangeByte_0 8 rfl rfl)
theorem dJ19_copyOfRangeByte_9 : decode cJ19_copyOfRangeByte 9 = .ok (.iload_n 3, 1) := dk_29 (dk_at dksJ19_copyOfRangeByte_0 9 rfl rfl)
theorem dJ19_copyOfRangeByte_10 : decode cJ19_copyOfRangeByte 10 = .ok (.newarray .byte, 2) := dk_188_8 (dk_at dksJ19_copyOfRangeByte_0 10 rfl rfl)
theorem dJ19_copyOfRangeByte_12 : decode cJ19_copyOfRangeByte 12 = .ok (.astore 4, 2) := dk_58 4 (dk_at dksJ19_copyOfRangeByte_0 12 rfl rfl)
theorem dJ19_copyOfRangeByte_14 : decode cJ19_copyOfRangeByte 14 = .ok (.aload_n 0, 1) := dk_42 (dk_at dksJ19_copyOfRangeByte_0 14 rfl rfl)
theorem dJ19_copyOfRangeByte_15 : decode cJ19_copyOfRangeByte 15 = .ok (.iload_n 1, 1) := dk_27 (dk_at dksJ19_copyOfRangeByte_0 15 rfl rfl)
theorem dJ19_copyOfRangeByte_16 : decode cJ19_copyOfRangeByte 16 = .ok (.aload 4, 2) := dk_25 4 (dk_at dksJ19_copyOfRangeByte_0 16 rfl rfl)
theorem dJ19_copyOfRangeByte_18 : decode cJ19_copyOfRangeByte 18 = .ok (.iconst 0, 1) := dk_3 (dk_at dksJ19_copyOfRangeByte_0 18 rfl rfl)
theorem dJ19_copyOfRangeByte_19 : decode cJ19_copyOfRangeByte 19 = .ok (.aload_n 0, 1) := dk_42 (dk_at dksJ19_copyOfRangeByte_0 19 rfl rfl)
theorem dJ19_copyOfRangeByte_20 : decode cJ19_copyOfRangeByte 20 = .ok (.arraylength, 1) := dk_190 (dk_at dksJ19_copyOfRangeByte_0 20 rfl rfl)
theorem dJ19_copyOfRangeByte_21 : decode cJ19_copyOfRangeByte 21 = .ok (.iload_n 1, 1) := dk_27 (dk_at dksJ19_copyOfRangeByte_0 21 rfl rfl)
theorem dJ19_copyOfRangeByte_22 : decode cJ19_copyOfRangeByte 22 = .ok (.isub, 1) := dk_100 (dk_at dksJ19_copyOfRangeByte_0 22 rfl rfl)
theorem dJ19_copyOfRangeByte_23 : decode cJ19_copyOfRangeByte 23 = .ok (.iload_n 3, 1) := dk_29 (dk_at dksJ19_copyOfRangeByte_0 23 rfl rfl)
theorem dJ19_copyOfRangeByte_24 : decode cJ19_copyOfRangeByte 24 = .ok (.invokestatic 304, 3) := dk_184 1 48 (dk_at dksJ19_copyOfRangeByte_1 0 rfl rfl)
theorem dJ19_copyOfRangeByte_27 : decode cJ19_copyOfRangeByte 27 = .ok (.invokestatic 150, 3) := dk_184 0 150 (dk_at dksJ19_copyOfRangeByte_1 3 rfl rfl)
theorem dJ19_copyOfRangeByte_30 : decode cJ19_copyOfRangeByte 30 = .ok (.aload 4, 2) := dk_25 4 (dk_at dksJ19_copyOfRangeByte_1 6 rfl rfl)
theorem dJ19_copyOfRangeByte_32 : decode cJ19_copyOfRangeByte 32 = .ok (.areturn, 1) := dk_176 (dk_at dksJ19_copyOfRangeByte_1 8 rfl rfl)
abbrev cJ19_checkLength : ByteArray := prog_50_method_131_code
def yJ19_checkLength : MethodName := ⟨RJ19, "checkLength", "(II)V"⟩
def dkwJ19_checkLength_1 : List UInt8 := [182, 0, 50, 27, 182, 0, 54, 182, 0, 61, 183, 0, 65, 191, 177]
abbrev dktJ19_checkLength_1 : List UInt8 := dkwJ19_checkLength_1 ++ []
def dkwJ19_checkLength_0 : List UInt8 := [27, 26, 162, 0, 35, 187, 0, 43, 89, 187, 0, 45, 89, 183, 0, 47, 26, 182, 0, 54, 19, 1, 81]
abbrev dktJ19_checkLength_0 : List UInt8 := dkwJ19_checkLength_0 ++ dktJ19_checkLength_1
theorem dksJ19_checkLength_0 : cJ19_checkLength.data.toList.drop 0 = dktJ19_checkLength_0 := by decide +kernel
theorem dksJ19_checkLength_1 : cJ19_checkLength.data.toList.drop 23 = dktJ19_checkLength_1 := dk_seg dksJ19_checkLength_0 23 rfl rfl
theorem dJ19_checkLength_0 : decode cJ19_checkLength 0 = .ok (.iload_n 1, 1) := dk_27 (dk_at dksJ19_checkLength_0 0 rfl rfl)
theorem dJ19_checkLength_1 : decode cJ19_checkLength 1 = .ok (.iload_n 0, 1) := dk_26 (dk_at dksJ19_checkLength_0 1 rfl rfl)
theorem dJ19_checkLength_2 : decode cJ19_checkLength 2 = .ok (.if_icmp .ge 35, 3) := dk_162 0 35 (dk_at dksJ19_checkLength_0 2 rfl rfl)
theorem dJ19_checkLength_5 : decode cJ19_checkLength 5 = .ok (.new 43, 3) := dk_187 0 43 (dk_at dksJ19_checkLength_0 5 rfl rfl)
theorem dJ19_checkLength_8 : decode cJ19_checkLength 8 = .ok (.dup, 1) := dk_89 (dk_at dksJ19_checkLength_0 8 rfl rfl)
theorem dJ19_checkLength_9 : decode cJ19_checkLength 9 = .ok (.new 45, 3) := dk_187 0 45 (dk_at dksJ19_checkLength_0 9 rfl rfl)
theorem dJ19_checkLength_12 : decode cJ19_checkLength 12 = .ok (.dup, 1) := dk_89 (dk_at dksJ19_checkLength_0 12 rfl rfl)
theorem dJ19_checkLength_13 : decode cJ19_checkLength 13 = .ok (.invokespecial 47, 3) := dk_183 0 47 (dk_at dksJ19_checkLength_0 13 rfl rfl)
theorem dJ19_checkLength_16 : decode cJ19_checkLength 16 = .ok (.iload_n 0, 1) := dk_26 (dk_at dksJ19_checkLength_0 16 rfl rfl)
theorem dJ19_checkLength_17 : decode cJ19_checkLength 17 = .ok (.invokevirtual 54, 3) := dk_182 0 54 (dk_at dksJ19_checkLength_0 17 rfl rfl)
theorem dJ19_checkLength_20 : decode cJ19_checkLength 20 = .ok (.ldc_w 337, 3) := dk_19 1 81 (dk_at dksJ19_checkLength_0 20 rfl rfl)
theorem dJ19_checkLength_23 : decode cJ19_checkLength 23 = .ok (.invokevirtual 50, 3) := dk_182 0 50 (dk_at dksJ19_checkLength_1 0 rfl rfl)
theorem dJ19_checkLength_26 : decode cJ19_checkLength 26 = .ok (.iload_n 1, 1) := dk_27 (dk_at dksJ19_checkLength_1 3 rfl rfl)
theorem dJ19_checkLength_27 : decode cJ19_checkLength 27 = .ok (.invokevirtual 54, 3) := dk_182 0 54 (dk_at dksJ19_checkLength_1 4 rfl rfl)
theorem dJ19_checkLength_30 : decode cJ19_checkLength 30 = .ok (.invokevirtual 61, 3) := dk_182 0 61 (dk_at dksJ19_checkLength_1 7 rfl rfl)
theorem dJ19_checkLength_33 : decode cJ19_checkLength 33 = .ok (.invokespecial 65, 3) := dk_183 0 65 (dk_at dksJ19_checkLength_1 10 rfl rfl)
theorem dJ19_checkLength_36 : decode cJ19_checkLength 36 = .ok (.athrow, 1) := dk_191 (dk_at dksJ19_checkLength_1 13 rfl rfl)
theorem dJ19_checkLength_37 : decode cJ19_checkLength 37 = .ok (.return_, 1) := dk_177 (dk_at dksJ19_checkLength_1 14 rfl rfl)
abbrev cJ19_copyOf_2 : ByteArray := prog_50_method_119_code
def yJ19_copyOf_2 : MethodName := ⟨RJ19, "copyOf", "([Ljava/lang/Object;I)[Ljava/lang/Object;"⟩
def dkwJ19_copyOf_2_0 : List UInt8 := [42, 27, 42, 182, 0, 86, 184, 1, 44, 176]
abbrev dktJ19_copyOf_2_0 : List UInt8 := dkwJ19_copyOf_2_0 ++ []
theorem dksJ19_copyOf_2_0 : cJ19_copyOf_2.data.toList.drop 0 = dktJ19_copyOf_2_0 := by decide +kernel
theorem dJ19_copyOf_2_0 : decode cJ19_copyOf_2 0 = .ok (.aload_n 0, 1) := dk_42 (dk_at dksJ19_copyOf_2_0 0 rfl rfl)
theorem dJ19_copyOf_2_1 : decode cJ19_copyOf_2 1 = .ok (.iload_n 1, 1) := dk_27 (dk_at dksJ19_copyOf_2_0 1 rfl rfl)
theorem dJ19_copyOf_2_2 : decode cJ19_copyOf_2 2 = .ok (.aload_n 0, 1) := dk_42 (dk_at dksJ19_copyOf_2_0 2 rfl rfl)
theorem dJ19_copyOf_2_3 : decode cJ19_copyOf_2 3 = .ok (.invokevirtual 86, 3) := dk_182 0 86 (dk_at dksJ19_copyOf_2_0 3 rfl rfl)
theorem dJ19_copyOf_2_6 : decode cJ19_copyOf_2 6 = .ok (.invokestatic 300, 3) := dk_184 1 44 (dk_at dksJ19_copyOf_2_0 6 rfl rfl)
theorem dJ19_copyOf_2_9 : decode cJ19_copyOf_2 9 = .ok (.areturn, 1) := dk_176 (dk_at dksJ19_copyOf_2_0 9 rfl rfl)
abbrev cJ19_copyOf_3 : ByteArray := prog_50_method_120_code
def yJ19_copyOf_3 : MethodName := ⟨RJ19, "copyOf", "([Ljava/lang/Object;ILjava/lang/Class;)[Ljava/lang/Object;"⟩
def dkwJ19_copyOf_3_1 : List UInt8 := [78, 42, 3, 45, 3, 42, 190, 27, 184, 1, 48, 184, 0, 150, 45, 176]
abbrev dktJ19_copyOf_3_1 : List UInt8 := dkwJ19_copyOf_3_1 ++ []
def dkwJ19_copyOf_3_0 : List UInt8 := [44, 18, 110, 166, 0, 10, 27, 189, 0, 2, 167, 0, 14, 44, 182, 0, 90, 27, 184, 0, 95, 192, 0, 110]
abbrev dktJ19_copyOf_3_0 : List UInt8 := dkwJ19_copyOf_3_0 ++ dktJ19_copyOf_3_1
theorem dksJ19_copyOf_3_0 : cJ19_copyOf_3.data.toList.drop 0 = dktJ19_copyOf_3_0 := by decide +kernel
theorem dksJ19_copyOf_3_1 : cJ19_copyOf_3.data.toList.drop 24 = dktJ19_copyOf_3_1 := dk_seg dksJ19_copyOf_3_0 24 rfl rfl
theorem dJ19_copyOf_3_0 : decode cJ19_copyOf_3 0 = .ok (.aload_n 2, 1) := dk_44 (dk_at dksJ19_copyOf_3_0 0 rfl rfl)
theorem dJ19_copyOf_3_1 : decode cJ19_copyOf_3 1 = .ok (.ldc 110, 2) := dk_18 110 (dk_at dksJ19_copyOf_3_0 1 rfl rfl)
theorem dJ19_copyOf_3_3 : decode cJ19_copyOf_3 3 = .ok (.if_acmp .ne 10, 3) := dk_166 0 10 (dk_at dksJ19_copyOf_3_0 3 rfl rfl)
theorem dJ19_copyOf_3_6 : decode cJ19_copyOf_3 6 = .ok (.iload_n 1, 1) := dk_27 (dk_at dksJ19_copyOf_3_0 6 rfl rfl)
theorem dJ19_copyOf_3_7 : decode cJ19_copyOf_3 7 = .ok (.anewarray 2, 3) := dk_189 0 2 (dk_at dksJ19_copyOf_3_0 7 rfl rfl)
theorem dJ19_copyOf_3_10 : decode cJ19_copyOf_3 10 = .ok (.goto 14, 3) := dk_167 0 14 (dk_at dksJ19_copyOf_3_0 10 rfl rfl)
theorem dJ19_copyOf_3_13 : decode cJ19_copyOf_3 13 = .ok (.aload_n 2, 1) := dk_44 (dk_at dksJ19_copyOf_3_0 13 rfl rfl)
theorem dJ19_copyOf_3_14 : decode cJ19_copyOf_3 14 = .ok (.invokevirtual 90, 3) := dk_182 0 90 (dk_at dksJ19_copyOf_3_0 14 rfl rfl)
theorem dJ19_copyOf_3_17 : decode cJ19_copyOf_3 17 = .ok (.iload_n 1, 1) := dk_27 (dk_at dksJ19_copyOf_3_0 17 rfl rfl)
theorem dJ19_copyOf_3_18 : decode cJ19_copyOf_3 18 = .ok (.invokestatic 95, 3) := dk_184 0 95 (dk_at dksJ19_copyOf_3_0 18 rfl rfl)
theorem dJ19_copyOf_3_21 : decode cJ19_copyOf_3 21 = .ok (.checkcast 110, 3) := dk_192 0 110 (dk_at dksJ19_copyOf_3_0 21 rfl rfl)
theorem dJ19_copyOf_3_24 : decode cJ19_copyOf_3 24 = .ok (.astore_n 3, 1) := dk_78 (dk_at dksJ19_copyOf_3_1 0 rfl rfl)
theorem dJ19_copyOf_3_25 : decode cJ19_copyOf_3 25 = .ok (.aload_n 0, 1) := dk_42 (dk_at dksJ19_copyOf_3_1 1 rfl rfl)
theorem dJ19_copyOf_3_26 : decode cJ19_copyOf_3 26 = .ok (.iconst 0, 1) := dk_3 (dk_at dksJ19_copyOf_3_1 2 rfl rfl)
theorem dJ19_copyOf_3_27 : decode cJ19_copyOf_3 27 = .ok (.aload_n 3, 1) := dk_45 (dk_at dksJ19_copyOf_3_1 3 rfl rfl)
theorem dJ19_copyOf_3_28 : decode cJ19_copyOf_3 28 = .ok (.iconst 0, 1) := dk_3 (dk_at dksJ19_copyOf_3_1 4 rfl rfl)
theorem dJ19_copyOf_3_29 : decode cJ19_copyOf_3 29 = .ok (.aload_n 0, 1) := dk_42 (dk_at dksJ19_copyOf_3_1 5 rfl rfl)
theorem dJ19_copyOf_3_30 : decode cJ19_copyOf_3 30 = .ok (.arraylength, 1) := dk_190 (dk_at dksJ19_copyOf_3_1 6 rfl rfl)
theorem dJ19_copyOf_3_31 : decode cJ19_copyOf_3 31 = .ok (.iload_n 1, 1) := dk_27 (dk_at dksJ19_copyOf_3_1 7 rfl rfl)
theorem dJ19_copyOf_3_32 : decode cJ19_copyOf_3 32 = .ok (.invokestatic 304, 3) := dk_184 1 48 (dk_at dksJ19_copyOf_3_1 8 rfl rfl)
theorem dJ19_copyOf_3_35 : decode cJ19_copyOf_3 35 = .ok (.invokestatic 150, 3) := dk_184 0 150 (dk_at dksJ19_copyOf_3_1 11 rfl rfl)
theorem dJ19_copyOf_3_38 : decode cJ19_copyOf_3 38 = .ok (.aload_n 3, 1) := dk_45 (dk_at dksJ19_copyOf_3_1 14 rfl rfl)
theorem dJ19_copyOf_3_39 : decode cJ19_copyOf_3 39 = .ok (.areturn, 1) := dk_176 (dk_at dksJ19_copyOf_3_1 15 rfl rfl)
abbrev cJ19_copyOf_4 : ByteArray := prog_50_method_124_code
def yJ19_copyOf_4 : MethodName := ⟨RJ19, "copyOf", "([JI)[J"⟩
def dkwJ19_copyOf_4_1 : List UInt8 := [27, 184, 1, 48, 184, 0, 150, 44, 176]
abbrev dktJ19_copyOf_4_1 : List UInt8 := dkwJ19_copyOf_4_1 ++ []
def dkwJ19_copyOf_4_0 : List UInt8 := [27, 42, 190, 160, 0, 11, 42, 182, 1, 63, 192, 1, 64, 176, 27, 188, 11, 77, 42, 3, 44, 3, 42, 190]
abbrev dktJ19_copyOf_4_0 : List UInt8 := dkwJ19_copyOf_4_0 ++ dktJ19_copyOf_4_1
theorem dksJ19_copyOf_4_0 : cJ19_copyOf_4.data.toList.drop 0 = dktJ19_copyOf_4_0 := by decide +kernel
theorem dksJ19_copyOf_4_1 : cJ19_copyOf_4.data.toList.drop 24 = dktJ19_copyOf_4_1 := dk_seg dksJ19_copyOf_4_0 24 rfl rfl
theorem dJ19_copyOf_4_0 : decode cJ19_copyOf_4 0 = .ok (.iload_n 1, 1) := dk_27 (dk_at dksJ19_copyOf_4_0 0 rfl rfl)
theorem dJ19_copyOf_4_1 : decode cJ19_copyOf_4 1 = .ok (.aload_n 0, 1) := dk_42 (dk_at dksJ19_copyOf_4_0 1 rfl rfl)
theorem dJ19_copyOf_4_2 : decode cJ19_copyOf_4 2 = .ok (.arraylength, 1) := dk_190 (dk_at dksJ19_copyOf_4_0 2 rfl rfl)
theorem dJ19_copyOf_4_3 : decode cJ19_copyOf_4 3 = .ok (.if_icmp .ne 11, 3) := dk_160 0 11 (dk_at dksJ19_copyOf_4_0 3 rfl rfl)
theorem dJ19_copyOf_4_6 : decode cJ19_copyOf_4 6 = .ok (.aload_n 0, 1) := dk_42 (dk_at dksJ19_copyOf_4_0 6 rfl rfl)
theorem dJ19_copyOf_4_7 : decode cJ19_copyOf_4 7 = .ok (.invokevirtual 319, 3) := dk_182 1 63 (dk_at dksJ19_copyOf_4_0 7 rfl rfl)
theorem dJ19_copyOf_4_10 : decode cJ19_copyOf_4 10 = .ok (.checkcast 320, 3) := dk_192 1 64 (dk_at dksJ19_copyOf_4_0 10 rfl rfl)
theorem dJ19_copyOf_4_13 : decode cJ19_copyOf_4 13 = .ok (.areturn, 1) := dk_176 (dk_at dksJ19_copyOf_4_0 13 rfl rfl)
theorem dJ19_copyOf_4_14 : decode cJ19_copyOf_4 14 = .ok (.iload_n 1, 1) := dk_27 (dk_at dksJ19_copyOf_4_0 14 rfl rfl)
theorem dJ19_copyOf_4_15 : decode cJ19_copyOf_4 15 = .ok (.newarray .long, 2) := dk_188_11 (dk_at dksJ19_copyOf_4_0 15 rfl rfl)
theorem dJ19_copyOf_4_17 : decode cJ19_copyOf_4 17 = .ok (.astore_n 2, 1) := dk_77 (dk_at dksJ19_copyOf_4_0 17 rfl rfl)
theorem dJ19_copyOf_4_18 : decode cJ19_copyOf_4 18 = .ok (.aload_n 0, 1) := dk_42 (dk_at dksJ19_copyOf_4_0 18 rfl rfl)
theorem dJ19_copyOf_4_19 : decode cJ19_copyOf_4 19 = .ok (.iconst 0, 1) := dk_3 (dk_at dksJ19_copyOf_4_0 19 rfl rfl)
theorem dJ19_copyOf_4_20 : decode cJ19_copyOf_4 20 = .ok (.aload_n 2, 1) := dk_44 (dk_at dksJ19_copyOf_4_0 20 rfl rfl)
theorem dJ19_copyOf_4_21 : decode cJ19_copyOf_4 21 = .ok (.iconst 0, 1) := dk_3 (dk_at dksJ19_copyOf_4_0 21 rfl rfl)
theorem dJ19_copyOf_4_22 : decode cJ19_copyOf_4 22 = .ok (.aload_n 0, 1) := dk_42 (dk_at dksJ19_copyOf_4_0 22 rfl rfl)
theorem dJ19_copyOf_4_23 : decode cJ19_copyOf_4 23 = .ok (.arraylength, 1) := dk_190 (dk_at dksJ19_copyOf_4_0 23 rfl rfl)
theorem dJ19_copyOf_4_24 : decode cJ19_copyOf_4 24 = .ok (.iload_n 1, 1) := dk_27 (dk_at dksJ19_copyOf_4_1 0 rfl rfl)
theorem dJ19_copyOf_4_25 : decode cJ19_copyOf_4 25 = .ok (.invokestatic 304, 3) := dk_184 1 48 (dk_at dksJ19_copyOf_4_1 1 rfl rfl)
theorem dJ19_copyOf_4_28 : decode cJ19_copyOf_4 28 = .ok (.invokestatic 150, 3) := dk_184 0 150 (dk_at dksJ19_copyOf_4_1 4 rfl rfl)
theorem dJ19_copyOf_4_31 : decode cJ19_copyOf_4 31 = .ok (.aload_n 2, 1) := dk_44 (dk_at dksJ19_copyOf_4_1 7 rfl rfl)
theorem dJ19_copyOf_4_32 : decode cJ19_copyOf_4 32 = .ok (.areturn, 1) := dk_176 (dk_at dksJ19_copyOf_4_1 8 rfl rfl)
abbrev cJ19_copyOfRange_2 : ByteArray := prog_50_method_130_code
def yJ19_copyOfRange_2 : MethodName := ⟨RJ19, "copyOfRange", "([Ljava/lang/Object;IILjava/lang/Class;)[Ljava/lang/Object;"⟩
def dkwJ19_copyOfRange_2_3 : List UInt8 := [58, 5, 42, 27, 25, 5, 3, 42, 190, 27, 100, 21, 4, 184, 1, 48, 184, 0, 150, 25, 5, 176]
abbrev dktJ19_copyOfRange_2_3 : List UInt8 := dkwJ19_copyOfRange_2_3 ++ []
def dkwJ19_copyOfRange_2_2 : List UInt8 := [166, 0, 11, 21, 4, 189, 0, 2, 167, 0, 15, 45, 182, 0, 90, 21, 4, 184, 0, 95, 192, 0, 110]
abbrev dktJ19_copyOfRange_2_2 : List UInt8 := dkwJ19_copyOfRange_2_2 ++ dktJ19_copyOfRange_2_3
def dkwJ19_copyOfRange_2_1 : List UInt8 := [182, 0, 54, 19, 1, 81, 182, 0, 50, 28, 182, 0, 54, 182, 0, 61, 183, 0, 65, 191, 45, 18, 110]
abbrev dktJ19_copyOfRange_2_1 : List UInt8 := dkwJ19_copyOfRange_2_1 ++ dktJ19_copyOfRange_2_2
def dkwJ19_copyOfRange_2_0 : List UInt8 := [28, 27, 100, 54, 4, 21, 4, 156, 0, 35, 187, 0, 43, 89, 187, 0, 45, 89, 183, 0, 47, 27]
abbrev dktJ19_copyOfRange_2_0 : List UInt8 := dkwJ19_copyOfRange_2_0 ++ dktJ19_copyOfRange_2_1
theorem dksJ19_copyOfRange_2_0 : cJ19_copyOfRange_2.data.toList.drop 0 = dktJ19_copyOfRange_2_0 := by decide +kernel
theorem dksJ19_copyOfRange_2_1 : cJ19_copyOfRange_2.data.toList.drop 22 = dktJ19_copyOfRange_2_1 := dk_seg dksJ19_copyOfRange_2_0 22 rfl rfl
theorem dksJ19_copyOfRange_2_2 : cJ19_copyOfRange_2.data.toList.drop 45 = dktJ19_copyOfRange_2_2 := dk_seg dksJ19_copyOfRange_2_1 23 rfl rfl
theorem dksJ19_copyOfRange_2_3 : cJ19_copyOfRange_2.data.toList.drop 68 = dktJ19_copyOfRange_2_3 := dk_seg dksJ19_copyOfRange_2_2 23 rfl rfl
theorem dJ19_copyOfRange_2_0 : decode cJ19_copyOfRange_2 0 = .ok (.iload_n 2, 1) := dk_28 (dk_at dksJ19_copyOfRange_2_0 0 rfl rfl)
theorem dJ19_copyOfRange_2_1 : decode cJ19_copyOfRange_2 1 = .ok (.iload_n 1, 1) := dk_27 (dk_at dksJ19_copyOfRange_2_0 1 rfl rfl)
theorem dJ19_copyOfRange_2_2 : decode cJ19_copyOfRange_2 2 = .ok (.isub, 1) := dk_100 (dk_at dksJ19_copyOfRange_2_0 2 rfl rfl)
theorem dJ19_copyOfRange_2_3 : decode cJ19_copyOfRange_2 3 = .ok (.istore 4, 2) := dk_54 4 (dk_at dksJ19_copyOfRange_2_0 3 rfl rfl)
theorem dJ19_copyOfRange_2_5 : decode cJ19_copyOfRange_2 5 = .ok (.iload 4, 2) := dk_21 4 (dk_at dksJ19_copyOfRange_2_0 5 rfl rfl)
theorem dJ19_copyOfRange_2_7 : decode cJ19_copyOfRange_2 7 = .ok (.ifCond .ge 35, 3) := dk_156 0 35 (dk_at dksJ19_copyOfRange_2_0 7 rfl rfl)
theorem dJ19_copyOfRange_2_10 : decode cJ19_copyOfRange_2 10 = .ok (.new 43, 3) := dk_187 0 43 (dk_at dksJ19_copyOfRange_2_0 10 rfl rfl)
theorem dJ19_copyOfRange_2_13 : decode cJ19_copyOfRange_2 13 = .ok (.dup, 1) := dk_89 (dk_at dksJ19_copyOfRange_2_0 13 rfl rfl)
theorem dJ19_copyOfRange_2_14 : decode cJ19_copyOfRange_2 14 = .ok (.new 45, 3) := dk_187 0 45 (dk_at dksJ19_copyOfRange_2_0 14 rfl rfl)
theorem dJ19_copyOfRange_2_17 : decode cJ19_copyOfRange_2 17 = .ok (.dup, 1) := dk_89 (dk_at dksJ19_copyOfRange_2_0 17 rfl rfl)
theorem dJ19_copyOfRange_2_18 : decode cJ19_copyOfRange_2 18 = .ok (.invokespecial 47, 3) := dk_183 0 47 (dk_at dksJ19_copyOfRange_2_0 18 rfl rfl)
theorem dJ19_copyOfRange_2_21 : decode cJ19_copyOfRange_2 21 = .ok (.iload_n 1, 1) := dk_27 (dk_at dksJ19_copyOfRange_2_0 21 rfl rfl)
theorem dJ19_copyOfRange_2_22 : decode cJ19_copyOfRange_2 22 = .ok (.invokevirtual 54, 3) := dk_182 0 54 (dk_at dksJ19_copyOfRange_2_1 0 rfl rfl)
theorem dJ19_copyOfRange_2_25 : decode cJ19_copyOfRange_2 25 = .ok (.ldc_w 337, 3) := dk_19 1 81 (dk_at dksJ19_copyOfRange_2_1 3 rfl rfl)
theorem dJ19_copyOfRange_2_28 : decode cJ19_copyOfRange_2 28 = .ok (.invokevirtual 50, 3) := dk_182 0 50 (dk_at dksJ19_copyOfRange_2_1 6 rfl rfl)
theorem dJ19_copyOfRange_2_31 : decode cJ19_copyOfRange_2 31 = .ok (.iload_n 2, 1) := dk_28 (dk_at dksJ19_copyOfRange_2_1 9 rfl rfl)
theorem dJ19_copyOfRange_2_32 : decode cJ19_copyOfRange_2 32 = .ok (.invokevirtual 54, 3) := dk_182 0 54 (dk_at dksJ19_copyOfRange_2_1 10 rfl rfl)
theorem dJ19_copyOfRange_2_35 : decode cJ19_copyOfRange_2 35 = .ok (.invokevirtual 61, 3) := dk_182 0 61 (dk_at dksJ19_copyOfRange_2_1 13 rfl rfl)
theorem dJ19_copyOfRange_2_38 : decode cJ19_copyOfRange_2 38 = .ok (.invokespecial 65, 3) := dk_183 0 65 (dk_at dksJ19_copyOfRange_2_1 16 rfl rfl)
theorem dJ19_copyOfRange_2_41 : decode cJ19_copyOfRange_2 41 = .ok (.athrow, 1) := dk_191 (dk_at dksJ19_copyOfRange_2_1 19 rfl rfl)
theorem dJ19_copyOfRange_2_42 : decode cJ19_copyOfRange_2 42 = .ok (.aload_n 3, 1) := dk_45 (dk_at dksJ19_copyOfRange_2_1 20 rfl rfl)
theorem dJ19_copyOfRange_2_43 : decode cJ19_copyOfRange_2 43 = .ok (.ldc 110, 2) := dk_18 110 (dk_at dksJ19_copyOfRange_2_1 21 rfl rfl)
theorem dJ19_copyOfRange_2_45 : decode cJ19_copyOfRange_2 45 = .ok (.if_acmp .ne 11, 3) := dk_166 0 11 (dk_at dksJ19_copyOfRange_2_2 0 rfl rfl)
theorem dJ19_copyOfRange_2_48 : decode cJ19_copyOfRange_2 48 = .ok (.iload 4, 2) := dk_21 4 (dk_at dksJ19_copyOfRange_2_2 3 rfl rfl)
theorem dJ19_copyOfRange_2_50 : decode cJ19_copyOfRange_2 50 = .ok (.anewarray 2, 3) := dk_189 0 2 (dk_at dksJ19_copyOfRange_2_2 5 rfl rfl)
theorem dJ19_copyOfRange_2_53 : decode cJ19_copyOfRange_2 53 = .ok (.goto 15, 3) := dk_167 0 15 (dk_at dksJ19_copyOfRange_2_2 8 rfl rfl)
theorem dJ19_copyOfRange_2_56 : decode cJ19_copyOfRange_2 56 = .ok (.aload_n 3, 1) := dk_45 (dk_at dksJ19_copyOfRange_2_2 11 rfl rfl)
theorem dJ19_copyOfRange_2_57 : decode cJ19_copyOfRange_2 57 = .ok (.invokevirtual 90, 3) := dk_182 0 90 (dk_at dksJ19_copyOfRange_2_2 12 rfl rfl)
theorem dJ19_copyOfRange_2_60 : decode cJ19_copyOfRange_2 60 = .ok (.iload 4, 2) := dk_21 4 (dk_at dksJ19_copyOfRange_2_2 15 rfl rfl)
theorem dJ19_copyOfRange_2_62 : decode cJ19_copyOfRange_2 62 = .ok (.invokestatic 95, 3) := dk_184 0 95 (dk_at dksJ19_copyOfRange_2_2 17 rfl rfl)
theorem dJ19_copyOfRange_2_65 : decode cJ19_copyOfRange_2 65 = .ok (.checkcast 110, 3) := dk_192 0 110 (dk_at dksJ19_copyOfRange_2_2 20 rfl rfl)
theorem dJ19_copyOfRange_2_68 : decode cJ19_copyOfRange_2 68 = .ok (.astore 5, 2) := dk_58 5 (dk_at dksJ19_copyOfRange_2_3 0 rfl rfl)
theorem dJ19_copyOfRange_2_70 : decode cJ19_copyOfRange_2 70 = .ok (.aload_n 0, 1) := dk_42 (dk_at dksJ19_copyOfRange_2_3 2 rfl rfl)
theorem dJ19_copyOfRange_2_71 : decode cJ19_copyOfRange_2 71 = .ok (.iload_n 1, 1) := dk_27 (dk_at dksJ19_copyOfRange_2_3 3 rfl rfl)
theorem dJ19_copyOfRange_2_72 : decode cJ19_copyOfRange_2 72 = .ok (.aload 5, 2) := dk_25 5 (dk_at dksJ19_copyOfRange_2_3 4 rfl rfl)
theorem dJ19_copyOfRange_2_74 : decode cJ19_copyOfRange_2 74 = .ok (.iconst 0, 1) := dk_3 (dk_at dksJ19_copyOfRange_2_3 6 rfl rfl)
theorem dJ19_copyOfRange_2_75 : decode cJ19_copyOfRange_2 75 = .ok (.aload_n 0, 1) := dk_42 (dk_at dksJ19_copyOfRange_2_3 7 rfl rfl)
theorem dJ19_copyOfRange_2_76 : decode cJ19_copyOfRange_2 76 = .ok (.arraylength, 1) := dk_190 (dk_at dksJ19_copyOfRange_2_3 8 rfl rfl)
theorem dJ19_copyOfRange_2_77 : decode cJ19_copyOfRange_2 77 = .ok (.iload_n 1, 1) := dk_27 (dk_at dksJ19_copyOfRange_2_3 9 rfl rfl)
theorem dJ19_copyOfRange_2_78 : decode cJ19_copyOfRange_2 78 = .ok (.isub, 1) := dk_100 (dk_at dksJ19_copyOfRange_2_3 10 rfl rfl)
theorem dJ19_copyOfRange_2_79 : decode cJ19_copyOfRange_2 79 = .ok (.iload 4, 2) := dk_21 4 (dk_at dksJ19_copyOfRange_2_3 11 rfl rfl)
theorem dJ19_copyOfRange_2_81 : decode cJ19_copyOfRange_2 81 = .ok (.invokestatic 304, 3) := dk_184 1 48 (dk_at dksJ19_copyOfRange_2_3 13 rfl rfl)
theorem dJ19_copyOfRange_2_84 : decode cJ19_copyOfRange_2 84 = .ok (.invokestatic 150, 3) := dk_184 0 150 (dk_at dksJ19_copyOfRange_2_3 16 rfl rfl)
theorem dJ19_copyOfRange_2_87 : decode cJ19_copyOfRange_2 87 = .ok (.aload 5, 2) := dk_25 5 (dk_at dksJ19_copyOfRange_2_3 19 rfl rfl)
theorem dJ19_copyOfRange_2_89 : decode cJ19_copyOfRange_2 89 = .ok (.areturn, 1) := dk_176 (dk_at dksJ19_copyOfRange_2_3 21 rfl rfl)
theorem q93 : (Jvm.Cond.initialized "java/util/Arrays") ∈ lw_all := lw_g (lw_at lw_m1 23 rfl) rfl
theorem q515 : (Jvm.Cond.static ({ cls := "java/util/Arrays", name := "copyOf", desc := "([BI)[B" } : Jvm.MethodName)) ∈ lw_all := lw_g (lw_at lw_m2 205 rfl) rfl
theorem q516 : (Jvm.Cond.code ({ cls := "java/util/Arrays", name := "copyOf", desc := "([BI)[B" } : Jvm.MethodName) prog_50_method_121_code (3 : Nat) (Option.some (Jvm.ClassFile.FieldType.array Jvm.ClassFile.FieldType.byte))) ∈ lw_all := lw_g (lw_at lw_m2 206 rfl) rfl
theorem q517 : (Jvm.Cond.methodLink "java/util/Arrays" (310 : Nat) ({ cls := "[B", name := "clone", desc := "()Ljava/lang/Object;" } : Jvm.MethodName)) ∈ lw_all := lw_g (lw_at lw_m2 207 rfl) rfl
theorem q523 : (Jvm.Cond.classLink "java/util/Arrays" (311 : Nat) "[B") ∈ lw_all := lw_g (lw_at lw_m2 213 rfl) rfl
theorem q524 : (Jvm.Cond.methodLink "java/util/Arrays" (304 : Nat) ({ cls := "java/lang/Math", name := "min", desc := "(II)I" } : Jvm.MethodName)) ∈ lw_all := lw_g (lw_at lw_m2 214 rfl) rfl
theorem q527 : (Jvm.Cond.methodLink "java/util/Arrays" (150 : Nat) ({ cls := "java/lang/System", name := "arraycopy", desc := "(Ljava/lang/Object;ILjava/lang/Object;II)V" } : Jvm.MethodName)) ∈ lw_all := lw_g (lw_at lw_m2 217 rfl) rfl
theorem q658 : (Jvm.Cond.static ({ cls := "java/util/Arrays", name := "copyOfRange", desc := "([BII)[B" } : Jvm.MethodName)) ∈ lw_all := lw_g (lw_at lw_m3 108 rfl) rfl
theorem q659 : (Jvm.Cond.code ({ cls := "java/util/Arrays", name := "copyOfRange", desc := "([BII)[B" } : Jvm.MethodName) prog_50_method_132_code (3 : Nat) (Option.some (Jvm.ClassFile.FieldType.array Jvm.ClassFile.FieldType.byte))) ∈ lw_all := lw_g (lw_at lw_m3 109 rfl) rfl
theorem q660 : (Jvm.Cond.methodLink "java/util/Arrays" (339 : Nat) ({ cls := "java/util/Arrays", name := "copyOfRangeByte", desc := "([BII)[B" } : Jvm.MethodName)) ∈ lw_all := lw_g (lw_at lw_m3 110 rfl) rfl
theorem q661 : (Jvm.Cond.static ({ cls := "java/util/Arrays", name := "copyOfRangeByte", desc := "([BII)[B" } : Jvm.MethodName)) ∈ lw_all := lw_g (lw_at lw_m3 111 rfl) rfl
theorem q662 : (Jvm.Cond.code ({ cls := "java/util/Arrays", name := "copyOfRangeByte", desc := "([BII)[B" } : Jvm.MethodName) prog_50_method_133_code (5 : Nat) (Option.some (Jvm.ClassFile.FieldType.array Jvm.ClassFile.FieldType.byte))) ∈ lw_all := lw_g (lw_at lw_m3 112 rfl) rfl
theorem q663 : (Jvm.Cond.methodLink "java/util/Arrays" (343 : Nat) ({ cls := "java/util/Arrays", name := "checkLength", desc := "(II)V" } : Jvm.MethodName)) ∈ lw_all := lw_g (lw_at lw_m3 113 rfl) rfl
theorem q664 : (Jvm.Cond.static ({ cls := "java/util/Arrays", name := "checkLength", desc := "(II)V" } : Jvm.MethodName)) ∈ lw_all := lw_g (lw_at lw_m3 114 rfl) rfl
theorem q665 : (Jvm.Cond.code ({ cls := "java/util/Arrays", name := "checkLength", desc := "(II)V" } : Jvm.MethodName) prog_50_method_131_code (2 : Nat) (Option.none : Option Jvm.ClassFile.FieldType)) ∈ lw_all := lw_g (lw_at lw_m3 115 rfl) rfl
theorem q666 : (Jvm.Cond.classLink "java/util/Arrays" (43 : Nat) "java/lang/IllegalArgumentException") ∈ lw_all := lw_g (lw_at lw_m3 116 rfl) rfl
theorem q675 : (Jvm.Cond.classLink "java/util/Arrays" (45 : Nat) "java/lang/StringBuilder") ∈ lw_all := lw_g (lw_at lw_m3 125 rfl) rfl
theorem q676 : (Jvm.Cond.methodLink "java/util/Arrays" (47 : Nat) ({ cls := "java/lang/StringBuilder", name := "<init>", desc := "()V" } : Jvm.MethodName)) ∈ lw_all := lw_g (lw_at lw_m3 126 rfl) rfl
theorem q677 : (Jvm.Cond.methodLink "java/util/Arrays" (54 : Nat) ({ cls := "java/lang/StringBuilder", name := "append", desc := "(I)Ljava/lang/StringBuilder;" } : Jvm.MethodName)) ∈ lw_all := lw_g (lw_at lw_m3 127 rfl) rfl
theorem q678 : (Jvm.Cond.stringRef "java/util/Arrays" (337 : Nat) " > ") ∈ lw_tbl := lw_at lw_m3 128 rfl
theorem q679 : (Jvm.Cond.methodLink "java/util/Arrays" (50 : Nat) ({ cls := "java/lang/StringBuilder", name := "append", desc := "(Ljava/lang/String;)Ljava/lang/StringBuilder;" } : Jvm.MethodName)) ∈ lw_all := lw_g (lw_at lw_m3 129 rfl) rfl
theorem q680 : (Jvm.Cond.methodLink "java/util/Arrays" (61 : Nat) ({ cls := "java/lang/StringBuilder", name := "toString", desc := "()Ljava/lang/String;" } : Jvm.MethodName)) ∈ lw_all := lw_g (lw_at lw_m3 130 rfl) rfl
theorem q681 : (Jvm.Cond.methodLink "java/util/Arrays" (65 : Nat) ({ cls := "java/lang/IllegalArgumentException", name := "<init>", desc := "(Ljava/lang/String;)V" } : Jvm.MethodName)) ∈ lw_all := lw_g (lw_at lw_m3 131 rfl) rfl
theorem q953 : (Jvm.Cond.static ({ cls := "java/util/Arrays", name := "copyOf", desc := "([Ljava/lang/Object;I)[Ljava/lang/Object;" } : Jvm.MethodName)) ∈ lw_all := lw_g (lw_at lw_m4 163 rfl) rfl
theorem q954 : (Jvm.Cond.code ({ cls := "java/util/Arrays", name := "copyOf", desc := "([Ljava/lang/Object;I)[Ljava/lang/Object;" } : Jvm.MethodName) prog_50_method_119_code (2 : Nat) (Option.some (Jvm.ClassFile.FieldType.array (Jvm.ClassFile.FieldType.object "java/lang/Object")))) ∈ lw_all := lw_g (lw_at lw_m4 164 rfl) rfl
theorem q955 : (Jvm.Cond.methodLink "java/util/Arrays" (86 : Nat) ({ cls := "java/lang/Object", name := "getClass", desc := "()Ljava/lang/Class;" } : Jvm.MethodName)) ∈ lw_all := lw_g (lw_at lw_m4 165 rfl) rfl
theorem q956 : (Jvm.Cond.methodLink "java/util/Arrays" (300 : Nat) ({ cls := "java/util/Arrays", name := "copyOf", desc := "([Ljava/lang/Object;ILjava/lang/Class;)[Ljava/lang/Object;" } : Jvm.MethodName)) ∈ lw_all := lw_g (lw_at lw_m4 166 rfl) rfl
theorem q957 : (Jvm.Cond.static ({ cls := "java/util/Arrays", name := "copyOf", desc := "([Ljava/lang/Object;ILjava/lang/Class;)[Ljava/lang/Object;" } : Jvm.MethodName)) ∈ lw_all := lw_g (lw_at lw_m4 167 rfl) rfl
theorem q958 : (Jvm.Cond.code ({ cls := "java/util/Arrays", name := "copyOf", desc := "([Ljava/lang/Object;ILjava/lang/Class;)[Ljava/lang/Object;" } : Jvm.MethodName) prog_50_method_120_code (4 : Nat) (Option.some (Jvm.ClassFile.FieldType.array (Jvm.ClassFile.FieldType.object "java/lang/Object")))) ∈ lw_all := lw_g (lw_at lw_m4 168 rfl) rfl
theorem q959 : (Jvm.Cond.classLink "java/util/Arrays" (110 : Nat) "[Ljava/lang/Object;") ∈ lw_all := lw_g (lw_at lw_m4 169 rfl) rfl
theorem q960 : (Jvm.Cond.classLink "java/util/Arrays" (2 : Nat) "java/lang/Object") ∈ lw_all := lw_g (lw_at lw_m4 170 rfl) rfl
theorem q1039 : (Jvm.Cond.static ({ cls := "java/util/Arrays", name := "copyOf", desc := "([JI)[J" } : Jvm.MethodName)) ∈ lw_all := lw_g (lw_at lw_m5 9 rfl) rfl
theorem q1040 : (Jvm.Cond.code ({ cls := "java/util/Arrays", name := "copyOf", desc := "([JI)[J" } : Jvm.MethodName) prog_50_method_124_code (3 : Nat) (Option.some (Jvm.ClassFile.FieldType.array Jvm.ClassFile.FieldType.long))) ∈ lw_all := lw_g (lw_at lw_m5 10 rfl) rfl
theorem q1041 : (Jvm.Cond.methodLink "java/util/Arrays" (319 : Nat) ({ cls := "[J", name := "clone", desc := "()Ljava/lang/Object;" } : Jvm.MethodName)) ∈ lw_all := lw_g (lw_at lw_m5 11 rfl) rfl
theorem q1045 : (Jvm.Cond.classLink "java/util/Arrays" (320 : Nat) "[J") ∈ lw_all := lw_g (lw_at lw_m5 15 rfl) rfl
theorem q1086 : (Jvm.Cond.static ({ cls := "java/util/Arrays", name := "copyOfRange", desc := "([Ljava/lang/Object;IILjava/lang/Class;)[Ljava/lang/Object;" } : Jvm.MethodName)) ∈ lw_all := lw_g (lw_at lw_m5 56 rfl) rfl
theorem q1087 : (Jvm.Cond.code ({ cls := "java/util/Arrays", name := "copyOfRange", desc := "([Ljava/lang/Object;IILjava/lang/Class;)[Ljava/lang/Object;" } : Jvm.MethodName) prog_50_method_130_code (6 : Nat) (Option.some (Jvm.ClassFile.FieldType.array (Jvm.ClassFile.FieldType.object "java/lang/Object")))) ∈ lw_all := lw_g (lw_at lw_m5 57 rfl) rfl

/-! java/lang/StringLatin1 -/
set_option maxRecDepth 100000
def RJ20 : String := "java/lang/StringLatin1"
abbrev cJ20_inflate : ByteArray := prog_33_method_50_code
def yJ20_inflate : MethodName := ⟨RJ20, "inflate", "([BI[BII)V"⟩
def dkwJ20_inflate_0 : List UInt8 := [42, 27, 44, 29, 21, 4, 184, 0, 240, 177]
abbrev dktJ20_inflate_0 : List UInt8 := dkwJ20_inflate_0 ++ []
theorem dksJ20_inflate_0 : cJ20_inflate.data.toList.drop 0 = dktJ20_inflate_0 := by decide +kernel
theorem dJ20_inflate_0 : decode cJ20_inflate 0 = .ok (.aload_n 0, 1) := dk_42 (dk_at dksJ20_inflate_0 0 rfl rfl)
theorem dJ20_inflate_1 : decode cJ20_inflate 1 = .ok (.iload_n 1, 1) := dk_27 (dk_at dksJ20_inflate_0 1 rfl rfl)
theorem dJ20_inflate_2 : decode cJ20_inflate 2 = .ok (.aload_n 2, 1) := dk_44 (dk_at dksJ20_inflate_0 2 rfl rfl)
theorem dJ20_inflate_3 : decode cJ20_inflate 3 = .ok (.iload_n 3, 1) := dk_29 (dk_at dksJ20_inflate_0 3 rfl rfl)
theorem dJ20_inflate_4 : decode cJ20_inflate 4 = .ok (.iload 4, 2) := dk_21 4 (dk_at dksJ20_inflate_0 4 rfl rfl)
theorem dJ20_inflate_6 : decode cJ20_inflate 6 = .ok (.invokestatic 240, 3) := dk_184 0 240 (dk_at dksJ20_inflate_0 6 rfl rfl)
theorem dJ20_inflate_9 : decode cJ20_inflate 9 = .ok (.return_, 1) := dk_177 (dk_at dksJ20_inflate_0 9 rfl rfl)
abbrev cJ20_hashCode : ByteArray := prog_33_method_21_code
def yJ20_hashCode : MethodName := ⟨RJ20, "hashCode", "([B)I"⟩
def dkwJ20_hashCode_2 : List UInt8 := [3, 167, 0, 22, 42, 3, 51, 17, 0, 255, 126, 167, 0, 12, 42, 3, 42, 190, 3, 7, 184, 0, 84, 172]
abbrev dktJ20_hashCode_2 : List UInt8 := dkwJ20_hashCode_2 ++ []
def dkwJ20_hashCode_1 : List UInt8 := [171, 0, 0, 0, 0, 40, 0, 0, 0, 2, 0, 0, 0, 0, 0, 0, 0, 26, 0, 0, 0, 1, 0, 0, 0, 30]
abbrev dktJ20_hashCode_1 : List UInt8 := dkwJ20_hashCode_1 ++ dktJ20_hashCode_2
def dkwJ20_hashCode_0 : List UInt8 := [42, 190]
abbrev dktJ20_hashCode_0 : List UInt8 := dkwJ20_hashCode_0 ++ dktJ20_hashCode_1
theorem dksJ20_hashCode_0 : cJ20_hashCode.data.toList.drop 0 = dktJ20_hashCode_0 := by decide +kernel
theorem dksJ20_hashCode_1 : cJ20_hashCode.data.toList.drop 2 = dktJ20_hashCode_1 := dk_seg dksJ20_hashCode_0 2 rfl rfl
theorem dksJ20_hashCode_2 : cJ20_hashCode.data.toList.drop 28 = dktJ20_hashCode_2 := dk_seg dksJ20_hashCode_1 26 rfl rfl
theorem dJ20_hashCode_0 : decode cJ20_hashCode 0 = .ok (.aload_n 0, 1) := dk_42 (dk_at dksJ20_hashCode_0 0 rfl rfl)
theorem dJ20_hashCode_1 : decode cJ20_hashCode 1 = .ok (.arraylength, 1) := dk_190 (dk_at dksJ20_hashCode_0 1 rfl rfl)
theorem dJ20_hashCode_2 : decode cJ20_hashCode 2 = .ok (.lookupswitch 40 #[(0, 26), (1, 30)], 26) := by decide +kernel
theorem dJ20_hashCode_28 : decode cJ20_hashCode 28 = .ok (.iconst 0, 1) := dk_3 (dk_at dksJ20_hashCode_2 0 rfl rfl)
theorem dJ20_hashCode_29 : decode cJ20_hashCode 29 = .ok (.goto 22, 3) := dk_167 0 22 (dk_at dksJ20_hashCode_2 1 rfl rfl)
theorem dJ20_hashCode_32 : decode cJ20_hashCode 32 = .ok (.aload_n 0, 1) := dk_42 (dk_at dksJ20_hashCode_2 4 rfl rfl)
theorem dJ20_hashCode_33 : decode cJ20_hashCode 33 = .ok (.iconst 0, 1) := dk_3 (dk_at dksJ20_hashCode_2 5 rfl rfl)
theorem dJ20_hashCode_34 : decode cJ20_hashCode 34 = .ok (.baload, 1) := dk_51 (dk_at dksJ20_hashCode_2 6 rfl rfl)
theorem dJ20_hashCode_35 : decode cJ20_hashCode 35 = .ok (.sipush 255, 3) := dk_17 0 255 (dk_at dksJ20_hashCode_2 7 rfl rfl)
theorem dJ20_hashCode_38 : decode cJ20_hashCode 38 = .ok (.iand, 1) := dk_126 (dk_at dksJ20_hashCode_2 10 rfl rfl)
theorem dJ20_hashCode_39 : decode cJ20_hashCode 39 = .ok (.goto 12, 3) := dk_167 0 12 (dk_at dksJ20_hashCode_2 11 rfl rfl)
theorem dJ20_hashCode_42 : decode cJ20_hashCode 42 = .ok (.aload_n 0, 1) := dk_42 (dk_at dksJ20_hashCode_2 14 rfl rfl)
theorem dJ20_hashCode_43 : decode cJ20_hashCode 43 = .ok (.iconst 0, 1) := dk_3 (dk_at dksJ20_hashCode_2 15 rfl rfl)
theorem dJ20_hashCode_44 : decode cJ20_hashCode 44 = .ok (.aload_n 0, 1) := dk_42 (dk_at dksJ20_hashCode_2 16 rfl rfl)
theorem dJ20_hashCode_45 : decode cJ20_hashCode 45 = .ok (.arraylength, 1) := dk_190 (dk_at dksJ20_hashCode_2 17 rfl rfl)
theorem dJ20_hashCode_46 : decode cJ20_hashCode 46 = .ok (.iconst 0, 1) := dk_3 (dk_at dksJ20_hashCode_2 18 rfl rfl)
theorem dJ20_hashCode_47 : decode cJ20_hashCode 47 = .ok (.iconst 4, 1) := dk_7 (dk_at dksJ20_hashCode_2 19 rfl rfl)
theorem dJ20_hashCode_48 : decode cJ20_hashCode 48 = .ok (.invokestatic 84, 3) := dk_184 0 84 (dk_at dksJ20_hashCode_2 20 rfl rfl)
theorem dJ20_hashCode_51 : decode cJ20_hashCode 51 = .ok (.ireturn, 1) := dk_172 (dk_at dksJ20_hashCode_2 23 rfl rfl)
abbrev cJ20_equals : ByteArray := prog_33_method_13_code
def yJ20_equals : MethodName := ⟨RJ20, "equals", "([B[B)Z"⟩
def dkwJ20_equals_1 : List UInt8 := [3, 172, 132, 2, 1, 167, 255, 236, 4, 172, 3, 172]
abbrev dktJ20_equals_1 : List UInt8 := dkwJ20_equals_1 ++ []
def dkwJ20_equals_0 : List UInt8 := [42, 190, 43, 190, 160, 0, 30, 3, 61, 28, 42, 190, 162, 0, 20, 42, 28, 51, 43, 28, 51, 159, 0, 5]
abbrev dktJ20_equals_0 : List UInt8 := dkwJ20_equals_0 ++ dktJ20_equals_1
theorem dksJ20_equals_0 : cJ20_equals.data.toList.drop 0 = dktJ20_equals_0 := by decide +kernel
theorem dksJ20_equals_1 : cJ20_equals.data.toList.drop 24 = dktJ20_equals_1 := dk_seg dksJ20_equals_0 24 rfl rfl
theorem dJ20_equals_0 : decode cJ20_equals 0 = .ok (.aload_n 0, 1) := dk_42 (dk_at dksJ20_equals_0 0 rfl rfl)
theorem dJ20_equals_1 : decode cJ20_equals 1 = .ok (.arraylength, 1) := dk_190 (dk_at dksJ20_equals_0 1 rfl rfl)
theorem dJ20_equals_2 : decode cJ20_equals 2 = .ok (.aload_n 1, 1) := dk_43 (dk_at dksJ20_equals_0 2 rfl rfl)
theorem dJ20_equals_3 : decode cJ20_equals 3 = .ok (.arraylength, 1) := dk_190 (dk_at dksJ20_equals_0 3 rfl rfl)
theorem dJ20_equals_4 : decode cJ20_equals 4 = .ok (.if_icmp .ne 30, 3) := dk_160 0 30 (dk_at dksJ20_equals_0 4 rfl rfl)
theorem dJ20_equals_7 : decode cJ20_equals 7 = .ok (.iconst 0, 1) := dk_3 (dk_at dksJ20_equals_0 7 rfl rfl)
theorem dJ20_equals_8 : decode cJ20_equals 8 = .ok (.istore_n 2, 1) := dk_61 (dk_at dksJ20_equals_0 8 rfl rfl)
theorem dJ20_equals_9 : decode cJ20_equals 9 = .ok (.iload_n 2, 1) := dk_28 (dk_at dksJ20_equals_0 9 rfl rfl)
theorem dJ20_equals_10 : decode cJ20_equals 10 = .ok (.aload_n 0, 1) := dk_42 (dk_at dksJ20_equals_0 10 rfl rfl)
theorem dJ20_equals_11 : decode cJ20_equals 11 = .ok (.arraylength, 1) := dk_190 (dk_at dksJ20_equals_0 11 rfl rfl)
theorem dJ20_equals_12 : decode cJ20_equals 12 = .ok (.if_icmp .ge 20, 3) := dk_162 0 20 (dk_at dksJ20_equals_0 12 rfl rfl)
theorem dJ20_equals_15 : decode cJ20_equals 15 = .ok (.aload_n 0, 1) := dk_42 (dk_at dksJ20_equals_0 15 rfl rfl)
theorem dJ20_equals_16 : decode cJ20_equals 16 = .ok (.iload_n 2, 1) := dk_28 (dk_at dksJ20_equals_0 16 rfl rfl)
theorem dJ20_equals_17 : decode cJ20_equals 17 = .ok (.baload, 1) := dk_51 (dk_at dksJ20_equals_0 17 rfl rfl)
theorem dJ20_equals_18 : decode cJ20_equals 18 = .ok (.aload_n 1, 1) := dk_43 (dk_at dksJ20_equals_0 18 rfl rfl)
theorem dJ20_equals_19 : decode cJ20_equals 19 = .ok (.iload_n 2, 1) := dk_28 (dk_at dksJ20_equals_0 19 rfl rfl)
theorem dJ20_equals_20 : decode cJ20_equals 20 = .ok (.baload, 1) := dk_51 (dk_at dksJ20_equals_0 20 rfl rfl)
theorem dJ20_equals_21 : decode cJ20_equals 21 = .ok (.if_icmp .eq 5, 3) := dk_159 0 5 (dk_at dksJ20_equals_0 21 rfl rfl)
theorem dJ20_equals_24 : decode cJ20_equals 24 = .ok (.iconst 0, 1) := dk_3 (dk_at dksJ20_equals_1 0 rfl rfl)
theorem dJ20_equals_25 : decode cJ20_equals 25 = .ok (.ireturn, 1) := dk_172 (dk_at dksJ20_equals_1 1 rfl rfl)
theorem dJ20_equals_26 : decode cJ20_equals 26 = .ok (.iinc 2 1, 3) := dk_132 2 1 (dk_at dksJ20_equals_1 2 rfl rfl)
theorem dJ20_equals_29 : decode cJ20_equals 29 = .ok (.goto (-20), 3) := dk_167 255 236 (dk_at dksJ20_equals_1 5 rfl rfl)
theorem dJ20_equals_32 : decode cJ20_equals 32 = .ok (.iconst 1, 1) := dk_4 (dk_at dksJ20_equals_1 8 rfl rfl)
theorem dJ20_equals_33 : decode cJ20_equals 33 = .ok (.ireturn, 1) := dk_172 (dk_at dksJ20_equals_1 9 rfl rfl)
theorem dJ20_equals_34 : decode cJ20_equals 34 = .ok (.iconst 0, 1) := dk_3 (dk_at dksJ20_equals_1 10 rfl rfl)
theorem dJ20_equals_35 : decode cJ20_equals 35 = .ok (.ireturn, 1) := dk_172 (dk_at dksJ20_equals_1 11 rfl rfl)
abbrev cJ20_canEncode : ByteArray := prog_33_method_3_code
def yJ20_canEncode : MethodName := ⟨RJ20, "canEncode", "(C)Z"⟩
def dkwJ20_canEncode_0 : List UInt8 := [26, 17, 0, 255, 163, 0, 7, 4, 167, 0, 4, 3, 172]
abbrev dktJ20_canEncode_0 : List UInt8 := dkwJ20_canEncode_0 ++ []
theorem dksJ20_canEncode_0 : cJ20_canEncode.data.toList.drop 0 = dktJ20_canEncode_0 := by decide +kernel
theorem dJ20_canEncode_0 : decode cJ20_canEncode 0 = .ok (.iload_n 0, 1) := dk_26 (dk_at dksJ20_canEncode_0 0 rfl rfl)
theorem dJ20_canEncode_1 : decode cJ20_canEncode 1 = .ok (.sipush 255, 3) := dk_17 0 255 (dk_at dksJ20_canEncode_0 1 rfl rfl)
theorem dJ20_canEncode_4 : decode cJ20_canEncode 4 = .ok (.if_icmp .gt 7, 3) := dk_163 0 7 (dk_at dksJ20_canEncode_0 4 rfl rfl)
theorem dJ20_canEncode_7 : decode cJ20_canEncode 7 = .ok (.iconst 1, 1) := dk_4 (dk_at dksJ20_canEncode_0 7 rfl rfl)
theorem dJ20_canEncode_8 : decode cJ20_canEncode 8 = .ok (.goto 4, 3) := dk_167 0 4 (dk_at dksJ20_canEncode_0 8 rfl rfl)
theorem dJ20_canEncode_11 : decode cJ20_canEncode 11 = .ok (.iconst 0, 1) := dk_3 (dk_at dksJ20_canEncode_0 11 rfl rfl)
theorem dJ20_canEncode_12 : decode cJ20_canEncode 12 = .ok (.ireturn, 1) := dk_172 (dk_at dksJ20_canEncode_0 12 rfl rfl)
abbrev cJ20_charAt : ByteArray := prog_33_method_2_code
def yJ20_charAt : MethodName := ⟨RJ20, "charAt", "([BI)C"⟩
def dkwJ20_charAt_0 : List UInt8 := [27, 42, 190, 184, 0, 9, 42, 27, 51, 17, 0, 255, 126, 146, 172]
abbrev dktJ20_charAt_0 : List UInt8 := dkwJ20_charAt_0 ++ []
theorem dksJ20_charAt_0 : cJ20_charAt.data.toList.drop 0 = dktJ20_charAt_0 := by decide +kernel
theorem dJ20_charAt_0 : decode cJ20_charAt 0 = .ok (.iload_n 1, 1) := dk_27 (dk_at dksJ20_charAt_0 0 rfl rfl)
theorem dJ20_charAt_1 : decode cJ20_charAt 1 = .ok (.aload_n 0, 1) := dk_42 (dk_at dksJ20_charAt_0 1 rfl rfl)
theorem dJ20_charAt_2 : decode cJ20_charAt 2 = .ok (.arraylength, 1) := dk_190 (dk_at dksJ20_charAt_0 2 rfl rfl)
theorem dJ20_charAt_3 : decode cJ20_charAt 3 = .ok (.invokestatic 9, 3) := dk_184 0 9 (dk_at dksJ20_charAt_0 3 rfl rfl)
theorem dJ20_charAt_6 : decode cJ20_charAt 6 = .ok (.aload_n 0, 1) := dk_42 (dk_at dksJ20_charAt_0 6 rfl rfl)
theorem dJ20_charAt_7 : decode cJ20_charAt 7 = .ok (.iload_n 1, 1) := dk_27 (dk_at dksJ20_charAt_0 7 rfl rfl)
theorem dJ20_charAt_8 : decode cJ20_charAt 8 = .ok (.baload, 1) := dk_51 (dk_at dksJ20_charAt_0 8 rfl rfl)
theorem dJ20_charAt_9 : decode cJ20_charAt 9 = .ok (.sipush 255, 3) := dk_17 0 255 (dk_at dksJ20_charAt_0 9 rfl rfl)
theorem dJ20_charAt_12 : decode cJ20_charAt 12 = .ok (.iand, 1) := dk_126 (dk_at dksJ20_charAt_0 12 rfl rfl)
theorem dJ20_charAt_13 : decode cJ20_charAt 13 = .ok (.i2c, 1) := dk_146 (dk_at dksJ20_charAt_0 13 rfl rfl)
theorem dJ20_charAt_14 : decode cJ20_charAt 14 = .ok (.ireturn, 1) := dk_172 (dk_at dksJ20_charAt_0 14 rfl rfl)
theorem q95 : (Jvm.Cond.initialized "java/lang/StringLatin1") ∈ lw_all := lw_g (lw_at lw_m1 25 rfl) rfl
theorem q584 : (Jvm.Cond.static ({ cls := "java/lang/StringLatin1", name := "inflate", desc := "([BI[BII)V" } : Jvm.MethodName)) ∈ lw_all := lw_g (lw_at lw_m3 34 rfl) rfl
theorem q585 : (Jvm.Cond.code ({ cls := "java/lang/StringLatin1", name := "inflate", desc := "([BI[BII)V" } : Jvm.MethodName) prog_33_method_50_code (5 : Nat) (Option.none : Option Jvm.ClassFile.FieldType)) ∈ lw_all := lw_g (lw_at lw_m3 35 rfl) rfl
theorem q586 : (Jvm.Cond.methodLink "java/lang/StringLatin1" (240 : Nat) ({ cls := "java/lang/StringUTF16", name := "inflate", desc := "([BI[BII)V" } : Jvm.MethodName)) ∈ lw_all := lw_g (lw_at lw_m3 36 rfl) rfl
theorem q1149 : (Jvm.Cond.static ({ cls := "java/lang/StringLatin1", name := "hashCode", desc := "([B)I" } : Jvm.MethodName)) ∈ lw_all := lw_g (lw_at lw_m5 119 rfl) rfl
theorem q1150 : (Jvm.Cond.code ({ cls := "java/lang/StringLatin1", name := "hashCode", desc := "([B)I" } : Jvm.MethodName) prog_33_method_21_code (1 : Nat) (Option.some Jvm.ClassFile.FieldType.int)) ∈ lw_all := lw_g (lw_at lw_m5 120 rfl) rfl
theorem q1151 : (Jvm.Cond.methodLink "java/lang/StringLatin1" (84 : Nat) ({ cls := "jdk/internal/util/ArraysSupport", name := "vectorizedHashCode", desc := "(Ljava/lang/Object;IIII)I" } : Jvm.MethodName)) ∈ lw_all := lw_g (lw_at lw_m5 121 rfl) rfl
theorem q1208 : (Jvm.Cond.static ({ cls := "java/lang/StringLatin1", name := "equals", desc := "([B[B)Z" } : Jvm.MethodName)) ∈ lw_all := lw_g (lw_at lw_m5 178 rfl) rfl
theorem q1209 : (Jvm.Cond.code ({ cls := "java/lang/StringLatin1", name := "equals", desc := "([B[B)Z" } : Jvm.MethodName) prog_33_method_13_code (3 : Nat) (Option.some Jvm.ClassFile.FieldType.boolean)) ∈ lw_all := lw_g (lw_at lw_m5 179 rfl) rfl
theorem q2010 : (Jvm.Cond.static ({ cls := "java/lang/StringLatin1", name := "canEncode", desc := "(C)Z" } : Jvm.MethodName)) ∈ lw_all := lw_g (lw_at lw_m9 20 rfl) rfl
theorem q2011 : (Jvm.Cond.code ({ cls := "java/lang/StringLatin1", name := "canEncode", desc := "(C)Z" } : Jvm.MethodName) prog_33_method_3_code (1 : Nat) (Option.some Jvm.ClassFile.FieldType.boolean)) ∈ lw_all := lw_g (lw_at lw_m9 21 rfl) rfl
theorem q2036 : (Jvm.Cond.static ({ cls := "java/lang/StringLatin1", name := "charAt", desc := "([BI)C" } : Jvm.MethodName)) ∈ lw_all := lw_g (lw_at lw_m9 46 rfl) rfl
theorem q2037 : (Jvm.Cond.code ({ cls := "java/lang/StringLatin1", name := "charAt", desc := "([BI)C" } : Jvm.MethodName) prog_33_method_2_code (2 : Nat) (Option.some Jvm.ClassFile.FieldType.char)) ∈ lw_all := lw_g (lw_at lw_m9 47 rfl) rfl
theorem q2038 : (Jvm.Cond.methodLink "java/lang/StringLatin1" (9 : Nat) ({ cls := "java/lang/String", name := "checkIndex", desc := "(II)V" } : Jvm.MethodName)) ∈ lw_all := lw_g (lw_at lw_m9 48 rfl) rfl

/-! java/lang/Number -/
set_option maxRecDepth 100000
def RJ21 : String := "java/lang/Number"
abbrev cJ21_init : ByteArray := prog_29_method_1_code
def yJ21_init : MethodName := ⟨RJ21, "<init>", "()V"⟩
theorem dJ21_init_0 : decode cJ21_init 0 = .ok (.aload_n 0, 1) := by decide +kernel
theorem dJ21_init_1 : decode cJ21_init 1 = .ok (.invokespecial 1, 3) := by decide +kernel
theorem dJ21_init_4 : decode cJ21_init 4 = .ok (.return_, 1) := by decide +kernel
theorem q96 : (Jvm.Cond.initialized "java/lang/Number") ∈ lw_all := lw_g (lw_at lw_m1 26 rfl) rfl
theorem q1446 : (Jvm.Cond.instanceMethod ({ cls := "java/lang/Number", name := "<init>", desc := "()V" } : Jvm.MethodName)) ∈ lw_all := lw_g (lw_at lw_m6 176 rfl) rfl
theorem q1447 : (Jvm.Cond.code ({ cls := "java/lang/Number", name := "<init>", desc := "()V" } : Jvm.MethodName) prog_29_method_1_code (1 : Nat) (Option.none : Option Jvm.ClassFile.FieldType)) ∈ lw_all := lw_g (lw_at lw_m6 177 rfl) rfl
theorem q1448 : (Jvm.Cond.methodLink "java/lang/Number" (1 : Nat) ({ cls := "java/lang/Object", name := "<init>", desc := "()V" } : Jvm.MethodName)) ∈ lw_all := lw_g (lw_at lw_m6 178 rfl) rfl

/-! java/lang/Integer -/
set_option maxRecDepth 100000
def RJ22 : String := "java/lang/Integer"
def TJ22 : u_T := fun k => match k with
  | _ => ("java/lang/Integer", "value", "I", true)
def tyJ22 : Nat → FieldType := fun k => match k with
  | _ => .int
abbrev wsJ220 : List Cond := u_ws RJ22 TJ22 1
theorem nmJ22 : ∀ a, a < 1 → ∀ b, b < 1 → a ≠ b → (TJ22 a).2.1 ≠ (TJ22 b).2.1 := by decide +kernel
theorem tyJ22_ok : ∀ k, k < 1 → parseFieldDescriptor (TJ22 k).2.2.1 = some (tyJ22 k) := by decide +kernel
abbrev cJ22_stringSize : ByteArray := prog_24_method_13_code
def yJ22_stringSize : MethodName := ⟨RJ22, "stringSize", "(I)I"⟩
def dkwJ22_stringSize_1 : List UInt8 := [164, 0, 7, 29, 27, 96, 172, 16, 10, 28, 104, 61, 132, 3, 1, 167, 255, 233, 16, 10, 27, 96, 172]
abbrev dktJ22_stringSize_1 : List UInt8 := dkwJ22_stringSize_1 ++ []
def dkwJ22_stringSize_0 : List UInt8 := [4, 60, 26, 155, 0, 8, 3, 60, 26, 116, 59, 16, 246, 61, 4, 62, 29, 16, 10, 162, 0, 23, 26, 28]
abbrev dktJ22_stringSize_0 : List UInt8 := dkwJ22_stringSize_0 ++ dktJ22_stringSize_1
theorem dksJ22_stringSize_0 : cJ22_stringSize.data.toList.drop 0 = dktJ22_stringSize_0 := by decide +kernel
theorem dksJ22_stringSize_1 : cJ22_stringSize.data.toList.drop 24 = dktJ22_stringSize_1 := dk_seg dksJ22_stringSize_0 24 rfl rfl
theorem dJ22_stringSize_0 : decode cJ22_stringSize 0 = .ok (.iconst 1, 1) := dk_4 (dk_at dksJ22_stringSize_0 0 rfl rfl)
theorem dJ22_stringSize_1 : decode cJ22_stringSize 1 = .ok (.istore_n 1, 1) := dk_60 (dk_at dksJ22_stringSize_0 1 rfl rfl)
theorem dJ22_stringSize_2 : decode cJ22_stringSize 2 = .ok (.iload_n 0, 1) := dk_26 (dk_at dksJ22_stringSize_0 2 rfl rfl)
theorem dJ22_stringSize_3 : decode cJ22_stringSize 3 = .ok (.ifCond .lt 8, 3) := dk_155 0 8 (dk_at dksJ22_stringSize_0 3 rfl rfl)
theorem dJ22_stringSize_6 : decode cJ22_stringSize 6 = .ok (.iconst 0, 1) := dk_3 (dk_at dksJ22_stringSize_0 6 rfl rfl)
theorem dJ22_stringSize_7 : decode cJ22_stringSize 7 = .ok (.istore_n 1, 1) := dk_60 (dk_at dksJ22_stringSize_0 7 rfl rfl)
theorem dJ22_stringSize_8 : decode cJ22_stringSize 8 = .ok (.iload_n 0, 1) := dk_26 (dk_at dksJ22_stringSize_0 8 rfl rfl)
theorem dJ22_stringSize_9 : decode cJ22_stringSize 9 = .ok (.ineg, 1) := dk_116 (dk_at dksJ22_stringSize_0 9 rfl rfl)
theorem dJ22_stringSize_10 : decode cJ22_stringSize 10 = .ok (.istore_n 0, 1) := dk_59 (dk_at dksJ22_stringSize_0 10 rfl rfl)
theorem dJ22_stringSize_11 : decode cJ22_stringSize 11 = .ok (.bipush (-10), 2) := dk_16 246 (dk_at dksJ22_stringSize_0 11 rfl rfl)
theorem dJ22_stringSize_13 : decode cJ22_stringSize 13 = .ok (.istore_n 2, 1) := dk_61 (dk_at dksJ22_stringSize_0 13 rfl rfl)
theorem dJ22_stringSize_14 : decode cJ22_stringSize 14 = .ok (.iconst 1, 1) := dk_4 (dk_at dksJ22_stringSize_0 14 rfl rfl)
theorem dJ22_stringSize_15 : decode cJ22_stringSize 15 = .ok (.istore_n 3, 1) := dk_62 (dk_at dksJ22_stringSize_0 15 rfl rfl)
theorem dJ22_stringSize_16 : decode cJ22_stringSize 16 = .ok (.iload_n 3, 1) := dk_29 (dk_at dksJ22_stringSize_0 16 rfl rfl)
theorem dJ22_stringSize_17 : decode cJ22_stringSize 17 = .ok (.bipush 10, 2) := dk_16 10 (dk_at dksJ22_stringSize_0 17 rfl rfl)
theorem dJ22_stringSize_19 : decode cJ22_stringSize 19 = .ok (.if_icmp .ge 23, 3) := dk_162 0 23 (dk_at dksJ22_stringSize_0 19 rfl rfl)
theorem dJ22_stringSize_22 : decode cJ22_stringSize 22 = .ok (.iload_n 0, 1) := dk_26 (dk_at dksJ22_stringSize_0 22 rfl rfl)
theorem dJ22_stringSize_23 : decode cJ22_stringSize 23 = .ok (.iload_n 2, 1) := dk_28 (dk_at dksJ22_stringSize_0 23 rfl rfl)
theorem dJ22_stringSize_24 : decode cJ22_stringSize 24 = .ok (.if_icmp .le 7, 3) := dk_164 0 7 (dk_at dksJ22_stringSize_1 0 rfl rfl)
theorem dJ22_stringSize_27 : decode cJ22_stringSize 27 = .ok (.iload_n 3, 1) := dk_29 (dk_at dksJ22_stringSize_1 3 rfl rfl)
theorem dJ22_stringSize_28 : decode cJ22_stringSize 28 = .ok (.iload_n 1, 1) := dk_27 (dk_at dksJ22_stringSize_1 4 rfl rfl)
theorem dJ22_stringSize_29 : decode cJ22_stringSize 29 = .ok (.iadd, 1) := dk_96 (dk_at dksJ22_stringSize_1 5 rfl rfl)
theorem dJ22_stringSize_30 : decode cJ22_stringSize 30 = .ok (.ireturn, 1) := dk_172 (dk_at dksJ22_stringSize_1 6 rfl rfl)
theorem dJ22_stringSize_31 : decode cJ22_stringSize 31 = .ok (.bipush 10, 2) := dk_16 10 (dk_at dksJ22_stringSize_1 7 rfl rfl)
theorem dJ22_stringSize_33 : decode cJ22_stringSize 33 = .ok (.iload_n 2, 1) := dk_28 (dk_at dksJ22_stringSize_1 9 rfl rfl)
theorem dJ22_stringSize_34 : decode cJ22_stringSize 34 = .ok (.imul, 1) := dk_104 (dk_at dksJ22_stringSize_1 10 rfl rfl)
theorem dJ22_stringSize_35 : decode cJ22_stringSize 35 = .ok (.istore_n 2, 1) := dk_61 (dk_at dksJ22_stringSize_1 11 rfl rfl)
theorem dJ22_stringSize_36 : decode cJ22_stringSize 36 = .ok (.iinc 3 1, 3) := dk_132 3 1 (dk_at dksJ22_stringSize_1 12 rfl rfl)
theorem dJ22_stringSize_39 : decode cJ22_stringSize 39 = .ok (.goto (-23), 3) := dk_167 255 233 (dk_at dksJ22_stringSize_1 15 rfl rfl)
theorem dJ22_stringSize_42 : decode cJ22_stringSize 42 = .ok (.bipush 10, 2) := dk_16 10 (dk_at dksJ22_stringSize_1 18 rfl rfl)
theorem dJ22_stringSize_44 : decode cJ22_stringSize 44 = .ok (.iload_n 1, 1) := dk_27 (dk_at dksJ22_stringSize_1 20 rfl rfl)
theorem dJ22_stringSize_45 : decode cJ22_stringSize 45 = .ok (.iadd, 1) := dk_96 (dk_at dksJ22_stringSize_1 21 rfl rfl)
theorem dJ22_stringSize_46 : decode cJ22_stringSize 46 = .ok (.ireturn, 1) := dk_172 (dk_at dksJ22_stringSize_1 22 rfl rfl)
abbrev cJ22_getChars : ByteArray := prog_24_method_12_code
def yJ22_getChars : MethodName := ⟨RJ22, "getChars", "(II[B)I"⟩
def dkwJ22_getChars_5 : List UInt8 := [16, 45, 84, 21, 5, 172]
abbrev dktJ22_getChars_5 : List UInt8 := dkwJ22_getChars_5 ++ []
def dkwJ22_getChars_4 : List UInt8 := [132, 5, 255, 21, 5, 178, 0, 87, 26, 116, 51, 84, 21, 6, 153, 0, 12, 44, 132, 5, 255, 21, 5]
abbrev dktJ22_getChars_4 : List UInt8 := dkwJ22_getChars_4 ++ dktJ22_getChars_5
def dkwJ22_getChars_3 : List UInt8 := [167, 255, 209, 44, 132, 5, 255, 21, 5, 178, 0, 83, 26, 116, 51, 84, 26, 16, 247, 162, 0, 16, 44]
abbrev dktJ22_getChars_3 : List UInt8 := dkwJ22_getChars_3 ++ dktJ22_getChars_4
def dkwJ22_getChars_2 : List UInt8 := [21, 5, 178, 0, 83, 21, 4, 51, 84, 44, 132, 5, 255, 21, 5, 178, 0, 87, 21, 4, 51, 84]
abbrev dktJ22_getChars_2 : List UInt8 := dkwJ22_getChars_2 ++ dktJ22_getChars_3
def dkwJ22_getChars_1 : List UInt8 := [16, 156, 163, 0, 47, 26, 16, 100, 108, 62, 29, 16, 100, 104, 26, 100, 54, 4, 29, 59, 44, 132, 5, 255]
abbrev dktJ22_getChars_1 : List UInt8 := dkwJ22_getChars_1 ++ dktJ22_getChars_2
def dkwJ22_getChars_0 : List UInt8 := [27, 54, 5, 26, 156, 0, 7, 4, 167, 0, 4, 3, 54, 6, 21, 6, 154, 0, 6, 26, 116, 59, 26]
abbrev dktJ22_getChars_0 : List UInt8 := dkwJ22_getChars_0 ++ dktJ22_getChars_1
theorem dksJ22_getChars_0 : cJ22_getChars.data.toList.drop 0 = dktJ22_getChars_0 := by decide +kernel
theorem dksJ22_getChars_1 : cJ22_getChars.data.toList.drop 23 = dktJ22_getChars_1 := dk_seg dksJ22_getChars_0 23 rfl rfl
theorem dksJ22_getChars_2 : cJ22_getChars.data.toList.drop 47 = dktJ22_getChars_2 := dk_seg dksJ22_getChars_1 24 rfl rfl
theorem dksJ22_getChars_3 : cJ22_getChars.data.toList.drop 69 = dktJ22_getChars_3 := dk_seg dksJ22_getChars_2 22 rfl rfl
theorem dksJ22_getChars_4 : cJ22_getChars.data.toList.drop 92 = dktJ22_getChars_4 := dk_seg dksJ22_getChars_3 23 rfl rfl
theorem dksJ22_getChars_5 : cJ22_getChars.data.toList.drop 115 = dktJ22_getChars_5 := dk_seg dksJ22_getChars_4 23 rfl rfl
theorem dJ22_getChars_0 : decode cJ22_getChars 0 = .ok (.iload_n 1, 1) := dk_27 (dk_at dksJ22_getChars_0 0 rfl rfl)
theorem dJ22_getChars_1 : decode cJ22_getChars 1 = .ok (.istore 5, 2) := dk_54 5 (dk_at dksJ22_getChars_0 1 rfl rfl)
theorem dJ22_getChars_3 : decode cJ22_getChars 3 = .ok (.iload_n 0, 1) := dk_26 (dk_at dksJ22_getChars_0 3 rfl rfl)
theorem dJ22_getChars_4 : decode cJ22_getChars 4 = .ok (.ifCond .ge 7, 3) := dk_156 0 7 (dk_at dksJ22_getChars_0 4 rfl rfl)
theorem dJ22_getChars_7 : decode cJ22_getChars 7 = .ok (.iconst 1, 1) := dk_4 (dk_at dksJ22_getChars_0 7 rfl rfl)
theorem dJ22_getChars_8 : decode cJ22_getChars 8 = .ok (.goto 4, 3) := dk_167 0 4 (dk_at dksJ22_getChars_0 8 rfl rfl)
theorem dJ22_getChars_11 : decode cJ22_getChars 11 = .ok (.iconst 0, 1) := dk_3 (dk_at dksJ22_getChars_0 11 rfl rfl)
theorem dJ22_getChars_12 : decode cJ22_getChars 12 = .ok (.istore 6, 2) := dk_54 6 (dk_at dksJ22_getChars_0 12 rfl rfl)
theorem dJ22_getChars_14 : decode cJ22_getChars 14 = .ok (.iload 6, 2) := dk_21 6 (dk_at dksJ22_getChars_0 14 rfl rfl)
theorem dJ22_getChars_16 : decode cJ22_getChars 16 = .ok (.ifCond .ne 6, 3) := dk_154 0 6 (dk_at dksJ22_getChars_0 16 rfl rfl)
theorem dJ22_getChars_19 : decode cJ22_getChars 19 = .ok (.iload_n 0, 1) := dk_26 (dk_at dksJ22_getChars_0 19 rfl rfl)
theorem dJ22_getChars_20 : decode cJ22_getChars 20 = .ok (.ineg, 1) := dk_116 (dk_at dksJ22_getChars_0 20 rfl rfl)
theorem dJ22_getChars_21 : decode cJ22_getChars 21 = .ok (.istore_n 0, 1) := dk_59 (dk_at dksJ22_getChars_0 21 rfl rfl)
theorem dJ22_getChars_22 : decode cJ22_getChars 22 = .ok (.iload_n 0, 1) := dk_26 (dk_at dksJ22_getChars_0 22 rfl rfl)
theorem dJ22_getChars_23 : decode cJ22_getChars 23 = .ok (.bipush (-100), 2) := dk_16 156 (dk_at dksJ22_getChars_1 0 rfl rfl)
theorem dJ22_getChars_25 : decode cJ22_getChars 25 = .ok (.if_icmp .gt 47, 3) := dk_163 0 47 (dk_at dksJ22_getChars_1 2 rfl rfl)
theorem dJ22_getChars_28 : decode cJ22_getChars 28 = .ok (.iload_n 0, 1) := dk_26 (dk_at dksJ22_getChars_1 5 rfl rfl)
theorem dJ22_getChars_29 : decode cJ22_getChars 29 = .ok (.bipush 100, 2) := dk_16 100 (dk_at dksJ22_getChars_1 6 rfl rfl)
theorem dJ22_getChars_31 : decode cJ22_getChars 31 = .ok (.idiv, 1) := dk_108 (dk_at dksJ22_getChars_1 8 rfl rfl)
theorem dJ22_getChars_32 : decode cJ22_getChars 32 = .ok (.istore_n 3, 1) := dk_62 (dk_at dksJ22_getChars_1 9 rfl rfl)
theorem dJ22_getChars_33 : decode cJ22_getChars 33 = .ok (.iload_n 3, 1) := dk_29 (dk_at dksJ22_getChars_1 10 rfl rfl)
theorem dJ22_getChars_34 : decode cJ22_getChars 34 = .ok (.bipush 100, 2) := dk_16 100 (dk_at dksJ22_getChars_1 11 rfl rfl)
theorem dJ22_getChars_36 : decode cJ22_getChars 36 = .ok (.imul, 1) := dk_104 (dk_at dksJ22_getChars_1 13 rfl rfl)
theorem dJ22_getChars_37 : decode cJ22_getChars 37 = .ok (.iload_n 0, 1) := dk_26 (dk_at dksJ22_getChars_1 14 rfl rfl)
theorem dJ22_getChars_38 : decode cJ22_getChars 38 = .ok (.isub, 1) := dk_100 (dk_at dksJ22_getChars_1 15 rfl rfl)
theorem dJ22_getChars_39 : decode cJ22_getChars 39 = .ok (.istore 4, 2) := dk_54 4 (dk_at dksJ22_getChars_1 16 rfl rfl)
theorem dJ22_getChars_41 : decode cJ22_getChars 41 = .ok (.iload_n 3, 1) := dk_29 (dk_at dksJ22_getChars_1 18 rfl rfl)
theorem dJ22_getChars_42 : decode cJ22_getChars 42 = .ok (.istore_n 0, 1) := dk_59 (dk_at dksJ22_getChars_1 19 rfl rfl)
theorem dJ22_getChars_43 : decode cJ22_getChars 43 = .ok (.aload_n 2, 1) := dk_44 (dk_at dksJ22_getChars_1 20 rfl rfl)
theorem dJ22_getChars_44 : decode cJ22_getChars 44 = .ok (.iinc 5 (-1), 3) := dk_132 5 255 (dk_at dksJ22_getChars_1 21 rfl rfl)
theorem dJ22_getChars_47 : decode cJ22_getChars 47 = .ok (.iload 5, 2) := dk_21 5 (dk_at dksJ22_getChars_2 0 rfl rfl)
theorem dJ22_getChars_49 : decode cJ22_getChars 49 = .ok (.getstatic 83, 3) := dk_178 0 83 (dk_at dksJ22_getChars_2 2 rfl rfl)
theorem dJ22_getChars_52 : decode cJ22_getChars 52 = .ok (.iload 4, 2) := dk_21 4 (dk_at dksJ22_getChars_2 5 rfl rfl)
theorem dJ22_getChars_54 : decode cJ22_getChars 54 = .ok (.baload, 1) := dk_51 (dk_at dksJ22_getChars_2 7 rfl rfl)
theorem dJ22_getChars_55 : decode cJ22_getChars 55 = .ok (.bastore, 1) := dk_84 (dk_at dksJ22_getChars_2 8 rfl rfl)
theorem dJ22_getChars_56 : decode cJ22_getChars 56 = .ok (.aload_n 2, 1) := dk_44 (dk_at dksJ22_getChars_2 9 rfl rfl)
theorem dJ22_getChars_57 : decode cJ22_getChars 57 = .ok (.iinc 5 (-1), 3) := dk_132 5 255 (dk_at dksJ22_getChars_2 10 rfl rfl)
theorem dJ22_getChars_60 : decode cJ22_getChars 60 = .ok (.iload 5, 2) := dk_21 5 (dk_at dksJ22_getChars_2 13 rfl rfl)
theorem dJ22_getChars_62 : decode cJ22_getChars 62 = .ok (.getstatic 87, 3) := dk_178 0 87 (dk_at dksJ22_getChars_2 15 rfl rfl)
theorem dJ22_getChars_65 : decode cJ22_getChars 65 = .ok (.iload 4, 2) := dk_21 4 (dk_at dksJ22_getChars_2 18 rfl rfl)
theorem dJ22_getChars_67 : decode cJ22_getChars 67 = .ok (.baload, 1) := dk_51 (dk_at dksJ22_getChars_2 20 rfl rfl)
theorem dJ22_getChars_68 : decode cJ22_getChars 68 = .ok (.bastore, 1) := dk_84 (dk_at dksJ22_getChars_2 21 rfl rfl)
theorem dJ22_getChars_69 : decode cJ22_getChars 69 = .ok (.goto (-47), 3) := dk_167 255 209 (dk_at dksJ22_getChars_3 0 rfl rfl)
theorem dJ22_getChars_72 : decode cJ22_getChars 72 = .ok (.aload_n 2, 1) := dk_44 (dk_at dksJ22_getChars_3 3 rfl rfl)
theorem dJ22_getChars_73 : decode cJ22_getChars 73 = .ok (.iinc 5 (-1), 3) := dk_132 5 255 (dk_at dksJ22_getChars_3 4 rfl rfl)
theorem dJ22_getChars_76 : decode cJ22_getChars 76 = .ok (.iload 5, 2) := dk_21 5 (dk_at dksJ22_getChars_3 7 rfl rfl)
theorem dJ22_getChars_78 : decode cJ22_getChars 78 = .ok (.getstatic 83, 3) := dk_178 0 83 (dk_at dksJ22_getChars_3 9 rfl rfl)
theorem dJ22_getChars_81 : decode cJ22_getChars 81 = .ok (.iload_n 0, 1) := dk_26 (dk_at dksJ22_getChars_3 12 rfl rfl)
theorem dJ22_getChars_82 : decode cJ22_getChars 82 = .ok (.ineg, 1) := dk_116 (dk_at dksJ22_getChars_3 13 rfl rfl)
theorem dJ22_getChars_83 : decode cJ22_getChars 83 = .ok (.baload, 1) := dk_51 (dk_at dksJ22_getChars_3 14 rfl rfl)
theorem dJ22_getChars_84 : decode cJ22_getChars 84 = .ok (.bastore, 1) := dk_84 (dk_at dksJ22_getChars_3 15 rfl rfl)
theorem dJ22_getChars_85 : decode cJ22_getChars 85 = .ok (.iload_n 0, 1) := dk_26 (dk_at dksJ22_getChars_3 16 rfl rfl)
theorem dJ22_getChars_86 : decode cJ22_getChars 86 = .ok (.bipush (-9), 2) := dk_16 247 (dk_at dksJ22_getChars_3 17 rfl rfl)
theorem dJ22_getChars_88 : decode cJ22_getChars 88 = .ok (.if_icmp .ge 16, 3) := dk_162 0 16 (dk_at dksJ22_getChars_3 19 rfl rfl)
theorem dJ22_getChars_91 : decode cJ22_getChars 91 = .ok (.aload_n 2, 1) := dk_44 (dk_at dksJ22_getChars_3 22 rfl rfl)
theorem dJ22_getChars_92 : decode cJ22_getChars 92 = .ok (.iinc 5 (-1), 3) := dk_132 5 255 (dk_at dksJ22_getChars_4 0 rfl rfl)
theorem dJ22_getChars_95 : decode cJ22_getChars 95 = .ok (.iload 5, 2) := dk_21 5 (dk_at dksJ22_getChars_4 3 rfl rfl)
theorem dJ22_getChars_97 : decode cJ22_getChars 97 = .ok (.getstatic 87, 3) := dk_178 0 87 (dk_at dksJ22_getChars_4 5 rfl rfl)
theorem dJ22_getChars_100 : decode cJ22_getChars 100 = .ok (.iload_n 0, 1) := dk_26 (dk_at dksJ22_getChars_4 8 rfl rfl)
theorem dJ22_getChars_101 : decode cJ22_getChars 101 = .ok (.ineg, 1) := dk_116 (dk_at dksJ22_getChars_4 9 rfl rfl)
theorem dJ22_getChars_102 : decode cJ22_getChars 102 = .ok (.baload, 1) := dk_51 (dk_at dksJ22_getChars_4 10 rfl rfl)
theorem dJ22_getChars_103 : decode cJ22_getChars 103 = .ok (.bastore, 1) := dk_84 (dk_at dksJ22_getChars_4 11 rfl rfl)
theorem dJ22_getChars_104 : decode cJ22_getChars 104 = .ok (.iload 6, 2) := dk_21 6 (dk_at dksJ22_getChars_4 12 rfl rfl)
theorem dJ22_getChars_106 : decode cJ22_getChars 106 = .ok (.ifCond .eq 12, 3) := dk_153 0 12 (dk_at dksJ22_getChars_4 14 rfl rfl)
theorem dJ22_getChars_109 : decode cJ22_getChars 109 = .ok (.aload_n 2, 1) := dk_44 (dk_at dksJ22_getChars_4 17 rfl rfl)
theorem dJ22_getChars_110 : decode cJ22_getChars 110 = .ok (.iinc 5 (-1), 3) := dk_132 5 255 (dk_at dksJ22_getChars_4 18 rfl rfl)
theorem dJ22_getChars_113 : decode cJ22_getChars 113 = .ok (.iload 5, 2) := dk_21 5 (dk_at dksJ22_getChars_4 21 rfl rfl)
theorem dJ22_getChars_115 : decode cJ22_getChars 115 = .ok (.bipush 45, 2) := dk_16 45 (dk_at dksJ22_getChars_5 0 rfl rfl)
theorem dJ22_getChars_117 : decode cJ22_getChars 117 = .ok (.bastore, 1) := dk_84 (dk_at dksJ22_getChars_5 2 rfl rfl)
theorem dJ22_getChars_118 : decode cJ22_getChars 118 = .ok (.iload 5, 2) := dk_21 5 (dk_at dksJ22_getChars_5 3 rfl rfl)
theorem dJ22_getChars_120 : decode cJ22_getChars 120 = .ok (.ireturn, 1) := dk_172 (dk_at dksJ22_getChars_5 5 rfl rfl)
abbrev cJ22_valueOf : ByteArray := prog_24_method_22_code
def yJ22_valueOf : MethodName := ⟨RJ22, "valueOf", "(I)Ljava/lang/Integer;"⟩
def dkwJ22_valueOf_1 : List UInt8 := [187, 0, 1, 89, 26, 183, 0, 199, 176]
abbrev dktJ22_valueOf_1 : List UInt8 := dkwJ22_valueOf_1 ++ []
def dkwJ22_valueOf_0 : List UInt8 := [26, 16, 128, 161, 0, 20, 26, 178, 0, 191, 163, 0, 13, 178, 0, 195, 26, 17, 0, 128, 96, 50, 176]
abbrev dktJ22_valueOf_0 : List UInt8 := dkwJ22_valueOf_0 ++ dktJ22_valueOf_1
theorem dksJ22_valueOf_0 : cJ22_valueOf.data.toList.drop 0 = dktJ22_valueOf_0 := by decide +kernel
theorem dksJ22_valueOf_1 : cJ22_valueOf.data.toList.drop 23 = dktJ22_valueOf_1 := dk_seg dksJ22_valueOf_0 23 rfl rfl
theorem dJ22_valueOf_0 : decode cJ22_valueOf 0 = .ok (.iload_n 0, 1) := dk_26 (dk_at dksJ22_valueOf_0 0 rfl rfl)
theorem dJ22_valueOf_1 : decode cJ22_valueOf 1 = .ok (.bipush (-128), 2) := dk_16 128 (dk_at dksJ22_valueOf_0 1 rfl rfl)
theorem dJ22_valueOf_3 : decode cJ22_valueOf 3 = .ok (.if_icmp .lt 20, 3) := dk_161 0 20 (dk_at dksJ22_valueOf_0 3 rfl rfl)
theorem dJ22_valueOf_6 : decode cJ22_valueOf 6 = .ok (.iload_n 0, 1) := dk_26 (dk_at dksJ22_valueOf_0 6 rfl rfl)
theorem dJ22_valueOf_7 : decode cJ22_valueOf 7 = .ok (.getstatic 191, 3) := dk_178 0 191 (dk_at dksJ22_valueOf_0 7 rfl rfl)
theorem dJ22_valueOf_10 : decode cJ22_valueOf 10 = .ok (.if_icmp .gt 13, 3) := dk_163 0 13 (dk_at dksJ22_valueOf_0 10 rfl rfl)
theorem dJ22_valueOf_13 : decode cJ22_valueOf 13 = .ok (.getstatic 195, 3) := dk_178 0 195 (dk_at dksJ22_valueOf_0 13 rfl rfl)
theorem dJ22_valueOf_16 : decode cJ22_valueOf 16 = .ok (.iload_n 0, 1) := dk_26 (dk_at dksJ22_valueOf_0 16 rfl rfl)
theorem dJ22_valueOf_17 : decode cJ22_valueOf 17 = .ok (.sipush 128, 3) := dk_17 0 128 (dk_at dksJ22_valueOf_0 17 rfl rfl)
theorem dJ22_valueOf_20 : decode cJ22_valueOf 20 = .ok (.iadd, 1) := dk_96 (dk_at dksJ22_valueOf_0 20 rfl rfl)
theorem dJ22_valueOf_21 : decode cJ22_valueOf 21 = .ok (.aaload, 1) := dk_50 (dk_at dksJ22_valueOf_0 21 rfl rfl)
theorem dJ22_valueOf_22 : decode cJ22_valueOf 22 = .ok (.areturn, 1) := dk_176 (dk_at dksJ22_valueOf_0 22 rfl rfl)
theorem dJ22_valueOf_23 : decode cJ22_valueOf 23 = .ok (.new 1, 3) := dk_187 0 1 (dk_at dksJ22_valueOf_1 0 rfl rfl)
theorem dJ22_valueOf_26 : decode cJ22_valueOf 26 = .ok (.dup, 1) := dk_89 (dk_at dksJ22_valueOf_1 3 rfl rfl)
theorem dJ22_valueOf_27 : decode cJ22_valueOf 27 = .ok (.iload_n 0, 1) := dk_26 (dk_at dksJ22_valueOf_1 4 rfl rfl)
theorem dJ22_valueOf_28 : decode cJ22_valueOf 28 = .ok (.invokespecial 199, 3) := dk_183 0 199 (dk_at dksJ22_valueOf_1 5 rfl rfl)
theorem dJ22_valueOf_31 : decode cJ22_valueOf 31 = .ok (.areturn, 1) := dk_176 (dk_at dksJ22_valueOf_1 8 rfl rfl)
abbrev cJ22_init : ByteArray := prog_24_method_23_code
def yJ22_init : MethodName := ⟨RJ22, "<init>", "(I)V"⟩
def dkwJ22_init_0 : List UInt8 := [42, 183, 0, 202, 42, 27, 181, 0, 205, 177]
abbrev dktJ22_init_0 : List UInt8 := dkwJ22_init_0 ++ []
theorem dksJ22_init_0 : cJ22_init.data.toList.drop 0 = dktJ22_init_0 := by decide +kernel
theorem dJ22_init_0 : decode cJ22_init 0 = .ok (.aload_n 0, 1) := dk_42 (dk_at dksJ22_init_0 0 rfl rfl)
theorem dJ22_init_1 : decode cJ22_init 1 = .ok (.invokespecial 202, 3) := dk_183 0 202 (dk_at dksJ22_init_0 1 rfl rfl)
theorem dJ22_init_4 : decode cJ22_init 4 = .ok (.aload_n 0, 1) := dk_42 (dk_at dksJ22_init_0 4 rfl rfl)
theorem dJ22_init_5 : decode cJ22_init 5 = .ok (.iload_n 1, 1) := dk_27 (dk_at dksJ22_init_0 5 rfl rfl)
theorem dJ22_init_6 : decode cJ22_init 6 = .ok (.putfield 205, 3) := dk_181 0 205 (dk_at dksJ22_init_0 6 rfl rfl)
theorem dJ22_init_9 : decode cJ22_init 9 = .ok (.return_, 1) := dk_177 (dk_at dksJ22_init_0 9 rfl rfl)
abbrev cJ22_numberOfLeadingZeros : ByteArray := prog_24_method_47_code
def yJ22_numberOfLeadingZeros : MethodName := ⟨RJ22, "numberOfLeadingZeros", "(I)I"⟩
def dkwJ22_numberOfLeadingZeros_3 : List UInt8 := [5, 124, 59, 27, 26, 4, 124, 100, 172]
abbrev dktJ22_numberOfLeadingZeros_3 : List UInt8 := dkwJ22_numberOfLeadingZeros_3 ++ []
def dkwJ22_numberOfLeadingZeros_2 : List UInt8 := [124, 59, 26, 16, 16, 161, 0, 10, 132, 1, 252, 26, 7, 124, 59, 26, 7, 161, 0, 10, 132, 1, 254, 26]
abbrev dktJ22_numberOfLeadingZeros_2 : List UInt8 := dkwJ22_numberOfLeadingZeros_2 ++ dktJ22_numberOfLeadingZeros_3
def dkwJ22_numberOfLeadingZeros_1 : List UInt8 := [161, 0, 11, 132, 1, 240, 26, 16, 16, 124, 59, 26, 17, 1, 0, 161, 0, 11, 132, 1, 248, 26, 16, 8]
abbrev dktJ22_numberOfLeadingZeros_1 : List UInt8 := dkwJ22_numberOfLeadingZeros_1 ++ dktJ22_numberOfLeadingZeros_2
def dkwJ22_numberOfLeadingZeros_0 : List UInt8 := [26, 157, 0, 14, 26, 154, 0, 8, 16, 32, 167, 0, 4, 3, 172, 16, 31, 60, 26, 19, 1, 8]
abbrev dktJ22_numberOfLeadingZeros_0 : List UInt8 := dkwJ22_numberOfLeadingZeros_0 ++ dktJ22_numberOfLeadingZeros_1
theorem dksJ22_numberOfLeadingZeros_0 : cJ22_numberOfLeadingZeros.data.toList.drop 0 = dktJ22_numberOfLeadingZeros_0 := by decide +kernel
theorem dksJ22_numberOfLeadingZeros_1 : cJ22_numberOfLeadingZeros.data.toList.drop 22 = dktJ22_numberOfLeadingZeros_1 := dk_seg dksJ22_numberOfLeadingZeros_0 22 rfl rfl
theorem dksJ22_numberOfLeadingZeros_2 : cJ22_numberOfLeadingZeros.data.toList.drop 46 = dktJ22_numberOfLeadingZeros_2 := dk_seg dksJ22_numberOfLeadingZeros_1 24 rfl rfl
theorem dksJ22_numberOfLeadingZeros_3 : cJ22_numberOfLeadingZeros.data.toList.drop 70 = dktJ22_numberOfLeadingZeros_3 := dk_seg dksJ22_numberOfLeadingZeros_2 24 rfl rfl
theorem dJ22_numberOfLeadingZeros_0 : decode cJ22_numberOfLeadingZeros 0 = .ok (.iload_n 0, 1) := dk_26 (dk_at dksJ22_numberOfLeadingZeros_0 0 rfl rfl)
theorem dJ22_numberOfLeadingZeros_1 : decode cJ22_numberOfLeadingZeros 1 = .ok (.ifCond .gt 14, 3) := dk_157 0 14 (dk_at dksJ22_numberOfLeadingZeros_0 1 rfl rfl)
theorem dJ22_numberOfLeadingZeros_4 : decode cJ22_numberOfLeadingZeros 4 = .ok (.iload_n 0, 1) := dk_26 (dk_at dksJ22_numberOfLeadingZeros_0 4 rfl rfl)
theorem dJ22_numberOfLeadingZeros_5 : decode cJ22_numberOfLeadingZeros 5 = .ok (.ifCond .ne 8, 3) := dk_154 0 8 (dk_at dksJ22_numberOfLeadingZeros_0 5 rfl rfl)
theorem dJ22_numberOfLeadingZeros_8 : decode cJ22_numberOfLeadingZeros 8 = .ok (.bipush 32, 2) := dk_16 32 (dk_at dksJ22_numberOfLeadingZeros_0 8 rfl rfl)
theorem dJ22_numberOfLeadingZeros_10 : decode cJ22_numberOfLeadingZeros 10 = .ok (.goto 4, 3) := dk_167 0 4 (dk_at dksJ22_numberOfLeadingZeros_0 10 rfl rfl)
theorem dJ22_numberOfLeadingZeros_13 : decode cJ22_numberOfLeadingZeros 13 = .ok (.iconst 0, 1) := dk_3 (dk_at dksJ22_numberOfLeadingZeros_0 13 rfl rfl)
theorem dJ22_numberOfLeadingZeros_14 : decode cJ22_numberOfLeadingZeros 14 = .ok (.ireturn, 1) := dk_172 (dk_at dksJ22_numberOfLeadingZeros_0 14 rfl rfl)
theorem dJ22_numberOfLeadingZeros_15 : decode cJ22_numberOfLeadingZeros 15 = .ok (.bipush 31, 2) := dk_16 31 (dk_at dksJ22_numberOfLeadingZeros_0 15 rfl rfl)
theorem dJ22_numberOfLeadingZeros_17 : decode cJ22_numberOfLeadingZeros 17 = .ok (.istore_n 1, 1) := dk_60 (dk_at dksJ22_numberOfLeadingZeros_0 17 rfl rfl)
theorem dJ22_numberOfLeadingZeros_18 : decode cJ22_numberOfLeadingZeros 18 = .ok (.iload_n 0, 1) := dk_26 (dk_at dksJ22_numberOfLeadingZeros_0 18 rfl rfl)
theorem dJ22_numberOfLeadingZeros_19 : decode cJ22_numberOfLeadingZeros 19 = .ok (.ldc_w 264, 3) := dk_19 1 8 (dk_at dksJ22_numberOfLeadingZeros_0 19 rfl rfl)
theorem dJ22_numberOfLeadingZeros_22 : decode cJ22_numberOfLeadingZeros 22 = .ok (.if_icmp .lt 11, 3) := dk_161 0 11 (dk_at dksJ22_numberOfLeadingZeros_1 0 rfl rfl)
theorem dJ22_numberOfLeadingZeros_25 : decode cJ22_numberOfLeadingZeros 25 = .ok (.iinc 1 (-16), 3) := dk_132 1 240 (dk_at dksJ22_numberOfLeadingZeros_1 3 rfl rfl)
theorem dJ22_numberOfLeadingZeros_28 : decode cJ22_numberOfLeadingZeros 28 = .ok (.iload_n 0, 1) := dk_26 (dk_at dksJ22_numberOfLeadingZeros_1 6 rfl rfl)
theorem dJ22_numberOfLeadingZeros_29 : decode cJ22_numberOfLeadingZeros 29 = .ok (.bipush 16, 2) := dk_16 16 (dk_at dksJ22_numberOfLeadingZeros_1 7 rfl rfl)
theorem dJ22_numberOfLeadingZeros_31 : decode cJ22_numberOfLeadingZeros 31 = .ok (.iushr, 1) := dk_124 (dk_at dksJ22_numberOfLeadingZeros_1 9 rfl rfl)
theorem dJ22_numberOfLeadingZeros_32 : decode cJ22_numberOfLeadingZeros 32 = .ok (.istore_n 0, 1) := dk_59 (dk_at dksJ22_numberOfLeadingZeros_1 10 rfl rfl)
theorem dJ22_numberOfLeadingZeros_33 : decode cJ22_numberOfLeadingZeros 33 = .ok (.iload_n 0, 1) := dk_26 (dk_at dksJ22_numberOfLeadingZeros_1 11 rfl rfl)
theorem dJ22_numberOfLeadingZeros_34 : decode cJ22_numberOfLeadingZeros 34 = .ok (.sipush 256, 3) := dk_17 1 0 (dk_at dksJ22_numberOfLeadingZeros_1 12 rfl rfl)
theorem dJ22_numberOfLeadingZeros_37 : decode cJ22_numberOfLeadingZeros 37 = .ok (.if_icmp .lt 11, 3) := dk_161 0 11 (dk_at dksJ22_numberOfLeadingZeros_1 15 rfl rfl)
theorem dJ22_numberOfLeadingZeros_40 : decode cJ22_numberOfLeadingZeros 40 = .ok (.iinc 1 (-8), 3) := dk_132 1 248 (dk_at dksJ22_numberOfLeadingZeros_1 18 rfl rfl)
theorem dJ22_numberOfLeadingZeros_43 : decode cJ22_numberOfLeadingZeros 43 = .ok (.iload_n 0, 1) := dk_26 (dk_at dksJ22_numberOfLeadingZeros_1 21 rfl rfl)
theorem dJ22_numberOfLeadingZeros_44 : decode cJ22_numberOfLeadingZeros 44 = .ok (.bipush 8, 2) := dk_16 8 (dk_at dksJ22_numberOfLeadingZeros_1 22 rfl rfl)
theorem dJ22_numberOfLeadingZeros_46 : decode cJ22_numberOfLeadingZeros 46 = .ok (.iushr, 1) := dk_124 (dk_at dksJ22_numberOfLeadingZeros_2 0 rfl rfl)
theorem dJ22_numberOfLeadingZeros_47 : decode cJ22_numberOfLeadingZeros 47 = .ok (.istore_n 0, 1) := dk_59 (dk_at dksJ22_numberOfLeadingZeros_2 1 rfl rfl)
theorem dJ22_numberOfLeadingZeros_48 : decode cJ22_numberOfLeadingZeros 48 = .ok (.iload_n 0, 1) := dk_26 (dk_at dksJ22_numberOfLeadingZeros_2 2 rfl rfl)
theorem dJ22_numberOfLeadingZeros_49 : decode cJ22_numberOfLeadingZeros 49 = .ok (.bipush 16, 2) := dk_16 16 (dk_at dksJ22_numberOfLeadingZeros_2 3 rfl rfl)
theorem dJ22_numberOfLeadingZeros_51 : decode cJ22_numberOfLeadingZeros 51 = .ok (.if_icmp .lt 10, 3) := dk_161 0 10 (dk_at dksJ22_numberOfLeadingZeros_2 5 rfl rfl)
theorem dJ22_numberOfLeadingZeros_54 : decode cJ22_numberOfLeadingZeros 54 = .ok (.iinc 1 (-4), 3) := dk_132 1 252 (dk_at dksJ22_numberOfLeadingZeros_2 8 rfl rfl)
theorem dJ22_numberOfLeadingZeros_57 : decode cJ22_numberOfLeadingZeros 57 = .ok (.iload_n 0, 1) := dk_26 (dk_at dksJ22_numberOfLeadingZeros_2 11 rfl rfl)
theorem dJ22_numberOfLeadingZeros_58 : decode cJ22_numberOfLeadingZeros 58 = .ok (.iconst 4, 1) := dk_7 (dk_at dksJ22_numberOfLeadingZeros_2 12 rfl rfl)
theorem dJ22_numberOfLeadingZeros_59 : decode cJ22_numberOfLeadingZeros 59 = .ok (.iushr, 1) := dk_124 (dk_at dksJ22_numberOfLeadingZeros_2 13 rfl rfl)
theorem dJ22_numberOfLeadingZeros_60 : decode cJ22_numberOfLeadingZeros 60 = .ok (.istore_n 0, 1) := dk_59 (dk_at dksJ22_numberOfLeadingZeros_2 14 rfl rfl)
theorem dJ22_numberOfLeadingZeros_61 : decode cJ22_numberOfLeadingZeros 61 = .ok (.iload_n 0, 1) := dk_26 (dk_at dksJ22_numberOfLeadingZeros_2 15 rfl rfl)
theorem dJ22_numberOfLeadingZeros_62 : decode cJ22_numberOfLeadingZeros 62 = .ok (.iconst 4, 1) := dk_7 (dk_at dksJ22_numberOfLeadingZeros_2 16 rfl rfl)
theorem dJ22_numberOfLeadingZeros_63 : decode cJ22_numberOfLeadingZeros 63 = .ok (.if_icmp .lt 10, 3) := dk_161 0 10 (dk_at dksJ22_numberOfLeadingZeros_2 17 rfl rfl)
theorem dJ22_numberOfLeadingZeros_66 : decode cJ22_numberOfLeadingZeros 66 = .ok (.iinc 1 (-2), 3) := dk_132 1 254 (dk_at dksJ22_numberOfLeadingZeros_2 20 rfl rfl)
theorem dJ22_numberOfLeadingZeros_69 : decode cJ22_numberOfLeadingZeros 69 = .ok (.iload_n 0, 1) := dk_26 (dk_at dksJ22_numberOfLeadingZeros_2 23 rfl rfl)
theorem dJ22_numberOfLeadingZeros_70 : decode cJ22_numberOfLeadingZeros 70 = .ok (.iconst 2, 1) := dk_5 (dk_at dksJ22_numberOfLeadingZeros_3 0 rfl rfl)
theorem dJ22_numberOfLeadingZeros_71 : decode cJ22_numberOfLeadingZeros 71 = .ok (.iushr, 1) := dk_124 (dk_at dksJ22_numberOfLeadingZeros_3 1 rfl rfl)
theorem dJ22_numberOfLeadingZeros_72 : decode cJ22_numberOfLeadingZeros 72 = .ok (.istore_n 0, 1) := dk_59 (dk_at dksJ22_numberOfLeadingZeros_3 2 rfl rfl)
theorem dJ22_numberOfLeadingZeros_73 : decode cJ22_numberOfLeadingZeros 73 = .ok (.iload_n 1, 1) := dk_27 (dk_at dksJ22_numberOfLeadingZeros_3 3 rfl rfl)
theorem dJ22_numberOfLeadingZeros_74 : decode cJ22_numberOfLeadingZeros 74 = .ok (.iload_n 0, 1) := dk_26 (dk_at dksJ22_numberOfLeadingZeros_3 4 rfl rfl)
theorem dJ22_numberOfLeadingZeros_75 : decode cJ22_numberOfLeadingZeros 75 = .ok (.iconst 1, 1) := dk_4 (dk_at dksJ22_numberOfLeadingZeros_3 5 rfl rfl)
theorem dJ22_numberOfLeadingZeros_76 : decode cJ22_numberOfLeadingZeros 76 = .ok (.iushr, 1) := dk_124 (dk_at dksJ22_numberOfLeadingZeros_3 6 rfl rfl)
theorem dJ22_numberOfLeadingZeros_77 : decode cJ22_numberOfLeadingZeros 77 = .ok (.isub, 1) := dk_100 (dk_at dksJ22_numberOfLeadingZeros_3 7 rfl rfl)
theorem dJ22_numberOfLeadingZeros_78 : decode cJ22_numberOfLeadingZeros 78 = .ok (.ireturn, 1) := dk_172 (dk_at dksJ22_numberOfLeadingZeros_3 8 rfl rfl)
abbrev cJ22_intValue : ByteArray := prog_24_method_27_code
def yJ22_intValue : MethodName := ⟨RJ22, "intValue", "()I"⟩
theorem dJ22_intValue_0 : decode cJ22_intValue 0 = .ok (.aload_n 0, 1) := by decide +kernel
theorem dJ22_intValue_1 : decode cJ22_intValue 1 = .ok (.getfield 205, 3) := by decide +kernel
theorem dJ22_intValue_4 : decode cJ22_intValue 4 = .ok (.ireturn, 1) := by decide +kernel
abbrev cJ22_numberOfTrailingZeros : ByteArray := prog_24_method_48_code
def yJ22_numberOfTrailingZeros : MethodName := ⟨RJ22, "numberOfTrailingZeros", "(I)I"⟩
def dkwJ22_numberOfTrailingZeros_3 : List UInt8 := [5, 124, 59, 27, 26, 4, 124, 96, 172]
abbrev dktJ22_numberOfTrailingZeros_3 : List UInt8 := dkwJ22_numberOfTrailingZeros_3 ++ []
def dkwJ22_numberOfTrailingZeros_2 : List UInt8 := [124, 59, 26, 16, 16, 164, 0, 10, 132, 1, 4, 26, 7, 124, 59, 26, 7, 164, 0, 10, 132, 1, 2, 26]
abbrev dktJ22_numberOfTrailingZeros_2 : List UInt8 := dkwJ22_numberOfTrailingZeros_2 ++ dktJ22_numberOfTrailingZeros_3
def dkwJ22_numberOfTrailingZeros_1 : List UInt8 := [164, 0, 11, 132, 1, 16, 26, 16, 16, 124, 59, 26, 17, 1, 0, 164, 0, 11, 132, 1, 8, 26, 16, 8]
abbrev dktJ22_numberOfTrailingZeros_1 : List UInt8 := dkwJ22_numberOfTrailingZeros_1 ++ dktJ22_numberOfTrailingZeros_2
def dkwJ22_numberOfTrailingZeros_0 : List UInt8 := [26, 2, 130, 26, 4, 100, 126, 59, 26, 157, 0, 8, 26, 16, 32, 126, 172, 4, 60, 26, 19, 1, 8]
abbrev dktJ22_numberOfTrailingZeros_0 : List UInt8 := dkwJ22_numberOfTrailingZeros_0 ++ dktJ22_numberOfTrailingZeros_1
theorem dksJ22_numberOfTrailingZeros_0 : cJ22_numberOfTrailingZeros.data.toList.drop 0 = dktJ22_numberOfTrailingZeros_0 := by decide +kernel
theorem dksJ22_numberOfTrailingZeros_1 : cJ22_numberOfTrailingZeros.data.toList.drop 23 = dktJ22_numberOfTrailingZeros_1 := dk_seg dksJ22_numberOfTrailingZeros_0 23 rfl rfl
theorem dksJ22_numberOfTrailingZeros_2 : cJ22_numberOfTrailingZeros.data.toList.drop 47 = dktJ22_numberOfTrailingZeros_2 := dk_seg dksJ22_numberOfTrailingZeros_1 24 rfl rfl
theorem dksJ22_numberOfTrailingZeros_3 : cJ22_numberOfTrailingZeros.data.toList.drop 71 = dktJ22_numberOfTrailingZeros_3 := dk_seg dksJ22_numberOfTrailingZeros_2 24 rfl rfl
theorem dJ22_numberOfTrailingZeros_0 : decode cJ22_numberOfTrailingZeros 0 = .ok (.iload_n 0, 1) := dk_26 (dk_at dksJ22_numberOfTrailingZeros_0 0 rfl rfl)
theorem dJ22_numberOfTrailingZeros_1 : decode cJ22_numberOfTrailingZeros 1 = .ok (.iconst (-1), 1) := dk_2 (dk_at dksJ22_numberOfTrailingZeros_0 1 rfl rfl)
theorem dJ22_numberOfTrailingZeros_2 : decode cJ22_numberOfTrailingZeros 2 = .ok (.ixor, 1) := dk_130 (dk_at dksJ22_numberOfTrailingZeros_0 2 rfl rfl)
theorem dJ22_numberOfTrailingZeros_3 : decode cJ22_numberOfTrailingZeros 3 = .ok (.iload_n 0, 1) := dk_26 (dk_at dksJ22_numberOfTrailingZeros_0 3 rfl rfl)
theorem dJ22_numberOfTrailingZeros_4 : decode cJ22_numberOfTrailingZeros 4 = .ok (.iconst 1, 1) := dk_4 (dk_at dksJ22_numberOfTrailingZeros_0 4 rfl rfl)
theorem dJ22_numberOfTrailingZeros_5 : decode cJ22_numberOfTrailingZeros 5 = .ok (.isub, 1) := dk_100 (dk_at dksJ22_numberOfTrailingZeros_0 5 rfl rfl)
theorem dJ22_numberOfTrailingZeros_6 : decode cJ22_numberOfTrailingZeros 6 = .ok (.iand, 1) := dk_126 (dk_at dksJ22_numberOfTrailingZeros_0 6 rfl rfl)
theorem dJ22_numberOfTrailingZeros_7 : decode cJ22_numberOfTrailingZeros 7 = .ok (.istore_n 0, 1) := dk_59 (dk_at dksJ22_numberOfTrailingZeros_0 7 rfl rfl)
theorem dJ22_numberOfTrailingZeros_8 : decode cJ22_numberOfTrailingZeros 8 = .ok (.iload_n 0, 1) := dk_26 (dk_at dksJ22_numberOfTrailingZeros_0 8 rfl rfl)
theorem dJ22_numberOfTrailingZeros_9 : decode cJ22_numberOfTrailingZeros 9 = .ok (.ifCond .gt 8, 3) := dk_157 0 8 (dk_at dksJ22_numberOfTrailingZeros_0 9 rfl rfl)
theorem dJ22_numberOfTrailingZeros_12 : decode cJ22_numberOfTrailingZeros 12 = .ok (.iload_n 0, 1) := dk_26 (dk_at dksJ22_numberOfTrailingZeros_0 12 rfl rfl)
theorem dJ22_numberOfTrailingZeros_13 : decode cJ22_numberOfTrailingZeros 13 = .ok (.bipush 32, 2) := dk_16 32 (dk_at dksJ22_numberOfTrailingZeros_0 13 rfl rfl)
theorem dJ22_numberOfTrailingZeros_15 : decode cJ22_numberOfTrailingZeros 15 = .ok (.iand, 1) := dk_126 (dk_at dksJ22_numberOfTrailingZeros_0 15 rfl rfl)
theorem dJ22_numberOfTrailingZeros_16 : decode cJ22_numberOfTrailingZeros 16 = .ok (.ireturn, 1) := dk_172 (dk_at dksJ22_numberOfTrailingZeros_0 16 rfl rfl)
theorem dJ22_numberOfTrailingZeros_17 : decode cJ22_numberOfTrailingZeros 17 = .ok (.iconst 1, 1) := dk_4 (dk_at dksJ22_numberOfTrailingZeros_0 17 rfl rfl)
theorem dJ22_numberOfTrailingZeros_18 : decode cJ22_numberOfTrailingZeros 18 = .ok (.istore_n 1, 1) := dk_60 (dk_at dksJ22_numberOfTrailingZeros_0 18 rfl rfl)
theorem dJ22_numberOfTrailingZeros_19 : decode cJ22_numberOfTrailingZeros 19 = .ok (.iload_n 0, 1) := dk_26 (dk_at dksJ22_numberOfTrailingZeros_0 19 rfl rfl)
theorem dJ22_numberOfTrailingZeros_20 : decode cJ22_numberOfTrailingZeros 20 = .ok (.ldc_w 264, 3) := dk_19 1 8 (dk_at dksJ22_numberOfTrailingZeros_0 20 rfl rfl)
theorem dJ22_numberOfTrailingZeros_23 : decode cJ22_numberOfTrailingZeros 23 = .ok (.if_icmp .le 11, 3) := dk_164 0 11 (dk_at dksJ22_numberOfTrailingZeros_1 0 rfl rfl)
theorem dJ22_numberOfTrailingZeros_26 : decode cJ22_numberOfTrailingZeros 26 = .ok (.iinc 1 16, 3) := dk_132 1 16 (dk_at dksJ22_numberOfTrailingZeros_1 3 rfl rfl)
theorem dJ22_numberOfTrailingZeros_29 : decode cJ22_numberOfTrailingZeros 29 = .ok (.iload_n 0, 1) := dk_26 (dk_at dksJ22_numberOfTrailingZeros_1 6 rfl rfl)
theorem dJ22_numberOfTrailingZeros_30 : decode cJ22_numberOfTrailingZeros 30 = .ok (.bipush 16, 2) := dk_16 16 (dk_at dksJ22_numberOfTrailingZeros_1 7 rfl rfl)
theorem dJ22_numberOfTrailingZeros_32 : decode cJ22_numberOfTrailingZeros 32 = .ok (.iushr, 1) := dk_124 (dk_at dksJ22_numberOfTrailingZeros_1 9 rfl rfl)
theorem dJ22_numberOfTrailingZeros_33 : decode cJ22_numberOfTrailingZeros 33 = .ok (.istore_n 0, 1) := dk_59 (dk_at dksJ22_numberOfTrailingZeros_1 10 rfl rfl)
theorem dJ22_numberOfTrailingZeros_34 : decode cJ22_numberOfTrailingZeros 34 = .ok (.iload_n 0, 1) := dk_26 (dk_at dksJ22_numberOfTrailingZeros_1 11 rfl rfl)
theorem dJ22_numberOfTrailingZeros_35 : decode cJ22_numberOfTrailingZeros 35 = .ok (.sipush 256, 3) := dk_17 1 0 (dk_at dksJ22_numberOfTrailingZeros_1 12 rfl rfl)
theorem dJ22_numberOfTrailingZeros_38 : decode cJ22_numberOfTrailingZeros 38 = .ok (.if_icmp .le 11, 3) := dk_164 0 11 (dk_at dksJ22_numberOfTrailingZeros_1 15 rfl rfl)
theorem dJ22_numberOfTrailingZeros_41 : decode cJ22_numberOfTrailingZeros 41 = .ok (.iinc 1 8, 3) := dk_132 1 8 (dk_at dksJ22_numberOfTrailingZeros_1 18 rfl rfl)
theorem dJ22_numberOfTrailingZeros_44 : decode cJ22_numberOfTrailingZeros 44 = .ok (.iload_n 0, 1) := dk_26 (dk_at dksJ22_numberOfTrailingZeros_1 21 rfl rfl)
theorem dJ22_numberOfTrailingZeros_45 : decode cJ22_numberOfTrailingZeros 45 = .ok (.bipush 8, 2) := dk_16 8 (dk_at dksJ22_numberOfTrailingZeros_1 22 rfl rfl)
theorem dJ22_numberOfTrailingZeros_47 : decode cJ22_numberOfTrailingZeros 47 = .ok (.iushr, 1) := dk_124 (dk_at dksJ22_numberOfTrailingZeros_2 0 rfl rfl)
theorem dJ22_numberOfTrailingZeros_48 : decode cJ22_numberOfTrailingZeros 48 = .ok (.istore_n 0, 1) := dk_59 (dk_at dksJ22_numberOfTrailingZeros_2 1 rfl rfl)
theorem dJ22_numberOfTrailingZeros_49 : decode cJ22_numberOfTrailingZeros 49 = .ok (.iload_n 0, 1) := dk_26 (dk_at dksJ22_numberOfTrailingZeros_2 2 rfl rfl)
theorem dJ22_numberOfTrailingZeros_50 : decode cJ22_numberOfTrailingZeros 50 = .ok (.bipush 16, 2) := dk_16 16 (dk_at dksJ22_numberOfTrailingZeros_2 3 rfl rfl)
theorem dJ22_numberOfTrailingZeros_52 : decode cJ22_numberOfTrailingZeros 52 = .ok (.if_icmp .le 10, 3) := dk_164 0 10 (dk_at dksJ22_numberOfTrailingZeros_2 5 rfl rfl)
theorem dJ22_numberOfTrailingZeros_55 : decode cJ22_numberOfTrailingZeros 55 = .ok (.iinc 1 4, 3) := dk_132 1 4 (dk_at dksJ22_numberOfTrailingZeros_2 8 rfl rfl)
theorem dJ22_numberOfTrailingZeros_58 : decode cJ22_numberOfTrailingZeros 58 = .ok (.iload_n 0, 1) := dk_26 (dk_at dksJ22_numberOfTrailingZeros_2 11 rfl rfl)
theorem dJ22_numberOfTrailingZeros_59 : decode cJ22_numberOfTrailingZeros 59 = .ok (.iconst 4, 1) := dk_7 (dk_at dksJ22_numberOfTrailingZeros_2 12 rfl rfl)
theorem dJ22_numberOfTrailingZeros_60 : decode cJ22_numberOfTrailingZeros 60 = .ok (.iushr, 1) := dk_124 (dk_at dksJ22_numberOfTrailingZeros_2 13 rfl rfl)
theorem dJ22_numberOfTrailingZeros_61 : decode cJ22_numberOfTrailingZeros 61 = .ok (.istore_n 0, 1) := dk_59 (dk_at dksJ22_numberOfTrailingZeros_2 14 rfl rfl)
theorem dJ22_numberOfTrailingZeros_62 : decode cJ22_numberOfTrailingZeros 62 = .ok (.iload_n 0, 1) := dk_26 (dk_at dksJ22_numberOfTrailingZeros_2 15 rfl rfl)
theorem dJ22_numberOfTrailingZeros_63 : decode cJ22_numberOfTrailingZeros 63 = .ok (.iconst 4, 1) := dk_7 (dk_at dksJ22_numberOfTrailingZeros_2 16 rfl rfl)
theorem dJ22_numberOfTrailingZeros_64 : decode cJ22_numberOfTrailingZeros 64 = .ok (.if_icmp .le 10, 3) := dk_164 0 10 (dk_at dksJ22_numberOfTrailingZeros_2 17 rfl rfl)
theorem dJ22_numberOfTrailingZeros_67 : decode cJ22_numberOfTrailingZeros 67 = .ok (.iinc 1 2, 3) := dk_132 1 2 (dk_at dksJ22_numberOfTrailingZeros_2 20 rfl rfl)
theorem dJ22_numberOfTrailingZeros_70 : decode cJ22_numberOfTrailingZeros 70 = .ok (.iload_n 0, 1) := dk_26 (dk_at dksJ22_numberOfTrailingZeros_2 23 rfl rfl)
theorem dJ22_numberOfTrailingZeros_71 : decode cJ22_numberOfTrailingZeros 71 = .ok (.iconst 2, 1) := dk_5 (dk_at dksJ22_numberOfTrailingZeros_3 0 rfl rfl)
theorem dJ22_numberOfTrailingZeros_72 : decode cJ22_numberOfTrailingZeros 72 = .ok (.iushr, 1) := dk_124 (dk_at dksJ22_numberOfTrailingZeros_3 1 rfl rfl)
theorem dJ22_numberOfTrailingZeros_73 : decode cJ22_numberOfTrailingZeros 73 = .ok (.istore_n 0, 1) := dk_59 (dk_at dksJ22_numberOfTrailingZeros_3 2 rfl rfl)
theorem dJ22_numberOfTrailingZeros_74 : decode cJ22_numberOfTrailingZeros 74 = .ok (.iload_n 1, 1) := dk_27 (dk_at dksJ22_numberOfTrailingZeros_3 3 rfl rfl)
theorem dJ22_numberOfTrailingZeros_75 : decode cJ22_numberOfTrailingZeros 75 = .ok (.iload_n 0, 1) := dk_26 (dk_at dksJ22_numberOfTrailingZeros_3 4 rfl rfl)
theorem dJ22_numberOfTrailingZeros_76 : decode cJ22_numberOfTrailingZeros 76 = .ok (.iconst 1, 1) := dk_4 (dk_at dksJ22_numberOfTrailingZeros_3 5 rfl rfl)
theorem dJ22_numberOfTrailingZeros_77 : decode cJ22_numberOfTrailingZeros 77 = .ok (.iushr, 1) := dk_124 (dk_at dksJ22_numberOfTrailingZeros_3 6 rfl rfl)
theorem dJ22_numberOfTrailingZeros_78 : decode cJ22_numberOfTrailingZeros 78 = .ok (.iadd, 1) := dk_96 (dk_at dksJ22_numberOfTrailingZeros_3 7 rfl rfl)
theorem dJ22_numberOfTrailingZeros_79 : decode cJ22_numberOfTrailingZeros 79 = .ok (.ireturn, 1) := dk_172 (dk_at dksJ22_numberOfTrailingZeros_3 8 rfl rfl)
theorem q97 : (Jvm.Cond.initialized "java/lang/Integer") ∈ lw_all := lw_g (lw_at lw_m1 27 rfl) rfl
theorem q612 : (Jvm.Cond.static ({ cls := "java/lang/Integer", name := "stringSize", desc := "(I)I" } : Jvm.MethodName)) ∈ lw_all := lw_g (lw_at lw_m3 62 rfl) rfl
theorem q613 : (Jvm.Cond.code ({ cls := "java/lang/Integer", name := "stringSize", desc := "(I)I" } : Jvm.MethodName) prog_24_method_13_code (4 : Nat) (Option.some Jvm.ClassFile.FieldType.int)) ∈ lw_all := lw_g (lw_at lw_m3 63 rfl) rfl
theorem q615 : (Jvm.Cond.static ({ cls := "java/lang/Integer", name := "getChars", desc := "(II[B)I" } : Jvm.MethodName)) ∈ lw_all := lw_g (lw_at lw_m3 65 rfl) rfl
theorem q616 : (Jvm.Cond.code ({ cls := "java/lang/Integer", name := "getChars", desc := "(II[B)I" } : Jvm.MethodName) prog_24_method_12_code (7 : Nat) (Option.some Jvm.ClassFile.FieldType.int)) ∈ lw_all := lw_g (lw_at lw_m3 66 rfl) rfl
theorem q617 : (Jvm.Cond.fieldLink "java/lang/Integer" (83 : Nat) "java/lang/Integer" "DigitOnes" "[B") ∈ lw_all := lw_g (lw_at lw_m3 67 rfl) rfl
theorem q618 : (Jvm.Cond.laysStatic "java/lang/Integer" "DigitOnes" "[B") ∈ lw_tbl := lw_at lw_m3 68 rfl
theorem q619 : (Jvm.Cond.fieldLink "java/lang/Integer" (87 : Nat) "java/lang/Integer" "DigitTens" "[B") ∈ lw_all := lw_g (lw_at lw_m3 69 rfl) rfl
theorem q620 : (Jvm.Cond.laysStatic "java/lang/Integer" "DigitTens" "[B") ∈ lw_tbl := lw_at lw_m3 70 rfl
theorem q794 : (Jvm.Cond.selects "java/lang/Integer" ({ cls := "java/lang/Object", name := "getClass", desc := "()Ljava/lang/Class;" } : Jvm.MethodName) ({ cls := "java/lang/Object", name := "getClass", desc := "()Ljava/lang/Class;" } : Jvm.MethodName)) ∈ lw_all := lw_g (lw_at lw_m4 4 rfl) rfl
theorem q1434 : (Jvm.Cond.static ({ cls := "java/lang/Integer", name := "valueOf", desc := "(I)Ljava/lang/Integer;" } : Jvm.MethodName)) ∈ lw_all := lw_g (lw_at lw_m6 164 rfl) rfl
theorem q1435 : (Jvm.Cond.code ({ cls := "java/lang/Integer", name := "valueOf", desc := "(I)Ljava/lang/Integer;" } : Jvm.MethodName) prog_24_method_22_code (1 : Nat) (Option.some (Jvm.ClassFile.FieldType.object "java/lang/Integer"))) ∈ lw_all := lw_g (lw_at lw_m6 165 rfl) rfl
theorem q1436 : (Jvm.Cond.fieldLink "java/lang/Integer" (191 : Nat) "java/lang/Integer$IntegerCache" "high" "I") ∈ lw_all := lw_g (lw_at lw_m6 166 rfl) rfl
theorem q1438 : (Jvm.Cond.fieldLink "java/lang/Integer" (195 : Nat) "java/lang/Integer$IntegerCache" "cache" "[Ljava/lang/Integer;") ∈ lw_all := lw_g (lw_at lw_m6 168 rfl) rfl
theorem q1440 : (Jvm.Cond.classLink "java/lang/Integer" (1 : Nat) "java/lang/Integer") ∈ lw_all := lw_g (lw_at lw_m6 170 rfl) rfl
theorem q1441 : (Jvm.Cond.instantiable "java/lang/Integer" (1 : Nat)) ∈ lw_all := lw_g (lw_at lw_m6 171 rfl) rfl
theorem q1442 : (Jvm.Cond.methodLink "java/lang/Integer" (199 : Nat) ({ cls := "java/lang/Integer", name := "<init>", desc := "(I)V" } : Jvm.MethodName)) ∈ lw_all := lw_g (lw_at lw_m6 172 rfl) rfl
theorem q1443 : (Jvm.Cond.instanceMethod ({ cls := "java/lang/Integer", name := "<init>", desc := "(I)V" } : Jvm.MethodName)) ∈ lw_all := lw_g (lw_at lw_m6 173 rfl) rfl
theorem q1444 : (Jvm.Cond.code ({ cls := "java/lang/Integer", name := "<init>", desc := "(I)V" } : Jvm.MethodName) prog_24_method_23_code (2 : Nat) (Option.none : Option Jvm.ClassFile.FieldType)) ∈ lw_all := lw_g (lw_at lw_m6 174 rfl) rfl
theorem q1445 : (Jvm.Cond.methodLink "java/lang/Integer" (202 : Nat) ({ cls := "java/lang/Number", name := "<init>", desc := "()V" } : Jvm.MethodName)) ∈ lw_all := lw_g (lw_at lw_m6 175 rfl) rfl
theorem q1449 : (Jvm.Cond.fieldLink "java/lang/Integer" (205 : Nat) "java/lang/Integer" "value" "I") ∈ lw_all := lw_g (lw_at lw_m6 179 rfl) rfl
theorem q1450 : (Jvm.Cond.laysFinal "java/lang/Integer" "java/lang/Integer" "value" "I") ∈ lw_all := lw_g (lw_at lw_m6 180 rfl) rfl
theorem q1451 : (Jvm.Cond.soleField "java/lang/Integer" "value") ∈ lw_all := lw_g (lw_at lw_m6 181 rfl) rfl
theorem q1452 : (Jvm.Cond.superclass "java/lang/Integer" "java/lang/Number") ∈ lw_all := lw_g (lw_at lw_m6 182 rfl) rfl
theorem q1496 : (Jvm.Cond.static ({ cls := "java/lang/Integer", name := "numberOfLeadingZeros", desc := "(I)I" } : Jvm.MethodName)) ∈ lw_all := lw_g (lw_at lw_m6 226 rfl) rfl
theorem q1497 : (Jvm.Cond.code ({ cls := "java/lang/Integer", name := "numberOfLeadingZeros", desc := "(I)I" } : Jvm.MethodName) prog_24_method_47_code (2 : Nat) (Option.some Jvm.ClassFile.FieldType.int)) ∈ lw_all := lw_g (lw_at lw_m6 227 rfl) rfl
theorem q1498 : (Jvm.Cond.constant "java/lang/Integer" (264 : Nat) (65536 : Int32)) ∈ lw_all := lw_g (lw_at lw_m6 228 rfl) rfl
theorem q1679 : (Jvm.Cond.instanceMethod ({ cls := "java/lang/Integer", name := "intValue", desc := "()I" } : Jvm.MethodName)) ∈ lw_all := lw_g (lw_at lw_m7 169 rfl) rfl
theorem q1680 : (Jvm.Cond.selects "java/lang/Integer" ({ cls := "java/lang/Integer", name := "intValue", desc := "()I" } : Jvm.MethodName) ({ cls := "java/lang/Integer", name := "intValue", desc := "()I" } : Jvm.MethodName)) ∈ lw_all := lw_g (lw_at lw_m7 170 rfl) rfl
theorem q1681 : (Jvm.Cond.code ({ cls := "java/lang/Integer", name := "intValue", desc := "()I" } : Jvm.MethodName) prog_24_method_27_code (1 : Nat) (Option.some Jvm.ClassFile.FieldType.int)) ∈ lw_all := lw_g (lw_at lw_m7 171 rfl) rfl
theorem q1753 : (Jvm.Cond.static ({ cls := "java/lang/Integer", name := "numberOfTrailingZeros", desc := "(I)I" } : Jvm.MethodName)) ∈ lw_all := lw_g (lw_at lw_m8 3 rfl) rfl
theorem q1754 : (Jvm.Cond.code ({ cls := "java/lang/Integer", name := "numberOfTrailingZeros", desc := "(I)I" } : Jvm.MethodName) prog_24_method_48_code (2 : Nat) (Option.some Jvm.ClassFile.FieldType.int)) ∈ lw_all := lw_g (lw_at lw_m8 4 rfl) rfl
theorem q2754 : (Jvm.Cond.castable "java/lang/Integer" "java/lang/Object") ∈ lw_tbl := lw_at lw_m12 44 rfl
theorem in_J22 : ∀ w ∈ wsJ220, w ∈ lw_all := lw_in wsJ220 [1450] (by decide +kernel) (by decide +kernel)

/-! java/lang/IllegalArgumentException -/
set_option maxRecDepth 100000
def RJ23 : String := "java/lang/IllegalArgumentException"
def TJ23 : u_T := fun k => match k with
  | 0 => ("java/lang/Throwable", "cause", "Ljava/lang/Throwable;", false)
  | 1 => ("java/lang/Throwable", "stackTrace", "[Ljava/lang/StackTraceElement;", false)
  | 2 => ("java/lang/Throwable", "suppressedExceptions", "Ljava/util/List;", false)
  | 3 => ("java/lang/Throwable", "detailMessage", "Ljava/lang/String;", false)
  | 4 => ("java/lang/Throwable", "backtrace", "Ljava/lang/Object;", false)
  | _ => ("java/lang/Throwable", "depth", "I", false)
def tyJ23 : Nat → FieldType := fun k => match k with
  | 0 => .object "java/lang/Throwable"
  | 1 => .array (.object "java/lang/StackTraceElement")
  | 2 => .object "java/util/List"
  | 3 => .object "java/lang/String"
  | 4 => .object "java/lang/Object"
  | _ => .int
abbrev wsJ230 : List Cond := u_ws RJ23 TJ23 6
theorem nmJ23 : ∀ a, a < 6 → ∀ b, b < 6 → a ≠ b → (TJ23 a).2.1 ≠ (TJ23 b).2.1 := by decide +kernel
theorem tyJ23_ok : ∀ k, k < 6 → parseFieldDescriptor (TJ23 k).2.2.1 = some (tyJ23 k) := by decide +kernel
abbrev cJ23_init : ByteArray := prog_21_method_2_code
def yJ23_init : MethodName := ⟨RJ23, "<init>", "(Ljava/lang/String;)V"⟩
def dkwJ23_init_0 : List UInt8 := [42, 43, 183, 0, 7, 177]
abbrev dktJ23_init_0 : List UInt8 := dkwJ23_init_0 ++ []
theorem dksJ23_init_0 : cJ23_init.data.toList.drop 0 = dktJ23_init_0 := by decide +kernel
theorem dJ23_init_0 : decode cJ23_init 0 = .ok (.aload_n 0, 1) := dk_42 (dk_at dksJ23_init_0 0 rfl rfl)
theorem dJ23_init_1 : decode cJ23_init 1 = .ok (.aload_n 1, 1) := dk_43 (dk_at dksJ23_init_0 1 rfl rfl)
theorem dJ23_init_2 : decode cJ23_init 2 = .ok (.invokespecial 7, 3) := dk_183 0 7 (dk_at dksJ23_init_0 2 rfl rfl)
theorem dJ23_init_5 : decode cJ23_init 5 = .ok (.return_, 1) := dk_177 (dk_at dksJ23_init_0 5 rfl rfl)
abbrev cJ23_init_2 : ByteArray := prog_21_method_1_code
def yJ23_init_2 : MethodName := ⟨RJ23, "<init>", "()V"⟩
theorem dJ23_init_2_0 : decode cJ23_init_2 0 = .ok (.aload_n 0, 1) := by decide +kernel
theorem dJ23_init_2_1 : decode cJ23_init_2 1 = .ok (.invokespecial 1, 3) := by decide +kernel
theorem dJ23_init_2_4 : decode cJ23_init_2 4 = .ok (.return_, 1) := by decide +kernel
theorem q98 : (Jvm.Cond.initialized "java/lang/IllegalArgumentException") ∈ lw_all := lw_g (lw_at lw_m1 28 rfl) rfl
theorem q467 : (Jvm.Cond.selects "java/lang/IllegalArgumentException" ({ cls := "java/lang/Throwable", name := "fillInStackTrace", desc := "()Ljava/lang/Throwable;" } : Jvm.MethodName) ({ cls := "java/lang/Throwable", name := "fillInStackTrace", desc := "()Ljava/lang/Throwable;" } : Jvm.MethodName)) ∈ lw_all := lw_g (lw_at lw_m2 157 rfl) rfl
theorem q667 : (Jvm.Cond.instantiable "java/lang/IllegalArgumentException" (6 : Nat)) ∈ lw_all := lw_g (lw_at lw_m3 117 rfl) rfl
theorem q668 : (Jvm.Cond.castable "java/lang/IllegalArgumentException" "java/lang/IllegalArgumentException") ∈ lw_tbl := lw_at lw_m3 118 rfl
theorem q669 : (Jvm.Cond.selects "java/lang/IllegalArgumentException" ({ cls := "java/lang/Throwable", name := "fillInStackTrace", desc := "(I)Ljava/lang/Throwable;" } : Jvm.MethodName) ({ cls := "java/lang/Throwable", name := "fillInStackTrace", desc := "(I)Ljava/lang/Throwable;" } : Jvm.MethodName)) ∈ lw_all := lw_g (lw_at lw_m3 119 rfl) rfl
theorem q670 : (Jvm.Cond.lays "java/lang/IllegalArgumentException" "java/lang/Throwable" "cause" "Ljava/lang/Throwable;") ∈ lw_all := lw_g (lw_at lw_m3 120 rfl) rfl
theorem q671 : (Jvm.Cond.lays "java/lang/IllegalArgumentException" "java/lang/Throwable" "stackTrace" "[Ljava/lang/StackTraceElement;") ∈ lw_all := lw_g (lw_at lw_m3 121 rfl) rfl
theorem q672 : (Jvm.Cond.lays "java/lang/IllegalArgumentException" "java/lang/Throwable" "suppressedExceptions" "Ljava/util/List;") ∈ lw_all := lw_g (lw_at lw_m3 122 rfl) rfl
theorem q673 : (Jvm.Cond.lays "java/lang/IllegalArgumentException" "java/lang/Throwable" "detailMessage" "Ljava/lang/String;") ∈ lw_all := lw_g (lw_at lw_m3 123 rfl) rfl
theorem q674 : (Jvm.Cond.lays "java/lang/IllegalArgumentException" "java/lang/Throwable" "backtrace" "Ljava/lang/Object;") ∈ lw_all := lw_g (lw_at lw_m3 124 rfl) rfl
theorem q682 : (Jvm.Cond.instanceMethod ({ cls := "java/lang/IllegalArgumentException", name := "<init>", desc := "(Ljava/lang/String;)V" } : Jvm.MethodName)) ∈ lw_all := lw_g (lw_at lw_m3 132 rfl) rfl
theorem q683 : (Jvm.Cond.code ({ cls := "java/lang/IllegalArgumentException", name := "<init>", desc := "(Ljava/lang/String;)V" } : Jvm.MethodName) prog_21_method_2_code (2 : Nat) (Option.none : Option Jvm.ClassFile.FieldType)) ∈ lw_all := lw_g (lw_at lw_m3 133 rfl) rfl
theorem q684 : (Jvm.Cond.methodLink "java/lang/IllegalArgumentException" (7 : Nat) ({ cls := "java/lang/RuntimeException", name := "<init>", desc := "(Ljava/lang/String;)V" } : Jvm.MethodName)) ∈ lw_all := lw_g (lw_at lw_m3 134 rfl) rfl
theorem q702 : (Jvm.Cond.lays "java/lang/IllegalArgumentException" "java/lang/Throwable" "depth" "I") ∈ lw_all := lw_g (lw_at lw_m3 152 rfl) rfl
theorem q705 : (Jvm.Cond.superclass "java/lang/IllegalArgumentException" "java/lang/RuntimeException") ∈ lw_all := lw_g (lw_at lw_m3 155 rfl) rfl
theorem q770 : (Jvm.Cond.selects "java/lang/IllegalArgumentException" ({ cls := "java/lang/Throwable", name := "toString", desc := "()Ljava/lang/String;" } : Jvm.MethodName) ({ cls := "java/lang/Throwable", name := "toString", desc := "()Ljava/lang/String;" } : Jvm.MethodName)) ∈ lw_all := lw_g (lw_at lw_m3 220 rfl) rfl
theorem q791 : (Jvm.Cond.selects "java/lang/IllegalArgumentException" ({ cls := "java/lang/Object", name := "getClass", desc := "()Ljava/lang/Class;" } : Jvm.MethodName) ({ cls := "java/lang/Object", name := "getClass", desc := "()Ljava/lang/Class;" } : Jvm.MethodName)) ∈ lw_all := lw_g (lw_at lw_m4 1 rfl) rfl
theorem q817 : (Jvm.Cond.selects "java/lang/IllegalArgumentException" ({ cls := "java/lang/Throwable", name := "getLocalizedMessage", desc := "()Ljava/lang/String;" } : Jvm.MethodName) ({ cls := "java/lang/Throwable", name := "getLocalizedMessage", desc := "()Ljava/lang/String;" } : Jvm.MethodName)) ∈ lw_all := lw_g (lw_at lw_m4 27 rfl) rfl
theorem q830 : (Jvm.Cond.selects "java/lang/IllegalArgumentException" ({ cls := "java/lang/Throwable", name := "getMessage", desc := "()Ljava/lang/String;" } : Jvm.MethodName) ({ cls := "java/lang/Throwable", name := "getMessage", desc := "()Ljava/lang/String;" } : Jvm.MethodName)) ∈ lw_all := lw_g (lw_at lw_m4 40 rfl) rfl
theorem q1231 : (Jvm.Cond.instanceMethod ({ cls := "java/lang/IllegalArgumentException", name := "<init>", desc := "()V" } : Jvm.MethodName)) ∈ lw_all := lw_g (lw_at lw_m5 201 rfl) rfl
theorem q1232 : (Jvm.Cond.code ({ cls := "java/lang/IllegalArgumentException", name := "<init>", desc := "()V" } : Jvm.MethodName) prog_21_method_1_code (1 : Nat) (Option.none : Option Jvm.ClassFile.FieldType)) ∈ lw_all := lw_g (lw_at lw_m5 202 rfl) rfl
theorem q1233 : (Jvm.Cond.methodLink "java/lang/IllegalArgumentException" (1 : Nat) ({ cls := "java/lang/RuntimeException", name := "<init>", desc := "()V" } : Jvm.MethodName)) ∈ lw_all := lw_g (lw_at lw_m5 203 rfl) rfl
theorem q2748 : (Jvm.Cond.castable "java/lang/IllegalArgumentException" "java/lang/Object") ∈ lw_tbl := lw_at lw_m12 38 rfl
theorem in_J23 : ∀ w ∈ wsJ230, w ∈ lw_all := lw_in wsJ230 [670, 671, 672, 673, 674, 702] (by decide +kernel) (by decide +kernel)

/-! java/util/NoSuchElementException -/
set_option maxRecDepth 100000
def RJ24 : String := "java/util/NoSuchElementException"
def TJ24 : u_T := fun k => match k with
  | 0 => ("java/lang/Throwable", "cause", "Ljava/lang/Throwable;", false)
  | 1 => ("java/lang/Throwable", "stackTrace", "[Ljava/lang/StackTraceElement;", false)
  | 2 => ("java/lang/Throwable", "suppressedExceptions", "Ljava/util/List;", false)
  | 3 => ("java/lang/Throwable", "detailMessage", "Ljava/lang/String;", false)
  | 4 => ("java/lang/Throwable", "backtrace", "Ljava/lang/Object;", false)
  | _ => ("java/lang/Throwable", "depth", "I", false)
def tyJ24 : Nat → FieldType := fun k => match k with
  | 0 => .object "java/lang/Throwable"
  | 1 => .array (.object "java/lang/StackTraceElement")
  | 2 => .object "java/util/List"
  | 3 => .object "java/lang/String"
  | 4 => .object "java/lang/Object"
  | _ => .int
abbrev wsJ240 : List Cond := u_ws RJ24 TJ24 6
theorem nmJ24 : ∀ a, a < 6 → ∀ b, b < 6 → a ≠ b → (TJ24 a).2.1 ≠ (TJ24 b).2.1 := by decide +kernel
theorem tyJ24_ok : ∀ k, k < 6 → parseFieldDescriptor (TJ24 k).2.2.1 = some (tyJ24 k) := by decide +kernel
abbrev cJ24_init : ByteArray := prog_60_method_3_code
def yJ24_init : MethodName := ⟨RJ24, "<init>", "(Ljava/lang/Throwable;)V"⟩
def dkwJ24_init_0 : List UInt8 := [42, 43, 183, 0, 10, 177]
abbrev dktJ24_init_0 : List UInt8 := dkwJ24_init_0 ++ []
theorem dksJ24_init_0 : cJ24_init.data.toList.drop 0 = dktJ24_init_0 := by decide +kernel
theorem dJ24_init_0 : decode cJ24_init 0 = .ok (.aload_n 0, 1) := dk_42 (dk_at dksJ24_init_0 0 rfl rfl)
theorem dJ24_init_1 : decode cJ24_init 1 = .ok (.aload_n 1, 1) := dk_43 (dk_at dksJ24_init_0 1 rfl rfl)
theorem dJ24_init_2 : decode cJ24_init 2 = .ok (.invokespecial 10, 3) := dk_183 0 10 (dk_at dksJ24_init_0 2 rfl rfl)
theorem dJ24_init_5 : decode cJ24_init 5 = .ok (.return_, 1) := dk_177 (dk_at dksJ24_init_0 5 rfl rfl)
abbrev cJ24_init_2 : ByteArray := prog_60_method_1_code
def yJ24_init_2 : MethodName := ⟨RJ24, "<init>", "()V"⟩
theorem dJ24_init_2_0 : decode cJ24_init_2 0 = .ok (.aload_n 0, 1) := by decide +kernel
theorem dJ24_init_2_1 : decode cJ24_init_2 1 = .ok (.invokespecial 1, 3) := by decide +kernel
theorem dJ24_init_2_4 : decode cJ24_init_2 4 = .ok (.return_, 1) := by decide +kernel
theorem q99 : (Jvm.Cond.initialized "java/util/NoSuchElementException") ∈ lw_all := lw_g (lw_at lw_m1 29 rfl) rfl
theorem q470 : (Jvm.Cond.selects "java/util/NoSuchElementException" ({ cls := "java/lang/Throwable", name := "fillInStackTrace", desc := "()Ljava/lang/Throwable;" } : Jvm.MethodName) ({ cls := "java/lang/Throwable", name := "fillInStackTrace", desc := "()Ljava/lang/Throwable;" } : Jvm.MethodName)) ∈ lw_all := lw_g (lw_at lw_m2 160 rfl) rfl
theorem q743 : (Jvm.Cond.instantiable "java/util/NoSuchElementException" (6 : Nat)) ∈ lw_all := lw_g (lw_at lw_m3 193 rfl) rfl
theorem q744 : (Jvm.Cond.castable "java/util/NoSuchElementException" "java/util/NoSuchElementException") ∈ lw_tbl := lw_at lw_m3 194 rfl
theorem q745 : (Jvm.Cond.selects "java/util/NoSuchElementException" ({ cls := "java/lang/Throwable", name := "fillInStackTrace", desc := "(I)Ljava/lang/Throwable;" } : Jvm.MethodName) ({ cls := "java/lang/Throwable", name := "fillInStackTrace", desc := "(I)Ljava/lang/Throwable;" } : Jvm.MethodName)) ∈ lw_all := lw_g (lw_at lw_m3 195 rfl) rfl
theorem q746 : (Jvm.Cond.lays "java/util/NoSuchElementException" "java/lang/Throwable" "cause" "Ljava/lang/Throwable;") ∈ lw_all := lw_g (lw_at lw_m3 196 rfl) rfl
theorem q747 : (Jvm.Cond.lays "java/util/NoSuchElementException" "java/lang/Throwable" "stackTrace" "[Ljava/lang/StackTraceElement;") ∈ lw_all := lw_g (lw_at lw_m3 197 rfl) rfl
theorem q748 : (Jvm.Cond.lays "java/util/NoSuchElementException" "java/lang/Throwable" "suppressedExceptions" "Ljava/util/List;") ∈ lw_all := lw_g (lw_at lw_m3 198 rfl) rfl
theorem q749 : (Jvm.Cond.lays "java/util/NoSuchElementException" "java/lang/Throwable" "detailMessage" "Ljava/lang/String;") ∈ lw_all := lw_g (lw_at lw_m3 199 rfl) rfl
theorem q750 : (Jvm.Cond.lays "java/util/NoSuchElementException" "java/lang/Throwable" "backtrace" "Ljava/lang/Object;") ∈ lw_all := lw_g (lw_at lw_m3 200 rfl) rfl
theorem q752 : (Jvm.Cond.instanceMethod ({ cls := "java/util/NoSuchElementException", name := "<init>", desc := "(Ljava/lang/Throwable;)V" } : Jvm.MethodName)) ∈ lw_all := lw_g (lw_at lw_m3 202 rfl) rfl
theorem q753 : (Jvm.Cond.code ({ cls := "java/util/NoSuchElementException", name := "<init>", desc := "(Ljava/lang/Throwable;)V" } : Jvm.MethodName) prog_60_method_3_code (2 : Nat) (Option.none : Option Jvm.ClassFile.FieldType)) ∈ lw_all := lw_g (lw_at lw_m3 203 rfl) rfl
theorem q754 : (Jvm.Cond.methodLink "java/util/NoSuchElementException" (10 : Nat) ({ cls := "java/lang/RuntimeException", name := "<init>", desc := "(Ljava/lang/Throwable;)V" } : Jvm.MethodName)) ∈ lw_all := lw_g (lw_at lw_m3 204 rfl) rfl
theorem q774 : (Jvm.Cond.selects "java/util/NoSuchElementException" ({ cls := "java/lang/Throwable", name := "toString", desc := "()Ljava/lang/String;" } : Jvm.MethodName) ({ cls := "java/lang/Throwable", name := "toString", desc := "()Ljava/lang/String;" } : Jvm.MethodName)) ∈ lw_all := lw_g (lw_at lw_m3 224 rfl) rfl
theorem q808 : (Jvm.Cond.selects "java/util/NoSuchElementException" ({ cls := "java/lang/Object", name := "getClass", desc := "()Ljava/lang/Class;" } : Jvm.MethodName) ({ cls := "java/lang/Object", name := "getClass", desc := "()Ljava/lang/Class;" } : Jvm.MethodName)) ∈ lw_all := lw_g (lw_at lw_m4 18 rfl) rfl
theorem q821 : (Jvm.Cond.selects "java/util/NoSuchElementException" ({ cls := "java/lang/Throwable", name := "getLocalizedMessage", desc := "()Ljava/lang/String;" } : Jvm.MethodName) ({ cls := "java/lang/Throwable", name := "getLocalizedMessage", desc := "()Ljava/lang/String;" } : Jvm.MethodName)) ∈ lw_all := lw_g (lw_at lw_m4 31 rfl) rfl
theorem q834 : (Jvm.Cond.selects "java/util/NoSuchElementException" ({ cls := "java/lang/Throwable", name := "getMessage", desc := "()Ljava/lang/String;" } : Jvm.MethodName) ({ cls := "java/lang/Throwable", name := "getMessage", desc := "()Ljava/lang/String;" } : Jvm.MethodName)) ∈ lw_all := lw_g (lw_at lw_m4 44 rfl) rfl
theorem q841 : (Jvm.Cond.lays "java/util/NoSuchElementException" "java/lang/Throwable" "depth" "I") ∈ lw_all := lw_g (lw_at lw_m4 51 rfl) rfl
theorem q842 : (Jvm.Cond.superclass "java/util/NoSuchElementException" "java/lang/RuntimeException") ∈ lw_all := lw_g (lw_at lw_m4 52 rfl) rfl
theorem q856 : (Jvm.Cond.instanceMethod ({ cls := "java/util/NoSuchElementException", name := "<init>", desc := "()V" } : Jvm.MethodName)) ∈ lw_all := lw_g (lw_at lw_m4 66 rfl) rfl
theorem q857 : (Jvm.Cond.code ({ cls := "java/util/NoSuchElementException", name := "<init>", desc := "()V" } : Jvm.MethodName) prog_60_method_1_code (1 : Nat) (Option.none : Option Jvm.ClassFile.FieldType)) ∈ lw_all := lw_g (lw_at lw_m4 67 rfl) rfl
theorem q858 : (Jvm.Cond.methodLink "java/util/NoSuchElementException" (1 : Nat) ({ cls := "java/lang/RuntimeException", name := "<init>", desc := "()V" } : Jvm.MethodName)) ∈ lw_all := lw_g (lw_at lw_m4 68 rfl) rfl
theorem q2743 : (Jvm.Cond.castable "java/util/NoSuchElementException" "java/lang/Object") ∈ lw_tbl := lw_at lw_m12 33 rfl
theorem in_J24 : ∀ w ∈ wsJ240, w ∈ lw_all := lw_in wsJ240 [746, 747, 748, 749, 750, 841] (by decide +kernel) (by decide +kernel)

/-! java/util/BitSet -/
set_option maxRecDepth 100000
def RJ25 : String := "java/util/BitSet"
def TJ25 : u_T := fun k => match k with
  | 0 => ("java/util/BitSet", "words", "[J", false)
  | 1 => ("java/util/BitSet", "wordsInUse", "I", false)
  | _ => ("java/util/BitSet", "sizeIsSticky", "Z", false)
def tyJ25 : Nat → FieldType := fun k => match k with
  | 0 => .array .long
  | 1 => .int
  | _ => .boolean
abbrev wsJ250 : List Cond := u_ws RJ25 TJ25 3
theorem nmJ25 : ∀ a, a < 3 → ∀ b, b < 3 → a ≠ b → (TJ25 a).2.1 ≠ (TJ25 b).2.1 := by decide +kernel
theorem tyJ25_ok : ∀ k, k < 3 → parseFieldDescriptor (TJ25 k).2.2.1 = some (tyJ25 k) := by decide +kernel
abbrev cJ25_init : ByteArray := prog_51_method_5_code
def yJ25_init : MethodName := ⟨RJ25, "<init>", "(I)V"⟩
def dkwJ25_init_2 : List UInt8 := [27, 182, 0, 27, 42, 4, 181, 0, 24, 177]
abbrev dktJ25_init_2 : List UInt8 := dkwJ25_init_2 ++ []
def dkwJ25_init_1 : List UInt8 := [187, 0, 33, 89, 183, 0, 35, 18, 36, 182, 0, 38, 27, 182, 0, 42, 182, 0, 45, 183, 0, 49, 191, 42]
abbrev dktJ25_init_1 : List UInt8 := dkwJ25_init_1 ++ dktJ25_init_2
def dkwJ25_init_0 : List UInt8 := [42, 183, 0, 21, 42, 3, 181, 0, 7, 42, 3, 181, 0, 24, 27, 156, 0, 30, 187, 0, 31, 89]
abbrev dktJ25_init_0 : List UInt8 := dkwJ25_init_0 ++ dktJ25_init_1
theorem dksJ25_init_0 : cJ25_init.data.toList.drop 0 = dktJ25_init_0 := by decide +kernel
theorem dksJ25_init_1 : cJ25_init.data.toList.drop 22 = dktJ25_init_1 := dk_seg dksJ25_init_0 22 rfl rfl
theorem dksJ25_init_2 : cJ25_init.data.toList.drop 46 = dktJ25_init_2 := dk_seg dksJ25_init_1 24 rfl rfl
theorem dJ25_init_0 : decode cJ25_init 0 = .ok (.aload_n 0, 1) := dk_42 (dk_at dksJ25_init_0 0 rfl rfl)
theorem dJ25_init_1 : decode cJ25_init 1 = .ok (.invokespecial 21, 3) := dk_183 0 21 (dk_at dksJ25_init_0 1 rfl rfl)
theorem dJ25_init_4 : decode cJ25_init 4 = .ok (.aload_n 0, 1) := dk_42 (dk_at dksJ25_init_0 4 rfl rfl)
theorem dJ25_init_5 : decode cJ25_init 5 = .ok (.iconst 0, 1) := dk_3 (dk_at dksJ25_init_0 5 rfl rfl)
theorem dJ25_init_6 : decode cJ25_init 6 = .ok (.putfield 7, 3) := dk_181 0 7 (dk_at dksJ25_init_0 6 rfl rfl)
theorem dJ25_init_9 : decode cJ25_init 9 = .ok (.aload_n 0, 1) := dk_42 (dk_at dksJ25_init_0 9 rfl rfl)
theorem dJ25_init_10 : decode cJ25_init 10 = .ok (.iconst 0, 1) := dk_3 (dk_at dksJ25_init_0 10 rfl rfl)
theorem dJ25_init_11 : decode cJ25_init 11 = .ok (.putfield 24, 3) := dk_181 0 24 (dk_at dksJ25_init_0 11 rfl rfl)
theorem dJ25_init_14 : decode cJ25_init 14 = .ok (.iload_n 1, 1) := dk_27 (dk_at dksJ25_init_0 14 rfl rfl)
theorem dJ25_init_15 : decode cJ25_init 15 = .ok (.ifCond .ge 30, 3) := dk_156 0 30 (dk_at dksJ25_init_0 15 rfl rfl)
theorem dJ25_init_18 : decode cJ25_init 18 = .ok (.new 31, 3) := dk_187 0 31 (dk_at dksJ25_init_0 18 rfl rfl)
theorem dJ25_init_21 : decode cJ25_init 21 = .ok (.dup, 1) := dk_89 (dk_at dksJ25_init_0 21 rfl rfl)
theorem dJ25_init_22 : decode cJ25_init 22 = .ok (.new 33, 3) := dk_187 0 33 (dk_at dksJ25_init_1 0 rfl rfl)
theorem dJ25_init_25 : decode cJ25_init 25 = .ok (.dup, 1) := dk_89 (dk_at dksJ25_init_1 3 rfl rfl)
theorem dJ25_init_26 : decode cJ25_init 26 = .ok (.invokespecial 35, 3) := dk_183 0 35 (dk_at dksJ25_init_1 4 rfl rfl)
theorem dJ25_init_29 : decode cJ25_init 29 = .ok (.ldc 36, 2) := dk_18 36 (dk_at dksJ25_init_1 7 rfl rfl)
theorem dJ25_init_31 : decode cJ25_init 31 = .ok (.invokevirtual 38, 3) := dk_182 0 38 (dk_at dksJ25_init_1 9 rfl rfl)
theorem dJ25_init_34 : decode cJ25_init 34 = .ok (.iload_n 1, 1) := dk_27 (dk_at dksJ25_init_1 12 rfl rfl)
theorem dJ25_init_35 : decode cJ25_init 35 = .ok (.invokevirtual 42, 3) := dk_182 0 42 (dk_at dksJ25_init_1 13 rfl rfl)
theorem dJ25_init_38 : decode cJ25_init 38 = .ok (.invokevirtual 45, 3) := dk_182 0 45 (dk_at dksJ25_init_1 16 rfl rfl)
theorem dJ25_init_41 : decode cJ25_init 41 = .ok (.invokespecial 49, 3) := dk_183 0 49 (dk_at dksJ25_init_1 19 rfl rfl)
theorem dJ25_init_44 : decode cJ25_init 44 = .ok (.athrow, 1) := dk_191 (dk_at dksJ25_init_1 22 rfl rfl)
theorem dJ25_init_45 : decode cJ25_init 45 = .ok (.aload_n 0, 1) := dk_42 (dk_at dksJ25_init_1 23 rfl rfl)
theorem dJ25_init_46 : decode cJ25_init 46 = .ok (.iload_n 1, 1) := dk_27 (dk_at dksJ25_init_2 0 rfl rfl)
theorem dJ25_init_47 : decode cJ25_init 47 = .ok (.invokevirtual 27, 3) := dk_182 0 27 (dk_at dksJ25_init_2 1 rfl rfl)
theorem dJ25_init_50 : decode cJ25_init 50 = .ok (.aload_n 0, 1) := dk_42 (dk_at dksJ25_init_2 4 rfl rfl)
theorem dJ25_init_51 : decode cJ25_init 51 = .ok (.iconst 1, 1) := dk_4 (dk_at dksJ25_init_2 5 rfl rfl)
theorem dJ25_init_52 : decode cJ25_init 52 = .ok (.putfield 24, 3) := dk_181 0 24 (dk_at dksJ25_init_2 6 rfl rfl)
theorem dJ25_init_55 : decode cJ25_init 55 = .ok (.return_, 1) := dk_177 (dk_at dksJ25_init_2 9 rfl rfl)
abbrev cJ25_initWords : ByteArray := prog_51_method_6_code
def yJ25_initWords : MethodName := ⟨RJ25, "initWords", "(I)V"⟩
def dkwJ25_initWords_0 : List UInt8 := [42, 27, 4, 100, 184, 0, 52, 4, 96, 188, 11, 181, 0, 11, 177]
abbrev dktJ25_initWords_0 : List UInt8 := dkwJ25_initWords_0 ++ []
theorem dksJ25_initWords_0 : cJ25_initWords.data.toList.drop 0 = dktJ25_initWords_0 := by decide +kernel
theorem dJ25_initWords_0 : decode cJ25_initWords 0 = .ok (.aload_n 0, 1) := dk_42 (dk_at dksJ25_initWords_0 0 rfl rfl)
theorem dJ25_initWords_1 : decode cJ25_initWords 1 = .ok (.iload_n 1, 1) := dk_27 (dk_at dksJ25_initWords_0 1 rfl rfl)
theorem dJ25_initWords_2 : decode cJ25_initWords 2 = .ok (.iconst 1, 1) := dk_4 (dk_at dksJ25_initWords_0 2 rfl rfl)
theorem dJ25_initWords_3 : decode cJ25_initWords 3 = .ok (.isub, 1) := dk_100 (dk_at dksJ25_initWords_0 3 rfl rfl)
theorem dJ25_initWords_4 : decode cJ25_initWords 4 = .ok (.invokestatic 52, 3) := dk_184 0 52 (dk_at dksJ25_initWords_0 4 rfl rfl)
theorem dJ25_initWords_7 : decode cJ25_initWords 7 = .ok (.iconst 1, 1) := dk_4 (dk_at dksJ25_initWords_0 7 rfl rfl)
theorem dJ25_initWords_8 : decode cJ25_initWords 8 = .ok (.iadd, 1) := dk_96 (dk_at dksJ25_initWords_0 8 rfl rfl)
theorem dJ25_initWords_9 : decode cJ25_initWords 9 = .ok (.newarray .long, 2) := dk_188_11 (dk_at dksJ25_initWords_0 9 rfl rfl)
theorem dJ25_initWords_11 : decode cJ25_initWords 11 = .ok (.putfield 11, 3) := dk_181 0 11 (dk_at dksJ25_initWords_0 11 rfl rfl)
theorem dJ25_initWords_14 : decode cJ25_initWords 14 = .ok (.return_, 1) := dk_177 (dk_at dksJ25_initWords_0 14 rfl rfl)
abbrev cJ25_wordIndex : ByteArray := prog_51_method_1_code
def yJ25_wordIndex : MethodName := ⟨RJ25, "wordIndex", "(I)I"⟩
def dkwJ25_wordIndex_0 : List UInt8 := [26, 16, 6, 122, 172]
abbrev dktJ25_wordIndex_0 : List UInt8 := dkwJ25_wordIndex_0 ++ []
theorem dksJ25_wordIndex_0 : cJ25_wordIndex.data.toList.drop 0 = dktJ25_wordIndex_0 := by decide +kernel
theorem dJ25_wordIndex_0 : decode cJ25_wordIndex 0 = .ok (.iload_n 0, 1) := dk_26 (dk_at dksJ25_wordIndex_0 0 rfl rfl)
theorem dJ25_wordIndex_1 : decode cJ25_wordIndex 1 = .ok (.bipush 6, 2) := dk_16 6 (dk_at dksJ25_wordIndex_0 1 rfl rfl)
theorem dJ25_wordIndex_3 : decode cJ25_wordIndex 3 = .ok (.ishr, 1) := dk_122 (dk_at dksJ25_wordIndex_0 3 rfl rfl)
theorem dJ25_wordIndex_4 : decode cJ25_wordIndex 4 = .ok (.ireturn, 1) := dk_172 (dk_at dksJ25_wordIndex_0 4 rfl rfl)
abbrev cJ25_or : ByteArray := prog_51_method_37_code
def yJ25_or : MethodName := ⟨RJ25, "or", "(Ljava/util/BitSet;)V"⟩
def dkwJ25_or_4 : List UInt8 := [180, 0, 7, 28, 100, 184, 0, 199, 42, 182, 0, 56, 177]
abbrev dktJ25_or_4 : List UInt8 := dkwJ25_or_4 ++ []
def dkwJ25_or_3 : List UInt8 := [167, 255, 233, 28, 43, 180, 0, 7, 162, 0, 22, 43, 180, 0, 11, 28, 42, 180, 0, 11, 28, 42]
abbrev dktJ25_or_3 : List UInt8 := dkwJ25_or_3 ++ dktJ25_or_4
def dkwJ25_or_2 : List UInt8 := [29, 28, 162, 0, 24, 42, 180, 0, 11, 29, 92, 47, 43, 180, 0, 11, 29, 47, 129, 80, 132, 3, 1]
abbrev dktJ25_or_2 : List UInt8 := dkwJ25_or_2 ++ dktJ25_or_3
def dkwJ25_or_1 : List UInt8 := [180, 0, 7, 162, 0, 19, 42, 43, 180, 0, 7, 182, 0, 139, 42, 43, 180, 0, 7, 181, 0, 7, 3, 62]
abbrev dktJ25_or_1 : List UInt8 := dkwJ25_or_1 ++ dktJ25_or_2
def dkwJ25_or_0 : List UInt8 := [42, 43, 166, 0, 4, 177, 42, 180, 0, 7, 43, 180, 0, 7, 184, 0, 193, 61, 42, 180, 0, 7, 43]
abbrev dktJ25_or_0 : List UInt8 := dkwJ25_or_0 ++ dktJ25_or_1
theorem dksJ25_or_0 : cJ25_or.data.toList.drop 0 = dktJ25_or_0 := by decide +kernel
theorem dksJ25_or_1 : cJ25_or.data.toList.drop 23 = dktJ25_or_1 := dk_seg dksJ25_or_0 23 rfl rfl
theorem dksJ25_or_2 : cJ25_or.data.toList.drop 47 = dktJ25_or_2 := dk_seg dksJ25_or_1 24 rfl rfl
theorem dksJ25_or_3 : cJ25_or.data.toList.drop 70 = dktJ25_or_3 := dk_seg dksJ25_or_2 23 rfl rfl
theorem dksJ25_or_4 : cJ25_or.data.toList.drop 92 = dktJ25_or_4 := dk_seg dksJ25_or_3 22 rfl rfl
theorem dJ25_or_0 : decode cJ25_or 0 = .ok (.aload_n 0, 1) := dk_42 (dk_at dksJ25_or_0 0 rfl rfl)
theorem dJ25_or_1 : decode cJ25_or 1 = .ok (.aload_n 1, 1) := dk_43 (dk_at dksJ25_or_0 1 rfl rfl)
theorem dJ25_or_2 : decode cJ25_or 2 = .ok (.if_acmp .ne 4, 3) := dk_166 0 4 (dk_at dksJ25_or_0 2 rfl rfl)
theorem dJ25_or_5 : decode cJ25_or 5 = .ok (.return_, 1) := dk_177 (dk_at dksJ25_or_0 5 rfl rfl)
theorem dJ25_or_6 : decode cJ25_or 6 = .ok (.aload_n 0, 1) := dk_42 (dk_at dksJ25_or_0 6 rfl rfl)
theorem dJ25_or_7 : decode cJ25_or 7 = .ok (.getfield 7, 3) := dk_180 0 7 (dk_at dksJ25_or_0 7 rfl rfl)
theorem dJ25_or_10 : decode cJ25_or 10 = .ok (.aload_n 1, 1) := dk_43 (dk_at dksJ25_or_0 10 rfl rfl)
theorem dJ25_or_11 : decode cJ25_or 11 = .ok (.getfield 7, 3) := dk_180 0 7 (dk_at dksJ25_or_0 11 rfl rfl)
theorem dJ25_or_14 : decode cJ25_or 14 = .ok (.invokestatic 193, 3) := dk_184 0 193 (dk_at dksJ25_or_0 14 rfl rfl)
theorem dJ25_or_17 : decode cJ25_or 17 = .ok (.istore_n 2, 1) := dk_61 (dk_at dksJ25_or_0 17 rfl rfl)
theorem dJ25_or_18 : decode cJ25_or 18 = .ok (.aload_n 0, 1) := dk_42 (dk_at dksJ25_or_0 18 rfl rfl)
theorem dJ25_or_19 : decode cJ25_or 19 = .ok (.getfield 7, 3) := dk_180 0 7 (dk_at dksJ25_or_0 19 rfl rfl)
theorem dJ25_or_22 : decode cJ25_or 22 = .ok (.aload_n 1, 1) := dk_43 (dk_at dksJ25_or_0 22 rfl rfl)
theorem dJ25_or_23 : decode cJ25_or 23 = .ok (.getfield 7, 3) := dk_180 0 7 (dk_at dksJ25_or_1 0 rfl rfl)
theorem dJ25_or_26 : decode cJ25_or 26 = .ok (.if_icmp .ge 19, 3) := dk_162 0 19 (dk_at dksJ25_or_1 3 rfl rfl)
theorem dJ25_or_29 : decode cJ25_or 29 = .ok (.aload_n 0, 1) := dk_42 (dk_at dksJ25_or_1 6 rfl rfl)
theorem dJ25_or_30 : decode cJ25_or 30 = .ok (.aload_n 1, 1) := dk_43 (dk_at dksJ25_or_1 7 rfl rfl)
theorem dJ25_or_31 : decode cJ25_or 31 = .ok (.getfield 7, 3) := dk_180 0 7 (dk_at dksJ25_or_1 8 rfl rfl)
theorem dJ25_or_34 : decode cJ25_or 34 = .ok (.invokevirtual 139, 3) := dk_182 0 139 (dk_at dksJ25_or_1 11 rfl rfl)
theorem dJ25_or_37 : decode cJ25_or 37 = .ok (.aload_n 0, 1) := dk_42 (dk_at dksJ25_or_1 14 rfl rfl)
theorem dJ25_or_38 : decode cJ25_or 38 = .ok (.aload_n 1, 1) := dk_43 (dk_at dksJ25_or_1 15 rfl rfl)
theorem dJ25_or_39 : decode cJ25_or 39 = .ok (.getfield 7, 3) := dk_180 0 7 (dk_at dksJ25_or_1 16 rfl rfl)
theorem dJ25_or_42 : decode cJ25_or 42 = .ok (.putfield 7, 3) := dk_181 0 7 (dk_at dksJ25_or_1 19 rfl rfl)
theorem dJ25_or_45 : decode cJ25_or 45 = .ok (.iconst 0, 1) := dk_3 (dk_at dksJ25_or_1 22 rfl rfl)
theorem dJ25_or_46 : decode cJ25_or 46 = .ok (.istore_n 3, 1) := dk_62 (dk_at dksJ25_or_1 23 rfl rfl)
theorem dJ25_or_47 : decode cJ25_or 47 = .ok (.iload_n 3, 1) := dk_29 (dk_at dksJ25_or_2 0 rfl rfl)
theorem dJ25_or_48 : decode cJ25_or 48 = .ok (.iload_n 2, 1) := dk_28 (dk_at dksJ25_or_2 1 rfl rfl)
theorem dJ25_or_49 : decode cJ25_or 49 = .ok (.if_icmp .ge 24, 3) := dk_162 0 24 (dk_at dksJ25_or_2 2 rfl rfl)
theorem dJ25_or_52 : decode cJ25_or 52 = .ok (.aload_n 0, 1) := dk_42 (dk_at dksJ25_or_2 5 rfl rfl)
theorem dJ25_or_53 : decode cJ25_or 53 = .ok (.getfield 11, 3) := dk_180 0 11 (dk_at dksJ25_or_2 6 rfl rfl)
theorem dJ25_or_56 : decode cJ25_or 56 = .ok (.iload_n 3, 1) := dk_29 (dk_at dksJ25_or_2 9 rfl rfl)
theorem dJ25_or_57 : decode cJ25_or 57 = .ok (.dup2, 1) := dk_92 (dk_at dksJ25_or_2 10 rfl rfl)
theorem dJ25_or_58 : decode cJ25_or 58 = .ok (.laload, 1) := dk_47 (dk_at dksJ25_or_2 11 rfl rfl)
theorem dJ25_or_59 : decode cJ25_or 59 = .ok (.aload_n 1, 1) := dk_43 (dk_at dksJ25_or_2 12 rfl rfl)
theorem dJ25_or_60 : decode cJ25_or 60 = .ok (.getfield 11, 3) := dk_180 0 11 (dk_at dksJ25_or_2 13 rfl rfl)
theorem dJ25_or_63 : decode cJ25_or 63 = .ok (.iload_n 3, 1) := dk_29 (dk_at dksJ25_or_2 16 rfl rfl)
theorem dJ25_or_64 : decode cJ25_or 64 = .ok (.laload, 1) := dk_47 (dk_at dksJ25_or_2 17 rfl rfl)
theorem dJ25_or_65 : decode cJ25_or 65 = .ok (.lor, 1) := dk_129 (dk_at dksJ25_or_2 18 rfl rfl)
theorem dJ25_or_66 : decode cJ25_or 66 = .ok (.lastore, 1) := dk_80 (dk_at dksJ25_or_2 19 rfl rfl)
theorem dJ25_or_67 : decode cJ25_or 67 = .ok (.iinc 3 1, 3) := dk_132 3 1 (dk_at dksJ25_or_2 20 rfl rfl)
theorem dJ25_or_70 : decode cJ25_or 70 = .ok (.goto (-23), 3) := dk_167 255 233 (dk_at dksJ25_or_3 0 rfl rfl)
theorem dJ25_or_73 : decode cJ25_or 73 = .ok (.iload_n 2, 1) := dk_28 (dk_at dksJ25_or_3 3 rfl rfl)
theorem dJ25_or_74 : decode cJ25_or 74 = .ok (.aload_n 1, 1) := dk_43 (dk_at dksJ25_or_3 4 rfl rfl)
theorem dJ25_or_75 : decode cJ25_or 75 = .ok (.getfield 7, 3) := dk_180 0 7 (dk_at dksJ25_or_3 5 rfl rfl)
theorem dJ25_or_78 : decode cJ25_or 78 = .ok (.if_icmp .ge 22, 3) := dk_162 0 22 (dk_at dksJ25_or_3 8 rfl rfl)
theorem dJ25_or_81 : decode cJ25_or 81 = .ok (.aload_n 1, 1) := dk_43 (dk_at dksJ25_or_3 11 rfl rfl)
theorem dJ25_or_82 : decode cJ25_or 82 = .ok (.getfield 11, 3) := dk_180 0 11 (dk_at dksJ25_or_3 12 rfl rfl)
theorem dJ25_or_85 : decode cJ25_or 85 = .ok (.iload_n 2, 1) := dk_28 (dk_at dksJ25_or_3 15 rfl rfl)
theorem dJ25_or_86 : decode cJ25_or 86 = .ok (.aload_n 0, 1) := dk_42 (dk_at dksJ25_or_3 16 rfl rfl)
theorem dJ25_or_87 : decode cJ25_or 87 = .ok (.getfield 11, 3) := dk_180 0 11 (dk_at dksJ25_or_3 17 rfl rfl)
theorem dJ25_or_90 : decode cJ25_or 90 = .ok (.iload_n 2, 1) := dk_28 (dk_at dksJ25_or_3 20 rfl rfl)
theorem dJ25_or_91 : decode cJ25_or 91 = .ok (.aload_n 0, 1) := dk_42 (dk_at dksJ25_or_3 21 rfl rfl)
theorem dJ25_or_92 : decode cJ25_or 92 = .ok (.getfield 7, 3) := dk_180 0 7 (dk_at dksJ25_or_4 0 rfl rfl)
theorem dJ25_or_95 : decode cJ25_or 95 = .ok (.iload_n 2, 1) := dk_28 (dk_at dksJ25_or_4 3 rfl rfl)
theorem dJ25_or_96 : decode cJ25_or 96 = .ok (.isub, 1) := dk_100 (dk_at dksJ25_or_4 4 rfl rfl)
theorem dJ25_or_97 : decode cJ25_or 97 = .ok (.invokestatic 199, 3) := dk_184 0 199 (dk_at dksJ25_or_4 5 rfl rfl)
theorem dJ25_or_100 : decode cJ25_or 100 = .ok (.aload_n 0, 1) := dk_42 (dk_at dksJ25_or_4 8 rfl rfl)
theorem dJ25_or_101 : decode cJ25_or 101 = .ok (.invokevirtual 56, 3) := dk_182 0 56 (dk_at dksJ25_or_4 9 rfl rfl)
theorem dJ25_or_104 : decode cJ25_or 104 = .ok (.return_, 1) := dk_177 (dk_at dksJ25_or_4 12 rfl rfl)
abbrev cJ25_ensureCapacity : ByteArray := prog_51_method_14_code
def yJ25_ensureCapacity : MethodName := ⟨RJ25, "ensureCapacity", "(I)V"⟩
def dkwJ25_ensureCapacity_1 : List UInt8 := [180, 0, 11, 28, 184, 0, 59, 181, 0, 11, 42, 3, 181, 0, 24, 177]
abbrev dktJ25_ensureCapacity_1 : List UInt8 := dkwJ25_ensureCapacity_1 ++ []
def dkwJ25_ensureCapacity_0 : List UInt8 := [42, 180, 0, 11, 190, 27, 162, 0, 32, 5, 42, 180, 0, 11, 190, 104, 27, 184, 0, 133, 61, 42, 42]
abbrev dktJ25_ensureCapacity_0 : List UInt8 := dkwJ25_ensureCapacity_0 ++ dktJ25_ensureCapacity_1
theorem dksJ25_ensureCapacity_0 : cJ25_ensureCapacity.data.toList.drop 0 = dktJ25_ensureCapacity_0 := by decide +kernel
theorem dksJ25_ensureCapacity_1 : cJ25_ensureCapacity.data.toList.drop 23 = dktJ25_ensureCapacity_1 := dk_seg dksJ25_ensureCapacity_0 23 rfl rfl
theorem dJ25_ensureCapacity_0 : decode cJ25_ensureCapacity 0 = .ok (.aload_n 0, 1) := dk_42 (dk_at dksJ25_ensureCapacity_0 0 rfl rfl)
theorem dJ25_ensureCapacity_1 : decode cJ25_ensureCapacity 1 = .ok (.getfield 11, 3) := dk_180 0 11 (dk_at dksJ25_ensureCapacity_0 1 rfl rfl)
theorem dJ25_ensureCapacity_4 : decode cJ25_ensureCapacity 4 = .ok (.arraylength, 1) := dk_190 (dk_at dksJ25_ensureCapacity_0 4 rfl rfl)
theorem dJ25_ensureCapacity_5 : decode cJ25_ensureCapacity 5 = .ok (.iload_n 1, 1) := dk_27 (dk_at dksJ25_ensureCapacity_0 5 rfl rfl)
theorem dJ25_ensureCapacity_6 : decode cJ25_ensureCapacity 6 = .ok (.if_icmp .ge 32, 3) := dk_162 0 32 (dk_at dksJ25_ensureCapacity_0 6 rfl rfl)
theorem dJ25_ensureCapacity_9 : decode cJ25_ensureCapacity 9 = .ok (.iconst 2, 1) := dk_5 (dk_at dksJ25_ensureCapacity_0 9 rfl rfl)
theorem dJ25_ensureCapacity_10 : decode cJ25_ensureCapacity 10 = .ok (.aload_n 0, 1) := dk_42 (dk_at dksJ25_ensureCapacity_0 10 rfl rfl)
theorem dJ25_ensureCapacity_11 : decode cJ25_ensureCapacity 11 = .ok (.getfield 11, 3) := dk_180 0 11 (dk_at dksJ25_ensureCapacity_0 11 rfl rfl)
theorem dJ25_ensureCapacity_14 : decode cJ25_ensureCapacity 14 = .ok (.arraylength, 1) := dk_190 (dk_at dksJ25_ensureCapacity_0 14 rfl rfl)
theorem dJ25_ensureCapacity_15 : decode cJ25_ensureCapacity 15 = .ok (.imul, 1) := dk_104 (dk_at dksJ25_ensureCapacity_0 15 rfl rfl)
theorem dJ25_ensureCapacity_16 : decode cJ25_ensureCapacity 16 = .ok (.iload_n 1, 1) := dk_27 (dk_at dksJ25_ensureCapacity_0 16 rfl rfl)
theorem dJ25_ensureCapacity_17 : decode cJ25_ensureCapacity 17 = .ok (.invokestatic 133, 3) := dk_184 0 133 (dk_at dksJ25_ensureCapacity_0 17 rfl rfl)
theorem dJ25_ensureCapacity_20 : decode cJ25_ensureCapacity 20 = .ok (.istore_n 2, 1) := dk_61 (dk_at dksJ25_ensureCapacity_0 20 rfl rfl)
theorem dJ25_ensureCapacity_21 : decode cJ25_ensureCapacity 21 = .ok (.aload_n 0, 1) := dk_42 (dk_at dksJ25_ensureCapacity_0 21 rfl rfl)
theorem dJ25_ensureCapacity_22 : decode cJ25_ensureCapacity 22 = .ok (.aload_n 0, 1) := dk_42 (dk_at dksJ25_ensureCapacity_0 22 rfl rfl)
theorem dJ25_ensureCapacity_23 : decode cJ25_ensureCapacity 23 = .ok (.getfield 11, 3) := dk_180 0 11 (dk_at dksJ25_ensureCapacity_1 0 rfl rfl)
theorem dJ25_ensureCapacity_26 : decode cJ25_ensureCapacity 26 = .ok (.iload_n 2, 1) := dk_28 (dk_at dksJ25_ensureCapacity_1 3 rfl rfl)
theorem dJ25_ensureCapacity_27 : decode cJ25_ensureCapacity 27 = .ok (.invokestatic 59, 3) := dk_184 0 59 (dk_at dksJ25_ensureCapacity_1 4 rfl rfl)
theorem dJ25_ensureCapacity_30 : decode cJ25_ensureCapacity 30 = .ok (.putfield 11, 3) := dk_181 0 11 (dk_at dksJ25_ensureCapacity_1 7 rfl rfl)
theorem dJ25_ensureCapacity_33 : decode cJ25_ensureCapacity 33 = .ok (.aload_n 0, 1) := dk_42 (dk_at dksJ25_ensureCapacity_1 10 rfl rfl)
theorem dJ25_ensureCapacity_34 : decode cJ25_ensureCapacity 34 = .ok (.iconst 0, 1) := dk_3 (dk_at dksJ25_ensureCapacity_1 11 rfl rfl)
theorem dJ25_ensureCapacity_35 : decode cJ25_ensureCapacity 35 = .ok (.putfield 24, 3) := dk_181 0 24 (dk_at dksJ25_ensureCapacity_1 12 rfl rfl)
theorem dJ25_ensureCapacity_38 : decode cJ25_ensureCapacity 38 = .ok (.return_, 1) := dk_177 (dk_at dksJ25_ensureCapacity_1 15 rfl rfl)
abbrev cJ25_checkInvariants : ByteArray := prog_51_method_2_code
def yJ25_checkInvariants : MethodName := ⟨RJ25, "checkInvariants", "()V"⟩
def dkwJ25_checkInvariants_4 : List UInt8 := [180, 0, 7, 47, 9, 148, 153, 0, 11, 187, 0, 15, 89, 183, 0, 17, 191, 177]
abbrev dktJ25_checkInvariants_4 : List UInt8 := dkwJ25_checkInvariants_4 ++ []
def dkwJ25_checkInvariants_3 : List UInt8 := [178, 0, 3, 154, 0, 37, 42, 180, 0, 7, 42, 180, 0, 11, 190, 159, 0, 25, 42, 180, 0, 11, 42]
abbrev dktJ25_checkInvariants_3 : List UInt8 := dkwJ25_checkInvariants_3 ++ dktJ25_checkInvariants_4
def dkwJ25_checkInvariants_2 : List UInt8 := [155, 0, 15, 42, 180, 0, 7, 42, 180, 0, 11, 190, 164, 0, 11, 187, 0, 15, 89, 183, 0, 17, 191]
abbrev dktJ25_checkInvariants_2 : List UInt8 := dkwJ25_checkInvariants_2 ++ dktJ25_checkInvariants_3
def dkwJ25_checkInvariants_1 : List UInt8 := [9, 148, 154, 0, 11, 187, 0, 15, 89, 183, 0, 17, 191, 178, 0, 3, 154, 0, 30, 42, 180, 0, 7]
abbrev dktJ25_checkInvariants_1 : List UInt8 := dkwJ25_checkInvariants_1 ++ dktJ25_checkInvariants_2
def dkwJ25_checkInvariants_0 : List UInt8 := [178, 0, 3, 154, 0, 34, 42, 180, 0, 7, 153, 0, 27, 42, 180, 0, 11, 42, 180, 0, 7, 4, 100, 47]
abbrev dktJ25_checkInvariants_0 : List UInt8 := dkwJ25_checkInvariants_0 ++ dktJ25_checkInvariants_1
theorem dksJ25_checkInvariants_0 : cJ25_checkInvariants.data.toList.drop 0 = dktJ25_checkInvariants_0 := by decide +kernel
theorem dksJ25_checkInvariants_1 : cJ25_checkInvariants.data.toList.drop 24 = dktJ25_checkInvariants_1 := dk_seg dksJ25_checkInvariants_0 24 rfl rfl
theorem dksJ25_checkInvariants_2 : cJ25_checkInvariants.data.toList.drop 47 = dktJ25_checkInvariants_2 := dk_seg dksJ25_checkInvariants_1 23 rfl rfl
theorem dksJ25_checkInvariants_3 : cJ25_checkInvariants.data.toList.drop 70 = dktJ25_checkInvariants_3 := dk_seg dksJ25_checkInvariants_2 23 rfl rfl
theorem dksJ25_checkInvariants_4 : cJ25_checkInvariants.data.toList.drop 93 = dktJ25_checkInvariants_4 := dk_seg dksJ25_checkInvariants_3 23 rfl rfl
theorem dJ25_checkInvariants_0 : decode cJ25_checkInvariants 0 = .ok (.getstatic 3, 3) := dk_178 0 3 (dk_at dksJ25_checkInvariants_0 0 rfl rfl)
theorem dJ25_checkInvariants_3 : decode cJ25_checkInvariants 3 = .ok (.ifCond .ne 34, 3) := dk_154 0 34 (dk_at dksJ25_checkInvariants_0 3 rfl rfl)
theorem dJ25_checkInvariants_6 : decode cJ25_checkInvariants 6 = .ok (.aload_n 0, 1) := dk_42 (dk_at dksJ25_checkInvariants_0 6 rfl rfl)
theorem dJ25_checkInvariants_7 : decode cJ25_checkInvariants 7 = .ok (.getfield 7, 3) := dk_180 0 7 (dk_at dksJ25_checkInvariants_0 7 rfl rfl)
theorem dJ25_checkInvariants_10 : decode cJ25_checkInvariants 10 = .ok (.ifCond .eq 27, 3) := dk_153 0 27 (dk_at dksJ25_checkInvariants_0 10 rfl rfl)
theorem dJ25_checkInvariants_13 : decode cJ25_checkInvariants 13 = .ok (.aload_n 0, 1) := dk_42 (dk_at dksJ25_checkInvariants_0 13 rfl rfl)
theorem dJ25_checkInvariants_14 : decode cJ25_checkInvariants 14 = .ok (.getfield 11, 3) := dk_180 0 11 (dk_at dksJ25_checkInvariants_0 14 rfl rfl)
theorem dJ25_checkInvariants_17 : decode cJ25_checkInvariants 17 = .ok (.aload_n 0, 1) := dk_42 (dk_at dksJ25_checkInvariants_0 17 rfl rfl)
theorem dJ25_checkInvariants_18 : decode cJ25_checkInvariants 18 = .ok (.getfield 7, 3) := dk_180 0 7 (dk_at dksJ25_checkInvariants_0 18 rfl rfl)
theorem dJ25_checkInvariants_21 : decode cJ25_checkInvariants 21 = .ok (.iconst 1, 1) := dk_4 (dk_at dksJ25_checkInvariants_0 21 rfl rfl)
theorem dJ25_checkInvariants_22 : decode cJ25_checkInvariants 22 = .ok (.isub, 1) := dk_100 (dk_at dksJ25_checkInvariants_0 22 rfl rfl)
theorem dJ25_checkInvariants_23 : decode cJ25_checkInvariants 23 = .ok (.laload, 1) := dk_47 (dk_at dksJ25_checkInvariants_0 23 rfl rfl)
theorem dJ25_checkInvariants_24 : decode cJ25_checkInvariants 24 = .ok (.lconst 0, 1) := dk_9 (dk_at dksJ25_checkInvariants_1 0 rfl rfl)
theorem dJ25_checkInvariants_25 : decode cJ25_checkInvariants 25 = .ok (.lcmp, 1) := dk_148 (dk_at dksJ25_checkInvariants_1 1 rfl rfl)
theorem dJ25_checkInvariants_26 : decode cJ25_checkInvariants 26 = .ok (.ifCond .ne 11, 3) := dk_154 0 11 (dk_at dksJ25_checkInvariants_1 2 rfl rfl)
theorem dJ25_checkInvariants_29 : decode cJ25_checkInvariants 29 = .ok (.new 15, 3) := dk_187 0 15 (dk_at dksJ25_checkInvariants_1 5 rfl rfl)
theorem dJ25_checkInvariants_32 : decode cJ25_checkInvariants 32 = .ok (.dup, 1) := dk_89 (dk_at dksJ25_checkInvariants_1 8 rfl rfl)
theorem dJ25_checkInvariants_33 : decode cJ25_checkInvariants 33 = .ok (.invokespecial 17, 3) := dk_183 0 17 (dk_at dksJ25_checkInvariants_1 9 rfl rfl)
theorem dJ25_checkInvariants_36 : decode cJ25_checkInvariants 36 = .ok (.athrow, 1) := dk_191 (dk_at dksJ25_checkInvariants_1 12 rfl rfl)
theorem dJ25_checkInvariants_37 : decode cJ25_checkInvariants 37 = .ok (.getstatic 3, 3) := dk_178 0 3 (dk_at dksJ25_checkInvariants_1 13 rfl rfl)
theorem dJ25_checkInvariants_40 : decode cJ25_checkInvariants 40 = .ok (.ifCond .ne 30, 3) := dk_154 0 30 (dk_at dksJ25_checkInvariants_1 16 rfl rfl)
theorem dJ25_checkInvariants_43 : decode cJ25_checkInvariants 43 = .ok (.aload_n 0, 1) := dk_42 (dk_at dksJ25_checkInvariants_1 19 rfl rfl)
theorem dJ25_checkInvariants_44 : decode cJ25_checkInvariants 44 = .ok (.getfield 7, 3) := dk_180 0 7 (dk_at dksJ25_checkInvariants_1 20 rfl rfl)
theorem dJ25_checkInvariants_47 : decode cJ25_checkInvariants 47 = .ok (.ifCond .lt 15, 3) := dk_155 0 15 (dk_at dksJ25_checkInvariants_2 0 rfl rfl)
theorem dJ25_checkInvariants_50 : decode cJ25_checkInvariants 50 = .ok (.aload_n 0, 1) := dk_42 (dk_at dksJ25_checkInvariants_2 3 rfl rfl)
theorem dJ25_checkInvariants_51 : decode cJ25_checkInvariants 51 = .ok (.getfield 7, 3) := dk_180 0 7 (dk_at dksJ25_checkInvariants_2 4 rfl rfl)
theorem dJ25_checkInvariants_54 : decode cJ25_checkInvariants 54 = .ok (.aload_n 0, 1) := dk_42 (dk_at dksJ25_checkInvariants_2 7 rfl rfl)
theorem dJ25_checkInvariants_55 : decode cJ25_checkInvariants 55 = .ok (.getfield 11, 3) := dk_180 0 11 (dk_at dksJ25_checkInvariants_2 8 rfl rfl)
theorem dJ25_checkInvariants_58 : decode cJ25_checkInvariants 58 = .ok (.arraylength, 1) := dk_190 (dk_at dksJ25_checkInvariants_2 11 rfl rfl)
theorem dJ25_checkInvariants_59 : decode cJ25_checkInvariants 59 = .ok (.if_icmp .le 11, 3) := dk_164 0 11 (dk_at dksJ25_checkInvariants_2 12 rfl rfl)
theorem dJ25_checkInvariants_62 : decode cJ25_checkInvariants 62 = .ok (.new 15, 3) := dk_187 0 15 (dk_at dksJ25_checkInvariants_2 15 rfl rfl)
theorem dJ25_checkInvariants_65 : decode cJ25_checkInvariants 65 = .ok (.dup, 1) := dk_89 (dk_at dksJ25_checkInvariants_2 18 rfl rfl)
theorem dJ25_checkInvariants_66 : decode cJ25_checkInvariants 66 = .ok (.invokespecial 17, 3) := dk_183 0 17 (dk_at dksJ25_checkInvariants_2 19 rfl rfl)
theorem dJ25_checkInvariants_69 : decode cJ25_checkInvariants 69 = .ok (.athrow, 1) := dk_191 (dk_at dksJ25_checkInvariants_2 22 rfl rfl)
theorem dJ25_checkInvariants_70 : decode cJ25_checkInvariants 70 = .ok (.getstatic 3, 3) := dk_178 0 3 (dk_at dksJ25_checkInvariants_3 0 rfl rfl)
theorem dJ25_checkInvariants_73 : decode cJ25_checkInvariants 73 = .ok (.ifCond .ne 37, 3) := dk_154 0 37 (dk_at dksJ25_checkInvariants_3 3 rfl rfl)
theorem dJ25_checkInvariants_76 : decode cJ25_checkInvariants 76 = .ok (.aload_n 0, 1) := dk_42 (dk_at dksJ25_checkInvariants_3 6 rfl rfl)
theorem dJ25_checkInvariants_77 : decode cJ25_checkInvariants 77 = .ok (.getfield 7, 3) := dk_180 0 7 (dk_at dksJ25_checkInvariants_3 7 rfl rfl)
theorem dJ25_checkInvariants_80 : decode cJ25_checkInvariants 80 = .ok (.aload_n 0, 1) := dk_42 (dk_at dksJ25_checkInvariants_3 10 rfl rfl)
theorem dJ25_checkInvariants_81 : decode cJ25_checkInvariants 81 = .ok (.getfield 11, 3) := dk_180 0 11 (dk_at dksJ25_checkInvariants_3 11 rfl rfl)
theorem dJ25_checkInvariants_84 : decode cJ25_checkInvariants 84 = .ok (.arraylength, 1) := dk_190 (dk_at dksJ25_checkInvariants_3 14 rfl rfl)
theorem dJ25_checkInvariants_85 : decode cJ25_checkInvariants 85 = .ok (.if_icmp .eq 25, 3) := dk_159 0 25 (dk_at dksJ25_checkInvariants_3 15 rfl rfl)
theorem dJ25_checkInvariants_88 : decode cJ25_checkInvariants 88 = .ok (.aload_n 0, 1) := dk_42 (dk_at dksJ25_checkInvariants_3 18 rfl rfl)
theorem dJ25_checkInvariants_89 : decode cJ25_checkInvariants 89 = .ok (.getfield 11, 3) := dk_180 0 11 (dk_at dksJ25_checkInvariants_3 19 rfl rfl)
theorem dJ25_checkInvariants_92 : decode cJ25_checkInvariants 92 = .ok (.aload_n 0, 1) := dk_42 (dk_at dksJ25_checkInvariants_3 22 rfl rfl)
theorem dJ25_checkInvariants_93 : decode cJ25_checkInvariants 93 = .ok (.getfield 7, 3) := dk_180 0 7 (dk_at dksJ25_checkInvariants_4 0 rfl rfl)
theorem dJ25_checkInvariants_96 : decode cJ25_checkInvariants 96 = .ok (.laload, 1) := dk_47 (dk_at dksJ25_checkInvariants_4 3 rfl rfl)
theorem dJ25_checkInvariants_97 : decode cJ25_checkInvariants 97 = .ok (.lconst 0, 1) := dk_9 (dk_at dksJ25_checkInvariants_4 4 rfl rfl)
theorem dJ25_checkInvariants_98 : decode cJ25_checkInvariants 98 = .ok (.lcmp, 1) := dk_148 (dk_at dksJ25_checkInvariants_4 5 rfl rfl)
theorem dJ25_checkInvariants_99 : decode cJ25_checkInvariants 99 = .ok (.ifCond .eq 11, 3) := dk_153 0 11 (dk_at dksJ25_checkInvariants_4 6 rfl rfl)
theorem dJ25_checkInvariants_102 : decode cJ25_checkInvariants 102 = .ok (.new 15, 3) := dk_187 0 15 (dk_at dksJ25_checkInvariants_4 9 rfl rfl)
theorem dJ25_checkInvariants_105 : decode cJ25_checkInvariants 105 = .ok (.dup, 1) := dk_89 (dk_at dksJ25_checkInvariants_4 12 rfl rfl)
theorem dJ25_checkInvariants_106 : decode cJ25_checkInvariants 106 = .ok (.invokespecial 17, 3) := dk_183 0 17 (dk_at dksJ25_checkInvariants_4 13 rfl rfl)
theorem dJ25_checkInvariants_109 : decode cJ25_checkInvariants 109 = .ok (.athrow, 1) := dk_191 (dk_at dksJ25_checkInvariants_4 16 rfl rfl)
theorem dJ25_checkInvariants_110 : decode cJ25_checkInvariants 110 = .ok (.return_, 1) := dk_177 (dk_at dksJ25_checkInvariants_4 17 rfl rfl)
abbrev cJ25_get : ByteArray := prog_51_method_26_code
def yJ25_get : MethodName := ⟨RJ25, "get", "(I)Z"⟩
def dkwJ25_get_2 : List UInt8 := [42, 180, 0, 11, 28, 47, 10, 27, 121, 127, 9, 148, 153, 0, 7, 4, 167, 0, 4, 3, 172]
abbrev dktJ25_get_2 : List UInt8 := dkwJ25_get_2 ++ []
def dkwJ25_get_1 : List UInt8 := [182, 0, 45, 183, 0, 146, 191, 42, 182, 0, 56, 27, 184, 0, 52, 61, 28, 42, 180, 0, 7, 162, 0, 22]
abbrev dktJ25_get_1 : List UInt8 := dkwJ25_get_1 ++ dktJ25_get_2
def dkwJ25_get_0 : List UInt8 := [27, 156, 0, 30, 187, 0, 142, 89, 187, 0, 33, 89, 183, 0, 35, 18, 153, 182, 0, 38, 27, 182, 0, 42]
abbrev dktJ25_get_0 : List UInt8 := dkwJ25_get_0 ++ dktJ25_get_1
theorem dksJ25_get_0 : cJ25_get.data.toList.drop 0 = dktJ25_get_0 := by decide +kernel
theorem dksJ25_get_1 : cJ25_get.data.toList.drop 24 = dktJ25_get_1 := dk_seg dksJ25_get_0 24 rfl rfl
theorem dksJ25_get_2 : cJ25_get.data.toList.drop 48 = dktJ25_get_2 := dk_seg dksJ25_get_1 24 rfl rfl
theorem dJ25_get_0 : decode cJ25_get 0 = .ok (.iload_n 1, 1) := dk_27 (dk_at dksJ25_get_0 0 rfl rfl)
theorem dJ25_get_1 : decode cJ25_get 1 = .ok (.ifCond .ge 30, 3) := dk_156 0 30 (dk_at dksJ25_get_0 1 rfl rfl)
theorem dJ25_get_4 : decode cJ25_get 4 = .ok (.new 142, 3) := dk_187 0 142 (dk_at dksJ25_get_0 4 rfl rfl)
theorem dJ25_get_7 : decode cJ25_get 7 = .ok (.dup, 1) := dk_89 (dk_at dksJ25_get_0 7 rfl rfl)
theorem dJ25_get_8 : decode cJ25_get 8 = .ok (.new 33, 3) := dk_187 0 33 (dk_at dksJ25_get_0 8 rfl rfl)
theorem dJ25_get_11 : decode cJ25_get 11 = .ok (.dup, 1) := dk_89 (dk_at dksJ25_get_0 11 rfl rfl)
theorem dJ25_get_12 : decode cJ25_get 12 = .ok (.invokespecial 35, 3) := dk_183 0 35 (dk_at dksJ25_get_0 12 rfl rfl)
theorem dJ25_get_15 : decode cJ25_get 15 = .ok (.ldc 153, 2) := dk_18 153 (dk_at dksJ25_get_0 15 rfl rfl)
theorem dJ25_get_17 : decode cJ25_get 17 = .ok (.invokevirtual 38, 3) := dk_182 0 38 (dk_at dksJ25_get_0 17 rfl rfl)
theorem dJ25_get_20 : decode cJ25_get 20 = .ok (.iload_n 1, 1) := dk_27 (dk_at dksJ25_get_0 20 rfl rfl)
theorem dJ25_get_21 : decode cJ25_get 21 = .ok (.invokevirtual 42, 3) := dk_182 0 42 (dk_at dksJ25_get_0 21 rfl rfl)
theorem dJ25_get_24 : decode cJ25_get 24 = .ok (.invokevirtual 45, 3) := dk_182 0 45 (dk_at dksJ25_get_1 0 rfl rfl)
theorem dJ25_get_27 : decode cJ25_get 27 = .ok (.invokespecial 146, 3) := dk_183 0 146 (dk_at dksJ25_get_1 3 rfl rfl)
theorem dJ25_get_30 : decode cJ25_get 30 = .ok (.athrow, 1) := dk_191 (dk_at dksJ25_get_1 6 rfl rfl)
theorem dJ25_get_31 : decode cJ25_get 31 = .ok (.aload_n 0, 1) := dk_42 (dk_at dksJ25_get_1 7 rfl rfl)
theorem dJ25_get_32 : decode cJ25_get 32 = .ok (.invokevirtual 56, 3) := dk_182 0 56 (dk_at dksJ25_get_1 8 rfl rfl)
theorem dJ25_get_35 : decode cJ25_get 35 = .ok (.iload_n 1, 1) := dk_27 (dk_at dksJ25_get_1 11 rfl rfl)
theorem dJ25_get_36 : decode cJ25_get 36 = .ok (.invokestatic 52, 3) := dk_184 0 52 (dk_at dksJ25_get_1 12 rfl rfl)
theorem dJ25_get_39 : decode cJ25_get 39 = .ok (.istore_n 2, 1) := dk_61 (dk_at dksJ25_get_1 15 rfl rfl)
theorem dJ25_get_40 : decode cJ25_get 40 = .ok (.iload_n 2, 1) := dk_28 (dk_at dksJ25_get_1 16 rfl rfl)
theorem dJ25_get_41 : decode cJ25_get 41 = .ok (.aload_n 0, 1) := dk_42 (dk_at dksJ25_get_1 17 rfl rfl)
theorem dJ25_get_42 : decode cJ25_get 42 = .ok (.getfield 7, 3) := dk_180 0 7 (dk_at dksJ25_get_1 18 rfl rfl)
theorem dJ25_get_45 : decode cJ25_get 45 = .ok (.if_icmp .ge 22, 3) := dk_162 0 22 (dk_at dksJ25_get_1 21 rfl rfl)
theorem dJ25_get_48 : decode cJ25_get 48 = .ok (.aload_n 0, 1) := dk_42 (dk_at dksJ25_get_2 0 rfl rfl)
theorem dJ25_get_49 : decode cJ25_get 49 = .ok (.getfield 11, 3) := dk_180 0 11 (dk_at dksJ25_get_2 1 rfl rfl)
theorem dJ25_get_52 : decode cJ25_get 52 = .ok (.iload_n 2, 1) := dk_28 (dk_at dksJ25_get_2 4 rfl rfl)
theorem dJ25_get_53 : decode cJ25_get 53 = .ok (.laload, 1) := dk_47 (dk_at dksJ25_get_2 5 rfl rfl)
theorem dJ25_get_54 : decode cJ25_get 54 = .ok (.lconst 1, 1) := dk_10 (dk_at dksJ25_get_2 6 rfl rfl)
theorem dJ25_get_55 : decode cJ25_get 55 = .ok (.iload_n 1, 1) := dk_27 (dk_at dksJ25_get_2 7 rfl rfl)
theorem dJ25_get_56 : decode cJ25_get 56 = .ok (.lshl, 1) := dk_121 (dk_at dksJ25_get_2 8 rfl rfl)
theorem dJ25_get_57 : decode cJ25_get 57 = .ok (.land, 1) := dk_127 (dk_at dksJ25_get_2 9 rfl rfl)
theorem dJ25_get_58 : decode cJ25_get 58 = .ok (.lconst 0, 1) := dk_9 (dk_at dksJ25_get_2 10 rfl rfl)
theorem dJ25_get_59 : decode cJ25_get 59 = .ok (.lcmp, 1) := dk_148 (dk_at dksJ25_get_2 11 rfl rfl)
theorem dJ25_get_60 : decode cJ25_get 60 = .ok (.ifCond .eq 7, 3) := dk_153 0 7 (dk_at dksJ25_get_2 12 rfl rfl)
theorem dJ25_get_63 : decode cJ25_get 63 = .ok (.iconst 1, 1) := dk_4 (dk_at dksJ25_get_2 15 rfl rfl)
theorem dJ25_get_64 : decode cJ25_get 64 = .ok (.goto 4, 3) := dk_167 0 4 (dk_at dksJ25_get_2 16 rfl rfl)
theorem dJ25_get_67 : decode cJ25_get 67 = .ok (.iconst 0, 1) := dk_3 (dk_at dksJ25_get_2 19 rfl rfl)
theorem dJ25_get_68 : decode cJ25_get 68 = .ok (.ireturn, 1) := dk_172 (dk_at dksJ25_get_2 20 rfl rfl)
abbrev cJ25_set : ByteArray := prog_51_method_19_code
def yJ25_set : MethodName := ⟨RJ25, "set", "(I)V"⟩
def dkwJ25_set_2 : List UInt8 := [10, 27, 121, 129, 80, 42, 182, 0, 56, 177]
abbrev dktJ25_set_2 : List UInt8 := dkwJ25_set_2 ++ []
def dkwJ25_set_1 : List UInt8 := [182, 0, 45, 183, 0, 146, 191, 27, 184, 0, 52, 61, 42, 28, 182, 0, 155, 42, 180, 0, 11, 28, 92, 47]
abbrev dktJ25_set_1 : List UInt8 := dkwJ25_set_1 ++ dktJ25_set_2
def dkwJ25_set_0 : List UInt8 := [27, 156, 0, 30, 187, 0, 142, 89, 187, 0, 33, 89, 183, 0, 35, 18, 153, 182, 0, 38, 27, 182, 0, 42]
abbrev dktJ25_set_0 : List UInt8 := dkwJ25_set_0 ++ dktJ25_set_1
theorem dksJ25_set_0 : cJ25_set.data.toList.drop 0 = dktJ25_set_0 := by decide +kernel
theorem dksJ25_set_1 : cJ25_set.data.toList.drop 24 = dktJ25_set_1 := dk_seg dksJ25_set_0 24 rfl rfl
theorem dksJ25_set_2 : cJ25_set.data.toList.drop 48 = dktJ25_set_2 := dk_seg dksJ25_set_1 24 rfl rfl
theorem dJ25_set_0 : decode cJ25_set 0 = .ok (.iload_n 1, 1) := dk_27 (dk_at dksJ25_set_0 0 rfl rfl)
theorem dJ25_set_1 : decode cJ25_set 1 = .ok (.ifCond .ge 30, 3) := dk_156 0 30 (dk_at dksJ25_set_0 1 rfl rfl)
theorem dJ25_set_4 : decode cJ25_set 4 = .ok (.new 142, 3) := dk_187 0 142 (dk_at dksJ25_set_0 4 rfl rfl)
theorem dJ25_set_7 : decode cJ25_set 7 = .ok (.dup, 1) := dk_89 (dk_at dksJ25_set_0 7 rfl rfl)
theorem dJ25_set_8 : decode cJ25_set 8 = .ok (.new 33, 3) := dk_187 0 33 (dk_at dksJ25_set_0 8 rfl rfl)
theorem dJ25_set_11 : decode cJ25_set 11 = .ok (.dup, 1) := dk_89 (dk_at dksJ25_set_0 11 rfl rfl)
theorem dJ25_set_12 : decode cJ25_set 12 = .ok (.invokespecial 35, 3) := dk_183 0 35 (dk_at dksJ25_set_0 12 rfl rfl)
theorem dJ25_set_15 : decode cJ25_set 15 = .ok (.ldc 153, 2) := dk_18 153 (dk_at dksJ25_set_0 15 rfl rfl)
theorem dJ25_set_17 : decode cJ25_set 17 = .ok (.invokevirtual 38, 3) := dk_182 0 38 (dk_at dksJ25_set_0 17 rfl rfl)
theorem dJ25_set_20 : decode cJ25_set 20 = .ok (.iload_n 1, 1) := dk_27 (dk_at dksJ25_set_0 20 rfl rfl)
theorem dJ25_set_21 : decode cJ25_set 21 = .ok (.invokevirtual 42, 3) := dk_182 0 42 (dk_at dksJ25_set_0 21 rfl rfl)
theorem dJ25_set_24 : decode cJ25_set 24 = .ok (.invokevirtual 45, 3) := dk_182 0 45 (dk_at dksJ25_set_1 0 rfl rfl)
theorem dJ25_set_27 : decode cJ25_set 27 = .ok (.invokespecial 146, 3) := dk_183 0 146 (dk_at dksJ25_set_1 3 rfl rfl)
theorem dJ25_set_30 : decode cJ25_set 30 = .ok (.athrow, 1) := dk_191 (dk_at dksJ25_set_1 6 rfl rfl)
theorem dJ25_set_31 : decode cJ25_set 31 = .ok (.iload_n 1, 1) := dk_27 (dk_at dksJ25_set_1 7 rfl rfl)
theorem dJ25_set_32 : decode cJ25_set 32 = .ok (.invokestatic 52, 3) := dk_184 0 52 (dk_at dksJ25_set_1 8 rfl rfl)
theorem dJ25_set_35 : decode cJ25_set 35 = .ok (.istore_n 2, 1) := dk_61 (dk_at dksJ25_set_1 11 rfl rfl)
theorem dJ25_set_36 : decode cJ25_set 36 = .ok (.aload_n 0, 1) := dk_42 (dk_at dksJ25_set_1 12 rfl rfl)
theorem dJ25_set_37 : decode cJ25_set 37 = .ok (.iload_n 2, 1) := dk_28 (dk_at dksJ25_set_1 13 rfl rfl)
theorem dJ25_set_38 : decode cJ25_set 38 = .ok (.invokevirtual 155, 3) := dk_182 0 155 (dk_at dksJ25_set_1 14 rfl rfl)
theorem dJ25_set_41 : decode cJ25_set 41 = .ok (.aload_n 0, 1) := dk_42 (dk_at dksJ25_set_1 17 rfl rfl)
theorem dJ25_set_42 : decode cJ25_set 42 = .ok (.getfield 11, 3) := dk_180 0 11 (dk_at dksJ25_set_1 18 rfl rfl)
theorem dJ25_set_45 : decode cJ25_set 45 = .ok (.iload_n 2, 1) := dk_28 (dk_at dksJ25_set_1 21 rfl rfl)
theorem dJ25_set_46 : decode cJ25_set 46 = .ok (.dup2, 1) := dk_92 (dk_at dksJ25_set_1 22 rfl rfl)
theorem dJ25_set_47 : decode cJ25_set 47 = .ok (.laload, 1) := dk_47 (dk_at dksJ25_set_1 23 rfl rfl)
theorem dJ25_set_48 : decode cJ25_set 48 = .ok (.lconst 1, 1) := dk_10 (dk_at dksJ25_set_2 0 rfl rfl)
theorem dJ25_set_49 : decode cJ25_set 49 = .ok (.iload_n 1, 1) := dk_27 (dk_at dksJ25_set_2 1 rfl rfl)
theorem dJ25_set_50 : decode cJ25_set 50 = .ok (.lshl, 1) := dk_121 (dk_at dksJ25_set_2 2 rfl rfl)
theorem dJ25_set_51 : decode cJ25_set 51 = .ok (.lor, 1) := dk_129 (dk_at dksJ25_set_2 3 rfl rfl)
theorem dJ25_set_52 : decode cJ25_set 52 = .ok (.lastore, 1) := dk_80 (dk_at dksJ25_set_2 4 rfl rfl)
theorem dJ25_set_53 : decode cJ25_set 53 = .ok (.aload_n 0, 1) := dk_42 (dk_at dksJ25_set_2 5 rfl rfl)
theorem dJ25_set_54 : decode cJ25_set 54 = .ok (.invokevirtual 56, 3) := dk_182 0 56 (dk_at dksJ25_set_2 6 rfl rfl)
theorem dJ25_set_57 : decode cJ25_set 57 = .ok (.return_, 1) := dk_177 (dk_at dksJ25_set_2 9 rfl rfl)
abbrev cJ25_expandTo : ByteArray := prog_51_method_15_code
def yJ25_expandTo : MethodName := ⟨RJ25, "expandTo", "(I)V"⟩
def dkwJ25_expandTo_0 : List UInt8 := [27, 4, 96, 61, 42, 180, 0, 7, 28, 162, 0, 13, 42, 28, 182, 0, 139, 42, 28, 181, 0, 7, 177]
abbrev dktJ25_expandTo_0 : List UInt8 := dkwJ25_expandTo_0 ++ []
theorem dksJ25_expandTo_0 : cJ25_expandTo.data.toList.drop 0 = dktJ25_expandTo_0 := by decide +kernel
theorem dJ25_expandTo_0 : decode cJ25_expandTo 0 = .ok (.iload_n 1, 1) := dk_27 (dk_at dksJ25_expandTo_0 0 rfl rfl)
theorem dJ25_expandTo_1 : decode cJ25_expandTo 1 = .ok (.iconst 1, 1) := dk_4 (dk_at dksJ25_expandTo_0 1 rfl rfl)
theorem dJ25_expandTo_2 : decode cJ25_expandTo 2 = .ok (.iadd, 1) := dk_96 (dk_at dksJ25_expandTo_0 2 rfl rfl)
theorem dJ25_expandTo_3 : decode cJ25_expandTo 3 = .ok (.istore_n 2, 1) := dk_61 (dk_at dksJ25_expandTo_0 3 rfl rfl)
theorem dJ25_expandTo_4 : decode cJ25_expandTo 4 = .ok (.aload_n 0, 1) := dk_42 (dk_at dksJ25_expandTo_0 4 rfl rfl)
theorem dJ25_expandTo_5 : decode cJ25_expandTo 5 = .ok (.getfield 7, 3) := dk_180 0 7 (dk_at dksJ25_expandTo_0 5 rfl rfl)
theorem dJ25_expandTo_8 : decode cJ25_expandTo 8 = .ok (.iload_n 2, 1) := dk_28 (dk_at dksJ25_expandTo_0 8 rfl rfl)
theorem dJ25_expandTo_9 : decode cJ25_expandTo 9 = .ok (.if_icmp .ge 13, 3) := dk_162 0 13 (dk_at dksJ25_expandTo_0 9 rfl rfl)
theorem dJ25_expandTo_12 : decode cJ25_expandTo 12 = .ok (.aload_n 0, 1) := dk_42 (dk_at dksJ25_expandTo_0 12 rfl rfl)
theorem dJ25_expandTo_13 : decode cJ25_expandTo 13 = .ok (.iload_n 2, 1) := dk_28 (dk_at dksJ25_expandTo_0 13 rfl rfl)
theorem dJ25_expandTo_14 : decode cJ25_expandTo 14 = .ok (.invokevirtual 139, 3) := dk_182 0 139 (dk_at dksJ25_expandTo_0 14 rfl rfl)
theorem dJ25_expandTo_17 : decode cJ25_expandTo 17 = .ok (.aload_n 0, 1) := dk_42 (dk_at dksJ25_expandTo_0 17 rfl rfl)
theorem dJ25_expandTo_18 : decode cJ25_expandTo 18 = .ok (.iload_n 2, 1) := dk_28 (dk_at dksJ25_expandTo_0 18 rfl rfl)
theorem dJ25_expandTo_19 : decode cJ25_expandTo 19 = .ok (.putfield 7, 3) := dk_181 0 7 (dk_at dksJ25_expandTo_0 19 rfl rfl)
theorem dJ25_expandTo_22 : decode cJ25_expandTo 22 = .ok (.return_, 1) := dk_177 (dk_at dksJ25_expandTo_0 22 rfl rfl)
abbrev cJ25_cardinality : ByteArray := prog_51_method_35_code
def yJ25_cardinality : MethodName := ⟨RJ25, "cardinality", "()I"⟩
def dkwJ25_cardinality_1 : List UInt8 := [132, 2, 1, 167, 255, 233, 27, 172]
abbrev dktJ25_cardinality_1 : List UInt8 := dkwJ25_cardinality_1 ++ []
def dkwJ25_cardinality_0 : List UInt8 := [3, 60, 3, 61, 28, 42, 180, 0, 7, 162, 0, 21, 27, 42, 180, 0, 11, 28, 47, 184, 0, 196, 96, 60]
abbrev dktJ25_cardinality_0 : List UInt8 := dkwJ25_cardinality_0 ++ dktJ25_cardinality_1
theorem dksJ25_cardinality_0 : cJ25_cardinality.data.toList.drop 0 = dktJ25_cardinality_0 := by decide +kernel
theorem dksJ25_cardinality_1 : cJ25_cardinality.data.toList.drop 24 = dktJ25_cardinality_1 := dk_seg dksJ25_cardinality_0 24 rfl rfl
theorem dJ25_cardinality_0 : decode cJ25_cardinality 0 = .ok (.iconst 0, 1) := dk_3 (dk_at dksJ25_cardinality_0 0 rfl rfl)
theorem dJ25_cardinality_1 : decode cJ25_cardinality 1 = .ok (.istore_n 1, 1) := dk_60 (dk_at dksJ25_cardinality_0 1 rfl rfl)
theorem dJ25_cardinality_2 : decode cJ25_cardinality 2 = .ok (.iconst 0, 1) := dk_3 (dk_at dksJ25_cardinality_0 2 rfl rfl)
theorem dJ25_cardinality_3 : decode cJ25_cardinality 3 = .ok (.istore_n 2, 1) := dk_61 (dk_at dksJ25_cardinality_0 3 rfl rfl)
theorem dJ25_cardinality_4 : decode cJ25_cardinality 4 = .ok (.iload_n 2, 1) := dk_28 (dk_at dksJ25_cardinality_0 4 rfl rfl)
theorem dJ25_cardinality_5 : decode cJ25_cardinality 5 = .ok (.aload_n 0, 1) := dk_42 (dk_at dksJ25_cardinality_0 5 rfl rfl)
theorem dJ25_cardinality_6 : decode cJ25_cardinality 6 = .ok (.getfield 7, 3) := dk_180 0 7 (dk_at dksJ25_cardinality_0 6 rfl rfl)
theorem dJ25_cardinality_9 : decode cJ25_cardinality 9 = .ok (.if_icmp .ge 21, 3) := dk_162 0 21 (dk_at dksJ25_cardinality_0 9 rfl rfl)
theorem dJ25_cardinality_12 : decode cJ25_cardinality 12 = .ok (.iload_n 1, 1) := dk_27 (dk_at dksJ25_cardinality_0 12 rfl rfl)
theorem dJ25_cardinality_13 : decode cJ25_cardinality 13 = .ok (.aload_n 0, 1) := dk_42 (dk_at dksJ25_cardinality_0 13 rfl rfl)
theorem dJ25_cardinality_14 : decode cJ25_cardinality 14 = .ok (.getfield 11, 3) := dk_180 0 11 (dk_at dksJ25_cardinality_0 14 rfl rfl)
theorem dJ25_cardinality_17 : decode cJ25_cardinality 17 = .ok (.iload_n 2, 1) := dk_28 (dk_at dksJ25_cardinality_0 17 rfl rfl)
theorem dJ25_cardinality_18 : decode cJ25_cardinality 18 = .ok (.laload, 1) := dk_47 (dk_at dksJ25_cardinality_0 18 rfl rfl)
theorem dJ25_cardinality_19 : decode cJ25_cardinality 19 = .ok (.invokestatic 196, 3) := dk_184 0 196 (dk_at dksJ25_cardinality_0 19 rfl rfl)
theorem dJ25_cardinality_22 : decode cJ25_cardinality 22 = .ok (.iadd, 1) := dk_96 (dk_at dksJ25_cardinality_0 22 rfl rfl)
theorem dJ25_cardinality_23 : decode cJ25_cardinality 23 = .ok (.istore_n 1, 1) := dk_60 (dk_at dksJ25_cardinality_0 23 rfl rfl)
theorem dJ25_cardinality_24 : decode cJ25_cardinality 24 = .ok (.iinc 2 1, 3) := dk_132 2 1 (dk_at dksJ25_cardinality_1 0 rfl rfl)
theorem dJ25_cardinality_27 : decode cJ25_cardinality 27 = .ok (.goto (-23), 3) := dk_167 255 233 (dk_at dksJ25_cardinality_1 3 rfl rfl)
theorem dJ25_cardinality_30 : decode cJ25_cardinality 30 = .ok (.iload_n 1, 1) := dk_27 (dk_at dksJ25_cardinality_1 6 rfl rfl)
theorem dJ25_cardinality_31 : decode cJ25_cardinality 31 = .ok (.ireturn, 1) := dk_172 (dk_at dksJ25_cardinality_1 7 rfl rfl)
abbrev cJ25_clear : ByteArray := prog_51_method_23_code
def yJ25_clear : MethodName := ⟨RJ25, "clear", "(I)V"⟩
def dkwJ25_clear_2 : List UInt8 := [180, 0, 11, 28, 92, 47, 10, 27, 121, 20, 0, 165, 131, 127, 80, 42, 182, 0, 158, 42, 182, 0, 56, 177]
abbrev dktJ25_clear_2 : List UInt8 := dkwJ25_clear_2 ++ []
def dkwJ25_clear_1 : List UInt8 := [182, 0, 45, 183, 0, 146, 191, 27, 184, 0, 52, 61, 28, 42, 180, 0, 7, 161, 0, 4, 177, 42]
abbrev dktJ25_clear_1 : List UInt8 := dkwJ25_clear_1 ++ dktJ25_clear_2
def dkwJ25_clear_0 : List UInt8 := [27, 156, 0, 30, 187, 0, 142, 89, 187, 0, 33, 89, 183, 0, 35, 18, 153, 182, 0, 38, 27, 182, 0, 42]
abbrev dktJ25_clear_0 : List UInt8 := dkwJ25_clear_0 ++ dktJ25_clear_1
theorem dksJ25_clear_0 : cJ25_clear.data.toList.drop 0 = dktJ25_clear_0 := by decide +kernel
theorem dksJ25_clear_1 : cJ25_clear.data.toList.drop 24 = dktJ25_clear_1 := dk_seg dksJ25_clear_0 24 rfl rfl
theorem dksJ25_clear_2 : cJ25_clear.data.toList.drop 46 = dktJ25_clear_2 := dk_seg dksJ25_clear_1 22 rfl rfl
theorem dJ25_clear_0 : decode cJ25_clear 0 = .ok (.iload_n 1, 1) := dk_27 (dk_at dksJ25_clear_0 0 rfl rfl)
theorem dJ25_clear_1 : decode cJ25_clear 1 = .ok (.ifCond .ge 30, 3) := dk_156 0 30 (dk_at dksJ25_clear_0 1 rfl rfl)
theorem dJ25_clear_4 : decode cJ25_clear 4 = .ok (.new 142, 3) := dk_187 0 142 (dk_at dksJ25_clear_0 4 rfl rfl)
theorem dJ25_clear_7 : decode cJ25_clear 7 = .ok (.dup, 1) := dk_89 (dk_at dksJ25_clear_0 7 rfl rfl)
theorem dJ25_clear_8 : decode cJ25_clear 8 = .ok (.new 33, 3) := dk_187 0 33 (dk_at dksJ25_clear_0 8 rfl rfl)
theorem dJ25_clear_11 : decode cJ25_clear 11 = .ok (.dup, 1) := dk_89 (dk_at dksJ25_clear_0 11 rfl rfl)
theorem dJ25_clear_12 : decode cJ25_clear 12 = .ok (.invokespecial 35, 3) := dk_183 0 35 (dk_at dksJ25_clear_0 12 rfl rfl)
theorem dJ25_clear_15 : decode cJ25_clear 15 = .ok (.ldc 153, 2) := dk_18 153 (dk_at dksJ25_clear_0 15 rfl rfl)
theorem dJ25_clear_17 : decode cJ25_clear 17 = .ok (.invokevirtual 38, 3) := dk_182 0 38 (dk_at dksJ25_clear_0 17 rfl rfl)
theorem dJ25_clear_20 : decode cJ25_clear 20 = .ok (.iload_n 1, 1) := dk_27 (dk_at dksJ25_clear_0 20 rfl rfl)
theorem dJ25_clear_21 : decode cJ25_clear 21 = .ok (.invokevirtual 42, 3) := dk_182 0 42 (dk_at dksJ25_clear_0 21 rfl rfl)
theorem dJ25_clear_24 : decode cJ25_clear 24 = .ok (.invokevirtual 45, 3) := dk_182 0 45 (dk_at dksJ25_clear_1 0 rfl rfl)
theorem dJ25_clear_27 : decode cJ25_clear 27 = .ok (.invokespecial 146, 3) := dk_183 0 146 (dk_at dksJ25_clear_1 3 rfl rfl)
theorem dJ25_clear_30 : decode cJ25_clear 30 = .ok (.athrow, 1) := dk_191 (dk_at dksJ25_clear_1 6 rfl rfl)
theorem dJ25_clear_31 : decode cJ25_clear 31 = .ok (.iload_n 1, 1) := dk_27 (dk_at dksJ25_clear_1 7 rfl rfl)
theorem dJ25_clear_32 : decode cJ25_clear 32 = .ok (.invokestatic 52, 3) := dk_184 0 52 (dk_at dksJ25_clear_1 8 rfl rfl)
theorem dJ25_clear_35 : decode cJ25_clear 35 = .ok (.istore_n 2, 1) := dk_61 (dk_at dksJ25_clear_1 11 rfl rfl)
theorem dJ25_clear_36 : decode cJ25_clear 36 = .ok (.iload_n 2, 1) := dk_28 (dk_at dksJ25_clear_1 12 rfl rfl)
theorem dJ25_clear_37 : decode cJ25_clear 37 = .ok (.aload_n 0, 1) := dk_42 (dk_at dksJ25_clear_1 13 rfl rfl)
theorem dJ25_clear_38 : decode cJ25_clear 38 = .ok (.getfield 7, 3) := dk_180 0 7 (dk_at dksJ25_clear_1 14 rfl rfl)
theorem dJ25_clear_41 : decode cJ25_clear 41 = .ok (.if_icmp .lt 4, 3) := dk_161 0 4 (dk_at dksJ25_clear_1 17 rfl rfl)
theorem dJ25_clear_44 : decode cJ25_clear 44 = .ok (.return_, 1) := dk_177 (dk_at dksJ25_clear_1 20 rfl rfl)
theorem dJ25_clear_45 : decode cJ25_clear 45 = .ok (.aload_n 0, 1) := dk_42 (dk_at dksJ25_clear_1 21 rfl rfl)
theorem dJ25_clear_46 : decode cJ25_clear 46 = .ok (.getfield 11, 3) := dk_180 0 11 (dk_at dksJ25_clear_2 0 rfl rfl)
theorem dJ25_clear_49 : decode cJ25_clear 49 = .ok (.iload_n 2, 1) := dk_28 (dk_at dksJ25_clear_2 3 rfl rfl)
theorem dJ25_clear_50 : decode cJ25_clear 50 = .ok (.dup2, 1) := dk_92 (dk_at dksJ25_clear_2 4 rfl rfl)
theorem dJ25_clear_51 : decode cJ25_clear 51 = .ok (.laload, 1) := dk_47 (dk_at dksJ25_clear_2 5 rfl rfl)
theorem dJ25_clear_52 : decode cJ25_clear 52 = .ok (.lconst 1, 1) := dk_10 (dk_at dksJ25_clear_2 6 rfl rfl)
theorem dJ25_clear_53 : decode cJ25_clear 53 = .ok (.iload_n 1, 1) := dk_27 (dk_at dksJ25_clear_2 7 rfl rfl)
theorem dJ25_clear_54 : decode cJ25_clear 54 = .ok (.lshl, 1) := dk_121 (dk_at dksJ25_clear_2 8 rfl rfl)
theorem dJ25_clear_55 : decode cJ25_clear 55 = .ok (.ldc2_w 165, 3) := dk_20 0 165 (dk_at dksJ25_clear_2 9 rfl rfl)
theorem dJ25_clear_58 : decode cJ25_clear 58 = .ok (.lxor, 1) := dk_131 (dk_at dksJ25_clear_2 12 rfl rfl)
theorem dJ25_clear_59 : decode cJ25_clear 59 = .ok (.land, 1) := dk_127 (dk_at dksJ25_clear_2 13 rfl rfl)
theorem dJ25_clear_60 : decode cJ25_clear 60 = .ok (.lastore, 1) := dk_80 (dk_at dksJ25_clear_2 14 rfl rfl)
theorem dJ25_clear_61 : decode cJ25_clear 61 = .ok (.aload_n 0, 1) := dk_42 (dk_at dksJ25_clear_2 15 rfl rfl)
theorem dJ25_clear_62 : decode cJ25_clear 62 = .ok (.invokevirtual 158, 3) := dk_182 0 158 (dk_at dksJ25_clear_2 16 rfl rfl)
theorem dJ25_clear_65 : decode cJ25_clear 65 = .ok (.aload_n 0, 1) := dk_42 (dk_at dksJ25_clear_2 19 rfl rfl)
theorem dJ25_clear_66 : decode cJ25_clear 66 = .ok (.invokevirtual 56, 3) := dk_182 0 56 (dk_at dksJ25_clear_2 20 rfl rfl)
theorem dJ25_clear_69 : decode cJ25_clear 69 = .ok (.return_, 1) := dk_177 (dk_at dksJ25_clear_2 23 rfl rfl)
abbrev cJ25_recalculateWordsInUse : ByteArray := prog_51_method_3_code
def yJ25_recalculateWordsInUse : MethodName := ⟨RJ25, "recalculateWordsInUse", "()V"⟩
def dkwJ25_recalculateWordsInUse_1 : List UInt8 := [167, 0, 9, 132, 1, 255, 167, 255, 235, 42, 27, 4, 96, 181, 0, 7, 177]
abbrev dktJ25_recalculateWordsInUse_1 : List UInt8 := dkwJ25_recalculateWordsInUse_1 ++ []
def dkwJ25_recalculateWordsInUse_0 : List UInt8 := [42, 180, 0, 7, 4, 100, 60, 27, 155, 0, 23, 42, 180, 0, 11, 27, 47, 9, 148, 153, 0, 6]
abbrev dktJ25_recalculateWordsInUse_0 : List UInt8 := dkwJ25_recalculateWordsInUse_0 ++ dktJ25_recalculateWordsInUse_1
theorem dksJ25_recalculateWordsInUse_0 : cJ25_recalculateWordsInUse.data.toList.drop 0 = dktJ25_recalculateWordsInUse_0 := by decide +kernel
theorem dksJ25_recalculateWordsInUse_1 : cJ25_recalculateWordsInUse.data.toList.drop 22 = dktJ25_recalculateWordsInUse_1 := dk_seg dksJ25_recalculateWordsInUse_0 22 rfl rfl
theorem dJ25_recalculateWordsInUse_0 : decode cJ25_recalculateWordsInUse 0 = .ok (.aload_n 0, 1) := dk_42 (dk_at dksJ25_recalculateWordsInUse_0 0 rfl rfl)
theorem dJ25_recalculateWordsInUse_1 : decode cJ25_recalculateWordsInUse 1 = .ok (.getfield 7, 3) := dk_180 0 7 (dk_at dksJ25_recalculateWordsInUse_0 1 rfl rfl)
theorem dJ25_recalculateWordsInUse_4 : decode cJ25_recalculateWordsInUse 4 = .ok (.iconst 1, 1) := dk_4 (dk_at dksJ25_recalculateWordsInUse_0 4 rfl rfl)
theorem dJ25_recalculateWordsInUse_5 : decode cJ25_recalculateWordsInUse 5 = .ok (.isub, 1) := dk_100 (dk_at dksJ25_recalculateWordsInUse_0 5 rfl rfl)
theorem dJ25_recalculateWordsInUse_6 : decode cJ25_recalculateWordsInUse 6 = .ok (.istore_n 1, 1) := dk_60 (dk_at dksJ25_recalculateWordsInUse_0 6 rfl rfl)
theorem dJ25_recalculateWordsInUse_7 : decode cJ25_recalculateWordsInUse 7 = .ok (.iload_n 1, 1) := dk_27 (dk_at dksJ25_recalculateWordsInUse_0 7 rfl rfl)
theorem dJ25_recalculateWordsInUse_8 : decode cJ25_recalculateWordsInUse 8 = .ok (.ifCond .lt 23, 3) := dk_155 0 23 (dk_at dksJ25_recalculateWordsInUse_0 8 rfl rfl)
theorem dJ25_recalculateWordsInUse_11 : decode cJ25_recalculateWordsInUse 11 = .ok (.aload_n 0, 1) := dk_42 (dk_at dksJ25_recalculateWordsInUse_0 11 rfl rfl)
theorem dJ25_recalculateWordsInUse_12 : decode cJ25_recalculateWordsInUse 12 = .ok (.getfield 11, 3) := dk_180 0 11 (dk_at dksJ25_recalculateWordsInUse_0 12 rfl rfl)
theorem dJ25_recalculateWordsInUse_15 : decode cJ25_recalculateWordsInUse 15 = .ok (.iload_n 1, 1) := dk_27 (dk_at dksJ25_recalculateWordsInUse_0 15 rfl rfl)
theorem dJ25_recalculateWordsInUse_16 : decode cJ25_recalculateWordsInUse 16 = .ok (.laload, 1) := dk_47 (dk_at dksJ25_recalculateWordsInUse_0 16 rfl rfl)
theorem dJ25_recalculateWordsInUse_17 : decode cJ25_recalculateWordsInUse 17 = .ok (.lconst 0, 1) := dk_9 (dk_at dksJ25_recalculateWordsInUse_0 17 rfl rfl)
theorem dJ25_recalculateWordsInUse_18 : decode cJ25_recalculateWordsInUse 18 = .ok (.lcmp, 1) := dk_148 (dk_at dksJ25_recalculateWordsInUse_0 18 rfl rfl)
theorem dJ25_recalculateWordsInUse_19 : decode cJ25_recalculateWordsInUse 19 = .ok (.ifCond .eq 6, 3) := dk_153 0 6 (dk_at dksJ25_recalculateWordsInUse_0 19 rfl rfl)
theorem dJ25_recalculateWordsInUse_22 : decode cJ25_recalculateWordsInUse 22 = .ok (.goto 9, 3) := dk_167 0 9 (dk_at dksJ25_recalculateWordsInUse_1 0 rfl rfl)
theorem dJ25_recalculateWordsInUse_25 : decode cJ25_recalculateWordsInUse 25 = .ok (.iinc 1 (-1), 3) := dk_132 1 255 (dk_at dksJ25_recalculateWordsInUse_1 3 rfl rfl)
theorem dJ25_recalculateWordsInUse_28 : decode cJ25_recalculateWordsInUse 28 = .ok (.goto (-21), 3) := dk_167 255 235 (dk_at dksJ25_recalculateWordsInUse_1 6 rfl rfl)
theorem dJ25_recalculateWordsInUse_31 : decode cJ25_recalculateWordsInUse 31 = .ok (.aload_n 0, 1) := dk_42 (dk_at dksJ25_recalculateWordsInUse_1 9 rfl rfl)
theorem dJ25_recalculateWordsInUse_32 : decode cJ25_recalculateWordsInUse 32 = .ok (.iload_n 1, 1) := dk_27 (dk_at dksJ25_recalculateWordsInUse_1 10 rfl rfl)
theorem dJ25_recalculateWordsInUse_33 : decode cJ25_recalculateWordsInUse 33 = .ok (.iconst 1, 1) := dk_4 (dk_at dksJ25_recalculateWordsInUse_1 11 rfl rfl)
theorem dJ25_recalculateWordsInUse_34 : decode cJ25_recalculateWordsInUse 34 = .ok (.iadd, 1) := dk_96 (dk_at dksJ25_recalculateWordsInUse_1 12 rfl rfl)
theorem dJ25_recalculateWordsInUse_35 : decode cJ25_recalculateWordsInUse 35 = .ok (.putfield 7, 3) := dk_181 0 7 (dk_at dksJ25_recalculateWordsInUse_1 13 rfl rfl)
theorem dJ25_recalculateWordsInUse_38 : decode cJ25_recalculateWordsInUse 38 = .ok (.return_, 1) := dk_177 (dk_at dksJ25_recalculateWordsInUse_1 16 rfl rfl)
abbrev cJ25_get_2 : ByteArray := prog_51_method_27_code
def yJ25_get_2 : MethodName := ⟨RJ25, "get", "(II)Ljava/util/BitSet;"⟩
def dkwJ25_get_2_10 : List UInt8 := [25, 4, 182, 0, 56, 25, 4, 176]
abbrev dktJ25_get_2_10 : List UInt8 := dkwJ25_get_2_10 ++ []
def dkwJ25_get_2_9 : List UInt8 := [180, 0, 11, 21, 6, 47, 22, 8, 127, 27, 125, 80, 25, 4, 21, 5, 181, 0, 7, 25, 4, 182, 0, 158]
abbrev dktJ25_get_2_9 : List UInt8 := dkwJ25_get_2_9 ++ dktJ25_get_2_10
def dkwJ25_get_2_8 : List UInt8 := [27, 125, 42, 180, 0, 11, 21, 6, 4, 96, 47, 22, 8, 127, 27, 116, 121, 129, 167, 0, 15, 42]
abbrev dktJ25_get_2_8 : List UInt8 := dkwJ25_get_2_8 ++ dktJ25_get_2_9
def dkwJ25_get_2_7 : List UInt8 := [21, 5, 4, 100, 28, 4, 100, 16, 63, 126, 27, 16, 63, 126, 162, 0, 31, 42, 180, 0, 11, 21, 6, 47]
abbrev dktJ25_get_2_7 : List UInt8 := dkwJ25_get_2_7 ++ dktJ25_get_2_8
def dkwJ25_get_2_6 : List UInt8 := [129, 80, 132, 8, 1, 132, 6, 1, 167, 255, 196, 20, 0, 165, 28, 116, 125, 55, 8, 25, 4, 180, 0, 11]
abbrev dktJ25_get_2_6 : List UInt8 := dkwJ25_get_2_6 ++ dktJ25_get_2_7
def dkwJ25_get_2_5 : List UInt8 := [167, 0, 25, 42, 180, 0, 11, 21, 6, 47, 27, 125, 42, 180, 0, 11, 21, 6, 4, 96, 47, 27, 116, 121]
abbrev dktJ25_get_2_5 : List UInt8 := dkwJ25_get_2_5 ++ dktJ25_get_2_6
def dkwJ25_get_2_4 : List UInt8 := [162, 0, 57, 25, 4, 180, 0, 11, 21, 8, 21, 7, 153, 0, 13, 42, 180, 0, 11, 21, 6, 47]
abbrev dktJ25_get_2_4 : List UInt8 := dkwJ25_get_2_4 ++ dktJ25_get_2_5
def dkwJ25_get_2_3 : List UInt8 := [16, 63, 126, 154, 0, 7, 4, 167, 0, 4, 3, 54, 7, 3, 54, 8, 21, 8, 21, 5, 4, 100]
abbrev dktJ25_get_2_3 : List UInt8 := dkwJ25_get_2_3 ++ dktJ25_get_2_4
def dkwJ25_get_2_2 : List UInt8 := [183, 0, 180, 58, 4, 28, 27, 100, 4, 100, 184, 0, 52, 4, 96, 54, 5, 27, 184, 0, 52, 54, 6, 27]
abbrev dktJ25_get_2_2 : List UInt8 := dkwJ25_get_2_2 ++ dktJ25_get_2_3
def dkwJ25_get_2_1 : List UInt8 := [187, 0, 1, 89, 3, 183, 0, 180, 176, 28, 29, 164, 0, 5, 29, 61, 187, 0, 1, 89, 28, 27, 100]
abbrev dktJ25_get_2_1 : List UInt8 := dkwJ25_get_2_1 ++ dktJ25_get_2_2
def dkwJ25_get_2_0 : List UInt8 := [27, 28, 184, 0, 161, 42, 182, 0, 56, 42, 182, 0, 177, 62, 29, 27, 164, 0, 8, 27, 28, 160, 0, 12]
abbrev dktJ25_get_2_0 : List UInt8 := dkwJ25_get_2_0 ++ dktJ25_get_2_1
theorem dksJ25_get_2_0 : cJ25_get_2.data.toList.drop 0 = dktJ25_get_2_0 := by decide +kernel
theorem dksJ25_get_2_1 : cJ25_get_2.data.toList.drop 24 = dktJ25_get_2_1 := dk_seg dksJ25_get_2_0 24 rfl rfl
theorem dksJ25_get_2_2 : cJ25_get_2.data.toList.drop 47 = dktJ25_get_2_2 := dk_seg dksJ25_get_2_1 23 rfl rfl
theorem dksJ25_get_2_3 : cJ25_get_2.data.toList.drop 71 = dktJ25_get_2_3 := dk_seg dksJ25_get_2_2 24 rfl rfl
theorem dksJ25_get_2_4 : cJ25_get_2.data.toList.drop 93 = dktJ25_get_2_4 := dk_seg dksJ25_get_2_3 22 rfl rfl
theorem dksJ25_get_2_5 : cJ25_get_2.data.toList.drop 115 = dktJ25_get_2_5 := dk_seg dksJ25_get_2_4 22 rfl rfl
theorem dksJ25_get_2_6 : cJ25_get_2.data.toList.drop 139 = dktJ25_get_2_6 := dk_seg dksJ25_get_2_5 24 rfl rfl
theorem dksJ25_get_2_7 : cJ25_get_2.data.toList.drop 163 = dktJ25_get_2_7 := dk_seg dksJ25_get_2_6 24 rfl rfl
theorem dksJ25_get_2_8 : cJ25_get_2.data.toList.drop 187 = dktJ25_get_2_8 := dk_seg dksJ25_get_2_7 24 rfl rfl
theorem dksJ25_get_2_9 : cJ25_get_2.data.toList.drop 209 = dktJ25_get_2_9 := dk_seg dksJ25_get_2_8 22 rfl rfl
theorem dksJ25_get_2_10 : cJ25_get_2.data.toList.drop 233 = dktJ25_get_2_10 := dk_seg dksJ25_get_2_9 24 rfl rfl
theorem dJ25_get_2_0 : decode cJ25_get_2 0 = .ok (.iload_n 1, 1) := dk_27 (dk_at dksJ25_get_2_0 0 rfl rfl)
theorem dJ25_get_2_1 : decode cJ25_get_2 1 = .ok (.iload_n 2, 1) := dk_28 (dk_at dksJ25_get_2_0 1 rfl rfl)
theorem dJ25_get_2_2 : decode cJ25_get_2 2 = .ok (.invokestatic 161, 3) := dk_184 0 161 (dk_at dksJ25_get_2_0 2 rfl rfl)
theorem dJ25_get_2_5 : decode cJ25_get_2 5 = .ok (.aload_n 0, 1) := dk_42 (dk_at dksJ25_get_2_0 5 rfl rfl)
theorem dJ25_get_2_6 : decode cJ25_get_2 6 = .ok (.invokevirtual 56, 3) := dk_182 0 56 (dk_at dksJ25_get_2_0 6 rfl rfl)
theorem dJ25_get_2_9 : decode cJ25_get_2 9 = .ok (.aload_n 0, 1) := dk_42 (dk_at dksJ25_get_2_0 9 rfl rfl)
theorem dJ25_get_2_10 : decode cJ25_get_2 10 = .ok (.invokevirtual 177, 3) := dk_182 0 177 (dk_at dksJ25_get_2_0 10 rfl rfl)
theorem dJ25_get_2_13 : decode cJ25_get_2 13 = .ok (.istore_n 3, 1) := dk_62 (dk_at dksJ25_get_2_0 13 rfl rfl)
theorem dJ25_get_2_14 : decode cJ25_get_2 14 = .ok (.iload_n 3, 1) := dk_29 (dk_at dksJ25_get_2_0 14 rfl rfl)
theorem dJ25_get_2_15 : decode cJ25_get_2 15 = .ok (.iload_n 1, 1) := dk_27 (dk_at dksJ25_get_2_0 15 rfl rfl)
theorem dJ25_get_2_16 : decode cJ25_get_2 16 = .ok (.if_icmp .le 8, 3) := dk_164 0 8 (dk_at dksJ25_get_2_0 16 rfl rfl)
theorem dJ25_get_2_19 : decode cJ25_get_2 19 = .ok (.iload_n 1, 1) := dk_27 (dk_at dksJ25_get_2_0 19 rfl rfl)
theorem dJ25_get_2_20 : decode cJ25_get_2 20 = .ok (.iload_n 2, 1) := dk_28 (dk_at dksJ25_get_2_0 20 rfl rfl)
theorem dJ25_get_2_21 : decode cJ25_get_2 21 = .ok (.if_icmp .ne 12, 3) := dk_160 0 12 (dk_at dksJ25_get_2_0 21 rfl rfl)
theorem dJ25_get_2_24 : decode cJ25_get_2 24 = .ok (.new 1, 3) := dk_187 0 1 (dk_at dksJ25_get_2_1 0 rfl rfl)
theorem dJ25_get_2_27 : decode cJ25_get_2 27 = .ok (.dup, 1) := dk_89 (dk_at dksJ25_get_2_1 3 rfl rfl)
theorem dJ25_get_2_28 : decode cJ25_get_2 28 = .ok (.iconst 0, 1) := dk_3 (dk_at dksJ25_get_2_1 4 rfl rfl)
theorem dJ25_get_2_29 : decode cJ25_get_2 29 = .ok (.invokespecial 180, 3) := dk_183 0 180 (dk_at dksJ25_get_2_1 5 rfl rfl)
theorem dJ25_get_2_32 : decode cJ25_get_2 32 = .ok (.areturn, 1) := dk_176 (dk_at dksJ25_get_2_1 8 rfl rfl)
theorem dJ25_get_2_33 : decode cJ25_get_2 33 = .ok (.iload_n 2, 1) := dk_28 (dk_at dksJ25_get_2_1 9 rfl rfl)
theorem dJ25_get_2_34 : decode cJ25_get_2 34 = .ok (.iload_n 3, 1) := dk_29 (dk_at dksJ25_get_2_1 10 rfl rfl)
theorem dJ25_get_2_35 : decode cJ25_get_2 35 = .ok (.if_icmp .le 5, 3) := dk_164 0 5 (dk_at dksJ25_get_2_1 11 rfl rfl)
theorem dJ25_get_2_38 : decode cJ25_get_2 38 = .ok (.iload_n 3, 1) := dk_29 (dk_at dksJ25_get_2_1 14 rfl rfl)
theorem dJ25_get_2_39 : decode cJ25_get_2 39 = .ok (.istore_n 2, 1) := dk_61 (dk_at dksJ25_get_2_1 15 rfl rfl)
theorem dJ25_get_2_40 : decode cJ25_get_2 40 = .ok (.new 1, 3) := dk_187 0 1 (dk_at dksJ25_get_2_1 16 rfl rfl)
theorem dJ25_get_2_43 : decode cJ25_get_2 43 = .ok (.dup, 1) := dk_89 (dk_at dksJ25_get_2_1 19 rfl rfl)
theorem dJ25_get_2_44 : decode cJ25_get_2 44 = .ok (.iload_n 2, 1) := dk_28 (dk_at dksJ25_get_2_1 20 rfl rfl)
theorem dJ25_get_2_45 : decode cJ25_get_2 45 = .ok (.iload_n 1, 1) := dk_27 (dk_at dksJ25_get_2_1 21 rfl rfl)
theorem dJ25_get_2_46 : decode cJ25_get_2 46 = .ok (.isub, 1) := dk_100 (dk_at dksJ25_get_2_1 22 rfl rfl)
theorem dJ25_get_2_47 : decode cJ25_get_2 47 = .ok (.invokespecial 180, 3) := dk_183 0 180 (dk_at dksJ25_get_2_2 0 rfl rfl)
theorem dJ25_get_2_50 : decode cJ25_get_2 50 = .ok (.astore 4, 2) := dk_58 4 (dk_at dksJ25_get_2_2 3 rfl rfl)
theorem dJ25_get_2_52 : decode cJ25_get_2 52 = .ok (.iload_n 2, 1) := dk_28 (dk_at dksJ25_get_2_2 5 rfl rfl)
theorem dJ25_get_2_53 : decode cJ25_get_2 53 = .ok (.iload_n 1, 1) := dk_27 (dk_at dksJ25_get_2_2 6 rfl rfl)
theorem dJ25_get_2_54 : decode cJ25_get_2 54 = .ok (.isub, 1) := dk_100 (dk_at dksJ25_get_2_2 7 rfl rfl)
theorem dJ25_get_2_55 : decode cJ25_get_2 55 = .ok (.iconst 1, 1) := dk_4 (dk_at dksJ25_get_2_2 8 rfl rfl)
theorem dJ25_get_2_56 : decode cJ25_get_2 56 = .ok (.isub, 1) := dk_100 (dk_at dksJ25_get_2_2 9 rfl rfl)
theorem dJ25_get_2_57 : decode cJ25_get_2 57 = .ok (.invokestatic 52, 3) := dk_184 0 52 (dk_at dksJ25_get_2_2 10 rfl rfl)
theorem dJ25_get_2_60 : decode cJ25_get_2 60 = .ok (.iconst 1, 1) := dk_4 (dk_at dksJ25_get_2_2 13 rfl rfl)
theorem dJ25_get_2_61 : decode cJ25_get_2 61 = .ok (.iadd, 1) := dk_96 (dk_at dksJ25_get_2_2 14 rfl rfl)
theorem dJ25_get_2_62 : decode cJ25_get_2 62 = .ok (.istore 5, 2) := dk_54 5 (dk_at dksJ25_get_2_2 15 rfl rfl)
theorem dJ25_get_2_64 : decode cJ25_get_2 64 = .ok (.iload_n 1, 1) := dk_27 (dk_at dksJ25_get_2_2 17 rfl rfl)
theorem dJ25_get_2_65 : decode cJ25_get_2 65 = .ok (.invokestatic 52, 3) := dk_184 0 52 (dk_at dksJ25_get_2_2 18 rfl rfl)
theorem dJ25_get_2_68 : decode cJ25_get_2 68 = .ok (.istore 6, 2) := dk_54 6 (dk_at dksJ25_get_2_2 21 rfl rfl)
theorem dJ25_get_2_70 : decode cJ25_get_2 70 = .ok (.iload_n 1, 1) := dk_27 (dk_at dksJ25_get_2_2 23 rfl rfl)
theorem dJ25_get_2_71 : decode cJ25_get_2 71 = .ok (.bipush 63, 2) := dk_16 63 (dk_at dksJ25_get_2_3 0 rfl rfl)
theorem dJ25_get_2_73 : decode cJ25_get_2 73 = .ok (.iand, 1) := dk_126 (dk_at dksJ25_get_2_3 2 rfl rfl)
theorem dJ25_get_2_74 : decode cJ25_get_2 74 = .ok (.ifCond .ne 7, 3) := dk_154 0 7 (dk_at dksJ25_get_2_3 3 rfl rfl)
theorem dJ25_get_2_77 : decode cJ25_get_2 77 = .ok (.iconst 1, 1) := dk_4 (dk_at dksJ25_get_2_3 6 rfl rfl)
theorem dJ25_get_2_78 : decode cJ25_get_2 78 = .ok (.goto 4, 3) := dk_167 0 4 (dk_at dksJ25_get_2_3 7 rfl rfl)
theorem dJ25_get_2_81 : decode cJ25_get_2 81 = .ok (.iconst 0, 1) := dk_3 (dk_at dksJ25_get_2_3 10 rfl rfl)
theorem dJ25_get_2_82 : decode cJ25_get_2 82 = .ok (.istore 7, 2) := dk_54 7 (dk_at dksJ25_get_2_3 11 rfl rfl)
theorem dJ25_get_2_84 : decode cJ25_get_2 84 = .ok (.iconst 0, 1) := dk_3 (dk_at dksJ25_get_2_3 13 rfl rfl)
theorem dJ25_get_2_85 : decode cJ25_get_2 85 = .ok (.istore 8, 2) := dk_54 8 (dk_at dksJ25_get_2_3 14 rfl rfl)
theorem dJ25_get_2_87 : decode cJ25_get_2 87 = .ok (.iload 8, 2) := dk_21 8 (dk_at dksJ25_get_2_3 16 rfl rfl)
theorem dJ25_get_2_89 : decode cJ25_get_2 89 = .ok (.iload 5, 2) := dk_21 5 (dk_at dksJ25_get_2_3 18 rfl rfl)
theorem dJ25_get_2_91 : decode cJ25_get_2 91 = .ok (.iconst 1, 1) := dk_4 (dk_at dksJ25_get_2_3 20 rfl rfl)
theorem dJ25_get_2_92 : decode cJ25_get_2 92 = .ok (.isub, 1) := dk_100 (dk_at dksJ25_get_2_3 21 rfl rfl)
theorem dJ25_get_2_93 : decode cJ25_get_2 93 = .ok (.if_icmp .ge 57, 3) := dk_162 0 57 (dk_at dksJ25_get_2_4 0 rfl rfl)
theorem dJ25_get_2_96 : decode cJ25_get_2 96 = .ok (.aload 4, 2) := dk_25 4 (dk_at dksJ25_get_2_4 3 rfl rfl)
theorem dJ25_get_2_98 : decode cJ25_get_2 98 = .ok (.getfield 11, 3) := dk_180 0 11 (dk_at dksJ25_get_2_4 5 rfl rfl)
theorem dJ25_get_2_101 : decode cJ25_get_2 101 = .ok (.iload 8, 2) := dk_21 8 (dk_at dksJ25_get_2_4 8 rfl rfl)
theorem dJ25_get_2_103 : decode cJ25_get_2 103 = .ok (.iload 7, 2) := dk_21 7 (dk_at dksJ25_get_2_4 10 rfl rfl)
theorem dJ25_get_2_105 : decode cJ25_get_2 105 = .ok (.ifCond .eq 13, 3) := dk_153 0 13 (dk_at dksJ25_get_2_4 12 rfl rfl)
theorem dJ25_get_2_108 : decode cJ25_get_2 108 = .ok (.aload_n 0, 1) := dk_42 (dk_at dksJ25_get_2_4 15 rfl rfl)
theorem dJ25_get_2_109 : decode cJ25_get_2 109 = .ok (.getfield 11, 3) := dk_180 0 11 (dk_at dksJ25_get_2_4 16 rfl rfl)
theorem dJ25_get_2_112 : decode cJ25_get_2 112 = .ok (.iload 6, 2) := dk_21 6 (dk_at dksJ25_get_2_4 19 rfl rfl)
theorem dJ25_get_2_114 : decode cJ25_get_2 114 = .ok (.laload, 1) := dk_47 (dk_at dksJ25_get_2_4 21 rfl rfl)
theorem dJ25_get_2_115 : decode cJ25_get_2 115 = .ok (.goto 25, 3) := dk_167 0 25 (dk_at dksJ25_get_2_5 0 rfl rfl)
theorem dJ25_get_2_118 : decode cJ25_get_2 118 = .ok (.aload_n 0, 1) := dk_42 (dk_at dksJ25_get_2_5 3 rfl rfl)
theorem dJ25_get_2_119 : decode cJ25_get_2 119 = .ok (.getfield 11, 3) := dk_180 0 11 (dk_at dksJ25_get_2_5 4 rfl rfl)
theorem dJ25_get_2_122 : decode cJ25_get_2 122 = .ok (.iload 6, 2) := dk_21 6 (dk_at dksJ25_get_2_5 7 rfl rfl)
theorem dJ25_get_2_124 : decode cJ25_get_2 124 = .ok (.laload, 1) := dk_47 (dk_at dksJ25_get_2_5 9 rfl rfl)
theorem dJ25_get_2_125 : decode cJ25_get_2 125 = .ok (.iload_n 1, 1) := dk_27 (dk_at dksJ25_get_2_5 10 rfl rfl)
theorem dJ25_get_2_126 : decode cJ25_get_2 126 = .ok (.lushr, 1) := dk_125 (dk_at dksJ25_get_2_5 11 rfl rfl)
theorem dJ25_get_2_127 : decode cJ25_get_2 127 = .ok (.aload_n 0, 1) := dk_42 (dk_at dksJ25_get_2_5 12 rfl rfl)
theorem dJ25_get_2_128 : decode cJ25_get_2 128 = .ok (.getfield 11, 3) := dk_180 0 11 (dk_at dksJ25_get_2_5 13 rfl rfl)
theorem dJ25_get_2_131 : decode cJ25_get_2 131 = .ok (.iload 6, 2) := dk_21 6 (dk_at dksJ25_get_2_5 16 rfl rfl)
theorem dJ25_get_2_133 : decode cJ25_get_2 133 = .ok (.iconst 1, 1) := dk_4 (dk_at dksJ25_get_2_5 18 rfl rfl)
theorem dJ25_get_2_134 : decode cJ25_get_2 134 = .ok (.iadd, 1) := dk_96 (dk_at dksJ25_get_2_5 19 rfl rfl)
theorem dJ25_get_2_135 : decode cJ25_get_2 135 = .ok (.laload, 1) := dk_47 (dk_at dksJ25_get_2_5 20 rfl rfl)
theorem dJ25_get_2_136 : decode cJ25_get_2 136 = .ok (.iload_n 1, 1) := dk_27 (dk_at dksJ25_get_2_5 21 rfl rfl)
theorem dJ25_get_2_137 : decode cJ25_get_2 137 = .ok (.ineg, 1) := dk_116 (dk_at dksJ25_get_2_5 22 rfl rfl)
theorem dJ25_get_2_138 : decode cJ25_get_2 138 = .ok (.lshl, 1) := dk_121 (dk_at dksJ25_get_2_5 23 rfl rfl)
theorem dJ25_get_2_139 : decode cJ25_get_2 139 = .ok (.lor, 1) := dk_129 (dk_at dksJ25_get_2_6 0 rfl rfl)
theorem dJ25_get_2_140 : decode cJ25_get_2 140 = .ok (.lastore, 1) := dk_80 (dk_at dksJ25_get_2_6 1 rfl rfl)
theorem dJ25_get_2_141 : decode cJ25_get_2 141 = .ok (.iinc 8 1, 3) := dk_132 8 1 (dk_at dksJ25_get_2_6 2 rfl rfl)
theorem dJ25_get_2_144 : decode cJ25_get_2 144 = .ok (.iinc 6 1, 3) := dk_132 6 1 (dk_at dksJ25_get_2_6 5 rfl rfl)
theorem dJ25_get_2_147 : decode cJ25_get_2 147 = .ok (.goto (-60), 3) := dk_167 255 196 (dk_at dksJ25_get_2_6 8 rfl rfl)
theorem dJ25_get_2_150 : decode cJ25_get_2 150 = .ok (.ldc2_w 165, 3) := dk_20 0 165 (dk_at dksJ25_get_2_6 11 rfl rfl)
theorem dJ25_get_2_153 : decode cJ25_get_2 153 = .ok (.iload_n 2, 1) := dk_28 (dk_at dksJ25_get_2_6 14 rfl rfl)
theorem dJ25_get_2_154 : decode cJ25_get_2 154 = .ok (.ineg, 1) := dk_116 (dk_at dksJ25_get_2_6 15 rfl rfl)
theorem dJ25_get_2_155 : decode cJ25_get_2 155 = .ok (.lushr, 1) := dk_125 (dk_at dksJ25_get_2_6 16 rfl rfl)
theorem dJ25_get_2_156 : decode cJ25_get_2 156 = .ok (.lstore 8, 2) := dk_55 8 (dk_at dksJ25_get_2_6 17 rfl rfl)
theorem dJ25_get_2_158 : decode cJ25_get_2 158 = .ok (.aload 4, 2) := dk_25 4 (dk_at dksJ25_get_2_6 19 rfl rfl)
theorem dJ25_get_2_160 : decode cJ25_get_2 160 = .ok (.getfield 11, 3) := dk_180 0 11 (dk_at dksJ25_get_2_6 21 rfl rfl)
theorem dJ25_get_2_163 : decode cJ25_get_2 163 = .ok (.iload 5, 2) := dk_21 5 (dk_at dksJ25_get_2_7 0 rfl rfl)
theorem dJ25_get_2_165 : decode cJ25_get_2 165 = .ok (.iconst 1, 1) := dk_4 (dk_at dksJ25_get_2_7 2 rfl rfl)
theorem dJ25_get_2_166 : decode cJ25_get_2 166 = .ok (.isub, 1) := dk_100 (dk_at dksJ25_get_2_7 3 rfl rfl)
theorem dJ25_get_2_167 : decode cJ25_get_2 167 = .ok (.iload_n 2, 1) := dk_28 (dk_at dksJ25_get_2_7 4 rfl rfl)
theorem dJ25_get_2_168 : decode cJ25_get_2 168 = .ok (.iconst 1, 1) := dk_4 (dk_at dksJ25_get_2_7 5 rfl rfl)
theorem dJ25_get_2_169 : decode cJ25_get_2 169 = .ok (.isub, 1) := dk_100 (dk_at dksJ25_get_2_7 6 rfl rfl)
theorem dJ25_get_2_170 : decode cJ25_get_2 170 = .ok (.bipush 63, 2) := dk_16 63 (dk_at dksJ25_get_2_7 7 rfl rfl)
theorem dJ25_get_2_172 : decode cJ25_get_2 172 = .ok (.iand, 1) := dk_126 (dk_at dksJ25_get_2_7 9 rfl rfl)
theorem dJ25_get_2_173 : decode cJ25_get_2 173 = .ok (.iload_n 1, 1) := dk_27 (dk_at dksJ25_get_2_7 10 rfl rfl)
theorem dJ25_get_2_174 : decode cJ25_get_2 174 = .ok (.bipush 63, 2) := dk_16 63 (dk_at dksJ25_get_2_7 11 rfl rfl)
theorem dJ25_get_2_176 : decode cJ25_get_2 176 = .ok (.iand, 1) := dk_126 (dk_at dksJ25_get_2_7 13 rfl rfl)
theorem dJ25_get_2_177 : decode cJ25_get_2 177 = .ok (.if_icmp .ge 31, 3) := dk_162 0 31 (dk_at dksJ25_get_2_7 14 rfl rfl)
theorem dJ25_get_2_180 : decode cJ25_get_2 180 = .ok (.aload_n 0, 1) := dk_42 (dk_at dksJ25_get_2_7 17 rfl rfl)
theorem dJ25_get_2_181 : decode cJ25_get_2 181 = .ok (.getfield 11, 3) := dk_180 0 11 (dk_at dksJ25_get_2_7 18 rfl rfl)
theorem dJ25_get_2_184 : decode cJ25_get_2 184 = .ok (.iload 6, 2) := dk_21 6 (dk_at dksJ25_get_2_7 21 rfl rfl)
theorem dJ25_get_2_186 : decode cJ25_get_2 186 = .ok (.laload, 1) := dk_47 (dk_at dksJ25_get_2_7 23 rfl rfl)
theorem dJ25_get_2_187 : decode cJ25_get_2 187 = .ok (.iload_n 1, 1) := dk_27 (dk_at dksJ25_get_2_8 0 rfl rfl)
theorem dJ25_get_2_188 : decode cJ25_get_2 188 = .ok (.lushr, 1) := dk_125 (dk_at dksJ25_get_2_8 1 rfl rfl)
theorem dJ25_get_2_189 : decode cJ25_get_2 189 = .ok (.aload_n 0, 1) := dk_42 (dk_at dksJ25_get_2_8 2 rfl rfl)
theorem dJ25_get_2_190 : decode cJ25_get_2 190 = .ok (.getfield 11, 3) := dk_180 0 11 (dk_at dksJ25_get_2_8 3 rfl rfl)
theorem dJ25_get_2_193 : decode cJ25_get_2 193 = .ok (.iload 6, 2) := dk_21 6 (dk_at dksJ25_get_2_8 6 rfl rfl)
theorem dJ25_get_2_195 : decode cJ25_get_2 195 = .ok (.iconst 1, 1) := dk_4 (dk_at dksJ25_get_2_8 8 rfl rfl)
theorem dJ25_get_2_196 : decode cJ25_get_2 196 = .ok (.iadd, 1) := dk_96 (dk_at dksJ25_get_2_8 9 rfl rfl)
theorem dJ25_get_2_197 : decode cJ25_get_2 197 = .ok (.laload, 1) := dk_47 (dk_at dksJ25_get_2_8 10 rfl rfl)
theorem dJ25_get_2_198 : decode cJ25_get_2 198 = .ok (.lload 8, 2) := dk_22 8 (dk_at dksJ25_get_2_8 11 rfl rfl)
theorem dJ25_get_2_200 : decode cJ25_get_2 200 = .ok (.land, 1) := dk_127 (dk_at dksJ25_get_2_8 13 rfl rfl)
theorem dJ25_get_2_201 : decode cJ25_get_2 201 = .ok (.iload_n 1, 1) := dk_27 (dk_at dksJ25_get_2_8 14 rfl rfl)
theorem dJ25_get_2_202 : decode cJ25_get_2 202 = .ok (.ineg, 1) := dk_116 (dk_at dksJ25_get_2_8 15 rfl rfl)
theorem dJ25_get_2_203 : decode cJ25_get_2 203 = .ok (.lshl, 1) := dk_121 (dk_at dksJ25_get_2_8 16 rfl rfl)
theorem dJ25_get_2_204 : decode cJ25_get_2 204 = .ok (.lor, 1) := dk_129 (dk_at dksJ25_get_2_8 17 rfl rfl)
theorem dJ25_get_2_205 : decode cJ25_get_2 205 = .ok (.goto 15, 3) := dk_167 0 15 (dk_at dksJ25_get_2_8 18 rfl rfl)
theorem dJ25_get_2_208 : decode cJ25_get_2 208 = .ok (.aload_n 0, 1) := dk_42 (dk_at dksJ25_get_2_8 21 rfl rfl)
theorem dJ25_get_2_209 : decode cJ25_get_2 209 = .ok (.getfield 11, 3) := dk_180 0 11 (dk_at dksJ25_get_2_9 0 rfl rfl)
theorem dJ25_get_2_212 : decode cJ25_get_2 212 = .ok (.iload 6, 2) := dk_21 6 (dk_at dksJ25_get_2_9 3 rfl rfl)
theorem dJ25_get_2_214 : decode cJ25_get_2 214 = .ok (.laload, 1) := dk_47 (dk_at dksJ25_get_2_9 5 rfl rfl)
theorem dJ25_get_2_215 : decode cJ25_get_2 215 = .ok (.lload 8, 2) := dk_22 8 (dk_at dksJ25_get_2_9 6 rfl rfl)
theorem dJ25_get_2_217 : decode cJ25_get_2 217 = .ok (.land, 1) := dk_127 (dk_at dksJ25_get_2_9 8 rfl rfl)
theorem dJ25_get_2_218 : decode cJ25_get_2 218 = .ok (.iload_n 1, 1) := dk_27 (dk_at dksJ25_get_2_9 9 rfl rfl)
theorem dJ25_get_2_219 : decode cJ25_get_2 219 = .ok (.lushr, 1) := dk_125 (dk_at dksJ25_get_2_9 10 rfl rfl)
theorem dJ25_get_2_220 : decode cJ25_get_2 220 = .ok (.lastore, 1) := dk_80 (dk_at dksJ25_get_2_9 11 rfl rfl)
theorem dJ25_get_2_221 : decode cJ25_get_2 221 = .ok (.aload 4, 2) := dk_25 4 (dk_at dksJ25_get_2_9 12 rfl rfl)
theorem dJ25_get_2_223 : decode cJ25_get_2 223 = .ok (.iload 5, 2) := dk_21 5 (dk_at dksJ25_get_2_9 14 rfl rfl)
theorem dJ25_get_2_225 : decode cJ25_get_2 225 = .ok (.putfield 7, 3) := dk_181 0 7 (dk_at dksJ25_get_2_9 16 rfl rfl)
theorem dJ25_get_2_228 : decode cJ25_get_2 228 = .ok (.aload 4, 2) := dk_25 4 (dk_at dksJ25_get_2_9 19 rfl rfl)
theorem dJ25_get_2_230 : decode cJ25_get_2 230 = .ok (.invokevirtual 158, 3) := dk_182 0 158 (dk_at dksJ25_get_2_9 21 rfl rfl)
theorem dJ25_get_2_233 : decode cJ25_get_2 233 = .ok (.aload 4, 2) := dk_25 4 (dk_at dksJ25_get_2_10 0 rfl rfl)
theorem dJ25_get_2_235 : decode cJ25_get_2 235 = .ok (.invokevirtual 56, 3) := dk_182 0 56 (dk_at dksJ25_get_2_10 2 rfl rfl)
theorem dJ25_get_2_238 : decode cJ25_get_2 238 = .ok (.aload 4, 2) := dk_25 4 (dk_at dksJ25_get_2_10 5 rfl rfl)
theorem dJ25_get_2_240 : decode cJ25_get_2 240 = .ok (.areturn, 1) := dk_176 (dk_at dksJ25_get_2_10 7 rfl rfl)
abbrev cJ25_checkRange : ByteArray := prog_51_method_16_code
def yJ25_checkRange : MethodName := ⟨RJ25, "checkRange", "(II)V"⟩
def dkwJ25_checkRange_4 : List UInt8 := [182, 0, 42, 182, 0, 45, 183, 0, 146, 191, 177]
abbrev dktJ25_checkRange_4 : List UInt8 := dkwJ25_checkRange_4 ++ []
def dkwJ25_checkRange_3 : List UInt8 := [187, 0, 33, 89, 183, 0, 35, 18, 149, 182, 0, 38, 26, 182, 0, 42, 18, 151, 182, 0, 38, 27]
abbrev dktJ25_checkRange_3 : List UInt8 := dkwJ25_checkRange_3 ++ dktJ25_checkRange_4
def dkwJ25_checkRange_2 : List UInt8 := [182, 0, 38, 27, 182, 0, 42, 182, 0, 45, 183, 0, 146, 191, 26, 27, 164, 0, 39, 187, 0, 142, 89]
abbrev dktJ25_checkRange_2 : List UInt8 := dkwJ25_checkRange_2 ++ dktJ25_checkRange_3
def dkwJ25_checkRange_1 : List UInt8 := [182, 0, 45, 183, 0, 146, 191, 27, 156, 0, 30, 187, 0, 142, 89, 187, 0, 33, 89, 183, 0, 35, 18, 147]
abbrev dktJ25_checkRange_1 : List UInt8 := dkwJ25_checkRange_1 ++ dktJ25_checkRange_2
def dkwJ25_checkRange_0 : List UInt8 := [26, 156, 0, 30, 187, 0, 142, 89, 187, 0, 33, 89, 183, 0, 35, 18, 144, 182, 0, 38, 26, 182, 0, 42]
abbrev dktJ25_checkRange_0 : List UInt8 := dkwJ25_checkRange_0 ++ dktJ25_checkRange_1
theorem dksJ25_checkRange_0 : cJ25_checkRange.data.toList.drop 0 = dktJ25_checkRange_0 := by decide +kernel
theorem dksJ25_checkRange_1 : cJ25_checkRange.data.toList.drop 24 = dktJ25_checkRange_1 := dk_seg dksJ25_checkRange_0 24 rfl rfl
theorem dksJ25_checkRange_2 : cJ25_checkRange.data.toList.drop 48 = dktJ25_checkRange_2 := dk_seg dksJ25_checkRange_1 24 rfl rfl
theorem dksJ25_checkRange_3 : cJ25_checkRange.data.toList.drop 71 = dktJ25_checkRange_3 := dk_seg dksJ25_checkRange_2 23 rfl rfl
theorem dksJ25_checkRange_4 : cJ25_checkRange.data.toList.drop 93 = dktJ25_checkRange_4 := dk_seg dksJ25_checkRange_3 22 rfl rfl
theorem dJ25_checkRange_0 : decode cJ25_checkRange 0 = .ok (.iload_n 0, 1) := dk_26 (dk_at dksJ25_checkRange_0 0 rfl rfl)
theorem dJ25_checkRange_1 : decode cJ25_checkRange 1 = .ok (.ifCond .ge 30, 3) := dk_156 0 30 (dk_at dksJ25_checkRange_0 1 rfl rfl)
theorem dJ25_checkRange_4 : decode cJ25_checkRange 4 = .ok (.new 142, 3) := dk_187 0 142 (dk_at dksJ25_checkRange_0 4 rfl rfl)
theorem dJ25_checkRange_7 : decode cJ25_checkRange 7 = .ok (.dup, 1) := dk_89 (dk_at dksJ25_checkRange_0 7 rfl rfl)
theorem dJ25_checkRange_8 : decode cJ25_checkRange 8 = .ok (.new 33, 3) := dk_187 0 33 (dk_at dksJ25_checkRange_0 8 rfl rfl)
theorem dJ25_checkRange_11 : decode cJ25_checkRange 11 = .ok (.dup, 1) := dk_89 (dk_at dksJ25_checkRange_0 11 rfl rfl)
theorem dJ25_checkRange_12 : decode cJ25_checkRange 12 = .ok (.invokespecial 35, 3) := dk_183 0 35 (dk_at dksJ25_checkRange_0 12 rfl rfl)
theorem dJ25_checkRange_15 : decode cJ25_checkRange 15 = .ok (.ldc 144, 2) := dk_18 144 (dk_at dksJ25_checkRange_0 15 rfl rfl)
theorem dJ25_checkRange_17 : decode cJ25_checkRange 17 = .ok (.invokevirtual 38, 3) := dk_182 0 38 (dk_at dksJ25_checkRange_0 17 rfl rfl)
theorem dJ25_checkRange_20 : decode cJ25_checkRange 20 = .ok (.iload_n 0, 1) := dk_26 (dk_at dksJ25_checkRange_0 20 rfl rfl)
theorem dJ25_checkRange_21 : decode cJ25_checkRange 21 = .ok (.invokevirtual 42, 3) := dk_182 0 42 (dk_at dksJ25_checkRange_0 21 rfl rfl)
theorem dJ25_checkRange_24 : decode cJ25_checkRange 24 = .ok (.invokevirtual 45, 3) := dk_182 0 45 (dk_at dksJ25_checkRange_1 0 rfl rfl)
theorem dJ25_checkRange_27 : decode cJ25_checkRange 27 = .ok (.invokespecial 146, 3) := dk_183 0 146 (dk_at dksJ25_checkRange_1 3 rfl rfl)
theorem dJ25_checkRange_30 : decode cJ25_checkRange 30 = .ok (.athrow, 1) := dk_191 (dk_at dksJ25_checkRange_1 6 rfl rfl)
theorem dJ25_checkRange_31 : decode cJ25_checkRange 31 = .ok (.iload_n 1, 1) := dk_27 (dk_at dksJ25_checkRange_1 7 rfl rfl)
theorem dJ25_checkRange_32 : decode cJ25_checkRange 32 = .ok (.ifCond .ge 30, 3) := dk_156 0 30 (dk_at dksJ25_checkRange_1 8 rfl rfl)
theorem dJ25_checkRange_35 : decode cJ25_checkRange 35 = .ok (.new 142, 3) := dk_187 0 142 (dk_at dksJ25_checkRange_1 11 rfl rfl)
theorem dJ25_checkRange_38 : decode cJ25_checkRange 38 = .ok (.dup, 1) := dk_89 (dk_at dksJ25_checkRange_1 14 rfl rfl)
theorem dJ25_checkRange_39 : decode cJ25_checkRange 39 = .ok (.new 33, 3) := dk_187 0 33 (dk_at dksJ25_checkRange_1 15 rfl rfl)
theorem dJ25_checkRange_42 : decode cJ25_checkRange 42 = .ok (.dup, 1) := dk_89 (dk_at dksJ25_checkRange_1 18 rfl rfl)
theorem dJ25_checkRange_43 : decode cJ25_checkRange 43 = .ok (.invokespecial 35, 3) := dk_183 0 35 (dk_at dksJ25_checkRange_1 19 rfl rfl)
theorem dJ25_checkRange_46 : decode cJ25_checkRange 46 = .ok (.ldc 147, 2) := dk_18 147 (dk_at dksJ25_checkRange_1 22 rfl rfl)
theorem dJ25_checkRange_48 : decode cJ25_checkRange 48 = .ok (.invokevirtual 38, 3) := dk_182 0 38 (dk_at dksJ25_checkRange_2 0 rfl rfl)
theorem dJ25_checkRange_51 : decode cJ25_checkRange 51 = .ok (.iload_n 1, 1) := dk_27 (dk_at dksJ25_checkRange_2 3 rfl rfl)
theorem dJ25_checkRange_52 : decode cJ25_checkRange 52 = .ok (.invokevirtual 42, 3) := dk_182 0 42 (dk_at dksJ25_checkRange_2 4 rfl rfl)
theorem dJ25_checkRange_55 : decode cJ25_checkRange 55 = .ok (.invokevirtual 45, 3) := dk_182 0 45 (dk_at dksJ25_checkRange_2 7 rfl rfl)
theorem dJ25_checkRange_58 : decode cJ25_checkRange 58 = .ok (.invokespecial 146, 3) := dk_183 0 146 (dk_at dksJ25_checkRange_2 10 rfl rfl)
theorem dJ25_checkRange_61 : decode cJ25_checkRange 61 = .ok (.athrow, 1) := dk_191 (dk_at dksJ25_checkRange_2 13 rfl rfl)
theorem dJ25_checkRange_62 : decode cJ25_checkRange 62 = .ok (.iload_n 0, 1) := dk_26 (dk_at dksJ25_checkRange_2 14 rfl rfl)
theorem dJ25_checkRange_63 : decode cJ25_checkRange 63 = .ok (.iload_n 1, 1) := dk_27 (dk_at dksJ25_checkRange_2 15 rfl rfl)
theorem dJ25_checkRange_64 : decode cJ25_checkRange 64 = .ok (.if_icmp .le 39, 3) := dk_164 0 39 (dk_at dksJ25_checkRange_2 16 rfl rfl)
theorem dJ25_checkRange_67 : decode cJ25_checkRange 67 = .ok (.new 142, 3) := dk_187 0 142 (dk_at dksJ25_checkRange_2 19 rfl rfl)
theorem dJ25_checkRange_70 : decode cJ25_checkRange 70 = .ok (.dup, 1) := dk_89 (dk_at dksJ25_checkRange_2 22 rfl rfl)
theorem dJ25_checkRange_71 : decode cJ25_checkRange 71 = .ok (.new 33, 3) := dk_187 0 33 (dk_at dksJ25_checkRange_3 0 rfl rfl)
theorem dJ25_checkRange_74 : decode cJ25_checkRange 74 = .ok (.dup, 1) := dk_89 (dk_at dksJ25_checkRange_3 3 rfl rfl)
theorem dJ25_checkRange_75 : decode cJ25_checkRange 75 = .ok (.invokespecial 35, 3) := dk_183 0 35 (dk_at dksJ25_checkRange_3 4 rfl rfl)
theorem dJ25_checkRange_78 : decode cJ25_checkRange 78 = .ok (.ldc 149, 2) := dk_18 149 (dk_at dksJ25_checkRange_3 7 rfl rfl)
theorem dJ25_checkRange_80 : decode cJ25_checkRange 80 = .ok (.invokevirtual 38, 3) := dk_182 0 38 (dk_at dksJ25_checkRange_3 9 rfl rfl)
theorem dJ25_checkRange_83 : decode cJ25_checkRange 83 = .ok (.iload_n 0, 1) := dk_26 (dk_at dksJ25_checkRange_3 12 rfl rfl)
theorem dJ25_checkRange_84 : decode cJ25_checkRange 84 = .ok (.invokevirtual 42, 3) := dk_182 0 42 (dk_at dksJ25_checkRange_3 13 rfl rfl)
theorem dJ25_checkRange_87 : decode cJ25_checkRange 87 = .ok (.ldc 151, 2) := dk_18 151 (dk_at dksJ25_checkRange_3 16 rfl rfl)
theorem dJ25_checkRange_89 : decode cJ25_checkRange 89 = .ok (.invokevirtual 38, 3) := dk_182 0 38 (dk_at dksJ25_checkRange_3 18 rfl rfl)
theorem dJ25_checkRange_92 : decode cJ25_checkRange 92 = .ok (.iload_n 1, 1) := dk_27 (dk_at dksJ25_checkRange_3 21 rfl rfl)
theorem dJ25_checkRange_93 : decode cJ25_checkRange 93 = .ok (.invokevirtual 42, 3) := dk_182 0 42 (dk_at dksJ25_checkRange_4 0 rfl rfl)
theorem dJ25_checkRange_96 : decode cJ25_checkRange 96 = .ok (.invokevirtual 45, 3) := dk_182 0 45 (dk_at dksJ25_checkRange_4 3 rfl rfl)
theorem dJ25_checkRange_99 : decode cJ25_checkRange 99 = .ok (.invokespecial 146, 3) := dk_183 0 146 (dk_at dksJ25_checkRange_4 6 rfl rfl)
theorem dJ25_checkRange_102 : decode cJ25_checkRange 102 = .ok (.athrow, 1) := dk_191 (dk_at dksJ25_checkRange_4 9 rfl rfl)
theorem dJ25_checkRange_103 : decode cJ25_checkRange 103 = .ok (.return_, 1) := dk_177 (dk_at dksJ25_checkRange_4 10 rfl rfl)
abbrev cJ25_length : ByteArray := prog_51_method_32_code
def yJ25_length : MethodName := ⟨RJ25, "length", "()I"⟩
def dkwJ25_length_1 : List UInt8 := [42, 180, 0, 7, 4, 100, 47, 184, 0, 190, 100, 96, 172]
abbrev dktJ25_length_1 : List UInt8 := dkwJ25_length_1 ++ []
def dkwJ25_length_0 : List UInt8 := [42, 180, 0, 7, 154, 0, 5, 3, 172, 16, 64, 42, 180, 0, 7, 4, 100, 104, 16, 64, 42, 180, 0, 11]
abbrev dktJ25_length_0 : List UInt8 := dkwJ25_length_0 ++ dktJ25_length_1
theorem dksJ25_length_0 : cJ25_length.data.toList.drop 0 = dktJ25_length_0 := by decide +kernel
theorem dksJ25_length_1 : cJ25_length.data.toList.drop 24 = dktJ25_length_1 := dk_seg dksJ25_length_0 24 rfl rfl
theorem dJ25_length_0 : decode cJ25_length 0 = .ok (.aload_n 0, 1) := dk_42 (dk_at dksJ25_length_0 0 rfl rfl)
theorem dJ25_length_1 : decode cJ25_length 1 = .ok (.getfield 7, 3) := dk_180 0 7 (dk_at dksJ25_length_0 1 rfl rfl)
theorem dJ25_length_4 : decode cJ25_length 4 = .ok (.ifCond .ne 5, 3) := dk_154 0 5 (dk_at dksJ25_length_0 4 rfl rfl)
theorem dJ25_length_7 : decode cJ25_length 7 = .ok (.iconst 0, 1) := dk_3 (dk_at dksJ25_length_0 7 rfl rfl)
theorem dJ25_length_8 : decode cJ25_length 8 = .ok (.ireturn, 1) := dk_172 (dk_at dksJ25_length_0 8 rfl rfl)
theorem dJ25_length_9 : decode cJ25_length 9 = .ok (.bipush 64, 2) := dk_16 64 (dk_at dksJ25_length_0 9 rfl rfl)
theorem dJ25_length_11 : decode cJ25_length 11 = .ok (.aload_n 0, 1) := dk_42 (dk_at dksJ25_length_0 11 rfl rfl)
theorem dJ25_length_12 : decode cJ25_length 12 = .ok (.getfield 7, 3) := dk_180 0 7 (dk_at dksJ25_length_0 12 rfl rfl)
theorem dJ25_length_15 : decode cJ25_length 15 = .ok (.iconst 1, 1) := dk_4 (dk_at dksJ25_length_0 15 rfl rfl)
theorem dJ25_length_16 : decode cJ25_length 16 = .ok (.isub, 1) := dk_100 (dk_at dksJ25_length_0 16 rfl rfl)
theorem dJ25_length_17 : decode cJ25_length 17 = .ok (.imul, 1) := dk_104 (dk_at dksJ25_length_0 17 rfl rfl)
theorem dJ25_length_18 : decode cJ25_length 18 = .ok (.bipush 64, 2) := dk_16 64 (dk_at dksJ25_length_0 18 rfl rfl)
theorem dJ25_length_20 : decode cJ25_length 20 = .ok (.aload_n 0, 1) := dk_42 (dk_at dksJ25_length_0 20 rfl rfl)
theorem dJ25_length_21 : decode cJ25_length 21 = .ok (.getfield 11, 3) := dk_180 0 11 (dk_at dksJ25_length_0 21 rfl rfl)
theorem dJ25_length_24 : decode cJ25_length 24 = .ok (.aload_n 0, 1) := dk_42 (dk_at dksJ25_length_1 0 rfl rfl)
theorem dJ25_length_25 : decode cJ25_length 25 = .ok (.getfield 7, 3) := dk_180 0 7 (dk_at dksJ25_length_1 1 rfl rfl)
theorem dJ25_length_28 : decode cJ25_length 28 = .ok (.iconst 1, 1) := dk_4 (dk_at dksJ25_length_1 4 rfl rfl)
theorem dJ25_length_29 : decode cJ25_length 29 = .ok (.isub, 1) := dk_100 (dk_at dksJ25_length_1 5 rfl rfl)
theorem dJ25_length_30 : decode cJ25_length 30 = .ok (.laload, 1) := dk_47 (dk_at dksJ25_length_1 6 rfl rfl)
theorem dJ25_length_31 : decode cJ25_length 31 = .ok (.invokestatic 190, 3) := dk_184 0 190 (dk_at dksJ25_length_1 7 rfl rfl)
theorem dJ25_length_34 : decode cJ25_length 34 = .ok (.isub, 1) := dk_100 (dk_at dksJ25_length_1 10 rfl rfl)
theorem dJ25_length_35 : decode cJ25_length 35 = .ok (.iadd, 1) := dk_96 (dk_at dksJ25_length_1 11 rfl rfl)
theorem dJ25_length_36 : decode cJ25_length 36 = .ok (.ireturn, 1) := dk_172 (dk_at dksJ25_length_1 12 rfl rfl)
abbrev cJ25_nextSetBit : ByteArray := prog_51_method_28_code
def yJ25_nextSetBit : MethodName := ⟨RJ25, "nextSetBit", "(I)I"⟩
def dkwJ25_nextSetBit_4 : List UInt8 := [28, 47, 66, 167, 255, 220]
abbrev dktJ25_nextSetBit_4 : List UInt8 := dkwJ25_nextSetBit_4 ++ []
def dkwJ25_nextSetBit_3 : List UInt8 := [104, 33, 184, 0, 182, 96, 172, 132, 2, 1, 28, 42, 180, 0, 7, 160, 0, 5, 2, 172, 42, 180, 0, 11]
abbrev dktJ25_nextSetBit_3 : List UInt8 := dkwJ25_nextSetBit_3 ++ dktJ25_nextSetBit_4
def dkwJ25_nextSetBit_2 : List UInt8 := [2, 172, 42, 180, 0, 11, 28, 47, 20, 0, 165, 27, 121, 127, 66, 33, 9, 148, 153, 0, 13, 28, 16, 64]
abbrev dktJ25_nextSetBit_2 : List UInt8 := dkwJ25_nextSetBit_2 ++ dktJ25_nextSetBit_3
def dkwJ25_nextSetBit_1 : List UInt8 := [182, 0, 45, 183, 0, 146, 191, 42, 182, 0, 56, 27, 184, 0, 52, 61, 28, 42, 180, 0, 7, 161, 0, 5]
abbrev dktJ25_nextSetBit_1 : List UInt8 := dkwJ25_nextSetBit_1 ++ dktJ25_nextSetBit_2
def dkwJ25_nextSetBit_0 : List UInt8 := [27, 156, 0, 30, 187, 0, 142, 89, 187, 0, 33, 89, 183, 0, 35, 18, 144, 182, 0, 38, 27, 182, 0, 42]
abbrev dktJ25_nextSetBit_0 : List UInt8 := dkwJ25_nextSetBit_0 ++ dktJ25_nextSetBit_1
theorem dksJ25_nextSetBit_0 : cJ25_nextSetBit.data.toList.drop 0 = dktJ25_nextSetBit_0 := by decide +kernel
theorem dksJ25_nextSetBit_1 : cJ25_nextSetBit.data.toList.drop 24 = dktJ25_nextSetBit_1 := dk_seg dksJ25_nextSetBit_0 24 rfl rfl
theorem dksJ25_nextSetBit_2 : cJ25_nextSetBit.data.toList.drop 48 = dktJ25_nextSetBit_2 := dk_seg dksJ25_nextSetBit_1 24 rfl rfl
theorem dksJ25_nextSetBit_3 : cJ25_nextSetBit.data.toList.drop 72 = dktJ25_nextSetBit_3 := dk_seg dksJ25_nextSetBit_2 24 rfl rfl
theorem dksJ25_nextSetBit_4 : cJ25_nextSetBit.data.toList.drop 96 = dktJ25_nextSetBit_4 := dk_seg dksJ25_nextSetBit_3 24 rfl rfl
theorem dJ25_nextSetBit_0 : decode cJ25_nextSetBit 0 = .ok (.iload_n 1, 1) := dk_27 (dk_at dksJ25_nextSetBit_0 0 rfl rfl)
theorem dJ25_nextSetBit_1 : decode cJ25_nextSetBit 1 = .ok (.ifCond .ge 30, 3) := dk_156 0 30 (dk_at dksJ25_nextSetBit_0 1 rfl rfl)
theorem dJ25_nextSetBit_4 : decode cJ25_nextSetBit 4 = .ok (.new 142, 3) := dk_187 0 142 (dk_at dksJ25_nextSetBit_0 4 rfl rfl)
theorem dJ25_nextSetBit_7 : decode cJ25_nextSetBit 7 = .ok (.dup, 1) := dk_89 (dk_at dksJ25_nextSetBit_0 7 rfl rfl)
theorem dJ25_nextSetBit_8 : decode cJ25_nextSetBit 8 = .ok (.new 33, 3) := dk_187 0 33 (dk_at dksJ25_nextSetBit_0 8 rfl rfl)
theorem dJ25_nextSetBit_11 : decode cJ25_nextSetBit 11 = .ok (.dup, 1) := dk_89 (dk_at dksJ25_nextSetBit_0 11 rfl rfl)
theorem dJ25_nextSetBit_12 : decode cJ25_nextSetBit 12 = .ok (.invokespecial 35, 3) := dk_183 0 35 (dk_at dksJ25_nextSetBit_0 12 rfl rfl)
theorem dJ25_nextSetBit_15 : decode cJ25_nextSetBit 15 = .ok (.ldc 144, 2) := dk_18 144 (dk_at dksJ25_nextSetBit_0 15 rfl rfl)
theorem dJ25_nextSetBit_17 : decode cJ25_nextSetBit 17 = .ok (.invokevirtual 38, 3) := dk_182 0 38 (dk_at dksJ25_nextSetBit_0 17 rfl rfl)
theorem dJ25_nextSetBit_20 : decode cJ25_nextSetBit 20 = .ok (.iload_n 1, 1) := dk_27 (dk_at dksJ25_nextSetBit_0 20 rfl rfl)
theorem dJ25_nextSetBit_21 : decode cJ25_nextSetBit 21 = .ok (.invokevirtual 42, 3) := dk_182 0 42 (dk_at dksJ25_nextSetBit_0 21 rfl rfl)
theorem dJ25_nextSetBit_24 : decode cJ25_nextSetBit 24 = .ok (.invokevirtual 45, 3) := dk_182 0 45 (dk_at dksJ25_nextSetBit_1 0 rfl rfl)
theorem dJ25_nextSetBit_27 : decode cJ25_nextSetBit 27 = .ok (.invokespecial 146, 3) := dk_183 0 146 (dk_at dksJ25_nextSetBit_1 3 rfl rfl)
theorem dJ25_nextSetBit_30 : decode cJ25_nextSetBit 30 = .ok (.athrow, 1) := dk_191 (dk_at dksJ25_nextSetBit_1 6 rfl rfl)
theorem dJ25_nextSetBit_31 : decode cJ25_nextSetBit 31 = .ok (.aload_n 0, 1) := dk_42 (dk_at dksJ25_nextSetBit_1 7 rfl rfl)
theorem dJ25_nextSetBit_32 : decode cJ25_nextSetBit 32 = .ok (.invokevirtual 56, 3) := dk_182 0 56 (dk_at dksJ25_nextSetBit_1 8 rfl rfl)
theorem dJ25_nextSetBit_35 : decode cJ25_nextSetBit 35 = .ok (.iload_n 1, 1) := dk_27 (dk_at dksJ25_nextSetBit_1 11 rfl rfl)
theorem dJ25_nextSetBit_36 : decode cJ25_nextSetBit 36 = .ok (.invokestatic 52, 3) := dk_184 0 52 (dk_at dksJ25_nextSetBit_1 12 rfl rfl)
theorem dJ25_nextSetBit_39 : decode cJ25_nextSetBit 39 = .ok (.istore_n 2, 1) := dk_61 (dk_at dksJ25_nextSetBit_1 15 rfl rfl)
theorem dJ25_nextSetBit_40 : decode cJ25_nextSetBit 40 = .ok (.iload_n 2, 1) := dk_28 (dk_at dksJ25_nextSetBit_1 16 rfl rfl)
theorem dJ25_nextSetBit_41 : decode cJ25_nextSetBit 41 = .ok (.aload_n 0, 1) := dk_42 (dk_at dksJ25_nextSetBit_1 17 rfl rfl)
theorem dJ25_nextSetBit_42 : decode cJ25_nextSetBit 42 = .ok (.getfield 7, 3) := dk_180 0 7 (dk_at dksJ25_nextSetBit_1 18 rfl rfl)
theorem dJ25_nextSetBit_45 : decode cJ25_nextSetBit 45 = .ok (.if_icmp .lt 5, 3) := dk_161 0 5 (dk_at dksJ25_nextSetBit_1 21 rfl rfl)
theorem dJ25_nextSetBit_48 : decode cJ25_nextSetBit 48 = .ok (.iconst (-1), 1) := dk_2 (dk_at dksJ25_nextSetBit_2 0 rfl rfl)
theorem dJ25_nextSetBit_49 : decode cJ25_nextSetBit 49 = .ok (.ireturn, 1) := dk_172 (dk_at dksJ25_nextSetBit_2 1 rfl rfl)
theorem dJ25_nextSetBit_50 : decode cJ25_nextSetBit 50 = .ok (.aload_n 0, 1) := dk_42 (dk_at dksJ25_nextSetBit_2 2 rfl rfl)
theorem dJ25_nextSetBit_51 : decode cJ25_nextSetBit 51 = .ok (.getfield 11, 3) := dk_180 0 11 (dk_at dksJ25_nextSetBit_2 3 rfl rfl)
theorem dJ25_nextSetBit_54 : decode cJ25_nextSetBit 54 = .ok (.iload_n 2, 1) := dk_28 (dk_at dksJ25_nextSetBit_2 6 rfl rfl)
theorem dJ25_nextSetBit_55 : decode cJ25_nextSetBit 55 = .ok (.laload, 1) := dk_47 (dk_at dksJ25_nextSetBit_2 7 rfl rfl)
theorem dJ25_nextSetBit_56 : decode cJ25_nextSetBit 56 = .ok (.ldc2_w 165, 3) := dk_20 0 165 (dk_at dksJ25_nextSetBit_2 8 rfl rfl)
theorem dJ25_nextSetBit_59 : decode cJ25_nextSetBit 59 = .ok (.iload_n 1, 1) := dk_27 (dk_at dksJ25_nextSetBit_2 11 rfl rfl)
theorem dJ25_nextSetBit_60 : decode cJ25_nextSetBit 60 = .ok (.lshl, 1) := dk_121 (dk_at dksJ25_nextSetBit_2 12 rfl rfl)
theorem dJ25_nextSetBit_61 : decode cJ25_nextSetBit 61 = .ok (.land, 1) := dk_127 (dk_at dksJ25_nextSetBit_2 13 rfl rfl)
theorem dJ25_nextSetBit_62 : decode cJ25_nextSetBit 62 = .ok (.lstore_n 3, 1) := dk_66 (dk_at dksJ25_nextSetBit_2 14 rfl rfl)
theorem dJ25_nextSetBit_63 : decode cJ25_nextSetBit 63 = .ok (.lload_n 3, 1) := dk_33 (dk_at dksJ25_nextSetBit_2 15 rfl rfl)
theorem dJ25_nextSetBit_64 : decode cJ25_nextSetBit 64 = .ok (.lconst 0, 1) := dk_9 (dk_at dksJ25_nextSetBit_2 16 rfl rfl)
theorem dJ25_nextSetBit_65 : decode cJ25_nextSetBit 65 = .ok (.lcmp, 1) := dk_148 (dk_at dksJ25_nextSetBit_2 17 rfl rfl)
theorem dJ25_nextSetBit_66 : decode cJ25_nextSetBit 66 = .ok (.ifCond .eq 13, 3) := dk_153 0 13 (dk_at dksJ25_nextSetBit_2 18 rfl rfl)
theorem dJ25_nextSetBit_69 : decode cJ25_nextSetBit 69 = .ok (.iload_n 2, 1) := dk_28 (dk_at dksJ25_nextSetBit_2 21 rfl rfl)
theorem dJ25_nextSetBit_70 : decode cJ25_nextSetBit 70 = .ok (.bipush 64, 2) := dk_16 64 (dk_at dksJ25_nextSetBit_2 22 rfl rfl)
theorem dJ25_nextSetBit_72 : decode cJ25_nextSetBit 72 = .ok (.imul, 1) := dk_104 (dk_at dksJ25_nextSetBit_3 0 rfl rfl)
theorem dJ25_nextSetBit_73 : decode cJ25_nextSetBit 73 = .ok (.lload_n 3, 1) := dk_33 (dk_at dksJ25_nextSetBit_3 1 rfl rfl)
theorem dJ25_nextSetBit_74 : decode cJ25_nextSetBit 74 = .ok (.invokestatic 182, 3) := dk_184 0 182 (dk_at dksJ25_nextSetBit_3 2 rfl rfl)
theorem dJ25_nextSetBit_77 : decode cJ25_nextSetBit 77 = .ok (.iadd, 1) := dk_96 (dk_at dksJ25_nextSetBit_3 5 rfl rfl)
theorem dJ25_nextSetBit_78 : decode cJ25_nextSetBit 78 = .ok (.ireturn, 1) := dk_172 (dk_at dksJ25_nextSetBit_3 6 rfl rfl)
theorem dJ25_nextSetBit_79 : decode cJ25_nextSetBit 79 = .ok (.iinc 2 1, 3) := dk_132 2 1 (dk_at dksJ25_nextSetBit_3 7 rfl rfl)
theorem dJ25_nextSetBit_82 : decode cJ25_nextSetBit 82 = .ok (.iload_n 2, 1) := dk_28 (dk_at dksJ25_nextSetBit_3 10 rfl rfl)
theorem dJ25_nextSetBit_83 : decode cJ25_nextSetBit 83 = .ok (.aload_n 0, 1) := dk_42 (dk_at dksJ25_nextSetBit_3 11 rfl rfl)
theorem dJ25_nextSetBit_84 : decode cJ25_nextSetBit 84 = .ok (.getfield 7, 3) := dk_180 0 7 (dk_at dksJ25_nextSetBit_3 12 rfl rfl)
theorem dJ25_nextSetBit_87 : decode cJ25_nextSetBit 87 = .ok (.if_icmp .ne 5, 3) := dk_160 0 5 (dk_at dksJ25_nextSetBit_3 15 rfl rfl)
theorem dJ25_nextSetBit_90 : decode cJ25_nextSetBit 90 = .ok (.iconst (-1), 1) := dk_2 (dk_at dksJ25_nextSetBit_3 18 rfl rfl)
theorem dJ25_nextSetBit_91 : decode cJ25_nextSetBit 91 = .ok (.ireturn, 1) := dk_172 (dk_at dksJ25_nextSetBit_3 19 rfl rfl)
theorem dJ25_nextSetBit_92 : decode cJ25_nextSetBit 92 = .ok (.aload_n 0, 1) := dk_42 (dk_at dksJ25_nextSetBit_3 20 rfl rfl)
theorem dJ25_nextSetBit_93 : decode cJ25_nextSetBit 93 = .ok (.getfield 11, 3) := dk_180 0 11 (dk_at dksJ25_nextSetBit_3 21 rfl rfl)
theorem dJ25_nextSetBit_96 : decode cJ25_nextSetBit 96 = .ok (.iload_n 2, 1) := dk_28 (dk_at dksJ25_nextSetBit_4 0 rfl rfl)
theorem dJ25_nextSetBit_97 : decode cJ25_nextSetBit 97 = .ok (.laload, 1) := dk_47 (dk_at dksJ25_nextSetBit_4 1 rfl rfl)
theorem dJ25_nextSetBit_98 : decode cJ25_nextSetBit 98 = .ok (.lstore_n 3, 1) := dk_66 (dk_at dksJ25_nextSetBit_4 2 rfl rfl)
theorem dJ25_nextSetBit_99 : decode cJ25_nextSetBit 99 = .ok (.goto (-36), 3) := dk_167 255 220 (dk_at dksJ25_nextSetBit_4 3 rfl rfl)
abbrev cJ25_nextClearBit : ByteArray := prog_51_method_29_code
def yJ25_nextClearBit : MethodName := ⟨RJ25, "nextClearBit", "(I)I"⟩
def dkwJ25_nextClearBit_4 : List UInt8 := [42, 180, 0, 7, 16, 64, 104, 172, 42, 180, 0, 11, 28, 47, 20, 0, 165, 131, 66, 167, 255, 210]
abbrev dktJ25_nextClearBit_4 : List UInt8 := dkwJ25_nextClearBit_4 ++ []
def dkwJ25_nextClearBit_3 : List UInt8 := [153, 0, 13, 28, 16, 64, 104, 33, 184, 0, 182, 96, 172, 132, 2, 1, 28, 42, 180, 0, 7, 160, 0, 11]
abbrev dktJ25_nextClearBit_3 : List UInt8 := dkwJ25_nextClearBit_3 ++ dktJ25_nextClearBit_4
def dkwJ25_nextClearBit_2 : List UInt8 := [27, 172, 42, 180, 0, 11, 28, 47, 20, 0, 165, 131, 20, 0, 165, 27, 121, 127, 66, 33, 9, 148]
abbrev dktJ25_nextClearBit_2 : List UInt8 := dkwJ25_nextClearBit_2 ++ dktJ25_nextClearBit_3
def dkwJ25_nextClearBit_1 : List UInt8 := [182, 0, 45, 183, 0, 146, 191, 42, 182, 0, 56, 27, 184, 0, 52, 61, 28, 42, 180, 0, 7, 161, 0, 5]
abbrev dktJ25_nextClearBit_1 : List UInt8 := dkwJ25_nextClearBit_1 ++ dktJ25_nextClearBit_2
def dkwJ25_nextClearBit_0 : List UInt8 := [27, 156, 0, 30, 187, 0, 142, 89, 187, 0, 33, 89, 183, 0, 35, 18, 144, 182, 0, 38, 27, 182, 0, 42]
abbrev dktJ25_nextClearBit_0 : List UInt8 := dkwJ25_nextClearBit_0 ++ dktJ25_nextClearBit_1
theorem dksJ25_nextClearBit_0 : cJ25_nextClearBit.data.toList.drop 0 = dktJ25_nextClearBit_0 := by decide +kernel
theorem dksJ25_nextClearBit_1 : cJ25_nextClearBit.data.toList.drop 24 = dktJ25_nextClearBit_1 := dk_seg dksJ25_nextClearBit_0 24 rfl rfl
theorem dksJ25_nextClearBit_2 : cJ25_nextClearBit.data.toList.drop 48 = dktJ25_nextClearBit_2 := dk_seg dksJ25_nextClearBit_1 24 rfl rfl
theorem dksJ25_nextClearBit_3 : cJ25_nextClearBit.data.toList.drop 70 = dktJ25_nextClearBit_3 := dk_seg dksJ25_nextClearBit_2 22 rfl rfl
theorem dksJ25_nextClearBit_4 : cJ25_nextClearBit.data.toList.drop 94 = dktJ25_nextClearBit_4 := dk_seg dksJ25_nextClearBit_3 24 rfl rfl
theorem dJ25_nextClearBit_0 : decode cJ25_nextClearBit 0 = .ok (.iload_n 1, 1) := dk_27 (dk_at dksJ25_nextClearBit_0 0 rfl rfl)
theorem dJ25_nextClearBit_1 : decode cJ25_nextClearBit 1 = .ok (.ifCond .ge 30, 3) := dk_156 0 30 (dk_at dksJ25_nextClearBit_0 1 rfl rfl)
theorem dJ25_nextClearBit_4 : decode cJ25_nextClearBit 4 = .ok (.new 142, 3) := dk_187 0 142 (dk_at dksJ25_nextClearBit_0 4 rfl rfl)
theorem dJ25_nextClearBit_7 : decode cJ25_nextClearBit 7 = .ok (.dup, 1) := dk_89 (dk_at dksJ25_nextClearBit_0 7 rfl rfl)
theorem dJ25_nextClearBit_8 : decode cJ25_nextClearBit 8 = .ok (.new 33, 3) := dk_187 0 33 (dk_at dksJ25_nextClearBit_0 8 rfl rfl)
theorem dJ25_nextClearBit_11 : decode cJ25_nextClearBit 11 = .ok (.dup, 1) := dk_89 (dk_at dksJ25_nextClearBit_0 11 rfl rfl)
theorem dJ25_nextClearBit_12 : decode cJ25_nextClearBit 12 = .ok (.invokespecial 35, 3) := dk_183 0 35 (dk_at dksJ25_nextClearBit_0 12 rfl rfl)
theorem dJ25_nextClearBit_15 : decode cJ25_nextClearBit 15 = .ok (.ldc 144, 2) := dk_18 144 (dk_at dksJ25_nextClearBit_0 15 rfl rfl)
theorem dJ25_nextClearBit_17 : decode cJ25_nextClearBit 17 = .ok (.invokevirtual 38, 3) := dk_182 0 38 (dk_at dksJ25_nextClearBit_0 17 rfl rfl)
theorem dJ25_nextClearBit_20 : decode cJ25_nextClearBit 20 = .ok (.iload_n 1, 1) := dk_27 (dk_at dksJ25_nextClearBit_0 20 rfl rfl)
theorem dJ25_nextClearBit_21 : decode cJ25_nextClearBit 21 = .ok (.invokevirtual 42, 3) := dk_182 0 42 (dk_at dksJ25_nextClearBit_0 21 rfl rfl)
theorem dJ25_nextClearBit_24 : decode cJ25_nextClearBit 24 = .ok (.invokevirtual 45, 3) := dk_182 0 45 (dk_at dksJ25_nextClearBit_1 0 rfl rfl)
theorem dJ25_nextClearBit_27 : decode cJ25_nextClearBit 27 = .ok (.invokespecial 146, 3) := dk_183 0 146 (dk_at dksJ25_nextClearBit_1 3 rfl rfl)
theorem dJ25_nextClearBit_30 : decode cJ25_nextClearBit 30 = .ok (.athrow, 1) := dk_191 (dk_at dksJ25_nextClearBit_1 6 rfl rfl)
theorem dJ25_nextClearBit_31 : decode cJ25_nextClearBit 31 = .ok (.aload_n 0, 1) := dk_42 (dk_at dksJ25_nextClearBit_1 7 rfl rfl)
theorem dJ25_nextClearBit_32 : decode cJ25_nextClearBit 32 = .ok (.invokevirtual 56, 3) := dk_182 0 56 (dk_at dksJ25_nextClearBit_1 8 rfl rfl)
theorem dJ25_nextClearBit_35 : decode cJ25_nextClearBit 35 = .ok (.iload_n 1, 1) := dk_27 (dk_at dksJ25_nextClearBit_1 11 rfl rfl)
theorem dJ25_nextClearBit_36 : decode cJ25_nextClearBit 36 = .ok (.invokestatic 52, 3) := dk_184 0 52 (dk_at dksJ25_nextClearBit_1 12 rfl rfl)
theorem dJ25_nextClearBit_39 : decode cJ25_nextClearBit 39 = .ok (.istore_n 2, 1) := dk_61 (dk_at dksJ25_nextClearBit_1 15 rfl rfl)
theorem dJ25_nextClearBit_40 : decode cJ25_nextClearBit 40 = .ok (.iload_n 2, 1) := dk_28 (dk_at dksJ25_nextClearBit_1 16 rfl rfl)
theorem dJ25_nextClearBit_41 : decode cJ25_nextClearBit 41 = .ok (.aload_n 0, 1) := dk_42 (dk_at dksJ25_nextClearBit_1 17 rfl rfl)
theorem dJ25_nextClearBit_42 : decode cJ25_nextClearBit 42 = .ok (.getfield 7, 3) := dk_180 0 7 (dk_at dksJ25_nextClearBit_1 18 rfl rfl)
theorem dJ25_nextClearBit_45 : decode cJ25_nextClearBit 45 = .ok (.if_icmp .lt 5, 3) := dk_161 0 5 (dk_at dksJ25_nextClearBit_1 21 rfl rfl)
theorem dJ25_nextClearBit_48 : decode cJ25_nextClearBit 48 = .ok (.iload_n 1, 1) := dk_27 (dk_at dksJ25_nextClearBit_2 0 rfl rfl)
theorem dJ25_nextClearBit_49 : decode cJ25_nextClearBit 49 = .ok (.ireturn, 1) := dk_172 (dk_at dksJ25_nextClearBit_2 1 rfl rfl)
theorem dJ25_nextClearBit_50 : decode cJ25_nextClearBit 50 = .ok (.aload_n 0, 1) := dk_42 (dk_at dksJ25_nextClearBit_2 2 rfl rfl)
theorem dJ25_nextClearBit_51 : decode cJ25_nextClearBit 51 = .ok (.getfield 11, 3) := dk_180 0 11 (dk_at dksJ25_nextClearBit_2 3 rfl rfl)
theorem dJ25_nextClearBit_54 : decode cJ25_nextClearBit 54 = .ok (.iload_n 2, 1) := dk_28 (dk_at dksJ25_nextClearBit_2 6 rfl rfl)
theorem dJ25_nextClearBit_55 : decode cJ25_nextClearBit 55 = .ok (.laload, 1) := dk_47 (dk_at dksJ25_nextClearBit_2 7 rfl rfl)
theorem dJ25_nextClearBit_56 : decode cJ25_nextClearBit 56 = .ok (.ldc2_w 165, 3) := dk_20 0 165 (dk_at dksJ25_nextClearBit_2 8 rfl rfl)
theorem dJ25_nextClearBit_59 : decode cJ25_nextClearBit 59 = .ok (.lxor, 1) := dk_131 (dk_at dksJ25_nextClearBit_2 11 rfl rfl)
theorem dJ25_nextClearBit_60 : decode cJ25_nextClearBit 60 = .ok (.ldc2_w 165, 3) := dk_20 0 165 (dk_at dksJ25_nextClearBit_2 12 rfl rfl)
theorem dJ25_nextClearBit_63 : decode cJ25_nextClearBit 63 = .ok (.iload_n 1, 1) := dk_27 (dk_at dksJ25_nextClearBit_2 15 rfl rfl)
theorem dJ25_nextClearBit_64 : decode cJ25_nextClearBit 64 = .ok (.lshl, 1) := dk_121 (dk_at dksJ25_nextClearBit_2 16 rfl rfl)
theorem dJ25_nextClearBit_65 : decode cJ25_nextClearBit 65 = .ok (.land, 1) := dk_127 (dk_at dksJ25_nextClearBit_2 17 rfl rfl)
theorem dJ25_nextClearBit_66 : decode cJ25_nextClearBit 66 = .ok (.lstore_n 3, 1) := dk_66 (dk_at dksJ25_nextClearBit_2 18 rfl rfl)
theorem dJ25_nextClearBit_67 : decode cJ25_nextClearBit 67 = .ok (.lload_n 3, 1) := dk_33 (dk_at dksJ25_nextClearBit_2 19 rfl rfl)
theorem dJ25_nextClearBit_68 : decode cJ25_nextClearBit 68 = .ok (.lconst 0, 1) := dk_9 (dk_at dksJ25_nextClearBit_2 20 rfl rfl)
theorem dJ25_nextClearBit_69 : decode cJ25_nextClearBit 69 = .ok (.lcmp, 1) := dk_148 (dk_at dksJ25_nextClearBit_2 21 rfl rfl)
theorem dJ25_nextClearBit_70 : decode cJ25_nextClearBit 70 = .ok (.ifCond .eq 13, 3) := dk_153 0 13 (dk_at dksJ25_nextClearBit_3 0 rfl rfl)
theorem dJ25_nextClearBit_73 : decode cJ25_nextClearBit 73 = .ok (.iload_n 2, 1) := dk_28 (dk_at dksJ25_nextClearBit_3 3 rfl rfl)
theorem dJ25_nextClearBit_74 : decode cJ25_nextClearBit 74 = .ok (.bipush 64, 2) := dk_16 64 (dk_at dksJ25_nextClearBit_3 4 rfl rfl)
theorem dJ25_nextClearBit_76 : decode cJ25_nextClearBit 76 = .ok (.imul, 1) := dk_104 (dk_at dksJ25_nextClearBit_3 6 rfl rfl)
theorem dJ25_nextClearBit_77 : decode cJ25_nextClearBit 77 = .ok (.lload_n 3, 1) := dk_33 (dk_at dksJ25_nextClearBit_3 7 rfl rfl)
theorem dJ25_nextClearBit_78 : decode cJ25_nextClearBit 78 = .ok (.invokestatic 182, 3) := dk_184 0 182 (dk_at dksJ25_nextClearBit_3 8 rfl rfl)
theorem dJ25_nextClearBit_81 : decode cJ25_nextClearBit 81 = .ok (.iadd, 1) := dk_96 (dk_at dksJ25_nextClearBit_3 11 rfl rfl)
theorem dJ25_nextClearBit_82 : decode cJ25_nextClearBit 82 = .ok (.ireturn, 1) := dk_172 (dk_at dksJ25_nextClearBit_3 12 rfl rfl)
theorem dJ25_nextClearBit_83 : decode cJ25_nextClearBit 83 = .ok (.iinc 2 1, 3) := dk_132 2 1 (dk_at dksJ25_nextClearBit_3 13 rfl rfl)
theorem dJ25_nextClearBit_86 : decode cJ25_nextClearBit 86 = .ok (.iload_n 2, 1) := dk_28 (dk_at dksJ25_nextClearBit_3 16 rfl rfl)
theorem dJ25_nextClearBit_87 : decode cJ25_nextClearBit 87 = .ok (.aload_n 0, 1) := dk_42 (dk_at dksJ25_nextClearBit_3 17 rfl rfl)
theorem dJ25_nextClearBit_88 : decode cJ25_nextClearBit 88 = .ok (.getfield 7, 3) := dk_180 0 7 (dk_at dksJ25_nextClearBit_3 18 rfl rfl)
theorem dJ25_nextClearBit_91 : decode cJ25_nextClearBit 91 = .ok (.if_icmp .ne 11, 3) := dk_160 0 11 (dk_at dksJ25_nextClearBit_3 21 rfl rfl)
theorem dJ25_nextClearBit_94 : decode cJ25_nextClearBit 94 = .ok (.aload_n 0, 1) := dk_42 (dk_at dksJ25_nextClearBit_4 0 rfl rfl)
theorem dJ25_nextClearBit_95 : decode cJ25_nextClearBit 95 = .ok (.getfield 7, 3) := dk_180 0 7 (dk_at dksJ25_nextClearBit_4 1 rfl rfl)
theorem dJ25_nextClearBit_98 : decode cJ25_nextClearBit 98 = .ok (.bipush 64, 2) := dk_16 64 (dk_at dksJ25_nextClearBit_4 4 rfl rfl)
theorem dJ25_nextClearBit_100 : decode cJ25_nextClearBit 100 = .ok (.imul, 1) := dk_104 (dk_at dksJ25_nextClearBit_4 6 rfl rfl)
theorem dJ25_nextClearBit_101 : decode cJ25_nextClearBit 101 = .ok (.ireturn, 1) := dk_172 (dk_at dksJ25_nextClearBit_4 7 rfl rfl)
theorem dJ25_nextClearBit_102 : decode cJ25_nextClearBit 102 = .ok (.aload_n 0, 1) := dk_42 (dk_at dksJ25_nextClearBit_4 8 rfl rfl)
theorem dJ25_nextClearBit_103 : decode cJ25_nextClearBit 103 = .ok (.getfield 11, 3) := dk_180 0 11 (dk_at dksJ25_nextClearBit_4 9 rfl rfl)
theorem dJ25_nextClearBit_106 : decode cJ25_nextClearBit 106 = .ok (.iload_n 2, 1) := dk_28 (dk_at dksJ25_nextClearBit_4 12 rfl rfl)
theorem dJ25_nextClearBit_107 : decode cJ25_nextClearBit 107 = .ok (.laload, 1) := dk_47 (dk_at dksJ25_nextClearBit_4 13 rfl rfl)
theorem dJ25_nextClearBit_108 : decode cJ25_nextClearBit 108 = .ok (.ldc2_w 165, 3) := dk_20 0 165 (dk_at dksJ25_nextClearBit_4 14 rfl rfl)
theorem dJ25_nextClearBit_111 : decode cJ25_nextClearBit 111 = .ok (.lxor, 1) := dk_131 (dk_at dksJ25_nextClearBit_4 17 rfl rfl)
theorem dJ25_nextClearBit_112 : decode cJ25_nextClearBit 112 = .ok (.lstore_n 3, 1) := dk_66 (dk_at dksJ25_nextClearBit_4 18 rfl rfl)
theorem dJ25_nextClearBit_113 : decode cJ25_nextClearBit 113 = .ok (.goto (-46), 3) := dk_167 255 210 (dk_at dksJ25_nextClearBit_4 19 rfl rfl)
theorem q102 : (Jvm.Cond.initialized "java/util/BitSet") ∈ lw_all := lw_g (lw_at lw_m1 32 rfl) rfl
theorem q804 : (Jvm.Cond.selects "java/util/BitSet" ({ cls := "java/lang/Object", name := "getClass", desc := "()Ljava/lang/Class;" } : Jvm.MethodName) ({ cls := "java/lang/Object", name := "getClass", desc := "()Ljava/lang/Class;" } : Jvm.MethodName)) ∈ lw_all := lw_g (lw_at lw_m4 14 rfl) rfl
theorem q975 : (Jvm.Cond.instantiable "java/util/BitSet" (3 : Nat)) ∈ lw_all := lw_g (lw_at lw_m4 185 rfl) rfl
theorem q977 : (Jvm.Cond.instanceMethod ({ cls := "java/util/BitSet", name := "<init>", desc := "(I)V" } : Jvm.MethodName)) ∈ lw_all := lw_g (lw_at lw_m4 187 rfl) rfl
theorem q978 : (Jvm.Cond.code ({ cls := "java/util/BitSet", name := "<init>", desc := "(I)V" } : Jvm.MethodName) prog_51_method_5_code (2 : Nat) (Option.none : Option Jvm.ClassFile.FieldType)) ∈ lw_all := lw_g (lw_at lw_m4 188 rfl) rfl
theorem q979 : (Jvm.Cond.methodLink "java/util/BitSet" (21 : Nat) ({ cls := "java/lang/Object", name := "<init>", desc := "()V" } : Jvm.MethodName)) ∈ lw_all := lw_g (lw_at lw_m4 189 rfl) rfl
theorem q980 : (Jvm.Cond.methodLink "java/util/BitSet" (27 : Nat) ({ cls := "java/util/BitSet", name := "initWords", desc := "(I)V" } : Jvm.MethodName)) ∈ lw_all := lw_g (lw_at lw_m4 190 rfl) rfl
theorem q981 : (Jvm.Cond.privateMethod ({ cls := "java/util/BitSet", name := "initWords", desc := "(I)V" } : Jvm.MethodName)) ∈ lw_tbl := lw_at lw_m4 191 rfl
theorem q982 : (Jvm.Cond.instanceMethod ({ cls := "java/util/BitSet", name := "initWords", desc := "(I)V" } : Jvm.MethodName)) ∈ lw_all := lw_g (lw_at lw_m4 192 rfl) rfl
theorem q983 : (Jvm.Cond.code ({ cls := "java/util/BitSet", name := "initWords", desc := "(I)V" } : Jvm.MethodName) prog_51_method_6_code (2 : Nat) (Option.none : Option Jvm.ClassFile.FieldType)) ∈ lw_all := lw_g (lw_at lw_m4 193 rfl) rfl
theorem q984 : (Jvm.Cond.methodLink "java/util/BitSet" (52 : Nat) ({ cls := "java/util/BitSet", name := "wordIndex", desc := "(I)I" } : Jvm.MethodName)) ∈ lw_all := lw_g (lw_at lw_m4 194 rfl) rfl
theorem q985 : (Jvm.Cond.static ({ cls := "java/util/BitSet", name := "wordIndex", desc := "(I)I" } : Jvm.MethodName)) ∈ lw_all := lw_g (lw_at lw_m4 195 rfl) rfl
theorem q986 : (Jvm.Cond.code ({ cls := "java/util/BitSet", name := "wordIndex", desc := "(I)I" } : Jvm.MethodName) prog_51_method_1_code (1 : Nat) (Option.some Jvm.ClassFile.FieldType.int)) ∈ lw_all := lw_g (lw_at lw_m4 196 rfl) rfl
theorem q987 : (Jvm.Cond.fieldLink "java/util/BitSet" (11 : Nat) "java/util/BitSet" "words" "[J") ∈ lw_all := lw_g (lw_at lw_m4 197 rfl) rfl
theorem q988 : (Jvm.Cond.fieldLink "java/util/BitSet" (7 : Nat) "java/util/BitSet" "wordsInUse" "I") ∈ lw_all := lw_g (lw_at lw_m4 198 rfl) rfl
theorem q989 : (Jvm.Cond.fieldLink "java/util/BitSet" (24 : Nat) "java/util/BitSet" "sizeIsSticky" "Z") ∈ lw_all := lw_g (lw_at lw_m4 199 rfl) rfl
theorem q990 : (Jvm.Cond.lays "java/util/BitSet" "java/util/BitSet" "words" "[J") ∈ lw_all := lw_g (lw_at lw_m4 200 rfl) rfl
theorem q991 : (Jvm.Cond.soleField "java/util/BitSet" "words") ∈ lw_all := lw_g (lw_at lw_m4 201 rfl) rfl
theorem q992 : (Jvm.Cond.lays "java/util/BitSet" "java/util/BitSet" "wordsInUse" "I") ∈ lw_all := lw_g (lw_at lw_m4 202 rfl) rfl
theorem q993 : (Jvm.Cond.soleField "java/util/BitSet" "wordsInUse") ∈ lw_all := lw_g (lw_at lw_m4 203 rfl) rfl
theorem q994 : (Jvm.Cond.lays "java/util/BitSet" "java/util/BitSet" "sizeIsSticky" "Z") ∈ lw_all := lw_g (lw_at lw_m4 204 rfl) rfl
theorem q995 : (Jvm.Cond.soleField "java/util/BitSet" "sizeIsSticky") ∈ lw_all := lw_g (lw_at lw_m4 205 rfl) rfl
theorem q996 : (Jvm.Cond.superclass "java/util/BitSet" "java/lang/Object") ∈ lw_all := lw_g (lw_at lw_m4 206 rfl) rfl
theorem q1029 : (Jvm.Cond.instanceMethod ({ cls := "java/util/BitSet", name := "or", desc := "(Ljava/util/BitSet;)V" } : Jvm.MethodName)) ∈ lw_all := lw_g (lw_at lw_m4 239 rfl) rfl
theorem q1030 : (Jvm.Cond.selects "java/util/BitSet" ({ cls := "java/util/BitSet", name := "or", desc := "(Ljava/util/BitSet;)V" } : Jvm.MethodName) ({ cls := "java/util/BitSet", name := "or", desc := "(Ljava/util/BitSet;)V" } : Jvm.MethodName)) ∈ lw_all := lw_g (lw_at lw_m5 0 rfl) rfl
theorem q1031 : (Jvm.Cond.code ({ cls := "java/util/BitSet", name := "or", desc := "(Ljava/util/BitSet;)V" } : Jvm.MethodName) prog_51_method_37_code (4 : Nat) (Option.none : Option Jvm.ClassFile.FieldType)) ∈ lw_all := lw_g (lw_at lw_m5 1 rfl) rfl
theorem q1032 : (Jvm.Cond.methodLink "java/util/BitSet" (193 : Nat) ({ cls := "java/lang/Math", name := "min", desc := "(II)I" } : Jvm.MethodName)) ∈ lw_all := lw_g (lw_at lw_m5 2 rfl) rfl
theorem q1033 : (Jvm.Cond.methodLink "java/util/BitSet" (139 : Nat) ({ cls := "java/util/BitSet", name := "ensureCapacity", desc := "(I)V" } : Jvm.MethodName)) ∈ lw_all := lw_g (lw_at lw_m5 3 rfl) rfl
theorem q1034 : (Jvm.Cond.privateMethod ({ cls := "java/util/BitSet", name := "ensureCapacity", desc := "(I)V" } : Jvm.MethodName)) ∈ lw_tbl := lw_at lw_m5 4 rfl
theorem q1035 : (Jvm.Cond.instanceMethod ({ cls := "java/util/BitSet", name := "ensureCapacity", desc := "(I)V" } : Jvm.MethodName)) ∈ lw_all := lw_g (lw_at lw_m5 5 rfl) rfl
theorem q1036 : (Jvm.Cond.code ({ cls := "java/util/BitSet", name := "ensureCapacity", desc := "(I)V" } : Jvm.MethodName) prog_51_method_14_code (3 : Nat) (Option.none : Option Jvm.ClassFile.FieldType)) ∈ lw_all := lw_g (lw_at lw_m5 6 rfl) rfl
theorem q1037 : (Jvm.Cond.methodLink "java/util/BitSet" (133 : Nat) ({ cls := "java/lang/Math", name := "max", desc := "(II)I" } : Jvm.MethodName)) ∈ lw_all := lw_g (lw_at lw_m5 7 rfl) rfl
theorem q1038 : (Jvm.Cond.methodLink "java/util/BitSet" (59 : Nat) ({ cls := "java/util/Arrays", name := "copyOf", desc := "([JI)[J" } : Jvm.MethodName)) ∈ lw_all := lw_g (lw_at lw_m5 8 rfl) rfl
theorem q1046 : (Jvm.Cond.methodLink "java/util/BitSet" (199 : Nat) ({ cls := "java/lang/System", name := "arraycopy", desc := "(Ljava/lang/Object;ILjava/lang/Object;II)V" } : Jvm.MethodName)) ∈ lw_all := lw_g (lw_at lw_m5 16 rfl) rfl
theorem q1047 : (Jvm.Cond.methodLink "java/util/BitSet" (56 : Nat) ({ cls := "java/util/BitSet", name := "checkInvariants", desc := "()V" } : Jvm.MethodName)) ∈ lw_all := lw_g (lw_at lw_m5 17 rfl) rfl
theorem q1048 : (Jvm.Cond.privateMethod ({ cls := "java/util/BitSet", name := "checkInvariants", desc := "()V" } : Jvm.MethodName)) ∈ lw_tbl := lw_at lw_m5 18 rfl
theorem q1049 : (Jvm.Cond.instanceMethod ({ cls := "java/util/BitSet", name := "checkInvariants", desc := "()V" } : Jvm.MethodName)) ∈ lw_all := lw_g (lw_at lw_m5 19 rfl) rfl
theorem q1050 : (Jvm.Cond.code ({ cls := "java/util/BitSet", name := "checkInvariants", desc := "()V" } : Jvm.MethodName) prog_51_method_2_code (1 : Nat) (Option.none : Option Jvm.ClassFile.FieldType)) ∈ lw_all := lw_g (lw_at lw_m5 20 rfl) rfl
theorem q1051 : (Jvm.Cond.fieldLink "java/util/BitSet" (3 : Nat) "java/util/BitSet" "$assertionsDisabled" "Z") ∈ lw_all := lw_g (lw_at lw_m5 21 rfl) rfl
theorem q1052 : (Jvm.Cond.laysStatic "java/util/BitSet" "$assertionsDisabled" "Z") ∈ lw_tbl := lw_at lw_m5 22 rfl
theorem q1313 : (Jvm.Cond.instanceMethod ({ cls := "java/util/BitSet", name := "get", desc := "(I)Z" } : Jvm.MethodName)) ∈ lw_all := lw_g (lw_at lw_m6 43 rfl) rfl
theorem q1314 : (Jvm.Cond.selects "java/util/BitSet" ({ cls := "java/util/BitSet", name := "get", desc := "(I)Z" } : Jvm.MethodName) ({ cls := "java/util/BitSet", name := "get", desc := "(I)Z" } : Jvm.MethodName)) ∈ lw_all := lw_g (lw_at lw_m6 44 rfl) rfl
theorem q1315 : (Jvm.Cond.code ({ cls := "java/util/BitSet", name := "get", desc := "(I)Z" } : Jvm.MethodName) prog_51_method_26_code (3 : Nat) (Option.some Jvm.ClassFile.FieldType.boolean)) ∈ lw_all := lw_g (lw_at lw_m6 45 rfl) rfl
theorem q1316 : (Jvm.Cond.classLink "java/util/BitSet" (142 : Nat) "java/lang/IndexOutOfBoundsException") ∈ lw_all := lw_g (lw_at lw_m6 46 rfl) rfl
theorem q1317 : (Jvm.Cond.classLink "java/util/BitSet" (33 : Nat) "java/lang/StringBuilder") ∈ lw_all := lw_g (lw_at lw_m6 47 rfl) rfl
theorem q1318 : (Jvm.Cond.methodLink "java/util/BitSet" (35 : Nat) ({ cls := "java/lang/StringBuilder", name := "<init>", desc := "()V" } : Jvm.MethodName)) ∈ lw_all := lw_g (lw_at lw_m6 48 rfl) rfl
theorem q1319 : (Jvm.Cond.stringRef "java/util/BitSet" (153 : Nat) "bitIndex < 0: ") ∈ lw_tbl := lw_at lw_m6 49 rfl
theorem q1320 : (Jvm.Cond.methodLink "java/util/BitSet" (38 : Nat) ({ cls := "java/lang/StringBuilder", name := "append", desc := "(Ljava/lang/String;)Ljava/lang/StringBuilder;" } : Jvm.MethodName)) ∈ lw_all := lw_g (lw_at lw_m6 50 rfl) rfl
theorem q1321 : (Jvm.Cond.methodLink "java/util/BitSet" (42 : Nat) ({ cls := "java/lang/StringBuilder", name := "append", desc := "(I)Ljava/lang/StringBuilder;" } : Jvm.MethodName)) ∈ lw_all := lw_g (lw_at lw_m6 51 rfl) rfl
theorem q1322 : (Jvm.Cond.methodLink "java/util/BitSet" (45 : Nat) ({ cls := "java/lang/StringBuilder", name := "toString", desc := "()Ljava/lang/String;" } : Jvm.MethodName)) ∈ lw_all := lw_g (lw_at lw_m6 52 rfl) rfl
theorem q1323 : (Jvm.Cond.methodLink "java/util/BitSet" (146 : Nat) ({ cls := "java/lang/IndexOutOfBoundsException", name := "<init>", desc := "(Ljava/lang/String;)V" } : Jvm.MethodName)) ∈ lw_all := lw_g (lw_at lw_m6 53 rfl) rfl
theorem q1330 : (Jvm.Cond.instanceMethod ({ cls := "java/util/BitSet", name := "set", desc := "(I)V" } : Jvm.MethodName)) ∈ lw_all := lw_g (lw_at lw_m6 60 rfl) rfl
theorem q1331 : (Jvm.Cond.selects "java/util/BitSet" ({ cls := "java/util/BitSet", name := "set", desc := "(I)V" } : Jvm.MethodName) ({ cls := "java/util/BitSet", name := "set", desc := "(I)V" } : Jvm.MethodName)) ∈ lw_all := lw_g (lw_at lw_m6 61 rfl) rfl
theorem q1332 : (Jvm.Cond.code ({ cls := "java/util/BitSet", name := "set", desc := "(I)V" } : Jvm.MethodName) prog_51_method_19_code (3 : Nat) (Option.none : Option Jvm.ClassFile.FieldType)) ∈ lw_all := lw_g (lw_at lw_m6 62 rfl) rfl
theorem q1333 : (Jvm.Cond.methodLink "java/util/BitSet" (155 : Nat) ({ cls := "java/util/BitSet", name := "expandTo", desc := "(I)V" } : Jvm.MethodName)) ∈ lw_all := lw_g (lw_at lw_m6 63 rfl) rfl
theorem q1334 : (Jvm.Cond.privateMethod ({ cls := "java/util/BitSet", name := "expandTo", desc := "(I)V" } : Jvm.MethodName)) ∈ lw_tbl := lw_at lw_m6 64 rfl
theorem q1335 : (Jvm.Cond.instanceMethod ({ cls := "java/util/BitSet", name := "expandTo", desc := "(I)V" } : Jvm.MethodName)) ∈ lw_all := lw_g (lw_at lw_m6 65 rfl) rfl
theorem q1336 : (Jvm.Cond.code ({ cls := "java/util/BitSet", name := "expandTo", desc := "(I)V" } : Jvm.MethodName) prog_51_method_15_code (3 : Nat) (Option.none : Option Jvm.ClassFile.FieldType)) ∈ lw_all := lw_g (lw_at lw_m6 66 rfl) rfl
theorem q1342 : (Jvm.Cond.instanceMethod ({ cls := "java/util/BitSet", name := "cardinality", desc := "()I" } : Jvm.MethodName)) ∈ lw_all := lw_g (lw_at lw_m6 72 rfl) rfl
theorem q1343 : (Jvm.Cond.selects "java/util/BitSet" ({ cls := "java/util/BitSet", name := "cardinality", desc := "()I" } : Jvm.MethodName) ({ cls := "java/util/BitSet", name := "cardinality", desc := "()I" } : Jvm.MethodName)) ∈ lw_all := lw_g (lw_at lw_m6 73 rfl) rfl
theorem q1344 : (Jvm.Cond.code ({ cls := "java/util/BitSet", name := "cardinality", desc := "()I" } : Jvm.MethodName) prog_51_method_35_code (3 : Nat) (Option.some Jvm.ClassFile.FieldType.int)) ∈ lw_all := lw_g (lw_at lw_m6 74 rfl) rfl
theorem q1345 : (Jvm.Cond.methodLink "java/util/BitSet" (196 : Nat) ({ cls := "java/lang/Long", name := "bitCount", desc := "(J)I" } : Jvm.MethodName)) ∈ lw_all := lw_g (lw_at lw_m6 75 rfl) rfl
theorem q1356 : (Jvm.Cond.instanceMethod ({ cls := "java/util/BitSet", name := "clear", desc := "(I)V" } : Jvm.MethodName)) ∈ lw_all := lw_g (lw_at lw_m6 86 rfl) rfl
theorem q1357 : (Jvm.Cond.selects "java/util/BitSet" ({ cls := "java/util/BitSet", name := "clear", desc := "(I)V" } : Jvm.MethodName) ({ cls := "java/util/BitSet", name := "clear", desc := "(I)V" } : Jvm.MethodName)) ∈ lw_all := lw_g (lw_at lw_m6 87 rfl) rfl
theorem q1358 : (Jvm.Cond.code ({ cls := "java/util/BitSet", name := "clear", desc := "(I)V" } : Jvm.MethodName) prog_51_method_23_code (3 : Nat) (Option.none : Option Jvm.ClassFile.FieldType)) ∈ lw_all := lw_g (lw_at lw_m6 88 rfl) rfl
theorem q1359 : (Jvm.Cond.constantLong "java/util/BitSet" (165 : Nat) (-1 : Int64)) ∈ lw_all := lw_g (lw_at lw_m6 89 rfl) rfl
theorem q1360 : (Jvm.Cond.methodLink "java/util/BitSet" (158 : Nat) ({ cls := "java/util/BitSet", name := "recalculateWordsInUse", desc := "()V" } : Jvm.MethodName)) ∈ lw_all := lw_g (lw_at lw_m6 90 rfl) rfl
theorem q1361 : (Jvm.Cond.privateMethod ({ cls := "java/util/BitSet", name := "recalculateWordsInUse", desc := "()V" } : Jvm.MethodName)) ∈ lw_tbl := lw_at lw_m6 91 rfl
theorem q1362 : (Jvm.Cond.instanceMethod ({ cls := "java/util/BitSet", name := "recalculateWordsInUse", desc := "()V" } : Jvm.MethodName)) ∈ lw_all := lw_g (lw_at lw_m6 92 rfl) rfl
theorem q1363 : (Jvm.Cond.code ({ cls := "java/util/BitSet", name := "recalculateWordsInUse", desc := "()V" } : Jvm.MethodName) prog_51_method_3_code (2 : Nat) (Option.none : Option Jvm.ClassFile.FieldType)) ∈ lw_all := lw_g (lw_at lw_m6 93 rfl) rfl
theorem q1478 : (Jvm.Cond.instanceMethod ({ cls := "java/util/BitSet", name := "get", desc := "(II)Ljava/util/BitSet;" } : Jvm.MethodName)) ∈ lw_all := lw_g (lw_at lw_m6 208 rfl) rfl
theorem q1479 : (Jvm.Cond.selects "java/util/BitSet" ({ cls := "java/util/BitSet", name := "get", desc := "(II)Ljava/util/BitSet;" } : Jvm.MethodName) ({ cls := "java/util/BitSet", name := "get", desc := "(II)Ljava/util/BitSet;" } : Jvm.MethodName)) ∈ lw_all := lw_g (lw_at lw_m6 209 rfl) rfl
theorem q1480 : (Jvm.Cond.code ({ cls := "java/util/BitSet", name := "get", desc := "(II)Ljava/util/BitSet;" } : Jvm.MethodName) prog_51_method_27_code (10 : Nat) (Option.some (Jvm.ClassFile.FieldType.object "java/util/BitSet"))) ∈ lw_all := lw_g (lw_at lw_m6 210 rfl) rfl
theorem q1481 : (Jvm.Cond.methodLink "java/util/BitSet" (161 : Nat) ({ cls := "java/util/BitSet", name := "checkRange", desc := "(II)V" } : Jvm.MethodName)) ∈ lw_all := lw_g (lw_at lw_m6 211 rfl) rfl
theorem q1482 : (Jvm.Cond.static ({ cls := "java/util/BitSet", name := "checkRange", desc := "(II)V" } : Jvm.MethodName)) ∈ lw_all := lw_g (lw_at lw_m6 212 rfl) rfl
theorem q1483 : (Jvm.Cond.code ({ cls := "java/util/BitSet", name := "checkRange", desc := "(II)V" } : Jvm.MethodName) prog_51_method_16_code (2 : Nat) (Option.none : Option Jvm.ClassFile.FieldType)) ∈ lw_all := lw_g (lw_at lw_m6 213 rfl) rfl
theorem q1484 : (Jvm.Cond.stringRef "java/util/BitSet" (144 : Nat) "fromIndex < 0: ") ∈ lw_tbl := lw_at lw_m6 214 rfl
theorem q1485 : (Jvm.Cond.stringRef "java/util/BitSet" (147 : Nat) "toIndex < 0: ") ∈ lw_tbl := lw_at lw_m6 215 rfl
theorem q1486 : (Jvm.Cond.stringRef "java/util/BitSet" (149 : Nat) "fromIndex: ") ∈ lw_tbl := lw_at lw_m6 216 rfl
theorem q1487 : (Jvm.Cond.stringRef "java/util/BitSet" (151 : Nat) " > toIndex: ") ∈ lw_tbl := lw_at lw_m6 217 rfl
theorem q1488 : (Jvm.Cond.methodLink "java/util/BitSet" (177 : Nat) ({ cls := "java/util/BitSet", name := "length", desc := "()I" } : Jvm.MethodName)) ∈ lw_all := lw_g (lw_at lw_m6 218 rfl) rfl
theorem q1489 : (Jvm.Cond.instanceMethod ({ cls := "java/util/BitSet", name := "length", desc := "()I" } : Jvm.MethodName)) ∈ lw_all := lw_g (lw_at lw_m6 219 rfl) rfl
theorem q1490 : (Jvm.Cond.selects "java/util/BitSet" ({ cls := "java/util/BitSet", name := "length", desc := "()I" } : Jvm.MethodName) ({ cls := "java/util/BitSet", name := "length", desc := "()I" } : Jvm.MethodName)) ∈ lw_all := lw_g (lw_at lw_m6 220 rfl) rfl
theorem q1491 : (Jvm.Cond.code ({ cls := "java/util/BitSet", name := "length", desc := "()I" } : Jvm.MethodName) prog_51_method_32_code (1 : Nat) (Option.some Jvm.ClassFile.FieldType.int)) ∈ lw_all := lw_g (lw_at lw_m6 221 rfl) rfl
theorem q1492 : (Jvm.Cond.methodLink "java/util/BitSet" (190 : Nat) ({ cls := "java/lang/Long", name := "numberOfLeadingZeros", desc := "(J)I" } : Jvm.MethodName)) ∈ lw_all := lw_g (lw_at lw_m6 222 rfl) rfl
theorem q1499 : (Jvm.Cond.classLink "java/util/BitSet" (1 : Nat) "java/util/BitSet") ∈ lw_all := lw_g (lw_at lw_m6 229 rfl) rfl
theorem q1500 : (Jvm.Cond.methodLink "java/util/BitSet" (180 : Nat) ({ cls := "java/util/BitSet", name := "<init>", desc := "(I)V" } : Jvm.MethodName)) ∈ lw_all := lw_g (lw_at lw_m6 230 rfl) rfl
theorem q1746 : (Jvm.Cond.instanceMethod ({ cls := "java/util/BitSet", name := "nextSetBit", desc := "(I)I" } : Jvm.MethodName)) ∈ lw_all := lw_g (lw_at lw_m7 236 rfl) rfl
theorem q1747 : (Jvm.Cond.selects "java/util/BitSet" ({ cls := "java/util/BitSet", name := "nextSetBit", desc := "(I)I" } : Jvm.MethodName) ({ cls := "java/util/BitSet", name := "nextSetBit", desc := "(I)I" } : Jvm.MethodName)) ∈ lw_all := lw_g (lw_at lw_m7 237 rfl) rfl
theorem q1748 : (Jvm.Cond.code ({ cls := "java/util/BitSet", name := "nextSetBit", desc := "(I)I" } : Jvm.MethodName) prog_51_method_28_code (5 : Nat) (Option.some Jvm.ClassFile.FieldType.int)) ∈ lw_all := lw_g (lw_at lw_m7 238 rfl) rfl
theorem q1749 : (Jvm.Cond.methodLink "java/util/BitSet" (182 : Nat) ({ cls := "java/lang/Long", name := "numberOfTrailingZeros", desc := "(J)I" } : Jvm.MethodName)) ∈ lw_all := lw_g (lw_at lw_m7 239 rfl) rfl
theorem q1829 : (Jvm.Cond.instanceMethod ({ cls := "java/util/BitSet", name := "nextClearBit", desc := "(I)I" } : Jvm.MethodName)) ∈ lw_all := lw_g (lw_at lw_m8 79 rfl) rfl
theorem q1830 : (Jvm.Cond.selects "java/util/BitSet" ({ cls := "java/util/BitSet", name := "nextClearBit", desc := "(I)I" } : Jvm.MethodName) ({ cls := "java/util/BitSet", name := "nextClearBit", desc := "(I)I" } : Jvm.MethodName)) ∈ lw_all := lw_g (lw_at lw_m8 80 rfl) rfl
theorem q1831 : (Jvm.Cond.code ({ cls := "java/util/BitSet", name := "nextClearBit", desc := "(I)I" } : Jvm.MethodName) prog_51_method_29_code (5 : Nat) (Option.some Jvm.ClassFile.FieldType.int)) ∈ lw_all := lw_g (lw_at lw_m8 81 rfl) rfl
theorem q2746 : (Jvm.Cond.castable "java/util/BitSet" "java/lang/Object") ∈ lw_tbl := lw_at lw_m12 36 rfl
theorem in_J25 : ∀ w ∈ wsJ250, w ∈ lw_all := lw_in wsJ250 [990, 992, 994] (by decide +kernel) (by decide +kernel)

/-! java/util/LinkedList$Node -/
set_option maxRecDepth 100000
def RJ26 : String := "java/util/LinkedList$Node"
def TJ26 : u_T := fun k => match k with
  | 0 => ("java/util/LinkedList$Node", "item", "Ljava/lang/Object;", false)
  | 1 => ("java/util/LinkedList$Node", "next", "Ljava/util/LinkedList$Node;", false)
  | _ => ("java/util/LinkedList$Node", "prev", "Ljava/util/LinkedList$Node;", false)
def tyJ26 : Nat → FieldType := fun k => match k with
  | 0 => .object "java/lang/Object"
  | 1 => .object "java/util/LinkedList$Node"
  | _ => .object "java/util/LinkedList$Node"
abbrev wsJ260 : List Cond := u_ws RJ26 TJ26 3
theorem nmJ26 : ∀ a, a < 3 → ∀ b, b < 3 → a ≠ b → (TJ26 a).2.1 ≠ (TJ26 b).2.1 := by decide +kernel
theorem tyJ26_ok : ∀ k, k < 3 → parseFieldDescriptor (TJ26 k).2.2.1 = some (tyJ26 k) := by decide +kernel
abbrev cJ26_init : ByteArray := prog_57_method_1_code
def yJ26_init : MethodName := ⟨RJ26, "<init>", "(Ljava/util/LinkedList$Node;Ljava/lang/Object;Ljava/util/LinkedList$Node;)V"⟩
def dkwJ26_init_0 : List UInt8 := [42, 183, 0, 1, 42, 44, 181, 0, 7, 42, 45, 181, 0, 13, 42, 43, 181, 0, 17, 177]
abbrev dktJ26_init_0 : List UInt8 := dkwJ26_init_0 ++ []
theorem dksJ26_init_0 : cJ26_init.data.toList.drop 0 = dktJ26_init_0 := by decide +kernel
theorem dJ26_init_0 : decode cJ26_init 0 = .ok (.aload_n 0, 1) := dk_42 (dk_at dksJ26_init_0 0 rfl rfl)
theorem dJ26_init_1 : decode cJ26_init 1 = .ok (.invokespecial 1, 3) := dk_183 0 1 (dk_at dksJ26_init_0 1 rfl rfl)
theorem dJ26_init_4 : decode cJ26_init 4 = .ok (.aload_n 0, 1) := dk_42 (dk_at dksJ26_init_0 4 rfl rfl)
theorem dJ26_init_5 : decode cJ26_init 5 = .ok (.aload_n 2, 1) := dk_44 (dk_at dksJ26_init_0 5 rfl rfl)
theorem dJ26_init_6 : decode cJ26_init 6 = .ok (.putfield 7, 3) := dk_181 0 7 (dk_at dksJ26_init_0 6 rfl rfl)
theorem dJ26_init_9 : decode cJ26_init 9 = .ok (.aload_n 0, 1) := dk_42 (dk_at dksJ26_init_0 9 rfl rfl)
theorem dJ26_init_10 : decode cJ26_init 10 = .ok (.aload_n 3, 1) := dk_45 (dk_at dksJ26_init_0 10 rfl rfl)
theorem dJ26_init_11 : decode cJ26_init 11 = .ok (.putfield 13, 3) := dk_181 0 13 (dk_at dksJ26_init_0 11 rfl rfl)
theorem dJ26_init_14 : decode cJ26_init 14 = .ok (.aload_n 0, 1) := dk_42 (dk_at dksJ26_init_0 14 rfl rfl)
theorem dJ26_init_15 : decode cJ26_init 15 = .ok (.aload_n 1, 1) := dk_43 (dk_at dksJ26_init_0 15 rfl rfl)
theorem dJ26_init_16 : decode cJ26_init 16 = .ok (.putfield 17, 3) := dk_181 0 17 (dk_at dksJ26_init_0 16 rfl rfl)
theorem dJ26_init_19 : decode cJ26_init 19 = .ok (.return_, 1) := dk_177 (dk_at dksJ26_init_0 19 rfl rfl)
theorem q103 : (Jvm.Cond.initialized "java/util/LinkedList$Node") ∈ lw_all := lw_g (lw_at lw_m1 33 rfl) rfl
theorem q807 : (Jvm.Cond.selects "java/util/LinkedList$Node" ({ cls := "java/lang/Object", name := "getClass", desc := "()Ljava/lang/Class;" } : Jvm.MethodName) ({ cls := "java/lang/Object", name := "getClass", desc := "()Ljava/lang/Class;" } : Jvm.MethodName)) ∈ lw_all := lw_g (lw_at lw_m4 17 rfl) rfl
theorem q1103 : (Jvm.Cond.instantiable "java/util/LinkedList$Node" (3 : Nat)) ∈ lw_all := lw_g (lw_at lw_m5 73 rfl) rfl
theorem q1105 : (Jvm.Cond.instanceMethod ({ cls := "java/util/LinkedList$Node", name := "<init>", desc := "(Ljava/util/LinkedList$Node;Ljava/lang/Object;Ljava/util/LinkedList$Node;)V" } : Jvm.MethodName)) ∈ lw_all := lw_g (lw_at lw_m5 75 rfl) rfl
theorem q1106 : (Jvm.Cond.code ({ cls := "java/util/LinkedList$Node", name := "<init>", desc := "(Ljava/util/LinkedList$Node;Ljava/lang/Object;Ljava/util/LinkedList$Node;)V" } : Jvm.MethodName) prog_57_method_1_code (4 : Nat) (Option.none : Option Jvm.ClassFile.FieldType)) ∈ lw_all := lw_g (lw_at lw_m5 76 rfl) rfl
theorem q1107 : (Jvm.Cond.methodLink "java/util/LinkedList$Node" (1 : Nat) ({ cls := "java/lang/Object", name := "<init>", desc := "()V" } : Jvm.MethodName)) ∈ lw_all := lw_g (lw_at lw_m5 77 rfl) rfl
theorem q1108 : (Jvm.Cond.fieldLink "java/util/LinkedList$Node" (7 : Nat) "java/util/LinkedList$Node" "item" "Ljava/lang/Object;") ∈ lw_all := lw_g (lw_at lw_m5 78 rfl) rfl
theorem q1111 : (Jvm.Cond.fieldLink "java/util/LinkedList$Node" (13 : Nat) "java/util/LinkedList$Node" "next" "Ljava/util/LinkedList$Node;") ∈ lw_all := lw_g (lw_at lw_m5 81 rfl) rfl
theorem q1114 : (Jvm.Cond.fieldLink "java/util/LinkedList$Node" (17 : Nat) "java/util/LinkedList$Node" "prev" "Ljava/util/LinkedList$Node;") ∈ lw_all := lw_g (lw_at lw_m5 84 rfl) rfl
theorem q1116 : (Jvm.Cond.lays "java/util/LinkedList$Node" "java/util/LinkedList$Node" "item" "Ljava/lang/Object;") ∈ lw_all := lw_g (lw_at lw_m5 86 rfl) rfl
theorem q1117 : (Jvm.Cond.soleField "java/util/LinkedList$Node" "item") ∈ lw_all := lw_g (lw_at lw_m5 87 rfl) rfl
theorem q1118 : (Jvm.Cond.lays "java/util/LinkedList$Node" "java/util/LinkedList$Node" "next" "Ljava/util/LinkedList$Node;") ∈ lw_all := lw_g (lw_at lw_m5 88 rfl) rfl
theorem q1119 : (Jvm.Cond.soleField "java/util/LinkedList$Node" "next") ∈ lw_all := lw_g (lw_at lw_m5 89 rfl) rfl
theorem q1120 : (Jvm.Cond.lays "java/util/LinkedList$Node" "java/util/LinkedList$Node" "prev" "Ljava/util/LinkedList$Node;") ∈ lw_all := lw_g (lw_at lw_m5 90 rfl) rfl
theorem q1121 : (Jvm.Cond.soleField "java/util/LinkedList$Node" "prev") ∈ lw_all := lw_g (lw_at lw_m5 91 rfl) rfl
theorem q1122 : (Jvm.Cond.superclass "java/util/LinkedList$Node" "java/lang/Object") ∈ lw_all := lw_g (lw_at lw_m5 92 rfl) rfl
theorem q2749 : (Jvm.Cond.castable "java/util/LinkedList$Node" "java/lang/Object") ∈ lw_tbl := lw_at lw_m12 39 rfl
theorem in_J26 : ∀ w ∈ wsJ260, w ∈ lw_all := lw_in wsJ260 [1116, 1118, 1120] (by decide +kernel) (by decide +kernel)

/-! java/lang/Long -/
set_option maxRecDepth 100000
def RJ27 : String := "java/lang/Long"
abbrev cJ27_bitCount : ByteArray := prog_27_method_50_code
def yJ27_bitCount : MethodName := ⟨RJ27, "bitCount", "(J)I"⟩
def dkwJ27_bitCount_2 : List UInt8 := [30, 30, 16, 32, 125, 97, 63, 30, 136, 16, 127, 126, 172]
abbrev dktJ27_bitCount_2 : List UInt8 := dkwJ27_bitCount_2 ++ []
def dkwJ27_bitCount_1 : List UInt8 := [30, 30, 7, 125, 97, 20, 1, 62, 127, 63, 30, 30, 16, 8, 125, 97, 63, 30, 30, 16, 16, 125, 97, 63]
abbrev dktJ27_bitCount_1 : List UInt8 := dkwJ27_bitCount_1 ++ dktJ27_bitCount_2
def dkwJ27_bitCount_0 : List UInt8 := [30, 30, 4, 125, 20, 1, 58, 127, 101, 63, 30, 20, 1, 60, 127, 30, 5, 125, 20, 1, 60, 127, 97, 63]
abbrev dktJ27_bitCount_0 : List UInt8 := dkwJ27_bitCount_0 ++ dktJ27_bitCount_1
theorem dksJ27_bitCount_0 : cJ27_bitCount.data.toList.drop 0 = dktJ27_bitCount_0 := by decide +kernel
theorem dksJ27_bitCount_1 : cJ27_bitCount.data.toList.drop 24 = dktJ27_bitCount_1 := dk_seg dksJ27_bitCount_0 24 rfl rfl
theorem dksJ27_bitCount_2 : cJ27_bitCount.data.toList.drop 48 = dktJ27_bitCount_2 := dk_seg dksJ27_bitCount_1 24 rfl rfl
theorem dJ27_bitCount_0 : decode cJ27_bitCount 0 = .ok (.lload_n 0, 1) := dk_30 (dk_at dksJ27_bitCount_0 0 rfl rfl)
theorem dJ27_bitCount_1 : decode cJ27_bitCount 1 = .ok (.lload_n 0, 1) := dk_30 (dk_at dksJ27_bitCount_0 1 rfl rfl)
theorem dJ27_bitCount_2 : decode cJ27_bitCount 2 = .ok (.iconst 1, 1) := dk_4 (dk_at dksJ27_bitCount_0 2 rfl rfl)
theorem dJ27_bitCount_3 : decode cJ27_bitCount 3 = .ok (.lushr, 1) := dk_125 (dk_at dksJ27_bitCount_0 3 rfl rfl)
theorem dJ27_bitCount_4 : decode cJ27_bitCount 4 = .ok (.ldc2_w 314, 3) := dk_20 1 58 (dk_at dksJ27_bitCount_0 4 rfl rfl)
theorem dJ27_bitCount_7 : decode cJ27_bitCount 7 = .ok (.land, 1) := dk_127 (dk_at dksJ27_bitCount_0 7 rfl rfl)
theorem dJ27_bitCount_8 : decode cJ27_bitCount 8 = .ok (.lsub, 1) := dk_101 (dk_at dksJ27_bitCount_0 8 rfl rfl)
theorem dJ27_bitCount_9 : decode cJ27_bitCount 9 = .ok (.lstore_n 0, 1) := dk_63 (dk_at dksJ27_bitCount_0 9 rfl rfl)
theorem dJ27_bitCount_10 : decode cJ27_bitCount 10 = .ok (.lload_n 0, 1) := dk_30 (dk_at dksJ27_bitCount_0 10 rfl rfl)
theorem dJ27_bitCount_11 : decode cJ27_bitCount 11 = .ok (.ldc2_w 316, 3) := dk_20 1 60 (dk_at dksJ27_bitCount_0 11 rfl rfl)
theorem dJ27_bitCount_14 : decode cJ27_bitCount 14 = .ok (.land, 1) := dk_127 (dk_at dksJ27_bitCount_0 14 rfl rfl)
theorem dJ27_bitCount_15 : decode cJ27_bitCount 15 = .ok (.lload_n 0, 1) := dk_30 (dk_at dksJ27_bitCount_0 15 rfl rfl)
theorem dJ27_bitCount_16 : decode cJ27_bitCount 16 = .ok (.iconst 2, 1) := dk_5 (dk_at dksJ27_bitCount_0 16 rfl rfl)
theorem dJ27_bitCount_17 : decode cJ27_bitCount 17 = .ok (.lushr, 1) := dk_125 (dk_at dksJ27_bitCount_0 17 rfl rfl)
theorem dJ27_bitCount_18 : decode cJ27_bitCount 18 = .ok (.ldc2_w 316, 3) := dk_20 1 60 (dk_at dksJ27_bitCount_0 18 rfl rfl)
theorem dJ27_bitCount_21 : decode cJ27_bitCount 21 = .ok (.land, 1) := dk_127 (dk_at dksJ27_bitCount_0 21 rfl rfl)
theorem dJ27_bitCount_22 : decode cJ27_bitCount 22 = .ok (.ladd, 1) := dk_97 (dk_at dksJ27_bitCount_0 22 rfl rfl)
theorem dJ27_bitCount_23 : decode cJ27_bitCount 23 = .ok (.lstore_n 0, 1) := dk_63 (dk_at dksJ27_bitCount_0 23 rfl rfl)
theorem dJ27_bitCount_24 : decode cJ27_bitCount 24 = .ok (.lload_n 0, 1) := dk_30 (dk_at dksJ27_bitCount_1 0 rfl rfl)
theorem dJ27_bitCount_25 : decode cJ27_bitCount 25 = .ok (.lload_n 0, 1) := dk_30 (dk_at dksJ27_bitCount_1 1 rfl rfl)
theorem dJ27_bitCount_26 : decode cJ27_bitCount 26 = .ok (.iconst 4, 1) := dk_7 (dk_at dksJ27_bitCount_1 2 rfl rfl)
theorem dJ27_bitCount_27 : decode cJ27_bitCount 27 = .ok (.lushr, 1) := dk_125 (dk_at dksJ27_bitCount_1 3 rfl rfl)
theorem dJ27_bitCount_28 : decode cJ27_bitCount 28 = .ok (.ladd, 1) := dk_97 (dk_at dksJ27_bitCount_1 4 rfl rfl)
theorem dJ27_bitCount_29 : decode cJ27_bitCount 29 = .ok (.ldc2_w 318, 3) := dk_20 1 62 (dk_at dksJ27_bitCount_1 5 rfl rfl)
theorem dJ27_bitCount_32 : decode cJ27_bitCount 32 = .ok (.land, 1) := dk_127 (dk_at dksJ27_bitCount_1 8 rfl rfl)
theorem dJ27_bitCount_33 : decode cJ27_bitCount 33 = .ok (.lstore_n 0, 1) := dk_63 (dk_at dksJ27_bitCount_1 9 rfl rfl)
theorem dJ27_bitCount_34 : decode cJ27_bitCount 34 = .ok (.lload_n 0, 1) := dk_30 (dk_at dksJ27_bitCount_1 10 rfl rfl)
theorem dJ27_bitCount_35 : decode cJ27_bitCount 35 = .ok (.lload_n 0, 1) := dk_30 (dk_at dksJ27_bitCount_1 11 rfl rfl)
theorem dJ27_bitCount_36 : decode cJ27_bitCount 36 = .ok (.bipush 8, 2) := dk_16 8 (dk_at dksJ27_bitCount_1 12 rfl rfl)
theorem dJ27_bitCount_38 : decode cJ27_bitCount 38 = .ok (.lushr, 1) := dk_125 (dk_at dksJ27_bitCount_1 14 rfl rfl)
theorem dJ27_bitCount_39 : decode cJ27_bitCount 39 = .ok (.ladd, 1) := dk_97 (dk_at dksJ27_bitCount_1 15 rfl rfl)
theorem dJ27_bitCount_40 : decode cJ27_bitCount 40 = .ok (.lstore_n 0, 1) := dk_63 (dk_at dksJ27_bitCount_1 16 rfl rfl)
theorem dJ27_bitCount_41 : decode cJ27_bitCount 41 = .ok (.lload_n 0, 1) := dk_30 (dk_at dksJ27_bitCount_1 17 rfl rfl)
theorem dJ27_bitCount_42 : decode cJ27_bitCount 42 = .ok (.lload_n 0, 1) := dk_30 (dk_at dksJ27_bitCount_1 18 rfl rfl)
theorem dJ27_bitCount_43 : decode cJ27_bitCount 43 = .ok (.bipush 16, 2) := dk_16 16 (dk_at dksJ27_bitCount_1 19 rfl rfl)
theorem dJ27_bitCount_45 : decode cJ27_bitCount 45 = .ok (.lushr, 1) := dk_125 (dk_at dksJ27_bitCount_1 21 rfl rfl)
theorem dJ27_bitCount_46 : decode cJ27_bitCount 46 = .ok (.ladd, 1) := dk_97 (dk_at dksJ27_bitCount_1 22 rfl rfl)
theorem dJ27_bitCount_47 : decode cJ27_bitCount 47 = .ok (.lstore_n 0, 1) := dk_63 (dk_at dksJ27_bitCount_1 23 rfl rfl)
theorem dJ27_bitCount_48 : decode cJ27_bitCount 48 = .ok (.lload_n 0, 1) := dk_30 (dk_at dksJ27_bitCount_2 0 rfl rfl)
theorem dJ27_bitCount_49 : decode cJ27_bitCount 49 = .ok (.lload_n 0, 1) := dk_30 (dk_at dksJ27_bitCount_2 1 rfl rfl)
theorem dJ27_bitCount_50 : decode cJ27_bitCount 50 = .ok (.bipush 32, 2) := dk_16 32 (dk_at dksJ27_bitCount_2 2 rfl rfl)
theorem dJ27_bitCount_52 : decode cJ27_bitCount 52 = .ok (.lushr, 1) := dk_125 (dk_at dksJ27_bitCount_2 4 rfl rfl)
theorem dJ27_bitCount_53 : decode cJ27_bitCount 53 = .ok (.ladd, 1) := dk_97 (dk_at dksJ27_bitCount_2 5 rfl rfl)
theorem dJ27_bitCount_54 : decode cJ27_bitCount 54 = .ok (.lstore_n 0, 1) := dk_63 (dk_at dksJ27_bitCount_2 6 rfl rfl)
theorem dJ27_bitCount_55 : decode cJ27_bitCount 55 = .ok (.lload_n 0, 1) := dk_30 (dk_at dksJ27_bitCount_2 7 rfl rfl)
theorem dJ27_bitCount_56 : decode cJ27_bitCount 56 = .ok (.l2i, 1) := dk_136 (dk_at dksJ27_bitCount_2 8 rfl rfl)
theorem dJ27_bitCount_57 : decode cJ27_bitCount 57 = .ok (.bipush 127, 2) := dk_16 127 (dk_at dksJ27_bitCount_2 9 rfl rfl)
theorem dJ27_bitCount_59 : decode cJ27_bitCount 59 = .ok (.iand, 1) := dk_126 (dk_at dksJ27_bitCount_2 11 rfl rfl)
theorem dJ27_bitCount_60 : decode cJ27_bitCount 60 = .ok (.ireturn, 1) := dk_172 (dk_at dksJ27_bitCount_2 12 rfl rfl)
abbrev cJ27_numberOfLeadingZeros : ByteArray := prog_27_method_48_code
def yJ27_numberOfLeadingZeros : MethodName := ⟨RJ27, "numberOfLeadingZeros", "(J)I"⟩
def dkwJ27_numberOfLeadingZeros_1 : List UInt8 := [184, 1, 52, 172]
abbrev dktJ27_numberOfLeadingZeros_1 : List UInt8 := dkwJ27_numberOfLeadingZeros_1 ++ []
def dkwJ27_numberOfLeadingZeros_0 : List UInt8 := [30, 16, 32, 125, 136, 61, 28, 154, 0, 14, 16, 32, 30, 136, 184, 1, 52, 96, 167, 0, 7, 28]
abbrev dktJ27_numberOfLeadingZeros_0 : List UInt8 := dkwJ27_numberOfLeadingZeros_0 ++ dktJ27_numberOfLeadingZeros_1
theorem dksJ27_numberOfLeadingZeros_0 : cJ27_numberOfLeadingZeros.data.toList.drop 0 = dktJ27_numberOfLeadingZeros_0 := by decide +kernel
theorem dksJ27_numberOfLeadingZeros_1 : cJ27_numberOfLeadingZeros.data.toList.drop 22 = dktJ27_numberOfLeadingZeros_1 := dk_seg dksJ27_numberOfLeadingZeros_0 22 rfl rfl
theorem dJ27_numberOfLeadingZeros_0 : decode cJ27_numberOfLeadingZeros 0 = .ok (.lload_n 0, 1) := dk_30 (dk_at dksJ27_numberOfLeadingZeros_0 0 rfl rfl)
theorem dJ27_numberOfLeadingZeros_1 : decode cJ27_numberOfLeadingZeros 1 = .ok (.bipush 32, 2) := dk_16 32 (dk_at dksJ27_numberOfLeadingZeros_0 1 rfl rfl)
theorem dJ27_numberOfLeadingZeros_3 : decode cJ27_numberOfLeadingZeros 3 = .ok (.lushr, 1) := dk_125 (dk_at dksJ27_numberOfLeadingZeros_0 3 rfl rfl)
theorem dJ27_numberOfLeadingZeros_4 : decode cJ27_numberOfLeadingZeros 4 = .ok (.l2i, 1) := dk_136 (dk_at dksJ27_numberOfLeadingZeros_0 4 rfl rfl)
theorem dJ27_numberOfLeadingZeros_5 : decode cJ27_numberOfLeadingZeros 5 = .ok (.istore_n 2, 1) := dk_61 (dk_at dksJ27_numberOfLeadingZeros_0 5 rfl rfl)
theorem dJ27_numberOfLeadingZeros_6 : decode cJ27_numberOfLeadingZeros 6 = .ok (.iload_n 2, 1) := dk_28 (dk_at dksJ27_numberOfLeadingZeros_0 6 rfl rfl)
theorem dJ27_numberOfLeadingZeros_7 : decode cJ27_numberOfLeadingZeros 7 = .ok (.ifCond .ne 14, 3) := dk_154 0 14 (dk_at dksJ27_numberOfLeadingZeros_0 7 rfl rfl)
theorem dJ27_numberOfLeadingZeros_10 : decode cJ27_numberOfLeadingZeros 10 = .ok (.bipush 32, 2) := dk_16 32 (dk_at dksJ27_numberOfLeadingZeros_0 10 rfl rfl)
theorem dJ27_numberOfLeadingZeros_12 : decode cJ27_numberOfLeadingZeros 12 = .ok (.lload_n 0, 1) := dk_30 (dk_at dksJ27_numberOfLeadingZeros_0 12 rfl rfl)
theorem dJ27_numberOfLeadingZeros_13 : decode cJ27_numberOfLeadingZeros 13 = .ok (.l2i, 1) := dk_136 (dk_at dksJ27_numberOfLeadingZeros_0 13 rfl rfl)
theorem dJ27_numberOfLeadingZeros_14 : decode cJ27_numberOfLeadingZeros 14 = .ok (.invokestatic 308, 3) := dk_184 1 52 (dk_at dksJ27_numberOfLeadingZeros_0 14 rfl rfl)
theorem dJ27_numberOfLeadingZeros_17 : decode cJ27_numberOfLeadingZeros 17 = .ok (.iadd, 1) := dk_96 (dk_at dksJ27_numberOfLeadingZeros_0 17 rfl rfl)
theorem dJ27_numberOfLeadingZeros_18 : decode cJ27_numberOfLeadingZeros 18 = .ok (.goto 7, 3) := dk_167 0 7 (dk_at dksJ27_numberOfLeadingZeros_0 18 rfl rfl)
theorem dJ27_numberOfLeadingZeros_21 : decode cJ27_numberOfLeadingZeros 21 = .ok (.iload_n 2, 1) := dk_28 (dk_at dksJ27_numberOfLeadingZeros_0 21 rfl rfl)
theorem dJ27_numberOfLeadingZeros_22 : decode cJ27_numberOfLeadingZeros 22 = .ok (.invokestatic 308, 3) := dk_184 1 52 (dk_at dksJ27_numberOfLeadingZeros_1 0 rfl rfl)
theorem dJ27_numberOfLeadingZeros_25 : decode cJ27_numberOfLeadingZeros 25 = .ok (.ireturn, 1) := dk_172 (dk_at dksJ27_numberOfLeadingZeros_1 3 rfl rfl)
abbrev cJ27_numberOfTrailingZeros : ByteArray := prog_27_method_49_code
def yJ27_numberOfTrailingZeros : MethodName := ⟨RJ27, "numberOfTrailingZeros", "(J)I"⟩
def dkwJ27_numberOfTrailingZeros_1 : List UInt8 := [184, 1, 55, 172]
abbrev dktJ27_numberOfTrailingZeros_1 : List UInt8 := dkwJ27_numberOfTrailingZeros_1 ++ []
def dkwJ27_numberOfTrailingZeros_0 : List UInt8 := [30, 136, 61, 28, 154, 0, 17, 16, 32, 30, 16, 32, 125, 136, 184, 1, 55, 96, 167, 0, 7, 28]
abbrev dktJ27_numberOfTrailingZeros_0 : List UInt8 := dkwJ27_numberOfTrailingZeros_0 ++ dktJ27_numberOfTrailingZeros_1
theorem dksJ27_numberOfTrailingZeros_0 : cJ27_numberOfTrailingZeros.data.toList.drop 0 = dktJ27_numberOfTrailingZeros_0 := by decide +kernel
theorem dksJ27_numberOfTrailingZeros_1 : cJ27_numberOfTrailingZeros.data.toList.drop 22 = dktJ27_numberOfTrailingZeros_1 := dk_seg dksJ27_numberOfTrailingZeros_0 22 rfl rfl
theorem dJ27_numberOfTrailingZeros_0 : decode cJ27_numberOfTrailingZeros 0 = .ok (.lload_n 0, 1) := dk_30 (dk_at dksJ27_numberOfTrailingZeros_0 0 rfl rfl)
theorem dJ27_numberOfTrailingZeros_1 : decode cJ27_numberOfTrailingZeros 1 = .ok (.l2i, 1) := dk_136 (dk_at dksJ27_numberOfTrailingZeros_0 1 rfl rfl)
theorem dJ27_numberOfTrailingZeros_2 : decode cJ27_numberOfTrailingZeros 2 = .ok (.istore_n 2, 1) := dk_61 (dk_at dksJ27_numberOfTrailingZeros_0 2 rfl rfl)
theorem dJ27_numberOfTrailingZeros_3 : decode cJ27_numberOfTrailingZeros 3 = .ok (.iload_n 2, 1) := dk_28 (dk_at dksJ27_numberOfTrailingZeros_0 3 rfl rfl)
theorem dJ27_numberOfTrailingZeros_4 : decode cJ27_numberOfTrailingZeros 4 = .ok (.ifCond .ne 17, 3) := dk_154 0 17 (dk_at dksJ27_numberOfTrailingZeros_0 4 rfl rfl)
theorem dJ27_numberOfTrailingZeros_7 : decode cJ27_numberOfTrailingZeros 7 = .ok (.bipush 32, 2) := dk_16 32 (dk_at dksJ27_numberOfTrailingZeros_0 7 rfl rfl)
theorem dJ27_numberOfTrailingZeros_9 : decode cJ27_numberOfTrailingZeros 9 = .ok (.lload_n 0, 1) := dk_30 (dk_at dksJ27_numberOfTrailingZeros_0 9 rfl rfl)
theorem dJ27_numberOfTrailingZeros_10 : decode cJ27_numberOfTrailingZeros 10 = .ok (.bipush 32, 2) := dk_16 32 (dk_at dksJ27_numberOfTrailingZeros_0 10 rfl rfl)
theorem dJ27_numberOfTrailingZeros_12 : decode cJ27_numberOfTrailingZeros 12 = .ok (.lushr, 1) := dk_125 (dk_at dksJ27_numberOfTrailingZeros_0 12 rfl rfl)
theorem dJ27_numberOfTrailingZeros_13 : decode cJ27_numberOfTrailingZeros 13 = .ok (.l2i, 1) := dk_136 (dk_at dksJ27_numberOfTrailingZeros_0 13 rfl rfl)
theorem dJ27_numberOfTrailingZeros_14 : decode cJ27_numberOfTrailingZeros 14 = .ok (.invokestatic 311, 3) := dk_184 1 55 (dk_at dksJ27_numberOfTrailingZeros_0 14 rfl rfl)
theorem dJ27_numberOfTrailingZeros_17 : decode cJ27_numberOfTrailingZeros 17 = .ok (.iadd, 1) := dk_96 (dk_at dksJ27_numberOfTrailingZeros_0 17 rfl rfl)
theorem dJ27_numberOfTrailingZeros_18 : decode cJ27_numberOfTrailingZeros 18 = .ok (.goto 7, 3) := dk_167 0 7 (dk_at dksJ27_numberOfTrailingZeros_0 18 rfl rfl)
theorem dJ27_numberOfTrailingZeros_21 : decode cJ27_numberOfTrailingZeros 21 = .ok (.iload_n 2, 1) := dk_28 (dk_at dksJ27_numberOfTrailingZeros_0 21 rfl rfl)
theorem dJ27_numberOfTrailingZeros_22 : decode cJ27_numberOfTrailingZeros 22 = .ok (.invokestatic 311, 3) := dk_184 1 55 (dk_at dksJ27_numberOfTrailingZeros_1 0 rfl rfl)
theorem dJ27_numberOfTrailingZeros_25 : decode cJ27_numberOfTrailingZeros 25 = .ok (.ireturn, 1) := dk_172 (dk_at dksJ27_numberOfTrailingZeros_1 3 rfl rfl)
theorem q106 : (Jvm.Cond.initialized "java/lang/Long") ∈ lw_all := lw_g (lw_at lw_m1 36 rfl) rfl
theorem q1346 : (Jvm.Cond.static ({ cls := "java/lang/Long", name := "bitCount", desc := "(J)I" } : Jvm.MethodName)) ∈ lw_all := lw_g (lw_at lw_m6 76 rfl) rfl
theorem q1347 : (Jvm.Cond.code ({ cls := "java/lang/Long", name := "bitCount", desc := "(J)I" } : Jvm.MethodName) prog_27_method_50_code (2 : Nat) (Option.some Jvm.ClassFile.FieldType.int)) ∈ lw_all := lw_g (lw_at lw_m6 77 rfl) rfl
theorem q1348 : (Jvm.Cond.constantLong "java/lang/Long" (314 : Nat) (6148914691236517205 : Int64)) ∈ lw_all := lw_g (lw_at lw_m6 78 rfl) rfl
theorem q1349 : (Jvm.Cond.constantLong "java/lang/Long" (316 : Nat) (3689348814741910323 : Int64)) ∈ lw_all := lw_g (lw_at lw_m6 79 rfl) rfl
theorem q1350 : (Jvm.Cond.constantLong "java/lang/Long" (318 : Nat) (1085102592571150095 : Int64)) ∈ lw_all := lw_g (lw_at lw_m6 80 rfl) rfl
theorem q1493 : (Jvm.Cond.static ({ cls := "java/lang/Long", name := "numberOfLeadingZeros", desc := "(J)I" } : Jvm.MethodName)) ∈ lw_all := lw_g (lw_at lw_m6 223 rfl) rfl
theorem q1494 : (Jvm.Cond.code ({ cls := "java/lang/Long", name := "numberOfLeadingZeros", desc := "(J)I" } : Jvm.MethodName) prog_27_method_48_code (3 : Nat) (Option.some Jvm.ClassFile.FieldType.int)) ∈ lw_all := lw_g (lw_at lw_m6 224 rfl) rfl
theorem q1495 : (Jvm.Cond.methodLink "java/lang/Long" (308 : Nat) ({ cls := "java/lang/Integer", name := "numberOfLeadingZeros", desc := "(I)I" } : Jvm.MethodName)) ∈ lw_all := lw_g (lw_at lw_m6 225 rfl) rfl
theorem q1750 : (Jvm.Cond.static ({ cls := "java/lang/Long", name := "numberOfTrailingZeros", desc := "(J)I" } : Jvm.MethodName)) ∈ lw_all := lw_g (lw_at lw_m8 0 rfl) rfl
theorem q1751 : (Jvm.Cond.code ({ cls := "java/lang/Long", name := "numberOfTrailingZeros", desc := "(J)I" } : Jvm.MethodName) prog_27_method_49_code (3 : Nat) (Option.some Jvm.ClassFile.FieldType.int)) ∈ lw_all := lw_g (lw_at lw_m8 1 rfl) rfl
theorem q1752 : (Jvm.Cond.methodLink "java/lang/Long" (311 : Nat) ({ cls := "java/lang/Integer", name := "numberOfTrailingZeros", desc := "(I)I" } : Jvm.MethodName)) ∈ lw_all := lw_g (lw_at lw_m8 2 rfl) rfl

/-! java/lang/UnsupportedOperationException -/
set_option maxRecDepth 100000
def RJ28 : String := "java/lang/UnsupportedOperationException"
def TJ28 : u_T := fun k => match k with
  | 0 => ("java/lang/Throwable", "cause", "Ljava/lang/Throwable;", false)
  | 1 => ("java/lang/Throwable", "stackTrace", "[Ljava/lang/StackTraceElement;", false)
  | 2 => ("java/lang/Throwable", "suppressedExceptions", "Ljava/util/List;", false)
  | 3 => ("java/lang/Throwable", "detailMessage", "Ljava/lang/String;", false)
  | 4 => ("java/lang/Throwable", "backtrace", "Ljava/lang/Object;", false)
  | _ => ("java/lang/Throwable", "depth", "I", false)
def tyJ28 : Nat → FieldType := fun k => match k with
  | 0 => .object "java/lang/Throwable"
  | 1 => .array (.object "java/lang/StackTraceElement")
  | 2 => .object "java/util/List"
  | 3 => .object "java/lang/String"
  | 4 => .object "java/lang/Object"
  | _ => .int
abbrev wsJ280 : List Cond := u_ws RJ28 TJ28 6
theorem nmJ28 : ∀ a, a < 6 → ∀ b, b < 6 → a ≠ b → (TJ28 a).2.1 ≠ (TJ28 b).2.1 := by decide +kernel
theorem tyJ28_ok : ∀ k, k < 6 → parseFieldDescriptor (TJ28 k).2.2.1 = some (tyJ28 k) := by decide +kernel
abbrev cJ28_init : ByteArray := prog_38_method_1_code
def yJ28_init : MethodName := ⟨RJ28, "<init>", "()V"⟩
theorem dJ28_init_0 : decode cJ28_init 0 = .ok (.aload_n 0, 1) := by decide +kernel
theorem dJ28_init_1 : decode cJ28_init 1 = .ok (.invokespecial 1, 3) := by decide +kernel
theorem dJ28_init_4 : decode cJ28_init 4 = .ok (.return_, 1) := by decide +kernel
theorem q109 : (Jvm.Cond.initialized "java/lang/UnsupportedOperationException") ∈ lw_all := lw_g (lw_at lw_m1 39 rfl) rfl
theorem q469 : (Jvm.Cond.selects "java/lang/UnsupportedOperationException" ({ cls := "java/lang/Throwable", name := "fillInStackTrace", desc := "()Ljava/lang/Throwable;" } : Jvm.MethodName) ({ cls := "java/lang/Throwable", name := "fillInStackTrace", desc := "()Ljava/lang/Throwable;" } : Jvm.MethodName)) ∈ lw_all := lw_g (lw_at lw_m2 159 rfl) rfl
theorem q773 : (Jvm.Cond.selects "java/lang/UnsupportedOperationException" ({ cls := "java/lang/Throwable", name := "toString", desc := "()Ljava/lang/String;" } : Jvm.MethodName) ({ cls := "java/lang/Throwable", name := "toString", desc := "()Ljava/lang/String;" } : Jvm.MethodName)) ∈ lw_all := lw_g (lw_at lw_m3 223 rfl) rfl
theorem q798 : (Jvm.Cond.selects "java/lang/UnsupportedOperationException" ({ cls := "java/lang/Object", name := "getClass", desc := "()Ljava/lang/Class;" } : Jvm.MethodName) ({ cls := "java/lang/Object", name := "getClass", desc := "()Ljava/lang/Class;" } : Jvm.MethodName)) ∈ lw_all := lw_g (lw_at lw_m4 8 rfl) rfl
theorem q820 : (Jvm.Cond.selects "java/lang/UnsupportedOperationException" ({ cls := "java/lang/Throwable", name := "getLocalizedMessage", desc := "()Ljava/lang/String;" } : Jvm.MethodName) ({ cls := "java/lang/Throwable", name := "getLocalizedMessage", desc := "()Ljava/lang/String;" } : Jvm.MethodName)) ∈ lw_all := lw_g (lw_at lw_m4 30 rfl) rfl
theorem q833 : (Jvm.Cond.selects "java/lang/UnsupportedOperationException" ({ cls := "java/lang/Throwable", name := "getMessage", desc := "()Ljava/lang/String;" } : Jvm.MethodName) ({ cls := "java/lang/Throwable", name := "getMessage", desc := "()Ljava/lang/String;" } : Jvm.MethodName)) ∈ lw_all := lw_g (lw_at lw_m4 43 rfl) rfl
theorem q1502 : (Jvm.Cond.instantiable "java/lang/UnsupportedOperationException" (6 : Nat)) ∈ lw_all := lw_g (lw_at lw_m6 232 rfl) rfl
theorem q1503 : (Jvm.Cond.castable "java/lang/UnsupportedOperationException" "java/lang/UnsupportedOperationException") ∈ lw_tbl := lw_at lw_m6 233 rfl
theorem q1504 : (Jvm.Cond.selects "java/lang/UnsupportedOperationException" ({ cls := "java/lang/Throwable", name := "fillInStackTrace", desc := "(I)Ljava/lang/Throwable;" } : Jvm.MethodName) ({ cls := "java/lang/Throwable", name := "fillInStackTrace", desc := "(I)Ljava/lang/Throwable;" } : Jvm.MethodName)) ∈ lw_all := lw_g (lw_at lw_m6 234 rfl) rfl
theorem q1505 : (Jvm.Cond.lays "java/lang/UnsupportedOperationException" "java/lang/Throwable" "cause" "Ljava/lang/Throwable;") ∈ lw_all := lw_g (lw_at lw_m6 235 rfl) rfl
theorem q1506 : (Jvm.Cond.lays "java/lang/UnsupportedOperationException" "java/lang/Throwable" "stackTrace" "[Ljava/lang/StackTraceElement;") ∈ lw_all := lw_g (lw_at lw_m6 236 rfl) rfl
theorem q1507 : (Jvm.Cond.lays "java/lang/UnsupportedOperationException" "java/lang/Throwable" "suppressedExceptions" "Ljava/util/List;") ∈ lw_all := lw_g (lw_at lw_m6 237 rfl) rfl
theorem q1508 : (Jvm.Cond.lays "java/lang/UnsupportedOperationException" "java/lang/Throwable" "detailMessage" "Ljava/lang/String;") ∈ lw_all := lw_g (lw_at lw_m6 238 rfl) rfl
theorem q1509 : (Jvm.Cond.lays "java/lang/UnsupportedOperationException" "java/lang/Throwable" "backtrace" "Ljava/lang/Object;") ∈ lw_all := lw_g (lw_at lw_m6 239 rfl) rfl
theorem q1511 : (Jvm.Cond.instanceMethod ({ cls := "java/lang/UnsupportedOperationException", name := "<init>", desc := "()V" } : Jvm.MethodName)) ∈ lw_all := lw_g (lw_at lw_m7 1 rfl) rfl
theorem q1512 : (Jvm.Cond.code ({ cls := "java/lang/UnsupportedOperationException", name := "<init>", desc := "()V" } : Jvm.MethodName) prog_38_method_1_code (1 : Nat) (Option.none : Option Jvm.ClassFile.FieldType)) ∈ lw_all := lw_g (lw_at lw_m7 2 rfl) rfl
theorem q1513 : (Jvm.Cond.methodLink "java/lang/UnsupportedOperationException" (1 : Nat) ({ cls := "java/lang/RuntimeException", name := "<init>", desc := "()V" } : Jvm.MethodName)) ∈ lw_all := lw_g (lw_at lw_m7 3 rfl) rfl
theorem q1514 : (Jvm.Cond.lays "java/lang/UnsupportedOperationException" "java/lang/Throwable" "depth" "I") ∈ lw_all := lw_g (lw_at lw_m7 4 rfl) rfl
theorem q1515 : (Jvm.Cond.superclass "java/lang/UnsupportedOperationException" "java/lang/RuntimeException") ∈ lw_all := lw_g (lw_at lw_m7 5 rfl) rfl
theorem q2755 : (Jvm.Cond.castable "java/lang/UnsupportedOperationException" "java/lang/Object") ∈ lw_tbl := lw_at lw_m12 45 rfl
theorem in_J28 : ∀ w ∈ wsJ280, w ∈ lw_all := lw_in wsJ280 [1505, 1506, 1507, 1508, 1509, 1514] (by decide +kernel) (by decide +kernel)

/-! java/lang/IllegalStateException -/
set_option maxRecDepth 100000
def RJ29 : String := "java/lang/IllegalStateException"
def TJ29 : u_T := fun k => match k with
  | 0 => ("java/lang/Throwable", "cause", "Ljava/lang/Throwable;", false)
  | 1 => ("java/lang/Throwable", "stackTrace", "[Ljava/lang/StackTraceElement;", false)
  | 2 => ("java/lang/Throwable", "suppressedExceptions", "Ljava/util/List;", false)
  | 3 => ("java/lang/Throwable", "detailMessage", "Ljava/lang/String;", false)
  | 4 => ("java/lang/Throwable", "backtrace", "Ljava/lang/Object;", false)
  | _ => ("java/lang/Throwable", "depth", "I", false)
def tyJ29 : Nat → FieldType := fun k => match k with
  | 0 => .object "java/lang/Throwable"
  | 1 => .array (.object "java/lang/StackTraceElement")
  | 2 => .object "java/util/List"
  | 3 => .object "java/lang/String"
  | 4 => .object "java/lang/Object"
  | _ => .int
abbrev wsJ290 : List Cond := u_ws RJ29 TJ29 6
theorem nmJ29 : ∀ a, a < 6 → ∀ b, b < 6 → a ≠ b → (TJ29 a).2.1 ≠ (TJ29 b).2.1 := by decide +kernel
theorem tyJ29_ok : ∀ k, k < 6 → parseFieldDescriptor (TJ29 k).2.2.1 = some (tyJ29 k) := by decide +kernel
abbrev cJ29_init : ByteArray := prog_22_method_2_code
def yJ29_init : MethodName := ⟨RJ29, "<init>", "(Ljava/lang/String;)V"⟩
def dkwJ29_init_0 : List UInt8 := [42, 43, 183, 0, 7, 177]
abbrev dktJ29_init_0 : List UInt8 := dkwJ29_init_0 ++ []
theorem dksJ29_init_0 : cJ29_init.data.toList.drop 0 = dktJ29_init_0 := by decide +kernel
theorem dJ29_init_0 : decode cJ29_init 0 = .ok (.aload_n 0, 1) := dk_42 (dk_at dksJ29_init_0 0 rfl rfl)
theorem dJ29_init_1 : decode cJ29_init 1 = .ok (.aload_n 1, 1) := dk_43 (dk_at dksJ29_init_0 1 rfl rfl)
theorem dJ29_init_2 : decode cJ29_init 2 = .ok (.invokespecial 7, 3) := dk_183 0 7 (dk_at dksJ29_init_0 2 rfl rfl)
theorem dJ29_init_5 : decode cJ29_init 5 = .ok (.return_, 1) := dk_177 (dk_at dksJ29_init_0 5 rfl rfl)
abbrev cJ29_init_2 : ByteArray := prog_22_method_1_code
def yJ29_init_2 : MethodName := ⟨RJ29, "<init>", "()V"⟩
theorem dJ29_init_2_0 : decode cJ29_init_2 0 = .ok (.aload_n 0, 1) := by decide +kernel
theorem dJ29_init_2_1 : decode cJ29_init_2 1 = .ok (.invokespecial 1, 3) := by decide +kernel
theorem dJ29_init_2_4 : decode cJ29_init_2 4 = .ok (.return_, 1) := by decide +kernel
theorem q110 : (Jvm.Cond.initialized "java/lang/IllegalStateException") ∈ lw_all := lw_g (lw_at lw_m1 40 rfl) rfl
theorem q468 : (Jvm.Cond.selects "java/lang/IllegalStateException" ({ cls := "java/lang/Throwable", name := "fillInStackTrace", desc := "()Ljava/lang/Throwable;" } : Jvm.MethodName) ({ cls := "java/lang/Throwable", name := "fillInStackTrace", desc := "()Ljava/lang/Throwable;" } : Jvm.MethodName)) ∈ lw_all := lw_g (lw_at lw_m2 158 rfl) rfl
theorem q771 : (Jvm.Cond.selects "java/lang/IllegalStateException" ({ cls := "java/lang/Throwable", name := "toString", desc := "()Ljava/lang/String;" } : Jvm.MethodName) ({ cls := "java/lang/Throwable", name := "toString", desc := "()Ljava/lang/String;" } : Jvm.MethodName)) ∈ lw_all := lw_g (lw_at lw_m3 221 rfl) rfl
theorem q792 : (Jvm.Cond.selects "java/lang/IllegalStateException" ({ cls := "java/lang/Object", name := "getClass", desc := "()Ljava/lang/Class;" } : Jvm.MethodName) ({ cls := "java/lang/Object", name := "getClass", desc := "()Ljava/lang/Class;" } : Jvm.MethodName)) ∈ lw_all := lw_g (lw_at lw_m4 2 rfl) rfl
theorem q818 : (Jvm.Cond.selects "java/lang/IllegalStateException" ({ cls := "java/lang/Throwable", name := "getLocalizedMessage", desc := "()Ljava/lang/String;" } : Jvm.MethodName) ({ cls := "java/lang/Throwable", name := "getLocalizedMessage", desc := "()Ljava/lang/String;" } : Jvm.MethodName)) ∈ lw_all := lw_g (lw_at lw_m4 28 rfl) rfl
theorem q831 : (Jvm.Cond.selects "java/lang/IllegalStateException" ({ cls := "java/lang/Throwable", name := "getMessage", desc := "()Ljava/lang/String;" } : Jvm.MethodName) ({ cls := "java/lang/Throwable", name := "getMessage", desc := "()Ljava/lang/String;" } : Jvm.MethodName)) ∈ lw_all := lw_g (lw_at lw_m4 41 rfl) rfl
theorem q1557 : (Jvm.Cond.instantiable "java/lang/IllegalStateException" (6 : Nat)) ∈ lw_all := lw_g (lw_at lw_m7 47 rfl) rfl
theorem q1558 : (Jvm.Cond.castable "java/lang/IllegalStateException" "java/lang/IllegalStateException") ∈ lw_tbl := lw_at lw_m7 48 rfl
theorem q1559 : (Jvm.Cond.selects "java/lang/IllegalStateException" ({ cls := "java/lang/Throwable", name := "fillInStackTrace", desc := "(I)Ljava/lang/Throwable;" } : Jvm.MethodName) ({ cls := "java/lang/Throwable", name := "fillInStackTrace", desc := "(I)Ljava/lang/Throwable;" } : Jvm.MethodName)) ∈ lw_all := lw_g (lw_at lw_m7 49 rfl) rfl
theorem q1560 : (Jvm.Cond.lays "java/lang/IllegalStateException" "java/lang/Throwable" "cause" "Ljava/lang/Throwable;") ∈ lw_all := lw_g (lw_at lw_m7 50 rfl) rfl
theorem q1561 : (Jvm.Cond.lays "java/lang/IllegalStateException" "java/lang/Throwable" "stackTrace" "[Ljava/lang/StackTraceElement;") ∈ lw_all := lw_g (lw_at lw_m7 51 rfl) rfl
theorem q1562 : (Jvm.Cond.lays "java/lang/IllegalStateException" "java/lang/Throwable" "suppressedExceptions" "Ljava/util/List;") ∈ lw_all := lw_g (lw_at lw_m7 52 rfl) rfl
theorem q1563 : (Jvm.Cond.lays "java/lang/IllegalStateException" "java/lang/Throwable" "detailMessage" "Ljava/lang/String;") ∈ lw_all := lw_g (lw_at lw_m7 53 rfl) rfl
theorem q1564 : (Jvm.Cond.lays "java/lang/IllegalStateException" "java/lang/Throwable" "backtrace" "Ljava/lang/Object;") ∈ lw_all := lw_g (lw_at lw_m7 54 rfl) rfl
theorem q1567 : (Jvm.Cond.instanceMethod ({ cls := "java/lang/IllegalStateException", name := "<init>", desc := "(Ljava/lang/String;)V" } : Jvm.MethodName)) ∈ lw_all := lw_g (lw_at lw_m7 57 rfl) rfl
theorem q1568 : (Jvm.Cond.code ({ cls := "java/lang/IllegalStateException", name := "<init>", desc := "(Ljava/lang/String;)V" } : Jvm.MethodName) prog_22_method_2_code (2 : Nat) (Option.none : Option Jvm.ClassFile.FieldType)) ∈ lw_all := lw_g (lw_at lw_m7 58 rfl) rfl
theorem q1569 : (Jvm.Cond.methodLink "java/lang/IllegalStateException" (7 : Nat) ({ cls := "java/lang/RuntimeException", name := "<init>", desc := "(Ljava/lang/String;)V" } : Jvm.MethodName)) ∈ lw_all := lw_g (lw_at lw_m7 59 rfl) rfl
theorem q1570 : (Jvm.Cond.lays "java/lang/IllegalStateException" "java/lang/Throwable" "depth" "I") ∈ lw_all := lw_g (lw_at lw_m7 60 rfl) rfl
theorem q1571 : (Jvm.Cond.superclass "java/lang/IllegalStateException" "java/lang/RuntimeException") ∈ lw_all := lw_g (lw_at lw_m7 61 rfl) rfl
theorem q2055 : (Jvm.Cond.instanceMethod ({ cls := "java/lang/IllegalStateException", name := "<init>", desc := "()V" } : Jvm.MethodName)) ∈ lw_all := lw_g (lw_at lw_m9 65 rfl) rfl
theorem q2056 : (Jvm.Cond.code ({ cls := "java/lang/IllegalStateException", name := "<init>", desc := "()V" } : Jvm.MethodName) prog_22_method_1_code (1 : Nat) (Option.none : Option Jvm.ClassFile.FieldType)) ∈ lw_all := lw_g (lw_at lw_m9 66 rfl) rfl
theorem q2057 : (Jvm.Cond.methodLink "java/lang/IllegalStateException" (1 : Nat) ({ cls := "java/lang/RuntimeException", name := "<init>", desc := "()V" } : Jvm.MethodName)) ∈ lw_all := lw_g (lw_at lw_m9 67 rfl) rfl
theorem q2756 : (Jvm.Cond.castable "java/lang/IllegalStateException" "java/lang/Object") ∈ lw_tbl := lw_at lw_m12 46 rfl
theorem in_J29 : ∀ w ∈ wsJ290, w ∈ lw_all := lw_in wsJ290 [1560, 1561, 1562, 1563, 1564, 1570] (by decide +kernel) (by decide +kernel)

/-! java/lang/ArrayIndexOutOfBoundsException -/
set_option maxRecDepth 100000
def RJ30 : String := "java/lang/ArrayIndexOutOfBoundsException"
def TJ30 : u_T := fun k => match k with
  | 0 => ("java/lang/Throwable", "backtrace", "Ljava/lang/Object;", false)
  | 1 => ("java/lang/Throwable", "detailMessage", "Ljava/lang/String;", false)
  | 2 => ("java/lang/Throwable", "cause", "Ljava/lang/Throwable;", false)
  | 3 => ("java/lang/Throwable", "stackTrace", "[Ljava/lang/StackTraceElement;", false)
  | 4 => ("java/lang/Throwable", "depth", "I", false)
  | _ => ("java/lang/Throwable", "suppressedExceptions", "Ljava/util/List;", false)
def tyJ30 : Nat → FieldType := fun k => match k with
  | 0 => .object "java/lang/Object"
  | 1 => .object "java/lang/String"
  | 2 => .object "java/lang/Throwable"
  | 3 => .array (.object "java/lang/StackTraceElement")
  | 4 => .int
  | _ => .object "java/util/List"
abbrev wsJ300 : List Cond := u_ws RJ30 TJ30 6
theorem nmJ30 : ∀ a, a < 6 → ∀ b, b < 6 → a ≠ b → (TJ30 a).2.1 ≠ (TJ30 b).2.1 := by decide +kernel
theorem tyJ30_ok : ∀ k, k < 6 → parseFieldDescriptor (TJ30 k).2.2.1 = some (tyJ30 k) := by decide +kernel
abbrev cJ30_init : ByteArray := prog_16_method_2_code
def yJ30_init : MethodName := ⟨RJ30, "<init>", "(Ljava/lang/String;)V"⟩
def dkwJ30_init_0 : List UInt8 := [42, 43, 183, 0, 7, 177]
abbrev dktJ30_init_0 : List UInt8 := dkwJ30_init_0 ++ []
theorem dksJ30_init_0 : cJ30_init.data.toList.drop 0 = dktJ30_init_0 := by decide +kernel
theorem dJ30_init_0 : decode cJ30_init 0 = .ok (.aload_n 0, 1) := dk_42 (dk_at dksJ30_init_0 0 rfl rfl)
theorem dJ30_init_1 : decode cJ30_init 1 = .ok (.aload_n 1, 1) := dk_43 (dk_at dksJ30_init_0 1 rfl rfl)
theorem dJ30_init_2 : decode cJ30_init 2 = .ok (.invokespecial 7, 3) := dk_183 0 7 (dk_at dksJ30_init_0 2 rfl rfl)
theorem dJ30_init_5 : decode cJ30_init 5 = .ok (.return_, 1) := dk_177 (dk_at dksJ30_init_0 5 rfl rfl)
theorem q111 : (Jvm.Cond.initialized "java/lang/ArrayIndexOutOfBoundsException") ∈ lw_all := lw_g (lw_at lw_m1 41 rfl) rfl
theorem q466 : (Jvm.Cond.selects "java/lang/ArrayIndexOutOfBoundsException" ({ cls := "java/lang/Throwable", name := "fillInStackTrace", desc := "()Ljava/lang/Throwable;" } : Jvm.MethodName) ({ cls := "java/lang/Throwable", name := "fillInStackTrace", desc := "()Ljava/lang/Throwable;" } : Jvm.MethodName)) ∈ lw_all := lw_g (lw_at lw_m2 156 rfl) rfl
theorem q769 : (Jvm.Cond.selects "java/lang/ArrayIndexOutOfBoundsException" ({ cls := "java/lang/Throwable", name := "toString", desc := "()Ljava/lang/String;" } : Jvm.MethodName) ({ cls := "java/lang/Throwable", name := "toString", desc := "()Ljava/lang/String;" } : Jvm.MethodName)) ∈ lw_all := lw_g (lw_at lw_m3 219 rfl) rfl
theorem q790 : (Jvm.Cond.selects "java/lang/ArrayIndexOutOfBoundsException" ({ cls := "java/lang/Object", name := "getClass", desc := "()Ljava/lang/Class;" } : Jvm.MethodName) ({ cls := "java/lang/Object", name := "getClass", desc := "()Ljava/lang/Class;" } : Jvm.MethodName)) ∈ lw_all := lw_g (lw_at lw_m4 0 rfl) rfl
theorem q816 : (Jvm.Cond.selects "java/lang/ArrayIndexOutOfBoundsException" ({ cls := "java/lang/Throwable", name := "getLocalizedMessage", desc := "()Ljava/lang/String;" } : Jvm.MethodName) ({ cls := "java/lang/Throwable", name := "getLocalizedMessage", desc := "()Ljava/lang/String;" } : Jvm.MethodName)) ∈ lw_all := lw_g (lw_at lw_m4 26 rfl) rfl
theorem q829 : (Jvm.Cond.selects "java/lang/ArrayIndexOutOfBoundsException" ({ cls := "java/lang/Throwable", name := "getMessage", desc := "()Ljava/lang/String;" } : Jvm.MethodName) ({ cls := "java/lang/Throwable", name := "getMessage", desc := "()Ljava/lang/String;" } : Jvm.MethodName)) ∈ lw_all := lw_g (lw_at lw_m4 39 rfl) rfl
theorem q1709 : (Jvm.Cond.instantiable "java/lang/ArrayIndexOutOfBoundsException" (6 : Nat)) ∈ lw_all := lw_g (lw_at lw_m7 199 rfl) rfl
theorem q1710 : (Jvm.Cond.instanceMethod ({ cls := "java/lang/ArrayIndexOutOfBoundsException", name := "<init>", desc := "(Ljava/lang/String;)V" } : Jvm.MethodName)) ∈ lw_all := lw_g (lw_at lw_m7 200 rfl) rfl
theorem q1711 : (Jvm.Cond.code ({ cls := "java/lang/ArrayIndexOutOfBoundsException", name := "<init>", desc := "(Ljava/lang/String;)V" } : Jvm.MethodName) prog_16_method_2_code (2 : Nat) (Option.none : Option Jvm.ClassFile.FieldType)) ∈ lw_all := lw_g (lw_at lw_m7 201 rfl) rfl
theorem q1712 : (Jvm.Cond.methodLink "java/lang/ArrayIndexOutOfBoundsException" (7 : Nat) ({ cls := "java/lang/IndexOutOfBoundsException", name := "<init>", desc := "(Ljava/lang/String;)V" } : Jvm.MethodName)) ∈ lw_all := lw_g (lw_at lw_m7 202 rfl) rfl
theorem q1713 : (Jvm.Cond.lays "java/lang/ArrayIndexOutOfBoundsException" "java/lang/Throwable" "backtrace" "Ljava/lang/Object;") ∈ lw_all := lw_g (lw_at lw_m7 203 rfl) rfl
theorem q1714 : (Jvm.Cond.lays "java/lang/ArrayIndexOutOfBoundsException" "java/lang/Throwable" "detailMessage" "Ljava/lang/String;") ∈ lw_all := lw_g (lw_at lw_m7 204 rfl) rfl
theorem q1715 : (Jvm.Cond.lays "java/lang/ArrayIndexOutOfBoundsException" "java/lang/Throwable" "cause" "Ljava/lang/Throwable;") ∈ lw_all := lw_g (lw_at lw_m7 205 rfl) rfl
theorem q1716 : (Jvm.Cond.lays "java/lang/ArrayIndexOutOfBoundsException" "java/lang/Throwable" "stackTrace" "[Ljava/lang/StackTraceElement;") ∈ lw_all := lw_g (lw_at lw_m7 206 rfl) rfl
theorem q1717 : (Jvm.Cond.lays "java/lang/ArrayIndexOutOfBoundsException" "java/lang/Throwable" "depth" "I") ∈ lw_all := lw_g (lw_at lw_m7 207 rfl) rfl
theorem q1718 : (Jvm.Cond.lays "java/lang/ArrayIndexOutOfBoundsException" "java/lang/Throwable" "suppressedExceptions" "Ljava/util/List;") ∈ lw_all := lw_g (lw_at lw_m7 208 rfl) rfl
theorem q1719 : (Jvm.Cond.superclass "java/lang/ArrayIndexOutOfBoundsException" "java/lang/IndexOutOfBoundsException") ∈ lw_all := lw_g (lw_at lw_m7 209 rfl) rfl
theorem q1720 : (Jvm.Cond.castable "java/lang/ArrayIndexOutOfBoundsException" "java/lang/ArrayIndexOutOfBoundsException") ∈ lw_tbl := lw_at lw_m7 210 rfl
theorem q1723 : (Jvm.Cond.selects "java/lang/ArrayIndexOutOfBoundsException" ({ cls := "java/lang/Throwable", name := "fillInStackTrace", desc := "(I)Ljava/lang/Throwable;" } : Jvm.MethodName) ({ cls := "java/lang/Throwable", name := "fillInStackTrace", desc := "(I)Ljava/lang/Throwable;" } : Jvm.MethodName)) ∈ lw_all := lw_g (lw_at lw_m7 213 rfl) rfl
theorem q2733 : (Jvm.Cond.castable "java/lang/ArrayIndexOutOfBoundsException" "java/lang/IndexOutOfBoundsException") ∈ lw_tbl := lw_at lw_m12 23 rfl
theorem q2757 : (Jvm.Cond.castable "java/lang/ArrayIndexOutOfBoundsException" "java/lang/Object") ∈ lw_tbl := lw_at lw_m12 47 rfl
theorem in_J30 : ∀ w ∈ wsJ300, w ∈ lw_all := lw_in wsJ300 [1713, 1714, 1715, 1716, 1717, 1718] (by decide +kernel) (by decide +kernel)

/-! java/util/AbstractList$Itr -/
set_option maxRecDepth 100000
def RJ31 : String := "java/util/AbstractList$Itr"
abbrev cJ31_hasNext : ByteArray := prog_43_method_2_code
def yJ31_hasNext : MethodName := ⟨RJ31, "hasNext", "()Z"⟩
def dkwJ31_hasNext_0 : List UInt8 := [42, 180, 0, 13, 42, 180, 0, 1, 182, 0, 28, 159, 0, 7, 4, 167, 0, 4, 3, 172]
abbrev dktJ31_hasNext_0 : List UInt8 := dkwJ31_hasNext_0 ++ []
theorem dksJ31_hasNext_0 : cJ31_hasNext.data.toList.drop 0 = dktJ31_hasNext_0 := by decide +kernel
theorem dJ31_hasNext_0 : decode cJ31_hasNext 0 = .ok (.aload_n 0, 1) := dk_42 (dk_at dksJ31_hasNext_0 0 rfl rfl)
theorem dJ31_hasNext_1 : decode cJ31_hasNext 1 = .ok (.getfield 13, 3) := dk_180 0 13 (dk_at dksJ31_hasNext_0 1 rfl rfl)
theorem dJ31_hasNext_4 : decode cJ31_hasNext 4 = .ok (.aload_n 0, 1) := dk_42 (dk_at dksJ31_hasNext_0 4 rfl rfl)
theorem dJ31_hasNext_5 : decode cJ31_hasNext 5 = .ok (.getfield 1, 3) := dk_180 0 1 (dk_at dksJ31_hasNext_0 5 rfl rfl)
theorem dJ31_hasNext_8 : decode cJ31_hasNext 8 = .ok (.invokevirtual 28, 3) := dk_182 0 28 (dk_at dksJ31_hasNext_0 8 rfl rfl)
theorem dJ31_hasNext_11 : decode cJ31_hasNext 11 = .ok (.if_icmp .eq 7, 3) := dk_159 0 7 (dk_at dksJ31_hasNext_0 11 rfl rfl)
theorem dJ31_hasNext_14 : decode cJ31_hasNext 14 = .ok (.iconst 1, 1) := dk_4 (dk_at dksJ31_hasNext_0 14 rfl rfl)
theorem dJ31_hasNext_15 : decode cJ31_hasNext 15 = .ok (.goto 4, 3) := dk_167 0 4 (dk_at dksJ31_hasNext_0 15 rfl rfl)
theorem dJ31_hasNext_18 : decode cJ31_hasNext 18 = .ok (.iconst 0, 1) := dk_3 (dk_at dksJ31_hasNext_0 18 rfl rfl)
theorem dJ31_hasNext_19 : decode cJ31_hasNext 19 = .ok (.ireturn, 1) := dk_172 (dk_at dksJ31_hasNext_0 19 rfl rfl)
abbrev cJ31_next : ByteArray := prog_43_method_3_code
def yJ31_next : MethodName := ⟨RJ31, "next", "()Ljava/lang/Object;"⟩
def dkwJ31_next_1 : List UInt8 := [27, 4, 96, 181, 0, 13, 44, 176, 76, 42, 182, 0, 32, 187, 0, 41, 89, 43, 183, 0, 43, 191]
abbrev dktJ31_next_1 : List UInt8 := dkwJ31_next_1 ++ []
def dkwJ31_next_0 : List UInt8 := [42, 182, 0, 32, 42, 180, 0, 13, 60, 42, 180, 0, 1, 27, 182, 0, 35, 77, 42, 27, 181, 0, 17, 42]
abbrev dktJ31_next_0 : List UInt8 := dkwJ31_next_0 ++ dktJ31_next_1
theorem dksJ31_next_0 : cJ31_next.data.toList.drop 0 = dktJ31_next_0 := by decide +kernel
theorem dksJ31_next_1 : cJ31_next.data.toList.drop 24 = dktJ31_next_1 := dk_seg dksJ31_next_0 24 rfl rfl
theorem dJ31_next_0 : decode cJ31_next 0 = .ok (.aload_n 0, 1) := dk_42 (dk_at dksJ31_next_0 0 rfl rfl)
theorem dJ31_next_1 : decode cJ31_next 1 = .ok (.invokevirtual 32, 3) := dk_182 0 32 (dk_at dksJ31_next_0 1 rfl rfl)
theorem dJ31_next_4 : decode cJ31_next 4 = .ok (.aload_n 0, 1) := dk_42 (dk_at dksJ31_next_0 4 rfl rfl)
theorem dJ31_next_5 : decode cJ31_next 5 = .ok (.getfield 13, 3) := dk_180 0 13 (dk_at dksJ31_next_0 5 rfl rfl)
theorem dJ31_next_8 : decode cJ31_next 8 = .ok (.istore_n 1, 1) := dk_60 (dk_at dksJ31_next_0 8 rfl rfl)
theorem dJ31_next_9 : decode cJ31_next 9 = .ok (.aload_n 0, 1) := dk_42 (dk_at dksJ31_next_0 9 rfl rfl)
theorem dJ31_next_10 : decode cJ31_next 10 = .ok (.getfield 1, 3) := dk_180 0 1 (dk_at dksJ31_next_0 10 rfl rfl)
theorem dJ31_next_13 : decode cJ31_next 13 = .ok (.iload_n 1, 1) := dk_27 (dk_at dksJ31_next_0 13 rfl rfl)
theorem dJ31_next_14 : decode cJ31_next 14 = .ok (.invokevirtual 35, 3) := dk_182 0 35 (dk_at dksJ31_next_0 14 rfl rfl)
theorem dJ31_next_17 : decode cJ31_next 17 = .ok (.astore_n 2, 1) := dk_77 (dk_at dksJ31_next_0 17 rfl rfl)
theorem dJ31_next_18 : decode cJ31_next 18 = .ok (.aload_n 0, 1) := dk_42 (dk_at dksJ31_next_0 18 rfl rfl)
theorem dJ31_next_19 : decode cJ31_next 19 = .ok (.iload_n 1, 1) := dk_27 (dk_at dksJ31_next_0 19 rfl rfl)
theorem dJ31_next_20 : decode cJ31_next 20 = .ok (.putfield 17, 3) := dk_181 0 17 (dk_at dksJ31_next_0 20 rfl rfl)
theorem dJ31_next_23 : decode cJ31_next 23 = .ok (.aload_n 0, 1) := dk_42 (dk_at dksJ31_next_0 23 rfl rfl)
theorem dJ31_next_24 : decode cJ31_next 24 = .ok (.iload_n 1, 1) := dk_27 (dk_at dksJ31_next_1 0 rfl rfl)
theorem dJ31_next_25 : decode cJ31_next 25 = .ok (.iconst 1, 1) := dk_4 (dk_at dksJ31_next_1 1 rfl rfl)
theorem dJ31_next_26 : decode cJ31_next 26 = .ok (.iadd, 1) := dk_96 (dk_at dksJ31_next_1 2 rfl rfl)
theorem dJ31_next_27 : decode cJ31_next 27 = .ok (.putfield 13, 3) := dk_181 0 13 (dk_at dksJ31_next_1 3 rfl rfl)
theorem dJ31_next_30 : decode cJ31_next 30 = .ok (.aload_n 2, 1) := dk_44 (dk_at dksJ31_next_1 6 rfl rfl)
theorem dJ31_next_31 : decode cJ31_next 31 = .ok (.areturn, 1) := dk_176 (dk_at dksJ31_next_1 7 rfl rfl)
theorem dJ31_next_32 : decode cJ31_next 32 = .ok (.astore_n 1, 1) := dk_76 (dk_at dksJ31_next_1 8 rfl rfl)
theorem dJ31_next_33 : decode cJ31_next 33 = .ok (.aload_n 0, 1) := dk_42 (dk_at dksJ31_next_1 9 rfl rfl)
theorem dJ31_next_34 : decode cJ31_next 34 = .ok (.invokevirtual 32, 3) := dk_182 0 32 (dk_at dksJ31_next_1 10 rfl rfl)
theorem dJ31_next_37 : decode cJ31_next 37 = .ok (.new 41, 3) := dk_187 0 41 (dk_at dksJ31_next_1 13 rfl rfl)
theorem dJ31_next_40 : decode cJ31_next 40 = .ok (.dup, 1) := dk_89 (dk_at dksJ31_next_1 16 rfl rfl)
theorem dJ31_next_41 : decode cJ31_next 41 = .ok (.aload_n 1, 1) := dk_43 (dk_at dksJ31_next_1 17 rfl rfl)
theorem dJ31_next_42 : decode cJ31_next 42 = .ok (.invokespecial 43, 3) := dk_183 0 43 (dk_at dksJ31_next_1 18 rfl rfl)
theorem dJ31_next_45 : decode cJ31_next 45 = .ok (.athrow, 1) := dk_191 (dk_at dksJ31_next_1 21 rfl rfl)
abbrev cJ31_checkForComodification : ByteArray := prog_43_method_5_code
def yJ31_checkForComodification : MethodName := ⟨RJ31, "checkForComodification", "()V"⟩
def dkwJ31_checkForComodification_0 : List UInt8 := [42, 180, 0, 1, 180, 0, 20, 42, 180, 0, 25, 159, 0, 11, 187, 0, 52, 89, 183, 0, 54, 191, 177]
abbrev dktJ31_checkForComodification_0 : List UInt8 := dkwJ31_checkForComodification_0 ++ []
theorem dksJ31_checkForComodification_0 : cJ31_checkForComodification.data.toList.drop 0 = dktJ31_checkForComodification_0 := by decide +kernel
theorem dJ31_checkForComodification_0 : decode cJ31_checkForComodification 0 = .ok (.aload_n 0, 1) := dk_42 (dk_at dksJ31_checkForComodification_0 0 rfl rfl)
theorem dJ31_checkForComodification_1 : decode cJ31_checkForComodification 1 = .ok (.getfield 1, 3) := dk_180 0 1 (dk_at dksJ31_checkForComodification_0 1 rfl rfl)
theorem dJ31_checkForComodification_4 : decode cJ31_checkForComodification 4 = .ok (.getfield 20, 3) := dk_180 0 20 (dk_at dksJ31_checkForComodification_0 4 rfl rfl)
theorem dJ31_checkForComodification_7 : decode cJ31_checkForComodification 7 = .ok (.aload_n 0, 1) := dk_42 (dk_at dksJ31_checkForComodification_0 7 rfl rfl)
theorem dJ31_checkForComodification_8 : decode cJ31_checkForComodification 8 = .ok (.getfield 25, 3) := dk_180 0 25 (dk_at dksJ31_checkForComodification_0 8 rfl rfl)
theorem dJ31_checkForComodification_11 : decode cJ31_checkForComodification 11 = .ok (.if_icmp .eq 11, 3) := dk_159 0 11 (dk_at dksJ31_checkForComodification_0 11 rfl rfl)
theorem dJ31_checkForComodification_14 : decode cJ31_checkForComodification 14 = .ok (.new 52, 3) := dk_187 0 52 (dk_at dksJ31_checkForComodification_0 14 rfl rfl)
theorem dJ31_checkForComodification_17 : decode cJ31_checkForComodification 17 = .ok (.dup, 1) := dk_89 (dk_at dksJ31_checkForComodification_0 17 rfl rfl)
theorem dJ31_checkForComodification_18 : decode cJ31_checkForComodification 18 = .ok (.invokespecial 54, 3) := dk_183 0 54 (dk_at dksJ31_checkForComodification_0 18 rfl rfl)
theorem dJ31_checkForComodification_21 : decode cJ31_checkForComodification 21 = .ok (.athrow, 1) := dk_191 (dk_at dksJ31_checkForComodification_0 21 rfl rfl)
theorem dJ31_checkForComodification_22 : decode cJ31_checkForComodification 22 = .ok (.return_, 1) := dk_177 (dk_at dksJ31_checkForComodification_0 22 rfl rfl)
theorem q112 : (Jvm.Cond.initialized "java/util/AbstractList$Itr") ∈ lw_all := lw_g (lw_at lw_m1 42 rfl) rfl
theorem q156 : (Jvm.Cond.fieldLink "java/util/AbstractList$Itr" (20 : Nat) "java/util/AbstractList" "modCount" "I") ∈ lw_all := lw_g (lw_at lw_m1 86 rfl) rfl
theorem q364 : (Jvm.Cond.instanceMethod ({ cls := "java/util/AbstractList$Itr", name := "hasNext", desc := "()Z" } : Jvm.MethodName)) ∈ lw_all := lw_g (lw_at lw_m2 54 rfl) rfl
theorem q365 : (Jvm.Cond.publicMethod ({ cls := "java/util/AbstractList$Itr", name := "hasNext", desc := "()Z" } : Jvm.MethodName)) ∈ lw_tbl := lw_at lw_m2 55 rfl
theorem q366 : (Jvm.Cond.code ({ cls := "java/util/AbstractList$Itr", name := "hasNext", desc := "()Z" } : Jvm.MethodName) prog_43_method_2_code (1 : Nat) (Option.some Jvm.ClassFile.FieldType.boolean)) ∈ lw_all := lw_g (lw_at lw_m2 56 rfl) rfl
theorem q367 : (Jvm.Cond.methodLink "java/util/AbstractList$Itr" (28 : Nat) ({ cls := "java/util/AbstractList", name := "size", desc := "()I" } : Jvm.MethodName)) ∈ lw_all := lw_g (lw_at lw_m2 57 rfl) rfl
theorem q395 : (Jvm.Cond.instanceMethod ({ cls := "java/util/AbstractList$Itr", name := "next", desc := "()Ljava/lang/Object;" } : Jvm.MethodName)) ∈ lw_all := lw_g (lw_at lw_m2 85 rfl) rfl
theorem q396 : (Jvm.Cond.publicMethod ({ cls := "java/util/AbstractList$Itr", name := "next", desc := "()Ljava/lang/Object;" } : Jvm.MethodName)) ∈ lw_tbl := lw_at lw_m2 86 rfl
theorem q397 : (Jvm.Cond.codeWith ({ cls := "java/util/AbstractList$Itr", name := "next", desc := "()Ljava/lang/Object;" } : Jvm.MethodName) prog_43_method_3_code (3 : Nat) (Option.some (Jvm.ClassFile.FieldType.object "java/lang/Object")) [((4 : Nat), (31 : Nat), (32 : Nat), (39 : Nat))]) ∈ lw_all := lw_g (lw_at lw_m2 87 rfl) rfl
theorem q398 : (Jvm.Cond.methodLink "java/util/AbstractList$Itr" (32 : Nat) ({ cls := "java/util/AbstractList$Itr", name := "checkForComodification", desc := "()V" } : Jvm.MethodName)) ∈ lw_all := lw_g (lw_at lw_m2 88 rfl) rfl
theorem q399 : (Jvm.Cond.instanceMethod ({ cls := "java/util/AbstractList$Itr", name := "checkForComodification", desc := "()V" } : Jvm.MethodName)) ∈ lw_all := lw_g (lw_at lw_m2 89 rfl) rfl
theorem q400 : (Jvm.Cond.sameMethod "java/util/AbstractList$Itr" "java/util/AbstractList$Itr" "checkForComodification" "()V") ∈ lw_all := lw_g (lw_at lw_m2 90 rfl) rfl
theorem q402 : (Jvm.Cond.code ({ cls := "java/util/AbstractList$Itr", name := "checkForComodification", desc := "()V" } : Jvm.MethodName) prog_43_method_5_code (1 : Nat) (Option.none : Option Jvm.ClassFile.FieldType)) ∈ lw_all := lw_g (lw_at lw_m2 92 rfl) rfl
theorem q403 : (Jvm.Cond.methodLink "java/util/AbstractList$Itr" (35 : Nat) ({ cls := "java/util/AbstractList", name := "get", desc := "(I)Ljava/lang/Object;" } : Jvm.MethodName)) ∈ lw_all := lw_g (lw_at lw_m2 93 rfl) rfl
theorem q742 : (Jvm.Cond.classLink "java/util/AbstractList$Itr" (41 : Nat) "java/util/NoSuchElementException") ∈ lw_all := lw_g (lw_at lw_m3 192 rfl) rfl
theorem q751 : (Jvm.Cond.methodLink "java/util/AbstractList$Itr" (43 : Nat) ({ cls := "java/util/NoSuchElementException", name := "<init>", desc := "(Ljava/lang/Throwable;)V" } : Jvm.MethodName)) ∈ lw_all := lw_g (lw_at lw_m3 201 rfl) rfl
theorem q2776 : (Jvm.Cond.fieldLink "java/util/AbstractList$Itr" (13 : Nat) "java/util/AbstractList$Itr" "cursor" "I") ∈ lw_all := lw_g (lw_at lw_m12 66 rfl) rfl
theorem q2777 : (Jvm.Cond.fieldLink "java/util/AbstractList$Itr" (1 : Nat) "java/util/AbstractList$Itr" "this$0" "Ljava/util/AbstractList;") ∈ lw_all := lw_g (lw_at lw_m12 67 rfl) rfl
theorem q2778 : (Jvm.Cond.fieldLink "java/util/AbstractList$Itr" (25 : Nat) "java/util/AbstractList$Itr" "expectedModCount" "I") ∈ lw_all := lw_g (lw_at lw_m12 68 rfl) rfl
theorem q2779 : (Jvm.Cond.fieldLink "java/util/AbstractList$Itr" (17 : Nat) "java/util/AbstractList$Itr" "lastRet" "I") ∈ lw_all := lw_g (lw_at lw_m12 69 rfl) rfl

/-! java/util/ArrayList$ListItr -/
set_option maxRecDepth 100000
def RJ32 : String := "java/util/ArrayList$ListItr"
def TJ32 : u_T := fun k => match k with
  | 0 => ("java/util/ArrayList$Itr", "cursor", "I", false)
  | 1 => ("java/util/ArrayList$Itr", "lastRet", "I", false)
  | 2 => ("java/util/ArrayList$Itr", "expectedModCount", "I", false)
  | 3 => ("java/util/ArrayList$Itr", "this$0", "Ljava/util/ArrayList;", true)
  | _ => ("java/util/ArrayList$ListItr", "this$0", "Ljava/util/ArrayList;", true)
def tyJ32 : Nat → FieldType := fun k => match k with
  | 0 => .int
  | 1 => .int
  | 2 => .int
  | 3 => .object "java/util/ArrayList"
  | _ => .object "java/util/ArrayList"
abbrev wsJ320 : List Cond := u_ws RJ32 TJ32 5
-- two fields of one name: no nmJ32
theorem tyJ32_ok : ∀ k, k < 5 → parseFieldDescriptor (TJ32 k).2.2.1 = some (tyJ32 k) := by decide +kernel
abbrev cJ32_init : ByteArray := prog_49_method_1_code
def yJ32_init : MethodName := ⟨RJ32, "<init>", "(Ljava/util/ArrayList;I)V"⟩
def dkwJ32_init_0 : List UInt8 := [42, 43, 181, 0, 1, 42, 43, 183, 0, 7, 42, 28, 181, 0, 13, 177]
abbrev dktJ32_init_0 : List UInt8 := dkwJ32_init_0 ++ []
theorem dksJ32_init_0 : cJ32_init.data.toList.drop 0 = dktJ32_init_0 := by decide +kernel
theorem dJ32_init_0 : decode cJ32_init 0 = .ok (.aload_n 0, 1) := dk_42 (dk_at dksJ32_init_0 0 rfl rfl)
theorem dJ32_init_1 : decode cJ32_init 1 = .ok (.aload_n 1, 1) := dk_43 (dk_at dksJ32_init_0 1 rfl rfl)
theorem dJ32_init_2 : decode cJ32_init 2 = .ok (.putfield 1, 3) := dk_181 0 1 (dk_at dksJ32_init_0 2 rfl rfl)
theorem dJ32_init_5 : decode cJ32_init 5 = .ok (.aload_n 0, 1) := dk_42 (dk_at dksJ32_init_0 5 rfl rfl)
theorem dJ32_init_6 : decode cJ32_init 6 = .ok (.aload_n 1, 1) := dk_43 (dk_at dksJ32_init_0 6 rfl rfl)
theorem dJ32_init_7 : decode cJ32_init 7 = .ok (.invokespecial 7, 3) := dk_183 0 7 (dk_at dksJ32_init_0 7 rfl rfl)
theorem dJ32_init_10 : decode cJ32_init 10 = .ok (.aload_n 0, 1) := dk_42 (dk_at dksJ32_init_0 10 rfl rfl)
theorem dJ32_init_11 : decode cJ32_init 11 = .ok (.iload_n 2, 1) := dk_28 (dk_at dksJ32_init_0 11 rfl rfl)
theorem dJ32_init_12 : decode cJ32_init 12 = .ok (.putfield 13, 3) := dk_181 0 13 (dk_at dksJ32_init_0 12 rfl rfl)
theorem dJ32_init_15 : decode cJ32_init 15 = .ok (.return_, 1) := dk_177 (dk_at dksJ32_init_0 15 rfl rfl)
theorem q114 : (Jvm.Cond.initialized "java/util/ArrayList$ListItr") ∈ lw_all := lw_g (lw_at lw_m1 44 rfl) rfl
theorem q341 : (Jvm.Cond.fieldLink "java/util/ArrayList$ListItr" (13 : Nat) "java/util/ArrayList$ListItr" "cursor" "I") ∈ lw_all := lw_g (lw_at lw_m2 31 rfl) rfl
theorem q342 : (Jvm.Cond.sameField "java/util/ArrayList$ListItr" "java/util/ArrayList$Itr" "cursor" "I") ∈ lw_all := lw_g (lw_at lw_m2 32 rfl) rfl
theorem q380 : (Jvm.Cond.castable "java/util/ArrayList$ListItr" "java/util/Iterator") ∈ lw_tbl := lw_at lw_m2 70 rfl
theorem q381 : (Jvm.Cond.selects "java/util/ArrayList$ListItr" ({ cls := "java/util/Iterator", name := "hasNext", desc := "()Z" } : Jvm.MethodName) ({ cls := "java/util/ArrayList$Itr", name := "hasNext", desc := "()Z" } : Jvm.MethodName)) ∈ lw_all := lw_g (lw_at lw_m2 71 rfl) rfl
theorem q382 : (Jvm.Cond.unhidden "java/util/ArrayList$ListItr" "hasNext" "()Z") ∈ lw_tbl := lw_at lw_m2 72 rfl
theorem q803 : (Jvm.Cond.selects "java/util/ArrayList$ListItr" ({ cls := "java/lang/Object", name := "getClass", desc := "()Ljava/lang/Class;" } : Jvm.MethodName) ({ cls := "java/lang/Object", name := "getClass", desc := "()Ljava/lang/Class;" } : Jvm.MethodName)) ∈ lw_all := lw_g (lw_at lw_m4 13 rfl) rfl
theorem q852 : (Jvm.Cond.selects "java/util/ArrayList$ListItr" ({ cls := "java/util/ArrayList$Itr", name := "checkForComodification", desc := "()V" } : Jvm.MethodName) ({ cls := "java/util/ArrayList$Itr", name := "checkForComodification", desc := "()V" } : Jvm.MethodName)) ∈ lw_all := lw_g (lw_at lw_m4 62 rfl) rfl
theorem q865 : (Jvm.Cond.selects "java/util/ArrayList$ListItr" ({ cls := "java/util/Iterator", name := "next", desc := "()Ljava/lang/Object;" } : Jvm.MethodName) ({ cls := "java/util/ArrayList$Itr", name := "next", desc := "()Ljava/lang/Object;" } : Jvm.MethodName)) ∈ lw_all := lw_g (lw_at lw_m4 75 rfl) rfl
theorem q866 : (Jvm.Cond.unhidden "java/util/ArrayList$ListItr" "next" "()Ljava/lang/Object;") ∈ lw_tbl := lw_at lw_m4 76 rfl
theorem q1637 : (Jvm.Cond.instantiable "java/util/ArrayList$ListItr" (5 : Nat)) ∈ lw_all := lw_g (lw_at lw_m7 127 rfl) rfl
theorem q1639 : (Jvm.Cond.instanceMethod ({ cls := "java/util/ArrayList$ListItr", name := "<init>", desc := "(Ljava/util/ArrayList;I)V" } : Jvm.MethodName)) ∈ lw_all := lw_g (lw_at lw_m7 129 rfl) rfl
theorem q1640 : (Jvm.Cond.code ({ cls := "java/util/ArrayList$ListItr", name := "<init>", desc := "(Ljava/util/ArrayList;I)V" } : Jvm.MethodName) prog_49_method_1_code (3 : Nat) (Option.none : Option Jvm.ClassFile.FieldType)) ∈ lw_all := lw_g (lw_at lw_m7 130 rfl) rfl
theorem q1641 : (Jvm.Cond.methodLink "java/util/ArrayList$ListItr" (7 : Nat) ({ cls := "java/util/ArrayList$Itr", name := "<init>", desc := "(Ljava/util/ArrayList;)V" } : Jvm.MethodName)) ∈ lw_all := lw_g (lw_at lw_m7 131 rfl) rfl
theorem q1642 : (Jvm.Cond.fieldLink "java/util/ArrayList$ListItr" (1 : Nat) "java/util/ArrayList$ListItr" "this$0" "Ljava/util/ArrayList;") ∈ lw_all := lw_g (lw_at lw_m7 132 rfl) rfl
theorem q1643 : (Jvm.Cond.laysFinal "java/util/ArrayList$ListItr" "java/util/ArrayList$ListItr" "this$0" "Ljava/util/ArrayList;") ∈ lw_all := lw_g (lw_at lw_m7 133 rfl) rfl
theorem q1644 : (Jvm.Cond.soleField "java/util/ArrayList$ListItr" "this$0") ∈ lw_all := lw_g (lw_at lw_m7 134 rfl) rfl
theorem q1645 : (Jvm.Cond.lays "java/util/ArrayList$ListItr" "java/util/ArrayList$Itr" "cursor" "I") ∈ lw_all := lw_g (lw_at lw_m7 135 rfl) rfl
theorem q1646 : (Jvm.Cond.lays "java/util/ArrayList$ListItr" "java/util/ArrayList$Itr" "lastRet" "I") ∈ lw_all := lw_g (lw_at lw_m7 136 rfl) rfl
theorem q1647 : (Jvm.Cond.lays "java/util/ArrayList$ListItr" "java/util/ArrayList$Itr" "expectedModCount" "I") ∈ lw_all := lw_g (lw_at lw_m7 137 rfl) rfl
theorem q1648 : (Jvm.Cond.laysFinal "java/util/ArrayList$ListItr" "java/util/ArrayList$Itr" "this$0" "Ljava/util/ArrayList;") ∈ lw_all := lw_g (lw_at lw_m7 138 rfl) rfl
theorem q1649 : (Jvm.Cond.superclass "java/util/ArrayList$ListItr" "java/util/ArrayList$Itr") ∈ lw_all := lw_g (lw_at lw_m7 139 rfl) rfl
theorem q2759 : (Jvm.Cond.castable "java/util/ArrayList$ListItr" "java/lang/Object") ∈ lw_tbl := lw_at lw_m12 49 rfl
theorem in_J32 : ∀ w ∈ wsJ320, w ∈ lw_all := lw_in wsJ320 [1645, 1646, 1647, 1648, 1643] (by decide +kernel) (by decide +kernel)

/-! java/util/LinkedList$ListItr -/
set_option maxRecDepth 100000
def RJ33 : String := "java/util/LinkedList$ListItr"
def TJ33 : u_T := fun k => match k with
  | 0 => ("java/util/LinkedList$ListItr", "lastReturned", "Ljava/util/LinkedList$Node;", false)
  | 1 => ("java/util/LinkedList$ListItr", "next", "Ljava/util/LinkedList$Node;", false)
  | 2 => ("java/util/LinkedList$ListItr", "nextIndex", "I", false)
  | 3 => ("java/util/LinkedList$ListItr", "expectedModCount", "I", false)
  | _ => ("java/util/LinkedList$ListItr", "this$0", "Ljava/util/LinkedList;", true)
def tyJ33 : Nat → FieldType := fun k => match k with
  | 0 => .object "java/util/LinkedList$Node"
  | 1 => .object "java/util/LinkedList$Node"
  | 2 => .int
  | 3 => .int
  | _ => .object "java/util/LinkedList"
abbrev wsJ330 : List Cond := u_ws RJ33 TJ33 5
theorem nmJ33 : ∀ a, a < 5 → ∀ b, b < 5 → a ≠ b → (TJ33 a).2.1 ≠ (TJ33 b).2.1 := by decide +kernel
theorem tyJ33_ok : ∀ k, k < 5 → parseFieldDescriptor (TJ33 k).2.2.1 = some (tyJ33 k) := by decide +kernel
abbrev cJ33_hasNext : ByteArray := prog_56_method_2_code
def yJ33_hasNext : MethodName := ⟨RJ33, "hasNext", "()Z"⟩
def dkwJ33_hasNext_0 : List UInt8 := [42, 180, 0, 33, 42, 180, 0, 1, 180, 0, 22, 162, 0, 7, 4, 167, 0, 4, 3, 172]
abbrev dktJ33_hasNext_0 : List UInt8 := dkwJ33_hasNext_0 ++ []
theorem dksJ33_hasNext_0 : cJ33_hasNext.data.toList.drop 0 = dktJ33_hasNext_0 := by decide +kernel
theorem dJ33_hasNext_0 : decode cJ33_hasNext 0 = .ok (.aload_n 0, 1) := dk_42 (dk_at dksJ33_hasNext_0 0 rfl rfl)
theorem dJ33_hasNext_1 : decode cJ33_hasNext 1 = .ok (.getfield 33, 3) := dk_180 0 33 (dk_at dksJ33_hasNext_0 1 rfl rfl)
theorem dJ33_hasNext_4 : decode cJ33_hasNext 4 = .ok (.aload_n 0, 1) := dk_42 (dk_at dksJ33_hasNext_0 4 rfl rfl)
theorem dJ33_hasNext_5 : decode cJ33_hasNext 5 = .ok (.getfield 1, 3) := dk_180 0 1 (dk_at dksJ33_hasNext_0 5 rfl rfl)
theorem dJ33_hasNext_8 : decode cJ33_hasNext 8 = .ok (.getfield 22, 3) := dk_180 0 22 (dk_at dksJ33_hasNext_0 8 rfl rfl)
theorem dJ33_hasNext_11 : decode cJ33_hasNext 11 = .ok (.if_icmp .ge 7, 3) := dk_162 0 7 (dk_at dksJ33_hasNext_0 11 rfl rfl)
theorem dJ33_hasNext_14 : decode cJ33_hasNext 14 = .ok (.iconst 1, 1) := dk_4 (dk_at dksJ33_hasNext_0 14 rfl rfl)
theorem dJ33_hasNext_15 : decode cJ33_hasNext 15 = .ok (.goto 4, 3) := dk_167 0 4 (dk_at dksJ33_hasNext_0 15 rfl rfl)
theorem dJ33_hasNext_18 : decode cJ33_hasNext 18 = .ok (.iconst 0, 1) := dk_3 (dk_at dksJ33_hasNext_0 18 rfl rfl)
theorem dJ33_hasNext_19 : decode cJ33_hasNext 19 = .ok (.ireturn, 1) := dk_172 (dk_at dksJ33_hasNext_0 19 rfl rfl)
abbrev cJ33_next : ByteArray := prog_56_method_3_code
def yJ33_next : MethodName := ⟨RJ33, "next", "()Ljava/lang/Object;"⟩
def dkwJ33_next_2 : List UInt8 := [42, 180, 0, 46, 180, 0, 52, 176]
abbrev dktJ33_next_2 : List UInt8 := dkwJ33_next_2 ++ []
def dkwJ33_next_1 : List UInt8 := [181, 0, 46, 42, 42, 180, 0, 29, 180, 0, 49, 181, 0, 29, 42, 89, 180, 0, 33, 4, 96, 181, 0, 33]
abbrev dktJ33_next_1 : List UInt8 := dkwJ33_next_1 ++ dktJ33_next_2
def dkwJ33_next_0 : List UInt8 := [42, 182, 0, 36, 42, 182, 0, 39, 154, 0, 11, 187, 0, 43, 89, 183, 0, 45, 191, 42, 42, 180, 0, 29]
abbrev dktJ33_next_0 : List UInt8 := dkwJ33_next_0 ++ dktJ33_next_1
theorem dksJ33_next_0 : cJ33_next.data.toList.drop 0 = dktJ33_next_0 := by decide +kernel
theorem dksJ33_next_1 : cJ33_next.data.toList.drop 24 = dktJ33_next_1 := dk_seg dksJ33_next_0 24 rfl rfl
theorem dksJ33_next_2 : cJ33_next.data.toList.drop 48 = dktJ33_next_2 := dk_seg dksJ33_next_1 24 rfl rfl
theorem dJ33_next_0 : decode cJ33_next 0 = .ok (.aload_n 0, 1) := dk_42 (dk_at dksJ33_next_0 0 rfl rfl)
theorem dJ33_next_1 : decode cJ33_next 1 = .ok (.invokevirtual 36, 3) := dk_182 0 36 (dk_at dksJ33_next_0 1 rfl rfl)
theorem dJ33_next_4 : decode cJ33_next 4 = .ok (.aload_n 0, 1) := dk_42 (dk_at dksJ33_next_0 4 rfl rfl)
theorem dJ33_next_5 : decode cJ33_next 5 = .ok (.invokevirtual 39, 3) := dk_182 0 39 (dk_at dksJ33_next_0 5 rfl rfl)
theorem dJ33_next_8 : decode cJ33_next 8 = .ok (.ifCond .ne 11, 3) := dk_154 0 11 (dk_at dksJ33_next_0 8 rfl rfl)
theorem dJ33_next_11 : decode cJ33_next 11 = .ok (.new 43, 3) := dk_187 0 43 (dk_at dksJ33_next_0 11 rfl rfl)
theorem dJ33_next_14 : decode cJ33_next 14 = .ok (.dup, 1) := dk_89 (dk_at dksJ33_next_0 14 rfl rfl)
theorem dJ33_next_15 : decode cJ33_next 15 = .ok (.invokespecial 45, 3) := dk_183 0 45 (dk_at dksJ33_next_0 15 rfl rfl)
theorem dJ33_next_18 : decode cJ33_next 18 = .ok (.athrow, 1) := dk_191 (dk_at dksJ33_next_0 18 rfl rfl)
theorem dJ33_next_19 : decode cJ33_next 19 = .ok (.aload_n 0, 1) := dk_42 (dk_at dksJ33_next_0 19 rfl rfl)
theorem dJ33_next_20 : decode cJ33_next 20 = .ok (.aload_n 0, 1) := dk_42 (dk_at dksJ33_next_0 20 rfl rfl)
theorem dJ33_next_21 : decode cJ33_next 21 = .ok (.getfield 29, 3) := dk_180 0 29 (dk_at dksJ33_next_0 21 rfl rfl)
theorem dJ33_next_24 : decode cJ33_next 24 = .ok (.putfield 46, 3) := dk_181 0 46 (dk_at dksJ33_next_1 0 rfl rfl)
theorem dJ33_next_27 : decode cJ33_next 27 = .ok (.aload_n 0, 1) := dk_42 (dk_at dksJ33_next_1 3 rfl rfl)
theorem dJ33_next_28 : decode cJ33_next 28 = .ok (.aload_n 0, 1) := dk_42 (dk_at dksJ33_next_1 4 rfl rfl)
theorem dJ33_next_29 : decode cJ33_next 29 = .ok (.getfield 29, 3) := dk_180 0 29 (dk_at dksJ33_next_1 5 rfl rfl)
theorem dJ33_next_32 : decode cJ33_next 32 = .ok (.getfield 49, 3) := dk_180 0 49 (dk_at dksJ33_next_1 8 rfl rfl)
theorem dJ33_next_35 : decode cJ33_next 35 = .ok (.putfield 29, 3) := dk_181 0 29 (dk_at dksJ33_next_1 11 rfl rfl)
theorem dJ33_next_38 : decode cJ33_next 38 = .ok (.aload_n 0, 1) := dk_42 (dk_at dksJ33_next_1 14 rfl rfl)
theorem dJ33_next_39 : decode cJ33_next 39 = .ok (.dup, 1) := dk_89 (dk_at dksJ33_next_1 15 rfl rfl)
theorem dJ33_next_40 : decode cJ33_next 40 = .ok (.getfield 33, 3) := dk_180 0 33 (dk_at dksJ33_next_1 16 rfl rfl)
theorem dJ33_next_43 : decode cJ33_next 43 = .ok (.iconst 1, 1) := dk_4 (dk_at dksJ33_next_1 19 rfl rfl)
theorem dJ33_next_44 : decode cJ33_next 44 = .ok (.iadd, 1) := dk_96 (dk_at dksJ33_next_1 20 rfl rfl)
theorem dJ33_next_45 : decode cJ33_next 45 = .ok (.putfield 33, 3) := dk_181 0 33 (dk_at dksJ33_next_1 21 rfl rfl)
theorem dJ33_next_48 : decode cJ33_next 48 = .ok (.aload_n 0, 1) := dk_42 (dk_at dksJ33_next_2 0 rfl rfl)
theorem dJ33_next_49 : decode cJ33_next 49 = .ok (.getfield 46, 3) := dk_180 0 46 (dk_at dksJ33_next_2 1 rfl rfl)
theorem dJ33_next_52 : decode cJ33_next 52 = .ok (.getfield 52, 3) := dk_180 0 52 (dk_at dksJ33_next_2 4 rfl rfl)
theorem dJ33_next_55 : decode cJ33_next 55 = .ok (.areturn, 1) := dk_176 (dk_at dksJ33_next_2 7 rfl rfl)
abbrev cJ33_checkForComodification : ByteArray := prog_56_method_12_code
def yJ33_checkForComodification : MethodName := ⟨RJ33, "checkForComodification", "()V"⟩
def dkwJ33_checkForComodification_0 : List UInt8 := [42, 180, 0, 1, 180, 0, 13, 42, 180, 0, 19, 159, 0, 11, 187, 0, 91, 89, 183, 0, 93, 191, 177]
abbrev dktJ33_checkForComodification_0 : List UInt8 := dkwJ33_checkForComodification_0 ++ []
theorem dksJ33_checkForComodification_0 : cJ33_checkForComodification.data.toList.drop 0 = dktJ33_checkForComodification_0 := by decide +kernel
theorem dJ33_checkForComodification_0 : decode cJ33_checkForComodification 0 = .ok (.aload_n 0, 1) := dk_42 (dk_at dksJ33_checkForComodification_0 0 rfl rfl)
theorem dJ33_checkForComodification_1 : decode cJ33_checkForComodification 1 = .ok (.getfield 1, 3) := dk_180 0 1 (dk_at dksJ33_checkForComodification_0 1 rfl rfl)
theorem dJ33_checkForComodification_4 : decode cJ33_checkForComodification 4 = .ok (.getfield 13, 3) := dk_180 0 13 (dk_at dksJ33_checkForComodification_0 4 rfl rfl)
theorem dJ33_checkForComodification_7 : decode cJ33_checkForComodification 7 = .ok (.aload_n 0, 1) := dk_42 (dk_at dksJ33_checkForComodification_0 7 rfl rfl)
theorem dJ33_checkForComodification_8 : decode cJ33_checkForComodification 8 = .ok (.getfield 19, 3) := dk_180 0 19 (dk_at dksJ33_checkForComodification_0 8 rfl rfl)
theorem dJ33_checkForComodification_11 : decode cJ33_checkForComodification 11 = .ok (.if_icmp .eq 11, 3) := dk_159 0 11 (dk_at dksJ33_checkForComodification_0 11 rfl rfl)
theorem dJ33_checkForComodification_14 : decode cJ33_checkForComodification 14 = .ok (.new 91, 3) := dk_187 0 91 (dk_at dksJ33_checkForComodification_0 14 rfl rfl)
theorem dJ33_checkForComodification_17 : decode cJ33_checkForComodification 17 = .ok (.dup, 1) := dk_89 (dk_at dksJ33_checkForComodification_0 17 rfl rfl)
theorem dJ33_checkForComodification_18 : decode cJ33_checkForComodification 18 = .ok (.invokespecial 93, 3) := dk_183 0 93 (dk_at dksJ33_checkForComodification_0 18 rfl rfl)
theorem dJ33_checkForComodification_21 : decode cJ33_checkForComodification 21 = .ok (.athrow, 1) := dk_191 (dk_at dksJ33_checkForComodification_0 21 rfl rfl)
theorem dJ33_checkForComodification_22 : decode cJ33_checkForComodification 22 = .ok (.return_, 1) := dk_177 (dk_at dksJ33_checkForComodification_0 22 rfl rfl)
abbrev cJ33_init : ByteArray := prog_56_method_1_code
def yJ33_init : MethodName := ⟨RJ33, "<init>", "(Ljava/util/LinkedList;I)V"⟩
def dkwJ33_init_1 : List UInt8 := [180, 0, 22, 160, 0, 7, 1, 167, 0, 8, 43, 28, 182, 0, 25, 181, 0, 29, 42, 28, 181, 0, 33, 177]
abbrev dktJ33_init_1 : List UInt8 := dkwJ33_init_1 ++ []
def dkwJ33_init_0 : List UInt8 := [42, 43, 181, 0, 1, 42, 183, 0, 7, 42, 42, 180, 0, 1, 180, 0, 13, 181, 0, 19, 42, 28, 43]
abbrev dktJ33_init_0 : List UInt8 := dkwJ33_init_0 ++ dktJ33_init_1
theorem dksJ33_init_0 : cJ33_init.data.toList.drop 0 = dktJ33_init_0 := by decide +kernel
theorem dksJ33_init_1 : cJ33_init.data.toList.drop 23 = dktJ33_init_1 := dk_seg dksJ33_init_0 23 rfl rfl
theorem dJ33_init_0 : decode cJ33_init 0 = .ok (.aload_n 0, 1) := dk_42 (dk_at dksJ33_init_0 0 rfl rfl)
theorem dJ33_init_1 : decode cJ33_init 1 = .ok (.aload_n 1, 1) := dk_43 (dk_at dksJ33_init_0 1 rfl rfl)
theorem dJ33_init_2 : decode cJ33_init 2 = .ok (.putfield 1, 3) := dk_181 0 1 (dk_at dksJ33_init_0 2 rfl rfl)
theorem dJ33_init_5 : decode cJ33_init 5 = .ok (.aload_n 0, 1) := dk_42 (dk_at dksJ33_init_0 5 rfl rfl)
theorem dJ33_init_6 : decode cJ33_init 6 = .ok (.invokespecial 7, 3) := dk_183 0 7 (dk_at dksJ33_init_0 6 rfl rfl)
theorem dJ33_init_9 : decode cJ33_init 9 = .ok (.aload_n 0, 1) := dk_42 (dk_at dksJ33_init_0 9 rfl rfl)
theorem dJ33_init_10 : decode cJ33_init 10 = .ok (.aload_n 0, 1) := dk_42 (dk_at dksJ33_init_0 10 rfl rfl)
theorem dJ33_init_11 : decode cJ33_init 11 = .ok (.getfield 1, 3) := dk_180 0 1 (dk_at dksJ33_init_0 11 rfl rfl)
theorem dJ33_init_14 : decode cJ33_init 14 = .ok (.getfield 13, 3) := dk_180 0 13 (dk_at dksJ33_init_0 14 rfl rfl)
theorem dJ33_init_17 : decode cJ33_init 17 = .ok (.putfield 19, 3) := dk_181 0 19 (dk_at dksJ33_init_0 17 rfl rfl)
theorem dJ33_init_20 : decode cJ33_init 20 = .ok (.aload_n 0, 1) := dk_42 (dk_at dksJ33_init_0 20 rfl rfl)
theorem dJ33_init_21 : decode cJ33_init 21 = .ok (.iload_n 2, 1) := dk_28 (dk_at dksJ33_init_0 21 rfl rfl)
theorem dJ33_init_22 : decode cJ33_init 22 = .ok (.aload_n 1, 1) := dk_43 (dk_at dksJ33_init_0 22 rfl rfl)
theorem dJ33_init_23 : decode cJ33_init 23 = .ok (.getfield 22, 3) := dk_180 0 22 (dk_at dksJ33_init_1 0 rfl rfl)
theorem dJ33_init_26 : decode cJ33_init 26 = .ok (.if_icmp .ne 7, 3) := dk_160 0 7 (dk_at dksJ33_init_1 3 rfl rfl)
theorem dJ33_init_29 : decode cJ33_init 29 = .ok (.aconst_null, 1) := dk_1 (dk_at dksJ33_init_1 6 rfl rfl)
theorem dJ33_init_30 : decode cJ33_init 30 = .ok (.goto 8, 3) := dk_167 0 8 (dk_at dksJ33_init_1 7 rfl rfl)
theorem dJ33_init_33 : decode cJ33_init 33 = .ok (.aload_n 1, 1) := dk_43 (dk_at dksJ33_init_1 10 rfl rfl)
theorem dJ33_init_34 : decode cJ33_init 34 = .ok (.iload_n 2, 1) := dk_28 (dk_at dksJ33_init_1 11 rfl rfl)
theorem dJ33_init_35 : decode cJ33_init 35 = .ok (.invokevirtual 25, 3) := dk_182 0 25 (dk_at dksJ33_init_1 12 rfl rfl)
theorem dJ33_init_38 : decode cJ33_init 38 = .ok (.putfield 29, 3) := dk_181 0 29 (dk_at dksJ33_init_1 15 rfl rfl)
theorem dJ33_init_41 : decode cJ33_init 41 = .ok (.aload_n 0, 1) := dk_42 (dk_at dksJ33_init_1 18 rfl rfl)
theorem dJ33_init_42 : decode cJ33_init 42 = .ok (.iload_n 2, 1) := dk_28 (dk_at dksJ33_init_1 19 rfl rfl)
theorem dJ33_init_43 : decode cJ33_init 43 = .ok (.putfield 33, 3) := dk_181 0 33 (dk_at dksJ33_init_1 20 rfl rfl)
theorem dJ33_init_46 : decode cJ33_init 46 = .ok (.return_, 1) := dk_177 (dk_at dksJ33_init_1 23 rfl rfl)
theorem q115 : (Jvm.Cond.initialized "java/util/LinkedList$ListItr") ∈ lw_all := lw_g (lw_at lw_m1 45 rfl) rfl
theorem q152 : (Jvm.Cond.fieldLink "java/util/LinkedList$ListItr" (13 : Nat) "java/util/LinkedList" "modCount" "I") ∈ lw_all := lw_g (lw_at lw_m1 82 rfl) rfl
theorem q176 : (Jvm.Cond.fieldLink "java/util/LinkedList$ListItr" (22 : Nat) "java/util/LinkedList" "size" "I") ∈ lw_all := lw_g (lw_at lw_m1 106 rfl) rfl
theorem q383 : (Jvm.Cond.castable "java/util/LinkedList$ListItr" "java/util/Iterator") ∈ lw_tbl := lw_at lw_m2 73 rfl
theorem q384 : (Jvm.Cond.selects "java/util/LinkedList$ListItr" ({ cls := "java/util/Iterator", name := "hasNext", desc := "()Z" } : Jvm.MethodName) ({ cls := "java/util/LinkedList$ListItr", name := "hasNext", desc := "()Z" } : Jvm.MethodName)) ∈ lw_all := lw_g (lw_at lw_m2 74 rfl) rfl
theorem q385 : (Jvm.Cond.unhidden "java/util/LinkedList$ListItr" "hasNext" "()Z") ∈ lw_tbl := lw_at lw_m2 75 rfl
theorem q386 : (Jvm.Cond.instanceMethod ({ cls := "java/util/LinkedList$ListItr", name := "hasNext", desc := "()Z" } : Jvm.MethodName)) ∈ lw_all := lw_g (lw_at lw_m2 76 rfl) rfl
theorem q387 : (Jvm.Cond.publicMethod ({ cls := "java/util/LinkedList$ListItr", name := "hasNext", desc := "()Z" } : Jvm.MethodName)) ∈ lw_tbl := lw_at lw_m2 77 rfl
theorem q388 : (Jvm.Cond.code ({ cls := "java/util/LinkedList$ListItr", name := "hasNext", desc := "()Z" } : Jvm.MethodName) prog_56_method_2_code (1 : Nat) (Option.some Jvm.ClassFile.FieldType.boolean)) ∈ lw_all := lw_g (lw_at lw_m2 78 rfl) rfl
theorem q806 : (Jvm.Cond.selects "java/util/LinkedList$ListItr" ({ cls := "java/lang/Object", name := "getClass", desc := "()Ljava/lang/Class;" } : Jvm.MethodName) ({ cls := "java/lang/Object", name := "getClass", desc := "()Ljava/lang/Class;" } : Jvm.MethodName)) ∈ lw_all := lw_g (lw_at lw_m4 16 rfl) rfl
theorem q867 : (Jvm.Cond.selects "java/util/LinkedList$ListItr" ({ cls := "java/util/Iterator", name := "next", desc := "()Ljava/lang/Object;" } : Jvm.MethodName) ({ cls := "java/util/LinkedList$ListItr", name := "next", desc := "()Ljava/lang/Object;" } : Jvm.MethodName)) ∈ lw_all := lw_g (lw_at lw_m4 77 rfl) rfl
theorem q868 : (Jvm.Cond.unhidden "java/util/LinkedList$ListItr" "next" "()Ljava/lang/Object;") ∈ lw_tbl := lw_at lw_m4 78 rfl
theorem q869 : (Jvm.Cond.instanceMethod ({ cls := "java/util/LinkedList$ListItr", name := "next", desc := "()Ljava/lang/Object;" } : Jvm.MethodName)) ∈ lw_all := lw_g (lw_at lw_m4 79 rfl) rfl
theorem q870 : (Jvm.Cond.publicMethod ({ cls := "java/util/LinkedList$ListItr", name := "next", desc := "()Ljava/lang/Object;" } : Jvm.MethodName)) ∈ lw_tbl := lw_at lw_m4 80 rfl
theorem q871 : (Jvm.Cond.code ({ cls := "java/util/LinkedList$ListItr", name := "next", desc := "()Ljava/lang/Object;" } : Jvm.MethodName) prog_56_method_3_code (1 : Nat) (Option.some (Jvm.ClassFile.FieldType.object "java/lang/Object"))) ∈ lw_all := lw_g (lw_at lw_m4 81 rfl) rfl
theorem q872 : (Jvm.Cond.methodLink "java/util/LinkedList$ListItr" (36 : Nat) ({ cls := "java/util/LinkedList$ListItr", name := "checkForComodification", desc := "()V" } : Jvm.MethodName)) ∈ lw_all := lw_g (lw_at lw_m4 82 rfl) rfl
theorem q873 : (Jvm.Cond.instanceMethod ({ cls := "java/util/LinkedList$ListItr", name := "checkForComodification", desc := "()V" } : Jvm.MethodName)) ∈ lw_all := lw_g (lw_at lw_m4 83 rfl) rfl
theorem q874 : (Jvm.Cond.selects "java/util/LinkedList$ListItr" ({ cls := "java/util/LinkedList$ListItr", name := "checkForComodification", desc := "()V" } : Jvm.MethodName) ({ cls := "java/util/LinkedList$ListItr", name := "checkForComodification", desc := "()V" } : Jvm.MethodName)) ∈ lw_all := lw_g (lw_at lw_m4 84 rfl) rfl
theorem q875 : (Jvm.Cond.code ({ cls := "java/util/LinkedList$ListItr", name := "checkForComodification", desc := "()V" } : Jvm.MethodName) prog_56_method_12_code (1 : Nat) (Option.none : Option Jvm.ClassFile.FieldType)) ∈ lw_all := lw_g (lw_at lw_m4 85 rfl) rfl
theorem q876 : (Jvm.Cond.methodLink "java/util/LinkedList$ListItr" (39 : Nat) ({ cls := "java/util/LinkedList$ListItr", name := "hasNext", desc := "()Z" } : Jvm.MethodName)) ∈ lw_all := lw_g (lw_at lw_m4 86 rfl) rfl
theorem q877 : (Jvm.Cond.classLink "java/util/LinkedList$ListItr" (43 : Nat) "java/util/NoSuchElementException") ∈ lw_all := lw_g (lw_at lw_m4 87 rfl) rfl
theorem q878 : (Jvm.Cond.methodLink "java/util/LinkedList$ListItr" (45 : Nat) ({ cls := "java/util/NoSuchElementException", name := "<init>", desc := "()V" } : Jvm.MethodName)) ∈ lw_all := lw_g (lw_at lw_m4 88 rfl) rfl
theorem q1109 : (Jvm.Cond.fieldLink "java/util/LinkedList$ListItr" (52 : Nat) "java/util/LinkedList$Node" "item" "Ljava/lang/Object;") ∈ lw_all := lw_g (lw_at lw_m5 79 rfl) rfl
theorem q1112 : (Jvm.Cond.fieldLink "java/util/LinkedList$ListItr" (49 : Nat) "java/util/LinkedList$Node" "next" "Ljava/util/LinkedList$Node;") ∈ lw_all := lw_g (lw_at lw_m5 82 rfl) rfl
theorem q1654 : (Jvm.Cond.instantiable "java/util/LinkedList$ListItr" (5 : Nat)) ∈ lw_all := lw_g (lw_at lw_m7 144 rfl) rfl
theorem q1656 : (Jvm.Cond.instanceMethod ({ cls := "java/util/LinkedList$ListItr", name := "<init>", desc := "(Ljava/util/LinkedList;I)V" } : Jvm.MethodName)) ∈ lw_all := lw_g (lw_at lw_m7 146 rfl) rfl
theorem q1657 : (Jvm.Cond.code ({ cls := "java/util/LinkedList$ListItr", name := "<init>", desc := "(Ljava/util/LinkedList;I)V" } : Jvm.MethodName) prog_56_method_1_code (3 : Nat) (Option.none : Option Jvm.ClassFile.FieldType)) ∈ lw_all := lw_g (lw_at lw_m7 147 rfl) rfl
theorem q1658 : (Jvm.Cond.methodLink "java/util/LinkedList$ListItr" (7 : Nat) ({ cls := "java/lang/Object", name := "<init>", desc := "()V" } : Jvm.MethodName)) ∈ lw_all := lw_g (lw_at lw_m7 148 rfl) rfl
theorem q1659 : (Jvm.Cond.methodLink "java/util/LinkedList$ListItr" (25 : Nat) ({ cls := "java/util/LinkedList", name := "node", desc := "(I)Ljava/util/LinkedList$Node;" } : Jvm.MethodName)) ∈ lw_all := lw_g (lw_at lw_m7 149 rfl) rfl
theorem q1660 : (Jvm.Cond.fieldLink "java/util/LinkedList$ListItr" (46 : Nat) "java/util/LinkedList$ListItr" "lastReturned" "Ljava/util/LinkedList$Node;") ∈ lw_all := lw_g (lw_at lw_m7 150 rfl) rfl
theorem q1661 : (Jvm.Cond.fieldLink "java/util/LinkedList$ListItr" (29 : Nat) "java/util/LinkedList$ListItr" "next" "Ljava/util/LinkedList$Node;") ∈ lw_all := lw_g (lw_at lw_m7 151 rfl) rfl
theorem q1662 : (Jvm.Cond.fieldLink "java/util/LinkedList$ListItr" (33 : Nat) "java/util/LinkedList$ListItr" "nextIndex" "I") ∈ lw_all := lw_g (lw_at lw_m7 152 rfl) rfl
theorem q1663 : (Jvm.Cond.fieldLink "java/util/LinkedList$ListItr" (19 : Nat) "java/util/LinkedList$ListItr" "expectedModCount" "I") ∈ lw_all := lw_g (lw_at lw_m7 153 rfl) rfl
theorem q1664 : (Jvm.Cond.fieldLink "java/util/LinkedList$ListItr" (1 : Nat) "java/util/LinkedList$ListItr" "this$0" "Ljava/util/LinkedList;") ∈ lw_all := lw_g (lw_at lw_m7 154 rfl) rfl
theorem q1665 : (Jvm.Cond.lays "java/util/LinkedList$ListItr" "java/util/LinkedList$ListItr" "lastReturned" "Ljava/util/LinkedList$Node;") ∈ lw_all := lw_g (lw_at lw_m7 155 rfl) rfl
theorem q1666 : (Jvm.Cond.soleField "java/util/LinkedList$ListItr" "lastReturned") ∈ lw_all := lw_g (lw_at lw_m7 156 rfl) rfl
theorem q1667 : (Jvm.Cond.lays "java/util/LinkedList$ListItr" "java/util/LinkedList$ListItr" "next" "Ljava/util/LinkedList$Node;") ∈ lw_all := lw_g (lw_at lw_m7 157 rfl) rfl
theorem q1668 : (Jvm.Cond.soleField "java/util/LinkedList$ListItr" "next") ∈ lw_all := lw_g (lw_at lw_m7 158 rfl) rfl
theorem q1669 : (Jvm.Cond.lays "java/util/LinkedList$ListItr" "java/util/LinkedList$ListItr" "nextIndex" "I") ∈ lw_all := lw_g (lw_at lw_m7 159 rfl) rfl
theorem q1670 : (Jvm.Cond.soleField "java/util/LinkedList$ListItr" "nextIndex") ∈ lw_all := lw_g (lw_at lw_m7 160 rfl) rfl
theorem q1671 : (Jvm.Cond.lays "java/util/LinkedList$ListItr" "java/util/LinkedList$ListItr" "expectedModCount" "I") ∈ lw_all := lw_g (lw_at lw_m7 161 rfl) rfl
theorem q1672 : (Jvm.Cond.soleField "java/util/LinkedList$ListItr" "expectedModCount") ∈ lw_all := lw_g (lw_at lw_m7 162 rfl) rfl
theorem q1673 : (Jvm.Cond.laysFinal "java/util/LinkedList$ListItr" "java/util/LinkedList$ListItr" "this$0" "Ljava/util/LinkedList;") ∈ lw_all := lw_g (lw_at lw_m7 163 rfl) rfl
theorem q1674 : (Jvm.Cond.soleField "java/util/LinkedList$ListItr" "this$0") ∈ lw_all := lw_g (lw_at lw_m7 164 rfl) rfl
theorem q1675 : (Jvm.Cond.superclass "java/util/LinkedList$ListItr" "java/lang/Object") ∈ lw_all := lw_g (lw_at lw_m7 165 rfl) rfl
theorem q2725 : (Jvm.Cond.selects "java/util/LinkedList$ListItr" ({ cls := "java/util/LinkedList$ListItr", name := "hasNext", desc := "()Z" } : Jvm.MethodName) ({ cls := "java/util/LinkedList$ListItr", name := "hasNext", desc := "()Z" } : Jvm.MethodName)) ∈ lw_all := lw_g (lw_at lw_m12 15 rfl) rfl
theorem q2760 : (Jvm.Cond.castable "java/util/LinkedList$ListItr" "java/lang/Object") ∈ lw_tbl := lw_at lw_m12 50 rfl
theorem in_J33 : ∀ w ∈ wsJ330, w ∈ lw_all := lw_in wsJ330 [1665, 1667, 1669, 1671, 1673] (by decide +kernel) (by decide +kernel)

/-! java/lang/ArithmeticException -/
set_option maxRecDepth 100000
def RJ34 : String := "java/lang/ArithmeticException"
def TJ34 : u_T := fun k => match k with
  | 0 => ("java/lang/Throwable", "backtrace", "Ljava/lang/Object;", false)
  | 1 => ("java/lang/Throwable", "detailMessage", "Ljava/lang/String;", false)
  | 2 => ("java/lang/Throwable", "cause", "Ljava/lang/Throwable;", false)
  | 3 => ("java/lang/Throwable", "stackTrace", "[Ljava/lang/StackTraceElement;", false)
  | 4 => ("java/lang/Throwable", "depth", "I", false)
  | _ => ("java/lang/Throwable", "suppressedExceptions", "Ljava/util/List;", false)
def tyJ34 : Nat → FieldType := fun k => match k with
  | 0 => .object "java/lang/Object"
  | 1 => .object "java/lang/String"
  | 2 => .object "java/lang/Throwable"
  | 3 => .array (.object "java/lang/StackTraceElement")
  | 4 => .int
  | _ => .object "java/util/List"
abbrev wsJ340 : List Cond := u_ws RJ34 TJ34 6
theorem nmJ34 : ∀ a, a < 6 → ∀ b, b < 6 → a ≠ b → (TJ34 a).2.1 ≠ (TJ34 b).2.1 := by decide +kernel
theorem tyJ34_ok : ∀ k, k < 6 → parseFieldDescriptor (TJ34 k).2.2.1 = some (tyJ34 k) := by decide +kernel
abbrev cJ34_init : ByteArray := prog_15_method_2_code
def yJ34_init : MethodName := ⟨RJ34, "<init>", "(Ljava/lang/String;)V"⟩
def dkwJ34_init_0 : List UInt8 := [42, 43, 183, 0, 7, 177]
abbrev dktJ34_init_0 : List UInt8 := dkwJ34_init_0 ++ []
theorem dksJ34_init_0 : cJ34_init.data.toList.drop 0 = dktJ34_init_0 := by decide +kernel
theorem dJ34_init_0 : decode cJ34_init 0 = .ok (.aload_n 0, 1) := dk_42 (dk_at dksJ34_init_0 0 rfl rfl)
theorem dJ34_init_1 : decode cJ34_init 1 = .ok (.aload_n 1, 1) := dk_43 (dk_at dksJ34_init_0 1 rfl rfl)
theorem dJ34_init_2 : decode cJ34_init 2 = .ok (.invokespecial 7, 3) := dk_183 0 7 (dk_at dksJ34_init_0 2 rfl rfl)
theorem dJ34_init_5 : decode cJ34_init 5 = .ok (.return_, 1) := dk_177 (dk_at dksJ34_init_0 5 rfl rfl)
abbrev cJ34_init_2 : ByteArray := prog_15_method_1_code
def yJ34_init_2 : MethodName := ⟨RJ34, "<init>", "()V"⟩
theorem dJ34_init_2_0 : decode cJ34_init_2 0 = .ok (.aload_n 0, 1) := by decide +kernel
theorem dJ34_init_2_1 : decode cJ34_init_2 1 = .ok (.invokespecial 1, 3) := by decide +kernel
theorem dJ34_init_2_4 : decode cJ34_init_2 4 = .ok (.return_, 1) := by decide +kernel
theorem q116 : (Jvm.Cond.initialized "java/lang/ArithmeticException") ∈ lw_all := lw_g (lw_at lw_m1 46 rfl) rfl
theorem q465 : (Jvm.Cond.selects "java/lang/ArithmeticException" ({ cls := "java/lang/Throwable", name := "fillInStackTrace", desc := "()Ljava/lang/Throwable;" } : Jvm.MethodName) ({ cls := "java/lang/Throwable", name := "fillInStackTrace", desc := "()Ljava/lang/Throwable;" } : Jvm.MethodName)) ∈ lw_all := lw_g (lw_at lw_m2 155 rfl) rfl
theorem q768 : (Jvm.Cond.selects "java/lang/ArithmeticException" ({ cls := "java/lang/Throwable", name := "toString", desc := "()Ljava/lang/String;" } : Jvm.MethodName) ({ cls := "java/lang/Throwable", name := "toString", desc := "()Ljava/lang/String;" } : Jvm.MethodName)) ∈ lw_all := lw_g (lw_at lw_m3 218 rfl) rfl
theorem q789 : (Jvm.Cond.selects "java/lang/ArithmeticException" ({ cls := "java/lang/Object", name := "getClass", desc := "()Ljava/lang/Class;" } : Jvm.MethodName) ({ cls := "java/lang/Object", name := "getClass", desc := "()Ljava/lang/Class;" } : Jvm.MethodName)) ∈ lw_all := lw_g (lw_at lw_m3 239 rfl) rfl
theorem q815 : (Jvm.Cond.selects "java/lang/ArithmeticException" ({ cls := "java/lang/Throwable", name := "getLocalizedMessage", desc := "()Ljava/lang/String;" } : Jvm.MethodName) ({ cls := "java/lang/Throwable", name := "getLocalizedMessage", desc := "()Ljava/lang/String;" } : Jvm.MethodName)) ∈ lw_all := lw_g (lw_at lw_m4 25 rfl) rfl
theorem q828 : (Jvm.Cond.selects "java/lang/ArithmeticException" ({ cls := "java/lang/Throwable", name := "getMessage", desc := "()Ljava/lang/String;" } : Jvm.MethodName) ({ cls := "java/lang/Throwable", name := "getMessage", desc := "()Ljava/lang/String;" } : Jvm.MethodName)) ∈ lw_all := lw_g (lw_at lw_m4 38 rfl) rfl
theorem q2075 : (Jvm.Cond.instantiable "java/lang/ArithmeticException" (6 : Nat)) ∈ lw_all := lw_g (lw_at lw_m9 85 rfl) rfl
theorem q2076 : (Jvm.Cond.instanceMethod ({ cls := "java/lang/ArithmeticException", name := "<init>", desc := "(Ljava/lang/String;)V" } : Jvm.MethodName)) ∈ lw_all := lw_g (lw_at lw_m9 86 rfl) rfl
theorem q2077 : (Jvm.Cond.code ({ cls := "java/lang/ArithmeticException", name := "<init>", desc := "(Ljava/lang/String;)V" } : Jvm.MethodName) prog_15_method_2_code (2 : Nat) (Option.none : Option Jvm.ClassFile.FieldType)) ∈ lw_all := lw_g (lw_at lw_m9 87 rfl) rfl
theorem q2078 : (Jvm.Cond.methodLink "java/lang/ArithmeticException" (7 : Nat) ({ cls := "java/lang/RuntimeException", name := "<init>", desc := "(Ljava/lang/String;)V" } : Jvm.MethodName)) ∈ lw_all := lw_g (lw_at lw_m9 88 rfl) rfl
theorem q2079 : (Jvm.Cond.lays "java/lang/ArithmeticException" "java/lang/Throwable" "backtrace" "Ljava/lang/Object;") ∈ lw_all := lw_g (lw_at lw_m9 89 rfl) rfl
theorem q2080 : (Jvm.Cond.lays "java/lang/ArithmeticException" "java/lang/Throwable" "detailMessage" "Ljava/lang/String;") ∈ lw_all := lw_g (lw_at lw_m9 90 rfl) rfl
theorem q2081 : (Jvm.Cond.lays "java/lang/ArithmeticException" "java/lang/Throwable" "cause" "Ljava/lang/Throwable;") ∈ lw_all := lw_g (lw_at lw_m9 91 rfl) rfl
theorem q2082 : (Jvm.Cond.lays "java/lang/ArithmeticException" "java/lang/Throwable" "stackTrace" "[Ljava/lang/StackTraceElement;") ∈ lw_all := lw_g (lw_at lw_m9 92 rfl) rfl
theorem q2083 : (Jvm.Cond.lays "java/lang/ArithmeticException" "java/lang/Throwable" "depth" "I") ∈ lw_all := lw_g (lw_at lw_m9 93 rfl) rfl
theorem q2084 : (Jvm.Cond.lays "java/lang/ArithmeticException" "java/lang/Throwable" "suppressedExceptions" "Ljava/util/List;") ∈ lw_all := lw_g (lw_at lw_m9 94 rfl) rfl
theorem q2085 : (Jvm.Cond.superclass "java/lang/ArithmeticException" "java/lang/RuntimeException") ∈ lw_all := lw_g (lw_at lw_m9 95 rfl) rfl
theorem q2086 : (Jvm.Cond.castable "java/lang/ArithmeticException" "java/lang/ArithmeticException") ∈ lw_tbl := lw_at lw_m9 96 rfl
theorem q2087 : (Jvm.Cond.selects "java/lang/ArithmeticException" ({ cls := "java/lang/Throwable", name := "fillInStackTrace", desc := "(I)Ljava/lang/Throwable;" } : Jvm.MethodName) ({ cls := "java/lang/Throwable", name := "fillInStackTrace", desc := "(I)Ljava/lang/Throwable;" } : Jvm.MethodName)) ∈ lw_all := lw_g (lw_at lw_m9 97 rfl) rfl
theorem q2097 : (Jvm.Cond.instanceMethod ({ cls := "java/lang/ArithmeticException", name := "<init>", desc := "()V" } : Jvm.MethodName)) ∈ lw_all := lw_g (lw_at lw_m9 107 rfl) rfl
theorem q2098 : (Jvm.Cond.code ({ cls := "java/lang/ArithmeticException", name := "<init>", desc := "()V" } : Jvm.MethodName) prog_15_method_1_code (1 : Nat) (Option.none : Option Jvm.ClassFile.FieldType)) ∈ lw_all := lw_g (lw_at lw_m9 108 rfl) rfl
theorem q2099 : (Jvm.Cond.methodLink "java/lang/ArithmeticException" (1 : Nat) ({ cls := "java/lang/RuntimeException", name := "<init>", desc := "()V" } : Jvm.MethodName)) ∈ lw_all := lw_g (lw_at lw_m9 109 rfl) rfl
theorem q2761 : (Jvm.Cond.castable "java/lang/ArithmeticException" "java/lang/Object") ∈ lw_tbl := lw_at lw_m12 51 rfl
theorem in_J34 : ∀ w ∈ wsJ340, w ∈ lw_all := lw_in wsJ340 [2079, 2080, 2081, 2082, 2083, 2084] (by decide +kernel) (by decide +kernel)

/-! java/lang/Object -/
set_option maxRecDepth 100000
def RJ35 : String := "java/lang/Object"
abbrev cJ35_init : ByteArray := object_method_1_code
def yJ35_init : MethodName := ⟨RJ35, "<init>", "()V"⟩
theorem dJ35_init_0 : decode cJ35_init 0 = .ok (.return_, 1) := by decide +kernel
theorem q125 : (Jvm.Cond.instanceMethod ({ cls := "java/lang/Object", name := "<init>", desc := "()V" } : Jvm.MethodName)) ∈ lw_all := lw_g (lw_at lw_m1 55 rfl) rfl
theorem q126 : (Jvm.Cond.code ({ cls := "java/lang/Object", name := "<init>", desc := "()V" } : Jvm.MethodName) object_method_1_code (1 : Nat) (Option.none : Option Jvm.ClassFile.FieldType)) ∈ lw_all := lw_g (lw_at lw_m1 56 rfl) rfl
theorem q519 : (Jvm.Cond.native ({ cls := "java/lang/Object", name := "clone", desc := "()Ljava/lang/Object;" } : Jvm.MethodName)) ∈ lw_all := lw_g (lw_at lw_m2 209 rfl) rfl
theorem q520 : (Jvm.Cond.instanceMethod ({ cls := "java/lang/Object", name := "clone", desc := "()Ljava/lang/Object;" } : Jvm.MethodName)) ∈ lw_all := lw_g (lw_at lw_m2 210 rfl) rfl
theorem q777 : (Jvm.Cond.instanceMethod ({ cls := "java/lang/Object", name := "getClass", desc := "()Ljava/lang/Class;" } : Jvm.MethodName)) ∈ lw_all := lw_g (lw_at lw_m3 227 rfl) rfl
theorem q778 : (Jvm.Cond.sameMethod "java/lang/Object" "java/lang/Object" "getClass" "()Ljava/lang/Class;") ∈ lw_all := lw_g (lw_at lw_m3 228 rfl) rfl
theorem q809 : (Jvm.Cond.native ({ cls := "java/lang/Object", name := "getClass", desc := "()Ljava/lang/Class;" } : Jvm.MethodName)) ∈ lw_all := lw_g (lw_at lw_m4 19 rfl) rfl
theorem q2732 : (Jvm.Cond.initialized "java/lang/Object") ∈ lw_all := lw_g (lw_at lw_m12 22 rfl) rfl
theorem q2767 : (Jvm.Cond.declares ({ cls := "java/lang/Object", name := "getClass", desc := "()Ljava/lang/Class;" } : Jvm.MethodName)) ∈ lw_tbl := lw_at lw_m12 57 rfl

/-! java/lang/System$2 -/
set_option maxRecDepth 100000
def RJ36 : String := "java/lang/System$2"
abbrev cJ36_getUTF16Char : ByteArray := prog_36_method_45_code
def yJ36_getUTF16Char : MethodName := ⟨RJ36, "getUTF16Char", "([BI)C"⟩
def dkwJ36_getUTF16Char_0 : List UInt8 := [43, 28, 184, 0, 185, 172]
abbrev dktJ36_getUTF16Char_0 : List UInt8 := dkwJ36_getUTF16Char_0 ++ []
theorem dksJ36_getUTF16Char_0 : cJ36_getUTF16Char.data.toList.drop 0 = dktJ36_getUTF16Char_0 := by decide +kernel
theorem dJ36_getUTF16Char_0 : decode cJ36_getUTF16Char 0 = .ok (.aload_n 1, 1) := dk_43 (dk_at dksJ36_getUTF16Char_0 0 rfl rfl)
theorem dJ36_getUTF16Char_1 : decode cJ36_getUTF16Char 1 = .ok (.iload_n 2, 1) := dk_28 (dk_at dksJ36_getUTF16Char_0 1 rfl rfl)
theorem dJ36_getUTF16Char_2 : decode cJ36_getUTF16Char 2 = .ok (.invokestatic 185, 3) := dk_184 0 185 (dk_at dksJ36_getUTF16Char_0 2 rfl rfl)
theorem dJ36_getUTF16Char_5 : decode cJ36_getUTF16Char 5 = .ok (.ireturn, 1) := dk_172 (dk_at dksJ36_getUTF16Char_0 5 rfl rfl)
theorem q797 : (Jvm.Cond.selects "java/lang/System$2" ({ cls := "java/lang/Object", name := "getClass", desc := "()Ljava/lang/Class;" } : Jvm.MethodName) ({ cls := "java/lang/Object", name := "getClass", desc := "()Ljava/lang/Class;" } : Jvm.MethodName)) ∈ lw_all := lw_g (lw_at lw_m4 7 rfl) rfl
theorem q1167 : (Jvm.Cond.castable "java/lang/System$2" "jdk/internal/access/JavaLangAccess") ∈ lw_tbl := lw_at lw_m5 137 rfl
theorem q1168 : (Jvm.Cond.selects "java/lang/System$2" ({ cls := "jdk/internal/access/JavaLangAccess", name := "getUTF16Char", desc := "([BI)C" } : Jvm.MethodName) ({ cls := "java/lang/System$2", name := "getUTF16Char", desc := "([BI)C" } : Jvm.MethodName)) ∈ lw_all := lw_g (lw_at lw_m5 138 rfl) rfl
theorem q1169 : (Jvm.Cond.unhidden "java/lang/System$2" "getUTF16Char" "([BI)C") ∈ lw_tbl := lw_at lw_m5 139 rfl
theorem q1170 : (Jvm.Cond.instanceMethod ({ cls := "java/lang/System$2", name := "getUTF16Char", desc := "([BI)C" } : Jvm.MethodName)) ∈ lw_all := lw_g (lw_at lw_m5 140 rfl) rfl
theorem q1171 : (Jvm.Cond.publicMethod ({ cls := "java/lang/System$2", name := "getUTF16Char", desc := "([BI)C" } : Jvm.MethodName)) ∈ lw_tbl := lw_at lw_m5 141 rfl
theorem q1172 : (Jvm.Cond.code ({ cls := "java/lang/System$2", name := "getUTF16Char", desc := "([BI)C" } : Jvm.MethodName) prog_36_method_45_code (3 : Nat) (Option.some Jvm.ClassFile.FieldType.char)) ∈ lw_all := lw_g (lw_at lw_m5 142 rfl) rfl
theorem q1173 : (Jvm.Cond.methodLink "java/lang/System$2" (185 : Nat) ({ cls := "java/lang/StringUTF16", name := "getChar", desc := "([BI)C" } : Jvm.MethodName)) ∈ lw_all := lw_g (lw_at lw_m5 143 rfl) rfl
theorem q2751 : (Jvm.Cond.castable "java/lang/System$2" "java/lang/Object") ∈ lw_tbl := lw_at lw_m12 41 rfl

theorem q231 : (Jvm.Cond.arrayOver (Jvm.ClassFile.FieldType.object "java/lang/Object")) ∈ lw_tbl := lw_at lw_m1 161 rfl
set_option maxRecDepth 100000
theorem q273 : (Jvm.Cond.arrayClass Jvm.ClassFile.FieldType.byte) ∈ lw_all := lw_g (lw_at lw_m1 203 rfl) rfl
theorem q356 : (Jvm.Cond.arrayClass Jvm.ClassFile.FieldType.int) ∈ lw_all := lw_g (lw_at lw_m2 46 rfl) rfl
theorem q997 : (Jvm.Cond.arrayClass Jvm.ClassFile.FieldType.long) ∈ lw_all := lw_g (lw_at lw_m4 207 rfl) rfl
theorem q2157 : (Jvm.Cond.arrayOver (Jvm.ClassFile.FieldType.object "java/lang/String")) ∈ lw_tbl := lw_at lw_m9 167 rfl
theorem q2378 : (Jvm.Cond.arrayClass Jvm.ClassFile.FieldType.char) ∈ lw_all := lw_g (lw_at lw_m10 148 rfl) rfl
theorem q2715 : (Jvm.Cond.arrayClass Jvm.ClassFile.FieldType.double) ∈ lw_all := lw_g (lw_at lw_m12 5 rfl) rfl
theorem q2775 : (Jvm.Cond.arrayClass Jvm.ClassFile.FieldType.short) ∈ lw_all := lw_g (lw_at lw_m12 65 rfl) rfl

theorem q94 : (Jvm.Cond.initialized "java/lang/System") ∈ lw_all := lw_g (lw_at lw_m1 24 rfl) rfl
set_option maxRecDepth 100000
theorem q528 : (Jvm.Cond.static ({ cls := "java/lang/System", name := "arraycopy", desc := "(Ljava/lang/Object;ILjava/lang/Object;II)V" } : Jvm.MethodName)) ∈ lw_all := lw_g (lw_at lw_m2 218 rfl) rfl
theorem q529 : (Jvm.Cond.native ({ cls := "java/lang/System", name := "arraycopy", desc := "(Ljava/lang/Object;ILjava/lang/Object;II)V" } : Jvm.MethodName)) ∈ lw_all := lw_g (lw_at lw_m2 219 rfl) rfl

theorem q108 : (Jvm.Cond.initialized "java/lang/Integer$IntegerCache") ∈ lw_all := lw_g (lw_at lw_m1 38 rfl) rfl
set_option maxRecDepth 100000
theorem q1437 : (Jvm.Cond.laysStatic "java/lang/Integer$IntegerCache" "high" "I") ∈ lw_tbl := lw_at lw_m6 167 rfl
theorem q1439 : (Jvm.Cond.laysStatic "java/lang/Integer$IntegerCache" "cache" "[Ljava/lang/Integer;") ∈ lw_tbl := lw_at lw_m6 169 rfl

theorem q113 : (Jvm.Cond.initialized "java/util/AbstractList$ListItr") ∈ lw_all := lw_g (lw_at lw_m1 43 rfl) rfl
set_option maxRecDepth 100000
theorem q361 : (Jvm.Cond.castable "java/util/AbstractList$ListItr" "java/util/Iterator") ∈ lw_tbl := lw_at lw_m2 51 rfl
theorem q362 : (Jvm.Cond.selects "java/util/AbstractList$ListItr" ({ cls := "java/util/Iterator", name := "hasNext", desc := "()Z" } : Jvm.MethodName) ({ cls := "java/util/AbstractList$Itr", name := "hasNext", desc := "()Z" } : Jvm.MethodName)) ∈ lw_all := lw_g (lw_at lw_m2 52 rfl) rfl
theorem q363 : (Jvm.Cond.unhidden "java/util/AbstractList$ListItr" "hasNext" "()Z") ∈ lw_tbl := lw_at lw_m2 53 rfl
theorem q393 : (Jvm.Cond.selects "java/util/AbstractList$ListItr" ({ cls := "java/util/Iterator", name := "next", desc := "()Ljava/lang/Object;" } : Jvm.MethodName) ({ cls := "java/util/AbstractList$Itr", name := "next", desc := "()Ljava/lang/Object;" } : Jvm.MethodName)) ∈ lw_all := lw_g (lw_at lw_m2 83 rfl) rfl
theorem q394 : (Jvm.Cond.unhidden "java/util/AbstractList$ListItr" "next" "()Ljava/lang/Object;") ∈ lw_tbl := lw_at lw_m2 84 rfl
theorem q401 : (Jvm.Cond.selects "java/util/AbstractList$ListItr" ({ cls := "java/util/AbstractList$Itr", name := "checkForComodification", desc := "()V" } : Jvm.MethodName) ({ cls := "java/util/AbstractList$Itr", name := "checkForComodification", desc := "()V" } : Jvm.MethodName)) ∈ lw_all := lw_g (lw_at lw_m2 91 rfl) rfl
theorem q799 : (Jvm.Cond.selects "java/util/AbstractList$ListItr" ({ cls := "java/lang/Object", name := "getClass", desc := "()Ljava/lang/Class;" } : Jvm.MethodName) ({ cls := "java/lang/Object", name := "getClass", desc := "()Ljava/lang/Class;" } : Jvm.MethodName)) ∈ lw_all := lw_g (lw_at lw_m4 9 rfl) rfl
theorem q2758 : (Jvm.Cond.castable "java/util/AbstractList$ListItr" "java/lang/Object") ∈ lw_tbl := lw_at lw_m12 48 rfl
theorem q2780 : (Jvm.Cond.fieldLink "java/util/AbstractList$ListItr" (1 : Nat) "java/util/AbstractList$ListItr" "this$0" "Ljava/util/AbstractList;") ∈ lw_all := lw_g (lw_at lw_m12 70 rfl) rfl
theorem q2781 : (Jvm.Cond.fieldLink "java/util/AbstractList$ListItr" (13 : Nat) "java/util/AbstractList$ListItr" "cursor" "I") ∈ lw_all := lw_g (lw_at lw_m12 71 rfl) rfl
theorem q2782 : (Jvm.Cond.sameField "java/util/AbstractList$ListItr" "java/util/AbstractList$Itr" "cursor" "I") ∈ lw_all := lw_g (lw_at lw_m12 72 rfl) rfl

theorem q359 : (Jvm.Cond.interfaceMethod "java/util/Iterator" "java/util/Iterator" "hasNext" "()Z") ∈ lw_tbl := lw_at lw_m2 49 rfl
set_option maxRecDepth 100000
theorem q360 : (Jvm.Cond.declares ({ cls := "java/util/Iterator", name := "hasNext", desc := "()Z" } : Jvm.MethodName)) ∈ lw_tbl := lw_at lw_m2 50 rfl
theorem q391 : (Jvm.Cond.interfaceMethod "java/util/Iterator" "java/util/Iterator" "next" "()Ljava/lang/Object;") ∈ lw_tbl := lw_at lw_m2 81 rfl
theorem q392 : (Jvm.Cond.declares ({ cls := "java/util/Iterator", name := "next", desc := "()Ljava/lang/Object;" } : Jvm.MethodName)) ∈ lw_tbl := lw_at lw_m2 82 rfl

theorem q518 : (Jvm.Cond.sameMethod "[B" "java/lang/Object" "clone" "()Ljava/lang/Object;") ∈ lw_all := lw_g (lw_at lw_m2 208 rfl) rfl
set_option maxRecDepth 100000
theorem q521 : (Jvm.Cond.selects "[B" ({ cls := "[B", name := "clone", desc := "()Ljava/lang/Object;" } : Jvm.MethodName) ({ cls := "java/lang/Object", name := "clone", desc := "()Ljava/lang/Object;" } : Jvm.MethodName)) ∈ lw_all := lw_g (lw_at lw_m2 211 rfl) rfl
theorem q522 : (Jvm.Cond.castable "[B" "java/lang/Cloneable") ∈ lw_tbl := lw_at lw_m2 212 rfl
theorem q2769 : (Jvm.Cond.castable "[B" "java/lang/Object") ∈ lw_tbl := lw_at lw_m12 59 rfl

theorem q1042 : (Jvm.Cond.sameMethod "[J" "java/lang/Object" "clone" "()Ljava/lang/Object;") ∈ lw_all := lw_g (lw_at lw_m5 12 rfl) rfl
set_option maxRecDepth 100000
theorem q1043 : (Jvm.Cond.selects "[J" ({ cls := "[J", name := "clone", desc := "()Ljava/lang/Object;" } : Jvm.MethodName) ({ cls := "java/lang/Object", name := "clone", desc := "()Ljava/lang/Object;" } : Jvm.MethodName)) ∈ lw_all := lw_g (lw_at lw_m5 13 rfl) rfl
theorem q1044 : (Jvm.Cond.castable "[J" "java/lang/Cloneable") ∈ lw_tbl := lw_at lw_m5 14 rfl
theorem q2771 : (Jvm.Cond.castable "[J" "java/lang/Object") ∈ lw_tbl := lw_at lw_m12 61 rfl

theorem q1072 : (Jvm.Cond.interfaceMethod "java/util/Collection" "java/util/Collection" "toArray" "()[Ljava/lang/Object;") ∈ lw_tbl := lw_at lw_m5 42 rfl
set_option maxRecDepth 100000
theorem q1073 : (Jvm.Cond.declares ({ cls := "java/util/Collection", name := "toArray", desc := "()[Ljava/lang/Object;" } : Jvm.MethodName)) ∈ lw_tbl := lw_at lw_m5 43 rfl

theorem q1165 : (Jvm.Cond.interfaceMethod "jdk/internal/access/JavaLangAccess" "jdk/internal/access/JavaLangAccess" "getUTF16Char" "([BI)C") ∈ lw_tbl := lw_at lw_m5 135 rfl
set_option maxRecDepth 100000
theorem q1166 : (Jvm.Cond.declares ({ cls := "jdk/internal/access/JavaLangAccess", name := "getUTF16Char", desc := "([BI)C" } : Jvm.MethodName)) ∈ lw_tbl := lw_at lw_m5 136 rfl

theorem q2179 : (Jvm.Cond.interfaceMethod "java/lang/CharSequence" "java/lang/CharSequence" "length" "()I") ∈ lw_tbl := lw_at lw_m9 189 rfl
set_option maxRecDepth 100000
theorem q2180 : (Jvm.Cond.declares ({ cls := "java/lang/CharSequence", name := "length", desc := "()I" } : Jvm.MethodName)) ∈ lw_tbl := lw_at lw_m9 190 rfl
theorem q2191 : (Jvm.Cond.interfaceMethod "java/lang/CharSequence" "java/lang/CharSequence" "charAt" "(I)C") ∈ lw_tbl := lw_at lw_m9 201 rfl
theorem q2192 : (Jvm.Cond.declares ({ cls := "java/lang/CharSequence", name := "charAt", desc := "(I)C" } : Jvm.MethodName)) ∈ lw_tbl := lw_at lw_m9 202 rfl

theorem q2765 : (Jvm.Cond.sameMethod "[Ljava/lang/Object;" "java/lang/Object" "getClass" "()Ljava/lang/Class;") ∈ lw_all := lw_g (lw_at lw_m12 55 rfl) rfl
set_option maxRecDepth 100000
theorem q2766 : (Jvm.Cond.selects "[Ljava/lang/Object;" ({ cls := "java/lang/Object", name := "getClass", desc := "()Ljava/lang/Class;" } : Jvm.MethodName) ({ cls := "java/lang/Object", name := "getClass", desc := "()Ljava/lang/Class;" } : Jvm.MethodName)) ∈ lw_all := lw_g (lw_at lw_m12 56 rfl) rfl
theorem q2768 : (Jvm.Cond.castable "[Ljava/lang/Object;" "java/lang/Object") ∈ lw_tbl := lw_at lw_m12 58 rfl

theorem q2770 : (Jvm.Cond.castable "[I" "java/lang/Object") ∈ lw_tbl := lw_at lw_m12 60 rfl
set_option maxRecDepth 100000

theorem q2772 : (Jvm.Cond.castable "[Ljava/lang/String;" "java/lang/Object") ∈ lw_tbl := lw_at lw_m12 62 rfl
set_option maxRecDepth 100000

theorem q2773 : (Jvm.Cond.castable "[C" "java/lang/Object") ∈ lw_tbl := lw_at lw_m12 63 rfl
set_option maxRecDepth 100000

theorem q2774 : (Jvm.Cond.castable "[D" "java/lang/Object") ∈ lw_tbl := lw_at lw_m12 64 rfl
set_option maxRecDepth 100000
