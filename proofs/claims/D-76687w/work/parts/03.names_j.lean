/-! java/lang/Number -/
set_option maxRecDepth 100000
def RJ0 : String := "java/lang/Number"
abbrev cJ0_init : ByteArray := prog_46_method_1_code
def yJ0_init : MethodName := ⟨RJ0, "<init>", "()V"⟩
theorem dJ0_init_0 : decode cJ0_init 0 = .ok (.aload_n 0, 1) := by decide +kernel
theorem dJ0_init_1 : decode cJ0_init 1 = .ok (.invokespecial 1, 3) := by decide +kernel
theorem dJ0_init_4 : decode cJ0_init 4 = .ok (.return_, 1) := by decide +kernel
theorem q89 : (Jvm.Cond.initialized "java/lang/Number") ∈ lw_all := lw_g (lw_at lw_m1 3 rfl) rfl
theorem q203 : (Jvm.Cond.instanceMethod ({ cls := "java/lang/Number", name := "<init>", desc := "()V" } : Jvm.MethodName)) ∈ lw_all := lw_g (lw_at lw_m1 117 rfl) rfl
theorem q204 : (Jvm.Cond.code ({ cls := "java/lang/Number", name := "<init>", desc := "()V" } : Jvm.MethodName) prog_46_method_1_code (1 : Nat) (Option.none : Option Jvm.ClassFile.FieldType)) ∈ lw_all := lw_g (lw_at lw_m1 118 rfl) rfl
theorem q205 : (Jvm.Cond.methodLink "java/lang/Number" (1 : Nat) ({ cls := "java/lang/Object", name := "<init>", desc := "()V" } : Jvm.MethodName)) ∈ lw_all := lw_g (lw_at lw_m1 119 rfl) rfl
/-! java/lang/Integer -/
set_option maxRecDepth 100000
def RJ1 : String := "java/lang/Integer"
def TJ1 : u_T := fun k => match k with
  | _ => ("java/lang/Integer", "value", "I", true)
def tyJ1 : Nat → FieldType := fun k => match k with
  | _ => .int
abbrev wsJ10 : List Cond := u_ws RJ1 TJ1 1
theorem nmJ1 : ∀ a, a < 1 → ∀ b, b < 1 → a ≠ b → (TJ1 a).2.1 ≠ (TJ1 b).2.1 := by decide +kernel
theorem tyJ1_ok : ∀ k, k < 1 → parseFieldDescriptor (TJ1 k).2.2.1 = some (tyJ1 k) := by decide +kernel
abbrev cJ1_valueOf : ByteArray := prog_40_method_22_code
def yJ1_valueOf : MethodName := ⟨RJ1, "valueOf", "(I)Ljava/lang/Integer;"⟩
def dkwJ1_valueOf_1 : List UInt8 := [187, 0, 1, 89, 26, 183, 0, 199, 176]
abbrev dktJ1_valueOf_1 : List UInt8 := dkwJ1_valueOf_1 ++ []
def dkwJ1_valueOf_0 : List UInt8 := [26, 16, 128, 161, 0, 20, 26, 178, 0, 191, 163, 0, 13, 178, 0, 195, 26, 17, 0, 128, 96, 50, 176]
abbrev dktJ1_valueOf_0 : List UInt8 := dkwJ1_valueOf_0 ++ dktJ1_valueOf_1
theorem dksJ1_valueOf_0 : cJ1_valueOf.data.toList.drop 0 = dktJ1_valueOf_0 := by decide +kernel
theorem dksJ1_valueOf_1 : cJ1_valueOf.data.toList.drop 23 = dktJ1_valueOf_1 := dk_seg dksJ1_valueOf_0 23 rfl rfl
theorem dJ1_valueOf_0 : decode cJ1_valueOf 0 = .ok (.iload_n 0, 1) := dk_26 (dk_at dksJ1_valueOf_0 0 rfl rfl)
theorem dJ1_valueOf_1 : decode cJ1_valueOf 1 = .ok (.bipush (-128), 2) := dk_16 128 (dk_at dksJ1_valueOf_0 1 rfl rfl)
theorem dJ1_valueOf_3 : decode cJ1_valueOf 3 = .ok (.if_icmp .lt 20, 3) := dk_161 0 20 (dk_at dksJ1_valueOf_0 3 rfl rfl)
theorem dJ1_valueOf_6 : decode cJ1_valueOf 6 = .ok (.iload_n 0, 1) := dk_26 (dk_at dksJ1_valueOf_0 6 rfl rfl)
theorem dJ1_valueOf_7 : decode cJ1_valueOf 7 = .ok (.getstatic 191, 3) := dk_178 0 191 (dk_at dksJ1_valueOf_0 7 rfl rfl)
theorem dJ1_valueOf_10 : decode cJ1_valueOf 10 = .ok (.if_icmp .gt 13, 3) := dk_163 0 13 (dk_at dksJ1_valueOf_0 10 rfl rfl)
theorem dJ1_valueOf_13 : decode cJ1_valueOf 13 = .ok (.getstatic 195, 3) := dk_178 0 195 (dk_at dksJ1_valueOf_0 13 rfl rfl)
theorem dJ1_valueOf_16 : decode cJ1_valueOf 16 = .ok (.iload_n 0, 1) := dk_26 (dk_at dksJ1_valueOf_0 16 rfl rfl)
theorem dJ1_valueOf_17 : decode cJ1_valueOf 17 = .ok (.sipush 128, 3) := dk_17 0 128 (dk_at dksJ1_valueOf_0 17 rfl rfl)
theorem dJ1_valueOf_20 : decode cJ1_valueOf 20 = .ok (.iadd, 1) := dk_96 (dk_at dksJ1_valueOf_0 20 rfl rfl)
theorem dJ1_valueOf_21 : decode cJ1_valueOf 21 = .ok (.aaload, 1) := dk_50 (dk_at dksJ1_valueOf_0 21 rfl rfl)
theorem dJ1_valueOf_22 : decode cJ1_valueOf 22 = .ok (.areturn, 1) := dk_176 (dk_at dksJ1_valueOf_0 22 rfl rfl)
theorem dJ1_valueOf_23 : decode cJ1_valueOf 23 = .ok (.new 1, 3) := dk_187 0 1 (dk_at dksJ1_valueOf_1 0 rfl rfl)
theorem dJ1_valueOf_26 : decode cJ1_valueOf 26 = .ok (.dup, 1) := dk_89 (dk_at dksJ1_valueOf_1 3 rfl rfl)
theorem dJ1_valueOf_27 : decode cJ1_valueOf 27 = .ok (.iload_n 0, 1) := dk_26 (dk_at dksJ1_valueOf_1 4 rfl rfl)
theorem dJ1_valueOf_28 : decode cJ1_valueOf 28 = .ok (.invokespecial 199, 3) := dk_183 0 199 (dk_at dksJ1_valueOf_1 5 rfl rfl)
theorem dJ1_valueOf_31 : decode cJ1_valueOf 31 = .ok (.areturn, 1) := dk_176 (dk_at dksJ1_valueOf_1 8 rfl rfl)
abbrev cJ1_init : ByteArray := prog_40_method_23_code
def yJ1_init : MethodName := ⟨RJ1, "<init>", "(I)V"⟩
def dkwJ1_init_0 : List UInt8 := [42, 183, 0, 202, 42, 27, 181, 0, 205, 177]
abbrev dktJ1_init_0 : List UInt8 := dkwJ1_init_0 ++ []
theorem dksJ1_init_0 : cJ1_init.data.toList.drop 0 = dktJ1_init_0 := by decide +kernel
theorem dJ1_init_0 : decode cJ1_init 0 = .ok (.aload_n 0, 1) := dk_42 (dk_at dksJ1_init_0 0 rfl rfl)
theorem dJ1_init_1 : decode cJ1_init 1 = .ok (.invokespecial 202, 3) := dk_183 0 202 (dk_at dksJ1_init_0 1 rfl rfl)
theorem dJ1_init_4 : decode cJ1_init 4 = .ok (.aload_n 0, 1) := dk_42 (dk_at dksJ1_init_0 4 rfl rfl)
theorem dJ1_init_5 : decode cJ1_init 5 = .ok (.iload_n 1, 1) := dk_27 (dk_at dksJ1_init_0 5 rfl rfl)
theorem dJ1_init_6 : decode cJ1_init 6 = .ok (.putfield 205, 3) := dk_181 0 205 (dk_at dksJ1_init_0 6 rfl rfl)
theorem dJ1_init_9 : decode cJ1_init 9 = .ok (.return_, 1) := dk_177 (dk_at dksJ1_init_0 9 rfl rfl)
abbrev cJ1_stringSize : ByteArray := prog_40_method_13_code
def yJ1_stringSize : MethodName := ⟨RJ1, "stringSize", "(I)I"⟩
def dkwJ1_stringSize_1 : List UInt8 := [164, 0, 7, 29, 27, 96, 172, 16, 10, 28, 104, 61, 132, 3, 1, 167, 255, 233, 16, 10, 27, 96, 172]
abbrev dktJ1_stringSize_1 : List UInt8 := dkwJ1_stringSize_1 ++ []
def dkwJ1_stringSize_0 : List UInt8 := [4, 60, 26, 155, 0, 8, 3, 60, 26, 116, 59, 16, 246, 61, 4, 62, 29, 16, 10, 162, 0, 23, 26, 28]
abbrev dktJ1_stringSize_0 : List UInt8 := dkwJ1_stringSize_0 ++ dktJ1_stringSize_1
theorem dksJ1_stringSize_0 : cJ1_stringSize.data.toList.drop 0 = dktJ1_stringSize_0 := by decide +kernel
theorem dksJ1_stringSize_1 : cJ1_stringSize.data.toList.drop 24 = dktJ1_stringSize_1 := dk_seg dksJ1_stringSize_0 24 rfl rfl
theorem dJ1_stringSize_0 : decode cJ1_stringSize 0 = .ok (.iconst 1, 1) := dk_4 (dk_at dksJ1_stringSize_0 0 rfl rfl)
theorem dJ1_stringSize_1 : decode cJ1_stringSize 1 = .ok (.istore_n 1, 1) := dk_60 (dk_at dksJ1_stringSize_0 1 rfl rfl)
theorem dJ1_stringSize_2 : decode cJ1_stringSize 2 = .ok (.iload_n 0, 1) := dk_26 (dk_at dksJ1_stringSize_0 2 rfl rfl)
theorem dJ1_stringSize_3 : decode cJ1_stringSize 3 = .ok (.ifCond .lt 8, 3) := dk_155 0 8 (dk_at dksJ1_stringSize_0 3 rfl rfl)
theorem dJ1_stringSize_6 : decode cJ1_stringSize 6 = .ok (.iconst 0, 1) := dk_3 (dk_at dksJ1_stringSize_0 6 rfl rfl)
theorem dJ1_stringSize_7 : decode cJ1_stringSize 7 = .ok (.istore_n 1, 1) := dk_60 (dk_at dksJ1_stringSize_0 7 rfl rfl)
theorem dJ1_stringSize_8 : decode cJ1_stringSize 8 = .ok (.iload_n 0, 1) := dk_26 (dk_at dksJ1_stringSize_0 8 rfl rfl)
theorem dJ1_stringSize_9 : decode cJ1_stringSize 9 = .ok (.ineg, 1) := dk_116 (dk_at dksJ1_stringSize_0 9 rfl rfl)
theorem dJ1_stringSize_10 : decode cJ1_stringSize 10 = .ok (.istore_n 0, 1) := dk_59 (dk_at dksJ1_stringSize_0 10 rfl rfl)
theorem dJ1_stringSize_11 : decode cJ1_stringSize 11 = .ok (.bipush (-10), 2) := dk_16 246 (dk_at dksJ1_stringSize_0 11 rfl rfl)
theorem dJ1_stringSize_13 : decode cJ1_stringSize 13 = .ok (.istore_n 2, 1) := dk_61 (dk_at dksJ1_stringSize_0 13 rfl rfl)
theorem dJ1_stringSize_14 : decode cJ1_stringSize 14 = .ok (.iconst 1, 1) := dk_4 (dk_at dksJ1_stringSize_0 14 rfl rfl)
theorem dJ1_stringSize_15 : decode cJ1_stringSize 15 = .ok (.istore_n 3, 1) := dk_62 (dk_at dksJ1_stringSize_0 15 rfl rfl)
theorem dJ1_stringSize_16 : decode cJ1_stringSize 16 = .ok (.iload_n 3, 1) := dk_29 (dk_at dksJ1_stringSize_0 16 rfl rfl)
theorem dJ1_stringSize_17 : decode cJ1_stringSize 17 = .ok (.bipush 10, 2) := dk_16 10 (dk_at dksJ1_stringSize_0 17 rfl rfl)
theorem dJ1_stringSize_19 : decode cJ1_stringSize 19 = .ok (.if_icmp .ge 23, 3) := dk_162 0 23 (dk_at dksJ1_stringSize_0 19 rfl rfl)
theorem dJ1_stringSize_22 : decode cJ1_stringSize 22 = .ok (.iload_n 0, 1) := dk_26 (dk_at dksJ1_stringSize_0 22 rfl rfl)
theorem dJ1_stringSize_23 : decode cJ1_stringSize 23 = .ok (.iload_n 2, 1) := dk_28 (dk_at dksJ1_stringSize_0 23 rfl rfl)
theorem dJ1_stringSize_24 : decode cJ1_stringSize 24 = .ok (.if_icmp .le 7, 3) := dk_164 0 7 (dk_at dksJ1_stringSize_1 0 rfl rfl)
theorem dJ1_stringSize_27 : decode cJ1_stringSize 27 = .ok (.iload_n 3, 1) := dk_29 (dk_at dksJ1_stringSize_1 3 rfl rfl)
theorem dJ1_stringSize_28 : decode cJ1_stringSize 28 = .ok (.iload_n 1, 1) := dk_27 (dk_at dksJ1_stringSize_1 4 rfl rfl)
theorem dJ1_stringSize_29 : decode cJ1_stringSize 29 = .ok (.iadd, 1) := dk_96 (dk_at dksJ1_stringSize_1 5 rfl rfl)
theorem dJ1_stringSize_30 : decode cJ1_stringSize 30 = .ok (.ireturn, 1) := dk_172 (dk_at dksJ1_stringSize_1 6 rfl rfl)
theorem dJ1_stringSize_31 : decode cJ1_stringSize 31 = .ok (.bipush 10, 2) := dk_16 10 (dk_at dksJ1_stringSize_1 7 rfl rfl)
theorem dJ1_stringSize_33 : decode cJ1_stringSize 33 = .ok (.iload_n 2, 1) := dk_28 (dk_at dksJ1_stringSize_1 9 rfl rfl)
theorem dJ1_stringSize_34 : decode cJ1_stringSize 34 = .ok (.imul, 1) := dk_104 (dk_at dksJ1_stringSize_1 10 rfl rfl)
theorem dJ1_stringSize_35 : decode cJ1_stringSize 35 = .ok (.istore_n 2, 1) := dk_61 (dk_at dksJ1_stringSize_1 11 rfl rfl)
theorem dJ1_stringSize_36 : decode cJ1_stringSize 36 = .ok (.iinc 3 1, 3) := dk_132 3 1 (dk_at dksJ1_stringSize_1 12 rfl rfl)
theorem dJ1_stringSize_39 : decode cJ1_stringSize 39 = .ok (.goto (-23), 3) := dk_167 255 233 (dk_at dksJ1_stringSize_1 15 rfl rfl)
theorem dJ1_stringSize_42 : decode cJ1_stringSize 42 = .ok (.bipush 10, 2) := dk_16 10 (dk_at dksJ1_stringSize_1 18 rfl rfl)
theorem dJ1_stringSize_44 : decode cJ1_stringSize 44 = .ok (.iload_n 1, 1) := dk_27 (dk_at dksJ1_stringSize_1 20 rfl rfl)
theorem dJ1_stringSize_45 : decode cJ1_stringSize 45 = .ok (.iadd, 1) := dk_96 (dk_at dksJ1_stringSize_1 21 rfl rfl)
theorem dJ1_stringSize_46 : decode cJ1_stringSize 46 = .ok (.ireturn, 1) := dk_172 (dk_at dksJ1_stringSize_1 22 rfl rfl)
abbrev cJ1_getChars : ByteArray := prog_40_method_12_code
def yJ1_getChars : MethodName := ⟨RJ1, "getChars", "(II[B)I"⟩
def dkwJ1_getChars_5 : List UInt8 := [16, 45, 84, 21, 5, 172]
abbrev dktJ1_getChars_5 : List UInt8 := dkwJ1_getChars_5 ++ []
def dkwJ1_getChars_4 : List UInt8 := [132, 5, 255, 21, 5, 178, 0, 87, 26, 116, 51, 84, 21, 6, 153, 0, 12, 44, 132, 5, 255, 21, 5]
abbrev dktJ1_getChars_4 : List UInt8 := dkwJ1_getChars_4 ++ dktJ1_getChars_5
def dkwJ1_getChars_3 : List UInt8 := [167, 255, 209, 44, 132, 5, 255, 21, 5, 178, 0, 83, 26, 116, 51, 84, 26, 16, 247, 162, 0, 16, 44]
abbrev dktJ1_getChars_3 : List UInt8 := dkwJ1_getChars_3 ++ dktJ1_getChars_4
def dkwJ1_getChars_2 : List UInt8 := [21, 5, 178, 0, 83, 21, 4, 51, 84, 44, 132, 5, 255, 21, 5, 178, 0, 87, 21, 4, 51, 84]
abbrev dktJ1_getChars_2 : List UInt8 := dkwJ1_getChars_2 ++ dktJ1_getChars_3
def dkwJ1_getChars_1 : List UInt8 := [16, 156, 163, 0, 47, 26, 16, 100, 108, 62, 29, 16, 100, 104, 26, 100, 54, 4, 29, 59, 44, 132, 5, 255]
abbrev dktJ1_getChars_1 : List UInt8 := dkwJ1_getChars_1 ++ dktJ1_getChars_2
def dkwJ1_getChars_0 : List UInt8 := [27, 54, 5, 26, 156, 0, 7, 4, 167, 0, 4, 3, 54, 6, 21, 6, 154, 0, 6, 26, 116, 59, 26]
abbrev dktJ1_getChars_0 : List UInt8 := dkwJ1_getChars_0 ++ dktJ1_getChars_1
theorem dksJ1_getChars_0 : cJ1_getChars.data.toList.drop 0 = dktJ1_getChars_0 := by decide +kernel
theorem dksJ1_getChars_1 : cJ1_getChars.data.toList.drop 23 = dktJ1_getChars_1 := dk_seg dksJ1_getChars_0 23 rfl rfl
theorem dksJ1_getChars_2 : cJ1_getChars.data.toList.drop 47 = dktJ1_getChars_2 := dk_seg dksJ1_getChars_1 24 rfl rfl
theorem dksJ1_getChars_3 : cJ1_getChars.data.toList.drop 69 = dktJ1_getChars_3 := dk_seg dksJ1_getChars_2 22 rfl rfl
theorem dksJ1_getChars_4 : cJ1_getChars.data.toList.drop 92 = dktJ1_getChars_4 := dk_seg dksJ1_getChars_3 23 rfl rfl
theorem dksJ1_getChars_5 : cJ1_getChars.data.toList.drop 115 = dktJ1_getChars_5 := dk_seg dksJ1_getChars_4 23 rfl rfl
theorem dJ1_getChars_0 : decode cJ1_getChars 0 = .ok (.iload_n 1, 1) := dk_27 (dk_at dksJ1_getChars_0 0 rfl rfl)
theorem dJ1_getChars_1 : decode cJ1_getChars 1 = .ok (.istore 5, 2) := dk_54 5 (dk_at dksJ1_getChars_0 1 rfl rfl)
theorem dJ1_getChars_3 : decode cJ1_getChars 3 = .ok (.iload_n 0, 1) := dk_26 (dk_at dksJ1_getChars_0 3 rfl rfl)
theorem dJ1_getChars_4 : decode cJ1_getChars 4 = .ok (.ifCond .ge 7, 3) := dk_156 0 7 (dk_at dksJ1_getChars_0 4 rfl rfl)
theorem dJ1_getChars_7 : decode cJ1_getChars 7 = .ok (.iconst 1, 1) := dk_4 (dk_at dksJ1_getChars_0 7 rfl rfl)
theorem dJ1_getChars_8 : decode cJ1_getChars 8 = .ok (.goto 4, 3) := dk_167 0 4 (dk_at dksJ1_getChars_0 8 rfl rfl)
theorem dJ1_getChars_11 : decode cJ1_getChars 11 = .ok (.iconst 0, 1) := dk_3 (dk_at dksJ1_getChars_0 11 rfl rfl)
theorem dJ1_getChars_12 : decode cJ1_getChars 12 = .ok (.istore 6, 2) := dk_54 6 (dk_at dksJ1_getChars_0 12 rfl rfl)
theorem dJ1_getChars_14 : decode cJ1_getChars 14 = .ok (.iload 6, 2) := dk_21 6 (dk_at dksJ1_getChars_0 14 rfl rfl)
theorem dJ1_getChars_16 : decode cJ1_getChars 16 = .ok (.ifCond .ne 6, 3) := dk_154 0 6 (dk_at dksJ1_getChars_0 16 rfl rfl)
theorem dJ1_getChars_19 : decode cJ1_getChars 19 = .ok (.iload_n 0, 1) := dk_26 (dk_at dksJ1_getChars_0 19 rfl rfl)
theorem dJ1_getChars_20 : decode cJ1_getChars 20 = .ok (.ineg, 1) := dk_116 (dk_at dksJ1_getChars_0 20 rfl rfl)
theorem dJ1_getChars_21 : decode cJ1_getChars 21 = .ok (.istore_n 0, 1) := dk_59 (dk_at dksJ1_getChars_0 21 rfl rfl)
theorem dJ1_getChars_22 : decode cJ1_getChars 22 = .ok (.iload_n 0, 1) := dk_26 (dk_at dksJ1_getChars_0 22 rfl rfl)
theorem dJ1_getChars_23 : decode cJ1_getChars 23 = .ok (.bipush (-100), 2) := dk_16 156 (dk_at dksJ1_getChars_1 0 rfl rfl)
theorem dJ1_getChars_25 : decode cJ1_getChars 25 = .ok (.if_icmp .gt 47, 3) := dk_163 0 47 (dk_at dksJ1_getChars_1 2 rfl rfl)
theorem dJ1_getChars_28 : decode cJ1_getChars 28 = .ok (.iload_n 0, 1) := dk_26 (dk_at dksJ1_getChars_1 5 rfl rfl)
theorem dJ1_getChars_29 : decode cJ1_getChars 29 = .ok (.bipush 100, 2) := dk_16 100 (dk_at dksJ1_getChars_1 6 rfl rfl)
theorem dJ1_getChars_31 : decode cJ1_getChars 31 = .ok (.idiv, 1) := dk_108 (dk_at dksJ1_getChars_1 8 rfl rfl)
theorem dJ1_getChars_32 : decode cJ1_getChars 32 = .ok (.istore_n 3, 1) := dk_62 (dk_at dksJ1_getChars_1 9 rfl rfl)
theorem dJ1_getChars_33 : decode cJ1_getChars 33 = .ok (.iload_n 3, 1) := dk_29 (dk_at dksJ1_getChars_1 10 rfl rfl)
theorem dJ1_getChars_34 : decode cJ1_getChars 34 = .ok (.bipush 100, 2) := dk_16 100 (dk_at dksJ1_getChars_1 11 rfl rfl)
theorem dJ1_getChars_36 : decode cJ1_getChars 36 = .ok (.imul, 1) := dk_104 (dk_at dksJ1_getChars_1 13 rfl rfl)
theorem dJ1_getChars_37 : decode cJ1_getChars 37 = .ok (.iload_n 0, 1) := dk_26 (dk_at dksJ1_getChars_1 14 rfl rfl)
theorem dJ1_getChars_38 : decode cJ1_getChars 38 = .ok (.isub, 1) := dk_100 (dk_at dksJ1_getChars_1 15 rfl rfl)
theorem dJ1_getChars_39 : decode cJ1_getChars 39 = .ok (.istore 4, 2) := dk_54 4 (dk_at dksJ1_getChars_1 16 rfl rfl)
theorem dJ1_getChars_41 : decode cJ1_getChars 41 = .ok (.iload_n 3, 1) := dk_29 (dk_at dksJ1_getChars_1 18 rfl rfl)
theorem dJ1_getChars_42 : decode cJ1_getChars 42 = .ok (.istore_n 0, 1) := dk_59 (dk_at dksJ1_getChars_1 19 rfl rfl)
theorem dJ1_getChars_43 : decode cJ1_getChars 43 = .ok (.aload_n 2, 1) := dk_44 (dk_at dksJ1_getChars_1 20 rfl rfl)
theorem dJ1_getChars_44 : decode cJ1_getChars 44 = .ok (.iinc 5 (-1), 3) := dk_132 5 255 (dk_at dksJ1_getChars_1 21 rfl rfl)
theorem dJ1_getChars_47 : decode cJ1_getChars 47 = .ok (.iload 5, 2) := dk_21 5 (dk_at dksJ1_getChars_2 0 rfl rfl)
theorem dJ1_getChars_49 : decode cJ1_getChars 49 = .ok (.getstatic 83, 3) := dk_178 0 83 (dk_at dksJ1_getChars_2 2 rfl rfl)
theorem dJ1_getChars_52 : decode cJ1_getChars 52 = .ok (.iload 4, 2) := dk_21 4 (dk_at dksJ1_getChars_2 5 rfl rfl)
theorem dJ1_getChars_54 : decode cJ1_getChars 54 = .ok (.baload, 1) := dk_51 (dk_at dksJ1_getChars_2 7 rfl rfl)
theorem dJ1_getChars_55 : decode cJ1_getChars 55 = .ok (.bastore, 1) := dk_84 (dk_at dksJ1_getChars_2 8 rfl rfl)
theorem dJ1_getChars_56 : decode cJ1_getChars 56 = .ok (.aload_n 2, 1) := dk_44 (dk_at dksJ1_getChars_2 9 rfl rfl)
theorem dJ1_getChars_57 : decode cJ1_getChars 57 = .ok (.iinc 5 (-1), 3) := dk_132 5 255 (dk_at dksJ1_getChars_2 10 rfl rfl)
theorem dJ1_getChars_60 : decode cJ1_getChars 60 = .ok (.iload 5, 2) := dk_21 5 (dk_at dksJ1_getChars_2 13 rfl rfl)
theorem dJ1_getChars_62 : decode cJ1_getChars 62 = .ok (.getstatic 87, 3) := dk_178 0 87 (dk_at dksJ1_getChars_2 15 rfl rfl)
theorem dJ1_getChars_65 : decode cJ1_getChars 65 = .ok (.iload 4, 2) := dk_21 4 (dk_at dksJ1_getChars_2 18 rfl rfl)
theorem dJ1_getChars_67 : decode cJ1_getChars 67 = .ok (.baload, 1) := dk_51 (dk_at dksJ1_getChars_2 20 rfl rfl)
theorem dJ1_getChars_68 : decode cJ1_getChars 68 = .ok (.bastore, 1) := dk_84 (dk_at dksJ1_getChars_2 21 rfl rfl)
theorem dJ1_getChars_69 : decode cJ1_getChars 69 = .ok (.goto (-47), 3) := dk_167 255 209 (dk_at dksJ1_getChars_3 0 rfl rfl)
theorem dJ1_getChars_72 : decode cJ1_getChars 72 = .ok (.aload_n 2, 1) := dk_44 (dk_at dksJ1_getChars_3 3 rfl rfl)
theorem dJ1_getChars_73 : decode cJ1_getChars 73 = .ok (.iinc 5 (-1), 3) := dk_132 5 255 (dk_at dksJ1_getChars_3 4 rfl rfl)
theorem dJ1_getChars_76 : decode cJ1_getChars 76 = .ok (.iload 5, 2) := dk_21 5 (dk_at dksJ1_getChars_3 7 rfl rfl)
theorem dJ1_getChars_78 : decode cJ1_getChars 78 = .ok (.getstatic 83, 3) := dk_178 0 83 (dk_at dksJ1_getChars_3 9 rfl rfl)
theorem dJ1_getChars_81 : decode cJ1_getChars 81 = .ok (.iload_n 0, 1) := dk_26 (dk_at dksJ1_getChars_3 12 rfl rfl)
theorem dJ1_getChars_82 : decode cJ1_getChars 82 = .ok (.ineg, 1) := dk_116 (dk_at dksJ1_getChars_3 13 rfl rfl)
theorem dJ1_getChars_83 : decode cJ1_getChars 83 = .ok (.baload, 1) := dk_51 (dk_at dksJ1_getChars_3 14 rfl rfl)
theorem dJ1_getChars_84 : decode cJ1_getChars 84 = .ok (.bastore, 1) := dk_84 (dk_at dksJ1_getChars_3 15 rfl rfl)
theorem dJ1_getChars_85 : decode cJ1_getChars 85 = .ok (.iload_n 0, 1) := dk_26 (dk_at dksJ1_getChars_3 16 rfl rfl)
theorem dJ1_getChars_86 : decode cJ1_getChars 86 = .ok (.bipush (-9), 2) := dk_16 247 (dk_at dksJ1_getChars_3 17 rfl rfl)
theorem dJ1_getChars_88 : decode cJ1_getChars 88 = .ok (.if_icmp .ge 16, 3) := dk_162 0 16 (dk_at dksJ1_getChars_3 19 rfl rfl)
theorem dJ1_getChars_91 : decode cJ1_getChars 91 = .ok (.aload_n 2, 1) := dk_44 (dk_at dksJ1_getChars_3 22 rfl rfl)
theorem dJ1_getChars_92 : decode cJ1_getChars 92 = .ok (.iinc 5 (-1), 3) := dk_132 5 255 (dk_at dksJ1_getChars_4 0 rfl rfl)
theorem dJ1_getChars_95 : decode cJ1_getChars 95 = .ok (.iload 5, 2) := dk_21 5 (dk_at dksJ1_getChars_4 3 rfl rfl)
theorem dJ1_getChars_97 : decode cJ1_getChars 97 = .ok (.getstatic 87, 3) := dk_178 0 87 (dk_at dksJ1_getChars_4 5 rfl rfl)
theorem dJ1_getChars_100 : decode cJ1_getChars 100 = .ok (.iload_n 0, 1) := dk_26 (dk_at dksJ1_getChars_4 8 rfl rfl)
theorem dJ1_getChars_101 : decode cJ1_getChars 101 = .ok (.ineg, 1) := dk_116 (dk_at dksJ1_getChars_4 9 rfl rfl)
theorem dJ1_getChars_102 : decode cJ1_getChars 102 = .ok (.baload, 1) := dk_51 (dk_at dksJ1_getChars_4 10 rfl rfl)
theorem dJ1_getChars_103 : decode cJ1_getChars 103 = .ok (.bastore, 1) := dk_84 (dk_at dksJ1_getChars_4 11 rfl rfl)
theorem dJ1_getChars_104 : decode cJ1_getChars 104 = .ok (.iload 6, 2) := dk_21 6 (dk_at dksJ1_getChars_4 12 rfl rfl)
theorem dJ1_getChars_106 : decode cJ1_getChars 106 = .ok (.ifCond .eq 12, 3) := dk_153 0 12 (dk_at dksJ1_getChars_4 14 rfl rfl)
theorem dJ1_getChars_109 : decode cJ1_getChars 109 = .ok (.aload_n 2, 1) := dk_44 (dk_at dksJ1_getChars_4 17 rfl rfl)
theorem dJ1_getChars_110 : decode cJ1_getChars 110 = .ok (.iinc 5 (-1), 3) := dk_132 5 255 (dk_at dksJ1_getChars_4 18 rfl rfl)
theorem dJ1_getChars_113 : decode cJ1_getChars 113 = .ok (.iload 5, 2) := dk_21 5 (dk_at dksJ1_getChars_4 21 rfl rfl)
theorem dJ1_getChars_115 : decode cJ1_getChars 115 = .ok (.bipush 45, 2) := dk_16 45 (dk_at dksJ1_getChars_5 0 rfl rfl)
theorem dJ1_getChars_117 : decode cJ1_getChars 117 = .ok (.bastore, 1) := dk_84 (dk_at dksJ1_getChars_5 2 rfl rfl)
theorem dJ1_getChars_118 : decode cJ1_getChars 118 = .ok (.iload 5, 2) := dk_21 5 (dk_at dksJ1_getChars_5 3 rfl rfl)
theorem dJ1_getChars_120 : decode cJ1_getChars 120 = .ok (.ireturn, 1) := dk_172 (dk_at dksJ1_getChars_5 5 rfl rfl)
abbrev cJ1_numberOfTrailingZeros : ByteArray := prog_40_method_48_code
def yJ1_numberOfTrailingZeros : MethodName := ⟨RJ1, "numberOfTrailingZeros", "(I)I"⟩
def dkwJ1_numberOfTrailingZeros_3 : List UInt8 := [5, 124, 59, 27, 26, 4, 124, 96, 172]
abbrev dktJ1_numberOfTrailingZeros_3 : List UInt8 := dkwJ1_numberOfTrailingZeros_3 ++ []
def dkwJ1_numberOfTrailingZeros_2 : List UInt8 := [124, 59, 26, 16, 16, 164, 0, 10, 132, 1, 4, 26, 7, 124, 59, 26, 7, 164, 0, 10, 132, 1, 2, 26]
abbrev dktJ1_numberOfTrailingZeros_2 : List UInt8 := dkwJ1_numberOfTrailingZeros_2 ++ dktJ1_numberOfTrailingZeros_3
def dkwJ1_numberOfTrailingZeros_1 : List UInt8 := [164, 0, 11, 132, 1, 16, 26, 16, 16, 124, 59, 26, 17, 1, 0, 164, 0, 11, 132, 1, 8, 26, 16, 8]
abbrev dktJ1_numberOfTrailingZeros_1 : List UInt8 := dkwJ1_numberOfTrailingZeros_1 ++ dktJ1_numberOfTrailingZeros_2
def dkwJ1_numberOfTrailingZeros_0 : List UInt8 := [26, 2, 130, 26, 4, 100, 126, 59, 26, 157, 0, 8, 26, 16, 32, 126, 172, 4, 60, 26, 19, 1, 8]
abbrev dktJ1_numberOfTrailingZeros_0 : List UInt8 := dkwJ1_numberOfTrailingZeros_0 ++ dktJ1_numberOfTrailingZeros_1
theorem dksJ1_numberOfTrailingZeros_0 : cJ1_numberOfTrailingZeros.data.toList.drop 0 = dktJ1_numberOfTrailingZeros_0 := by decide +kernel
theorem dksJ1_numberOfTrailingZeros_1 : cJ1_numberOfTrailingZeros.data.toList.drop 23 = dktJ1_numberOfTrailingZeros_1 := dk_seg dksJ1_numberOfTrailingZeros_0 23 rfl rfl
theorem dksJ1_numberOfTrailingZeros_2 : cJ1_numberOfTrailingZeros.data.toList.drop 47 = dktJ1_numberOfTrailingZeros_2 := dk_seg dksJ1_numberOfTrailingZeros_1 24 rfl rfl
theorem dksJ1_numberOfTrailingZeros_3 : cJ1_numberOfTrailingZeros.data.toList.drop 71 = dktJ1_numberOfTrailingZeros_3 := dk_seg dksJ1_numberOfTrailingZeros_2 24 rfl rfl
theorem dJ1_numberOfTrailingZeros_0 : decode cJ1_numberOfTrailingZeros 0 = .ok (.iload_n 0, 1) := dk_26 (dk_at dksJ1_numberOfTrailingZeros_0 0 rfl rfl)
theorem dJ1_numberOfTrailingZeros_1 : decode cJ1_numberOfTrailingZeros 1 = .ok (.iconst (-1), 1) := dk_2 (dk_at dksJ1_numberOfTrailingZeros_0 1 rfl rfl)
theorem dJ1_numberOfTrailingZeros_2 : decode cJ1_numberOfTrailingZeros 2 = .ok (.ixor, 1) := dk_130 (dk_at dksJ1_numberOfTrailingZeros_0 2 rfl rfl)
theorem dJ1_numberOfTrailingZeros_3 : decode cJ1_numberOfTrailingZeros 3 = .ok (.iload_n 0, 1) := dk_26 (dk_at dksJ1_numberOfTrailingZeros_0 3 rfl rfl)
theorem dJ1_numberOfTrailingZeros_4 : decode cJ1_numberOfTrailingZeros 4 = .ok (.iconst 1, 1) := dk_4 (dk_at dksJ1_numberOfTrailingZeros_0 4 rfl rfl)
theorem dJ1_numberOfTrailingZeros_5 : decode cJ1_numberOfTrailingZeros 5 = .ok (.isub, 1) := dk_100 (dk_at dksJ1_numberOfTrailingZeros_0 5 rfl rfl)
theorem dJ1_numberOfTrailingZeros_6 : decode cJ1_numberOfTrailingZeros 6 = .ok (.iand, 1) := dk_126 (dk_at dksJ1_numberOfTrailingZeros_0 6 rfl rfl)
theorem dJ1_numberOfTrailingZeros_7 : decode cJ1_numberOfTrailingZeros 7 = .ok (.istore_n 0, 1) := dk_59 (dk_at dksJ1_numberOfTrailingZeros_0 7 rfl rfl)
theorem dJ1_numberOfTrailingZeros_8 : decode cJ1_numberOfTrailingZeros 8 = .ok (.iload_n 0, 1) := dk_26 (dk_at dksJ1_numberOfTrailingZeros_0 8 rfl rfl)
theorem dJ1_numberOfTrailingZeros_9 : decode cJ1_numberOfTrailingZeros 9 = .ok (.ifCond .gt 8, 3) := dk_157 0 8 (dk_at dksJ1_numberOfTrailingZeros_0 9 rfl rfl)
theorem dJ1_numberOfTrailingZeros_12 : decode cJ1_numberOfTrailingZeros 12 = .ok (.iload_n 0, 1) := dk_26 (dk_at dksJ1_numberOfTrailingZeros_0 12 rfl rfl)
theorem dJ1_numberOfTrailingZeros_13 : decode cJ1_numberOfTrailingZeros 13 = .ok (.bipush 32, 2) := dk_16 32 (dk_at dksJ1_numberOfTrailingZeros_0 13 rfl rfl)
theorem dJ1_numberOfTrailingZeros_15 : decode cJ1_numberOfTrailingZeros 15 = .ok (.iand, 1) := dk_126 (dk_at dksJ1_numberOfTrailingZeros_0 15 rfl rfl)
theorem dJ1_numberOfTrailingZeros_16 : decode cJ1_numberOfTrailingZeros 16 = .ok (.ireturn, 1) := dk_172 (dk_at dksJ1_numberOfTrailingZeros_0 16 rfl rfl)
theorem dJ1_numberOfTrailingZeros_17 : decode cJ1_numberOfTrailingZeros 17 = .ok (.iconst 1, 1) := dk_4 (dk_at dksJ1_numberOfTrailingZeros_0 17 rfl rfl)
theorem dJ1_numberOfTrailingZeros_18 : decode cJ1_numberOfTrailingZeros 18 = .ok (.istore_n 1, 1) := dk_60 (dk_at dksJ1_numberOfTrailingZeros_0 18 rfl rfl)
theorem dJ1_numberOfTrailingZeros_19 : decode cJ1_numberOfTrailingZeros 19 = .ok (.iload_n 0, 1) := dk_26 (dk_at dksJ1_numberOfTrailingZeros_0 19 rfl rfl)
theorem dJ1_numberOfTrailingZeros_20 : decode cJ1_numberOfTrailingZeros 20 = .ok (.ldc_w 264, 3) := dk_19 1 8 (dk_at dksJ1_numberOfTrailingZeros_0 20 rfl rfl)
theorem dJ1_numberOfTrailingZeros_23 : decode cJ1_numberOfTrailingZeros 23 = .ok (.if_icmp .le 11, 3) := dk_164 0 11 (dk_at dksJ1_numberOfTrailingZeros_1 0 rfl rfl)
theorem dJ1_numberOfTrailingZeros_26 : decode cJ1_numberOfTrailingZeros 26 = .ok (.iinc 1 16, 3) := dk_132 1 16 (dk_at dksJ1_numberOfTrailingZeros_1 3 rfl rfl)
theorem dJ1_numberOfTrailingZeros_29 : decode cJ1_numberOfTrailingZeros 29 = .ok (.iload_n 0, 1) := dk_26 (dk_at dksJ1_numberOfTrailingZeros_1 6 rfl rfl)
theorem dJ1_numberOfTrailingZeros_30 : decode cJ1_numberOfTrailingZeros 30 = .ok (.bipush 16, 2) := dk_16 16 (dk_at dksJ1_numberOfTrailingZeros_1 7 rfl rfl)
theorem dJ1_numberOfTrailingZeros_32 : decode cJ1_numberOfTrailingZeros 32 = .ok (.iushr, 1) := dk_124 (dk_at dksJ1_numberOfTrailingZeros_1 9 rfl rfl)
theorem dJ1_numberOfTrailingZeros_33 : decode cJ1_numberOfTrailingZeros 33 = .ok (.istore_n 0, 1) := dk_59 (dk_at dksJ1_numberOfTrailingZeros_1 10 rfl rfl)
theorem dJ1_numberOfTrailingZeros_34 : decode cJ1_numberOfTrailingZeros 34 = .ok (.iload_n 0, 1) := dk_26 (dk_at dksJ1_numberOfTrailingZeros_1 11 rfl rfl)
theorem dJ1_numberOfTrailingZeros_35 : decode cJ1_numberOfTrailingZeros 35 = .ok (.sipush 256, 3) := dk_17 1 0 (dk_at dksJ1_numberOfTrailingZeros_1 12 rfl rfl)
theorem dJ1_numberOfTrailingZeros_38 : decode cJ1_numberOfTrailingZeros 38 = .ok (.if_icmp .le 11, 3) := dk_164 0 11 (dk_at dksJ1_numberOfTrailingZeros_1 15 rfl rfl)
theorem dJ1_numberOfTrailingZeros_41 : decode cJ1_numberOfTrailingZeros 41 = .ok (.iinc 1 8, 3) := dk_132 1 8 (dk_at dksJ1_numberOfTrailingZeros_1 18 rfl rfl)
theorem dJ1_numberOfTrailingZeros_44 : decode cJ1_numberOfTrailingZeros 44 = .ok (.iload_n 0, 1) := dk_26 (dk_at dksJ1_numberOfTrailingZeros_1 21 rfl rfl)
theorem dJ1_numberOfTrailingZeros_45 : decode cJ1_numberOfTrailingZeros 45 = .ok (.bipush 8, 2) := dk_16 8 (dk_at dksJ1_numberOfTrailingZeros_1 22 rfl rfl)
theorem dJ1_numberOfTrailingZeros_47 : decode cJ1_numberOfTrailingZeros 47 = .ok (.iushr, 1) := dk_124 (dk_at dksJ1_numberOfTrailingZeros_2 0 rfl rfl)
theorem dJ1_numberOfTrailingZeros_48 : decode cJ1_numberOfTrailingZeros 48 = .ok (.istore_n 0, 1) := dk_59 (dk_at dksJ1_numberOfTrailingZeros_2 1 rfl rfl)
theorem dJ1_numberOfTrailingZeros_49 : decode cJ1_numberOfTrailingZeros 49 = .ok (.iload_n 0, 1) := dk_26 (dk_at dksJ1_numberOfTrailingZeros_2 2 rfl rfl)
theorem dJ1_numberOfTrailingZeros_50 : decode cJ1_numberOfTrailingZeros 50 = .ok (.bipush 16, 2) := dk_16 16 (dk_at dksJ1_numberOfTrailingZeros_2 3 rfl rfl)
theorem dJ1_numberOfTrailingZeros_52 : decode cJ1_numberOfTrailingZeros 52 = .ok (.if_icmp .le 10, 3) := dk_164 0 10 (dk_at dksJ1_numberOfTrailingZeros_2 5 rfl rfl)
theorem dJ1_numberOfTrailingZeros_55 : decode cJ1_numberOfTrailingZeros 55 = .ok (.iinc 1 4, 3) := dk_132 1 4 (dk_at dksJ1_numberOfTrailingZeros_2 8 rfl rfl)
theorem dJ1_numberOfTrailingZeros_58 : decode cJ1_numberOfTrailingZeros 58 = .ok (.iload_n 0, 1) := dk_26 (dk_at dksJ1_numberOfTrailingZeros_2 11 rfl rfl)
theorem dJ1_numberOfTrailingZeros_59 : decode cJ1_numberOfTrailingZeros 59 = .ok (.iconst 4, 1) := dk_7 (dk_at dksJ1_numberOfTrailingZeros_2 12 rfl rfl)
theorem dJ1_numberOfTrailingZeros_60 : decode cJ1_numberOfTrailingZeros 60 = .ok (.iushr, 1) := dk_124 (dk_at dksJ1_numberOfTrailingZeros_2 13 rfl rfl)
theorem dJ1_numberOfTrailingZeros_61 : decode cJ1_numberOfTrailingZeros 61 = .ok (.istore_n 0, 1) := dk_59 (dk_at dksJ1_numberOfTrailingZeros_2 14 rfl rfl)
theorem dJ1_numberOfTrailingZeros_62 : decode cJ1_numberOfTrailingZeros 62 = .ok (.iload_n 0, 1) := dk_26 (dk_at dksJ1_numberOfTrailingZeros_2 15 rfl rfl)
theorem dJ1_numberOfTrailingZeros_63 : decode cJ1_numberOfTrailingZeros 63 = .ok (.iconst 4, 1) := dk_7 (dk_at dksJ1_numberOfTrailingZeros_2 16 rfl rfl)
theorem dJ1_numberOfTrailingZeros_64 : decode cJ1_numberOfTrailingZeros 64 = .ok (.if_icmp .le 10, 3) := dk_164 0 10 (dk_at dksJ1_numberOfTrailingZeros_2 17 rfl rfl)
theorem dJ1_numberOfTrailingZeros_67 : decode cJ1_numberOfTrailingZeros 67 = .ok (.iinc 1 2, 3) := dk_132 1 2 (dk_at dksJ1_numberOfTrailingZeros_2 20 rfl rfl)
theorem dJ1_numberOfTrailingZeros_70 : decode cJ1_numberOfTrailingZeros 70 = .ok (.iload_n 0, 1) := dk_26 (dk_at dksJ1_numberOfTrailingZeros_2 23 rfl rfl)
theorem dJ1_numberOfTrailingZeros_71 : decode cJ1_numberOfTrailingZeros 71 = .ok (.iconst 2, 1) := dk_5 (dk_at dksJ1_numberOfTrailingZeros_3 0 rfl rfl)
theorem dJ1_numberOfTrailingZeros_72 : decode cJ1_numberOfTrailingZeros 72 = .ok (.iushr, 1) := dk_124 (dk_at dksJ1_numberOfTrailingZeros_3 1 rfl rfl)
theorem dJ1_numberOfTrailingZeros_73 : decode cJ1_numberOfTrailingZeros 73 = .ok (.istore_n 0, 1) := dk_59 (dk_at dksJ1_numberOfTrailingZeros_3 2 rfl rfl)
theorem dJ1_numberOfTrailingZeros_74 : decode cJ1_numberOfTrailingZeros 74 = .ok (.iload_n 1, 1) := dk_27 (dk_at dksJ1_numberOfTrailingZeros_3 3 rfl rfl)
theorem dJ1_numberOfTrailingZeros_75 : decode cJ1_numberOfTrailingZeros 75 = .ok (.iload_n 0, 1) := dk_26 (dk_at dksJ1_numberOfTrailingZeros_3 4 rfl rfl)
theorem dJ1_numberOfTrailingZeros_76 : decode cJ1_numberOfTrailingZeros 76 = .ok (.iconst 1, 1) := dk_4 (dk_at dksJ1_numberOfTrailingZeros_3 5 rfl rfl)
theorem dJ1_numberOfTrailingZeros_77 : decode cJ1_numberOfTrailingZeros 77 = .ok (.iushr, 1) := dk_124 (dk_at dksJ1_numberOfTrailingZeros_3 6 rfl rfl)
theorem dJ1_numberOfTrailingZeros_78 : decode cJ1_numberOfTrailingZeros 78 = .ok (.iadd, 1) := dk_96 (dk_at dksJ1_numberOfTrailingZeros_3 7 rfl rfl)
theorem dJ1_numberOfTrailingZeros_79 : decode cJ1_numberOfTrailingZeros 79 = .ok (.ireturn, 1) := dk_172 (dk_at dksJ1_numberOfTrailingZeros_3 8 rfl rfl)
abbrev cJ1_intValue : ByteArray := prog_40_method_27_code
def yJ1_intValue : MethodName := ⟨RJ1, "intValue", "()I"⟩
theorem dJ1_intValue_0 : decode cJ1_intValue 0 = .ok (.aload_n 0, 1) := by decide +kernel
theorem dJ1_intValue_1 : decode cJ1_intValue 1 = .ok (.getfield 205, 3) := by decide +kernel
theorem dJ1_intValue_4 : decode cJ1_intValue 4 = .ok (.ireturn, 1) := by decide +kernel
abbrev cJ1_compareTo : ByteArray := prog_40_method_63_code
def yJ1_compareTo : MethodName := ⟨RJ1, "compareTo", "(Ljava/lang/Object;)I"⟩
def dkwJ1_compareTo_0 : List UInt8 := [42, 43, 192, 0, 1, 182, 1, 28, 172]
abbrev dktJ1_compareTo_0 : List UInt8 := dkwJ1_compareTo_0 ++ []
theorem dksJ1_compareTo_0 : cJ1_compareTo.data.toList.drop 0 = dktJ1_compareTo_0 := by decide +kernel
theorem dJ1_compareTo_0 : decode cJ1_compareTo 0 = .ok (.aload_n 0, 1) := dk_42 (dk_at dksJ1_compareTo_0 0 rfl rfl)
theorem dJ1_compareTo_1 : decode cJ1_compareTo 1 = .ok (.aload_n 1, 1) := dk_43 (dk_at dksJ1_compareTo_0 1 rfl rfl)
theorem dJ1_compareTo_2 : decode cJ1_compareTo 2 = .ok (.checkcast 1, 3) := dk_192 0 1 (dk_at dksJ1_compareTo_0 2 rfl rfl)
theorem dJ1_compareTo_5 : decode cJ1_compareTo 5 = .ok (.invokevirtual 284, 3) := dk_182 1 28 (dk_at dksJ1_compareTo_0 5 rfl rfl)
theorem dJ1_compareTo_8 : decode cJ1_compareTo 8 = .ok (.ireturn, 1) := dk_172 (dk_at dksJ1_compareTo_0 8 rfl rfl)
abbrev cJ1_compareTo_2 : ByteArray := prog_40_method_39_code
def yJ1_compareTo_2 : MethodName := ⟨RJ1, "compareTo", "(Ljava/lang/Integer;)I"⟩
def dkwJ1_compareTo_2_0 : List UInt8 := [42, 180, 0, 205, 43, 180, 0, 205, 184, 1, 3, 172]
abbrev dktJ1_compareTo_2_0 : List UInt8 := dkwJ1_compareTo_2_0 ++ []
theorem dksJ1_compareTo_2_0 : cJ1_compareTo_2.data.toList.drop 0 = dktJ1_compareTo_2_0 := by decide +kernel
theorem dJ1_compareTo_2_0 : decode cJ1_compareTo_2 0 = .ok (.aload_n 0, 1) := dk_42 (dk_at dksJ1_compareTo_2_0 0 rfl rfl)
theorem dJ1_compareTo_2_1 : decode cJ1_compareTo_2 1 = .ok (.getfield 205, 3) := dk_180 0 205 (dk_at dksJ1_compareTo_2_0 1 rfl rfl)
theorem dJ1_compareTo_2_4 : decode cJ1_compareTo_2 4 = .ok (.aload_n 1, 1) := dk_43 (dk_at dksJ1_compareTo_2_0 4 rfl rfl)
theorem dJ1_compareTo_2_5 : decode cJ1_compareTo_2 5 = .ok (.getfield 205, 3) := dk_180 0 205 (dk_at dksJ1_compareTo_2_0 5 rfl rfl)
theorem dJ1_compareTo_2_8 : decode cJ1_compareTo_2 8 = .ok (.invokestatic 259, 3) := dk_184 1 3 (dk_at dksJ1_compareTo_2_0 8 rfl rfl)
theorem dJ1_compareTo_2_11 : decode cJ1_compareTo_2 11 = .ok (.ireturn, 1) := dk_172 (dk_at dksJ1_compareTo_2_0 11 rfl rfl)
abbrev cJ1_compare : ByteArray := prog_40_method_40_code
def yJ1_compare : MethodName := ⟨RJ1, "compare", "(II)I"⟩
def dkwJ1_compare_0 : List UInt8 := [26, 27, 162, 0, 7, 2, 167, 0, 13, 26, 27, 160, 0, 7, 3, 167, 0, 4, 4, 172]
abbrev dktJ1_compare_0 : List UInt8 := dkwJ1_compare_0 ++ []
theorem dksJ1_compare_0 : cJ1_compare.data.toList.drop 0 = dktJ1_compare_0 := by decide +kernel
theorem dJ1_compare_0 : decode cJ1_compare 0 = .ok (.iload_n 0, 1) := dk_26 (dk_at dksJ1_compare_0 0 rfl rfl)
theorem dJ1_compare_1 : decode cJ1_compare 1 = .ok (.iload_n 1, 1) := dk_27 (dk_at dksJ1_compare_0 1 rfl rfl)
theorem dJ1_compare_2 : decode cJ1_compare 2 = .ok (.if_icmp .ge 7, 3) := dk_162 0 7 (dk_at dksJ1_compare_0 2 rfl rfl)
theorem dJ1_compare_5 : decode cJ1_compare 5 = .ok (.iconst (-1), 1) := dk_2 (dk_at dksJ1_compare_0 5 rfl rfl)
theorem dJ1_compare_6 : decode cJ1_compare 6 = .ok (.goto 13, 3) := dk_167 0 13 (dk_at dksJ1_compare_0 6 rfl rfl)
theorem dJ1_compare_9 : decode cJ1_compare 9 = .ok (.iload_n 0, 1) := dk_26 (dk_at dksJ1_compare_0 9 rfl rfl)
theorem dJ1_compare_10 : decode cJ1_compare 10 = .ok (.iload_n 1, 1) := dk_27 (dk_at dksJ1_compare_0 10 rfl rfl)
theorem dJ1_compare_11 : decode cJ1_compare 11 = .ok (.if_icmp .ne 7, 3) := dk_160 0 7 (dk_at dksJ1_compare_0 11 rfl rfl)
theorem dJ1_compare_14 : decode cJ1_compare 14 = .ok (.iconst 0, 1) := dk_3 (dk_at dksJ1_compare_0 14 rfl rfl)
theorem dJ1_compare_15 : decode cJ1_compare 15 = .ok (.goto 4, 3) := dk_167 0 4 (dk_at dksJ1_compare_0 15 rfl rfl)
theorem dJ1_compare_18 : decode cJ1_compare 18 = .ok (.iconst 1, 1) := dk_4 (dk_at dksJ1_compare_0 18 rfl rfl)
theorem dJ1_compare_19 : decode cJ1_compare 19 = .ok (.ireturn, 1) := dk_172 (dk_at dksJ1_compare_0 19 rfl rfl)
abbrev cJ1_numberOfLeadingZeros : ByteArray := prog_40_method_47_code
def yJ1_numberOfLeadingZeros : MethodName := ⟨RJ1, "numberOfLeadingZeros", "(I)I"⟩
def dkwJ1_numberOfLeadingZeros_3 : List UInt8 := [5, 124, 59, 27, 26, 4, 124, 100, 172]
abbrev dktJ1_numberOfLeadingZeros_3 : List UInt8 := dkwJ1_numberOfLeadingZeros_3 ++ []
def dkwJ1_numberOfLeadingZeros_2 : List UInt8 := [124, 59, 26, 16, 16, 161, 0, 10, 132, 1, 252, 26, 7, 124, 59, 26, 7, 161, 0, 10, 132, 1, 254, 26]
abbrev dktJ1_numberOfLeadingZeros_2 : List UInt8 := dkwJ1_numberOfLeadingZeros_2 ++ dktJ1_numberOfLeadingZeros_3
def dkwJ1_numberOfLeadingZeros_1 : List UInt8 := [161, 0, 11, 132, 1, 240, 26, 16, 16, 124, 59, 26, 17, 1, 0, 161, 0, 11, 132, 1, 248, 26, 16, 8]
abbrev dktJ1_numberOfLeadingZeros_1 : List UInt8 := dkwJ1_numberOfLeadingZeros_1 ++ dktJ1_numberOfLeadingZeros_2
def dkwJ1_numberOfLeadingZeros_0 : List UInt8 := [26, 157, 0, 14, 26, 154, 0, 8, 16, 32, 167, 0, 4, 3, 172, 16, 31, 60, 26, 19, 1, 8]
abbrev dktJ1_numberOfLeadingZeros_0 : List UInt8 := dkwJ1_numberOfLeadingZeros_0 ++ dktJ1_numberOfLeadingZeros_1
theorem dksJ1_numberOfLeadingZeros_0 : cJ1_numberOfLeadingZeros.data.toList.drop 0 = dktJ1_numberOfLeadingZeros_0 := by decide +kernel
theorem dksJ1_numberOfLeadingZeros_1 : cJ1_numberOfLeadingZeros.data.toList.drop 22 = dktJ1_numberOfLeadingZeros_1 := dk_seg dksJ1_numberOfLeadingZeros_0 22 rfl rfl
theorem dksJ1_numberOfLeadingZeros_2 : cJ1_numberOfLeadingZeros.data.toList.drop 46 = dktJ1_numberOfLeadingZeros_2 := dk_seg dksJ1_numberOfLeadingZeros_1 24 rfl rfl
theorem dksJ1_numberOfLeadingZeros_3 : cJ1_numberOfLeadingZeros.data.toList.drop 70 = dktJ1_numberOfLeadingZeros_3 := dk_seg dksJ1_numberOfLeadingZeros_2 24 rfl rfl
theorem dJ1_numberOfLeadingZeros_0 : decode cJ1_numberOfLeadingZeros 0 = .ok (.iload_n 0, 1) := dk_26 (dk_at dksJ1_numberOfLeadingZeros_0 0 rfl rfl)
theorem dJ1_numberOfLeadingZeros_1 : decode cJ1_numberOfLeadingZeros 1 = .ok (.ifCond .gt 14, 3) := dk_157 0 14 (dk_at dksJ1_numberOfLeadingZeros_0 1 rfl rfl)
theorem dJ1_numberOfLeadingZeros_4 : decode cJ1_numberOfLeadingZeros 4 = .ok (.iload_n 0, 1) := dk_26 (dk_at dksJ1_numberOfLeadingZeros_0 4 rfl rfl)
theorem dJ1_numberOfLeadingZeros_5 : decode cJ1_numberOfLeadingZeros 5 = .ok (.ifCond .ne 8, 3) := dk_154 0 8 (dk_at dksJ1_numberOfLeadingZeros_0 5 rfl rfl)
theorem dJ1_numberOfLeadingZeros_8 : decode cJ1_numberOfLeadingZeros 8 = .ok (.bipush 32, 2) := dk_16 32 (dk_at dksJ1_numberOfLeadingZeros_0 8 rfl rfl)
theorem dJ1_numberOfLeadingZeros_10 : decode cJ1_numberOfLeadingZeros 10 = .ok (.goto 4, 3) := dk_167 0 4 (dk_at dksJ1_numberOfLeadingZeros_0 10 rfl rfl)
theorem dJ1_numberOfLeadingZeros_13 : decode cJ1_numberOfLeadingZeros 13 = .ok (.iconst 0, 1) := dk_3 (dk_at dksJ1_numberOfLeadingZeros_0 13 rfl rfl)
theorem dJ1_numberOfLeadingZeros_14 : decode cJ1_numberOfLeadingZeros 14 = .ok (.ireturn, 1) := dk_172 (dk_at dksJ1_numberOfLeadingZeros_0 14 rfl rfl)
theorem dJ1_numberOfLeadingZeros_15 : decode cJ1_numberOfLeadingZeros 15 = .ok (.bipush 31, 2) := dk_16 31 (dk_at dksJ1_numberOfLeadingZeros_0 15 rfl rfl)
theorem dJ1_numberOfLeadingZeros_17 : decode cJ1_numberOfLeadingZeros 17 = .ok (.istore_n 1, 1) := dk_60 (dk_at dksJ1_numberOfLeadingZeros_0 17 rfl rfl)
theorem dJ1_numberOfLeadingZeros_18 : decode cJ1_numberOfLeadingZeros 18 = .ok (.iload_n 0, 1) := dk_26 (dk_at dksJ1_numberOfLeadingZeros_0 18 rfl rfl)
theorem dJ1_numberOfLeadingZeros_19 : decode cJ1_numberOfLeadingZeros 19 = .ok (.ldc_w 264, 3) := dk_19 1 8 (dk_at dksJ1_numberOfLeadingZeros_0 19 rfl rfl)
theorem dJ1_numberOfLeadingZeros_22 : decode cJ1_numberOfLeadingZeros 22 = .ok (.if_icmp .lt 11, 3) := dk_161 0 11 (dk_at dksJ1_numberOfLeadingZeros_1 0 rfl rfl)
theorem dJ1_numberOfLeadingZeros_25 : decode cJ1_numberOfLeadingZeros 25 = .ok (.iinc 1 (-16), 3) := dk_132 1 240 (dk_at dksJ1_numberOfLeadingZeros_1 3 rfl rfl)
theorem dJ1_numberOfLeadingZeros_28 : decode cJ1_numberOfLeadingZeros 28 = .ok (.iload_n 0, 1) := dk_26 (dk_at dksJ1_numberOfLeadingZeros_1 6 rfl rfl)
theorem dJ1_numberOfLeadingZeros_29 : decode cJ1_numberOfLeadingZeros 29 = .ok (.bipush 16, 2) := dk_16 16 (dk_at dksJ1_numberOfLeadingZeros_1 7 rfl rfl)
theorem dJ1_numberOfLeadingZeros_31 : decode cJ1_numberOfLeadingZeros 31 = .ok (.iushr, 1) := dk_124 (dk_at dksJ1_numberOfLeadingZeros_1 9 rfl rfl)
theorem dJ1_numberOfLeadingZeros_32 : decode cJ1_numberOfLeadingZeros 32 = .ok (.istore_n 0, 1) := dk_59 (dk_at dksJ1_numberOfLeadingZeros_1 10 rfl rfl)
theorem dJ1_numberOfLeadingZeros_33 : decode cJ1_numberOfLeadingZeros 33 = .ok (.iload_n 0, 1) := dk_26 (dk_at dksJ1_numberOfLeadingZeros_1 11 rfl rfl)
theorem dJ1_numberOfLeadingZeros_34 : decode cJ1_numberOfLeadingZeros 34 = .ok (.sipush 256, 3) := dk_17 1 0 (dk_at dksJ1_numberOfLeadingZeros_1 12 rfl rfl)
theorem dJ1_numberOfLeadingZeros_37 : decode cJ1_numberOfLeadingZeros 37 = .ok (.if_icmp .lt 11, 3) := dk_161 0 11 (dk_at dksJ1_numberOfLeadingZeros_1 15 rfl rfl)
theorem dJ1_numberOfLeadingZeros_40 : decode cJ1_numberOfLeadingZeros 40 = .ok (.iinc 1 (-8), 3) := dk_132 1 248 (dk_at dksJ1_numberOfLeadingZeros_1 18 rfl rfl)
theorem dJ1_numberOfLeadingZeros_43 : decode cJ1_numberOfLeadingZeros 43 = .ok (.iload_n 0, 1) := dk_26 (dk_at dksJ1_numberOfLeadingZeros_1 21 rfl rfl)
theorem dJ1_numberOfLeadingZeros_44 : decode cJ1_numberOfLeadingZeros 44 = .ok (.bipush 8, 2) := dk_16 8 (dk_at dksJ1_numberOfLeadingZeros_1 22 rfl rfl)
theorem dJ1_numberOfLeadingZeros_46 : decode cJ1_numberOfLeadingZeros 46 = .ok (.iushr, 1) := dk_124 (dk_at dksJ1_numberOfLeadingZeros_2 0 rfl rfl)
theorem dJ1_numberOfLeadingZeros_47 : decode cJ1_numberOfLeadingZeros 47 = .ok (.istore_n 0, 1) := dk_59 (dk_at dksJ1_numberOfLeadingZeros_2 1 rfl rfl)
theorem dJ1_numberOfLeadingZeros_48 : decode cJ1_numberOfLeadingZeros 48 = .ok (.iload_n 0, 1) := dk_26 (dk_at dksJ1_numberOfLeadingZeros_2 2 rfl rfl)
theorem dJ1_numberOfLeadingZeros_49 : decode cJ1_numberOfLeadingZeros 49 = .ok (.bipush 16, 2) := dk_16 16 (dk_at dksJ1_numberOfLeadingZeros_2 3 rfl rfl)
theorem dJ1_numberOfLeadingZeros_51 : decode cJ1_numberOfLeadingZeros 51 = .ok (.if_icmp .lt 10, 3) := dk_161 0 10 (dk_at dksJ1_numberOfLeadingZeros_2 5 rfl rfl)
theorem dJ1_numberOfLeadingZeros_54 : decode cJ1_numberOfLeadingZeros 54 = .ok (.iinc 1 (-4), 3) := dk_132 1 252 (dk_at dksJ1_numberOfLeadingZeros_2 8 rfl rfl)
theorem dJ1_numberOfLeadingZeros_57 : decode cJ1_numberOfLeadingZeros 57 = .ok (.iload_n 0, 1) := dk_26 (dk_at dksJ1_numberOfLeadingZeros_2 11 rfl rfl)
theorem dJ1_numberOfLeadingZeros_58 : decode cJ1_numberOfLeadingZeros 58 = .ok (.iconst 4, 1) := dk_7 (dk_at dksJ1_numberOfLeadingZeros_2 12 rfl rfl)
theorem dJ1_numberOfLeadingZeros_59 : decode cJ1_numberOfLeadingZeros 59 = .ok (.iushr, 1) := dk_124 (dk_at dksJ1_numberOfLeadingZeros_2 13 rfl rfl)
theorem dJ1_numberOfLeadingZeros_60 : decode cJ1_numberOfLeadingZeros 60 = .ok (.istore_n 0, 1) := dk_59 (dk_at dksJ1_numberOfLeadingZeros_2 14 rfl rfl)
theorem dJ1_numberOfLeadingZeros_61 : decode cJ1_numberOfLeadingZeros 61 = .ok (.iload_n 0, 1) := dk_26 (dk_at dksJ1_numberOfLeadingZeros_2 15 rfl rfl)
theorem dJ1_numberOfLeadingZeros_62 : decode cJ1_numberOfLeadingZeros 62 = .ok (.iconst 4, 1) := dk_7 (dk_at dksJ1_numberOfLeadingZeros_2 16 rfl rfl)
theorem dJ1_numberOfLeadingZeros_63 : decode cJ1_numberOfLeadingZeros 63 = .ok (.if_icmp .lt 10, 3) := dk_161 0 10 (dk_at dksJ1_numberOfLeadingZeros_2 17 rfl rfl)
theorem dJ1_numberOfLeadingZeros_66 : decode cJ1_numberOfLeadingZeros 66 = .ok (.iinc 1 (-2), 3) := dk_132 1 254 (dk_at dksJ1_numberOfLeadingZeros_2 20 rfl rfl)
theorem dJ1_numberOfLeadingZeros_69 : decode cJ1_numberOfLeadingZeros 69 = .ok (.iload_n 0, 1) := dk_26 (dk_at dksJ1_numberOfLeadingZeros_2 23 rfl rfl)
theorem dJ1_numberOfLeadingZeros_70 : decode cJ1_numberOfLeadingZeros 70 = .ok (.iconst 2, 1) := dk_5 (dk_at dksJ1_numberOfLeadingZeros_3 0 rfl rfl)
theorem dJ1_numberOfLeadingZeros_71 : decode cJ1_numberOfLeadingZeros 71 = .ok (.iushr, 1) := dk_124 (dk_at dksJ1_numberOfLeadingZeros_3 1 rfl rfl)
theorem dJ1_numberOfLeadingZeros_72 : decode cJ1_numberOfLeadingZeros 72 = .ok (.istore_n 0, 1) := dk_59 (dk_at dksJ1_numberOfLeadingZeros_3 2 rfl rfl)
theorem dJ1_numberOfLeadingZeros_73 : decode cJ1_numberOfLeadingZeros 73 = .ok (.iload_n 1, 1) := dk_27 (dk_at dksJ1_numberOfLeadingZeros_3 3 rfl rfl)
theorem dJ1_numberOfLeadingZeros_74 : decode cJ1_numberOfLeadingZeros 74 = .ok (.iload_n 0, 1) := dk_26 (dk_at dksJ1_numberOfLeadingZeros_3 4 rfl rfl)
theorem dJ1_numberOfLeadingZeros_75 : decode cJ1_numberOfLeadingZeros 75 = .ok (.iconst 1, 1) := dk_4 (dk_at dksJ1_numberOfLeadingZeros_3 5 rfl rfl)
theorem dJ1_numberOfLeadingZeros_76 : decode cJ1_numberOfLeadingZeros 76 = .ok (.iushr, 1) := dk_124 (dk_at dksJ1_numberOfLeadingZeros_3 6 rfl rfl)
theorem dJ1_numberOfLeadingZeros_77 : decode cJ1_numberOfLeadingZeros 77 = .ok (.isub, 1) := dk_100 (dk_at dksJ1_numberOfLeadingZeros_3 7 rfl rfl)
theorem dJ1_numberOfLeadingZeros_78 : decode cJ1_numberOfLeadingZeros 78 = .ok (.ireturn, 1) := dk_172 (dk_at dksJ1_numberOfLeadingZeros_3 8 rfl rfl)
abbrev cJ1_equals : ByteArray := prog_40_method_34_code
def yJ1_equals : MethodName := ⟨RJ1, "equals", "(Ljava/lang/Object;)Z"⟩
def dkwJ1_equals_1 : List UInt8 := [167, 0, 4, 3, 172, 3, 172]
abbrev dktJ1_equals_1 : List UInt8 := dkwJ1_equals_1 ++ []
def dkwJ1_equals_0 : List UInt8 := [43, 193, 0, 1, 153, 0, 23, 42, 180, 0, 205, 43, 192, 0, 1, 182, 0, 211, 160, 0, 7, 4]
abbrev dktJ1_equals_0 : List UInt8 := dkwJ1_equals_0 ++ dktJ1_equals_1
theorem dksJ1_equals_0 : cJ1_equals.data.toList.drop 0 = dktJ1_equals_0 := by decide +kernel
theorem dksJ1_equals_1 : cJ1_equals.data.toList.drop 22 = dktJ1_equals_1 := dk_seg dksJ1_equals_0 22 rfl rfl
theorem dJ1_equals_0 : decode cJ1_equals 0 = .ok (.aload_n 1, 1) := dk_43 (dk_at dksJ1_equals_0 0 rfl rfl)
theorem dJ1_equals_1 : decode cJ1_equals 1 = .ok (.instanceof 1, 3) := dk_193 0 1 (dk_at dksJ1_equals_0 1 rfl rfl)
theorem dJ1_equals_4 : decode cJ1_equals 4 = .ok (.ifCond .eq 23, 3) := dk_153 0 23 (dk_at dksJ1_equals_0 4 rfl rfl)
theorem dJ1_equals_7 : decode cJ1_equals 7 = .ok (.aload_n 0, 1) := dk_42 (dk_at dksJ1_equals_0 7 rfl rfl)
theorem dJ1_equals_8 : decode cJ1_equals 8 = .ok (.getfield 205, 3) := dk_180 0 205 (dk_at dksJ1_equals_0 8 rfl rfl)
theorem dJ1_equals_11 : decode cJ1_equals 11 = .ok (.aload_n 1, 1) := dk_43 (dk_at dksJ1_equals_0 11 rfl rfl)
theorem dJ1_equals_12 : decode cJ1_equals 12 = .ok (.checkcast 1, 3) := dk_192 0 1 (dk_at dksJ1_equals_0 12 rfl rfl)
theorem dJ1_equals_15 : decode cJ1_equals 15 = .ok (.invokevirtual 211, 3) := dk_182 0 211 (dk_at dksJ1_equals_0 15 rfl rfl)
theorem dJ1_equals_18 : decode cJ1_equals 18 = .ok (.if_icmp .ne 7, 3) := dk_160 0 7 (dk_at dksJ1_equals_0 18 rfl rfl)
theorem dJ1_equals_21 : decode cJ1_equals 21 = .ok (.iconst 1, 1) := dk_4 (dk_at dksJ1_equals_0 21 rfl rfl)
theorem dJ1_equals_22 : decode cJ1_equals 22 = .ok (.goto 4, 3) := dk_167 0 4 (dk_at dksJ1_equals_1 0 rfl rfl)
theorem dJ1_equals_25 : decode cJ1_equals 25 = .ok (.iconst 0, 1) := dk_3 (dk_at dksJ1_equals_1 3 rfl rfl)
theorem dJ1_equals_26 : decode cJ1_equals 26 = .ok (.ireturn, 1) := dk_172 (dk_at dksJ1_equals_1 4 rfl rfl)
theorem dJ1_equals_27 : decode cJ1_equals 27 = .ok (.iconst 0, 1) := dk_3 (dk_at dksJ1_equals_1 5 rfl rfl)
theorem dJ1_equals_28 : decode cJ1_equals 28 = .ok (.ireturn, 1) := dk_172 (dk_at dksJ1_equals_1 6 rfl rfl)
theorem q90 : (Jvm.Cond.initialized "java/lang/Integer") ∈ lw_all := lw_g (lw_at lw_m1 4 rfl) rfl
theorem q191 : (Jvm.Cond.static ({ cls := "java/lang/Integer", name := "valueOf", desc := "(I)Ljava/lang/Integer;" } : Jvm.MethodName)) ∈ lw_all := lw_g (lw_at lw_m1 105 rfl) rfl
theorem q192 : (Jvm.Cond.code ({ cls := "java/lang/Integer", name := "valueOf", desc := "(I)Ljava/lang/Integer;" } : Jvm.MethodName) prog_40_method_22_code (1 : Nat) (Option.some (Jvm.ClassFile.FieldType.object "java/lang/Integer"))) ∈ lw_all := lw_g (lw_at lw_m1 106 rfl) rfl
theorem q193 : (Jvm.Cond.fieldLink "java/lang/Integer" (191 : Nat) "java/lang/Integer$IntegerCache" "high" "I") ∈ lw_all := lw_g (lw_at lw_m1 107 rfl) rfl
theorem q195 : (Jvm.Cond.fieldLink "java/lang/Integer" (195 : Nat) "java/lang/Integer$IntegerCache" "cache" "[Ljava/lang/Integer;") ∈ lw_all := lw_g (lw_at lw_m1 109 rfl) rfl
theorem q197 : (Jvm.Cond.classLink "java/lang/Integer" (1 : Nat) "java/lang/Integer") ∈ lw_all := lw_g (lw_at lw_m1 111 rfl) rfl
theorem q198 : (Jvm.Cond.instantiable "java/lang/Integer" (1 : Nat)) ∈ lw_all := lw_g (lw_at lw_m1 112 rfl) rfl
theorem q199 : (Jvm.Cond.methodLink "java/lang/Integer" (199 : Nat) ({ cls := "java/lang/Integer", name := "<init>", desc := "(I)V" } : Jvm.MethodName)) ∈ lw_all := lw_g (lw_at lw_m1 113 rfl) rfl
theorem q200 : (Jvm.Cond.instanceMethod ({ cls := "java/lang/Integer", name := "<init>", desc := "(I)V" } : Jvm.MethodName)) ∈ lw_all := lw_g (lw_at lw_m1 114 rfl) rfl
theorem q201 : (Jvm.Cond.code ({ cls := "java/lang/Integer", name := "<init>", desc := "(I)V" } : Jvm.MethodName) prog_40_method_23_code (2 : Nat) (Option.none : Option Jvm.ClassFile.FieldType)) ∈ lw_all := lw_g (lw_at lw_m1 115 rfl) rfl
theorem q202 : (Jvm.Cond.methodLink "java/lang/Integer" (202 : Nat) ({ cls := "java/lang/Number", name := "<init>", desc := "()V" } : Jvm.MethodName)) ∈ lw_all := lw_g (lw_at lw_m1 116 rfl) rfl
theorem q206 : (Jvm.Cond.fieldLink "java/lang/Integer" (205 : Nat) "java/lang/Integer" "value" "I") ∈ lw_all := lw_g (lw_at lw_m1 120 rfl) rfl
theorem q207 : (Jvm.Cond.laysFinal "java/lang/Integer" "java/lang/Integer" "value" "I") ∈ lw_all := lw_g (lw_at lw_m1 121 rfl) rfl
theorem q208 : (Jvm.Cond.soleField "java/lang/Integer" "value") ∈ lw_all := lw_g (lw_at lw_m1 122 rfl) rfl
theorem q209 : (Jvm.Cond.superclass "java/lang/Integer" "java/lang/Number") ∈ lw_all := lw_g (lw_at lw_m1 123 rfl) rfl
theorem q253 : (Jvm.Cond.selects "java/lang/Integer" ({ cls := "java/lang/Object", name := "getClass", desc := "()Ljava/lang/Class;" } : Jvm.MethodName) ({ cls := "java/lang/Object", name := "getClass", desc := "()Ljava/lang/Class;" } : Jvm.MethodName)) ∈ lw_all := lw_g (lw_at lw_m1 167 rfl) rfl
theorem q1113 : (Jvm.Cond.static ({ cls := "java/lang/Integer", name := "stringSize", desc := "(I)I" } : Jvm.MethodName)) ∈ lw_all := lw_g (lw_at lw_m5 67 rfl) rfl
theorem q1114 : (Jvm.Cond.code ({ cls := "java/lang/Integer", name := "stringSize", desc := "(I)I" } : Jvm.MethodName) prog_40_method_13_code (4 : Nat) (Option.some Jvm.ClassFile.FieldType.int)) ∈ lw_all := lw_g (lw_at lw_m5 68 rfl) rfl
theorem q1116 : (Jvm.Cond.static ({ cls := "java/lang/Integer", name := "getChars", desc := "(II[B)I" } : Jvm.MethodName)) ∈ lw_all := lw_g (lw_at lw_m5 70 rfl) rfl
theorem q1117 : (Jvm.Cond.code ({ cls := "java/lang/Integer", name := "getChars", desc := "(II[B)I" } : Jvm.MethodName) prog_40_method_12_code (7 : Nat) (Option.some Jvm.ClassFile.FieldType.int)) ∈ lw_all := lw_g (lw_at lw_m5 71 rfl) rfl
theorem q1118 : (Jvm.Cond.fieldLink "java/lang/Integer" (83 : Nat) "java/lang/Integer" "DigitOnes" "[B") ∈ lw_all := lw_g (lw_at lw_m5 72 rfl) rfl
theorem q1119 : (Jvm.Cond.laysStatic "java/lang/Integer" "DigitOnes" "[B") ∈ lw_tbl := lw_at lw_m5 73 rfl
theorem q1120 : (Jvm.Cond.fieldLink "java/lang/Integer" (87 : Nat) "java/lang/Integer" "DigitTens" "[B") ∈ lw_all := lw_g (lw_at lw_m5 74 rfl) rfl
theorem q1121 : (Jvm.Cond.laysStatic "java/lang/Integer" "DigitTens" "[B") ∈ lw_tbl := lw_at lw_m5 75 rfl
theorem q1894 : (Jvm.Cond.static ({ cls := "java/lang/Integer", name := "numberOfTrailingZeros", desc := "(I)I" } : Jvm.MethodName)) ∈ lw_all := lw_g (lw_at lw_m8 128 rfl) rfl
theorem q1895 : (Jvm.Cond.code ({ cls := "java/lang/Integer", name := "numberOfTrailingZeros", desc := "(I)I" } : Jvm.MethodName) prog_40_method_48_code (2 : Nat) (Option.some Jvm.ClassFile.FieldType.int)) ∈ lw_all := lw_g (lw_at lw_m8 129 rfl) rfl
theorem q1896 : (Jvm.Cond.constant "java/lang/Integer" (264 : Nat) (65536 : Int32)) ∈ lw_all := lw_g (lw_at lw_m8 130 rfl) rfl
theorem q2259 : (Jvm.Cond.instanceMethod ({ cls := "java/lang/Integer", name := "intValue", desc := "()I" } : Jvm.MethodName)) ∈ lw_all := lw_g (lw_at lw_m10 13 rfl) rfl
theorem q2260 : (Jvm.Cond.selects "java/lang/Integer" ({ cls := "java/lang/Integer", name := "intValue", desc := "()I" } : Jvm.MethodName) ({ cls := "java/lang/Integer", name := "intValue", desc := "()I" } : Jvm.MethodName)) ∈ lw_all := lw_g (lw_at lw_m10 14 rfl) rfl
theorem q2261 : (Jvm.Cond.code ({ cls := "java/lang/Integer", name := "intValue", desc := "()I" } : Jvm.MethodName) prog_40_method_27_code (1 : Nat) (Option.some Jvm.ClassFile.FieldType.int)) ∈ lw_all := lw_g (lw_at lw_m10 15 rfl) rfl
theorem q2810 : (Jvm.Cond.castable "java/lang/Integer" "java/lang/Comparable") ∈ lw_tbl := lw_at lw_m12 84 rfl
theorem q2811 : (Jvm.Cond.selects "java/lang/Integer" ({ cls := "java/lang/Comparable", name := "compareTo", desc := "(Ljava/lang/Object;)I" } : Jvm.MethodName) ({ cls := "java/lang/Integer", name := "compareTo", desc := "(Ljava/lang/Object;)I" } : Jvm.MethodName)) ∈ lw_all := lw_g (lw_at lw_m12 85 rfl) rfl
theorem q2812 : (Jvm.Cond.unhidden "java/lang/Integer" "compareTo" "(Ljava/lang/Object;)I") ∈ lw_tbl := lw_at lw_m12 86 rfl
theorem q2813 : (Jvm.Cond.instanceMethod ({ cls := "java/lang/Integer", name := "compareTo", desc := "(Ljava/lang/Object;)I" } : Jvm.MethodName)) ∈ lw_all := lw_g (lw_at lw_m12 87 rfl) rfl
theorem q2814 : (Jvm.Cond.publicMethod ({ cls := "java/lang/Integer", name := "compareTo", desc := "(Ljava/lang/Object;)I" } : Jvm.MethodName)) ∈ lw_tbl := lw_at lw_m12 88 rfl
theorem q2815 : (Jvm.Cond.code ({ cls := "java/lang/Integer", name := "compareTo", desc := "(Ljava/lang/Object;)I" } : Jvm.MethodName) prog_40_method_63_code (2 : Nat) (Option.some Jvm.ClassFile.FieldType.int)) ∈ lw_all := lw_g (lw_at lw_m12 89 rfl) rfl
theorem q2816 : (Jvm.Cond.methodLink "java/lang/Integer" (284 : Nat) ({ cls := "java/lang/Integer", name := "compareTo", desc := "(Ljava/lang/Integer;)I" } : Jvm.MethodName)) ∈ lw_all := lw_g (lw_at lw_m12 90 rfl) rfl
theorem q2817 : (Jvm.Cond.instanceMethod ({ cls := "java/lang/Integer", name := "compareTo", desc := "(Ljava/lang/Integer;)I" } : Jvm.MethodName)) ∈ lw_all := lw_g (lw_at lw_m12 91 rfl) rfl
theorem q2818 : (Jvm.Cond.selects "java/lang/Integer" ({ cls := "java/lang/Integer", name := "compareTo", desc := "(Ljava/lang/Integer;)I" } : Jvm.MethodName) ({ cls := "java/lang/Integer", name := "compareTo", desc := "(Ljava/lang/Integer;)I" } : Jvm.MethodName)) ∈ lw_all := lw_g (lw_at lw_m12 92 rfl) rfl
theorem q2819 : (Jvm.Cond.code ({ cls := "java/lang/Integer", name := "compareTo", desc := "(Ljava/lang/Integer;)I" } : Jvm.MethodName) prog_40_method_39_code (2 : Nat) (Option.some Jvm.ClassFile.FieldType.int)) ∈ lw_all := lw_g (lw_at lw_m12 93 rfl) rfl
theorem q2820 : (Jvm.Cond.methodLink "java/lang/Integer" (259 : Nat) ({ cls := "java/lang/Integer", name := "compare", desc := "(II)I" } : Jvm.MethodName)) ∈ lw_all := lw_g (lw_at lw_m12 94 rfl) rfl
theorem q2821 : (Jvm.Cond.static ({ cls := "java/lang/Integer", name := "compare", desc := "(II)I" } : Jvm.MethodName)) ∈ lw_all := lw_g (lw_at lw_m12 95 rfl) rfl
theorem q2822 : (Jvm.Cond.code ({ cls := "java/lang/Integer", name := "compare", desc := "(II)I" } : Jvm.MethodName) prog_40_method_40_code (2 : Nat) (Option.some Jvm.ClassFile.FieldType.int)) ∈ lw_all := lw_g (lw_at lw_m12 96 rfl) rfl
theorem q2913 : (Jvm.Cond.static ({ cls := "java/lang/Integer", name := "numberOfLeadingZeros", desc := "(I)I" } : Jvm.MethodName)) ∈ lw_all := lw_g (lw_at lw_m12 187 rfl) rfl
theorem q2914 : (Jvm.Cond.code ({ cls := "java/lang/Integer", name := "numberOfLeadingZeros", desc := "(I)I" } : Jvm.MethodName) prog_40_method_47_code (2 : Nat) (Option.some Jvm.ClassFile.FieldType.int)) ∈ lw_all := lw_g (lw_at lw_m12 188 rfl) rfl
theorem q3043 : (Jvm.Cond.selects "java/lang/Integer" ({ cls := "java/lang/Object", name := "equals", desc := "(Ljava/lang/Object;)Z" } : Jvm.MethodName) ({ cls := "java/lang/Integer", name := "equals", desc := "(Ljava/lang/Object;)Z" } : Jvm.MethodName)) ∈ lw_all := lw_g (lw_at lw_m13 77 rfl) rfl
theorem q3044 : (Jvm.Cond.instanceMethod ({ cls := "java/lang/Integer", name := "equals", desc := "(Ljava/lang/Object;)Z" } : Jvm.MethodName)) ∈ lw_all := lw_g (lw_at lw_m13 78 rfl) rfl
theorem q3045 : (Jvm.Cond.code ({ cls := "java/lang/Integer", name := "equals", desc := "(Ljava/lang/Object;)Z" } : Jvm.MethodName) prog_40_method_34_code (2 : Nat) (Option.some Jvm.ClassFile.FieldType.boolean)) ∈ lw_all := lw_g (lw_at lw_m13 79 rfl) rfl
theorem q3046 : (Jvm.Cond.methodLink "java/lang/Integer" (211 : Nat) ({ cls := "java/lang/Integer", name := "intValue", desc := "()I" } : Jvm.MethodName)) ∈ lw_all := lw_g (lw_at lw_m13 80 rfl) rfl
theorem q3802 : (Jvm.Cond.castable "java/lang/Integer" "java/lang/Object") ∈ lw_tbl := lw_at lw_m16 116 rfl
theorem in_J1 : ∀ w ∈ wsJ10, w ∈ lw_all := lw_in wsJ10 [207] (by decide +kernel) (by decide +kernel)
/-! java/util/List -/
set_option maxRecDepth 100000
def RJ2 : String := "java/util/List"
abbrev cJ2_of : ByteArray := prog_83_method_43_code
def yJ2_of : MethodName := ⟨RJ2, "of", "(Ljava/lang/Object;Ljava/lang/Object;Ljava/lang/Object;Ljava/lang/Object;Ljava/lang/Object;Ljava/lang/Object;Ljava/lang/Object;)Ljava/util/List;"⟩
def dkwJ2_of_1 : List UInt8 := [25, 4, 83, 89, 8, 25, 5, 83, 89, 16, 6, 25, 6, 83, 184, 0, 105, 176]
abbrev dktJ2_of_1 : List UInt8 := dkwJ2_of_1 ++ []
def dkwJ2_of_0 : List UInt8 := [16, 7, 189, 0, 103, 89, 3, 42, 83, 89, 4, 43, 83, 89, 5, 44, 83, 89, 6, 45, 83, 89, 7]
abbrev dktJ2_of_0 : List UInt8 := dkwJ2_of_0 ++ dktJ2_of_1
theorem dksJ2_of_0 : cJ2_of.data.toList.drop 0 = dktJ2_of_0 := by decide +kernel
theorem dksJ2_of_1 : cJ2_of.data.toList.drop 23 = dktJ2_of_1 := dk_seg dksJ2_of_0 23 rfl rfl
theorem dJ2_of_0 : decode cJ2_of 0 = .ok (.bipush 7, 2) := dk_16 7 (dk_at dksJ2_of_0 0 rfl rfl)
theorem dJ2_of_2 : decode cJ2_of 2 = .ok (.anewarray 103, 3) := dk_189 0 103 (dk_at dksJ2_of_0 2 rfl rfl)
theorem dJ2_of_5 : decode cJ2_of 5 = .ok (.dup, 1) := dk_89 (dk_at dksJ2_of_0 5 rfl rfl)
theorem dJ2_of_6 : decode cJ2_of 6 = .ok (.iconst 0, 1) := dk_3 (dk_at dksJ2_of_0 6 rfl rfl)
theorem dJ2_of_7 : decode cJ2_of 7 = .ok (.aload_n 0, 1) := dk_42 (dk_at dksJ2_of_0 7 rfl rfl)
theorem dJ2_of_8 : decode cJ2_of 8 = .ok (.aastore, 1) := dk_83 (dk_at dksJ2_of_0 8 rfl rfl)
theorem dJ2_of_9 : decode cJ2_of 9 = .ok (.dup, 1) := dk_89 (dk_at dksJ2_of_0 9 rfl rfl)
theorem dJ2_of_10 : decode cJ2_of 10 = .ok (.iconst 1, 1) := dk_4 (dk_at dksJ2_of_0 10 rfl rfl)
theorem dJ2_of_11 : decode cJ2_of 11 = .ok (.aload_n 1, 1) := dk_43 (dk_at dksJ2_of_0 11 rfl rfl)
theorem dJ2_of_12 : decode cJ2_of 12 = .ok (.aastore, 1) := dk_83 (dk_at dksJ2_of_0 12 rfl rfl)
theorem dJ2_of_13 : decode cJ2_of 13 = .ok (.dup, 1) := dk_89 (dk_at dksJ2_of_0 13 rfl rfl)
theorem dJ2_of_14 : decode cJ2_of 14 = .ok (.iconst 2, 1) := dk_5 (dk_at dksJ2_of_0 14 rfl rfl)
theorem dJ2_of_15 : decode cJ2_of 15 = .ok (.aload_n 2, 1) := dk_44 (dk_at dksJ2_of_0 15 rfl rfl)
theorem dJ2_of_16 : decode cJ2_of 16 = .ok (.aastore, 1) := dk_83 (dk_at dksJ2_of_0 16 rfl rfl)
theorem dJ2_of_17 : decode cJ2_of 17 = .ok (.dup, 1) := dk_89 (dk_at dksJ2_of_0 17 rfl rfl)
theorem dJ2_of_18 : decode cJ2_of 18 = .ok (.iconst 3, 1) := dk_6 (dk_at dksJ2_of_0 18 rfl rfl)
theorem dJ2_of_19 : decode cJ2_of 19 = .ok (.aload_n 3, 1) := dk_45 (dk_at dksJ2_of_0 19 rfl rfl)
theorem dJ2_of_20 : decode cJ2_of 20 = .ok (.aastore, 1) := dk_83 (dk_at dksJ2_of_0 20 rfl rfl)
theorem dJ2_of_21 : decode cJ2_of 21 = .ok (.dup, 1) := dk_89 (dk_at dksJ2_of_0 21 rfl rfl)
theorem dJ2_of_22 : decode cJ2_of 22 = .ok (.iconst 4, 1) := dk_7 (dk_at dksJ2_of_0 22 rfl rfl)
theorem dJ2_of_23 : decode cJ2_of 23 = .ok (.aload 4, 2) := dk_25 4 (dk_at dksJ2_of_1 0 rfl rfl)
theorem dJ2_of_25 : decode cJ2_of 25 = .ok (.aastore, 1) := dk_83 (dk_at dksJ2_of_1 2 rfl rfl)
theorem dJ2_of_26 : decode cJ2_of 26 = .ok (.dup, 1) := dk_89 (dk_at dksJ2_of_1 3 rfl rfl)
theorem dJ2_of_27 : decode cJ2_of 27 = .ok (.iconst 5, 1) := dk_8 (dk_at dksJ2_of_1 4 rfl rfl)
theorem dJ2_of_28 : decode cJ2_of 28 = .ok (.aload 5, 2) := dk_25 5 (dk_at dksJ2_of_1 5 rfl rfl)
theorem dJ2_of_30 : decode cJ2_of 30 = .ok (.aastore, 1) := dk_83 (dk_at dksJ2_of_1 7 rfl rfl)
theorem dJ2_of_31 : decode cJ2_of 31 = .ok (.dup, 1) := dk_89 (dk_at dksJ2_of_1 8 rfl rfl)
theorem dJ2_of_32 : decode cJ2_of 32 = .ok (.bipush 6, 2) := dk_16 6 (dk_at dksJ2_of_1 9 rfl rfl)
theorem dJ2_of_34 : decode cJ2_of 34 = .ok (.aload 6, 2) := dk_25 6 (dk_at dksJ2_of_1 11 rfl rfl)
theorem dJ2_of_36 : decode cJ2_of 36 = .ok (.aastore, 1) := dk_83 (dk_at dksJ2_of_1 13 rfl rfl)
theorem dJ2_of_37 : decode cJ2_of 37 = .ok (.invokestatic 105, 3) := dk_184 0 105 (dk_at dksJ2_of_1 14 rfl rfl)
theorem dJ2_of_40 : decode cJ2_of 40 = .ok (.areturn, 1) := dk_176 (dk_at dksJ2_of_1 17 rfl rfl)
theorem q92 : (Jvm.Cond.initialized "java/util/List") ∈ lw_all := lw_g (lw_at lw_m1 6 rfl) rfl
theorem q211 : (Jvm.Cond.static ({ cls := "java/util/List", name := "of", desc := "(Ljava/lang/Object;Ljava/lang/Object;Ljava/lang/Object;Ljava/lang/Object;Ljava/lang/Object;Ljava/lang/Object;Ljava/lang/Object;)Ljava/util/List;" } : Jvm.MethodName)) ∈ lw_all := lw_g (lw_at lw_m1 125 rfl) rfl
theorem q212 : (Jvm.Cond.code ({ cls := "java/util/List", name := "of", desc := "(Ljava/lang/Object;Ljava/lang/Object;Ljava/lang/Object;Ljava/lang/Object;Ljava/lang/Object;Ljava/lang/Object;Ljava/lang/Object;)Ljava/util/List;" } : Jvm.MethodName) prog_83_method_43_code (7 : Nat) (Option.some (Jvm.ClassFile.FieldType.object "java/util/List"))) ∈ lw_all := lw_g (lw_at lw_m1 126 rfl) rfl
theorem q213 : (Jvm.Cond.classLink "java/util/List" (103 : Nat) "java/lang/Object") ∈ lw_all := lw_g (lw_at lw_m1 127 rfl) rfl
theorem q215 : (Jvm.Cond.methodLink "java/util/List" (105 : Nat) ({ cls := "java/util/ImmutableCollections", name := "listFromTrustedArray", desc := "([Ljava/lang/Object;)Ljava/util/List;" } : Jvm.MethodName)) ∈ lw_all := lw_g (lw_at lw_m1 129 rfl) rfl
theorem q871 : (Jvm.Cond.interfaceMethod "java/util/List" "java/util/List" "add" "(Ljava/lang/Object;)Z") ∈ lw_tbl := lw_at lw_m4 65 rfl
theorem q872 : (Jvm.Cond.declares ({ cls := "java/util/List", name := "add", desc := "(Ljava/lang/Object;)Z" } : Jvm.MethodName)) ∈ lw_tbl := lw_at lw_m4 66 rfl
theorem q1267 : (Jvm.Cond.interfaceMethod "java/util/List" "java/util/List" "size" "()I") ∈ lw_tbl := lw_at lw_m5 221 rfl
theorem q1268 : (Jvm.Cond.declares ({ cls := "java/util/List", name := "size", desc := "()I" } : Jvm.MethodName)) ∈ lw_tbl := lw_at lw_m5 222 rfl
theorem q1297 : (Jvm.Cond.interfaceMethod "java/util/List" "java/util/List" "iterator" "()Ljava/util/Iterator;") ∈ lw_tbl := lw_at lw_m6 11 rfl
theorem q1298 : (Jvm.Cond.declares ({ cls := "java/util/List", name := "iterator", desc := "()Ljava/util/Iterator;" } : Jvm.MethodName)) ∈ lw_tbl := lw_at lw_m6 12 rfl
theorem q1659 : (Jvm.Cond.interfaceMethod "java/util/List" "java/util/List" "get" "(I)Ljava/lang/Object;") ∈ lw_tbl := lw_at lw_m7 133 rfl
theorem q1660 : (Jvm.Cond.declares ({ cls := "java/util/List", name := "get", desc := "(I)Ljava/lang/Object;" } : Jvm.MethodName)) ∈ lw_tbl := lw_at lw_m7 134 rfl
theorem q2762 : (Jvm.Cond.interfaceMethod "java/util/List" "java/util/List" "set" "(ILjava/lang/Object;)Ljava/lang/Object;") ∈ lw_tbl := lw_at lw_m12 36 rfl
theorem q2763 : (Jvm.Cond.declares ({ cls := "java/util/List", name := "set", desc := "(ILjava/lang/Object;)Ljava/lang/Object;" } : Jvm.MethodName)) ∈ lw_tbl := lw_at lw_m12 37 rfl
theorem q2998 : (Jvm.Cond.interfaceMethod "java/util/List" "java/util/List" "indexOf" "(Ljava/lang/Object;)I") ∈ lw_tbl := lw_at lw_m13 32 rfl
theorem q2999 : (Jvm.Cond.declares ({ cls := "java/util/List", name := "indexOf", desc := "(Ljava/lang/Object;)I" } : Jvm.MethodName)) ∈ lw_tbl := lw_at lw_m13 33 rfl
/-! java/util/ImmutableCollections -/
set_option maxRecDepth 100000
def RJ3 : String := "java/util/ImmutableCollections"
abbrev cJ3_listFromTrustedArray : ByteArray := prog_73_method_5_code
def yJ3_listFromTrustedArray : MethodName := ⟨RJ3, "listFromTrustedArray", "([Ljava/lang/Object;)Ljava/util/List;"⟩
def dkwJ3_listFromTrustedArray_5 : List UInt8 := [3, 50, 42, 4, 50, 183, 0, 67, 167, 0, 12, 187, 0, 12, 89, 42, 3, 183, 0, 43, 176]
abbrev dktJ3_listFromTrustedArray_5 : List UInt8 := dkwJ3_listFromTrustedArray_5 ++ []
def dkwJ3_listFromTrustedArray_4 : List UInt8 := [178, 0, 60, 167, 0, 41, 187, 0, 10, 89, 42, 3, 50, 183, 0, 64, 167, 0, 28, 187, 0, 10, 89, 42]
abbrev dktJ3_listFromTrustedArray_4 : List UInt8 := dkwJ3_listFromTrustedArray_4 ++ dktJ3_listFromTrustedArray_5
def dkwJ3_listFromTrustedArray_3 : List UInt8 := [170, 0, 0, 0, 0, 61, 0, 0, 0, 0, 0, 0, 0, 2, 0, 0, 0, 26, 0, 0, 0, 32, 0, 0, 0, 45]
abbrev dktJ3_listFromTrustedArray_3 : List UInt8 := dkwJ3_listFromTrustedArray_3 ++ dktJ3_listFromTrustedArray_4
def dkwJ3_listFromTrustedArray_2 : List UInt8 := [132, 3, 1, 167, 255, 237, 42, 190]
abbrev dktJ3_listFromTrustedArray_2 : List UInt8 := dkwJ3_listFromTrustedArray_2 ++ dktJ3_listFromTrustedArray_3
def dkwJ3_listFromTrustedArray_1 : List UInt8 := [76, 43, 190, 61, 3, 62, 29, 28, 162, 0, 20, 43, 29, 50, 58, 4, 25, 4, 184, 0, 37, 87]
abbrev dktJ3_listFromTrustedArray_1 : List UInt8 := dkwJ3_listFromTrustedArray_1 ++ dktJ3_listFromTrustedArray_2
def dkwJ3_listFromTrustedArray_0 : List UInt8 := [178, 0, 46, 154, 0, 20, 42, 182, 0, 51, 18, 55, 165, 0, 11, 187, 0, 57, 89, 183, 0, 59, 191, 42]
abbrev dktJ3_listFromTrustedArray_0 : List UInt8 := dkwJ3_listFromTrustedArray_0 ++ dktJ3_listFromTrustedArray_1
theorem dksJ3_listFromTrustedArray_0 : cJ3_listFromTrustedArray.data.toList.drop 0 = dktJ3_listFromTrustedArray_0 := by decide +kernel
theorem dksJ3_listFromTrustedArray_1 : cJ3_listFromTrustedArray.data.toList.drop 24 = dktJ3_listFromTrustedArray_1 := dk_seg dksJ3_listFromTrustedArray_0 24 rfl rfl
theorem dksJ3_listFromTrustedArray_2 : cJ3_listFromTrustedArray.data.toList.drop 46 = dktJ3_listFromTrustedArray_2 := dk_seg dksJ3_listFromTrustedArray_1 22 rfl rfl
theorem dksJ3_listFromTrustedArray_3 : cJ3_listFromTrustedArray.data.toList.drop 54 = dktJ3_listFromTrustedArray_3 := dk_seg dksJ3_listFromTrustedArray_2 8 rfl rfl
theorem dksJ3_listFromTrustedArray_4 : cJ3_listFromTrustedArray.data.toList.drop 80 = dktJ3_listFromTrustedArray_4 := dk_seg dksJ3_listFromTrustedArray_3 26 rfl rfl
theorem dksJ3_listFromTrustedArray_5 : cJ3_listFromTrustedArray.data.toList.drop 104 = dktJ3_listFromTrustedArray_5 := dk_seg dksJ3_listFromTrustedArray_4 24 rfl rfl
theorem dJ3_listFromTrustedArray_0 : decode cJ3_listFromTrustedArray 0 = .ok (.getstatic 46, 3) := dk_178 0 46 (dk_at dksJ3_listFromTrustedArray_0 0 rfl rfl)
theorem dJ3_listFromTrustedArray_3 : decode cJ3_listFromTrustedArray 3 = .ok (.ifCond .ne 20, 3) := dk_154 0 20 (dk_at dksJ3_listFromTrustedArray_0 3 rfl rfl)
theorem dJ3_listFromTrustedArray_6 : decode cJ3_listFromTrustedArray 6 = .ok (.aload_n 0, 1) := dk_42 (dk_at dksJ3_listFromTrustedArray_0 6 rfl rfl)
theorem dJ3_listFromTrustedArray_7 : decode cJ3_listFromTrustedArray 7 = .ok (.invokevirtual 51, 3) := dk_182 0 51 (dk_at dksJ3_listFromTrustedArray_0 7 rfl rfl)
theorem dJ3_listFromTrustedArray_10 : decode cJ3_listFromTrustedArray 10 = .ok (.ldc 55, 2) := dk_18 55 (dk_at dksJ3_listFromTrustedArray_0 10 rfl rfl)
theorem dJ3_listFromTrustedArray_12 : decode cJ3_listFromTrustedArray 12 = .ok (.if_acmp .eq 11, 3) := dk_165 0 11 (dk_at dksJ3_listFromTrustedArray_0 12 rfl rfl)
theorem dJ3_listFromTrustedArray_15 : decode cJ3_listFromTrustedArray 15 = .ok (.new 57, 3) := dk_187 0 57 (dk_at dksJ3_listFromTrustedArray_0 15 rfl rfl)
theorem dJ3_listFromTrustedArray_18 : decode cJ3_listFromTrustedArray 18 = .ok (.dup, 1) := dk_89 (dk_at dksJ3_listFromTrustedArray_0 18 rfl rfl)
theorem dJ3_listFromTrustedArray_19 : decode cJ3_listFromTrustedArray 19 = .ok (.invokespecial 59, 3) := dk_183 0 59 (dk_at dksJ3_listFromTrustedArray_0 19 rfl rfl)
theorem dJ3_listFromTrustedArray_22 : decode cJ3_listFromTrustedArray 22 = .ok (.athrow, 1) := dk_191 (dk_at dksJ3_listFromTrustedArray_0 22 rfl rfl)
theorem dJ3_listFromTrustedArray_23 : decode cJ3_listFromTrustedArray 23 = .ok (.aload_n 0, 1) := dk_42 (dk_at dksJ3_listFromTrustedArray_0 23 rfl rfl)
theorem dJ3_listFromTrustedArray_24 : decode cJ3_listFromTrustedArray 24 = .ok (.astore_n 1, 1) := dk_76 (dk_at dksJ3_listFromTrustedArray_1 0 rfl rfl)
theorem dJ3_listFromTrustedArray_25 : decode cJ3_listFromTrustedArray 25 = .ok (.aload_n 1, 1) := dk_43 (dk_at dksJ3_listFromTrustedArray_1 1 rfl rfl)
theorem dJ3_listFromTrustedArray_26 : decode cJ3_listFromTrustedArray 26 = .ok (.arraylength, 1) := dk_190 (dk_at dksJ3_listFromTrustedArray_1 2 rfl rfl)
theorem dJ3_listFromTrustedArray_27 : decode cJ3_listFromTrustedArray 27 = .ok (.istore_n 2, 1) := dk_61 (dk_at dksJ3_listFromTrustedArray_1 3 rfl rfl)
theorem dJ3_listFromTrustedArray_28 : decode cJ3_listFromTrustedArray 28 = .ok (.iconst 0, 1) := dk_3 (dk_at dksJ3_listFromTrustedArray_1 4 rfl rfl)
theorem dJ3_listFromTrustedArray_29 : decode cJ3_listFromTrustedArray 29 = .ok (.istore_n 3, 1) := dk_62 (dk_at dksJ3_listFromTrustedArray_1 5 rfl rfl)
theorem dJ3_listFromTrustedArray_30 : decode cJ3_listFromTrustedArray 30 = .ok (.iload_n 3, 1) := dk_29 (dk_at dksJ3_listFromTrustedArray_1 6 rfl rfl)
theorem dJ3_listFromTrustedArray_31 : decode cJ3_listFromTrustedArray 31 = .ok (.iload_n 2, 1) := dk_28 (dk_at dksJ3_listFromTrustedArray_1 7 rfl rfl)
theorem dJ3_listFromTrustedArray_32 : decode cJ3_listFromTrustedArray 32 = .ok (.if_icmp .ge 20, 3) := dk_162 0 20 (dk_at dksJ3_listFromTrustedArray_1 8 rfl rfl)
theorem dJ3_listFromTrustedArray_35 : decode cJ3_listFromTrustedArray 35 = .ok (.aload_n 1, 1) := dk_43 (dk_at dksJ3_listFromTrustedArray_1 11 rfl rfl)
theorem dJ3_listFromTrustedArray_36 : decode cJ3_listFromTrustedArray 36 = .ok (.iload_n 3, 1) := dk_29 (dk_at dksJ3_listFromTrustedArray_1 12 rfl rfl)
theorem dJ3_listFromTrustedArray_37 : decode cJ3_listFromTrustedArray 37 = .ok (.aaload, 1) := dk_50 (dk_at dksJ3_listFromTrustedArray_1 13 rfl rfl)
theorem dJ3_listFromTrustedArray_38 : decode cJ3_listFromTrustedArray 38 = .ok (.astore 4, 2) := dk_58 4 (dk_at dksJ3_listFromTrustedArray_1 14 rfl rfl)
theorem dJ3_listFromTrustedArray_40 : decode cJ3_listFromTrustedArray 40 = .ok (.aload 4, 2) := dk_25 4 (dk_at dksJ3_listFromTrustedArray_1 16 rfl rfl)
theorem dJ3_listFromTrustedArray_42 : decode cJ3_listFromTrustedArray 42 = .ok (.invokestatic 37, 3) := dk_184 0 37 (dk_at dksJ3_listFromTrustedArray_1 18 rfl rfl)
theorem dJ3_listFromTrustedArray_45 : decode cJ3_listFromTrustedArray 45 = .ok (.pop, 1) := dk_87 (dk_at dksJ3_listFromTrustedArray_1 21 rfl rfl)
theorem dJ3_listFromTrustedArray_46 : decode cJ3_listFromTrustedArray 46 = .ok (.iinc 3 1, 3) := dk_132 3 1 (dk_at dksJ3_listFromTrustedArray_2 0 rfl rfl)
theorem dJ3_listFromTrustedArray_49 : decode cJ3_listFromTrustedArray 49 = .ok (.goto (-19), 3) := dk_167 255 237 (dk_at dksJ3_listFromTrustedArray_2 3 rfl rfl)
theorem dJ3_listFromTrustedArray_52 : decode cJ3_listFromTrustedArray 52 = .ok (.aload_n 0, 1) := dk_42 (dk_at dksJ3_listFromTrustedArray_2 6 rfl rfl)
theorem dJ3_listFromTrustedArray_53 : decode cJ3_listFromTrustedArray 53 = .ok (.arraylength, 1) := dk_190 (dk_at dksJ3_listFromTrustedArray_2 7 rfl rfl)
theorem dJ3_listFromTrustedArray_54 : decode cJ3_listFromTrustedArray 54 = .ok (.tableswitch 61 0 2 #[26, 32, 45], 26) := by decide +kernel
theorem dJ3_listFromTrustedArray_80 : decode cJ3_listFromTrustedArray 80 = .ok (.getstatic 60, 3) := dk_178 0 60 (dk_at dksJ3_listFromTrustedArray_4 0 rfl rfl)
theorem dJ3_listFromTrustedArray_83 : decode cJ3_listFromTrustedArray 83 = .ok (.goto 41, 3) := dk_167 0 41 (dk_at dksJ3_listFromTrustedArray_4 3 rfl rfl)
theorem dJ3_listFromTrustedArray_86 : decode cJ3_listFromTrustedArray 86 = .ok (.new 10, 3) := dk_187 0 10 (dk_at dksJ3_listFromTrustedArray_4 6 rfl rfl)
theorem dJ3_listFromTrustedArray_89 : decode cJ3_listFromTrustedArray 89 = .ok (.dup, 1) := dk_89 (dk_at dksJ3_listFromTrustedArray_4 9 rfl rfl)
theorem dJ3_listFromTrustedArray_90 : decode cJ3_listFromTrustedArray 90 = .ok (.aload_n 0, 1) := dk_42 (dk_at dksJ3_listFromTrustedArray_4 10 rfl rfl)
theorem dJ3_listFromTrustedArray_91 : decode cJ3_listFromTrustedArray 91 = .ok (.iconst 0, 1) := dk_3 (dk_at dksJ3_listFromTrustedArray_4 11 rfl rfl)
theorem dJ3_listFromTrustedArray_92 : decode cJ3_listFromTrustedArray 92 = .ok (.aaload, 1) := dk_50 (dk_at dksJ3_listFromTrustedArray_4 12 rfl rfl)
theorem dJ3_listFromTrustedArray_93 : decode cJ3_listFromTrustedArray 93 = .ok (.invokespecial 64, 3) := dk_183 0 64 (dk_at dksJ3_listFromTrustedArray_4 13 rfl rfl)
theorem dJ3_listFromTrustedArray_96 : decode cJ3_listFromTrustedArray 96 = .ok (.goto 28, 3) := dk_167 0 28 (dk_at dksJ3_listFromTrustedArray_4 16 rfl rfl)
theorem dJ3_listFromTrustedArray_99 : decode cJ3_listFromTrustedArray 99 = .ok (.new 10, 3) := dk_187 0 10 (dk_at dksJ3_listFromTrustedArray_4 19 rfl rfl)
theorem dJ3_listFromTrustedArray_102 : decode cJ3_listFromTrustedArray 102 = .ok (.dup, 1) := dk_89 (dk_at dksJ3_listFromTrustedArray_4 22 rfl rfl)
theorem dJ3_listFromTrustedArray_103 : decode cJ3_listFromTrustedArray 103 = .ok (.aload_n 0, 1) := dk_42 (dk_at dksJ3_listFromTrustedArray_4 23 rfl rfl)
theorem dJ3_listFromTrustedArray_104 : decode cJ3_listFromTrustedArray 104 = .ok (.iconst 0, 1) := dk_3 (dk_at dksJ3_listFromTrustedArray_5 0 rfl rfl)
theorem dJ3_listFromTrustedArray_105 : decode cJ3_listFromTrustedArray 105 = .ok (.aaload, 1) := dk_50 (dk_at dksJ3_listFromTrustedArray_5 1 rfl rfl)
theorem dJ3_listFromTrustedArray_106 : decode cJ3_listFromTrustedArray 106 = .ok (.aload_n 0, 1) := dk_42 (dk_at dksJ3_listFromTrustedArray_5 2 rfl rfl)
theorem dJ3_listFromTrustedArray_107 : decode cJ3_listFromTrustedArray 107 = .ok (.iconst 1, 1) := dk_4 (dk_at dksJ3_listFromTrustedArray_5 3 rfl rfl)
theorem dJ3_listFromTrustedArray_108 : decode cJ3_listFromTrustedArray 108 = .ok (.aaload, 1) := dk_50 (dk_at dksJ3_listFromTrustedArray_5 4 rfl rfl)
theorem dJ3_listFromTrustedArray_109 : decode cJ3_listFromTrustedArray 109 = .ok (.invokespecial 67, 3) := dk_183 0 67 (dk_at dksJ3_listFromTrustedArray_5 5 rfl rfl)
theorem dJ3_listFromTrustedArray_112 : decode cJ3_listFromTrustedArray 112 = .ok (.goto 12, 3) := dk_167 0 12 (dk_at dksJ3_listFromTrustedArray_5 8 rfl rfl)
theorem dJ3_listFromTrustedArray_115 : decode cJ3_listFromTrustedArray 115 = .ok (.new 12, 3) := dk_187 0 12 (dk_at dksJ3_listFromTrustedArray_5 11 rfl rfl)
theorem dJ3_listFromTrustedArray_118 : decode cJ3_listFromTrustedArray 118 = .ok (.dup, 1) := dk_89 (dk_at dksJ3_listFromTrustedArray_5 14 rfl rfl)
theorem dJ3_listFromTrustedArray_119 : decode cJ3_listFromTrustedArray 119 = .ok (.aload_n 0, 1) := dk_42 (dk_at dksJ3_listFromTrustedArray_5 15 rfl rfl)
theorem dJ3_listFromTrustedArray_120 : decode cJ3_listFromTrustedArray 120 = .ok (.iconst 0, 1) := dk_3 (dk_at dksJ3_listFromTrustedArray_5 16 rfl rfl)
theorem dJ3_listFromTrustedArray_121 : decode cJ3_listFromTrustedArray 121 = .ok (.invokespecial 43, 3) := dk_183 0 43 (dk_at dksJ3_listFromTrustedArray_5 17 rfl rfl)
theorem dJ3_listFromTrustedArray_124 : decode cJ3_listFromTrustedArray 124 = .ok (.areturn, 1) := dk_176 (dk_at dksJ3_listFromTrustedArray_5 20 rfl rfl)
theorem q93 : (Jvm.Cond.initialized "java/util/ImmutableCollections") ∈ lw_all := lw_g (lw_at lw_m1 7 rfl) rfl
theorem q216 : (Jvm.Cond.static ({ cls := "java/util/ImmutableCollections", name := "listFromTrustedArray", desc := "([Ljava/lang/Object;)Ljava/util/List;" } : Jvm.MethodName)) ∈ lw_all := lw_g (lw_at lw_m1 130 rfl) rfl
theorem q217 : (Jvm.Cond.code ({ cls := "java/util/ImmutableCollections", name := "listFromTrustedArray", desc := "([Ljava/lang/Object;)Ljava/util/List;" } : Jvm.MethodName) prog_73_method_5_code (5 : Nat) (Option.some (Jvm.ClassFile.FieldType.object "java/util/List"))) ∈ lw_all := lw_g (lw_at lw_m1 131 rfl) rfl
theorem q218 : (Jvm.Cond.fieldLink "java/util/ImmutableCollections" (46 : Nat) "java/util/ImmutableCollections" "$assertionsDisabled" "Z") ∈ lw_all := lw_g (lw_at lw_m1 132 rfl) rfl
theorem q219 : (Jvm.Cond.laysStatic "java/util/ImmutableCollections" "$assertionsDisabled" "Z") ∈ lw_tbl := lw_at lw_m1 133 rfl
theorem q220 : (Jvm.Cond.methodLink "java/util/ImmutableCollections" (51 : Nat) ({ cls := "java/lang/Object", name := "getClass", desc := "()Ljava/lang/Class;" } : Jvm.MethodName)) ∈ lw_all := lw_g (lw_at lw_m1 134 rfl) rfl
theorem q276 : (Jvm.Cond.classLink "java/util/ImmutableCollections" (55 : Nat) "[Ljava/lang/Object;") ∈ lw_all := lw_g (lw_at lw_m1 190 rfl) rfl
theorem q277 : (Jvm.Cond.methodLink "java/util/ImmutableCollections" (37 : Nat) ({ cls := "java/util/Objects", name := "requireNonNull", desc := "(Ljava/lang/Object;)Ljava/lang/Object;" } : Jvm.MethodName)) ∈ lw_all := lw_g (lw_at lw_m1 191 rfl) rfl
theorem q280 : (Jvm.Cond.fieldLink "java/util/ImmutableCollections" (60 : Nat) "java/util/ImmutableCollections" "EMPTY_LIST" "Ljava/util/ImmutableCollections$ListN;") ∈ lw_all := lw_g (lw_at lw_m1 194 rfl) rfl
theorem q281 : (Jvm.Cond.laysStatic "java/util/ImmutableCollections" "EMPTY_LIST" "Ljava/util/ImmutableCollections$ListN;") ∈ lw_tbl := lw_at lw_m1 195 rfl
theorem q282 : (Jvm.Cond.classLink "java/util/ImmutableCollections" (10 : Nat) "java/util/ImmutableCollections$List12") ∈ lw_all := lw_g (lw_at lw_m1 196 rfl) rfl
theorem q284 : (Jvm.Cond.methodLink "java/util/ImmutableCollections" (64 : Nat) ({ cls := "java/util/ImmutableCollections$List12", name := "<init>", desc := "(Ljava/lang/Object;)V" } : Jvm.MethodName)) ∈ lw_all := lw_g (lw_at lw_m1 198 rfl) rfl
theorem q299 : (Jvm.Cond.laysStatic "java/util/ImmutableCollections" "EMPTY" "Ljava/lang/Object;") ∈ lw_tbl := lw_at lw_m1 213 rfl
theorem q307 : (Jvm.Cond.methodLink "java/util/ImmutableCollections" (67 : Nat) ({ cls := "java/util/ImmutableCollections$List12", name := "<init>", desc := "(Ljava/lang/Object;Ljava/lang/Object;)V" } : Jvm.MethodName)) ∈ lw_all := lw_g (lw_at lw_m1 221 rfl) rfl
theorem q310 : (Jvm.Cond.classLink "java/util/ImmutableCollections" (12 : Nat) "java/util/ImmutableCollections$ListN") ∈ lw_all := lw_g (lw_at lw_m1 224 rfl) rfl
theorem q312 : (Jvm.Cond.methodLinkNest "java/util/ImmutableCollections" (43 : Nat) ({ cls := "java/util/ImmutableCollections$ListN", name := "<init>", desc := "([Ljava/lang/Object;Z)V" } : Jvm.MethodName) "java/util/ImmutableCollections") ∈ lw_tbl := lw_at lw_m1 226 rfl
/-! java/util/Objects -/
set_option maxRecDepth 100000
def RJ4 : String := "java/util/Objects"
abbrev cJ4_requireNonNull : ByteArray := prog_86_method_10_code
def yJ4_requireNonNull : MethodName := ⟨RJ4, "requireNonNull", "(Ljava/lang/Object;)Ljava/lang/Object;"⟩
def dkwJ4_requireNonNull_0 : List UInt8 := [42, 199, 0, 11, 187, 0, 84, 89, 183, 0, 86, 191, 42, 176]
abbrev dktJ4_requireNonNull_0 : List UInt8 := dkwJ4_requireNonNull_0 ++ []
theorem dksJ4_requireNonNull_0 : cJ4_requireNonNull.data.toList.drop 0 = dktJ4_requireNonNull_0 := by decide +kernel
theorem dJ4_requireNonNull_0 : decode cJ4_requireNonNull 0 = .ok (.aload_n 0, 1) := dk_42 (dk_at dksJ4_requireNonNull_0 0 rfl rfl)
theorem dJ4_requireNonNull_1 : decode cJ4_requireNonNull 1 = .ok (.ifnonnull 11, 3) := dk_199 0 11 (dk_at dksJ4_requireNonNull_0 1 rfl rfl)
theorem dJ4_requireNonNull_4 : decode cJ4_requireNonNull 4 = .ok (.new 84, 3) := dk_187 0 84 (dk_at dksJ4_requireNonNull_0 4 rfl rfl)
theorem dJ4_requireNonNull_7 : decode cJ4_requireNonNull 7 = .ok (.dup, 1) := dk_89 (dk_at dksJ4_requireNonNull_0 7 rfl rfl)
theorem dJ4_requireNonNull_8 : decode cJ4_requireNonNull 8 = .ok (.invokespecial 86, 3) := dk_183 0 86 (dk_at dksJ4_requireNonNull_0 8 rfl rfl)
theorem dJ4_requireNonNull_11 : decode cJ4_requireNonNull 11 = .ok (.athrow, 1) := dk_191 (dk_at dksJ4_requireNonNull_0 11 rfl rfl)
theorem dJ4_requireNonNull_12 : decode cJ4_requireNonNull 12 = .ok (.aload_n 0, 1) := dk_42 (dk_at dksJ4_requireNonNull_0 12 rfl rfl)
theorem dJ4_requireNonNull_13 : decode cJ4_requireNonNull 13 = .ok (.areturn, 1) := dk_176 (dk_at dksJ4_requireNonNull_0 13 rfl rfl)
abbrev cJ4_checkIndex : ByteArray := prog_86_method_17_code
def yJ4_checkIndex : MethodName := ⟨RJ4, "checkIndex", "(II)I"⟩
def dkwJ4_checkIndex_0 : List UInt8 := [26, 27, 1, 184, 0, 105, 172]
abbrev dktJ4_checkIndex_0 : List UInt8 := dkwJ4_checkIndex_0 ++ []
theorem dksJ4_checkIndex_0 : cJ4_checkIndex.data.toList.drop 0 = dktJ4_checkIndex_0 := by decide +kernel
theorem dJ4_checkIndex_0 : decode cJ4_checkIndex 0 = .ok (.iload_n 0, 1) := dk_26 (dk_at dksJ4_checkIndex_0 0 rfl rfl)
theorem dJ4_checkIndex_1 : decode cJ4_checkIndex 1 = .ok (.iload_n 1, 1) := dk_27 (dk_at dksJ4_checkIndex_0 1 rfl rfl)
theorem dJ4_checkIndex_2 : decode cJ4_checkIndex 2 = .ok (.aconst_null, 1) := dk_1 (dk_at dksJ4_checkIndex_0 2 rfl rfl)
theorem dJ4_checkIndex_3 : decode cJ4_checkIndex 3 = .ok (.invokestatic 105, 3) := dk_184 0 105 (dk_at dksJ4_checkIndex_0 3 rfl rfl)
theorem dJ4_checkIndex_6 : decode cJ4_checkIndex 6 = .ok (.ireturn, 1) := dk_172 (dk_at dksJ4_checkIndex_0 6 rfl rfl)
abbrev cJ4_equals : ByteArray := prog_86_method_2_code
def yJ4_equals : MethodName := ⟨RJ4, "equals", "(Ljava/lang/Object;Ljava/lang/Object;)Z"⟩
def dkwJ4_equals_0 : List UInt8 := [42, 43, 165, 0, 15, 42, 198, 0, 15, 42, 43, 182, 0, 14, 153, 0, 7, 4, 167, 0, 4, 3, 172]
abbrev dktJ4_equals_0 : List UInt8 := dkwJ4_equals_0 ++ []
theorem dksJ4_equals_0 : cJ4_equals.data.toList.drop 0 = dktJ4_equals_0 := by decide +kernel
theorem dJ4_equals_0 : decode cJ4_equals 0 = .ok (.aload_n 0, 1) := dk_42 (dk_at dksJ4_equals_0 0 rfl rfl)
theorem dJ4_equals_1 : decode cJ4_equals 1 = .ok (.aload_n 1, 1) := dk_43 (dk_at dksJ4_equals_0 1 rfl rfl)
theorem dJ4_equals_2 : decode cJ4_equals 2 = .ok (.if_acmp .eq 15, 3) := dk_165 0 15 (dk_at dksJ4_equals_0 2 rfl rfl)
theorem dJ4_equals_5 : decode cJ4_equals 5 = .ok (.aload_n 0, 1) := dk_42 (dk_at dksJ4_equals_0 5 rfl rfl)
theorem dJ4_equals_6 : decode cJ4_equals 6 = .ok (.ifnull 15, 3) := dk_198 0 15 (dk_at dksJ4_equals_0 6 rfl rfl)
theorem dJ4_equals_9 : decode cJ4_equals 9 = .ok (.aload_n 0, 1) := dk_42 (dk_at dksJ4_equals_0 9 rfl rfl)
theorem dJ4_equals_10 : decode cJ4_equals 10 = .ok (.aload_n 1, 1) := dk_43 (dk_at dksJ4_equals_0 10 rfl rfl)
theorem dJ4_equals_11 : decode cJ4_equals 11 = .ok (.invokevirtual 14, 3) := dk_182 0 14 (dk_at dksJ4_equals_0 11 rfl rfl)
theorem dJ4_equals_14 : decode cJ4_equals 14 = .ok (.ifCond .eq 7, 3) := dk_153 0 7 (dk_at dksJ4_equals_0 14 rfl rfl)
theorem dJ4_equals_17 : decode cJ4_equals 17 = .ok (.iconst 1, 1) := dk_4 (dk_at dksJ4_equals_0 17 rfl rfl)
theorem dJ4_equals_18 : decode cJ4_equals 18 = .ok (.goto 4, 3) := dk_167 0 4 (dk_at dksJ4_equals_0 18 rfl rfl)
theorem dJ4_equals_21 : decode cJ4_equals 21 = .ok (.iconst 0, 1) := dk_3 (dk_at dksJ4_equals_0 21 rfl rfl)
theorem dJ4_equals_22 : decode cJ4_equals 22 = .ok (.ireturn, 1) := dk_172 (dk_at dksJ4_equals_0 22 rfl rfl)
theorem q94 : (Jvm.Cond.initialized "java/util/Objects") ∈ lw_all := lw_g (lw_at lw_m1 8 rfl) rfl
theorem q278 : (Jvm.Cond.static ({ cls := "java/util/Objects", name := "requireNonNull", desc := "(Ljava/lang/Object;)Ljava/lang/Object;" } : Jvm.MethodName)) ∈ lw_all := lw_g (lw_at lw_m1 192 rfl) rfl
theorem q279 : (Jvm.Cond.code ({ cls := "java/util/Objects", name := "requireNonNull", desc := "(Ljava/lang/Object;)Ljava/lang/Object;" } : Jvm.MethodName) prog_86_method_10_code (1 : Nat) (Option.some (Jvm.ClassFile.FieldType.object "java/lang/Object"))) ∈ lw_all := lw_g (lw_at lw_m1 193 rfl) rfl
theorem q1534 : (Jvm.Cond.static ({ cls := "java/util/Objects", name := "checkIndex", desc := "(II)I" } : Jvm.MethodName)) ∈ lw_all := lw_g (lw_at lw_m7 8 rfl) rfl
theorem q1535 : (Jvm.Cond.code ({ cls := "java/util/Objects", name := "checkIndex", desc := "(II)I" } : Jvm.MethodName) prog_86_method_17_code (2 : Nat) (Option.some Jvm.ClassFile.FieldType.int)) ∈ lw_all := lw_g (lw_at lw_m7 9 rfl) rfl
theorem q1536 : (Jvm.Cond.methodLink "java/util/Objects" (105 : Nat) ({ cls := "jdk/internal/util/Preconditions", name := "checkIndex", desc := "(IILjava/util/function/BiFunction;)I" } : Jvm.MethodName)) ∈ lw_all := lw_g (lw_at lw_m7 10 rfl) rfl
theorem q3082 : (Jvm.Cond.static ({ cls := "java/util/Objects", name := "equals", desc := "(Ljava/lang/Object;Ljava/lang/Object;)Z" } : Jvm.MethodName)) ∈ lw_all := lw_g (lw_at lw_m13 116 rfl) rfl
theorem q3083 : (Jvm.Cond.code ({ cls := "java/util/Objects", name := "equals", desc := "(Ljava/lang/Object;Ljava/lang/Object;)Z" } : Jvm.MethodName) prog_86_method_2_code (2 : Nat) (Option.some Jvm.ClassFile.FieldType.boolean)) ∈ lw_all := lw_g (lw_at lw_m13 117 rfl) rfl
theorem q3084 : (Jvm.Cond.methodLink "java/util/Objects" (14 : Nat) ({ cls := "java/lang/Object", name := "equals", desc := "(Ljava/lang/Object;)Z" } : Jvm.MethodName)) ∈ lw_all := lw_g (lw_at lw_m13 118 rfl) rfl
/-! java/util/AbstractCollection -/
set_option maxRecDepth 100000
def RJ5 : String := "java/util/AbstractCollection"
abbrev cJ5_init : ByteArray := prog_56_method_1_code
def yJ5_init : MethodName := ⟨RJ5, "<init>", "()V"⟩
theorem dJ5_init_0 : decode cJ5_init 0 = .ok (.aload_n 0, 1) := by decide +kernel
theorem dJ5_init_1 : decode cJ5_init 1 = .ok (.invokespecial 1, 3) := by decide +kernel
theorem dJ5_init_4 : decode cJ5_init 4 = .ok (.return_, 1) := by decide +kernel
abbrev cJ5_isEmpty : ByteArray := prog_56_method_4_code
def yJ5_isEmpty : MethodName := ⟨RJ5, "isEmpty", "()Z"⟩
def dkwJ5_isEmpty_0 : List UInt8 := [42, 182, 0, 7, 154, 0, 7, 4, 167, 0, 4, 3, 172]
abbrev dktJ5_isEmpty_0 : List UInt8 := dkwJ5_isEmpty_0 ++ []
theorem dksJ5_isEmpty_0 : cJ5_isEmpty.data.toList.drop 0 = dktJ5_isEmpty_0 := by decide +kernel
theorem dJ5_isEmpty_0 : decode cJ5_isEmpty 0 = .ok (.aload_n 0, 1) := dk_42 (dk_at dksJ5_isEmpty_0 0 rfl rfl)
theorem dJ5_isEmpty_1 : decode cJ5_isEmpty 1 = .ok (.invokevirtual 7, 3) := dk_182 0 7 (dk_at dksJ5_isEmpty_0 1 rfl rfl)
theorem dJ5_isEmpty_4 : decode cJ5_isEmpty 4 = .ok (.ifCond .ne 7, 3) := dk_154 0 7 (dk_at dksJ5_isEmpty_0 4 rfl rfl)
theorem dJ5_isEmpty_7 : decode cJ5_isEmpty 7 = .ok (.iconst 1, 1) := dk_4 (dk_at dksJ5_isEmpty_0 7 rfl rfl)
theorem dJ5_isEmpty_8 : decode cJ5_isEmpty 8 = .ok (.goto 4, 3) := dk_167 0 4 (dk_at dksJ5_isEmpty_0 8 rfl rfl)
theorem dJ5_isEmpty_11 : decode cJ5_isEmpty 11 = .ok (.iconst 0, 1) := dk_3 (dk_at dksJ5_isEmpty_0 11 rfl rfl)
theorem dJ5_isEmpty_12 : decode cJ5_isEmpty 12 = .ok (.ireturn, 1) := dk_172 (dk_at dksJ5_isEmpty_0 12 rfl rfl)
theorem q95 : (Jvm.Cond.initialized "java/util/AbstractCollection") ∈ lw_all := lw_g (lw_at lw_m1 9 rfl) rfl
theorem q294 : (Jvm.Cond.instanceMethod ({ cls := "java/util/AbstractCollection", name := "<init>", desc := "()V" } : Jvm.MethodName)) ∈ lw_all := lw_g (lw_at lw_m1 208 rfl) rfl
theorem q295 : (Jvm.Cond.code ({ cls := "java/util/AbstractCollection", name := "<init>", desc := "()V" } : Jvm.MethodName) prog_56_method_1_code (1 : Nat) (Option.none : Option Jvm.ClassFile.FieldType)) ∈ lw_all := lw_g (lw_at lw_m1 209 rfl) rfl
theorem q296 : (Jvm.Cond.methodLink "java/util/AbstractCollection" (1 : Nat) ({ cls := "java/lang/Object", name := "<init>", desc := "()V" } : Jvm.MethodName)) ∈ lw_all := lw_g (lw_at lw_m1 210 rfl) rfl
theorem q924 : (Jvm.Cond.declares ({ cls := "java/util/AbstractCollection", name := "size", desc := "()I" } : Jvm.MethodName)) ∈ lw_tbl := lw_at lw_m4 118 rfl
theorem q3150 : (Jvm.Cond.declares ({ cls := "java/util/AbstractCollection", name := "isEmpty", desc := "()Z" } : Jvm.MethodName)) ∈ lw_tbl := lw_at lw_m13 184 rfl
theorem q3152 : (Jvm.Cond.instanceMethod ({ cls := "java/util/AbstractCollection", name := "isEmpty", desc := "()Z" } : Jvm.MethodName)) ∈ lw_all := lw_g (lw_at lw_m13 186 rfl) rfl
theorem q3153 : (Jvm.Cond.code ({ cls := "java/util/AbstractCollection", name := "isEmpty", desc := "()Z" } : Jvm.MethodName) prog_56_method_4_code (1 : Nat) (Option.some Jvm.ClassFile.FieldType.boolean)) ∈ lw_all := lw_g (lw_at lw_m13 187 rfl) rfl
theorem q3154 : (Jvm.Cond.methodLink "java/util/AbstractCollection" (7 : Nat) ({ cls := "java/util/AbstractCollection", name := "size", desc := "()I" } : Jvm.MethodName)) ∈ lw_all := lw_g (lw_at lw_m13 188 rfl) rfl
theorem q3768 : (Jvm.Cond.sameMethod "java/util/AbstractCollection" "java/util/AbstractCollection" "size" "()I") ∈ lw_all := lw_g (lw_at lw_m16 82 rfl) rfl
/-! java/util/ImmutableCollections$AbstractImmutableCollection -/
set_option maxRecDepth 100000
def RJ6 : String := "java/util/ImmutableCollections$AbstractImmutableCollection"
abbrev cJ6_init : ByteArray := prog_74_method_1_code
def yJ6_init : MethodName := ⟨RJ6, "<init>", "()V"⟩
theorem dJ6_init_0 : decode cJ6_init 0 = .ok (.aload_n 0, 1) := by decide +kernel
theorem dJ6_init_1 : decode cJ6_init 1 = .ok (.invokespecial 1, 3) := by decide +kernel
theorem dJ6_init_4 : decode cJ6_init 4 = .ok (.return_, 1) := by decide +kernel
abbrev cJ6_add : ByteArray := prog_74_method_2_code
def yJ6_add : MethodName := ⟨RJ6, "add", "(Ljava/lang/Object;)Z"⟩
theorem dJ6_add_0 : decode cJ6_add 0 = .ok (.invokestatic 7, 3) := by decide +kernel
theorem dJ6_add_3 : decode cJ6_add 3 = .ok (.athrow, 1) := by decide +kernel
theorem q96 : (Jvm.Cond.initialized "java/util/ImmutableCollections$AbstractImmutableCollection") ∈ lw_all := lw_g (lw_at lw_m1 10 rfl) rfl
theorem q291 : (Jvm.Cond.instanceMethod ({ cls := "java/util/ImmutableCollections$AbstractImmutableCollection", name := "<init>", desc := "()V" } : Jvm.MethodName)) ∈ lw_all := lw_g (lw_at lw_m1 205 rfl) rfl
theorem q292 : (Jvm.Cond.code ({ cls := "java/util/ImmutableCollections$AbstractImmutableCollection", name := "<init>", desc := "()V" } : Jvm.MethodName) prog_74_method_1_code (1 : Nat) (Option.none : Option Jvm.ClassFile.FieldType)) ∈ lw_all := lw_g (lw_at lw_m1 206 rfl) rfl
theorem q293 : (Jvm.Cond.methodLink "java/util/ImmutableCollections$AbstractImmutableCollection" (1 : Nat) ({ cls := "java/util/AbstractCollection", name := "<init>", desc := "()V" } : Jvm.MethodName)) ∈ lw_all := lw_g (lw_at lw_m1 207 rfl) rfl
theorem q1253 : (Jvm.Cond.instanceMethod ({ cls := "java/util/ImmutableCollections$AbstractImmutableCollection", name := "add", desc := "(Ljava/lang/Object;)Z" } : Jvm.MethodName)) ∈ lw_all := lw_g (lw_at lw_m5 207 rfl) rfl
theorem q1254 : (Jvm.Cond.publicMethod ({ cls := "java/util/ImmutableCollections$AbstractImmutableCollection", name := "add", desc := "(Ljava/lang/Object;)Z" } : Jvm.MethodName)) ∈ lw_tbl := lw_at lw_m5 208 rfl
theorem q1255 : (Jvm.Cond.code ({ cls := "java/util/ImmutableCollections$AbstractImmutableCollection", name := "add", desc := "(Ljava/lang/Object;)Z" } : Jvm.MethodName) prog_74_method_2_code (2 : Nat) (Option.some Jvm.ClassFile.FieldType.boolean)) ∈ lw_all := lw_g (lw_at lw_m5 209 rfl) rfl
/-! java/util/ImmutableCollections$AbstractImmutableList -/
set_option maxRecDepth 100000
def RJ7 : String := "java/util/ImmutableCollections$AbstractImmutableList"
abbrev cJ7_init : ByteArray := prog_75_method_1_code
def yJ7_init : MethodName := ⟨RJ7, "<init>", "()V"⟩
theorem dJ7_init_0 : decode cJ7_init 0 = .ok (.aload_n 0, 1) := by decide +kernel
theorem dJ7_init_1 : decode cJ7_init 1 = .ok (.invokespecial 1, 3) := by decide +kernel
theorem dJ7_init_4 : decode cJ7_init 4 = .ok (.return_, 1) := by decide +kernel
abbrev cJ7_iterator : ByteArray := prog_75_method_10_code
def yJ7_iterator : MethodName := ⟨RJ7, "iterator", "()Ljava/util/Iterator;"⟩
def dkwJ7_iterator_0 : List UInt8 := [187, 0, 61, 89, 42, 42, 182, 0, 13, 183, 0, 63, 176]
abbrev dktJ7_iterator_0 : List UInt8 := dkwJ7_iterator_0 ++ []
theorem dksJ7_iterator_0 : cJ7_iterator.data.toList.drop 0 = dktJ7_iterator_0 := by decide +kernel
theorem dJ7_iterator_0 : decode cJ7_iterator 0 = .ok (.new 61, 3) := dk_187 0 61 (dk_at dksJ7_iterator_0 0 rfl rfl)
theorem dJ7_iterator_3 : decode cJ7_iterator 3 = .ok (.dup, 1) := dk_89 (dk_at dksJ7_iterator_0 3 rfl rfl)
theorem dJ7_iterator_4 : decode cJ7_iterator 4 = .ok (.aload_n 0, 1) := dk_42 (dk_at dksJ7_iterator_0 4 rfl rfl)
theorem dJ7_iterator_5 : decode cJ7_iterator 5 = .ok (.aload_n 0, 1) := dk_42 (dk_at dksJ7_iterator_0 5 rfl rfl)
theorem dJ7_iterator_6 : decode cJ7_iterator 6 = .ok (.invokevirtual 13, 3) := dk_182 0 13 (dk_at dksJ7_iterator_0 6 rfl rfl)
theorem dJ7_iterator_9 : decode cJ7_iterator 9 = .ok (.invokespecial 63, 3) := dk_183 0 63 (dk_at dksJ7_iterator_0 9 rfl rfl)
theorem dJ7_iterator_12 : decode cJ7_iterator 12 = .ok (.areturn, 1) := dk_176 (dk_at dksJ7_iterator_0 12 rfl rfl)
abbrev cJ7_outOfBounds : ByteArray := prog_75_method_17_code
def yJ7_outOfBounds : MethodName := ⟨RJ7, "outOfBounds", "(I)Ljava/lang/IndexOutOfBoundsException;"⟩
def dkwJ7_outOfBounds_1 : List UInt8 := [182, 0, 36, 42, 182, 0, 13, 182, 0, 40, 182, 0, 43, 183, 0, 47, 176]
abbrev dktJ7_outOfBounds_1 : List UInt8 := dkwJ7_outOfBounds_1 ++ []
def dkwJ7_outOfBounds_0 : List UInt8 := [187, 0, 29, 89, 187, 0, 31, 89, 183, 0, 33, 18, 116, 182, 0, 36, 27, 182, 0, 40, 18, 118]
abbrev dktJ7_outOfBounds_0 : List UInt8 := dkwJ7_outOfBounds_0 ++ dktJ7_outOfBounds_1
theorem dksJ7_outOfBounds_0 : cJ7_outOfBounds.data.toList.drop 0 = dktJ7_outOfBounds_0 := by decide +kernel
theorem dksJ7_outOfBounds_1 : cJ7_outOfBounds.data.toList.drop 22 = dktJ7_outOfBounds_1 := dk_seg dksJ7_outOfBounds_0 22 rfl rfl
theorem dJ7_outOfBounds_0 : decode cJ7_outOfBounds 0 = .ok (.new 29, 3) := dk_187 0 29 (dk_at dksJ7_outOfBounds_0 0 rfl rfl)
theorem dJ7_outOfBounds_3 : decode cJ7_outOfBounds 3 = .ok (.dup, 1) := dk_89 (dk_at dksJ7_outOfBounds_0 3 rfl rfl)
theorem dJ7_outOfBounds_4 : decode cJ7_outOfBounds 4 = .ok (.new 31, 3) := dk_187 0 31 (dk_at dksJ7_outOfBounds_0 4 rfl rfl)
theorem dJ7_outOfBounds_7 : decode cJ7_outOfBounds 7 = .ok (.dup, 1) := dk_89 (dk_at dksJ7_outOfBounds_0 7 rfl rfl)
theorem dJ7_outOfBounds_8 : decode cJ7_outOfBounds 8 = .ok (.invokespecial 33, 3) := dk_183 0 33 (dk_at dksJ7_outOfBounds_0 8 rfl rfl)
theorem dJ7_outOfBounds_11 : decode cJ7_outOfBounds 11 = .ok (.ldc 116, 2) := dk_18 116 (dk_at dksJ7_outOfBounds_0 11 rfl rfl)
theorem dJ7_outOfBounds_13 : decode cJ7_outOfBounds 13 = .ok (.invokevirtual 36, 3) := dk_182 0 36 (dk_at dksJ7_outOfBounds_0 13 rfl rfl)
theorem dJ7_outOfBounds_16 : decode cJ7_outOfBounds 16 = .ok (.iload_n 1, 1) := dk_27 (dk_at dksJ7_outOfBounds_0 16 rfl rfl)
theorem dJ7_outOfBounds_17 : decode cJ7_outOfBounds 17 = .ok (.invokevirtual 40, 3) := dk_182 0 40 (dk_at dksJ7_outOfBounds_0 17 rfl rfl)
theorem dJ7_outOfBounds_20 : decode cJ7_outOfBounds 20 = .ok (.ldc 118, 2) := dk_18 118 (dk_at dksJ7_outOfBounds_0 20 rfl rfl)
theorem dJ7_outOfBounds_22 : decode cJ7_outOfBounds 22 = .ok (.invokevirtual 36, 3) := dk_182 0 36 (dk_at dksJ7_outOfBounds_1 0 rfl rfl)
theorem dJ7_outOfBounds_25 : decode cJ7_outOfBounds 25 = .ok (.aload_n 0, 1) := dk_42 (dk_at dksJ7_outOfBounds_1 3 rfl rfl)
theorem dJ7_outOfBounds_26 : decode cJ7_outOfBounds 26 = .ok (.invokevirtual 13, 3) := dk_182 0 13 (dk_at dksJ7_outOfBounds_1 4 rfl rfl)
theorem dJ7_outOfBounds_29 : decode cJ7_outOfBounds 29 = .ok (.invokevirtual 40, 3) := dk_182 0 40 (dk_at dksJ7_outOfBounds_1 7 rfl rfl)
theorem dJ7_outOfBounds_32 : decode cJ7_outOfBounds 32 = .ok (.invokevirtual 43, 3) := dk_182 0 43 (dk_at dksJ7_outOfBounds_1 10 rfl rfl)
theorem dJ7_outOfBounds_35 : decode cJ7_outOfBounds 35 = .ok (.invokespecial 47, 3) := dk_183 0 47 (dk_at dksJ7_outOfBounds_1 13 rfl rfl)
theorem dJ7_outOfBounds_38 : decode cJ7_outOfBounds 38 = .ok (.areturn, 1) := dk_176 (dk_at dksJ7_outOfBounds_1 16 rfl rfl)
abbrev cJ7_set : ByteArray := prog_75_method_6_code
def yJ7_set : MethodName := ⟨RJ7, "set", "(ILjava/lang/Object;)Ljava/lang/Object;"⟩
theorem dJ7_set_0 : decode cJ7_set 0 = .ok (.invokestatic 7, 3) := by decide +kernel
theorem dJ7_set_3 : decode cJ7_set 3 = .ok (.athrow, 1) := by decide +kernel
theorem q97 : (Jvm.Cond.initialized "java/util/ImmutableCollections$AbstractImmutableList") ∈ lw_all := lw_g (lw_at lw_m1 11 rfl) rfl
theorem q288 : (Jvm.Cond.instanceMethod ({ cls := "java/util/ImmutableCollections$AbstractImmutableList", name := "<init>", desc := "()V" } : Jvm.MethodName)) ∈ lw_all := lw_g (lw_at lw_m1 202 rfl) rfl
theorem q289 : (Jvm.Cond.code ({ cls := "java/util/ImmutableCollections$AbstractImmutableList", name := "<init>", desc := "()V" } : Jvm.MethodName) prog_75_method_1_code (1 : Nat) (Option.none : Option Jvm.ClassFile.FieldType)) ∈ lw_all := lw_g (lw_at lw_m1 203 rfl) rfl
theorem q290 : (Jvm.Cond.methodLink "java/util/ImmutableCollections$AbstractImmutableList" (1 : Nat) ({ cls := "java/util/ImmutableCollections$AbstractImmutableCollection", name := "<init>", desc := "()V" } : Jvm.MethodName)) ∈ lw_all := lw_g (lw_at lw_m1 204 rfl) rfl
theorem q1353 : (Jvm.Cond.instanceMethod ({ cls := "java/util/ImmutableCollections$AbstractImmutableList", name := "iterator", desc := "()Ljava/util/Iterator;" } : Jvm.MethodName)) ∈ lw_all := lw_g (lw_at lw_m6 67 rfl) rfl
theorem q1354 : (Jvm.Cond.publicMethod ({ cls := "java/util/ImmutableCollections$AbstractImmutableList", name := "iterator", desc := "()Ljava/util/Iterator;" } : Jvm.MethodName)) ∈ lw_tbl := lw_at lw_m6 68 rfl
theorem q1355 : (Jvm.Cond.code ({ cls := "java/util/ImmutableCollections$AbstractImmutableList", name := "iterator", desc := "()Ljava/util/Iterator;" } : Jvm.MethodName) prog_75_method_10_code (1 : Nat) (Option.some (Jvm.ClassFile.FieldType.object "java/util/Iterator"))) ∈ lw_all := lw_g (lw_at lw_m6 69 rfl) rfl
theorem q1356 : (Jvm.Cond.classLink "java/util/ImmutableCollections$AbstractImmutableList" (61 : Nat) "java/util/ImmutableCollections$ListItr") ∈ lw_all := lw_g (lw_at lw_m6 70 rfl) rfl
theorem q1358 : (Jvm.Cond.methodLink "java/util/ImmutableCollections$AbstractImmutableList" (13 : Nat) ({ cls := "java/util/ImmutableCollections$AbstractImmutableList", name := "size", desc := "()I" } : Jvm.MethodName)) ∈ lw_all := lw_g (lw_at lw_m6 72 rfl) rfl
theorem q1359 : (Jvm.Cond.sameMethod "java/util/ImmutableCollections$AbstractImmutableList" "java/util/AbstractCollection" "size" "()I") ∈ lw_all := lw_g (lw_at lw_m6 73 rfl) rfl
theorem q1362 : (Jvm.Cond.methodLink "java/util/ImmutableCollections$AbstractImmutableList" (63 : Nat) ({ cls := "java/util/ImmutableCollections$ListItr", name := "<init>", desc := "(Ljava/util/List;I)V" } : Jvm.MethodName)) ∈ lw_all := lw_g (lw_at lw_m6 76 rfl) rfl
theorem q1674 : (Jvm.Cond.declares ({ cls := "java/util/ImmutableCollections$AbstractImmutableList", name := "outOfBounds", desc := "(I)Ljava/lang/IndexOutOfBoundsException;" } : Jvm.MethodName)) ∈ lw_tbl := lw_at lw_m7 148 rfl
theorem q1676 : (Jvm.Cond.instanceMethod ({ cls := "java/util/ImmutableCollections$AbstractImmutableList", name := "outOfBounds", desc := "(I)Ljava/lang/IndexOutOfBoundsException;" } : Jvm.MethodName)) ∈ lw_all := lw_g (lw_at lw_m7 150 rfl) rfl
theorem q1677 : (Jvm.Cond.code ({ cls := "java/util/ImmutableCollections$AbstractImmutableList", name := "outOfBounds", desc := "(I)Ljava/lang/IndexOutOfBoundsException;" } : Jvm.MethodName) prog_75_method_17_code (2 : Nat) (Option.some (Jvm.ClassFile.FieldType.object "java/lang/IndexOutOfBoundsException"))) ∈ lw_all := lw_g (lw_at lw_m7 151 rfl) rfl
theorem q1678 : (Jvm.Cond.classLink "java/util/ImmutableCollections$AbstractImmutableList" (29 : Nat) "java/lang/IndexOutOfBoundsException") ∈ lw_all := lw_g (lw_at lw_m7 152 rfl) rfl
theorem q1679 : (Jvm.Cond.classLink "java/util/ImmutableCollections$AbstractImmutableList" (31 : Nat) "java/lang/StringBuilder") ∈ lw_all := lw_g (lw_at lw_m7 153 rfl) rfl
theorem q1680 : (Jvm.Cond.methodLink "java/util/ImmutableCollections$AbstractImmutableList" (33 : Nat) ({ cls := "java/lang/StringBuilder", name := "<init>", desc := "()V" } : Jvm.MethodName)) ∈ lw_all := lw_g (lw_at lw_m7 154 rfl) rfl
theorem q1681 : (Jvm.Cond.stringRef "java/util/ImmutableCollections$AbstractImmutableList" (116 : Nat) "Index: ") ∈ lw_tbl := lw_at lw_m7 155 rfl
theorem q1682 : (Jvm.Cond.methodLink "java/util/ImmutableCollections$AbstractImmutableList" (36 : Nat) ({ cls := "java/lang/StringBuilder", name := "append", desc := "(Ljava/lang/String;)Ljava/lang/StringBuilder;" } : Jvm.MethodName)) ∈ lw_all := lw_g (lw_at lw_m7 156 rfl) rfl
theorem q1683 : (Jvm.Cond.methodLink "java/util/ImmutableCollections$AbstractImmutableList" (40 : Nat) ({ cls := "java/lang/StringBuilder", name := "append", desc := "(I)Ljava/lang/StringBuilder;" } : Jvm.MethodName)) ∈ lw_all := lw_g (lw_at lw_m7 157 rfl) rfl
theorem q1684 : (Jvm.Cond.stringRef "java/util/ImmutableCollections$AbstractImmutableList" (118 : Nat) " Size: ") ∈ lw_tbl := lw_at lw_m7 158 rfl
theorem q1685 : (Jvm.Cond.methodLink "java/util/ImmutableCollections$AbstractImmutableList" (43 : Nat) ({ cls := "java/lang/StringBuilder", name := "toString", desc := "()Ljava/lang/String;" } : Jvm.MethodName)) ∈ lw_all := lw_g (lw_at lw_m7 159 rfl) rfl
theorem q1686 : (Jvm.Cond.methodLink "java/util/ImmutableCollections$AbstractImmutableList" (47 : Nat) ({ cls := "java/lang/IndexOutOfBoundsException", name := "<init>", desc := "(Ljava/lang/String;)V" } : Jvm.MethodName)) ∈ lw_all := lw_g (lw_at lw_m7 160 rfl) rfl
theorem q2776 : (Jvm.Cond.instanceMethod ({ cls := "java/util/ImmutableCollections$AbstractImmutableList", name := "set", desc := "(ILjava/lang/Object;)Ljava/lang/Object;" } : Jvm.MethodName)) ∈ lw_all := lw_g (lw_at lw_m12 50 rfl) rfl
theorem q2777 : (Jvm.Cond.publicMethod ({ cls := "java/util/ImmutableCollections$AbstractImmutableList", name := "set", desc := "(ILjava/lang/Object;)Ljava/lang/Object;" } : Jvm.MethodName)) ∈ lw_tbl := lw_at lw_m12 51 rfl
theorem q2778 : (Jvm.Cond.code ({ cls := "java/util/ImmutableCollections$AbstractImmutableList", name := "set", desc := "(ILjava/lang/Object;)Ljava/lang/Object;" } : Jvm.MethodName) prog_75_method_6_code (3 : Nat) (Option.some (Jvm.ClassFile.FieldType.object "java/lang/Object"))) ∈ lw_all := lw_g (lw_at lw_m12 52 rfl) rfl
/-! java/util/ImmutableCollections$ListN -/
set_option maxRecDepth 100000
def RJ9 : String := "java/util/ImmutableCollections$ListN"
def TJ9 : u_T := fun k => match k with
  | 0 => ("java/util/ImmutableCollections$ListN", "elements", "[Ljava/lang/Object;", true)
  | _ => ("java/util/ImmutableCollections$ListN", "allowNulls", "Z", true)
def tyJ9 : Nat → FieldType := fun k => match k with
  | 0 => .array (.object "java/lang/Object")
  | _ => .boolean
abbrev wsJ90 : List Cond := u_ws RJ9 TJ9 2
theorem nmJ9 : ∀ a, a < 2 → ∀ b, b < 2 → a ≠ b → (TJ9 a).2.1 ≠ (TJ9 b).2.1 := by decide +kernel
theorem tyJ9_ok : ∀ k, k < 2 → parseFieldDescriptor (TJ9 k).2.2.1 = some (tyJ9 k) := by decide +kernel
abbrev cJ9_init : ByteArray := prog_78_method_1_code
def yJ9_init : MethodName := ⟨RJ9, "<init>", "([Ljava/lang/Object;Z)V"⟩
def dkwJ9_init_0 : List UInt8 := [42, 183, 0, 1, 42, 43, 181, 0, 7, 42, 28, 181, 0, 13, 177]
abbrev dktJ9_init_0 : List UInt8 := dkwJ9_init_0 ++ []
theorem dksJ9_init_0 : cJ9_init.data.toList.drop 0 = dktJ9_init_0 := by decide +kernel
theorem dJ9_init_0 : decode cJ9_init 0 = .ok (.aload_n 0, 1) := dk_42 (dk_at dksJ9_init_0 0 rfl rfl)
theorem dJ9_init_1 : decode cJ9_init 1 = .ok (.invokespecial 1, 3) := dk_183 0 1 (dk_at dksJ9_init_0 1 rfl rfl)
theorem dJ9_init_4 : decode cJ9_init 4 = .ok (.aload_n 0, 1) := dk_42 (dk_at dksJ9_init_0 4 rfl rfl)
theorem dJ9_init_5 : decode cJ9_init 5 = .ok (.aload_n 1, 1) := dk_43 (dk_at dksJ9_init_0 5 rfl rfl)
theorem dJ9_init_6 : decode cJ9_init 6 = .ok (.putfield 7, 3) := dk_181 0 7 (dk_at dksJ9_init_0 6 rfl rfl)
theorem dJ9_init_9 : decode cJ9_init 9 = .ok (.aload_n 0, 1) := dk_42 (dk_at dksJ9_init_0 9 rfl rfl)
theorem dJ9_init_10 : decode cJ9_init 10 = .ok (.iload_n 2, 1) := dk_28 (dk_at dksJ9_init_0 10 rfl rfl)
theorem dJ9_init_11 : decode cJ9_init 11 = .ok (.putfield 13, 3) := dk_181 0 13 (dk_at dksJ9_init_0 11 rfl rfl)
theorem dJ9_init_14 : decode cJ9_init 14 = .ok (.return_, 1) := dk_177 (dk_at dksJ9_init_0 14 rfl rfl)
abbrev cJ9_size : ByteArray := prog_78_method_3_code
def yJ9_size : MethodName := ⟨RJ9, "size", "()I"⟩
def dkwJ9_size_0 : List UInt8 := [42, 180, 0, 7, 190, 172]
abbrev dktJ9_size_0 : List UInt8 := dkwJ9_size_0 ++ []
theorem dksJ9_size_0 : cJ9_size.data.toList.drop 0 = dktJ9_size_0 := by decide +kernel
theorem dJ9_size_0 : decode cJ9_size 0 = .ok (.aload_n 0, 1) := dk_42 (dk_at dksJ9_size_0 0 rfl rfl)
theorem dJ9_size_1 : decode cJ9_size 1 = .ok (.getfield 7, 3) := dk_180 0 7 (dk_at dksJ9_size_0 1 rfl rfl)
theorem dJ9_size_4 : decode cJ9_size 4 = .ok (.arraylength, 1) := dk_190 (dk_at dksJ9_size_0 4 rfl rfl)
theorem dJ9_size_5 : decode cJ9_size 5 = .ok (.ireturn, 1) := dk_172 (dk_at dksJ9_size_0 5 rfl rfl)
abbrev cJ9_get : ByteArray := prog_78_method_4_code
def yJ9_get : MethodName := ⟨RJ9, "get", "(I)Ljava/lang/Object;"⟩
def dkwJ9_get_0 : List UInt8 := [42, 180, 0, 7, 27, 50, 176]
abbrev dktJ9_get_0 : List UInt8 := dkwJ9_get_0 ++ []
theorem dksJ9_get_0 : cJ9_get.data.toList.drop 0 = dktJ9_get_0 := by decide +kernel
theorem dJ9_get_0 : decode cJ9_get 0 = .ok (.aload_n 0, 1) := dk_42 (dk_at dksJ9_get_0 0 rfl rfl)
theorem dJ9_get_1 : decode cJ9_get 1 = .ok (.getfield 7, 3) := dk_180 0 7 (dk_at dksJ9_get_0 1 rfl rfl)
theorem dJ9_get_4 : decode cJ9_get 4 = .ok (.iload_n 1, 1) := dk_27 (dk_at dksJ9_get_0 4 rfl rfl)
theorem dJ9_get_5 : decode cJ9_get 5 = .ok (.aaload, 1) := dk_50 (dk_at dksJ9_get_0 5 rfl rfl)
theorem dJ9_get_6 : decode cJ9_get 6 = .ok (.areturn, 1) := dk_176 (dk_at dksJ9_get_0 6 rfl rfl)
abbrev cJ9_toArray : ByteArray := prog_78_method_7_code
def yJ9_toArray : MethodName := ⟨RJ9, "toArray", "()[Ljava/lang/Object;"⟩
def dkwJ9_toArray_0 : List UInt8 := [42, 180, 0, 7, 42, 180, 0, 7, 190, 184, 0, 29, 176]
abbrev dktJ9_toArray_0 : List UInt8 := dkwJ9_toArray_0 ++ []
theorem dksJ9_toArray_0 : cJ9_toArray.data.toList.drop 0 = dktJ9_toArray_0 := by decide +kernel
theorem dJ9_toArray_0 : decode cJ9_toArray 0 = .ok (.aload_n 0, 1) := dk_42 (dk_at dksJ9_toArray_0 0 rfl rfl)
theorem dJ9_toArray_1 : decode cJ9_toArray 1 = .ok (.getfield 7, 3) := dk_180 0 7 (dk_at dksJ9_toArray_0 1 rfl rfl)
theorem dJ9_toArray_4 : decode cJ9_toArray 4 = .ok (.aload_n 0, 1) := dk_42 (dk_at dksJ9_toArray_0 4 rfl rfl)
theorem dJ9_toArray_5 : decode cJ9_toArray 5 = .ok (.getfield 7, 3) := dk_180 0 7 (dk_at dksJ9_toArray_0 5 rfl rfl)
theorem dJ9_toArray_8 : decode cJ9_toArray 8 = .ok (.arraylength, 1) := dk_190 (dk_at dksJ9_toArray_0 8 rfl rfl)
theorem dJ9_toArray_9 : decode cJ9_toArray 9 = .ok (.invokestatic 29, 3) := dk_184 0 29 (dk_at dksJ9_toArray_0 9 rfl rfl)
theorem dJ9_toArray_12 : decode cJ9_toArray 12 = .ok (.areturn, 1) := dk_176 (dk_at dksJ9_toArray_0 12 rfl rfl)
abbrev cJ9_indexOf : ByteArray := prog_78_method_9_code
def yJ9_indexOf : MethodName := ⟨RJ9, "indexOf", "(Ljava/lang/Object;)I"⟩
def dkwJ9_indexOf_2 : List UInt8 := [167, 255, 235, 2, 172]
abbrev dktJ9_indexOf_2 : List UInt8 := dkwJ9_indexOf_2 ++ []
def dkwJ9_indexOf_1 : List UInt8 := [3, 62, 29, 44, 190, 162, 0, 21, 43, 44, 29, 50, 184, 0, 53, 153, 0, 5, 29, 172, 132, 3, 1]
abbrev dktJ9_indexOf_1 : List UInt8 := dkwJ9_indexOf_1 ++ dktJ9_indexOf_2
def dkwJ9_indexOf_0 : List UInt8 := [42, 180, 0, 13, 154, 0, 15, 43, 199, 0, 11, 187, 0, 50, 89, 183, 0, 52, 191, 42, 180, 0, 7, 77]
abbrev dktJ9_indexOf_0 : List UInt8 := dkwJ9_indexOf_0 ++ dktJ9_indexOf_1
theorem dksJ9_indexOf_0 : cJ9_indexOf.data.toList.drop 0 = dktJ9_indexOf_0 := by decide +kernel
theorem dksJ9_indexOf_1 : cJ9_indexOf.data.toList.drop 24 = dktJ9_indexOf_1 := dk_seg dksJ9_indexOf_0 24 rfl rfl
theorem dksJ9_indexOf_2 : cJ9_indexOf.data.toList.drop 47 = dktJ9_indexOf_2 := dk_seg dksJ9_indexOf_1 23 rfl rfl
theorem dJ9_indexOf_0 : decode cJ9_indexOf 0 = .ok (.aload_n 0, 1) := dk_42 (dk_at dksJ9_indexOf_0 0 rfl rfl)
theorem dJ9_indexOf_1 : decode cJ9_indexOf 1 = .ok (.getfield 13, 3) := dk_180 0 13 (dk_at dksJ9_indexOf_0 1 rfl rfl)
theorem dJ9_indexOf_4 : decode cJ9_indexOf 4 = .ok (.ifCond .ne 15, 3) := dk_154 0 15 (dk_at dksJ9_indexOf_0 4 rfl rfl)
theorem dJ9_indexOf_7 : decode cJ9_indexOf 7 = .ok (.aload_n 1, 1) := dk_43 (dk_at dksJ9_indexOf_0 7 rfl rfl)
theorem dJ9_indexOf_8 : decode cJ9_indexOf 8 = .ok (.ifnonnull 11, 3) := dk_199 0 11 (dk_at dksJ9_indexOf_0 8 rfl rfl)
theorem dJ9_indexOf_11 : decode cJ9_indexOf 11 = .ok (.new 50, 3) := dk_187 0 50 (dk_at dksJ9_indexOf_0 11 rfl rfl)
theorem dJ9_indexOf_14 : decode cJ9_indexOf 14 = .ok (.dup, 1) := dk_89 (dk_at dksJ9_indexOf_0 14 rfl rfl)
theorem dJ9_indexOf_15 : decode cJ9_indexOf 15 = .ok (.invokespecial 52, 3) := dk_183 0 52 (dk_at dksJ9_indexOf_0 15 rfl rfl)
theorem dJ9_indexOf_18 : decode cJ9_indexOf 18 = .ok (.athrow, 1) := dk_191 (dk_at dksJ9_indexOf_0 18 rfl rfl)
theorem dJ9_indexOf_19 : decode cJ9_indexOf 19 = .ok (.aload_n 0, 1) := dk_42 (dk_at dksJ9_indexOf_0 19 rfl rfl)
theorem dJ9_indexOf_20 : decode cJ9_indexOf 20 = .ok (.getfield 7, 3) := dk_180 0 7 (dk_at dksJ9_indexOf_0 20 rfl rfl)
theorem dJ9_indexOf_23 : decode cJ9_indexOf 23 = .ok (.astore_n 2, 1) := dk_77 (dk_at dksJ9_indexOf_0 23 rfl rfl)
theorem dJ9_indexOf_24 : decode cJ9_indexOf 24 = .ok (.iconst 0, 1) := dk_3 (dk_at dksJ9_indexOf_1 0 rfl rfl)
theorem dJ9_indexOf_25 : decode cJ9_indexOf 25 = .ok (.istore_n 3, 1) := dk_62 (dk_at dksJ9_indexOf_1 1 rfl rfl)
theorem dJ9_indexOf_26 : decode cJ9_indexOf 26 = .ok (.iload_n 3, 1) := dk_29 (dk_at dksJ9_indexOf_1 2 rfl rfl)
theorem dJ9_indexOf_27 : decode cJ9_indexOf 27 = .ok (.aload_n 2, 1) := dk_44 (dk_at dksJ9_indexOf_1 3 rfl rfl)
theorem dJ9_indexOf_28 : decode cJ9_indexOf 28 = .ok (.arraylength, 1) := dk_190 (dk_at dksJ9_indexOf_1 4 rfl rfl)
theorem dJ9_indexOf_29 : decode cJ9_indexOf 29 = .ok (.if_icmp .ge 21, 3) := dk_162 0 21 (dk_at dksJ9_indexOf_1 5 rfl rfl)
theorem dJ9_indexOf_32 : decode cJ9_indexOf 32 = .ok (.aload_n 1, 1) := dk_43 (dk_at dksJ9_indexOf_1 8 rfl rfl)
theorem dJ9_indexOf_33 : decode cJ9_indexOf 33 = .ok (.aload_n 2, 1) := dk_44 (dk_at dksJ9_indexOf_1 9 rfl rfl)
theorem dJ9_indexOf_34 : decode cJ9_indexOf 34 = .ok (.iload_n 3, 1) := dk_29 (dk_at dksJ9_indexOf_1 10 rfl rfl)
theorem dJ9_indexOf_35 : decode cJ9_indexOf 35 = .ok (.aaload, 1) := dk_50 (dk_at dksJ9_indexOf_1 11 rfl rfl)
theorem dJ9_indexOf_36 : decode cJ9_indexOf 36 = .ok (.invokestatic 53, 3) := dk_184 0 53 (dk_at dksJ9_indexOf_1 12 rfl rfl)
theorem dJ9_indexOf_39 : decode cJ9_indexOf 39 = .ok (.ifCond .eq 5, 3) := dk_153 0 5 (dk_at dksJ9_indexOf_1 15 rfl rfl)
theorem dJ9_indexOf_42 : decode cJ9_indexOf 42 = .ok (.iload_n 3, 1) := dk_29 (dk_at dksJ9_indexOf_1 18 rfl rfl)
theorem dJ9_indexOf_43 : decode cJ9_indexOf 43 = .ok (.ireturn, 1) := dk_172 (dk_at dksJ9_indexOf_1 19 rfl rfl)
theorem dJ9_indexOf_44 : decode cJ9_indexOf 44 = .ok (.iinc 3 1, 3) := dk_132 3 1 (dk_at dksJ9_indexOf_1 20 rfl rfl)
theorem dJ9_indexOf_47 : decode cJ9_indexOf 47 = .ok (.goto (-21), 3) := dk_167 255 235 (dk_at dksJ9_indexOf_2 0 rfl rfl)
theorem dJ9_indexOf_50 : decode cJ9_indexOf 50 = .ok (.iconst (-1), 1) := dk_2 (dk_at dksJ9_indexOf_2 3 rfl rfl)
theorem dJ9_indexOf_51 : decode cJ9_indexOf 51 = .ok (.ireturn, 1) := dk_172 (dk_at dksJ9_indexOf_2 4 rfl rfl)
theorem q99 : (Jvm.Cond.initialized "java/util/ImmutableCollections$ListN") ∈ lw_all := lw_g (lw_at lw_m1 13 rfl) rfl
theorem q269 : (Jvm.Cond.selects "java/util/ImmutableCollections$ListN" ({ cls := "java/lang/Object", name := "getClass", desc := "()Ljava/lang/Class;" } : Jvm.MethodName) ({ cls := "java/lang/Object", name := "getClass", desc := "()Ljava/lang/Class;" } : Jvm.MethodName)) ∈ lw_all := lw_g (lw_at lw_m1 183 rfl) rfl
theorem q311 : (Jvm.Cond.instantiable "java/util/ImmutableCollections$ListN" (2 : Nat)) ∈ lw_all := lw_g (lw_at lw_m1 225 rfl) rfl
theorem q313 : (Jvm.Cond.instanceMethod ({ cls := "java/util/ImmutableCollections$ListN", name := "<init>", desc := "([Ljava/lang/Object;Z)V" } : Jvm.MethodName)) ∈ lw_all := lw_g (lw_at lw_m1 227 rfl) rfl
theorem q314 : (Jvm.Cond.code ({ cls := "java/util/ImmutableCollections$ListN", name := "<init>", desc := "([Ljava/lang/Object;Z)V" } : Jvm.MethodName) prog_78_method_1_code (3 : Nat) (Option.none : Option Jvm.ClassFile.FieldType)) ∈ lw_all := lw_g (lw_at lw_m1 228 rfl) rfl
theorem q315 : (Jvm.Cond.methodLink "java/util/ImmutableCollections$ListN" (1 : Nat) ({ cls := "java/util/ImmutableCollections$AbstractImmutableList", name := "<init>", desc := "()V" } : Jvm.MethodName)) ∈ lw_all := lw_g (lw_at lw_m1 229 rfl) rfl
theorem q316 : (Jvm.Cond.fieldLink "java/util/ImmutableCollections$ListN" (7 : Nat) "java/util/ImmutableCollections$ListN" "elements" "[Ljava/lang/Object;") ∈ lw_all := lw_g (lw_at lw_m1 230 rfl) rfl
theorem q317 : (Jvm.Cond.fieldLink "java/util/ImmutableCollections$ListN" (13 : Nat) "java/util/ImmutableCollections$ListN" "allowNulls" "Z") ∈ lw_all := lw_g (lw_at lw_m1 231 rfl) rfl
theorem q318 : (Jvm.Cond.laysFinal "java/util/ImmutableCollections$ListN" "java/util/ImmutableCollections$ListN" "elements" "[Ljava/lang/Object;") ∈ lw_all := lw_g (lw_at lw_m1 232 rfl) rfl
theorem q319 : (Jvm.Cond.soleField "java/util/ImmutableCollections$ListN" "elements") ∈ lw_all := lw_g (lw_at lw_m1 233 rfl) rfl
theorem q320 : (Jvm.Cond.laysFinal "java/util/ImmutableCollections$ListN" "java/util/ImmutableCollections$ListN" "allowNulls" "Z") ∈ lw_all := lw_g (lw_at lw_m1 234 rfl) rfl
theorem q321 : (Jvm.Cond.soleField "java/util/ImmutableCollections$ListN" "allowNulls") ∈ lw_all := lw_g (lw_at lw_m1 235 rfl) rfl
theorem q322 : (Jvm.Cond.superclass "java/util/ImmutableCollections$ListN" "java/util/ImmutableCollections$AbstractImmutableList") ∈ lw_all := lw_g (lw_at lw_m1 236 rfl) rfl
theorem q1256 : (Jvm.Cond.castable "java/util/ImmutableCollections$ListN" "java/util/List") ∈ lw_tbl := lw_at lw_m5 210 rfl
theorem q1257 : (Jvm.Cond.selects "java/util/ImmutableCollections$ListN" ({ cls := "java/util/List", name := "add", desc := "(Ljava/lang/Object;)Z" } : Jvm.MethodName) ({ cls := "java/util/ImmutableCollections$AbstractImmutableCollection", name := "add", desc := "(Ljava/lang/Object;)Z" } : Jvm.MethodName)) ∈ lw_all := lw_g (lw_at lw_m5 211 rfl) rfl
theorem q1258 : (Jvm.Cond.unhidden "java/util/ImmutableCollections$ListN" "add" "(Ljava/lang/Object;)Z") ∈ lw_tbl := lw_at lw_m5 212 rfl
theorem q1280 : (Jvm.Cond.selects "java/util/ImmutableCollections$ListN" ({ cls := "java/util/List", name := "size", desc := "()I" } : Jvm.MethodName) ({ cls := "java/util/ImmutableCollections$ListN", name := "size", desc := "()I" } : Jvm.MethodName)) ∈ lw_all := lw_g (lw_at lw_m5 234 rfl) rfl
theorem q1281 : (Jvm.Cond.unhidden "java/util/ImmutableCollections$ListN" "size" "()I") ∈ lw_tbl := lw_at lw_m5 235 rfl
theorem q1282 : (Jvm.Cond.instanceMethod ({ cls := "java/util/ImmutableCollections$ListN", name := "size", desc := "()I" } : Jvm.MethodName)) ∈ lw_all := lw_g (lw_at lw_m5 236 rfl) rfl
theorem q1283 : (Jvm.Cond.publicMethod ({ cls := "java/util/ImmutableCollections$ListN", name := "size", desc := "()I" } : Jvm.MethodName)) ∈ lw_tbl := lw_at lw_m5 237 rfl
theorem q1284 : (Jvm.Cond.code ({ cls := "java/util/ImmutableCollections$ListN", name := "size", desc := "()I" } : Jvm.MethodName) prog_78_method_3_code (1 : Nat) (Option.some Jvm.ClassFile.FieldType.int)) ∈ lw_all := lw_g (lw_at lw_m5 238 rfl) rfl
theorem q1361 : (Jvm.Cond.selects "java/util/ImmutableCollections$ListN" ({ cls := "java/util/ImmutableCollections$AbstractImmutableList", name := "size", desc := "()I" } : Jvm.MethodName) ({ cls := "java/util/ImmutableCollections$ListN", name := "size", desc := "()I" } : Jvm.MethodName)) ∈ lw_all := lw_g (lw_at lw_m6 75 rfl) rfl
theorem q1379 : (Jvm.Cond.selects "java/util/ImmutableCollections$ListN" ({ cls := "java/util/List", name := "iterator", desc := "()Ljava/util/Iterator;" } : Jvm.MethodName) ({ cls := "java/util/ImmutableCollections$AbstractImmutableList", name := "iterator", desc := "()Ljava/util/Iterator;" } : Jvm.MethodName)) ∈ lw_all := lw_g (lw_at lw_m6 93 rfl) rfl
theorem q1380 : (Jvm.Cond.unhidden "java/util/ImmutableCollections$ListN" "iterator" "()Ljava/util/Iterator;") ∈ lw_tbl := lw_at lw_m6 94 rfl
theorem q1687 : (Jvm.Cond.selects "java/util/ImmutableCollections$ListN" ({ cls := "java/util/List", name := "get", desc := "(I)Ljava/lang/Object;" } : Jvm.MethodName) ({ cls := "java/util/ImmutableCollections$ListN", name := "get", desc := "(I)Ljava/lang/Object;" } : Jvm.MethodName)) ∈ lw_all := lw_g (lw_at lw_m7 161 rfl) rfl
theorem q1688 : (Jvm.Cond.unhidden "java/util/ImmutableCollections$ListN" "get" "(I)Ljava/lang/Object;") ∈ lw_tbl := lw_at lw_m7 162 rfl
theorem q1689 : (Jvm.Cond.instanceMethod ({ cls := "java/util/ImmutableCollections$ListN", name := "get", desc := "(I)Ljava/lang/Object;" } : Jvm.MethodName)) ∈ lw_all := lw_g (lw_at lw_m7 163 rfl) rfl
theorem q1690 : (Jvm.Cond.publicMethod ({ cls := "java/util/ImmutableCollections$ListN", name := "get", desc := "(I)Ljava/lang/Object;" } : Jvm.MethodName)) ∈ lw_tbl := lw_at lw_m7 164 rfl
theorem q1691 : (Jvm.Cond.code ({ cls := "java/util/ImmutableCollections$ListN", name := "get", desc := "(I)Ljava/lang/Object;" } : Jvm.MethodName) prog_78_method_4_code (2 : Nat) (Option.some (Jvm.ClassFile.FieldType.object "java/lang/Object"))) ∈ lw_all := lw_g (lw_at lw_m7 165 rfl) rfl
theorem q2728 : (Jvm.Cond.castable "java/util/ImmutableCollections$ListN" "java/util/Collection") ∈ lw_tbl := lw_at lw_m12 2 rfl
theorem q2729 : (Jvm.Cond.selects "java/util/ImmutableCollections$ListN" ({ cls := "java/util/Collection", name := "toArray", desc := "()[Ljava/lang/Object;" } : Jvm.MethodName) ({ cls := "java/util/ImmutableCollections$ListN", name := "toArray", desc := "()[Ljava/lang/Object;" } : Jvm.MethodName)) ∈ lw_all := lw_g (lw_at lw_m12 3 rfl) rfl
theorem q2730 : (Jvm.Cond.unhidden "java/util/ImmutableCollections$ListN" "toArray" "()[Ljava/lang/Object;") ∈ lw_tbl := lw_at lw_m12 4 rfl
theorem q2731 : (Jvm.Cond.instanceMethod ({ cls := "java/util/ImmutableCollections$ListN", name := "toArray", desc := "()[Ljava/lang/Object;" } : Jvm.MethodName)) ∈ lw_all := lw_g (lw_at lw_m12 5 rfl) rfl
theorem q2732 : (Jvm.Cond.publicMethod ({ cls := "java/util/ImmutableCollections$ListN", name := "toArray", desc := "()[Ljava/lang/Object;" } : Jvm.MethodName)) ∈ lw_tbl := lw_at lw_m12 6 rfl
theorem q2733 : (Jvm.Cond.code ({ cls := "java/util/ImmutableCollections$ListN", name := "toArray", desc := "()[Ljava/lang/Object;" } : Jvm.MethodName) prog_78_method_7_code (1 : Nat) (Option.some (Jvm.ClassFile.FieldType.array (Jvm.ClassFile.FieldType.object "java/lang/Object")))) ∈ lw_all := lw_g (lw_at lw_m12 7 rfl) rfl
theorem q2734 : (Jvm.Cond.methodLink "java/util/ImmutableCollections$ListN" (29 : Nat) ({ cls := "java/util/Arrays", name := "copyOf", desc := "([Ljava/lang/Object;I)[Ljava/lang/Object;" } : Jvm.MethodName)) ∈ lw_all := lw_g (lw_at lw_m12 8 rfl) rfl
theorem q2751 : (Jvm.Cond.unhidden "java/util/ImmutableCollections$ListN" "getClass" "()Ljava/lang/Class;") ∈ lw_tbl := lw_at lw_m12 25 rfl
theorem q2779 : (Jvm.Cond.selects "java/util/ImmutableCollections$ListN" ({ cls := "java/util/List", name := "set", desc := "(ILjava/lang/Object;)Ljava/lang/Object;" } : Jvm.MethodName) ({ cls := "java/util/ImmutableCollections$AbstractImmutableList", name := "set", desc := "(ILjava/lang/Object;)Ljava/lang/Object;" } : Jvm.MethodName)) ∈ lw_all := lw_g (lw_at lw_m12 53 rfl) rfl
theorem q2780 : (Jvm.Cond.unhidden "java/util/ImmutableCollections$ListN" "set" "(ILjava/lang/Object;)Ljava/lang/Object;") ∈ lw_tbl := lw_at lw_m12 54 rfl
theorem q2799 : (Jvm.Cond.selects "java/util/ImmutableCollections$ListN" ({ cls := "java/util/Collection", name := "iterator", desc := "()Ljava/util/Iterator;" } : Jvm.MethodName) ({ cls := "java/util/ImmutableCollections$AbstractImmutableList", name := "iterator", desc := "()Ljava/util/Iterator;" } : Jvm.MethodName)) ∈ lw_all := lw_g (lw_at lw_m12 73 rfl) rfl
theorem q3076 : (Jvm.Cond.selects "java/util/ImmutableCollections$ListN" ({ cls := "java/util/List", name := "indexOf", desc := "(Ljava/lang/Object;)I" } : Jvm.MethodName) ({ cls := "java/util/ImmutableCollections$ListN", name := "indexOf", desc := "(Ljava/lang/Object;)I" } : Jvm.MethodName)) ∈ lw_all := lw_g (lw_at lw_m13 110 rfl) rfl
theorem q3077 : (Jvm.Cond.unhidden "java/util/ImmutableCollections$ListN" "indexOf" "(Ljava/lang/Object;)I") ∈ lw_tbl := lw_at lw_m13 111 rfl
theorem q3078 : (Jvm.Cond.instanceMethod ({ cls := "java/util/ImmutableCollections$ListN", name := "indexOf", desc := "(Ljava/lang/Object;)I" } : Jvm.MethodName)) ∈ lw_all := lw_g (lw_at lw_m13 112 rfl) rfl
theorem q3079 : (Jvm.Cond.publicMethod ({ cls := "java/util/ImmutableCollections$ListN", name := "indexOf", desc := "(Ljava/lang/Object;)I" } : Jvm.MethodName)) ∈ lw_tbl := lw_at lw_m13 113 rfl
theorem q3080 : (Jvm.Cond.code ({ cls := "java/util/ImmutableCollections$ListN", name := "indexOf", desc := "(Ljava/lang/Object;)I" } : Jvm.MethodName) prog_78_method_9_code (4 : Nat) (Option.some Jvm.ClassFile.FieldType.int)) ∈ lw_all := lw_g (lw_at lw_m13 114 rfl) rfl
theorem q3081 : (Jvm.Cond.methodLink "java/util/ImmutableCollections$ListN" (53 : Nat) ({ cls := "java/util/Objects", name := "equals", desc := "(Ljava/lang/Object;Ljava/lang/Object;)Z" } : Jvm.MethodName)) ∈ lw_all := lw_g (lw_at lw_m13 115 rfl) rfl
theorem q3773 : (Jvm.Cond.selects "java/util/ImmutableCollections$ListN" ({ cls := "java/util/AbstractCollection", name := "size", desc := "()I" } : Jvm.MethodName) ({ cls := "java/util/ImmutableCollections$ListN", name := "size", desc := "()I" } : Jvm.MethodName)) ∈ lw_all := lw_g (lw_at lw_m16 87 rfl) rfl
theorem q3803 : (Jvm.Cond.castable "java/util/ImmutableCollections$ListN" "java/lang/Object") ∈ lw_tbl := lw_at lw_m16 117 rfl
theorem in_J9 : ∀ w ∈ wsJ90, w ∈ lw_all := lw_in wsJ90 [318, 320] (by decide +kernel) (by decide +kernel)
/-! java/lang/Throwable -/
set_option maxRecDepth 100000
def RJ10 : String := "java/lang/Throwable"
def TJ10 : u_T := fun k => match k with
  | 0 => ("java/lang/Throwable", "cause", "Ljava/lang/Throwable;", false)
  | 1 => ("java/lang/Throwable", "stackTrace", "[Ljava/lang/StackTraceElement;", false)
  | 2 => ("java/lang/Throwable", "suppressedExceptions", "Ljava/util/List;", false)
  | 3 => ("java/lang/Throwable", "detailMessage", "Ljava/lang/String;", false)
  | _ => ("java/lang/Throwable", "backtrace", "Ljava/lang/Object;", false)
def tyJ10 : Nat → FieldType := fun k => match k with
  | 0 => .object "java/lang/Throwable"
  | 1 => .array (.object "java/lang/StackTraceElement")
  | 2 => .object "java/util/List"
  | 3 => .object "java/lang/String"
  | _ => .object "java/lang/Object"
abbrev wsJ100 : List Cond := u_ws RJ10 TJ10 5
theorem nmJ10 : ∀ a, a < 5 → ∀ b, b < 5 → a ≠ b → (TJ10 a).2.1 ≠ (TJ10 b).2.1 := by decide +kernel
theorem tyJ10_ok : ∀ k, k < 5 → parseFieldDescriptor (TJ10 k).2.2.1 = some (tyJ10 k) := by decide +kernel
abbrev cJ10_init : ByteArray := prog_53_method_2_code
def yJ10_init : MethodName := ⟨RJ10, "<init>", "(Ljava/lang/String;)V"⟩
def dkwJ10_init_1 : List UInt8 := [182, 0, 27, 87, 42, 43, 181, 0, 31, 177]
abbrev dktJ10_init_1 : List UInt8 := dkwJ10_init_1 ++ []
def dkwJ10_init_0 : List UInt8 := [42, 183, 0, 1, 42, 42, 181, 0, 7, 42, 178, 0, 13, 181, 0, 17, 42, 178, 0, 20, 181, 0, 24, 42]
abbrev dktJ10_init_0 : List UInt8 := dkwJ10_init_0 ++ dktJ10_init_1
theorem dksJ10_init_0 : cJ10_init.data.toList.drop 0 = dktJ10_init_0 := by decide +kernel
theorem dksJ10_init_1 : cJ10_init.data.toList.drop 24 = dktJ10_init_1 := dk_seg dksJ10_init_0 24 rfl rfl
theorem dJ10_init_0 : decode cJ10_init 0 = .ok (.aload_n 0, 1) := dk_42 (dk_at dksJ10_init_0 0 rfl rfl)
theorem dJ10_init_1 : decode cJ10_init 1 = .ok (.invokespecial 1, 3) := dk_183 0 1 (dk_at dksJ10_init_0 1 rfl rfl)
theorem dJ10_init_4 : decode cJ10_init 4 = .ok (.aload_n 0, 1) := dk_42 (dk_at dksJ10_init_0 4 rfl rfl)
theorem dJ10_init_5 : decode cJ10_init 5 = .ok (.aload_n 0, 1) := dk_42 (dk_at dksJ10_init_0 5 rfl rfl)
theorem dJ10_init_6 : decode cJ10_init 6 = .ok (.putfield 7, 3) := dk_181 0 7 (dk_at dksJ10_init_0 6 rfl rfl)
theorem dJ10_init_9 : decode cJ10_init 9 = .ok (.aload_n 0, 1) := dk_42 (dk_at dksJ10_init_0 9 rfl rfl)
theorem dJ10_init_10 : decode cJ10_init 10 = .ok (.getstatic 13, 3) := dk_178 0 13 (dk_at dksJ10_init_0 10 rfl rfl)
theorem dJ10_init_13 : decode cJ10_init 13 = .ok (.putfield 17, 3) := dk_181 0 17 (dk_at dksJ10_init_0 13 rfl rfl)
theorem dJ10_init_16 : decode cJ10_init 16 = .ok (.aload_n 0, 1) := dk_42 (dk_at dksJ10_init_0 16 rfl rfl)
theorem dJ10_init_17 : decode cJ10_init 17 = .ok (.getstatic 20, 3) := dk_178 0 20 (dk_at dksJ10_init_0 17 rfl rfl)
theorem dJ10_init_20 : decode cJ10_init 20 = .ok (.putfield 24, 3) := dk_181 0 24 (dk_at dksJ10_init_0 20 rfl rfl)
theorem dJ10_init_23 : decode cJ10_init 23 = .ok (.aload_n 0, 1) := dk_42 (dk_at dksJ10_init_0 23 rfl rfl)
theorem dJ10_init_24 : decode cJ10_init 24 = .ok (.invokevirtual 27, 3) := dk_182 0 27 (dk_at dksJ10_init_1 0 rfl rfl)
theorem dJ10_init_27 : decode cJ10_init 27 = .ok (.pop, 1) := dk_87 (dk_at dksJ10_init_1 3 rfl rfl)
theorem dJ10_init_28 : decode cJ10_init 28 = .ok (.aload_n 0, 1) := dk_42 (dk_at dksJ10_init_1 4 rfl rfl)
theorem dJ10_init_29 : decode cJ10_init 29 = .ok (.aload_n 1, 1) := dk_43 (dk_at dksJ10_init_1 5 rfl rfl)
theorem dJ10_init_30 : decode cJ10_init 30 = .ok (.putfield 31, 3) := dk_181 0 31 (dk_at dksJ10_init_1 6 rfl rfl)
theorem dJ10_init_33 : decode cJ10_init 33 = .ok (.return_, 1) := dk_177 (dk_at dksJ10_init_1 9 rfl rfl)
abbrev cJ10_init_2 : ByteArray := prog_53_method_1_code
def yJ10_init_2 : MethodName := ⟨RJ10, "<init>", "()V"⟩
def dkwJ10_init_2_1 : List UInt8 := [182, 0, 27, 87, 177]
abbrev dktJ10_init_2_1 : List UInt8 := dkwJ10_init_2_1 ++ []
def dkwJ10_init_2_0 : List UInt8 := [42, 183, 0, 1, 42, 42, 181, 0, 7, 42, 178, 0, 13, 181, 0, 17, 42, 178, 0, 20, 181, 0, 24, 42]
abbrev dktJ10_init_2_0 : List UInt8 := dkwJ10_init_2_0 ++ dktJ10_init_2_1
theorem dksJ10_init_2_0 : cJ10_init_2.data.toList.drop 0 = dktJ10_init_2_0 := by decide +kernel
theorem dksJ10_init_2_1 : cJ10_init_2.data.toList.drop 24 = dktJ10_init_2_1 := dk_seg dksJ10_init_2_0 24 rfl rfl
theorem dJ10_init_2_0 : decode cJ10_init_2 0 = .ok (.aload_n 0, 1) := dk_42 (dk_at dksJ10_init_2_0 0 rfl rfl)
theorem dJ10_init_2_1 : decode cJ10_init_2 1 = .ok (.invokespecial 1, 3) := dk_183 0 1 (dk_at dksJ10_init_2_0 1 rfl rfl)
theorem dJ10_init_2_4 : decode cJ10_init_2 4 = .ok (.aload_n 0, 1) := dk_42 (dk_at dksJ10_init_2_0 4 rfl rfl)
theorem dJ10_init_2_5 : decode cJ10_init_2 5 = .ok (.aload_n 0, 1) := dk_42 (dk_at dksJ10_init_2_0 5 rfl rfl)
theorem dJ10_init_2_6 : decode cJ10_init_2 6 = .ok (.putfield 7, 3) := dk_181 0 7 (dk_at dksJ10_init_2_0 6 rfl rfl)
theorem dJ10_init_2_9 : decode cJ10_init_2 9 = .ok (.aload_n 0, 1) := dk_42 (dk_at dksJ10_init_2_0 9 rfl rfl)
theorem dJ10_init_2_10 : decode cJ10_init_2 10 = .ok (.getstatic 13, 3) := dk_178 0 13 (dk_at dksJ10_init_2_0 10 rfl rfl)
theorem dJ10_init_2_13 : decode cJ10_init_2 13 = .ok (.putfield 17, 3) := dk_181 0 17 (dk_at dksJ10_init_2_0 13 rfl rfl)
theorem dJ10_init_2_16 : decode cJ10_init_2 16 = .ok (.aload_n 0, 1) := dk_42 (dk_at dksJ10_init_2_0 16 rfl rfl)
theorem dJ10_init_2_17 : decode cJ10_init_2 17 = .ok (.getstatic 20, 3) := dk_178 0 20 (dk_at dksJ10_init_2_0 17 rfl rfl)
theorem dJ10_init_2_20 : decode cJ10_init_2 20 = .ok (.putfield 24, 3) := dk_181 0 24 (dk_at dksJ10_init_2_0 20 rfl rfl)
theorem dJ10_init_2_23 : decode cJ10_init_2 23 = .ok (.aload_n 0, 1) := dk_42 (dk_at dksJ10_init_2_0 23 rfl rfl)
theorem dJ10_init_2_24 : decode cJ10_init_2 24 = .ok (.invokevirtual 27, 3) := dk_182 0 27 (dk_at dksJ10_init_2_1 0 rfl rfl)
theorem dJ10_init_2_27 : decode cJ10_init_2 27 = .ok (.pop, 1) := dk_87 (dk_at dksJ10_init_2_1 3 rfl rfl)
theorem dJ10_init_2_28 : decode cJ10_init_2 28 = .ok (.return_, 1) := dk_177 (dk_at dksJ10_init_2_1 4 rfl rfl)
abbrev cJ10_init_3 : ByteArray := prog_53_method_5_code
def yJ10_init_3 : MethodName := ⟨RJ10, "<init>", "(Ljava/lang/String;Ljava/lang/Throwable;ZZ)V"⟩
def dkwJ10_init_3_2 : List UInt8 := [44, 181, 0, 7, 29, 154, 0, 8, 42, 1, 181, 0, 24, 177]
abbrev dktJ10_init_3_2 : List UInt8 := dkwJ10_init_3_2 ++ []
def dkwJ10_init_3_1 : List UInt8 := [21, 4, 153, 0, 11, 42, 182, 0, 27, 87, 167, 0, 8, 42, 1, 181, 0, 17, 42, 43, 181, 0, 31, 42]
abbrev dktJ10_init_3_1 : List UInt8 := dkwJ10_init_3_1 ++ dktJ10_init_3_2
def dkwJ10_init_3_0 : List UInt8 := [42, 183, 0, 1, 42, 42, 181, 0, 7, 42, 178, 0, 13, 181, 0, 17, 42, 178, 0, 20, 181, 0, 24]
abbrev dktJ10_init_3_0 : List UInt8 := dkwJ10_init_3_0 ++ dktJ10_init_3_1
theorem dksJ10_init_3_0 : cJ10_init_3.data.toList.drop 0 = dktJ10_init_3_0 := by decide +kernel
theorem dksJ10_init_3_1 : cJ10_init_3.data.toList.drop 23 = dktJ10_init_3_1 := dk_seg dksJ10_init_3_0 23 rfl rfl
theorem dksJ10_init_3_2 : cJ10_init_3.data.toList.drop 47 = dktJ10_init_3_2 := dk_seg dksJ10_init_3_1 24 rfl rfl
theorem dJ10_init_3_0 : decode cJ10_init_3 0 = .ok (.aload_n 0, 1) := dk_42 (dk_at dksJ10_init_3_0 0 rfl rfl)
theorem dJ10_init_3_1 : decode cJ10_init_3 1 = .ok (.invokespecial 1, 3) := dk_183 0 1 (dk_at dksJ10_init_3_0 1 rfl rfl)
theorem dJ10_init_3_4 : decode cJ10_init_3 4 = .ok (.aload_n 0, 1) := dk_42 (dk_at dksJ10_init_3_0 4 rfl rfl)
theorem dJ10_init_3_5 : decode cJ10_init_3 5 = .ok (.aload_n 0, 1) := dk_42 (dk_at dksJ10_init_3_0 5 rfl rfl)
theorem dJ10_init_3_6 : decode cJ10_init_3 6 = .ok (.putfield 7, 3) := dk_181 0 7 (dk_at dksJ10_init_3_0 6 rfl rfl)
theorem dJ10_init_3_9 : decode cJ10_init_3 9 = .ok (.aload_n 0, 1) := dk_42 (dk_at dksJ10_init_3_0 9 rfl rfl)
theorem dJ10_init_3_10 : decode cJ10_init_3 10 = .ok (.getstatic 13, 3) := dk_178 0 13 (dk_at dksJ10_init_3_0 10 rfl rfl)
theorem dJ10_init_3_13 : decode cJ10_init_3 13 = .ok (.putfield 17, 3) := dk_181 0 17 (dk_at dksJ10_init_3_0 13 rfl rfl)
theorem dJ10_init_3_16 : decode cJ10_init_3 16 = .ok (.aload_n 0, 1) := dk_42 (dk_at dksJ10_init_3_0 16 rfl rfl)
theorem dJ10_init_3_17 : decode cJ10_init_3 17 = .ok (.getstatic 20, 3) := dk_178 0 20 (dk_at dksJ10_init_3_0 17 rfl rfl)
theorem dJ10_init_3_20 : decode cJ10_init_3 20 = .ok (.putfield 24, 3) := dk_181 0 24 (dk_at dksJ10_init_3_0 20 rfl rfl)
theorem dJ10_init_3_23 : decode cJ10_init_3 23 = .ok (.iload 4, 2) := dk_21 4 (dk_at dksJ10_init_3_1 0 rfl rfl)
theorem dJ10_init_3_25 : decode cJ10_init_3 25 = .ok (.ifCond .eq 11, 3) := dk_153 0 11 (dk_at dksJ10_init_3_1 2 rfl rfl)
theorem dJ10_init_3_28 : decode cJ10_init_3 28 = .ok (.aload_n 0, 1) := dk_42 (dk_at dksJ10_init_3_1 5 rfl rfl)
theorem dJ10_init_3_29 : decode cJ10_init_3 29 = .ok (.invokevirtual 27, 3) := dk_182 0 27 (dk_at dksJ10_init_3_1 6 rfl rfl)
theorem dJ10_init_3_32 : decode cJ10_init_3 32 = .ok (.pop, 1) := dk_87 (dk_at dksJ10_init_3_1 9 rfl rfl)
theorem dJ10_init_3_33 : decode cJ10_init_3 33 = .ok (.goto 8, 3) := dk_167 0 8 (dk_at dksJ10_init_3_1 10 rfl rfl)
theorem dJ10_init_3_36 : decode cJ10_init_3 36 = .ok (.aload_n 0, 1) := dk_42 (dk_at dksJ10_init_3_1 13 rfl rfl)
theorem dJ10_init_3_37 : decode cJ10_init_3 37 = .ok (.aconst_null, 1) := dk_1 (dk_at dksJ10_init_3_1 14 rfl rfl)
theorem dJ10_init_3_38 : decode cJ10_init_3 38 = .ok (.putfield 17, 3) := dk_181 0 17 (dk_at dksJ10_init_3_1 15 rfl rfl)
theorem dJ10_init_3_41 : decode cJ10_init_3 41 = .ok (.aload_n 0, 1) := dk_42 (dk_at dksJ10_init_3_1 18 rfl rfl)
theorem dJ10_init_3_42 : decode cJ10_init_3 42 = .ok (.aload_n 1, 1) := dk_43 (dk_at dksJ10_init_3_1 19 rfl rfl)
theorem dJ10_init_3_43 : decode cJ10_init_3 43 = .ok (.putfield 31, 3) := dk_181 0 31 (dk_at dksJ10_init_3_1 20 rfl rfl)
theorem dJ10_init_3_46 : decode cJ10_init_3 46 = .ok (.aload_n 0, 1) := dk_42 (dk_at dksJ10_init_3_1 23 rfl rfl)
theorem dJ10_init_3_47 : decode cJ10_init_3 47 = .ok (.aload_n 2, 1) := dk_44 (dk_at dksJ10_init_3_2 0 rfl rfl)
theorem dJ10_init_3_48 : decode cJ10_init_3 48 = .ok (.putfield 7, 3) := dk_181 0 7 (dk_at dksJ10_init_3_2 1 rfl rfl)
theorem dJ10_init_3_51 : decode cJ10_init_3 51 = .ok (.iload_n 3, 1) := dk_29 (dk_at dksJ10_init_3_2 4 rfl rfl)
theorem dJ10_init_3_52 : decode cJ10_init_3 52 = .ok (.ifCond .ne 8, 3) := dk_154 0 8 (dk_at dksJ10_init_3_2 5 rfl rfl)
theorem dJ10_init_3_55 : decode cJ10_init_3 55 = .ok (.aload_n 0, 1) := dk_42 (dk_at dksJ10_init_3_2 8 rfl rfl)
theorem dJ10_init_3_56 : decode cJ10_init_3 56 = .ok (.aconst_null, 1) := dk_1 (dk_at dksJ10_init_3_2 9 rfl rfl)
theorem dJ10_init_3_57 : decode cJ10_init_3 57 = .ok (.putfield 24, 3) := dk_181 0 24 (dk_at dksJ10_init_3_2 10 rfl rfl)
theorem dJ10_init_3_60 : decode cJ10_init_3 60 = .ok (.return_, 1) := dk_177 (dk_at dksJ10_init_3_2 13 rfl rfl)
abbrev cJ10_init_4 : ByteArray := prog_53_method_4_code
def yJ10_init_4 : MethodName := ⟨RJ10, "<init>", "(Ljava/lang/Throwable;)V"⟩
def dkwJ10_init_4_2 : List UInt8 := [181, 0, 7, 177]
abbrev dktJ10_init_4_2 : List UInt8 := dkwJ10_init_4_2 ++ []
def dkwJ10_init_4_1 : List UInt8 := [182, 0, 27, 87, 42, 43, 199, 0, 7, 1, 167, 0, 7, 43, 182, 0, 35, 181, 0, 31, 42, 43]
abbrev dktJ10_init_4_1 : List UInt8 := dkwJ10_init_4_1 ++ dktJ10_init_4_2
def dkwJ10_init_4_0 : List UInt8 := [42, 183, 0, 1, 42, 42, 181, 0, 7, 42, 178, 0, 13, 181, 0, 17, 42, 178, 0, 20, 181, 0, 24, 42]
abbrev dktJ10_init_4_0 : List UInt8 := dkwJ10_init_4_0 ++ dktJ10_init_4_1
theorem dksJ10_init_4_0 : cJ10_init_4.data.toList.drop 0 = dktJ10_init_4_0 := by decide +kernel
theorem dksJ10_init_4_1 : cJ10_init_4.data.toList.drop 24 = dktJ10_init_4_1 := dk_seg dksJ10_init_4_0 24 rfl rfl
theorem dksJ10_init_4_2 : cJ10_init_4.data.toList.drop 46 = dktJ10_init_4_2 := dk_seg dksJ10_init_4_1 22 rfl rfl
theorem dJ10_init_4_0 : decode cJ10_init_4 0 = .ok (.aload_n 0, 1) := dk_42 (dk_at dksJ10_init_4_0 0 rfl rfl)
theorem dJ10_init_4_1 : decode cJ10_init_4 1 = .ok (.invokespecial 1, 3) := dk_183 0 1 (dk_at dksJ10_init_4_0 1 rfl rfl)
theorem dJ10_init_4_4 : decode cJ10_init_4 4 = .ok (.aload_n 0, 1) := dk_42 (dk_at dksJ10_init_4_0 4 rfl rfl)
theorem dJ10_init_4_5 : decode cJ10_init_4 5 = .ok (.aload_n 0, 1) := dk_42 (dk_at dksJ10_init_4_0 5 rfl rfl)
theorem dJ10_init_4_6 : decode cJ10_init_4 6 = .ok (.putfield 7, 3) := dk_181 0 7 (dk_at dksJ10_init_4_0 6 rfl rfl)
theorem dJ10_init_4_9 : decode cJ10_init_4 9 = .ok (.aload_n 0, 1) := dk_42 (dk_at dksJ10_init_4_0 9 rfl rfl)
theorem dJ10_init_4_10 : decode cJ10_init_4 10 = .ok (.getstatic 13, 3) := dk_178 0 13 (dk_at dksJ10_init_4_0 10 rfl rfl)
theorem dJ10_init_4_13 : decode cJ10_init_4 13 = .ok (.putfield 17, 3) := dk_181 0 17 (dk_at dksJ10_init_4_0 13 rfl rfl)
theorem dJ10_init_4_16 : decode cJ10_init_4 16 = .ok (.aload_n 0, 1) := dk_42 (dk_at dksJ10_init_4_0 16 rfl rfl)
theorem dJ10_init_4_17 : decode cJ10_init_4 17 = .ok (.getstatic 20, 3) := dk_178 0 20 (dk_at dksJ10_init_4_0 17 rfl rfl)
theorem dJ10_init_4_20 : decode cJ10_init_4 20 = .ok (.putfield 24, 3) := dk_181 0 24 (dk_at dksJ10_init_4_0 20 rfl rfl)
theorem dJ10_init_4_23 : decode cJ10_init_4 23 = .ok (.aload_n 0, 1) := dk_42 (dk_at dksJ10_init_4_0 23 rfl rfl)
theorem dJ10_init_4_24 : decode cJ10_init_4 24 = .ok (.invokevirtual 27, 3) := dk_182 0 27 (dk_at dksJ10_init_4_1 0 rfl rfl)
theorem dJ10_init_4_27 : decode cJ10_init_4 27 = .ok (.pop, 1) := dk_87 (dk_at dksJ10_init_4_1 3 rfl rfl)
theorem dJ10_init_4_28 : decode cJ10_init_4 28 = .ok (.aload_n 0, 1) := dk_42 (dk_at dksJ10_init_4_1 4 rfl rfl)
theorem dJ10_init_4_29 : decode cJ10_init_4 29 = .ok (.aload_n 1, 1) := dk_43 (dk_at dksJ10_init_4_1 5 rfl rfl)
theorem dJ10_init_4_30 : decode cJ10_init_4 30 = .ok (.ifnonnull 7, 3) := dk_199 0 7 (dk_at dksJ10_init_4_1 6 rfl rfl)
theorem dJ10_init_4_33 : decode cJ10_init_4 33 = .ok (.aconst_null, 1) := dk_1 (dk_at dksJ10_init_4_1 9 rfl rfl)
theorem dJ10_init_4_34 : decode cJ10_init_4 34 = .ok (.goto 7, 3) := dk_167 0 7 (dk_at dksJ10_init_4_1 10 rfl rfl)
theorem dJ10_init_4_37 : decode cJ10_init_4 37 = .ok (.aload_n 1, 1) := dk_43 (dk_at dksJ10_init_4_1 13 rfl rfl)
theorem dJ10_init_4_38 : decode cJ10_init_4 38 = .ok (.invokevirtual 35, 3) := dk_182 0 35 (dk_at dksJ10_init_4_1 14 rfl rfl)
theorem dJ10_init_4_41 : decode cJ10_init_4 41 = .ok (.putfield 31, 3) := dk_181 0 31 (dk_at dksJ10_init_4_1 17 rfl rfl)
theorem dJ10_init_4_44 : decode cJ10_init_4 44 = .ok (.aload_n 0, 1) := dk_42 (dk_at dksJ10_init_4_1 20 rfl rfl)
theorem dJ10_init_4_45 : decode cJ10_init_4 45 = .ok (.aload_n 1, 1) := dk_43 (dk_at dksJ10_init_4_1 21 rfl rfl)
theorem dJ10_init_4_46 : decode cJ10_init_4 46 = .ok (.putfield 7, 3) := dk_181 0 7 (dk_at dksJ10_init_4_2 0 rfl rfl)
theorem dJ10_init_4_49 : decode cJ10_init_4 49 = .ok (.return_, 1) := dk_177 (dk_at dksJ10_init_4_2 3 rfl rfl)
abbrev cJ10_toString : ByteArray := prog_53_method_11_code
def yJ10_toString : MethodName := ⟨RJ10, "toString", "()Ljava/lang/String;"⟩
def dkwJ10_toString_1 : List UInt8 := [43, 182, 0, 49, 18, 81, 182, 0, 49, 44, 182, 0, 49, 182, 0, 60, 167, 0, 4, 43, 176]
abbrev dktJ10_toString_1 : List UInt8 := dkwJ10_toString_1 ++ []
def dkwJ10_toString_0 : List UInt8 := [42, 182, 0, 69, 182, 0, 73, 76, 42, 182, 0, 78, 77, 44, 198, 0, 29, 187, 0, 44, 89, 183, 0, 46]
abbrev dktJ10_toString_0 : List UInt8 := dkwJ10_toString_0 ++ dktJ10_toString_1
theorem dksJ10_toString_0 : cJ10_toString.data.toList.drop 0 = dktJ10_toString_0 := by decide +kernel
theorem dksJ10_toString_1 : cJ10_toString.data.toList.drop 24 = dktJ10_toString_1 := dk_seg dksJ10_toString_0 24 rfl rfl
theorem dJ10_toString_0 : decode cJ10_toString 0 = .ok (.aload_n 0, 1) := dk_42 (dk_at dksJ10_toString_0 0 rfl rfl)
theorem dJ10_toString_1 : decode cJ10_toString 1 = .ok (.invokevirtual 69, 3) := dk_182 0 69 (dk_at dksJ10_toString_0 1 rfl rfl)
theorem dJ10_toString_4 : decode cJ10_toString 4 = .ok (.invokevirtual 73, 3) := dk_182 0 73 (dk_at dksJ10_toString_0 4 rfl rfl)
theorem dJ10_toString_7 : decode cJ10_toString 7 = .ok (.astore_n 1, 1) := dk_76 (dk_at dksJ10_toString_0 7 rfl rfl)
theorem dJ10_toString_8 : decode cJ10_toString 8 = .ok (.aload_n 0, 1) := dk_42 (dk_at dksJ10_toString_0 8 rfl rfl)
theorem dJ10_toString_9 : decode cJ10_toString 9 = .ok (.invokevirtual 78, 3) := dk_182 0 78 (dk_at dksJ10_toString_0 9 rfl rfl)
theorem dJ10_toString_12 : decode cJ10_toString 12 = .ok (.astore_n 2, 1) := dk_77 (dk_at dksJ10_toString_0 12 rfl rfl)
theorem dJ10_toString_13 : decode cJ10_toString 13 = .ok (.aload_n 2, 1) := dk_44 (dk_at dksJ10_toString_0 13 rfl rfl)
theorem dJ10_toString_14 : decode cJ10_toString 14 = .ok (.ifnull 29, 3) := dk_198 0 29 (dk_at dksJ10_toString_0 14 rfl rfl)
theorem dJ10_toString_17 : decode cJ10_toString 17 = .ok (.new 44, 3) := dk_187 0 44 (dk_at dksJ10_toString_0 17 rfl rfl)
theorem dJ10_toString_20 : decode cJ10_toString 20 = .ok (.dup, 1) := dk_89 (dk_at dksJ10_toString_0 20 rfl rfl)
theorem dJ10_toString_21 : decode cJ10_toString 21 = .ok (.invokespecial 46, 3) := dk_183 0 46 (dk_at dksJ10_toString_0 21 rfl rfl)
theorem dJ10_toString_24 : decode cJ10_toString 24 = .ok (.aload_n 1, 1) := dk_43 (dk_at dksJ10_toString_1 0 rfl rfl)
theorem dJ10_toString_25 : decode cJ10_toString 25 = .ok (.invokevirtual 49, 3) := dk_182 0 49 (dk_at dksJ10_toString_1 1 rfl rfl)
theorem dJ10_toString_28 : decode cJ10_toString 28 = .ok (.ldc 81, 2) := dk_18 81 (dk_at dksJ10_toString_1 4 rfl rfl)
theorem dJ10_toString_30 : decode cJ10_toString 30 = .ok (.invokevirtual 49, 3) := dk_182 0 49 (dk_at dksJ10_toString_1 6 rfl rfl)
theorem dJ10_toString_33 : decode cJ10_toString 33 = .ok (.aload_n 2, 1) := dk_44 (dk_at dksJ10_toString_1 9 rfl rfl)
theorem dJ10_toString_34 : decode cJ10_toString 34 = .ok (.invokevirtual 49, 3) := dk_182 0 49 (dk_at dksJ10_toString_1 10 rfl rfl)
theorem dJ10_toString_37 : decode cJ10_toString 37 = .ok (.invokevirtual 60, 3) := dk_182 0 60 (dk_at dksJ10_toString_1 13 rfl rfl)
theorem dJ10_toString_40 : decode cJ10_toString 40 = .ok (.goto 4, 3) := dk_167 0 4 (dk_at dksJ10_toString_1 16 rfl rfl)
theorem dJ10_toString_43 : decode cJ10_toString 43 = .ok (.aload_n 1, 1) := dk_43 (dk_at dksJ10_toString_1 19 rfl rfl)
theorem dJ10_toString_44 : decode cJ10_toString 44 = .ok (.areturn, 1) := dk_176 (dk_at dksJ10_toString_1 20 rfl rfl)
abbrev cJ10_getLocalizedMessage : ByteArray := prog_53_method_7_code
def yJ10_getLocalizedMessage : MethodName := ⟨RJ10, "getLocalizedMessage", "()Ljava/lang/String;"⟩
theorem dJ10_getLocalizedMessage_0 : decode cJ10_getLocalizedMessage 0 = .ok (.aload_n 0, 1) := by decide +kernel
theorem dJ10_getLocalizedMessage_1 : decode cJ10_getLocalizedMessage 1 = .ok (.invokevirtual 39, 3) := by decide +kernel
theorem dJ10_getLocalizedMessage_4 : decode cJ10_getLocalizedMessage 4 = .ok (.areturn, 1) := by decide +kernel
abbrev cJ10_getMessage : ByteArray := prog_53_method_6_code
def yJ10_getMessage : MethodName := ⟨RJ10, "getMessage", "()Ljava/lang/String;"⟩
theorem dJ10_getMessage_0 : decode cJ10_getMessage 0 = .ok (.aload_n 0, 1) := by decide +kernel
theorem dJ10_getMessage_1 : decode cJ10_getMessage 1 = .ok (.getfield 31, 3) := by decide +kernel
theorem dJ10_getMessage_4 : decode cJ10_getMessage 4 = .ok (.areturn, 1) := by decide +kernel
theorem q103 : (Jvm.Cond.initialized "java/lang/Throwable") ∈ lw_all := lw_g (lw_at lw_m1 17 rfl) rfl
theorem q429 : (Jvm.Cond.instanceMethod ({ cls := "java/lang/Throwable", name := "<init>", desc := "(Ljava/lang/String;)V" } : Jvm.MethodName)) ∈ lw_all := lw_g (lw_at lw_m2 103 rfl) rfl
theorem q430 : (Jvm.Cond.code ({ cls := "java/lang/Throwable", name := "<init>", desc := "(Ljava/lang/String;)V" } : Jvm.MethodName) prog_53_method_2_code (2 : Nat) (Option.none : Option Jvm.ClassFile.FieldType)) ∈ lw_all := lw_g (lw_at lw_m2 104 rfl) rfl
theorem q431 : (Jvm.Cond.methodLink "java/lang/Throwable" (1 : Nat) ({ cls := "java/lang/Object", name := "<init>", desc := "()V" } : Jvm.MethodName)) ∈ lw_all := lw_g (lw_at lw_m2 105 rfl) rfl
theorem q432 : (Jvm.Cond.fieldLink "java/lang/Throwable" (13 : Nat) "java/lang/Throwable" "UNASSIGNED_STACK" "[Ljava/lang/StackTraceElement;") ∈ lw_all := lw_g (lw_at lw_m2 106 rfl) rfl
theorem q433 : (Jvm.Cond.laysStatic "java/lang/Throwable" "UNASSIGNED_STACK" "[Ljava/lang/StackTraceElement;") ∈ lw_tbl := lw_at lw_m2 107 rfl
theorem q434 : (Jvm.Cond.fieldLink "java/lang/Throwable" (20 : Nat) "java/lang/Throwable" "SUPPRESSED_SENTINEL" "Ljava/util/List;") ∈ lw_all := lw_g (lw_at lw_m2 108 rfl) rfl
theorem q435 : (Jvm.Cond.laysStatic "java/lang/Throwable" "SUPPRESSED_SENTINEL" "Ljava/util/List;") ∈ lw_tbl := lw_at lw_m2 109 rfl
theorem q436 : (Jvm.Cond.methodLink "java/lang/Throwable" (27 : Nat) ({ cls := "java/lang/Throwable", name := "fillInStackTrace", desc := "()Ljava/lang/Throwable;" } : Jvm.MethodName)) ∈ lw_all := lw_g (lw_at lw_m2 110 rfl) rfl
theorem q437 : (Jvm.Cond.instanceMethod ({ cls := "java/lang/Throwable", name := "fillInStackTrace", desc := "()Ljava/lang/Throwable;" } : Jvm.MethodName)) ∈ lw_all := lw_g (lw_at lw_m2 111 rfl) rfl
theorem q438 : (Jvm.Cond.sameMethod "java/lang/Throwable" "java/lang/Throwable" "fillInStackTrace" "()Ljava/lang/Throwable;") ∈ lw_all := lw_g (lw_at lw_m2 112 rfl) rfl
theorem q448 : (Jvm.Cond.codeSync ({ cls := "java/lang/Throwable", name := "fillInStackTrace", desc := "()Ljava/lang/Throwable;" } : Jvm.MethodName) prog_53_method_18_code (1 : Nat) (Option.some (Jvm.ClassFile.FieldType.object "java/lang/Throwable"))) ∈ lw_all := lw_g (lw_at lw_m2 122 rfl) rfl
theorem q449 : (Jvm.Cond.methodLink "java/lang/Throwable" (202 : Nat) ({ cls := "java/lang/Throwable", name := "fillInStackTrace", desc := "(I)Ljava/lang/Throwable;" } : Jvm.MethodName)) ∈ lw_all := lw_g (lw_at lw_m2 123 rfl) rfl
theorem q450 : (Jvm.Cond.privateMethod ({ cls := "java/lang/Throwable", name := "fillInStackTrace", desc := "(I)Ljava/lang/Throwable;" } : Jvm.MethodName)) ∈ lw_tbl := lw_at lw_m2 124 rfl
theorem q451 : (Jvm.Cond.instanceMethod ({ cls := "java/lang/Throwable", name := "fillInStackTrace", desc := "(I)Ljava/lang/Throwable;" } : Jvm.MethodName)) ∈ lw_all := lw_g (lw_at lw_m2 125 rfl) rfl
theorem q452 : (Jvm.Cond.instantiable "java/lang/Throwable" (6 : Nat)) ∈ lw_all := lw_g (lw_at lw_m2 126 rfl) rfl
theorem q453 : (Jvm.Cond.native ({ cls := "java/lang/Throwable", name := "fillInStackTrace", desc := "(I)Ljava/lang/Throwable;" } : Jvm.MethodName)) ∈ lw_all := lw_g (lw_at lw_m2 127 rfl) rfl
theorem q454 : (Jvm.Cond.fieldLink "java/lang/Throwable" (198 : Nat) "java/lang/Throwable" "backtrace" "Ljava/lang/Object;") ∈ lw_all := lw_g (lw_at lw_m2 128 rfl) rfl
theorem q455 : (Jvm.Cond.fieldLink "java/lang/Throwable" (31 : Nat) "java/lang/Throwable" "detailMessage" "Ljava/lang/String;") ∈ lw_all := lw_g (lw_at lw_m2 129 rfl) rfl
theorem q456 : (Jvm.Cond.fieldLink "java/lang/Throwable" (7 : Nat) "java/lang/Throwable" "cause" "Ljava/lang/Throwable;") ∈ lw_all := lw_g (lw_at lw_m2 130 rfl) rfl
theorem q457 : (Jvm.Cond.fieldLink "java/lang/Throwable" (17 : Nat) "java/lang/Throwable" "stackTrace" "[Ljava/lang/StackTraceElement;") ∈ lw_all := lw_g (lw_at lw_m2 131 rfl) rfl
theorem q458 : (Jvm.Cond.fieldLink "java/lang/Throwable" (24 : Nat) "java/lang/Throwable" "suppressedExceptions" "Ljava/util/List;") ∈ lw_all := lw_g (lw_at lw_m2 132 rfl) rfl
theorem q460 : (Jvm.Cond.soleField "java/lang/Throwable" "backtrace") ∈ lw_all := lw_g (lw_at lw_m2 134 rfl) rfl
theorem q462 : (Jvm.Cond.soleField "java/lang/Throwable" "detailMessage") ∈ lw_all := lw_g (lw_at lw_m2 136 rfl) rfl
theorem q464 : (Jvm.Cond.soleField "java/lang/Throwable" "cause") ∈ lw_all := lw_g (lw_at lw_m2 138 rfl) rfl
theorem q466 : (Jvm.Cond.soleField "java/lang/Throwable" "stackTrace") ∈ lw_all := lw_g (lw_at lw_m2 140 rfl) rfl
theorem q468 : (Jvm.Cond.soleField "java/lang/Throwable" "depth") ∈ lw_all := lw_g (lw_at lw_m2 142 rfl) rfl
theorem q470 : (Jvm.Cond.soleField "java/lang/Throwable" "suppressedExceptions") ∈ lw_all := lw_g (lw_at lw_m2 144 rfl) rfl
theorem q479 : (Jvm.Cond.declares ({ cls := "java/lang/Throwable", name := "<init>", desc := "()V" } : Jvm.MethodName)) ∈ lw_tbl := lw_at lw_m2 153 rfl
theorem q480 : (Jvm.Cond.declares ({ cls := "java/lang/Throwable", name := "<init>", desc := "(Ljava/lang/String;)V" } : Jvm.MethodName)) ∈ lw_tbl := lw_at lw_m2 154 rfl
theorem q482 : (Jvm.Cond.lays "java/lang/Throwable" "java/lang/Throwable" "cause" "Ljava/lang/Throwable;") ∈ lw_all := lw_g (lw_at lw_m2 156 rfl) rfl
theorem q483 : (Jvm.Cond.lays "java/lang/Throwable" "java/lang/Throwable" "stackTrace" "[Ljava/lang/StackTraceElement;") ∈ lw_all := lw_g (lw_at lw_m2 157 rfl) rfl
theorem q484 : (Jvm.Cond.lays "java/lang/Throwable" "java/lang/Throwable" "suppressedExceptions" "Ljava/util/List;") ∈ lw_all := lw_g (lw_at lw_m2 158 rfl) rfl
theorem q485 : (Jvm.Cond.lays "java/lang/Throwable" "java/lang/Throwable" "detailMessage" "Ljava/lang/String;") ∈ lw_all := lw_g (lw_at lw_m2 159 rfl) rfl
theorem q486 : (Jvm.Cond.lays "java/lang/Throwable" "java/lang/Throwable" "backtrace" "Ljava/lang/Object;") ∈ lw_all := lw_g (lw_at lw_m2 160 rfl) rfl
theorem q487 : (Jvm.Cond.fieldLink "java/lang/Throwable" (198 : Nat) "java/lang/Throwable" "backtrace" "Ljava/lang/Object;") ∈ lw_all := lw_g (lw_at lw_m2 161 rfl) rfl
theorem q488 : (Jvm.Cond.superclass "java/lang/Throwable" "java/lang/Object") ∈ lw_all := lw_g (lw_at lw_m2 162 rfl) rfl
theorem q489 : (Jvm.Cond.instanceMethod ({ cls := "java/lang/Throwable", name := "<init>", desc := "()V" } : Jvm.MethodName)) ∈ lw_all := lw_g (lw_at lw_m2 163 rfl) rfl
theorem q490 : (Jvm.Cond.code ({ cls := "java/lang/Throwable", name := "<init>", desc := "()V" } : Jvm.MethodName) prog_53_method_1_code (1 : Nat) (Option.none : Option Jvm.ClassFile.FieldType)) ∈ lw_all := lw_g (lw_at lw_m2 164 rfl) rfl
theorem q512 : (Jvm.Cond.instanceMethod ({ cls := "java/lang/Throwable", name := "<init>", desc := "(Ljava/lang/String;Ljava/lang/Throwable;ZZ)V" } : Jvm.MethodName)) ∈ lw_all := lw_g (lw_at lw_m2 186 rfl) rfl
theorem q513 : (Jvm.Cond.code ({ cls := "java/lang/Throwable", name := "<init>", desc := "(Ljava/lang/String;Ljava/lang/Throwable;ZZ)V" } : Jvm.MethodName) prog_53_method_5_code (5 : Nat) (Option.none : Option Jvm.ClassFile.FieldType)) ∈ lw_all := lw_g (lw_at lw_m2 187 rfl) rfl
theorem q1577 : (Jvm.Cond.instanceMethod ({ cls := "java/lang/Throwable", name := "<init>", desc := "(Ljava/lang/Throwable;)V" } : Jvm.MethodName)) ∈ lw_all := lw_g (lw_at lw_m7 51 rfl) rfl
theorem q1578 : (Jvm.Cond.code ({ cls := "java/lang/Throwable", name := "<init>", desc := "(Ljava/lang/Throwable;)V" } : Jvm.MethodName) prog_53_method_4_code (2 : Nat) (Option.none : Option Jvm.ClassFile.FieldType)) ∈ lw_all := lw_g (lw_at lw_m7 52 rfl) rfl
theorem q1579 : (Jvm.Cond.methodLink "java/lang/Throwable" (35 : Nat) ({ cls := "java/lang/Throwable", name := "toString", desc := "()Ljava/lang/String;" } : Jvm.MethodName)) ∈ lw_all := lw_g (lw_at lw_m7 53 rfl) rfl
theorem q1580 : (Jvm.Cond.instanceMethod ({ cls := "java/lang/Throwable", name := "toString", desc := "()Ljava/lang/String;" } : Jvm.MethodName)) ∈ lw_all := lw_g (lw_at lw_m7 54 rfl) rfl
theorem q1581 : (Jvm.Cond.sameMethod "java/lang/Throwable" "java/lang/Throwable" "toString" "()Ljava/lang/String;") ∈ lw_all := lw_g (lw_at lw_m7 55 rfl) rfl
theorem q1591 : (Jvm.Cond.code ({ cls := "java/lang/Throwable", name := "toString", desc := "()Ljava/lang/String;" } : Jvm.MethodName) prog_53_method_11_code (3 : Nat) (Option.some (Jvm.ClassFile.FieldType.object "java/lang/String"))) ∈ lw_all := lw_g (lw_at lw_m7 65 rfl) rfl
theorem q1592 : (Jvm.Cond.methodLink "java/lang/Throwable" (69 : Nat) ({ cls := "java/lang/Object", name := "getClass", desc := "()Ljava/lang/Class;" } : Jvm.MethodName)) ∈ lw_all := lw_g (lw_at lw_m7 66 rfl) rfl
theorem q1593 : (Jvm.Cond.methodLink "java/lang/Throwable" (78 : Nat) ({ cls := "java/lang/Throwable", name := "getLocalizedMessage", desc := "()Ljava/lang/String;" } : Jvm.MethodName)) ∈ lw_all := lw_g (lw_at lw_m7 67 rfl) rfl
theorem q1594 : (Jvm.Cond.instanceMethod ({ cls := "java/lang/Throwable", name := "getLocalizedMessage", desc := "()Ljava/lang/String;" } : Jvm.MethodName)) ∈ lw_all := lw_g (lw_at lw_m7 68 rfl) rfl
theorem q1595 : (Jvm.Cond.sameMethod "java/lang/Throwable" "java/lang/Throwable" "getLocalizedMessage" "()Ljava/lang/String;") ∈ lw_all := lw_g (lw_at lw_m7 69 rfl) rfl
theorem q1605 : (Jvm.Cond.code ({ cls := "java/lang/Throwable", name := "getLocalizedMessage", desc := "()Ljava/lang/String;" } : Jvm.MethodName) prog_53_method_7_code (1 : Nat) (Option.some (Jvm.ClassFile.FieldType.object "java/lang/String"))) ∈ lw_all := lw_g (lw_at lw_m7 79 rfl) rfl
theorem q1606 : (Jvm.Cond.methodLink "java/lang/Throwable" (39 : Nat) ({ cls := "java/lang/Throwable", name := "getMessage", desc := "()Ljava/lang/String;" } : Jvm.MethodName)) ∈ lw_all := lw_g (lw_at lw_m7 80 rfl) rfl
theorem q1607 : (Jvm.Cond.instanceMethod ({ cls := "java/lang/Throwable", name := "getMessage", desc := "()Ljava/lang/String;" } : Jvm.MethodName)) ∈ lw_all := lw_g (lw_at lw_m7 81 rfl) rfl
theorem q1608 : (Jvm.Cond.sameMethod "java/lang/Throwable" "java/lang/Throwable" "getMessage" "()Ljava/lang/String;") ∈ lw_all := lw_g (lw_at lw_m7 82 rfl) rfl
theorem q1618 : (Jvm.Cond.code ({ cls := "java/lang/Throwable", name := "getMessage", desc := "()Ljava/lang/String;" } : Jvm.MethodName) prog_53_method_6_code (1 : Nat) (Option.some (Jvm.ClassFile.FieldType.object "java/lang/String"))) ∈ lw_all := lw_g (lw_at lw_m7 92 rfl) rfl
theorem q1619 : (Jvm.Cond.classLink "java/lang/Throwable" (44 : Nat) "java/lang/StringBuilder") ∈ lw_all := lw_g (lw_at lw_m7 93 rfl) rfl
theorem q1620 : (Jvm.Cond.methodLink "java/lang/Throwable" (46 : Nat) ({ cls := "java/lang/StringBuilder", name := "<init>", desc := "()V" } : Jvm.MethodName)) ∈ lw_all := lw_g (lw_at lw_m7 94 rfl) rfl
theorem q1621 : (Jvm.Cond.methodLink "java/lang/Throwable" (49 : Nat) ({ cls := "java/lang/StringBuilder", name := "append", desc := "(Ljava/lang/String;)Ljava/lang/StringBuilder;" } : Jvm.MethodName)) ∈ lw_all := lw_g (lw_at lw_m7 95 rfl) rfl
theorem q1622 : (Jvm.Cond.stringRef "java/lang/Throwable" (81 : Nat) ": ") ∈ lw_tbl := lw_at lw_m7 96 rfl
theorem q1623 : (Jvm.Cond.methodLink "java/lang/Throwable" (60 : Nat) ({ cls := "java/lang/StringBuilder", name := "toString", desc := "()Ljava/lang/String;" } : Jvm.MethodName)) ∈ lw_all := lw_g (lw_at lw_m7 97 rfl) rfl
theorem q3751 : (Jvm.Cond.sameMethod "java/lang/Throwable" "java/lang/Throwable" "fillInStackTrace" "(I)Ljava/lang/Throwable;") ∈ lw_all := lw_g (lw_at lw_m16 65 rfl) rfl
theorem q3848 : (Jvm.Cond.castable "java/lang/Throwable" "java/lang/Object") ∈ lw_tbl := lw_at lw_m16 162 rfl
theorem in_J10 : ∀ w ∈ wsJ100, w ∈ lw_all := lw_in wsJ100 [482, 483, 484, 485, 486] (by decide +kernel) (by decide +kernel)
/-! java/lang/Exception -/
set_option maxRecDepth 100000
def RJ11 : String := "java/lang/Exception"
abbrev cJ11_init : ByteArray := prog_37_method_2_code
def yJ11_init : MethodName := ⟨RJ11, "<init>", "(Ljava/lang/String;)V"⟩
def dkwJ11_init_0 : List UInt8 := [42, 43, 183, 0, 7, 177]
abbrev dktJ11_init_0 : List UInt8 := dkwJ11_init_0 ++ []
theorem dksJ11_init_0 : cJ11_init.data.toList.drop 0 = dktJ11_init_0 := by decide +kernel
theorem dJ11_init_0 : decode cJ11_init 0 = .ok (.aload_n 0, 1) := dk_42 (dk_at dksJ11_init_0 0 rfl rfl)
theorem dJ11_init_1 : decode cJ11_init 1 = .ok (.aload_n 1, 1) := dk_43 (dk_at dksJ11_init_0 1 rfl rfl)
theorem dJ11_init_2 : decode cJ11_init 2 = .ok (.invokespecial 7, 3) := dk_183 0 7 (dk_at dksJ11_init_0 2 rfl rfl)
theorem dJ11_init_5 : decode cJ11_init 5 = .ok (.return_, 1) := dk_177 (dk_at dksJ11_init_0 5 rfl rfl)
abbrev cJ11_init_2 : ByteArray := prog_37_method_5_code
def yJ11_init_2 : MethodName := ⟨RJ11, "<init>", "(Ljava/lang/String;Ljava/lang/Throwable;ZZ)V"⟩
def dkwJ11_init_2_0 : List UInt8 := [42, 43, 44, 29, 21, 4, 183, 0, 16, 177]
abbrev dktJ11_init_2_0 : List UInt8 := dkwJ11_init_2_0 ++ []
theorem dksJ11_init_2_0 : cJ11_init_2.data.toList.drop 0 = dktJ11_init_2_0 := by decide +kernel
theorem dJ11_init_2_0 : decode cJ11_init_2 0 = .ok (.aload_n 0, 1) := dk_42 (dk_at dksJ11_init_2_0 0 rfl rfl)
theorem dJ11_init_2_1 : decode cJ11_init_2 1 = .ok (.aload_n 1, 1) := dk_43 (dk_at dksJ11_init_2_0 1 rfl rfl)
theorem dJ11_init_2_2 : decode cJ11_init_2 2 = .ok (.aload_n 2, 1) := dk_44 (dk_at dksJ11_init_2_0 2 rfl rfl)
theorem dJ11_init_2_3 : decode cJ11_init_2 3 = .ok (.iload_n 3, 1) := dk_29 (dk_at dksJ11_init_2_0 3 rfl rfl)
theorem dJ11_init_2_4 : decode cJ11_init_2 4 = .ok (.iload 4, 2) := dk_21 4 (dk_at dksJ11_init_2_0 4 rfl rfl)
theorem dJ11_init_2_6 : decode cJ11_init_2 6 = .ok (.invokespecial 16, 3) := dk_183 0 16 (dk_at dksJ11_init_2_0 6 rfl rfl)
theorem dJ11_init_2_9 : decode cJ11_init_2 9 = .ok (.return_, 1) := dk_177 (dk_at dksJ11_init_2_0 9 rfl rfl)
abbrev cJ11_init_3 : ByteArray := prog_37_method_1_code
def yJ11_init_3 : MethodName := ⟨RJ11, "<init>", "()V"⟩
theorem dJ11_init_3_0 : decode cJ11_init_3 0 = .ok (.aload_n 0, 1) := by decide +kernel
theorem dJ11_init_3_1 : decode cJ11_init_3 1 = .ok (.invokespecial 1, 3) := by decide +kernel
theorem dJ11_init_3_4 : decode cJ11_init_3 4 = .ok (.return_, 1) := by decide +kernel
abbrev cJ11_init_4 : ByteArray := prog_37_method_4_code
def yJ11_init_4 : MethodName := ⟨RJ11, "<init>", "(Ljava/lang/Throwable;)V"⟩
def dkwJ11_init_4_0 : List UInt8 := [42, 43, 183, 0, 13, 177]
abbrev dktJ11_init_4_0 : List UInt8 := dkwJ11_init_4_0 ++ []
theorem dksJ11_init_4_0 : cJ11_init_4.data.toList.drop 0 = dktJ11_init_4_0 := by decide +kernel
theorem dJ11_init_4_0 : decode cJ11_init_4 0 = .ok (.aload_n 0, 1) := dk_42 (dk_at dksJ11_init_4_0 0 rfl rfl)
theorem dJ11_init_4_1 : decode cJ11_init_4 1 = .ok (.aload_n 1, 1) := dk_43 (dk_at dksJ11_init_4_0 1 rfl rfl)
theorem dJ11_init_4_2 : decode cJ11_init_4 2 = .ok (.invokespecial 13, 3) := dk_183 0 13 (dk_at dksJ11_init_4_0 2 rfl rfl)
theorem dJ11_init_4_5 : decode cJ11_init_4 5 = .ok (.return_, 1) := dk_177 (dk_at dksJ11_init_4_0 5 rfl rfl)
theorem q104 : (Jvm.Cond.initialized "java/lang/Exception") ∈ lw_all := lw_g (lw_at lw_m1 18 rfl) rfl
theorem q426 : (Jvm.Cond.instanceMethod ({ cls := "java/lang/Exception", name := "<init>", desc := "(Ljava/lang/String;)V" } : Jvm.MethodName)) ∈ lw_all := lw_g (lw_at lw_m2 100 rfl) rfl
theorem q427 : (Jvm.Cond.code ({ cls := "java/lang/Exception", name := "<init>", desc := "(Ljava/lang/String;)V" } : Jvm.MethodName) prog_37_method_2_code (2 : Nat) (Option.none : Option Jvm.ClassFile.FieldType)) ∈ lw_all := lw_g (lw_at lw_m2 101 rfl) rfl
theorem q428 : (Jvm.Cond.methodLink "java/lang/Exception" (7 : Nat) ({ cls := "java/lang/Throwable", name := "<init>", desc := "(Ljava/lang/String;)V" } : Jvm.MethodName)) ∈ lw_all := lw_g (lw_at lw_m2 102 rfl) rfl
theorem q477 : (Jvm.Cond.declares ({ cls := "java/lang/Exception", name := "<init>", desc := "()V" } : Jvm.MethodName)) ∈ lw_tbl := lw_at lw_m2 151 rfl
theorem q478 : (Jvm.Cond.declares ({ cls := "java/lang/Exception", name := "<init>", desc := "(Ljava/lang/String;)V" } : Jvm.MethodName)) ∈ lw_tbl := lw_at lw_m2 152 rfl
theorem q509 : (Jvm.Cond.instanceMethod ({ cls := "java/lang/Exception", name := "<init>", desc := "(Ljava/lang/String;Ljava/lang/Throwable;ZZ)V" } : Jvm.MethodName)) ∈ lw_all := lw_g (lw_at lw_m2 183 rfl) rfl
theorem q510 : (Jvm.Cond.code ({ cls := "java/lang/Exception", name := "<init>", desc := "(Ljava/lang/String;Ljava/lang/Throwable;ZZ)V" } : Jvm.MethodName) prog_37_method_5_code (5 : Nat) (Option.none : Option Jvm.ClassFile.FieldType)) ∈ lw_all := lw_g (lw_at lw_m2 184 rfl) rfl
theorem q511 : (Jvm.Cond.methodLink "java/lang/Exception" (16 : Nat) ({ cls := "java/lang/Throwable", name := "<init>", desc := "(Ljava/lang/String;Ljava/lang/Throwable;ZZ)V" } : Jvm.MethodName)) ∈ lw_all := lw_g (lw_at lw_m2 185 rfl) rfl
theorem q982 : (Jvm.Cond.instanceMethod ({ cls := "java/lang/Exception", name := "<init>", desc := "()V" } : Jvm.MethodName)) ∈ lw_all := lw_g (lw_at lw_m4 176 rfl) rfl
theorem q983 : (Jvm.Cond.code ({ cls := "java/lang/Exception", name := "<init>", desc := "()V" } : Jvm.MethodName) prog_37_method_1_code (1 : Nat) (Option.none : Option Jvm.ClassFile.FieldType)) ∈ lw_all := lw_g (lw_at lw_m4 177 rfl) rfl
theorem q984 : (Jvm.Cond.methodLink "java/lang/Exception" (1 : Nat) ({ cls := "java/lang/Throwable", name := "<init>", desc := "()V" } : Jvm.MethodName)) ∈ lw_all := lw_g (lw_at lw_m4 178 rfl) rfl
theorem q1574 : (Jvm.Cond.instanceMethod ({ cls := "java/lang/Exception", name := "<init>", desc := "(Ljava/lang/Throwable;)V" } : Jvm.MethodName)) ∈ lw_all := lw_g (lw_at lw_m7 48 rfl) rfl
theorem q1575 : (Jvm.Cond.code ({ cls := "java/lang/Exception", name := "<init>", desc := "(Ljava/lang/Throwable;)V" } : Jvm.MethodName) prog_37_method_4_code (2 : Nat) (Option.none : Option Jvm.ClassFile.FieldType)) ∈ lw_all := lw_g (lw_at lw_m7 49 rfl) rfl
theorem q1576 : (Jvm.Cond.methodLink "java/lang/Exception" (13 : Nat) ({ cls := "java/lang/Throwable", name := "<init>", desc := "(Ljava/lang/Throwable;)V" } : Jvm.MethodName)) ∈ lw_all := lw_g (lw_at lw_m7 50 rfl) rfl
/-! java/util/AbstractList -/
set_option maxRecDepth 100000
def RJ18 : String := "java/util/AbstractList"
abbrev cJ18_init : ByteArray := prog_57_method_1_code
def yJ18_init : MethodName := ⟨RJ18, "<init>", "()V"⟩
def dkwJ18_init_0 : List UInt8 := [42, 183, 0, 1, 42, 3, 181, 0, 7, 177]
abbrev dktJ18_init_0 : List UInt8 := dkwJ18_init_0 ++ []
theorem dksJ18_init_0 : cJ18_init.data.toList.drop 0 = dktJ18_init_0 := by decide +kernel
theorem dJ18_init_0 : decode cJ18_init 0 = .ok (.aload_n 0, 1) := dk_42 (dk_at dksJ18_init_0 0 rfl rfl)
theorem dJ18_init_1 : decode cJ18_init 1 = .ok (.invokespecial 1, 3) := dk_183 0 1 (dk_at dksJ18_init_0 1 rfl rfl)
theorem dJ18_init_4 : decode cJ18_init 4 = .ok (.aload_n 0, 1) := dk_42 (dk_at dksJ18_init_0 4 rfl rfl)
theorem dJ18_init_5 : decode cJ18_init 5 = .ok (.iconst 0, 1) := dk_3 (dk_at dksJ18_init_0 5 rfl rfl)
theorem dJ18_init_6 : decode cJ18_init 6 = .ok (.putfield 7, 3) := dk_181 0 7 (dk_at dksJ18_init_0 6 rfl rfl)
theorem dJ18_init_9 : decode cJ18_init 9 = .ok (.return_, 1) := dk_177 (dk_at dksJ18_init_0 9 rfl rfl)
abbrev cJ18_add : ByteArray := prog_57_method_2_code
def yJ18_add : MethodName := ⟨RJ18, "add", "(Ljava/lang/Object;)Z"⟩
def dkwJ18_add_0 : List UInt8 := [42, 42, 182, 0, 13, 43, 182, 0, 17, 4, 172]
abbrev dktJ18_add_0 : List UInt8 := dkwJ18_add_0 ++ []
theorem dksJ18_add_0 : cJ18_add.data.toList.drop 0 = dktJ18_add_0 := by decide +kernel
theorem dJ18_add_0 : decode cJ18_add 0 = .ok (.aload_n 0, 1) := dk_42 (dk_at dksJ18_add_0 0 rfl rfl)
theorem dJ18_add_1 : decode cJ18_add 1 = .ok (.aload_n 0, 1) := dk_42 (dk_at dksJ18_add_0 1 rfl rfl)
theorem dJ18_add_2 : decode cJ18_add 2 = .ok (.invokevirtual 13, 3) := dk_182 0 13 (dk_at dksJ18_add_0 2 rfl rfl)
theorem dJ18_add_5 : decode cJ18_add 5 = .ok (.aload_n 1, 1) := dk_43 (dk_at dksJ18_add_0 5 rfl rfl)
theorem dJ18_add_6 : decode cJ18_add 6 = .ok (.invokevirtual 17, 3) := dk_182 0 17 (dk_at dksJ18_add_0 6 rfl rfl)
theorem dJ18_add_9 : decode cJ18_add 9 = .ok (.iconst 1, 1) := dk_4 (dk_at dksJ18_add_0 9 rfl rfl)
theorem dJ18_add_10 : decode cJ18_add 10 = .ok (.ireturn, 1) := dk_172 (dk_at dksJ18_add_0 10 rfl rfl)
abbrev cJ18_add_2 : ByteArray := prog_57_method_5_code
def yJ18_add_2 : MethodName := ⟨RJ18, "add", "(ILjava/lang/Object;)V"⟩
def dkwJ18_add_2_0 : List UInt8 := [187, 0, 21, 89, 183, 0, 23, 191]
abbrev dktJ18_add_2_0 : List UInt8 := dkwJ18_add_2_0 ++ []
theorem dksJ18_add_2_0 : cJ18_add_2.data.toList.drop 0 = dktJ18_add_2_0 := by decide +kernel
theorem dJ18_add_2_0 : decode cJ18_add_2 0 = .ok (.new 21, 3) := dk_187 0 21 (dk_at dksJ18_add_2_0 0 rfl rfl)
theorem dJ18_add_2_3 : decode cJ18_add_2 3 = .ok (.dup, 1) := dk_89 (dk_at dksJ18_add_2_0 3 rfl rfl)
theorem dJ18_add_2_4 : decode cJ18_add_2 4 = .ok (.invokespecial 23, 3) := dk_183 0 23 (dk_at dksJ18_add_2_0 4 rfl rfl)
theorem dJ18_add_2_7 : decode cJ18_add_2 7 = .ok (.athrow, 1) := dk_191 (dk_at dksJ18_add_2_0 7 rfl rfl)
abbrev cJ18_iterator : ByteArray := prog_57_method_11_code
def yJ18_iterator : MethodName := ⟨RJ18, "iterator", "()Ljava/util/Iterator;"⟩
def dkwJ18_iterator_0 : List UInt8 := [187, 0, 77, 89, 42, 183, 0, 79, 176]
abbrev dktJ18_iterator_0 : List UInt8 := dkwJ18_iterator_0 ++ []
theorem dksJ18_iterator_0 : cJ18_iterator.data.toList.drop 0 = dktJ18_iterator_0 := by decide +kernel
theorem dJ18_iterator_0 : decode cJ18_iterator 0 = .ok (.new 77, 3) := dk_187 0 77 (dk_at dksJ18_iterator_0 0 rfl rfl)
theorem dJ18_iterator_3 : decode cJ18_iterator 3 = .ok (.dup, 1) := dk_89 (dk_at dksJ18_iterator_0 3 rfl rfl)
theorem dJ18_iterator_4 : decode cJ18_iterator 4 = .ok (.aload_n 0, 1) := dk_42 (dk_at dksJ18_iterator_0 4 rfl rfl)
theorem dJ18_iterator_5 : decode cJ18_iterator 5 = .ok (.invokespecial 79, 3) := dk_183 0 79 (dk_at dksJ18_iterator_0 5 rfl rfl)
theorem dJ18_iterator_8 : decode cJ18_iterator 8 = .ok (.areturn, 1) := dk_176 (dk_at dksJ18_iterator_0 8 rfl rfl)
abbrev cJ18_listIterator : ByteArray := prog_57_method_12_code
def yJ18_listIterator : MethodName := ⟨RJ18, "listIterator", "()Ljava/util/ListIterator;"⟩
def dkwJ18_listIterator_0 : List UInt8 := [42, 3, 182, 0, 47, 176]
abbrev dktJ18_listIterator_0 : List UInt8 := dkwJ18_listIterator_0 ++ []
theorem dksJ18_listIterator_0 : cJ18_listIterator.data.toList.drop 0 = dktJ18_listIterator_0 := by decide +kernel
theorem dJ18_listIterator_0 : decode cJ18_listIterator 0 = .ok (.aload_n 0, 1) := dk_42 (dk_at dksJ18_listIterator_0 0 rfl rfl)
theorem dJ18_listIterator_1 : decode cJ18_listIterator 1 = .ok (.iconst 0, 1) := dk_3 (dk_at dksJ18_listIterator_0 1 rfl rfl)
theorem dJ18_listIterator_2 : decode cJ18_listIterator 2 = .ok (.invokevirtual 47, 3) := dk_182 0 47 (dk_at dksJ18_listIterator_0 2 rfl rfl)
theorem dJ18_listIterator_5 : decode cJ18_listIterator 5 = .ok (.areturn, 1) := dk_176 (dk_at dksJ18_listIterator_0 5 rfl rfl)
abbrev cJ18_listIterator_2 : ByteArray := prog_57_method_13_code
def yJ18_listIterator_2 : MethodName := ⟨RJ18, "listIterator", "(I)Ljava/util/ListIterator;"⟩
def dkwJ18_listIterator_2_0 : List UInt8 := [42, 27, 182, 0, 63, 187, 0, 82, 89, 42, 27, 183, 0, 84, 176]
abbrev dktJ18_listIterator_2_0 : List UInt8 := dkwJ18_listIterator_2_0 ++ []
theorem dksJ18_listIterator_2_0 : cJ18_listIterator_2.data.toList.drop 0 = dktJ18_listIterator_2_0 := by decide +kernel
theorem dJ18_listIterator_2_0 : decode cJ18_listIterator_2 0 = .ok (.aload_n 0, 1) := dk_42 (dk_at dksJ18_listIterator_2_0 0 rfl rfl)
theorem dJ18_listIterator_2_1 : decode cJ18_listIterator_2 1 = .ok (.iload_n 1, 1) := dk_27 (dk_at dksJ18_listIterator_2_0 1 rfl rfl)
theorem dJ18_listIterator_2_2 : decode cJ18_listIterator_2 2 = .ok (.invokevirtual 63, 3) := dk_182 0 63 (dk_at dksJ18_listIterator_2_0 2 rfl rfl)
theorem dJ18_listIterator_2_5 : decode cJ18_listIterator_2 5 = .ok (.new 82, 3) := dk_187 0 82 (dk_at dksJ18_listIterator_2_0 5 rfl rfl)
theorem dJ18_listIterator_2_8 : decode cJ18_listIterator_2 8 = .ok (.dup, 1) := dk_89 (dk_at dksJ18_listIterator_2_0 8 rfl rfl)
theorem dJ18_listIterator_2_9 : decode cJ18_listIterator_2 9 = .ok (.aload_n 0, 1) := dk_42 (dk_at dksJ18_listIterator_2_0 9 rfl rfl)
theorem dJ18_listIterator_2_10 : decode cJ18_listIterator_2 10 = .ok (.iload_n 1, 1) := dk_27 (dk_at dksJ18_listIterator_2_0 10 rfl rfl)
theorem dJ18_listIterator_2_11 : decode cJ18_listIterator_2 11 = .ok (.invokespecial 84, 3) := dk_183 0 84 (dk_at dksJ18_listIterator_2_0 11 rfl rfl)
theorem dJ18_listIterator_2_14 : decode cJ18_listIterator_2 14 = .ok (.areturn, 1) := dk_176 (dk_at dksJ18_listIterator_2_0 14 rfl rfl)
abbrev cJ18_rangeCheckForAdd : ByteArray := prog_57_method_19_code
def yJ18_rangeCheckForAdd : MethodName := ⟨RJ18, "rangeCheckForAdd", "(I)V"⟩
def dkwJ18_rangeCheckForAdd_1 : List UInt8 := [191, 177]
abbrev dktJ18_rangeCheckForAdd_1 : List UInt8 := dkwJ18_rangeCheckForAdd_1 ++ []
def dkwJ18_rangeCheckForAdd_0 : List UInt8 := [27, 155, 0, 11, 27, 42, 182, 0, 13, 164, 0, 16, 187, 0, 101, 89, 42, 27, 182, 0, 143, 183, 0, 119]
abbrev dktJ18_rangeCheckForAdd_0 : List UInt8 := dkwJ18_rangeCheckForAdd_0 ++ dktJ18_rangeCheckForAdd_1
theorem dksJ18_rangeCheckForAdd_0 : cJ18_rangeCheckForAdd.data.toList.drop 0 = dktJ18_rangeCheckForAdd_0 := by decide +kernel
theorem dksJ18_rangeCheckForAdd_1 : cJ18_rangeCheckForAdd.data.toList.drop 24 = dktJ18_rangeCheckForAdd_1 := dk_seg dksJ18_rangeCheckForAdd_0 24 rfl rfl
theorem dJ18_rangeCheckForAdd_0 : decode cJ18_rangeCheckForAdd 0 = .ok (.iload_n 1, 1) := dk_27 (dk_at dksJ18_rangeCheckForAdd_0 0 rfl rfl)
theorem dJ18_rangeCheckForAdd_1 : decode cJ18_rangeCheckForAdd 1 = .ok (.ifCond .lt 11, 3) := dk_155 0 11 (dk_at dksJ18_rangeCheckForAdd_0 1 rfl rfl)
theorem dJ18_rangeCheckForAdd_4 : decode cJ18_rangeCheckForAdd 4 = .ok (.iload_n 1, 1) := dk_27 (dk_at dksJ18_rangeCheckForAdd_0 4 rfl rfl)
theorem dJ18_rangeCheckForAdd_5 : decode cJ18_rangeCheckForAdd 5 = .ok (.aload_n 0, 1) := dk_42 (dk_at dksJ18_rangeCheckForAdd_0 5 rfl rfl)
theorem dJ18_rangeCheckForAdd_6 : decode cJ18_rangeCheckForAdd 6 = .ok (.invokevirtual 13, 3) := dk_182 0 13 (dk_at dksJ18_rangeCheckForAdd_0 6 rfl rfl)
theorem dJ18_rangeCheckForAdd_9 : decode cJ18_rangeCheckForAdd 9 = .ok (.if_icmp .le 16, 3) := dk_164 0 16 (dk_at dksJ18_rangeCheckForAdd_0 9 rfl rfl)
theorem dJ18_rangeCheckForAdd_12 : decode cJ18_rangeCheckForAdd 12 = .ok (.new 101, 3) := dk_187 0 101 (dk_at dksJ18_rangeCheckForAdd_0 12 rfl rfl)
theorem dJ18_rangeCheckForAdd_15 : decode cJ18_rangeCheckForAdd 15 = .ok (.dup, 1) := dk_89 (dk_at dksJ18_rangeCheckForAdd_0 15 rfl rfl)
theorem dJ18_rangeCheckForAdd_16 : decode cJ18_rangeCheckForAdd 16 = .ok (.aload_n 0, 1) := dk_42 (dk_at dksJ18_rangeCheckForAdd_0 16 rfl rfl)
theorem dJ18_rangeCheckForAdd_17 : decode cJ18_rangeCheckForAdd 17 = .ok (.iload_n 1, 1) := dk_27 (dk_at dksJ18_rangeCheckForAdd_0 17 rfl rfl)
theorem dJ18_rangeCheckForAdd_18 : decode cJ18_rangeCheckForAdd 18 = .ok (.invokevirtual 143, 3) := dk_182 0 143 (dk_at dksJ18_rangeCheckForAdd_0 18 rfl rfl)
theorem dJ18_rangeCheckForAdd_21 : decode cJ18_rangeCheckForAdd 21 = .ok (.invokespecial 119, 3) := dk_183 0 119 (dk_at dksJ18_rangeCheckForAdd_0 21 rfl rfl)
theorem dJ18_rangeCheckForAdd_24 : decode cJ18_rangeCheckForAdd 24 = .ok (.athrow, 1) := dk_191 (dk_at dksJ18_rangeCheckForAdd_1 0 rfl rfl)
theorem dJ18_rangeCheckForAdd_25 : decode cJ18_rangeCheckForAdd 25 = .ok (.return_, 1) := dk_177 (dk_at dksJ18_rangeCheckForAdd_1 1 rfl rfl)
abbrev cJ18_outOfBoundsMsg : ByteArray := prog_57_method_20_code
def yJ18_outOfBoundsMsg : MethodName := ⟨RJ18, "outOfBoundsMsg", "(I)Ljava/lang/String;"⟩
def dkwJ18_outOfBoundsMsg_1 : List UInt8 := [182, 0, 13, 182, 0, 112, 182, 0, 115, 176]
abbrev dktJ18_outOfBoundsMsg_1 : List UInt8 := dkwJ18_outOfBoundsMsg_1 ++ []
def dkwJ18_outOfBoundsMsg_0 : List UInt8 := [187, 0, 103, 89, 183, 0, 105, 18, 147, 182, 0, 108, 27, 182, 0, 112, 18, 149, 182, 0, 108, 42]
abbrev dktJ18_outOfBoundsMsg_0 : List UInt8 := dkwJ18_outOfBoundsMsg_0 ++ dktJ18_outOfBoundsMsg_1
theorem dksJ18_outOfBoundsMsg_0 : cJ18_outOfBoundsMsg.data.toList.drop 0 = dktJ18_outOfBoundsMsg_0 := by decide +kernel
theorem dksJ18_outOfBoundsMsg_1 : cJ18_outOfBoundsMsg.data.toList.drop 22 = dktJ18_outOfBoundsMsg_1 := dk_seg dksJ18_outOfBoundsMsg_0 22 rfl rfl
theorem dJ18_outOfBoundsMsg_0 : decode cJ18_outOfBoundsMsg 0 = .ok (.new 103, 3) := dk_187 0 103 (dk_at dksJ18_outOfBoundsMsg_0 0 rfl rfl)
theorem dJ18_outOfBoundsMsg_3 : decode cJ18_outOfBoundsMsg 3 = .ok (.dup, 1) := dk_89 (dk_at dksJ18_outOfBoundsMsg_0 3 rfl rfl)
theorem dJ18_outOfBoundsMsg_4 : decode cJ18_outOfBoundsMsg 4 = .ok (.invokespecial 105, 3) := dk_183 0 105 (dk_at dksJ18_outOfBoundsMsg_0 4 rfl rfl)
theorem dJ18_outOfBoundsMsg_7 : decode cJ18_outOfBoundsMsg 7 = .ok (.ldc 147, 2) := dk_18 147 (dk_at dksJ18_outOfBoundsMsg_0 7 rfl rfl)
theorem dJ18_outOfBoundsMsg_9 : decode cJ18_outOfBoundsMsg 9 = .ok (.invokevirtual 108, 3) := dk_182 0 108 (dk_at dksJ18_outOfBoundsMsg_0 9 rfl rfl)
theorem dJ18_outOfBoundsMsg_12 : decode cJ18_outOfBoundsMsg 12 = .ok (.iload_n 1, 1) := dk_27 (dk_at dksJ18_outOfBoundsMsg_0 12 rfl rfl)
theorem dJ18_outOfBoundsMsg_13 : decode cJ18_outOfBoundsMsg 13 = .ok (.invokevirtual 112, 3) := dk_182 0 112 (dk_at dksJ18_outOfBoundsMsg_0 13 rfl rfl)
theorem dJ18_outOfBoundsMsg_16 : decode cJ18_outOfBoundsMsg 16 = .ok (.ldc 149, 2) := dk_18 149 (dk_at dksJ18_outOfBoundsMsg_0 16 rfl rfl)
theorem dJ18_outOfBoundsMsg_18 : decode cJ18_outOfBoundsMsg 18 = .ok (.invokevirtual 108, 3) := dk_182 0 108 (dk_at dksJ18_outOfBoundsMsg_0 18 rfl rfl)
theorem dJ18_outOfBoundsMsg_21 : decode cJ18_outOfBoundsMsg 21 = .ok (.aload_n 0, 1) := dk_42 (dk_at dksJ18_outOfBoundsMsg_0 21 rfl rfl)
theorem dJ18_outOfBoundsMsg_22 : decode cJ18_outOfBoundsMsg 22 = .ok (.invokevirtual 13, 3) := dk_182 0 13 (dk_at dksJ18_outOfBoundsMsg_1 0 rfl rfl)
theorem dJ18_outOfBoundsMsg_25 : decode cJ18_outOfBoundsMsg 25 = .ok (.invokevirtual 112, 3) := dk_182 0 112 (dk_at dksJ18_outOfBoundsMsg_1 3 rfl rfl)
theorem dJ18_outOfBoundsMsg_28 : decode cJ18_outOfBoundsMsg 28 = .ok (.invokevirtual 115, 3) := dk_182 0 115 (dk_at dksJ18_outOfBoundsMsg_1 6 rfl rfl)
theorem dJ18_outOfBoundsMsg_31 : decode cJ18_outOfBoundsMsg 31 = .ok (.areturn, 1) := dk_176 (dk_at dksJ18_outOfBoundsMsg_1 9 rfl rfl)
abbrev cJ18_remove : ByteArray := prog_57_method_6_code
def yJ18_remove : MethodName := ⟨RJ18, "remove", "(I)Ljava/lang/Object;"⟩
def dkwJ18_remove_0 : List UInt8 := [187, 0, 21, 89, 183, 0, 23, 191]
abbrev dktJ18_remove_0 : List UInt8 := dkwJ18_remove_0 ++ []
theorem dksJ18_remove_0 : cJ18_remove.data.toList.drop 0 = dktJ18_remove_0 := by decide +kernel
theorem dJ18_remove_0 : decode cJ18_remove 0 = .ok (.new 21, 3) := dk_187 0 21 (dk_at dksJ18_remove_0 0 rfl rfl)
theorem dJ18_remove_3 : decode cJ18_remove 3 = .ok (.dup, 1) := dk_89 (dk_at dksJ18_remove_0 3 rfl rfl)
theorem dJ18_remove_4 : decode cJ18_remove 4 = .ok (.invokespecial 23, 3) := dk_183 0 23 (dk_at dksJ18_remove_0 4 rfl rfl)
theorem dJ18_remove_7 : decode cJ18_remove 7 = .ok (.athrow, 1) := dk_191 (dk_at dksJ18_remove_0 7 rfl rfl)
abbrev cJ18_set : ByteArray := prog_57_method_4_code
def yJ18_set : MethodName := ⟨RJ18, "set", "(ILjava/lang/Object;)Ljava/lang/Object;"⟩
def dkwJ18_set_0 : List UInt8 := [187, 0, 21, 89, 183, 0, 23, 191]
abbrev dktJ18_set_0 : List UInt8 := dkwJ18_set_0 ++ []
theorem dksJ18_set_0 : cJ18_set.data.toList.drop 0 = dktJ18_set_0 := by decide +kernel
theorem dJ18_set_0 : decode cJ18_set 0 = .ok (.new 21, 3) := dk_187 0 21 (dk_at dksJ18_set_0 0 rfl rfl)
theorem dJ18_set_3 : decode cJ18_set 3 = .ok (.dup, 1) := dk_89 (dk_at dksJ18_set_0 3 rfl rfl)
theorem dJ18_set_4 : decode cJ18_set 4 = .ok (.invokespecial 23, 3) := dk_183 0 23 (dk_at dksJ18_set_0 4 rfl rfl)
theorem dJ18_set_7 : decode cJ18_set 7 = .ok (.athrow, 1) := dk_191 (dk_at dksJ18_set_0 7 rfl rfl)
theorem q119 : (Jvm.Cond.initialized "java/util/AbstractList") ∈ lw_all := lw_g (lw_at lw_m1 33 rfl) rfl
theorem q757 : (Jvm.Cond.instanceMethod ({ cls := "java/util/AbstractList", name := "<init>", desc := "()V" } : Jvm.MethodName)) ∈ lw_all := lw_g (lw_at lw_m3 191 rfl) rfl
theorem q758 : (Jvm.Cond.code ({ cls := "java/util/AbstractList", name := "<init>", desc := "()V" } : Jvm.MethodName) prog_57_method_1_code (1 : Nat) (Option.none : Option Jvm.ClassFile.FieldType)) ∈ lw_all := lw_g (lw_at lw_m3 192 rfl) rfl
theorem q759 : (Jvm.Cond.methodLink "java/util/AbstractList" (1 : Nat) ({ cls := "java/util/AbstractCollection", name := "<init>", desc := "()V" } : Jvm.MethodName)) ∈ lw_all := lw_g (lw_at lw_m3 193 rfl) rfl
theorem q766 : (Jvm.Cond.fieldLink "java/util/AbstractList" (7 : Nat) "java/util/AbstractList" "modCount" "I") ∈ lw_all := lw_g (lw_at lw_m3 200 rfl) rfl
theorem q779 : (Jvm.Cond.soleField "java/util/AbstractList" "modCount") ∈ lw_all := lw_g (lw_at lw_m3 213 rfl) rfl
theorem q919 : (Jvm.Cond.instanceMethod ({ cls := "java/util/AbstractList", name := "add", desc := "(Ljava/lang/Object;)Z" } : Jvm.MethodName)) ∈ lw_all := lw_g (lw_at lw_m4 113 rfl) rfl
theorem q920 : (Jvm.Cond.publicMethod ({ cls := "java/util/AbstractList", name := "add", desc := "(Ljava/lang/Object;)Z" } : Jvm.MethodName)) ∈ lw_tbl := lw_at lw_m4 114 rfl
theorem q921 : (Jvm.Cond.code ({ cls := "java/util/AbstractList", name := "add", desc := "(Ljava/lang/Object;)Z" } : Jvm.MethodName) prog_57_method_2_code (2 : Nat) (Option.some Jvm.ClassFile.FieldType.boolean)) ∈ lw_all := lw_g (lw_at lw_m4 115 rfl) rfl
theorem q922 : (Jvm.Cond.methodLink "java/util/AbstractList" (13 : Nat) ({ cls := "java/util/AbstractList", name := "size", desc := "()I" } : Jvm.MethodName)) ∈ lw_all := lw_g (lw_at lw_m4 116 rfl) rfl
theorem q923 : (Jvm.Cond.sameMethod "java/util/AbstractList" "java/util/AbstractCollection" "size" "()I") ∈ lw_all := lw_g (lw_at lw_m4 117 rfl) rfl
theorem q934 : (Jvm.Cond.methodLink "java/util/AbstractList" (17 : Nat) ({ cls := "java/util/AbstractList", name := "add", desc := "(ILjava/lang/Object;)V" } : Jvm.MethodName)) ∈ lw_all := lw_g (lw_at lw_m4 128 rfl) rfl
theorem q935 : (Jvm.Cond.instanceMethod ({ cls := "java/util/AbstractList", name := "add", desc := "(ILjava/lang/Object;)V" } : Jvm.MethodName)) ∈ lw_all := lw_g (lw_at lw_m4 129 rfl) rfl
theorem q936 : (Jvm.Cond.sameMethod "java/util/AbstractList" "java/util/AbstractList" "add" "(ILjava/lang/Object;)V") ∈ lw_all := lw_g (lw_at lw_m4 130 rfl) rfl
theorem q1249 : (Jvm.Cond.code ({ cls := "java/util/AbstractList", name := "add", desc := "(ILjava/lang/Object;)V" } : Jvm.MethodName) prog_57_method_5_code (3 : Nat) (Option.none : Option Jvm.ClassFile.FieldType)) ∈ lw_all := lw_g (lw_at lw_m5 203 rfl) rfl
theorem q1327 : (Jvm.Cond.instanceMethod ({ cls := "java/util/AbstractList", name := "iterator", desc := "()Ljava/util/Iterator;" } : Jvm.MethodName)) ∈ lw_all := lw_g (lw_at lw_m6 41 rfl) rfl
theorem q1328 : (Jvm.Cond.publicMethod ({ cls := "java/util/AbstractList", name := "iterator", desc := "()Ljava/util/Iterator;" } : Jvm.MethodName)) ∈ lw_tbl := lw_at lw_m6 42 rfl
theorem q1329 : (Jvm.Cond.code ({ cls := "java/util/AbstractList", name := "iterator", desc := "()Ljava/util/Iterator;" } : Jvm.MethodName) prog_57_method_11_code (1 : Nat) (Option.some (Jvm.ClassFile.FieldType.object "java/util/Iterator"))) ∈ lw_all := lw_g (lw_at lw_m6 43 rfl) rfl
theorem q1330 : (Jvm.Cond.classLink "java/util/AbstractList" (77 : Nat) "java/util/AbstractList$Itr") ∈ lw_all := lw_g (lw_at lw_m6 44 rfl) rfl
theorem q1332 : (Jvm.Cond.methodLinkNest "java/util/AbstractList" (79 : Nat) ({ cls := "java/util/AbstractList$Itr", name := "<init>", desc := "(Ljava/util/AbstractList;)V" } : Jvm.MethodName) "java/util/AbstractList") ∈ lw_tbl := lw_at lw_m6 46 rfl
theorem q1388 : (Jvm.Cond.declares ({ cls := "java/util/AbstractList", name := "listIterator", desc := "()Ljava/util/ListIterator;" } : Jvm.MethodName)) ∈ lw_tbl := lw_at lw_m6 102 rfl
theorem q1390 : (Jvm.Cond.instanceMethod ({ cls := "java/util/AbstractList", name := "listIterator", desc := "()Ljava/util/ListIterator;" } : Jvm.MethodName)) ∈ lw_all := lw_g (lw_at lw_m6 104 rfl) rfl
theorem q1391 : (Jvm.Cond.code ({ cls := "java/util/AbstractList", name := "listIterator", desc := "()Ljava/util/ListIterator;" } : Jvm.MethodName) prog_57_method_12_code (1 : Nat) (Option.some (Jvm.ClassFile.FieldType.object "java/util/ListIterator"))) ∈ lw_all := lw_g (lw_at lw_m6 105 rfl) rfl
theorem q1392 : (Jvm.Cond.methodLink "java/util/AbstractList" (47 : Nat) ({ cls := "java/util/AbstractList", name := "listIterator", desc := "(I)Ljava/util/ListIterator;" } : Jvm.MethodName)) ∈ lw_all := lw_g (lw_at lw_m6 106 rfl) rfl
theorem q1393 : (Jvm.Cond.instanceMethod ({ cls := "java/util/AbstractList", name := "listIterator", desc := "(I)Ljava/util/ListIterator;" } : Jvm.MethodName)) ∈ lw_all := lw_g (lw_at lw_m6 107 rfl) rfl
theorem q1394 : (Jvm.Cond.sameMethod "java/util/AbstractList" "java/util/AbstractList" "listIterator" "(I)Ljava/util/ListIterator;") ∈ lw_all := lw_g (lw_at lw_m6 108 rfl) rfl
theorem q1439 : (Jvm.Cond.code ({ cls := "java/util/AbstractList", name := "listIterator", desc := "(I)Ljava/util/ListIterator;" } : Jvm.MethodName) prog_57_method_13_code (2 : Nat) (Option.some (Jvm.ClassFile.FieldType.object "java/util/ListIterator"))) ∈ lw_all := lw_g (lw_at lw_m6 153 rfl) rfl
theorem q1440 : (Jvm.Cond.methodLink "java/util/AbstractList" (63 : Nat) ({ cls := "java/util/AbstractList", name := "rangeCheckForAdd", desc := "(I)V" } : Jvm.MethodName)) ∈ lw_all := lw_g (lw_at lw_m6 154 rfl) rfl
theorem q1441 : (Jvm.Cond.privateMethod ({ cls := "java/util/AbstractList", name := "rangeCheckForAdd", desc := "(I)V" } : Jvm.MethodName)) ∈ lw_tbl := lw_at lw_m6 155 rfl
theorem q1442 : (Jvm.Cond.instanceMethod ({ cls := "java/util/AbstractList", name := "rangeCheckForAdd", desc := "(I)V" } : Jvm.MethodName)) ∈ lw_all := lw_g (lw_at lw_m6 156 rfl) rfl
theorem q1443 : (Jvm.Cond.code ({ cls := "java/util/AbstractList", name := "rangeCheckForAdd", desc := "(I)V" } : Jvm.MethodName) prog_57_method_19_code (2 : Nat) (Option.none : Option Jvm.ClassFile.FieldType)) ∈ lw_all := lw_g (lw_at lw_m6 157 rfl) rfl
theorem q1444 : (Jvm.Cond.classLink "java/util/AbstractList" (101 : Nat) "java/lang/IndexOutOfBoundsException") ∈ lw_all := lw_g (lw_at lw_m6 158 rfl) rfl
theorem q1445 : (Jvm.Cond.methodLink "java/util/AbstractList" (143 : Nat) ({ cls := "java/util/AbstractList", name := "outOfBoundsMsg", desc := "(I)Ljava/lang/String;" } : Jvm.MethodName)) ∈ lw_all := lw_g (lw_at lw_m6 159 rfl) rfl
theorem q1446 : (Jvm.Cond.privateMethod ({ cls := "java/util/AbstractList", name := "outOfBoundsMsg", desc := "(I)Ljava/lang/String;" } : Jvm.MethodName)) ∈ lw_tbl := lw_at lw_m6 160 rfl
theorem q1447 : (Jvm.Cond.instanceMethod ({ cls := "java/util/AbstractList", name := "outOfBoundsMsg", desc := "(I)Ljava/lang/String;" } : Jvm.MethodName)) ∈ lw_all := lw_g (lw_at lw_m6 161 rfl) rfl
theorem q1448 : (Jvm.Cond.code ({ cls := "java/util/AbstractList", name := "outOfBoundsMsg", desc := "(I)Ljava/lang/String;" } : Jvm.MethodName) prog_57_method_20_code (2 : Nat) (Option.some (Jvm.ClassFile.FieldType.object "java/lang/String"))) ∈ lw_all := lw_g (lw_at lw_m6 162 rfl) rfl
theorem q1449 : (Jvm.Cond.classLink "java/util/AbstractList" (103 : Nat) "java/lang/StringBuilder") ∈ lw_all := lw_g (lw_at lw_m6 163 rfl) rfl
theorem q1450 : (Jvm.Cond.methodLink "java/util/AbstractList" (105 : Nat) ({ cls := "java/lang/StringBuilder", name := "<init>", desc := "()V" } : Jvm.MethodName)) ∈ lw_all := lw_g (lw_at lw_m6 164 rfl) rfl
theorem q1451 : (Jvm.Cond.stringRef "java/util/AbstractList" (147 : Nat) "Index: ") ∈ lw_tbl := lw_at lw_m6 165 rfl
theorem q1452 : (Jvm.Cond.methodLink "java/util/AbstractList" (108 : Nat) ({ cls := "java/lang/StringBuilder", name := "append", desc := "(Ljava/lang/String;)Ljava/lang/StringBuilder;" } : Jvm.MethodName)) ∈ lw_all := lw_g (lw_at lw_m6 166 rfl) rfl
theorem q1453 : (Jvm.Cond.methodLink "java/util/AbstractList" (112 : Nat) ({ cls := "java/lang/StringBuilder", name := "append", desc := "(I)Ljava/lang/StringBuilder;" } : Jvm.MethodName)) ∈ lw_all := lw_g (lw_at lw_m6 167 rfl) rfl
theorem q1454 : (Jvm.Cond.stringRef "java/util/AbstractList" (149 : Nat) ", Size: ") ∈ lw_tbl := lw_at lw_m6 168 rfl
theorem q1455 : (Jvm.Cond.methodLink "java/util/AbstractList" (115 : Nat) ({ cls := "java/lang/StringBuilder", name := "toString", desc := "()Ljava/lang/String;" } : Jvm.MethodName)) ∈ lw_all := lw_g (lw_at lw_m6 169 rfl) rfl
theorem q1456 : (Jvm.Cond.methodLink "java/util/AbstractList" (119 : Nat) ({ cls := "java/lang/IndexOutOfBoundsException", name := "<init>", desc := "(Ljava/lang/String;)V" } : Jvm.MethodName)) ∈ lw_all := lw_g (lw_at lw_m6 170 rfl) rfl
theorem q1457 : (Jvm.Cond.classLink "java/util/AbstractList" (82 : Nat) "java/util/AbstractList$ListItr") ∈ lw_all := lw_g (lw_at lw_m6 171 rfl) rfl
theorem q1459 : (Jvm.Cond.methodLink "java/util/AbstractList" (84 : Nat) ({ cls := "java/util/AbstractList$ListItr", name := "<init>", desc := "(Ljava/util/AbstractList;I)V" } : Jvm.MethodName)) ∈ lw_all := lw_g (lw_at lw_m6 173 rfl) rfl
theorem q1528 : (Jvm.Cond.declares ({ cls := "java/util/AbstractList", name := "get", desc := "(I)Ljava/lang/Object;" } : Jvm.MethodName)) ∈ lw_tbl := lw_at lw_m7 2 rfl
theorem q1529 : (Jvm.Cond.sameMethod "java/util/AbstractList" "java/util/AbstractList" "get" "(I)Ljava/lang/Object;") ∈ lw_all := lw_g (lw_at lw_m7 3 rfl) rfl
theorem q2572 : (Jvm.Cond.instanceMethod ({ cls := "java/util/AbstractList", name := "remove", desc := "(I)Ljava/lang/Object;" } : Jvm.MethodName)) ∈ lw_all := lw_g (lw_at lw_m11 86 rfl) rfl
theorem q2573 : (Jvm.Cond.sameMethod "java/util/AbstractList" "java/util/AbstractList" "remove" "(I)Ljava/lang/Object;") ∈ lw_all := lw_g (lw_at lw_m11 87 rfl) rfl
theorem q2589 : (Jvm.Cond.code ({ cls := "java/util/AbstractList", name := "remove", desc := "(I)Ljava/lang/Object;" } : Jvm.MethodName) prog_57_method_6_code (2 : Nat) (Option.some (Jvm.ClassFile.FieldType.object "java/lang/Object"))) ∈ lw_all := lw_g (lw_at lw_m11 103 rfl) rfl
theorem q2771 : (Jvm.Cond.instanceMethod ({ cls := "java/util/AbstractList", name := "set", desc := "(ILjava/lang/Object;)Ljava/lang/Object;" } : Jvm.MethodName)) ∈ lw_all := lw_g (lw_at lw_m12 45 rfl) rfl
theorem q2772 : (Jvm.Cond.publicMethod ({ cls := "java/util/AbstractList", name := "set", desc := "(ILjava/lang/Object;)Ljava/lang/Object;" } : Jvm.MethodName)) ∈ lw_tbl := lw_at lw_m12 46 rfl
theorem q2773 : (Jvm.Cond.code ({ cls := "java/util/AbstractList", name := "set", desc := "(ILjava/lang/Object;)Ljava/lang/Object;" } : Jvm.MethodName) prog_57_method_4_code (3 : Nat) (Option.some (Jvm.ClassFile.FieldType.object "java/lang/Object"))) ∈ lw_all := lw_g (lw_at lw_m12 47 rfl) rfl
theorem q3760 : (Jvm.Cond.sameMethod "java/util/AbstractList" "java/util/AbstractList" "rangeCheckForAdd" "(I)V") ∈ lw_all := lw_g (lw_at lw_m16 74 rfl) rfl
theorem q3761 : (Jvm.Cond.sameMethod "java/util/AbstractList" "java/util/AbstractList" "outOfBoundsMsg" "(I)Ljava/lang/String;") ∈ lw_all := lw_g (lw_at lw_m16 75 rfl) rfl
/-! java/util/ArrayList -/
set_option maxRecDepth 100000
def RJ19 : String := "java/util/ArrayList"
def TJ19 : u_T := fun k => match k with
  | 0 => ("java/util/AbstractList", "modCount", "I", false)
  | 1 => ("java/util/ArrayList", "elementData", "[Ljava/lang/Object;", false)
  | _ => ("java/util/ArrayList", "size", "I", false)
def tyJ19 : Nat → FieldType := fun k => match k with
  | 0 => .int
  | 1 => .array (.object "java/lang/Object")
  | _ => .int
abbrev wsJ190 : List Cond := u_ws RJ19 TJ19 3
theorem nmJ19 : ∀ a, a < 3 → ∀ b, b < 3 → a ≠ b → (TJ19 a).2.1 ≠ (TJ19 b).2.1 := by decide +kernel
theorem tyJ19_ok : ∀ k, k < 3 → parseFieldDescriptor (TJ19 k).2.2.1 = some (tyJ19 k) := by decide +kernel
abbrev cJ19_init : ByteArray := prog_63_method_2_code
def yJ19_init : MethodName := ⟨RJ19, "<init>", "()V"⟩
def dkwJ19_init_0 : List UInt8 := [42, 183, 0, 1, 42, 178, 0, 39, 181, 0, 9, 177]
abbrev dktJ19_init_0 : List UInt8 := dkwJ19_init_0 ++ []
theorem dksJ19_init_0 : cJ19_init.data.toList.drop 0 = dktJ19_init_0 := by decide +kernel
theorem dJ19_init_0 : decode cJ19_init 0 = .ok (.aload_n 0, 1) := dk_42 (dk_at dksJ19_init_0 0 rfl rfl)
theorem dJ19_init_1 : decode cJ19_init 1 = .ok (.invokespecial 1, 3) := dk_183 0 1 (dk_at dksJ19_init_0 1 rfl rfl)
theorem dJ19_init_4 : decode cJ19_init 4 = .ok (.aload_n 0, 1) := dk_42 (dk_at dksJ19_init_0 4 rfl rfl)
theorem dJ19_init_5 : decode cJ19_init 5 = .ok (.getstatic 39, 3) := dk_178 0 39 (dk_at dksJ19_init_0 5 rfl rfl)
theorem dJ19_init_8 : decode cJ19_init 8 = .ok (.putfield 9, 3) := dk_181 0 9 (dk_at dksJ19_init_0 8 rfl rfl)
theorem dJ19_init_11 : decode cJ19_init 11 = .ok (.return_, 1) := dk_177 (dk_at dksJ19_init_0 11 rfl rfl)
abbrev cJ19_add : ByteArray := prog_63_method_25_code
def yJ19_add : MethodName := ⟨RJ19, "add", "(Ljava/lang/Object;)Z"⟩
def dkwJ19_add_1 : List UInt8 := [172]
abbrev dktJ19_add_1 : List UInt8 := dkwJ19_add_1 ++ []
def dkwJ19_add_0 : List UInt8 := [42, 89, 180, 0, 63, 4, 96, 181, 0, 63, 42, 43, 42, 180, 0, 9, 42, 180, 0, 48, 182, 0, 131, 4]
abbrev dktJ19_add_0 : List UInt8 := dkwJ19_add_0 ++ dktJ19_add_1
theorem dksJ19_add_0 : cJ19_add.data.toList.drop 0 = dktJ19_add_0 := by decide +kernel
theorem dksJ19_add_1 : cJ19_add.data.toList.drop 24 = dktJ19_add_1 := dk_seg dksJ19_add_0 24 rfl rfl
theorem dJ19_add_0 : decode cJ19_add 0 = .ok (.aload_n 0, 1) := dk_42 (dk_at dksJ19_add_0 0 rfl rfl)
theorem dJ19_add_1 : decode cJ19_add 1 = .ok (.dup, 1) := dk_89 (dk_at dksJ19_add_0 1 rfl rfl)
theorem dJ19_add_2 : decode cJ19_add 2 = .ok (.getfield 63, 3) := dk_180 0 63 (dk_at dksJ19_add_0 2 rfl rfl)
theorem dJ19_add_5 : decode cJ19_add 5 = .ok (.iconst 1, 1) := dk_4 (dk_at dksJ19_add_0 5 rfl rfl)
theorem dJ19_add_6 : decode cJ19_add 6 = .ok (.iadd, 1) := dk_96 (dk_at dksJ19_add_0 6 rfl rfl)
theorem dJ19_add_7 : decode cJ19_add 7 = .ok (.putfield 63, 3) := dk_181 0 63 (dk_at dksJ19_add_0 7 rfl rfl)
theorem dJ19_add_10 : decode cJ19_add 10 = .ok (.aload_n 0, 1) := dk_42 (dk_at dksJ19_add_0 10 rfl rfl)
theorem dJ19_add_11 : decode cJ19_add 11 = .ok (.aload_n 1, 1) := dk_43 (dk_at dksJ19_add_0 11 rfl rfl)
theorem dJ19_add_12 : decode cJ19_add 12 = .ok (.aload_n 0, 1) := dk_42 (dk_at dksJ19_add_0 12 rfl rfl)
theorem dJ19_add_13 : decode cJ19_add 13 = .ok (.getfield 9, 3) := dk_180 0 9 (dk_at dksJ19_add_0 13 rfl rfl)
theorem dJ19_add_16 : decode cJ19_add 16 = .ok (.aload_n 0, 1) := dk_42 (dk_at dksJ19_add_0 16 rfl rfl)
theorem dJ19_add_17 : decode cJ19_add 17 = .ok (.getfield 48, 3) := dk_180 0 48 (dk_at dksJ19_add_0 17 rfl rfl)
theorem dJ19_add_20 : decode cJ19_add 20 = .ok (.invokevirtual 131, 3) := dk_182 0 131 (dk_at dksJ19_add_0 20 rfl rfl)
theorem dJ19_add_23 : decode cJ19_add 23 = .ok (.iconst 1, 1) := dk_4 (dk_at dksJ19_add_0 23 rfl rfl)
theorem dJ19_add_24 : decode cJ19_add 24 = .ok (.ireturn, 1) := dk_172 (dk_at dksJ19_add_1 0 rfl rfl)
abbrev cJ19_add_2 : ByteArray := prog_63_method_24_code
def yJ19_add_2 : MethodName := ⟨RJ19, "add", "(Ljava/lang/Object;[Ljava/lang/Object;I)V"⟩
def dkwJ19_add_2_0 : List UInt8 := [29, 44, 190, 160, 0, 8, 42, 182, 0, 129, 77, 44, 29, 43, 83, 42, 29, 4, 96, 181, 0, 48, 177]
abbrev dktJ19_add_2_0 : List UInt8 := dkwJ19_add_2_0 ++ []
theorem dksJ19_add_2_0 : cJ19_add_2.data.toList.drop 0 = dktJ19_add_2_0 := by decide +kernel
theorem dJ19_add_2_0 : decode cJ19_add_2 0 = .ok (.iload_n 3, 1) := dk_29 (dk_at dksJ19_add_2_0 0 rfl rfl)
theorem dJ19_add_2_1 : decode cJ19_add_2 1 = .ok (.aload_n 2, 1) := dk_44 (dk_at dksJ19_add_2_0 1 rfl rfl)
theorem dJ19_add_2_2 : decode cJ19_add_2 2 = .ok (.arraylength, 1) := dk_190 (dk_at dksJ19_add_2_0 2 rfl rfl)
theorem dJ19_add_2_3 : decode cJ19_add_2 3 = .ok (.if_icmp .ne 8, 3) := dk_160 0 8 (dk_at dksJ19_add_2_0 3 rfl rfl)
theorem dJ19_add_2_6 : decode cJ19_add_2 6 = .ok (.aload_n 0, 1) := dk_42 (dk_at dksJ19_add_2_0 6 rfl rfl)
theorem dJ19_add_2_7 : decode cJ19_add_2 7 = .ok (.invokevirtual 129, 3) := dk_182 0 129 (dk_at dksJ19_add_2_0 7 rfl rfl)
theorem dJ19_add_2_10 : decode cJ19_add_2 10 = .ok (.astore_n 2, 1) := dk_77 (dk_at dksJ19_add_2_0 10 rfl rfl)
theorem dJ19_add_2_11 : decode cJ19_add_2 11 = .ok (.aload_n 2, 1) := dk_44 (dk_at dksJ19_add_2_0 11 rfl rfl)
theorem dJ19_add_2_12 : decode cJ19_add_2 12 = .ok (.iload_n 3, 1) := dk_29 (dk_at dksJ19_add_2_0 12 rfl rfl)
theorem dJ19_add_2_13 : decode cJ19_add_2 13 = .ok (.aload_n 1, 1) := dk_43 (dk_at dksJ19_add_2_0 13 rfl rfl)
theorem dJ19_add_2_14 : decode cJ19_add_2 14 = .ok (.aastore, 1) := dk_83 (dk_at dksJ19_add_2_0 14 rfl rfl)
theorem dJ19_add_2_15 : decode cJ19_add_2 15 = .ok (.aload_n 0, 1) := dk_42 (dk_at dksJ19_add_2_0 15 rfl rfl)
theorem dJ19_add_2_16 : decode cJ19_add_2 16 = .ok (.iload_n 3, 1) := dk_29 (dk_at dksJ19_add_2_0 16 rfl rfl)
theorem dJ19_add_2_17 : decode cJ19_add_2 17 = .ok (.iconst 1, 1) := dk_4 (dk_at dksJ19_add_2_0 17 rfl rfl)
theorem dJ19_add_2_18 : decode cJ19_add_2 18 = .ok (.iadd, 1) := dk_96 (dk_at dksJ19_add_2_0 18 rfl rfl)
theorem dJ19_add_2_19 : decode cJ19_add_2 19 = .ok (.putfield 48, 3) := dk_181 0 48 (dk_at dksJ19_add_2_0 19 rfl rfl)
theorem dJ19_add_2_22 : decode cJ19_add_2 22 = .ok (.return_, 1) := dk_177 (dk_at dksJ19_add_2_0 22 rfl rfl)
abbrev cJ19_grow : ByteArray := prog_63_method_7_code
def yJ19_grow : MethodName := ⟨RJ19, "grow", "()[Ljava/lang/Object;"⟩
def dkwJ19_grow_0 : List UInt8 := [42, 42, 180, 0, 48, 4, 96, 182, 0, 69, 176]
abbrev dktJ19_grow_0 : List UInt8 := dkwJ19_grow_0 ++ []
theorem dksJ19_grow_0 : cJ19_grow.data.toList.drop 0 = dktJ19_grow_0 := by decide +kernel
theorem dJ19_grow_0 : decode cJ19_grow 0 = .ok (.aload_n 0, 1) := dk_42 (dk_at dksJ19_grow_0 0 rfl rfl)
theorem dJ19_grow_1 : decode cJ19_grow 1 = .ok (.aload_n 0, 1) := dk_42 (dk_at dksJ19_grow_0 1 rfl rfl)
theorem dJ19_grow_2 : decode cJ19_grow 2 = .ok (.getfield 48, 3) := dk_180 0 48 (dk_at dksJ19_grow_0 2 rfl rfl)
theorem dJ19_grow_5 : decode cJ19_grow 5 = .ok (.iconst 1, 1) := dk_4 (dk_at dksJ19_grow_0 5 rfl rfl)
theorem dJ19_grow_6 : decode cJ19_grow 6 = .ok (.iadd, 1) := dk_96 (dk_at dksJ19_grow_0 6 rfl rfl)
theorem dJ19_grow_7 : decode cJ19_grow 7 = .ok (.invokevirtual 69, 3) := dk_182 0 69 (dk_at dksJ19_grow_0 7 rfl rfl)
theorem dJ19_grow_10 : decode cJ19_grow 10 = .ok (.areturn, 1) := dk_176 (dk_at dksJ19_grow_0 10 rfl rfl)
abbrev cJ19_grow_2 : ByteArray := prog_63_method_6_code
def yJ19_grow_2 : MethodName := ⟨RJ19, "grow", "(I)[Ljava/lang/Object;"⟩
def dkwJ19_grow_2_2 : List UInt8 := [27, 184, 0, 79, 189, 0, 7, 90, 181, 0, 9, 176]
abbrev dktJ19_grow_2_2 : List UInt8 := dkwJ19_grow_2_2 ++ []
def dkwJ19_grow_2_1 : List UInt8 := [28, 4, 122, 184, 0, 73, 62, 42, 42, 180, 0, 9, 29, 184, 0, 66, 90, 181, 0, 9, 176, 42, 16, 10]
abbrev dktJ19_grow_2_1 : List UInt8 := dkwJ19_grow_2_1 ++ dktJ19_grow_2_2
def dkwJ19_grow_2_0 : List UInt8 := [42, 180, 0, 9, 190, 61, 28, 157, 0, 13, 42, 180, 0, 9, 178, 0, 39, 165, 0, 28, 28, 27, 28, 100]
abbrev dktJ19_grow_2_0 : List UInt8 := dkwJ19_grow_2_0 ++ dktJ19_grow_2_1
theorem dksJ19_grow_2_0 : cJ19_grow_2.data.toList.drop 0 = dktJ19_grow_2_0 := by decide +kernel
theorem dksJ19_grow_2_1 : cJ19_grow_2.data.toList.drop 24 = dktJ19_grow_2_1 := dk_seg dksJ19_grow_2_0 24 rfl rfl
theorem dksJ19_grow_2_2 : cJ19_grow_2.data.toList.drop 48 = dktJ19_grow_2_2 := dk_seg dksJ19_grow_2_1 24 rfl rfl
theorem dJ19_grow_2_0 : decode cJ19_grow_2 0 = .ok (.aload_n 0, 1) := dk_42 (dk_at dksJ19_grow_2_0 0 rfl rfl)
theorem dJ19_grow_2_1 : decode cJ19_grow_2 1 = .ok (.getfield 9, 3) := dk_180 0 9 (dk_at dksJ19_grow_2_0 1 rfl rfl)
theorem dJ19_grow_2_4 : decode cJ19_grow_2 4 = .ok (.arraylength, 1) := dk_190 (dk_at dksJ19_grow_2_0 4 rfl rfl)
theorem dJ19_grow_2_5 : decode cJ19_grow_2 5 = .ok (.istore_n 2, 1) := dk_61 (dk_at dksJ19_grow_2_0 5 rfl rfl)
theorem dJ19_grow_2_6 : decode cJ19_grow_2 6 = .ok (.iload_n 2, 1) := dk_28 (dk_at dksJ19_grow_2_0 6 rfl rfl)
theorem dJ19_grow_2_7 : decode cJ19_grow_2 7 = .ok (.ifCond .gt 13, 3) := dk_157 0 13 (dk_at dksJ19_grow_2_0 7 rfl rfl)
theorem dJ19_grow_2_10 : decode cJ19_grow_2 10 = .ok (.aload_n 0, 1) := dk_42 (dk_at dksJ19_grow_2_0 10 rfl rfl)
theorem dJ19_grow_2_11 : decode cJ19_grow_2 11 = .ok (.getfield 9, 3) := dk_180 0 9 (dk_at dksJ19_grow_2_0 11 rfl rfl)
theorem dJ19_grow_2_14 : decode cJ19_grow_2 14 = .ok (.getstatic 39, 3) := dk_178 0 39 (dk_at dksJ19_grow_2_0 14 rfl rfl)
theorem dJ19_grow_2_17 : decode cJ19_grow_2 17 = .ok (.if_acmp .eq 28, 3) := dk_165 0 28 (dk_at dksJ19_grow_2_0 17 rfl rfl)
theorem dJ19_grow_2_20 : decode cJ19_grow_2 20 = .ok (.iload_n 2, 1) := dk_28 (dk_at dksJ19_grow_2_0 20 rfl rfl)
theorem dJ19_grow_2_21 : decode cJ19_grow_2 21 = .ok (.iload_n 1, 1) := dk_27 (dk_at dksJ19_grow_2_0 21 rfl rfl)
theorem dJ19_grow_2_22 : decode cJ19_grow_2 22 = .ok (.iload_n 2, 1) := dk_28 (dk_at dksJ19_grow_2_0 22 rfl rfl)
theorem dJ19_grow_2_23 : decode cJ19_grow_2 23 = .ok (.isub, 1) := dk_100 (dk_at dksJ19_grow_2_0 23 rfl rfl)
theorem dJ19_grow_2_24 : decode cJ19_grow_2 24 = .ok (.iload_n 2, 1) := dk_28 (dk_at dksJ19_grow_2_1 0 rfl rfl)
theorem dJ19_grow_2_25 : decode cJ19_grow_2 25 = .ok (.iconst 1, 1) := dk_4 (dk_at dksJ19_grow_2_1 1 rfl rfl)
theorem dJ19_grow_2_26 : decode cJ19_grow_2 26 = .ok (.ishr, 1) := dk_122 (dk_at dksJ19_grow_2_1 2 rfl rfl)
theorem dJ19_grow_2_27 : decode cJ19_grow_2 27 = .ok (.invokestatic 73, 3) := dk_184 0 73 (dk_at dksJ19_grow_2_1 3 rfl rfl)
theorem dJ19_grow_2_30 : decode cJ19_grow_2 30 = .ok (.istore_n 3, 1) := dk_62 (dk_at dksJ19_grow_2_1 6 rfl rfl)
theorem dJ19_grow_2_31 : decode cJ19_grow_2 31 = .ok (.aload_n 0, 1) := dk_42 (dk_at dksJ19_grow_2_1 7 rfl rfl)
theorem dJ19_grow_2_32 : decode cJ19_grow_2 32 = .ok (.aload_n 0, 1) := dk_42 (dk_at dksJ19_grow_2_1 8 rfl rfl)
theorem dJ19_grow_2_33 : decode cJ19_grow_2 33 = .ok (.getfield 9, 3) := dk_180 0 9 (dk_at dksJ19_grow_2_1 9 rfl rfl)
theorem dJ19_grow_2_36 : decode cJ19_grow_2 36 = .ok (.iload_n 3, 1) := dk_29 (dk_at dksJ19_grow_2_1 12 rfl rfl)
theorem dJ19_grow_2_37 : decode cJ19_grow_2 37 = .ok (.invokestatic 66, 3) := dk_184 0 66 (dk_at dksJ19_grow_2_1 13 rfl rfl)
theorem dJ19_grow_2_40 : decode cJ19_grow_2 40 = .ok (.dup_x1, 1) := dk_90 (dk_at dksJ19_grow_2_1 16 rfl rfl)
theorem dJ19_grow_2_41 : decode cJ19_grow_2 41 = .ok (.putfield 9, 3) := dk_181 0 9 (dk_at dksJ19_grow_2_1 17 rfl rfl)
theorem dJ19_grow_2_44 : decode cJ19_grow_2 44 = .ok (.areturn, 1) := dk_176 (dk_at dksJ19_grow_2_1 20 rfl rfl)
theorem dJ19_grow_2_45 : decode cJ19_grow_2 45 = .ok (.aload_n 0, 1) := dk_42 (dk_at dksJ19_grow_2_1 21 rfl rfl)
theorem dJ19_grow_2_46 : decode cJ19_grow_2 46 = .ok (.bipush 10, 2) := dk_16 10 (dk_at dksJ19_grow_2_1 22 rfl rfl)
theorem dJ19_grow_2_48 : decode cJ19_grow_2 48 = .ok (.iload_n 1, 1) := dk_27 (dk_at dksJ19_grow_2_2 0 rfl rfl)
theorem dJ19_grow_2_49 : decode cJ19_grow_2 49 = .ok (.invokestatic 79, 3) := dk_184 0 79 (dk_at dksJ19_grow_2_2 1 rfl rfl)
theorem dJ19_grow_2_52 : decode cJ19_grow_2 52 = .ok (.anewarray 7, 3) := dk_189 0 7 (dk_at dksJ19_grow_2_2 4 rfl rfl)
theorem dJ19_grow_2_55 : decode cJ19_grow_2 55 = .ok (.dup_x1, 1) := dk_90 (dk_at dksJ19_grow_2_2 7 rfl rfl)
theorem dJ19_grow_2_56 : decode cJ19_grow_2 56 = .ok (.putfield 9, 3) := dk_181 0 9 (dk_at dksJ19_grow_2_2 8 rfl rfl)
theorem dJ19_grow_2_59 : decode cJ19_grow_2 59 = .ok (.areturn, 1) := dk_176 (dk_at dksJ19_grow_2_2 11 rfl rfl)
abbrev cJ19_size : ByteArray := prog_63_method_8_code
def yJ19_size : MethodName := ⟨RJ19, "size", "()I"⟩
theorem dJ19_size_0 : decode cJ19_size 0 = .ok (.aload_n 0, 1) := by decide +kernel
theorem dJ19_size_1 : decode cJ19_size 1 = .ok (.getfield 48, 3) := by decide +kernel
theorem dJ19_size_4 : decode cJ19_size 4 = .ok (.ireturn, 1) := by decide +kernel
abbrev cJ19_add_3 : ByteArray := prog_63_method_26_code
def yJ19_add_3 : MethodName := ⟨RJ19, "add", "(ILjava/lang/Object;)V"⟩
def dkwJ19_add_3_2 : List UInt8 := [29, 27, 100, 184, 0, 112, 25, 4, 27, 44, 83, 42, 29, 4, 96, 181, 0, 48, 177]
abbrev dktJ19_add_3_2 : List UInt8 := dkwJ19_add_3_2 ++ []
def dkwJ19_add_3_1 : List UInt8 := [180, 0, 9, 89, 58, 4, 190, 160, 0, 9, 42, 182, 0, 129, 58, 4, 25, 4, 27, 25, 4, 27, 4, 96]
abbrev dktJ19_add_3_1 : List UInt8 := dkwJ19_add_3_1 ++ dktJ19_add_3_2
def dkwJ19_add_3_0 : List UInt8 := [42, 27, 182, 0, 135, 42, 89, 180, 0, 63, 4, 96, 181, 0, 63, 42, 180, 0, 48, 89, 62, 42]
abbrev dktJ19_add_3_0 : List UInt8 := dkwJ19_add_3_0 ++ dktJ19_add_3_1
theorem dksJ19_add_3_0 : cJ19_add_3.data.toList.drop 0 = dktJ19_add_3_0 := by decide +kernel
theorem dksJ19_add_3_1 : cJ19_add_3.data.toList.drop 22 = dktJ19_add_3_1 := dk_seg dksJ19_add_3_0 22 rfl rfl
theorem dksJ19_add_3_2 : cJ19_add_3.data.toList.drop 46 = dktJ19_add_3_2 := dk_seg dksJ19_add_3_1 24 rfl rfl
theorem dJ19_add_3_0 : decode cJ19_add_3 0 = .ok (.aload_n 0, 1) := dk_42 (dk_at dksJ19_add_3_0 0 rfl rfl)
theorem dJ19_add_3_1 : decode cJ19_add_3 1 = .ok (.iload_n 1, 1) := dk_27 (dk_at dksJ19_add_3_0 1 rfl rfl)
theorem dJ19_add_3_2 : decode cJ19_add_3 2 = .ok (.invokevirtual 135, 3) := dk_182 0 135 (dk_at dksJ19_add_3_0 2 rfl rfl)
theorem dJ19_add_3_5 : decode cJ19_add_3 5 = .ok (.aload_n 0, 1) := dk_42 (dk_at dksJ19_add_3_0 5 rfl rfl)
theorem dJ19_add_3_6 : decode cJ19_add_3 6 = .ok (.dup, 1) := dk_89 (dk_at dksJ19_add_3_0 6 rfl rfl)
theorem dJ19_add_3_7 : decode cJ19_add_3 7 = .ok (.getfield 63, 3) := dk_180 0 63 (dk_at dksJ19_add_3_0 7 rfl rfl)
theorem dJ19_add_3_10 : decode cJ19_add_3 10 = .ok (.iconst 1, 1) := dk_4 (dk_at dksJ19_add_3_0 10 rfl rfl)
theorem dJ19_add_3_11 : decode cJ19_add_3 11 = .ok (.iadd, 1) := dk_96 (dk_at dksJ19_add_3_0 11 rfl rfl)
theorem dJ19_add_3_12 : decode cJ19_add_3 12 = .ok (.putfield 63, 3) := dk_181 0 63 (dk_at dksJ19_add_3_0 12 rfl rfl)
theorem dJ19_add_3_15 : decode cJ19_add_3 15 = .ok (.aload_n 0, 1) := dk_42 (dk_at dksJ19_add_3_0 15 rfl rfl)
theorem dJ19_add_3_16 : decode cJ19_add_3 16 = .ok (.getfield 48, 3) := dk_180 0 48 (dk_at dksJ19_add_3_0 16 rfl rfl)
theorem dJ19_add_3_19 : decode cJ19_add_3 19 = .ok (.dup, 1) := dk_89 (dk_at dksJ19_add_3_0 19 rfl rfl)
theorem dJ19_add_3_20 : decode cJ19_add_3 20 = .ok (.istore_n 3, 1) := dk_62 (dk_at dksJ19_add_3_0 20 rfl rfl)
theorem dJ19_add_3_21 : decode cJ19_add_3 21 = .ok (.aload_n 0, 1) := dk_42 (dk_at dksJ19_add_3_0 21 rfl rfl)
theorem dJ19_add_3_22 : decode cJ19_add_3 22 = .ok (.getfield 9, 3) := dk_180 0 9 (dk_at dksJ19_add_3_1 0 rfl rfl)
theorem dJ19_add_3_25 : decode cJ19_add_3 25 = .ok (.dup, 1) := dk_89 (dk_at dksJ19_add_3_1 3 rfl rfl)
theorem dJ19_add_3_26 : decode cJ19_add_3 26 = .ok (.astore 4, 2) := dk_58 4 (dk_at dksJ19_add_3_1 4 rfl rfl)
theorem dJ19_add_3_28 : decode cJ19_add_3 28 = .ok (.arraylength, 1) := dk_190 (dk_at dksJ19_add_3_1 6 rfl rfl)
theorem dJ19_add_3_29 : decode cJ19_add_3 29 = .ok (.if_icmp .ne 9, 3) := dk_160 0 9 (dk_at dksJ19_add_3_1 7 rfl rfl)
theorem dJ19_add_3_32 : decode cJ19_add_3 32 = .ok (.aload_n 0, 1) := dk_42 (dk_at dksJ19_add_3_1 10 rfl rfl)
theorem dJ19_add_3_33 : decode cJ19_add_3 33 = .ok (.invokevirtual 129, 3) := dk_182 0 129 (dk_at dksJ19_add_3_1 11 rfl rfl)
theorem dJ19_add_3_36 : decode cJ19_add_3 36 = .ok (.astore 4, 2) := dk_58 4 (dk_at dksJ19_add_3_1 14 rfl rfl)
theorem dJ19_add_3_38 : decode cJ19_add_3 38 = .ok (.aload 4, 2) := dk_25 4 (dk_at dksJ19_add_3_1 16 rfl rfl)
theorem dJ19_add_3_40 : decode cJ19_add_3 40 = .ok (.iload_n 1, 1) := dk_27 (dk_at dksJ19_add_3_1 18 rfl rfl)
theorem dJ19_add_3_41 : decode cJ19_add_3 41 = .ok (.aload 4, 2) := dk_25 4 (dk_at dksJ19_add_3_1 19 rfl rfl)
theorem dJ19_add_3_43 : decode cJ19_add_3 43 = .ok (.iload_n 1, 1) := dk_27 (dk_at dksJ19_add_3_1 21 rfl rfl)
theorem dJ19_add_3_44 : decode cJ19_add_3 44 = .ok (.iconst 1, 1) := dk_4 (dk_at dksJ19_add_3_1 22 rfl rfl)
theorem dJ19_add_3_45 : decode cJ19_add_3 45 = .ok (.iadd, 1) := dk_96 (dk_at dksJ19_add_3_1 23 rfl rfl)
theorem dJ19_add_3_46 : decode cJ19_add_3 46 = .ok (.iload_n 3, 1) := dk_29 (dk_at dksJ19_add_3_2 0 rfl rfl)
theorem dJ19_add_3_47 : decode cJ19_add_3 47 = .ok (.iload_n 1, 1) := dk_27 (dk_at dksJ19_add_3_2 1 rfl rfl)
theorem dJ19_add_3_48 : decode cJ19_add_3 48 = .ok (.isub, 1) := dk_100 (dk_at dksJ19_add_3_2 2 rfl rfl)
theorem dJ19_add_3_49 : decode cJ19_add_3 49 = .ok (.invokestatic 112, 3) := dk_184 0 112 (dk_at dksJ19_add_3_2 3 rfl rfl)
theorem dJ19_add_3_52 : decode cJ19_add_3 52 = .ok (.aload 4, 2) := dk_25 4 (dk_at dksJ19_add_3_2 6 rfl rfl)
theorem dJ19_add_3_54 : decode cJ19_add_3 54 = .ok (.iload_n 1, 1) := dk_27 (dk_at dksJ19_add_3_2 8 rfl rfl)
theorem dJ19_add_3_55 : decode cJ19_add_3 55 = .ok (.aload_n 2, 1) := dk_44 (dk_at dksJ19_add_3_2 9 rfl rfl)
theorem dJ19_add_3_56 : decode cJ19_add_3 56 = .ok (.aastore, 1) := dk_83 (dk_at dksJ19_add_3_2 10 rfl rfl)
theorem dJ19_add_3_57 : decode cJ19_add_3 57 = .ok (.aload_n 0, 1) := dk_42 (dk_at dksJ19_add_3_2 11 rfl rfl)
theorem dJ19_add_3_58 : decode cJ19_add_3 58 = .ok (.iload_n 3, 1) := dk_29 (dk_at dksJ19_add_3_2 12 rfl rfl)
theorem dJ19_add_3_59 : decode cJ19_add_3 59 = .ok (.iconst 1, 1) := dk_4 (dk_at dksJ19_add_3_2 13 rfl rfl)
theorem dJ19_add_3_60 : decode cJ19_add_3 60 = .ok (.iadd, 1) := dk_96 (dk_at dksJ19_add_3_2 14 rfl rfl)
theorem dJ19_add_3_61 : decode cJ19_add_3 61 = .ok (.putfield 48, 3) := dk_181 0 48 (dk_at dksJ19_add_3_2 15 rfl rfl)
theorem dJ19_add_3_64 : decode cJ19_add_3 64 = .ok (.return_, 1) := dk_177 (dk_at dksJ19_add_3_2 18 rfl rfl)
abbrev cJ19_rangeCheckForAdd : ByteArray := prog_63_method_45_code
def yJ19_rangeCheckForAdd : MethodName := ⟨RJ19, "rangeCheckForAdd", "(I)V"⟩
def dkwJ19_rangeCheckForAdd_1 : List UInt8 := [191, 177]
abbrev dktJ19_rangeCheckForAdd_1 : List UInt8 := dkwJ19_rangeCheckForAdd_1 ++ []
def dkwJ19_rangeCheckForAdd_0 : List UInt8 := [27, 42, 180, 0, 48, 163, 0, 7, 27, 156, 0, 16, 187, 0, 187, 89, 42, 27, 182, 0, 198, 183, 0, 193]
abbrev dktJ19_rangeCheckForAdd_0 : List UInt8 := dkwJ19_rangeCheckForAdd_0 ++ dktJ19_rangeCheckForAdd_1
theorem dksJ19_rangeCheckForAdd_0 : cJ19_rangeCheckForAdd.data.toList.drop 0 = dktJ19_rangeCheckForAdd_0 := by decide +kernel
theorem dksJ19_rangeCheckForAdd_1 : cJ19_rangeCheckForAdd.data.toList.drop 24 = dktJ19_rangeCheckForAdd_1 := dk_seg dksJ19_rangeCheckForAdd_0 24 rfl rfl
theorem dJ19_rangeCheckForAdd_0 : decode cJ19_rangeCheckForAdd 0 = .ok (.iload_n 1, 1) := dk_27 (dk_at dksJ19_rangeCheckForAdd_0 0 rfl rfl)
theorem dJ19_rangeCheckForAdd_1 : decode cJ19_rangeCheckForAdd 1 = .ok (.aload_n 0, 1) := dk_42 (dk_at dksJ19_rangeCheckForAdd_0 1 rfl rfl)
theorem dJ19_rangeCheckForAdd_2 : decode cJ19_rangeCheckForAdd 2 = .ok (.getfield 48, 3) := dk_180 0 48 (dk_at dksJ19_rangeCheckForAdd_0 2 rfl rfl)
theorem dJ19_rangeCheckForAdd_5 : decode cJ19_rangeCheckForAdd 5 = .ok (.if_icmp .gt 7, 3) := dk_163 0 7 (dk_at dksJ19_rangeCheckForAdd_0 5 rfl rfl)
theorem dJ19_rangeCheckForAdd_8 : decode cJ19_rangeCheckForAdd 8 = .ok (.iload_n 1, 1) := dk_27 (dk_at dksJ19_rangeCheckForAdd_0 8 rfl rfl)
theorem dJ19_rangeCheckForAdd_9 : decode cJ19_rangeCheckForAdd 9 = .ok (.ifCond .ge 16, 3) := dk_156 0 16 (dk_at dksJ19_rangeCheckForAdd_0 9 rfl rfl)
theorem dJ19_rangeCheckForAdd_12 : decode cJ19_rangeCheckForAdd 12 = .ok (.new 187, 3) := dk_187 0 187 (dk_at dksJ19_rangeCheckForAdd_0 12 rfl rfl)
theorem dJ19_rangeCheckForAdd_15 : decode cJ19_rangeCheckForAdd 15 = .ok (.dup, 1) := dk_89 (dk_at dksJ19_rangeCheckForAdd_0 15 rfl rfl)
theorem dJ19_rangeCheckForAdd_16 : decode cJ19_rangeCheckForAdd 16 = .ok (.aload_n 0, 1) := dk_42 (dk_at dksJ19_rangeCheckForAdd_0 16 rfl rfl)
theorem dJ19_rangeCheckForAdd_17 : decode cJ19_rangeCheckForAdd 17 = .ok (.iload_n 1, 1) := dk_27 (dk_at dksJ19_rangeCheckForAdd_0 17 rfl rfl)
theorem dJ19_rangeCheckForAdd_18 : decode cJ19_rangeCheckForAdd 18 = .ok (.invokevirtual 198, 3) := dk_182 0 198 (dk_at dksJ19_rangeCheckForAdd_0 18 rfl rfl)
theorem dJ19_rangeCheckForAdd_21 : decode cJ19_rangeCheckForAdd 21 = .ok (.invokespecial 193, 3) := dk_183 0 193 (dk_at dksJ19_rangeCheckForAdd_0 21 rfl rfl)
theorem dJ19_rangeCheckForAdd_24 : decode cJ19_rangeCheckForAdd 24 = .ok (.athrow, 1) := dk_191 (dk_at dksJ19_rangeCheckForAdd_1 0 rfl rfl)
theorem dJ19_rangeCheckForAdd_25 : decode cJ19_rangeCheckForAdd 25 = .ok (.return_, 1) := dk_177 (dk_at dksJ19_rangeCheckForAdd_1 1 rfl rfl)
abbrev cJ19_outOfBoundsMsg : ByteArray := prog_63_method_46_code
def yJ19_outOfBoundsMsg : MethodName := ⟨RJ19, "outOfBoundsMsg", "(I)Ljava/lang/String;"⟩
def dkwJ19_outOfBoundsMsg_1 : List UInt8 := [180, 0, 48, 182, 0, 29, 182, 0, 32, 176]
abbrev dktJ19_outOfBoundsMsg_1 : List UInt8 := dkwJ19_outOfBoundsMsg_1 ++ []
def dkwJ19_outOfBoundsMsg_0 : List UInt8 := [187, 0, 20, 89, 183, 0, 22, 18, 201, 182, 0, 25, 27, 182, 0, 29, 18, 203, 182, 0, 25, 42]
abbrev dktJ19_outOfBoundsMsg_0 : List UInt8 := dkwJ19_outOfBoundsMsg_0 ++ dktJ19_outOfBoundsMsg_1
theorem dksJ19_outOfBoundsMsg_0 : cJ19_outOfBoundsMsg.data.toList.drop 0 = dktJ19_outOfBoundsMsg_0 := by decide +kernel
theorem dksJ19_outOfBoundsMsg_1 : cJ19_outOfBoundsMsg.data.toList.drop 22 = dktJ19_outOfBoundsMsg_1 := dk_seg dksJ19_outOfBoundsMsg_0 22 rfl rfl
theorem dJ19_outOfBoundsMsg_0 : decode cJ19_outOfBoundsMsg 0 = .ok (.new 20, 3) := dk_187 0 20 (dk_at dksJ19_outOfBoundsMsg_0 0 rfl rfl)
theorem dJ19_outOfBoundsMsg_3 : decode cJ19_outOfBoundsMsg 3 = .ok (.dup, 1) := dk_89 (dk_at dksJ19_outOfBoundsMsg_0 3 rfl rfl)
theorem dJ19_outOfBoundsMsg_4 : decode cJ19_outOfBoundsMsg 4 = .ok (.invokespecial 22, 3) := dk_183 0 22 (dk_at dksJ19_outOfBoundsMsg_0 4 rfl rfl)
theorem dJ19_outOfBoundsMsg_7 : decode cJ19_outOfBoundsMsg 7 = .ok (.ldc 201, 2) := dk_18 201 (dk_at dksJ19_outOfBoundsMsg_0 7 rfl rfl)
theorem dJ19_outOfBoundsMsg_9 : decode cJ19_outOfBoundsMsg 9 = .ok (.invokevirtual 25, 3) := dk_182 0 25 (dk_at dksJ19_outOfBoundsMsg_0 9 rfl rfl)
theorem dJ19_outOfBoundsMsg_12 : decode cJ19_outOfBoundsMsg 12 = .ok (.iload_n 1, 1) := dk_27 (dk_at dksJ19_outOfBoundsMsg_0 12 rfl rfl)
theorem dJ19_outOfBoundsMsg_13 : decode cJ19_outOfBoundsMsg 13 = .ok (.invokevirtual 29, 3) := dk_182 0 29 (dk_at dksJ19_outOfBoundsMsg_0 13 rfl rfl)
theorem dJ19_outOfBoundsMsg_16 : decode cJ19_outOfBoundsMsg 16 = .ok (.ldc 203, 2) := dk_18 203 (dk_at dksJ19_outOfBoundsMsg_0 16 rfl rfl)
theorem dJ19_outOfBoundsMsg_18 : decode cJ19_outOfBoundsMsg 18 = .ok (.invokevirtual 25, 3) := dk_182 0 25 (dk_at dksJ19_outOfBoundsMsg_0 18 rfl rfl)
theorem dJ19_outOfBoundsMsg_21 : decode cJ19_outOfBoundsMsg 21 = .ok (.aload_n 0, 1) := dk_42 (dk_at dksJ19_outOfBoundsMsg_0 21 rfl rfl)
theorem dJ19_outOfBoundsMsg_22 : decode cJ19_outOfBoundsMsg 22 = .ok (.getfield 48, 3) := dk_180 0 48 (dk_at dksJ19_outOfBoundsMsg_1 0 rfl rfl)
theorem dJ19_outOfBoundsMsg_25 : decode cJ19_outOfBoundsMsg 25 = .ok (.invokevirtual 29, 3) := dk_182 0 29 (dk_at dksJ19_outOfBoundsMsg_1 3 rfl rfl)
theorem dJ19_outOfBoundsMsg_28 : decode cJ19_outOfBoundsMsg 28 = .ok (.invokevirtual 32, 3) := dk_182 0 32 (dk_at dksJ19_outOfBoundsMsg_1 6 rfl rfl)
theorem dJ19_outOfBoundsMsg_31 : decode cJ19_outOfBoundsMsg 31 = .ok (.areturn, 1) := dk_176 (dk_at dksJ19_outOfBoundsMsg_1 9 rfl rfl)
abbrev cJ19_iterator : ByteArray := prog_63_method_55_code
def yJ19_iterator : MethodName := ⟨RJ19, "iterator", "()Ljava/util/Iterator;"⟩
def dkwJ19_iterator_0 : List UInt8 := [187, 1, 11, 89, 42, 183, 1, 13, 176]
abbrev dktJ19_iterator_0 : List UInt8 := dkwJ19_iterator_0 ++ []
theorem dksJ19_iterator_0 : cJ19_iterator.data.toList.drop 0 = dktJ19_iterator_0 := by decide +kernel
theorem dJ19_iterator_0 : decode cJ19_iterator 0 = .ok (.new 267, 3) := dk_187 1 11 (dk_at dksJ19_iterator_0 0 rfl rfl)
theorem dJ19_iterator_3 : decode cJ19_iterator 3 = .ok (.dup, 1) := dk_89 (dk_at dksJ19_iterator_0 3 rfl rfl)
theorem dJ19_iterator_4 : decode cJ19_iterator 4 = .ok (.aload_n 0, 1) := dk_42 (dk_at dksJ19_iterator_0 4 rfl rfl)
theorem dJ19_iterator_5 : decode cJ19_iterator 5 = .ok (.invokespecial 269, 3) := dk_183 1 13 (dk_at dksJ19_iterator_0 5 rfl rfl)
theorem dJ19_iterator_8 : decode cJ19_iterator 8 = .ok (.areturn, 1) := dk_176 (dk_at dksJ19_iterator_0 8 rfl rfl)
abbrev cJ19_listIterator : ByteArray := prog_63_method_53_code
def yJ19_listIterator : MethodName := ⟨RJ19, "listIterator", "(I)Ljava/util/ListIterator;"⟩
def dkwJ19_listIterator_0 : List UInt8 := [42, 27, 182, 0, 135, 187, 1, 6, 89, 42, 27, 183, 1, 8, 176]
abbrev dktJ19_listIterator_0 : List UInt8 := dkwJ19_listIterator_0 ++ []
theorem dksJ19_listIterator_0 : cJ19_listIterator.data.toList.drop 0 = dktJ19_listIterator_0 := by decide +kernel
theorem dJ19_listIterator_0 : decode cJ19_listIterator 0 = .ok (.aload_n 0, 1) := dk_42 (dk_at dksJ19_listIterator_0 0 rfl rfl)
theorem dJ19_listIterator_1 : decode cJ19_listIterator 1 = .ok (.iload_n 1, 1) := dk_27 (dk_at dksJ19_listIterator_0 1 rfl rfl)
theorem dJ19_listIterator_2 : decode cJ19_listIterator 2 = .ok (.invokevirtual 135, 3) := dk_182 0 135 (dk_at dksJ19_listIterator_0 2 rfl rfl)
theorem dJ19_listIterator_5 : decode cJ19_listIterator 5 = .ok (.new 262, 3) := dk_187 1 6 (dk_at dksJ19_listIterator_0 5 rfl rfl)
theorem dJ19_listIterator_8 : decode cJ19_listIterator 8 = .ok (.dup, 1) := dk_89 (dk_at dksJ19_listIterator_0 8 rfl rfl)
theorem dJ19_listIterator_9 : decode cJ19_listIterator 9 = .ok (.aload_n 0, 1) := dk_42 (dk_at dksJ19_listIterator_0 9 rfl rfl)
theorem dJ19_listIterator_10 : decode cJ19_listIterator 10 = .ok (.iload_n 1, 1) := dk_27 (dk_at dksJ19_listIterator_0 10 rfl rfl)
theorem dJ19_listIterator_11 : decode cJ19_listIterator 11 = .ok (.invokespecial 264, 3) := dk_183 1 8 (dk_at dksJ19_listIterator_0 11 rfl rfl)
theorem dJ19_listIterator_14 : decode cJ19_listIterator 14 = .ok (.areturn, 1) := dk_176 (dk_at dksJ19_listIterator_0 14 rfl rfl)
abbrev cJ19_get : ByteArray := prog_63_method_20_code
def yJ19_get : MethodName := ⟨RJ19, "get", "(I)Ljava/lang/Object;"⟩
def dkwJ19_get_0 : List UInt8 := [27, 42, 180, 0, 48, 184, 0, 118, 87, 42, 27, 182, 0, 123, 176]
abbrev dktJ19_get_0 : List UInt8 := dkwJ19_get_0 ++ []
theorem dksJ19_get_0 : cJ19_get.data.toList.drop 0 = dktJ19_get_0 := by decide +kernel
theorem dJ19_get_0 : decode cJ19_get 0 = .ok (.iload_n 1, 1) := dk_27 (dk_at dksJ19_get_0 0 rfl rfl)
theorem dJ19_get_1 : decode cJ19_get 1 = .ok (.aload_n 0, 1) := dk_42 (dk_at dksJ19_get_0 1 rfl rfl)
theorem dJ19_get_2 : decode cJ19_get 2 = .ok (.getfield 48, 3) := dk_180 0 48 (dk_at dksJ19_get_0 2 rfl rfl)
theorem dJ19_get_5 : decode cJ19_get 5 = .ok (.invokestatic 118, 3) := dk_184 0 118 (dk_at dksJ19_get_0 5 rfl rfl)
theorem dJ19_get_8 : decode cJ19_get 8 = .ok (.pop, 1) := dk_87 (dk_at dksJ19_get_0 8 rfl rfl)
theorem dJ19_get_9 : decode cJ19_get 9 = .ok (.aload_n 0, 1) := dk_42 (dk_at dksJ19_get_0 9 rfl rfl)
theorem dJ19_get_10 : decode cJ19_get 10 = .ok (.iload_n 1, 1) := dk_27 (dk_at dksJ19_get_0 10 rfl rfl)
theorem dJ19_get_11 : decode cJ19_get 11 = .ok (.invokevirtual 123, 3) := dk_182 0 123 (dk_at dksJ19_get_0 11 rfl rfl)
theorem dJ19_get_14 : decode cJ19_get 14 = .ok (.areturn, 1) := dk_176 (dk_at dksJ19_get_0 14 rfl rfl)
abbrev cJ19_elementData : ByteArray := prog_63_method_18_code
def yJ19_elementData : MethodName := ⟨RJ19, "elementData", "(I)Ljava/lang/Object;"⟩
def dkwJ19_elementData_0 : List UInt8 := [42, 180, 0, 9, 27, 50, 176]
abbrev dktJ19_elementData_0 : List UInt8 := dkwJ19_elementData_0 ++ []
theorem dksJ19_elementData_0 : cJ19_elementData.data.toList.drop 0 = dktJ19_elementData_0 := by decide +kernel
theorem dJ19_elementData_0 : decode cJ19_elementData 0 = .ok (.aload_n 0, 1) := dk_42 (dk_at dksJ19_elementData_0 0 rfl rfl)
theorem dJ19_elementData_1 : decode cJ19_elementData 1 = .ok (.getfield 9, 3) := dk_180 0 9 (dk_at dksJ19_elementData_0 1 rfl rfl)
theorem dJ19_elementData_4 : decode cJ19_elementData 4 = .ok (.iload_n 1, 1) := dk_27 (dk_at dksJ19_elementData_0 4 rfl rfl)
theorem dJ19_elementData_5 : decode cJ19_elementData 5 = .ok (.aaload, 1) := dk_50 (dk_at dksJ19_elementData_0 5 rfl rfl)
theorem dJ19_elementData_6 : decode cJ19_elementData 6 = .ok (.areturn, 1) := dk_176 (dk_at dksJ19_elementData_0 6 rfl rfl)
abbrev cJ19_remove : ByteArray := prog_63_method_29_code
def yJ19_remove : MethodName := ⟨RJ19, "remove", "(I)Ljava/lang/Object;"⟩
def dkwJ19_remove_1 : List UInt8 := [45, 176]
abbrev dktJ19_remove_1 : List UInt8 := dkwJ19_remove_1 ++ []
def dkwJ19_remove_0 : List UInt8 := [27, 42, 180, 0, 48, 184, 0, 118, 87, 42, 180, 0, 9, 77, 44, 27, 50, 78, 42, 44, 27, 182, 0, 144]
abbrev dktJ19_remove_0 : List UInt8 := dkwJ19_remove_0 ++ dktJ19_remove_1
theorem dksJ19_remove_0 : cJ19_remove.data.toList.drop 0 = dktJ19_remove_0 := by decide +kernel
theorem dksJ19_remove_1 : cJ19_remove.data.toList.drop 24 = dktJ19_remove_1 := dk_seg dksJ19_remove_0 24 rfl rfl
theorem dJ19_remove_0 : decode cJ19_remove 0 = .ok (.iload_n 1, 1) := dk_27 (dk_at dksJ19_remove_0 0 rfl rfl)
theorem dJ19_remove_1 : decode cJ19_remove 1 = .ok (.aload_n 0, 1) := dk_42 (dk_at dksJ19_remove_0 1 rfl rfl)
theorem dJ19_remove_2 : decode cJ19_remove 2 = .ok (.getfield 48, 3) := dk_180 0 48 (dk_at dksJ19_remove_0 2 rfl rfl)
theorem dJ19_remove_5 : decode cJ19_remove 5 = .ok (.invokestatic 118, 3) := dk_184 0 118 (dk_at dksJ19_remove_0 5 rfl rfl)
theorem dJ19_remove_8 : decode cJ19_remove 8 = .ok (.pop, 1) := dk_87 (dk_at dksJ19_remove_0 8 rfl rfl)
theorem dJ19_remove_9 : decode cJ19_remove 9 = .ok (.aload_n 0, 1) := dk_42 (dk_at dksJ19_remove_0 9 rfl rfl)
theorem dJ19_remove_10 : decode cJ19_remove 10 = .ok (.getfield 9, 3) := dk_180 0 9 (dk_at dksJ19_remove_0 10 rfl rfl)
theorem dJ19_remove_13 : decode cJ19_remove 13 = .ok (.astore_n 2, 1) := dk_77 (dk_at dksJ19_remove_0 13 rfl rfl)
theorem dJ19_remove_14 : decode cJ19_remove 14 = .ok (.aload_n 2, 1) := dk_44 (dk_at dksJ19_remove_0 14 rfl rfl)
theorem dJ19_remove_15 : decode cJ19_remove 15 = .ok (.iload_n 1, 1) := dk_27 (dk_at dksJ19_remove_0 15 rfl rfl)
theorem dJ19_remove_16 : decode cJ19_remove 16 = .ok (.aaload, 1) := dk_50 (dk_at dksJ19_remove_0 16 rfl rfl)
theorem dJ19_remove_17 : decode cJ19_remove 17 = .ok (.astore_n 3, 1) := dk_78 (dk_at dksJ19_remove_0 17 rfl rfl)
theorem dJ19_remove_18 : decode cJ19_remove 18 = .ok (.aload_n 0, 1) := dk_42 (dk_at dksJ19_remove_0 18 rfl rfl)
theorem dJ19_remove_19 : decode cJ19_remove 19 = .ok (.aload_n 2, 1) := dk_44 (dk_at dksJ19_remove_0 19 rfl rfl)
theorem dJ19_remove_20 : decode cJ19_remove 20 = .ok (.iload_n 1, 1) := dk_27 (dk_at dksJ19_remove_0 20 rfl rfl)
theorem dJ19_remove_21 : decode cJ19_remove 21 = .ok (.invokevirtual 144, 3) := dk_182 0 144 (dk_at dksJ19_remove_0 21 rfl rfl)
theorem dJ19_remove_24 : decode cJ19_remove 24 = .ok (.aload_n 3, 1) := dk_45 (dk_at dksJ19_remove_1 0 rfl rfl)
theorem dJ19_remove_25 : decode cJ19_remove 25 = .ok (.areturn, 1) := dk_176 (dk_at dksJ19_remove_1 1 rfl rfl)
abbrev cJ19_fastRemove : ByteArray := prog_63_method_39_code
def yJ19_fastRemove : MethodName := ⟨RJ19, "fastRemove", "([Ljava/lang/Object;I)V"⟩
def dkwJ19_fastRemove_1 : List UInt8 := [4, 96, 43, 28, 29, 28, 100, 184, 0, 112, 43, 42, 29, 90, 181, 0, 48, 1, 83, 177]
abbrev dktJ19_fastRemove_1 : List UInt8 := dkwJ19_fastRemove_1 ++ []
def dkwJ19_fastRemove_0 : List UInt8 := [42, 89, 180, 0, 63, 4, 96, 181, 0, 63, 42, 180, 0, 48, 4, 100, 89, 62, 28, 164, 0, 15, 43, 28]
abbrev dktJ19_fastRemove_0 : List UInt8 := dkwJ19_fastRemove_0 ++ dktJ19_fastRemove_1
theorem dksJ19_fastRemove_0 : cJ19_fastRemove.data.toList.drop 0 = dktJ19_fastRemove_0 := by decide +kernel
theorem dksJ19_fastRemove_1 : cJ19_fastRemove.data.toList.drop 24 = dktJ19_fastRemove_1 := dk_seg dksJ19_fastRemove_0 24 rfl rfl
theorem dJ19_fastRemove_0 : decode cJ19_fastRemove 0 = .ok (.aload_n 0, 1) := dk_42 (dk_at dksJ19_fastRemove_0 0 rfl rfl)
theorem dJ19_fastRemove_1 : decode cJ19_fastRemove 1 = .ok (.dup, 1) := dk_89 (dk_at dksJ19_fastRemove_0 1 rfl rfl)
theorem dJ19_fastRemove_2 : decode cJ19_fastRemove 2 = .ok (.getfield 63, 3) := dk_180 0 63 (dk_at dksJ19_fastRemove_0 2 rfl rfl)
theorem dJ19_fastRemove_5 : decode cJ19_fastRemove 5 = .ok (.iconst 1, 1) := dk_4 (dk_at dksJ19_fastRemove_0 5 rfl rfl)
theorem dJ19_fastRemove_6 : decode cJ19_fastRemove 6 = .ok (.iadd, 1) := dk_96 (dk_at dksJ19_fastRemove_0 6 rfl rfl)
theorem dJ19_fastRemove_7 : decode cJ19_fastRemove 7 = .ok (.putfield 63, 3) := dk_181 0 63 (dk_at dksJ19_fastRemove_0 7 rfl rfl)
theorem dJ19_fastRemove_10 : decode cJ19_fastRemove 10 = .ok (.aload_n 0, 1) := dk_42 (dk_at dksJ19_fastRemove_0 10 rfl rfl)
theorem dJ19_fastRemove_11 : decode cJ19_fastRemove 11 = .ok (.getfield 48, 3) := dk_180 0 48 (dk_at dksJ19_fastRemove_0 11 rfl rfl)
theorem dJ19_fastRemove_14 : decode cJ19_fastRemove 14 = .ok (.iconst 1, 1) := dk_4 (dk_at dksJ19_fastRemove_0 14 rfl rfl)
theorem dJ19_fastRemove_15 : decode cJ19_fastRemove 15 = .ok (.isub, 1) := dk_100 (dk_at dksJ19_fastRemove_0 15 rfl rfl)
theorem dJ19_fastRemove_16 : decode cJ19_fastRemove 16 = .ok (.dup, 1) := dk_89 (dk_at dksJ19_fastRemove_0 16 rfl rfl)
theorem dJ19_fastRemove_17 : decode cJ19_fastRemove 17 = .ok (.istore_n 3, 1) := dk_62 (dk_at dksJ19_fastRemove_0 17 rfl rfl)
theorem dJ19_fastRemove_18 : decode cJ19_fastRemove 18 = .ok (.iload_n 2, 1) := dk_28 (dk_at dksJ19_fastRemove_0 18 rfl rfl)
theorem dJ19_fastRemove_19 : decode cJ19_fastRemove 19 = .ok (.if_icmp .le 15, 3) := dk_164 0 15 (dk_at dksJ19_fastRemove_0 19 rfl rfl)
theorem dJ19_fastRemove_22 : decode cJ19_fastRemove 22 = .ok (.aload_n 1, 1) := dk_43 (dk_at dksJ19_fastRemove_0 22 rfl rfl)
theorem dJ19_fastRemove_23 : decode cJ19_fastRemove 23 = .ok (.iload_n 2, 1) := dk_28 (dk_at dksJ19_fastRemove_0 23 rfl rfl)
theorem dJ19_fastRemove_24 : decode cJ19_fastRemove 24 = .ok (.iconst 1, 1) := dk_4 (dk_at dksJ19_fastRemove_1 0 rfl rfl)
theorem dJ19_fastRemove_25 : decode cJ19_fastRemove 25 = .ok (.iadd, 1) := dk_96 (dk_at dksJ19_fastRemove_1 1 rfl rfl)
theorem dJ19_fastRemove_26 : decode cJ19_fastRemove 26 = .ok (.aload_n 1, 1) := dk_43 (dk_at dksJ19_fastRemove_1 2 rfl rfl)
theorem dJ19_fastRemove_27 : decode cJ19_fastRemove 27 = .ok (.iload_n 2, 1) := dk_28 (dk_at dksJ19_fastRemove_1 3 rfl rfl)
theorem dJ19_fastRemove_28 : decode cJ19_fastRemove 28 = .ok (.iload_n 3, 1) := dk_29 (dk_at dksJ19_fastRemove_1 4 rfl rfl)
theorem dJ19_fastRemove_29 : decode cJ19_fastRemove 29 = .ok (.iload_n 2, 1) := dk_28 (dk_at dksJ19_fastRemove_1 5 rfl rfl)
theorem dJ19_fastRemove_30 : decode cJ19_fastRemove 30 = .ok (.isub, 1) := dk_100 (dk_at dksJ19_fastRemove_1 6 rfl rfl)
theorem dJ19_fastRemove_31 : decode cJ19_fastRemove 31 = .ok (.invokestatic 112, 3) := dk_184 0 112 (dk_at dksJ19_fastRemove_1 7 rfl rfl)
theorem dJ19_fastRemove_34 : decode cJ19_fastRemove 34 = .ok (.aload_n 1, 1) := dk_43 (dk_at dksJ19_fastRemove_1 10 rfl rfl)
theorem dJ19_fastRemove_35 : decode cJ19_fastRemove 35 = .ok (.aload_n 0, 1) := dk_42 (dk_at dksJ19_fastRemove_1 11 rfl rfl)
theorem dJ19_fastRemove_36 : decode cJ19_fastRemove 36 = .ok (.iload_n 3, 1) := dk_29 (dk_at dksJ19_fastRemove_1 12 rfl rfl)
theorem dJ19_fastRemove_37 : decode cJ19_fastRemove 37 = .ok (.dup_x1, 1) := dk_90 (dk_at dksJ19_fastRemove_1 13 rfl rfl)
theorem dJ19_fastRemove_38 : decode cJ19_fastRemove 38 = .ok (.putfield 48, 3) := dk_181 0 48 (dk_at dksJ19_fastRemove_1 14 rfl rfl)
theorem dJ19_fastRemove_41 : decode cJ19_fastRemove 41 = .ok (.aconst_null, 1) := dk_1 (dk_at dksJ19_fastRemove_1 17 rfl rfl)
theorem dJ19_fastRemove_42 : decode cJ19_fastRemove 42 = .ok (.aastore, 1) := dk_83 (dk_at dksJ19_fastRemove_1 18 rfl rfl)
theorem dJ19_fastRemove_43 : decode cJ19_fastRemove 43 = .ok (.return_, 1) := dk_177 (dk_at dksJ19_fastRemove_1 19 rfl rfl)
abbrev cJ19_init_2 : ByteArray := prog_63_method_3_code
def yJ19_init_2 : MethodName := ⟨RJ19, "<init>", "(Ljava/util/Collection;)V"⟩
def dkwJ19_init_2_2 : List UInt8 := [18, 56, 184, 0, 57, 181, 0, 9, 167, 0, 10, 42, 178, 0, 15, 181, 0, 9, 177]
abbrev dktJ19_init_2_2 : List UInt8 := dkwJ19_init_2_2 ++ []
def dkwJ19_init_2_1 : List UInt8 := [185, 0, 52, 1, 0, 18, 10, 166, 0, 11, 42, 44, 181, 0, 9, 167, 0, 27, 42, 44, 42, 180, 0, 48]
abbrev dktJ19_init_2_1 : List UInt8 := dkwJ19_init_2_1 ++ dktJ19_init_2_2
def dkwJ19_init_2_0 : List UInt8 := [42, 183, 0, 1, 43, 185, 0, 42, 1, 0, 77, 42, 44, 190, 90, 181, 0, 48, 153, 0, 39, 43]
abbrev dktJ19_init_2_0 : List UInt8 := dkwJ19_init_2_0 ++ dktJ19_init_2_1
theorem dksJ19_init_2_0 : cJ19_init_2.data.toList.drop 0 = dktJ19_init_2_0 := by decide +kernel
theorem dksJ19_init_2_1 : cJ19_init_2.data.toList.drop 22 = dktJ19_init_2_1 := dk_seg dksJ19_init_2_0 22 rfl rfl
theorem dksJ19_init_2_2 : cJ19_init_2.data.toList.drop 46 = dktJ19_init_2_2 := dk_seg dksJ19_init_2_1 24 rfl rfl
theorem dJ19_init_2_0 : decode cJ19_init_2 0 = .ok (.aload_n 0, 1) := dk_42 (dk_at dksJ19_init_2_0 0 rfl rfl)
theorem dJ19_init_2_1 : decode cJ19_init_2 1 = .ok (.invokespecial 1, 3) := dk_183 0 1 (dk_at dksJ19_init_2_0 1 rfl rfl)
theorem dJ19_init_2_4 : decode cJ19_init_2 4 = .ok (.aload_n 1, 1) := dk_43 (dk_at dksJ19_init_2_0 4 rfl rfl)
theorem dJ19_init_2_5 : decode cJ19_init_2 5 = .ok (.invokeinterface 42 1, 5) := by decide +kernel
theorem dJ19_init_2_10 : decode cJ19_init_2 10 = .ok (.astore_n 2, 1) := dk_77 (dk_at dksJ19_init_2_0 10 rfl rfl)
theorem dJ19_init_2_11 : decode cJ19_init_2 11 = .ok (.aload_n 0, 1) := dk_42 (dk_at dksJ19_init_2_0 11 rfl rfl)
theorem dJ19_init_2_12 : decode cJ19_init_2 12 = .ok (.aload_n 2, 1) := dk_44 (dk_at dksJ19_init_2_0 12 rfl rfl)
theorem dJ19_init_2_13 : decode cJ19_init_2 13 = .ok (.arraylength, 1) := dk_190 (dk_at dksJ19_init_2_0 13 rfl rfl)
theorem dJ19_init_2_14 : decode cJ19_init_2 14 = .ok (.dup_x1, 1) := dk_90 (dk_at dksJ19_init_2_0 14 rfl rfl)
theorem dJ19_init_2_15 : decode cJ19_init_2 15 = .ok (.putfield 48, 3) := dk_181 0 48 (dk_at dksJ19_init_2_0 15 rfl rfl)
theorem dJ19_init_2_18 : decode cJ19_init_2 18 = .ok (.ifCond .eq 39, 3) := dk_153 0 39 (dk_at dksJ19_init_2_0 18 rfl rfl)
theorem dJ19_init_2_21 : decode cJ19_init_2 21 = .ok (.aload_n 1, 1) := dk_43 (dk_at dksJ19_init_2_0 21 rfl rfl)
theorem dJ19_init_2_22 : decode cJ19_init_2 22 = .ok (.invokeinterface 52 1, 5) := by decide +kernel
theorem dJ19_init_2_27 : decode cJ19_init_2 27 = .ok (.ldc 10, 2) := dk_18 10 (dk_at dksJ19_init_2_1 5 rfl rfl)
theorem dJ19_init_2_29 : decode cJ19_init_2 29 = .ok (.if_acmp .ne 11, 3) := dk_166 0 11 (dk_at dksJ19_init_2_1 7 rfl rfl)
theorem dJ19_init_2_32 : decode cJ19_init_2 32 = .ok (.aload_n 0, 1) := dk_42 (dk_at dksJ19_init_2_1 10 rfl rfl)
theorem dJ19_init_2_33 : decode cJ19_init_2 33 = .ok (.aload_n 2, 1) := dk_44 (dk_at dksJ19_init_2_1 11 rfl rfl)
theorem dJ19_init_2_34 : decode cJ19_init_2 34 = .ok (.putfield 9, 3) := dk_181 0 9 (dk_at dksJ19_init_2_1 12 rfl rfl)
theorem dJ19_init_2_37 : decode cJ19_init_2 37 = .ok (.goto 27, 3) := dk_167 0 27 (dk_at dksJ19_init_2_1 15 rfl rfl)
theorem dJ19_init_2_40 : decode cJ19_init_2 40 = .ok (.aload_n 0, 1) := dk_42 (dk_at dksJ19_init_2_1 18 rfl rfl)
theorem dJ19_init_2_41 : decode cJ19_init_2 41 = .ok (.aload_n 2, 1) := dk_44 (dk_at dksJ19_init_2_1 19 rfl rfl)
theorem dJ19_init_2_42 : decode cJ19_init_2 42 = .ok (.aload_n 0, 1) := dk_42 (dk_at dksJ19_init_2_1 20 rfl rfl)
theorem dJ19_init_2_43 : decode cJ19_init_2 43 = .ok (.getfield 48, 3) := dk_180 0 48 (dk_at dksJ19_init_2_1 21 rfl rfl)
theorem dJ19_init_2_46 : decode cJ19_init_2 46 = .ok (.ldc 56, 2) := dk_18 56 (dk_at dksJ19_init_2_2 0 rfl rfl)
theorem dJ19_init_2_48 : decode cJ19_init_2 48 = .ok (.invokestatic 57, 3) := dk_184 0 57 (dk_at dksJ19_init_2_2 2 rfl rfl)
theorem dJ19_init_2_51 : decode cJ19_init_2 51 = .ok (.putfield 9, 3) := dk_181 0 9 (dk_at dksJ19_init_2_2 5 rfl rfl)
theorem dJ19_init_2_54 : decode cJ19_init_2 54 = .ok (.goto 10, 3) := dk_167 0 10 (dk_at dksJ19_init_2_2 8 rfl rfl)
theorem dJ19_init_2_57 : decode cJ19_init_2 57 = .ok (.aload_n 0, 1) := dk_42 (dk_at dksJ19_init_2_2 11 rfl rfl)
theorem dJ19_init_2_58 : decode cJ19_init_2 58 = .ok (.getstatic 15, 3) := dk_178 0 15 (dk_at dksJ19_init_2_2 12 rfl rfl)
theorem dJ19_init_2_61 : decode cJ19_init_2 61 = .ok (.putfield 9, 3) := dk_181 0 9 (dk_at dksJ19_init_2_2 15 rfl rfl)
theorem dJ19_init_2_64 : decode cJ19_init_2 64 = .ok (.return_, 1) := dk_177 (dk_at dksJ19_init_2_2 18 rfl rfl)
abbrev cJ19_toArray : ByteArray := prog_63_method_16_code
def yJ19_toArray : MethodName := ⟨RJ19, "toArray", "()[Ljava/lang/Object;"⟩
def dkwJ19_toArray_0 : List UInt8 := [42, 180, 0, 9, 42, 180, 0, 48, 184, 0, 66, 176]
abbrev dktJ19_toArray_0 : List UInt8 := dkwJ19_toArray_0 ++ []
theorem dksJ19_toArray_0 : cJ19_toArray.data.toList.drop 0 = dktJ19_toArray_0 := by decide +kernel
theorem dJ19_toArray_0 : decode cJ19_toArray 0 = .ok (.aload_n 0, 1) := dk_42 (dk_at dksJ19_toArray_0 0 rfl rfl)
theorem dJ19_toArray_1 : decode cJ19_toArray 1 = .ok (.getfield 9, 3) := dk_180 0 9 (dk_at dksJ19_toArray_0 1 rfl rfl)
theorem dJ19_toArray_4 : decode cJ19_toArray 4 = .ok (.aload_n 0, 1) := dk_42 (dk_at dksJ19_toArray_0 4 rfl rfl)
theorem dJ19_toArray_5 : decode cJ19_toArray 5 = .ok (.getfield 48, 3) := dk_180 0 48 (dk_at dksJ19_toArray_0 5 rfl rfl)
theorem dJ19_toArray_8 : decode cJ19_toArray 8 = .ok (.invokestatic 66, 3) := dk_184 0 66 (dk_at dksJ19_toArray_0 8 rfl rfl)
theorem dJ19_toArray_11 : decode cJ19_toArray 11 = .ok (.areturn, 1) := dk_176 (dk_at dksJ19_toArray_0 11 rfl rfl)
abbrev cJ19_set : ByteArray := prog_63_method_23_code
def yJ19_set : MethodName := ⟨RJ19, "set", "(ILjava/lang/Object;)Ljava/lang/Object;"⟩
def dkwJ19_set_0 : List UInt8 := [27, 42, 180, 0, 48, 184, 0, 118, 87, 42, 27, 182, 0, 123, 78, 42, 180, 0, 9, 27, 44, 83, 45, 176]
abbrev dktJ19_set_0 : List UInt8 := dkwJ19_set_0 ++ []
theorem dksJ19_set_0 : cJ19_set.data.toList.drop 0 = dktJ19_set_0 := by decide +kernel
theorem dJ19_set_0 : decode cJ19_set 0 = .ok (.iload_n 1, 1) := dk_27 (dk_at dksJ19_set_0 0 rfl rfl)
theorem dJ19_set_1 : decode cJ19_set 1 = .ok (.aload_n 0, 1) := dk_42 (dk_at dksJ19_set_0 1 rfl rfl)
theorem dJ19_set_2 : decode cJ19_set 2 = .ok (.getfield 48, 3) := dk_180 0 48 (dk_at dksJ19_set_0 2 rfl rfl)
theorem dJ19_set_5 : decode cJ19_set 5 = .ok (.invokestatic 118, 3) := dk_184 0 118 (dk_at dksJ19_set_0 5 rfl rfl)
theorem dJ19_set_8 : decode cJ19_set 8 = .ok (.pop, 1) := dk_87 (dk_at dksJ19_set_0 8 rfl rfl)
theorem dJ19_set_9 : decode cJ19_set 9 = .ok (.aload_n 0, 1) := dk_42 (dk_at dksJ19_set_0 9 rfl rfl)
theorem dJ19_set_10 : decode cJ19_set 10 = .ok (.iload_n 1, 1) := dk_27 (dk_at dksJ19_set_0 10 rfl rfl)
theorem dJ19_set_11 : decode cJ19_set 11 = .ok (.invokevirtual 123, 3) := dk_182 0 123 (dk_at dksJ19_set_0 11 rfl rfl)
theorem dJ19_set_14 : decode cJ19_set 14 = .ok (.astore_n 3, 1) := dk_78 (dk_at dksJ19_set_0 14 rfl rfl)
theorem dJ19_set_15 : decode cJ19_set 15 = .ok (.aload_n 0, 1) := dk_42 (dk_at dksJ19_set_0 15 rfl rfl)
theorem dJ19_set_16 : decode cJ19_set 16 = .ok (.getfield 9, 3) := dk_180 0 9 (dk_at dksJ19_set_0 16 rfl rfl)
theorem dJ19_set_19 : decode cJ19_set 19 = .ok (.iload_n 1, 1) := dk_27 (dk_at dksJ19_set_0 19 rfl rfl)
theorem dJ19_set_20 : decode cJ19_set 20 = .ok (.aload_n 2, 1) := dk_44 (dk_at dksJ19_set_0 20 rfl rfl)
theorem dJ19_set_21 : decode cJ19_set 21 = .ok (.aastore, 1) := dk_83 (dk_at dksJ19_set_0 21 rfl rfl)
theorem dJ19_set_22 : decode cJ19_set 22 = .ok (.aload_n 3, 1) := dk_45 (dk_at dksJ19_set_0 22 rfl rfl)
theorem dJ19_set_23 : decode cJ19_set 23 = .ok (.areturn, 1) := dk_176 (dk_at dksJ19_set_0 23 rfl rfl)
abbrev cJ19_indexOf : ByteArray := prog_63_method_11_code
def yJ19_indexOf : MethodName := ⟨RJ19, "indexOf", "(Ljava/lang/Object;)I"⟩
def dkwJ19_indexOf_0 : List UInt8 := [42, 43, 3, 42, 180, 0, 48, 182, 0, 89, 172]
abbrev dktJ19_indexOf_0 : List UInt8 := dkwJ19_indexOf_0 ++ []
theorem dksJ19_indexOf_0 : cJ19_indexOf.data.toList.drop 0 = dktJ19_indexOf_0 := by decide +kernel
theorem dJ19_indexOf_0 : decode cJ19_indexOf 0 = .ok (.aload_n 0, 1) := dk_42 (dk_at dksJ19_indexOf_0 0 rfl rfl)
theorem dJ19_indexOf_1 : decode cJ19_indexOf 1 = .ok (.aload_n 1, 1) := dk_43 (dk_at dksJ19_indexOf_0 1 rfl rfl)
theorem dJ19_indexOf_2 : decode cJ19_indexOf 2 = .ok (.iconst 0, 1) := dk_3 (dk_at dksJ19_indexOf_0 2 rfl rfl)
theorem dJ19_indexOf_3 : decode cJ19_indexOf 3 = .ok (.aload_n 0, 1) := dk_42 (dk_at dksJ19_indexOf_0 3 rfl rfl)
theorem dJ19_indexOf_4 : decode cJ19_indexOf 4 = .ok (.getfield 48, 3) := dk_180 0 48 (dk_at dksJ19_indexOf_0 4 rfl rfl)
theorem dJ19_indexOf_7 : decode cJ19_indexOf 7 = .ok (.invokevirtual 89, 3) := dk_182 0 89 (dk_at dksJ19_indexOf_0 7 rfl rfl)
theorem dJ19_indexOf_10 : decode cJ19_indexOf 10 = .ok (.ireturn, 1) := dk_172 (dk_at dksJ19_indexOf_0 10 rfl rfl)
abbrev cJ19_indexOfRange : ByteArray := prog_63_method_12_code
def yJ19_indexOfRange : MethodName := ⟨RJ19, "indexOfRange", "(Ljava/lang/Object;II)I"⟩
def dkwJ19_indexOfRange_2 : List UInt8 := [43, 25, 4, 21, 5, 50, 182, 0, 93, 153, 0, 6, 21, 5, 172, 132, 5, 1, 167, 255, 232, 2, 172]
abbrev dktJ19_indexOfRange_2 : List UInt8 := dkwJ19_indexOfRange_2 ++ []
def dkwJ19_indexOfRange_1 : List UInt8 := [199, 0, 6, 21, 5, 172, 132, 5, 1, 167, 255, 236, 167, 0, 33, 28, 54, 5, 21, 5, 29, 162, 0, 24]
abbrev dktJ19_indexOfRange_1 : List UInt8 := dkwJ19_indexOfRange_1 ++ dktJ19_indexOfRange_2
def dkwJ19_indexOfRange_0 : List UInt8 := [42, 180, 0, 9, 58, 4, 43, 199, 0, 32, 28, 54, 5, 21, 5, 29, 162, 0, 20, 25, 4, 21, 5, 50]
abbrev dktJ19_indexOfRange_0 : List UInt8 := dkwJ19_indexOfRange_0 ++ dktJ19_indexOfRange_1
theorem dksJ19_indexOfRange_0 : cJ19_indexOfRange.data.toList.drop 0 = dktJ19_indexOfRange_0 := by decide +kernel
theorem dksJ19_indexOfRange_1 : cJ19_indexOfRange.data.toList.drop 24 = dktJ19_indexOfRange_1 := dk_seg dksJ19_indexOfRange_0 24 rfl rfl
theorem dksJ19_indexOfRange_2 : cJ19_indexOfRange.data.toList.drop 48 = dktJ19_indexOfRange_2 := dk_seg dksJ19_indexOfRange_1 24 rfl rfl
theorem dJ19_indexOfRange_0 : decode cJ19_indexOfRange 0 = .ok (.aload_n 0, 1) := dk_42 (dk_at dksJ19_indexOfRange_0 0 rfl rfl)
theorem dJ19_indexOfRange_1 : decode cJ19_indexOfRange 1 = .ok (.getfield 9, 3) := dk_180 0 9 (dk_at dksJ19_indexOfRange_0 1 rfl rfl)
theorem dJ19_indexOfRange_4 : decode cJ19_indexOfRange 4 = .ok (.astore 4, 2) := dk_58 4 (dk_at dksJ19_indexOfRange_0 4 rfl rfl)
theorem dJ19_indexOfRange_6 : decode cJ19_indexOfRange 6 = .ok (.aload_n 1, 1) := dk_43 (dk_at dksJ19_indexOfRange_0 6 rfl rfl)
theorem dJ19_indexOfRange_7 : decode cJ19_indexOfRange 7 = .ok (.ifnonnull 32, 3) := dk_199 0 32 (dk_at dksJ19_indexOfRange_0 7 rfl rfl)
theorem dJ19_indexOfRange_10 : decode cJ19_indexOfRange 10 = .ok (.iload_n 2, 1) := dk_28 (dk_at dksJ19_indexOfRange_0 10 rfl rfl)
theorem dJ19_indexOfRange_11 : decode cJ19_indexOfRange 11 = .ok (.istore 5, 2) := dk_54 5 (dk_at dksJ19_indexOfRange_0 11 rfl rfl)
theorem dJ19_indexOfRange_13 : decode cJ19_indexOfRange 13 = .ok (.iload 5, 2) := dk_21 5 (dk_at dksJ19_indexOfRange_0 13 rfl rfl)
theorem dJ19_indexOfRange_15 : decode cJ19_indexOfRange 15 = .ok (.iload_n 3, 1) := dk_29 (dk_at dksJ19_indexOfRange_0 15 rfl rfl)
theorem dJ19_indexOfRange_16 : decode cJ19_indexOfRange 16 = .ok (.if_icmp .ge 20, 3) := dk_162 0 20 (dk_at dksJ19_indexOfRange_0 16 rfl rfl)
theorem dJ19_indexOfRange_19 : decode cJ19_indexOfRange 19 = .ok (.aload 4, 2) := dk_25 4 (dk_at dksJ19_indexOfRange_0 19 rfl rfl)
theorem dJ19_indexOfRange_21 : decode cJ19_indexOfRange 21 = .ok (.iload 5, 2) := dk_21 5 (dk_at dksJ19_indexOfRange_0 21 rfl rfl)
theorem dJ19_indexOfRange_23 : decode cJ19_indexOfRange 23 = .ok (.aaload, 1) := dk_50 (dk_at dksJ19_indexOfRange_0 23 rfl rfl)
theorem dJ19_indexOfRange_24 : decode cJ19_indexOfRange 24 = .ok (.ifnonnull 6, 3) := dk_199 0 6 (dk_at dksJ19_indexOfRange_1 0 rfl rfl)
theorem dJ19_indexOfRange_27 : decode cJ19_indexOfRange 27 = .ok (.iload 5, 2) := dk_21 5 (dk_at dksJ19_indexOfRange_1 3 rfl rfl)
theorem dJ19_indexOfRange_29 : decode cJ19_indexOfRange 29 = .ok (.ireturn, 1) := dk_172 (dk_at dksJ19_indexOfRange_1 5 rfl rfl)
theorem dJ19_indexOfRange_30 : decode cJ19_indexOfRange 30 = .ok (.iinc 5 1, 3) := dk_132 5 1 (dk_at dksJ19_indexOfRange_1 6 rfl rfl)
theorem dJ19_indexOfRange_33 : decode cJ19_indexOfRange 33 = .ok (.goto (-20), 3) := dk_167 255 236 (dk_at dksJ19_indexOfRange_1 9 rfl rfl)
theorem dJ19_indexOfRange_36 : decode cJ19_indexOfRange 36 = .ok (.goto 33, 3) := dk_167 0 33 (dk_at dksJ19_indexOfRange_1 12 rfl rfl)
theorem dJ19_indexOfRange_39 : decode cJ19_indexOfRange 39 = .ok (.iload_n 2, 1) := dk_28 (dk_at dksJ19_indexOfRange_1 15 rfl rfl)
theorem dJ19_indexOfRange_40 : decode cJ19_indexOfRange 40 = .ok (.istore 5, 2) := dk_54 5 (dk_at dksJ19_indexOfRange_1 16 rfl rfl)
theorem dJ19_indexOfRange_42 : decode cJ19_indexOfRange 42 = .ok (.iload 5, 2) := dk_21 5 (dk_at dksJ19_indexOfRange_1 18 rfl rfl)
theorem dJ19_indexOfRange_44 : decode cJ19_indexOfRange 44 = .ok (.iload_n 3, 1) := dk_29 (dk_at dksJ19_indexOfRange_1 20 rfl rfl)
theorem dJ19_indexOfRange_45 : decode cJ19_indexOfRange 45 = .ok (.if_icmp .ge 24, 3) := dk_162 0 24 (dk_at dksJ19_indexOfRange_1 21 rfl rfl)
theorem dJ19_indexOfRange_48 : decode cJ19_indexOfRange 48 = .ok (.aload_n 1, 1) := dk_43 (dk_at dksJ19_indexOfRange_2 0 rfl rfl)
theorem dJ19_indexOfRange_49 : decode cJ19_indexOfRange 49 = .ok (.aload 4, 2) := dk_25 4 (dk_at dksJ19_indexOfRange_2 1 rfl rfl)
theorem dJ19_indexOfRange_51 : decode cJ19_indexOfRange 51 = .ok (.iload 5, 2) := dk_21 5 (dk_at dksJ19_indexOfRange_2 3 rfl rfl)
theorem dJ19_indexOfRange_53 : decode cJ19_indexOfRange 53 = .ok (.aaload, 1) := dk_50 (dk_at dksJ19_indexOfRange_2 5 rfl rfl)
theorem dJ19_indexOfRange_54 : decode cJ19_indexOfRange 54 = .ok (.invokevirtual 93, 3) := dk_182 0 93 (dk_at dksJ19_indexOfRange_2 6 rfl rfl)
theorem dJ19_indexOfRange_57 : decode cJ19_indexOfRange 57 = .ok (.ifCond .eq 6, 3) := dk_153 0 6 (dk_at dksJ19_indexOfRange_2 9 rfl rfl)
theorem dJ19_indexOfRange_60 : decode cJ19_indexOfRange 60 = .ok (.iload 5, 2) := dk_21 5 (dk_at dksJ19_indexOfRange_2 12 rfl rfl)
theorem dJ19_indexOfRange_62 : decode cJ19_indexOfRange 62 = .ok (.ireturn, 1) := dk_172 (dk_at dksJ19_indexOfRange_2 14 rfl rfl)
theorem dJ19_indexOfRange_63 : decode cJ19_indexOfRange 63 = .ok (.iinc 5 1, 3) := dk_132 5 1 (dk_at dksJ19_indexOfRange_2 15 rfl rfl)
theorem dJ19_indexOfRange_66 : decode cJ19_indexOfRange 66 = .ok (.goto (-24), 3) := dk_167 255 232 (dk_at dksJ19_indexOfRange_2 18 rfl rfl)
theorem dJ19_indexOfRange_69 : decode cJ19_indexOfRange 69 = .ok (.iconst (-1), 1) := dk_2 (dk_at dksJ19_indexOfRange_2 21 rfl rfl)
theorem dJ19_indexOfRange_70 : decode cJ19_indexOfRange 70 = .ok (.ireturn, 1) := dk_172 (dk_at dksJ19_indexOfRange_2 22 rfl rfl)
theorem q120 : (Jvm.Cond.initialized "java/util/ArrayList") ∈ lw_all := lw_g (lw_at lw_m1 34 rfl) rfl
theorem q261 : (Jvm.Cond.selects "java/util/ArrayList" ({ cls := "java/lang/Object", name := "getClass", desc := "()Ljava/lang/Class;" } : Jvm.MethodName) ({ cls := "java/lang/Object", name := "getClass", desc := "()Ljava/lang/Class;" } : Jvm.MethodName)) ∈ lw_all := lw_g (lw_at lw_m1 175 rfl) rfl
theorem q752 : (Jvm.Cond.instantiable "java/util/ArrayList" (3 : Nat)) ∈ lw_all := lw_g (lw_at lw_m3 186 rfl) rfl
theorem q754 : (Jvm.Cond.instanceMethod ({ cls := "java/util/ArrayList", name := "<init>", desc := "()V" } : Jvm.MethodName)) ∈ lw_all := lw_g (lw_at lw_m3 188 rfl) rfl
theorem q755 : (Jvm.Cond.code ({ cls := "java/util/ArrayList", name := "<init>", desc := "()V" } : Jvm.MethodName) prog_63_method_2_code (1 : Nat) (Option.none : Option Jvm.ClassFile.FieldType)) ∈ lw_all := lw_g (lw_at lw_m3 189 rfl) rfl
theorem q756 : (Jvm.Cond.methodLink "java/util/ArrayList" (1 : Nat) ({ cls := "java/util/AbstractList", name := "<init>", desc := "()V" } : Jvm.MethodName)) ∈ lw_all := lw_g (lw_at lw_m3 190 rfl) rfl
theorem q760 : (Jvm.Cond.fieldLink "java/util/ArrayList" (39 : Nat) "java/util/ArrayList" "DEFAULTCAPACITY_EMPTY_ELEMENTDATA" "[Ljava/lang/Object;") ∈ lw_all := lw_g (lw_at lw_m3 194 rfl) rfl
theorem q761 : (Jvm.Cond.laysStatic "java/util/ArrayList" "DEFAULTCAPACITY_EMPTY_ELEMENTDATA" "[Ljava/lang/Object;") ∈ lw_tbl := lw_at lw_m3 195 rfl
theorem q762 : (Jvm.Cond.fieldLink "java/util/ArrayList" (9 : Nat) "java/util/ArrayList" "elementData" "[Ljava/lang/Object;") ∈ lw_all := lw_g (lw_at lw_m3 196 rfl) rfl
theorem q765 : (Jvm.Cond.fieldLink "java/util/ArrayList" (48 : Nat) "java/util/ArrayList" "size" "I") ∈ lw_all := lw_g (lw_at lw_m3 199 rfl) rfl
theorem q770 : (Jvm.Cond.sameField "java/util/ArrayList" "java/util/AbstractList" "modCount" "I") ∈ lw_all := lw_g (lw_at lw_m3 204 rfl) rfl
theorem q773 : (Jvm.Cond.fieldLink "java/util/ArrayList" (63 : Nat) "java/util/ArrayList" "modCount" "I") ∈ lw_all := lw_g (lw_at lw_m3 207 rfl) rfl
theorem q774 : (Jvm.Cond.lays "java/util/ArrayList" "java/util/ArrayList" "elementData" "[Ljava/lang/Object;") ∈ lw_all := lw_g (lw_at lw_m3 208 rfl) rfl
theorem q775 : (Jvm.Cond.soleField "java/util/ArrayList" "elementData") ∈ lw_all := lw_g (lw_at lw_m3 209 rfl) rfl
theorem q776 : (Jvm.Cond.lays "java/util/ArrayList" "java/util/ArrayList" "size" "I") ∈ lw_all := lw_g (lw_at lw_m3 210 rfl) rfl
theorem q777 : (Jvm.Cond.soleField "java/util/ArrayList" "size") ∈ lw_all := lw_g (lw_at lw_m3 211 rfl) rfl
theorem q778 : (Jvm.Cond.lays "java/util/ArrayList" "java/util/AbstractList" "modCount" "I") ∈ lw_all := lw_g (lw_at lw_m3 212 rfl) rfl
theorem q780 : (Jvm.Cond.superclass "java/util/ArrayList" "java/util/AbstractList") ∈ lw_all := lw_g (lw_at lw_m3 214 rfl) rfl
theorem q873 : (Jvm.Cond.castable "java/util/ArrayList" "java/util/List") ∈ lw_tbl := lw_at lw_m4 67 rfl
theorem q874 : (Jvm.Cond.selects "java/util/ArrayList" ({ cls := "java/util/List", name := "add", desc := "(Ljava/lang/Object;)Z" } : Jvm.MethodName) ({ cls := "java/util/ArrayList", name := "add", desc := "(Ljava/lang/Object;)Z" } : Jvm.MethodName)) ∈ lw_all := lw_g (lw_at lw_m4 68 rfl) rfl
theorem q875 : (Jvm.Cond.unhidden "java/util/ArrayList" "add" "(Ljava/lang/Object;)Z") ∈ lw_tbl := lw_at lw_m4 69 rfl
theorem q876 : (Jvm.Cond.instanceMethod ({ cls := "java/util/ArrayList", name := "add", desc := "(Ljava/lang/Object;)Z" } : Jvm.MethodName)) ∈ lw_all := lw_g (lw_at lw_m4 70 rfl) rfl
theorem q877 : (Jvm.Cond.publicMethod ({ cls := "java/util/ArrayList", name := "add", desc := "(Ljava/lang/Object;)Z" } : Jvm.MethodName)) ∈ lw_tbl := lw_at lw_m4 71 rfl
theorem q878 : (Jvm.Cond.code ({ cls := "java/util/ArrayList", name := "add", desc := "(Ljava/lang/Object;)Z" } : Jvm.MethodName) prog_63_method_25_code (2 : Nat) (Option.some Jvm.ClassFile.FieldType.boolean)) ∈ lw_all := lw_g (lw_at lw_m4 72 rfl) rfl
theorem q879 : (Jvm.Cond.methodLink "java/util/ArrayList" (131 : Nat) ({ cls := "java/util/ArrayList", name := "add", desc := "(Ljava/lang/Object;[Ljava/lang/Object;I)V" } : Jvm.MethodName)) ∈ lw_all := lw_g (lw_at lw_m4 73 rfl) rfl
theorem q880 : (Jvm.Cond.privateMethod ({ cls := "java/util/ArrayList", name := "add", desc := "(Ljava/lang/Object;[Ljava/lang/Object;I)V" } : Jvm.MethodName)) ∈ lw_tbl := lw_at lw_m4 74 rfl
theorem q881 : (Jvm.Cond.instanceMethod ({ cls := "java/util/ArrayList", name := "add", desc := "(Ljava/lang/Object;[Ljava/lang/Object;I)V" } : Jvm.MethodName)) ∈ lw_all := lw_g (lw_at lw_m4 75 rfl) rfl
theorem q882 : (Jvm.Cond.code ({ cls := "java/util/ArrayList", name := "add", desc := "(Ljava/lang/Object;[Ljava/lang/Object;I)V" } : Jvm.MethodName) prog_63_method_24_code (4 : Nat) (Option.none : Option Jvm.ClassFile.FieldType)) ∈ lw_all := lw_g (lw_at lw_m4 76 rfl) rfl
theorem q883 : (Jvm.Cond.methodLink "java/util/ArrayList" (129 : Nat) ({ cls := "java/util/ArrayList", name := "grow", desc := "()[Ljava/lang/Object;" } : Jvm.MethodName)) ∈ lw_all := lw_g (lw_at lw_m4 77 rfl) rfl
theorem q884 : (Jvm.Cond.privateMethod ({ cls := "java/util/ArrayList", name := "grow", desc := "()[Ljava/lang/Object;" } : Jvm.MethodName)) ∈ lw_tbl := lw_at lw_m4 78 rfl
theorem q885 : (Jvm.Cond.instanceMethod ({ cls := "java/util/ArrayList", name := "grow", desc := "()[Ljava/lang/Object;" } : Jvm.MethodName)) ∈ lw_all := lw_g (lw_at lw_m4 79 rfl) rfl
theorem q886 : (Jvm.Cond.code ({ cls := "java/util/ArrayList", name := "grow", desc := "()[Ljava/lang/Object;" } : Jvm.MethodName) prog_63_method_7_code (1 : Nat) (Option.some (Jvm.ClassFile.FieldType.array (Jvm.ClassFile.FieldType.object "java/lang/Object")))) ∈ lw_all := lw_g (lw_at lw_m4 80 rfl) rfl
theorem q887 : (Jvm.Cond.methodLink "java/util/ArrayList" (69 : Nat) ({ cls := "java/util/ArrayList", name := "grow", desc := "(I)[Ljava/lang/Object;" } : Jvm.MethodName)) ∈ lw_all := lw_g (lw_at lw_m4 81 rfl) rfl
theorem q888 : (Jvm.Cond.privateMethod ({ cls := "java/util/ArrayList", name := "grow", desc := "(I)[Ljava/lang/Object;" } : Jvm.MethodName)) ∈ lw_tbl := lw_at lw_m4 82 rfl
theorem q889 : (Jvm.Cond.instanceMethod ({ cls := "java/util/ArrayList", name := "grow", desc := "(I)[Ljava/lang/Object;" } : Jvm.MethodName)) ∈ lw_all := lw_g (lw_at lw_m4 83 rfl) rfl
theorem q890 : (Jvm.Cond.code ({ cls := "java/util/ArrayList", name := "grow", desc := "(I)[Ljava/lang/Object;" } : Jvm.MethodName) prog_63_method_6_code (4 : Nat) (Option.some (Jvm.ClassFile.FieldType.array (Jvm.ClassFile.FieldType.object "java/lang/Object")))) ∈ lw_all := lw_g (lw_at lw_m4 84 rfl) rfl
theorem q891 : (Jvm.Cond.methodLink "java/util/ArrayList" (73 : Nat) ({ cls := "jdk/internal/util/ArraysSupport", name := "newLength", desc := "(III)I" } : Jvm.MethodName)) ∈ lw_all := lw_g (lw_at lw_m4 85 rfl) rfl
theorem q901 : (Jvm.Cond.methodLink "java/util/ArrayList" (66 : Nat) ({ cls := "java/util/Arrays", name := "copyOf", desc := "([Ljava/lang/Object;I)[Ljava/lang/Object;" } : Jvm.MethodName)) ∈ lw_all := lw_g (lw_at lw_m4 95 rfl) rfl
theorem q914 : (Jvm.Cond.methodLink "java/util/ArrayList" (79 : Nat) ({ cls := "java/lang/Math", name := "max", desc := "(II)I" } : Jvm.MethodName)) ∈ lw_all := lw_g (lw_at lw_m4 108 rfl) rfl
theorem q915 : (Jvm.Cond.classLink "java/util/ArrayList" (7 : Nat) "java/lang/Object") ∈ lw_all := lw_g (lw_at lw_m4 109 rfl) rfl
theorem q925 : (Jvm.Cond.selects "java/util/ArrayList" ({ cls := "java/util/AbstractList", name := "size", desc := "()I" } : Jvm.MethodName) ({ cls := "java/util/ArrayList", name := "size", desc := "()I" } : Jvm.MethodName)) ∈ lw_all := lw_g (lw_at lw_m4 119 rfl) rfl
theorem q926 : (Jvm.Cond.instanceMethod ({ cls := "java/util/ArrayList", name := "size", desc := "()I" } : Jvm.MethodName)) ∈ lw_all := lw_g (lw_at lw_m4 120 rfl) rfl
theorem q927 : (Jvm.Cond.code ({ cls := "java/util/ArrayList", name := "size", desc := "()I" } : Jvm.MethodName) prog_63_method_8_code (1 : Nat) (Option.some Jvm.ClassFile.FieldType.int)) ∈ lw_all := lw_g (lw_at lw_m4 121 rfl) rfl
theorem q937 : (Jvm.Cond.selects "java/util/ArrayList" ({ cls := "java/util/AbstractList", name := "add", desc := "(ILjava/lang/Object;)V" } : Jvm.MethodName) ({ cls := "java/util/ArrayList", name := "add", desc := "(ILjava/lang/Object;)V" } : Jvm.MethodName)) ∈ lw_all := lw_g (lw_at lw_m4 131 rfl) rfl
theorem q938 : (Jvm.Cond.instanceMethod ({ cls := "java/util/ArrayList", name := "add", desc := "(ILjava/lang/Object;)V" } : Jvm.MethodName)) ∈ lw_all := lw_g (lw_at lw_m4 132 rfl) rfl
theorem q939 : (Jvm.Cond.code ({ cls := "java/util/ArrayList", name := "add", desc := "(ILjava/lang/Object;)V" } : Jvm.MethodName) prog_63_method_26_code (5 : Nat) (Option.none : Option Jvm.ClassFile.FieldType)) ∈ lw_all := lw_g (lw_at lw_m4 133 rfl) rfl
theorem q940 : (Jvm.Cond.methodLink "java/util/ArrayList" (135 : Nat) ({ cls := "java/util/ArrayList", name := "rangeCheckForAdd", desc := "(I)V" } : Jvm.MethodName)) ∈ lw_all := lw_g (lw_at lw_m4 134 rfl) rfl
theorem q941 : (Jvm.Cond.privateMethod ({ cls := "java/util/ArrayList", name := "rangeCheckForAdd", desc := "(I)V" } : Jvm.MethodName)) ∈ lw_tbl := lw_at lw_m4 135 rfl
theorem q942 : (Jvm.Cond.instanceMethod ({ cls := "java/util/ArrayList", name := "rangeCheckForAdd", desc := "(I)V" } : Jvm.MethodName)) ∈ lw_all := lw_g (lw_at lw_m4 136 rfl) rfl
theorem q943 : (Jvm.Cond.code ({ cls := "java/util/ArrayList", name := "rangeCheckForAdd", desc := "(I)V" } : Jvm.MethodName) prog_63_method_45_code (2 : Nat) (Option.none : Option Jvm.ClassFile.FieldType)) ∈ lw_all := lw_g (lw_at lw_m4 137 rfl) rfl
theorem q944 : (Jvm.Cond.classLink "java/util/ArrayList" (187 : Nat) "java/lang/IndexOutOfBoundsException") ∈ lw_all := lw_g (lw_at lw_m4 138 rfl) rfl
theorem q953 : (Jvm.Cond.methodLink "java/util/ArrayList" (198 : Nat) ({ cls := "java/util/ArrayList", name := "outOfBoundsMsg", desc := "(I)Ljava/lang/String;" } : Jvm.MethodName)) ∈ lw_all := lw_g (lw_at lw_m4 147 rfl) rfl
theorem q954 : (Jvm.Cond.privateMethod ({ cls := "java/util/ArrayList", name := "outOfBoundsMsg", desc := "(I)Ljava/lang/String;" } : Jvm.MethodName)) ∈ lw_tbl := lw_at lw_m4 148 rfl
theorem q955 : (Jvm.Cond.instanceMethod ({ cls := "java/util/ArrayList", name := "outOfBoundsMsg", desc := "(I)Ljava/lang/String;" } : Jvm.MethodName)) ∈ lw_all := lw_g (lw_at lw_m4 149 rfl) rfl
theorem q956 : (Jvm.Cond.code ({ cls := "java/util/ArrayList", name := "outOfBoundsMsg", desc := "(I)Ljava/lang/String;" } : Jvm.MethodName) prog_63_method_46_code (2 : Nat) (Option.some (Jvm.ClassFile.FieldType.object "java/lang/String"))) ∈ lw_all := lw_g (lw_at lw_m4 150 rfl) rfl
theorem q957 : (Jvm.Cond.classLink "java/util/ArrayList" (20 : Nat) "java/lang/StringBuilder") ∈ lw_all := lw_g (lw_at lw_m4 151 rfl) rfl
theorem q959 : (Jvm.Cond.methodLink "java/util/ArrayList" (22 : Nat) ({ cls := "java/lang/StringBuilder", name := "<init>", desc := "()V" } : Jvm.MethodName)) ∈ lw_all := lw_g (lw_at lw_m4 153 rfl) rfl
theorem q999 : (Jvm.Cond.stringRef "java/util/ArrayList" (201 : Nat) "Index: ") ∈ lw_tbl := lw_at lw_m4 193 rfl
theorem q1000 : (Jvm.Cond.methodLink "java/util/ArrayList" (25 : Nat) ({ cls := "java/lang/StringBuilder", name := "append", desc := "(Ljava/lang/String;)Ljava/lang/StringBuilder;" } : Jvm.MethodName)) ∈ lw_all := lw_g (lw_at lw_m4 194 rfl) rfl
theorem q1105 : (Jvm.Cond.methodLink "java/util/ArrayList" (29 : Nat) ({ cls := "java/lang/StringBuilder", name := "append", desc := "(I)Ljava/lang/StringBuilder;" } : Jvm.MethodName)) ∈ lw_all := lw_g (lw_at lw_m5 59 rfl) rfl
theorem q1130 : (Jvm.Cond.stringRef "java/util/ArrayList" (203 : Nat) ", Size: ") ∈ lw_tbl := lw_at lw_m5 84 rfl
theorem q1131 : (Jvm.Cond.methodLink "java/util/ArrayList" (32 : Nat) ({ cls := "java/lang/StringBuilder", name := "toString", desc := "()Ljava/lang/String;" } : Jvm.MethodName)) ∈ lw_all := lw_g (lw_at lw_m5 85 rfl) rfl
theorem q1186 : (Jvm.Cond.methodLink "java/util/ArrayList" (193 : Nat) ({ cls := "java/lang/IndexOutOfBoundsException", name := "<init>", desc := "(Ljava/lang/String;)V" } : Jvm.MethodName)) ∈ lw_all := lw_g (lw_at lw_m5 140 rfl) rfl
theorem q1189 : (Jvm.Cond.methodLink "java/util/ArrayList" (112 : Nat) ({ cls := "java/lang/System", name := "arraycopy", desc := "(Ljava/lang/Object;ILjava/lang/Object;II)V" } : Jvm.MethodName)) ∈ lw_all := lw_g (lw_at lw_m5 143 rfl) rfl
theorem q1269 : (Jvm.Cond.selects "java/util/ArrayList" ({ cls := "java/util/List", name := "size", desc := "()I" } : Jvm.MethodName) ({ cls := "java/util/ArrayList", name := "size", desc := "()I" } : Jvm.MethodName)) ∈ lw_all := lw_g (lw_at lw_m5 223 rfl) rfl
theorem q1270 : (Jvm.Cond.unhidden "java/util/ArrayList" "size" "()I") ∈ lw_tbl := lw_at lw_m5 224 rfl
theorem q1271 : (Jvm.Cond.publicMethod ({ cls := "java/util/ArrayList", name := "size", desc := "()I" } : Jvm.MethodName)) ∈ lw_tbl := lw_at lw_m5 225 rfl
theorem q1299 : (Jvm.Cond.selects "java/util/ArrayList" ({ cls := "java/util/List", name := "iterator", desc := "()Ljava/util/Iterator;" } : Jvm.MethodName) ({ cls := "java/util/ArrayList", name := "iterator", desc := "()Ljava/util/Iterator;" } : Jvm.MethodName)) ∈ lw_all := lw_g (lw_at lw_m6 13 rfl) rfl
theorem q1300 : (Jvm.Cond.unhidden "java/util/ArrayList" "iterator" "()Ljava/util/Iterator;") ∈ lw_tbl := lw_at lw_m6 14 rfl
theorem q1301 : (Jvm.Cond.instanceMethod ({ cls := "java/util/ArrayList", name := "iterator", desc := "()Ljava/util/Iterator;" } : Jvm.MethodName)) ∈ lw_all := lw_g (lw_at lw_m6 15 rfl) rfl
theorem q1302 : (Jvm.Cond.publicMethod ({ cls := "java/util/ArrayList", name := "iterator", desc := "()Ljava/util/Iterator;" } : Jvm.MethodName)) ∈ lw_tbl := lw_at lw_m6 16 rfl
theorem q1303 : (Jvm.Cond.code ({ cls := "java/util/ArrayList", name := "iterator", desc := "()Ljava/util/Iterator;" } : Jvm.MethodName) prog_63_method_55_code (1 : Nat) (Option.some (Jvm.ClassFile.FieldType.object "java/util/Iterator"))) ∈ lw_all := lw_g (lw_at lw_m6 17 rfl) rfl
theorem q1304 : (Jvm.Cond.classLink "java/util/ArrayList" (267 : Nat) "java/util/ArrayList$Itr") ∈ lw_all := lw_g (lw_at lw_m6 18 rfl) rfl
theorem q1306 : (Jvm.Cond.methodLink "java/util/ArrayList" (269 : Nat) ({ cls := "java/util/ArrayList$Itr", name := "<init>", desc := "(Ljava/util/ArrayList;)V" } : Jvm.MethodName)) ∈ lw_all := lw_g (lw_at lw_m6 20 rfl) rfl
theorem q1395 : (Jvm.Cond.selects "java/util/ArrayList" ({ cls := "java/util/AbstractList", name := "listIterator", desc := "(I)Ljava/util/ListIterator;" } : Jvm.MethodName) ({ cls := "java/util/ArrayList", name := "listIterator", desc := "(I)Ljava/util/ListIterator;" } : Jvm.MethodName)) ∈ lw_all := lw_g (lw_at lw_m6 109 rfl) rfl
theorem q1396 : (Jvm.Cond.instanceMethod ({ cls := "java/util/ArrayList", name := "listIterator", desc := "(I)Ljava/util/ListIterator;" } : Jvm.MethodName)) ∈ lw_all := lw_g (lw_at lw_m6 110 rfl) rfl
theorem q1397 : (Jvm.Cond.code ({ cls := "java/util/ArrayList", name := "listIterator", desc := "(I)Ljava/util/ListIterator;" } : Jvm.MethodName) prog_63_method_53_code (2 : Nat) (Option.some (Jvm.ClassFile.FieldType.object "java/util/ListIterator"))) ∈ lw_all := lw_g (lw_at lw_m6 111 rfl) rfl
theorem q1398 : (Jvm.Cond.classLink "java/util/ArrayList" (262 : Nat) "java/util/ArrayList$ListItr") ∈ lw_all := lw_g (lw_at lw_m6 112 rfl) rfl
theorem q1400 : (Jvm.Cond.methodLink "java/util/ArrayList" (264 : Nat) ({ cls := "java/util/ArrayList$ListItr", name := "<init>", desc := "(Ljava/util/ArrayList;I)V" } : Jvm.MethodName)) ∈ lw_all := lw_g (lw_at lw_m6 114 rfl) rfl
theorem q1530 : (Jvm.Cond.selects "java/util/ArrayList" ({ cls := "java/util/AbstractList", name := "get", desc := "(I)Ljava/lang/Object;" } : Jvm.MethodName) ({ cls := "java/util/ArrayList", name := "get", desc := "(I)Ljava/lang/Object;" } : Jvm.MethodName)) ∈ lw_all := lw_g (lw_at lw_m7 4 rfl) rfl
theorem q1531 : (Jvm.Cond.instanceMethod ({ cls := "java/util/ArrayList", name := "get", desc := "(I)Ljava/lang/Object;" } : Jvm.MethodName)) ∈ lw_all := lw_g (lw_at lw_m7 5 rfl) rfl
theorem q1532 : (Jvm.Cond.code ({ cls := "java/util/ArrayList", name := "get", desc := "(I)Ljava/lang/Object;" } : Jvm.MethodName) prog_63_method_20_code (2 : Nat) (Option.some (Jvm.ClassFile.FieldType.object "java/lang/Object"))) ∈ lw_all := lw_g (lw_at lw_m7 6 rfl) rfl
theorem q1533 : (Jvm.Cond.methodLink "java/util/ArrayList" (118 : Nat) ({ cls := "java/util/Objects", name := "checkIndex", desc := "(II)I" } : Jvm.MethodName)) ∈ lw_all := lw_g (lw_at lw_m7 7 rfl) rfl
theorem q1539 : (Jvm.Cond.methodLink "java/util/ArrayList" (123 : Nat) ({ cls := "java/util/ArrayList", name := "elementData", desc := "(I)Ljava/lang/Object;" } : Jvm.MethodName)) ∈ lw_all := lw_g (lw_at lw_m7 13 rfl) rfl
theorem q1540 : (Jvm.Cond.instanceMethod ({ cls := "java/util/ArrayList", name := "elementData", desc := "(I)Ljava/lang/Object;" } : Jvm.MethodName)) ∈ lw_all := lw_g (lw_at lw_m7 14 rfl) rfl
theorem q1541 : (Jvm.Cond.selects "java/util/ArrayList" ({ cls := "java/util/ArrayList", name := "elementData", desc := "(I)Ljava/lang/Object;" } : Jvm.MethodName) ({ cls := "java/util/ArrayList", name := "elementData", desc := "(I)Ljava/lang/Object;" } : Jvm.MethodName)) ∈ lw_all := lw_g (lw_at lw_m7 15 rfl) rfl
theorem q1542 : (Jvm.Cond.code ({ cls := "java/util/ArrayList", name := "elementData", desc := "(I)Ljava/lang/Object;" } : Jvm.MethodName) prog_63_method_18_code (2 : Nat) (Option.some (Jvm.ClassFile.FieldType.object "java/lang/Object"))) ∈ lw_all := lw_g (lw_at lw_m7 16 rfl) rfl
theorem q1661 : (Jvm.Cond.selects "java/util/ArrayList" ({ cls := "java/util/List", name := "get", desc := "(I)Ljava/lang/Object;" } : Jvm.MethodName) ({ cls := "java/util/ArrayList", name := "get", desc := "(I)Ljava/lang/Object;" } : Jvm.MethodName)) ∈ lw_all := lw_g (lw_at lw_m7 135 rfl) rfl
theorem q1662 : (Jvm.Cond.unhidden "java/util/ArrayList" "get" "(I)Ljava/lang/Object;") ∈ lw_tbl := lw_at lw_m7 136 rfl
theorem q1663 : (Jvm.Cond.publicMethod ({ cls := "java/util/ArrayList", name := "get", desc := "(I)Ljava/lang/Object;" } : Jvm.MethodName)) ∈ lw_tbl := lw_at lw_m7 137 rfl
theorem q2574 : (Jvm.Cond.selects "java/util/ArrayList" ({ cls := "java/util/AbstractList", name := "remove", desc := "(I)Ljava/lang/Object;" } : Jvm.MethodName) ({ cls := "java/util/ArrayList", name := "remove", desc := "(I)Ljava/lang/Object;" } : Jvm.MethodName)) ∈ lw_all := lw_g (lw_at lw_m11 88 rfl) rfl
theorem q2575 : (Jvm.Cond.instanceMethod ({ cls := "java/util/ArrayList", name := "remove", desc := "(I)Ljava/lang/Object;" } : Jvm.MethodName)) ∈ lw_all := lw_g (lw_at lw_m11 89 rfl) rfl
theorem q2576 : (Jvm.Cond.code ({ cls := "java/util/ArrayList", name := "remove", desc := "(I)Ljava/lang/Object;" } : Jvm.MethodName) prog_63_method_29_code (4 : Nat) (Option.some (Jvm.ClassFile.FieldType.object "java/lang/Object"))) ∈ lw_all := lw_g (lw_at lw_m11 90 rfl) rfl
theorem q2577 : (Jvm.Cond.methodLink "java/util/ArrayList" (144 : Nat) ({ cls := "java/util/ArrayList", name := "fastRemove", desc := "([Ljava/lang/Object;I)V" } : Jvm.MethodName)) ∈ lw_all := lw_g (lw_at lw_m11 91 rfl) rfl
theorem q2578 : (Jvm.Cond.privateMethod ({ cls := "java/util/ArrayList", name := "fastRemove", desc := "([Ljava/lang/Object;I)V" } : Jvm.MethodName)) ∈ lw_tbl := lw_at lw_m11 92 rfl
theorem q2579 : (Jvm.Cond.instanceMethod ({ cls := "java/util/ArrayList", name := "fastRemove", desc := "([Ljava/lang/Object;I)V" } : Jvm.MethodName)) ∈ lw_all := lw_g (lw_at lw_m11 93 rfl) rfl
theorem q2580 : (Jvm.Cond.code ({ cls := "java/util/ArrayList", name := "fastRemove", desc := "([Ljava/lang/Object;I)V" } : Jvm.MethodName) prog_63_method_39_code (4 : Nat) (Option.none : Option Jvm.ClassFile.FieldType)) ∈ lw_all := lw_g (lw_at lw_m11 94 rfl) rfl
theorem q2672 : (Jvm.Cond.instanceMethod ({ cls := "java/util/ArrayList", name := "<init>", desc := "(Ljava/util/Collection;)V" } : Jvm.MethodName)) ∈ lw_all := lw_g (lw_at lw_m11 186 rfl) rfl
theorem q2673 : (Jvm.Cond.code ({ cls := "java/util/ArrayList", name := "<init>", desc := "(Ljava/util/Collection;)V" } : Jvm.MethodName) prog_63_method_3_code (3 : Nat) (Option.none : Option Jvm.ClassFile.FieldType)) ∈ lw_all := lw_g (lw_at lw_m11 187 rfl) rfl
theorem q2674 : (Jvm.Cond.interfaceEntry "java/util/ArrayList" (42 : Nat)) ∈ lw_tbl := lw_at lw_m11 188 rfl
theorem q2675 : (Jvm.Cond.methodLink "java/util/ArrayList" (42 : Nat) ({ cls := "java/util/Collection", name := "toArray", desc := "()[Ljava/lang/Object;" } : Jvm.MethodName)) ∈ lw_all := lw_g (lw_at lw_m11 189 rfl) rfl
theorem q2692 : (Jvm.Cond.castable "java/util/ArrayList" "java/util/Collection") ∈ lw_tbl := lw_at lw_m11 206 rfl
theorem q2693 : (Jvm.Cond.selects "java/util/ArrayList" ({ cls := "java/util/Collection", name := "toArray", desc := "()[Ljava/lang/Object;" } : Jvm.MethodName) ({ cls := "java/util/ArrayList", name := "toArray", desc := "()[Ljava/lang/Object;" } : Jvm.MethodName)) ∈ lw_all := lw_g (lw_at lw_m11 207 rfl) rfl
theorem q2694 : (Jvm.Cond.unhidden "java/util/ArrayList" "toArray" "()[Ljava/lang/Object;") ∈ lw_tbl := lw_at lw_m11 208 rfl
theorem q2695 : (Jvm.Cond.instanceMethod ({ cls := "java/util/ArrayList", name := "toArray", desc := "()[Ljava/lang/Object;" } : Jvm.MethodName)) ∈ lw_all := lw_g (lw_at lw_m11 209 rfl) rfl
theorem q2696 : (Jvm.Cond.publicMethod ({ cls := "java/util/ArrayList", name := "toArray", desc := "()[Ljava/lang/Object;" } : Jvm.MethodName)) ∈ lw_tbl := lw_at lw_m11 210 rfl
theorem q2697 : (Jvm.Cond.code ({ cls := "java/util/ArrayList", name := "toArray", desc := "()[Ljava/lang/Object;" } : Jvm.MethodName) prog_63_method_16_code (1 : Nat) (Option.some (Jvm.ClassFile.FieldType.array (Jvm.ClassFile.FieldType.object "java/lang/Object")))) ∈ lw_all := lw_g (lw_at lw_m11 211 rfl) rfl
theorem q2742 : (Jvm.Cond.interfaceEntry "java/util/ArrayList" (52 : Nat)) ∈ lw_tbl := lw_at lw_m12 16 rfl
theorem q2743 : (Jvm.Cond.methodLink "java/util/ArrayList" (52 : Nat) ({ cls := "java/util/Collection", name := "getClass", desc := "()Ljava/lang/Class;" } : Jvm.MethodName)) ∈ lw_all := lw_g (lw_at lw_m12 17 rfl) rfl
theorem q2748 : (Jvm.Cond.unhidden "java/util/ArrayList" "getClass" "()Ljava/lang/Class;") ∈ lw_tbl := lw_at lw_m12 22 rfl
theorem q2753 : (Jvm.Cond.classLink "java/util/ArrayList" (10 : Nat) "java/util/ArrayList") ∈ lw_all := lw_g (lw_at lw_m12 27 rfl) rfl
theorem q2754 : (Jvm.Cond.classLink "java/util/ArrayList" (56 : Nat) "[Ljava/lang/Object;") ∈ lw_all := lw_g (lw_at lw_m12 28 rfl) rfl
theorem q2755 : (Jvm.Cond.methodLink "java/util/ArrayList" (57 : Nat) ({ cls := "java/util/Arrays", name := "copyOf", desc := "([Ljava/lang/Object;ILjava/lang/Class;)[Ljava/lang/Object;" } : Jvm.MethodName)) ∈ lw_all := lw_g (lw_at lw_m12 29 rfl) rfl
theorem q2756 : (Jvm.Cond.fieldLink "java/util/ArrayList" (15 : Nat) "java/util/ArrayList" "EMPTY_ELEMENTDATA" "[Ljava/lang/Object;") ∈ lw_all := lw_g (lw_at lw_m12 30 rfl) rfl
theorem q2757 : (Jvm.Cond.laysStatic "java/util/ArrayList" "EMPTY_ELEMENTDATA" "[Ljava/lang/Object;") ∈ lw_tbl := lw_at lw_m12 31 rfl
theorem q2764 : (Jvm.Cond.selects "java/util/ArrayList" ({ cls := "java/util/List", name := "set", desc := "(ILjava/lang/Object;)Ljava/lang/Object;" } : Jvm.MethodName) ({ cls := "java/util/ArrayList", name := "set", desc := "(ILjava/lang/Object;)Ljava/lang/Object;" } : Jvm.MethodName)) ∈ lw_all := lw_g (lw_at lw_m12 38 rfl) rfl
theorem q2765 : (Jvm.Cond.unhidden "java/util/ArrayList" "set" "(ILjava/lang/Object;)Ljava/lang/Object;") ∈ lw_tbl := lw_at lw_m12 39 rfl
theorem q2766 : (Jvm.Cond.instanceMethod ({ cls := "java/util/ArrayList", name := "set", desc := "(ILjava/lang/Object;)Ljava/lang/Object;" } : Jvm.MethodName)) ∈ lw_all := lw_g (lw_at lw_m12 40 rfl) rfl
theorem q2767 : (Jvm.Cond.publicMethod ({ cls := "java/util/ArrayList", name := "set", desc := "(ILjava/lang/Object;)Ljava/lang/Object;" } : Jvm.MethodName)) ∈ lw_tbl := lw_at lw_m12 41 rfl
theorem q2768 : (Jvm.Cond.code ({ cls := "java/util/ArrayList", name := "set", desc := "(ILjava/lang/Object;)Ljava/lang/Object;" } : Jvm.MethodName) prog_63_method_23_code (4 : Nat) (Option.some (Jvm.ClassFile.FieldType.object "java/lang/Object"))) ∈ lw_all := lw_g (lw_at lw_m12 42 rfl) rfl
theorem q2796 : (Jvm.Cond.selects "java/util/ArrayList" ({ cls := "java/util/Collection", name := "iterator", desc := "()Ljava/util/Iterator;" } : Jvm.MethodName) ({ cls := "java/util/ArrayList", name := "iterator", desc := "()Ljava/util/Iterator;" } : Jvm.MethodName)) ∈ lw_all := lw_g (lw_at lw_m12 70 rfl) rfl
theorem q3000 : (Jvm.Cond.selects "java/util/ArrayList" ({ cls := "java/util/List", name := "indexOf", desc := "(Ljava/lang/Object;)I" } : Jvm.MethodName) ({ cls := "java/util/ArrayList", name := "indexOf", desc := "(Ljava/lang/Object;)I" } : Jvm.MethodName)) ∈ lw_all := lw_g (lw_at lw_m13 34 rfl) rfl
theorem q3001 : (Jvm.Cond.unhidden "java/util/ArrayList" "indexOf" "(Ljava/lang/Object;)I") ∈ lw_tbl := lw_at lw_m13 35 rfl
theorem q3002 : (Jvm.Cond.instanceMethod ({ cls := "java/util/ArrayList", name := "indexOf", desc := "(Ljava/lang/Object;)I" } : Jvm.MethodName)) ∈ lw_all := lw_g (lw_at lw_m13 36 rfl) rfl
theorem q3003 : (Jvm.Cond.publicMethod ({ cls := "java/util/ArrayList", name := "indexOf", desc := "(Ljava/lang/Object;)I" } : Jvm.MethodName)) ∈ lw_tbl := lw_at lw_m13 37 rfl
theorem q3004 : (Jvm.Cond.code ({ cls := "java/util/ArrayList", name := "indexOf", desc := "(Ljava/lang/Object;)I" } : Jvm.MethodName) prog_63_method_11_code (2 : Nat) (Option.some Jvm.ClassFile.FieldType.int)) ∈ lw_all := lw_g (lw_at lw_m13 38 rfl) rfl
theorem q3005 : (Jvm.Cond.methodLink "java/util/ArrayList" (89 : Nat) ({ cls := "java/util/ArrayList", name := "indexOfRange", desc := "(Ljava/lang/Object;II)I" } : Jvm.MethodName)) ∈ lw_all := lw_g (lw_at lw_m13 39 rfl) rfl
theorem q3006 : (Jvm.Cond.instanceMethod ({ cls := "java/util/ArrayList", name := "indexOfRange", desc := "(Ljava/lang/Object;II)I" } : Jvm.MethodName)) ∈ lw_all := lw_g (lw_at lw_m13 40 rfl) rfl
theorem q3007 : (Jvm.Cond.selects "java/util/ArrayList" ({ cls := "java/util/ArrayList", name := "indexOfRange", desc := "(Ljava/lang/Object;II)I" } : Jvm.MethodName) ({ cls := "java/util/ArrayList", name := "indexOfRange", desc := "(Ljava/lang/Object;II)I" } : Jvm.MethodName)) ∈ lw_all := lw_g (lw_at lw_m13 41 rfl) rfl
theorem q3008 : (Jvm.Cond.code ({ cls := "java/util/ArrayList", name := "indexOfRange", desc := "(Ljava/lang/Object;II)I" } : Jvm.MethodName) prog_63_method_12_code (6 : Nat) (Option.some Jvm.ClassFile.FieldType.int)) ∈ lw_all := lw_g (lw_at lw_m13 42 rfl) rfl
theorem q3010 : (Jvm.Cond.methodLink "java/util/ArrayList" (93 : Nat) ({ cls := "java/lang/Object", name := "equals", desc := "(Ljava/lang/Object;)Z" } : Jvm.MethodName)) ∈ lw_all := lw_g (lw_at lw_m13 44 rfl) rfl
theorem q3766 : (Jvm.Cond.selects "java/util/ArrayList" ({ cls := "java/util/ArrayList", name := "remove", desc := "(I)Ljava/lang/Object;" } : Jvm.MethodName) ({ cls := "java/util/ArrayList", name := "remove", desc := "(I)Ljava/lang/Object;" } : Jvm.MethodName)) ∈ lw_all := lw_g (lw_at lw_m16 80 rfl) rfl
theorem q3770 : (Jvm.Cond.selects "java/util/ArrayList" ({ cls := "java/util/AbstractCollection", name := "size", desc := "()I" } : Jvm.MethodName) ({ cls := "java/util/ArrayList", name := "size", desc := "()I" } : Jvm.MethodName)) ∈ lw_all := lw_g (lw_at lw_m16 84 rfl) rfl
theorem q3816 : (Jvm.Cond.castable "java/util/ArrayList" "java/lang/Object") ∈ lw_tbl := lw_at lw_m16 130 rfl
theorem in_J19 : ∀ w ∈ wsJ190, w ∈ lw_all := lw_in wsJ190 [778, 774, 776] (by decide +kernel) (by decide +kernel)
/-! java/util/Arrays -/
set_option maxRecDepth 100000
def RJ22 : String := "java/util/Arrays"
abbrev cJ22_copyOf : ByteArray := prog_66_method_119_code
def yJ22_copyOf : MethodName := ⟨RJ22, "copyOf", "([Ljava/lang/Object;I)[Ljava/lang/Object;"⟩
def dkwJ22_copyOf_0 : List UInt8 := [42, 27, 42, 182, 0, 86, 184, 1, 44, 176]
abbrev dktJ22_copyOf_0 : List UInt8 := dkwJ22_copyOf_0 ++ []
theorem dksJ22_copyOf_0 : cJ22_copyOf.data.toList.drop 0 = dktJ22_copyOf_0 := by decide +kernel
theorem dJ22_copyOf_0 : decode cJ22_copyOf 0 = .ok (.aload_n 0, 1) := dk_42 (dk_at dksJ22_copyOf_0 0 rfl rfl)
theorem dJ22_copyOf_1 : decode cJ22_copyOf 1 = .ok (.iload_n 1, 1) := dk_27 (dk_at dksJ22_copyOf_0 1 rfl rfl)
theorem dJ22_copyOf_2 : decode cJ22_copyOf 2 = .ok (.aload_n 0, 1) := dk_42 (dk_at dksJ22_copyOf_0 2 rfl rfl)
theorem dJ22_copyOf_3 : decode cJ22_copyOf 3 = .ok (.invokevirtual 86, 3) := dk_182 0 86 (dk_at dksJ22_copyOf_0 3 rfl rfl)
theorem dJ22_copyOf_6 : decode cJ22_copyOf 6 = .ok (.invokestatic 300, 3) := dk_184 1 44 (dk_at dksJ22_copyOf_0 6 rfl rfl)
theorem dJ22_copyOf_9 : decode cJ22_copyOf 9 = .ok (.areturn, 1) := dk_176 (dk_at dksJ22_copyOf_0 9 rfl rfl)
abbrev cJ22_copyOf_2 : ByteArray := prog_66_method_120_code
def yJ22_copyOf_2 : MethodName := ⟨RJ22, "copyOf", "([Ljava/lang/Object;ILjava/lang/Class;)[Ljava/lang/Object;"⟩
def dkwJ22_copyOf_2_1 : List UInt8 := [78, 42, 3, 45, 3, 42, 190, 27, 184, 1, 48, 184, 0, 150, 45, 176]
abbrev dktJ22_copyOf_2_1 : List UInt8 := dkwJ22_copyOf_2_1 ++ []
def dkwJ22_copyOf_2_0 : List UInt8 := [44, 18, 110, 166, 0, 10, 27, 189, 0, 2, 167, 0, 14, 44, 182, 0, 90, 27, 184, 0, 95, 192, 0, 110]
abbrev dktJ22_copyOf_2_0 : List UInt8 := dkwJ22_copyOf_2_0 ++ dktJ22_copyOf_2_1
theorem dksJ22_copyOf_2_0 : cJ22_copyOf_2.data.toList.drop 0 = dktJ22_copyOf_2_0 := by decide +kernel
theorem dksJ22_copyOf_2_1 : cJ22_copyOf_2.data.toList.drop 24 = dktJ22_copyOf_2_1 := dk_seg dksJ22_copyOf_2_0 24 rfl rfl
theorem dJ22_copyOf_2_0 : decode cJ22_copyOf_2 0 = .ok (.aload_n 2, 1) := dk_44 (dk_at dksJ22_copyOf_2_0 0 rfl rfl)
theorem dJ22_copyOf_2_1 : decode cJ22_copyOf_2 1 = .ok (.ldc 110, 2) := dk_18 110 (dk_at dksJ22_copyOf_2_0 1 rfl rfl)
theorem dJ22_copyOf_2_3 : decode cJ22_copyOf_2 3 = .ok (.if_acmp .ne 10, 3) := dk_166 0 10 (dk_at dksJ22_copyOf_2_0 3 rfl rfl)
theorem dJ22_copyOf_2_6 : decode cJ22_copyOf_2 6 = .ok (.iload_n 1, 1) := dk_27 (dk_at dksJ22_copyOf_2_0 6 rfl rfl)
theorem dJ22_copyOf_2_7 : decode cJ22_copyOf_2 7 = .ok (.anewarray 2, 3) := dk_189 0 2 (dk_at dksJ22_copyOf_2_0 7 rfl rfl)
theorem dJ22_copyOf_2_10 : decode cJ22_copyOf_2 10 = .ok (.goto 14, 3) := dk_167 0 14 (dk_at dksJ22_copyOf_2_0 10 rfl rfl)
theorem dJ22_copyOf_2_13 : decode cJ22_copyOf_2 13 = .ok (.aload_n 2, 1) := dk_44 (dk_at dksJ22_copyOf_2_0 13 rfl rfl)
theorem dJ22_copyOf_2_14 : decode cJ22_copyOf_2 14 = .ok (.invokevirtual 90, 3) := dk_182 0 90 (dk_at dksJ22_copyOf_2_0 14 rfl rfl)
theorem dJ22_copyOf_2_17 : decode cJ22_copyOf_2 17 = .ok (.iload_n 1, 1) := dk_27 (dk_at dksJ22_copyOf_2_0 17 rfl rfl)
theorem dJ22_copyOf_2_18 : decode cJ22_copyOf_2 18 = .ok (.invokestatic 95, 3) := dk_184 0 95 (dk_at dksJ22_copyOf_2_0 18 rfl rfl)
theorem dJ22_copyOf_2_21 : decode cJ22_copyOf_2 21 = .ok (.checkcast 110, 3) := dk_192 0 110 (dk_at dksJ22_copyOf_2_0 21 rfl rfl)
theorem dJ22_copyOf_2_24 : decode cJ22_copyOf_2 24 = .ok (.astore_n 3, 1) := dk_78 (dk_at dksJ22_copyOf_2_1 0 rfl rfl)
theorem dJ22_copyOf_2_25 : decode cJ22_copyOf_2 25 = .ok (.aload_n 0, 1) := dk_42 (dk_at dksJ22_copyOf_2_1 1 rfl rfl)
theorem dJ22_copyOf_2_26 : decode cJ22_copyOf_2 26 = .ok (.iconst 0, 1) := dk_3 (dk_at dksJ22_copyOf_2_1 2 rfl rfl)
theorem dJ22_copyOf_2_27 : decode cJ22_copyOf_2 27 = .ok (.aload_n 3, 1) := dk_45 (dk_at dksJ22_copyOf_2_1 3 rfl rfl)
theorem dJ22_copyOf_2_28 : decode cJ22_copyOf_2 28 = .ok (.iconst 0, 1) := dk_3 (dk_at dksJ22_copyOf_2_1 4 rfl rfl)
theorem dJ22_copyOf_2_29 : decode cJ22_copyOf_2 29 = .ok (.aload_n 0, 1) := dk_42 (dk_at dksJ22_copyOf_2_1 5 rfl rfl)
theorem dJ22_copyOf_2_30 : decode cJ22_copyOf_2 30 = .ok (.arraylength, 1) := dk_190 (dk_at dksJ22_copyOf_2_1 6 rfl rfl)
theorem dJ22_copyOf_2_31 : decode cJ22_copyOf_2 31 = .ok (.iload_n 1, 1) := dk_27 (dk_at dksJ22_copyOf_2_1 7 rfl rfl)
theorem dJ22_copyOf_2_32 : decode cJ22_copyOf_2 32 = .ok (.invokestatic 304, 3) := dk_184 1 48 (dk_at dksJ22_copyOf_2_1 8 rfl rfl)
theorem dJ22_copyOf_2_35 : decode cJ22_copyOf_2 35 = .ok (.invokestatic 150, 3) := dk_184 0 150 (dk_at dksJ22_copyOf_2_1 11 rfl rfl)
theorem dJ22_copyOf_2_38 : decode cJ22_copyOf_2 38 = .ok (.aload_n 3, 1) := dk_45 (dk_at dksJ22_copyOf_2_1 14 rfl rfl)
theorem dJ22_copyOf_2_39 : decode cJ22_copyOf_2 39 = .ok (.areturn, 1) := dk_176 (dk_at dksJ22_copyOf_2_1 15 rfl rfl)
abbrev cJ22_copyOf_3 : ByteArray := prog_66_method_121_code
def yJ22_copyOf_3 : MethodName := ⟨RJ22, "copyOf", "([BI)[B"⟩
def dkwJ22_copyOf_3_1 : List UInt8 := [27, 184, 1, 48, 184, 0, 150, 44, 176]
abbrev dktJ22_copyOf_3_1 : List UInt8 := dkwJ22_copyOf_3_1 ++ []
def dkwJ22_copyOf_3_0 : List UInt8 := [27, 42, 190, 160, 0, 11, 42, 182, 1, 54, 192, 1, 55, 176, 27, 188, 8, 77, 42, 3, 44, 3, 42, 190]
abbrev dktJ22_copyOf_3_0 : List UInt8 := dkwJ22_copyOf_3_0 ++ dktJ22_copyOf_3_1
theorem dksJ22_copyOf_3_0 : cJ22_copyOf_3.data.toList.drop 0 = dktJ22_copyOf_3_0 := by decide +kernel
theorem dksJ22_copyOf_3_1 : cJ22_copyOf_3.data.toList.drop 24 = dktJ22_copyOf_3_1 := dk_seg dksJ22_copyOf_3_0 24 rfl rfl
theorem dJ22_copyOf_3_0 : decode cJ22_copyOf_3 0 = .ok (.iload_n 1, 1) := dk_27 (dk_at dksJ22_copyOf_3_0 0 rfl rfl)
theorem dJ22_copyOf_3_1 : decode cJ22_copyOf_3 1 = .ok (.aload_n 0, 1) := dk_42 (dk_at dksJ22_copyOf_3_0 1 rfl rfl)
theorem dJ22_copyOf_3_2 : decode cJ22_copyOf_3 2 = .ok (.arraylength, 1) := dk_190 (dk_at dksJ22_copyOf_3_0 2 rfl rfl)
theorem dJ22_copyOf_3_3 : decode cJ22_copyOf_3 3 = .ok (.if_icmp .ne 11, 3) := dk_160 0 11 (dk_at dksJ22_copyOf_3_0 3 rfl rfl)
theorem dJ22_copyOf_3_6 : decode cJ22_copyOf_3 6 = .ok (.aload_n 0, 1) := dk_42 (dk_at dksJ22_copyOf_3_0 6 rfl rfl)
theorem dJ22_copyOf_3_7 : decode cJ22_copyOf_3 7 = .ok (.invokevirtual 310, 3) := dk_182 1 54 (dk_at dksJ22_copyOf_3_0 7 rfl rfl)
theorem dJ22_copyOf_3_10 : decode cJ22_copyOf_3 10 = .ok (.checkcast 311, 3) := dk_192 1 55 (dk_at dksJ22_copyOf_3_0 10 rfl rfl)
theorem dJ22_copyOf_3_13 : decode cJ22_copyOf_3 13 = .ok (.areturn, 1) := dk_176 (dk_at dksJ22_copyOf_3_0 13 rfl rfl)
theorem dJ22_copyOf_3_14 : decode cJ22_copyOf_3 14 = .ok (.iload_n 1, 1) := dk_27 (dk_at dksJ22_copyOf_3_0 14 rfl rfl)
theorem dJ22_copyOf_3_15 : decode cJ22_copyOf_3 15 = .ok (.newarray .byte, 2) := dk_188_8 (dk_at dksJ22_copyOf_3_0 15 rfl rfl)
theorem dJ22_copyOf_3_17 : decode cJ22_copyOf_3 17 = .ok (.astore_n 2, 1) := dk_77 (dk_at dksJ22_copyOf_3_0 17 rfl rfl)
theorem dJ22_copyOf_3_18 : decode cJ22_copyOf_3 18 = .ok (.aload_n 0, 1) := dk_42 (dk_at dksJ22_copyOf_3_0 18 rfl rfl)
theorem dJ22_copyOf_3_19 : decode cJ22_copyOf_3 19 = .ok (.iconst 0, 1) := dk_3 (dk_at dksJ22_copyOf_3_0 19 rfl rfl)
theorem dJ22_copyOf_3_20 : decode cJ22_copyOf_3 20 = .ok (.aload_n 2, 1) := dk_44 (dk_at dksJ22_copyOf_3_0 20 rfl rfl)
theorem dJ22_copyOf_3_21 : decode cJ22_copyOf_3 21 = .ok (.iconst 0, 1) := dk_3 (dk_at dksJ22_copyOf_3_0 21 rfl rfl)
theorem dJ22_copyOf_3_22 : decode cJ22_copyOf_3 22 = .ok (.aload_n 0, 1) := dk_42 (dk_at dksJ22_copyOf_3_0 22 rfl rfl)
theorem dJ22_copyOf_3_23 : decode cJ22_copyOf_3 23 = .ok (.arraylength, 1) := dk_190 (dk_at dksJ22_copyOf_3_0 23 rfl rfl)
theorem dJ22_copyOf_3_24 : decode cJ22_copyOf_3 24 = .ok (.iload_n 1, 1) := dk_27 (dk_at dksJ22_copyOf_3_1 0 rfl rfl)
theorem dJ22_copyOf_3_25 : decode cJ22_copyOf_3 25 = .ok (.invokestatic 304, 3) := dk_184 1 48 (dk_at dksJ22_copyOf_3_1 1 rfl rfl)
theorem dJ22_copyOf_3_28 : decode cJ22_copyOf_3 28 = .ok (.invokestatic 150, 3) := dk_184 0 150 (dk_at dksJ22_copyOf_3_1 4 rfl rfl)
theorem dJ22_copyOf_3_31 : decode cJ22_copyOf_3 31 = .ok (.aload_n 2, 1) := dk_44 (dk_at dksJ22_copyOf_3_1 7 rfl rfl)
theorem dJ22_copyOf_3_32 : decode cJ22_copyOf_3 32 = .ok (.areturn, 1) := dk_176 (dk_at dksJ22_copyOf_3_1 8 rfl rfl)
abbrev cJ22_copyOfRange : ByteArray := prog_66_method_132_code
def yJ22_copyOfRange : MethodName := ⟨RJ22, "copyOfRange", "([BII)[B"⟩
def dkwJ22_copyOfRange_1 : List UInt8 := [176]
abbrev dktJ22_copyOfRange_1 : List UInt8 := dkwJ22_copyOfRange_1 ++ []
def dkwJ22_copyOfRange_0 : List UInt8 := [27, 154, 0, 9, 28, 42, 190, 159, 0, 10, 42, 27, 28, 184, 1, 83, 176, 42, 182, 1, 54, 192, 1, 55]
abbrev dktJ22_copyOfRange_0 : List UInt8 := dkwJ22_copyOfRange_0 ++ dktJ22_copyOfRange_1
theorem dksJ22_copyOfRange_0 : cJ22_copyOfRange.data.toList.drop 0 = dktJ22_copyOfRange_0 := by decide +kernel
theorem dksJ22_copyOfRange_1 : cJ22_copyOfRange.data.toList.drop 24 = dktJ22_copyOfRange_1 := dk_seg dksJ22_copyOfRange_0 24 rfl rfl
theorem dJ22_copyOfRange_0 : decode cJ22_copyOfRange 0 = .ok (.iload_n 1, 1) := dk_27 (dk_at dksJ22_copyOfRange_0 0 rfl rfl)
theorem dJ22_copyOfRange_1 : decode cJ22_copyOfRange 1 = .ok (.ifCond .ne 9, 3) := dk_154 0 9 (dk_at dksJ22_copyOfRange_0 1 rfl rfl)
theorem dJ22_copyOfRange_4 : decode cJ22_copyOfRange 4 = .ok (.iload_n 2, 1) := dk_28 (dk_at dksJ22_copyOfRange_0 4 rfl rfl)
theorem dJ22_copyOfRange_5 : decode cJ22_copyOfRange 5 = .ok (.aload_n 0, 1) := dk_42 (dk_at dksJ22_copyOfRange_0 5 rfl rfl)
theorem dJ22_copyOfRange_6 : decode cJ22_copyOfRange 6 = .ok (.arraylength, 1) := dk_190 (dk_at dksJ22_copyOfRange_0 6 rfl rfl)
theorem dJ22_copyOfRange_7 : decode cJ22_copyOfRange 7 = .ok (.if_icmp .eq 10, 3) := dk_159 0 10 (dk_at dksJ22_copyOfRange_0 7 rfl rfl)
theorem dJ22_copyOfRange_10 : decode cJ22_copyOfRange 10 = .ok (.aload_n 0, 1) := dk_42 (dk_at dksJ22_copyOfRange_0 10 rfl rfl)
theorem dJ22_copyOfRange_11 : decode cJ22_copyOfRange 11 = .ok (.iload_n 1, 1) := dk_27 (dk_at dksJ22_copyOfRange_0 11 rfl rfl)
theorem dJ22_copyOfRange_12 : decode cJ22_copyOfRange 12 = .ok (.iload_n 2, 1) := dk_28 (dk_at dksJ22_copyOfRange_0 12 rfl rfl)
theorem dJ22_copyOfRange_13 : decode cJ22_copyOfRange 13 = .ok (.invokestatic 339, 3) := dk_184 1 83 (dk_at dksJ22_copyOfRange_0 13 rfl rfl)
theorem dJ22_copyOfRange_16 : decode cJ22_copyOfRange 16 = .ok (.areturn, 1) := dk_176 (dk_at dksJ22_copyOfRange_0 16 rfl rfl)
theorem dJ22_copyOfRange_17 : decode cJ22_copyOfRange 17 = .ok (.aload_n 0, 1) := dk_42 (dk_at dksJ22_copyOfRange_0 17 rfl rfl)
theorem dJ22_copyOfRange_18 : decode cJ22_copyOfRange 18 = .ok (.invokevirtual 310, 3) := dk_182 1 54 (dk_at dksJ22_copyOfRange_0 18 rfl rfl)
theorem dJ22_copyOfRange_21 : decode cJ22_copyOfRange 21 = .ok (.checkcast 311, 3) := dk_192 1 55 (dk_at dksJ22_copyOfRange_0 21 rfl rfl)
theorem dJ22_copyOfRange_24 : decode cJ22_copyOfRange 24 = .ok (.areturn, 1) := dk_176 (dk_at dksJ22_copyOfRange_1 0 rfl rfl)
abbrev cJ22_copyOfRangeByte : ByteArray := prog_66_method_133_code
def yJ22_copyOfRangeByte : MethodName := ⟨RJ22, "copyOfRangeByte", "([BII)[B"⟩
def dkwJ22_copyOfRangeByte_1 : List UInt8 := [184, 1, 48, 184, 0, 150, 25, 4, 176]
abbrev dktJ22_copyOfRangeByte_1 : List UInt8 := dkwJ22_copyOfRangeByte_1 ++ []
def dkwJ22_copyOfRangeByte_0 : List UInt8 := [27, 28, 184, 1, 87, 28, 27, 100, 62, 29, 188, 8, 58, 4, 42, 27, 25, 4, 3, 42, 190, 27, 100, 29]
abbrev dktJ22_copyOfRangeByte_0 : List UInt8 := dkwJ22_copyOfRangeByte_0 ++ dktJ22_copyOfRangeByte_1
theorem dksJ22_copyOfRangeByte_0 : cJ22_copyOfRangeByte.data.toList.drop 0 = dktJ22_copyOfRangeByte_0 := by decide +kernel
theorem dksJ22_copyOfRangeByte_1 : cJ22_copyOfRangeByte.data.toList.drop 24 = dktJ22_copyOfRangeByte_1 := dk_seg dksJ22_copyOfRangeByte_0 24 rfl rfl
theorem dJ22_copyOfRangeByte_0 : decode cJ22_copyOfRangeByte 0 = .ok (.iload_n 1, 1) := dk_27 (dk_at dksJ22_copyOfRangeByte_0 0 rfl rfl)
theorem dJ22_copyOfRangeByte_1 : decode cJ22_copyOfRangeByte 1 = .ok (.iload_n 2, 1) := dk_28 (dk_at dksJ22_copyOfRangeByte_0 1 rfl rfl)
theorem dJ22_copyOfRangeByte_2 : decode cJ22_copyOfRangeByte 2 = .ok (.invokestatic 343, 3) := dk_184 1 87 (dk_at dksJ22_copyOfRangeByte_0 2 rfl rfl)
theorem dJ22_copyOfRangeByte_5 : decode cJ22_copyOfRangeByte 5 = .ok (.iload_n 2, 1) := dk_28 (dk_at dksJ22_copyOfRangeByte_0 5 rfl rfl)
theorem dJ22_copyOfRangeByte_6 : decode cJ22_copyOfRangeByte 6 = .ok (.iload_n 1, 1) := dk_27 (dk_at dksJ22_copyOfRangeByte_0 6 rfl rfl)
theorem dJ22_copyOfRangeByte_7 : decode cJ22_copyOfRangeByte 7 = .ok (.isub, 1) := dk_100 (dk_at dksJ22_copyOfRangeByte_0 7 rfl rfl)
theorem dJ22_copyOfRangeByte_8 : decode cJ22_copyOfRangeByte 8 = .ok (.istore_n 3, 1) := dk_62 (dk_at dksJ22_copyOfRangeByte_0 8 rfl rfl)
theorem dJ22_copyOfRangeByte_9 : decode cJ22_copyOfRangeByte 9 = .ok (.iload_n 3, 1) := dk_29 (dk_at dksJ22_copyOfRangeByte_0 9 rfl rfl)
theorem dJ22_copyOfRangeByte_10 : decode cJ22_copyOfRangeByte 10 = .ok (.newarray .byte, 2) := dk_188_8 (dk_at dksJ22_copyOfRangeByte_0 10 rfl rfl)
theorem dJ22_copyOfRangeByte_12 : decode cJ22_copyOfRangeByte 12 = .ok (.astore 4, 2) := dk_58 4 (dk_at dksJ22_copyOfRangeByte_0 12 rfl rfl)
theorem dJ22_copyOfRangeByte_14 : decode cJ22_copyOfRangeByte 14 = .ok (.aload_n 0, 1) := dk_42 (dk_at dksJ22_copyOfRangeByte_0 14 rfl rfl)
theorem dJ22_copyOfRangeByte_15 : decode cJ22_copyOfRangeByte 15 = .ok (.iload_n 1, 1) := dk_27 (dk_at dksJ22_copyOfRangeByte_0 15 rfl rfl)
theorem dJ22_copyOfRangeByte_16 : decode cJ22_copyOfRangeByte 16 = .ok (.aload 4, 2) := dk_25 4 (dk_at dksJ22_copyOfRangeByte_0 16 rfl rfl)
theorem dJ22_copyOfRangeByte_18 : decode cJ22_copyOfRangeByte 18 = .ok (.iconst 0, 1) := dk_3 (dk_at dksJ22_copyOfRangeByte_0 18 rfl rfl)
theorem dJ22_copyOfRangeByte_19 : decode cJ22_copyOfRangeByte 19 = .ok (.aload_n 0, 1) := dk_42 (dk_at dksJ22_copyOfRangeByte_0 19 rfl rfl)
theorem dJ22_copyOfRangeByte_20 : decode cJ22_copyOfRangeByte 20 = .ok (.arraylength, 1) := dk_190 (dk_at dksJ22_copyOfRangeByte_0 20 rfl rfl)
theorem dJ22_copyOfRangeByte_21 : decode cJ22_copyOfRangeByte 21 = .ok (.iload_n 1, 1) := dk_27 (dk_at dksJ22_copyOfRangeByte_0 21 rfl rfl)
theorem dJ22_copyOfRangeByte_22 : decode cJ22_copyOfRangeByte 22 = .ok (.isub, 1) := dk_100 (dk_at dksJ22_copyOfRangeByte_0 22 rfl rfl)
theorem dJ22_copyOfRangeByte_23 : decode cJ22_copyOfRangeByte 23 = .ok (.iload_n 3, 1) := dk_29 (dk_at dksJ22_copyOfRangeByte_0 23 rfl rfl)
theorem dJ22_copyOfRangeByte_24 : decode cJ22_copyOfRangeByte 24 = .ok (.invokestatic 304, 3) := dk_184 1 48 (dk_at dksJ22_copyOfRangeByte_1 0 rfl rfl)
theorem dJ22_copyOfRangeByte_27 : decode cJ22_copyOfRangeByte 27 = .ok (.invokestatic 150, 3) := dk_184 0 150 (dk_at dksJ22_copyOfRangeByte_1 3 rfl rfl)
theorem dJ22_copyOfRangeByte_30 : decode cJ22_copyOfRangeByte 30 = .ok (.aload 4, 2) := dk_25 4 (dk_at dksJ22_copyOfRangeByte_1 6 rfl rfl)
theorem dJ22_copyOfRangeByte_32 : decode cJ22_copyOfRangeByte 32 = .ok (.areturn, 1) := dk_176 (dk_at dksJ22_copyOfRangeByte_1 8 rfl rfl)
abbrev cJ22_checkLength : ByteArray := prog_66_method_131_code
def yJ22_checkLength : MethodName := ⟨RJ22, "checkLength", "(II)V"⟩
def dkwJ22_checkLength_1 : List UInt8 := [182, 0, 50, 27, 182, 0, 54, 182, 0, 61, 183, 0, 65, 191, 177]
abbrev dktJ22_checkLength_1 : List UInt8 := dkwJ22_checkLength_1 ++ []
def dkwJ22_checkLength_0 : List UInt8 := [27, 26, 162, 0, 35, 187, 0, 43, 89, 187, 0, 45, 89, 183, 0, 47, 26, 182, 0, 54, 19, 1, 81]
abbrev dktJ22_checkLength_0 : List UInt8 := dkwJ22_checkLength_0 ++ dktJ22_checkLength_1
theorem dksJ22_checkLength_0 : cJ22_checkLength.data.toList.drop 0 = dktJ22_checkLength_0 := by decide +kernel
theorem dksJ22_checkLength_1 : cJ22_checkLength.data.toList.drop 23 = dktJ22_checkLength_1 := dk_seg dksJ22_checkLength_0 23 rfl rfl
theorem dJ22_checkLength_0 : decode cJ22_checkLength 0 = .ok (.iload_n 1, 1) := dk_27 (dk_at dksJ22_checkLength_0 0 rfl rfl)
theorem dJ22_checkLength_1 : decode cJ22_checkLength 1 = .ok (.iload_n 0, 1) := dk_26 (dk_at dksJ22_checkLength_0 1 rfl rfl)
theorem dJ22_checkLength_2 : decode cJ22_checkLength 2 = .ok (.if_icmp .ge 35, 3) := dk_162 0 35 (dk_at dksJ22_checkLength_0 2 rfl rfl)
theorem dJ22_checkLength_5 : decode cJ22_checkLength 5 = .ok (.new 43, 3) := dk_187 0 43 (dk_at dksJ22_checkLength_0 5 rfl rfl)
theorem dJ22_checkLength_8 : decode cJ22_checkLength 8 = .ok (.dup, 1) := dk_89 (dk_at dksJ22_checkLength_0 8 rfl rfl)
theorem dJ22_checkLength_9 : decode cJ22_checkLength 9 = .ok (.new 45, 3) := dk_187 0 45 (dk_at dksJ22_checkLength_0 9 rfl rfl)
theorem dJ22_checkLength_12 : decode cJ22_checkLength 12 = .ok (.dup, 1) := dk_89 (dk_at dksJ22_checkLength_0 12 rfl rfl)
theorem dJ22_checkLength_13 : decode cJ22_checkLength 13 = .ok (.invokespecial 47, 3) := dk_183 0 47 (dk_at dksJ22_checkLength_0 13 rfl rfl)
theorem dJ22_checkLength_16 : decode cJ22_checkLength 16 = .ok (.iload_n 0, 1) := dk_26 (dk_at dksJ22_checkLength_0 16 rfl rfl)
theorem dJ22_checkLength_17 : decode cJ22_checkLength 17 = .ok (.invokevirtual 54, 3) := dk_182 0 54 (dk_at dksJ22_checkLength_0 17 rfl rfl)
theorem dJ22_checkLength_20 : decode cJ22_checkLength 20 = .ok (.ldc_w 337, 3) := dk_19 1 81 (dk_at dksJ22_checkLength_0 20 rfl rfl)
theorem dJ22_checkLength_23 : decode cJ22_checkLength 23 = .ok (.invokevirtual 50, 3) := dk_182 0 50 (dk_at dksJ22_checkLength_1 0 rfl rfl)
theorem dJ22_checkLength_26 : decode cJ22_checkLength 26 = .ok (.iload_n 1, 1) := dk_27 (dk_at dksJ22_checkLength_1 3 rfl rfl)
theorem dJ22_checkLength_27 : decode cJ22_checkLength 27 = .ok (.invokevirtual 54, 3) := dk_182 0 54 (dk_at dksJ22_checkLength_1 4 rfl rfl)
theorem dJ22_checkLength_30 : decode cJ22_checkLength 30 = .ok (.invokevirtual 61, 3) := dk_182 0 61 (dk_at dksJ22_checkLength_1 7 rfl rfl)
theorem dJ22_checkLength_33 : decode cJ22_checkLength 33 = .ok (.invokespecial 65, 3) := dk_183 0 65 (dk_at dksJ22_checkLength_1 10 rfl rfl)
theorem dJ22_checkLength_36 : decode cJ22_checkLength 36 = .ok (.athrow, 1) := dk_191 (dk_at dksJ22_checkLength_1 13 rfl rfl)
theorem dJ22_checkLength_37 : decode cJ22_checkLength 37 = .ok (.return_, 1) := dk_177 (dk_at dksJ22_checkLength_1 14 rfl rfl)
abbrev cJ22_fill : ByteArray := prog_66_method_103_code
def yJ22_fill : MethodName := ⟨RJ22, "fill", "([II)V"⟩
def dkwJ22_fill_0 : List UInt8 := [3, 61, 42, 190, 62, 28, 29, 162, 0, 13, 42, 28, 27, 79, 132, 2, 1, 167, 255, 244, 177]
abbrev dktJ22_fill_0 : List UInt8 := dkwJ22_fill_0 ++ []
theorem dksJ22_fill_0 : cJ22_fill.data.toList.drop 0 = dktJ22_fill_0 := by decide +kernel
theorem dJ22_fill_0 : decode cJ22_fill 0 = .ok (.iconst 0, 1) := dk_3 (dk_at dksJ22_fill_0 0 rfl rfl)
theorem dJ22_fill_1 : decode cJ22_fill 1 = .ok (.istore_n 2, 1) := dk_61 (dk_at dksJ22_fill_0 1 rfl rfl)
theorem dJ22_fill_2 : decode cJ22_fill 2 = .ok (.aload_n 0, 1) := dk_42 (dk_at dksJ22_fill_0 2 rfl rfl)
theorem dJ22_fill_3 : decode cJ22_fill 3 = .ok (.arraylength, 1) := dk_190 (dk_at dksJ22_fill_0 3 rfl rfl)
theorem dJ22_fill_4 : decode cJ22_fill 4 = .ok (.istore_n 3, 1) := dk_62 (dk_at dksJ22_fill_0 4 rfl rfl)
theorem dJ22_fill_5 : decode cJ22_fill 5 = .ok (.iload_n 2, 1) := dk_28 (dk_at dksJ22_fill_0 5 rfl rfl)
theorem dJ22_fill_6 : decode cJ22_fill 6 = .ok (.iload_n 3, 1) := dk_29 (dk_at dksJ22_fill_0 6 rfl rfl)
theorem dJ22_fill_7 : decode cJ22_fill 7 = .ok (.if_icmp .ge 13, 3) := dk_162 0 13 (dk_at dksJ22_fill_0 7 rfl rfl)
theorem dJ22_fill_10 : decode cJ22_fill 10 = .ok (.aload_n 0, 1) := dk_42 (dk_at dksJ22_fill_0 10 rfl rfl)
theorem dJ22_fill_11 : decode cJ22_fill 11 = .ok (.iload_n 2, 1) := dk_28 (dk_at dksJ22_fill_0 11 rfl rfl)
theorem dJ22_fill_12 : decode cJ22_fill 12 = .ok (.iload_n 1, 1) := dk_27 (dk_at dksJ22_fill_0 12 rfl rfl)
theorem dJ22_fill_13 : decode cJ22_fill 13 = .ok (.iastore, 1) := dk_79 (dk_at dksJ22_fill_0 13 rfl rfl)
theorem dJ22_fill_14 : decode cJ22_fill 14 = .ok (.iinc 2 1, 3) := dk_132 2 1 (dk_at dksJ22_fill_0 14 rfl rfl)
theorem dJ22_fill_17 : decode cJ22_fill 17 = .ok (.goto (-12), 3) := dk_167 255 244 (dk_at dksJ22_fill_0 17 rfl rfl)
theorem dJ22_fill_20 : decode cJ22_fill 20 = .ok (.return_, 1) := dk_177 (dk_at dksJ22_fill_0 20 rfl rfl)
abbrev cJ22_copyOf_4 : ByteArray := prog_66_method_124_code
def yJ22_copyOf_4 : MethodName := ⟨RJ22, "copyOf", "([JI)[J"⟩
def dkwJ22_copyOf_4_1 : List UInt8 := [27, 184, 1, 48, 184, 0, 150, 44, 176]
abbrev dktJ22_copyOf_4_1 : List UInt8 := dkwJ22_copyOf_4_1 ++ []
def dkwJ22_copyOf_4_0 : List UInt8 := [27, 42, 190, 160, 0, 11, 42, 182, 1, 63, 192, 1, 64, 176, 27, 188, 11, 77, 42, 3, 44, 3, 42, 190]
abbrev dktJ22_copyOf_4_0 : List UInt8 := dkwJ22_copyOf_4_0 ++ dktJ22_copyOf_4_1
theorem dksJ22_copyOf_4_0 : cJ22_copyOf_4.data.toList.drop 0 = dktJ22_copyOf_4_0 := by decide +kernel
theorem dksJ22_copyOf_4_1 : cJ22_copyOf_4.data.toList.drop 24 = dktJ22_copyOf_4_1 := dk_seg dksJ22_copyOf_4_0 24 rfl rfl
theorem dJ22_copyOf_4_0 : decode cJ22_copyOf_4 0 = .ok (.iload_n 1, 1) := dk_27 (dk_at dksJ22_copyOf_4_0 0 rfl rfl)
theorem dJ22_copyOf_4_1 : decode cJ22_copyOf_4 1 = .ok (.aload_n 0, 1) := dk_42 (dk_at dksJ22_copyOf_4_0 1 rfl rfl)
theorem dJ22_copyOf_4_2 : decode cJ22_copyOf_4 2 = .ok (.arraylength, 1) := dk_190 (dk_at dksJ22_copyOf_4_0 2 rfl rfl)
theorem dJ22_copyOf_4_3 : decode cJ22_copyOf_4 3 = .ok (.if_icmp .ne 11, 3) := dk_160 0 11 (dk_at dksJ22_copyOf_4_0 3 rfl rfl)
theorem dJ22_copyOf_4_6 : decode cJ22_copyOf_4 6 = .ok (.aload_n 0, 1) := dk_42 (dk_at dksJ22_copyOf_4_0 6 rfl rfl)
theorem dJ22_copyOf_4_7 : decode cJ22_copyOf_4 7 = .ok (.invokevirtual 319, 3) := dk_182 1 63 (dk_at dksJ22_copyOf_4_0 7 rfl rfl)
theorem dJ22_copyOf_4_10 : decode cJ22_copyOf_4 10 = .ok (.checkcast 320, 3) := dk_192 1 64 (dk_at dksJ22_copyOf_4_0 10 rfl rfl)
theorem dJ22_copyOf_4_13 : decode cJ22_copyOf_4 13 = .ok (.areturn, 1) := dk_176 (dk_at dksJ22_copyOf_4_0 13 rfl rfl)
theorem dJ22_copyOf_4_14 : decode cJ22_copyOf_4 14 = .ok (.iload_n 1, 1) := dk_27 (dk_at dksJ22_copyOf_4_0 14 rfl rfl)
theorem dJ22_copyOf_4_15 : decode cJ22_copyOf_4 15 = .ok (.newarray .long, 2) := dk_188_11 (dk_at dksJ22_copyOf_4_0 15 rfl rfl)
theorem dJ22_copyOf_4_17 : decode cJ22_copyOf_4 17 = .ok (.astore_n 2, 1) := dk_77 (dk_at dksJ22_copyOf_4_0 17 rfl rfl)
theorem dJ22_copyOf_4_18 : decode cJ22_copyOf_4 18 = .ok (.aload_n 0, 1) := dk_42 (dk_at dksJ22_copyOf_4_0 18 rfl rfl)
theorem dJ22_copyOf_4_19 : decode cJ22_copyOf_4 19 = .ok (.iconst 0, 1) := dk_3 (dk_at dksJ22_copyOf_4_0 19 rfl rfl)
theorem dJ22_copyOf_4_20 : decode cJ22_copyOf_4 20 = .ok (.aload_n 2, 1) := dk_44 (dk_at dksJ22_copyOf_4_0 20 rfl rfl)
theorem dJ22_copyOf_4_21 : decode cJ22_copyOf_4 21 = .ok (.iconst 0, 1) := dk_3 (dk_at dksJ22_copyOf_4_0 21 rfl rfl)
theorem dJ22_copyOf_4_22 : decode cJ22_copyOf_4 22 = .ok (.aload_n 0, 1) := dk_42 (dk_at dksJ22_copyOf_4_0 22 rfl rfl)
theorem dJ22_copyOf_4_23 : decode cJ22_copyOf_4 23 = .ok (.arraylength, 1) := dk_190 (dk_at dksJ22_copyOf_4_0 23 rfl rfl)
theorem dJ22_copyOf_4_24 : decode cJ22_copyOf_4 24 = .ok (.iload_n 1, 1) := dk_27 (dk_at dksJ22_copyOf_4_1 0 rfl rfl)
theorem dJ22_copyOf_4_25 : decode cJ22_copyOf_4 25 = .ok (.invokestatic 304, 3) := dk_184 1 48 (dk_at dksJ22_copyOf_4_1 1 rfl rfl)
theorem dJ22_copyOf_4_28 : decode cJ22_copyOf_4 28 = .ok (.invokestatic 150, 3) := dk_184 0 150 (dk_at dksJ22_copyOf_4_1 4 rfl rfl)
theorem dJ22_copyOf_4_31 : decode cJ22_copyOf_4 31 = .ok (.aload_n 2, 1) := dk_44 (dk_at dksJ22_copyOf_4_1 7 rfl rfl)
theorem dJ22_copyOf_4_32 : decode cJ22_copyOf_4 32 = .ok (.areturn, 1) := dk_176 (dk_at dksJ22_copyOf_4_1 8 rfl rfl)
abbrev cJ22_copyOfRange_2 : ByteArray := prog_66_method_130_code
def yJ22_copyOfRange_2 : MethodName := ⟨RJ22, "copyOfRange", "([Ljava/lang/Object;IILjava/lang/Class;)[Ljava/lang/Object;"⟩
def dkwJ22_copyOfRange_2_3 : List UInt8 := [58, 5, 42, 27, 25, 5, 3, 42, 190, 27, 100, 21, 4, 184, 1, 48, 184, 0, 150, 25, 5, 176]
abbrev dktJ22_copyOfRange_2_3 : List UInt8 := dkwJ22_copyOfRange_2_3 ++ []
def dkwJ22_copyOfRange_2_2 : List UInt8 := [166, 0, 11, 21, 4, 189, 0, 2, 167, 0, 15, 45, 182, 0, 90, 21, 4, 184, 0, 95, 192, 0, 110]
abbrev dktJ22_copyOfRange_2_2 : List UInt8 := dkwJ22_copyOfRange_2_2 ++ dktJ22_copyOfRange_2_3
def dkwJ22_copyOfRange_2_1 : List UInt8 := [182, 0, 54, 19, 1, 81, 182, 0, 50, 28, 182, 0, 54, 182, 0, 61, 183, 0, 65, 191, 45, 18, 110]
abbrev dktJ22_copyOfRange_2_1 : List UInt8 := dkwJ22_copyOfRange_2_1 ++ dktJ22_copyOfRange_2_2
def dkwJ22_copyOfRange_2_0 : List UInt8 := [28, 27, 100, 54, 4, 21, 4, 156, 0, 35, 187, 0, 43, 89, 187, 0, 45, 89, 183, 0, 47, 27]
abbrev dktJ22_copyOfRange_2_0 : List UInt8 := dkwJ22_copyOfRange_2_0 ++ dktJ22_copyOfRange_2_1
theorem dksJ22_copyOfRange_2_0 : cJ22_copyOfRange_2.data.toList.drop 0 = dktJ22_copyOfRange_2_0 := by decide +kernel
theorem dksJ22_copyOfRange_2_1 : cJ22_copyOfRange_2.data.toList.drop 22 = dktJ22_copyOfRange_2_1 := dk_seg dksJ22_copyOfRange_2_0 22 rfl rfl
theorem dksJ22_copyOfRange_2_2 : cJ22_copyOfRange_2.data.toList.drop 45 = dktJ22_copyOfRange_2_2 := dk_seg dksJ22_copyOfRange_2_1 23 rfl rfl
theorem dksJ22_copyOfRange_2_3 : cJ22_copyOfRange_2.data.toList.drop 68 = dktJ22_copyOfRange_2_3 := dk_seg dksJ22_copyOfRange_2_2 23 rfl rfl
theorem dJ22_copyOfRange_2_0 : decode cJ22_copyOfRange_2 0 = .ok (.iload_n 2, 1) := dk_28 (dk_at dksJ22_copyOfRange_2_0 0 rfl rfl)
theorem dJ22_copyOfRange_2_1 : decode cJ22_copyOfRange_2 1 = .ok (.iload_n 1, 1) := dk_27 (dk_at dksJ22_copyOfRange_2_0 1 rfl rfl)
theorem dJ22_copyOfRange_2_2 : decode cJ22_copyOfRange_2 2 = .ok (.isub, 1) := dk_100 (dk_at dksJ22_copyOfRange_2_0 2 rfl rfl)
theorem dJ22_copyOfRange_2_3 : decode cJ22_copyOfRange_2 3 = .ok (.istore 4, 2) := dk_54 4 (dk_at dksJ22_copyOfRange_2_0 3 rfl rfl)
theorem dJ22_copyOfRange_2_5 : decode cJ22_copyOfRange_2 5 = .ok (.iload 4, 2) := dk_21 4 (dk_at dksJ22_copyOfRange_2_0 5 rfl rfl)
theorem dJ22_copyOfRange_2_7 : decode cJ22_copyOfRange_2 7 = .ok (.ifCond .ge 35, 3) := dk_156 0 35 (dk_at dksJ22_copyOfRange_2_0 7 rfl rfl)
theorem dJ22_copyOfRange_2_10 : decode cJ22_copyOfRange_2 10 = .ok (.new 43, 3) := dk_187 0 43 (dk_at dksJ22_copyOfRange_2_0 10 rfl rfl)
theorem dJ22_copyOfRange_2_13 : decode cJ22_copyOfRange_2 13 = .ok (.dup, 1) := dk_89 (dk_at dksJ22_copyOfRange_2_0 13 rfl rfl)
theorem dJ22_copyOfRange_2_14 : decode cJ22_copyOfRange_2 14 = .ok (.new 45, 3) := dk_187 0 45 (dk_at dksJ22_copyOfRange_2_0 14 rfl rfl)
theorem dJ22_copyOfRange_2_17 : decode cJ22_copyOfRange_2 17 = .ok (.dup, 1) := dk_89 (dk_at dksJ22_copyOfRange_2_0 17 rfl rfl)
theorem dJ22_copyOfRange_2_18 : decode cJ22_copyOfRange_2 18 = .ok (.invokespecial 47, 3) := dk_183 0 47 (dk_at dksJ22_copyOfRange_2_0 18 rfl rfl)
theorem dJ22_copyOfRange_2_21 : decode cJ22_copyOfRange_2 21 = .ok (.iload_n 1, 1) := dk_27 (dk_at dksJ22_copyOfRange_2_0 21 rfl rfl)
theorem dJ22_copyOfRange_2_22 : decode cJ22_copyOfRange_2 22 = .ok (.invokevirtual 54, 3) := dk_182 0 54 (dk_at dksJ22_copyOfRange_2_1 0 rfl rfl)
theorem dJ22_copyOfRange_2_25 : decode cJ22_copyOfRange_2 25 = .ok (.ldc_w 337, 3) := dk_19 1 81 (dk_at dksJ22_copyOfRange_2_1 3 rfl rfl)
theorem dJ22_copyOfRange_2_28 : decode cJ22_copyOfRange_2 28 = .ok (.invokevirtual 50, 3) := dk_182 0 50 (dk_at dksJ22_copyOfRange_2_1 6 rfl rfl)
theorem dJ22_copyOfRange_2_31 : decode cJ22_copyOfRange_2 31 = .ok (.iload_n 2, 1) := dk_28 (dk_at dksJ22_copyOfRange_2_1 9 rfl rfl)
theorem dJ22_copyOfRange_2_32 : decode cJ22_copyOfRange_2 32 = .ok (.invokevirtual 54, 3) := dk_182 0 54 (dk_at dksJ22_copyOfRange_2_1 10 rfl rfl)
theorem dJ22_copyOfRange_2_35 : decode cJ22_copyOfRange_2 35 = .ok (.invokevirtual 61, 3) := dk_182 0 61 (dk_at dksJ22_copyOfRange_2_1 13 rfl rfl)
theorem dJ22_copyOfRange_2_38 : decode cJ22_copyOfRange_2 38 = .ok (.invokespecial 65, 3) := dk_183 0 65 (dk_at dksJ22_copyOfRange_2_1 16 rfl rfl)
theorem dJ22_copyOfRange_2_41 : decode cJ22_copyOfRange_2 41 = .ok (.athrow, 1) := dk_191 (dk_at dksJ22_copyOfRange_2_1 19 rfl rfl)
theorem dJ22_copyOfRange_2_42 : decode cJ22_copyOfRange_2 42 = .ok (.aload_n 3, 1) := dk_45 (dk_at dksJ22_copyOfRange_2_1 20 rfl rfl)
theorem dJ22_copyOfRange_2_43 : decode cJ22_copyOfRange_2 43 = .ok (.ldc 110, 2) := dk_18 110 (dk_at dksJ22_copyOfRange_2_1 21 rfl rfl)
theorem dJ22_copyOfRange_2_45 : decode cJ22_copyOfRange_2 45 = .ok (.if_acmp .ne 11, 3) := dk_166 0 11 (dk_at dksJ22_copyOfRange_2_2 0 rfl rfl)
theorem dJ22_copyOfRange_2_48 : decode cJ22_copyOfRange_2 48 = .ok (.iload 4, 2) := dk_21 4 (dk_at dksJ22_copyOfRange_2_2 3 rfl rfl)
theorem dJ22_copyOfRange_2_50 : decode cJ22_copyOfRange_2 50 = .ok (.anewarray 2, 3) := dk_189 0 2 (dk_at dksJ22_copyOfRange_2_2 5 rfl rfl)
theorem dJ22_copyOfRange_2_53 : decode cJ22_copyOfRange_2 53 = .ok (.goto 15, 3) := dk_167 0 15 (dk_at dksJ22_copyOfRange_2_2 8 rfl rfl)
theorem dJ22_copyOfRange_2_56 : decode cJ22_copyOfRange_2 56 = .ok (.aload_n 3, 1) := dk_45 (dk_at dksJ22_copyOfRange_2_2 11 rfl rfl)
theorem dJ22_copyOfRange_2_57 : decode cJ22_copyOfRange_2 57 = .ok (.invokevirtual 90, 3) := dk_182 0 90 (dk_at dksJ22_copyOfRange_2_2 12 rfl rfl)
theorem dJ22_copyOfRange_2_60 : decode cJ22_copyOfRange_2 60 = .ok (.iload 4, 2) := dk_21 4 (dk_at dksJ22_copyOfRange_2_2 15 rfl rfl)
theorem dJ22_copyOfRange_2_62 : decode cJ22_copyOfRange_2 62 = .ok (.invokestatic 95, 3) := dk_184 0 95 (dk_at dksJ22_copyOfRange_2_2 17 rfl rfl)
theorem dJ22_copyOfRange_2_65 : decode cJ22_copyOfRange_2 65 = .ok (.checkcast 110, 3) := dk_192 0 110 (dk_at dksJ22_copyOfRange_2_2 20 rfl rfl)
theorem dJ22_copyOfRange_2_68 : decode cJ22_copyOfRange_2 68 = .ok (.astore 5, 2) := dk_58 5 (dk_at dksJ22_copyOfRange_2_3 0 rfl rfl)
theorem dJ22_copyOfRange_2_70 : decode cJ22_copyOfRange_2 70 = .ok (.aload_n 0, 1) := dk_42 (dk_at dksJ22_copyOfRange_2_3 2 rfl rfl)
theorem dJ22_copyOfRange_2_71 : decode cJ22_copyOfRange_2 71 = .ok (.iload_n 1, 1) := dk_27 (dk_at dksJ22_copyOfRange_2_3 3 rfl rfl)
theorem dJ22_copyOfRange_2_72 : decode cJ22_copyOfRange_2 72 = .ok (.aload 5, 2) := dk_25 5 (dk_at dksJ22_copyOfRange_2_3 4 rfl rfl)
theorem dJ22_copyOfRange_2_74 : decode cJ22_copyOfRange_2 74 = .ok (.iconst 0, 1) := dk_3 (dk_at dksJ22_copyOfRange_2_3 6 rfl rfl)
theorem dJ22_copyOfRange_2_75 : decode cJ22_copyOfRange_2 75 = .ok (.aload_n 0, 1) := dk_42 (dk_at dksJ22_copyOfRange_2_3 7 rfl rfl)
theorem dJ22_copyOfRange_2_76 : decode cJ22_copyOfRange_2 76 = .ok (.arraylength, 1) := dk_190 (dk_at dksJ22_copyOfRange_2_3 8 rfl rfl)
theorem dJ22_copyOfRange_2_77 : decode cJ22_copyOfRange_2 77 = .ok (.iload_n 1, 1) := dk_27 (dk_at dksJ22_copyOfRange_2_3 9 rfl rfl)
theorem dJ22_copyOfRange_2_78 : decode cJ22_copyOfRange_2 78 = .ok (.isub, 1) := dk_100 (dk_at dksJ22_copyOfRange_2_3 10 rfl rfl)
theorem dJ22_copyOfRange_2_79 : decode cJ22_copyOfRange_2 79 = .ok (.iload 4, 2) := dk_21 4 (dk_at dksJ22_copyOfRange_2_3 11 rfl rfl)
theorem dJ22_copyOfRange_2_81 : decode cJ22_copyOfRange_2 81 = .ok (.invokestatic 304, 3) := dk_184 1 48 (dk_at dksJ22_copyOfRange_2_3 13 rfl rfl)
theorem dJ22_copyOfRange_2_84 : decode cJ22_copyOfRange_2 84 = .ok (.invokestatic 150, 3) := dk_184 0 150 (dk_at dksJ22_copyOfRange_2_3 16 rfl rfl)
theorem dJ22_copyOfRange_2_87 : decode cJ22_copyOfRange_2 87 = .ok (.aload 5, 2) := dk_25 5 (dk_at dksJ22_copyOfRange_2_3 19 rfl rfl)
theorem dJ22_copyOfRange_2_89 : decode cJ22_copyOfRange_2 89 = .ok (.areturn, 1) := dk_176 (dk_at dksJ22_copyOfRange_2_3 21 rfl rfl)
abbrev cJ22_fill_2 : ByteArray := prog_66_method_118_code
def yJ22_fill_2 : MethodName := ⟨RJ22, "fill", "([Ljava/lang/Object;IILjava/lang/Object;)V"⟩
def dkwJ22_fill_2_1 : List UInt8 := [167, 255, 242, 177]
abbrev dktJ22_fill_2_1 : List UInt8 := dkwJ22_fill_2_1 ++ []
def dkwJ22_fill_2_0 : List UInt8 := [42, 190, 27, 28, 184, 0, 13, 27, 54, 4, 21, 4, 28, 162, 0, 14, 42, 21, 4, 45, 83, 132, 4, 1]
abbrev dktJ22_fill_2_0 : List UInt8 := dkwJ22_fill_2_0 ++ dktJ22_fill_2_1
theorem dksJ22_fill_2_0 : cJ22_fill_2.data.toList.drop 0 = dktJ22_fill_2_0 := by decide +kernel
theorem dksJ22_fill_2_1 : cJ22_fill_2.data.toList.drop 24 = dktJ22_fill_2_1 := dk_seg dksJ22_fill_2_0 24 rfl rfl
theorem dJ22_fill_2_0 : decode cJ22_fill_2 0 = .ok (.aload_n 0, 1) := dk_42 (dk_at dksJ22_fill_2_0 0 rfl rfl)
theorem dJ22_fill_2_1 : decode cJ22_fill_2 1 = .ok (.arraylength, 1) := dk_190 (dk_at dksJ22_fill_2_0 1 rfl rfl)
theorem dJ22_fill_2_2 : decode cJ22_fill_2 2 = .ok (.iload_n 1, 1) := dk_27 (dk_at dksJ22_fill_2_0 2 rfl rfl)
theorem dJ22_fill_2_3 : decode cJ22_fill_2 3 = .ok (.iload_n 2, 1) := dk_28 (dk_at dksJ22_fill_2_0 3 rfl rfl)
theorem dJ22_fill_2_4 : decode cJ22_fill_2 4 = .ok (.invokestatic 13, 3) := dk_184 0 13 (dk_at dksJ22_fill_2_0 4 rfl rfl)
theorem dJ22_fill_2_7 : decode cJ22_fill_2 7 = .ok (.iload_n 1, 1) := dk_27 (dk_at dksJ22_fill_2_0 7 rfl rfl)
theorem dJ22_fill_2_8 : decode cJ22_fill_2 8 = .ok (.istore 4, 2) := dk_54 4 (dk_at dksJ22_fill_2_0 8 rfl rfl)
theorem dJ22_fill_2_10 : decode cJ22_fill_2 10 = .ok (.iload 4, 2) := dk_21 4 (dk_at dksJ22_fill_2_0 10 rfl rfl)
theorem dJ22_fill_2_12 : decode cJ22_fill_2 12 = .ok (.iload_n 2, 1) := dk_28 (dk_at dksJ22_fill_2_0 12 rfl rfl)
theorem dJ22_fill_2_13 : decode cJ22_fill_2 13 = .ok (.if_icmp .ge 14, 3) := dk_162 0 14 (dk_at dksJ22_fill_2_0 13 rfl rfl)
theorem dJ22_fill_2_16 : decode cJ22_fill_2 16 = .ok (.aload_n 0, 1) := dk_42 (dk_at dksJ22_fill_2_0 16 rfl rfl)
theorem dJ22_fill_2_17 : decode cJ22_fill_2 17 = .ok (.iload 4, 2) := dk_21 4 (dk_at dksJ22_fill_2_0 17 rfl rfl)
theorem dJ22_fill_2_19 : decode cJ22_fill_2 19 = .ok (.aload_n 3, 1) := dk_45 (dk_at dksJ22_fill_2_0 19 rfl rfl)
theorem dJ22_fill_2_20 : decode cJ22_fill_2 20 = .ok (.aastore, 1) := dk_83 (dk_at dksJ22_fill_2_0 20 rfl rfl)
theorem dJ22_fill_2_21 : decode cJ22_fill_2 21 = .ok (.iinc 4 1, 3) := dk_132 4 1 (dk_at dksJ22_fill_2_0 21 rfl rfl)
theorem dJ22_fill_2_24 : decode cJ22_fill_2 24 = .ok (.goto (-14), 3) := dk_167 255 242 (dk_at dksJ22_fill_2_1 0 rfl rfl)
theorem dJ22_fill_2_27 : decode cJ22_fill_2 27 = .ok (.return_, 1) := dk_177 (dk_at dksJ22_fill_2_1 3 rfl rfl)
abbrev cJ22_rangeCheck : ByteArray := prog_66_method_30_code
def yJ22_rangeCheck : MethodName := ⟨RJ22, "rangeCheck", "(III)V"⟩
def dkwJ22_rangeCheck_3 : List UInt8 := [183, 0, 70, 191, 177]
abbrev dktJ22_rangeCheck_3 : List UInt8 := dkwJ22_rangeCheck_3 ++ []
def dkwJ22_rangeCheck_2 : List UInt8 := [27, 156, 0, 12, 187, 0, 68, 89, 27, 183, 0, 70, 191, 28, 26, 164, 0, 12, 187, 0, 68, 89, 28]
abbrev dktJ22_rangeCheck_2 : List UInt8 := dkwJ22_rangeCheck_2 ++ dktJ22_rangeCheck_3
def dkwJ22_rangeCheck_1 : List UInt8 := [182, 0, 54, 18, 57, 182, 0, 50, 28, 182, 0, 54, 18, 59, 182, 0, 50, 182, 0, 61, 183, 0, 65, 191]
abbrev dktJ22_rangeCheck_1 : List UInt8 := dkwJ22_rangeCheck_1 ++ dktJ22_rangeCheck_2
def dkwJ22_rangeCheck_0 : List UInt8 := [27, 28, 164, 0, 44, 187, 0, 43, 89, 187, 0, 45, 89, 183, 0, 47, 18, 48, 182, 0, 50, 27]
abbrev dktJ22_rangeCheck_0 : List UInt8 := dkwJ22_rangeCheck_0 ++ dktJ22_rangeCheck_1
theorem dksJ22_rangeCheck_0 : cJ22_rangeCheck.data.toList.drop 0 = dktJ22_rangeCheck_0 := by decide +kernel
theorem dksJ22_rangeCheck_1 : cJ22_rangeCheck.data.toList.drop 22 = dktJ22_rangeCheck_1 := dk_seg dksJ22_rangeCheck_0 22 rfl rfl
theorem dksJ22_rangeCheck_2 : cJ22_rangeCheck.data.toList.drop 46 = dktJ22_rangeCheck_2 := dk_seg dksJ22_rangeCheck_1 24 rfl rfl
theorem dksJ22_rangeCheck_3 : cJ22_rangeCheck.data.toList.drop 69 = dktJ22_rangeCheck_3 := dk_seg dksJ22_rangeCheck_2 23 rfl rfl
theorem dJ22_rangeCheck_0 : decode cJ22_rangeCheck 0 = .ok (.iload_n 1, 1) := dk_27 (dk_at dksJ22_rangeCheck_0 0 rfl rfl)
theorem dJ22_rangeCheck_1 : decode cJ22_rangeCheck 1 = .ok (.iload_n 2, 1) := dk_28 (dk_at dksJ22_rangeCheck_0 1 rfl rfl)
theorem dJ22_rangeCheck_2 : decode cJ22_rangeCheck 2 = .ok (.if_icmp .le 44, 3) := dk_164 0 44 (dk_at dksJ22_rangeCheck_0 2 rfl rfl)
theorem dJ22_rangeCheck_5 : decode cJ22_rangeCheck 5 = .ok (.new 43, 3) := dk_187 0 43 (dk_at dksJ22_rangeCheck_0 5 rfl rfl)
theorem dJ22_rangeCheck_8 : decode cJ22_rangeCheck 8 = .ok (.dup, 1) := dk_89 (dk_at dksJ22_rangeCheck_0 8 rfl rfl)
theorem dJ22_rangeCheck_9 : decode cJ22_rangeCheck 9 = .ok (.new 45, 3) := dk_187 0 45 (dk_at dksJ22_rangeCheck_0 9 rfl rfl)
theorem dJ22_rangeCheck_12 : decode cJ22_rangeCheck 12 = .ok (.dup, 1) := dk_89 (dk_at dksJ22_rangeCheck_0 12 rfl rfl)
theorem dJ22_rangeCheck_13 : decode cJ22_rangeCheck 13 = .ok (.invokespecial 47, 3) := dk_183 0 47 (dk_at dksJ22_rangeCheck_0 13 rfl rfl)
theorem dJ22_rangeCheck_16 : decode cJ22_rangeCheck 16 = .ok (.ldc 48, 2) := dk_18 48 (dk_at dksJ22_rangeCheck_0 16 rfl rfl)
theorem dJ22_rangeCheck_18 : decode cJ22_rangeCheck 18 = .ok (.invokevirtual 50, 3) := dk_182 0 50 (dk_at dksJ22_rangeCheck_0 18 rfl rfl)
theorem dJ22_rangeCheck_21 : decode cJ22_rangeCheck 21 = .ok (.iload_n 1, 1) := dk_27 (dk_at dksJ22_rangeCheck_0 21 rfl rfl)
theorem dJ22_rangeCheck_22 : decode cJ22_rangeCheck 22 = .ok (.invokevirtual 54, 3) := dk_182 0 54 (dk_at dksJ22_rangeCheck_1 0 rfl rfl)
theorem dJ22_rangeCheck_25 : decode cJ22_rangeCheck 25 = .ok (.ldc 57, 2) := dk_18 57 (dk_at dksJ22_rangeCheck_1 3 rfl rfl)
theorem dJ22_rangeCheck_27 : decode cJ22_rangeCheck 27 = .ok (.invokevirtual 50, 3) := dk_182 0 50 (dk_at dksJ22_rangeCheck_1 5 rfl rfl)
theorem dJ22_rangeCheck_30 : decode cJ22_rangeCheck 30 = .ok (.iload_n 2, 1) := dk_28 (dk_at dksJ22_rangeCheck_1 8 rfl rfl)
theorem dJ22_rangeCheck_31 : decode cJ22_rangeCheck 31 = .ok (.invokevirtual 54, 3) := dk_182 0 54 (dk_at dksJ22_rangeCheck_1 9 rfl rfl)
theorem dJ22_rangeCheck_34 : decode cJ22_rangeCheck 34 = .ok (.ldc 59, 2) := dk_18 59 (dk_at dksJ22_rangeCheck_1 12 rfl rfl)
theorem dJ22_rangeCheck_36 : decode cJ22_rangeCheck 36 = .ok (.invokevirtual 50, 3) := dk_182 0 50 (dk_at dksJ22_rangeCheck_1 14 rfl rfl)
theorem dJ22_rangeCheck_39 : decode cJ22_rangeCheck 39 = .ok (.invokevirtual 61, 3) := dk_182 0 61 (dk_at dksJ22_rangeCheck_1 17 rfl rfl)
theorem dJ22_rangeCheck_42 : decode cJ22_rangeCheck 42 = .ok (.invokespecial 65, 3) := dk_183 0 65 (dk_at dksJ22_rangeCheck_1 20 rfl rfl)
theorem dJ22_rangeCheck_45 : decode cJ22_rangeCheck 45 = .ok (.athrow, 1) := dk_191 (dk_at dksJ22_rangeCheck_1 23 rfl rfl)
theorem dJ22_rangeCheck_46 : decode cJ22_rangeCheck 46 = .ok (.iload_n 1, 1) := dk_27 (dk_at dksJ22_rangeCheck_2 0 rfl rfl)
theorem dJ22_rangeCheck_47 : decode cJ22_rangeCheck 47 = .ok (.ifCond .ge 12, 3) := dk_156 0 12 (dk_at dksJ22_rangeCheck_2 1 rfl rfl)
theorem dJ22_rangeCheck_50 : decode cJ22_rangeCheck 50 = .ok (.new 68, 3) := dk_187 0 68 (dk_at dksJ22_rangeCheck_2 4 rfl rfl)
theorem dJ22_rangeCheck_53 : decode cJ22_rangeCheck 53 = .ok (.dup, 1) := dk_89 (dk_at dksJ22_rangeCheck_2 7 rfl rfl)
theorem dJ22_rangeCheck_54 : decode cJ22_rangeCheck 54 = .ok (.iload_n 1, 1) := dk_27 (dk_at dksJ22_rangeCheck_2 8 rfl rfl)
theorem dJ22_rangeCheck_55 : decode cJ22_rangeCheck 55 = .ok (.invokespecial 70, 3) := dk_183 0 70 (dk_at dksJ22_rangeCheck_2 9 rfl rfl)
theorem dJ22_rangeCheck_58 : decode cJ22_rangeCheck 58 = .ok (.athrow, 1) := dk_191 (dk_at dksJ22_rangeCheck_2 12 rfl rfl)
theorem dJ22_rangeCheck_59 : decode cJ22_rangeCheck 59 = .ok (.iload_n 2, 1) := dk_28 (dk_at dksJ22_rangeCheck_2 13 rfl rfl)
theorem dJ22_rangeCheck_60 : decode cJ22_rangeCheck 60 = .ok (.iload_n 0, 1) := dk_26 (dk_at dksJ22_rangeCheck_2 14 rfl rfl)
theorem dJ22_rangeCheck_61 : decode cJ22_rangeCheck 61 = .ok (.if_icmp .le 12, 3) := dk_164 0 12 (dk_at dksJ22_rangeCheck_2 15 rfl rfl)
theorem dJ22_rangeCheck_64 : decode cJ22_rangeCheck 64 = .ok (.new 68, 3) := dk_187 0 68 (dk_at dksJ22_rangeCheck_2 18 rfl rfl)
theorem dJ22_rangeCheck_67 : decode cJ22_rangeCheck 67 = .ok (.dup, 1) := dk_89 (dk_at dksJ22_rangeCheck_2 21 rfl rfl)
theorem dJ22_rangeCheck_68 : decode cJ22_rangeCheck 68 = .ok (.iload_n 2, 1) := dk_28 (dk_at dksJ22_rangeCheck_2 22 rfl rfl)
theorem dJ22_rangeCheck_69 : decode cJ22_rangeCheck 69 = .ok (.invokespecial 70, 3) := dk_183 0 70 (dk_at dksJ22_rangeCheck_3 0 rfl rfl)
theorem dJ22_rangeCheck_72 : decode cJ22_rangeCheck 72 = .ok (.athrow, 1) := dk_191 (dk_at dksJ22_rangeCheck_3 3 rfl rfl)
theorem dJ22_rangeCheck_73 : decode cJ22_rangeCheck 73 = .ok (.return_, 1) := dk_177 (dk_at dksJ22_rangeCheck_3 4 rfl rfl)
theorem q125 : (Jvm.Cond.initialized "java/util/Arrays") ∈ lw_all := lw_g (lw_at lw_m1 39 rfl) rfl
theorem q902 : (Jvm.Cond.static ({ cls := "java/util/Arrays", name := "copyOf", desc := "([Ljava/lang/Object;I)[Ljava/lang/Object;" } : Jvm.MethodName)) ∈ lw_all := lw_g (lw_at lw_m4 96 rfl) rfl
theorem q903 : (Jvm.Cond.code ({ cls := "java/util/Arrays", name := "copyOf", desc := "([Ljava/lang/Object;I)[Ljava/lang/Object;" } : Jvm.MethodName) prog_66_method_119_code (2 : Nat) (Option.some (Jvm.ClassFile.FieldType.array (Jvm.ClassFile.FieldType.object "java/lang/Object")))) ∈ lw_all := lw_g (lw_at lw_m4 97 rfl) rfl
theorem q904 : (Jvm.Cond.methodLink "java/util/Arrays" (86 : Nat) ({ cls := "java/lang/Object", name := "getClass", desc := "()Ljava/lang/Class;" } : Jvm.MethodName)) ∈ lw_all := lw_g (lw_at lw_m4 98 rfl) rfl
theorem q905 : (Jvm.Cond.methodLink "java/util/Arrays" (300 : Nat) ({ cls := "java/util/Arrays", name := "copyOf", desc := "([Ljava/lang/Object;ILjava/lang/Class;)[Ljava/lang/Object;" } : Jvm.MethodName)) ∈ lw_all := lw_g (lw_at lw_m4 99 rfl) rfl
theorem q906 : (Jvm.Cond.static ({ cls := "java/util/Arrays", name := "copyOf", desc := "([Ljava/lang/Object;ILjava/lang/Class;)[Ljava/lang/Object;" } : Jvm.MethodName)) ∈ lw_all := lw_g (lw_at lw_m4 100 rfl) rfl
theorem q907 : (Jvm.Cond.code ({ cls := "java/util/Arrays", name := "copyOf", desc := "([Ljava/lang/Object;ILjava/lang/Class;)[Ljava/lang/Object;" } : Jvm.MethodName) prog_66_method_120_code (4 : Nat) (Option.some (Jvm.ClassFile.FieldType.array (Jvm.ClassFile.FieldType.object "java/lang/Object")))) ∈ lw_all := lw_g (lw_at lw_m4 101 rfl) rfl
theorem q908 : (Jvm.Cond.classLink "java/util/Arrays" (110 : Nat) "[Ljava/lang/Object;") ∈ lw_all := lw_g (lw_at lw_m4 102 rfl) rfl
theorem q909 : (Jvm.Cond.classLink "java/util/Arrays" (2 : Nat) "java/lang/Object") ∈ lw_all := lw_g (lw_at lw_m4 103 rfl) rfl
theorem q910 : (Jvm.Cond.methodLink "java/util/Arrays" (304 : Nat) ({ cls := "java/lang/Math", name := "min", desc := "(II)I" } : Jvm.MethodName)) ∈ lw_all := lw_g (lw_at lw_m4 104 rfl) rfl
theorem q913 : (Jvm.Cond.methodLink "java/util/Arrays" (150 : Nat) ({ cls := "java/lang/System", name := "arraycopy", desc := "(Ljava/lang/Object;ILjava/lang/Object;II)V" } : Jvm.MethodName)) ∈ lw_all := lw_g (lw_at lw_m4 107 rfl) rfl
theorem q1022 : (Jvm.Cond.static ({ cls := "java/util/Arrays", name := "copyOf", desc := "([BI)[B" } : Jvm.MethodName)) ∈ lw_all := lw_g (lw_at lw_m4 216 rfl) rfl
theorem q1023 : (Jvm.Cond.code ({ cls := "java/util/Arrays", name := "copyOf", desc := "([BI)[B" } : Jvm.MethodName) prog_66_method_121_code (3 : Nat) (Option.some (Jvm.ClassFile.FieldType.array Jvm.ClassFile.FieldType.byte))) ∈ lw_all := lw_g (lw_at lw_m4 217 rfl) rfl
theorem q1024 : (Jvm.Cond.methodLink "java/util/Arrays" (310 : Nat) ({ cls := "[B", name := "clone", desc := "()Ljava/lang/Object;" } : Jvm.MethodName)) ∈ lw_all := lw_g (lw_at lw_m4 218 rfl) rfl
theorem q1030 : (Jvm.Cond.classLink "java/util/Arrays" (311 : Nat) "[B") ∈ lw_all := lw_g (lw_at lw_m4 224 rfl) rfl
theorem q1158 : (Jvm.Cond.static ({ cls := "java/util/Arrays", name := "copyOfRange", desc := "([BII)[B" } : Jvm.MethodName)) ∈ lw_all := lw_g (lw_at lw_m5 112 rfl) rfl
theorem q1159 : (Jvm.Cond.code ({ cls := "java/util/Arrays", name := "copyOfRange", desc := "([BII)[B" } : Jvm.MethodName) prog_66_method_132_code (3 : Nat) (Option.some (Jvm.ClassFile.FieldType.array Jvm.ClassFile.FieldType.byte))) ∈ lw_all := lw_g (lw_at lw_m5 113 rfl) rfl
theorem q1160 : (Jvm.Cond.methodLink "java/util/Arrays" (339 : Nat) ({ cls := "java/util/Arrays", name := "copyOfRangeByte", desc := "([BII)[B" } : Jvm.MethodName)) ∈ lw_all := lw_g (lw_at lw_m5 114 rfl) rfl
theorem q1161 : (Jvm.Cond.static ({ cls := "java/util/Arrays", name := "copyOfRangeByte", desc := "([BII)[B" } : Jvm.MethodName)) ∈ lw_all := lw_g (lw_at lw_m5 115 rfl) rfl
theorem q1162 : (Jvm.Cond.code ({ cls := "java/util/Arrays", name := "copyOfRangeByte", desc := "([BII)[B" } : Jvm.MethodName) prog_66_method_133_code (5 : Nat) (Option.some (Jvm.ClassFile.FieldType.array Jvm.ClassFile.FieldType.byte))) ∈ lw_all := lw_g (lw_at lw_m5 116 rfl) rfl
theorem q1163 : (Jvm.Cond.methodLink "java/util/Arrays" (343 : Nat) ({ cls := "java/util/Arrays", name := "checkLength", desc := "(II)V" } : Jvm.MethodName)) ∈ lw_all := lw_g (lw_at lw_m5 117 rfl) rfl
theorem q1164 : (Jvm.Cond.static ({ cls := "java/util/Arrays", name := "checkLength", desc := "(II)V" } : Jvm.MethodName)) ∈ lw_all := lw_g (lw_at lw_m5 118 rfl) rfl
theorem q1165 : (Jvm.Cond.code ({ cls := "java/util/Arrays", name := "checkLength", desc := "(II)V" } : Jvm.MethodName) prog_66_method_131_code (2 : Nat) (Option.none : Option Jvm.ClassFile.FieldType)) ∈ lw_all := lw_g (lw_at lw_m5 119 rfl) rfl
theorem q1814 : (Jvm.Cond.static ({ cls := "java/util/Arrays", name := "fill", desc := "([II)V" } : Jvm.MethodName)) ∈ lw_all := lw_g (lw_at lw_m8 48 rfl) rfl
theorem q1815 : (Jvm.Cond.code ({ cls := "java/util/Arrays", name := "fill", desc := "([II)V" } : Jvm.MethodName) prog_66_method_103_code (4 : Nat) (Option.none : Option Jvm.ClassFile.FieldType)) ∈ lw_all := lw_g (lw_at lw_m8 49 rfl) rfl
theorem q1857 : (Jvm.Cond.static ({ cls := "java/util/Arrays", name := "copyOf", desc := "([JI)[J" } : Jvm.MethodName)) ∈ lw_all := lw_g (lw_at lw_m8 91 rfl) rfl
theorem q1858 : (Jvm.Cond.code ({ cls := "java/util/Arrays", name := "copyOf", desc := "([JI)[J" } : Jvm.MethodName) prog_66_method_124_code (3 : Nat) (Option.some (Jvm.ClassFile.FieldType.array Jvm.ClassFile.FieldType.long))) ∈ lw_all := lw_g (lw_at lw_m8 92 rfl) rfl
theorem q1859 : (Jvm.Cond.methodLink "java/util/Arrays" (319 : Nat) ({ cls := "[J", name := "clone", desc := "()Ljava/lang/Object;" } : Jvm.MethodName)) ∈ lw_all := lw_g (lw_at lw_m8 93 rfl) rfl
theorem q1863 : (Jvm.Cond.classLink "java/util/Arrays" (320 : Nat) "[J") ∈ lw_all := lw_g (lw_at lw_m8 97 rfl) rfl
theorem q2690 : (Jvm.Cond.static ({ cls := "java/util/Arrays", name := "copyOfRange", desc := "([Ljava/lang/Object;IILjava/lang/Class;)[Ljava/lang/Object;" } : Jvm.MethodName)) ∈ lw_all := lw_g (lw_at lw_m11 204 rfl) rfl
theorem q2691 : (Jvm.Cond.code ({ cls := "java/util/Arrays", name := "copyOfRange", desc := "([Ljava/lang/Object;IILjava/lang/Class;)[Ljava/lang/Object;" } : Jvm.MethodName) prog_66_method_130_code (6 : Nat) (Option.some (Jvm.ClassFile.FieldType.array (Jvm.ClassFile.FieldType.object "java/lang/Object")))) ∈ lw_all := lw_g (lw_at lw_m11 205 rfl) rfl
theorem q2706 : (Jvm.Cond.static ({ cls := "java/util/Arrays", name := "fill", desc := "([Ljava/lang/Object;IILjava/lang/Object;)V" } : Jvm.MethodName)) ∈ lw_all := lw_g (lw_at lw_m11 220 rfl) rfl
theorem q2707 : (Jvm.Cond.code ({ cls := "java/util/Arrays", name := "fill", desc := "([Ljava/lang/Object;IILjava/lang/Object;)V" } : Jvm.MethodName) prog_66_method_118_code (5 : Nat) (Option.none : Option Jvm.ClassFile.FieldType)) ∈ lw_all := lw_g (lw_at lw_m11 221 rfl) rfl
theorem q2708 : (Jvm.Cond.methodLink "java/util/Arrays" (13 : Nat) ({ cls := "java/util/Arrays", name := "rangeCheck", desc := "(III)V" } : Jvm.MethodName)) ∈ lw_all := lw_g (lw_at lw_m11 222 rfl) rfl
theorem q2709 : (Jvm.Cond.static ({ cls := "java/util/Arrays", name := "rangeCheck", desc := "(III)V" } : Jvm.MethodName)) ∈ lw_all := lw_g (lw_at lw_m11 223 rfl) rfl
theorem q2710 : (Jvm.Cond.code ({ cls := "java/util/Arrays", name := "rangeCheck", desc := "(III)V" } : Jvm.MethodName) prog_66_method_30_code (3 : Nat) (Option.none : Option Jvm.ClassFile.FieldType)) ∈ lw_all := lw_g (lw_at lw_m11 224 rfl) rfl
theorem q2711 : (Jvm.Cond.classLink "java/util/Arrays" (68 : Nat) "java/lang/ArrayIndexOutOfBoundsException") ∈ lw_all := lw_g (lw_at lw_m11 225 rfl) rfl
theorem q2712 : (Jvm.Cond.methodLink "java/util/Arrays" (70 : Nat) ({ cls := "java/lang/ArrayIndexOutOfBoundsException", name := "<init>", desc := "(I)V" } : Jvm.MethodName)) ∈ lw_all := lw_g (lw_at lw_m11 226 rfl) rfl
/-! java/util/LinkedList$Node -/
set_option maxRecDepth 100000
def RJ28 : String := "java/util/LinkedList$Node"
def TJ28 : u_T := fun k => match k with
  | 0 => ("java/util/LinkedList$Node", "item", "Ljava/lang/Object;", false)
  | 1 => ("java/util/LinkedList$Node", "next", "Ljava/util/LinkedList$Node;", false)
  | _ => ("java/util/LinkedList$Node", "prev", "Ljava/util/LinkedList$Node;", false)
def tyJ28 : Nat → FieldType := fun k => match k with
  | 0 => .object "java/lang/Object"
  | 1 => .object "java/util/LinkedList$Node"
  | _ => .object "java/util/LinkedList$Node"
abbrev wsJ280 : List Cond := u_ws RJ28 TJ28 3
theorem nmJ28 : ∀ a, a < 3 → ∀ b, b < 3 → a ≠ b → (TJ28 a).2.1 ≠ (TJ28 b).2.1 := by decide +kernel
theorem tyJ28_ok : ∀ k, k < 3 → parseFieldDescriptor (TJ28 k).2.2.1 = some (tyJ28 k) := by decide +kernel
abbrev cJ28_init : ByteArray := prog_82_method_1_code
def yJ28_init : MethodName := ⟨RJ28, "<init>", "(Ljava/util/LinkedList$Node;Ljava/lang/Object;Ljava/util/LinkedList$Node;)V"⟩
def dkwJ28_init_0 : List UInt8 := [42, 183, 0, 1, 42, 44, 181, 0, 7, 42, 45, 181, 0, 13, 42, 43, 181, 0, 17, 177]
abbrev dktJ28_init_0 : List UInt8 := dkwJ28_init_0 ++ []
theorem dksJ28_init_0 : cJ28_init.data.toList.drop 0 = dktJ28_init_0 := by decide +kernel
theorem dJ28_init_0 : decode cJ28_init 0 = .ok (.aload_n 0, 1) := dk_42 (dk_at dksJ28_init_0 0 rfl rfl)
theorem dJ28_init_1 : decode cJ28_init 1 = .ok (.invokespecial 1, 3) := dk_183 0 1 (dk_at dksJ28_init_0 1 rfl rfl)
theorem dJ28_init_4 : decode cJ28_init 4 = .ok (.aload_n 0, 1) := dk_42 (dk_at dksJ28_init_0 4 rfl rfl)
theorem dJ28_init_5 : decode cJ28_init 5 = .ok (.aload_n 2, 1) := dk_44 (dk_at dksJ28_init_0 5 rfl rfl)
theorem dJ28_init_6 : decode cJ28_init 6 = .ok (.putfield 7, 3) := dk_181 0 7 (dk_at dksJ28_init_0 6 rfl rfl)
theorem dJ28_init_9 : decode cJ28_init 9 = .ok (.aload_n 0, 1) := dk_42 (dk_at dksJ28_init_0 9 rfl rfl)
theorem dJ28_init_10 : decode cJ28_init 10 = .ok (.aload_n 3, 1) := dk_45 (dk_at dksJ28_init_0 10 rfl rfl)
theorem dJ28_init_11 : decode cJ28_init 11 = .ok (.putfield 13, 3) := dk_181 0 13 (dk_at dksJ28_init_0 11 rfl rfl)
theorem dJ28_init_14 : decode cJ28_init 14 = .ok (.aload_n 0, 1) := dk_42 (dk_at dksJ28_init_0 14 rfl rfl)
theorem dJ28_init_15 : decode cJ28_init 15 = .ok (.aload_n 1, 1) := dk_43 (dk_at dksJ28_init_0 15 rfl rfl)
theorem dJ28_init_16 : decode cJ28_init 16 = .ok (.putfield 17, 3) := dk_181 0 17 (dk_at dksJ28_init_0 16 rfl rfl)
theorem dJ28_init_19 : decode cJ28_init 19 = .ok (.return_, 1) := dk_177 (dk_at dksJ28_init_0 19 rfl rfl)
theorem q131 : (Jvm.Cond.initialized "java/util/LinkedList$Node") ∈ lw_all := lw_g (lw_at lw_m1 45 rfl) rfl
theorem q272 : (Jvm.Cond.selects "java/util/LinkedList$Node" ({ cls := "java/lang/Object", name := "getClass", desc := "()Ljava/lang/Class;" } : Jvm.MethodName) ({ cls := "java/lang/Object", name := "getClass", desc := "()Ljava/lang/Class;" } : Jvm.MethodName)) ∈ lw_all := lw_g (lw_at lw_m1 186 rfl) rfl
theorem q1221 : (Jvm.Cond.instantiable "java/util/LinkedList$Node" (3 : Nat)) ∈ lw_all := lw_g (lw_at lw_m5 175 rfl) rfl
theorem q1223 : (Jvm.Cond.instanceMethod ({ cls := "java/util/LinkedList$Node", name := "<init>", desc := "(Ljava/util/LinkedList$Node;Ljava/lang/Object;Ljava/util/LinkedList$Node;)V" } : Jvm.MethodName)) ∈ lw_all := lw_g (lw_at lw_m5 177 rfl) rfl
theorem q1224 : (Jvm.Cond.code ({ cls := "java/util/LinkedList$Node", name := "<init>", desc := "(Ljava/util/LinkedList$Node;Ljava/lang/Object;Ljava/util/LinkedList$Node;)V" } : Jvm.MethodName) prog_82_method_1_code (4 : Nat) (Option.none : Option Jvm.ClassFile.FieldType)) ∈ lw_all := lw_g (lw_at lw_m5 178 rfl) rfl
theorem q1225 : (Jvm.Cond.methodLink "java/util/LinkedList$Node" (1 : Nat) ({ cls := "java/lang/Object", name := "<init>", desc := "()V" } : Jvm.MethodName)) ∈ lw_all := lw_g (lw_at lw_m5 179 rfl) rfl
theorem q1226 : (Jvm.Cond.fieldLink "java/util/LinkedList$Node" (7 : Nat) "java/util/LinkedList$Node" "item" "Ljava/lang/Object;") ∈ lw_all := lw_g (lw_at lw_m5 180 rfl) rfl
theorem q1229 : (Jvm.Cond.fieldLink "java/util/LinkedList$Node" (13 : Nat) "java/util/LinkedList$Node" "next" "Ljava/util/LinkedList$Node;") ∈ lw_all := lw_g (lw_at lw_m5 183 rfl) rfl
theorem q1232 : (Jvm.Cond.fieldLink "java/util/LinkedList$Node" (17 : Nat) "java/util/LinkedList$Node" "prev" "Ljava/util/LinkedList$Node;") ∈ lw_all := lw_g (lw_at lw_m5 186 rfl) rfl
theorem q1234 : (Jvm.Cond.lays "java/util/LinkedList$Node" "java/util/LinkedList$Node" "item" "Ljava/lang/Object;") ∈ lw_all := lw_g (lw_at lw_m5 188 rfl) rfl
theorem q1235 : (Jvm.Cond.soleField "java/util/LinkedList$Node" "item") ∈ lw_all := lw_g (lw_at lw_m5 189 rfl) rfl
theorem q1236 : (Jvm.Cond.lays "java/util/LinkedList$Node" "java/util/LinkedList$Node" "next" "Ljava/util/LinkedList$Node;") ∈ lw_all := lw_g (lw_at lw_m5 190 rfl) rfl
theorem q1237 : (Jvm.Cond.soleField "java/util/LinkedList$Node" "next") ∈ lw_all := lw_g (lw_at lw_m5 191 rfl) rfl
theorem q1238 : (Jvm.Cond.lays "java/util/LinkedList$Node" "java/util/LinkedList$Node" "prev" "Ljava/util/LinkedList$Node;") ∈ lw_all := lw_g (lw_at lw_m5 192 rfl) rfl
theorem q1239 : (Jvm.Cond.soleField "java/util/LinkedList$Node" "prev") ∈ lw_all := lw_g (lw_at lw_m5 193 rfl) rfl
theorem q1240 : (Jvm.Cond.superclass "java/util/LinkedList$Node" "java/lang/Object") ∈ lw_all := lw_g (lw_at lw_m5 194 rfl) rfl
theorem q3839 : (Jvm.Cond.castable "java/util/LinkedList$Node" "java/lang/Object") ∈ lw_tbl := lw_at lw_m16 153 rfl
theorem in_J28 : ∀ w ∈ wsJ280, w ∈ lw_all := lw_in wsJ280 [1234, 1236, 1238] (by decide +kernel) (by decide +kernel)
/-! java/util/ArrayList$Itr -/
set_option maxRecDepth 100000
def RJ29 : String := "java/util/ArrayList$Itr"
def TJ29 : u_T := fun k => match k with
  | 0 => ("java/util/ArrayList$Itr", "cursor", "I", false)
  | 1 => ("java/util/ArrayList$Itr", "lastRet", "I", false)
  | 2 => ("java/util/ArrayList$Itr", "expectedModCount", "I", false)
  | _ => ("java/util/ArrayList$Itr", "this$0", "Ljava/util/ArrayList;", true)
def tyJ29 : Nat → FieldType := fun k => match k with
  | 0 => .int
  | 1 => .int
  | 2 => .int
  | _ => .object "java/util/ArrayList"
abbrev wsJ290 : List Cond := u_ws RJ29 TJ29 4
theorem nmJ29 : ∀ a, a < 4 → ∀ b, b < 4 → a ≠ b → (TJ29 a).2.1 ≠ (TJ29 b).2.1 := by decide +kernel
theorem tyJ29_ok : ∀ k, k < 4 → parseFieldDescriptor (TJ29 k).2.2.1 = some (tyJ29 k) := by decide +kernel
abbrev cJ29_init : ByteArray := prog_64_method_1_code
def yJ29_init : MethodName := ⟨RJ29, "<init>", "(Ljava/util/ArrayList;)V"⟩
def dkwJ29_init_1 : List UInt8 := [181, 0, 22, 177]
abbrev dktJ29_init_1 : List UInt8 := dkwJ29_init_1 ++ []
def dkwJ29_init_0 : List UInt8 := [42, 43, 181, 0, 1, 42, 183, 0, 7, 42, 2, 181, 0, 13, 42, 42, 180, 0, 1, 180, 0, 17]
abbrev dktJ29_init_0 : List UInt8 := dkwJ29_init_0 ++ dktJ29_init_1
theorem dksJ29_init_0 : cJ29_init.data.toList.drop 0 = dktJ29_init_0 := by decide +kernel
theorem dksJ29_init_1 : cJ29_init.data.toList.drop 22 = dktJ29_init_1 := dk_seg dksJ29_init_0 22 rfl rfl
theorem dJ29_init_0 : decode cJ29_init 0 = .ok (.aload_n 0, 1) := dk_42 (dk_at dksJ29_init_0 0 rfl rfl)
theorem dJ29_init_1 : decode cJ29_init 1 = .ok (.aload_n 1, 1) := dk_43 (dk_at dksJ29_init_0 1 rfl rfl)
theorem dJ29_init_2 : decode cJ29_init 2 = .ok (.putfield 1, 3) := dk_181 0 1 (dk_at dksJ29_init_0 2 rfl rfl)
theorem dJ29_init_5 : decode cJ29_init 5 = .ok (.aload_n 0, 1) := dk_42 (dk_at dksJ29_init_0 5 rfl rfl)
theorem dJ29_init_6 : decode cJ29_init 6 = .ok (.invokespecial 7, 3) := dk_183 0 7 (dk_at dksJ29_init_0 6 rfl rfl)
theorem dJ29_init_9 : decode cJ29_init 9 = .ok (.aload_n 0, 1) := dk_42 (dk_at dksJ29_init_0 9 rfl rfl)
theorem dJ29_init_10 : decode cJ29_init 10 = .ok (.iconst (-1), 1) := dk_2 (dk_at dksJ29_init_0 10 rfl rfl)
theorem dJ29_init_11 : decode cJ29_init 11 = .ok (.putfield 13, 3) := dk_181 0 13 (dk_at dksJ29_init_0 11 rfl rfl)
theorem dJ29_init_14 : decode cJ29_init 14 = .ok (.aload_n 0, 1) := dk_42 (dk_at dksJ29_init_0 14 rfl rfl)
theorem dJ29_init_15 : decode cJ29_init 15 = .ok (.aload_n 0, 1) := dk_42 (dk_at dksJ29_init_0 15 rfl rfl)
theorem dJ29_init_16 : decode cJ29_init 16 = .ok (.getfield 1, 3) := dk_180 0 1 (dk_at dksJ29_init_0 16 rfl rfl)
theorem dJ29_init_19 : decode cJ29_init 19 = .ok (.getfield 17, 3) := dk_180 0 17 (dk_at dksJ29_init_0 19 rfl rfl)
theorem dJ29_init_22 : decode cJ29_init 22 = .ok (.putfield 22, 3) := dk_181 0 22 (dk_at dksJ29_init_1 0 rfl rfl)
theorem dJ29_init_25 : decode cJ29_init 25 = .ok (.return_, 1) := dk_177 (dk_at dksJ29_init_1 3 rfl rfl)
abbrev cJ29_hasNext : ByteArray := prog_64_method_2_code
def yJ29_hasNext : MethodName := ⟨RJ29, "hasNext", "()Z"⟩
def dkwJ29_hasNext_0 : List UInt8 := [42, 180, 0, 25, 42, 180, 0, 1, 180, 0, 28, 159, 0, 7, 4, 167, 0, 4, 3, 172]
abbrev dktJ29_hasNext_0 : List UInt8 := dkwJ29_hasNext_0 ++ []
theorem dksJ29_hasNext_0 : cJ29_hasNext.data.toList.drop 0 = dktJ29_hasNext_0 := by decide +kernel
theorem dJ29_hasNext_0 : decode cJ29_hasNext 0 = .ok (.aload_n 0, 1) := dk_42 (dk_at dksJ29_hasNext_0 0 rfl rfl)
theorem dJ29_hasNext_1 : decode cJ29_hasNext 1 = .ok (.getfield 25, 3) := dk_180 0 25 (dk_at dksJ29_hasNext_0 1 rfl rfl)
theorem dJ29_hasNext_4 : decode cJ29_hasNext 4 = .ok (.aload_n 0, 1) := dk_42 (dk_at dksJ29_hasNext_0 4 rfl rfl)
theorem dJ29_hasNext_5 : decode cJ29_hasNext 5 = .ok (.getfield 1, 3) := dk_180 0 1 (dk_at dksJ29_hasNext_0 5 rfl rfl)
theorem dJ29_hasNext_8 : decode cJ29_hasNext 8 = .ok (.getfield 28, 3) := dk_180 0 28 (dk_at dksJ29_hasNext_0 8 rfl rfl)
theorem dJ29_hasNext_11 : decode cJ29_hasNext 11 = .ok (.if_icmp .eq 7, 3) := dk_159 0 7 (dk_at dksJ29_hasNext_0 11 rfl rfl)
theorem dJ29_hasNext_14 : decode cJ29_hasNext 14 = .ok (.iconst 1, 1) := dk_4 (dk_at dksJ29_hasNext_0 14 rfl rfl)
theorem dJ29_hasNext_15 : decode cJ29_hasNext 15 = .ok (.goto 4, 3) := dk_167 0 4 (dk_at dksJ29_hasNext_0 15 rfl rfl)
theorem dJ29_hasNext_18 : decode cJ29_hasNext 18 = .ok (.iconst 0, 1) := dk_3 (dk_at dksJ29_hasNext_0 18 rfl rfl)
theorem dJ29_hasNext_19 : decode cJ29_hasNext 19 = .ok (.ireturn, 1) := dk_172 (dk_at dksJ29_hasNext_0 19 rfl rfl)
abbrev cJ29_next : ByteArray := prog_64_method_3_code
def yJ29_next : MethodName := ⟨RJ29, "next", "()Ljava/lang/Object;"⟩
def dkwJ29_next_2 : List UInt8 := [183, 0, 43, 191, 42, 27, 4, 96, 181, 0, 25, 44, 42, 27, 90, 181, 0, 13, 50, 176]
abbrev dktJ29_next_2 : List UInt8 := dkwJ29_next_2 ++ []
def dkwJ29_next_1 : List UInt8 := [183, 0, 36, 191, 42, 180, 0, 1, 180, 0, 37, 77, 27, 44, 190, 161, 0, 11, 187, 0, 41, 89]
abbrev dktJ29_next_1 : List UInt8 := dkwJ29_next_1 ++ dktJ29_next_2
def dkwJ29_next_0 : List UInt8 := [42, 182, 0, 31, 42, 180, 0, 25, 60, 27, 42, 180, 0, 1, 180, 0, 28, 161, 0, 11, 187, 0, 34, 89]
abbrev dktJ29_next_0 : List UInt8 := dkwJ29_next_0 ++ dktJ29_next_1
theorem dksJ29_next_0 : cJ29_next.data.toList.drop 0 = dktJ29_next_0 := by decide +kernel
theorem dksJ29_next_1 : cJ29_next.data.toList.drop 24 = dktJ29_next_1 := dk_seg dksJ29_next_0 24 rfl rfl
theorem dksJ29_next_2 : cJ29_next.data.toList.drop 46 = dktJ29_next_2 := dk_seg dksJ29_next_1 22 rfl rfl
theorem dJ29_next_0 : decode cJ29_next 0 = .ok (.aload_n 0, 1) := dk_42 (dk_at dksJ29_next_0 0 rfl rfl)
theorem dJ29_next_1 : decode cJ29_next 1 = .ok (.invokevirtual 31, 3) := dk_182 0 31 (dk_at dksJ29_next_0 1 rfl rfl)
theorem dJ29_next_4 : decode cJ29_next 4 = .ok (.aload_n 0, 1) := dk_42 (dk_at dksJ29_next_0 4 rfl rfl)
theorem dJ29_next_5 : decode cJ29_next 5 = .ok (.getfield 25, 3) := dk_180 0 25 (dk_at dksJ29_next_0 5 rfl rfl)
theorem dJ29_next_8 : decode cJ29_next 8 = .ok (.istore_n 1, 1) := dk_60 (dk_at dksJ29_next_0 8 rfl rfl)
theorem dJ29_next_9 : decode cJ29_next 9 = .ok (.iload_n 1, 1) := dk_27 (dk_at dksJ29_next_0 9 rfl rfl)
theorem dJ29_next_10 : decode cJ29_next 10 = .ok (.aload_n 0, 1) := dk_42 (dk_at dksJ29_next_0 10 rfl rfl)
theorem dJ29_next_11 : decode cJ29_next 11 = .ok (.getfield 1, 3) := dk_180 0 1 (dk_at dksJ29_next_0 11 rfl rfl)
theorem dJ29_next_14 : decode cJ29_next 14 = .ok (.getfield 28, 3) := dk_180 0 28 (dk_at dksJ29_next_0 14 rfl rfl)
theorem dJ29_next_17 : decode cJ29_next 17 = .ok (.if_icmp .lt 11, 3) := dk_161 0 11 (dk_at dksJ29_next_0 17 rfl rfl)
theorem dJ29_next_20 : decode cJ29_next 20 = .ok (.new 34, 3) := dk_187 0 34 (dk_at dksJ29_next_0 20 rfl rfl)
theorem dJ29_next_23 : decode cJ29_next 23 = .ok (.dup, 1) := dk_89 (dk_at dksJ29_next_0 23 rfl rfl)
theorem dJ29_next_24 : decode cJ29_next 24 = .ok (.invokespecial 36, 3) := dk_183 0 36 (dk_at dksJ29_next_1 0 rfl rfl)
theorem dJ29_next_27 : decode cJ29_next 27 = .ok (.athrow, 1) := dk_191 (dk_at dksJ29_next_1 3 rfl rfl)
theorem dJ29_next_28 : decode cJ29_next 28 = .ok (.aload_n 0, 1) := dk_42 (dk_at dksJ29_next_1 4 rfl rfl)
theorem dJ29_next_29 : decode cJ29_next 29 = .ok (.getfield 1, 3) := dk_180 0 1 (dk_at dksJ29_next_1 5 rfl rfl)
theorem dJ29_next_32 : decode cJ29_next 32 = .ok (.getfield 37, 3) := dk_180 0 37 (dk_at dksJ29_next_1 8 rfl rfl)
theorem dJ29_next_35 : decode cJ29_next 35 = .ok (.astore_n 2, 1) := dk_77 (dk_at dksJ29_next_1 11 rfl rfl)
theorem dJ29_next_36 : decode cJ29_next 36 = .ok (.iload_n 1, 1) := dk_27 (dk_at dksJ29_next_1 12 rfl rfl)
theorem dJ29_next_37 : decode cJ29_next 37 = .ok (.aload_n 2, 1) := dk_44 (dk_at dksJ29_next_1 13 rfl rfl)
theorem dJ29_next_38 : decode cJ29_next 38 = .ok (.arraylength, 1) := dk_190 (dk_at dksJ29_next_1 14 rfl rfl)
theorem dJ29_next_39 : decode cJ29_next 39 = .ok (.if_icmp .lt 11, 3) := dk_161 0 11 (dk_at dksJ29_next_1 15 rfl rfl)
theorem dJ29_next_42 : decode cJ29_next 42 = .ok (.new 41, 3) := dk_187 0 41 (dk_at dksJ29_next_1 18 rfl rfl)
theorem dJ29_next_45 : decode cJ29_next 45 = .ok (.dup, 1) := dk_89 (dk_at dksJ29_next_1 21 rfl rfl)
theorem dJ29_next_46 : decode cJ29_next 46 = .ok (.invokespecial 43, 3) := dk_183 0 43 (dk_at dksJ29_next_2 0 rfl rfl)
theorem dJ29_next_49 : decode cJ29_next 49 = .ok (.athrow, 1) := dk_191 (dk_at dksJ29_next_2 3 rfl rfl)
theorem dJ29_next_50 : decode cJ29_next 50 = .ok (.aload_n 0, 1) := dk_42 (dk_at dksJ29_next_2 4 rfl rfl)
theorem dJ29_next_51 : decode cJ29_next 51 = .ok (.iload_n 1, 1) := dk_27 (dk_at dksJ29_next_2 5 rfl rfl)
theorem dJ29_next_52 : decode cJ29_next 52 = .ok (.iconst 1, 1) := dk_4 (dk_at dksJ29_next_2 6 rfl rfl)
theorem dJ29_next_53 : decode cJ29_next 53 = .ok (.iadd, 1) := dk_96 (dk_at dksJ29_next_2 7 rfl rfl)
theorem dJ29_next_54 : decode cJ29_next 54 = .ok (.putfield 25, 3) := dk_181 0 25 (dk_at dksJ29_next_2 8 rfl rfl)
theorem dJ29_next_57 : decode cJ29_next 57 = .ok (.aload_n 2, 1) := dk_44 (dk_at dksJ29_next_2 11 rfl rfl)
theorem dJ29_next_58 : decode cJ29_next 58 = .ok (.aload_n 0, 1) := dk_42 (dk_at dksJ29_next_2 12 rfl rfl)
theorem dJ29_next_59 : decode cJ29_next 59 = .ok (.iload_n 1, 1) := dk_27 (dk_at dksJ29_next_2 13 rfl rfl)
theorem dJ29_next_60 : decode cJ29_next 60 = .ok (.dup_x1, 1) := dk_90 (dk_at dksJ29_next_2 14 rfl rfl)
theorem dJ29_next_61 : decode cJ29_next 61 = .ok (.putfield 13, 3) := dk_181 0 13 (dk_at dksJ29_next_2 15 rfl rfl)
theorem dJ29_next_64 : decode cJ29_next 64 = .ok (.aaload, 1) := dk_50 (dk_at dksJ29_next_2 18 rfl rfl)
theorem dJ29_next_65 : decode cJ29_next 65 = .ok (.areturn, 1) := dk_176 (dk_at dksJ29_next_2 19 rfl rfl)
abbrev cJ29_checkForComodification : ByteArray := prog_64_method_6_code
def yJ29_checkForComodification : MethodName := ⟨RJ29, "checkForComodification", "()V"⟩
def dkwJ29_checkForComodification_0 : List UInt8 := [42, 180, 0, 1, 180, 0, 17, 42, 180, 0, 22, 159, 0, 11, 187, 0, 41, 89, 183, 0, 43, 191, 177]
abbrev dktJ29_checkForComodification_0 : List UInt8 := dkwJ29_checkForComodification_0 ++ []
theorem dksJ29_checkForComodification_0 : cJ29_checkForComodification.data.toList.drop 0 = dktJ29_checkForComodification_0 := by decide +kernel
theorem dJ29_checkForComodification_0 : decode cJ29_checkForComodification 0 = .ok (.aload_n 0, 1) := dk_42 (dk_at dksJ29_checkForComodification_0 0 rfl rfl)
theorem dJ29_checkForComodification_1 : decode cJ29_checkForComodification 1 = .ok (.getfield 1, 3) := dk_180 0 1 (dk_at dksJ29_checkForComodification_0 1 rfl rfl)
theorem dJ29_checkForComodification_4 : decode cJ29_checkForComodification 4 = .ok (.getfield 17, 3) := dk_180 0 17 (dk_at dksJ29_checkForComodification_0 4 rfl rfl)
theorem dJ29_checkForComodification_7 : decode cJ29_checkForComodification 7 = .ok (.aload_n 0, 1) := dk_42 (dk_at dksJ29_checkForComodification_0 7 rfl rfl)
theorem dJ29_checkForComodification_8 : decode cJ29_checkForComodification 8 = .ok (.getfield 22, 3) := dk_180 0 22 (dk_at dksJ29_checkForComodification_0 8 rfl rfl)
theorem dJ29_checkForComodification_11 : decode cJ29_checkForComodification 11 = .ok (.if_icmp .eq 11, 3) := dk_159 0 11 (dk_at dksJ29_checkForComodification_0 11 rfl rfl)
theorem dJ29_checkForComodification_14 : decode cJ29_checkForComodification 14 = .ok (.new 41, 3) := dk_187 0 41 (dk_at dksJ29_checkForComodification_0 14 rfl rfl)
theorem dJ29_checkForComodification_17 : decode cJ29_checkForComodification 17 = .ok (.dup, 1) := dk_89 (dk_at dksJ29_checkForComodification_0 17 rfl rfl)
theorem dJ29_checkForComodification_18 : decode cJ29_checkForComodification 18 = .ok (.invokespecial 43, 3) := dk_183 0 43 (dk_at dksJ29_checkForComodification_0 18 rfl rfl)
theorem dJ29_checkForComodification_21 : decode cJ29_checkForComodification 21 = .ok (.athrow, 1) := dk_191 (dk_at dksJ29_checkForComodification_0 21 rfl rfl)
theorem dJ29_checkForComodification_22 : decode cJ29_checkForComodification 22 = .ok (.return_, 1) := dk_177 (dk_at dksJ29_checkForComodification_0 22 rfl rfl)
abbrev cJ29_remove : ByteArray := prog_64_method_4_code
def yJ29_remove : MethodName := ⟨RJ29, "remove", "()V"⟩
def dkwJ29_remove_2 : List UInt8 := [180, 0, 1, 180, 0, 17, 181, 0, 22, 167, 0, 12, 76, 187, 0, 41, 89, 183, 0, 43, 191, 177]
abbrev dktJ29_remove_2 : List UInt8 := dkwJ29_remove_2 ++ []
def dkwJ29_remove_1 : List UInt8 := [180, 0, 13, 182, 0, 47, 87, 42, 42, 180, 0, 13, 181, 0, 25, 42, 2, 181, 0, 13, 42, 42]
abbrev dktJ29_remove_1 : List UInt8 := dkwJ29_remove_1 ++ dktJ29_remove_2
def dkwJ29_remove_0 : List UInt8 := [42, 180, 0, 13, 156, 0, 11, 187, 0, 44, 89, 183, 0, 46, 191, 42, 182, 0, 31, 42, 180, 0, 1, 42]
abbrev dktJ29_remove_0 : List UInt8 := dkwJ29_remove_0 ++ dktJ29_remove_1
theorem dksJ29_remove_0 : cJ29_remove.data.toList.drop 0 = dktJ29_remove_0 := by decide +kernel
theorem dksJ29_remove_1 : cJ29_remove.data.toList.drop 24 = dktJ29_remove_1 := dk_seg dksJ29_remove_0 24 rfl rfl
theorem dksJ29_remove_2 : cJ29_remove.data.toList.drop 46 = dktJ29_remove_2 := dk_seg dksJ29_remove_1 22 rfl rfl
theorem dJ29_remove_0 : decode cJ29_remove 0 = .ok (.aload_n 0, 1) := dk_42 (dk_at dksJ29_remove_0 0 rfl rfl)
theorem dJ29_remove_1 : decode cJ29_remove 1 = .ok (.getfield 13, 3) := dk_180 0 13 (dk_at dksJ29_remove_0 1 rfl rfl)
theorem dJ29_remove_4 : decode cJ29_remove 4 = .ok (.ifCond .ge 11, 3) := dk_156 0 11 (dk_at dksJ29_remove_0 4 rfl rfl)
theorem dJ29_remove_7 : decode cJ29_remove 7 = .ok (.new 44, 3) := dk_187 0 44 (dk_at dksJ29_remove_0 7 rfl rfl)
theorem dJ29_remove_10 : decode cJ29_remove 10 = .ok (.dup, 1) := dk_89 (dk_at dksJ29_remove_0 10 rfl rfl)
theorem dJ29_remove_11 : decode cJ29_remove 11 = .ok (.invokespecial 46, 3) := dk_183 0 46 (dk_at dksJ29_remove_0 11 rfl rfl)
theorem dJ29_remove_14 : decode cJ29_remove 14 = .ok (.athrow, 1) := dk_191 (dk_at dksJ29_remove_0 14 rfl rfl)
theorem dJ29_remove_15 : decode cJ29_remove 15 = .ok (.aload_n 0, 1) := dk_42 (dk_at dksJ29_remove_0 15 rfl rfl)
theorem dJ29_remove_16 : decode cJ29_remove 16 = .ok (.invokevirtual 31, 3) := dk_182 0 31 (dk_at dksJ29_remove_0 16 rfl rfl)
theorem dJ29_remove_19 : decode cJ29_remove 19 = .ok (.aload_n 0, 1) := dk_42 (dk_at dksJ29_remove_0 19 rfl rfl)
theorem dJ29_remove_20 : decode cJ29_remove 20 = .ok (.getfield 1, 3) := dk_180 0 1 (dk_at dksJ29_remove_0 20 rfl rfl)
theorem dJ29_remove_23 : decode cJ29_remove 23 = .ok (.aload_n 0, 1) := dk_42 (dk_at dksJ29_remove_0 23 rfl rfl)
theorem dJ29_remove_24 : decode cJ29_remove 24 = .ok (.getfield 13, 3) := dk_180 0 13 (dk_at dksJ29_remove_1 0 rfl rfl)
theorem dJ29_remove_27 : decode cJ29_remove 27 = .ok (.invokevirtual 47, 3) := dk_182 0 47 (dk_at dksJ29_remove_1 3 rfl rfl)
theorem dJ29_remove_30 : decode cJ29_remove 30 = .ok (.pop, 1) := dk_87 (dk_at dksJ29_remove_1 6 rfl rfl)
theorem dJ29_remove_31 : decode cJ29_remove 31 = .ok (.aload_n 0, 1) := dk_42 (dk_at dksJ29_remove_1 7 rfl rfl)
theorem dJ29_remove_32 : decode cJ29_remove 32 = .ok (.aload_n 0, 1) := dk_42 (dk_at dksJ29_remove_1 8 rfl rfl)
theorem dJ29_remove_33 : decode cJ29_remove 33 = .ok (.getfield 13, 3) := dk_180 0 13 (dk_at dksJ29_remove_1 9 rfl rfl)
theorem dJ29_remove_36 : decode cJ29_remove 36 = .ok (.putfield 25, 3) := dk_181 0 25 (dk_at dksJ29_remove_1 12 rfl rfl)
theorem dJ29_remove_39 : decode cJ29_remove 39 = .ok (.aload_n 0, 1) := dk_42 (dk_at dksJ29_remove_1 15 rfl rfl)
theorem dJ29_remove_40 : decode cJ29_remove 40 = .ok (.iconst (-1), 1) := dk_2 (dk_at dksJ29_remove_1 16 rfl rfl)
theorem dJ29_remove_41 : decode cJ29_remove 41 = .ok (.putfield 13, 3) := dk_181 0 13 (dk_at dksJ29_remove_1 17 rfl rfl)
theorem dJ29_remove_44 : decode cJ29_remove 44 = .ok (.aload_n 0, 1) := dk_42 (dk_at dksJ29_remove_1 20 rfl rfl)
theorem dJ29_remove_45 : decode cJ29_remove 45 = .ok (.aload_n 0, 1) := dk_42 (dk_at dksJ29_remove_1 21 rfl rfl)
theorem dJ29_remove_46 : decode cJ29_remove 46 = .ok (.getfield 1, 3) := dk_180 0 1 (dk_at dksJ29_remove_2 0 rfl rfl)
theorem dJ29_remove_49 : decode cJ29_remove 49 = .ok (.getfield 17, 3) := dk_180 0 17 (dk_at dksJ29_remove_2 3 rfl rfl)
theorem dJ29_remove_52 : decode cJ29_remove 52 = .ok (.putfield 22, 3) := dk_181 0 22 (dk_at dksJ29_remove_2 6 rfl rfl)
theorem dJ29_remove_55 : decode cJ29_remove 55 = .ok (.goto 12, 3) := dk_167 0 12 (dk_at dksJ29_remove_2 9 rfl rfl)
theorem dJ29_remove_58 : decode cJ29_remove 58 = .ok (.astore_n 1, 1) := dk_76 (dk_at dksJ29_remove_2 12 rfl rfl)
theorem dJ29_remove_59 : decode cJ29_remove 59 = .ok (.new 41, 3) := dk_187 0 41 (dk_at dksJ29_remove_2 13 rfl rfl)
theorem dJ29_remove_62 : decode cJ29_remove 62 = .ok (.dup, 1) := dk_89 (dk_at dksJ29_remove_2 16 rfl rfl)
theorem dJ29_remove_63 : decode cJ29_remove 63 = .ok (.invokespecial 43, 3) := dk_183 0 43 (dk_at dksJ29_remove_2 17 rfl rfl)
theorem dJ29_remove_66 : decode cJ29_remove 66 = .ok (.athrow, 1) := dk_191 (dk_at dksJ29_remove_2 20 rfl rfl)
theorem dJ29_remove_67 : decode cJ29_remove 67 = .ok (.return_, 1) := dk_177 (dk_at dksJ29_remove_2 21 rfl rfl)
theorem q132 : (Jvm.Cond.initialized "java/util/ArrayList$Itr") ∈ lw_all := lw_g (lw_at lw_m1 46 rfl) rfl
theorem q262 : (Jvm.Cond.selects "java/util/ArrayList$Itr" ({ cls := "java/lang/Object", name := "getClass", desc := "()Ljava/lang/Class;" } : Jvm.MethodName) ({ cls := "java/lang/Object", name := "getClass", desc := "()Ljava/lang/Class;" } : Jvm.MethodName)) ∈ lw_all := lw_g (lw_at lw_m1 176 rfl) rfl
theorem q763 : (Jvm.Cond.fieldLink "java/util/ArrayList$Itr" (37 : Nat) "java/util/ArrayList" "elementData" "[Ljava/lang/Object;") ∈ lw_all := lw_g (lw_at lw_m3 197 rfl) rfl
theorem q764 : (Jvm.Cond.fieldLinkNest "java/util/ArrayList$Itr" (28 : Nat) "java/util/ArrayList" "size" "I" "java/util/ArrayList") ∈ lw_tbl := lw_at lw_m3 198 rfl
theorem q769 : (Jvm.Cond.fieldLink "java/util/ArrayList$Itr" (17 : Nat) "java/util/ArrayList" "modCount" "I") ∈ lw_all := lw_g (lw_at lw_m3 203 rfl) rfl
theorem q1305 : (Jvm.Cond.instantiable "java/util/ArrayList$Itr" (4 : Nat)) ∈ lw_all := lw_g (lw_at lw_m6 19 rfl) rfl
theorem q1307 : (Jvm.Cond.instanceMethod ({ cls := "java/util/ArrayList$Itr", name := "<init>", desc := "(Ljava/util/ArrayList;)V" } : Jvm.MethodName)) ∈ lw_all := lw_g (lw_at lw_m6 21 rfl) rfl
theorem q1308 : (Jvm.Cond.code ({ cls := "java/util/ArrayList$Itr", name := "<init>", desc := "(Ljava/util/ArrayList;)V" } : Jvm.MethodName) prog_64_method_1_code (2 : Nat) (Option.none : Option Jvm.ClassFile.FieldType)) ∈ lw_all := lw_g (lw_at lw_m6 22 rfl) rfl
theorem q1309 : (Jvm.Cond.methodLink "java/util/ArrayList$Itr" (7 : Nat) ({ cls := "java/lang/Object", name := "<init>", desc := "()V" } : Jvm.MethodName)) ∈ lw_all := lw_g (lw_at lw_m6 23 rfl) rfl
theorem q1312 : (Jvm.Cond.fieldLink "java/util/ArrayList$Itr" (25 : Nat) "java/util/ArrayList$Itr" "cursor" "I") ∈ lw_all := lw_g (lw_at lw_m6 26 rfl) rfl
theorem q1313 : (Jvm.Cond.fieldLink "java/util/ArrayList$Itr" (13 : Nat) "java/util/ArrayList$Itr" "lastRet" "I") ∈ lw_all := lw_g (lw_at lw_m6 27 rfl) rfl
theorem q1314 : (Jvm.Cond.fieldLink "java/util/ArrayList$Itr" (22 : Nat) "java/util/ArrayList$Itr" "expectedModCount" "I") ∈ lw_all := lw_g (lw_at lw_m6 28 rfl) rfl
theorem q1315 : (Jvm.Cond.fieldLink "java/util/ArrayList$Itr" (1 : Nat) "java/util/ArrayList$Itr" "this$0" "Ljava/util/ArrayList;") ∈ lw_all := lw_g (lw_at lw_m6 29 rfl) rfl
theorem q1316 : (Jvm.Cond.lays "java/util/ArrayList$Itr" "java/util/ArrayList$Itr" "cursor" "I") ∈ lw_all := lw_g (lw_at lw_m6 30 rfl) rfl
theorem q1317 : (Jvm.Cond.soleField "java/util/ArrayList$Itr" "cursor") ∈ lw_all := lw_g (lw_at lw_m6 31 rfl) rfl
theorem q1318 : (Jvm.Cond.lays "java/util/ArrayList$Itr" "java/util/ArrayList$Itr" "lastRet" "I") ∈ lw_all := lw_g (lw_at lw_m6 32 rfl) rfl
theorem q1319 : (Jvm.Cond.soleField "java/util/ArrayList$Itr" "lastRet") ∈ lw_all := lw_g (lw_at lw_m6 33 rfl) rfl
theorem q1320 : (Jvm.Cond.lays "java/util/ArrayList$Itr" "java/util/ArrayList$Itr" "expectedModCount" "I") ∈ lw_all := lw_g (lw_at lw_m6 34 rfl) rfl
theorem q1321 : (Jvm.Cond.soleField "java/util/ArrayList$Itr" "expectedModCount") ∈ lw_all := lw_g (lw_at lw_m6 35 rfl) rfl
theorem q1322 : (Jvm.Cond.laysFinal "java/util/ArrayList$Itr" "java/util/ArrayList$Itr" "this$0" "Ljava/util/ArrayList;") ∈ lw_all := lw_g (lw_at lw_m6 36 rfl) rfl
theorem q1323 : (Jvm.Cond.soleField "java/util/ArrayList$Itr" "this$0") ∈ lw_all := lw_g (lw_at lw_m6 37 rfl) rfl
theorem q1324 : (Jvm.Cond.superclass "java/util/ArrayList$Itr" "java/lang/Object") ∈ lw_all := lw_g (lw_at lw_m6 38 rfl) rfl
theorem q1491 : (Jvm.Cond.castable "java/util/ArrayList$Itr" "java/util/Iterator") ∈ lw_tbl := lw_at lw_m6 205 rfl
theorem q1492 : (Jvm.Cond.selects "java/util/ArrayList$Itr" ({ cls := "java/util/Iterator", name := "hasNext", desc := "()Z" } : Jvm.MethodName) ({ cls := "java/util/ArrayList$Itr", name := "hasNext", desc := "()Z" } : Jvm.MethodName)) ∈ lw_all := lw_g (lw_at lw_m6 206 rfl) rfl
theorem q1493 : (Jvm.Cond.unhidden "java/util/ArrayList$Itr" "hasNext" "()Z") ∈ lw_tbl := lw_at lw_m6 207 rfl
theorem q1494 : (Jvm.Cond.instanceMethod ({ cls := "java/util/ArrayList$Itr", name := "hasNext", desc := "()Z" } : Jvm.MethodName)) ∈ lw_all := lw_g (lw_at lw_m6 208 rfl) rfl
theorem q1495 : (Jvm.Cond.publicMethod ({ cls := "java/util/ArrayList$Itr", name := "hasNext", desc := "()Z" } : Jvm.MethodName)) ∈ lw_tbl := lw_at lw_m6 209 rfl
theorem q1496 : (Jvm.Cond.code ({ cls := "java/util/ArrayList$Itr", name := "hasNext", desc := "()Z" } : Jvm.MethodName) prog_64_method_2_code (1 : Nat) (Option.some Jvm.ClassFile.FieldType.boolean)) ∈ lw_all := lw_g (lw_at lw_m6 210 rfl) rfl
theorem q1639 : (Jvm.Cond.selects "java/util/ArrayList$Itr" ({ cls := "java/util/Iterator", name := "next", desc := "()Ljava/lang/Object;" } : Jvm.MethodName) ({ cls := "java/util/ArrayList$Itr", name := "next", desc := "()Ljava/lang/Object;" } : Jvm.MethodName)) ∈ lw_all := lw_g (lw_at lw_m7 113 rfl) rfl
theorem q1640 : (Jvm.Cond.unhidden "java/util/ArrayList$Itr" "next" "()Ljava/lang/Object;") ∈ lw_tbl := lw_at lw_m7 114 rfl
theorem q1641 : (Jvm.Cond.instanceMethod ({ cls := "java/util/ArrayList$Itr", name := "next", desc := "()Ljava/lang/Object;" } : Jvm.MethodName)) ∈ lw_all := lw_g (lw_at lw_m7 115 rfl) rfl
theorem q1642 : (Jvm.Cond.publicMethod ({ cls := "java/util/ArrayList$Itr", name := "next", desc := "()Ljava/lang/Object;" } : Jvm.MethodName)) ∈ lw_tbl := lw_at lw_m7 116 rfl
theorem q1643 : (Jvm.Cond.code ({ cls := "java/util/ArrayList$Itr", name := "next", desc := "()Ljava/lang/Object;" } : Jvm.MethodName) prog_64_method_3_code (3 : Nat) (Option.some (Jvm.ClassFile.FieldType.object "java/lang/Object"))) ∈ lw_all := lw_g (lw_at lw_m7 117 rfl) rfl
theorem q1644 : (Jvm.Cond.methodLink "java/util/ArrayList$Itr" (31 : Nat) ({ cls := "java/util/ArrayList$Itr", name := "checkForComodification", desc := "()V" } : Jvm.MethodName)) ∈ lw_all := lw_g (lw_at lw_m7 118 rfl) rfl
theorem q1645 : (Jvm.Cond.instanceMethod ({ cls := "java/util/ArrayList$Itr", name := "checkForComodification", desc := "()V" } : Jvm.MethodName)) ∈ lw_all := lw_g (lw_at lw_m7 119 rfl) rfl
theorem q1646 : (Jvm.Cond.selects "java/util/ArrayList$Itr" ({ cls := "java/util/ArrayList$Itr", name := "checkForComodification", desc := "()V" } : Jvm.MethodName) ({ cls := "java/util/ArrayList$Itr", name := "checkForComodification", desc := "()V" } : Jvm.MethodName)) ∈ lw_all := lw_g (lw_at lw_m7 120 rfl) rfl
theorem q1647 : (Jvm.Cond.sameMethod "java/util/ArrayList$Itr" "java/util/ArrayList$Itr" "checkForComodification" "()V") ∈ lw_all := lw_g (lw_at lw_m7 121 rfl) rfl
theorem q1649 : (Jvm.Cond.code ({ cls := "java/util/ArrayList$Itr", name := "checkForComodification", desc := "()V" } : Jvm.MethodName) prog_64_method_6_code (1 : Nat) (Option.none : Option Jvm.ClassFile.FieldType)) ∈ lw_all := lw_g (lw_at lw_m7 123 rfl) rfl
theorem q2621 : (Jvm.Cond.selects "java/util/ArrayList$Itr" ({ cls := "java/util/Iterator", name := "remove", desc := "()V" } : Jvm.MethodName) ({ cls := "java/util/ArrayList$Itr", name := "remove", desc := "()V" } : Jvm.MethodName)) ∈ lw_all := lw_g (lw_at lw_m11 135 rfl) rfl
theorem q2622 : (Jvm.Cond.unhidden "java/util/ArrayList$Itr" "remove" "()V") ∈ lw_tbl := lw_at lw_m11 136 rfl
theorem q2623 : (Jvm.Cond.instanceMethod ({ cls := "java/util/ArrayList$Itr", name := "remove", desc := "()V" } : Jvm.MethodName)) ∈ lw_all := lw_g (lw_at lw_m11 137 rfl) rfl
theorem q2624 : (Jvm.Cond.publicMethod ({ cls := "java/util/ArrayList$Itr", name := "remove", desc := "()V" } : Jvm.MethodName)) ∈ lw_tbl := lw_at lw_m11 138 rfl
theorem q2625 : (Jvm.Cond.codeWith ({ cls := "java/util/ArrayList$Itr", name := "remove", desc := "()V" } : Jvm.MethodName) prog_64_method_4_code (2 : Nat) (Option.none : Option Jvm.ClassFile.FieldType) [((19 : Nat), (55 : Nat), (58 : Nat), (51 : Nat))]) ∈ lw_all := lw_g (lw_at lw_m11 139 rfl) rfl
theorem q2626 : (Jvm.Cond.classLink "java/util/ArrayList$Itr" (44 : Nat) "java/lang/IllegalStateException") ∈ lw_all := lw_g (lw_at lw_m11 140 rfl) rfl
theorem q2627 : (Jvm.Cond.methodLink "java/util/ArrayList$Itr" (46 : Nat) ({ cls := "java/lang/IllegalStateException", name := "<init>", desc := "()V" } : Jvm.MethodName)) ∈ lw_all := lw_g (lw_at lw_m11 141 rfl) rfl
theorem q2628 : (Jvm.Cond.methodLink "java/util/ArrayList$Itr" (47 : Nat) ({ cls := "java/util/ArrayList", name := "remove", desc := "(I)Ljava/lang/Object;" } : Jvm.MethodName)) ∈ lw_all := lw_g (lw_at lw_m11 142 rfl) rfl
theorem q2629 : (Jvm.Cond.classLink "java/util/ArrayList$Itr" (41 : Nat) "java/util/ConcurrentModificationException") ∈ lw_all := lw_g (lw_at lw_m11 143 rfl) rfl
theorem q2630 : (Jvm.Cond.methodLink "java/util/ArrayList$Itr" (43 : Nat) ({ cls := "java/util/ConcurrentModificationException", name := "<init>", desc := "()V" } : Jvm.MethodName)) ∈ lw_all := lw_g (lw_at lw_m11 144 rfl) rfl
theorem q3818 : (Jvm.Cond.castable "java/util/ArrayList$Itr" "java/lang/Object") ∈ lw_tbl := lw_at lw_m16 132 rfl
theorem in_J29 : ∀ w ∈ wsJ290, w ∈ lw_all := lw_in wsJ290 [1316, 1318, 1320, 1322] (by decide +kernel) (by decide +kernel)
/-! java/util/ImmutableCollections$ListItr -/
set_option maxRecDepth 100000
def RJ31 : String := "java/util/ImmutableCollections$ListItr"
def TJ31 : u_T := fun k => match k with
  | 0 => ("java/util/ImmutableCollections$ListItr", "list", "Ljava/util/List;", true)
  | 1 => ("java/util/ImmutableCollections$ListItr", "size", "I", true)
  | 2 => ("java/util/ImmutableCollections$ListItr", "isListIterator", "Z", true)
  | _ => ("java/util/ImmutableCollections$ListItr", "cursor", "I", false)
def tyJ31 : Nat → FieldType := fun k => match k with
  | 0 => .object "java/util/List"
  | 1 => .int
  | 2 => .boolean
  | _ => .int
abbrev wsJ310 : List Cond := u_ws RJ31 TJ31 4
theorem nmJ31 : ∀ a, a < 4 → ∀ b, b < 4 → a ≠ b → (TJ31 a).2.1 ≠ (TJ31 b).2.1 := by decide +kernel
theorem tyJ31_ok : ∀ k, k < 4 → parseFieldDescriptor (TJ31 k).2.2.1 = some (tyJ31 k) := by decide +kernel
abbrev cJ31_init : ByteArray := prog_77_method_1_code
def yJ31_init : MethodName := ⟨RJ31, "<init>", "(Ljava/util/List;I)V"⟩
def dkwJ31_init_1 : List UInt8 := [177]
abbrev dktJ31_init_1 : List UInt8 := dkwJ31_init_1 ++ []
def dkwJ31_init_0 : List UInt8 := [42, 183, 0, 1, 42, 43, 181, 0, 7, 42, 28, 181, 0, 13, 42, 3, 181, 0, 17, 42, 3, 181, 0, 20]
abbrev dktJ31_init_0 : List UInt8 := dkwJ31_init_0 ++ dktJ31_init_1
theorem dksJ31_init_0 : cJ31_init.data.toList.drop 0 = dktJ31_init_0 := by decide +kernel
theorem dksJ31_init_1 : cJ31_init.data.toList.drop 24 = dktJ31_init_1 := dk_seg dksJ31_init_0 24 rfl rfl
theorem dJ31_init_0 : decode cJ31_init 0 = .ok (.aload_n 0, 1) := dk_42 (dk_at dksJ31_init_0 0 rfl rfl)
theorem dJ31_init_1 : decode cJ31_init 1 = .ok (.invokespecial 1, 3) := dk_183 0 1 (dk_at dksJ31_init_0 1 rfl rfl)
theorem dJ31_init_4 : decode cJ31_init 4 = .ok (.aload_n 0, 1) := dk_42 (dk_at dksJ31_init_0 4 rfl rfl)
theorem dJ31_init_5 : decode cJ31_init 5 = .ok (.aload_n 1, 1) := dk_43 (dk_at dksJ31_init_0 5 rfl rfl)
theorem dJ31_init_6 : decode cJ31_init 6 = .ok (.putfield 7, 3) := dk_181 0 7 (dk_at dksJ31_init_0 6 rfl rfl)
theorem dJ31_init_9 : decode cJ31_init 9 = .ok (.aload_n 0, 1) := dk_42 (dk_at dksJ31_init_0 9 rfl rfl)
theorem dJ31_init_10 : decode cJ31_init 10 = .ok (.iload_n 2, 1) := dk_28 (dk_at dksJ31_init_0 10 rfl rfl)
theorem dJ31_init_11 : decode cJ31_init 11 = .ok (.putfield 13, 3) := dk_181 0 13 (dk_at dksJ31_init_0 11 rfl rfl)
theorem dJ31_init_14 : decode cJ31_init 14 = .ok (.aload_n 0, 1) := dk_42 (dk_at dksJ31_init_0 14 rfl rfl)
theorem dJ31_init_15 : decode cJ31_init 15 = .ok (.iconst 0, 1) := dk_3 (dk_at dksJ31_init_0 15 rfl rfl)
theorem dJ31_init_16 : decode cJ31_init 16 = .ok (.putfield 17, 3) := dk_181 0 17 (dk_at dksJ31_init_0 16 rfl rfl)
theorem dJ31_init_19 : decode cJ31_init 19 = .ok (.aload_n 0, 1) := dk_42 (dk_at dksJ31_init_0 19 rfl rfl)
theorem dJ31_init_20 : decode cJ31_init 20 = .ok (.iconst 0, 1) := dk_3 (dk_at dksJ31_init_0 20 rfl rfl)
theorem dJ31_init_21 : decode cJ31_init 21 = .ok (.putfield 20, 3) := dk_181 0 20 (dk_at dksJ31_init_0 21 rfl rfl)
theorem dJ31_init_24 : decode cJ31_init 24 = .ok (.return_, 1) := dk_177 (dk_at dksJ31_init_1 0 rfl rfl)
abbrev cJ31_hasNext : ByteArray := prog_77_method_3_code
def yJ31_hasNext : MethodName := ⟨RJ31, "hasNext", "()Z"⟩
def dkwJ31_hasNext_0 : List UInt8 := [42, 180, 0, 17, 42, 180, 0, 13, 159, 0, 7, 4, 167, 0, 4, 3, 172]
abbrev dktJ31_hasNext_0 : List UInt8 := dkwJ31_hasNext_0 ++ []
theorem dksJ31_hasNext_0 : cJ31_hasNext.data.toList.drop 0 = dktJ31_hasNext_0 := by decide +kernel
theorem dJ31_hasNext_0 : decode cJ31_hasNext 0 = .ok (.aload_n 0, 1) := dk_42 (dk_at dksJ31_hasNext_0 0 rfl rfl)
theorem dJ31_hasNext_1 : decode cJ31_hasNext 1 = .ok (.getfield 17, 3) := dk_180 0 17 (dk_at dksJ31_hasNext_0 1 rfl rfl)
theorem dJ31_hasNext_4 : decode cJ31_hasNext 4 = .ok (.aload_n 0, 1) := dk_42 (dk_at dksJ31_hasNext_0 4 rfl rfl)
theorem dJ31_hasNext_5 : decode cJ31_hasNext 5 = .ok (.getfield 13, 3) := dk_180 0 13 (dk_at dksJ31_hasNext_0 5 rfl rfl)
theorem dJ31_hasNext_8 : decode cJ31_hasNext 8 = .ok (.if_icmp .eq 7, 3) := dk_159 0 7 (dk_at dksJ31_hasNext_0 8 rfl rfl)
theorem dJ31_hasNext_11 : decode cJ31_hasNext 11 = .ok (.iconst 1, 1) := dk_4 (dk_at dksJ31_hasNext_0 11 rfl rfl)
theorem dJ31_hasNext_12 : decode cJ31_hasNext 12 = .ok (.goto 4, 3) := dk_167 0 4 (dk_at dksJ31_hasNext_0 12 rfl rfl)
theorem dJ31_hasNext_15 : decode cJ31_hasNext 15 = .ok (.iconst 0, 1) := dk_3 (dk_at dksJ31_hasNext_0 15 rfl rfl)
theorem dJ31_hasNext_16 : decode cJ31_hasNext 16 = .ok (.ireturn, 1) := dk_172 (dk_at dksJ31_hasNext_0 16 rfl rfl)
abbrev cJ31_next : ByteArray := prog_77_method_4_code
def yJ31_next : MethodName := ⟨RJ31, "next", "()Ljava/lang/Object;"⟩
def dkwJ31_next_1 : List UInt8 := [176, 76, 187, 0, 32, 89, 183, 0, 34, 191]
abbrev dktJ31_next_1 : List UInt8 := dkwJ31_next_1 ++ []
def dkwJ31_next_0 : List UInt8 := [42, 180, 0, 17, 60, 42, 180, 0, 7, 27, 185, 0, 24, 2, 0, 77, 42, 27, 4, 96, 181, 0, 17, 44]
abbrev dktJ31_next_0 : List UInt8 := dkwJ31_next_0 ++ dktJ31_next_1
theorem dksJ31_next_0 : cJ31_next.data.toList.drop 0 = dktJ31_next_0 := by decide +kernel
theorem dksJ31_next_1 : cJ31_next.data.toList.drop 24 = dktJ31_next_1 := dk_seg dksJ31_next_0 24 rfl rfl
theorem dJ31_next_0 : decode cJ31_next 0 = .ok (.aload_n 0, 1) := dk_42 (dk_at dksJ31_next_0 0 rfl rfl)
theorem dJ31_next_1 : decode cJ31_next 1 = .ok (.getfield 17, 3) := dk_180 0 17 (dk_at dksJ31_next_0 1 rfl rfl)
theorem dJ31_next_4 : decode cJ31_next 4 = .ok (.istore_n 1, 1) := dk_60 (dk_at dksJ31_next_0 4 rfl rfl)
theorem dJ31_next_5 : decode cJ31_next 5 = .ok (.aload_n 0, 1) := dk_42 (dk_at dksJ31_next_0 5 rfl rfl)
theorem dJ31_next_6 : decode cJ31_next 6 = .ok (.getfield 7, 3) := dk_180 0 7 (dk_at dksJ31_next_0 6 rfl rfl)
theorem dJ31_next_9 : decode cJ31_next 9 = .ok (.iload_n 1, 1) := dk_27 (dk_at dksJ31_next_0 9 rfl rfl)
theorem dJ31_next_10 : decode cJ31_next 10 = .ok (.invokeinterface 24 2, 5) := by decide +kernel
theorem dJ31_next_15 : decode cJ31_next 15 = .ok (.astore_n 2, 1) := dk_77 (dk_at dksJ31_next_0 15 rfl rfl)
theorem dJ31_next_16 : decode cJ31_next 16 = .ok (.aload_n 0, 1) := dk_42 (dk_at dksJ31_next_0 16 rfl rfl)
theorem dJ31_next_17 : decode cJ31_next 17 = .ok (.iload_n 1, 1) := dk_27 (dk_at dksJ31_next_0 17 rfl rfl)
theorem dJ31_next_18 : decode cJ31_next 18 = .ok (.iconst 1, 1) := dk_4 (dk_at dksJ31_next_0 18 rfl rfl)
theorem dJ31_next_19 : decode cJ31_next 19 = .ok (.iadd, 1) := dk_96 (dk_at dksJ31_next_0 19 rfl rfl)
theorem dJ31_next_20 : decode cJ31_next 20 = .ok (.putfield 17, 3) := dk_181 0 17 (dk_at dksJ31_next_0 20 rfl rfl)
theorem dJ31_next_23 : decode cJ31_next 23 = .ok (.aload_n 2, 1) := dk_44 (dk_at dksJ31_next_0 23 rfl rfl)
theorem dJ31_next_24 : decode cJ31_next 24 = .ok (.areturn, 1) := dk_176 (dk_at dksJ31_next_1 0 rfl rfl)
theorem dJ31_next_25 : decode cJ31_next 25 = .ok (.astore_n 1, 1) := dk_76 (dk_at dksJ31_next_1 1 rfl rfl)
theorem dJ31_next_26 : decode cJ31_next 26 = .ok (.new 32, 3) := dk_187 0 32 (dk_at dksJ31_next_1 2 rfl rfl)
theorem dJ31_next_29 : decode cJ31_next 29 = .ok (.dup, 1) := dk_89 (dk_at dksJ31_next_1 5 rfl rfl)
theorem dJ31_next_30 : decode cJ31_next 30 = .ok (.invokespecial 34, 3) := dk_183 0 34 (dk_at dksJ31_next_1 6 rfl rfl)
theorem dJ31_next_33 : decode cJ31_next 33 = .ok (.athrow, 1) := dk_191 (dk_at dksJ31_next_1 9 rfl rfl)
abbrev cJ31_remove : ByteArray := prog_77_method_5_code
def yJ31_remove : MethodName := ⟨RJ31, "remove", "()V"⟩
theorem dJ31_remove_0 : decode cJ31_remove 0 = .ok (.invokestatic 35, 3) := by decide +kernel
theorem dJ31_remove_3 : decode cJ31_remove 3 = .ok (.athrow, 1) := by decide +kernel
theorem q134 : (Jvm.Cond.initialized "java/util/ImmutableCollections$ListItr") ∈ lw_all := lw_g (lw_at lw_m1 48 rfl) rfl
theorem q268 : (Jvm.Cond.selects "java/util/ImmutableCollections$ListItr" ({ cls := "java/lang/Object", name := "getClass", desc := "()Ljava/lang/Class;" } : Jvm.MethodName) ({ cls := "java/lang/Object", name := "getClass", desc := "()Ljava/lang/Class;" } : Jvm.MethodName)) ∈ lw_all := lw_g (lw_at lw_m1 182 rfl) rfl
theorem q1357 : (Jvm.Cond.instantiable "java/util/ImmutableCollections$ListItr" (4 : Nat)) ∈ lw_all := lw_g (lw_at lw_m6 71 rfl) rfl
theorem q1363 : (Jvm.Cond.instanceMethod ({ cls := "java/util/ImmutableCollections$ListItr", name := "<init>", desc := "(Ljava/util/List;I)V" } : Jvm.MethodName)) ∈ lw_all := lw_g (lw_at lw_m6 77 rfl) rfl
theorem q1364 : (Jvm.Cond.code ({ cls := "java/util/ImmutableCollections$ListItr", name := "<init>", desc := "(Ljava/util/List;I)V" } : Jvm.MethodName) prog_77_method_1_code (3 : Nat) (Option.none : Option Jvm.ClassFile.FieldType)) ∈ lw_all := lw_g (lw_at lw_m6 78 rfl) rfl
theorem q1365 : (Jvm.Cond.methodLink "java/util/ImmutableCollections$ListItr" (1 : Nat) ({ cls := "java/lang/Object", name := "<init>", desc := "()V" } : Jvm.MethodName)) ∈ lw_all := lw_g (lw_at lw_m6 79 rfl) rfl
theorem q1366 : (Jvm.Cond.fieldLink "java/util/ImmutableCollections$ListItr" (7 : Nat) "java/util/ImmutableCollections$ListItr" "list" "Ljava/util/List;") ∈ lw_all := lw_g (lw_at lw_m6 80 rfl) rfl
theorem q1367 : (Jvm.Cond.fieldLink "java/util/ImmutableCollections$ListItr" (13 : Nat) "java/util/ImmutableCollections$ListItr" "size" "I") ∈ lw_all := lw_g (lw_at lw_m6 81 rfl) rfl
theorem q1368 : (Jvm.Cond.fieldLink "java/util/ImmutableCollections$ListItr" (20 : Nat) "java/util/ImmutableCollections$ListItr" "isListIterator" "Z") ∈ lw_all := lw_g (lw_at lw_m6 82 rfl) rfl
theorem q1369 : (Jvm.Cond.fieldLink "java/util/ImmutableCollections$ListItr" (17 : Nat) "java/util/ImmutableCollections$ListItr" "cursor" "I") ∈ lw_all := lw_g (lw_at lw_m6 83 rfl) rfl
theorem q1370 : (Jvm.Cond.laysFinal "java/util/ImmutableCollections$ListItr" "java/util/ImmutableCollections$ListItr" "list" "Ljava/util/List;") ∈ lw_all := lw_g (lw_at lw_m6 84 rfl) rfl
theorem q1371 : (Jvm.Cond.soleField "java/util/ImmutableCollections$ListItr" "list") ∈ lw_all := lw_g (lw_at lw_m6 85 rfl) rfl
theorem q1372 : (Jvm.Cond.laysFinal "java/util/ImmutableCollections$ListItr" "java/util/ImmutableCollections$ListItr" "size" "I") ∈ lw_all := lw_g (lw_at lw_m6 86 rfl) rfl
theorem q1373 : (Jvm.Cond.soleField "java/util/ImmutableCollections$ListItr" "size") ∈ lw_all := lw_g (lw_at lw_m6 87 rfl) rfl
theorem q1374 : (Jvm.Cond.laysFinal "java/util/ImmutableCollections$ListItr" "java/util/ImmutableCollections$ListItr" "isListIterator" "Z") ∈ lw_all := lw_g (lw_at lw_m6 88 rfl) rfl
theorem q1375 : (Jvm.Cond.soleField "java/util/ImmutableCollections$ListItr" "isListIterator") ∈ lw_all := lw_g (lw_at lw_m6 89 rfl) rfl
theorem q1376 : (Jvm.Cond.lays "java/util/ImmutableCollections$ListItr" "java/util/ImmutableCollections$ListItr" "cursor" "I") ∈ lw_all := lw_g (lw_at lw_m6 90 rfl) rfl
theorem q1377 : (Jvm.Cond.soleField "java/util/ImmutableCollections$ListItr" "cursor") ∈ lw_all := lw_g (lw_at lw_m6 91 rfl) rfl
theorem q1378 : (Jvm.Cond.superclass "java/util/ImmutableCollections$ListItr" "java/lang/Object") ∈ lw_all := lw_g (lw_at lw_m6 92 rfl) rfl
theorem q1500 : (Jvm.Cond.castable "java/util/ImmutableCollections$ListItr" "java/util/Iterator") ∈ lw_tbl := lw_at lw_m6 214 rfl
theorem q1501 : (Jvm.Cond.selects "java/util/ImmutableCollections$ListItr" ({ cls := "java/util/Iterator", name := "hasNext", desc := "()Z" } : Jvm.MethodName) ({ cls := "java/util/ImmutableCollections$ListItr", name := "hasNext", desc := "()Z" } : Jvm.MethodName)) ∈ lw_all := lw_g (lw_at lw_m6 215 rfl) rfl
theorem q1502 : (Jvm.Cond.unhidden "java/util/ImmutableCollections$ListItr" "hasNext" "()Z") ∈ lw_tbl := lw_at lw_m6 216 rfl
theorem q1503 : (Jvm.Cond.instanceMethod ({ cls := "java/util/ImmutableCollections$ListItr", name := "hasNext", desc := "()Z" } : Jvm.MethodName)) ∈ lw_all := lw_g (lw_at lw_m6 217 rfl) rfl
theorem q1504 : (Jvm.Cond.publicMethod ({ cls := "java/util/ImmutableCollections$ListItr", name := "hasNext", desc := "()Z" } : Jvm.MethodName)) ∈ lw_tbl := lw_at lw_m6 218 rfl
theorem q1505 : (Jvm.Cond.code ({ cls := "java/util/ImmutableCollections$ListItr", name := "hasNext", desc := "()Z" } : Jvm.MethodName) prog_77_method_3_code (1 : Nat) (Option.some Jvm.ClassFile.FieldType.boolean)) ∈ lw_all := lw_g (lw_at lw_m6 219 rfl) rfl
theorem q1652 : (Jvm.Cond.selects "java/util/ImmutableCollections$ListItr" ({ cls := "java/util/Iterator", name := "next", desc := "()Ljava/lang/Object;" } : Jvm.MethodName) ({ cls := "java/util/ImmutableCollections$ListItr", name := "next", desc := "()Ljava/lang/Object;" } : Jvm.MethodName)) ∈ lw_all := lw_g (lw_at lw_m7 126 rfl) rfl
theorem q1653 : (Jvm.Cond.unhidden "java/util/ImmutableCollections$ListItr" "next" "()Ljava/lang/Object;") ∈ lw_tbl := lw_at lw_m7 127 rfl
theorem q1654 : (Jvm.Cond.instanceMethod ({ cls := "java/util/ImmutableCollections$ListItr", name := "next", desc := "()Ljava/lang/Object;" } : Jvm.MethodName)) ∈ lw_all := lw_g (lw_at lw_m7 128 rfl) rfl
theorem q1655 : (Jvm.Cond.publicMethod ({ cls := "java/util/ImmutableCollections$ListItr", name := "next", desc := "()Ljava/lang/Object;" } : Jvm.MethodName)) ∈ lw_tbl := lw_at lw_m7 129 rfl
theorem q1656 : (Jvm.Cond.codeWith ({ cls := "java/util/ImmutableCollections$ListItr", name := "next", desc := "()Ljava/lang/Object;" } : Jvm.MethodName) prog_77_method_4_code (3 : Nat) (Option.some (Jvm.ClassFile.FieldType.object "java/lang/Object")) [((0 : Nat), (24 : Nat), (25 : Nat), (30 : Nat))]) ∈ lw_all := lw_g (lw_at lw_m7 130 rfl) rfl
theorem q1657 : (Jvm.Cond.interfaceEntry "java/util/ImmutableCollections$ListItr" (24 : Nat)) ∈ lw_tbl := lw_at lw_m7 131 rfl
theorem q1658 : (Jvm.Cond.methodLink "java/util/ImmutableCollections$ListItr" (24 : Nat) ({ cls := "java/util/List", name := "get", desc := "(I)Ljava/lang/Object;" } : Jvm.MethodName)) ∈ lw_all := lw_g (lw_at lw_m7 132 rfl) rfl
theorem q1695 : (Jvm.Cond.classLink "java/util/ImmutableCollections$ListItr" (32 : Nat) "java/util/NoSuchElementException") ∈ lw_all := lw_g (lw_at lw_m7 169 rfl) rfl
theorem q1696 : (Jvm.Cond.methodLink "java/util/ImmutableCollections$ListItr" (34 : Nat) ({ cls := "java/util/NoSuchElementException", name := "<init>", desc := "()V" } : Jvm.MethodName)) ∈ lw_all := lw_g (lw_at lw_m7 170 rfl) rfl
theorem q2633 : (Jvm.Cond.selects "java/util/ImmutableCollections$ListItr" ({ cls := "java/util/Iterator", name := "remove", desc := "()V" } : Jvm.MethodName) ({ cls := "java/util/ImmutableCollections$ListItr", name := "remove", desc := "()V" } : Jvm.MethodName)) ∈ lw_all := lw_g (lw_at lw_m11 147 rfl) rfl
theorem q2634 : (Jvm.Cond.unhidden "java/util/ImmutableCollections$ListItr" "remove" "()V") ∈ lw_tbl := lw_at lw_m11 148 rfl
theorem q2635 : (Jvm.Cond.instanceMethod ({ cls := "java/util/ImmutableCollections$ListItr", name := "remove", desc := "()V" } : Jvm.MethodName)) ∈ lw_all := lw_g (lw_at lw_m11 149 rfl) rfl
theorem q2636 : (Jvm.Cond.publicMethod ({ cls := "java/util/ImmutableCollections$ListItr", name := "remove", desc := "()V" } : Jvm.MethodName)) ∈ lw_tbl := lw_at lw_m11 150 rfl
theorem q2637 : (Jvm.Cond.code ({ cls := "java/util/ImmutableCollections$ListItr", name := "remove", desc := "()V" } : Jvm.MethodName) prog_77_method_5_code (1 : Nat) (Option.none : Option Jvm.ClassFile.FieldType)) ∈ lw_all := lw_g (lw_at lw_m11 151 rfl) rfl
theorem q3819 : (Jvm.Cond.castable "java/util/ImmutableCollections$ListItr" "java/lang/Object") ∈ lw_tbl := lw_at lw_m16 133 rfl
theorem in_J31 : ∀ w ∈ wsJ310, w ∈ lw_all := lw_in wsJ310 [1370, 1372, 1374, 1376] (by decide +kernel) (by decide +kernel)
/-! java/util/LinkedList$ListItr -/
set_option maxRecDepth 100000
def RJ34 : String := "java/util/LinkedList$ListItr"
def TJ34 : u_T := fun k => match k with
  | 0 => ("java/util/LinkedList$ListItr", "lastReturned", "Ljava/util/LinkedList$Node;", false)
  | 1 => ("java/util/LinkedList$ListItr", "next", "Ljava/util/LinkedList$Node;", false)
  | 2 => ("java/util/LinkedList$ListItr", "nextIndex", "I", false)
  | 3 => ("java/util/LinkedList$ListItr", "expectedModCount", "I", false)
  | _ => ("java/util/LinkedList$ListItr", "this$0", "Ljava/util/LinkedList;", true)
def tyJ34 : Nat → FieldType := fun k => match k with
  | 0 => .object "java/util/LinkedList$Node"
  | 1 => .object "java/util/LinkedList$Node"
  | 2 => .int
  | 3 => .int
  | _ => .object "java/util/LinkedList"
abbrev wsJ340 : List Cond := u_ws RJ34 TJ34 5
theorem nmJ34 : ∀ a, a < 5 → ∀ b, b < 5 → a ≠ b → (TJ34 a).2.1 ≠ (TJ34 b).2.1 := by decide +kernel
theorem tyJ34_ok : ∀ k, k < 5 → parseFieldDescriptor (TJ34 k).2.2.1 = some (tyJ34 k) := by decide +kernel
abbrev cJ34_init : ByteArray := prog_81_method_1_code
def yJ34_init : MethodName := ⟨RJ34, "<init>", "(Ljava/util/LinkedList;I)V"⟩
def dkwJ34_init_1 : List UInt8 := [180, 0, 22, 160, 0, 7, 1, 167, 0, 8, 43, 28, 182, 0, 25, 181, 0, 29, 42, 28, 181, 0, 33, 177]
abbrev dktJ34_init_1 : List UInt8 := dkwJ34_init_1 ++ []
def dkwJ34_init_0 : List UInt8 := [42, 43, 181, 0, 1, 42, 183, 0, 7, 42, 42, 180, 0, 1, 180, 0, 13, 181, 0, 19, 42, 28, 43]
abbrev dktJ34_init_0 : List UInt8 := dkwJ34_init_0 ++ dktJ34_init_1
theorem dksJ34_init_0 : cJ34_init.data.toList.drop 0 = dktJ34_init_0 := by decide +kernel
theorem dksJ34_init_1 : cJ34_init.data.toList.drop 23 = dktJ34_init_1 := dk_seg dksJ34_init_0 23 rfl rfl
theorem dJ34_init_0 : decode cJ34_init 0 = .ok (.aload_n 0, 1) := dk_42 (dk_at dksJ34_init_0 0 rfl rfl)
theorem dJ34_init_1 : decode cJ34_init 1 = .ok (.aload_n 1, 1) := dk_43 (dk_at dksJ34_init_0 1 rfl rfl)
theorem dJ34_init_2 : decode cJ34_init 2 = .ok (.putfield 1, 3) := dk_181 0 1 (dk_at dksJ34_init_0 2 rfl rfl)
theorem dJ34_init_5 : decode cJ34_init 5 = .ok (.aload_n 0, 1) := dk_42 (dk_at dksJ34_init_0 5 rfl rfl)
theorem dJ34_init_6 : decode cJ34_init 6 = .ok (.invokespecial 7, 3) := dk_183 0 7 (dk_at dksJ34_init_0 6 rfl rfl)
theorem dJ34_init_9 : decode cJ34_init 9 = .ok (.aload_n 0, 1) := dk_42 (dk_at dksJ34_init_0 9 rfl rfl)
theorem dJ34_init_10 : decode cJ34_init 10 = .ok (.aload_n 0, 1) := dk_42 (dk_at dksJ34_init_0 10 rfl rfl)
theorem dJ34_init_11 : decode cJ34_init 11 = .ok (.getfield 1, 3) := dk_180 0 1 (dk_at dksJ34_init_0 11 rfl rfl)
theorem dJ34_init_14 : decode cJ34_init 14 = .ok (.getfield 13, 3) := dk_180 0 13 (dk_at dksJ34_init_0 14 rfl rfl)
theorem dJ34_init_17 : decode cJ34_init 17 = .ok (.putfield 19, 3) := dk_181 0 19 (dk_at dksJ34_init_0 17 rfl rfl)
theorem dJ34_init_20 : decode cJ34_init 20 = .ok (.aload_n 0, 1) := dk_42 (dk_at dksJ34_init_0 20 rfl rfl)
theorem dJ34_init_21 : decode cJ34_init 21 = .ok (.iload_n 2, 1) := dk_28 (dk_at dksJ34_init_0 21 rfl rfl)
theorem dJ34_init_22 : decode cJ34_init 22 = .ok (.aload_n 1, 1) := dk_43 (dk_at dksJ34_init_0 22 rfl rfl)
theorem dJ34_init_23 : decode cJ34_init 23 = .ok (.getfield 22, 3) := dk_180 0 22 (dk_at dksJ34_init_1 0 rfl rfl)
theorem dJ34_init_26 : decode cJ34_init 26 = .ok (.if_icmp .ne 7, 3) := dk_160 0 7 (dk_at dksJ34_init_1 3 rfl rfl)
theorem dJ34_init_29 : decode cJ34_init 29 = .ok (.aconst_null, 1) := dk_1 (dk_at dksJ34_init_1 6 rfl rfl)
theorem dJ34_init_30 : decode cJ34_init 30 = .ok (.goto 8, 3) := dk_167 0 8 (dk_at dksJ34_init_1 7 rfl rfl)
theorem dJ34_init_33 : decode cJ34_init 33 = .ok (.aload_n 1, 1) := dk_43 (dk_at dksJ34_init_1 10 rfl rfl)
theorem dJ34_init_34 : decode cJ34_init 34 = .ok (.iload_n 2, 1) := dk_28 (dk_at dksJ34_init_1 11 rfl rfl)
theorem dJ34_init_35 : decode cJ34_init 35 = .ok (.invokevirtual 25, 3) := dk_182 0 25 (dk_at dksJ34_init_1 12 rfl rfl)
theorem dJ34_init_38 : decode cJ34_init 38 = .ok (.putfield 29, 3) := dk_181 0 29 (dk_at dksJ34_init_1 15 rfl rfl)
theorem dJ34_init_41 : decode cJ34_init 41 = .ok (.aload_n 0, 1) := dk_42 (dk_at dksJ34_init_1 18 rfl rfl)
theorem dJ34_init_42 : decode cJ34_init 42 = .ok (.iload_n 2, 1) := dk_28 (dk_at dksJ34_init_1 19 rfl rfl)
theorem dJ34_init_43 : decode cJ34_init 43 = .ok (.putfield 33, 3) := dk_181 0 33 (dk_at dksJ34_init_1 20 rfl rfl)
theorem dJ34_init_46 : decode cJ34_init 46 = .ok (.return_, 1) := dk_177 (dk_at dksJ34_init_1 23 rfl rfl)
abbrev cJ34_hasNext : ByteArray := prog_81_method_2_code
def yJ34_hasNext : MethodName := ⟨RJ34, "hasNext", "()Z"⟩
def dkwJ34_hasNext_0 : List UInt8 := [42, 180, 0, 33, 42, 180, 0, 1, 180, 0, 22, 162, 0, 7, 4, 167, 0, 4, 3, 172]
abbrev dktJ34_hasNext_0 : List UInt8 := dkwJ34_hasNext_0 ++ []
theorem dksJ34_hasNext_0 : cJ34_hasNext.data.toList.drop 0 = dktJ34_hasNext_0 := by decide +kernel
theorem dJ34_hasNext_0 : decode cJ34_hasNext 0 = .ok (.aload_n 0, 1) := dk_42 (dk_at dksJ34_hasNext_0 0 rfl rfl)
theorem dJ34_hasNext_1 : decode cJ34_hasNext 1 = .ok (.getfield 33, 3) := dk_180 0 33 (dk_at dksJ34_hasNext_0 1 rfl rfl)
theorem dJ34_hasNext_4 : decode cJ34_hasNext 4 = .ok (.aload_n 0, 1) := dk_42 (dk_at dksJ34_hasNext_0 4 rfl rfl)
theorem dJ34_hasNext_5 : decode cJ34_hasNext 5 = .ok (.getfield 1, 3) := dk_180 0 1 (dk_at dksJ34_hasNext_0 5 rfl rfl)
theorem dJ34_hasNext_8 : decode cJ34_hasNext 8 = .ok (.getfield 22, 3) := dk_180 0 22 (dk_at dksJ34_hasNext_0 8 rfl rfl)
theorem dJ34_hasNext_11 : decode cJ34_hasNext 11 = .ok (.if_icmp .ge 7, 3) := dk_162 0 7 (dk_at dksJ34_hasNext_0 11 rfl rfl)
theorem dJ34_hasNext_14 : decode cJ34_hasNext 14 = .ok (.iconst 1, 1) := dk_4 (dk_at dksJ34_hasNext_0 14 rfl rfl)
theorem dJ34_hasNext_15 : decode cJ34_hasNext 15 = .ok (.goto 4, 3) := dk_167 0 4 (dk_at dksJ34_hasNext_0 15 rfl rfl)
theorem dJ34_hasNext_18 : decode cJ34_hasNext 18 = .ok (.iconst 0, 1) := dk_3 (dk_at dksJ34_hasNext_0 18 rfl rfl)
theorem dJ34_hasNext_19 : decode cJ34_hasNext 19 = .ok (.ireturn, 1) := dk_172 (dk_at dksJ34_hasNext_0 19 rfl rfl)
abbrev cJ34_next : ByteArray := prog_81_method_3_code
def yJ34_next : MethodName := ⟨RJ34, "next", "()Ljava/lang/Object;"⟩
def dkwJ34_next_2 : List UInt8 := [42, 180, 0, 46, 180, 0, 52, 176]
abbrev dktJ34_next_2 : List UInt8 := dkwJ34_next_2 ++ []
def dkwJ34_next_1 : List UInt8 := [181, 0, 46, 42, 42, 180, 0, 29, 180, 0, 49, 181, 0, 29, 42, 89, 180, 0, 33, 4, 96, 181, 0, 33]
abbrev dktJ34_next_1 : List UInt8 := dkwJ34_next_1 ++ dktJ34_next_2
def dkwJ34_next_0 : List UInt8 := [42, 182, 0, 36, 42, 182, 0, 39, 154, 0, 11, 187, 0, 43, 89, 183, 0, 45, 191, 42, 42, 180, 0, 29]
abbrev dktJ34_next_0 : List UInt8 := dkwJ34_next_0 ++ dktJ34_next_1
theorem dksJ34_next_0 : cJ34_next.data.toList.drop 0 = dktJ34_next_0 := by decide +kernel
theorem dksJ34_next_1 : cJ34_next.data.toList.drop 24 = dktJ34_next_1 := dk_seg dksJ34_next_0 24 rfl rfl
theorem dksJ34_next_2 : cJ34_next.data.toList.drop 48 = dktJ34_next_2 := dk_seg dksJ34_next_1 24 rfl rfl
theorem dJ34_next_0 : decode cJ34_next 0 = .ok (.aload_n 0, 1) := dk_42 (dk_at dksJ34_next_0 0 rfl rfl)
theorem dJ34_next_1 : decode cJ34_next 1 = .ok (.invokevirtual 36, 3) := dk_182 0 36 (dk_at dksJ34_next_0 1 rfl rfl)
theorem dJ34_next_4 : decode cJ34_next 4 = .ok (.aload_n 0, 1) := dk_42 (dk_at dksJ34_next_0 4 rfl rfl)
theorem dJ34_next_5 : decode cJ34_next 5 = .ok (.invokevirtual 39, 3) := dk_182 0 39 (dk_at dksJ34_next_0 5 rfl rfl)
theorem dJ34_next_8 : decode cJ34_next 8 = .ok (.ifCond .ne 11, 3) := dk_154 0 11 (dk_at dksJ34_next_0 8 rfl rfl)
theorem dJ34_next_11 : decode cJ34_next 11 = .ok (.new 43, 3) := dk_187 0 43 (dk_at dksJ34_next_0 11 rfl rfl)
theorem dJ34_next_14 : decode cJ34_next 14 = .ok (.dup, 1) := dk_89 (dk_at dksJ34_next_0 14 rfl rfl)
theorem dJ34_next_15 : decode cJ34_next 15 = .ok (.invokespecial 45, 3) := dk_183 0 45 (dk_at dksJ34_next_0 15 rfl rfl)
theorem dJ34_next_18 : decode cJ34_next 18 = .ok (.athrow, 1) := dk_191 (dk_at dksJ34_next_0 18 rfl rfl)
theorem dJ34_next_19 : decode cJ34_next 19 = .ok (.aload_n 0, 1) := dk_42 (dk_at dksJ34_next_0 19 rfl rfl)
theorem dJ34_next_20 : decode cJ34_next 20 = .ok (.aload_n 0, 1) := dk_42 (dk_at dksJ34_next_0 20 rfl rfl)
theorem dJ34_next_21 : decode cJ34_next 21 = .ok (.getfield 29, 3) := dk_180 0 29 (dk_at dksJ34_next_0 21 rfl rfl)
theorem dJ34_next_24 : decode cJ34_next 24 = .ok (.putfield 46, 3) := dk_181 0 46 (dk_at dksJ34_next_1 0 rfl rfl)
theorem dJ34_next_27 : decode cJ34_next 27 = .ok (.aload_n 0, 1) := dk_42 (dk_at dksJ34_next_1 3 rfl rfl)
theorem dJ34_next_28 : decode cJ34_next 28 = .ok (.aload_n 0, 1) := dk_42 (dk_at dksJ34_next_1 4 rfl rfl)
theorem dJ34_next_29 : decode cJ34_next 29 = .ok (.getfield 29, 3) := dk_180 0 29 (dk_at dksJ34_next_1 5 rfl rfl)
theorem dJ34_next_32 : decode cJ34_next 32 = .ok (.getfield 49, 3) := dk_180 0 49 (dk_at dksJ34_next_1 8 rfl rfl)
theorem dJ34_next_35 : decode cJ34_next 35 = .ok (.putfield 29, 3) := dk_181 0 29 (dk_at dksJ34_next_1 11 rfl rfl)
theorem dJ34_next_38 : decode cJ34_next 38 = .ok (.aload_n 0, 1) := dk_42 (dk_at dksJ34_next_1 14 rfl rfl)
theorem dJ34_next_39 : decode cJ34_next 39 = .ok (.dup, 1) := dk_89 (dk_at dksJ34_next_1 15 rfl rfl)
theorem dJ34_next_40 : decode cJ34_next 40 = .ok (.getfield 33, 3) := dk_180 0 33 (dk_at dksJ34_next_1 16 rfl rfl)
theorem dJ34_next_43 : decode cJ34_next 43 = .ok (.iconst 1, 1) := dk_4 (dk_at dksJ34_next_1 19 rfl rfl)
theorem dJ34_next_44 : decode cJ34_next 44 = .ok (.iadd, 1) := dk_96 (dk_at dksJ34_next_1 20 rfl rfl)
theorem dJ34_next_45 : decode cJ34_next 45 = .ok (.putfield 33, 3) := dk_181 0 33 (dk_at dksJ34_next_1 21 rfl rfl)
theorem dJ34_next_48 : decode cJ34_next 48 = .ok (.aload_n 0, 1) := dk_42 (dk_at dksJ34_next_2 0 rfl rfl)
theorem dJ34_next_49 : decode cJ34_next 49 = .ok (.getfield 46, 3) := dk_180 0 46 (dk_at dksJ34_next_2 1 rfl rfl)
theorem dJ34_next_52 : decode cJ34_next 52 = .ok (.getfield 52, 3) := dk_180 0 52 (dk_at dksJ34_next_2 4 rfl rfl)
theorem dJ34_next_55 : decode cJ34_next 55 = .ok (.areturn, 1) := dk_176 (dk_at dksJ34_next_2 7 rfl rfl)
abbrev cJ34_checkForComodification : ByteArray := prog_81_method_12_code
def yJ34_checkForComodification : MethodName := ⟨RJ34, "checkForComodification", "()V"⟩
def dkwJ34_checkForComodification_0 : List UInt8 := [42, 180, 0, 1, 180, 0, 13, 42, 180, 0, 19, 159, 0, 11, 187, 0, 91, 89, 183, 0, 93, 191, 177]
abbrev dktJ34_checkForComodification_0 : List UInt8 := dkwJ34_checkForComodification_0 ++ []
theorem dksJ34_checkForComodification_0 : cJ34_checkForComodification.data.toList.drop 0 = dktJ34_checkForComodification_0 := by decide +kernel
theorem dJ34_checkForComodification_0 : decode cJ34_checkForComodification 0 = .ok (.aload_n 0, 1) := dk_42 (dk_at dksJ34_checkForComodification_0 0 rfl rfl)
theorem dJ34_checkForComodification_1 : decode cJ34_checkForComodification 1 = .ok (.getfield 1, 3) := dk_180 0 1 (dk_at dksJ34_checkForComodification_0 1 rfl rfl)
theorem dJ34_checkForComodification_4 : decode cJ34_checkForComodification 4 = .ok (.getfield 13, 3) := dk_180 0 13 (dk_at dksJ34_checkForComodification_0 4 rfl rfl)
theorem dJ34_checkForComodification_7 : decode cJ34_checkForComodification 7 = .ok (.aload_n 0, 1) := dk_42 (dk_at dksJ34_checkForComodification_0 7 rfl rfl)
theorem dJ34_checkForComodification_8 : decode cJ34_checkForComodification 8 = .ok (.getfield 19, 3) := dk_180 0 19 (dk_at dksJ34_checkForComodification_0 8 rfl rfl)
theorem dJ34_checkForComodification_11 : decode cJ34_checkForComodification 11 = .ok (.if_icmp .eq 11, 3) := dk_159 0 11 (dk_at dksJ34_checkForComodification_0 11 rfl rfl)
theorem dJ34_checkForComodification_14 : decode cJ34_checkForComodification 14 = .ok (.new 91, 3) := dk_187 0 91 (dk_at dksJ34_checkForComodification_0 14 rfl rfl)
theorem dJ34_checkForComodification_17 : decode cJ34_checkForComodification 17 = .ok (.dup, 1) := dk_89 (dk_at dksJ34_checkForComodification_0 17 rfl rfl)
theorem dJ34_checkForComodification_18 : decode cJ34_checkForComodification 18 = .ok (.invokespecial 93, 3) := dk_183 0 93 (dk_at dksJ34_checkForComodification_0 18 rfl rfl)
theorem dJ34_checkForComodification_21 : decode cJ34_checkForComodification 21 = .ok (.athrow, 1) := dk_191 (dk_at dksJ34_checkForComodification_0 21 rfl rfl)
theorem dJ34_checkForComodification_22 : decode cJ34_checkForComodification 22 = .ok (.return_, 1) := dk_177 (dk_at dksJ34_checkForComodification_0 22 rfl rfl)
abbrev cJ34_remove : ByteArray := prog_81_method_8_code
def yJ34_remove : MethodName := ⟨RJ34, "remove", "()V"⟩
def dkwJ34_remove_3 : List UInt8 := [181, 0, 46, 42, 89, 180, 0, 19, 4, 96, 181, 0, 19, 177]
abbrev dktJ34_remove_3 : List UInt8 := dkwJ34_remove_3 ++ []
def dkwJ34_remove_2 : List UInt8 := [166, 0, 11, 42, 43, 181, 0, 29, 167, 0, 13, 42, 89, 180, 0, 33, 4, 100, 181, 0, 33, 42, 1]
abbrev dktJ34_remove_2 : List UInt8 := dkwJ34_remove_2 ++ dktJ34_remove_3
def dkwJ34_remove_1 : List UInt8 := [180, 0, 49, 76, 42, 180, 0, 1, 42, 180, 0, 46, 182, 0, 68, 87, 42, 180, 0, 29, 42, 180, 0, 46]
abbrev dktJ34_remove_1 : List UInt8 := dkwJ34_remove_1 ++ dktJ34_remove_2
def dkwJ34_remove_0 : List UInt8 := [42, 182, 0, 36, 42, 180, 0, 46, 199, 0, 11, 187, 0, 65, 89, 183, 0, 67, 191, 42, 180, 0, 46]
abbrev dktJ34_remove_0 : List UInt8 := dkwJ34_remove_0 ++ dktJ34_remove_1
theorem dksJ34_remove_0 : cJ34_remove.data.toList.drop 0 = dktJ34_remove_0 := by decide +kernel
theorem dksJ34_remove_1 : cJ34_remove.data.toList.drop 23 = dktJ34_remove_1 := dk_seg dksJ34_remove_0 23 rfl rfl
theorem dksJ34_remove_2 : cJ34_remove.data.toList.drop 47 = dktJ34_remove_2 := dk_seg dksJ34_remove_1 24 rfl rfl
theorem dksJ34_remove_3 : cJ34_remove.data.toList.drop 70 = dktJ34_remove_3 := dk_seg dksJ34_remove_2 23 rfl rfl
theorem dJ34_remove_0 : decode cJ34_remove 0 = .ok (.aload_n 0, 1) := dk_42 (dk_at dksJ34_remove_0 0 rfl rfl)
theorem dJ34_remove_1 : decode cJ34_remove 1 = .ok (.invokevirtual 36, 3) := dk_182 0 36 (dk_at dksJ34_remove_0 1 rfl rfl)
theorem dJ34_remove_4 : decode cJ34_remove 4 = .ok (.aload_n 0, 1) := dk_42 (dk_at dksJ34_remove_0 4 rfl rfl)
theorem dJ34_remove_5 : decode cJ34_remove 5 = .ok (.getfield 46, 3) := dk_180 0 46 (dk_at dksJ34_remove_0 5 rfl rfl)
theorem dJ34_remove_8 : decode cJ34_remove 8 = .ok (.ifnonnull 11, 3) := dk_199 0 11 (dk_at dksJ34_remove_0 8 rfl rfl)
theorem dJ34_remove_11 : decode cJ34_remove 11 = .ok (.new 65, 3) := dk_187 0 65 (dk_at dksJ34_remove_0 11 rfl rfl)
theorem dJ34_remove_14 : decode cJ34_remove 14 = .ok (.dup, 1) := dk_89 (dk_at dksJ34_remove_0 14 rfl rfl)
theorem dJ34_remove_15 : decode cJ34_remove 15 = .ok (.invokespecial 67, 3) := dk_183 0 67 (dk_at dksJ34_remove_0 15 rfl rfl)
theorem dJ34_remove_18 : decode cJ34_remove 18 = .ok (.athrow, 1) := dk_191 (dk_at dksJ34_remove_0 18 rfl rfl)
theorem dJ34_remove_19 : decode cJ34_remove 19 = .ok (.aload_n 0, 1) := dk_42 (dk_at dksJ34_remove_0 19 rfl rfl)
theorem dJ34_remove_20 : decode cJ34_remove 20 = .ok (.getfield 46, 3) := dk_180 0 46 (dk_at dksJ34_remove_0 20 rfl rfl)
theorem dJ34_remove_23 : decode cJ34_remove 23 = .ok (.getfield 49, 3) := dk_180 0 49 (dk_at dksJ34_remove_1 0 rfl rfl)
theorem dJ34_remove_26 : decode cJ34_remove 26 = .ok (.astore_n 1, 1) := dk_76 (dk_at dksJ34_remove_1 3 rfl rfl)
theorem dJ34_remove_27 : decode cJ34_remove 27 = .ok (.aload_n 0, 1) := dk_42 (dk_at dksJ34_remove_1 4 rfl rfl)
theorem dJ34_remove_28 : decode cJ34_remove 28 = .ok (.getfield 1, 3) := dk_180 0 1 (dk_at dksJ34_remove_1 5 rfl rfl)
theorem dJ34_remove_31 : decode cJ34_remove 31 = .ok (.aload_n 0, 1) := dk_42 (dk_at dksJ34_remove_1 8 rfl rfl)
theorem dJ34_remove_32 : decode cJ34_remove 32 = .ok (.getfield 46, 3) := dk_180 0 46 (dk_at dksJ34_remove_1 9 rfl rfl)
theorem dJ34_remove_35 : decode cJ34_remove 35 = .ok (.invokevirtual 68, 3) := dk_182 0 68 (dk_at dksJ34_remove_1 12 rfl rfl)
theorem dJ34_remove_38 : decode cJ34_remove 38 = .ok (.pop, 1) := dk_87 (dk_at dksJ34_remove_1 15 rfl rfl)
theorem dJ34_remove_39 : decode cJ34_remove 39 = .ok (.aload_n 0, 1) := dk_42 (dk_at dksJ34_remove_1 16 rfl rfl)
theorem dJ34_remove_40 : decode cJ34_remove 40 = .ok (.getfield 29, 3) := dk_180 0 29 (dk_at dksJ34_remove_1 17 rfl rfl)
theorem dJ34_remove_43 : decode cJ34_remove 43 = .ok (.aload_n 0, 1) := dk_42 (dk_at dksJ34_remove_1 20 rfl rfl)
theorem dJ34_remove_44 : decode cJ34_remove 44 = .ok (.getfield 46, 3) := dk_180 0 46 (dk_at dksJ34_remove_1 21 rfl rfl)
theorem dJ34_remove_47 : decode cJ34_remove 47 = .ok (.if_acmp .ne 11, 3) := dk_166 0 11 (dk_at dksJ34_remove_2 0 rfl rfl)
theorem dJ34_remove_50 : decode cJ34_remove 50 = .ok (.aload_n 0, 1) := dk_42 (dk_at dksJ34_remove_2 3 rfl rfl)
theorem dJ34_remove_51 : decode cJ34_remove 51 = .ok (.aload_n 1, 1) := dk_43 (dk_at dksJ34_remove_2 4 rfl rfl)
theorem dJ34_remove_52 : decode cJ34_remove 52 = .ok (.putfield 29, 3) := dk_181 0 29 (dk_at dksJ34_remove_2 5 rfl rfl)
theorem dJ34_remove_55 : decode cJ34_remove 55 = .ok (.goto 13, 3) := dk_167 0 13 (dk_at dksJ34_remove_2 8 rfl rfl)
theorem dJ34_remove_58 : decode cJ34_remove 58 = .ok (.aload_n 0, 1) := dk_42 (dk_at dksJ34_remove_2 11 rfl rfl)
theorem dJ34_remove_59 : decode cJ34_remove 59 = .ok (.dup, 1) := dk_89 (dk_at dksJ34_remove_2 12 rfl rfl)
theorem dJ34_remove_60 : decode cJ34_remove 60 = .ok (.getfield 33, 3) := dk_180 0 33 (dk_at dksJ34_remove_2 13 rfl rfl)
theorem dJ34_remove_63 : decode cJ34_remove 63 = .ok (.iconst 1, 1) := dk_4 (dk_at dksJ34_remove_2 16 rfl rfl)
theorem dJ34_remove_64 : decode cJ34_remove 64 = .ok (.isub, 1) := dk_100 (dk_at dksJ34_remove_2 17 rfl rfl)
theorem dJ34_remove_65 : decode cJ34_remove 65 = .ok (.putfield 33, 3) := dk_181 0 33 (dk_at dksJ34_remove_2 18 rfl rfl)
theorem dJ34_remove_68 : decode cJ34_remove 68 = .ok (.aload_n 0, 1) := dk_42 (dk_at dksJ34_remove_2 21 rfl rfl)
theorem dJ34_remove_69 : decode cJ34_remove 69 = .ok (.aconst_null, 1) := dk_1 (dk_at dksJ34_remove_2 22 rfl rfl)
theorem dJ34_remove_70 : decode cJ34_remove 70 = .ok (.putfield 46, 3) := dk_181 0 46 (dk_at dksJ34_remove_3 0 rfl rfl)
theorem dJ34_remove_73 : decode cJ34_remove 73 = .ok (.aload_n 0, 1) := dk_42 (dk_at dksJ34_remove_3 3 rfl rfl)
theorem dJ34_remove_74 : decode cJ34_remove 74 = .ok (.dup, 1) := dk_89 (dk_at dksJ34_remove_3 4 rfl rfl)
theorem dJ34_remove_75 : decode cJ34_remove 75 = .ok (.getfield 19, 3) := dk_180 0 19 (dk_at dksJ34_remove_3 5 rfl rfl)
theorem dJ34_remove_78 : decode cJ34_remove 78 = .ok (.iconst 1, 1) := dk_4 (dk_at dksJ34_remove_3 8 rfl rfl)
theorem dJ34_remove_79 : decode cJ34_remove 79 = .ok (.iadd, 1) := dk_96 (dk_at dksJ34_remove_3 9 rfl rfl)
theorem dJ34_remove_80 : decode cJ34_remove 80 = .ok (.putfield 19, 3) := dk_181 0 19 (dk_at dksJ34_remove_3 10 rfl rfl)
theorem dJ34_remove_83 : decode cJ34_remove 83 = .ok (.return_, 1) := dk_177 (dk_at dksJ34_remove_3 13 rfl rfl)
theorem q137 : (Jvm.Cond.initialized "java/util/LinkedList$ListItr") ∈ lw_all := lw_g (lw_at lw_m1 51 rfl) rfl
theorem q271 : (Jvm.Cond.selects "java/util/LinkedList$ListItr" ({ cls := "java/lang/Object", name := "getClass", desc := "()Ljava/lang/Class;" } : Jvm.MethodName) ({ cls := "java/lang/Object", name := "getClass", desc := "()Ljava/lang/Class;" } : Jvm.MethodName)) ∈ lw_all := lw_g (lw_at lw_m1 185 rfl) rfl
theorem q767 : (Jvm.Cond.fieldLink "java/util/LinkedList$ListItr" (13 : Nat) "java/util/LinkedList" "modCount" "I") ∈ lw_all := lw_g (lw_at lw_m3 201 rfl) rfl
theorem q1227 : (Jvm.Cond.fieldLink "java/util/LinkedList$ListItr" (52 : Nat) "java/util/LinkedList$Node" "item" "Ljava/lang/Object;") ∈ lw_all := lw_g (lw_at lw_m5 181 rfl) rfl
theorem q1230 : (Jvm.Cond.fieldLink "java/util/LinkedList$ListItr" (49 : Nat) "java/util/LinkedList$Node" "next" "Ljava/util/LinkedList$Node;") ∈ lw_all := lw_g (lw_at lw_m5 184 rfl) rfl
theorem q1417 : (Jvm.Cond.instantiable "java/util/LinkedList$ListItr" (5 : Nat)) ∈ lw_all := lw_g (lw_at lw_m6 131 rfl) rfl
theorem q1419 : (Jvm.Cond.instanceMethod ({ cls := "java/util/LinkedList$ListItr", name := "<init>", desc := "(Ljava/util/LinkedList;I)V" } : Jvm.MethodName)) ∈ lw_all := lw_g (lw_at lw_m6 133 rfl) rfl
theorem q1420 : (Jvm.Cond.code ({ cls := "java/util/LinkedList$ListItr", name := "<init>", desc := "(Ljava/util/LinkedList;I)V" } : Jvm.MethodName) prog_81_method_1_code (3 : Nat) (Option.none : Option Jvm.ClassFile.FieldType)) ∈ lw_all := lw_g (lw_at lw_m6 134 rfl) rfl
theorem q1421 : (Jvm.Cond.methodLink "java/util/LinkedList$ListItr" (7 : Nat) ({ cls := "java/lang/Object", name := "<init>", desc := "()V" } : Jvm.MethodName)) ∈ lw_all := lw_g (lw_at lw_m6 135 rfl) rfl
theorem q1422 : (Jvm.Cond.methodLink "java/util/LinkedList$ListItr" (25 : Nat) ({ cls := "java/util/LinkedList", name := "node", desc := "(I)Ljava/util/LinkedList$Node;" } : Jvm.MethodName)) ∈ lw_all := lw_g (lw_at lw_m6 136 rfl) rfl
theorem q1423 : (Jvm.Cond.fieldLink "java/util/LinkedList$ListItr" (46 : Nat) "java/util/LinkedList$ListItr" "lastReturned" "Ljava/util/LinkedList$Node;") ∈ lw_all := lw_g (lw_at lw_m6 137 rfl) rfl
theorem q1424 : (Jvm.Cond.fieldLink "java/util/LinkedList$ListItr" (29 : Nat) "java/util/LinkedList$ListItr" "next" "Ljava/util/LinkedList$Node;") ∈ lw_all := lw_g (lw_at lw_m6 138 rfl) rfl
theorem q1425 : (Jvm.Cond.fieldLink "java/util/LinkedList$ListItr" (33 : Nat) "java/util/LinkedList$ListItr" "nextIndex" "I") ∈ lw_all := lw_g (lw_at lw_m6 139 rfl) rfl
theorem q1426 : (Jvm.Cond.fieldLink "java/util/LinkedList$ListItr" (19 : Nat) "java/util/LinkedList$ListItr" "expectedModCount" "I") ∈ lw_all := lw_g (lw_at lw_m6 140 rfl) rfl
theorem q1427 : (Jvm.Cond.fieldLink "java/util/LinkedList$ListItr" (1 : Nat) "java/util/LinkedList$ListItr" "this$0" "Ljava/util/LinkedList;") ∈ lw_all := lw_g (lw_at lw_m6 141 rfl) rfl
theorem q1428 : (Jvm.Cond.lays "java/util/LinkedList$ListItr" "java/util/LinkedList$ListItr" "lastReturned" "Ljava/util/LinkedList$Node;") ∈ lw_all := lw_g (lw_at lw_m6 142 rfl) rfl
theorem q1429 : (Jvm.Cond.soleField "java/util/LinkedList$ListItr" "lastReturned") ∈ lw_all := lw_g (lw_at lw_m6 143 rfl) rfl
theorem q1430 : (Jvm.Cond.lays "java/util/LinkedList$ListItr" "java/util/LinkedList$ListItr" "next" "Ljava/util/LinkedList$Node;") ∈ lw_all := lw_g (lw_at lw_m6 144 rfl) rfl
theorem q1431 : (Jvm.Cond.soleField "java/util/LinkedList$ListItr" "next") ∈ lw_all := lw_g (lw_at lw_m6 145 rfl) rfl
theorem q1432 : (Jvm.Cond.lays "java/util/LinkedList$ListItr" "java/util/LinkedList$ListItr" "nextIndex" "I") ∈ lw_all := lw_g (lw_at lw_m6 146 rfl) rfl
theorem q1433 : (Jvm.Cond.soleField "java/util/LinkedList$ListItr" "nextIndex") ∈ lw_all := lw_g (lw_at lw_m6 147 rfl) rfl
theorem q1434 : (Jvm.Cond.lays "java/util/LinkedList$ListItr" "java/util/LinkedList$ListItr" "expectedModCount" "I") ∈ lw_all := lw_g (lw_at lw_m6 148 rfl) rfl
theorem q1435 : (Jvm.Cond.soleField "java/util/LinkedList$ListItr" "expectedModCount") ∈ lw_all := lw_g (lw_at lw_m6 149 rfl) rfl
theorem q1436 : (Jvm.Cond.laysFinal "java/util/LinkedList$ListItr" "java/util/LinkedList$ListItr" "this$0" "Ljava/util/LinkedList;") ∈ lw_all := lw_g (lw_at lw_m6 150 rfl) rfl
theorem q1437 : (Jvm.Cond.soleField "java/util/LinkedList$ListItr" "this$0") ∈ lw_all := lw_g (lw_at lw_m6 151 rfl) rfl
theorem q1438 : (Jvm.Cond.superclass "java/util/LinkedList$ListItr" "java/lang/Object") ∈ lw_all := lw_g (lw_at lw_m6 152 rfl) rfl
theorem q1506 : (Jvm.Cond.castable "java/util/LinkedList$ListItr" "java/util/Iterator") ∈ lw_tbl := lw_at lw_m6 220 rfl
theorem q1507 : (Jvm.Cond.selects "java/util/LinkedList$ListItr" ({ cls := "java/util/Iterator", name := "hasNext", desc := "()Z" } : Jvm.MethodName) ({ cls := "java/util/LinkedList$ListItr", name := "hasNext", desc := "()Z" } : Jvm.MethodName)) ∈ lw_all := lw_g (lw_at lw_m6 221 rfl) rfl
theorem q1508 : (Jvm.Cond.unhidden "java/util/LinkedList$ListItr" "hasNext" "()Z") ∈ lw_tbl := lw_at lw_m6 222 rfl
theorem q1509 : (Jvm.Cond.instanceMethod ({ cls := "java/util/LinkedList$ListItr", name := "hasNext", desc := "()Z" } : Jvm.MethodName)) ∈ lw_all := lw_g (lw_at lw_m6 223 rfl) rfl
theorem q1510 : (Jvm.Cond.publicMethod ({ cls := "java/util/LinkedList$ListItr", name := "hasNext", desc := "()Z" } : Jvm.MethodName)) ∈ lw_tbl := lw_at lw_m6 224 rfl
theorem q1511 : (Jvm.Cond.code ({ cls := "java/util/LinkedList$ListItr", name := "hasNext", desc := "()Z" } : Jvm.MethodName) prog_81_method_2_code (1 : Nat) (Option.some Jvm.ClassFile.FieldType.boolean)) ∈ lw_all := lw_g (lw_at lw_m6 225 rfl) rfl
theorem q1700 : (Jvm.Cond.selects "java/util/LinkedList$ListItr" ({ cls := "java/util/Iterator", name := "next", desc := "()Ljava/lang/Object;" } : Jvm.MethodName) ({ cls := "java/util/LinkedList$ListItr", name := "next", desc := "()Ljava/lang/Object;" } : Jvm.MethodName)) ∈ lw_all := lw_g (lw_at lw_m7 174 rfl) rfl
theorem q1701 : (Jvm.Cond.unhidden "java/util/LinkedList$ListItr" "next" "()Ljava/lang/Object;") ∈ lw_tbl := lw_at lw_m7 175 rfl
theorem q1702 : (Jvm.Cond.instanceMethod ({ cls := "java/util/LinkedList$ListItr", name := "next", desc := "()Ljava/lang/Object;" } : Jvm.MethodName)) ∈ lw_all := lw_g (lw_at lw_m7 176 rfl) rfl
theorem q1703 : (Jvm.Cond.publicMethod ({ cls := "java/util/LinkedList$ListItr", name := "next", desc := "()Ljava/lang/Object;" } : Jvm.MethodName)) ∈ lw_tbl := lw_at lw_m7 177 rfl
theorem q1704 : (Jvm.Cond.code ({ cls := "java/util/LinkedList$ListItr", name := "next", desc := "()Ljava/lang/Object;" } : Jvm.MethodName) prog_81_method_3_code (1 : Nat) (Option.some (Jvm.ClassFile.FieldType.object "java/lang/Object"))) ∈ lw_all := lw_g (lw_at lw_m7 178 rfl) rfl
theorem q1705 : (Jvm.Cond.methodLink "java/util/LinkedList$ListItr" (36 : Nat) ({ cls := "java/util/LinkedList$ListItr", name := "checkForComodification", desc := "()V" } : Jvm.MethodName)) ∈ lw_all := lw_g (lw_at lw_m7 179 rfl) rfl
theorem q1706 : (Jvm.Cond.instanceMethod ({ cls := "java/util/LinkedList$ListItr", name := "checkForComodification", desc := "()V" } : Jvm.MethodName)) ∈ lw_all := lw_g (lw_at lw_m7 180 rfl) rfl
theorem q1707 : (Jvm.Cond.selects "java/util/LinkedList$ListItr" ({ cls := "java/util/LinkedList$ListItr", name := "checkForComodification", desc := "()V" } : Jvm.MethodName) ({ cls := "java/util/LinkedList$ListItr", name := "checkForComodification", desc := "()V" } : Jvm.MethodName)) ∈ lw_all := lw_g (lw_at lw_m7 181 rfl) rfl
theorem q1708 : (Jvm.Cond.code ({ cls := "java/util/LinkedList$ListItr", name := "checkForComodification", desc := "()V" } : Jvm.MethodName) prog_81_method_12_code (1 : Nat) (Option.none : Option Jvm.ClassFile.FieldType)) ∈ lw_all := lw_g (lw_at lw_m7 182 rfl) rfl
theorem q1709 : (Jvm.Cond.methodLink "java/util/LinkedList$ListItr" (39 : Nat) ({ cls := "java/util/LinkedList$ListItr", name := "hasNext", desc := "()Z" } : Jvm.MethodName)) ∈ lw_all := lw_g (lw_at lw_m7 183 rfl) rfl
theorem q2508 : (Jvm.Cond.fieldLink "java/util/LinkedList$ListItr" (22 : Nat) "java/util/LinkedList" "size" "I") ∈ lw_all := lw_g (lw_at lw_m11 22 rfl) rfl
theorem q2638 : (Jvm.Cond.selects "java/util/LinkedList$ListItr" ({ cls := "java/util/Iterator", name := "remove", desc := "()V" } : Jvm.MethodName) ({ cls := "java/util/LinkedList$ListItr", name := "remove", desc := "()V" } : Jvm.MethodName)) ∈ lw_all := lw_g (lw_at lw_m11 152 rfl) rfl
theorem q2639 : (Jvm.Cond.unhidden "java/util/LinkedList$ListItr" "remove" "()V") ∈ lw_tbl := lw_at lw_m11 153 rfl
theorem q2640 : (Jvm.Cond.instanceMethod ({ cls := "java/util/LinkedList$ListItr", name := "remove", desc := "()V" } : Jvm.MethodName)) ∈ lw_all := lw_g (lw_at lw_m11 154 rfl) rfl
theorem q2641 : (Jvm.Cond.publicMethod ({ cls := "java/util/LinkedList$ListItr", name := "remove", desc := "()V" } : Jvm.MethodName)) ∈ lw_tbl := lw_at lw_m11 155 rfl
theorem q2642 : (Jvm.Cond.code ({ cls := "java/util/LinkedList$ListItr", name := "remove", desc := "()V" } : Jvm.MethodName) prog_81_method_8_code (2 : Nat) (Option.none : Option Jvm.ClassFile.FieldType)) ∈ lw_all := lw_g (lw_at lw_m11 156 rfl) rfl
theorem q2643 : (Jvm.Cond.methodLink "java/util/LinkedList$ListItr" (68 : Nat) ({ cls := "java/util/LinkedList", name := "unlink", desc := "(Ljava/util/LinkedList$Node;)Ljava/lang/Object;" } : Jvm.MethodName)) ∈ lw_all := lw_g (lw_at lw_m11 157 rfl) rfl
theorem q3762 : (Jvm.Cond.selects "java/util/LinkedList$ListItr" ({ cls := "java/util/LinkedList$ListItr", name := "hasNext", desc := "()Z" } : Jvm.MethodName) ({ cls := "java/util/LinkedList$ListItr", name := "hasNext", desc := "()Z" } : Jvm.MethodName)) ∈ lw_all := lw_g (lw_at lw_m16 76 rfl) rfl
theorem q3842 : (Jvm.Cond.castable "java/util/LinkedList$ListItr" "java/lang/Object") ∈ lw_tbl := lw_at lw_m16 156 rfl
theorem in_J34 : ∀ w ∈ wsJ340, w ∈ lw_all := lw_in wsJ340 [1428, 1430, 1432, 1434, 1436] (by decide +kernel) (by decide +kernel)
/-! java/util/ArrayDeque -/
set_option maxRecDepth 100000
def RJ36 : String := "java/util/ArrayDeque"
def TJ36 : u_T := fun k => match k with
  | 0 => ("java/util/ArrayDeque", "elements", "[Ljava/lang/Object;", false)
  | 1 => ("java/util/ArrayDeque", "head", "I", false)
  | _ => ("java/util/ArrayDeque", "tail", "I", false)
def tyJ36 : Nat → FieldType := fun k => match k with
  | 0 => .array (.object "java/lang/Object")
  | 1 => .int
  | _ => .int
abbrev wsJ360 : List Cond := u_ws RJ36 TJ36 3
theorem nmJ36 : ∀ a, a < 3 → ∀ b, b < 3 → a ≠ b → (TJ36 a).2.1 ≠ (TJ36 b).2.1 := by decide +kernel
theorem tyJ36_ok : ∀ k, k < 3 → parseFieldDescriptor (TJ36 k).2.2.1 = some (tyJ36 k) := by decide +kernel
abbrev cJ36_nonNullElementAt : ByteArray := prog_61_method_11_code
def yJ36_nonNullElementAt : MethodName := ⟨RJ36, "nonNullElementAt", "([Ljava/lang/Object;I)Ljava/lang/Object;"⟩
def dkwJ36_nonNullElementAt_0 : List UInt8 := [42, 27, 50, 77, 44, 199, 0, 11, 187, 0, 62, 89, 183, 0, 64, 191, 44, 176]
abbrev dktJ36_nonNullElementAt_0 : List UInt8 := dkwJ36_nonNullElementAt_0 ++ []
theorem dksJ36_nonNullElementAt_0 : cJ36_nonNullElementAt.data.toList.drop 0 = dktJ36_nonNullElementAt_0 := by decide +kernel
theorem dJ36_nonNullElementAt_0 : decode cJ36_nonNullElementAt 0 = .ok (.aload_n 0, 1) := dk_42 (dk_at dksJ36_nonNullElementAt_0 0 rfl rfl)
theorem dJ36_nonNullElementAt_1 : decode cJ36_nonNullElementAt 1 = .ok (.iload_n 1, 1) := dk_27 (dk_at dksJ36_nonNullElementAt_0 1 rfl rfl)
theorem dJ36_nonNullElementAt_2 : decode cJ36_nonNullElementAt 2 = .ok (.aaload, 1) := dk_50 (dk_at dksJ36_nonNullElementAt_0 2 rfl rfl)
theorem dJ36_nonNullElementAt_3 : decode cJ36_nonNullElementAt 3 = .ok (.astore_n 2, 1) := dk_77 (dk_at dksJ36_nonNullElementAt_0 3 rfl rfl)
theorem dJ36_nonNullElementAt_4 : decode cJ36_nonNullElementAt 4 = .ok (.aload_n 2, 1) := dk_44 (dk_at dksJ36_nonNullElementAt_0 4 rfl rfl)
theorem dJ36_nonNullElementAt_5 : decode cJ36_nonNullElementAt 5 = .ok (.ifnonnull 11, 3) := dk_199 0 11 (dk_at dksJ36_nonNullElementAt_0 5 rfl rfl)
theorem dJ36_nonNullElementAt_8 : decode cJ36_nonNullElementAt 8 = .ok (.new 62, 3) := dk_187 0 62 (dk_at dksJ36_nonNullElementAt_0 8 rfl rfl)
theorem dJ36_nonNullElementAt_11 : decode cJ36_nonNullElementAt 11 = .ok (.dup, 1) := dk_89 (dk_at dksJ36_nonNullElementAt_0 11 rfl rfl)
theorem dJ36_nonNullElementAt_12 : decode cJ36_nonNullElementAt 12 = .ok (.invokespecial 64, 3) := dk_183 0 64 (dk_at dksJ36_nonNullElementAt_0 12 rfl rfl)
theorem dJ36_nonNullElementAt_15 : decode cJ36_nonNullElementAt 15 = .ok (.athrow, 1) := dk_191 (dk_at dksJ36_nonNullElementAt_0 15 rfl rfl)
theorem dJ36_nonNullElementAt_16 : decode cJ36_nonNullElementAt 16 = .ok (.aload_n 2, 1) := dk_44 (dk_at dksJ36_nonNullElementAt_0 16 rfl rfl)
theorem dJ36_nonNullElementAt_17 : decode cJ36_nonNullElementAt 17 = .ok (.areturn, 1) := dk_176 (dk_at dksJ36_nonNullElementAt_0 17 rfl rfl)
abbrev cJ36_inc : ByteArray := prog_61_method_6_code
def yJ36_inc : MethodName := ⟨RJ36, "inc", "(II)I"⟩
def dkwJ36_inc_0 : List UInt8 := [132, 0, 1, 26, 27, 161, 0, 5, 3, 59, 26, 172]
abbrev dktJ36_inc_0 : List UInt8 := dkwJ36_inc_0 ++ []
theorem dksJ36_inc_0 : cJ36_inc.data.toList.drop 0 = dktJ36_inc_0 := by decide +kernel
theorem dJ36_inc_0 : decode cJ36_inc 0 = .ok (.iinc 0 1, 3) := dk_132 0 1 (dk_at dksJ36_inc_0 0 rfl rfl)
theorem dJ36_inc_3 : decode cJ36_inc 3 = .ok (.iload_n 0, 1) := dk_26 (dk_at dksJ36_inc_0 3 rfl rfl)
theorem dJ36_inc_4 : decode cJ36_inc 4 = .ok (.iload_n 1, 1) := dk_27 (dk_at dksJ36_inc_0 4 rfl rfl)
theorem dJ36_inc_5 : decode cJ36_inc 5 = .ok (.if_icmp .lt 5, 3) := dk_161 0 5 (dk_at dksJ36_inc_0 5 rfl rfl)
theorem dJ36_inc_8 : decode cJ36_inc 8 = .ok (.iconst 0, 1) := dk_3 (dk_at dksJ36_inc_0 8 rfl rfl)
theorem dJ36_inc_9 : decode cJ36_inc 9 = .ok (.istore_n 0, 1) := dk_59 (dk_at dksJ36_inc_0 9 rfl rfl)
theorem dJ36_inc_10 : decode cJ36_inc 10 = .ok (.iload_n 0, 1) := dk_26 (dk_at dksJ36_inc_0 10 rfl rfl)
theorem dJ36_inc_11 : decode cJ36_inc 11 = .ok (.ireturn, 1) := dk_172 (dk_at dksJ36_inc_0 11 rfl rfl)
abbrev cJ36_init : ByteArray := prog_61_method_3_code
def yJ36_init : MethodName := ⟨RJ36, "<init>", "()V"⟩
def dkwJ36_init_0 : List UInt8 := [42, 183, 0, 42, 42, 16, 17, 189, 0, 47, 181, 0, 3, 177]
abbrev dktJ36_init_0 : List UInt8 := dkwJ36_init_0 ++ []
theorem dksJ36_init_0 : cJ36_init.data.toList.drop 0 = dktJ36_init_0 := by decide +kernel
theorem dJ36_init_0 : decode cJ36_init 0 = .ok (.aload_n 0, 1) := dk_42 (dk_at dksJ36_init_0 0 rfl rfl)
theorem dJ36_init_1 : decode cJ36_init 1 = .ok (.invokespecial 42, 3) := dk_183 0 42 (dk_at dksJ36_init_0 1 rfl rfl)
theorem dJ36_init_4 : decode cJ36_init 4 = .ok (.aload_n 0, 1) := dk_42 (dk_at dksJ36_init_0 4 rfl rfl)
theorem dJ36_init_5 : decode cJ36_init 5 = .ok (.bipush 17, 2) := dk_16 17 (dk_at dksJ36_init_0 5 rfl rfl)
theorem dJ36_init_7 : decode cJ36_init 7 = .ok (.anewarray 47, 3) := dk_189 0 47 (dk_at dksJ36_init_0 7 rfl rfl)
theorem dJ36_init_10 : decode cJ36_init 10 = .ok (.putfield 3, 3) := dk_181 0 3 (dk_at dksJ36_init_0 10 rfl rfl)
theorem dJ36_init_13 : decode cJ36_init 13 = .ok (.return_, 1) := dk_177 (dk_at dksJ36_init_0 13 rfl rfl)
abbrev cJ36_addFirst : ByteArray := prog_61_method_12_code
def yJ36_addFirst : MethodName := ⟨RJ36, "addFirst", "(Ljava/lang/Object;)V"⟩
def dkwJ36_addFirst_2 : List UInt8 := [182, 0, 71, 177]
abbrev dktJ36_addFirst_2 : List UInt8 := dkwJ36_addFirst_2 ++ []
def dkwJ36_addFirst_1 : List UInt8 := [190, 184, 0, 68, 90, 181, 0, 24, 43, 83, 42, 180, 0, 24, 42, 180, 0, 20, 160, 0, 8, 42, 4]
abbrev dktJ36_addFirst_1 : List UInt8 := dkwJ36_addFirst_1 ++ dktJ36_addFirst_2
def dkwJ36_addFirst_0 : List UInt8 := [43, 199, 0, 11, 187, 0, 65, 89, 183, 0, 67, 191, 42, 180, 0, 3, 77, 44, 42, 42, 180, 0, 24, 44]
abbrev dktJ36_addFirst_0 : List UInt8 := dkwJ36_addFirst_0 ++ dktJ36_addFirst_1
theorem dksJ36_addFirst_0 : cJ36_addFirst.data.toList.drop 0 = dktJ36_addFirst_0 := by decide +kernel
theorem dksJ36_addFirst_1 : cJ36_addFirst.data.toList.drop 24 = dktJ36_addFirst_1 := dk_seg dksJ36_addFirst_0 24 rfl rfl
theorem dksJ36_addFirst_2 : cJ36_addFirst.data.toList.drop 47 = dktJ36_addFirst_2 := dk_seg dksJ36_addFirst_1 23 rfl rfl
theorem dJ36_addFirst_0 : decode cJ36_addFirst 0 = .ok (.aload_n 1, 1) := dk_43 (dk_at dksJ36_addFirst_0 0 rfl rfl)
theorem dJ36_addFirst_1 : decode cJ36_addFirst 1 = .ok (.ifnonnull 11, 3) := dk_199 0 11 (dk_at dksJ36_addFirst_0 1 rfl rfl)
theorem dJ36_addFirst_4 : decode cJ36_addFirst 4 = .ok (.new 65, 3) := dk_187 0 65 (dk_at dksJ36_addFirst_0 4 rfl rfl)
theorem dJ36_addFirst_7 : decode cJ36_addFirst 7 = .ok (.dup, 1) := dk_89 (dk_at dksJ36_addFirst_0 7 rfl rfl)
theorem dJ36_addFirst_8 : decode cJ36_addFirst 8 = .ok (.invokespecial 67, 3) := dk_183 0 67 (dk_at dksJ36_addFirst_0 8 rfl rfl)
theorem dJ36_addFirst_11 : decode cJ36_addFirst 11 = .ok (.athrow, 1) := dk_191 (dk_at dksJ36_addFirst_0 11 rfl rfl)
theorem dJ36_addFirst_12 : decode cJ36_addFirst 12 = .ok (.aload_n 0, 1) := dk_42 (dk_at dksJ36_addFirst_0 12 rfl rfl)
theorem dJ36_addFirst_13 : decode cJ36_addFirst 13 = .ok (.getfield 3, 3) := dk_180 0 3 (dk_at dksJ36_addFirst_0 13 rfl rfl)
theorem dJ36_addFirst_16 : decode cJ36_addFirst 16 = .ok (.astore_n 2, 1) := dk_77 (dk_at dksJ36_addFirst_0 16 rfl rfl)
theorem dJ36_addFirst_17 : decode cJ36_addFirst 17 = .ok (.aload_n 2, 1) := dk_44 (dk_at dksJ36_addFirst_0 17 rfl rfl)
theorem dJ36_addFirst_18 : decode cJ36_addFirst 18 = .ok (.aload_n 0, 1) := dk_42 (dk_at dksJ36_addFirst_0 18 rfl rfl)
theorem dJ36_addFirst_19 : decode cJ36_addFirst 19 = .ok (.aload_n 0, 1) := dk_42 (dk_at dksJ36_addFirst_0 19 rfl rfl)
theorem dJ36_addFirst_20 : decode cJ36_addFirst 20 = .ok (.getfield 24, 3) := dk_180 0 24 (dk_at dksJ36_addFirst_0 20 rfl rfl)
theorem dJ36_addFirst_23 : decode cJ36_addFirst 23 = .ok (.aload_n 2, 1) := dk_44 (dk_at dksJ36_addFirst_0 23 rfl rfl)
theorem dJ36_addFirst_24 : decode cJ36_addFirst 24 = .ok (.arraylength, 1) := dk_190 (dk_at dksJ36_addFirst_1 0 rfl rfl)
theorem dJ36_addFirst_25 : decode cJ36_addFirst 25 = .ok (.invokestatic 68, 3) := dk_184 0 68 (dk_at dksJ36_addFirst_1 1 rfl rfl)
theorem dJ36_addFirst_28 : decode cJ36_addFirst 28 = .ok (.dup_x1, 1) := dk_90 (dk_at dksJ36_addFirst_1 4 rfl rfl)
theorem dJ36_addFirst_29 : decode cJ36_addFirst 29 = .ok (.putfield 24, 3) := dk_181 0 24 (dk_at dksJ36_addFirst_1 5 rfl rfl)
theorem dJ36_addFirst_32 : decode cJ36_addFirst 32 = .ok (.aload_n 1, 1) := dk_43 (dk_at dksJ36_addFirst_1 8 rfl rfl)
theorem dJ36_addFirst_33 : decode cJ36_addFirst 33 = .ok (.aastore, 1) := dk_83 (dk_at dksJ36_addFirst_1 9 rfl rfl)
theorem dJ36_addFirst_34 : decode cJ36_addFirst 34 = .ok (.aload_n 0, 1) := dk_42 (dk_at dksJ36_addFirst_1 10 rfl rfl)
theorem dJ36_addFirst_35 : decode cJ36_addFirst 35 = .ok (.getfield 24, 3) := dk_180 0 24 (dk_at dksJ36_addFirst_1 11 rfl rfl)
theorem dJ36_addFirst_38 : decode cJ36_addFirst 38 = .ok (.aload_n 0, 1) := dk_42 (dk_at dksJ36_addFirst_1 14 rfl rfl)
theorem dJ36_addFirst_39 : decode cJ36_addFirst 39 = .ok (.getfield 20, 3) := dk_180 0 20 (dk_at dksJ36_addFirst_1 15 rfl rfl)
theorem dJ36_addFirst_42 : decode cJ36_addFirst 42 = .ok (.if_icmp .ne 8, 3) := dk_160 0 8 (dk_at dksJ36_addFirst_1 18 rfl rfl)
theorem dJ36_addFirst_45 : decode cJ36_addFirst 45 = .ok (.aload_n 0, 1) := dk_42 (dk_at dksJ36_addFirst_1 21 rfl rfl)
theorem dJ36_addFirst_46 : decode cJ36_addFirst 46 = .ok (.iconst 1, 1) := dk_4 (dk_at dksJ36_addFirst_1 22 rfl rfl)
theorem dJ36_addFirst_47 : decode cJ36_addFirst 47 = .ok (.invokevirtual 71, 3) := dk_182 0 71 (dk_at dksJ36_addFirst_2 0 rfl rfl)
theorem dJ36_addFirst_50 : decode cJ36_addFirst 50 = .ok (.return_, 1) := dk_177 (dk_at dksJ36_addFirst_2 3 rfl rfl)
abbrev cJ36_dec : ByteArray := prog_61_method_7_code
def yJ36_dec : MethodName := ⟨RJ36, "dec", "(II)I"⟩
def dkwJ36_dec_0 : List UInt8 := [132, 0, 255, 26, 156, 0, 7, 27, 4, 100, 59, 26, 172]
abbrev dktJ36_dec_0 : List UInt8 := dkwJ36_dec_0 ++ []
theorem dksJ36_dec_0 : cJ36_dec.data.toList.drop 0 = dktJ36_dec_0 := by decide +kernel
theorem dJ36_dec_0 : decode cJ36_dec 0 = .ok (.iinc 0 (-1), 3) := dk_132 0 255 (dk_at dksJ36_dec_0 0 rfl rfl)
theorem dJ36_dec_3 : decode cJ36_dec 3 = .ok (.iload_n 0, 1) := dk_26 (dk_at dksJ36_dec_0 3 rfl rfl)
theorem dJ36_dec_4 : decode cJ36_dec 4 = .ok (.ifCond .ge 7, 3) := dk_156 0 7 (dk_at dksJ36_dec_0 4 rfl rfl)
theorem dJ36_dec_7 : decode cJ36_dec 7 = .ok (.iload_n 1, 1) := dk_27 (dk_at dksJ36_dec_0 7 rfl rfl)
theorem dJ36_dec_8 : decode cJ36_dec 8 = .ok (.iconst 1, 1) := dk_4 (dk_at dksJ36_dec_0 8 rfl rfl)
theorem dJ36_dec_9 : decode cJ36_dec 9 = .ok (.isub, 1) := dk_100 (dk_at dksJ36_dec_0 9 rfl rfl)
theorem dJ36_dec_10 : decode cJ36_dec 10 = .ok (.istore_n 0, 1) := dk_59 (dk_at dksJ36_dec_0 10 rfl rfl)
theorem dJ36_dec_11 : decode cJ36_dec 11 = .ok (.iload_n 0, 1) := dk_26 (dk_at dksJ36_dec_0 11 rfl rfl)
theorem dJ36_dec_12 : decode cJ36_dec 12 = .ok (.ireturn, 1) := dk_172 (dk_at dksJ36_dec_0 12 rfl rfl)
abbrev cJ36_grow : ByteArray := prog_61_method_1_code
def yJ36_grow : MethodName := ⟨RJ36, "grow", "(I)V"⟩
def dkwJ36_grow_7 : List UInt8 := [177]
abbrev dktJ36_grow_7 : List UInt8 := dkwJ36_grow_7 ++ []
def dkwJ36_grow_6 : List UInt8 := [181, 0, 24, 54, 8, 21, 7, 21, 8, 162, 0, 15, 25, 5, 21, 7, 1, 83, 132, 7, 1, 167, 255, 240]
abbrev dktJ36_grow_6 : List UInt8 := dkwJ36_grow_6 ++ dktJ36_grow_7
def dkwJ36_grow_5 : List UInt8 := [42, 180, 0, 24, 100, 184, 0, 27, 42, 180, 0, 24, 54, 7, 42, 89, 180, 0, 24, 21, 6, 96, 90]
abbrev dktJ36_grow_5 : List UInt8 := dkwJ36_grow_5 ++ dktJ36_grow_6
def dkwJ36_grow_4 : List UInt8 := [198, 0, 71, 29, 28, 100, 54, 6, 25, 5, 42, 180, 0, 24, 25, 5, 42, 180, 0, 24, 21, 6, 96, 28]
abbrev dktJ36_grow_4 : List UInt8 := dkwJ36_grow_4 ++ dktJ36_grow_5
def dkwJ36_grow_3 : List UInt8 := [180, 0, 24, 161, 0, 24, 42, 180, 0, 20, 42, 180, 0, 24, 160, 0, 81, 25, 5, 42, 180, 0, 24, 50]
abbrev dktJ36_grow_3 : List UInt8 := dkwJ36_grow_3 ++ dktJ36_grow_4
def dkwJ36_grow_2 : List UInt8 := [182, 0, 10, 62, 42, 42, 180, 0, 3, 29, 184, 0, 14, 90, 181, 0, 3, 58, 5, 42, 180, 0, 20, 42]
abbrev dktJ36_grow_2 : List UInt8 := dkwJ36_grow_2 ++ dktJ36_grow_3
def dkwJ36_grow_1 : List UInt8 := [21, 4, 27, 161, 0, 15, 28, 21, 4, 96, 89, 62, 18, 9, 100, 158, 0, 11, 42, 27, 21, 4]
abbrev dktJ36_grow_1 : List UInt8 := dkwJ36_grow_1 ++ dktJ36_grow_2
def dkwJ36_grow_0 : List UInt8 := [42, 180, 0, 3, 190, 61, 28, 16, 64, 162, 0, 9, 28, 5, 96, 167, 0, 6, 28, 4, 122, 54, 4]
abbrev dktJ36_grow_0 : List UInt8 := dkwJ36_grow_0 ++ dktJ36_grow_1
theorem dksJ36_grow_0 : cJ36_grow.data.toList.drop 0 = dktJ36_grow_0 := by decide +kernel
theorem dksJ36_grow_1 : cJ36_grow.data.toList.drop 23 = dktJ36_grow_1 := dk_seg dksJ36_grow_0 23 rfl rfl
theorem dksJ36_grow_2 : cJ36_grow.data.toList.drop 45 = dktJ36_grow_2 := dk_seg dksJ36_grow_1 22 rfl rfl
theorem dksJ36_grow_3 : cJ36_grow.data.toList.drop 69 = dktJ36_grow_3 := dk_seg dksJ36_grow_2 24 rfl rfl
theorem dksJ36_grow_4 : cJ36_grow.data.toList.drop 93 = dktJ36_grow_4 := dk_seg dksJ36_grow_3 24 rfl rfl
theorem dksJ36_grow_5 : cJ36_grow.data.toList.drop 117 = dktJ36_grow_5 := dk_seg dksJ36_grow_4 24 rfl rfl
theorem dksJ36_grow_6 : cJ36_grow.data.toList.drop 140 = dktJ36_grow_6 := dk_seg dksJ36_grow_5 23 rfl rfl
theorem dksJ36_grow_7 : cJ36_grow.data.toList.drop 164 = dktJ36_grow_7 := dk_seg dksJ36_grow_6 24 rfl rfl
theorem dJ36_grow_0 : decode cJ36_grow 0 = .ok (.aload_n 0, 1) := dk_42 (dk_at dksJ36_grow_0 0 rfl rfl)
theorem dJ36_grow_1 : decode cJ36_grow 1 = .ok (.getfield 3, 3) := dk_180 0 3 (dk_at dksJ36_grow_0 1 rfl rfl)
theorem dJ36_grow_4 : decode cJ36_grow 4 = .ok (.arraylength, 1) := dk_190 (dk_at dksJ36_grow_0 4 rfl rfl)
theorem dJ36_grow_5 : decode cJ36_grow 5 = .ok (.istore_n 2, 1) := dk_61 (dk_at dksJ36_grow_0 5 rfl rfl)
theorem dJ36_grow_6 : decode cJ36_grow 6 = .ok (.iload_n 2, 1) := dk_28 (dk_at dksJ36_grow_0 6 rfl rfl)
theorem dJ36_grow_7 : decode cJ36_grow 7 = .ok (.bipush 64, 2) := dk_16 64 (dk_at dksJ36_grow_0 7 rfl rfl)
theorem dJ36_grow_9 : decode cJ36_grow 9 = .ok (.if_icmp .ge 9, 3) := dk_162 0 9 (dk_at dksJ36_grow_0 9 rfl rfl)
theorem dJ36_grow_12 : decode cJ36_grow 12 = .ok (.iload_n 2, 1) := dk_28 (dk_at dksJ36_grow_0 12 rfl rfl)
theorem dJ36_grow_13 : decode cJ36_grow 13 = .ok (.iconst 2, 1) := dk_5 (dk_at dksJ36_grow_0 13 rfl rfl)
theorem dJ36_grow_14 : decode cJ36_grow 14 = .ok (.iadd, 1) := dk_96 (dk_at dksJ36_grow_0 14 rfl rfl)
theorem dJ36_grow_15 : decode cJ36_grow 15 = .ok (.goto 6, 3) := dk_167 0 6 (dk_at dksJ36_grow_0 15 rfl rfl)
theorem dJ36_grow_18 : decode cJ36_grow 18 = .ok (.iload_n 2, 1) := dk_28 (dk_at dksJ36_grow_0 18 rfl rfl)
theorem dJ36_grow_19 : decode cJ36_grow 19 = .ok (.iconst 1, 1) := dk_4 (dk_at dksJ36_grow_0 19 rfl rfl)
theorem dJ36_grow_20 : decode cJ36_grow 20 = .ok (.ishr, 1) := dk_122 (dk_at dksJ36_grow_0 20 rfl rfl)
theorem dJ36_grow_21 : decode cJ36_grow 21 = .ok (.istore 4, 2) := dk_54 4 (dk_at dksJ36_grow_0 21 rfl rfl)
theorem dJ36_grow_23 : decode cJ36_grow 23 = .ok (.iload 4, 2) := dk_21 4 (dk_at dksJ36_grow_1 0 rfl rfl)
theorem dJ36_grow_25 : decode cJ36_grow 25 = .ok (.iload_n 1, 1) := dk_27 (dk_at dksJ36_grow_1 2 rfl rfl)
theorem dJ36_grow_26 : decode cJ36_grow 26 = .ok (.if_icmp .lt 15, 3) := dk_161 0 15 (dk_at dksJ36_grow_1 3 rfl rfl)
theorem dJ36_grow_29 : decode cJ36_grow 29 = .ok (.iload_n 2, 1) := dk_28 (dk_at dksJ36_grow_1 6 rfl rfl)
theorem dJ36_grow_30 : decode cJ36_grow 30 = .ok (.iload 4, 2) := dk_21 4 (dk_at dksJ36_grow_1 7 rfl rfl)
theorem dJ36_grow_32 : decode cJ36_grow 32 = .ok (.iadd, 1) := dk_96 (dk_at dksJ36_grow_1 9 rfl rfl)
theorem dJ36_grow_33 : decode cJ36_grow 33 = .ok (.dup, 1) := dk_89 (dk_at dksJ36_grow_1 10 rfl rfl)
theorem dJ36_grow_34 : decode cJ36_grow 34 = .ok (.istore_n 3, 1) := dk_62 (dk_at dksJ36_grow_1 11 rfl rfl)
theorem dJ36_grow_35 : decode cJ36_grow 35 = .ok (.ldc 9, 2) := dk_18 9 (dk_at dksJ36_grow_1 12 rfl rfl)
theorem dJ36_grow_37 : decode cJ36_grow 37 = .ok (.isub, 1) := dk_100 (dk_at dksJ36_grow_1 14 rfl rfl)
theorem dJ36_grow_38 : decode cJ36_grow 38 = .ok (.ifCond .le 11, 3) := dk_158 0 11 (dk_at dksJ36_grow_1 15 rfl rfl)
theorem dJ36_grow_41 : decode cJ36_grow 41 = .ok (.aload_n 0, 1) := dk_42 (dk_at dksJ36_grow_1 18 rfl rfl)
theorem dJ36_grow_42 : decode cJ36_grow 42 = .ok (.iload_n 1, 1) := dk_27 (dk_at dksJ36_grow_1 19 rfl rfl)
theorem dJ36_grow_43 : decode cJ36_grow 43 = .ok (.iload 4, 2) := dk_21 4 (dk_at dksJ36_grow_1 20 rfl rfl)
theorem dJ36_grow_45 : decode cJ36_grow 45 = .ok (.invokevirtual 10, 3) := dk_182 0 10 (dk_at dksJ36_grow_2 0 rfl rfl)
theorem dJ36_grow_48 : decode cJ36_grow 48 = .ok (.istore_n 3, 1) := dk_62 (dk_at dksJ36_grow_2 3 rfl rfl)
theorem dJ36_grow_49 : decode cJ36_grow 49 = .ok (.aload_n 0, 1) := dk_42 (dk_at dksJ36_grow_2 4 rfl rfl)
theorem dJ36_grow_50 : decode cJ36_grow 50 = .ok (.aload_n 0, 1) := dk_42 (dk_at dksJ36_grow_2 5 rfl rfl)
theorem dJ36_grow_51 : decode cJ36_grow 51 = .ok (.getfield 3, 3) := dk_180 0 3 (dk_at dksJ36_grow_2 6 rfl rfl)
theorem dJ36_grow_54 : decode cJ36_grow 54 = .ok (.iload_n 3, 1) := dk_29 (dk_at dksJ36_grow_2 9 rfl rfl)
theorem dJ36_grow_55 : decode cJ36_grow 55 = .ok (.invokestatic 14, 3) := dk_184 0 14 (dk_at dksJ36_grow_2 10 rfl rfl)
theorem dJ36_grow_58 : decode cJ36_grow 58 = .ok (.dup_x1, 1) := dk_90 (dk_at dksJ36_grow_2 13 rfl rfl)
theorem dJ36_grow_59 : decode cJ36_grow 59 = .ok (.putfield 3, 3) := dk_181 0 3 (dk_at dksJ36_grow_2 14 rfl rfl)
theorem dJ36_grow_62 : decode cJ36_grow 62 = .ok (.astore 5, 2) := dk_58 5 (dk_at dksJ36_grow_2 17 rfl rfl)
theorem dJ36_grow_64 : decode cJ36_grow 64 = .ok (.aload_n 0, 1) := dk_42 (dk_at dksJ36_grow_2 19 rfl rfl)
theorem dJ36_grow_65 : decode cJ36_grow 65 = .ok (.getfield 20, 3) := dk_180 0 20 (dk_at dksJ36_grow_2 20 rfl rfl)
theorem dJ36_grow_68 : decode cJ36_grow 68 = .ok (.aload_n 0, 1) := dk_42 (dk_at dksJ36_grow_2 23 rfl rfl)
theorem dJ36_grow_69 : decode cJ36_grow 69 = .ok (.getfield 24, 3) := dk_180 0 24 (dk_at dksJ36_grow_3 0 rfl rfl)
theorem dJ36_grow_72 : decode cJ36_grow 72 = .ok (.if_icmp .lt 24, 3) := dk_161 0 24 (dk_at dksJ36_grow_3 3 rfl rfl)
theorem dJ36_grow_75 : decode cJ36_grow 75 = .ok (.aload_n 0, 1) := dk_42 (dk_at dksJ36_grow_3 6 rfl rfl)
theorem dJ36_grow_76 : decode cJ36_grow 76 = .ok (.getfield 20, 3) := dk_180 0 20 (dk_at dksJ36_grow_3 7 rfl rfl)
theorem dJ36_grow_79 : decode cJ36_grow 79 = .ok (.aload_n 0, 1) := dk_42 (dk_at dksJ36_grow_3 10 rfl rfl)
theorem dJ36_grow_80 : decode cJ36_grow 80 = .ok (.getfield 24, 3) := dk_180 0 24 (dk_at dksJ36_grow_3 11 rfl rfl)
theorem dJ36_grow_83 : decode cJ36_grow 83 = .ok (.if_icmp .ne 81, 3) := dk_160 0 81 (dk_at dksJ36_grow_3 14 rfl rfl)
theorem dJ36_grow_86 : decode cJ36_grow 86 = .ok (.aload 5, 2) := dk_25 5 (dk_at dksJ36_grow_3 17 rfl rfl)
theorem dJ36_grow_88 : decode cJ36_grow 88 = .ok (.aload_n 0, 1) := dk_42 (dk_at dksJ36_grow_3 19 rfl rfl)
theorem dJ36_grow_89 : decode cJ36_grow 89 = .ok (.getfield 24, 3) := dk_180 0 24 (dk_at dksJ36_grow_3 20 rfl rfl)
theorem dJ36_grow_92 : decode cJ36_grow 92 = .ok (.aaload, 1) := dk_50 (dk_at dksJ36_grow_3 23 rfl rfl)
theorem dJ36_grow_93 : decode cJ36_grow 93 = .ok (.ifnull 71, 3) := dk_198 0 71 (dk_at dksJ36_grow_4 0 rfl rfl)
theorem dJ36_grow_96 : decode cJ36_grow 96 = .ok (.iload_n 3, 1) := dk_29 (dk_at dksJ36_grow_4 3 rfl rfl)
theorem dJ36_grow_97 : decode cJ36_grow 97 = .ok (.iload_n 2, 1) := dk_28 (dk_at dksJ36_grow_4 4 rfl rfl)
theorem dJ36_grow_98 : decode cJ36_grow 98 = .ok (.isub, 1) := dk_100 (dk_at dksJ36_grow_4 5 rfl rfl)
theorem dJ36_grow_99 : decode cJ36_grow 99 = .ok (.istore 6, 2) := dk_54 6 (dk_at dksJ36_grow_4 6 rfl rfl)
theorem dJ36_grow_101 : decode cJ36_grow 101 = .ok (.aload 5, 2) := dk_25 5 (dk_at dksJ36_grow_4 8 rfl rfl)
theorem dJ36_grow_103 : decode cJ36_grow 103 = .ok (.aload_n 0, 1) := dk_42 (dk_at dksJ36_grow_4 10 rfl rfl)
theorem dJ36_grow_104 : decode cJ36_grow 104 = .ok (.getfield 24, 3) := dk_180 0 24 (dk_at dksJ36_grow_4 11 rfl rfl)
theorem dJ36_grow_107 : decode cJ36_grow 107 = .ok (.aload 5, 2) := dk_25 5 (dk_at dksJ36_grow_4 14 rfl rfl)
theorem dJ36_grow_109 : decode cJ36_grow 109 = .ok (.aload_n 0, 1) := dk_42 (dk_at dksJ36_grow_4 16 rfl rfl)
theorem dJ36_grow_110 : decode cJ36_grow 110 = .ok (.getfield 24, 3) := dk_180 0 24 (dk_at dksJ36_grow_4 17 rfl rfl)
theorem dJ36_grow_113 : decode cJ36_grow 113 = .ok (.iload 6, 2) := dk_21 6 (dk_at dksJ36_grow_4 20 rfl rfl)
theorem dJ36_grow_115 : decode cJ36_grow 115 = .ok (.iadd, 1) := dk_96 (dk_at dksJ36_grow_4 22 rfl rfl)
theorem dJ36_grow_116 : decode cJ36_grow 116 = .ok (.iload_n 2, 1) := dk_28 (dk_at dksJ36_grow_4 23 rfl rfl)
theorem dJ36_grow_117 : decode cJ36_grow 117 = .ok (.aload_n 0, 1) := dk_42 (dk_at dksJ36_grow_5 0 rfl rfl)
theorem dJ36_grow_118 : decode cJ36_grow 118 = .ok (.getfield 24, 3) := dk_180 0 24 (dk_at dksJ36_grow_5 1 rfl rfl)
theorem dJ36_grow_121 : decode cJ36_grow 121 = .ok (.isub, 1) := dk_100 (dk_at dksJ36_grow_5 4 rfl rfl)
theorem dJ36_grow_122 : decode cJ36_grow 122 = .ok (.invokestatic 27, 3) := dk_184 0 27 (dk_at dksJ36_grow_5 5 rfl rfl)
theorem dJ36_grow_125 : decode cJ36_grow 125 = .ok (.aload_n 0, 1) := dk_42 (dk_at dksJ36_grow_5 8 rfl rfl)
theorem dJ36_grow_126 : decode cJ36_grow 126 = .ok (.getfield 24, 3) := dk_180 0 24 (dk_at dksJ36_grow_5 9 rfl rfl)
theorem dJ36_grow_129 : decode cJ36_grow 129 = .ok (.istore 7, 2) := dk_54 7 (dk_at dksJ36_grow_5 12 rfl rfl)
theorem dJ36_grow_131 : decode cJ36_grow 131 = .ok (.aload_n 0, 1) := dk_42 (dk_at dksJ36_grow_5 14 rfl rfl)
theorem dJ36_grow_132 : decode cJ36_grow 132 = .ok (.dup, 1) := dk_89 (dk_at dksJ36_grow_5 15 rfl rfl)
theorem dJ36_grow_133 : decode cJ36_grow 133 = .ok (.getfield 24, 3) := dk_180 0 24 (dk_at dksJ36_grow_5 16 rfl rfl)
theorem dJ36_grow_136 : decode cJ36_grow 136 = .ok (.iload 6, 2) := dk_21 6 (dk_at dksJ36_grow_5 19 rfl rfl)
theorem dJ36_grow_138 : decode cJ36_grow 138 = .ok (.iadd, 1) := dk_96 (dk_at dksJ36_grow_5 21 rfl rfl)
theorem dJ36_grow_139 : decode cJ36_grow 139 = .ok (.dup_x1, 1) := dk_90 (dk_at dksJ36_grow_5 22 rfl rfl)
theorem dJ36_grow_140 : decode cJ36_grow 140 = .ok (.putfield 24, 3) := dk_181 0 24 (dk_at dksJ36_grow_6 0 rfl rfl)
theorem dJ36_grow_143 : decode cJ36_grow 143 = .ok (.istore 8, 2) := dk_54 8 (dk_at dksJ36_grow_6 3 rfl rfl)
theorem dJ36_grow_145 : decode cJ36_grow 145 = .ok (.iload 7, 2) := dk_21 7 (dk_at dksJ36_grow_6 5 rfl rfl)
theorem dJ36_grow_147 : decode cJ36_grow 147 = .ok (.iload 8, 2) := dk_21 8 (dk_at dksJ36_grow_6 7 rfl rfl)
theorem dJ36_grow_149 : decode cJ36_grow 149 = .ok (.if_icmp .ge 15, 3) := dk_162 0 15 (dk_at dksJ36_grow_6 9 rfl rfl)
theorem dJ36_grow_152 : decode cJ36_grow 152 = .ok (.aload 5, 2) := dk_25 5 (dk_at dksJ36_grow_6 12 rfl rfl)
theorem dJ36_grow_154 : decode cJ36_grow 154 = .ok (.iload 7, 2) := dk_21 7 (dk_at dksJ36_grow_6 14 rfl rfl)
theorem dJ36_grow_156 : decode cJ36_grow 156 = .ok (.aconst_null, 1) := dk_1 (dk_at dksJ36_grow_6 16 rfl rfl)
theorem dJ36_grow_157 : decode cJ36_grow 157 = .ok (.aastore, 1) := dk_83 (dk_at dksJ36_grow_6 17 rfl rfl)
theorem dJ36_grow_158 : decode cJ36_grow 158 = .ok (.iinc 7 1, 3) := dk_132 7 1 (dk_at dksJ36_grow_6 18 rfl rfl)
theorem dJ36_grow_161 : decode cJ36_grow 161 = .ok (.goto (-16), 3) := dk_167 255 240 (dk_at dksJ36_grow_6 21 rfl rfl)
theorem dJ36_grow_164 : decode cJ36_grow 164 = .ok (.return_, 1) := dk_177 (dk_at dksJ36_grow_7 0 rfl rfl)
abbrev cJ36_newCapacity : ByteArray := prog_61_method_2_code
def yJ36_newCapacity : MethodName := ⟨RJ36, "newCapacity", "(II)I"⟩
def dkwJ36_newCapacity_2 : List UInt8 := [18, 9, 100, 156, 0, 9, 29, 28, 96, 167, 0, 5, 18, 9, 172]
abbrev dktJ36_newCapacity_2 : List UInt8 := dkwJ36_newCapacity_2 ++ []
def dkwJ36_newCapacity_1 : List UInt8 := [187, 0, 33, 89, 18, 35, 183, 0, 37, 191, 18, 41, 172, 27, 28, 164, 0, 6, 21, 4, 172, 29, 28, 96]
abbrev dktJ36_newCapacity_1 : List UInt8 := dkwJ36_newCapacity_1 ++ dktJ36_newCapacity_2
def dkwJ36_newCapacity_0 : List UInt8 := [42, 180, 0, 3, 190, 62, 29, 27, 96, 89, 54, 4, 18, 9, 100, 158, 0, 21, 21, 4, 156, 0, 13]
abbrev dktJ36_newCapacity_0 : List UInt8 := dkwJ36_newCapacity_0 ++ dktJ36_newCapacity_1
theorem dksJ36_newCapacity_0 : cJ36_newCapacity.data.toList.drop 0 = dktJ36_newCapacity_0 := by decide +kernel
theorem dksJ36_newCapacity_1 : cJ36_newCapacity.data.toList.drop 23 = dktJ36_newCapacity_1 := dk_seg dksJ36_newCapacity_0 23 rfl rfl
theorem dksJ36_newCapacity_2 : cJ36_newCapacity.data.toList.drop 47 = dktJ36_newCapacity_2 := dk_seg dksJ36_newCapacity_1 24 rfl rfl
theorem dJ36_newCapacity_0 : decode cJ36_newCapacity 0 = .ok (.aload_n 0, 1) := dk_42 (dk_at dksJ36_newCapacity_0 0 rfl rfl)
theorem dJ36_newCapacity_1 : decode cJ36_newCapacity 1 = .ok (.getfield 3, 3) := dk_180 0 3 (dk_at dksJ36_newCapacity_0 1 rfl rfl)
theorem dJ36_newCapacity_4 : decode cJ36_newCapacity 4 = .ok (.arraylength, 1) := dk_190 (dk_at dksJ36_newCapacity_0 4 rfl rfl)
theorem dJ36_newCapacity_5 : decode cJ36_newCapacity 5 = .ok (.istore_n 3, 1) := dk_62 (dk_at dksJ36_newCapacity_0 5 rfl rfl)
theorem dJ36_newCapacity_6 : decode cJ36_newCapacity 6 = .ok (.iload_n 3, 1) := dk_29 (dk_at dksJ36_newCapacity_0 6 rfl rfl)
theorem dJ36_newCapacity_7 : decode cJ36_newCapacity 7 = .ok (.iload_n 1, 1) := dk_27 (dk_at dksJ36_newCapacity_0 7 rfl rfl)
theorem dJ36_newCapacity_8 : decode cJ36_newCapacity 8 = .ok (.iadd, 1) := dk_96 (dk_at dksJ36_newCapacity_0 8 rfl rfl)
theorem dJ36_newCapacity_9 : decode cJ36_newCapacity 9 = .ok (.dup, 1) := dk_89 (dk_at dksJ36_newCapacity_0 9 rfl rfl)
theorem dJ36_newCapacity_10 : decode cJ36_newCapacity 10 = .ok (.istore 4, 2) := dk_54 4 (dk_at dksJ36_newCapacity_0 10 rfl rfl)
theorem dJ36_newCapacity_12 : decode cJ36_newCapacity 12 = .ok (.ldc 9, 2) := dk_18 9 (dk_at dksJ36_newCapacity_0 12 rfl rfl)
theorem dJ36_newCapacity_14 : decode cJ36_newCapacity 14 = .ok (.isub, 1) := dk_100 (dk_at dksJ36_newCapacity_0 14 rfl rfl)
theorem dJ36_newCapacity_15 : decode cJ36_newCapacity 15 = .ok (.ifCond .le 21, 3) := dk_158 0 21 (dk_at dksJ36_newCapacity_0 15 rfl rfl)
theorem dJ36_newCapacity_18 : decode cJ36_newCapacity 18 = .ok (.iload 4, 2) := dk_21 4 (dk_at dksJ36_newCapacity_0 18 rfl rfl)
theorem dJ36_newCapacity_20 : decode cJ36_newCapacity 20 = .ok (.ifCond .ge 13, 3) := dk_156 0 13 (dk_at dksJ36_newCapacity_0 20 rfl rfl)
theorem dJ36_newCapacity_23 : decode cJ36_newCapacity 23 = .ok (.new 33, 3) := dk_187 0 33 (dk_at dksJ36_newCapacity_1 0 rfl rfl)
theorem dJ36_newCapacity_26 : decode cJ36_newCapacity 26 = .ok (.dup, 1) := dk_89 (dk_at dksJ36_newCapacity_1 3 rfl rfl)
theorem dJ36_newCapacity_27 : decode cJ36_newCapacity 27 = .ok (.ldc 35, 2) := dk_18 35 (dk_at dksJ36_newCapacity_1 4 rfl rfl)
theorem dJ36_newCapacity_29 : decode cJ36_newCapacity 29 = .ok (.invokespecial 37, 3) := dk_183 0 37 (dk_at dksJ36_newCapacity_1 6 rfl rfl)
theorem dJ36_newCapacity_32 : decode cJ36_newCapacity 32 = .ok (.athrow, 1) := dk_191 (dk_at dksJ36_newCapacity_1 9 rfl rfl)
theorem dJ36_newCapacity_33 : decode cJ36_newCapacity 33 = .ok (.ldc 41, 2) := dk_18 41 (dk_at dksJ36_newCapacity_1 10 rfl rfl)
theorem dJ36_newCapacity_35 : decode cJ36_newCapacity 35 = .ok (.ireturn, 1) := dk_172 (dk_at dksJ36_newCapacity_1 12 rfl rfl)
theorem dJ36_newCapacity_36 : decode cJ36_newCapacity 36 = .ok (.iload_n 1, 1) := dk_27 (dk_at dksJ36_newCapacity_1 13 rfl rfl)
theorem dJ36_newCapacity_37 : decode cJ36_newCapacity 37 = .ok (.iload_n 2, 1) := dk_28 (dk_at dksJ36_newCapacity_1 14 rfl rfl)
theorem dJ36_newCapacity_38 : decode cJ36_newCapacity 38 = .ok (.if_icmp .le 6, 3) := dk_164 0 6 (dk_at dksJ36_newCapacity_1 15 rfl rfl)
theorem dJ36_newCapacity_41 : decode cJ36_newCapacity 41 = .ok (.iload 4, 2) := dk_21 4 (dk_at dksJ36_newCapacity_1 18 rfl rfl)
theorem dJ36_newCapacity_43 : decode cJ36_newCapacity 43 = .ok (.ireturn, 1) := dk_172 (dk_at dksJ36_newCapacity_1 20 rfl rfl)
theorem dJ36_newCapacity_44 : decode cJ36_newCapacity 44 = .ok (.iload_n 3, 1) := dk_29 (dk_at dksJ36_newCapacity_1 21 rfl rfl)
theorem dJ36_newCapacity_45 : decode cJ36_newCapacity 45 = .ok (.iload_n 2, 1) := dk_28 (dk_at dksJ36_newCapacity_1 22 rfl rfl)
theorem dJ36_newCapacity_46 : decode cJ36_newCapacity 46 = .ok (.iadd, 1) := dk_96 (dk_at dksJ36_newCapacity_1 23 rfl rfl)
theorem dJ36_newCapacity_47 : decode cJ36_newCapacity 47 = .ok (.ldc 9, 2) := dk_18 9 (dk_at dksJ36_newCapacity_2 0 rfl rfl)
theorem dJ36_newCapacity_49 : decode cJ36_newCapacity 49 = .ok (.isub, 1) := dk_100 (dk_at dksJ36_newCapacity_2 2 rfl rfl)
theorem dJ36_newCapacity_50 : decode cJ36_newCapacity 50 = .ok (.ifCond .ge 9, 3) := dk_156 0 9 (dk_at dksJ36_newCapacity_2 3 rfl rfl)
theorem dJ36_newCapacity_53 : decode cJ36_newCapacity 53 = .ok (.iload_n 3, 1) := dk_29 (dk_at dksJ36_newCapacity_2 6 rfl rfl)
theorem dJ36_newCapacity_54 : decode cJ36_newCapacity 54 = .ok (.iload_n 2, 1) := dk_28 (dk_at dksJ36_newCapacity_2 7 rfl rfl)
theorem dJ36_newCapacity_55 : decode cJ36_newCapacity 55 = .ok (.iadd, 1) := dk_96 (dk_at dksJ36_newCapacity_2 8 rfl rfl)
theorem dJ36_newCapacity_56 : decode cJ36_newCapacity 56 = .ok (.goto 5, 3) := dk_167 0 5 (dk_at dksJ36_newCapacity_2 9 rfl rfl)
theorem dJ36_newCapacity_59 : decode cJ36_newCapacity 59 = .ok (.ldc 9, 2) := dk_18 9 (dk_at dksJ36_newCapacity_2 12 rfl rfl)
theorem dJ36_newCapacity_61 : decode cJ36_newCapacity 61 = .ok (.ireturn, 1) := dk_172 (dk_at dksJ36_newCapacity_2 14 rfl rfl)
abbrev cJ36_iterator : ByteArray := prog_61_method_39_code
def yJ36_iterator : MethodName := ⟨RJ36, "iterator", "()Ljava/util/Iterator;"⟩
def dkwJ36_iterator_0 : List UInt8 := [187, 0, 131, 89, 42, 183, 0, 133, 176]
abbrev dktJ36_iterator_0 : List UInt8 := dkwJ36_iterator_0 ++ []
theorem dksJ36_iterator_0 : cJ36_iterator.data.toList.drop 0 = dktJ36_iterator_0 := by decide +kernel
theorem dJ36_iterator_0 : decode cJ36_iterator 0 = .ok (.new 131, 3) := dk_187 0 131 (dk_at dksJ36_iterator_0 0 rfl rfl)
theorem dJ36_iterator_3 : decode cJ36_iterator 3 = .ok (.dup, 1) := dk_89 (dk_at dksJ36_iterator_0 3 rfl rfl)
theorem dJ36_iterator_4 : decode cJ36_iterator 4 = .ok (.aload_n 0, 1) := dk_42 (dk_at dksJ36_iterator_0 4 rfl rfl)
theorem dJ36_iterator_5 : decode cJ36_iterator 5 = .ok (.invokespecial 133, 3) := dk_183 0 133 (dk_at dksJ36_iterator_0 5 rfl rfl)
theorem dJ36_iterator_8 : decode cJ36_iterator 8 = .ok (.areturn, 1) := dk_176 (dk_at dksJ36_iterator_0 8 rfl rfl)
abbrev cJ36_size : ByteArray := prog_61_method_37_code
def yJ36_size : MethodName := ⟨RJ36, "size", "()I"⟩
def dkwJ36_size_0 : List UInt8 := [42, 180, 0, 20, 42, 180, 0, 24, 42, 180, 0, 3, 190, 184, 0, 127, 172]
abbrev dktJ36_size_0 : List UInt8 := dkwJ36_size_0 ++ []
theorem dksJ36_size_0 : cJ36_size.data.toList.drop 0 = dktJ36_size_0 := by decide +kernel
theorem dJ36_size_0 : decode cJ36_size 0 = .ok (.aload_n 0, 1) := dk_42 (dk_at dksJ36_size_0 0 rfl rfl)
theorem dJ36_size_1 : decode cJ36_size 1 = .ok (.getfield 20, 3) := dk_180 0 20 (dk_at dksJ36_size_0 1 rfl rfl)
theorem dJ36_size_4 : decode cJ36_size 4 = .ok (.aload_n 0, 1) := dk_42 (dk_at dksJ36_size_0 4 rfl rfl)
theorem dJ36_size_5 : decode cJ36_size 5 = .ok (.getfield 24, 3) := dk_180 0 24 (dk_at dksJ36_size_0 5 rfl rfl)
theorem dJ36_size_8 : decode cJ36_size 8 = .ok (.aload_n 0, 1) := dk_42 (dk_at dksJ36_size_0 8 rfl rfl)
theorem dJ36_size_9 : decode cJ36_size 9 = .ok (.getfield 3, 3) := dk_180 0 3 (dk_at dksJ36_size_0 9 rfl rfl)
theorem dJ36_size_12 : decode cJ36_size 12 = .ok (.arraylength, 1) := dk_190 (dk_at dksJ36_size_0 12 rfl rfl)
theorem dJ36_size_13 : decode cJ36_size 13 = .ok (.invokestatic 127, 3) := dk_184 0 127 (dk_at dksJ36_size_0 13 rfl rfl)
theorem dJ36_size_16 : decode cJ36_size 16 = .ok (.ireturn, 1) := dk_172 (dk_at dksJ36_size_0 16 rfl rfl)
abbrev cJ36_sub : ByteArray := prog_61_method_9_code
def yJ36_sub : MethodName := ⟨RJ36, "sub", "(III)I"⟩
def dkwJ36_sub_0 : List UInt8 := [26, 27, 100, 89, 59, 156, 0, 7, 26, 28, 96, 59, 26, 172]
abbrev dktJ36_sub_0 : List UInt8 := dkwJ36_sub_0 ++ []
theorem dksJ36_sub_0 : cJ36_sub.data.toList.drop 0 = dktJ36_sub_0 := by decide +kernel
theorem dJ36_sub_0 : decode cJ36_sub 0 = .ok (.iload_n 0, 1) := dk_26 (dk_at dksJ36_sub_0 0 rfl rfl)
theorem dJ36_sub_1 : decode cJ36_sub 1 = .ok (.iload_n 1, 1) := dk_27 (dk_at dksJ36_sub_0 1 rfl rfl)
theorem dJ36_sub_2 : decode cJ36_sub 2 = .ok (.isub, 1) := dk_100 (dk_at dksJ36_sub_0 2 rfl rfl)
theorem dJ36_sub_3 : decode cJ36_sub 3 = .ok (.dup, 1) := dk_89 (dk_at dksJ36_sub_0 3 rfl rfl)
theorem dJ36_sub_4 : decode cJ36_sub 4 = .ok (.istore_n 0, 1) := dk_59 (dk_at dksJ36_sub_0 4 rfl rfl)
theorem dJ36_sub_5 : decode cJ36_sub 5 = .ok (.ifCond .ge 7, 3) := dk_156 0 7 (dk_at dksJ36_sub_0 5 rfl rfl)
theorem dJ36_sub_8 : decode cJ36_sub 8 = .ok (.iload_n 0, 1) := dk_26 (dk_at dksJ36_sub_0 8 rfl rfl)
theorem dJ36_sub_9 : decode cJ36_sub 9 = .ok (.iload_n 2, 1) := dk_28 (dk_at dksJ36_sub_0 9 rfl rfl)
theorem dJ36_sub_10 : decode cJ36_sub 10 = .ok (.iadd, 1) := dk_96 (dk_at dksJ36_sub_0 10 rfl rfl)
theorem dJ36_sub_11 : decode cJ36_sub 11 = .ok (.istore_n 0, 1) := dk_59 (dk_at dksJ36_sub_0 11 rfl rfl)
theorem dJ36_sub_12 : decode cJ36_sub 12 = .ok (.iload_n 0, 1) := dk_26 (dk_at dksJ36_sub_0 12 rfl rfl)
theorem dJ36_sub_13 : decode cJ36_sub 13 = .ok (.ireturn, 1) := dk_172 (dk_at dksJ36_sub_0 13 rfl rfl)
abbrev cJ36_addLast : ByteArray := prog_61_method_13_code
def yJ36_addLast : MethodName := ⟨RJ36, "addLast", "(Ljava/lang/Object;)V"⟩
def dkwJ36_addLast_2 : List UInt8 := [182, 0, 71, 177]
abbrev dktJ36_addLast_2 : List UInt8 := dkwJ36_addLast_2 ++ []
def dkwJ36_addLast_1 : List UInt8 := [42, 180, 0, 24, 42, 42, 180, 0, 20, 44, 190, 184, 0, 74, 90, 181, 0, 20, 160, 0, 8, 42, 4]
abbrev dktJ36_addLast_1 : List UInt8 := dkwJ36_addLast_1 ++ dktJ36_addLast_2
def dkwJ36_addLast_0 : List UInt8 := [43, 199, 0, 11, 187, 0, 65, 89, 183, 0, 67, 191, 42, 180, 0, 3, 77, 44, 42, 180, 0, 20, 43, 83]
abbrev dktJ36_addLast_0 : List UInt8 := dkwJ36_addLast_0 ++ dktJ36_addLast_1
theorem dksJ36_addLast_0 : cJ36_addLast.data.toList.drop 0 = dktJ36_addLast_0 := by decide +kernel
theorem dksJ36_addLast_1 : cJ36_addLast.data.toList.drop 24 = dktJ36_addLast_1 := dk_seg dksJ36_addLast_0 24 rfl rfl
theorem dksJ36_addLast_2 : cJ36_addLast.data.toList.drop 47 = dktJ36_addLast_2 := dk_seg dksJ36_addLast_1 23 rfl rfl
theorem dJ36_addLast_0 : decode cJ36_addLast 0 = .ok (.aload_n 1, 1) := dk_43 (dk_at dksJ36_addLast_0 0 rfl rfl)
theorem dJ36_addLast_1 : decode cJ36_addLast 1 = .ok (.ifnonnull 11, 3) := dk_199 0 11 (dk_at dksJ36_addLast_0 1 rfl rfl)
theorem dJ36_addLast_4 : decode cJ36_addLast 4 = .ok (.new 65, 3) := dk_187 0 65 (dk_at dksJ36_addLast_0 4 rfl rfl)
theorem dJ36_addLast_7 : decode cJ36_addLast 7 = .ok (.dup, 1) := dk_89 (dk_at dksJ36_addLast_0 7 rfl rfl)
theorem dJ36_addLast_8 : decode cJ36_addLast 8 = .ok (.invokespecial 67, 3) := dk_183 0 67 (dk_at dksJ36_addLast_0 8 rfl rfl)
theorem dJ36_addLast_11 : decode cJ36_addLast 11 = .ok (.athrow, 1) := dk_191 (dk_at dksJ36_addLast_0 11 rfl rfl)
theorem dJ36_addLast_12 : decode cJ36_addLast 12 = .ok (.aload_n 0, 1) := dk_42 (dk_at dksJ36_addLast_0 12 rfl rfl)
theorem dJ36_addLast_13 : decode cJ36_addLast 13 = .ok (.getfield 3, 3) := dk_180 0 3 (dk_at dksJ36_addLast_0 13 rfl rfl)
theorem dJ36_addLast_16 : decode cJ36_addLast 16 = .ok (.astore_n 2, 1) := dk_77 (dk_at dksJ36_addLast_0 16 rfl rfl)
theorem dJ36_addLast_17 : decode cJ36_addLast 17 = .ok (.aload_n 2, 1) := dk_44 (dk_at dksJ36_addLast_0 17 rfl rfl)
theorem dJ36_addLast_18 : decode cJ36_addLast 18 = .ok (.aload_n 0, 1) := dk_42 (dk_at dksJ36_addLast_0 18 rfl rfl)
theorem dJ36_addLast_19 : decode cJ36_addLast 19 = .ok (.getfield 20, 3) := dk_180 0 20 (dk_at dksJ36_addLast_0 19 rfl rfl)
theorem dJ36_addLast_22 : decode cJ36_addLast 22 = .ok (.aload_n 1, 1) := dk_43 (dk_at dksJ36_addLast_0 22 rfl rfl)
theorem dJ36_addLast_23 : decode cJ36_addLast 23 = .ok (.aastore, 1) := dk_83 (dk_at dksJ36_addLast_0 23 rfl rfl)
theorem dJ36_addLast_24 : decode cJ36_addLast 24 = .ok (.aload_n 0, 1) := dk_42 (dk_at dksJ36_addLast_1 0 rfl rfl)
theorem dJ36_addLast_25 : decode cJ36_addLast 25 = .ok (.getfield 24, 3) := dk_180 0 24 (dk_at dksJ36_addLast_1 1 rfl rfl)
theorem dJ36_addLast_28 : decode cJ36_addLast 28 = .ok (.aload_n 0, 1) := dk_42 (dk_at dksJ36_addLast_1 4 rfl rfl)
theorem dJ36_addLast_29 : decode cJ36_addLast 29 = .ok (.aload_n 0, 1) := dk_42 (dk_at dksJ36_addLast_1 5 rfl rfl)
theorem dJ36_addLast_30 : decode cJ36_addLast 30 = .ok (.getfield 20, 3) := dk_180 0 20 (dk_at dksJ36_addLast_1 6 rfl rfl)
theorem dJ36_addLast_33 : decode cJ36_addLast 33 = .ok (.aload_n 2, 1) := dk_44 (dk_at dksJ36_addLast_1 9 rfl rfl)
theorem dJ36_addLast_34 : decode cJ36_addLast 34 = .ok (.arraylength, 1) := dk_190 (dk_at dksJ36_addLast_1 10 rfl rfl)
theorem dJ36_addLast_35 : decode cJ36_addLast 35 = .ok (.invokestatic 74, 3) := dk_184 0 74 (dk_at dksJ36_addLast_1 11 rfl rfl)
theorem dJ36_addLast_38 : decode cJ36_addLast 38 = .ok (.dup_x1, 1) := dk_90 (dk_at dksJ36_addLast_1 14 rfl rfl)
theorem dJ36_addLast_39 : decode cJ36_addLast 39 = .ok (.putfield 20, 3) := dk_181 0 20 (dk_at dksJ36_addLast_1 15 rfl rfl)
theorem dJ36_addLast_42 : decode cJ36_addLast 42 = .ok (.if_icmp .ne 8, 3) := dk_160 0 8 (dk_at dksJ36_addLast_1 18 rfl rfl)
theorem dJ36_addLast_45 : decode cJ36_addLast 45 = .ok (.aload_n 0, 1) := dk_42 (dk_at dksJ36_addLast_1 21 rfl rfl)
theorem dJ36_addLast_46 : decode cJ36_addLast 46 = .ok (.iconst 1, 1) := dk_4 (dk_at dksJ36_addLast_1 22 rfl rfl)
theorem dJ36_addLast_47 : decode cJ36_addLast 47 = .ok (.invokevirtual 71, 3) := dk_182 0 71 (dk_at dksJ36_addLast_2 0 rfl rfl)
theorem dJ36_addLast_50 : decode cJ36_addLast 50 = .ok (.return_, 1) := dk_177 (dk_at dksJ36_addLast_2 3 rfl rfl)
abbrev cJ36_isEmpty : ByteArray := prog_61_method_38_code
def yJ36_isEmpty : MethodName := ⟨RJ36, "isEmpty", "()Z"⟩
def dkwJ36_isEmpty_0 : List UInt8 := [42, 180, 0, 24, 42, 180, 0, 20, 160, 0, 7, 4, 167, 0, 4, 3, 172]
abbrev dktJ36_isEmpty_0 : List UInt8 := dkwJ36_isEmpty_0 ++ []
theorem dksJ36_isEmpty_0 : cJ36_isEmpty.data.toList.drop 0 = dktJ36_isEmpty_0 := by decide +kernel
theorem dJ36_isEmpty_0 : decode cJ36_isEmpty 0 = .ok (.aload_n 0, 1) := dk_42 (dk_at dksJ36_isEmpty_0 0 rfl rfl)
theorem dJ36_isEmpty_1 : decode cJ36_isEmpty 1 = .ok (.getfield 24, 3) := dk_180 0 24 (dk_at dksJ36_isEmpty_0 1 rfl rfl)
theorem dJ36_isEmpty_4 : decode cJ36_isEmpty 4 = .ok (.aload_n 0, 1) := dk_42 (dk_at dksJ36_isEmpty_0 4 rfl rfl)
theorem dJ36_isEmpty_5 : decode cJ36_isEmpty 5 = .ok (.getfield 20, 3) := dk_180 0 20 (dk_at dksJ36_isEmpty_0 5 rfl rfl)
theorem dJ36_isEmpty_8 : decode cJ36_isEmpty 8 = .ok (.if_icmp .ne 7, 3) := dk_160 0 7 (dk_at dksJ36_isEmpty_0 8 rfl rfl)
theorem dJ36_isEmpty_11 : decode cJ36_isEmpty 11 = .ok (.iconst 1, 1) := dk_4 (dk_at dksJ36_isEmpty_0 11 rfl rfl)
theorem dJ36_isEmpty_12 : decode cJ36_isEmpty 12 = .ok (.goto 4, 3) := dk_167 0 4 (dk_at dksJ36_isEmpty_0 12 rfl rfl)
theorem dJ36_isEmpty_15 : decode cJ36_isEmpty 15 = .ok (.iconst 0, 1) := dk_3 (dk_at dksJ36_isEmpty_0 15 rfl rfl)
theorem dJ36_isEmpty_16 : decode cJ36_isEmpty 16 = .ok (.ireturn, 1) := dk_172 (dk_at dksJ36_isEmpty_0 16 rfl rfl)
abbrev cJ36_removeFirst : ByteArray := prog_61_method_18_code
def yJ36_removeFirst : MethodName := ⟨RJ36, "removeFirst", "()Ljava/lang/Object;"⟩
def dkwJ36_removeFirst_0 : List UInt8 := [42, 182, 0, 93, 76, 43, 199, 0, 11, 187, 0, 97, 89, 183, 0, 99, 191, 43, 176]
abbrev dktJ36_removeFirst_0 : List UInt8 := dkwJ36_removeFirst_0 ++ []
theorem dksJ36_removeFirst_0 : cJ36_removeFirst.data.toList.drop 0 = dktJ36_removeFirst_0 := by decide +kernel
theorem dJ36_removeFirst_0 : decode cJ36_removeFirst 0 = .ok (.aload_n 0, 1) := dk_42 (dk_at dksJ36_removeFirst_0 0 rfl rfl)
theorem dJ36_removeFirst_1 : decode cJ36_removeFirst 1 = .ok (.invokevirtual 93, 3) := dk_182 0 93 (dk_at dksJ36_removeFirst_0 1 rfl rfl)
theorem dJ36_removeFirst_4 : decode cJ36_removeFirst 4 = .ok (.astore_n 1, 1) := dk_76 (dk_at dksJ36_removeFirst_0 4 rfl rfl)
theorem dJ36_removeFirst_5 : decode cJ36_removeFirst 5 = .ok (.aload_n 1, 1) := dk_43 (dk_at dksJ36_removeFirst_0 5 rfl rfl)
theorem dJ36_removeFirst_6 : decode cJ36_removeFirst 6 = .ok (.ifnonnull 11, 3) := dk_199 0 11 (dk_at dksJ36_removeFirst_0 6 rfl rfl)
theorem dJ36_removeFirst_9 : decode cJ36_removeFirst 9 = .ok (.new 97, 3) := dk_187 0 97 (dk_at dksJ36_removeFirst_0 9 rfl rfl)
theorem dJ36_removeFirst_12 : decode cJ36_removeFirst 12 = .ok (.dup, 1) := dk_89 (dk_at dksJ36_removeFirst_0 12 rfl rfl)
theorem dJ36_removeFirst_13 : decode cJ36_removeFirst 13 = .ok (.invokespecial 99, 3) := dk_183 0 99 (dk_at dksJ36_removeFirst_0 13 rfl rfl)
theorem dJ36_removeFirst_16 : decode cJ36_removeFirst 16 = .ok (.athrow, 1) := dk_191 (dk_at dksJ36_removeFirst_0 16 rfl rfl)
theorem dJ36_removeFirst_17 : decode cJ36_removeFirst 17 = .ok (.aload_n 1, 1) := dk_43 (dk_at dksJ36_removeFirst_0 17 rfl rfl)
theorem dJ36_removeFirst_18 : decode cJ36_removeFirst 18 = .ok (.areturn, 1) := dk_176 (dk_at dksJ36_removeFirst_0 18 rfl rfl)
abbrev cJ36_pollFirst : ByteArray := prog_61_method_20_code
def yJ36_pollFirst : MethodName := ⟨RJ36, "pollFirst", "()Ljava/lang/Object;"⟩
def dkwJ36_pollFirst_1 : List UInt8 := [42, 28, 43, 190, 184, 0, 74, 181, 0, 24, 45, 176]
abbrev dktJ36_pollFirst_1 : List UInt8 := dkwJ36_pollFirst_1 ++ []
def dkwJ36_pollFirst_0 : List UInt8 := [42, 180, 0, 3, 89, 76, 42, 180, 0, 24, 89, 61, 184, 0, 103, 78, 45, 198, 0, 17, 43, 28, 1, 83]
abbrev dktJ36_pollFirst_0 : List UInt8 := dkwJ36_pollFirst_0 ++ dktJ36_pollFirst_1
theorem dksJ36_pollFirst_0 : cJ36_pollFirst.data.toList.drop 0 = dktJ36_pollFirst_0 := by decide +kernel
theorem dksJ36_pollFirst_1 : cJ36_pollFirst.data.toList.drop 24 = dktJ36_pollFirst_1 := dk_seg dksJ36_pollFirst_0 24 rfl rfl
theorem dJ36_pollFirst_0 : decode cJ36_pollFirst 0 = .ok (.aload_n 0, 1) := dk_42 (dk_at dksJ36_pollFirst_0 0 rfl rfl)
theorem dJ36_pollFirst_1 : decode cJ36_pollFirst 1 = .ok (.getfield 3, 3) := dk_180 0 3 (dk_at dksJ36_pollFirst_0 1 rfl rfl)
theorem dJ36_pollFirst_4 : decode cJ36_pollFirst 4 = .ok (.dup, 1) := dk_89 (dk_at dksJ36_pollFirst_0 4 rfl rfl)
theorem dJ36_pollFirst_5 : decode cJ36_pollFirst 5 = .ok (.astore_n 1, 1) := dk_76 (dk_at dksJ36_pollFirst_0 5 rfl rfl)
theorem dJ36_pollFirst_6 : decode cJ36_pollFirst 6 = .ok (.aload_n 0, 1) := dk_42 (dk_at dksJ36_pollFirst_0 6 rfl rfl)
theorem dJ36_pollFirst_7 : decode cJ36_pollFirst 7 = .ok (.getfield 24, 3) := dk_180 0 24 (dk_at dksJ36_pollFirst_0 7 rfl rfl)
theorem dJ36_pollFirst_10 : decode cJ36_pollFirst 10 = .ok (.dup, 1) := dk_89 (dk_at dksJ36_pollFirst_0 10 rfl rfl)
theorem dJ36_pollFirst_11 : decode cJ36_pollFirst 11 = .ok (.istore_n 2, 1) := dk_61 (dk_at dksJ36_pollFirst_0 11 rfl rfl)
theorem dJ36_pollFirst_12 : decode cJ36_pollFirst 12 = .ok (.invokestatic 103, 3) := dk_184 0 103 (dk_at dksJ36_pollFirst_0 12 rfl rfl)
theorem dJ36_pollFirst_15 : decode cJ36_pollFirst 15 = .ok (.astore_n 3, 1) := dk_78 (dk_at dksJ36_pollFirst_0 15 rfl rfl)
theorem dJ36_pollFirst_16 : decode cJ36_pollFirst 16 = .ok (.aload_n 3, 1) := dk_45 (dk_at dksJ36_pollFirst_0 16 rfl rfl)
theorem dJ36_pollFirst_17 : decode cJ36_pollFirst 17 = .ok (.ifnull 17, 3) := dk_198 0 17 (dk_at dksJ36_pollFirst_0 17 rfl rfl)
theorem dJ36_pollFirst_20 : decode cJ36_pollFirst 20 = .ok (.aload_n 1, 1) := dk_43 (dk_at dksJ36_pollFirst_0 20 rfl rfl)
theorem dJ36_pollFirst_21 : decode cJ36_pollFirst 21 = .ok (.iload_n 2, 1) := dk_28 (dk_at dksJ36_pollFirst_0 21 rfl rfl)
theorem dJ36_pollFirst_22 : decode cJ36_pollFirst 22 = .ok (.aconst_null, 1) := dk_1 (dk_at dksJ36_pollFirst_0 22 rfl rfl)
theorem dJ36_pollFirst_23 : decode cJ36_pollFirst 23 = .ok (.aastore, 1) := dk_83 (dk_at dksJ36_pollFirst_0 23 rfl rfl)
theorem dJ36_pollFirst_24 : decode cJ36_pollFirst 24 = .ok (.aload_n 0, 1) := dk_42 (dk_at dksJ36_pollFirst_1 0 rfl rfl)
theorem dJ36_pollFirst_25 : decode cJ36_pollFirst 25 = .ok (.iload_n 2, 1) := dk_28 (dk_at dksJ36_pollFirst_1 1 rfl rfl)
theorem dJ36_pollFirst_26 : decode cJ36_pollFirst 26 = .ok (.aload_n 1, 1) := dk_43 (dk_at dksJ36_pollFirst_1 2 rfl rfl)
theorem dJ36_pollFirst_27 : decode cJ36_pollFirst 27 = .ok (.arraylength, 1) := dk_190 (dk_at dksJ36_pollFirst_1 3 rfl rfl)
theorem dJ36_pollFirst_28 : decode cJ36_pollFirst 28 = .ok (.invokestatic 74, 3) := dk_184 0 74 (dk_at dksJ36_pollFirst_1 4 rfl rfl)
theorem dJ36_pollFirst_31 : decode cJ36_pollFirst 31 = .ok (.putfield 24, 3) := dk_181 0 24 (dk_at dksJ36_pollFirst_1 7 rfl rfl)
theorem dJ36_pollFirst_34 : decode cJ36_pollFirst 34 = .ok (.aload_n 3, 1) := dk_45 (dk_at dksJ36_pollFirst_1 10 rfl rfl)
theorem dJ36_pollFirst_35 : decode cJ36_pollFirst 35 = .ok (.areturn, 1) := dk_176 (dk_at dksJ36_pollFirst_1 11 rfl rfl)
abbrev cJ36_elementAt : ByteArray := prog_61_method_10_code
def yJ36_elementAt : MethodName := ⟨RJ36, "elementAt", "([Ljava/lang/Object;I)Ljava/lang/Object;"⟩
def dkwJ36_elementAt_0 : List UInt8 := [42, 27, 50, 176]
abbrev dktJ36_elementAt_0 : List UInt8 := dkwJ36_elementAt_0 ++ []
theorem dksJ36_elementAt_0 : cJ36_elementAt.data.toList.drop 0 = dktJ36_elementAt_0 := by decide +kernel
theorem dJ36_elementAt_0 : decode cJ36_elementAt 0 = .ok (.aload_n 0, 1) := dk_42 (dk_at dksJ36_elementAt_0 0 rfl rfl)
theorem dJ36_elementAt_1 : decode cJ36_elementAt 1 = .ok (.iload_n 1, 1) := dk_27 (dk_at dksJ36_elementAt_0 1 rfl rfl)
theorem dJ36_elementAt_2 : decode cJ36_elementAt 2 = .ok (.aaload, 1) := dk_50 (dk_at dksJ36_elementAt_0 2 rfl rfl)
theorem dJ36_elementAt_3 : decode cJ36_elementAt 3 = .ok (.areturn, 1) := dk_176 (dk_at dksJ36_elementAt_0 3 rfl rfl)
abbrev cJ36_delete : ByteArray := prog_61_method_36_code
def yJ36_delete : MethodName := ⟨RJ36, "delete", "(I)Z"⟩
def dkwJ36_delete_8 : List UInt8 := [4, 172]
abbrev dktJ36_delete_8 : List UInt8 := dkwJ36_delete_8 ++ []
def dkwJ36_delete_7 : List UInt8 := [4, 100, 44, 3, 50, 83, 44, 4, 44, 3, 21, 5, 4, 100, 184, 0, 27, 44, 42, 180, 0, 20, 1, 83]
abbrev dktJ36_delete_7 : List UInt8 := dkwJ36_delete_7 ++ dktJ36_delete_8
def dkwJ36_delete_6 : List UInt8 := [21, 7, 184, 0, 27, 167, 0, 36, 44, 27, 4, 96, 44, 27, 29, 27, 4, 96, 100, 184, 0, 27, 44, 29]
abbrev dktJ36_delete_6 : List UInt8 := dkwJ36_delete_6 ++ dktJ36_delete_7
def dkwJ36_delete_5 : List UInt8 := [21, 5, 29, 184, 0, 68, 181, 0, 20, 27, 42, 180, 0, 20, 163, 0, 17, 44, 27, 4, 96, 44, 27]
abbrev dktJ36_delete_5 : List UInt8 := dkwJ36_delete_5 ++ dktJ36_delete_6
def dkwJ36_delete_4 : List UInt8 := [96, 100, 184, 0, 27, 44, 21, 4, 1, 83, 42, 21, 4, 29, 184, 0, 74, 181, 0, 24, 3, 172, 42]
abbrev dktJ36_delete_4 : List UInt8 := dkwJ36_delete_4 ++ dktJ36_delete_5
def dkwJ36_delete_3 : List UInt8 := [27, 184, 0, 27, 44, 3, 44, 29, 4, 100, 50, 83, 44, 21, 4, 44, 21, 4, 4, 96, 21, 6, 27, 4]
abbrev dktJ36_delete_3 : List UInt8 := dkwJ36_delete_3 ++ dktJ36_delete_4
def dkwJ36_delete_2 : List UInt8 := [27, 163, 0, 19, 44, 21, 4, 44, 21, 4, 4, 96, 21, 6, 184, 0, 27, 167, 0, 36, 44, 3, 44, 4]
abbrev dktJ36_delete_2 : List UInt8 := dkwJ36_delete_2 ++ dktJ36_delete_3
def dkwJ36_delete_1 : List UInt8 := [180, 0, 20, 89, 54, 5, 27, 29, 184, 0, 127, 4, 100, 54, 7, 21, 6, 21, 7, 162, 0, 75, 21, 4]
abbrev dktJ36_delete_1 : List UInt8 := dkwJ36_delete_1 ++ dktJ36_delete_2
def dkwJ36_delete_0 : List UInt8 := [42, 180, 0, 3, 77, 44, 190, 62, 27, 42, 180, 0, 24, 89, 54, 4, 29, 184, 0, 127, 54, 6, 42]
abbrev dktJ36_delete_0 : List UInt8 := dkwJ36_delete_0 ++ dktJ36_delete_1
theorem dksJ36_delete_0 : cJ36_delete.data.toList.drop 0 = dktJ36_delete_0 := by decide +kernel
theorem dksJ36_delete_1 : cJ36_delete.data.toList.drop 23 = dktJ36_delete_1 := dk_seg dksJ36_delete_0 23 rfl rfl
theorem dksJ36_delete_2 : cJ36_delete.data.toList.drop 47 = dktJ36_delete_2 := dk_seg dksJ36_delete_1 24 rfl rfl
theorem dksJ36_delete_3 : cJ36_delete.data.toList.drop 71 = dktJ36_delete_3 := dk_seg dksJ36_delete_2 24 rfl rfl
theorem dksJ36_delete_4 : cJ36_delete.data.toList.drop 95 = dktJ36_delete_4 := dk_seg dksJ36_delete_3 24 rfl rfl
theorem dksJ36_delete_5 : cJ36_delete.data.toList.drop 118 = dktJ36_delete_5 := dk_seg dksJ36_delete_4 23 rfl rfl
theorem dksJ36_delete_6 : cJ36_delete.data.toList.drop 141 = dktJ36_delete_6 := dk_seg dksJ36_delete_5 23 rfl rfl
theorem dksJ36_delete_7 : cJ36_delete.data.toList.drop 165 = dktJ36_delete_7 := dk_seg dksJ36_delete_6 24 rfl rfl
theorem dksJ36_delete_8 : cJ36_delete.data.toList.drop 189 = dktJ36_delete_8 := dk_seg dksJ36_delete_7 24 rfl rfl
theorem dJ36_delete_0 : decode cJ36_delete 0 = .ok (.aload_n 0, 1) := dk_42 (dk_at dksJ36_delete_0 0 rfl rfl)
theorem dJ36_delete_1 : decode cJ36_delete 1 = .ok (.getfield 3, 3) := dk_180 0 3 (dk_at dksJ36_delete_0 1 rfl rfl)
theorem dJ36_delete_4 : decode cJ36_delete 4 = .ok (.astore_n 2, 1) := dk_77 (dk_at dksJ36_delete_0 4 rfl rfl)
theorem dJ36_delete_5 : decode cJ36_delete 5 = .ok (.aload_n 2, 1) := dk_44 (dk_at dksJ36_delete_0 5 rfl rfl)
theorem dJ36_delete_6 : decode cJ36_delete 6 = .ok (.arraylength, 1) := dk_190 (dk_at dksJ36_delete_0 6 rfl rfl)
theorem dJ36_delete_7 : decode cJ36_delete 7 = .ok (.istore_n 3, 1) := dk_62 (dk_at dksJ36_delete_0 7 rfl rfl)
theorem dJ36_delete_8 : decode cJ36_delete 8 = .ok (.iload_n 1, 1) := dk_27 (dk_at dksJ36_delete_0 8 rfl rfl)
theorem dJ36_delete_9 : decode cJ36_delete 9 = .ok (.aload_n 0, 1) := dk_42 (dk_at dksJ36_delete_0 9 rfl rfl)
theorem dJ36_delete_10 : decode cJ36_delete 10 = .ok (.getfield 24, 3) := dk_180 0 24 (dk_at dksJ36_delete_0 10 rfl rfl)
theorem dJ36_delete_13 : decode cJ36_delete 13 = .ok (.dup, 1) := dk_89 (dk_at dksJ36_delete_0 13 rfl rfl)
theorem dJ36_delete_14 : decode cJ36_delete 14 = .ok (.istore 4, 2) := dk_54 4 (dk_at dksJ36_delete_0 14 rfl rfl)
theorem dJ36_delete_16 : decode cJ36_delete 16 = .ok (.iload_n 3, 1) := dk_29 (dk_at dksJ36_delete_0 16 rfl rfl)
theorem dJ36_delete_17 : decode cJ36_delete 17 = .ok (.invokestatic 127, 3) := dk_184 0 127 (dk_at dksJ36_delete_0 17 rfl rfl)
theorem dJ36_delete_20 : decode cJ36_delete 20 = .ok (.istore 6, 2) := dk_54 6 (dk_at dksJ36_delete_0 20 rfl rfl)
theorem dJ36_delete_22 : decode cJ36_delete 22 = .ok (.aload_n 0, 1) := dk_42 (dk_at dksJ36_delete_0 22 rfl rfl)
theorem dJ36_delete_23 : decode cJ36_delete 23 = .ok (.getfield 20, 3) := dk_180 0 20 (dk_at dksJ36_delete_1 0 rfl rfl)
theorem dJ36_delete_26 : decode cJ36_delete 26 = .ok (.dup, 1) := dk_89 (dk_at dksJ36_delete_1 3 rfl rfl)
theorem dJ36_delete_27 : decode cJ36_delete 27 = .ok (.istore 5, 2) := dk_54 5 (dk_at dksJ36_delete_1 4 rfl rfl)
theorem dJ36_delete_29 : decode cJ36_delete 29 = .ok (.iload_n 1, 1) := dk_27 (dk_at dksJ36_delete_1 6 rfl rfl)
theorem dJ36_delete_30 : decode cJ36_delete 30 = .ok (.iload_n 3, 1) := dk_29 (dk_at dksJ36_delete_1 7 rfl rfl)
theorem dJ36_delete_31 : decode cJ36_delete 31 = .ok (.invokestatic 127, 3) := dk_184 0 127 (dk_at dksJ36_delete_1 8 rfl rfl)
theorem dJ36_delete_34 : decode cJ36_delete 34 = .ok (.iconst 1, 1) := dk_4 (dk_at dksJ36_delete_1 11 rfl rfl)
theorem dJ36_delete_35 : decode cJ36_delete 35 = .ok (.isub, 1) := dk_100 (dk_at dksJ36_delete_1 12 rfl rfl)
theorem dJ36_delete_36 : decode cJ36_delete 36 = .ok (.istore 7, 2) := dk_54 7 (dk_at dksJ36_delete_1 13 rfl rfl)
theorem dJ36_delete_38 : decode cJ36_delete 38 = .ok (.iload 6, 2) := dk_21 6 (dk_at dksJ36_delete_1 15 rfl rfl)
theorem dJ36_delete_40 : decode cJ36_delete 40 = .ok (.iload 7, 2) := dk_21 7 (dk_at dksJ36_delete_1 17 rfl rfl)
theorem dJ36_delete_42 : decode cJ36_delete 42 = .ok (.if_icmp .ge 75, 3) := dk_162 0 75 (dk_at dksJ36_delete_1 19 rfl rfl)
theorem dJ36_delete_45 : decode cJ36_delete 45 = .ok (.iload 4, 2) := dk_21 4 (dk_at dksJ36_delete_1 22 rfl rfl)
theorem dJ36_delete_47 : decode cJ36_delete 47 = .ok (.iload_n 1, 1) := dk_27 (dk_at dksJ36_delete_2 0 rfl rfl)
theorem dJ36_delete_48 : decode cJ36_delete 48 = .ok (.if_icmp .gt 19, 3) := dk_163 0 19 (dk_at dksJ36_delete_2 1 rfl rfl)
theorem dJ36_delete_51 : decode cJ36_delete 51 = .ok (.aload_n 2, 1) := dk_44 (dk_at dksJ36_delete_2 4 rfl rfl)
theorem dJ36_delete_52 : decode cJ36_delete 52 = .ok (.iload 4, 2) := dk_21 4 (dk_at dksJ36_delete_2 5 rfl rfl)
theorem dJ36_delete_54 : decode cJ36_delete 54 = .ok (.aload_n 2, 1) := dk_44 (dk_at dksJ36_delete_2 7 rfl rfl)
theorem dJ36_delete_55 : decode cJ36_delete 55 = .ok (.iload 4, 2) := dk_21 4 (dk_at dksJ36_delete_2 8 rfl rfl)
theorem dJ36_delete_57 : decode cJ36_delete 57 = .ok (.iconst 1, 1) := dk_4 (dk_at dksJ36_delete_2 10 rfl rfl)
theorem dJ36_delete_58 : decode cJ36_delete 58 = .ok (.iadd, 1) := dk_96 (dk_at dksJ36_delete_2 11 rfl rfl)
theorem dJ36_delete_59 : decode cJ36_delete 59 = .ok (.iload 6, 2) := dk_21 6 (dk_at dksJ36_delete_2 12 rfl rfl)
theorem dJ36_delete_61 : decode cJ36_delete 61 = .ok (.invokestatic 27, 3) := dk_184 0 27 (dk_at dksJ36_delete_2 14 rfl rfl)
theorem dJ36_delete_64 : decode cJ36_delete 64 = .ok (.goto 36, 3) := dk_167 0 36 (dk_at dksJ36_delete_2 17 rfl rfl)
theorem dJ36_delete_67 : decode cJ36_delete 67 = .ok (.aload_n 2, 1) := dk_44 (dk_at dksJ36_delete_2 20 rfl rfl)
theorem dJ36_delete_68 : decode cJ36_delete 68 = .ok (.iconst 0, 1) := dk_3 (dk_at dksJ36_delete_2 21 rfl rfl)
theorem dJ36_delete_69 : decode cJ36_delete 69 = .ok (.aload_n 2, 1) := dk_44 (dk_at dksJ36_delete_2 22 rfl rfl)
theorem dJ36_delete_70 : decode cJ36_delete 70 = .ok (.iconst 1, 1) := dk_4 (dk_at dksJ36_delete_2 23 rfl rfl)
theorem dJ36_delete_71 : decode cJ36_delete 71 = .ok (.iload_n 1, 1) := dk_27 (dk_at dksJ36_delete_3 0 rfl rfl)
theorem dJ36_delete_72 : decode cJ36_delete 72 = .ok (.invokestatic 27, 3) := dk_184 0 27 (dk_at dksJ36_delete_3 1 rfl rfl)
theorem dJ36_delete_75 : decode cJ36_delete 75 = .ok (.aload_n 2, 1) := dk_44 (dk_at dksJ36_delete_3 4 rfl rfl)
theorem dJ36_delete_76 : decode cJ36_delete 76 = .ok (.iconst 0, 1) := dk_3 (dk_at dksJ36_delete_3 5 rfl rfl)
theorem dJ36_delete_77 : decode cJ36_delete 77 = .ok (.aload_n 2, 1) := dk_44 (dk_at dksJ36_delete_3 6 rfl rfl)
theorem dJ36_delete_78 : decode cJ36_delete 78 = .ok (.iload_n 3, 1) := dk_29 (dk_at dksJ36_delete_3 7 rfl rfl)
theorem dJ36_delete_79 : decode cJ36_delete 79 = .ok (.iconst 1, 1) := dk_4 (dk_at dksJ36_delete_3 8 rfl rfl)
theorem dJ36_delete_80 : decode cJ36_delete 80 = .ok (.isub, 1) := dk_100 (dk_at dksJ36_delete_3 9 rfl rfl)
theorem dJ36_delete_81 : decode cJ36_delete 81 = .ok (.aaload, 1) := dk_50 (dk_at dksJ36_delete_3 10 rfl rfl)
theorem dJ36_delete_82 : decode cJ36_delete 82 = .ok (.aastore, 1) := dk_83 (dk_at dksJ36_delete_3 11 rfl rfl)
theorem dJ36_delete_83 : decode cJ36_delete 83 = .ok (.aload_n 2, 1) := dk_44 (dk_at dksJ36_delete_3 12 rfl rfl)
theorem dJ36_delete_84 : decode cJ36_delete 84 = .ok (.iload 4, 2) := dk_21 4 (dk_at dksJ36_delete_3 13 rfl rfl)
theorem dJ36_delete_86 : decode cJ36_delete 86 = .ok (.aload_n 2, 1) := dk_44 (dk_at dksJ36_delete_3 15 rfl rfl)
theorem dJ36_delete_87 : decode cJ36_delete 87 = .ok (.iload 4, 2) := dk_21 4 (dk_at dksJ36_delete_3 16 rfl rfl)
theorem dJ36_delete_89 : decode cJ36_delete 89 = .ok (.iconst 1, 1) := dk_4 (dk_at dksJ36_delete_3 18 rfl rfl)
theorem dJ36_delete_90 : decode cJ36_delete 90 = .ok (.iadd, 1) := dk_96 (dk_at dksJ36_delete_3 19 rfl rfl)
theorem dJ36_delete_91 : decode cJ36_delete 91 = .ok (.iload 6, 2) := dk_21 6 (dk_at dksJ36_delete_3 20 rfl rfl)
theorem dJ36_delete_93 : decode cJ36_delete 93 = .ok (.iload_n 1, 1) := dk_27 (dk_at dksJ36_delete_3 22 rfl rfl)
theorem dJ36_delete_94 : decode cJ36_delete 94 = .ok (.iconst 1, 1) := dk_4 (dk_at dksJ36_delete_3 23 rfl rfl)
theorem dJ36_delete_95 : decode cJ36_delete 95 = .ok (.iadd, 1) := dk_96 (dk_at dksJ36_delete_4 0 rfl rfl)
theorem dJ36_delete_96 : decode cJ36_delete 96 = .ok (.isub, 1) := dk_100 (dk_at dksJ36_delete_4 1 rfl rfl)
theorem dJ36_delete_97 : decode cJ36_delete 97 = .ok (.invokestatic 27, 3) := dk_184 0 27 (dk_at dksJ36_delete_4 2 rfl rfl)
theorem dJ36_delete_100 : decode cJ36_delete 100 = .ok (.aload_n 2, 1) := dk_44 (dk_at dksJ36_delete_4 5 rfl rfl)
theorem dJ36_delete_101 : decode cJ36_delete 101 = .ok (.iload 4, 2) := dk_21 4 (dk_at dksJ36_delete_4 6 rfl rfl)
theorem dJ36_delete_103 : decode cJ36_delete 103 = .ok (.aconst_null, 1) := dk_1 (dk_at dksJ36_delete_4 8 rfl rfl)
theorem dJ36_delete_104 : decode cJ36_delete 104 = .ok (.aastore, 1) := dk_83 (dk_at dksJ36_delete_4 9 rfl rfl)
theorem dJ36_delete_105 : decode cJ36_delete 105 = .ok (.aload_n 0, 1) := dk_42 (dk_at dksJ36_delete_4 10 rfl rfl)
theorem dJ36_delete_106 : decode cJ36_delete 106 = .ok (.iload 4, 2) := dk_21 4 (dk_at dksJ36_delete_4 11 rfl rfl)
theorem dJ36_delete_108 : decode cJ36_delete 108 = .ok (.iload_n 3, 1) := dk_29 (dk_at dksJ36_delete_4 13 rfl rfl)
theorem dJ36_delete_109 : decode cJ36_delete 109 = .ok (.invokestatic 74, 3) := dk_184 0 74 (dk_at dksJ36_delete_4 14 rfl rfl)
theorem dJ36_delete_112 : decode cJ36_delete 112 = .ok (.putfield 24, 3) := dk_181 0 24 (dk_at dksJ36_delete_4 17 rfl rfl)
theorem dJ36_delete_115 : decode cJ36_delete 115 = .ok (.iconst 0, 1) := dk_3 (dk_at dksJ36_delete_4 20 rfl rfl)
theorem dJ36_delete_116 : decode cJ36_delete 116 = .ok (.ireturn, 1) := dk_172 (dk_at dksJ36_delete_4 21 rfl rfl)
theorem dJ36_delete_117 : decode cJ36_delete 117 = .ok (.aload_n 0, 1) := dk_42 (dk_at dksJ36_delete_4 22 rfl rfl)
theorem dJ36_delete_118 : decode cJ36_delete 118 = .ok (.iload 5, 2) := dk_21 5 (dk_at dksJ36_delete_5 0 rfl rfl)
theorem dJ36_delete_120 : decode cJ36_delete 120 = .ok (.iload_n 3, 1) := dk_29 (dk_at dksJ36_delete_5 2 rfl rfl)
theorem dJ36_delete_121 : decode cJ36_delete 121 = .ok (.invokestatic 68, 3) := dk_184 0 68 (dk_at dksJ36_delete_5 3 rfl rfl)
theorem dJ36_delete_124 : decode cJ36_delete 124 = .ok (.putfield 20, 3) := dk_181 0 20 (dk_at dksJ36_delete_5 6 rfl rfl)
theorem dJ36_delete_127 : decode cJ36_delete 127 = .ok (.iload_n 1, 1) := dk_27 (dk_at dksJ36_delete_5 9 rfl rfl)
theorem dJ36_delete_128 : decode cJ36_delete 128 = .ok (.aload_n 0, 1) := dk_42 (dk_at dksJ36_delete_5 10 rfl rfl)
theorem dJ36_delete_129 : decode cJ36_delete 129 = .ok (.getfield 20, 3) := dk_180 0 20 (dk_at dksJ36_delete_5 11 rfl rfl)
theorem dJ36_delete_132 : decode cJ36_delete 132 = .ok (.if_icmp .gt 17, 3) := dk_163 0 17 (dk_at dksJ36_delete_5 14 rfl rfl)
theorem dJ36_delete_135 : decode cJ36_delete 135 = .ok (.aload_n 2, 1) := dk_44 (dk_at dksJ36_delete_5 17 rfl rfl)
theorem dJ36_delete_136 : decode cJ36_delete 136 = .ok (.iload_n 1, 1) := dk_27 (dk_at dksJ36_delete_5 18 rfl rfl)
theorem dJ36_delete_137 : decode cJ36_delete 137 = .ok (.iconst 1, 1) := dk_4 (dk_at dksJ36_delete_5 19 rfl rfl)
theorem dJ36_delete_138 : decode cJ36_delete 138 = .ok (.iadd, 1) := dk_96 (dk_at dksJ36_delete_5 20 rfl rfl)
theorem dJ36_delete_139 : decode cJ36_delete 139 = .ok (.aload_n 2, 1) := dk_44 (dk_at dksJ36_delete_5 21 rfl rfl)
theorem dJ36_delete_140 : decode cJ36_delete 140 = .ok (.iload_n 1, 1) := dk_27 (dk_at dksJ36_delete_5 22 rfl rfl)
theorem dJ36_delete_141 : decode cJ36_delete 141 = .ok (.iload 7, 2) := dk_21 7 (dk_at dksJ36_delete_6 0 rfl rfl)
theorem dJ36_delete_143 : decode cJ36_delete 143 = .ok (.invokestatic 27, 3) := dk_184 0 27 (dk_at dksJ36_delete_6 2 rfl rfl)
theorem dJ36_delete_146 : decode cJ36_delete 146 = .ok (.goto 36, 3) := dk_167 0 36 (dk_at dksJ36_delete_6 5 rfl rfl)
theorem dJ36_delete_149 : decode cJ36_delete 149 = .ok (.aload_n 2, 1) := dk_44 (dk_at dksJ36_delete_6 8 rfl rfl)
theorem dJ36_delete_150 : decode cJ36_delete 150 = .ok (.iload_n 1, 1) := dk_27 (dk_at dksJ36_delete_6 9 rfl rfl)
theorem dJ36_delete_151 : decode cJ36_delete 151 = .ok (.iconst 1, 1) := dk_4 (dk_at dksJ36_delete_6 10 rfl rfl)
theorem dJ36_delete_152 : decode cJ36_delete 152 = .ok (.iadd, 1) := dk_96 (dk_at dksJ36_delete_6 11 rfl rfl)
theorem dJ36_delete_153 : decode cJ36_delete 153 = .ok (.aload_n 2, 1) := dk_44 (dk_at dksJ36_delete_6 12 rfl rfl)
theorem dJ36_delete_154 : decode cJ36_delete 154 = .ok (.iload_n 1, 1) := dk_27 (dk_at dksJ36_delete_6 13 rfl rfl)
theorem dJ36_delete_155 : decode cJ36_delete 155 = .ok (.iload_n 3, 1) := dk_29 (dk_at dksJ36_delete_6 14 rfl rfl)
theorem dJ36_delete_156 : decode cJ36_delete 156 = .ok (.iload_n 1, 1) := dk_27 (dk_at dksJ36_delete_6 15 rfl rfl)
theorem dJ36_delete_157 : decode cJ36_delete 157 = .ok (.iconst 1, 1) := dk_4 (dk_at dksJ36_delete_6 16 rfl rfl)
theorem dJ36_delete_158 : decode cJ36_delete 158 = .ok (.iadd, 1) := dk_96 (dk_at dksJ36_delete_6 17 rfl rfl)
theorem dJ36_delete_159 : decode cJ36_delete 159 = .ok (.isub, 1) := dk_100 (dk_at dksJ36_delete_6 18 rfl rfl)
theorem dJ36_delete_160 : decode cJ36_delete 160 = .ok (.invokestatic 27, 3) := dk_184 0 27 (dk_at dksJ36_delete_6 19 rfl rfl)
theorem dJ36_delete_163 : decode cJ36_delete 163 = .ok (.aload_n 2, 1) := dk_44 (dk_at dksJ36_delete_6 22 rfl rfl)
theorem dJ36_delete_164 : decode cJ36_delete 164 = .ok (.iload_n 3, 1) := dk_29 (dk_at dksJ36_delete_6 23 rfl rfl)
theorem dJ36_delete_165 : decode cJ36_delete 165 = .ok (.iconst 1, 1) := dk_4 (dk_at dksJ36_delete_7 0 rfl rfl)
theorem dJ36_delete_166 : decode cJ36_delete 166 = .ok (.isub, 1) := dk_100 (dk_at dksJ36_delete_7 1 rfl rfl)
theorem dJ36_delete_167 : decode cJ36_delete 167 = .ok (.aload_n 2, 1) := dk_44 (dk_at dksJ36_delete_7 2 rfl rfl)
theorem dJ36_delete_168 : decode cJ36_delete 168 = .ok (.iconst 0, 1) := dk_3 (dk_at dksJ36_delete_7 3 rfl rfl)
theorem dJ36_delete_169 : decode cJ36_delete 169 = .ok (.aaload, 1) := dk_50 (dk_at dksJ36_delete_7 4 rfl rfl)
theorem dJ36_delete_170 : decode cJ36_delete 170 = .ok (.aastore, 1) := dk_83 (dk_at dksJ36_delete_7 5 rfl rfl)
theorem dJ36_delete_171 : decode cJ36_delete 171 = .ok (.aload_n 2, 1) := dk_44 (dk_at dksJ36_delete_7 6 rfl rfl)
theorem dJ36_delete_172 : decode cJ36_delete 172 = .ok (.iconst 1, 1) := dk_4 (dk_at dksJ36_delete_7 7 rfl rfl)
theorem dJ36_delete_173 : decode cJ36_delete 173 = .ok (.aload_n 2, 1) := dk_44 (dk_at dksJ36_delete_7 8 rfl rfl)
theorem dJ36_delete_174 : decode cJ36_delete 174 = .ok (.iconst 0, 1) := dk_3 (dk_at dksJ36_delete_7 9 rfl rfl)
theorem dJ36_delete_175 : decode cJ36_delete 175 = .ok (.iload 5, 2) := dk_21 5 (dk_at dksJ36_delete_7 10 rfl rfl)
theorem dJ36_delete_177 : decode cJ36_delete 177 = .ok (.iconst 1, 1) := dk_4 (dk_at dksJ36_delete_7 12 rfl rfl)
theorem dJ36_delete_178 : decode cJ36_delete 178 = .ok (.isub, 1) := dk_100 (dk_at dksJ36_delete_7 13 rfl rfl)
theorem dJ36_delete_179 : decode cJ36_delete 179 = .ok (.invokestatic 27, 3) := dk_184 0 27 (dk_at dksJ36_delete_7 14 rfl rfl)
theorem dJ36_delete_182 : decode cJ36_delete 182 = .ok (.aload_n 2, 1) := dk_44 (dk_at dksJ36_delete_7 17 rfl rfl)
theorem dJ36_delete_183 : decode cJ36_delete 183 = .ok (.aload_n 0, 1) := dk_42 (dk_at dksJ36_delete_7 18 rfl rfl)
theorem dJ36_delete_184 : decode cJ36_delete 184 = .ok (.getfield 20, 3) := dk_180 0 20 (dk_at dksJ36_delete_7 19 rfl rfl)
theorem dJ36_delete_187 : decode cJ36_delete 187 = .ok (.aconst_null, 1) := dk_1 (dk_at dksJ36_delete_7 22 rfl rfl)
theorem dJ36_delete_188 : decode cJ36_delete 188 = .ok (.aastore, 1) := dk_83 (dk_at dksJ36_delete_7 23 rfl rfl)
theorem dJ36_delete_189 : decode cJ36_delete 189 = .ok (.iconst 1, 1) := dk_4 (dk_at dksJ36_delete_8 0 rfl rfl)
theorem dJ36_delete_190 : decode cJ36_delete 190 = .ok (.ireturn, 1) := dk_172 (dk_at dksJ36_delete_8 1 rfl rfl)
abbrev cJ36_toArray : ByteArray := prog_61_method_55_code
def yJ36_toArray : MethodName := ⟨RJ36, "toArray", "()[Ljava/lang/Object;"⟩
def dkwJ36_toArray_0 : List UInt8 := [42, 18, 188, 182, 0, 189, 176]
abbrev dktJ36_toArray_0 : List UInt8 := dkwJ36_toArray_0 ++ []
theorem dksJ36_toArray_0 : cJ36_toArray.data.toList.drop 0 = dktJ36_toArray_0 := by decide +kernel
theorem dJ36_toArray_0 : decode cJ36_toArray 0 = .ok (.aload_n 0, 1) := dk_42 (dk_at dksJ36_toArray_0 0 rfl rfl)
theorem dJ36_toArray_1 : decode cJ36_toArray 1 = .ok (.ldc 188, 2) := dk_18 188 (dk_at dksJ36_toArray_0 1 rfl rfl)
theorem dJ36_toArray_3 : decode cJ36_toArray 3 = .ok (.invokevirtual 189, 3) := dk_182 0 189 (dk_at dksJ36_toArray_0 3 rfl rfl)
theorem dJ36_toArray_6 : decode cJ36_toArray 6 = .ok (.areturn, 1) := dk_176 (dk_at dksJ36_toArray_0 6 rfl rfl)
abbrev cJ36_toArray_2 : ByteArray := prog_61_method_56_code
def yJ36_toArray_2 : MethodName := ⟨RJ36, "toArray", "(Ljava/lang/Class;)[Ljava/lang/Object;"⟩
def dkwJ36_toArray_2_4 : List UInt8 := [21, 5, 184, 0, 27, 45, 176]
abbrev dktJ36_toArray_2_4 : List UInt8 := dkwJ36_toArray_2_4 ++ []
def dkwJ36_toArray_2_3 : List UInt8 := [44, 190, 21, 4, 100, 184, 0, 27, 21, 6, 21, 5, 159, 0, 16, 44, 3, 45, 44, 190, 21, 4, 100]
abbrev dktJ36_toArray_2_3 : List UInt8 := dkwJ36_toArray_2_3 ++ dktJ36_toArray_2_4
def dkwJ36_toArray_2_2 : List UInt8 := [184, 0, 193, 78, 167, 0, 28, 44, 3, 21, 6, 21, 4, 100, 43, 184, 0, 193, 78, 44, 21, 4, 45, 3]
abbrev dktJ36_toArray_2_2 : List UInt8 := dkwJ36_toArray_2_2 ++ dktJ36_toArray_2_3
def dkwJ36_toArray_2_1 : List UInt8 := [163, 0, 7, 3, 167, 0, 5, 44, 190, 96, 89, 54, 6, 155, 0, 16, 44, 21, 4, 21, 6, 43]
abbrev dktJ36_toArray_2_1 : List UInt8 := dkwJ36_toArray_2_1 ++ dktJ36_toArray_2_2
def dkwJ36_toArray_2_0 : List UInt8 := [42, 180, 0, 3, 77, 42, 180, 0, 24, 54, 4, 42, 180, 0, 20, 54, 5, 21, 5, 21, 4, 21, 5]
abbrev dktJ36_toArray_2_0 : List UInt8 := dkwJ36_toArray_2_0 ++ dktJ36_toArray_2_1
theorem dksJ36_toArray_2_0 : cJ36_toArray_2.data.toList.drop 0 = dktJ36_toArray_2_0 := by decide +kernel
theorem dksJ36_toArray_2_1 : cJ36_toArray_2.data.toList.drop 23 = dktJ36_toArray_2_1 := dk_seg dksJ36_toArray_2_0 23 rfl rfl
theorem dksJ36_toArray_2_2 : cJ36_toArray_2.data.toList.drop 45 = dktJ36_toArray_2_2 := dk_seg dksJ36_toArray_2_1 22 rfl rfl
theorem dksJ36_toArray_2_3 : cJ36_toArray_2.data.toList.drop 69 = dktJ36_toArray_2_3 := dk_seg dksJ36_toArray_2_2 24 rfl rfl
theorem dksJ36_toArray_2_4 : cJ36_toArray_2.data.toList.drop 92 = dktJ36_toArray_2_4 := dk_seg dksJ36_toArray_2_3 23 rfl rfl
theorem dJ36_toArray_2_0 : decode cJ36_toArray_2 0 = .ok (.aload_n 0, 1) := dk_42 (dk_at dksJ36_toArray_2_0 0 rfl rfl)
theorem dJ36_toArray_2_1 : decode cJ36_toArray_2 1 = .ok (.getfield 3, 3) := dk_180 0 3 (dk_at dksJ36_toArray_2_0 1 rfl rfl)
theorem dJ36_toArray_2_4 : decode cJ36_toArray_2 4 = .ok (.astore_n 2, 1) := dk_77 (dk_at dksJ36_toArray_2_0 4 rfl rfl)
theorem dJ36_toArray_2_5 : decode cJ36_toArray_2 5 = .ok (.aload_n 0, 1) := dk_42 (dk_at dksJ36_toArray_2_0 5 rfl rfl)
theorem dJ36_toArray_2_6 : decode cJ36_toArray_2 6 = .ok (.getfield 24, 3) := dk_180 0 24 (dk_at dksJ36_toArray_2_0 6 rfl rfl)
theorem dJ36_toArray_2_9 : decode cJ36_toArray_2 9 = .ok (.istore 4, 2) := dk_54 4 (dk_at dksJ36_toArray_2_0 9 rfl rfl)
theorem dJ36_toArray_2_11 : decode cJ36_toArray_2 11 = .ok (.aload_n 0, 1) := dk_42 (dk_at dksJ36_toArray_2_0 11 rfl rfl)
theorem dJ36_toArray_2_12 : decode cJ36_toArray_2 12 = .ok (.getfield 20, 3) := dk_180 0 20 (dk_at dksJ36_toArray_2_0 12 rfl rfl)
theorem dJ36_toArray_2_15 : decode cJ36_toArray_2 15 = .ok (.istore 5, 2) := dk_54 5 (dk_at dksJ36_toArray_2_0 15 rfl rfl)
theorem dJ36_toArray_2_17 : decode cJ36_toArray_2 17 = .ok (.iload 5, 2) := dk_21 5 (dk_at dksJ36_toArray_2_0 17 rfl rfl)
theorem dJ36_toArray_2_19 : decode cJ36_toArray_2 19 = .ok (.iload 4, 2) := dk_21 4 (dk_at dksJ36_toArray_2_0 19 rfl rfl)
theorem dJ36_toArray_2_21 : decode cJ36_toArray_2 21 = .ok (.iload 5, 2) := dk_21 5 (dk_at dksJ36_toArray_2_0 21 rfl rfl)
theorem dJ36_toArray_2_23 : decode cJ36_toArray_2 23 = .ok (.if_icmp .gt 7, 3) := dk_163 0 7 (dk_at dksJ36_toArray_2_1 0 rfl rfl)
theorem dJ36_toArray_2_26 : decode cJ36_toArray_2 26 = .ok (.iconst 0, 1) := dk_3 (dk_at dksJ36_toArray_2_1 3 rfl rfl)
theorem dJ36_toArray_2_27 : decode cJ36_toArray_2 27 = .ok (.goto 5, 3) := dk_167 0 5 (dk_at dksJ36_toArray_2_1 4 rfl rfl)
theorem dJ36_toArray_2_30 : decode cJ36_toArray_2 30 = .ok (.aload_n 2, 1) := dk_44 (dk_at dksJ36_toArray_2_1 7 rfl rfl)
theorem dJ36_toArray_2_31 : decode cJ36_toArray_2 31 = .ok (.arraylength, 1) := dk_190 (dk_at dksJ36_toArray_2_1 8 rfl rfl)
theorem dJ36_toArray_2_32 : decode cJ36_toArray_2 32 = .ok (.iadd, 1) := dk_96 (dk_at dksJ36_toArray_2_1 9 rfl rfl)
theorem dJ36_toArray_2_33 : decode cJ36_toArray_2 33 = .ok (.dup, 1) := dk_89 (dk_at dksJ36_toArray_2_1 10 rfl rfl)
theorem dJ36_toArray_2_34 : decode cJ36_toArray_2 34 = .ok (.istore 6, 2) := dk_54 6 (dk_at dksJ36_toArray_2_1 11 rfl rfl)
theorem dJ36_toArray_2_36 : decode cJ36_toArray_2 36 = .ok (.ifCond .lt 16, 3) := dk_155 0 16 (dk_at dksJ36_toArray_2_1 13 rfl rfl)
theorem dJ36_toArray_2_39 : decode cJ36_toArray_2 39 = .ok (.aload_n 2, 1) := dk_44 (dk_at dksJ36_toArray_2_1 16 rfl rfl)
theorem dJ36_toArray_2_40 : decode cJ36_toArray_2 40 = .ok (.iload 4, 2) := dk_21 4 (dk_at dksJ36_toArray_2_1 17 rfl rfl)
theorem dJ36_toArray_2_42 : decode cJ36_toArray_2 42 = .ok (.iload 6, 2) := dk_21 6 (dk_at dksJ36_toArray_2_1 19 rfl rfl)
theorem dJ36_toArray_2_44 : decode cJ36_toArray_2 44 = .ok (.aload_n 1, 1) := dk_43 (dk_at dksJ36_toArray_2_1 21 rfl rfl)
theorem dJ36_toArray_2_45 : decode cJ36_toArray_2 45 = .ok (.invokestatic 193, 3) := dk_184 0 193 (dk_at dksJ36_toArray_2_2 0 rfl rfl)
theorem dJ36_toArray_2_48 : decode cJ36_toArray_2 48 = .ok (.astore_n 3, 1) := dk_78 (dk_at dksJ36_toArray_2_2 3 rfl rfl)
theorem dJ36_toArray_2_49 : decode cJ36_toArray_2 49 = .ok (.goto 28, 3) := dk_167 0 28 (dk_at dksJ36_toArray_2_2 4 rfl rfl)
theorem dJ36_toArray_2_52 : decode cJ36_toArray_2 52 = .ok (.aload_n 2, 1) := dk_44 (dk_at dksJ36_toArray_2_2 7 rfl rfl)
theorem dJ36_toArray_2_53 : decode cJ36_toArray_2 53 = .ok (.iconst 0, 1) := dk_3 (dk_at dksJ36_toArray_2_2 8 rfl rfl)
theorem dJ36_toArray_2_54 : decode cJ36_toArray_2 54 = .ok (.iload 6, 2) := dk_21 6 (dk_at dksJ36_toArray_2_2 9 rfl rfl)
theorem dJ36_toArray_2_56 : decode cJ36_toArray_2 56 = .ok (.iload 4, 2) := dk_21 4 (dk_at dksJ36_toArray_2_2 11 rfl rfl)
theorem dJ36_toArray_2_58 : decode cJ36_toArray_2 58 = .ok (.isub, 1) := dk_100 (dk_at dksJ36_toArray_2_2 13 rfl rfl)
theorem dJ36_toArray_2_59 : decode cJ36_toArray_2 59 = .ok (.aload_n 1, 1) := dk_43 (dk_at dksJ36_toArray_2_2 14 rfl rfl)
theorem dJ36_toArray_2_60 : decode cJ36_toArray_2 60 = .ok (.invokestatic 193, 3) := dk_184 0 193 (dk_at dksJ36_toArray_2_2 15 rfl rfl)
theorem dJ36_toArray_2_63 : decode cJ36_toArray_2 63 = .ok (.astore_n 3, 1) := dk_78 (dk_at dksJ36_toArray_2_2 18 rfl rfl)
theorem dJ36_toArray_2_64 : decode cJ36_toArray_2 64 = .ok (.aload_n 2, 1) := dk_44 (dk_at dksJ36_toArray_2_2 19 rfl rfl)
theorem dJ36_toArray_2_65 : decode cJ36_toArray_2 65 = .ok (.iload 4, 2) := dk_21 4 (dk_at dksJ36_toArray_2_2 20 rfl rfl)
theorem dJ36_toArray_2_67 : decode cJ36_toArray_2 67 = .ok (.aload_n 3, 1) := dk_45 (dk_at dksJ36_toArray_2_2 22 rfl rfl)
theorem dJ36_toArray_2_68 : decode cJ36_toArray_2 68 = .ok (.iconst 0, 1) := dk_3 (dk_at dksJ36_toArray_2_2 23 rfl rfl)
theorem dJ36_toArray_2_69 : decode cJ36_toArray_2 69 = .ok (.aload_n 2, 1) := dk_44 (dk_at dksJ36_toArray_2_3 0 rfl rfl)
theorem dJ36_toArray_2_70 : decode cJ36_toArray_2 70 = .ok (.arraylength, 1) := dk_190 (dk_at dksJ36_toArray_2_3 1 rfl rfl)
theorem dJ36_toArray_2_71 : decode cJ36_toArray_2 71 = .ok (.iload 4, 2) := dk_21 4 (dk_at dksJ36_toArray_2_3 2 rfl rfl)
theorem dJ36_toArray_2_73 : decode cJ36_toArray_2 73 = .ok (.isub, 1) := dk_100 (dk_at dksJ36_toArray_2_3 4 rfl rfl)
theorem dJ36_toArray_2_74 : decode cJ36_toArray_2 74 = .ok (.invokestatic 27, 3) := dk_184 0 27 (dk_at dksJ36_toArray_2_3 5 rfl rfl)
theorem dJ36_toArray_2_77 : decode cJ36_toArray_2 77 = .ok (.iload 6, 2) := dk_21 6 (dk_at dksJ36_toArray_2_3 8 rfl rfl)
theorem dJ36_toArray_2_79 : decode cJ36_toArray_2 79 = .ok (.iload 5, 2) := dk_21 5 (dk_at dksJ36_toArray_2_3 10 rfl rfl)
theorem dJ36_toArray_2_81 : decode cJ36_toArray_2 81 = .ok (.if_icmp .eq 16, 3) := dk_159 0 16 (dk_at dksJ36_toArray_2_3 12 rfl rfl)
theorem dJ36_toArray_2_84 : decode cJ36_toArray_2 84 = .ok (.aload_n 2, 1) := dk_44 (dk_at dksJ36_toArray_2_3 15 rfl rfl)
theorem dJ36_toArray_2_85 : decode cJ36_toArray_2 85 = .ok (.iconst 0, 1) := dk_3 (dk_at dksJ36_toArray_2_3 16 rfl rfl)
theorem dJ36_toArray_2_86 : decode cJ36_toArray_2 86 = .ok (.aload_n 3, 1) := dk_45 (dk_at dksJ36_toArray_2_3 17 rfl rfl)
theorem dJ36_toArray_2_87 : decode cJ36_toArray_2 87 = .ok (.aload_n 2, 1) := dk_44 (dk_at dksJ36_toArray_2_3 18 rfl rfl)
theorem dJ36_toArray_2_88 : decode cJ36_toArray_2 88 = .ok (.arraylength, 1) := dk_190 (dk_at dksJ36_toArray_2_3 19 rfl rfl)
theorem dJ36_toArray_2_89 : decode cJ36_toArray_2 89 = .ok (.iload 4, 2) := dk_21 4 (dk_at dksJ36_toArray_2_3 20 rfl rfl)
theorem dJ36_toArray_2_91 : decode cJ36_toArray_2 91 = .ok (.isub, 1) := dk_100 (dk_at dksJ36_toArray_2_3 22 rfl rfl)
theorem dJ36_toArray_2_92 : decode cJ36_toArray_2 92 = .ok (.iload 5, 2) := dk_21 5 (dk_at dksJ36_toArray_2_4 0 rfl rfl)
theorem dJ36_toArray_2_94 : decode cJ36_toArray_2 94 = .ok (.invokestatic 27, 3) := dk_184 0 27 (dk_at dksJ36_toArray_2_4 2 rfl rfl)
theorem dJ36_toArray_2_97 : decode cJ36_toArray_2 97 = .ok (.aload_n 3, 1) := dk_45 (dk_at dksJ36_toArray_2_4 5 rfl rfl)
theorem dJ36_toArray_2_98 : decode cJ36_toArray_2 98 = .ok (.areturn, 1) := dk_176 (dk_at dksJ36_toArray_2_4 6 rfl rfl)
theorem q139 : (Jvm.Cond.initialized "java/util/ArrayDeque") ∈ lw_all := lw_g (lw_at lw_m1 53 rfl) rfl
theorem q259 : (Jvm.Cond.selects "java/util/ArrayDeque" ({ cls := "java/lang/Object", name := "getClass", desc := "()Ljava/lang/Class;" } : Jvm.MethodName) ({ cls := "java/lang/Object", name := "getClass", desc := "()Ljava/lang/Class;" } : Jvm.MethodName)) ∈ lw_all := lw_g (lw_at lw_m1 173 rfl) rfl
theorem q1634 : (Jvm.Cond.static ({ cls := "java/util/ArrayDeque", name := "nonNullElementAt", desc := "([Ljava/lang/Object;I)Ljava/lang/Object;" } : Jvm.MethodName)) ∈ lw_all := lw_g (lw_at lw_m7 108 rfl) rfl
theorem q1635 : (Jvm.Cond.code ({ cls := "java/util/ArrayDeque", name := "nonNullElementAt", desc := "([Ljava/lang/Object;I)Ljava/lang/Object;" } : Jvm.MethodName) prog_61_method_11_code (3 : Nat) (Option.some (Jvm.ClassFile.FieldType.object "java/lang/Object"))) ∈ lw_all := lw_g (lw_at lw_m7 109 rfl) rfl
theorem q1637 : (Jvm.Cond.static ({ cls := "java/util/ArrayDeque", name := "inc", desc := "(II)I" } : Jvm.MethodName)) ∈ lw_all := lw_g (lw_at lw_m7 111 rfl) rfl
theorem q1638 : (Jvm.Cond.code ({ cls := "java/util/ArrayDeque", name := "inc", desc := "(II)I" } : Jvm.MethodName) prog_61_method_6_code (2 : Nat) (Option.some Jvm.ClassFile.FieldType.int)) ∈ lw_all := lw_g (lw_at lw_m7 112 rfl) rfl
theorem q1961 : (Jvm.Cond.instantiable "java/util/ArrayDeque" (3 : Nat)) ∈ lw_all := lw_g (lw_at lw_m8 195 rfl) rfl
theorem q1963 : (Jvm.Cond.instanceMethod ({ cls := "java/util/ArrayDeque", name := "<init>", desc := "()V" } : Jvm.MethodName)) ∈ lw_all := lw_g (lw_at lw_m8 197 rfl) rfl
theorem q1964 : (Jvm.Cond.code ({ cls := "java/util/ArrayDeque", name := "<init>", desc := "()V" } : Jvm.MethodName) prog_61_method_3_code (1 : Nat) (Option.none : Option Jvm.ClassFile.FieldType)) ∈ lw_all := lw_g (lw_at lw_m8 198 rfl) rfl
theorem q1965 : (Jvm.Cond.methodLink "java/util/ArrayDeque" (42 : Nat) ({ cls := "java/util/AbstractCollection", name := "<init>", desc := "()V" } : Jvm.MethodName)) ∈ lw_all := lw_g (lw_at lw_m8 199 rfl) rfl
theorem q1966 : (Jvm.Cond.classLink "java/util/ArrayDeque" (47 : Nat) "java/lang/Object") ∈ lw_all := lw_g (lw_at lw_m8 200 rfl) rfl
theorem q1967 : (Jvm.Cond.fieldLink "java/util/ArrayDeque" (3 : Nat) "java/util/ArrayDeque" "elements" "[Ljava/lang/Object;") ∈ lw_all := lw_g (lw_at lw_m8 201 rfl) rfl
theorem q1970 : (Jvm.Cond.fieldLink "java/util/ArrayDeque" (24 : Nat) "java/util/ArrayDeque" "head" "I") ∈ lw_all := lw_g (lw_at lw_m8 204 rfl) rfl
theorem q1971 : (Jvm.Cond.fieldLink "java/util/ArrayDeque" (20 : Nat) "java/util/ArrayDeque" "tail" "I") ∈ lw_all := lw_g (lw_at lw_m8 205 rfl) rfl
theorem q1972 : (Jvm.Cond.lays "java/util/ArrayDeque" "java/util/ArrayDeque" "elements" "[Ljava/lang/Object;") ∈ lw_all := lw_g (lw_at lw_m8 206 rfl) rfl
theorem q1973 : (Jvm.Cond.soleField "java/util/ArrayDeque" "elements") ∈ lw_all := lw_g (lw_at lw_m8 207 rfl) rfl
theorem q1974 : (Jvm.Cond.lays "java/util/ArrayDeque" "java/util/ArrayDeque" "head" "I") ∈ lw_all := lw_g (lw_at lw_m8 208 rfl) rfl
theorem q1975 : (Jvm.Cond.soleField "java/util/ArrayDeque" "head") ∈ lw_all := lw_g (lw_at lw_m8 209 rfl) rfl
theorem q1976 : (Jvm.Cond.lays "java/util/ArrayDeque" "java/util/ArrayDeque" "tail" "I") ∈ lw_all := lw_g (lw_at lw_m8 210 rfl) rfl
theorem q1977 : (Jvm.Cond.soleField "java/util/ArrayDeque" "tail") ∈ lw_all := lw_g (lw_at lw_m8 211 rfl) rfl
theorem q1978 : (Jvm.Cond.superclass "java/util/ArrayDeque" "java/util/AbstractCollection") ∈ lw_all := lw_g (lw_at lw_m8 212 rfl) rfl
theorem q1980 : (Jvm.Cond.instanceMethod ({ cls := "java/util/ArrayDeque", name := "addFirst", desc := "(Ljava/lang/Object;)V" } : Jvm.MethodName)) ∈ lw_all := lw_g (lw_at lw_m8 214 rfl) rfl
theorem q1981 : (Jvm.Cond.selects "java/util/ArrayDeque" ({ cls := "java/util/ArrayDeque", name := "addFirst", desc := "(Ljava/lang/Object;)V" } : Jvm.MethodName) ({ cls := "java/util/ArrayDeque", name := "addFirst", desc := "(Ljava/lang/Object;)V" } : Jvm.MethodName)) ∈ lw_all := lw_g (lw_at lw_m8 215 rfl) rfl
theorem q1982 : (Jvm.Cond.code ({ cls := "java/util/ArrayDeque", name := "addFirst", desc := "(Ljava/lang/Object;)V" } : Jvm.MethodName) prog_61_method_12_code (3 : Nat) (Option.none : Option Jvm.ClassFile.FieldType)) ∈ lw_all := lw_g (lw_at lw_m8 216 rfl) rfl
theorem q1983 : (Jvm.Cond.methodLink "java/util/ArrayDeque" (68 : Nat) ({ cls := "java/util/ArrayDeque", name := "dec", desc := "(II)I" } : Jvm.MethodName)) ∈ lw_all := lw_g (lw_at lw_m8 217 rfl) rfl
theorem q1984 : (Jvm.Cond.static ({ cls := "java/util/ArrayDeque", name := "dec", desc := "(II)I" } : Jvm.MethodName)) ∈ lw_all := lw_g (lw_at lw_m8 218 rfl) rfl
theorem q1985 : (Jvm.Cond.code ({ cls := "java/util/ArrayDeque", name := "dec", desc := "(II)I" } : Jvm.MethodName) prog_61_method_7_code (2 : Nat) (Option.some Jvm.ClassFile.FieldType.int)) ∈ lw_all := lw_g (lw_at lw_m8 219 rfl) rfl
theorem q1986 : (Jvm.Cond.methodLink "java/util/ArrayDeque" (71 : Nat) ({ cls := "java/util/ArrayDeque", name := "grow", desc := "(I)V" } : Jvm.MethodName)) ∈ lw_all := lw_g (lw_at lw_m8 220 rfl) rfl
theorem q1987 : (Jvm.Cond.privateMethod ({ cls := "java/util/ArrayDeque", name := "grow", desc := "(I)V" } : Jvm.MethodName)) ∈ lw_tbl := lw_at lw_m8 221 rfl
theorem q1988 : (Jvm.Cond.instanceMethod ({ cls := "java/util/ArrayDeque", name := "grow", desc := "(I)V" } : Jvm.MethodName)) ∈ lw_all := lw_g (lw_at lw_m8 222 rfl) rfl
theorem q1989 : (Jvm.Cond.code ({ cls := "java/util/ArrayDeque", name := "grow", desc := "(I)V" } : Jvm.MethodName) prog_61_method_1_code (9 : Nat) (Option.none : Option Jvm.ClassFile.FieldType)) ∈ lw_all := lw_g (lw_at lw_m8 223 rfl) rfl
theorem q1990 : (Jvm.Cond.constant "java/util/ArrayDeque" (9 : Nat) (2147483639 : Int32)) ∈ lw_all := lw_g (lw_at lw_m8 224 rfl) rfl
theorem q1991 : (Jvm.Cond.methodLink "java/util/ArrayDeque" (10 : Nat) ({ cls := "java/util/ArrayDeque", name := "newCapacity", desc := "(II)I" } : Jvm.MethodName)) ∈ lw_all := lw_g (lw_at lw_m8 225 rfl) rfl
theorem q1992 : (Jvm.Cond.privateMethod ({ cls := "java/util/ArrayDeque", name := "newCapacity", desc := "(II)I" } : Jvm.MethodName)) ∈ lw_tbl := lw_at lw_m8 226 rfl
theorem q1993 : (Jvm.Cond.instanceMethod ({ cls := "java/util/ArrayDeque", name := "newCapacity", desc := "(II)I" } : Jvm.MethodName)) ∈ lw_all := lw_g (lw_at lw_m8 227 rfl) rfl
theorem q1994 : (Jvm.Cond.code ({ cls := "java/util/ArrayDeque", name := "newCapacity", desc := "(II)I" } : Jvm.MethodName) prog_61_method_2_code (5 : Nat) (Option.some Jvm.ClassFile.FieldType.int)) ∈ lw_all := lw_g (lw_at lw_m8 228 rfl) rfl
theorem q1995 : (Jvm.Cond.constant "java/util/ArrayDeque" (41 : Nat) (2147483647 : Int32)) ∈ lw_all := lw_g (lw_at lw_m8 229 rfl) rfl
theorem q1996 : (Jvm.Cond.methodLink "java/util/ArrayDeque" (14 : Nat) ({ cls := "java/util/Arrays", name := "copyOf", desc := "([Ljava/lang/Object;I)[Ljava/lang/Object;" } : Jvm.MethodName)) ∈ lw_all := lw_g (lw_at lw_m8 230 rfl) rfl
theorem q1997 : (Jvm.Cond.methodLink "java/util/ArrayDeque" (27 : Nat) ({ cls := "java/lang/System", name := "arraycopy", desc := "(Ljava/lang/Object;ILjava/lang/Object;II)V" } : Jvm.MethodName)) ∈ lw_all := lw_g (lw_at lw_m8 231 rfl) rfl
theorem q1999 : (Jvm.Cond.instanceMethod ({ cls := "java/util/ArrayDeque", name := "iterator", desc := "()Ljava/util/Iterator;" } : Jvm.MethodName)) ∈ lw_all := lw_g (lw_at lw_m8 233 rfl) rfl
theorem q2000 : (Jvm.Cond.selects "java/util/ArrayDeque" ({ cls := "java/util/ArrayDeque", name := "iterator", desc := "()Ljava/util/Iterator;" } : Jvm.MethodName) ({ cls := "java/util/ArrayDeque", name := "iterator", desc := "()Ljava/util/Iterator;" } : Jvm.MethodName)) ∈ lw_all := lw_g (lw_at lw_m8 234 rfl) rfl
theorem q2001 : (Jvm.Cond.code ({ cls := "java/util/ArrayDeque", name := "iterator", desc := "()Ljava/util/Iterator;" } : Jvm.MethodName) prog_61_method_39_code (1 : Nat) (Option.some (Jvm.ClassFile.FieldType.object "java/util/Iterator"))) ∈ lw_all := lw_g (lw_at lw_m8 235 rfl) rfl
theorem q2002 : (Jvm.Cond.classLink "java/util/ArrayDeque" (131 : Nat) "java/util/ArrayDeque$DeqIterator") ∈ lw_all := lw_g (lw_at lw_m8 236 rfl) rfl
theorem q2004 : (Jvm.Cond.methodLink "java/util/ArrayDeque" (133 : Nat) ({ cls := "java/util/ArrayDeque$DeqIterator", name := "<init>", desc := "(Ljava/util/ArrayDeque;)V" } : Jvm.MethodName)) ∈ lw_all := lw_g (lw_at lw_m8 238 rfl) rfl
theorem q2009 : (Jvm.Cond.instanceMethod ({ cls := "java/util/ArrayDeque", name := "size", desc := "()I" } : Jvm.MethodName)) ∈ lw_all := lw_g (lw_at lw_m9 3 rfl) rfl
theorem q2010 : (Jvm.Cond.selects "java/util/ArrayDeque" ({ cls := "java/util/ArrayDeque", name := "size", desc := "()I" } : Jvm.MethodName) ({ cls := "java/util/ArrayDeque", name := "size", desc := "()I" } : Jvm.MethodName)) ∈ lw_all := lw_g (lw_at lw_m9 4 rfl) rfl
theorem q2011 : (Jvm.Cond.code ({ cls := "java/util/ArrayDeque", name := "size", desc := "()I" } : Jvm.MethodName) prog_61_method_37_code (1 : Nat) (Option.some Jvm.ClassFile.FieldType.int)) ∈ lw_all := lw_g (lw_at lw_m9 5 rfl) rfl
theorem q2012 : (Jvm.Cond.methodLink "java/util/ArrayDeque" (127 : Nat) ({ cls := "java/util/ArrayDeque", name := "sub", desc := "(III)I" } : Jvm.MethodName)) ∈ lw_all := lw_g (lw_at lw_m9 6 rfl) rfl
theorem q2013 : (Jvm.Cond.static ({ cls := "java/util/ArrayDeque", name := "sub", desc := "(III)I" } : Jvm.MethodName)) ∈ lw_all := lw_g (lw_at lw_m9 7 rfl) rfl
theorem q2014 : (Jvm.Cond.code ({ cls := "java/util/ArrayDeque", name := "sub", desc := "(III)I" } : Jvm.MethodName) prog_61_method_9_code (3 : Nat) (Option.some Jvm.ClassFile.FieldType.int)) ∈ lw_all := lw_g (lw_at lw_m9 8 rfl) rfl
theorem q2238 : (Jvm.Cond.instanceMethod ({ cls := "java/util/ArrayDeque", name := "addLast", desc := "(Ljava/lang/Object;)V" } : Jvm.MethodName)) ∈ lw_all := lw_g (lw_at lw_m9 232 rfl) rfl
theorem q2239 : (Jvm.Cond.selects "java/util/ArrayDeque" ({ cls := "java/util/ArrayDeque", name := "addLast", desc := "(Ljava/lang/Object;)V" } : Jvm.MethodName) ({ cls := "java/util/ArrayDeque", name := "addLast", desc := "(Ljava/lang/Object;)V" } : Jvm.MethodName)) ∈ lw_all := lw_g (lw_at lw_m9 233 rfl) rfl
theorem q2240 : (Jvm.Cond.code ({ cls := "java/util/ArrayDeque", name := "addLast", desc := "(Ljava/lang/Object;)V" } : Jvm.MethodName) prog_61_method_13_code (3 : Nat) (Option.none : Option Jvm.ClassFile.FieldType)) ∈ lw_all := lw_g (lw_at lw_m9 234 rfl) rfl
theorem q2241 : (Jvm.Cond.methodLink "java/util/ArrayDeque" (74 : Nat) ({ cls := "java/util/ArrayDeque", name := "inc", desc := "(II)I" } : Jvm.MethodName)) ∈ lw_all := lw_g (lw_at lw_m9 235 rfl) rfl
theorem q2243 : (Jvm.Cond.instanceMethod ({ cls := "java/util/ArrayDeque", name := "isEmpty", desc := "()Z" } : Jvm.MethodName)) ∈ lw_all := lw_g (lw_at lw_m9 237 rfl) rfl
theorem q2244 : (Jvm.Cond.selects "java/util/ArrayDeque" ({ cls := "java/util/ArrayDeque", name := "isEmpty", desc := "()Z" } : Jvm.MethodName) ({ cls := "java/util/ArrayDeque", name := "isEmpty", desc := "()Z" } : Jvm.MethodName)) ∈ lw_all := lw_g (lw_at lw_m9 238 rfl) rfl
theorem q2245 : (Jvm.Cond.code ({ cls := "java/util/ArrayDeque", name := "isEmpty", desc := "()Z" } : Jvm.MethodName) prog_61_method_38_code (1 : Nat) (Option.some Jvm.ClassFile.FieldType.boolean)) ∈ lw_all := lw_g (lw_at lw_m9 239 rfl) rfl
theorem q2247 : (Jvm.Cond.instanceMethod ({ cls := "java/util/ArrayDeque", name := "removeFirst", desc := "()Ljava/lang/Object;" } : Jvm.MethodName)) ∈ lw_all := lw_g (lw_at lw_m10 1 rfl) rfl
theorem q2248 : (Jvm.Cond.selects "java/util/ArrayDeque" ({ cls := "java/util/ArrayDeque", name := "removeFirst", desc := "()Ljava/lang/Object;" } : Jvm.MethodName) ({ cls := "java/util/ArrayDeque", name := "removeFirst", desc := "()Ljava/lang/Object;" } : Jvm.MethodName)) ∈ lw_all := lw_g (lw_at lw_m10 2 rfl) rfl
theorem q2249 : (Jvm.Cond.code ({ cls := "java/util/ArrayDeque", name := "removeFirst", desc := "()Ljava/lang/Object;" } : Jvm.MethodName) prog_61_method_18_code (2 : Nat) (Option.some (Jvm.ClassFile.FieldType.object "java/lang/Object"))) ∈ lw_all := lw_g (lw_at lw_m10 3 rfl) rfl
theorem q2250 : (Jvm.Cond.methodLink "java/util/ArrayDeque" (93 : Nat) ({ cls := "java/util/ArrayDeque", name := "pollFirst", desc := "()Ljava/lang/Object;" } : Jvm.MethodName)) ∈ lw_all := lw_g (lw_at lw_m10 4 rfl) rfl
theorem q2251 : (Jvm.Cond.instanceMethod ({ cls := "java/util/ArrayDeque", name := "pollFirst", desc := "()Ljava/lang/Object;" } : Jvm.MethodName)) ∈ lw_all := lw_g (lw_at lw_m10 5 rfl) rfl
theorem q2252 : (Jvm.Cond.selects "java/util/ArrayDeque" ({ cls := "java/util/ArrayDeque", name := "pollFirst", desc := "()Ljava/lang/Object;" } : Jvm.MethodName) ({ cls := "java/util/ArrayDeque", name := "pollFirst", desc := "()Ljava/lang/Object;" } : Jvm.MethodName)) ∈ lw_all := lw_g (lw_at lw_m10 6 rfl) rfl
theorem q2253 : (Jvm.Cond.code ({ cls := "java/util/ArrayDeque", name := "pollFirst", desc := "()Ljava/lang/Object;" } : Jvm.MethodName) prog_61_method_20_code (4 : Nat) (Option.some (Jvm.ClassFile.FieldType.object "java/lang/Object"))) ∈ lw_all := lw_g (lw_at lw_m10 7 rfl) rfl
theorem q2254 : (Jvm.Cond.methodLink "java/util/ArrayDeque" (103 : Nat) ({ cls := "java/util/ArrayDeque", name := "elementAt", desc := "([Ljava/lang/Object;I)Ljava/lang/Object;" } : Jvm.MethodName)) ∈ lw_all := lw_g (lw_at lw_m10 8 rfl) rfl
theorem q2255 : (Jvm.Cond.static ({ cls := "java/util/ArrayDeque", name := "elementAt", desc := "([Ljava/lang/Object;I)Ljava/lang/Object;" } : Jvm.MethodName)) ∈ lw_all := lw_g (lw_at lw_m10 9 rfl) rfl
theorem q2256 : (Jvm.Cond.code ({ cls := "java/util/ArrayDeque", name := "elementAt", desc := "([Ljava/lang/Object;I)Ljava/lang/Object;" } : Jvm.MethodName) prog_61_method_10_code (2 : Nat) (Option.some (Jvm.ClassFile.FieldType.object "java/lang/Object"))) ∈ lw_all := lw_g (lw_at lw_m10 10 rfl) rfl
theorem q2613 : (Jvm.Cond.instanceMethod ({ cls := "java/util/ArrayDeque", name := "delete", desc := "(I)Z" } : Jvm.MethodName)) ∈ lw_all := lw_g (lw_at lw_m11 127 rfl) rfl
theorem q2614 : (Jvm.Cond.selects "java/util/ArrayDeque" ({ cls := "java/util/ArrayDeque", name := "delete", desc := "(I)Z" } : Jvm.MethodName) ({ cls := "java/util/ArrayDeque", name := "delete", desc := "(I)Z" } : Jvm.MethodName)) ∈ lw_all := lw_g (lw_at lw_m11 128 rfl) rfl
theorem q2615 : (Jvm.Cond.code ({ cls := "java/util/ArrayDeque", name := "delete", desc := "(I)Z" } : Jvm.MethodName) prog_61_method_36_code (8 : Nat) (Option.some Jvm.ClassFile.FieldType.boolean)) ∈ lw_all := lw_g (lw_at lw_m11 129 rfl) rfl
theorem q2678 : (Jvm.Cond.castable "java/util/ArrayDeque" "java/util/Collection") ∈ lw_tbl := lw_at lw_m11 192 rfl
theorem q2679 : (Jvm.Cond.selects "java/util/ArrayDeque" ({ cls := "java/util/Collection", name := "toArray", desc := "()[Ljava/lang/Object;" } : Jvm.MethodName) ({ cls := "java/util/ArrayDeque", name := "toArray", desc := "()[Ljava/lang/Object;" } : Jvm.MethodName)) ∈ lw_all := lw_g (lw_at lw_m11 193 rfl) rfl
theorem q2680 : (Jvm.Cond.unhidden "java/util/ArrayDeque" "toArray" "()[Ljava/lang/Object;") ∈ lw_tbl := lw_at lw_m11 194 rfl
theorem q2681 : (Jvm.Cond.instanceMethod ({ cls := "java/util/ArrayDeque", name := "toArray", desc := "()[Ljava/lang/Object;" } : Jvm.MethodName)) ∈ lw_all := lw_g (lw_at lw_m11 195 rfl) rfl
theorem q2682 : (Jvm.Cond.publicMethod ({ cls := "java/util/ArrayDeque", name := "toArray", desc := "()[Ljava/lang/Object;" } : Jvm.MethodName)) ∈ lw_tbl := lw_at lw_m11 196 rfl
theorem q2683 : (Jvm.Cond.code ({ cls := "java/util/ArrayDeque", name := "toArray", desc := "()[Ljava/lang/Object;" } : Jvm.MethodName) prog_61_method_55_code (1 : Nat) (Option.some (Jvm.ClassFile.FieldType.array (Jvm.ClassFile.FieldType.object "java/lang/Object")))) ∈ lw_all := lw_g (lw_at lw_m11 197 rfl) rfl
theorem q2684 : (Jvm.Cond.classLink "java/util/ArrayDeque" (188 : Nat) "[Ljava/lang/Object;") ∈ lw_all := lw_g (lw_at lw_m11 198 rfl) rfl
theorem q2685 : (Jvm.Cond.methodLink "java/util/ArrayDeque" (189 : Nat) ({ cls := "java/util/ArrayDeque", name := "toArray", desc := "(Ljava/lang/Class;)[Ljava/lang/Object;" } : Jvm.MethodName)) ∈ lw_all := lw_g (lw_at lw_m11 199 rfl) rfl
theorem q2686 : (Jvm.Cond.privateMethod ({ cls := "java/util/ArrayDeque", name := "toArray", desc := "(Ljava/lang/Class;)[Ljava/lang/Object;" } : Jvm.MethodName)) ∈ lw_tbl := lw_at lw_m11 200 rfl
theorem q2687 : (Jvm.Cond.instanceMethod ({ cls := "java/util/ArrayDeque", name := "toArray", desc := "(Ljava/lang/Class;)[Ljava/lang/Object;" } : Jvm.MethodName)) ∈ lw_all := lw_g (lw_at lw_m11 201 rfl) rfl
theorem q2688 : (Jvm.Cond.code ({ cls := "java/util/ArrayDeque", name := "toArray", desc := "(Ljava/lang/Class;)[Ljava/lang/Object;" } : Jvm.MethodName) prog_61_method_56_code (7 : Nat) (Option.some (Jvm.ClassFile.FieldType.array (Jvm.ClassFile.FieldType.object "java/lang/Object")))) ∈ lw_all := lw_g (lw_at lw_m11 202 rfl) rfl
theorem q2689 : (Jvm.Cond.methodLink "java/util/ArrayDeque" (193 : Nat) ({ cls := "java/util/Arrays", name := "copyOfRange", desc := "([Ljava/lang/Object;IILjava/lang/Class;)[Ljava/lang/Object;" } : Jvm.MethodName)) ∈ lw_all := lw_g (lw_at lw_m11 203 rfl) rfl
theorem q2746 : (Jvm.Cond.unhidden "java/util/ArrayDeque" "getClass" "()Ljava/lang/Class;") ∈ lw_tbl := lw_at lw_m12 20 rfl
theorem q2793 : (Jvm.Cond.selects "java/util/ArrayDeque" ({ cls := "java/util/Collection", name := "iterator", desc := "()Ljava/util/Iterator;" } : Jvm.MethodName) ({ cls := "java/util/ArrayDeque", name := "iterator", desc := "()Ljava/util/Iterator;" } : Jvm.MethodName)) ∈ lw_all := lw_g (lw_at lw_m12 67 rfl) rfl
theorem q2794 : (Jvm.Cond.unhidden "java/util/ArrayDeque" "iterator" "()Ljava/util/Iterator;") ∈ lw_tbl := lw_at lw_m12 68 rfl
theorem q2795 : (Jvm.Cond.publicMethod ({ cls := "java/util/ArrayDeque", name := "iterator", desc := "()Ljava/util/Iterator;" } : Jvm.MethodName)) ∈ lw_tbl := lw_at lw_m12 69 rfl
theorem q3769 : (Jvm.Cond.selects "java/util/ArrayDeque" ({ cls := "java/util/AbstractCollection", name := "size", desc := "()I" } : Jvm.MethodName) ({ cls := "java/util/ArrayDeque", name := "size", desc := "()I" } : Jvm.MethodName)) ∈ lw_all := lw_g (lw_at lw_m16 83 rfl) rfl
theorem q3826 : (Jvm.Cond.castable "java/util/ArrayDeque" "java/lang/Object") ∈ lw_tbl := lw_at lw_m16 140 rfl
theorem in_J36 : ∀ w ∈ wsJ360, w ∈ lw_all := lw_in wsJ360 [1972, 1974, 1976] (by decide +kernel) (by decide +kernel)
/-! java/util/BitSet -/
set_option maxRecDepth 100000
def RJ37 : String := "java/util/BitSet"
def TJ37 : u_T := fun k => match k with
  | 0 => ("java/util/BitSet", "words", "[J", false)
  | 1 => ("java/util/BitSet", "wordsInUse", "I", false)
  | _ => ("java/util/BitSet", "sizeIsSticky", "Z", false)
def tyJ37 : Nat → FieldType := fun k => match k with
  | 0 => .array .long
  | 1 => .int
  | _ => .boolean
abbrev wsJ370 : List Cond := u_ws RJ37 TJ37 3
theorem nmJ37 : ∀ a, a < 3 → ∀ b, b < 3 → a ≠ b → (TJ37 a).2.1 ≠ (TJ37 b).2.1 := by decide +kernel
theorem tyJ37_ok : ∀ k, k < 3 → parseFieldDescriptor (TJ37 k).2.2.1 = some (tyJ37 k) := by decide +kernel
abbrev cJ37_init : ByteArray := prog_67_method_4_code
def yJ37_init : MethodName := ⟨RJ37, "<init>", "()V"⟩
def dkwJ37_init_1 : List UInt8 := [181, 0, 24, 177]
abbrev dktJ37_init_1 : List UInt8 := dkwJ37_init_1 ++ []
def dkwJ37_init_0 : List UInt8 := [42, 183, 0, 21, 42, 3, 181, 0, 7, 42, 3, 181, 0, 24, 42, 16, 64, 182, 0, 27, 42, 3]
abbrev dktJ37_init_0 : List UInt8 := dkwJ37_init_0 ++ dktJ37_init_1
theorem dksJ37_init_0 : cJ37_init.data.toList.drop 0 = dktJ37_init_0 := by decide +kernel
theorem dksJ37_init_1 : cJ37_init.data.toList.drop 22 = dktJ37_init_1 := dk_seg dksJ37_init_0 22 rfl rfl
theorem dJ37_init_0 : decode cJ37_init 0 = .ok (.aload_n 0, 1) := dk_42 (dk_at dksJ37_init_0 0 rfl rfl)
theorem dJ37_init_1 : decode cJ37_init 1 = .ok (.invokespecial 21, 3) := dk_183 0 21 (dk_at dksJ37_init_0 1 rfl rfl)
theorem dJ37_init_4 : decode cJ37_init 4 = .ok (.aload_n 0, 1) := dk_42 (dk_at dksJ37_init_0 4 rfl rfl)
theorem dJ37_init_5 : decode cJ37_init 5 = .ok (.iconst 0, 1) := dk_3 (dk_at dksJ37_init_0 5 rfl rfl)
theorem dJ37_init_6 : decode cJ37_init 6 = .ok (.putfield 7, 3) := dk_181 0 7 (dk_at dksJ37_init_0 6 rfl rfl)
theorem dJ37_init_9 : decode cJ37_init 9 = .ok (.aload_n 0, 1) := dk_42 (dk_at dksJ37_init_0 9 rfl rfl)
theorem dJ37_init_10 : decode cJ37_init 10 = .ok (.iconst 0, 1) := dk_3 (dk_at dksJ37_init_0 10 rfl rfl)
theorem dJ37_init_11 : decode cJ37_init 11 = .ok (.putfield 24, 3) := dk_181 0 24 (dk_at dksJ37_init_0 11 rfl rfl)
theorem dJ37_init_14 : decode cJ37_init 14 = .ok (.aload_n 0, 1) := dk_42 (dk_at dksJ37_init_0 14 rfl rfl)
theorem dJ37_init_15 : decode cJ37_init 15 = .ok (.bipush 64, 2) := dk_16 64 (dk_at dksJ37_init_0 15 rfl rfl)
theorem dJ37_init_17 : decode cJ37_init 17 = .ok (.invokevirtual 27, 3) := dk_182 0 27 (dk_at dksJ37_init_0 17 rfl rfl)
theorem dJ37_init_20 : decode cJ37_init 20 = .ok (.aload_n 0, 1) := dk_42 (dk_at dksJ37_init_0 20 rfl rfl)
theorem dJ37_init_21 : decode cJ37_init 21 = .ok (.iconst 0, 1) := dk_3 (dk_at dksJ37_init_0 21 rfl rfl)
theorem dJ37_init_22 : decode cJ37_init 22 = .ok (.putfield 24, 3) := dk_181 0 24 (dk_at dksJ37_init_1 0 rfl rfl)
theorem dJ37_init_25 : decode cJ37_init 25 = .ok (.return_, 1) := dk_177 (dk_at dksJ37_init_1 3 rfl rfl)
abbrev cJ37_initWords : ByteArray := prog_67_method_6_code
def yJ37_initWords : MethodName := ⟨RJ37, "initWords", "(I)V"⟩
def dkwJ37_initWords_0 : List UInt8 := [42, 27, 4, 100, 184, 0, 52, 4, 96, 188, 11, 181, 0, 11, 177]
abbrev dktJ37_initWords_0 : List UInt8 := dkwJ37_initWords_0 ++ []
theorem dksJ37_initWords_0 : cJ37_initWords.data.toList.drop 0 = dktJ37_initWords_0 := by decide +kernel
theorem dJ37_initWords_0 : decode cJ37_initWords 0 = .ok (.aload_n 0, 1) := dk_42 (dk_at dksJ37_initWords_0 0 rfl rfl)
theorem dJ37_initWords_1 : decode cJ37_initWords 1 = .ok (.iload_n 1, 1) := dk_27 (dk_at dksJ37_initWords_0 1 rfl rfl)
theorem dJ37_initWords_2 : decode cJ37_initWords 2 = .ok (.iconst 1, 1) := dk_4 (dk_at dksJ37_initWords_0 2 rfl rfl)
theorem dJ37_initWords_3 : decode cJ37_initWords 3 = .ok (.isub, 1) := dk_100 (dk_at dksJ37_initWords_0 3 rfl rfl)
theorem dJ37_initWords_4 : decode cJ37_initWords 4 = .ok (.invokestatic 52, 3) := dk_184 0 52 (dk_at dksJ37_initWords_0 4 rfl rfl)
theorem dJ37_initWords_7 : decode cJ37_initWords 7 = .ok (.iconst 1, 1) := dk_4 (dk_at dksJ37_initWords_0 7 rfl rfl)
theorem dJ37_initWords_8 : decode cJ37_initWords 8 = .ok (.iadd, 1) := dk_96 (dk_at dksJ37_initWords_0 8 rfl rfl)
theorem dJ37_initWords_9 : decode cJ37_initWords 9 = .ok (.newarray .long, 2) := dk_188_11 (dk_at dksJ37_initWords_0 9 rfl rfl)
theorem dJ37_initWords_11 : decode cJ37_initWords 11 = .ok (.putfield 11, 3) := dk_181 0 11 (dk_at dksJ37_initWords_0 11 rfl rfl)
theorem dJ37_initWords_14 : decode cJ37_initWords 14 = .ok (.return_, 1) := dk_177 (dk_at dksJ37_initWords_0 14 rfl rfl)
abbrev cJ37_wordIndex : ByteArray := prog_67_method_1_code
def yJ37_wordIndex : MethodName := ⟨RJ37, "wordIndex", "(I)I"⟩
def dkwJ37_wordIndex_0 : List UInt8 := [26, 16, 6, 122, 172]
abbrev dktJ37_wordIndex_0 : List UInt8 := dkwJ37_wordIndex_0 ++ []
theorem dksJ37_wordIndex_0 : cJ37_wordIndex.data.toList.drop 0 = dktJ37_wordIndex_0 := by decide +kernel
theorem dJ37_wordIndex_0 : decode cJ37_wordIndex 0 = .ok (.iload_n 0, 1) := dk_26 (dk_at dksJ37_wordIndex_0 0 rfl rfl)
theorem dJ37_wordIndex_1 : decode cJ37_wordIndex 1 = .ok (.bipush 6, 2) := dk_16 6 (dk_at dksJ37_wordIndex_0 1 rfl rfl)
theorem dJ37_wordIndex_3 : decode cJ37_wordIndex 3 = .ok (.ishr, 1) := dk_122 (dk_at dksJ37_wordIndex_0 3 rfl rfl)
theorem dJ37_wordIndex_4 : decode cJ37_wordIndex 4 = .ok (.ireturn, 1) := dk_172 (dk_at dksJ37_wordIndex_0 4 rfl rfl)
abbrev cJ37_set : ByteArray := prog_67_method_19_code
def yJ37_set : MethodName := ⟨RJ37, "set", "(I)V"⟩
def dkwJ37_set_2 : List UInt8 := [10, 27, 121, 129, 80, 42, 182, 0, 56, 177]
abbrev dktJ37_set_2 : List UInt8 := dkwJ37_set_2 ++ []
def dkwJ37_set_1 : List UInt8 := [182, 0, 45, 183, 0, 146, 191, 27, 184, 0, 52, 61, 42, 28, 182, 0, 155, 42, 180, 0, 11, 28, 92, 47]
abbrev dktJ37_set_1 : List UInt8 := dkwJ37_set_1 ++ dktJ37_set_2
def dkwJ37_set_0 : List UInt8 := [27, 156, 0, 30, 187, 0, 142, 89, 187, 0, 33, 89, 183, 0, 35, 18, 153, 182, 0, 38, 27, 182, 0, 42]
abbrev dktJ37_set_0 : List UInt8 := dkwJ37_set_0 ++ dktJ37_set_1
theorem dksJ37_set_0 : cJ37_set.data.toList.drop 0 = dktJ37_set_0 := by decide +kernel
theorem dksJ37_set_1 : cJ37_set.data.toList.drop 24 = dktJ37_set_1 := dk_seg dksJ37_set_0 24 rfl rfl
theorem dksJ37_set_2 : cJ37_set.data.toList.drop 48 = dktJ37_set_2 := dk_seg dksJ37_set_1 24 rfl rfl
theorem dJ37_set_0 : decode cJ37_set 0 = .ok (.iload_n 1, 1) := dk_27 (dk_at dksJ37_set_0 0 rfl rfl)
theorem dJ37_set_1 : decode cJ37_set 1 = .ok (.ifCond .ge 30, 3) := dk_156 0 30 (dk_at dksJ37_set_0 1 rfl rfl)
theorem dJ37_set_4 : decode cJ37_set 4 = .ok (.new 142, 3) := dk_187 0 142 (dk_at dksJ37_set_0 4 rfl rfl)
theorem dJ37_set_7 : decode cJ37_set 7 = .ok (.dup, 1) := dk_89 (dk_at dksJ37_set_0 7 rfl rfl)
theorem dJ37_set_8 : decode cJ37_set 8 = .ok (.new 33, 3) := dk_187 0 33 (dk_at dksJ37_set_0 8 rfl rfl)
theorem dJ37_set_11 : decode cJ37_set 11 = .ok (.dup, 1) := dk_89 (dk_at dksJ37_set_0 11 rfl rfl)
theorem dJ37_set_12 : decode cJ37_set 12 = .ok (.invokespecial 35, 3) := dk_183 0 35 (dk_at dksJ37_set_0 12 rfl rfl)
theorem dJ37_set_15 : decode cJ37_set 15 = .ok (.ldc 153, 2) := dk_18 153 (dk_at dksJ37_set_0 15 rfl rfl)
theorem dJ37_set_17 : decode cJ37_set 17 = .ok (.invokevirtual 38, 3) := dk_182 0 38 (dk_at dksJ37_set_0 17 rfl rfl)
theorem dJ37_set_20 : decode cJ37_set 20 = .ok (.iload_n 1, 1) := dk_27 (dk_at dksJ37_set_0 20 rfl rfl)
theorem dJ37_set_21 : decode cJ37_set 21 = .ok (.invokevirtual 42, 3) := dk_182 0 42 (dk_at dksJ37_set_0 21 rfl rfl)
theorem dJ37_set_24 : decode cJ37_set 24 = .ok (.invokevirtual 45, 3) := dk_182 0 45 (dk_at dksJ37_set_1 0 rfl rfl)
theorem dJ37_set_27 : decode cJ37_set 27 = .ok (.invokespecial 146, 3) := dk_183 0 146 (dk_at dksJ37_set_1 3 rfl rfl)
theorem dJ37_set_30 : decode cJ37_set 30 = .ok (.athrow, 1) := dk_191 (dk_at dksJ37_set_1 6 rfl rfl)
theorem dJ37_set_31 : decode cJ37_set 31 = .ok (.iload_n 1, 1) := dk_27 (dk_at dksJ37_set_1 7 rfl rfl)
theorem dJ37_set_32 : decode cJ37_set 32 = .ok (.invokestatic 52, 3) := dk_184 0 52 (dk_at dksJ37_set_1 8 rfl rfl)
theorem dJ37_set_35 : decode cJ37_set 35 = .ok (.istore_n 2, 1) := dk_61 (dk_at dksJ37_set_1 11 rfl rfl)
theorem dJ37_set_36 : decode cJ37_set 36 = .ok (.aload_n 0, 1) := dk_42 (dk_at dksJ37_set_1 12 rfl rfl)
theorem dJ37_set_37 : decode cJ37_set 37 = .ok (.iload_n 2, 1) := dk_28 (dk_at dksJ37_set_1 13 rfl rfl)
theorem dJ37_set_38 : decode cJ37_set 38 = .ok (.invokevirtual 155, 3) := dk_182 0 155 (dk_at dksJ37_set_1 14 rfl rfl)
theorem dJ37_set_41 : decode cJ37_set 41 = .ok (.aload_n 0, 1) := dk_42 (dk_at dksJ37_set_1 17 rfl rfl)
theorem dJ37_set_42 : decode cJ37_set 42 = .ok (.getfield 11, 3) := dk_180 0 11 (dk_at dksJ37_set_1 18 rfl rfl)
theorem dJ37_set_45 : decode cJ37_set 45 = .ok (.iload_n 2, 1) := dk_28 (dk_at dksJ37_set_1 21 rfl rfl)
theorem dJ37_set_46 : decode cJ37_set 46 = .ok (.dup2, 1) := dk_92 (dk_at dksJ37_set_1 22 rfl rfl)
theorem dJ37_set_47 : decode cJ37_set 47 = .ok (.laload, 1) := dk_47 (dk_at dksJ37_set_1 23 rfl rfl)
theorem dJ37_set_48 : decode cJ37_set 48 = .ok (.lconst 1, 1) := dk_10 (dk_at dksJ37_set_2 0 rfl rfl)
theorem dJ37_set_49 : decode cJ37_set 49 = .ok (.iload_n 1, 1) := dk_27 (dk_at dksJ37_set_2 1 rfl rfl)
theorem dJ37_set_50 : decode cJ37_set 50 = .ok (.lshl, 1) := dk_121 (dk_at dksJ37_set_2 2 rfl rfl)
theorem dJ37_set_51 : decode cJ37_set 51 = .ok (.lor, 1) := dk_129 (dk_at dksJ37_set_2 3 rfl rfl)
theorem dJ37_set_52 : decode cJ37_set 52 = .ok (.lastore, 1) := dk_80 (dk_at dksJ37_set_2 4 rfl rfl)
theorem dJ37_set_53 : decode cJ37_set 53 = .ok (.aload_n 0, 1) := dk_42 (dk_at dksJ37_set_2 5 rfl rfl)
theorem dJ37_set_54 : decode cJ37_set 54 = .ok (.invokevirtual 56, 3) := dk_182 0 56 (dk_at dksJ37_set_2 6 rfl rfl)
theorem dJ37_set_57 : decode cJ37_set 57 = .ok (.return_, 1) := dk_177 (dk_at dksJ37_set_2 9 rfl rfl)
abbrev cJ37_expandTo : ByteArray := prog_67_method_15_code
def yJ37_expandTo : MethodName := ⟨RJ37, "expandTo", "(I)V"⟩
def dkwJ37_expandTo_0 : List UInt8 := [27, 4, 96, 61, 42, 180, 0, 7, 28, 162, 0, 13, 42, 28, 182, 0, 139, 42, 28, 181, 0, 7, 177]
abbrev dktJ37_expandTo_0 : List UInt8 := dkwJ37_expandTo_0 ++ []
theorem dksJ37_expandTo_0 : cJ37_expandTo.data.toList.drop 0 = dktJ37_expandTo_0 := by decide +kernel
theorem dJ37_expandTo_0 : decode cJ37_expandTo 0 = .ok (.iload_n 1, 1) := dk_27 (dk_at dksJ37_expandTo_0 0 rfl rfl)
theorem dJ37_expandTo_1 : decode cJ37_expandTo 1 = .ok (.iconst 1, 1) := dk_4 (dk_at dksJ37_expandTo_0 1 rfl rfl)
theorem dJ37_expandTo_2 : decode cJ37_expandTo 2 = .ok (.iadd, 1) := dk_96 (dk_at dksJ37_expandTo_0 2 rfl rfl)
theorem dJ37_expandTo_3 : decode cJ37_expandTo 3 = .ok (.istore_n 2, 1) := dk_61 (dk_at dksJ37_expandTo_0 3 rfl rfl)
theorem dJ37_expandTo_4 : decode cJ37_expandTo 4 = .ok (.aload_n 0, 1) := dk_42 (dk_at dksJ37_expandTo_0 4 rfl rfl)
theorem dJ37_expandTo_5 : decode cJ37_expandTo 5 = .ok (.getfield 7, 3) := dk_180 0 7 (dk_at dksJ37_expandTo_0 5 rfl rfl)
theorem dJ37_expandTo_8 : decode cJ37_expandTo 8 = .ok (.iload_n 2, 1) := dk_28 (dk_at dksJ37_expandTo_0 8 rfl rfl)
theorem dJ37_expandTo_9 : decode cJ37_expandTo 9 = .ok (.if_icmp .ge 13, 3) := dk_162 0 13 (dk_at dksJ37_expandTo_0 9 rfl rfl)
theorem dJ37_expandTo_12 : decode cJ37_expandTo 12 = .ok (.aload_n 0, 1) := dk_42 (dk_at dksJ37_expandTo_0 12 rfl rfl)
theorem dJ37_expandTo_13 : decode cJ37_expandTo 13 = .ok (.iload_n 2, 1) := dk_28 (dk_at dksJ37_expandTo_0 13 rfl rfl)
theorem dJ37_expandTo_14 : decode cJ37_expandTo 14 = .ok (.invokevirtual 139, 3) := dk_182 0 139 (dk_at dksJ37_expandTo_0 14 rfl rfl)
theorem dJ37_expandTo_17 : decode cJ37_expandTo 17 = .ok (.aload_n 0, 1) := dk_42 (dk_at dksJ37_expandTo_0 17 rfl rfl)
theorem dJ37_expandTo_18 : decode cJ37_expandTo 18 = .ok (.iload_n 2, 1) := dk_28 (dk_at dksJ37_expandTo_0 18 rfl rfl)
theorem dJ37_expandTo_19 : decode cJ37_expandTo 19 = .ok (.putfield 7, 3) := dk_181 0 7 (dk_at dksJ37_expandTo_0 19 rfl rfl)
theorem dJ37_expandTo_22 : decode cJ37_expandTo 22 = .ok (.return_, 1) := dk_177 (dk_at dksJ37_expandTo_0 22 rfl rfl)
abbrev cJ37_ensureCapacity : ByteArray := prog_67_method_14_code
def yJ37_ensureCapacity : MethodName := ⟨RJ37, "ensureCapacity", "(I)V"⟩
def dkwJ37_ensureCapacity_1 : List UInt8 := [180, 0, 11, 28, 184, 0, 59, 181, 0, 11, 42, 3, 181, 0, 24, 177]
abbrev dktJ37_ensureCapacity_1 : List UInt8 := dkwJ37_ensureCapacity_1 ++ []
def dkwJ37_ensureCapacity_0 : List UInt8 := [42, 180, 0, 11, 190, 27, 162, 0, 32, 5, 42, 180, 0, 11, 190, 104, 27, 184, 0, 133, 61, 42, 42]
abbrev dktJ37_ensureCapacity_0 : List UInt8 := dkwJ37_ensureCapacity_0 ++ dktJ37_ensureCapacity_1
theorem dksJ37_ensureCapacity_0 : cJ37_ensureCapacity.data.toList.drop 0 = dktJ37_ensureCapacity_0 := by decide +kernel
theorem dksJ37_ensureCapacity_1 : cJ37_ensureCapacity.data.toList.drop 23 = dktJ37_ensureCapacity_1 := dk_seg dksJ37_ensureCapacity_0 23 rfl rfl
theorem dJ37_ensureCapacity_0 : decode cJ37_ensureCapacity 0 = .ok (.aload_n 0, 1) := dk_42 (dk_at dksJ37_ensureCapacity_0 0 rfl rfl)
theorem dJ37_ensureCapacity_1 : decode cJ37_ensureCapacity 1 = .ok (.getfield 11, 3) := dk_180 0 11 (dk_at dksJ37_ensureCapacity_0 1 rfl rfl)
theorem dJ37_ensureCapacity_4 : decode cJ37_ensureCapacity 4 = .ok (.arraylength, 1) := dk_190 (dk_at dksJ37_ensureCapacity_0 4 rfl rfl)
theorem dJ37_ensureCapacity_5 : decode cJ37_ensureCapacity 5 = .ok (.iload_n 1, 1) := dk_27 (dk_at dksJ37_ensureCapacity_0 5 rfl rfl)
theorem dJ37_ensureCapacity_6 : decode cJ37_ensureCapacity 6 = .ok (.if_icmp .ge 32, 3) := dk_162 0 32 (dk_at dksJ37_ensureCapacity_0 6 rfl rfl)
theorem dJ37_ensureCapacity_9 : decode cJ37_ensureCapacity 9 = .ok (.iconst 2, 1) := dk_5 (dk_at dksJ37_ensureCapacity_0 9 rfl rfl)
theorem dJ37_ensureCapacity_10 : decode cJ37_ensureCapacity 10 = .ok (.aload_n 0, 1) := dk_42 (dk_at dksJ37_ensureCapacity_0 10 rfl rfl)
theorem dJ37_ensureCapacity_11 : decode cJ37_ensureCapacity 11 = .ok (.getfield 11, 3) := dk_180 0 11 (dk_at dksJ37_ensureCapacity_0 11 rfl rfl)
theorem dJ37_ensureCapacity_14 : decode cJ37_ensureCapacity 14 = .ok (.arraylength, 1) := dk_190 (dk_at dksJ37_ensureCapacity_0 14 rfl rfl)
theorem dJ37_ensureCapacity_15 : decode cJ37_ensureCapacity 15 = .ok (.imul, 1) := dk_104 (dk_at dksJ37_ensureCapacity_0 15 rfl rfl)
theorem dJ37_ensureCapacity_16 : decode cJ37_ensureCapacity 16 = .ok (.iload_n 1, 1) := dk_27 (dk_at dksJ37_ensureCapacity_0 16 rfl rfl)
theorem dJ37_ensureCapacity_17 : decode cJ37_ensureCapacity 17 = .ok (.invokestatic 133, 3) := dk_184 0 133 (dk_at dksJ37_ensureCapacity_0 17 rfl rfl)
theorem dJ37_ensureCapacity_20 : decode cJ37_ensureCapacity 20 = .ok (.istore_n 2, 1) := dk_61 (dk_at dksJ37_ensureCapacity_0 20 rfl rfl)
theorem dJ37_ensureCapacity_21 : decode cJ37_ensureCapacity 21 = .ok (.aload_n 0, 1) := dk_42 (dk_at dksJ37_ensureCapacity_0 21 rfl rfl)
theorem dJ37_ensureCapacity_22 : decode cJ37_ensureCapacity 22 = .ok (.aload_n 0, 1) := dk_42 (dk_at dksJ37_ensureCapacity_0 22 rfl rfl)
theorem dJ37_ensureCapacity_23 : decode cJ37_ensureCapacity 23 = .ok (.getfield 11, 3) := dk_180 0 11 (dk_at dksJ37_ensureCapacity_1 0 rfl rfl)
theorem dJ37_ensureCapacity_26 : decode cJ37_ensureCapacity 26 = .ok (.iload_n 2, 1) := dk_28 (dk_at dksJ37_ensureCapacity_1 3 rfl rfl)
theorem dJ37_ensureCapacity_27 : decode cJ37_ensureCapacity 27 = .ok (.invokestatic 59, 3) := dk_184 0 59 (dk_at dksJ37_ensureCapacity_1 4 rfl rfl)
theorem dJ37_ensureCapacity_30 : decode cJ37_ensureCapacity 30 = .ok (.putfield 11, 3) := dk_181 0 11 (dk_at dksJ37_ensureCapacity_1 7 rfl rfl)
theorem dJ37_ensureCapacity_33 : decode cJ37_ensureCapacity 33 = .ok (.aload_n 0, 1) := dk_42 (dk_at dksJ37_ensureCapacity_1 10 rfl rfl)
theorem dJ37_ensureCapacity_34 : decode cJ37_ensureCapacity 34 = .ok (.iconst 0, 1) := dk_3 (dk_at dksJ37_ensureCapacity_1 11 rfl rfl)
theorem dJ37_ensureCapacity_35 : decode cJ37_ensureCapacity 35 = .ok (.putfield 24, 3) := dk_181 0 24 (dk_at dksJ37_ensureCapacity_1 12 rfl rfl)
theorem dJ37_ensureCapacity_38 : decode cJ37_ensureCapacity 38 = .ok (.return_, 1) := dk_177 (dk_at dksJ37_ensureCapacity_1 15 rfl rfl)
abbrev cJ37_checkInvariants : ByteArray := prog_67_method_2_code
def yJ37_checkInvariants : MethodName := ⟨RJ37, "checkInvariants", "()V"⟩
def dkwJ37_checkInvariants_4 : List UInt8 := [180, 0, 7, 47, 9, 148, 153, 0, 11, 187, 0, 15, 89, 183, 0, 17, 191, 177]
abbrev dktJ37_checkInvariants_4 : List UInt8 := dkwJ37_checkInvariants_4 ++ []
def dkwJ37_checkInvariants_3 : List UInt8 := [178, 0, 3, 154, 0, 37, 42, 180, 0, 7, 42, 180, 0, 11, 190, 159, 0, 25, 42, 180, 0, 11, 42]
abbrev dktJ37_checkInvariants_3 : List UInt8 := dkwJ37_checkInvariants_3 ++ dktJ37_checkInvariants_4
def dkwJ37_checkInvariants_2 : List UInt8 := [155, 0, 15, 42, 180, 0, 7, 42, 180, 0, 11, 190, 164, 0, 11, 187, 0, 15, 89, 183, 0, 17, 191]
abbrev dktJ37_checkInvariants_2 : List UInt8 := dkwJ37_checkInvariants_2 ++ dktJ37_checkInvariants_3
def dkwJ37_checkInvariants_1 : List UInt8 := [9, 148, 154, 0, 11, 187, 0, 15, 89, 183, 0, 17, 191, 178, 0, 3, 154, 0, 30, 42, 180, 0, 7]
abbrev dktJ37_checkInvariants_1 : List UInt8 := dkwJ37_checkInvariants_1 ++ dktJ37_checkInvariants_2
def dkwJ37_checkInvariants_0 : List UInt8 := [178, 0, 3, 154, 0, 34, 42, 180, 0, 7, 153, 0, 27, 42, 180, 0, 11, 42, 180, 0, 7, 4, 100, 47]
abbrev dktJ37_checkInvariants_0 : List UInt8 := dkwJ37_checkInvariants_0 ++ dktJ37_checkInvariants_1
theorem dksJ37_checkInvariants_0 : cJ37_checkInvariants.data.toList.drop 0 = dktJ37_checkInvariants_0 := by decide +kernel
theorem dksJ37_checkInvariants_1 : cJ37_checkInvariants.data.toList.drop 24 = dktJ37_checkInvariants_1 := dk_seg dksJ37_checkInvariants_0 24 rfl rfl
theorem dksJ37_checkInvariants_2 : cJ37_checkInvariants.data.toList.drop 47 = dktJ37_checkInvariants_2 := dk_seg dksJ37_checkInvariants_1 23 rfl rfl
theorem dksJ37_checkInvariants_3 : cJ37_checkInvariants.data.toList.drop 70 = dktJ37_checkInvariants_3 := dk_seg dksJ37_checkInvariants_2 23 rfl rfl
theorem dksJ37_checkInvariants_4 : cJ37_checkInvariants.data.toList.drop 93 = dktJ37_checkInvariants_4 := dk_seg dksJ37_checkInvariants_3 23 rfl rfl
theorem dJ37_checkInvariants_0 : decode cJ37_checkInvariants 0 = .ok (.getstatic 3, 3) := dk_178 0 3 (dk_at dksJ37_checkInvariants_0 0 rfl rfl)
theorem dJ37_checkInvariants_3 : decode cJ37_checkInvariants 3 = .ok (.ifCond .ne 34, 3) := dk_154 0 34 (dk_at dksJ37_checkInvariants_0 3 rfl rfl)
theorem dJ37_checkInvariants_6 : decode cJ37_checkInvariants 6 = .ok (.aload_n 0, 1) := dk_42 (dk_at dksJ37_checkInvariants_0 6 rfl rfl)
theorem dJ37_checkInvariants_7 : decode cJ37_checkInvariants 7 = .ok (.getfield 7, 3) := dk_180 0 7 (dk_at dksJ37_checkInvariants_0 7 rfl rfl)
theorem dJ37_checkInvariants_10 : decode cJ37_checkInvariants 10 = .ok (.ifCond .eq 27, 3) := dk_153 0 27 (dk_at dksJ37_checkInvariants_0 10 rfl rfl)
theorem dJ37_checkInvariants_13 : decode cJ37_checkInvariants 13 = .ok (.aload_n 0, 1) := dk_42 (dk_at dksJ37_checkInvariants_0 13 rfl rfl)
theorem dJ37_checkInvariants_14 : decode cJ37_checkInvariants 14 = .ok (.getfield 11, 3) := dk_180 0 11 (dk_at dksJ37_checkInvariants_0 14 rfl rfl)
theorem dJ37_checkInvariants_17 : decode cJ37_checkInvariants 17 = .ok (.aload_n 0, 1) := dk_42 (dk_at dksJ37_checkInvariants_0 17 rfl rfl)
theorem dJ37_checkInvariants_18 : decode cJ37_checkInvariants 18 = .ok (.getfield 7, 3) := dk_180 0 7 (dk_at dksJ37_checkInvariants_0 18 rfl rfl)
theorem dJ37_checkInvariants_21 : decode cJ37_checkInvariants 21 = .ok (.iconst 1, 1) := dk_4 (dk_at dksJ37_checkInvariants_0 21 rfl rfl)
theorem dJ37_checkInvariants_22 : decode cJ37_checkInvariants 22 = .ok (.isub, 1) := dk_100 (dk_at dksJ37_checkInvariants_0 22 rfl rfl)
theorem dJ37_checkInvariants_23 : decode cJ37_checkInvariants 23 = .ok (.laload, 1) := dk_47 (dk_at dksJ37_checkInvariants_0 23 rfl rfl)
theorem dJ37_checkInvariants_24 : decode cJ37_checkInvariants 24 = .ok (.lconst 0, 1) := dk_9 (dk_at dksJ37_checkInvariants_1 0 rfl rfl)
theorem dJ37_checkInvariants_25 : decode cJ37_checkInvariants 25 = .ok (.lcmp, 1) := dk_148 (dk_at dksJ37_checkInvariants_1 1 rfl rfl)
theorem dJ37_checkInvariants_26 : decode cJ37_checkInvariants 26 = .ok (.ifCond .ne 11, 3) := dk_154 0 11 (dk_at dksJ37_checkInvariants_1 2 rfl rfl)
theorem dJ37_checkInvariants_29 : decode cJ37_checkInvariants 29 = .ok (.new 15, 3) := dk_187 0 15 (dk_at dksJ37_checkInvariants_1 5 rfl rfl)
theorem dJ37_checkInvariants_32 : decode cJ37_checkInvariants 32 = .ok (.dup, 1) := dk_89 (dk_at dksJ37_checkInvariants_1 8 rfl rfl)
theorem dJ37_checkInvariants_33 : decode cJ37_checkInvariants 33 = .ok (.invokespecial 17, 3) := dk_183 0 17 (dk_at dksJ37_checkInvariants_1 9 rfl rfl)
theorem dJ37_checkInvariants_36 : decode cJ37_checkInvariants 36 = .ok (.athrow, 1) := dk_191 (dk_at dksJ37_checkInvariants_1 12 rfl rfl)
theorem dJ37_checkInvariants_37 : decode cJ37_checkInvariants 37 = .ok (.getstatic 3, 3) := dk_178 0 3 (dk_at dksJ37_checkInvariants_1 13 rfl rfl)
theorem dJ37_checkInvariants_40 : decode cJ37_checkInvariants 40 = .ok (.ifCond .ne 30, 3) := dk_154 0 30 (dk_at dksJ37_checkInvariants_1 16 rfl rfl)
theorem dJ37_checkInvariants_43 : decode cJ37_checkInvariants 43 = .ok (.aload_n 0, 1) := dk_42 (dk_at dksJ37_checkInvariants_1 19 rfl rfl)
theorem dJ37_checkInvariants_44 : decode cJ37_checkInvariants 44 = .ok (.getfield 7, 3) := dk_180 0 7 (dk_at dksJ37_checkInvariants_1 20 rfl rfl)
theorem dJ37_checkInvariants_47 : decode cJ37_checkInvariants 47 = .ok (.ifCond .lt 15, 3) := dk_155 0 15 (dk_at dksJ37_checkInvariants_2 0 rfl rfl)
theorem dJ37_checkInvariants_50 : decode cJ37_checkInvariants 50 = .ok (.aload_n 0, 1) := dk_42 (dk_at dksJ37_checkInvariants_2 3 rfl rfl)
theorem dJ37_checkInvariants_51 : decode cJ37_checkInvariants 51 = .ok (.getfield 7, 3) := dk_180 0 7 (dk_at dksJ37_checkInvariants_2 4 rfl rfl)
theorem dJ37_checkInvariants_54 : decode cJ37_checkInvariants 54 = .ok (.aload_n 0, 1) := dk_42 (dk_at dksJ37_checkInvariants_2 7 rfl rfl)
theorem dJ37_checkInvariants_55 : decode cJ37_checkInvariants 55 = .ok (.getfield 11, 3) := dk_180 0 11 (dk_at dksJ37_checkInvariants_2 8 rfl rfl)
theorem dJ37_checkInvariants_58 : decode cJ37_checkInvariants 58 = .ok (.arraylength, 1) := dk_190 (dk_at dksJ37_checkInvariants_2 11 rfl rfl)
theorem dJ37_checkInvariants_59 : decode cJ37_checkInvariants 59 = .ok (.if_icmp .le 11, 3) := dk_164 0 11 (dk_at dksJ37_checkInvariants_2 12 rfl rfl)
theorem dJ37_checkInvariants_62 : decode cJ37_checkInvariants 62 = .ok (.new 15, 3) := dk_187 0 15 (dk_at dksJ37_checkInvariants_2 15 rfl rfl)
theorem dJ37_checkInvariants_65 : decode cJ37_checkInvariants 65 = .ok (.dup, 1) := dk_89 (dk_at dksJ37_checkInvariants_2 18 rfl rfl)
theorem dJ37_checkInvariants_66 : decode cJ37_checkInvariants 66 = .ok (.invokespecial 17, 3) := dk_183 0 17 (dk_at dksJ37_checkInvariants_2 19 rfl rfl)
theorem dJ37_checkInvariants_69 : decode cJ37_checkInvariants 69 = .ok (.athrow, 1) := dk_191 (dk_at dksJ37_checkInvariants_2 22 rfl rfl)
theorem dJ37_checkInvariants_70 : decode cJ37_checkInvariants 70 = .ok (.getstatic 3, 3) := dk_178 0 3 (dk_at dksJ37_checkInvariants_3 0 rfl rfl)
theorem dJ37_checkInvariants_73 : decode cJ37_checkInvariants 73 = .ok (.ifCond .ne 37, 3) := dk_154 0 37 (dk_at dksJ37_checkInvariants_3 3 rfl rfl)
theorem dJ37_checkInvariants_76 : decode cJ37_checkInvariants 76 = .ok (.aload_n 0, 1) := dk_42 (dk_at dksJ37_checkInvariants_3 6 rfl rfl)
theorem dJ37_checkInvariants_77 : decode cJ37_checkInvariants 77 = .ok (.getfield 7, 3) := dk_180 0 7 (dk_at dksJ37_checkInvariants_3 7 rfl rfl)
theorem dJ37_checkInvariants_80 : decode cJ37_checkInvariants 80 = .ok (.aload_n 0, 1) := dk_42 (dk_at dksJ37_checkInvariants_3 10 rfl rfl)
theorem dJ37_checkInvariants_81 : decode cJ37_checkInvariants 81 = .ok (.getfield 11, 3) := dk_180 0 11 (dk_at dksJ37_checkInvariants_3 11 rfl rfl)
theorem dJ37_checkInvariants_84 : decode cJ37_checkInvariants 84 = .ok (.arraylength, 1) := dk_190 (dk_at dksJ37_checkInvariants_3 14 rfl rfl)
theorem dJ37_checkInvariants_85 : decode cJ37_checkInvariants 85 = .ok (.if_icmp .eq 25, 3) := dk_159 0 25 (dk_at dksJ37_checkInvariants_3 15 rfl rfl)
theorem dJ37_checkInvariants_88 : decode cJ37_checkInvariants 88 = .ok (.aload_n 0, 1) := dk_42 (dk_at dksJ37_checkInvariants_3 18 rfl rfl)
theorem dJ37_checkInvariants_89 : decode cJ37_checkInvariants 89 = .ok (.getfield 11, 3) := dk_180 0 11 (dk_at dksJ37_checkInvariants_3 19 rfl rfl)
theorem dJ37_checkInvariants_92 : decode cJ37_checkInvariants 92 = .ok (.aload_n 0, 1) := dk_42 (dk_at dksJ37_checkInvariants_3 22 rfl rfl)
theorem dJ37_checkInvariants_93 : decode cJ37_checkInvariants 93 = .ok (.getfield 7, 3) := dk_180 0 7 (dk_at dksJ37_checkInvariants_4 0 rfl rfl)
theorem dJ37_checkInvariants_96 : decode cJ37_checkInvariants 96 = .ok (.laload, 1) := dk_47 (dk_at dksJ37_checkInvariants_4 3 rfl rfl)
theorem dJ37_checkInvariants_97 : decode cJ37_checkInvariants 97 = .ok (.lconst 0, 1) := dk_9 (dk_at dksJ37_checkInvariants_4 4 rfl rfl)
theorem dJ37_checkInvariants_98 : decode cJ37_checkInvariants 98 = .ok (.lcmp, 1) := dk_148 (dk_at dksJ37_checkInvariants_4 5 rfl rfl)
theorem dJ37_checkInvariants_99 : decode cJ37_checkInvariants 99 = .ok (.ifCond .eq 11, 3) := dk_153 0 11 (dk_at dksJ37_checkInvariants_4 6 rfl rfl)
theorem dJ37_checkInvariants_102 : decode cJ37_checkInvariants 102 = .ok (.new 15, 3) := dk_187 0 15 (dk_at dksJ37_checkInvariants_4 9 rfl rfl)
theorem dJ37_checkInvariants_105 : decode cJ37_checkInvariants 105 = .ok (.dup, 1) := dk_89 (dk_at dksJ37_checkInvariants_4 12 rfl rfl)
theorem dJ37_checkInvariants_106 : decode cJ37_checkInvariants 106 = .ok (.invokespecial 17, 3) := dk_183 0 17 (dk_at dksJ37_checkInvariants_4 13 rfl rfl)
theorem dJ37_checkInvariants_109 : decode cJ37_checkInvariants 109 = .ok (.athrow, 1) := dk_191 (dk_at dksJ37_checkInvariants_4 16 rfl rfl)
theorem dJ37_checkInvariants_110 : decode cJ37_checkInvariants 110 = .ok (.return_, 1) := dk_177 (dk_at dksJ37_checkInvariants_4 17 rfl rfl)
abbrev cJ37_cardinality : ByteArray := prog_67_method_35_code
def yJ37_cardinality : MethodName := ⟨RJ37, "cardinality", "()I"⟩
def dkwJ37_cardinality_1 : List UInt8 := [132, 2, 1, 167, 255, 233, 27, 172]
abbrev dktJ37_cardinality_1 : List UInt8 := dkwJ37_cardinality_1 ++ []
def dkwJ37_cardinality_0 : List UInt8 := [3, 60, 3, 61, 28, 42, 180, 0, 7, 162, 0, 21, 27, 42, 180, 0, 11, 28, 47, 184, 0, 196, 96, 60]
abbrev dktJ37_cardinality_0 : List UInt8 := dkwJ37_cardinality_0 ++ dktJ37_cardinality_1
theorem dksJ37_cardinality_0 : cJ37_cardinality.data.toList.drop 0 = dktJ37_cardinality_0 := by decide +kernel
theorem dksJ37_cardinality_1 : cJ37_cardinality.data.toList.drop 24 = dktJ37_cardinality_1 := dk_seg dksJ37_cardinality_0 24 rfl rfl
theorem dJ37_cardinality_0 : decode cJ37_cardinality 0 = .ok (.iconst 0, 1) := dk_3 (dk_at dksJ37_cardinality_0 0 rfl rfl)
theorem dJ37_cardinality_1 : decode cJ37_cardinality 1 = .ok (.istore_n 1, 1) := dk_60 (dk_at dksJ37_cardinality_0 1 rfl rfl)
theorem dJ37_cardinality_2 : decode cJ37_cardinality 2 = .ok (.iconst 0, 1) := dk_3 (dk_at dksJ37_cardinality_0 2 rfl rfl)
theorem dJ37_cardinality_3 : decode cJ37_cardinality 3 = .ok (.istore_n 2, 1) := dk_61 (dk_at dksJ37_cardinality_0 3 rfl rfl)
theorem dJ37_cardinality_4 : decode cJ37_cardinality 4 = .ok (.iload_n 2, 1) := dk_28 (dk_at dksJ37_cardinality_0 4 rfl rfl)
theorem dJ37_cardinality_5 : decode cJ37_cardinality 5 = .ok (.aload_n 0, 1) := dk_42 (dk_at dksJ37_cardinality_0 5 rfl rfl)
theorem dJ37_cardinality_6 : decode cJ37_cardinality 6 = .ok (.getfield 7, 3) := dk_180 0 7 (dk_at dksJ37_cardinality_0 6 rfl rfl)
theorem dJ37_cardinality_9 : decode cJ37_cardinality 9 = .ok (.if_icmp .ge 21, 3) := dk_162 0 21 (dk_at dksJ37_cardinality_0 9 rfl rfl)
theorem dJ37_cardinality_12 : decode cJ37_cardinality 12 = .ok (.iload_n 1, 1) := dk_27 (dk_at dksJ37_cardinality_0 12 rfl rfl)
theorem dJ37_cardinality_13 : decode cJ37_cardinality 13 = .ok (.aload_n 0, 1) := dk_42 (dk_at dksJ37_cardinality_0 13 rfl rfl)
theorem dJ37_cardinality_14 : decode cJ37_cardinality 14 = .ok (.getfield 11, 3) := dk_180 0 11 (dk_at dksJ37_cardinality_0 14 rfl rfl)
theorem dJ37_cardinality_17 : decode cJ37_cardinality 17 = .ok (.iload_n 2, 1) := dk_28 (dk_at dksJ37_cardinality_0 17 rfl rfl)
theorem dJ37_cardinality_18 : decode cJ37_cardinality 18 = .ok (.laload, 1) := dk_47 (dk_at dksJ37_cardinality_0 18 rfl rfl)
theorem dJ37_cardinality_19 : decode cJ37_cardinality 19 = .ok (.invokestatic 196, 3) := dk_184 0 196 (dk_at dksJ37_cardinality_0 19 rfl rfl)
theorem dJ37_cardinality_22 : decode cJ37_cardinality 22 = .ok (.iadd, 1) := dk_96 (dk_at dksJ37_cardinality_0 22 rfl rfl)
theorem dJ37_cardinality_23 : decode cJ37_cardinality 23 = .ok (.istore_n 1, 1) := dk_60 (dk_at dksJ37_cardinality_0 23 rfl rfl)
theorem dJ37_cardinality_24 : decode cJ37_cardinality 24 = .ok (.iinc 2 1, 3) := dk_132 2 1 (dk_at dksJ37_cardinality_1 0 rfl rfl)
theorem dJ37_cardinality_27 : decode cJ37_cardinality 27 = .ok (.goto (-23), 3) := dk_167 255 233 (dk_at dksJ37_cardinality_1 3 rfl rfl)
theorem dJ37_cardinality_30 : decode cJ37_cardinality 30 = .ok (.iload_n 1, 1) := dk_27 (dk_at dksJ37_cardinality_1 6 rfl rfl)
theorem dJ37_cardinality_31 : decode cJ37_cardinality 31 = .ok (.ireturn, 1) := dk_172 (dk_at dksJ37_cardinality_1 7 rfl rfl)
abbrev cJ37_nextClearBit : ByteArray := prog_67_method_29_code
def yJ37_nextClearBit : MethodName := ⟨RJ37, "nextClearBit", "(I)I"⟩
def dkwJ37_nextClearBit_4 : List UInt8 := [42, 180, 0, 7, 16, 64, 104, 172, 42, 180, 0, 11, 28, 47, 20, 0, 165, 131, 66, 167, 255, 210]
abbrev dktJ37_nextClearBit_4 : List UInt8 := dkwJ37_nextClearBit_4 ++ []
def dkwJ37_nextClearBit_3 : List UInt8 := [153, 0, 13, 28, 16, 64, 104, 33, 184, 0, 182, 96, 172, 132, 2, 1, 28, 42, 180, 0, 7, 160, 0, 11]
abbrev dktJ37_nextClearBit_3 : List UInt8 := dkwJ37_nextClearBit_3 ++ dktJ37_nextClearBit_4
def dkwJ37_nextClearBit_2 : List UInt8 := [27, 172, 42, 180, 0, 11, 28, 47, 20, 0, 165, 131, 20, 0, 165, 27, 121, 127, 66, 33, 9, 148]
abbrev dktJ37_nextClearBit_2 : List UInt8 := dkwJ37_nextClearBit_2 ++ dktJ37_nextClearBit_3
def dkwJ37_nextClearBit_1 : List UInt8 := [182, 0, 45, 183, 0, 146, 191, 42, 182, 0, 56, 27, 184, 0, 52, 61, 28, 42, 180, 0, 7, 161, 0, 5]
abbrev dktJ37_nextClearBit_1 : List UInt8 := dkwJ37_nextClearBit_1 ++ dktJ37_nextClearBit_2
def dkwJ37_nextClearBit_0 : List UInt8 := [27, 156, 0, 30, 187, 0, 142, 89, 187, 0, 33, 89, 183, 0, 35, 18, 144, 182, 0, 38, 27, 182, 0, 42]
abbrev dktJ37_nextClearBit_0 : List UInt8 := dkwJ37_nextClearBit_0 ++ dktJ37_nextClearBit_1
theorem dksJ37_nextClearBit_0 : cJ37_nextClearBit.data.toList.drop 0 = dktJ37_nextClearBit_0 := by decide +kernel
theorem dksJ37_nextClearBit_1 : cJ37_nextClearBit.data.toList.drop 24 = dktJ37_nextClearBit_1 := dk_seg dksJ37_nextClearBit_0 24 rfl rfl
theorem dksJ37_nextClearBit_2 : cJ37_nextClearBit.data.toList.drop 48 = dktJ37_nextClearBit_2 := dk_seg dksJ37_nextClearBit_1 24 rfl rfl
theorem dksJ37_nextClearBit_3 : cJ37_nextClearBit.data.toList.drop 70 = dktJ37_nextClearBit_3 := dk_seg dksJ37_nextClearBit_2 22 rfl rfl
theorem dksJ37_nextClearBit_4 : cJ37_nextClearBit.data.toList.drop 94 = dktJ37_nextClearBit_4 := dk_seg dksJ37_nextClearBit_3 24 rfl rfl
theorem dJ37_nextClearBit_0 : decode cJ37_nextClearBit 0 = .ok (.iload_n 1, 1) := dk_27 (dk_at dksJ37_nextClearBit_0 0 rfl rfl)
theorem dJ37_nextClearBit_1 : decode cJ37_nextClearBit 1 = .ok (.ifCond .ge 30, 3) := dk_156 0 30 (dk_at dksJ37_nextClearBit_0 1 rfl rfl)
theorem dJ37_nextClearBit_4 : decode cJ37_nextClearBit 4 = .ok (.new 142, 3) := dk_187 0 142 (dk_at dksJ37_nextClearBit_0 4 rfl rfl)
theorem dJ37_nextClearBit_7 : decode cJ37_nextClearBit 7 = .ok (.dup, 1) := dk_89 (dk_at dksJ37_nextClearBit_0 7 rfl rfl)
theorem dJ37_nextClearBit_8 : decode cJ37_nextClearBit 8 = .ok (.new 33, 3) := dk_187 0 33 (dk_at dksJ37_nextClearBit_0 8 rfl rfl)
theorem dJ37_nextClearBit_11 : decode cJ37_nextClearBit 11 = .ok (.dup, 1) := dk_89 (dk_at dksJ37_nextClearBit_0 11 rfl rfl)
theorem dJ37_nextClearBit_12 : decode cJ37_nextClearBit 12 = .ok (.invokespecial 35, 3) := dk_183 0 35 (dk_at dksJ37_nextClearBit_0 12 rfl rfl)
theorem dJ37_nextClearBit_15 : decode cJ37_nextClearBit 15 = .ok (.ldc 144, 2) := dk_18 144 (dk_at dksJ37_nextClearBit_0 15 rfl rfl)
theorem dJ37_nextClearBit_17 : decode cJ37_nextClearBit 17 = .ok (.invokevirtual 38, 3) := dk_182 0 38 (dk_at dksJ37_nextClearBit_0 17 rfl rfl)
theorem dJ37_nextClearBit_20 : decode cJ37_nextClearBit 20 = .ok (.iload_n 1, 1) := dk_27 (dk_at dksJ37_nextClearBit_0 20 rfl rfl)
theorem dJ37_nextClearBit_21 : decode cJ37_nextClearBit 21 = .ok (.invokevirtual 42, 3) := dk_182 0 42 (dk_at dksJ37_nextClearBit_0 21 rfl rfl)
theorem dJ37_nextClearBit_24 : decode cJ37_nextClearBit 24 = .ok (.invokevirtual 45, 3) := dk_182 0 45 (dk_at dksJ37_nextClearBit_1 0 rfl rfl)
theorem dJ37_nextClearBit_27 : decode cJ37_nextClearBit 27 = .ok (.invokespecial 146, 3) := dk_183 0 146 (dk_at dksJ37_nextClearBit_1 3 rfl rfl)
theorem dJ37_nextClearBit_30 : decode cJ37_nextClearBit 30 = .ok (.athrow, 1) := dk_191 (dk_at dksJ37_nextClearBit_1 6 rfl rfl)
theorem dJ37_nextClearBit_31 : decode cJ37_nextClearBit 31 = .ok (.aload_n 0, 1) := dk_42 (dk_at dksJ37_nextClearBit_1 7 rfl rfl)
theorem dJ37_nextClearBit_32 : decode cJ37_nextClearBit 32 = .ok (.invokevirtual 56, 3) := dk_182 0 56 (dk_at dksJ37_nextClearBit_1 8 rfl rfl)
theorem dJ37_nextClearBit_35 : decode cJ37_nextClearBit 35 = .ok (.iload_n 1, 1) := dk_27 (dk_at dksJ37_nextClearBit_1 11 rfl rfl)
theorem dJ37_nextClearBit_36 : decode cJ37_nextClearBit 36 = .ok (.invokestatic 52, 3) := dk_184 0 52 (dk_at dksJ37_nextClearBit_1 12 rfl rfl)
theorem dJ37_nextClearBit_39 : decode cJ37_nextClearBit 39 = .ok (.istore_n 2, 1) := dk_61 (dk_at dksJ37_nextClearBit_1 15 rfl rfl)
theorem dJ37_nextClearBit_40 : decode cJ37_nextClearBit 40 = .ok (.iload_n 2, 1) := dk_28 (dk_at dksJ37_nextClearBit_1 16 rfl rfl)
theorem dJ37_nextClearBit_41 : decode cJ37_nextClearBit 41 = .ok (.aload_n 0, 1) := dk_42 (dk_at dksJ37_nextClearBit_1 17 rfl rfl)
theorem dJ37_nextClearBit_42 : decode cJ37_nextClearBit 42 = .ok (.getfield 7, 3) := dk_180 0 7 (dk_at dksJ37_nextClearBit_1 18 rfl rfl)
theorem dJ37_nextClearBit_45 : decode cJ37_nextClearBit 45 = .ok (.if_icmp .lt 5, 3) := dk_161 0 5 (dk_at dksJ37_nextClearBit_1 21 rfl rfl)
theorem dJ37_nextClearBit_48 : decode cJ37_nextClearBit 48 = .ok (.iload_n 1, 1) := dk_27 (dk_at dksJ37_nextClearBit_2 0 rfl rfl)
theorem dJ37_nextClearBit_49 : decode cJ37_nextClearBit 49 = .ok (.ireturn, 1) := dk_172 (dk_at dksJ37_nextClearBit_2 1 rfl rfl)
theorem dJ37_nextClearBit_50 : decode cJ37_nextClearBit 50 = .ok (.aload_n 0, 1) := dk_42 (dk_at dksJ37_nextClearBit_2 2 rfl rfl)
theorem dJ37_nextClearBit_51 : decode cJ37_nextClearBit 51 = .ok (.getfield 11, 3) := dk_180 0 11 (dk_at dksJ37_nextClearBit_2 3 rfl rfl)
theorem dJ37_nextClearBit_54 : decode cJ37_nextClearBit 54 = .ok (.iload_n 2, 1) := dk_28 (dk_at dksJ37_nextClearBit_2 6 rfl rfl)
theorem dJ37_nextClearBit_55 : decode cJ37_nextClearBit 55 = .ok (.laload, 1) := dk_47 (dk_at dksJ37_nextClearBit_2 7 rfl rfl)
theorem dJ37_nextClearBit_56 : decode cJ37_nextClearBit 56 = .ok (.ldc2_w 165, 3) := dk_20 0 165 (dk_at dksJ37_nextClearBit_2 8 rfl rfl)
theorem dJ37_nextClearBit_59 : decode cJ37_nextClearBit 59 = .ok (.lxor, 1) := dk_131 (dk_at dksJ37_nextClearBit_2 11 rfl rfl)
theorem dJ37_nextClearBit_60 : decode cJ37_nextClearBit 60 = .ok (.ldc2_w 165, 3) := dk_20 0 165 (dk_at dksJ37_nextClearBit_2 12 rfl rfl)
theorem dJ37_nextClearBit_63 : decode cJ37_nextClearBit 63 = .ok (.iload_n 1, 1) := dk_27 (dk_at dksJ37_nextClearBit_2 15 rfl rfl)
theorem dJ37_nextClearBit_64 : decode cJ37_nextClearBit 64 = .ok (.lshl, 1) := dk_121 (dk_at dksJ37_nextClearBit_2 16 rfl rfl)
theorem dJ37_nextClearBit_65 : decode cJ37_nextClearBit 65 = .ok (.land, 1) := dk_127 (dk_at dksJ37_nextClearBit_2 17 rfl rfl)
theorem dJ37_nextClearBit_66 : decode cJ37_nextClearBit 66 = .ok (.lstore_n 3, 1) := dk_66 (dk_at dksJ37_nextClearBit_2 18 rfl rfl)
theorem dJ37_nextClearBit_67 : decode cJ37_nextClearBit 67 = .ok (.lload_n 3, 1) := dk_33 (dk_at dksJ37_nextClearBit_2 19 rfl rfl)
theorem dJ37_nextClearBit_68 : decode cJ37_nextClearBit 68 = .ok (.lconst 0, 1) := dk_9 (dk_at dksJ37_nextClearBit_2 20 rfl rfl)
theorem dJ37_nextClearBit_69 : decode cJ37_nextClearBit 69 = .ok (.lcmp, 1) := dk_148 (dk_at dksJ37_nextClearBit_2 21 rfl rfl)
theorem dJ37_nextClearBit_70 : decode cJ37_nextClearBit 70 = .ok (.ifCond .eq 13, 3) := dk_153 0 13 (dk_at dksJ37_nextClearBit_3 0 rfl rfl)
theorem dJ37_nextClearBit_73 : decode cJ37_nextClearBit 73 = .ok (.iload_n 2, 1) := dk_28 (dk_at dksJ37_nextClearBit_3 3 rfl rfl)
theorem dJ37_nextClearBit_74 : decode cJ37_nextClearBit 74 = .ok (.bipush 64, 2) := dk_16 64 (dk_at dksJ37_nextClearBit_3 4 rfl rfl)
theorem dJ37_nextClearBit_76 : decode cJ37_nextClearBit 76 = .ok (.imul, 1) := dk_104 (dk_at dksJ37_nextClearBit_3 6 rfl rfl)
theorem dJ37_nextClearBit_77 : decode cJ37_nextClearBit 77 = .ok (.lload_n 3, 1) := dk_33 (dk_at dksJ37_nextClearBit_3 7 rfl rfl)
theorem dJ37_nextClearBit_78 : decode cJ37_nextClearBit 78 = .ok (.invokestatic 182, 3) := dk_184 0 182 (dk_at dksJ37_nextClearBit_3 8 rfl rfl)
theorem dJ37_nextClearBit_81 : decode cJ37_nextClearBit 81 = .ok (.iadd, 1) := dk_96 (dk_at dksJ37_nextClearBit_3 11 rfl rfl)
theorem dJ37_nextClearBit_82 : decode cJ37_nextClearBit 82 = .ok (.ireturn, 1) := dk_172 (dk_at dksJ37_nextClearBit_3 12 rfl rfl)
theorem dJ37_nextClearBit_83 : decode cJ37_nextClearBit 83 = .ok (.iinc 2 1, 3) := dk_132 2 1 (dk_at dksJ37_nextClearBit_3 13 rfl rfl)
theorem dJ37_nextClearBit_86 : decode cJ37_nextClearBit 86 = .ok (.iload_n 2, 1) := dk_28 (dk_at dksJ37_nextClearBit_3 16 rfl rfl)
theorem dJ37_nextClearBit_87 : decode cJ37_nextClearBit 87 = .ok (.aload_n 0, 1) := dk_42 (dk_at dksJ37_nextClearBit_3 17 rfl rfl)
theorem dJ37_nextClearBit_88 : decode cJ37_nextClearBit 88 = .ok (.getfield 7, 3) := dk_180 0 7 (dk_at dksJ37_nextClearBit_3 18 rfl rfl)
theorem dJ37_nextClearBit_91 : decode cJ37_nextClearBit 91 = .ok (.if_icmp .ne 11, 3) := dk_160 0 11 (dk_at dksJ37_nextClearBit_3 21 rfl rfl)
theorem dJ37_nextClearBit_94 : decode cJ37_nextClearBit 94 = .ok (.aload_n 0, 1) := dk_42 (dk_at dksJ37_nextClearBit_4 0 rfl rfl)
theorem dJ37_nextClearBit_95 : decode cJ37_nextClearBit 95 = .ok (.getfield 7, 3) := dk_180 0 7 (dk_at dksJ37_nextClearBit_4 1 rfl rfl)
theorem dJ37_nextClearBit_98 : decode cJ37_nextClearBit 98 = .ok (.bipush 64, 2) := dk_16 64 (dk_at dksJ37_nextClearBit_4 4 rfl rfl)
theorem dJ37_nextClearBit_100 : decode cJ37_nextClearBit 100 = .ok (.imul, 1) := dk_104 (dk_at dksJ37_nextClearBit_4 6 rfl rfl)
theorem dJ37_nextClearBit_101 : decode cJ37_nextClearBit 101 = .ok (.ireturn, 1) := dk_172 (dk_at dksJ37_nextClearBit_4 7 rfl rfl)
theorem dJ37_nextClearBit_102 : decode cJ37_nextClearBit 102 = .ok (.aload_n 0, 1) := dk_42 (dk_at dksJ37_nextClearBit_4 8 rfl rfl)
theorem dJ37_nextClearBit_103 : decode cJ37_nextClearBit 103 = .ok (.getfield 11, 3) := dk_180 0 11 (dk_at dksJ37_nextClearBit_4 9 rfl rfl)
theorem dJ37_nextClearBit_106 : decode cJ37_nextClearBit 106 = .ok (.iload_n 2, 1) := dk_28 (dk_at dksJ37_nextClearBit_4 12 rfl rfl)
theorem dJ37_nextClearBit_107 : decode cJ37_nextClearBit 107 = .ok (.laload, 1) := dk_47 (dk_at dksJ37_nextClearBit_4 13 rfl rfl)
theorem dJ37_nextClearBit_108 : decode cJ37_nextClearBit 108 = .ok (.ldc2_w 165, 3) := dk_20 0 165 (dk_at dksJ37_nextClearBit_4 14 rfl rfl)
theorem dJ37_nextClearBit_111 : decode cJ37_nextClearBit 111 = .ok (.lxor, 1) := dk_131 (dk_at dksJ37_nextClearBit_4 17 rfl rfl)
theorem dJ37_nextClearBit_112 : decode cJ37_nextClearBit 112 = .ok (.lstore_n 3, 1) := dk_66 (dk_at dksJ37_nextClearBit_4 18 rfl rfl)
theorem dJ37_nextClearBit_113 : decode cJ37_nextClearBit 113 = .ok (.goto (-46), 3) := dk_167 255 210 (dk_at dksJ37_nextClearBit_4 19 rfl rfl)
abbrev cJ37_get : ByteArray := prog_67_method_26_code
def yJ37_get : MethodName := ⟨RJ37, "get", "(I)Z"⟩
def dkwJ37_get_2 : List UInt8 := [42, 180, 0, 11, 28, 47, 10, 27, 121, 127, 9, 148, 153, 0, 7, 4, 167, 0, 4, 3, 172]
abbrev dktJ37_get_2 : List UInt8 := dkwJ37_get_2 ++ []
def dkwJ37_get_1 : List UInt8 := [182, 0, 45, 183, 0, 146, 191, 42, 182, 0, 56, 27, 184, 0, 52, 61, 28, 42, 180, 0, 7, 162, 0, 22]
abbrev dktJ37_get_1 : List UInt8 := dkwJ37_get_1 ++ dktJ37_get_2
def dkwJ37_get_0 : List UInt8 := [27, 156, 0, 30, 187, 0, 142, 89, 187, 0, 33, 89, 183, 0, 35, 18, 153, 182, 0, 38, 27, 182, 0, 42]
abbrev dktJ37_get_0 : List UInt8 := dkwJ37_get_0 ++ dktJ37_get_1
theorem dksJ37_get_0 : cJ37_get.data.toList.drop 0 = dktJ37_get_0 := by decide +kernel
theorem dksJ37_get_1 : cJ37_get.data.toList.drop 24 = dktJ37_get_1 := dk_seg dksJ37_get_0 24 rfl rfl
theorem dksJ37_get_2 : cJ37_get.data.toList.drop 48 = dktJ37_get_2 := dk_seg dksJ37_get_1 24 rfl rfl
theorem dJ37_get_0 : decode cJ37_get 0 = .ok (.iload_n 1, 1) := dk_27 (dk_at dksJ37_get_0 0 rfl rfl)
theorem dJ37_get_1 : decode cJ37_get 1 = .ok (.ifCond .ge 30, 3) := dk_156 0 30 (dk_at dksJ37_get_0 1 rfl rfl)
theorem dJ37_get_4 : decode cJ37_get 4 = .ok (.new 142, 3) := dk_187 0 142 (dk_at dksJ37_get_0 4 rfl rfl)
theorem dJ37_get_7 : decode cJ37_get 7 = .ok (.dup, 1) := dk_89 (dk_at dksJ37_get_0 7 rfl rfl)
theorem dJ37_get_8 : decode cJ37_get 8 = .ok (.new 33, 3) := dk_187 0 33 (dk_at dksJ37_get_0 8 rfl rfl)
theorem dJ37_get_11 : decode cJ37_get 11 = .ok (.dup, 1) := dk_89 (dk_at dksJ37_get_0 11 rfl rfl)
theorem dJ37_get_12 : decode cJ37_get 12 = .ok (.invokespecial 35, 3) := dk_183 0 35 (dk_at dksJ37_get_0 12 rfl rfl)
theorem dJ37_get_15 : decode cJ37_get 15 = .ok (.ldc 153, 2) := dk_18 153 (dk_at dksJ37_get_0 15 rfl rfl)
theorem dJ37_get_17 : decode cJ37_get 17 = .ok (.invokevirtual 38, 3) := dk_182 0 38 (dk_at dksJ37_get_0 17 rfl rfl)
theorem dJ37_get_20 : decode cJ37_get 20 = .ok (.iload_n 1, 1) := dk_27 (dk_at dksJ37_get_0 20 rfl rfl)
theorem dJ37_get_21 : decode cJ37_get 21 = .ok (.invokevirtual 42, 3) := dk_182 0 42 (dk_at dksJ37_get_0 21 rfl rfl)
theorem dJ37_get_24 : decode cJ37_get 24 = .ok (.invokevirtual 45, 3) := dk_182 0 45 (dk_at dksJ37_get_1 0 rfl rfl)
theorem dJ37_get_27 : decode cJ37_get 27 = .ok (.invokespecial 146, 3) := dk_183 0 146 (dk_at dksJ37_get_1 3 rfl rfl)
theorem dJ37_get_30 : decode cJ37_get 30 = .ok (.athrow, 1) := dk_191 (dk_at dksJ37_get_1 6 rfl rfl)
theorem dJ37_get_31 : decode cJ37_get 31 = .ok (.aload_n 0, 1) := dk_42 (dk_at dksJ37_get_1 7 rfl rfl)
theorem dJ37_get_32 : decode cJ37_get 32 = .ok (.invokevirtual 56, 3) := dk_182 0 56 (dk_at dksJ37_get_1 8 rfl rfl)
theorem dJ37_get_35 : decode cJ37_get 35 = .ok (.iload_n 1, 1) := dk_27 (dk_at dksJ37_get_1 11 rfl rfl)
theorem dJ37_get_36 : decode cJ37_get 36 = .ok (.invokestatic 52, 3) := dk_184 0 52 (dk_at dksJ37_get_1 12 rfl rfl)
theorem dJ37_get_39 : decode cJ37_get 39 = .ok (.istore_n 2, 1) := dk_61 (dk_at dksJ37_get_1 15 rfl rfl)
theorem dJ37_get_40 : decode cJ37_get 40 = .ok (.iload_n 2, 1) := dk_28 (dk_at dksJ37_get_1 16 rfl rfl)
theorem dJ37_get_41 : decode cJ37_get 41 = .ok (.aload_n 0, 1) := dk_42 (dk_at dksJ37_get_1 17 rfl rfl)
theorem dJ37_get_42 : decode cJ37_get 42 = .ok (.getfield 7, 3) := dk_180 0 7 (dk_at dksJ37_get_1 18 rfl rfl)
theorem dJ37_get_45 : decode cJ37_get 45 = .ok (.if_icmp .ge 22, 3) := dk_162 0 22 (dk_at dksJ37_get_1 21 rfl rfl)
theorem dJ37_get_48 : decode cJ37_get 48 = .ok (.aload_n 0, 1) := dk_42 (dk_at dksJ37_get_2 0 rfl rfl)
theorem dJ37_get_49 : decode cJ37_get 49 = .ok (.getfield 11, 3) := dk_180 0 11 (dk_at dksJ37_get_2 1 rfl rfl)
theorem dJ37_get_52 : decode cJ37_get 52 = .ok (.iload_n 2, 1) := dk_28 (dk_at dksJ37_get_2 4 rfl rfl)
theorem dJ37_get_53 : decode cJ37_get 53 = .ok (.laload, 1) := dk_47 (dk_at dksJ37_get_2 5 rfl rfl)
theorem dJ37_get_54 : decode cJ37_get 54 = .ok (.lconst 1, 1) := dk_10 (dk_at dksJ37_get_2 6 rfl rfl)
theorem dJ37_get_55 : decode cJ37_get 55 = .ok (.iload_n 1, 1) := dk_27 (dk_at dksJ37_get_2 7 rfl rfl)
theorem dJ37_get_56 : decode cJ37_get 56 = .ok (.lshl, 1) := dk_121 (dk_at dksJ37_get_2 8 rfl rfl)
theorem dJ37_get_57 : decode cJ37_get 57 = .ok (.land, 1) := dk_127 (dk_at dksJ37_get_2 9 rfl rfl)
theorem dJ37_get_58 : decode cJ37_get 58 = .ok (.lconst 0, 1) := dk_9 (dk_at dksJ37_get_2 10 rfl rfl)
theorem dJ37_get_59 : decode cJ37_get 59 = .ok (.lcmp, 1) := dk_148 (dk_at dksJ37_get_2 11 rfl rfl)
theorem dJ37_get_60 : decode cJ37_get 60 = .ok (.ifCond .eq 7, 3) := dk_153 0 7 (dk_at dksJ37_get_2 12 rfl rfl)
theorem dJ37_get_63 : decode cJ37_get 63 = .ok (.iconst 1, 1) := dk_4 (dk_at dksJ37_get_2 15 rfl rfl)
theorem dJ37_get_64 : decode cJ37_get 64 = .ok (.goto 4, 3) := dk_167 0 4 (dk_at dksJ37_get_2 16 rfl rfl)
theorem dJ37_get_67 : decode cJ37_get 67 = .ok (.iconst 0, 1) := dk_3 (dk_at dksJ37_get_2 19 rfl rfl)
theorem dJ37_get_68 : decode cJ37_get 68 = .ok (.ireturn, 1) := dk_172 (dk_at dksJ37_get_2 20 rfl rfl)
abbrev cJ37_nextSetBit : ByteArray := prog_67_method_28_code
def yJ37_nextSetBit : MethodName := ⟨RJ37, "nextSetBit", "(I)I"⟩
def dkwJ37_nextSetBit_4 : List UInt8 := [28, 47, 66, 167, 255, 220]
abbrev dktJ37_nextSetBit_4 : List UInt8 := dkwJ37_nextSetBit_4 ++ []
def dkwJ37_nextSetBit_3 : List UInt8 := [104, 33, 184, 0, 182, 96, 172, 132, 2, 1, 28, 42, 180, 0, 7, 160, 0, 5, 2, 172, 42, 180, 0, 11]
abbrev dktJ37_nextSetBit_3 : List UInt8 := dkwJ37_nextSetBit_3 ++ dktJ37_nextSetBit_4
def dkwJ37_nextSetBit_2 : List UInt8 := [2, 172, 42, 180, 0, 11, 28, 47, 20, 0, 165, 27, 121, 127, 66, 33, 9, 148, 153, 0, 13, 28, 16, 64]
abbrev dktJ37_nextSetBit_2 : List UInt8 := dkwJ37_nextSetBit_2 ++ dktJ37_nextSetBit_3
def dkwJ37_nextSetBit_1 : List UInt8 := [182, 0, 45, 183, 0, 146, 191, 42, 182, 0, 56, 27, 184, 0, 52, 61, 28, 42, 180, 0, 7, 161, 0, 5]
abbrev dktJ37_nextSetBit_1 : List UInt8 := dkwJ37_nextSetBit_1 ++ dktJ37_nextSetBit_2
def dkwJ37_nextSetBit_0 : List UInt8 := [27, 156, 0, 30, 187, 0, 142, 89, 187, 0, 33, 89, 183, 0, 35, 18, 144, 182, 0, 38, 27, 182, 0, 42]
abbrev dktJ37_nextSetBit_0 : List UInt8 := dkwJ37_nextSetBit_0 ++ dktJ37_nextSetBit_1
theorem dksJ37_nextSetBit_0 : cJ37_nextSetBit.data.toList.drop 0 = dktJ37_nextSetBit_0 := by decide +kernel
theorem dksJ37_nextSetBit_1 : cJ37_nextSetBit.data.toList.drop 24 = dktJ37_nextSetBit_1 := dk_seg dksJ37_nextSetBit_0 24 rfl rfl
theorem dksJ37_nextSetBit_2 : cJ37_nextSetBit.data.toList.drop 48 = dktJ37_nextSetBit_2 := dk_seg dksJ37_nextSetBit_1 24 rfl rfl
theorem dksJ37_nextSetBit_3 : cJ37_nextSetBit.data.toList.drop 72 = dktJ37_nextSetBit_3 := dk_seg dksJ37_nextSetBit_2 24 rfl rfl
theorem dksJ37_nextSetBit_4 : cJ37_nextSetBit.data.toList.drop 96 = dktJ37_nextSetBit_4 := dk_seg dksJ37_nextSetBit_3 24 rfl rfl
theorem dJ37_nextSetBit_0 : decode cJ37_nextSetBit 0 = .ok (.iload_n 1, 1) := dk_27 (dk_at dksJ37_nextSetBit_0 0 rfl rfl)
theorem dJ37_nextSetBit_1 : decode cJ37_nextSetBit 1 = .ok (.ifCond .ge 30, 3) := dk_156 0 30 (dk_at dksJ37_nextSetBit_0 1 rfl rfl)
theorem dJ37_nextSetBit_4 : decode cJ37_nextSetBit 4 = .ok (.new 142, 3) := dk_187 0 142 (dk_at dksJ37_nextSetBit_0 4 rfl rfl)
theorem dJ37_nextSetBit_7 : decode cJ37_nextSetBit 7 = .ok (.dup, 1) := dk_89 (dk_at dksJ37_nextSetBit_0 7 rfl rfl)
theorem dJ37_nextSetBit_8 : decode cJ37_nextSetBit 8 = .ok (.new 33, 3) := dk_187 0 33 (dk_at dksJ37_nextSetBit_0 8 rfl rfl)
theorem dJ37_nextSetBit_11 : decode cJ37_nextSetBit 11 = .ok (.dup, 1) := dk_89 (dk_at dksJ37_nextSetBit_0 11 rfl rfl)
theorem dJ37_nextSetBit_12 : decode cJ37_nextSetBit 12 = .ok (.invokespecial 35, 3) := dk_183 0 35 (dk_at dksJ37_nextSetBit_0 12 rfl rfl)
theorem dJ37_nextSetBit_15 : decode cJ37_nextSetBit 15 = .ok (.ldc 144, 2) := dk_18 144 (dk_at dksJ37_nextSetBit_0 15 rfl rfl)
theorem dJ37_nextSetBit_17 : decode cJ37_nextSetBit 17 = .ok (.invokevirtual 38, 3) := dk_182 0 38 (dk_at dksJ37_nextSetBit_0 17 rfl rfl)
theorem dJ37_nextSetBit_20 : decode cJ37_nextSetBit 20 = .ok (.iload_n 1, 1) := dk_27 (dk_at dksJ37_nextSetBit_0 20 rfl rfl)
theorem dJ37_nextSetBit_21 : decode cJ37_nextSetBit 21 = .ok (.invokevirtual 42, 3) := dk_182 0 42 (dk_at dksJ37_nextSetBit_0 21 rfl rfl)
theorem dJ37_nextSetBit_24 : decode cJ37_nextSetBit 24 = .ok (.invokevirtual 45, 3) := dk_182 0 45 (dk_at dksJ37_nextSetBit_1 0 rfl rfl)
theorem dJ37_nextSetBit_27 : decode cJ37_nextSetBit 27 = .ok (.invokespecial 146, 3) := dk_183 0 146 (dk_at dksJ37_nextSetBit_1 3 rfl rfl)
theorem dJ37_nextSetBit_30 : decode cJ37_nextSetBit 30 = .ok (.athrow, 1) := dk_191 (dk_at dksJ37_nextSetBit_1 6 rfl rfl)
theorem dJ37_nextSetBit_31 : decode cJ37_nextSetBit 31 = .ok (.aload_n 0, 1) := dk_42 (dk_at dksJ37_nextSetBit_1 7 rfl rfl)
theorem dJ37_nextSetBit_32 : decode cJ37_nextSetBit 32 = .ok (.invokevirtual 56, 3) := dk_182 0 56 (dk_at dksJ37_nextSetBit_1 8 rfl rfl)
theorem dJ37_nextSetBit_35 : decode cJ37_nextSetBit 35 = .ok (.iload_n 1, 1) := dk_27 (dk_at dksJ37_nextSetBit_1 11 rfl rfl)
theorem dJ37_nextSetBit_36 : decode cJ37_nextSetBit 36 = .ok (.invokestatic 52, 3) := dk_184 0 52 (dk_at dksJ37_nextSetBit_1 12 rfl rfl)
theorem dJ37_nextSetBit_39 : decode cJ37_nextSetBit 39 = .ok (.istore_n 2, 1) := dk_61 (dk_at dksJ37_nextSetBit_1 15 rfl rfl)
theorem dJ37_nextSetBit_40 : decode cJ37_nextSetBit 40 = .ok (.iload_n 2, 1) := dk_28 (dk_at dksJ37_nextSetBit_1 16 rfl rfl)
theorem dJ37_nextSetBit_41 : decode cJ37_nextSetBit 41 = .ok (.aload_n 0, 1) := dk_42 (dk_at dksJ37_nextSetBit_1 17 rfl rfl)
theorem dJ37_nextSetBit_42 : decode cJ37_nextSetBit 42 = .ok (.getfield 7, 3) := dk_180 0 7 (dk_at dksJ37_nextSetBit_1 18 rfl rfl)
theorem dJ37_nextSetBit_45 : decode cJ37_nextSetBit 45 = .ok (.if_icmp .lt 5, 3) := dk_161 0 5 (dk_at dksJ37_nextSetBit_1 21 rfl rfl)
theorem dJ37_nextSetBit_48 : decode cJ37_nextSetBit 48 = .ok (.iconst (-1), 1) := dk_2 (dk_at dksJ37_nextSetBit_2 0 rfl rfl)
theorem dJ37_nextSetBit_49 : decode cJ37_nextSetBit 49 = .ok (.ireturn, 1) := dk_172 (dk_at dksJ37_nextSetBit_2 1 rfl rfl)
theorem dJ37_nextSetBit_50 : decode cJ37_nextSetBit 50 = .ok (.aload_n 0, 1) := dk_42 (dk_at dksJ37_nextSetBit_2 2 rfl rfl)
theorem dJ37_nextSetBit_51 : decode cJ37_nextSetBit 51 = .ok (.getfield 11, 3) := dk_180 0 11 (dk_at dksJ37_nextSetBit_2 3 rfl rfl)
theorem dJ37_nextSetBit_54 : decode cJ37_nextSetBit 54 = .ok (.iload_n 2, 1) := dk_28 (dk_at dksJ37_nextSetBit_2 6 rfl rfl)
theorem dJ37_nextSetBit_55 : decode cJ37_nextSetBit 55 = .ok (.laload, 1) := dk_47 (dk_at dksJ37_nextSetBit_2 7 rfl rfl)
theorem dJ37_nextSetBit_56 : decode cJ37_nextSetBit 56 = .ok (.ldc2_w 165, 3) := dk_20 0 165 (dk_at dksJ37_nextSetBit_2 8 rfl rfl)
theorem dJ37_nextSetBit_59 : decode cJ37_nextSetBit 59 = .ok (.iload_n 1, 1) := dk_27 (dk_at dksJ37_nextSetBit_2 11 rfl rfl)
theorem dJ37_nextSetBit_60 : decode cJ37_nextSetBit 60 = .ok (.lshl, 1) := dk_121 (dk_at dksJ37_nextSetBit_2 12 rfl rfl)
theorem dJ37_nextSetBit_61 : decode cJ37_nextSetBit 61 = .ok (.land, 1) := dk_127 (dk_at dksJ37_nextSetBit_2 13 rfl rfl)
theorem dJ37_nextSetBit_62 : decode cJ37_nextSetBit 62 = .ok (.lstore_n 3, 1) := dk_66 (dk_at dksJ37_nextSetBit_2 14 rfl rfl)
theorem dJ37_nextSetBit_63 : decode cJ37_nextSetBit 63 = .ok (.lload_n 3, 1) := dk_33 (dk_at dksJ37_nextSetBit_2 15 rfl rfl)
theorem dJ37_nextSetBit_64 : decode cJ37_nextSetBit 64 = .ok (.lconst 0, 1) := dk_9 (dk_at dksJ37_nextSetBit_2 16 rfl rfl)
theorem dJ37_nextSetBit_65 : decode cJ37_nextSetBit 65 = .ok (.lcmp, 1) := dk_148 (dk_at dksJ37_nextSetBit_2 17 rfl rfl)
theorem dJ37_nextSetBit_66 : decode cJ37_nextSetBit 66 = .ok (.ifCond .eq 13, 3) := dk_153 0 13 (dk_at dksJ37_nextSetBit_2 18 rfl rfl)
theorem dJ37_nextSetBit_69 : decode cJ37_nextSetBit 69 = .ok (.iload_n 2, 1) := dk_28 (dk_at dksJ37_nextSetBit_2 21 rfl rfl)
theorem dJ37_nextSetBit_70 : decode cJ37_nextSetBit 70 = .ok (.bipush 64, 2) := dk_16 64 (dk_at dksJ37_nextSetBit_2 22 rfl rfl)
theorem dJ37_nextSetBit_72 : decode cJ37_nextSetBit 72 = .ok (.imul, 1) := dk_104 (dk_at dksJ37_nextSetBit_3 0 rfl rfl)
theorem dJ37_nextSetBit_73 : decode cJ37_nextSetBit 73 = .ok (.lload_n 3, 1) := dk_33 (dk_at dksJ37_nextSetBit_3 1 rfl rfl)
theorem dJ37_nextSetBit_74 : decode cJ37_nextSetBit 74 = .ok (.invokestatic 182, 3) := dk_184 0 182 (dk_at dksJ37_nextSetBit_3 2 rfl rfl)
theorem dJ37_nextSetBit_77 : decode cJ37_nextSetBit 77 = .ok (.iadd, 1) := dk_96 (dk_at dksJ37_nextSetBit_3 5 rfl rfl)
theorem dJ37_nextSetBit_78 : decode cJ37_nextSetBit 78 = .ok (.ireturn, 1) := dk_172 (dk_at dksJ37_nextSetBit_3 6 rfl rfl)
theorem dJ37_nextSetBit_79 : decode cJ37_nextSetBit 79 = .ok (.iinc 2 1, 3) := dk_132 2 1 (dk_at dksJ37_nextSetBit_3 7 rfl rfl)
theorem dJ37_nextSetBit_82 : decode cJ37_nextSetBit 82 = .ok (.iload_n 2, 1) := dk_28 (dk_at dksJ37_nextSetBit_3 10 rfl rfl)
theorem dJ37_nextSetBit_83 : decode cJ37_nextSetBit 83 = .ok (.aload_n 0, 1) := dk_42 (dk_at dksJ37_nextSetBit_3 11 rfl rfl)
theorem dJ37_nextSetBit_84 : decode cJ37_nextSetBit 84 = .ok (.getfield 7, 3) := dk_180 0 7 (dk_at dksJ37_nextSetBit_3 12 rfl rfl)
theorem dJ37_nextSetBit_87 : decode cJ37_nextSetBit 87 = .ok (.if_icmp .ne 5, 3) := dk_160 0 5 (dk_at dksJ37_nextSetBit_3 15 rfl rfl)
theorem dJ37_nextSetBit_90 : decode cJ37_nextSetBit 90 = .ok (.iconst (-1), 1) := dk_2 (dk_at dksJ37_nextSetBit_3 18 rfl rfl)
theorem dJ37_nextSetBit_91 : decode cJ37_nextSetBit 91 = .ok (.ireturn, 1) := dk_172 (dk_at dksJ37_nextSetBit_3 19 rfl rfl)
theorem dJ37_nextSetBit_92 : decode cJ37_nextSetBit 92 = .ok (.aload_n 0, 1) := dk_42 (dk_at dksJ37_nextSetBit_3 20 rfl rfl)
theorem dJ37_nextSetBit_93 : decode cJ37_nextSetBit 93 = .ok (.getfield 11, 3) := dk_180 0 11 (dk_at dksJ37_nextSetBit_3 21 rfl rfl)
theorem dJ37_nextSetBit_96 : decode cJ37_nextSetBit 96 = .ok (.iload_n 2, 1) := dk_28 (dk_at dksJ37_nextSetBit_4 0 rfl rfl)
theorem dJ37_nextSetBit_97 : decode cJ37_nextSetBit 97 = .ok (.laload, 1) := dk_47 (dk_at dksJ37_nextSetBit_4 1 rfl rfl)
theorem dJ37_nextSetBit_98 : decode cJ37_nextSetBit 98 = .ok (.lstore_n 3, 1) := dk_66 (dk_at dksJ37_nextSetBit_4 2 rfl rfl)
theorem dJ37_nextSetBit_99 : decode cJ37_nextSetBit 99 = .ok (.goto (-36), 3) := dk_167 255 220 (dk_at dksJ37_nextSetBit_4 3 rfl rfl)
abbrev cJ37_set_2 : ByteArray := prog_67_method_21_code
def yJ37_set_2 : MethodName := ⟨RJ37, "set", "(II)V"⟩
def dkwJ37_set_2_5 : List UInt8 := [42, 182, 0, 56, 177]
abbrev dktJ37_set_2_5 : List UInt8 := dkwJ37_set_2_5 ++ []
def dkwJ37_set_2_4 : List UInt8 := [21, 9, 20, 0, 165, 80, 132, 9, 1, 167, 255, 236, 42, 180, 0, 11, 21, 4, 92, 47, 22, 7, 129, 80]
abbrev dktJ37_set_2_4 : List UInt8 := dkwJ37_set_2_4 ++ dktJ37_set_2_5
def dkwJ37_set_2_3 : List UInt8 := [29, 92, 47, 22, 5, 129, 80, 29, 4, 96, 54, 9, 21, 9, 21, 4, 162, 0, 19, 42, 180, 0, 11]
abbrev dktJ37_set_2_3 : List UInt8 := dkwJ37_set_2_3 ++ dktJ37_set_2_4
def dkwJ37_set_2_2 : List UInt8 := [160, 0, 20, 42, 180, 0, 11, 29, 92, 47, 22, 5, 22, 7, 127, 129, 80, 167, 0, 54, 42, 180, 0, 11]
abbrev dktJ37_set_2_2 : List UInt8 := dkwJ37_set_2_2 ++ dktJ37_set_2_3
def dkwJ37_set_2_1 : List UInt8 := [42, 21, 4, 182, 0, 155, 20, 0, 165, 27, 121, 55, 5, 20, 0, 165, 28, 116, 125, 55, 7, 29, 21, 4]
abbrev dktJ37_set_2_1 : List UInt8 := dkwJ37_set_2_1 ++ dktJ37_set_2_2
def dkwJ37_set_2_0 : List UInt8 := [27, 28, 184, 0, 161, 27, 28, 160, 0, 4, 177, 27, 184, 0, 52, 62, 28, 4, 100, 184, 0, 52, 54, 4]
abbrev dktJ37_set_2_0 : List UInt8 := dkwJ37_set_2_0 ++ dktJ37_set_2_1
theorem dksJ37_set_2_0 : cJ37_set_2.data.toList.drop 0 = dktJ37_set_2_0 := by decide +kernel
theorem dksJ37_set_2_1 : cJ37_set_2.data.toList.drop 24 = dktJ37_set_2_1 := dk_seg dksJ37_set_2_0 24 rfl rfl
theorem dksJ37_set_2_2 : cJ37_set_2.data.toList.drop 48 = dktJ37_set_2_2 := dk_seg dksJ37_set_2_1 24 rfl rfl
theorem dksJ37_set_2_3 : cJ37_set_2.data.toList.drop 72 = dktJ37_set_2_3 := dk_seg dksJ37_set_2_2 24 rfl rfl
theorem dksJ37_set_2_4 : cJ37_set_2.data.toList.drop 95 = dktJ37_set_2_4 := dk_seg dksJ37_set_2_3 23 rfl rfl
theorem dksJ37_set_2_5 : cJ37_set_2.data.toList.drop 119 = dktJ37_set_2_5 := dk_seg dksJ37_set_2_4 24 rfl rfl
theorem dJ37_set_2_0 : decode cJ37_set_2 0 = .ok (.iload_n 1, 1) := dk_27 (dk_at dksJ37_set_2_0 0 rfl rfl)
theorem dJ37_set_2_1 : decode cJ37_set_2 1 = .ok (.iload_n 2, 1) := dk_28 (dk_at dksJ37_set_2_0 1 rfl rfl)
theorem dJ37_set_2_2 : decode cJ37_set_2 2 = .ok (.invokestatic 161, 3) := dk_184 0 161 (dk_at dksJ37_set_2_0 2 rfl rfl)
theorem dJ37_set_2_5 : decode cJ37_set_2 5 = .ok (.iload_n 1, 1) := dk_27 (dk_at dksJ37_set_2_0 5 rfl rfl)
theorem dJ37_set_2_6 : decode cJ37_set_2 6 = .ok (.iload_n 2, 1) := dk_28 (dk_at dksJ37_set_2_0 6 rfl rfl)
theorem dJ37_set_2_7 : decode cJ37_set_2 7 = .ok (.if_icmp .ne 4, 3) := dk_160 0 4 (dk_at dksJ37_set_2_0 7 rfl rfl)
theorem dJ37_set_2_10 : decode cJ37_set_2 10 = .ok (.return_, 1) := dk_177 (dk_at dksJ37_set_2_0 10 rfl rfl)
theorem dJ37_set_2_11 : decode cJ37_set_2 11 = .ok (.iload_n 1, 1) := dk_27 (dk_at dksJ37_set_2_0 11 rfl rfl)
theorem dJ37_set_2_12 : decode cJ37_set_2 12 = .ok (.invokestatic 52, 3) := dk_184 0 52 (dk_at dksJ37_set_2_0 12 rfl rfl)
theorem dJ37_set_2_15 : decode cJ37_set_2 15 = .ok (.istore_n 3, 1) := dk_62 (dk_at dksJ37_set_2_0 15 rfl rfl)
theorem dJ37_set_2_16 : decode cJ37_set_2 16 = .ok (.iload_n 2, 1) := dk_28 (dk_at dksJ37_set_2_0 16 rfl rfl)
theorem dJ37_set_2_17 : decode cJ37_set_2 17 = .ok (.iconst 1, 1) := dk_4 (dk_at dksJ37_set_2_0 17 rfl rfl)
theorem dJ37_set_2_18 : decode cJ37_set_2 18 = .ok (.isub, 1) := dk_100 (dk_at dksJ37_set_2_0 18 rfl rfl)
theorem dJ37_set_2_19 : decode cJ37_set_2 19 = .ok (.invokestatic 52, 3) := dk_184 0 52 (dk_at dksJ37_set_2_0 19 rfl rfl)
theorem dJ37_set_2_22 : decode cJ37_set_2 22 = .ok (.istore 4, 2) := dk_54 4 (dk_at dksJ37_set_2_0 22 rfl rfl)
theorem dJ37_set_2_24 : decode cJ37_set_2 24 = .ok (.aload_n 0, 1) := dk_42 (dk_at dksJ37_set_2_1 0 rfl rfl)
theorem dJ37_set_2_25 : decode cJ37_set_2 25 = .ok (.iload 4, 2) := dk_21 4 (dk_at dksJ37_set_2_1 1 rfl rfl)
theorem dJ37_set_2_27 : decode cJ37_set_2 27 = .ok (.invokevirtual 155, 3) := dk_182 0 155 (dk_at dksJ37_set_2_1 3 rfl rfl)
theorem dJ37_set_2_30 : decode cJ37_set_2 30 = .ok (.ldc2_w 165, 3) := dk_20 0 165 (dk_at dksJ37_set_2_1 6 rfl rfl)
theorem dJ37_set_2_33 : decode cJ37_set_2 33 = .ok (.iload_n 1, 1) := dk_27 (dk_at dksJ37_set_2_1 9 rfl rfl)
theorem dJ37_set_2_34 : decode cJ37_set_2 34 = .ok (.lshl, 1) := dk_121 (dk_at dksJ37_set_2_1 10 rfl rfl)
theorem dJ37_set_2_35 : decode cJ37_set_2 35 = .ok (.lstore 5, 2) := dk_55 5 (dk_at dksJ37_set_2_1 11 rfl rfl)
theorem dJ37_set_2_37 : decode cJ37_set_2 37 = .ok (.ldc2_w 165, 3) := dk_20 0 165 (dk_at dksJ37_set_2_1 13 rfl rfl)
theorem dJ37_set_2_40 : decode cJ37_set_2 40 = .ok (.iload_n 2, 1) := dk_28 (dk_at dksJ37_set_2_1 16 rfl rfl)
theorem dJ37_set_2_41 : decode cJ37_set_2 41 = .ok (.ineg, 1) := dk_116 (dk_at dksJ37_set_2_1 17 rfl rfl)
theorem dJ37_set_2_42 : decode cJ37_set_2 42 = .ok (.lushr, 1) := dk_125 (dk_at dksJ37_set_2_1 18 rfl rfl)
theorem dJ37_set_2_43 : decode cJ37_set_2 43 = .ok (.lstore 7, 2) := dk_55 7 (dk_at dksJ37_set_2_1 19 rfl rfl)
theorem dJ37_set_2_45 : decode cJ37_set_2 45 = .ok (.iload_n 3, 1) := dk_29 (dk_at dksJ37_set_2_1 21 rfl rfl)
theorem dJ37_set_2_46 : decode cJ37_set_2 46 = .ok (.iload 4, 2) := dk_21 4 (dk_at dksJ37_set_2_1 22 rfl rfl)
theorem dJ37_set_2_48 : decode cJ37_set_2 48 = .ok (.if_icmp .ne 20, 3) := dk_160 0 20 (dk_at dksJ37_set_2_2 0 rfl rfl)
theorem dJ37_set_2_51 : decode cJ37_set_2 51 = .ok (.aload_n 0, 1) := dk_42 (dk_at dksJ37_set_2_2 3 rfl rfl)
theorem dJ37_set_2_52 : decode cJ37_set_2 52 = .ok (.getfield 11, 3) := dk_180 0 11 (dk_at dksJ37_set_2_2 4 rfl rfl)
theorem dJ37_set_2_55 : decode cJ37_set_2 55 = .ok (.iload_n 3, 1) := dk_29 (dk_at dksJ37_set_2_2 7 rfl rfl)
theorem dJ37_set_2_56 : decode cJ37_set_2 56 = .ok (.dup2, 1) := dk_92 (dk_at dksJ37_set_2_2 8 rfl rfl)
theorem dJ37_set_2_57 : decode cJ37_set_2 57 = .ok (.laload, 1) := dk_47 (dk_at dksJ37_set_2_2 9 rfl rfl)
theorem dJ37_set_2_58 : decode cJ37_set_2 58 = .ok (.lload 5, 2) := dk_22 5 (dk_at dksJ37_set_2_2 10 rfl rfl)
theorem dJ37_set_2_60 : decode cJ37_set_2 60 = .ok (.lload 7, 2) := dk_22 7 (dk_at dksJ37_set_2_2 12 rfl rfl)
theorem dJ37_set_2_62 : decode cJ37_set_2 62 = .ok (.land, 1) := dk_127 (dk_at dksJ37_set_2_2 14 rfl rfl)
theorem dJ37_set_2_63 : decode cJ37_set_2 63 = .ok (.lor, 1) := dk_129 (dk_at dksJ37_set_2_2 15 rfl rfl)
theorem dJ37_set_2_64 : decode cJ37_set_2 64 = .ok (.lastore, 1) := dk_80 (dk_at dksJ37_set_2_2 16 rfl rfl)
theorem dJ37_set_2_65 : decode cJ37_set_2 65 = .ok (.goto 54, 3) := dk_167 0 54 (dk_at dksJ37_set_2_2 17 rfl rfl)
theorem dJ37_set_2_68 : decode cJ37_set_2 68 = .ok (.aload_n 0, 1) := dk_42 (dk_at dksJ37_set_2_2 20 rfl rfl)
theorem dJ37_set_2_69 : decode cJ37_set_2 69 = .ok (.getfield 11, 3) := dk_180 0 11 (dk_at dksJ37_set_2_2 21 rfl rfl)
theorem dJ37_set_2_72 : decode cJ37_set_2 72 = .ok (.iload_n 3, 1) := dk_29 (dk_at dksJ37_set_2_3 0 rfl rfl)
theorem dJ37_set_2_73 : decode cJ37_set_2 73 = .ok (.dup2, 1) := dk_92 (dk_at dksJ37_set_2_3 1 rfl rfl)
theorem dJ37_set_2_74 : decode cJ37_set_2 74 = .ok (.laload, 1) := dk_47 (dk_at dksJ37_set_2_3 2 rfl rfl)
theorem dJ37_set_2_75 : decode cJ37_set_2 75 = .ok (.lload 5, 2) := dk_22 5 (dk_at dksJ37_set_2_3 3 rfl rfl)
theorem dJ37_set_2_77 : decode cJ37_set_2 77 = .ok (.lor, 1) := dk_129 (dk_at dksJ37_set_2_3 5 rfl rfl)
theorem dJ37_set_2_78 : decode cJ37_set_2 78 = .ok (.lastore, 1) := dk_80 (dk_at dksJ37_set_2_3 6 rfl rfl)
theorem dJ37_set_2_79 : decode cJ37_set_2 79 = .ok (.iload_n 3, 1) := dk_29 (dk_at dksJ37_set_2_3 7 rfl rfl)
theorem dJ37_set_2_80 : decode cJ37_set_2 80 = .ok (.iconst 1, 1) := dk_4 (dk_at dksJ37_set_2_3 8 rfl rfl)
theorem dJ37_set_2_81 : decode cJ37_set_2 81 = .ok (.iadd, 1) := dk_96 (dk_at dksJ37_set_2_3 9 rfl rfl)
theorem dJ37_set_2_82 : decode cJ37_set_2 82 = .ok (.istore 9, 2) := dk_54 9 (dk_at dksJ37_set_2_3 10 rfl rfl)
theorem dJ37_set_2_84 : decode cJ37_set_2 84 = .ok (.iload 9, 2) := dk_21 9 (dk_at dksJ37_set_2_3 12 rfl rfl)
theorem dJ37_set_2_86 : decode cJ37_set_2 86 = .ok (.iload 4, 2) := dk_21 4 (dk_at dksJ37_set_2_3 14 rfl rfl)
theorem dJ37_set_2_88 : decode cJ37_set_2 88 = .ok (.if_icmp .ge 19, 3) := dk_162 0 19 (dk_at dksJ37_set_2_3 16 rfl rfl)
theorem dJ37_set_2_91 : decode cJ37_set_2 91 = .ok (.aload_n 0, 1) := dk_42 (dk_at dksJ37_set_2_3 19 rfl rfl)
theorem dJ37_set_2_92 : decode cJ37_set_2 92 = .ok (.getfield 11, 3) := dk_180 0 11 (dk_at dksJ37_set_2_3 20 rfl rfl)
theorem dJ37_set_2_95 : decode cJ37_set_2 95 = .ok (.iload 9, 2) := dk_21 9 (dk_at dksJ37_set_2_4 0 rfl rfl)
theorem dJ37_set_2_97 : decode cJ37_set_2 97 = .ok (.ldc2_w 165, 3) := dk_20 0 165 (dk_at dksJ37_set_2_4 2 rfl rfl)
theorem dJ37_set_2_100 : decode cJ37_set_2 100 = .ok (.lastore, 1) := dk_80 (dk_at dksJ37_set_2_4 5 rfl rfl)
theorem dJ37_set_2_101 : decode cJ37_set_2 101 = .ok (.iinc 9 1, 3) := dk_132 9 1 (dk_at dksJ37_set_2_4 6 rfl rfl)
theorem dJ37_set_2_104 : decode cJ37_set_2 104 = .ok (.goto (-20), 3) := dk_167 255 236 (dk_at dksJ37_set_2_4 9 rfl rfl)
theorem dJ37_set_2_107 : decode cJ37_set_2 107 = .ok (.aload_n 0, 1) := dk_42 (dk_at dksJ37_set_2_4 12 rfl rfl)
theorem dJ37_set_2_108 : decode cJ37_set_2 108 = .ok (.getfield 11, 3) := dk_180 0 11 (dk_at dksJ37_set_2_4 13 rfl rfl)
theorem dJ37_set_2_111 : decode cJ37_set_2 111 = .ok (.iload 4, 2) := dk_21 4 (dk_at dksJ37_set_2_4 16 rfl rfl)
theorem dJ37_set_2_113 : decode cJ37_set_2 113 = .ok (.dup2, 1) := dk_92 (dk_at dksJ37_set_2_4 18 rfl rfl)
theorem dJ37_set_2_114 : decode cJ37_set_2 114 = .ok (.laload, 1) := dk_47 (dk_at dksJ37_set_2_4 19 rfl rfl)
theorem dJ37_set_2_115 : decode cJ37_set_2 115 = .ok (.lload 7, 2) := dk_22 7 (dk_at dksJ37_set_2_4 20 rfl rfl)
theorem dJ37_set_2_117 : decode cJ37_set_2 117 = .ok (.lor, 1) := dk_129 (dk_at dksJ37_set_2_4 22 rfl rfl)
theorem dJ37_set_2_118 : decode cJ37_set_2 118 = .ok (.lastore, 1) := dk_80 (dk_at dksJ37_set_2_4 23 rfl rfl)
theorem dJ37_set_2_119 : decode cJ37_set_2 119 = .ok (.aload_n 0, 1) := dk_42 (dk_at dksJ37_set_2_5 0 rfl rfl)
theorem dJ37_set_2_120 : decode cJ37_set_2 120 = .ok (.invokevirtual 56, 3) := dk_182 0 56 (dk_at dksJ37_set_2_5 1 rfl rfl)
theorem dJ37_set_2_123 : decode cJ37_set_2 123 = .ok (.return_, 1) := dk_177 (dk_at dksJ37_set_2_5 4 rfl rfl)
abbrev cJ37_checkRange : ByteArray := prog_67_method_16_code
def yJ37_checkRange : MethodName := ⟨RJ37, "checkRange", "(II)V"⟩
def dkwJ37_checkRange_4 : List UInt8 := [182, 0, 42, 182, 0, 45, 183, 0, 146, 191, 177]
abbrev dktJ37_checkRange_4 : List UInt8 := dkwJ37_checkRange_4 ++ []
def dkwJ37_checkRange_3 : List UInt8 := [187, 0, 33, 89, 183, 0, 35, 18, 149, 182, 0, 38, 26, 182, 0, 42, 18, 151, 182, 0, 38, 27]
abbrev dktJ37_checkRange_3 : List UInt8 := dkwJ37_checkRange_3 ++ dktJ37_checkRange_4
def dkwJ37_checkRange_2 : List UInt8 := [182, 0, 38, 27, 182, 0, 42, 182, 0, 45, 183, 0, 146, 191, 26, 27, 164, 0, 39, 187, 0, 142, 89]
abbrev dktJ37_checkRange_2 : List UInt8 := dkwJ37_checkRange_2 ++ dktJ37_checkRange_3
def dkwJ37_checkRange_1 : List UInt8 := [182, 0, 45, 183, 0, 146, 191, 27, 156, 0, 30, 187, 0, 142, 89, 187, 0, 33, 89, 183, 0, 35, 18, 147]
abbrev dktJ37_checkRange_1 : List UInt8 := dkwJ37_checkRange_1 ++ dktJ37_checkRange_2
def dkwJ37_checkRange_0 : List UInt8 := [26, 156, 0, 30, 187, 0, 142, 89, 187, 0, 33, 89, 183, 0, 35, 18, 144, 182, 0, 38, 26, 182, 0, 42]
abbrev dktJ37_checkRange_0 : List UInt8 := dkwJ37_checkRange_0 ++ dktJ37_checkRange_1
theorem dksJ37_checkRange_0 : cJ37_checkRange.data.toList.drop 0 = dktJ37_checkRange_0 := by decide +kernel
theorem dksJ37_checkRange_1 : cJ37_checkRange.data.toList.drop 24 = dktJ37_checkRange_1 := dk_seg dksJ37_checkRange_0 24 rfl rfl
theorem dksJ37_checkRange_2 : cJ37_checkRange.data.toList.drop 48 = dktJ37_checkRange_2 := dk_seg dksJ37_checkRange_1 24 rfl rfl
theorem dksJ37_checkRange_3 : cJ37_checkRange.data.toList.drop 71 = dktJ37_checkRange_3 := dk_seg dksJ37_checkRange_2 23 rfl rfl
theorem dksJ37_checkRange_4 : cJ37_checkRange.data.toList.drop 93 = dktJ37_checkRange_4 := dk_seg dksJ37_checkRange_3 22 rfl rfl
theorem dJ37_checkRange_0 : decode cJ37_checkRange 0 = .ok (.iload_n 0, 1) := dk_26 (dk_at dksJ37_checkRange_0 0 rfl rfl)
theorem dJ37_checkRange_1 : decode cJ37_checkRange 1 = .ok (.ifCond .ge 30, 3) := dk_156 0 30 (dk_at dksJ37_checkRange_0 1 rfl rfl)
theorem dJ37_checkRange_4 : decode cJ37_checkRange 4 = .ok (.new 142, 3) := dk_187 0 142 (dk_at dksJ37_checkRange_0 4 rfl rfl)
theorem dJ37_checkRange_7 : decode cJ37_checkRange 7 = .ok (.dup, 1) := dk_89 (dk_at dksJ37_checkRange_0 7 rfl rfl)
theorem dJ37_checkRange_8 : decode cJ37_checkRange 8 = .ok (.new 33, 3) := dk_187 0 33 (dk_at dksJ37_checkRange_0 8 rfl rfl)
theorem dJ37_checkRange_11 : decode cJ37_checkRange 11 = .ok (.dup, 1) := dk_89 (dk_at dksJ37_checkRange_0 11 rfl rfl)
theorem dJ37_checkRange_12 : decode cJ37_checkRange 12 = .ok (.invokespecial 35, 3) := dk_183 0 35 (dk_at dksJ37_checkRange_0 12 rfl rfl)
theorem dJ37_checkRange_15 : decode cJ37_checkRange 15 = .ok (.ldc 144, 2) := dk_18 144 (dk_at dksJ37_checkRange_0 15 rfl rfl)
theorem dJ37_checkRange_17 : decode cJ37_checkRange 17 = .ok (.invokevirtual 38, 3) := dk_182 0 38 (dk_at dksJ37_checkRange_0 17 rfl rfl)
theorem dJ37_checkRange_20 : decode cJ37_checkRange 20 = .ok (.iload_n 0, 1) := dk_26 (dk_at dksJ37_checkRange_0 20 rfl rfl)
theorem dJ37_checkRange_21 : decode cJ37_checkRange 21 = .ok (.invokevirtual 42, 3) := dk_182 0 42 (dk_at dksJ37_checkRange_0 21 rfl rfl)
theorem dJ37_checkRange_24 : decode cJ37_checkRange 24 = .ok (.invokevirtual 45, 3) := dk_182 0 45 (dk_at dksJ37_checkRange_1 0 rfl rfl)
theorem dJ37_checkRange_27 : decode cJ37_checkRange 27 = .ok (.invokespecial 146, 3) := dk_183 0 146 (dk_at dksJ37_checkRange_1 3 rfl rfl)
theorem dJ37_checkRange_30 : decode cJ37_checkRange 30 = .ok (.athrow, 1) := dk_191 (dk_at dksJ37_checkRange_1 6 rfl rfl)
theorem dJ37_checkRange_31 : decode cJ37_checkRange 31 = .ok (.iload_n 1, 1) := dk_27 (dk_at dksJ37_checkRange_1 7 rfl rfl)
theorem dJ37_checkRange_32 : decode cJ37_checkRange 32 = .ok (.ifCond .ge 30, 3) := dk_156 0 30 (dk_at dksJ37_checkRange_1 8 rfl rfl)
theorem dJ37_checkRange_35 : decode cJ37_checkRange 35 = .ok (.new 142, 3) := dk_187 0 142 (dk_at dksJ37_checkRange_1 11 rfl rfl)
theorem dJ37_checkRange_38 : decode cJ37_checkRange 38 = .ok (.dup, 1) := dk_89 (dk_at dksJ37_checkRange_1 14 rfl rfl)
theorem dJ37_checkRange_39 : decode cJ37_checkRange 39 = .ok (.new 33, 3) := dk_187 0 33 (dk_at dksJ37_checkRange_1 15 rfl rfl)
theorem dJ37_checkRange_42 : decode cJ37_checkRange 42 = .ok (.dup, 1) := dk_89 (dk_at dksJ37_checkRange_1 18 rfl rfl)
theorem dJ37_checkRange_43 : decode cJ37_checkRange 43 = .ok (.invokespecial 35, 3) := dk_183 0 35 (dk_at dksJ37_checkRange_1 19 rfl rfl)
theorem dJ37_checkRange_46 : decode cJ37_checkRange 46 = .ok (.ldc 147, 2) := dk_18 147 (dk_at dksJ37_checkRange_1 22 rfl rfl)
theorem dJ37_checkRange_48 : decode cJ37_checkRange 48 = .ok (.invokevirtual 38, 3) := dk_182 0 38 (dk_at dksJ37_checkRange_2 0 rfl rfl)
theorem dJ37_checkRange_51 : decode cJ37_checkRange 51 = .ok (.iload_n 1, 1) := dk_27 (dk_at dksJ37_checkRange_2 3 rfl rfl)
theorem dJ37_checkRange_52 : decode cJ37_checkRange 52 = .ok (.invokevirtual 42, 3) := dk_182 0 42 (dk_at dksJ37_checkRange_2 4 rfl rfl)
theorem dJ37_checkRange_55 : decode cJ37_checkRange 55 = .ok (.invokevirtual 45, 3) := dk_182 0 45 (dk_at dksJ37_checkRange_2 7 rfl rfl)
theorem dJ37_checkRange_58 : decode cJ37_checkRange 58 = .ok (.invokespecial 146, 3) := dk_183 0 146 (dk_at dksJ37_checkRange_2 10 rfl rfl)
theorem dJ37_checkRange_61 : decode cJ37_checkRange 61 = .ok (.athrow, 1) := dk_191 (dk_at dksJ37_checkRange_2 13 rfl rfl)
theorem dJ37_checkRange_62 : decode cJ37_checkRange 62 = .ok (.iload_n 0, 1) := dk_26 (dk_at dksJ37_checkRange_2 14 rfl rfl)
theorem dJ37_checkRange_63 : decode cJ37_checkRange 63 = .ok (.iload_n 1, 1) := dk_27 (dk_at dksJ37_checkRange_2 15 rfl rfl)
theorem dJ37_checkRange_64 : decode cJ37_checkRange 64 = .ok (.if_icmp .le 39, 3) := dk_164 0 39 (dk_at dksJ37_checkRange_2 16 rfl rfl)
theorem dJ37_checkRange_67 : decode cJ37_checkRange 67 = .ok (.new 142, 3) := dk_187 0 142 (dk_at dksJ37_checkRange_2 19 rfl rfl)
theorem dJ37_checkRange_70 : decode cJ37_checkRange 70 = .ok (.dup, 1) := dk_89 (dk_at dksJ37_checkRange_2 22 rfl rfl)
theorem dJ37_checkRange_71 : decode cJ37_checkRange 71 = .ok (.new 33, 3) := dk_187 0 33 (dk_at dksJ37_checkRange_3 0 rfl rfl)
theorem dJ37_checkRange_74 : decode cJ37_checkRange 74 = .ok (.dup, 1) := dk_89 (dk_at dksJ37_checkRange_3 3 rfl rfl)
theorem dJ37_checkRange_75 : decode cJ37_checkRange 75 = .ok (.invokespecial 35, 3) := dk_183 0 35 (dk_at dksJ37_checkRange_3 4 rfl rfl)
theorem dJ37_checkRange_78 : decode cJ37_checkRange 78 = .ok (.ldc 149, 2) := dk_18 149 (dk_at dksJ37_checkRange_3 7 rfl rfl)
theorem dJ37_checkRange_80 : decode cJ37_checkRange 80 = .ok (.invokevirtual 38, 3) := dk_182 0 38 (dk_at dksJ37_checkRange_3 9 rfl rfl)
theorem dJ37_checkRange_83 : decode cJ37_checkRange 83 = .ok (.iload_n 0, 1) := dk_26 (dk_at dksJ37_checkRange_3 12 rfl rfl)
theorem dJ37_checkRange_84 : decode cJ37_checkRange 84 = .ok (.invokevirtual 42, 3) := dk_182 0 42 (dk_at dksJ37_checkRange_3 13 rfl rfl)
theorem dJ37_checkRange_87 : decode cJ37_checkRange 87 = .ok (.ldc 151, 2) := dk_18 151 (dk_at dksJ37_checkRange_3 16 rfl rfl)
theorem dJ37_checkRange_89 : decode cJ37_checkRange 89 = .ok (.invokevirtual 38, 3) := dk_182 0 38 (dk_at dksJ37_checkRange_3 18 rfl rfl)
theorem dJ37_checkRange_92 : decode cJ37_checkRange 92 = .ok (.iload_n 1, 1) := dk_27 (dk_at dksJ37_checkRange_3 21 rfl rfl)
theorem dJ37_checkRange_93 : decode cJ37_checkRange 93 = .ok (.invokevirtual 42, 3) := dk_182 0 42 (dk_at dksJ37_checkRange_4 0 rfl rfl)
theorem dJ37_checkRange_96 : decode cJ37_checkRange 96 = .ok (.invokevirtual 45, 3) := dk_182 0 45 (dk_at dksJ37_checkRange_4 3 rfl rfl)
theorem dJ37_checkRange_99 : decode cJ37_checkRange 99 = .ok (.invokespecial 146, 3) := dk_183 0 146 (dk_at dksJ37_checkRange_4 6 rfl rfl)
theorem dJ37_checkRange_102 : decode cJ37_checkRange 102 = .ok (.athrow, 1) := dk_191 (dk_at dksJ37_checkRange_4 9 rfl rfl)
theorem dJ37_checkRange_103 : decode cJ37_checkRange 103 = .ok (.return_, 1) := dk_177 (dk_at dksJ37_checkRange_4 10 rfl rfl)
theorem q142 : (Jvm.Cond.initialized "java/util/BitSet") ∈ lw_all := lw_g (lw_at lw_m1 56 rfl) rfl
theorem q264 : (Jvm.Cond.selects "java/util/BitSet" ({ cls := "java/lang/Object", name := "getClass", desc := "()Ljava/lang/Class;" } : Jvm.MethodName) ({ cls := "java/lang/Object", name := "getClass", desc := "()Ljava/lang/Class;" } : Jvm.MethodName)) ∈ lw_all := lw_g (lw_at lw_m1 178 rfl) rfl
theorem q1791 : (Jvm.Cond.instantiable "java/util/BitSet" (3 : Nat)) ∈ lw_all := lw_g (lw_at lw_m8 25 rfl) rfl
theorem q1793 : (Jvm.Cond.instanceMethod ({ cls := "java/util/BitSet", name := "<init>", desc := "()V" } : Jvm.MethodName)) ∈ lw_all := lw_g (lw_at lw_m8 27 rfl) rfl
theorem q1794 : (Jvm.Cond.code ({ cls := "java/util/BitSet", name := "<init>", desc := "()V" } : Jvm.MethodName) prog_67_method_4_code (1 : Nat) (Option.none : Option Jvm.ClassFile.FieldType)) ∈ lw_all := lw_g (lw_at lw_m8 28 rfl) rfl
theorem q1795 : (Jvm.Cond.methodLink "java/util/BitSet" (21 : Nat) ({ cls := "java/lang/Object", name := "<init>", desc := "()V" } : Jvm.MethodName)) ∈ lw_all := lw_g (lw_at lw_m8 29 rfl) rfl
theorem q1796 : (Jvm.Cond.methodLink "java/util/BitSet" (27 : Nat) ({ cls := "java/util/BitSet", name := "initWords", desc := "(I)V" } : Jvm.MethodName)) ∈ lw_all := lw_g (lw_at lw_m8 30 rfl) rfl
theorem q1797 : (Jvm.Cond.privateMethod ({ cls := "java/util/BitSet", name := "initWords", desc := "(I)V" } : Jvm.MethodName)) ∈ lw_tbl := lw_at lw_m8 31 rfl
theorem q1798 : (Jvm.Cond.instanceMethod ({ cls := "java/util/BitSet", name := "initWords", desc := "(I)V" } : Jvm.MethodName)) ∈ lw_all := lw_g (lw_at lw_m8 32 rfl) rfl
theorem q1799 : (Jvm.Cond.code ({ cls := "java/util/BitSet", name := "initWords", desc := "(I)V" } : Jvm.MethodName) prog_67_method_6_code (2 : Nat) (Option.none : Option Jvm.ClassFile.FieldType)) ∈ lw_all := lw_g (lw_at lw_m8 33 rfl) rfl
theorem q1800 : (Jvm.Cond.methodLink "java/util/BitSet" (52 : Nat) ({ cls := "java/util/BitSet", name := "wordIndex", desc := "(I)I" } : Jvm.MethodName)) ∈ lw_all := lw_g (lw_at lw_m8 34 rfl) rfl
theorem q1801 : (Jvm.Cond.static ({ cls := "java/util/BitSet", name := "wordIndex", desc := "(I)I" } : Jvm.MethodName)) ∈ lw_all := lw_g (lw_at lw_m8 35 rfl) rfl
theorem q1802 : (Jvm.Cond.code ({ cls := "java/util/BitSet", name := "wordIndex", desc := "(I)I" } : Jvm.MethodName) prog_67_method_1_code (1 : Nat) (Option.some Jvm.ClassFile.FieldType.int)) ∈ lw_all := lw_g (lw_at lw_m8 36 rfl) rfl
theorem q1803 : (Jvm.Cond.fieldLink "java/util/BitSet" (11 : Nat) "java/util/BitSet" "words" "[J") ∈ lw_all := lw_g (lw_at lw_m8 37 rfl) rfl
theorem q1804 : (Jvm.Cond.fieldLink "java/util/BitSet" (7 : Nat) "java/util/BitSet" "wordsInUse" "I") ∈ lw_all := lw_g (lw_at lw_m8 38 rfl) rfl
theorem q1805 : (Jvm.Cond.fieldLink "java/util/BitSet" (24 : Nat) "java/util/BitSet" "sizeIsSticky" "Z") ∈ lw_all := lw_g (lw_at lw_m8 39 rfl) rfl
theorem q1806 : (Jvm.Cond.lays "java/util/BitSet" "java/util/BitSet" "words" "[J") ∈ lw_all := lw_g (lw_at lw_m8 40 rfl) rfl
theorem q1807 : (Jvm.Cond.soleField "java/util/BitSet" "words") ∈ lw_all := lw_g (lw_at lw_m8 41 rfl) rfl
theorem q1808 : (Jvm.Cond.lays "java/util/BitSet" "java/util/BitSet" "wordsInUse" "I") ∈ lw_all := lw_g (lw_at lw_m8 42 rfl) rfl
theorem q1809 : (Jvm.Cond.soleField "java/util/BitSet" "wordsInUse") ∈ lw_all := lw_g (lw_at lw_m8 43 rfl) rfl
theorem q1810 : (Jvm.Cond.lays "java/util/BitSet" "java/util/BitSet" "sizeIsSticky" "Z") ∈ lw_all := lw_g (lw_at lw_m8 44 rfl) rfl
theorem q1811 : (Jvm.Cond.soleField "java/util/BitSet" "sizeIsSticky") ∈ lw_all := lw_g (lw_at lw_m8 45 rfl) rfl
theorem q1812 : (Jvm.Cond.superclass "java/util/BitSet" "java/lang/Object") ∈ lw_all := lw_g (lw_at lw_m8 46 rfl) rfl
theorem q1836 : (Jvm.Cond.instanceMethod ({ cls := "java/util/BitSet", name := "set", desc := "(I)V" } : Jvm.MethodName)) ∈ lw_all := lw_g (lw_at lw_m8 70 rfl) rfl
theorem q1837 : (Jvm.Cond.selects "java/util/BitSet" ({ cls := "java/util/BitSet", name := "set", desc := "(I)V" } : Jvm.MethodName) ({ cls := "java/util/BitSet", name := "set", desc := "(I)V" } : Jvm.MethodName)) ∈ lw_all := lw_g (lw_at lw_m8 71 rfl) rfl
theorem q1838 : (Jvm.Cond.code ({ cls := "java/util/BitSet", name := "set", desc := "(I)V" } : Jvm.MethodName) prog_67_method_19_code (3 : Nat) (Option.none : Option Jvm.ClassFile.FieldType)) ∈ lw_all := lw_g (lw_at lw_m8 72 rfl) rfl
theorem q1839 : (Jvm.Cond.classLink "java/util/BitSet" (142 : Nat) "java/lang/IndexOutOfBoundsException") ∈ lw_all := lw_g (lw_at lw_m8 73 rfl) rfl
theorem q1840 : (Jvm.Cond.classLink "java/util/BitSet" (33 : Nat) "java/lang/StringBuilder") ∈ lw_all := lw_g (lw_at lw_m8 74 rfl) rfl
theorem q1841 : (Jvm.Cond.methodLink "java/util/BitSet" (35 : Nat) ({ cls := "java/lang/StringBuilder", name := "<init>", desc := "()V" } : Jvm.MethodName)) ∈ lw_all := lw_g (lw_at lw_m8 75 rfl) rfl
theorem q1842 : (Jvm.Cond.stringRef "java/util/BitSet" (153 : Nat) "bitIndex < 0: ") ∈ lw_tbl := lw_at lw_m8 76 rfl
theorem q1843 : (Jvm.Cond.methodLink "java/util/BitSet" (38 : Nat) ({ cls := "java/lang/StringBuilder", name := "append", desc := "(Ljava/lang/String;)Ljava/lang/StringBuilder;" } : Jvm.MethodName)) ∈ lw_all := lw_g (lw_at lw_m8 77 rfl) rfl
theorem q1844 : (Jvm.Cond.methodLink "java/util/BitSet" (42 : Nat) ({ cls := "java/lang/StringBuilder", name := "append", desc := "(I)Ljava/lang/StringBuilder;" } : Jvm.MethodName)) ∈ lw_all := lw_g (lw_at lw_m8 78 rfl) rfl
theorem q1845 : (Jvm.Cond.methodLink "java/util/BitSet" (45 : Nat) ({ cls := "java/lang/StringBuilder", name := "toString", desc := "()Ljava/lang/String;" } : Jvm.MethodName)) ∈ lw_all := lw_g (lw_at lw_m8 79 rfl) rfl
theorem q1846 : (Jvm.Cond.methodLink "java/util/BitSet" (146 : Nat) ({ cls := "java/lang/IndexOutOfBoundsException", name := "<init>", desc := "(Ljava/lang/String;)V" } : Jvm.MethodName)) ∈ lw_all := lw_g (lw_at lw_m8 80 rfl) rfl
theorem q1847 : (Jvm.Cond.methodLink "java/util/BitSet" (155 : Nat) ({ cls := "java/util/BitSet", name := "expandTo", desc := "(I)V" } : Jvm.MethodName)) ∈ lw_all := lw_g (lw_at lw_m8 81 rfl) rfl
theorem q1848 : (Jvm.Cond.privateMethod ({ cls := "java/util/BitSet", name := "expandTo", desc := "(I)V" } : Jvm.MethodName)) ∈ lw_tbl := lw_at lw_m8 82 rfl
theorem q1849 : (Jvm.Cond.instanceMethod ({ cls := "java/util/BitSet", name := "expandTo", desc := "(I)V" } : Jvm.MethodName)) ∈ lw_all := lw_g (lw_at lw_m8 83 rfl) rfl
theorem q1850 : (Jvm.Cond.code ({ cls := "java/util/BitSet", name := "expandTo", desc := "(I)V" } : Jvm.MethodName) prog_67_method_15_code (3 : Nat) (Option.none : Option Jvm.ClassFile.FieldType)) ∈ lw_all := lw_g (lw_at lw_m8 84 rfl) rfl
theorem q1851 : (Jvm.Cond.methodLink "java/util/BitSet" (139 : Nat) ({ cls := "java/util/BitSet", name := "ensureCapacity", desc := "(I)V" } : Jvm.MethodName)) ∈ lw_all := lw_g (lw_at lw_m8 85 rfl) rfl
theorem q1852 : (Jvm.Cond.privateMethod ({ cls := "java/util/BitSet", name := "ensureCapacity", desc := "(I)V" } : Jvm.MethodName)) ∈ lw_tbl := lw_at lw_m8 86 rfl
theorem q1853 : (Jvm.Cond.instanceMethod ({ cls := "java/util/BitSet", name := "ensureCapacity", desc := "(I)V" } : Jvm.MethodName)) ∈ lw_all := lw_g (lw_at lw_m8 87 rfl) rfl
theorem q1854 : (Jvm.Cond.code ({ cls := "java/util/BitSet", name := "ensureCapacity", desc := "(I)V" } : Jvm.MethodName) prog_67_method_14_code (3 : Nat) (Option.none : Option Jvm.ClassFile.FieldType)) ∈ lw_all := lw_g (lw_at lw_m8 88 rfl) rfl
theorem q1855 : (Jvm.Cond.methodLink "java/util/BitSet" (133 : Nat) ({ cls := "java/lang/Math", name := "max", desc := "(II)I" } : Jvm.MethodName)) ∈ lw_all := lw_g (lw_at lw_m8 89 rfl) rfl
theorem q1856 : (Jvm.Cond.methodLink "java/util/BitSet" (59 : Nat) ({ cls := "java/util/Arrays", name := "copyOf", desc := "([JI)[J" } : Jvm.MethodName)) ∈ lw_all := lw_g (lw_at lw_m8 90 rfl) rfl
theorem q1864 : (Jvm.Cond.methodLink "java/util/BitSet" (56 : Nat) ({ cls := "java/util/BitSet", name := "checkInvariants", desc := "()V" } : Jvm.MethodName)) ∈ lw_all := lw_g (lw_at lw_m8 98 rfl) rfl
theorem q1865 : (Jvm.Cond.privateMethod ({ cls := "java/util/BitSet", name := "checkInvariants", desc := "()V" } : Jvm.MethodName)) ∈ lw_tbl := lw_at lw_m8 99 rfl
theorem q1866 : (Jvm.Cond.instanceMethod ({ cls := "java/util/BitSet", name := "checkInvariants", desc := "()V" } : Jvm.MethodName)) ∈ lw_all := lw_g (lw_at lw_m8 100 rfl) rfl
theorem q1867 : (Jvm.Cond.code ({ cls := "java/util/BitSet", name := "checkInvariants", desc := "()V" } : Jvm.MethodName) prog_67_method_2_code (1 : Nat) (Option.none : Option Jvm.ClassFile.FieldType)) ∈ lw_all := lw_g (lw_at lw_m8 101 rfl) rfl
theorem q1868 : (Jvm.Cond.fieldLink "java/util/BitSet" (3 : Nat) "java/util/BitSet" "$assertionsDisabled" "Z") ∈ lw_all := lw_g (lw_at lw_m8 102 rfl) rfl
theorem q1869 : (Jvm.Cond.laysStatic "java/util/BitSet" "$assertionsDisabled" "Z") ∈ lw_tbl := lw_at lw_m8 103 rfl
theorem q1871 : (Jvm.Cond.instanceMethod ({ cls := "java/util/BitSet", name := "cardinality", desc := "()I" } : Jvm.MethodName)) ∈ lw_all := lw_g (lw_at lw_m8 105 rfl) rfl
theorem q1872 : (Jvm.Cond.selects "java/util/BitSet" ({ cls := "java/util/BitSet", name := "cardinality", desc := "()I" } : Jvm.MethodName) ({ cls := "java/util/BitSet", name := "cardinality", desc := "()I" } : Jvm.MethodName)) ∈ lw_all := lw_g (lw_at lw_m8 106 rfl) rfl
theorem q1873 : (Jvm.Cond.code ({ cls := "java/util/BitSet", name := "cardinality", desc := "()I" } : Jvm.MethodName) prog_67_method_35_code (3 : Nat) (Option.some Jvm.ClassFile.FieldType.int)) ∈ lw_all := lw_g (lw_at lw_m8 107 rfl) rfl
theorem q1874 : (Jvm.Cond.methodLink "java/util/BitSet" (196 : Nat) ({ cls := "java/lang/Long", name := "bitCount", desc := "(J)I" } : Jvm.MethodName)) ∈ lw_all := lw_g (lw_at lw_m8 108 rfl) rfl
theorem q1885 : (Jvm.Cond.instanceMethod ({ cls := "java/util/BitSet", name := "nextClearBit", desc := "(I)I" } : Jvm.MethodName)) ∈ lw_all := lw_g (lw_at lw_m8 119 rfl) rfl
theorem q1886 : (Jvm.Cond.selects "java/util/BitSet" ({ cls := "java/util/BitSet", name := "nextClearBit", desc := "(I)I" } : Jvm.MethodName) ({ cls := "java/util/BitSet", name := "nextClearBit", desc := "(I)I" } : Jvm.MethodName)) ∈ lw_all := lw_g (lw_at lw_m8 120 rfl) rfl
theorem q1887 : (Jvm.Cond.code ({ cls := "java/util/BitSet", name := "nextClearBit", desc := "(I)I" } : Jvm.MethodName) prog_67_method_29_code (5 : Nat) (Option.some Jvm.ClassFile.FieldType.int)) ∈ lw_all := lw_g (lw_at lw_m8 121 rfl) rfl
theorem q1888 : (Jvm.Cond.stringRef "java/util/BitSet" (144 : Nat) "fromIndex < 0: ") ∈ lw_tbl := lw_at lw_m8 122 rfl
theorem q1889 : (Jvm.Cond.constantLong "java/util/BitSet" (165 : Nat) (-1 : Int64)) ∈ lw_all := lw_g (lw_at lw_m8 123 rfl) rfl
theorem q1890 : (Jvm.Cond.methodLink "java/util/BitSet" (182 : Nat) ({ cls := "java/lang/Long", name := "numberOfTrailingZeros", desc := "(J)I" } : Jvm.MethodName)) ∈ lw_all := lw_g (lw_at lw_m8 124 rfl) rfl
theorem q1902 : (Jvm.Cond.instanceMethod ({ cls := "java/util/BitSet", name := "get", desc := "(I)Z" } : Jvm.MethodName)) ∈ lw_all := lw_g (lw_at lw_m8 136 rfl) rfl
theorem q1903 : (Jvm.Cond.selects "java/util/BitSet" ({ cls := "java/util/BitSet", name := "get", desc := "(I)Z" } : Jvm.MethodName) ({ cls := "java/util/BitSet", name := "get", desc := "(I)Z" } : Jvm.MethodName)) ∈ lw_all := lw_g (lw_at lw_m8 137 rfl) rfl
theorem q1904 : (Jvm.Cond.code ({ cls := "java/util/BitSet", name := "get", desc := "(I)Z" } : Jvm.MethodName) prog_67_method_26_code (3 : Nat) (Option.some Jvm.ClassFile.FieldType.boolean)) ∈ lw_all := lw_g (lw_at lw_m8 138 rfl) rfl
theorem q2269 : (Jvm.Cond.instanceMethod ({ cls := "java/util/BitSet", name := "nextSetBit", desc := "(I)I" } : Jvm.MethodName)) ∈ lw_all := lw_g (lw_at lw_m10 23 rfl) rfl
theorem q2270 : (Jvm.Cond.selects "java/util/BitSet" ({ cls := "java/util/BitSet", name := "nextSetBit", desc := "(I)I" } : Jvm.MethodName) ({ cls := "java/util/BitSet", name := "nextSetBit", desc := "(I)I" } : Jvm.MethodName)) ∈ lw_all := lw_g (lw_at lw_m10 24 rfl) rfl
theorem q2271 : (Jvm.Cond.code ({ cls := "java/util/BitSet", name := "nextSetBit", desc := "(I)I" } : Jvm.MethodName) prog_67_method_28_code (5 : Nat) (Option.some Jvm.ClassFile.FieldType.int)) ∈ lw_all := lw_g (lw_at lw_m10 25 rfl) rfl
theorem q3101 : (Jvm.Cond.instanceMethod ({ cls := "java/util/BitSet", name := "set", desc := "(II)V" } : Jvm.MethodName)) ∈ lw_all := lw_g (lw_at lw_m13 135 rfl) rfl
theorem q3102 : (Jvm.Cond.selects "java/util/BitSet" ({ cls := "java/util/BitSet", name := "set", desc := "(II)V" } : Jvm.MethodName) ({ cls := "java/util/BitSet", name := "set", desc := "(II)V" } : Jvm.MethodName)) ∈ lw_all := lw_g (lw_at lw_m13 136 rfl) rfl
theorem q3103 : (Jvm.Cond.code ({ cls := "java/util/BitSet", name := "set", desc := "(II)V" } : Jvm.MethodName) prog_67_method_21_code (10 : Nat) (Option.none : Option Jvm.ClassFile.FieldType)) ∈ lw_all := lw_g (lw_at lw_m13 137 rfl) rfl
theorem q3104 : (Jvm.Cond.methodLink "java/util/BitSet" (161 : Nat) ({ cls := "java/util/BitSet", name := "checkRange", desc := "(II)V" } : Jvm.MethodName)) ∈ lw_all := lw_g (lw_at lw_m13 138 rfl) rfl
theorem q3105 : (Jvm.Cond.static ({ cls := "java/util/BitSet", name := "checkRange", desc := "(II)V" } : Jvm.MethodName)) ∈ lw_all := lw_g (lw_at lw_m13 139 rfl) rfl
theorem q3106 : (Jvm.Cond.code ({ cls := "java/util/BitSet", name := "checkRange", desc := "(II)V" } : Jvm.MethodName) prog_67_method_16_code (2 : Nat) (Option.none : Option Jvm.ClassFile.FieldType)) ∈ lw_all := lw_g (lw_at lw_m13 140 rfl) rfl
theorem q3107 : (Jvm.Cond.stringRef "java/util/BitSet" (147 : Nat) "toIndex < 0: ") ∈ lw_tbl := lw_at lw_m13 141 rfl
theorem q3108 : (Jvm.Cond.stringRef "java/util/BitSet" (149 : Nat) "fromIndex: ") ∈ lw_tbl := lw_at lw_m13 142 rfl
theorem q3109 : (Jvm.Cond.stringRef "java/util/BitSet" (151 : Nat) " > toIndex: ") ∈ lw_tbl := lw_at lw_m13 143 rfl
theorem q3825 : (Jvm.Cond.castable "java/util/BitSet" "java/lang/Object") ∈ lw_tbl := lw_at lw_m16 139 rfl
theorem in_J37 : ∀ w ∈ wsJ370, w ∈ lw_all := lw_in wsJ370 [1806, 1808, 1810] (by decide +kernel) (by decide +kernel)
/-! java/lang/Long -/
set_option maxRecDepth 100000
def RJ38 : String := "java/lang/Long"
abbrev cJ38_bitCount : ByteArray := prog_43_method_50_code
def yJ38_bitCount : MethodName := ⟨RJ38, "bitCount", "(J)I"⟩
def dkwJ38_bitCount_2 : List UInt8 := [30, 30, 16, 32, 125, 97, 63, 30, 136, 16, 127, 126, 172]
abbrev dktJ38_bitCount_2 : List UInt8 := dkwJ38_bitCount_2 ++ []
def dkwJ38_bitCount_1 : List UInt8 := [30, 30, 7, 125, 97, 20, 1, 62, 127, 63, 30, 30, 16, 8, 125, 97, 63, 30, 30, 16, 16, 125, 97, 63]
abbrev dktJ38_bitCount_1 : List UInt8 := dkwJ38_bitCount_1 ++ dktJ38_bitCount_2
def dkwJ38_bitCount_0 : List UInt8 := [30, 30, 4, 125, 20, 1, 58, 127, 101, 63, 30, 20, 1, 60, 127, 30, 5, 125, 20, 1, 60, 127, 97, 63]
abbrev dktJ38_bitCount_0 : List UInt8 := dkwJ38_bitCount_0 ++ dktJ38_bitCount_1
theorem dksJ38_bitCount_0 : cJ38_bitCount.data.toList.drop 0 = dktJ38_bitCount_0 := by decide +kernel
theorem dksJ38_bitCount_1 : cJ38_bitCount.data.toList.drop 24 = dktJ38_bitCount_1 := dk_seg dksJ38_bitCount_0 24 rfl rfl
theorem dksJ38_bitCount_2 : cJ38_bitCount.data.toList.drop 48 = dktJ38_bitCount_2 := dk_seg dksJ38_bitCount_1 24 rfl rfl
theorem dJ38_bitCount_0 : decode cJ38_bitCount 0 = .ok (.lload_n 0, 1) := dk_30 (dk_at dksJ38_bitCount_0 0 rfl rfl)
theorem dJ38_bitCount_1 : decode cJ38_bitCount 1 = .ok (.lload_n 0, 1) := dk_30 (dk_at dksJ38_bitCount_0 1 rfl rfl)
theorem dJ38_bitCount_2 : decode cJ38_bitCount 2 = .ok (.iconst 1, 1) := dk_4 (dk_at dksJ38_bitCount_0 2 rfl rfl)
theorem dJ38_bitCount_3 : decode cJ38_bitCount 3 = .ok (.lushr, 1) := dk_125 (dk_at dksJ38_bitCount_0 3 rfl rfl)
theorem dJ38_bitCount_4 : decode cJ38_bitCount 4 = .ok (.ldc2_w 314, 3) := dk_20 1 58 (dk_at dksJ38_bitCount_0 4 rfl rfl)
theorem dJ38_bitCount_7 : decode cJ38_bitCount 7 = .ok (.land, 1) := dk_127 (dk_at dksJ38_bitCount_0 7 rfl rfl)
theorem dJ38_bitCount_8 : decode cJ38_bitCount 8 = .ok (.lsub, 1) := dk_101 (dk_at dksJ38_bitCount_0 8 rfl rfl)
theorem dJ38_bitCount_9 : decode cJ38_bitCount 9 = .ok (.lstore_n 0, 1) := dk_63 (dk_at dksJ38_bitCount_0 9 rfl rfl)
theorem dJ38_bitCount_10 : decode cJ38_bitCount 10 = .ok (.lload_n 0, 1) := dk_30 (dk_at dksJ38_bitCount_0 10 rfl rfl)
theorem dJ38_bitCount_11 : decode cJ38_bitCount 11 = .ok (.ldc2_w 316, 3) := dk_20 1 60 (dk_at dksJ38_bitCount_0 11 rfl rfl)
theorem dJ38_bitCount_14 : decode cJ38_bitCount 14 = .ok (.land, 1) := dk_127 (dk_at dksJ38_bitCount_0 14 rfl rfl)
theorem dJ38_bitCount_15 : decode cJ38_bitCount 15 = .ok (.lload_n 0, 1) := dk_30 (dk_at dksJ38_bitCount_0 15 rfl rfl)
theorem dJ38_bitCount_16 : decode cJ38_bitCount 16 = .ok (.iconst 2, 1) := dk_5 (dk_at dksJ38_bitCount_0 16 rfl rfl)
theorem dJ38_bitCount_17 : decode cJ38_bitCount 17 = .ok (.lushr, 1) := dk_125 (dk_at dksJ38_bitCount_0 17 rfl rfl)
theorem dJ38_bitCount_18 : decode cJ38_bitCount 18 = .ok (.ldc2_w 316, 3) := dk_20 1 60 (dk_at dksJ38_bitCount_0 18 rfl rfl)
theorem dJ38_bitCount_21 : decode cJ38_bitCount 21 = .ok (.land, 1) := dk_127 (dk_at dksJ38_bitCount_0 21 rfl rfl)
theorem dJ38_bitCount_22 : decode cJ38_bitCount 22 = .ok (.ladd, 1) := dk_97 (dk_at dksJ38_bitCount_0 22 rfl rfl)
theorem dJ38_bitCount_23 : decode cJ38_bitCount 23 = .ok (.lstore_n 0, 1) := dk_63 (dk_at dksJ38_bitCount_0 23 rfl rfl)
theorem dJ38_bitCount_24 : decode cJ38_bitCount 24 = .ok (.lload_n 0, 1) := dk_30 (dk_at dksJ38_bitCount_1 0 rfl rfl)
theorem dJ38_bitCount_25 : decode cJ38_bitCount 25 = .ok (.lload_n 0, 1) := dk_30 (dk_at dksJ38_bitCount_1 1 rfl rfl)
theorem dJ38_bitCount_26 : decode cJ38_bitCount 26 = .ok (.iconst 4, 1) := dk_7 (dk_at dksJ38_bitCount_1 2 rfl rfl)
theorem dJ38_bitCount_27 : decode cJ38_bitCount 27 = .ok (.lushr, 1) := dk_125 (dk_at dksJ38_bitCount_1 3 rfl rfl)
theorem dJ38_bitCount_28 : decode cJ38_bitCount 28 = .ok (.ladd, 1) := dk_97 (dk_at dksJ38_bitCount_1 4 rfl rfl)
theorem dJ38_bitCount_29 : decode cJ38_bitCount 29 = .ok (.ldc2_w 318, 3) := dk_20 1 62 (dk_at dksJ38_bitCount_1 5 rfl rfl)
theorem dJ38_bitCount_32 : decode cJ38_bitCount 32 = .ok (.land, 1) := dk_127 (dk_at dksJ38_bitCount_1 8 rfl rfl)
theorem dJ38_bitCount_33 : decode cJ38_bitCount 33 = .ok (.lstore_n 0, 1) := dk_63 (dk_at dksJ38_bitCount_1 9 rfl rfl)
theorem dJ38_bitCount_34 : decode cJ38_bitCount 34 = .ok (.lload_n 0, 1) := dk_30 (dk_at dksJ38_bitCount_1 10 rfl rfl)
theorem dJ38_bitCount_35 : decode cJ38_bitCount 35 = .ok (.lload_n 0, 1) := dk_30 (dk_at dksJ38_bitCount_1 11 rfl rfl)
theorem dJ38_bitCount_36 : decode cJ38_bitCount 36 = .ok (.bipush 8, 2) := dk_16 8 (dk_at dksJ38_bitCount_1 12 rfl rfl)
theorem dJ38_bitCount_38 : decode cJ38_bitCount 38 = .ok (.lushr, 1) := dk_125 (dk_at dksJ38_bitCount_1 14 rfl rfl)
theorem dJ38_bitCount_39 : decode cJ38_bitCount 39 = .ok (.ladd, 1) := dk_97 (dk_at dksJ38_bitCount_1 15 rfl rfl)
theorem dJ38_bitCount_40 : decode cJ38_bitCount 40 = .ok (.lstore_n 0, 1) := dk_63 (dk_at dksJ38_bitCount_1 16 rfl rfl)
theorem dJ38_bitCount_41 : decode cJ38_bitCount 41 = .ok (.lload_n 0, 1) := dk_30 (dk_at dksJ38_bitCount_1 17 rfl rfl)
theorem dJ38_bitCount_42 : decode cJ38_bitCount 42 = .ok (.lload_n 0, 1) := dk_30 (dk_at dksJ38_bitCount_1 18 rfl rfl)
theorem dJ38_bitCount_43 : decode cJ38_bitCount 43 = .ok (.bipush 16, 2) := dk_16 16 (dk_at dksJ38_bitCount_1 19 rfl rfl)
theorem dJ38_bitCount_45 : decode cJ38_bitCount 45 = .ok (.lushr, 1) := dk_125 (dk_at dksJ38_bitCount_1 21 rfl rfl)
theorem dJ38_bitCount_46 : decode cJ38_bitCount 46 = .ok (.ladd, 1) := dk_97 (dk_at dksJ38_bitCount_1 22 rfl rfl)
theorem dJ38_bitCount_47 : decode cJ38_bitCount 47 = .ok (.lstore_n 0, 1) := dk_63 (dk_at dksJ38_bitCount_1 23 rfl rfl)
theorem dJ38_bitCount_48 : decode cJ38_bitCount 48 = .ok (.lload_n 0, 1) := dk_30 (dk_at dksJ38_bitCount_2 0 rfl rfl)
theorem dJ38_bitCount_49 : decode cJ38_bitCount 49 = .ok (.lload_n 0, 1) := dk_30 (dk_at dksJ38_bitCount_2 1 rfl rfl)
theorem dJ38_bitCount_50 : decode cJ38_bitCount 50 = .ok (.bipush 32, 2) := dk_16 32 (dk_at dksJ38_bitCount_2 2 rfl rfl)
theorem dJ38_bitCount_52 : decode cJ38_bitCount 52 = .ok (.lushr, 1) := dk_125 (dk_at dksJ38_bitCount_2 4 rfl rfl)
theorem dJ38_bitCount_53 : decode cJ38_bitCount 53 = .ok (.ladd, 1) := dk_97 (dk_at dksJ38_bitCount_2 5 rfl rfl)
theorem dJ38_bitCount_54 : decode cJ38_bitCount 54 = .ok (.lstore_n 0, 1) := dk_63 (dk_at dksJ38_bitCount_2 6 rfl rfl)
theorem dJ38_bitCount_55 : decode cJ38_bitCount 55 = .ok (.lload_n 0, 1) := dk_30 (dk_at dksJ38_bitCount_2 7 rfl rfl)
theorem dJ38_bitCount_56 : decode cJ38_bitCount 56 = .ok (.l2i, 1) := dk_136 (dk_at dksJ38_bitCount_2 8 rfl rfl)
theorem dJ38_bitCount_57 : decode cJ38_bitCount 57 = .ok (.bipush 127, 2) := dk_16 127 (dk_at dksJ38_bitCount_2 9 rfl rfl)
theorem dJ38_bitCount_59 : decode cJ38_bitCount 59 = .ok (.iand, 1) := dk_126 (dk_at dksJ38_bitCount_2 11 rfl rfl)
theorem dJ38_bitCount_60 : decode cJ38_bitCount 60 = .ok (.ireturn, 1) := dk_172 (dk_at dksJ38_bitCount_2 12 rfl rfl)
abbrev cJ38_numberOfTrailingZeros : ByteArray := prog_43_method_49_code
def yJ38_numberOfTrailingZeros : MethodName := ⟨RJ38, "numberOfTrailingZeros", "(J)I"⟩
def dkwJ38_numberOfTrailingZeros_1 : List UInt8 := [184, 1, 55, 172]
abbrev dktJ38_numberOfTrailingZeros_1 : List UInt8 := dkwJ38_numberOfTrailingZeros_1 ++ []
def dkwJ38_numberOfTrailingZeros_0 : List UInt8 := [30, 136, 61, 28, 154, 0, 17, 16, 32, 30, 16, 32, 125, 136, 184, 1, 55, 96, 167, 0, 7, 28]
abbrev dktJ38_numberOfTrailingZeros_0 : List UInt8 := dkwJ38_numberOfTrailingZeros_0 ++ dktJ38_numberOfTrailingZeros_1
theorem dksJ38_numberOfTrailingZeros_0 : cJ38_numberOfTrailingZeros.data.toList.drop 0 = dktJ38_numberOfTrailingZeros_0 := by decide +kernel
theorem dksJ38_numberOfTrailingZeros_1 : cJ38_numberOfTrailingZeros.data.toList.drop 22 = dktJ38_numberOfTrailingZeros_1 := dk_seg dksJ38_numberOfTrailingZeros_0 22 rfl rfl
theorem dJ38_numberOfTrailingZeros_0 : decode cJ38_numberOfTrailingZeros 0 = .ok (.lload_n 0, 1) := dk_30 (dk_at dksJ38_numberOfTrailingZeros_0 0 rfl rfl)
theorem dJ38_numberOfTrailingZeros_1 : decode cJ38_numberOfTrailingZeros 1 = .ok (.l2i, 1) := dk_136 (dk_at dksJ38_numberOfTrailingZeros_0 1 rfl rfl)
theorem dJ38_numberOfTrailingZeros_2 : decode cJ38_numberOfTrailingZeros 2 = .ok (.istore_n 2, 1) := dk_61 (dk_at dksJ38_numberOfTrailingZeros_0 2 rfl rfl)
theorem dJ38_numberOfTrailingZeros_3 : decode cJ38_numberOfTrailingZeros 3 = .ok (.iload_n 2, 1) := dk_28 (dk_at dksJ38_numberOfTrailingZeros_0 3 rfl rfl)
theorem dJ38_numberOfTrailingZeros_4 : decode cJ38_numberOfTrailingZeros 4 = .ok (.ifCond .ne 17, 3) := dk_154 0 17 (dk_at dksJ38_numberOfTrailingZeros_0 4 rfl rfl)
theorem dJ38_numberOfTrailingZeros_7 : decode cJ38_numberOfTrailingZeros 7 = .ok (.bipush 32, 2) := dk_16 32 (dk_at dksJ38_numberOfTrailingZeros_0 7 rfl rfl)
theorem dJ38_numberOfTrailingZeros_9 : decode cJ38_numberOfTrailingZeros 9 = .ok (.lload_n 0, 1) := dk_30 (dk_at dksJ38_numberOfTrailingZeros_0 9 rfl rfl)
theorem dJ38_numberOfTrailingZeros_10 : decode cJ38_numberOfTrailingZeros 10 = .ok (.bipush 32, 2) := dk_16 32 (dk_at dksJ38_numberOfTrailingZeros_0 10 rfl rfl)
theorem dJ38_numberOfTrailingZeros_12 : decode cJ38_numberOfTrailingZeros 12 = .ok (.lushr, 1) := dk_125 (dk_at dksJ38_numberOfTrailingZeros_0 12 rfl rfl)
theorem dJ38_numberOfTrailingZeros_13 : decode cJ38_numberOfTrailingZeros 13 = .ok (.l2i, 1) := dk_136 (dk_at dksJ38_numberOfTrailingZeros_0 13 rfl rfl)
theorem dJ38_numberOfTrailingZeros_14 : decode cJ38_numberOfTrailingZeros 14 = .ok (.invokestatic 311, 3) := dk_184 1 55 (dk_at dksJ38_numberOfTrailingZeros_0 14 rfl rfl)
theorem dJ38_numberOfTrailingZeros_17 : decode cJ38_numberOfTrailingZeros 17 = .ok (.iadd, 1) := dk_96 (dk_at dksJ38_numberOfTrailingZeros_0 17 rfl rfl)
theorem dJ38_numberOfTrailingZeros_18 : decode cJ38_numberOfTrailingZeros 18 = .ok (.goto 7, 3) := dk_167 0 7 (dk_at dksJ38_numberOfTrailingZeros_0 18 rfl rfl)
theorem dJ38_numberOfTrailingZeros_21 : decode cJ38_numberOfTrailingZeros 21 = .ok (.iload_n 2, 1) := dk_28 (dk_at dksJ38_numberOfTrailingZeros_0 21 rfl rfl)
theorem dJ38_numberOfTrailingZeros_22 : decode cJ38_numberOfTrailingZeros 22 = .ok (.invokestatic 311, 3) := dk_184 1 55 (dk_at dksJ38_numberOfTrailingZeros_1 0 rfl rfl)
theorem dJ38_numberOfTrailingZeros_25 : decode cJ38_numberOfTrailingZeros 25 = .ok (.ireturn, 1) := dk_172 (dk_at dksJ38_numberOfTrailingZeros_1 3 rfl rfl)
abbrev cJ38_numberOfLeadingZeros : ByteArray := prog_43_method_48_code
def yJ38_numberOfLeadingZeros : MethodName := ⟨RJ38, "numberOfLeadingZeros", "(J)I"⟩
def dkwJ38_numberOfLeadingZeros_1 : List UInt8 := [184, 1, 52, 172]
abbrev dktJ38_numberOfLeadingZeros_1 : List UInt8 := dkwJ38_numberOfLeadingZeros_1 ++ []
def dkwJ38_numberOfLeadingZeros_0 : List UInt8 := [30, 16, 32, 125, 136, 61, 28, 154, 0, 14, 16, 32, 30, 136, 184, 1, 52, 96, 167, 0, 7, 28]
abbrev dktJ38_numberOfLeadingZeros_0 : List UInt8 := dkwJ38_numberOfLeadingZeros_0 ++ dktJ38_numberOfLeadingZeros_1
theorem dksJ38_numberOfLeadingZeros_0 : cJ38_numberOfLeadingZeros.data.toList.drop 0 = dktJ38_numberOfLeadingZeros_0 := by decide +kernel
theorem dksJ38_numberOfLeadingZeros_1 : cJ38_numberOfLeadingZeros.data.toList.drop 22 = dktJ38_numberOfLeadingZeros_1 := dk_seg dksJ38_numberOfLeadingZeros_0 22 rfl rfl
theorem dJ38_numberOfLeadingZeros_0 : decode cJ38_numberOfLeadingZeros 0 = .ok (.lload_n 0, 1) := dk_30 (dk_at dksJ38_numberOfLeadingZeros_0 0 rfl rfl)
theorem dJ38_numberOfLeadingZeros_1 : decode cJ38_numberOfLeadingZeros 1 = .ok (.bipush 32, 2) := dk_16 32 (dk_at dksJ38_numberOfLeadingZeros_0 1 rfl rfl)
theorem dJ38_numberOfLeadingZeros_3 : decode cJ38_numberOfLeadingZeros 3 = .ok (.lushr, 1) := dk_125 (dk_at dksJ38_numberOfLeadingZeros_0 3 rfl rfl)
theorem dJ38_numberOfLeadingZeros_4 : decode cJ38_numberOfLeadingZeros 4 = .ok (.l2i, 1) := dk_136 (dk_at dksJ38_numberOfLeadingZeros_0 4 rfl rfl)
theorem dJ38_numberOfLeadingZeros_5 : decode cJ38_numberOfLeadingZeros 5 = .ok (.istore_n 2, 1) := dk_61 (dk_at dksJ38_numberOfLeadingZeros_0 5 rfl rfl)
theorem dJ38_numberOfLeadingZeros_6 : decode cJ38_numberOfLeadingZeros 6 = .ok (.iload_n 2, 1) := dk_28 (dk_at dksJ38_numberOfLeadingZeros_0 6 rfl rfl)
theorem dJ38_numberOfLeadingZeros_7 : decode cJ38_numberOfLeadingZeros 7 = .ok (.ifCond .ne 14, 3) := dk_154 0 14 (dk_at dksJ38_numberOfLeadingZeros_0 7 rfl rfl)
theorem dJ38_numberOfLeadingZeros_10 : decode cJ38_numberOfLeadingZeros 10 = .ok (.bipush 32, 2) := dk_16 32 (dk_at dksJ38_numberOfLeadingZeros_0 10 rfl rfl)
theorem dJ38_numberOfLeadingZeros_12 : decode cJ38_numberOfLeadingZeros 12 = .ok (.lload_n 0, 1) := dk_30 (dk_at dksJ38_numberOfLeadingZeros_0 12 rfl rfl)
theorem dJ38_numberOfLeadingZeros_13 : decode cJ38_numberOfLeadingZeros 13 = .ok (.l2i, 1) := dk_136 (dk_at dksJ38_numberOfLeadingZeros_0 13 rfl rfl)
theorem dJ38_numberOfLeadingZeros_14 : decode cJ38_numberOfLeadingZeros 14 = .ok (.invokestatic 308, 3) := dk_184 1 52 (dk_at dksJ38_numberOfLeadingZeros_0 14 rfl rfl)
theorem dJ38_numberOfLeadingZeros_17 : decode cJ38_numberOfLeadingZeros 17 = .ok (.iadd, 1) := dk_96 (dk_at dksJ38_numberOfLeadingZeros_0 17 rfl rfl)
theorem dJ38_numberOfLeadingZeros_18 : decode cJ38_numberOfLeadingZeros 18 = .ok (.goto 7, 3) := dk_167 0 7 (dk_at dksJ38_numberOfLeadingZeros_0 18 rfl rfl)
theorem dJ38_numberOfLeadingZeros_21 : decode cJ38_numberOfLeadingZeros 21 = .ok (.iload_n 2, 1) := dk_28 (dk_at dksJ38_numberOfLeadingZeros_0 21 rfl rfl)
theorem dJ38_numberOfLeadingZeros_22 : decode cJ38_numberOfLeadingZeros 22 = .ok (.invokestatic 308, 3) := dk_184 1 52 (dk_at dksJ38_numberOfLeadingZeros_1 0 rfl rfl)
theorem dJ38_numberOfLeadingZeros_25 : decode cJ38_numberOfLeadingZeros 25 = .ok (.ireturn, 1) := dk_172 (dk_at dksJ38_numberOfLeadingZeros_1 3 rfl rfl)
theorem q143 : (Jvm.Cond.initialized "java/lang/Long") ∈ lw_all := lw_g (lw_at lw_m1 57 rfl) rfl
theorem q1875 : (Jvm.Cond.static ({ cls := "java/lang/Long", name := "bitCount", desc := "(J)I" } : Jvm.MethodName)) ∈ lw_all := lw_g (lw_at lw_m8 109 rfl) rfl
theorem q1876 : (Jvm.Cond.code ({ cls := "java/lang/Long", name := "bitCount", desc := "(J)I" } : Jvm.MethodName) prog_43_method_50_code (2 : Nat) (Option.some Jvm.ClassFile.FieldType.int)) ∈ lw_all := lw_g (lw_at lw_m8 110 rfl) rfl
theorem q1877 : (Jvm.Cond.constantLong "java/lang/Long" (314 : Nat) (6148914691236517205 : Int64)) ∈ lw_all := lw_g (lw_at lw_m8 111 rfl) rfl
theorem q1878 : (Jvm.Cond.constantLong "java/lang/Long" (316 : Nat) (3689348814741910323 : Int64)) ∈ lw_all := lw_g (lw_at lw_m8 112 rfl) rfl
theorem q1879 : (Jvm.Cond.constantLong "java/lang/Long" (318 : Nat) (1085102592571150095 : Int64)) ∈ lw_all := lw_g (lw_at lw_m8 113 rfl) rfl
theorem q1891 : (Jvm.Cond.static ({ cls := "java/lang/Long", name := "numberOfTrailingZeros", desc := "(J)I" } : Jvm.MethodName)) ∈ lw_all := lw_g (lw_at lw_m8 125 rfl) rfl
theorem q1892 : (Jvm.Cond.code ({ cls := "java/lang/Long", name := "numberOfTrailingZeros", desc := "(J)I" } : Jvm.MethodName) prog_43_method_49_code (3 : Nat) (Option.some Jvm.ClassFile.FieldType.int)) ∈ lw_all := lw_g (lw_at lw_m8 126 rfl) rfl
theorem q1893 : (Jvm.Cond.methodLink "java/lang/Long" (311 : Nat) ({ cls := "java/lang/Integer", name := "numberOfTrailingZeros", desc := "(I)I" } : Jvm.MethodName)) ∈ lw_all := lw_g (lw_at lw_m8 127 rfl) rfl
theorem q2910 : (Jvm.Cond.static ({ cls := "java/lang/Long", name := "numberOfLeadingZeros", desc := "(J)I" } : Jvm.MethodName)) ∈ lw_all := lw_g (lw_at lw_m12 184 rfl) rfl
theorem q2911 : (Jvm.Cond.code ({ cls := "java/lang/Long", name := "numberOfLeadingZeros", desc := "(J)I" } : Jvm.MethodName) prog_43_method_48_code (3 : Nat) (Option.some Jvm.ClassFile.FieldType.int)) ∈ lw_all := lw_g (lw_at lw_m12 185 rfl) rfl
theorem q2912 : (Jvm.Cond.methodLink "java/lang/Long" (308 : Nat) ({ cls := "java/lang/Integer", name := "numberOfLeadingZeros", desc := "(I)I" } : Jvm.MethodName)) ∈ lw_all := lw_g (lw_at lw_m12 186 rfl) rfl
/-! java/util/ArrayDeque$DeqIterator -/
set_option maxRecDepth 100000
def RJ39 : String := "java/util/ArrayDeque$DeqIterator"
def TJ39 : u_T := fun k => match k with
  | 0 => ("java/util/ArrayDeque$DeqIterator", "cursor", "I", false)
  | 1 => ("java/util/ArrayDeque$DeqIterator", "remaining", "I", false)
  | 2 => ("java/util/ArrayDeque$DeqIterator", "lastRet", "I", false)
  | _ => ("java/util/ArrayDeque$DeqIterator", "this$0", "Ljava/util/ArrayDeque;", true)
def tyJ39 : Nat → FieldType := fun k => match k with
  | 0 => .int
  | 1 => .int
  | 2 => .int
  | _ => .object "java/util/ArrayDeque"
abbrev wsJ390 : List Cond := u_ws RJ39 TJ39 4
theorem nmJ39 : ∀ a, a < 4 → ∀ b, b < 4 → a ≠ b → (TJ39 a).2.1 ≠ (TJ39 b).2.1 := by decide +kernel
theorem tyJ39_ok : ∀ k, k < 4 → parseFieldDescriptor (TJ39 k).2.2.1 = some (tyJ39 k) := by decide +kernel
abbrev cJ39_hasNext : ByteArray := prog_62_method_2_code
def yJ39_hasNext : MethodName := ⟨RJ39, "hasNext", "()Z"⟩
def dkwJ39_hasNext_0 : List UInt8 := [42, 180, 0, 19, 158, 0, 7, 4, 167, 0, 4, 3, 172]
abbrev dktJ39_hasNext_0 : List UInt8 := dkwJ39_hasNext_0 ++ []
theorem dksJ39_hasNext_0 : cJ39_hasNext.data.toList.drop 0 = dktJ39_hasNext_0 := by decide +kernel
theorem dJ39_hasNext_0 : decode cJ39_hasNext 0 = .ok (.aload_n 0, 1) := dk_42 (dk_at dksJ39_hasNext_0 0 rfl rfl)
theorem dJ39_hasNext_1 : decode cJ39_hasNext 1 = .ok (.getfield 19, 3) := dk_180 0 19 (dk_at dksJ39_hasNext_0 1 rfl rfl)
theorem dJ39_hasNext_4 : decode cJ39_hasNext 4 = .ok (.ifCond .le 7, 3) := dk_158 0 7 (dk_at dksJ39_hasNext_0 4 rfl rfl)
theorem dJ39_hasNext_7 : decode cJ39_hasNext 7 = .ok (.iconst 1, 1) := dk_4 (dk_at dksJ39_hasNext_0 7 rfl rfl)
theorem dJ39_hasNext_8 : decode cJ39_hasNext 8 = .ok (.goto 4, 3) := dk_167 0 4 (dk_at dksJ39_hasNext_0 8 rfl rfl)
theorem dJ39_hasNext_11 : decode cJ39_hasNext 11 = .ok (.iconst 0, 1) := dk_3 (dk_at dksJ39_hasNext_0 11 rfl rfl)
theorem dJ39_hasNext_12 : decode cJ39_hasNext 12 = .ok (.ireturn, 1) := dk_172 (dk_at dksJ39_hasNext_0 12 rfl rfl)
abbrev cJ39_next : ByteArray := prog_62_method_3_code
def yJ39_next : MethodName := ⟨RJ39, "next", "()Ljava/lang/Object;"⟩
def dkwJ39_next_2 : List UInt8 := [181, 0, 29, 42, 89, 180, 0, 19, 4, 100, 181, 0, 19, 44, 176]
abbrev dktJ39_next_2 : List UInt8 := dkwJ39_next_2 ++ []
def dkwJ39_next_1 : List UInt8 := [42, 180, 0, 29, 184, 0, 39, 77, 42, 42, 42, 180, 0, 29, 90, 181, 0, 23, 43, 190, 184, 0, 43]
abbrev dktJ39_next_1 : List UInt8 := dkwJ39_next_1 ++ dktJ39_next_2
def dkwJ39_next_0 : List UInt8 := [42, 180, 0, 19, 157, 0, 11, 187, 0, 32, 89, 183, 0, 34, 191, 42, 180, 0, 1, 180, 0, 35, 76, 43]
abbrev dktJ39_next_0 : List UInt8 := dkwJ39_next_0 ++ dktJ39_next_1
theorem dksJ39_next_0 : cJ39_next.data.toList.drop 0 = dktJ39_next_0 := by decide +kernel
theorem dksJ39_next_1 : cJ39_next.data.toList.drop 24 = dktJ39_next_1 := dk_seg dksJ39_next_0 24 rfl rfl
theorem dksJ39_next_2 : cJ39_next.data.toList.drop 47 = dktJ39_next_2 := dk_seg dksJ39_next_1 23 rfl rfl
theorem dJ39_next_0 : decode cJ39_next 0 = .ok (.aload_n 0, 1) := dk_42 (dk_at dksJ39_next_0 0 rfl rfl)
theorem dJ39_next_1 : decode cJ39_next 1 = .ok (.getfield 19, 3) := dk_180 0 19 (dk_at dksJ39_next_0 1 rfl rfl)
theorem dJ39_next_4 : decode cJ39_next 4 = .ok (.ifCond .gt 11, 3) := dk_157 0 11 (dk_at dksJ39_next_0 4 rfl rfl)
theorem dJ39_next_7 : decode cJ39_next 7 = .ok (.new 32, 3) := dk_187 0 32 (dk_at dksJ39_next_0 7 rfl rfl)
theorem dJ39_next_10 : decode cJ39_next 10 = .ok (.dup, 1) := dk_89 (dk_at dksJ39_next_0 10 rfl rfl)
theorem dJ39_next_11 : decode cJ39_next 11 = .ok (.invokespecial 34, 3) := dk_183 0 34 (dk_at dksJ39_next_0 11 rfl rfl)
theorem dJ39_next_14 : decode cJ39_next 14 = .ok (.athrow, 1) := dk_191 (dk_at dksJ39_next_0 14 rfl rfl)
theorem dJ39_next_15 : decode cJ39_next 15 = .ok (.aload_n 0, 1) := dk_42 (dk_at dksJ39_next_0 15 rfl rfl)
theorem dJ39_next_16 : decode cJ39_next 16 = .ok (.getfield 1, 3) := dk_180 0 1 (dk_at dksJ39_next_0 16 rfl rfl)
theorem dJ39_next_19 : decode cJ39_next 19 = .ok (.getfield 35, 3) := dk_180 0 35 (dk_at dksJ39_next_0 19 rfl rfl)
theorem dJ39_next_22 : decode cJ39_next 22 = .ok (.astore_n 1, 1) := dk_76 (dk_at dksJ39_next_0 22 rfl rfl)
theorem dJ39_next_23 : decode cJ39_next 23 = .ok (.aload_n 1, 1) := dk_43 (dk_at dksJ39_next_0 23 rfl rfl)
theorem dJ39_next_24 : decode cJ39_next 24 = .ok (.aload_n 0, 1) := dk_42 (dk_at dksJ39_next_1 0 rfl rfl)
theorem dJ39_next_25 : decode cJ39_next 25 = .ok (.getfield 29, 3) := dk_180 0 29 (dk_at dksJ39_next_1 1 rfl rfl)
theorem dJ39_next_28 : decode cJ39_next 28 = .ok (.invokestatic 39, 3) := dk_184 0 39 (dk_at dksJ39_next_1 4 rfl rfl)
theorem dJ39_next_31 : decode cJ39_next 31 = .ok (.astore_n 2, 1) := dk_77 (dk_at dksJ39_next_1 7 rfl rfl)
theorem dJ39_next_32 : decode cJ39_next 32 = .ok (.aload_n 0, 1) := dk_42 (dk_at dksJ39_next_1 8 rfl rfl)
theorem dJ39_next_33 : decode cJ39_next 33 = .ok (.aload_n 0, 1) := dk_42 (dk_at dksJ39_next_1 9 rfl rfl)
theorem dJ39_next_34 : decode cJ39_next 34 = .ok (.aload_n 0, 1) := dk_42 (dk_at dksJ39_next_1 10 rfl rfl)
theorem dJ39_next_35 : decode cJ39_next 35 = .ok (.getfield 29, 3) := dk_180 0 29 (dk_at dksJ39_next_1 11 rfl rfl)
theorem dJ39_next_38 : decode cJ39_next 38 = .ok (.dup_x1, 1) := dk_90 (dk_at dksJ39_next_1 14 rfl rfl)
theorem dJ39_next_39 : decode cJ39_next 39 = .ok (.putfield 23, 3) := dk_181 0 23 (dk_at dksJ39_next_1 15 rfl rfl)
theorem dJ39_next_42 : decode cJ39_next 42 = .ok (.aload_n 1, 1) := dk_43 (dk_at dksJ39_next_1 18 rfl rfl)
theorem dJ39_next_43 : decode cJ39_next 43 = .ok (.arraylength, 1) := dk_190 (dk_at dksJ39_next_1 19 rfl rfl)
theorem dJ39_next_44 : decode cJ39_next 44 = .ok (.invokestatic 43, 3) := dk_184 0 43 (dk_at dksJ39_next_1 20 rfl rfl)
theorem dJ39_next_47 : decode cJ39_next 47 = .ok (.putfield 29, 3) := dk_181 0 29 (dk_at dksJ39_next_2 0 rfl rfl)
theorem dJ39_next_50 : decode cJ39_next 50 = .ok (.aload_n 0, 1) := dk_42 (dk_at dksJ39_next_2 3 rfl rfl)
theorem dJ39_next_51 : decode cJ39_next 51 = .ok (.dup, 1) := dk_89 (dk_at dksJ39_next_2 4 rfl rfl)
theorem dJ39_next_52 : decode cJ39_next 52 = .ok (.getfield 19, 3) := dk_180 0 19 (dk_at dksJ39_next_2 5 rfl rfl)
theorem dJ39_next_55 : decode cJ39_next 55 = .ok (.iconst 1, 1) := dk_4 (dk_at dksJ39_next_2 8 rfl rfl)
theorem dJ39_next_56 : decode cJ39_next 56 = .ok (.isub, 1) := dk_100 (dk_at dksJ39_next_2 9 rfl rfl)
theorem dJ39_next_57 : decode cJ39_next 57 = .ok (.putfield 19, 3) := dk_181 0 19 (dk_at dksJ39_next_2 10 rfl rfl)
theorem dJ39_next_60 : decode cJ39_next 60 = .ok (.aload_n 2, 1) := dk_44 (dk_at dksJ39_next_2 13 rfl rfl)
theorem dJ39_next_61 : decode cJ39_next 61 = .ok (.areturn, 1) := dk_176 (dk_at dksJ39_next_2 14 rfl rfl)
abbrev cJ39_init : ByteArray := prog_62_method_1_code
def yJ39_init : MethodName := ⟨RJ39, "<init>", "(Ljava/util/ArrayDeque;)V"⟩
def dkwJ39_init_1 : List UInt8 := [181, 0, 23, 42, 43, 180, 0, 26, 181, 0, 29, 177]
abbrev dktJ39_init_1 : List UInt8 := dkwJ39_init_1 ++ []
def dkwJ39_init_0 : List UInt8 := [42, 43, 181, 0, 1, 42, 183, 0, 7, 42, 42, 180, 0, 1, 182, 0, 13, 181, 0, 19, 42, 2]
abbrev dktJ39_init_0 : List UInt8 := dkwJ39_init_0 ++ dktJ39_init_1
theorem dksJ39_init_0 : cJ39_init.data.toList.drop 0 = dktJ39_init_0 := by decide +kernel
theorem dksJ39_init_1 : cJ39_init.data.toList.drop 22 = dktJ39_init_1 := dk_seg dksJ39_init_0 22 rfl rfl
theorem dJ39_init_0 : decode cJ39_init 0 = .ok (.aload_n 0, 1) := dk_42 (dk_at dksJ39_init_0 0 rfl rfl)
theorem dJ39_init_1 : decode cJ39_init 1 = .ok (.aload_n 1, 1) := dk_43 (dk_at dksJ39_init_0 1 rfl rfl)
theorem dJ39_init_2 : decode cJ39_init 2 = .ok (.putfield 1, 3) := dk_181 0 1 (dk_at dksJ39_init_0 2 rfl rfl)
theorem dJ39_init_5 : decode cJ39_init 5 = .ok (.aload_n 0, 1) := dk_42 (dk_at dksJ39_init_0 5 rfl rfl)
theorem dJ39_init_6 : decode cJ39_init 6 = .ok (.invokespecial 7, 3) := dk_183 0 7 (dk_at dksJ39_init_0 6 rfl rfl)
theorem dJ39_init_9 : decode cJ39_init 9 = .ok (.aload_n 0, 1) := dk_42 (dk_at dksJ39_init_0 9 rfl rfl)
theorem dJ39_init_10 : decode cJ39_init 10 = .ok (.aload_n 0, 1) := dk_42 (dk_at dksJ39_init_0 10 rfl rfl)
theorem dJ39_init_11 : decode cJ39_init 11 = .ok (.getfield 1, 3) := dk_180 0 1 (dk_at dksJ39_init_0 11 rfl rfl)
theorem dJ39_init_14 : decode cJ39_init 14 = .ok (.invokevirtual 13, 3) := dk_182 0 13 (dk_at dksJ39_init_0 14 rfl rfl)
theorem dJ39_init_17 : decode cJ39_init 17 = .ok (.putfield 19, 3) := dk_181 0 19 (dk_at dksJ39_init_0 17 rfl rfl)
theorem dJ39_init_20 : decode cJ39_init 20 = .ok (.aload_n 0, 1) := dk_42 (dk_at dksJ39_init_0 20 rfl rfl)
theorem dJ39_init_21 : decode cJ39_init 21 = .ok (.iconst (-1), 1) := dk_2 (dk_at dksJ39_init_0 21 rfl rfl)
theorem dJ39_init_22 : decode cJ39_init 22 = .ok (.putfield 23, 3) := dk_181 0 23 (dk_at dksJ39_init_1 0 rfl rfl)
theorem dJ39_init_25 : decode cJ39_init 25 = .ok (.aload_n 0, 1) := dk_42 (dk_at dksJ39_init_1 3 rfl rfl)
theorem dJ39_init_26 : decode cJ39_init 26 = .ok (.aload_n 1, 1) := dk_43 (dk_at dksJ39_init_1 4 rfl rfl)
theorem dJ39_init_27 : decode cJ39_init 27 = .ok (.getfield 26, 3) := dk_180 0 26 (dk_at dksJ39_init_1 5 rfl rfl)
theorem dJ39_init_30 : decode cJ39_init 30 = .ok (.putfield 29, 3) := dk_181 0 29 (dk_at dksJ39_init_1 8 rfl rfl)
theorem dJ39_init_33 : decode cJ39_init 33 = .ok (.return_, 1) := dk_177 (dk_at dksJ39_init_1 11 rfl rfl)
abbrev cJ39_remove : ByteArray := prog_62_method_5_code
def yJ39_remove : MethodName := ⟨RJ39, "remove", "()V"⟩
def dkwJ39_remove_1 : List UInt8 := [182, 0, 53, 182, 0, 57, 42, 2, 181, 0, 23, 177]
abbrev dktJ39_remove_1 : List UInt8 := dkwJ39_remove_1 ++ []
def dkwJ39_remove_0 : List UInt8 := [42, 180, 0, 23, 156, 0, 11, 187, 0, 50, 89, 183, 0, 52, 191, 42, 42, 180, 0, 1, 42, 180, 0, 23]
abbrev dktJ39_remove_0 : List UInt8 := dkwJ39_remove_0 ++ dktJ39_remove_1
theorem dksJ39_remove_0 : cJ39_remove.data.toList.drop 0 = dktJ39_remove_0 := by decide +kernel
theorem dksJ39_remove_1 : cJ39_remove.data.toList.drop 24 = dktJ39_remove_1 := dk_seg dksJ39_remove_0 24 rfl rfl
theorem dJ39_remove_0 : decode cJ39_remove 0 = .ok (.aload_n 0, 1) := dk_42 (dk_at dksJ39_remove_0 0 rfl rfl)
theorem dJ39_remove_1 : decode cJ39_remove 1 = .ok (.getfield 23, 3) := dk_180 0 23 (dk_at dksJ39_remove_0 1 rfl rfl)
theorem dJ39_remove_4 : decode cJ39_remove 4 = .ok (.ifCond .ge 11, 3) := dk_156 0 11 (dk_at dksJ39_remove_0 4 rfl rfl)
theorem dJ39_remove_7 : decode cJ39_remove 7 = .ok (.new 50, 3) := dk_187 0 50 (dk_at dksJ39_remove_0 7 rfl rfl)
theorem dJ39_remove_10 : decode cJ39_remove 10 = .ok (.dup, 1) := dk_89 (dk_at dksJ39_remove_0 10 rfl rfl)
theorem dJ39_remove_11 : decode cJ39_remove 11 = .ok (.invokespecial 52, 3) := dk_183 0 52 (dk_at dksJ39_remove_0 11 rfl rfl)
theorem dJ39_remove_14 : decode cJ39_remove 14 = .ok (.athrow, 1) := dk_191 (dk_at dksJ39_remove_0 14 rfl rfl)
theorem dJ39_remove_15 : decode cJ39_remove 15 = .ok (.aload_n 0, 1) := dk_42 (dk_at dksJ39_remove_0 15 rfl rfl)
theorem dJ39_remove_16 : decode cJ39_remove 16 = .ok (.aload_n 0, 1) := dk_42 (dk_at dksJ39_remove_0 16 rfl rfl)
theorem dJ39_remove_17 : decode cJ39_remove 17 = .ok (.getfield 1, 3) := dk_180 0 1 (dk_at dksJ39_remove_0 17 rfl rfl)
theorem dJ39_remove_20 : decode cJ39_remove 20 = .ok (.aload_n 0, 1) := dk_42 (dk_at dksJ39_remove_0 20 rfl rfl)
theorem dJ39_remove_21 : decode cJ39_remove 21 = .ok (.getfield 23, 3) := dk_180 0 23 (dk_at dksJ39_remove_0 21 rfl rfl)
theorem dJ39_remove_24 : decode cJ39_remove 24 = .ok (.invokevirtual 53, 3) := dk_182 0 53 (dk_at dksJ39_remove_1 0 rfl rfl)
theorem dJ39_remove_27 : decode cJ39_remove 27 = .ok (.invokevirtual 57, 3) := dk_182 0 57 (dk_at dksJ39_remove_1 3 rfl rfl)
theorem dJ39_remove_30 : decode cJ39_remove 30 = .ok (.aload_n 0, 1) := dk_42 (dk_at dksJ39_remove_1 6 rfl rfl)
theorem dJ39_remove_31 : decode cJ39_remove 31 = .ok (.iconst (-1), 1) := dk_2 (dk_at dksJ39_remove_1 7 rfl rfl)
theorem dJ39_remove_32 : decode cJ39_remove 32 = .ok (.putfield 23, 3) := dk_181 0 23 (dk_at dksJ39_remove_1 8 rfl rfl)
theorem dJ39_remove_35 : decode cJ39_remove 35 = .ok (.return_, 1) := dk_177 (dk_at dksJ39_remove_1 11 rfl rfl)
abbrev cJ39_postDelete : ByteArray := prog_62_method_4_code
def yJ39_postDelete : MethodName := ⟨RJ39, "postDelete", "(Z)V"⟩
def dkwJ39_postDelete_0 : List UInt8 := [27, 153, 0, 22, 42, 42, 180, 0, 29, 42, 180, 0, 1, 180, 0, 35, 190, 184, 0, 47, 181, 0, 29, 177]
abbrev dktJ39_postDelete_0 : List UInt8 := dkwJ39_postDelete_0 ++ []
theorem dksJ39_postDelete_0 : cJ39_postDelete.data.toList.drop 0 = dktJ39_postDelete_0 := by decide +kernel
theorem dJ39_postDelete_0 : decode cJ39_postDelete 0 = .ok (.iload_n 1, 1) := dk_27 (dk_at dksJ39_postDelete_0 0 rfl rfl)
theorem dJ39_postDelete_1 : decode cJ39_postDelete 1 = .ok (.ifCond .eq 22, 3) := dk_153 0 22 (dk_at dksJ39_postDelete_0 1 rfl rfl)
theorem dJ39_postDelete_4 : decode cJ39_postDelete 4 = .ok (.aload_n 0, 1) := dk_42 (dk_at dksJ39_postDelete_0 4 rfl rfl)
theorem dJ39_postDelete_5 : decode cJ39_postDelete 5 = .ok (.aload_n 0, 1) := dk_42 (dk_at dksJ39_postDelete_0 5 rfl rfl)
theorem dJ39_postDelete_6 : decode cJ39_postDelete 6 = .ok (.getfield 29, 3) := dk_180 0 29 (dk_at dksJ39_postDelete_0 6 rfl rfl)
theorem dJ39_postDelete_9 : decode cJ39_postDelete 9 = .ok (.aload_n 0, 1) := dk_42 (dk_at dksJ39_postDelete_0 9 rfl rfl)
theorem dJ39_postDelete_10 : decode cJ39_postDelete 10 = .ok (.getfield 1, 3) := dk_180 0 1 (dk_at dksJ39_postDelete_0 10 rfl rfl)
theorem dJ39_postDelete_13 : decode cJ39_postDelete 13 = .ok (.getfield 35, 3) := dk_180 0 35 (dk_at dksJ39_postDelete_0 13 rfl rfl)
theorem dJ39_postDelete_16 : decode cJ39_postDelete 16 = .ok (.arraylength, 1) := dk_190 (dk_at dksJ39_postDelete_0 16 rfl rfl)
theorem dJ39_postDelete_17 : decode cJ39_postDelete 17 = .ok (.invokestatic 47, 3) := dk_184 0 47 (dk_at dksJ39_postDelete_0 17 rfl rfl)
theorem dJ39_postDelete_20 : decode cJ39_postDelete 20 = .ok (.putfield 29, 3) := dk_181 0 29 (dk_at dksJ39_postDelete_0 20 rfl rfl)
theorem dJ39_postDelete_23 : decode cJ39_postDelete 23 = .ok (.return_, 1) := dk_177 (dk_at dksJ39_postDelete_0 23 rfl rfl)
theorem q144 : (Jvm.Cond.initialized "java/util/ArrayDeque$DeqIterator") ∈ lw_all := lw_g (lw_at lw_m1 58 rfl) rfl
theorem q260 : (Jvm.Cond.selects "java/util/ArrayDeque$DeqIterator" ({ cls := "java/lang/Object", name := "getClass", desc := "()Ljava/lang/Class;" } : Jvm.MethodName) ({ cls := "java/lang/Object", name := "getClass", desc := "()Ljava/lang/Class;" } : Jvm.MethodName)) ∈ lw_all := lw_g (lw_at lw_m1 174 rfl) rfl
theorem q1485 : (Jvm.Cond.castable "java/util/ArrayDeque$DeqIterator" "java/util/Iterator") ∈ lw_tbl := lw_at lw_m6 199 rfl
theorem q1486 : (Jvm.Cond.selects "java/util/ArrayDeque$DeqIterator" ({ cls := "java/util/Iterator", name := "hasNext", desc := "()Z" } : Jvm.MethodName) ({ cls := "java/util/ArrayDeque$DeqIterator", name := "hasNext", desc := "()Z" } : Jvm.MethodName)) ∈ lw_all := lw_g (lw_at lw_m6 200 rfl) rfl
theorem q1487 : (Jvm.Cond.unhidden "java/util/ArrayDeque$DeqIterator" "hasNext" "()Z") ∈ lw_tbl := lw_at lw_m6 201 rfl
theorem q1488 : (Jvm.Cond.instanceMethod ({ cls := "java/util/ArrayDeque$DeqIterator", name := "hasNext", desc := "()Z" } : Jvm.MethodName)) ∈ lw_all := lw_g (lw_at lw_m6 202 rfl) rfl
theorem q1489 : (Jvm.Cond.publicMethod ({ cls := "java/util/ArrayDeque$DeqIterator", name := "hasNext", desc := "()Z" } : Jvm.MethodName)) ∈ lw_tbl := lw_at lw_m6 203 rfl
theorem q1490 : (Jvm.Cond.code ({ cls := "java/util/ArrayDeque$DeqIterator", name := "hasNext", desc := "()Z" } : Jvm.MethodName) prog_62_method_2_code (1 : Nat) (Option.some Jvm.ClassFile.FieldType.boolean)) ∈ lw_all := lw_g (lw_at lw_m6 204 rfl) rfl
theorem q1628 : (Jvm.Cond.selects "java/util/ArrayDeque$DeqIterator" ({ cls := "java/util/Iterator", name := "next", desc := "()Ljava/lang/Object;" } : Jvm.MethodName) ({ cls := "java/util/ArrayDeque$DeqIterator", name := "next", desc := "()Ljava/lang/Object;" } : Jvm.MethodName)) ∈ lw_all := lw_g (lw_at lw_m7 102 rfl) rfl
theorem q1629 : (Jvm.Cond.unhidden "java/util/ArrayDeque$DeqIterator" "next" "()Ljava/lang/Object;") ∈ lw_tbl := lw_at lw_m7 103 rfl
theorem q1630 : (Jvm.Cond.instanceMethod ({ cls := "java/util/ArrayDeque$DeqIterator", name := "next", desc := "()Ljava/lang/Object;" } : Jvm.MethodName)) ∈ lw_all := lw_g (lw_at lw_m7 104 rfl) rfl
theorem q1631 : (Jvm.Cond.publicMethod ({ cls := "java/util/ArrayDeque$DeqIterator", name := "next", desc := "()Ljava/lang/Object;" } : Jvm.MethodName)) ∈ lw_tbl := lw_at lw_m7 105 rfl
theorem q1632 : (Jvm.Cond.code ({ cls := "java/util/ArrayDeque$DeqIterator", name := "next", desc := "()Ljava/lang/Object;" } : Jvm.MethodName) prog_62_method_3_code (3 : Nat) (Option.some (Jvm.ClassFile.FieldType.object "java/lang/Object"))) ∈ lw_all := lw_g (lw_at lw_m7 106 rfl) rfl
theorem q1633 : (Jvm.Cond.methodLink "java/util/ArrayDeque$DeqIterator" (39 : Nat) ({ cls := "java/util/ArrayDeque", name := "nonNullElementAt", desc := "([Ljava/lang/Object;I)Ljava/lang/Object;" } : Jvm.MethodName)) ∈ lw_all := lw_g (lw_at lw_m7 107 rfl) rfl
theorem q1636 : (Jvm.Cond.methodLink "java/util/ArrayDeque$DeqIterator" (43 : Nat) ({ cls := "java/util/ArrayDeque", name := "inc", desc := "(II)I" } : Jvm.MethodName)) ∈ lw_all := lw_g (lw_at lw_m7 110 rfl) rfl
theorem q1968 : (Jvm.Cond.fieldLink "java/util/ArrayDeque$DeqIterator" (35 : Nat) "java/util/ArrayDeque" "elements" "[Ljava/lang/Object;") ∈ lw_all := lw_g (lw_at lw_m8 202 rfl) rfl
theorem q1969 : (Jvm.Cond.fieldLink "java/util/ArrayDeque$DeqIterator" (26 : Nat) "java/util/ArrayDeque" "head" "I") ∈ lw_all := lw_g (lw_at lw_m8 203 rfl) rfl
theorem q2003 : (Jvm.Cond.instantiable "java/util/ArrayDeque$DeqIterator" (4 : Nat)) ∈ lw_all := lw_g (lw_at lw_m8 237 rfl) rfl
theorem q2005 : (Jvm.Cond.instanceMethod ({ cls := "java/util/ArrayDeque$DeqIterator", name := "<init>", desc := "(Ljava/util/ArrayDeque;)V" } : Jvm.MethodName)) ∈ lw_all := lw_g (lw_at lw_m8 239 rfl) rfl
theorem q2006 : (Jvm.Cond.code ({ cls := "java/util/ArrayDeque$DeqIterator", name := "<init>", desc := "(Ljava/util/ArrayDeque;)V" } : Jvm.MethodName) prog_62_method_1_code (2 : Nat) (Option.none : Option Jvm.ClassFile.FieldType)) ∈ lw_all := lw_g (lw_at lw_m9 0 rfl) rfl
theorem q2007 : (Jvm.Cond.methodLink "java/util/ArrayDeque$DeqIterator" (7 : Nat) ({ cls := "java/lang/Object", name := "<init>", desc := "()V" } : Jvm.MethodName)) ∈ lw_all := lw_g (lw_at lw_m9 1 rfl) rfl
theorem q2008 : (Jvm.Cond.methodLink "java/util/ArrayDeque$DeqIterator" (13 : Nat) ({ cls := "java/util/ArrayDeque", name := "size", desc := "()I" } : Jvm.MethodName)) ∈ lw_all := lw_g (lw_at lw_m9 2 rfl) rfl
theorem q2015 : (Jvm.Cond.fieldLink "java/util/ArrayDeque$DeqIterator" (29 : Nat) "java/util/ArrayDeque$DeqIterator" "cursor" "I") ∈ lw_all := lw_g (lw_at lw_m9 9 rfl) rfl
theorem q2016 : (Jvm.Cond.fieldLink "java/util/ArrayDeque$DeqIterator" (19 : Nat) "java/util/ArrayDeque$DeqIterator" "remaining" "I") ∈ lw_all := lw_g (lw_at lw_m9 10 rfl) rfl
theorem q2017 : (Jvm.Cond.fieldLink "java/util/ArrayDeque$DeqIterator" (23 : Nat) "java/util/ArrayDeque$DeqIterator" "lastRet" "I") ∈ lw_all := lw_g (lw_at lw_m9 11 rfl) rfl
theorem q2018 : (Jvm.Cond.fieldLink "java/util/ArrayDeque$DeqIterator" (1 : Nat) "java/util/ArrayDeque$DeqIterator" "this$0" "Ljava/util/ArrayDeque;") ∈ lw_all := lw_g (lw_at lw_m9 12 rfl) rfl
theorem q2019 : (Jvm.Cond.lays "java/util/ArrayDeque$DeqIterator" "java/util/ArrayDeque$DeqIterator" "cursor" "I") ∈ lw_all := lw_g (lw_at lw_m9 13 rfl) rfl
theorem q2020 : (Jvm.Cond.soleField "java/util/ArrayDeque$DeqIterator" "cursor") ∈ lw_all := lw_g (lw_at lw_m9 14 rfl) rfl
theorem q2021 : (Jvm.Cond.lays "java/util/ArrayDeque$DeqIterator" "java/util/ArrayDeque$DeqIterator" "remaining" "I") ∈ lw_all := lw_g (lw_at lw_m9 15 rfl) rfl
theorem q2022 : (Jvm.Cond.soleField "java/util/ArrayDeque$DeqIterator" "remaining") ∈ lw_all := lw_g (lw_at lw_m9 16 rfl) rfl
theorem q2023 : (Jvm.Cond.lays "java/util/ArrayDeque$DeqIterator" "java/util/ArrayDeque$DeqIterator" "lastRet" "I") ∈ lw_all := lw_g (lw_at lw_m9 17 rfl) rfl
theorem q2024 : (Jvm.Cond.soleField "java/util/ArrayDeque$DeqIterator" "lastRet") ∈ lw_all := lw_g (lw_at lw_m9 18 rfl) rfl
theorem q2025 : (Jvm.Cond.laysFinal "java/util/ArrayDeque$DeqIterator" "java/util/ArrayDeque$DeqIterator" "this$0" "Ljava/util/ArrayDeque;") ∈ lw_all := lw_g (lw_at lw_m9 19 rfl) rfl
theorem q2026 : (Jvm.Cond.soleField "java/util/ArrayDeque$DeqIterator" "this$0") ∈ lw_all := lw_g (lw_at lw_m9 20 rfl) rfl
theorem q2027 : (Jvm.Cond.superclass "java/util/ArrayDeque$DeqIterator" "java/lang/Object") ∈ lw_all := lw_g (lw_at lw_m9 21 rfl) rfl
theorem q2607 : (Jvm.Cond.selects "java/util/ArrayDeque$DeqIterator" ({ cls := "java/util/Iterator", name := "remove", desc := "()V" } : Jvm.MethodName) ({ cls := "java/util/ArrayDeque$DeqIterator", name := "remove", desc := "()V" } : Jvm.MethodName)) ∈ lw_all := lw_g (lw_at lw_m11 121 rfl) rfl
theorem q2608 : (Jvm.Cond.unhidden "java/util/ArrayDeque$DeqIterator" "remove" "()V") ∈ lw_tbl := lw_at lw_m11 122 rfl
theorem q2609 : (Jvm.Cond.instanceMethod ({ cls := "java/util/ArrayDeque$DeqIterator", name := "remove", desc := "()V" } : Jvm.MethodName)) ∈ lw_all := lw_g (lw_at lw_m11 123 rfl) rfl
theorem q2610 : (Jvm.Cond.publicMethod ({ cls := "java/util/ArrayDeque$DeqIterator", name := "remove", desc := "()V" } : Jvm.MethodName)) ∈ lw_tbl := lw_at lw_m11 124 rfl
theorem q2611 : (Jvm.Cond.code ({ cls := "java/util/ArrayDeque$DeqIterator", name := "remove", desc := "()V" } : Jvm.MethodName) prog_62_method_5_code (1 : Nat) (Option.none : Option Jvm.ClassFile.FieldType)) ∈ lw_all := lw_g (lw_at lw_m11 125 rfl) rfl
theorem q2612 : (Jvm.Cond.methodLink "java/util/ArrayDeque$DeqIterator" (53 : Nat) ({ cls := "java/util/ArrayDeque", name := "delete", desc := "(I)Z" } : Jvm.MethodName)) ∈ lw_all := lw_g (lw_at lw_m11 126 rfl) rfl
theorem q2616 : (Jvm.Cond.methodLink "java/util/ArrayDeque$DeqIterator" (57 : Nat) ({ cls := "java/util/ArrayDeque$DeqIterator", name := "postDelete", desc := "(Z)V" } : Jvm.MethodName)) ∈ lw_all := lw_g (lw_at lw_m11 130 rfl) rfl
theorem q2617 : (Jvm.Cond.instanceMethod ({ cls := "java/util/ArrayDeque$DeqIterator", name := "postDelete", desc := "(Z)V" } : Jvm.MethodName)) ∈ lw_all := lw_g (lw_at lw_m11 131 rfl) rfl
theorem q2618 : (Jvm.Cond.selects "java/util/ArrayDeque$DeqIterator" ({ cls := "java/util/ArrayDeque$DeqIterator", name := "postDelete", desc := "(Z)V" } : Jvm.MethodName) ({ cls := "java/util/ArrayDeque$DeqIterator", name := "postDelete", desc := "(Z)V" } : Jvm.MethodName)) ∈ lw_all := lw_g (lw_at lw_m11 132 rfl) rfl
theorem q2619 : (Jvm.Cond.code ({ cls := "java/util/ArrayDeque$DeqIterator", name := "postDelete", desc := "(Z)V" } : Jvm.MethodName) prog_62_method_4_code (2 : Nat) (Option.none : Option Jvm.ClassFile.FieldType)) ∈ lw_all := lw_g (lw_at lw_m11 133 rfl) rfl
theorem q2620 : (Jvm.Cond.methodLink "java/util/ArrayDeque$DeqIterator" (47 : Nat) ({ cls := "java/util/ArrayDeque", name := "dec", desc := "(II)I" } : Jvm.MethodName)) ∈ lw_all := lw_g (lw_at lw_m11 134 rfl) rfl
theorem q3827 : (Jvm.Cond.castable "java/util/ArrayDeque$DeqIterator" "java/lang/Object") ∈ lw_tbl := lw_at lw_m16 141 rfl
theorem in_J39 : ∀ w ∈ wsJ390, w ∈ lw_all := lw_in wsJ390 [2019, 2021, 2023, 2025] (by decide +kernel) (by decide +kernel)
/-! java/util/AbstractSequentialList -/
set_option maxRecDepth 100000
def RJ40 : String := "java/util/AbstractSequentialList"
abbrev cJ40_iterator : ByteArray := prog_60_method_7_code
def yJ40_iterator : MethodName := ⟨RJ40, "iterator", "()Ljava/util/Iterator;"⟩
theorem dJ40_iterator_0 : decode cJ40_iterator 0 = .ok (.aload_n 0, 1) := by decide +kernel
theorem dJ40_iterator_1 : decode cJ40_iterator 1 = .ok (.invokevirtual 65, 3) := by decide +kernel
theorem dJ40_iterator_4 : decode cJ40_iterator 4 = .ok (.areturn, 1) := by decide +kernel
abbrev cJ40_init : ByteArray := prog_60_method_1_code
def yJ40_init : MethodName := ⟨RJ40, "<init>", "()V"⟩
theorem dJ40_init_0 : decode cJ40_init 0 = .ok (.aload_n 0, 1) := by decide +kernel
theorem dJ40_init_1 : decode cJ40_init 1 = .ok (.invokespecial 1, 3) := by decide +kernel
theorem dJ40_init_4 : decode cJ40_init 4 = .ok (.return_, 1) := by decide +kernel
theorem q155 : (Jvm.Cond.initialized "java/util/AbstractSequentialList") ∈ lw_all := lw_g (lw_at lw_m1 69 rfl) rfl
theorem q1383 : (Jvm.Cond.instanceMethod ({ cls := "java/util/AbstractSequentialList", name := "iterator", desc := "()Ljava/util/Iterator;" } : Jvm.MethodName)) ∈ lw_all := lw_g (lw_at lw_m6 97 rfl) rfl
theorem q1384 : (Jvm.Cond.publicMethod ({ cls := "java/util/AbstractSequentialList", name := "iterator", desc := "()Ljava/util/Iterator;" } : Jvm.MethodName)) ∈ lw_tbl := lw_at lw_m6 98 rfl
theorem q1385 : (Jvm.Cond.code ({ cls := "java/util/AbstractSequentialList", name := "iterator", desc := "()Ljava/util/Iterator;" } : Jvm.MethodName) prog_60_method_7_code (1 : Nat) (Option.some (Jvm.ClassFile.FieldType.object "java/util/Iterator"))) ∈ lw_all := lw_g (lw_at lw_m6 99 rfl) rfl
theorem q1386 : (Jvm.Cond.methodLink "java/util/AbstractSequentialList" (65 : Nat) ({ cls := "java/util/AbstractSequentialList", name := "listIterator", desc := "()Ljava/util/ListIterator;" } : Jvm.MethodName)) ∈ lw_all := lw_g (lw_at lw_m6 100 rfl) rfl
theorem q1387 : (Jvm.Cond.sameMethod "java/util/AbstractSequentialList" "java/util/AbstractList" "listIterator" "()Ljava/util/ListIterator;") ∈ lw_all := lw_g (lw_at lw_m6 101 rfl) rfl
theorem q2504 : (Jvm.Cond.instanceMethod ({ cls := "java/util/AbstractSequentialList", name := "<init>", desc := "()V" } : Jvm.MethodName)) ∈ lw_all := lw_g (lw_at lw_m11 18 rfl) rfl
theorem q2505 : (Jvm.Cond.code ({ cls := "java/util/AbstractSequentialList", name := "<init>", desc := "()V" } : Jvm.MethodName) prog_60_method_1_code (1 : Nat) (Option.none : Option Jvm.ClassFile.FieldType)) ∈ lw_all := lw_g (lw_at lw_m11 19 rfl) rfl
theorem q2506 : (Jvm.Cond.methodLink "java/util/AbstractSequentialList" (1 : Nat) ({ cls := "java/util/AbstractList", name := "<init>", desc := "()V" } : Jvm.MethodName)) ∈ lw_all := lw_g (lw_at lw_m11 20 rfl) rfl
theorem q2544 : (Jvm.Cond.declares ({ cls := "java/util/AbstractSequentialList", name := "iterator", desc := "()Ljava/util/Iterator;" } : Jvm.MethodName)) ∈ lw_tbl := lw_at lw_m11 58 rfl
/-! java/util/LinkedList -/
set_option maxRecDepth 100000
def RJ41 : String := "java/util/LinkedList"
def TJ41 : u_T := fun k => match k with
  | 0 => ("java/util/AbstractList", "modCount", "I", false)
  | 1 => ("java/util/LinkedList", "size", "I", false)
  | 2 => ("java/util/LinkedList", "first", "Ljava/util/LinkedList$Node;", false)
  | _ => ("java/util/LinkedList", "last", "Ljava/util/LinkedList$Node;", false)
def tyJ41 : Nat → FieldType := fun k => match k with
  | 0 => .int
  | 1 => .int
  | 2 => .object "java/util/LinkedList$Node"
  | _ => .object "java/util/LinkedList$Node"
abbrev wsJ410 : List Cond := u_ws RJ41 TJ41 4
theorem nmJ41 : ∀ a, a < 4 → ∀ b, b < 4 → a ≠ b → (TJ41 a).2.1 ≠ (TJ41 b).2.1 := by decide +kernel
theorem tyJ41_ok : ∀ k, k < 4 → parseFieldDescriptor (TJ41 k).2.2.1 = some (tyJ41 k) := by decide +kernel
abbrev cJ41_size : ByteArray := prog_80_method_16_code
def yJ41_size : MethodName := ⟨RJ41, "size", "()I"⟩
theorem dJ41_size_0 : decode cJ41_size 0 = .ok (.aload_n 0, 1) := by decide +kernel
theorem dJ41_size_1 : decode cJ41_size 1 = .ok (.getfield 7, 3) := by decide +kernel
theorem dJ41_size_4 : decode cJ41_size 4 = .ok (.ireturn, 1) := by decide +kernel
abbrev cJ41_add : ByteArray := prog_80_method_24_code
def yJ41_add : MethodName := ⟨RJ41, "add", "(ILjava/lang/Object;)V"⟩
def dkwJ41_add_1 : List UInt8 := [27, 182, 0, 86, 182, 0, 93, 177]
abbrev dktJ41_add_1 : List UInt8 := dkwJ41_add_1 ++ []
def dkwJ41_add_0 : List UInt8 := [42, 27, 182, 0, 76, 27, 42, 180, 0, 7, 160, 0, 11, 42, 44, 182, 0, 57, 167, 0, 13, 42, 44, 42]
abbrev dktJ41_add_0 : List UInt8 := dkwJ41_add_0 ++ dktJ41_add_1
theorem dksJ41_add_0 : cJ41_add.data.toList.drop 0 = dktJ41_add_0 := by decide +kernel
theorem dksJ41_add_1 : cJ41_add.data.toList.drop 24 = dktJ41_add_1 := dk_seg dksJ41_add_0 24 rfl rfl
theorem dJ41_add_0 : decode cJ41_add 0 = .ok (.aload_n 0, 1) := dk_42 (dk_at dksJ41_add_0 0 rfl rfl)
theorem dJ41_add_1 : decode cJ41_add 1 = .ok (.iload_n 1, 1) := dk_27 (dk_at dksJ41_add_0 1 rfl rfl)
theorem dJ41_add_2 : decode cJ41_add 2 = .ok (.invokevirtual 76, 3) := dk_182 0 76 (dk_at dksJ41_add_0 2 rfl rfl)
theorem dJ41_add_5 : decode cJ41_add 5 = .ok (.iload_n 1, 1) := dk_27 (dk_at dksJ41_add_0 5 rfl rfl)
theorem dJ41_add_6 : decode cJ41_add 6 = .ok (.aload_n 0, 1) := dk_42 (dk_at dksJ41_add_0 6 rfl rfl)
theorem dJ41_add_7 : decode cJ41_add 7 = .ok (.getfield 7, 3) := dk_180 0 7 (dk_at dksJ41_add_0 7 rfl rfl)
theorem dJ41_add_10 : decode cJ41_add 10 = .ok (.if_icmp .ne 11, 3) := dk_160 0 11 (dk_at dksJ41_add_0 10 rfl rfl)
theorem dJ41_add_13 : decode cJ41_add 13 = .ok (.aload_n 0, 1) := dk_42 (dk_at dksJ41_add_0 13 rfl rfl)
theorem dJ41_add_14 : decode cJ41_add 14 = .ok (.aload_n 2, 1) := dk_44 (dk_at dksJ41_add_0 14 rfl rfl)
theorem dJ41_add_15 : decode cJ41_add 15 = .ok (.invokevirtual 57, 3) := dk_182 0 57 (dk_at dksJ41_add_0 15 rfl rfl)
theorem dJ41_add_18 : decode cJ41_add 18 = .ok (.goto 13, 3) := dk_167 0 13 (dk_at dksJ41_add_0 18 rfl rfl)
theorem dJ41_add_21 : decode cJ41_add 21 = .ok (.aload_n 0, 1) := dk_42 (dk_at dksJ41_add_0 21 rfl rfl)
theorem dJ41_add_22 : decode cJ41_add 22 = .ok (.aload_n 2, 1) := dk_44 (dk_at dksJ41_add_0 22 rfl rfl)
theorem dJ41_add_23 : decode cJ41_add 23 = .ok (.aload_n 0, 1) := dk_42 (dk_at dksJ41_add_0 23 rfl rfl)
theorem dJ41_add_24 : decode cJ41_add 24 = .ok (.iload_n 1, 1) := dk_27 (dk_at dksJ41_add_1 0 rfl rfl)
theorem dJ41_add_25 : decode cJ41_add 25 = .ok (.invokevirtual 86, 3) := dk_182 0 86 (dk_at dksJ41_add_1 1 rfl rfl)
theorem dJ41_add_28 : decode cJ41_add 28 = .ok (.invokevirtual 93, 3) := dk_182 0 93 (dk_at dksJ41_add_1 4 rfl rfl)
theorem dJ41_add_31 : decode cJ41_add 31 = .ok (.return_, 1) := dk_177 (dk_at dksJ41_add_1 7 rfl rfl)
abbrev cJ41_checkPositionIndex : ByteArray := prog_80_method_30_code
def yJ41_checkPositionIndex : MethodName := ⟨RJ41, "checkPositionIndex", "(I)V"⟩
def dkwJ41_checkPositionIndex_0 : List UInt8 := [42, 27, 182, 0, 128, 154, 0, 16, 187, 0, 119, 89, 42, 27, 182, 0, 121, 183, 0, 125, 191, 177]
abbrev dktJ41_checkPositionIndex_0 : List UInt8 := dkwJ41_checkPositionIndex_0 ++ []
theorem dksJ41_checkPositionIndex_0 : cJ41_checkPositionIndex.data.toList.drop 0 = dktJ41_checkPositionIndex_0 := by decide +kernel
theorem dJ41_checkPositionIndex_0 : decode cJ41_checkPositionIndex 0 = .ok (.aload_n 0, 1) := dk_42 (dk_at dksJ41_checkPositionIndex_0 0 rfl rfl)
theorem dJ41_checkPositionIndex_1 : decode cJ41_checkPositionIndex 1 = .ok (.iload_n 1, 1) := dk_27 (dk_at dksJ41_checkPositionIndex_0 1 rfl rfl)
theorem dJ41_checkPositionIndex_2 : decode cJ41_checkPositionIndex 2 = .ok (.invokevirtual 128, 3) := dk_182 0 128 (dk_at dksJ41_checkPositionIndex_0 2 rfl rfl)
theorem dJ41_checkPositionIndex_5 : decode cJ41_checkPositionIndex 5 = .ok (.ifCond .ne 16, 3) := dk_154 0 16 (dk_at dksJ41_checkPositionIndex_0 5 rfl rfl)
theorem dJ41_checkPositionIndex_8 : decode cJ41_checkPositionIndex 8 = .ok (.new 119, 3) := dk_187 0 119 (dk_at dksJ41_checkPositionIndex_0 8 rfl rfl)
theorem dJ41_checkPositionIndex_11 : decode cJ41_checkPositionIndex 11 = .ok (.dup, 1) := dk_89 (dk_at dksJ41_checkPositionIndex_0 11 rfl rfl)
theorem dJ41_checkPositionIndex_12 : decode cJ41_checkPositionIndex 12 = .ok (.aload_n 0, 1) := dk_42 (dk_at dksJ41_checkPositionIndex_0 12 rfl rfl)
theorem dJ41_checkPositionIndex_13 : decode cJ41_checkPositionIndex 13 = .ok (.iload_n 1, 1) := dk_27 (dk_at dksJ41_checkPositionIndex_0 13 rfl rfl)
theorem dJ41_checkPositionIndex_14 : decode cJ41_checkPositionIndex 14 = .ok (.invokevirtual 121, 3) := dk_182 0 121 (dk_at dksJ41_checkPositionIndex_0 14 rfl rfl)
theorem dJ41_checkPositionIndex_17 : decode cJ41_checkPositionIndex 17 = .ok (.invokespecial 125, 3) := dk_183 0 125 (dk_at dksJ41_checkPositionIndex_0 17 rfl rfl)
theorem dJ41_checkPositionIndex_20 : decode cJ41_checkPositionIndex 20 = .ok (.athrow, 1) := dk_191 (dk_at dksJ41_checkPositionIndex_0 20 rfl rfl)
theorem dJ41_checkPositionIndex_21 : decode cJ41_checkPositionIndex 21 = .ok (.return_, 1) := dk_177 (dk_at dksJ41_checkPositionIndex_0 21 rfl rfl)
abbrev cJ41_isPositionIndex : ByteArray := prog_80_method_27_code
def yJ41_isPositionIndex : MethodName := ⟨RJ41, "isPositionIndex", "(I)Z"⟩
def dkwJ41_isPositionIndex_0 : List UInt8 := [27, 155, 0, 15, 27, 42, 180, 0, 7, 163, 0, 7, 4, 167, 0, 4, 3, 172]
abbrev dktJ41_isPositionIndex_0 : List UInt8 := dkwJ41_isPositionIndex_0 ++ []
theorem dksJ41_isPositionIndex_0 : cJ41_isPositionIndex.data.toList.drop 0 = dktJ41_isPositionIndex_0 := by decide +kernel
theorem dJ41_isPositionIndex_0 : decode cJ41_isPositionIndex 0 = .ok (.iload_n 1, 1) := dk_27 (dk_at dksJ41_isPositionIndex_0 0 rfl rfl)
theorem dJ41_isPositionIndex_1 : decode cJ41_isPositionIndex 1 = .ok (.ifCond .lt 15, 3) := dk_155 0 15 (dk_at dksJ41_isPositionIndex_0 1 rfl rfl)
theorem dJ41_isPositionIndex_4 : decode cJ41_isPositionIndex 4 = .ok (.iload_n 1, 1) := dk_27 (dk_at dksJ41_isPositionIndex_0 4 rfl rfl)
theorem dJ41_isPositionIndex_5 : decode cJ41_isPositionIndex 5 = .ok (.aload_n 0, 1) := dk_42 (dk_at dksJ41_isPositionIndex_0 5 rfl rfl)
theorem dJ41_isPositionIndex_6 : decode cJ41_isPositionIndex 6 = .ok (.getfield 7, 3) := dk_180 0 7 (dk_at dksJ41_isPositionIndex_0 6 rfl rfl)
theorem dJ41_isPositionIndex_9 : decode cJ41_isPositionIndex 9 = .ok (.if_icmp .gt 7, 3) := dk_163 0 7 (dk_at dksJ41_isPositionIndex_0 9 rfl rfl)
theorem dJ41_isPositionIndex_12 : decode cJ41_isPositionIndex 12 = .ok (.iconst 1, 1) := dk_4 (dk_at dksJ41_isPositionIndex_0 12 rfl rfl)
theorem dJ41_isPositionIndex_13 : decode cJ41_isPositionIndex 13 = .ok (.goto 4, 3) := dk_167 0 4 (dk_at dksJ41_isPositionIndex_0 13 rfl rfl)
theorem dJ41_isPositionIndex_16 : decode cJ41_isPositionIndex 16 = .ok (.iconst 0, 1) := dk_3 (dk_at dksJ41_isPositionIndex_0 16 rfl rfl)
theorem dJ41_isPositionIndex_17 : decode cJ41_isPositionIndex 17 = .ok (.ireturn, 1) := dk_172 (dk_at dksJ41_isPositionIndex_0 17 rfl rfl)
abbrev cJ41_outOfBoundsMsg : ByteArray := prog_80_method_28_code
def yJ41_outOfBoundsMsg : MethodName := ⟨RJ41, "outOfBoundsMsg", "(I)Ljava/lang/String;"⟩
def dkwJ41_outOfBoundsMsg_1 : List UInt8 := [180, 0, 7, 182, 0, 106, 182, 0, 111, 176]
abbrev dktJ41_outOfBoundsMsg_1 : List UInt8 := dkwJ41_outOfBoundsMsg_1 ++ []
def dkwJ41_outOfBoundsMsg_0 : List UInt8 := [187, 0, 97, 89, 183, 0, 99, 18, 100, 182, 0, 102, 27, 182, 0, 106, 18, 109, 182, 0, 102, 42]
abbrev dktJ41_outOfBoundsMsg_0 : List UInt8 := dkwJ41_outOfBoundsMsg_0 ++ dktJ41_outOfBoundsMsg_1
theorem dksJ41_outOfBoundsMsg_0 : cJ41_outOfBoundsMsg.data.toList.drop 0 = dktJ41_outOfBoundsMsg_0 := by decide +kernel
theorem dksJ41_outOfBoundsMsg_1 : cJ41_outOfBoundsMsg.data.toList.drop 22 = dktJ41_outOfBoundsMsg_1 := dk_seg dksJ41_outOfBoundsMsg_0 22 rfl rfl
theorem dJ41_outOfBoundsMsg_0 : decode cJ41_outOfBoundsMsg 0 = .ok (.new 97, 3) := dk_187 0 97 (dk_at dksJ41_outOfBoundsMsg_0 0 rfl rfl)
theorem dJ41_outOfBoundsMsg_3 : decode cJ41_outOfBoundsMsg 3 = .ok (.dup, 1) := dk_89 (dk_at dksJ41_outOfBoundsMsg_0 3 rfl rfl)
theorem dJ41_outOfBoundsMsg_4 : decode cJ41_outOfBoundsMsg 4 = .ok (.invokespecial 99, 3) := dk_183 0 99 (dk_at dksJ41_outOfBoundsMsg_0 4 rfl rfl)
theorem dJ41_outOfBoundsMsg_7 : decode cJ41_outOfBoundsMsg 7 = .ok (.ldc 100, 2) := dk_18 100 (dk_at dksJ41_outOfBoundsMsg_0 7 rfl rfl)
theorem dJ41_outOfBoundsMsg_9 : decode cJ41_outOfBoundsMsg 9 = .ok (.invokevirtual 102, 3) := dk_182 0 102 (dk_at dksJ41_outOfBoundsMsg_0 9 rfl rfl)
theorem dJ41_outOfBoundsMsg_12 : decode cJ41_outOfBoundsMsg 12 = .ok (.iload_n 1, 1) := dk_27 (dk_at dksJ41_outOfBoundsMsg_0 12 rfl rfl)
theorem dJ41_outOfBoundsMsg_13 : decode cJ41_outOfBoundsMsg 13 = .ok (.invokevirtual 106, 3) := dk_182 0 106 (dk_at dksJ41_outOfBoundsMsg_0 13 rfl rfl)
theorem dJ41_outOfBoundsMsg_16 : decode cJ41_outOfBoundsMsg 16 = .ok (.ldc 109, 2) := dk_18 109 (dk_at dksJ41_outOfBoundsMsg_0 16 rfl rfl)
theorem dJ41_outOfBoundsMsg_18 : decode cJ41_outOfBoundsMsg 18 = .ok (.invokevirtual 102, 3) := dk_182 0 102 (dk_at dksJ41_outOfBoundsMsg_0 18 rfl rfl)
theorem dJ41_outOfBoundsMsg_21 : decode cJ41_outOfBoundsMsg 21 = .ok (.aload_n 0, 1) := dk_42 (dk_at dksJ41_outOfBoundsMsg_0 21 rfl rfl)
theorem dJ41_outOfBoundsMsg_22 : decode cJ41_outOfBoundsMsg 22 = .ok (.getfield 7, 3) := dk_180 0 7 (dk_at dksJ41_outOfBoundsMsg_1 0 rfl rfl)
theorem dJ41_outOfBoundsMsg_25 : decode cJ41_outOfBoundsMsg 25 = .ok (.invokevirtual 106, 3) := dk_182 0 106 (dk_at dksJ41_outOfBoundsMsg_1 3 rfl rfl)
theorem dJ41_outOfBoundsMsg_28 : decode cJ41_outOfBoundsMsg 28 = .ok (.invokevirtual 111, 3) := dk_182 0 111 (dk_at dksJ41_outOfBoundsMsg_1 6 rfl rfl)
theorem dJ41_outOfBoundsMsg_31 : decode cJ41_outOfBoundsMsg 31 = .ok (.areturn, 1) := dk_176 (dk_at dksJ41_outOfBoundsMsg_1 9 rfl rfl)
abbrev cJ41_linkLast : ByteArray := prog_80_method_4_code
def yJ41_linkLast : MethodName := ⟨RJ41, "linkLast", "(Ljava/lang/Object;)V"⟩
def dkwJ41_linkLast_2 : List UInt8 := [181, 0, 7, 42, 89, 180, 0, 33, 4, 96, 181, 0, 33, 177]
abbrev dktJ41_linkLast_2 : List UInt8 := dkwJ41_linkLast_2 ++ []
def dkwJ41_linkLast_1 : List UInt8 := [199, 0, 11, 42, 45, 181, 0, 18, 167, 0, 8, 44, 45, 181, 0, 36, 42, 89, 180, 0, 7, 4, 96]
abbrev dktJ41_linkLast_1 : List UInt8 := dkwJ41_linkLast_1 ++ dktJ41_linkLast_2
def dkwJ41_linkLast_0 : List UInt8 := [42, 180, 0, 27, 77, 187, 0, 22, 89, 44, 43, 1, 183, 0, 24, 78, 42, 45, 181, 0, 27, 44]
abbrev dktJ41_linkLast_0 : List UInt8 := dkwJ41_linkLast_0 ++ dktJ41_linkLast_1
theorem dksJ41_linkLast_0 : cJ41_linkLast.data.toList.drop 0 = dktJ41_linkLast_0 := by decide +kernel
theorem dksJ41_linkLast_1 : cJ41_linkLast.data.toList.drop 22 = dktJ41_linkLast_1 := dk_seg dksJ41_linkLast_0 22 rfl rfl
theorem dksJ41_linkLast_2 : cJ41_linkLast.data.toList.drop 45 = dktJ41_linkLast_2 := dk_seg dksJ41_linkLast_1 23 rfl rfl
theorem dJ41_linkLast_0 : decode cJ41_linkLast 0 = .ok (.aload_n 0, 1) := dk_42 (dk_at dksJ41_linkLast_0 0 rfl rfl)
theorem dJ41_linkLast_1 : decode cJ41_linkLast 1 = .ok (.getfield 27, 3) := dk_180 0 27 (dk_at dksJ41_linkLast_0 1 rfl rfl)
theorem dJ41_linkLast_4 : decode cJ41_linkLast 4 = .ok (.astore_n 2, 1) := dk_77 (dk_at dksJ41_linkLast_0 4 rfl rfl)
theorem dJ41_linkLast_5 : decode cJ41_linkLast 5 = .ok (.new 22, 3) := dk_187 0 22 (dk_at dksJ41_linkLast_0 5 rfl rfl)
theorem dJ41_linkLast_8 : decode cJ41_linkLast 8 = .ok (.dup, 1) := dk_89 (dk_at dksJ41_linkLast_0 8 rfl rfl)
theorem dJ41_linkLast_9 : decode cJ41_linkLast 9 = .ok (.aload_n 2, 1) := dk_44 (dk_at dksJ41_linkLast_0 9 rfl rfl)
theorem dJ41_linkLast_10 : decode cJ41_linkLast 10 = .ok (.aload_n 1, 1) := dk_43 (dk_at dksJ41_linkLast_0 10 rfl rfl)
theorem dJ41_linkLast_11 : decode cJ41_linkLast 11 = .ok (.aconst_null, 1) := dk_1 (dk_at dksJ41_linkLast_0 11 rfl rfl)
theorem dJ41_linkLast_12 : decode cJ41_linkLast 12 = .ok (.invokespecial 24, 3) := dk_183 0 24 (dk_at dksJ41_linkLast_0 12 rfl rfl)
theorem dJ41_linkLast_15 : decode cJ41_linkLast 15 = .ok (.astore_n 3, 1) := dk_78 (dk_at dksJ41_linkLast_0 15 rfl rfl)
theorem dJ41_linkLast_16 : decode cJ41_linkLast 16 = .ok (.aload_n 0, 1) := dk_42 (dk_at dksJ41_linkLast_0 16 rfl rfl)
theorem dJ41_linkLast_17 : decode cJ41_linkLast 17 = .ok (.aload_n 3, 1) := dk_45 (dk_at dksJ41_linkLast_0 17 rfl rfl)
theorem dJ41_linkLast_18 : decode cJ41_linkLast 18 = .ok (.putfield 27, 3) := dk_181 0 27 (dk_at dksJ41_linkLast_0 18 rfl rfl)
theorem dJ41_linkLast_21 : decode cJ41_linkLast 21 = .ok (.aload_n 2, 1) := dk_44 (dk_at dksJ41_linkLast_0 21 rfl rfl)
theorem dJ41_linkLast_22 : decode cJ41_linkLast 22 = .ok (.ifnonnull 11, 3) := dk_199 0 11 (dk_at dksJ41_linkLast_1 0 rfl rfl)
theorem dJ41_linkLast_25 : decode cJ41_linkLast 25 = .ok (.aload_n 0, 1) := dk_42 (dk_at dksJ41_linkLast_1 3 rfl rfl)
theorem dJ41_linkLast_26 : decode cJ41_linkLast 26 = .ok (.aload_n 3, 1) := dk_45 (dk_at dksJ41_linkLast_1 4 rfl rfl)
theorem dJ41_linkLast_27 : decode cJ41_linkLast 27 = .ok (.putfield 18, 3) := dk_181 0 18 (dk_at dksJ41_linkLast_1 5 rfl rfl)
theorem dJ41_linkLast_30 : decode cJ41_linkLast 30 = .ok (.goto 8, 3) := dk_167 0 8 (dk_at dksJ41_linkLast_1 8 rfl rfl)
theorem dJ41_linkLast_33 : decode cJ41_linkLast 33 = .ok (.aload_n 2, 1) := dk_44 (dk_at dksJ41_linkLast_1 11 rfl rfl)
theorem dJ41_linkLast_34 : decode cJ41_linkLast 34 = .ok (.aload_n 3, 1) := dk_45 (dk_at dksJ41_linkLast_1 12 rfl rfl)
theorem dJ41_linkLast_35 : decode cJ41_linkLast 35 = .ok (.putfield 36, 3) := dk_181 0 36 (dk_at dksJ41_linkLast_1 13 rfl rfl)
theorem dJ41_linkLast_38 : decode cJ41_linkLast 38 = .ok (.aload_n 0, 1) := dk_42 (dk_at dksJ41_linkLast_1 16 rfl rfl)
theorem dJ41_linkLast_39 : decode cJ41_linkLast 39 = .ok (.dup, 1) := dk_89 (dk_at dksJ41_linkLast_1 17 rfl rfl)
theorem dJ41_linkLast_40 : decode cJ41_linkLast 40 = .ok (.getfield 7, 3) := dk_180 0 7 (dk_at dksJ41_linkLast_1 18 rfl rfl)
theorem dJ41_linkLast_43 : decode cJ41_linkLast 43 = .ok (.iconst 1, 1) := dk_4 (dk_at dksJ41_linkLast_1 21 rfl rfl)
theorem dJ41_linkLast_44 : decode cJ41_linkLast 44 = .ok (.iadd, 1) := dk_96 (dk_at dksJ41_linkLast_1 22 rfl rfl)
theorem dJ41_linkLast_45 : decode cJ41_linkLast 45 = .ok (.putfield 7, 3) := dk_181 0 7 (dk_at dksJ41_linkLast_2 0 rfl rfl)
theorem dJ41_linkLast_48 : decode cJ41_linkLast 48 = .ok (.aload_n 0, 1) := dk_42 (dk_at dksJ41_linkLast_2 3 rfl rfl)
theorem dJ41_linkLast_49 : decode cJ41_linkLast 49 = .ok (.dup, 1) := dk_89 (dk_at dksJ41_linkLast_2 4 rfl rfl)
theorem dJ41_linkLast_50 : decode cJ41_linkLast 50 = .ok (.getfield 33, 3) := dk_180 0 33 (dk_at dksJ41_linkLast_2 5 rfl rfl)
theorem dJ41_linkLast_53 : decode cJ41_linkLast 53 = .ok (.iconst 1, 1) := dk_4 (dk_at dksJ41_linkLast_2 8 rfl rfl)
theorem dJ41_linkLast_54 : decode cJ41_linkLast 54 = .ok (.iadd, 1) := dk_96 (dk_at dksJ41_linkLast_2 9 rfl rfl)
theorem dJ41_linkLast_55 : decode cJ41_linkLast 55 = .ok (.putfield 33, 3) := dk_181 0 33 (dk_at dksJ41_linkLast_2 10 rfl rfl)
theorem dJ41_linkLast_58 : decode cJ41_linkLast 58 = .ok (.return_, 1) := dk_177 (dk_at dksJ41_linkLast_2 13 rfl rfl)
abbrev cJ41_node : ByteArray := prog_80_method_31_code
def yJ41_node : MethodName := ⟨RJ41, "node", "(I)Ljava/util/LinkedList$Node;"⟩
def dkwJ41_node_2 : List UInt8 := [29, 27, 164, 0, 14, 44, 180, 0, 30, 77, 132, 3, 255, 167, 255, 243, 44, 176]
abbrev dktJ41_node_2 : List UInt8 := dkwJ41_node_2 ++ []
def dkwJ41_node_1 : List UInt8 := [180, 0, 36, 77, 132, 3, 1, 167, 255, 243, 44, 176, 42, 180, 0, 27, 77, 42, 180, 0, 7, 4, 100, 62]
abbrev dktJ41_node_1 : List UInt8 := dkwJ41_node_1 ++ dktJ41_node_2
def dkwJ41_node_0 : List UInt8 := [27, 42, 180, 0, 7, 4, 122, 162, 0, 28, 42, 180, 0, 18, 77, 3, 62, 29, 27, 162, 0, 14, 44]
abbrev dktJ41_node_0 : List UInt8 := dkwJ41_node_0 ++ dktJ41_node_1
theorem dksJ41_node_0 : cJ41_node.data.toList.drop 0 = dktJ41_node_0 := by decide +kernel
theorem dksJ41_node_1 : cJ41_node.data.toList.drop 23 = dktJ41_node_1 := dk_seg dksJ41_node_0 23 rfl rfl
theorem dksJ41_node_2 : cJ41_node.data.toList.drop 47 = dktJ41_node_2 := dk_seg dksJ41_node_1 24 rfl rfl
theorem dJ41_node_0 : decode cJ41_node 0 = .ok (.iload_n 1, 1) := dk_27 (dk_at dksJ41_node_0 0 rfl rfl)
theorem dJ41_node_1 : decode cJ41_node 1 = .ok (.aload_n 0, 1) := dk_42 (dk_at dksJ41_node_0 1 rfl rfl)
theorem dJ41_node_2 : decode cJ41_node 2 = .ok (.getfield 7, 3) := dk_180 0 7 (dk_at dksJ41_node_0 2 rfl rfl)
theorem dJ41_node_5 : decode cJ41_node 5 = .ok (.iconst 1, 1) := dk_4 (dk_at dksJ41_node_0 5 rfl rfl)
theorem dJ41_node_6 : decode cJ41_node 6 = .ok (.ishr, 1) := dk_122 (dk_at dksJ41_node_0 6 rfl rfl)
theorem dJ41_node_7 : decode cJ41_node 7 = .ok (.if_icmp .ge 28, 3) := dk_162 0 28 (dk_at dksJ41_node_0 7 rfl rfl)
theorem dJ41_node_10 : decode cJ41_node 10 = .ok (.aload_n 0, 1) := dk_42 (dk_at dksJ41_node_0 10 rfl rfl)
theorem dJ41_node_11 : decode cJ41_node 11 = .ok (.getfield 18, 3) := dk_180 0 18 (dk_at dksJ41_node_0 11 rfl rfl)
theorem dJ41_node_14 : decode cJ41_node 14 = .ok (.astore_n 2, 1) := dk_77 (dk_at dksJ41_node_0 14 rfl rfl)
theorem dJ41_node_15 : decode cJ41_node 15 = .ok (.iconst 0, 1) := dk_3 (dk_at dksJ41_node_0 15 rfl rfl)
theorem dJ41_node_16 : decode cJ41_node 16 = .ok (.istore_n 3, 1) := dk_62 (dk_at dksJ41_node_0 16 rfl rfl)
theorem dJ41_node_17 : decode cJ41_node 17 = .ok (.iload_n 3, 1) := dk_29 (dk_at dksJ41_node_0 17 rfl rfl)
theorem dJ41_node_18 : decode cJ41_node 18 = .ok (.iload_n 1, 1) := dk_27 (dk_at dksJ41_node_0 18 rfl rfl)
theorem dJ41_node_19 : decode cJ41_node 19 = .ok (.if_icmp .ge 14, 3) := dk_162 0 14 (dk_at dksJ41_node_0 19 rfl rfl)
theorem dJ41_node_22 : decode cJ41_node 22 = .ok (.aload_n 2, 1) := dk_44 (dk_at dksJ41_node_0 22 rfl rfl)
theorem dJ41_node_23 : decode cJ41_node 23 = .ok (.getfield 36, 3) := dk_180 0 36 (dk_at dksJ41_node_1 0 rfl rfl)
theorem dJ41_node_26 : decode cJ41_node 26 = .ok (.astore_n 2, 1) := dk_77 (dk_at dksJ41_node_1 3 rfl rfl)
theorem dJ41_node_27 : decode cJ41_node 27 = .ok (.iinc 3 1, 3) := dk_132 3 1 (dk_at dksJ41_node_1 4 rfl rfl)
theorem dJ41_node_30 : decode cJ41_node 30 = .ok (.goto (-13), 3) := dk_167 255 243 (dk_at dksJ41_node_1 7 rfl rfl)
theorem dJ41_node_33 : decode cJ41_node 33 = .ok (.aload_n 2, 1) := dk_44 (dk_at dksJ41_node_1 10 rfl rfl)
theorem dJ41_node_34 : decode cJ41_node 34 = .ok (.areturn, 1) := dk_176 (dk_at dksJ41_node_1 11 rfl rfl)
theorem dJ41_node_35 : decode cJ41_node 35 = .ok (.aload_n 0, 1) := dk_42 (dk_at dksJ41_node_1 12 rfl rfl)
theorem dJ41_node_36 : decode cJ41_node 36 = .ok (.getfield 27, 3) := dk_180 0 27 (dk_at dksJ41_node_1 13 rfl rfl)
theorem dJ41_node_39 : decode cJ41_node 39 = .ok (.astore_n 2, 1) := dk_77 (dk_at dksJ41_node_1 16 rfl rfl)
theorem dJ41_node_40 : decode cJ41_node 40 = .ok (.aload_n 0, 1) := dk_42 (dk_at dksJ41_node_1 17 rfl rfl)
theorem dJ41_node_41 : decode cJ41_node 41 = .ok (.getfield 7, 3) := dk_180 0 7 (dk_at dksJ41_node_1 18 rfl rfl)
theorem dJ41_node_44 : decode cJ41_node 44 = .ok (.iconst 1, 1) := dk_4 (dk_at dksJ41_node_1 21 rfl rfl)
theorem dJ41_node_45 : decode cJ41_node 45 = .ok (.isub, 1) := dk_100 (dk_at dksJ41_node_1 22 rfl rfl)
theorem dJ41_node_46 : decode cJ41_node 46 = .ok (.istore_n 3, 1) := dk_62 (dk_at dksJ41_node_1 23 rfl rfl)
theorem dJ41_node_47 : decode cJ41_node 47 = .ok (.iload_n 3, 1) := dk_29 (dk_at dksJ41_node_2 0 rfl rfl)
theorem dJ41_node_48 : decode cJ41_node 48 = .ok (.iload_n 1, 1) := dk_27 (dk_at dksJ41_node_2 1 rfl rfl)
theorem dJ41_node_49 : decode cJ41_node 49 = .ok (.if_icmp .le 14, 3) := dk_164 0 14 (dk_at dksJ41_node_2 2 rfl rfl)
theorem dJ41_node_52 : decode cJ41_node 52 = .ok (.aload_n 2, 1) := dk_44 (dk_at dksJ41_node_2 5 rfl rfl)
theorem dJ41_node_53 : decode cJ41_node 53 = .ok (.getfield 30, 3) := dk_180 0 30 (dk_at dksJ41_node_2 6 rfl rfl)
theorem dJ41_node_56 : decode cJ41_node 56 = .ok (.astore_n 2, 1) := dk_77 (dk_at dksJ41_node_2 9 rfl rfl)
theorem dJ41_node_57 : decode cJ41_node 57 = .ok (.iinc 3 (-1), 3) := dk_132 3 255 (dk_at dksJ41_node_2 10 rfl rfl)
theorem dJ41_node_60 : decode cJ41_node 60 = .ok (.goto (-13), 3) := dk_167 255 243 (dk_at dksJ41_node_2 13 rfl rfl)
theorem dJ41_node_63 : decode cJ41_node 63 = .ok (.aload_n 2, 1) := dk_44 (dk_at dksJ41_node_2 16 rfl rfl)
theorem dJ41_node_64 : decode cJ41_node 64 = .ok (.areturn, 1) := dk_176 (dk_at dksJ41_node_2 17 rfl rfl)
abbrev cJ41_linkBefore : ByteArray := prog_80_method_5_code
def yJ41_linkBefore : MethodName := ⟨RJ41, "linkBefore", "(Ljava/lang/Object;Ljava/util/LinkedList$Node;)V"⟩
def dkwJ41_linkBefore_2 : List UInt8 := [96, 181, 0, 7, 42, 89, 180, 0, 33, 4, 96, 181, 0, 33, 177]
abbrev dktJ41_linkBefore_2 : List UInt8 := dkwJ41_linkBefore_2 ++ []
def dkwJ41_linkBefore_1 : List UInt8 := [199, 0, 12, 42, 25, 4, 181, 0, 18, 167, 0, 9, 45, 25, 4, 181, 0, 36, 42, 89, 180, 0, 7, 4]
abbrev dktJ41_linkBefore_1 : List UInt8 := dkwJ41_linkBefore_1 ++ dktJ41_linkBefore_2
def dkwJ41_linkBefore_0 : List UInt8 := [44, 180, 0, 30, 78, 187, 0, 22, 89, 45, 43, 44, 183, 0, 24, 58, 4, 44, 25, 4, 181, 0, 30, 45]
abbrev dktJ41_linkBefore_0 : List UInt8 := dkwJ41_linkBefore_0 ++ dktJ41_linkBefore_1
theorem dksJ41_linkBefore_0 : cJ41_linkBefore.data.toList.drop 0 = dktJ41_linkBefore_0 := by decide +kernel
theorem dksJ41_linkBefore_1 : cJ41_linkBefore.data.toList.drop 24 = dktJ41_linkBefore_1 := dk_seg dksJ41_linkBefore_0 24 rfl rfl
theorem dksJ41_linkBefore_2 : cJ41_linkBefore.data.toList.drop 48 = dktJ41_linkBefore_2 := dk_seg dksJ41_linkBefore_1 24 rfl rfl
theorem dJ41_linkBefore_0 : decode cJ41_linkBefore 0 = .ok (.aload_n 2, 1) := dk_44 (dk_at dksJ41_linkBefore_0 0 rfl rfl)
theorem dJ41_linkBefore_1 : decode cJ41_linkBefore 1 = .ok (.getfield 30, 3) := dk_180 0 30 (dk_at dksJ41_linkBefore_0 1 rfl rfl)
theorem dJ41_linkBefore_4 : decode cJ41_linkBefore 4 = .ok (.astore_n 3, 1) := dk_78 (dk_at dksJ41_linkBefore_0 4 rfl rfl)
theorem dJ41_linkBefore_5 : decode cJ41_linkBefore 5 = .ok (.new 22, 3) := dk_187 0 22 (dk_at dksJ41_linkBefore_0 5 rfl rfl)
theorem dJ41_linkBefore_8 : decode cJ41_linkBefore 8 = .ok (.dup, 1) := dk_89 (dk_at dksJ41_linkBefore_0 8 rfl rfl)
theorem dJ41_linkBefore_9 : decode cJ41_linkBefore 9 = .ok (.aload_n 3, 1) := dk_45 (dk_at dksJ41_linkBefore_0 9 rfl rfl)
theorem dJ41_linkBefore_10 : decode cJ41_linkBefore 10 = .ok (.aload_n 1, 1) := dk_43 (dk_at dksJ41_linkBefore_0 10 rfl rfl)
theorem dJ41_linkBefore_11 : decode cJ41_linkBefore 11 = .ok (.aload_n 2, 1) := dk_44 (dk_at dksJ41_linkBefore_0 11 rfl rfl)
theorem dJ41_linkBefore_12 : decode cJ41_linkBefore 12 = .ok (.invokespecial 24, 3) := dk_183 0 24 (dk_at dksJ41_linkBefore_0 12 rfl rfl)
theorem dJ41_linkBefore_15 : decode cJ41_linkBefore 15 = .ok (.astore 4, 2) := dk_58 4 (dk_at dksJ41_linkBefore_0 15 rfl rfl)
theorem dJ41_linkBefore_17 : decode cJ41_linkBefore 17 = .ok (.aload_n 2, 1) := dk_44 (dk_at dksJ41_linkBefore_0 17 rfl rfl)
theorem dJ41_linkBefore_18 : decode cJ41_linkBefore 18 = .ok (.aload 4, 2) := dk_25 4 (dk_at dksJ41_linkBefore_0 18 rfl rfl)
theorem dJ41_linkBefore_20 : decode cJ41_linkBefore 20 = .ok (.putfield 30, 3) := dk_181 0 30 (dk_at dksJ41_linkBefore_0 20 rfl rfl)
theorem dJ41_linkBefore_23 : decode cJ41_linkBefore 23 = .ok (.aload_n 3, 1) := dk_45 (dk_at dksJ41_linkBefore_0 23 rfl rfl)
theorem dJ41_linkBefore_24 : decode cJ41_linkBefore 24 = .ok (.ifnonnull 12, 3) := dk_199 0 12 (dk_at dksJ41_linkBefore_1 0 rfl rfl)
theorem dJ41_linkBefore_27 : decode cJ41_linkBefore 27 = .ok (.aload_n 0, 1) := dk_42 (dk_at dksJ41_linkBefore_1 3 rfl rfl)
theorem dJ41_linkBefore_28 : decode cJ41_linkBefore 28 = .ok (.aload 4, 2) := dk_25 4 (dk_at dksJ41_linkBefore_1 4 rfl rfl)
theorem dJ41_linkBefore_30 : decode cJ41_linkBefore 30 = .ok (.putfield 18, 3) := dk_181 0 18 (dk_at dksJ41_linkBefore_1 6 rfl rfl)
theorem dJ41_linkBefore_33 : decode cJ41_linkBefore 33 = .ok (.goto 9, 3) := dk_167 0 9 (dk_at dksJ41_linkBefore_1 9 rfl rfl)
theorem dJ41_linkBefore_36 : decode cJ41_linkBefore 36 = .ok (.aload_n 3, 1) := dk_45 (dk_at dksJ41_linkBefore_1 12 rfl rfl)
theorem dJ41_linkBefore_37 : decode cJ41_linkBefore 37 = .ok (.aload 4, 2) := dk_25 4 (dk_at dksJ41_linkBefore_1 13 rfl rfl)
theorem dJ41_linkBefore_39 : decode cJ41_linkBefore 39 = .ok (.putfield 36, 3) := dk_181 0 36 (dk_at dksJ41_linkBefore_1 15 rfl rfl)
theorem dJ41_linkBefore_42 : decode cJ41_linkBefore 42 = .ok (.aload_n 0, 1) := dk_42 (dk_at dksJ41_linkBefore_1 18 rfl rfl)
theorem dJ41_linkBefore_43 : decode cJ41_linkBefore 43 = .ok (.dup, 1) := dk_89 (dk_at dksJ41_linkBefore_1 19 rfl rfl)
theorem dJ41_linkBefore_44 : decode cJ41_linkBefore 44 = .ok (.getfield 7, 3) := dk_180 0 7 (dk_at dksJ41_linkBefore_1 20 rfl rfl)
theorem dJ41_linkBefore_47 : decode cJ41_linkBefore 47 = .ok (.iconst 1, 1) := dk_4 (dk_at dksJ41_linkBefore_1 23 rfl rfl)
theorem dJ41_linkBefore_48 : decode cJ41_linkBefore 48 = .ok (.iadd, 1) := dk_96 (dk_at dksJ41_linkBefore_2 0 rfl rfl)
theorem dJ41_linkBefore_49 : decode cJ41_linkBefore 49 = .ok (.putfield 7, 3) := dk_181 0 7 (dk_at dksJ41_linkBefore_2 1 rfl rfl)
theorem dJ41_linkBefore_52 : decode cJ41_linkBefore 52 = .ok (.aload_n 0, 1) := dk_42 (dk_at dksJ41_linkBefore_2 4 rfl rfl)
theorem dJ41_linkBefore_53 : decode cJ41_linkBefore 53 = .ok (.dup, 1) := dk_89 (dk_at dksJ41_linkBefore_2 5 rfl rfl)
theorem dJ41_linkBefore_54 : decode cJ41_linkBefore 54 = .ok (.getfield 33, 3) := dk_180 0 33 (dk_at dksJ41_linkBefore_2 6 rfl rfl)
theorem dJ41_linkBefore_57 : decode cJ41_linkBefore 57 = .ok (.iconst 1, 1) := dk_4 (dk_at dksJ41_linkBefore_2 9 rfl rfl)
theorem dJ41_linkBefore_58 : decode cJ41_linkBefore 58 = .ok (.iadd, 1) := dk_96 (dk_at dksJ41_linkBefore_2 10 rfl rfl)
theorem dJ41_linkBefore_59 : decode cJ41_linkBefore 59 = .ok (.putfield 33, 3) := dk_181 0 33 (dk_at dksJ41_linkBefore_2 11 rfl rfl)
theorem dJ41_linkBefore_62 : decode cJ41_linkBefore 62 = .ok (.return_, 1) := dk_177 (dk_at dksJ41_linkBefore_2 14 rfl rfl)
abbrev cJ41_add_2 : ByteArray := prog_80_method_17_code
def yJ41_add_2 : MethodName := ⟨RJ41, "add", "(Ljava/lang/Object;)Z"⟩
def dkwJ41_add_2_0 : List UInt8 := [42, 43, 182, 0, 57, 4, 172]
abbrev dktJ41_add_2_0 : List UInt8 := dkwJ41_add_2_0 ++ []
theorem dksJ41_add_2_0 : cJ41_add_2.data.toList.drop 0 = dktJ41_add_2_0 := by decide +kernel
theorem dJ41_add_2_0 : decode cJ41_add_2 0 = .ok (.aload_n 0, 1) := dk_42 (dk_at dksJ41_add_2_0 0 rfl rfl)
theorem dJ41_add_2_1 : decode cJ41_add_2 1 = .ok (.aload_n 1, 1) := dk_43 (dk_at dksJ41_add_2_0 1 rfl rfl)
theorem dJ41_add_2_2 : decode cJ41_add_2 2 = .ok (.invokevirtual 57, 3) := dk_182 0 57 (dk_at dksJ41_add_2_0 2 rfl rfl)
theorem dJ41_add_2_5 : decode cJ41_add_2 5 = .ok (.iconst 1, 1) := dk_4 (dk_at dksJ41_add_2_0 5 rfl rfl)
theorem dJ41_add_2_6 : decode cJ41_add_2 6 = .ok (.ireturn, 1) := dk_172 (dk_at dksJ41_add_2_0 6 rfl rfl)
abbrev cJ41_listIterator : ByteArray := prog_80_method_49_code
def yJ41_listIterator : MethodName := ⟨RJ41, "listIterator", "(I)Ljava/util/ListIterator;"⟩
def dkwJ41_listIterator_0 : List UInt8 := [42, 27, 182, 0, 76, 187, 0, 150, 89, 42, 27, 183, 0, 152, 176]
abbrev dktJ41_listIterator_0 : List UInt8 := dkwJ41_listIterator_0 ++ []
theorem dksJ41_listIterator_0 : cJ41_listIterator.data.toList.drop 0 = dktJ41_listIterator_0 := by decide +kernel
theorem dJ41_listIterator_0 : decode cJ41_listIterator 0 = .ok (.aload_n 0, 1) := dk_42 (dk_at dksJ41_listIterator_0 0 rfl rfl)
theorem dJ41_listIterator_1 : decode cJ41_listIterator 1 = .ok (.iload_n 1, 1) := dk_27 (dk_at dksJ41_listIterator_0 1 rfl rfl)
theorem dJ41_listIterator_2 : decode cJ41_listIterator 2 = .ok (.invokevirtual 76, 3) := dk_182 0 76 (dk_at dksJ41_listIterator_0 2 rfl rfl)
theorem dJ41_listIterator_5 : decode cJ41_listIterator 5 = .ok (.new 150, 3) := dk_187 0 150 (dk_at dksJ41_listIterator_0 5 rfl rfl)
theorem dJ41_listIterator_8 : decode cJ41_listIterator 8 = .ok (.dup, 1) := dk_89 (dk_at dksJ41_listIterator_0 8 rfl rfl)
theorem dJ41_listIterator_9 : decode cJ41_listIterator 9 = .ok (.aload_n 0, 1) := dk_42 (dk_at dksJ41_listIterator_0 9 rfl rfl)
theorem dJ41_listIterator_10 : decode cJ41_listIterator 10 = .ok (.iload_n 1, 1) := dk_27 (dk_at dksJ41_listIterator_0 10 rfl rfl)
theorem dJ41_listIterator_11 : decode cJ41_listIterator 11 = .ok (.invokespecial 152, 3) := dk_183 0 152 (dk_at dksJ41_listIterator_0 11 rfl rfl)
theorem dJ41_listIterator_14 : decode cJ41_listIterator 14 = .ok (.areturn, 1) := dk_176 (dk_at dksJ41_listIterator_0 14 rfl rfl)
abbrev cJ41_get : ByteArray := prog_80_method_22_code
def yJ41_get : MethodName := ⟨RJ41, "get", "(I)Ljava/lang/Object;"⟩
def dkwJ41_get_0 : List UInt8 := [42, 27, 182, 0, 90, 42, 27, 182, 0, 86, 180, 0, 39, 176]
abbrev dktJ41_get_0 : List UInt8 := dkwJ41_get_0 ++ []
theorem dksJ41_get_0 : cJ41_get.data.toList.drop 0 = dktJ41_get_0 := by decide +kernel
theorem dJ41_get_0 : decode cJ41_get 0 = .ok (.aload_n 0, 1) := dk_42 (dk_at dksJ41_get_0 0 rfl rfl)
theorem dJ41_get_1 : decode cJ41_get 1 = .ok (.iload_n 1, 1) := dk_27 (dk_at dksJ41_get_0 1 rfl rfl)
theorem dJ41_get_2 : decode cJ41_get 2 = .ok (.invokevirtual 90, 3) := dk_182 0 90 (dk_at dksJ41_get_0 2 rfl rfl)
theorem dJ41_get_5 : decode cJ41_get 5 = .ok (.aload_n 0, 1) := dk_42 (dk_at dksJ41_get_0 5 rfl rfl)
theorem dJ41_get_6 : decode cJ41_get 6 = .ok (.iload_n 1, 1) := dk_27 (dk_at dksJ41_get_0 6 rfl rfl)
theorem dJ41_get_7 : decode cJ41_get 7 = .ok (.invokevirtual 86, 3) := dk_182 0 86 (dk_at dksJ41_get_0 7 rfl rfl)
theorem dJ41_get_10 : decode cJ41_get 10 = .ok (.getfield 39, 3) := dk_180 0 39 (dk_at dksJ41_get_0 10 rfl rfl)
theorem dJ41_get_13 : decode cJ41_get 13 = .ok (.areturn, 1) := dk_176 (dk_at dksJ41_get_0 13 rfl rfl)
abbrev cJ41_checkElementIndex : ByteArray := prog_80_method_29_code
def yJ41_checkElementIndex : MethodName := ⟨RJ41, "checkElementIndex", "(I)V"⟩
def dkwJ41_checkElementIndex_0 : List UInt8 := [42, 27, 182, 0, 115, 154, 0, 16, 187, 0, 119, 89, 42, 27, 182, 0, 121, 183, 0, 125, 191, 177]
abbrev dktJ41_checkElementIndex_0 : List UInt8 := dkwJ41_checkElementIndex_0 ++ []
theorem dksJ41_checkElementIndex_0 : cJ41_checkElementIndex.data.toList.drop 0 = dktJ41_checkElementIndex_0 := by decide +kernel
theorem dJ41_checkElementIndex_0 : decode cJ41_checkElementIndex 0 = .ok (.aload_n 0, 1) := dk_42 (dk_at dksJ41_checkElementIndex_0 0 rfl rfl)
theorem dJ41_checkElementIndex_1 : decode cJ41_checkElementIndex 1 = .ok (.iload_n 1, 1) := dk_27 (dk_at dksJ41_checkElementIndex_0 1 rfl rfl)
theorem dJ41_checkElementIndex_2 : decode cJ41_checkElementIndex 2 = .ok (.invokevirtual 115, 3) := dk_182 0 115 (dk_at dksJ41_checkElementIndex_0 2 rfl rfl)
theorem dJ41_checkElementIndex_5 : decode cJ41_checkElementIndex 5 = .ok (.ifCond .ne 16, 3) := dk_154 0 16 (dk_at dksJ41_checkElementIndex_0 5 rfl rfl)
theorem dJ41_checkElementIndex_8 : decode cJ41_checkElementIndex 8 = .ok (.new 119, 3) := dk_187 0 119 (dk_at dksJ41_checkElementIndex_0 8 rfl rfl)
theorem dJ41_checkElementIndex_11 : decode cJ41_checkElementIndex 11 = .ok (.dup, 1) := dk_89 (dk_at dksJ41_checkElementIndex_0 11 rfl rfl)
theorem dJ41_checkElementIndex_12 : decode cJ41_checkElementIndex 12 = .ok (.aload_n 0, 1) := dk_42 (dk_at dksJ41_checkElementIndex_0 12 rfl rfl)
theorem dJ41_checkElementIndex_13 : decode cJ41_checkElementIndex 13 = .ok (.iload_n 1, 1) := dk_27 (dk_at dksJ41_checkElementIndex_0 13 rfl rfl)
theorem dJ41_checkElementIndex_14 : decode cJ41_checkElementIndex 14 = .ok (.invokevirtual 121, 3) := dk_182 0 121 (dk_at dksJ41_checkElementIndex_0 14 rfl rfl)
theorem dJ41_checkElementIndex_17 : decode cJ41_checkElementIndex 17 = .ok (.invokespecial 125, 3) := dk_183 0 125 (dk_at dksJ41_checkElementIndex_0 17 rfl rfl)
theorem dJ41_checkElementIndex_20 : decode cJ41_checkElementIndex 20 = .ok (.athrow, 1) := dk_191 (dk_at dksJ41_checkElementIndex_0 20 rfl rfl)
theorem dJ41_checkElementIndex_21 : decode cJ41_checkElementIndex 21 = .ok (.return_, 1) := dk_177 (dk_at dksJ41_checkElementIndex_0 21 rfl rfl)
abbrev cJ41_isElementIndex : ByteArray := prog_80_method_26_code
def yJ41_isElementIndex : MethodName := ⟨RJ41, "isElementIndex", "(I)Z"⟩
def dkwJ41_isElementIndex_0 : List UInt8 := [27, 155, 0, 15, 27, 42, 180, 0, 7, 162, 0, 7, 4, 167, 0, 4, 3, 172]
abbrev dktJ41_isElementIndex_0 : List UInt8 := dkwJ41_isElementIndex_0 ++ []
theorem dksJ41_isElementIndex_0 : cJ41_isElementIndex.data.toList.drop 0 = dktJ41_isElementIndex_0 := by decide +kernel
theorem dJ41_isElementIndex_0 : decode cJ41_isElementIndex 0 = .ok (.iload_n 1, 1) := dk_27 (dk_at dksJ41_isElementIndex_0 0 rfl rfl)
theorem dJ41_isElementIndex_1 : decode cJ41_isElementIndex 1 = .ok (.ifCond .lt 15, 3) := dk_155 0 15 (dk_at dksJ41_isElementIndex_0 1 rfl rfl)
theorem dJ41_isElementIndex_4 : decode cJ41_isElementIndex 4 = .ok (.iload_n 1, 1) := dk_27 (dk_at dksJ41_isElementIndex_0 4 rfl rfl)
theorem dJ41_isElementIndex_5 : decode cJ41_isElementIndex 5 = .ok (.aload_n 0, 1) := dk_42 (dk_at dksJ41_isElementIndex_0 5 rfl rfl)
theorem dJ41_isElementIndex_6 : decode cJ41_isElementIndex 6 = .ok (.getfield 7, 3) := dk_180 0 7 (dk_at dksJ41_isElementIndex_0 6 rfl rfl)
theorem dJ41_isElementIndex_9 : decode cJ41_isElementIndex 9 = .ok (.if_icmp .ge 7, 3) := dk_162 0 7 (dk_at dksJ41_isElementIndex_0 9 rfl rfl)
theorem dJ41_isElementIndex_12 : decode cJ41_isElementIndex 12 = .ok (.iconst 1, 1) := dk_4 (dk_at dksJ41_isElementIndex_0 12 rfl rfl)
theorem dJ41_isElementIndex_13 : decode cJ41_isElementIndex 13 = .ok (.goto 4, 3) := dk_167 0 4 (dk_at dksJ41_isElementIndex_0 13 rfl rfl)
theorem dJ41_isElementIndex_16 : decode cJ41_isElementIndex 16 = .ok (.iconst 0, 1) := dk_3 (dk_at dksJ41_isElementIndex_0 16 rfl rfl)
theorem dJ41_isElementIndex_17 : decode cJ41_isElementIndex 17 = .ok (.ireturn, 1) := dk_172 (dk_at dksJ41_isElementIndex_0 17 rfl rfl)
abbrev cJ41_init : ByteArray := prog_80_method_1_code
def yJ41_init : MethodName := ⟨RJ41, "<init>", "()V"⟩
def dkwJ41_init_0 : List UInt8 := [42, 183, 0, 1, 42, 3, 181, 0, 7, 177]
abbrev dktJ41_init_0 : List UInt8 := dkwJ41_init_0 ++ []
theorem dksJ41_init_0 : cJ41_init.data.toList.drop 0 = dktJ41_init_0 := by decide +kernel
theorem dJ41_init_0 : decode cJ41_init 0 = .ok (.aload_n 0, 1) := dk_42 (dk_at dksJ41_init_0 0 rfl rfl)
theorem dJ41_init_1 : decode cJ41_init 1 = .ok (.invokespecial 1, 3) := dk_183 0 1 (dk_at dksJ41_init_0 1 rfl rfl)
theorem dJ41_init_4 : decode cJ41_init 4 = .ok (.aload_n 0, 1) := dk_42 (dk_at dksJ41_init_0 4 rfl rfl)
theorem dJ41_init_5 : decode cJ41_init 5 = .ok (.iconst 0, 1) := dk_3 (dk_at dksJ41_init_0 5 rfl rfl)
theorem dJ41_init_6 : decode cJ41_init 6 = .ok (.putfield 7, 3) := dk_181 0 7 (dk_at dksJ41_init_0 6 rfl rfl)
theorem dJ41_init_9 : decode cJ41_init 9 = .ok (.return_, 1) := dk_177 (dk_at dksJ41_init_0 9 rfl rfl)
abbrev cJ41_addLast : ByteArray := prog_80_method_14_code
def yJ41_addLast : MethodName := ⟨RJ41, "addLast", "(Ljava/lang/Object;)V"⟩
def dkwJ41_addLast_0 : List UInt8 := [42, 43, 182, 0, 57, 177]
abbrev dktJ41_addLast_0 : List UInt8 := dkwJ41_addLast_0 ++ []
theorem dksJ41_addLast_0 : cJ41_addLast.data.toList.drop 0 = dktJ41_addLast_0 := by decide +kernel
theorem dJ41_addLast_0 : decode cJ41_addLast 0 = .ok (.aload_n 0, 1) := dk_42 (dk_at dksJ41_addLast_0 0 rfl rfl)
theorem dJ41_addLast_1 : decode cJ41_addLast 1 = .ok (.aload_n 1, 1) := dk_43 (dk_at dksJ41_addLast_0 1 rfl rfl)
theorem dJ41_addLast_2 : decode cJ41_addLast 2 = .ok (.invokevirtual 57, 3) := dk_182 0 57 (dk_at dksJ41_addLast_0 2 rfl rfl)
theorem dJ41_addLast_5 : decode cJ41_addLast 5 = .ok (.return_, 1) := dk_177 (dk_at dksJ41_addLast_0 5 rfl rfl)
abbrev cJ41_remove : ByteArray := prog_80_method_25_code
def yJ41_remove : MethodName := ⟨RJ41, "remove", "(I)Ljava/lang/Object;"⟩
def dkwJ41_remove_0 : List UInt8 := [42, 27, 182, 0, 90, 42, 42, 27, 182, 0, 86, 182, 0, 64, 176]
abbrev dktJ41_remove_0 : List UInt8 := dkwJ41_remove_0 ++ []
theorem dksJ41_remove_0 : cJ41_remove.data.toList.drop 0 = dktJ41_remove_0 := by decide +kernel
theorem dJ41_remove_0 : decode cJ41_remove 0 = .ok (.aload_n 0, 1) := dk_42 (dk_at dksJ41_remove_0 0 rfl rfl)
theorem dJ41_remove_1 : decode cJ41_remove 1 = .ok (.iload_n 1, 1) := dk_27 (dk_at dksJ41_remove_0 1 rfl rfl)
theorem dJ41_remove_2 : decode cJ41_remove 2 = .ok (.invokevirtual 90, 3) := dk_182 0 90 (dk_at dksJ41_remove_0 2 rfl rfl)
theorem dJ41_remove_5 : decode cJ41_remove 5 = .ok (.aload_n 0, 1) := dk_42 (dk_at dksJ41_remove_0 5 rfl rfl)
theorem dJ41_remove_6 : decode cJ41_remove 6 = .ok (.aload_n 0, 1) := dk_42 (dk_at dksJ41_remove_0 6 rfl rfl)
theorem dJ41_remove_7 : decode cJ41_remove 7 = .ok (.iload_n 1, 1) := dk_27 (dk_at dksJ41_remove_0 7 rfl rfl)
theorem dJ41_remove_8 : decode cJ41_remove 8 = .ok (.invokevirtual 86, 3) := dk_182 0 86 (dk_at dksJ41_remove_0 8 rfl rfl)
theorem dJ41_remove_11 : decode cJ41_remove 11 = .ok (.invokevirtual 64, 3) := dk_182 0 64 (dk_at dksJ41_remove_0 11 rfl rfl)
theorem dJ41_remove_14 : decode cJ41_remove 14 = .ok (.areturn, 1) := dk_176 (dk_at dksJ41_remove_0 14 rfl rfl)
abbrev cJ41_unlink : ByteArray := prog_80_method_8_code
def yJ41_unlink : MethodName := ⟨RJ41, "unlink", "(Ljava/util/LinkedList$Node;)Ljava/lang/Object;"⟩
def dkwJ41_unlink_3 : List UInt8 := [180, 0, 7, 4, 100, 181, 0, 7, 42, 89, 180, 0, 33, 4, 96, 181, 0, 33, 44, 176]
abbrev dktJ41_unlink_3 : List UInt8 := dkwJ41_unlink_3 ++ []
def dkwJ41_unlink_2 : List UInt8 := [181, 0, 27, 167, 0, 14, 45, 25, 4, 181, 0, 30, 43, 1, 181, 0, 36, 43, 1, 181, 0, 39, 42, 89]
abbrev dktJ41_unlink_2 : List UInt8 := dkwJ41_unlink_2 ++ dktJ41_unlink_3
def dkwJ41_unlink_1 : List UInt8 := [181, 0, 18, 167, 0, 14, 25, 4, 45, 181, 0, 36, 43, 1, 181, 0, 30, 45, 199, 0, 12, 42, 25, 4]
abbrev dktJ41_unlink_1 : List UInt8 := dkwJ41_unlink_1 ++ dktJ41_unlink_2
def dkwJ41_unlink_0 : List UInt8 := [43, 180, 0, 39, 77, 43, 180, 0, 36, 78, 43, 180, 0, 30, 58, 4, 25, 4, 199, 0, 11, 42, 45]
abbrev dktJ41_unlink_0 : List UInt8 := dkwJ41_unlink_0 ++ dktJ41_unlink_1
theorem dksJ41_unlink_0 : cJ41_unlink.data.toList.drop 0 = dktJ41_unlink_0 := by decide +kernel
theorem dksJ41_unlink_1 : cJ41_unlink.data.toList.drop 23 = dktJ41_unlink_1 := dk_seg dksJ41_unlink_0 23 rfl rfl
theorem dksJ41_unlink_2 : cJ41_unlink.data.toList.drop 47 = dktJ41_unlink_2 := dk_seg dksJ41_unlink_1 24 rfl rfl
theorem dksJ41_unlink_3 : cJ41_unlink.data.toList.drop 71 = dktJ41_unlink_3 := dk_seg dksJ41_unlink_2 24 rfl rfl
theorem dJ41_unlink_0 : decode cJ41_unlink 0 = .ok (.aload_n 1, 1) := dk_43 (dk_at dksJ41_unlink_0 0 rfl rfl)
theorem dJ41_unlink_1 : decode cJ41_unlink 1 = .ok (.getfield 39, 3) := dk_180 0 39 (dk_at dksJ41_unlink_0 1 rfl rfl)
theorem dJ41_unlink_4 : decode cJ41_unlink 4 = .ok (.astore_n 2, 1) := dk_77 (dk_at dksJ41_unlink_0 4 rfl rfl)
theorem dJ41_unlink_5 : decode cJ41_unlink 5 = .ok (.aload_n 1, 1) := dk_43 (dk_at dksJ41_unlink_0 5 rfl rfl)
theorem dJ41_unlink_6 : decode cJ41_unlink 6 = .ok (.getfield 36, 3) := dk_180 0 36 (dk_at dksJ41_unlink_0 6 rfl rfl)
theorem dJ41_unlink_9 : decode cJ41_unlink 9 = .ok (.astore_n 3, 1) := dk_78 (dk_at dksJ41_unlink_0 9 rfl rfl)
theorem dJ41_unlink_10 : decode cJ41_unlink 10 = .ok (.aload_n 1, 1) := dk_43 (dk_at dksJ41_unlink_0 10 rfl rfl)
theorem dJ41_unlink_11 : decode cJ41_unlink 11 = .ok (.getfield 30, 3) := dk_180 0 30 (dk_at dksJ41_unlink_0 11 rfl rfl)
theorem dJ41_unlink_14 : decode cJ41_unlink 14 = .ok (.astore 4, 2) := dk_58 4 (dk_at dksJ41_unlink_0 14 rfl rfl)
theorem dJ41_unlink_16 : decode cJ41_unlink 16 = .ok (.aload 4, 2) := dk_25 4 (dk_at dksJ41_unlink_0 16 rfl rfl)
theorem dJ41_unlink_18 : decode cJ41_unlink 18 = .ok (.ifnonnull 11, 3) := dk_199 0 11 (dk_at dksJ41_unlink_0 18 rfl rfl)
theorem dJ41_unlink_21 : decode cJ41_unlink 21 = .ok (.aload_n 0, 1) := dk_42 (dk_at dksJ41_unlink_0 21 rfl rfl)
theorem dJ41_unlink_22 : decode cJ41_unlink 22 = .ok (.aload_n 3, 1) := dk_45 (dk_at dksJ41_unlink_0 22 rfl rfl)
theorem dJ41_unlink_23 : decode cJ41_unlink 23 = .ok (.putfield 18, 3) := dk_181 0 18 (dk_at dksJ41_unlink_1 0 rfl rfl)
theorem dJ41_unlink_26 : decode cJ41_unlink 26 = .ok (.goto 14, 3) := dk_167 0 14 (dk_at dksJ41_unlink_1 3 rfl rfl)
theorem dJ41_unlink_29 : decode cJ41_unlink 29 = .ok (.aload 4, 2) := dk_25 4 (dk_at dksJ41_unlink_1 6 rfl rfl)
theorem dJ41_unlink_31 : decode cJ41_unlink 31 = .ok (.aload_n 3, 1) := dk_45 (dk_at dksJ41_unlink_1 8 rfl rfl)
theorem dJ41_unlink_32 : decode cJ41_unlink 32 = .ok (.putfield 36, 3) := dk_181 0 36 (dk_at dksJ41_unlink_1 9 rfl rfl)
theorem dJ41_unlink_35 : decode cJ41_unlink 35 = .ok (.aload_n 1, 1) := dk_43 (dk_at dksJ41_unlink_1 12 rfl rfl)
theorem dJ41_unlink_36 : decode cJ41_unlink 36 = .ok (.aconst_null, 1) := dk_1 (dk_at dksJ41_unlink_1 13 rfl rfl)
theorem dJ41_unlink_37 : decode cJ41_unlink 37 = .ok (.putfield 30, 3) := dk_181 0 30 (dk_at dksJ41_unlink_1 14 rfl rfl)
theorem dJ41_unlink_40 : decode cJ41_unlink 40 = .ok (.aload_n 3, 1) := dk_45 (dk_at dksJ41_unlink_1 17 rfl rfl)
theorem dJ41_unlink_41 : decode cJ41_unlink 41 = .ok (.ifnonnull 12, 3) := dk_199 0 12 (dk_at dksJ41_unlink_1 18 rfl rfl)
theorem dJ41_unlink_44 : decode cJ41_unlink 44 = .ok (.aload_n 0, 1) := dk_42 (dk_at dksJ41_unlink_1 21 rfl rfl)
theorem dJ41_unlink_45 : decode cJ41_unlink 45 = .ok (.aload 4, 2) := dk_25 4 (dk_at dksJ41_unlink_1 22 rfl rfl)
theorem dJ41_unlink_47 : decode cJ41_unlink 47 = .ok (.putfield 27, 3) := dk_181 0 27 (dk_at dksJ41_unlink_2 0 rfl rfl)
theorem dJ41_unlink_50 : decode cJ41_unlink 50 = .ok (.goto 14, 3) := dk_167 0 14 (dk_at dksJ41_unlink_2 3 rfl rfl)
theorem dJ41_unlink_53 : decode cJ41_unlink 53 = .ok (.aload_n 3, 1) := dk_45 (dk_at dksJ41_unlink_2 6 rfl rfl)
theorem dJ41_unlink_54 : decode cJ41_unlink 54 = .ok (.aload 4, 2) := dk_25 4 (dk_at dksJ41_unlink_2 7 rfl rfl)
theorem dJ41_unlink_56 : decode cJ41_unlink 56 = .ok (.putfield 30, 3) := dk_181 0 30 (dk_at dksJ41_unlink_2 9 rfl rfl)
theorem dJ41_unlink_59 : decode cJ41_unlink 59 = .ok (.aload_n 1, 1) := dk_43 (dk_at dksJ41_unlink_2 12 rfl rfl)
theorem dJ41_unlink_60 : decode cJ41_unlink 60 = .ok (.aconst_null, 1) := dk_1 (dk_at dksJ41_unlink_2 13 rfl rfl)
theorem dJ41_unlink_61 : decode cJ41_unlink 61 = .ok (.putfield 36, 3) := dk_181 0 36 (dk_at dksJ41_unlink_2 14 rfl rfl)
theorem dJ41_unlink_64 : decode cJ41_unlink 64 = .ok (.aload_n 1, 1) := dk_43 (dk_at dksJ41_unlink_2 17 rfl rfl)
theorem dJ41_unlink_65 : decode cJ41_unlink 65 = .ok (.aconst_null, 1) := dk_1 (dk_at dksJ41_unlink_2 18 rfl rfl)
theorem dJ41_unlink_66 : decode cJ41_unlink 66 = .ok (.putfield 39, 3) := dk_181 0 39 (dk_at dksJ41_unlink_2 19 rfl rfl)
theorem dJ41_unlink_69 : decode cJ41_unlink 69 = .ok (.aload_n 0, 1) := dk_42 (dk_at dksJ41_unlink_2 22 rfl rfl)
theorem dJ41_unlink_70 : decode cJ41_unlink 70 = .ok (.dup, 1) := dk_89 (dk_at dksJ41_unlink_2 23 rfl rfl)
theorem dJ41_unlink_71 : decode cJ41_unlink 71 = .ok (.getfield 7, 3) := dk_180 0 7 (dk_at dksJ41_unlink_3 0 rfl rfl)
theorem dJ41_unlink_74 : decode cJ41_unlink 74 = .ok (.iconst 1, 1) := dk_4 (dk_at dksJ41_unlink_3 3 rfl rfl)
theorem dJ41_unlink_75 : decode cJ41_unlink 75 = .ok (.isub, 1) := dk_100 (dk_at dksJ41_unlink_3 4 rfl rfl)
theorem dJ41_unlink_76 : decode cJ41_unlink 76 = .ok (.putfield 7, 3) := dk_181 0 7 (dk_at dksJ41_unlink_3 5 rfl rfl)
theorem dJ41_unlink_79 : decode cJ41_unlink 79 = .ok (.aload_n 0, 1) := dk_42 (dk_at dksJ41_unlink_3 8 rfl rfl)
theorem dJ41_unlink_80 : decode cJ41_unlink 80 = .ok (.dup, 1) := dk_89 (dk_at dksJ41_unlink_3 9 rfl rfl)
theorem dJ41_unlink_81 : decode cJ41_unlink 81 = .ok (.getfield 33, 3) := dk_180 0 33 (dk_at dksJ41_unlink_3 10 rfl rfl)
theorem dJ41_unlink_84 : decode cJ41_unlink 84 = .ok (.iconst 1, 1) := dk_4 (dk_at dksJ41_unlink_3 13 rfl rfl)
theorem dJ41_unlink_85 : decode cJ41_unlink 85 = .ok (.iadd, 1) := dk_96 (dk_at dksJ41_unlink_3 14 rfl rfl)
theorem dJ41_unlink_86 : decode cJ41_unlink 86 = .ok (.putfield 33, 3) := dk_181 0 33 (dk_at dksJ41_unlink_3 15 rfl rfl)
theorem dJ41_unlink_89 : decode cJ41_unlink 89 = .ok (.aload_n 2, 1) := dk_44 (dk_at dksJ41_unlink_3 18 rfl rfl)
theorem dJ41_unlink_90 : decode cJ41_unlink 90 = .ok (.areturn, 1) := dk_176 (dk_at dksJ41_unlink_3 19 rfl rfl)
abbrev cJ41_toArray : ByteArray := prog_80_method_53_code
def yJ41_toArray : MethodName := ⟨RJ41, "toArray", "()[Ljava/lang/Object;"⟩
def dkwJ41_toArray_1 : List UInt8 := [45, 180, 0, 39, 83, 45, 180, 0, 36, 78, 167, 255, 237, 43, 176]
abbrev dktJ41_toArray_1 : List UInt8 := dkwJ41_toArray_1 ++ []
def dkwJ41_toArray_0 : List UInt8 := [42, 180, 0, 7, 189, 0, 68, 76, 3, 61, 42, 180, 0, 18, 78, 45, 198, 0, 21, 43, 28, 132, 2, 1]
abbrev dktJ41_toArray_0 : List UInt8 := dkwJ41_toArray_0 ++ dktJ41_toArray_1
theorem dksJ41_toArray_0 : cJ41_toArray.data.toList.drop 0 = dktJ41_toArray_0 := by decide +kernel
theorem dksJ41_toArray_1 : cJ41_toArray.data.toList.drop 24 = dktJ41_toArray_1 := dk_seg dksJ41_toArray_0 24 rfl rfl
theorem dJ41_toArray_0 : decode cJ41_toArray 0 = .ok (.aload_n 0, 1) := dk_42 (dk_at dksJ41_toArray_0 0 rfl rfl)
theorem dJ41_toArray_1 : decode cJ41_toArray 1 = .ok (.getfield 7, 3) := dk_180 0 7 (dk_at dksJ41_toArray_0 1 rfl rfl)
theorem dJ41_toArray_4 : decode cJ41_toArray 4 = .ok (.anewarray 68, 3) := dk_189 0 68 (dk_at dksJ41_toArray_0 4 rfl rfl)
theorem dJ41_toArray_7 : decode cJ41_toArray 7 = .ok (.astore_n 1, 1) := dk_76 (dk_at dksJ41_toArray_0 7 rfl rfl)
theorem dJ41_toArray_8 : decode cJ41_toArray 8 = .ok (.iconst 0, 1) := dk_3 (dk_at dksJ41_toArray_0 8 rfl rfl)
theorem dJ41_toArray_9 : decode cJ41_toArray 9 = .ok (.istore_n 2, 1) := dk_61 (dk_at dksJ41_toArray_0 9 rfl rfl)
theorem dJ41_toArray_10 : decode cJ41_toArray 10 = .ok (.aload_n 0, 1) := dk_42 (dk_at dksJ41_toArray_0 10 rfl rfl)
theorem dJ41_toArray_11 : decode cJ41_toArray 11 = .ok (.getfield 18, 3) := dk_180 0 18 (dk_at dksJ41_toArray_0 11 rfl rfl)
theorem dJ41_toArray_14 : decode cJ41_toArray 14 = .ok (.astore_n 3, 1) := dk_78 (dk_at dksJ41_toArray_0 14 rfl rfl)
theorem dJ41_toArray_15 : decode cJ41_toArray 15 = .ok (.aload_n 3, 1) := dk_45 (dk_at dksJ41_toArray_0 15 rfl rfl)
theorem dJ41_toArray_16 : decode cJ41_toArray 16 = .ok (.ifnull 21, 3) := dk_198 0 21 (dk_at dksJ41_toArray_0 16 rfl rfl)
theorem dJ41_toArray_19 : decode cJ41_toArray 19 = .ok (.aload_n 1, 1) := dk_43 (dk_at dksJ41_toArray_0 19 rfl rfl)
theorem dJ41_toArray_20 : decode cJ41_toArray 20 = .ok (.iload_n 2, 1) := dk_28 (dk_at dksJ41_toArray_0 20 rfl rfl)
theorem dJ41_toArray_21 : decode cJ41_toArray 21 = .ok (.iinc 2 1, 3) := dk_132 2 1 (dk_at dksJ41_toArray_0 21 rfl rfl)
theorem dJ41_toArray_24 : decode cJ41_toArray 24 = .ok (.aload_n 3, 1) := dk_45 (dk_at dksJ41_toArray_1 0 rfl rfl)
theorem dJ41_toArray_25 : decode cJ41_toArray 25 = .ok (.getfield 39, 3) := dk_180 0 39 (dk_at dksJ41_toArray_1 1 rfl rfl)
theorem dJ41_toArray_28 : decode cJ41_toArray 28 = .ok (.aastore, 1) := dk_83 (dk_at dksJ41_toArray_1 4 rfl rfl)
theorem dJ41_toArray_29 : decode cJ41_toArray 29 = .ok (.aload_n 3, 1) := dk_45 (dk_at dksJ41_toArray_1 5 rfl rfl)
theorem dJ41_toArray_30 : decode cJ41_toArray 30 = .ok (.getfield 36, 3) := dk_180 0 36 (dk_at dksJ41_toArray_1 6 rfl rfl)
theorem dJ41_toArray_33 : decode cJ41_toArray 33 = .ok (.astore_n 3, 1) := dk_78 (dk_at dksJ41_toArray_1 9 rfl rfl)
theorem dJ41_toArray_34 : decode cJ41_toArray 34 = .ok (.goto (-19), 3) := dk_167 255 237 (dk_at dksJ41_toArray_1 10 rfl rfl)
theorem dJ41_toArray_37 : decode cJ41_toArray 37 = .ok (.aload_n 1, 1) := dk_43 (dk_at dksJ41_toArray_1 13 rfl rfl)
theorem dJ41_toArray_38 : decode cJ41_toArray 38 = .ok (.areturn, 1) := dk_176 (dk_at dksJ41_toArray_1 14 rfl rfl)
abbrev cJ41_set : ByteArray := prog_80_method_23_code
def yJ41_set : MethodName := ⟨RJ41, "set", "(ILjava/lang/Object;)Ljava/lang/Object;"⟩
def dkwJ41_set_1 : List UInt8 := [176]
abbrev dktJ41_set_1 : List UInt8 := dkwJ41_set_1 ++ []
def dkwJ41_set_0 : List UInt8 := [42, 27, 182, 0, 90, 42, 27, 182, 0, 86, 78, 45, 180, 0, 39, 58, 4, 45, 44, 181, 0, 39, 25, 4]
abbrev dktJ41_set_0 : List UInt8 := dkwJ41_set_0 ++ dktJ41_set_1
theorem dksJ41_set_0 : cJ41_set.data.toList.drop 0 = dktJ41_set_0 := by decide +kernel
theorem dksJ41_set_1 : cJ41_set.data.toList.drop 24 = dktJ41_set_1 := dk_seg dksJ41_set_0 24 rfl rfl
theorem dJ41_set_0 : decode cJ41_set 0 = .ok (.aload_n 0, 1) := dk_42 (dk_at dksJ41_set_0 0 rfl rfl)
theorem dJ41_set_1 : decode cJ41_set 1 = .ok (.iload_n 1, 1) := dk_27 (dk_at dksJ41_set_0 1 rfl rfl)
theorem dJ41_set_2 : decode cJ41_set 2 = .ok (.invokevirtual 90, 3) := dk_182 0 90 (dk_at dksJ41_set_0 2 rfl rfl)
theorem dJ41_set_5 : decode cJ41_set 5 = .ok (.aload_n 0, 1) := dk_42 (dk_at dksJ41_set_0 5 rfl rfl)
theorem dJ41_set_6 : decode cJ41_set 6 = .ok (.iload_n 1, 1) := dk_27 (dk_at dksJ41_set_0 6 rfl rfl)
theorem dJ41_set_7 : decode cJ41_set 7 = .ok (.invokevirtual 86, 3) := dk_182 0 86 (dk_at dksJ41_set_0 7 rfl rfl)
theorem dJ41_set_10 : decode cJ41_set 10 = .ok (.astore_n 3, 1) := dk_78 (dk_at dksJ41_set_0 10 rfl rfl)
theorem dJ41_set_11 : decode cJ41_set 11 = .ok (.aload_n 3, 1) := dk_45 (dk_at dksJ41_set_0 11 rfl rfl)
theorem dJ41_set_12 : decode cJ41_set 12 = .ok (.getfield 39, 3) := dk_180 0 39 (dk_at dksJ41_set_0 12 rfl rfl)
theorem dJ41_set_15 : decode cJ41_set 15 = .ok (.astore 4, 2) := dk_58 4 (dk_at dksJ41_set_0 15 rfl rfl)
theorem dJ41_set_17 : decode cJ41_set 17 = .ok (.aload_n 3, 1) := dk_45 (dk_at dksJ41_set_0 17 rfl rfl)
theorem dJ41_set_18 : decode cJ41_set 18 = .ok (.aload_n 2, 1) := dk_44 (dk_at dksJ41_set_0 18 rfl rfl)
theorem dJ41_set_19 : decode cJ41_set 19 = .ok (.putfield 39, 3) := dk_181 0 39 (dk_at dksJ41_set_0 19 rfl rfl)
theorem dJ41_set_22 : decode cJ41_set 22 = .ok (.aload 4, 2) := dk_25 4 (dk_at dksJ41_set_0 22 rfl rfl)
theorem dJ41_set_24 : decode cJ41_set 24 = .ok (.areturn, 1) := dk_176 (dk_at dksJ41_set_1 0 rfl rfl)
abbrev cJ41_indexOf : ByteArray := prog_80_method_32_code
def yJ41_indexOf : MethodName := ⟨RJ41, "indexOf", "(Ljava/lang/Object;)I"⟩
def dkwJ41_indexOf_3 : List UInt8 := [172]
abbrev dktJ41_indexOf_3 : List UInt8 := dkwJ41_indexOf_3 ++ []
def dkwJ41_indexOf_2 : List UInt8 := [45, 180, 0, 39, 182, 0, 67, 153, 0, 5, 28, 172, 132, 2, 1, 45, 180, 0, 36, 78, 167, 255, 231, 2]
abbrev dktJ41_indexOf_2 : List UInt8 := dkwJ41_indexOf_2 ++ dktJ41_indexOf_3
def dkwJ41_indexOf_1 : List UInt8 := [132, 2, 1, 45, 180, 0, 36, 78, 167, 255, 235, 167, 0, 36, 42, 180, 0, 18, 78, 45, 198, 0, 27, 43]
abbrev dktJ41_indexOf_1 : List UInt8 := dkwJ41_indexOf_1 ++ dktJ41_indexOf_2
def dkwJ41_indexOf_0 : List UInt8 := [3, 61, 43, 199, 0, 35, 42, 180, 0, 18, 78, 45, 198, 0, 23, 45, 180, 0, 39, 199, 0, 5, 28, 172]
abbrev dktJ41_indexOf_0 : List UInt8 := dkwJ41_indexOf_0 ++ dktJ41_indexOf_1
theorem dksJ41_indexOf_0 : cJ41_indexOf.data.toList.drop 0 = dktJ41_indexOf_0 := by decide +kernel
theorem dksJ41_indexOf_1 : cJ41_indexOf.data.toList.drop 24 = dktJ41_indexOf_1 := dk_seg dksJ41_indexOf_0 24 rfl rfl
theorem dksJ41_indexOf_2 : cJ41_indexOf.data.toList.drop 48 = dktJ41_indexOf_2 := dk_seg dksJ41_indexOf_1 24 rfl rfl
theorem dksJ41_indexOf_3 : cJ41_indexOf.data.toList.drop 72 = dktJ41_indexOf_3 := dk_seg dksJ41_indexOf_2 24 rfl rfl
theorem dJ41_indexOf_0 : decode cJ41_indexOf 0 = .ok (.iconst 0, 1) := dk_3 (dk_at dksJ41_indexOf_0 0 rfl rfl)
theorem dJ41_indexOf_1 : decode cJ41_indexOf 1 = .ok (.istore_n 2, 1) := dk_61 (dk_at dksJ41_indexOf_0 1 rfl rfl)
theorem dJ41_indexOf_2 : decode cJ41_indexOf 2 = .ok (.aload_n 1, 1) := dk_43 (dk_at dksJ41_indexOf_0 2 rfl rfl)
theorem dJ41_indexOf_3 : decode cJ41_indexOf 3 = .ok (.ifnonnull 35, 3) := dk_199 0 35 (dk_at dksJ41_indexOf_0 3 rfl rfl)
theorem dJ41_indexOf_6 : decode cJ41_indexOf 6 = .ok (.aload_n 0, 1) := dk_42 (dk_at dksJ41_indexOf_0 6 rfl rfl)
theorem dJ41_indexOf_7 : decode cJ41_indexOf 7 = .ok (.getfield 18, 3) := dk_180 0 18 (dk_at dksJ41_indexOf_0 7 rfl rfl)
theorem dJ41_indexOf_10 : decode cJ41_indexOf 10 = .ok (.astore_n 3, 1) := dk_78 (dk_at dksJ41_indexOf_0 10 rfl rfl)
theorem dJ41_indexOf_11 : decode cJ41_indexOf 11 = .ok (.aload_n 3, 1) := dk_45 (dk_at dksJ41_indexOf_0 11 rfl rfl)
theorem dJ41_indexOf_12 : decode cJ41_indexOf 12 = .ok (.ifnull 23, 3) := dk_198 0 23 (dk_at dksJ41_indexOf_0 12 rfl rfl)
theorem dJ41_indexOf_15 : decode cJ41_indexOf 15 = .ok (.aload_n 3, 1) := dk_45 (dk_at dksJ41_indexOf_0 15 rfl rfl)
theorem dJ41_indexOf_16 : decode cJ41_indexOf 16 = .ok (.getfield 39, 3) := dk_180 0 39 (dk_at dksJ41_indexOf_0 16 rfl rfl)
theorem dJ41_indexOf_19 : decode cJ41_indexOf 19 = .ok (.ifnonnull 5, 3) := dk_199 0 5 (dk_at dksJ41_indexOf_0 19 rfl rfl)
theorem dJ41_indexOf_22 : decode cJ41_indexOf 22 = .ok (.iload_n 2, 1) := dk_28 (dk_at dksJ41_indexOf_0 22 rfl rfl)
theorem dJ41_indexOf_23 : decode cJ41_indexOf 23 = .ok (.ireturn, 1) := dk_172 (dk_at dksJ41_indexOf_0 23 rfl rfl)
theorem dJ41_indexOf_24 : decode cJ41_indexOf 24 = .ok (.iinc 2 1, 3) := dk_132 2 1 (dk_at dksJ41_indexOf_1 0 rfl rfl)
theorem dJ41_indexOf_27 : decode cJ41_indexOf 27 = .ok (.aload_n 3, 1) := dk_45 (dk_at dksJ41_indexOf_1 3 rfl rfl)
theorem dJ41_indexOf_28 : decode cJ41_indexOf 28 = .ok (.getfield 36, 3) := dk_180 0 36 (dk_at dksJ41_indexOf_1 4 rfl rfl)
theorem dJ41_indexOf_31 : decode cJ41_indexOf 31 = .ok (.astore_n 3, 1) := dk_78 (dk_at dksJ41_indexOf_1 7 rfl rfl)
theorem dJ41_indexOf_32 : decode cJ41_indexOf 32 = .ok (.goto (-21), 3) := dk_167 255 235 (dk_at dksJ41_indexOf_1 8 rfl rfl)
theorem dJ41_indexOf_35 : decode cJ41_indexOf 35 = .ok (.goto 36, 3) := dk_167 0 36 (dk_at dksJ41_indexOf_1 11 rfl rfl)
theorem dJ41_indexOf_38 : decode cJ41_indexOf 38 = .ok (.aload_n 0, 1) := dk_42 (dk_at dksJ41_indexOf_1 14 rfl rfl)
theorem dJ41_indexOf_39 : decode cJ41_indexOf 39 = .ok (.getfield 18, 3) := dk_180 0 18 (dk_at dksJ41_indexOf_1 15 rfl rfl)
theorem dJ41_indexOf_42 : decode cJ41_indexOf 42 = .ok (.astore_n 3, 1) := dk_78 (dk_at dksJ41_indexOf_1 18 rfl rfl)
theorem dJ41_indexOf_43 : decode cJ41_indexOf 43 = .ok (.aload_n 3, 1) := dk_45 (dk_at dksJ41_indexOf_1 19 rfl rfl)
theorem dJ41_indexOf_44 : decode cJ41_indexOf 44 = .ok (.ifnull 27, 3) := dk_198 0 27 (dk_at dksJ41_indexOf_1 20 rfl rfl)
theorem dJ41_indexOf_47 : decode cJ41_indexOf 47 = .ok (.aload_n 1, 1) := dk_43 (dk_at dksJ41_indexOf_1 23 rfl rfl)
theorem dJ41_indexOf_48 : decode cJ41_indexOf 48 = .ok (.aload_n 3, 1) := dk_45 (dk_at dksJ41_indexOf_2 0 rfl rfl)
theorem dJ41_indexOf_49 : decode cJ41_indexOf 49 = .ok (.getfield 39, 3) := dk_180 0 39 (dk_at dksJ41_indexOf_2 1 rfl rfl)
theorem dJ41_indexOf_52 : decode cJ41_indexOf 52 = .ok (.invokevirtual 67, 3) := dk_182 0 67 (dk_at dksJ41_indexOf_2 4 rfl rfl)
theorem dJ41_indexOf_55 : decode cJ41_indexOf 55 = .ok (.ifCond .eq 5, 3) := dk_153 0 5 (dk_at dksJ41_indexOf_2 7 rfl rfl)
theorem dJ41_indexOf_58 : decode cJ41_indexOf 58 = .ok (.iload_n 2, 1) := dk_28 (dk_at dksJ41_indexOf_2 10 rfl rfl)
theorem dJ41_indexOf_59 : decode cJ41_indexOf 59 = .ok (.ireturn, 1) := dk_172 (dk_at dksJ41_indexOf_2 11 rfl rfl)
theorem dJ41_indexOf_60 : decode cJ41_indexOf 60 = .ok (.iinc 2 1, 3) := dk_132 2 1 (dk_at dksJ41_indexOf_2 12 rfl rfl)
theorem dJ41_indexOf_63 : decode cJ41_indexOf 63 = .ok (.aload_n 3, 1) := dk_45 (dk_at dksJ41_indexOf_2 15 rfl rfl)
theorem dJ41_indexOf_64 : decode cJ41_indexOf 64 = .ok (.getfield 36, 3) := dk_180 0 36 (dk_at dksJ41_indexOf_2 16 rfl rfl)
theorem dJ41_indexOf_67 : decode cJ41_indexOf 67 = .ok (.astore_n 3, 1) := dk_78 (dk_at dksJ41_indexOf_2 19 rfl rfl)
theorem dJ41_indexOf_68 : decode cJ41_indexOf 68 = .ok (.goto (-25), 3) := dk_167 255 231 (dk_at dksJ41_indexOf_2 20 rfl rfl)
theorem dJ41_indexOf_71 : decode cJ41_indexOf 71 = .ok (.iconst (-1), 1) := dk_2 (dk_at dksJ41_indexOf_2 23 rfl rfl)
theorem dJ41_indexOf_72 : decode cJ41_indexOf 72 = .ok (.ireturn, 1) := dk_172 (dk_at dksJ41_indexOf_3 0 rfl rfl)
abbrev cJ41_addFirst : ByteArray := prog_80_method_13_code
def yJ41_addFirst : MethodName := ⟨RJ41, "addFirst", "(Ljava/lang/Object;)V"⟩
def dkwJ41_addFirst_0 : List UInt8 := [42, 43, 182, 0, 53, 177]
abbrev dktJ41_addFirst_0 : List UInt8 := dkwJ41_addFirst_0 ++ []
theorem dksJ41_addFirst_0 : cJ41_addFirst.data.toList.drop 0 = dktJ41_addFirst_0 := by decide +kernel
theorem dJ41_addFirst_0 : decode cJ41_addFirst 0 = .ok (.aload_n 0, 1) := dk_42 (dk_at dksJ41_addFirst_0 0 rfl rfl)
theorem dJ41_addFirst_1 : decode cJ41_addFirst 1 = .ok (.aload_n 1, 1) := dk_43 (dk_at dksJ41_addFirst_0 1 rfl rfl)
theorem dJ41_addFirst_2 : decode cJ41_addFirst 2 = .ok (.invokevirtual 53, 3) := dk_182 0 53 (dk_at dksJ41_addFirst_0 2 rfl rfl)
theorem dJ41_addFirst_5 : decode cJ41_addFirst 5 = .ok (.return_, 1) := dk_177 (dk_at dksJ41_addFirst_0 5 rfl rfl)
abbrev cJ41_linkFirst : ByteArray := prog_80_method_3_code
def yJ41_linkFirst : MethodName := ⟨RJ41, "linkFirst", "(Ljava/lang/Object;)V"⟩
def dkwJ41_linkFirst_2 : List UInt8 := [181, 0, 7, 42, 89, 180, 0, 33, 4, 96, 181, 0, 33, 177]
abbrev dktJ41_linkFirst_2 : List UInt8 := dkwJ41_linkFirst_2 ++ []
def dkwJ41_linkFirst_1 : List UInt8 := [199, 0, 11, 42, 45, 181, 0, 27, 167, 0, 8, 44, 45, 181, 0, 30, 42, 89, 180, 0, 7, 4, 96]
abbrev dktJ41_linkFirst_1 : List UInt8 := dkwJ41_linkFirst_1 ++ dktJ41_linkFirst_2
def dkwJ41_linkFirst_0 : List UInt8 := [42, 180, 0, 18, 77, 187, 0, 22, 89, 1, 43, 44, 183, 0, 24, 78, 42, 45, 181, 0, 18, 44]
abbrev dktJ41_linkFirst_0 : List UInt8 := dkwJ41_linkFirst_0 ++ dktJ41_linkFirst_1
theorem dksJ41_linkFirst_0 : cJ41_linkFirst.data.toList.drop 0 = dktJ41_linkFirst_0 := by decide +kernel
theorem dksJ41_linkFirst_1 : cJ41_linkFirst.data.toList.drop 22 = dktJ41_linkFirst_1 := dk_seg dksJ41_linkFirst_0 22 rfl rfl
theorem dksJ41_linkFirst_2 : cJ41_linkFirst.data.toList.drop 45 = dktJ41_linkFirst_2 := dk_seg dksJ41_linkFirst_1 23 rfl rfl
theorem dJ41_linkFirst_0 : decode cJ41_linkFirst 0 = .ok (.aload_n 0, 1) := dk_42 (dk_at dksJ41_linkFirst_0 0 rfl rfl)
theorem dJ41_linkFirst_1 : decode cJ41_linkFirst 1 = .ok (.getfield 18, 3) := dk_180 0 18 (dk_at dksJ41_linkFirst_0 1 rfl rfl)
theorem dJ41_linkFirst_4 : decode cJ41_linkFirst 4 = .ok (.astore_n 2, 1) := dk_77 (dk_at dksJ41_linkFirst_0 4 rfl rfl)
theorem dJ41_linkFirst_5 : decode cJ41_linkFirst 5 = .ok (.new 22, 3) := dk_187 0 22 (dk_at dksJ41_linkFirst_0 5 rfl rfl)
theorem dJ41_linkFirst_8 : decode cJ41_linkFirst 8 = .ok (.dup, 1) := dk_89 (dk_at dksJ41_linkFirst_0 8 rfl rfl)
theorem dJ41_linkFirst_9 : decode cJ41_linkFirst 9 = .ok (.aconst_null, 1) := dk_1 (dk_at dksJ41_linkFirst_0 9 rfl rfl)
theorem dJ41_linkFirst_10 : decode cJ41_linkFirst 10 = .ok (.aload_n 1, 1) := dk_43 (dk_at dksJ41_linkFirst_0 10 rfl rfl)
theorem dJ41_linkFirst_11 : decode cJ41_linkFirst 11 = .ok (.aload_n 2, 1) := dk_44 (dk_at dksJ41_linkFirst_0 11 rfl rfl)
theorem dJ41_linkFirst_12 : decode cJ41_linkFirst 12 = .ok (.invokespecial 24, 3) := dk_183 0 24 (dk_at dksJ41_linkFirst_0 12 rfl rfl)
theorem dJ41_linkFirst_15 : decode cJ41_linkFirst 15 = .ok (.astore_n 3, 1) := dk_78 (dk_at dksJ41_linkFirst_0 15 rfl rfl)
theorem dJ41_linkFirst_16 : decode cJ41_linkFirst 16 = .ok (.aload_n 0, 1) := dk_42 (dk_at dksJ41_linkFirst_0 16 rfl rfl)
theorem dJ41_linkFirst_17 : decode cJ41_linkFirst 17 = .ok (.aload_n 3, 1) := dk_45 (dk_at dksJ41_linkFirst_0 17 rfl rfl)
theorem dJ41_linkFirst_18 : decode cJ41_linkFirst 18 = .ok (.putfield 18, 3) := dk_181 0 18 (dk_at dksJ41_linkFirst_0 18 rfl rfl)
theorem dJ41_linkFirst_21 : decode cJ41_linkFirst 21 = .ok (.aload_n 2, 1) := dk_44 (dk_at dksJ41_linkFirst_0 21 rfl rfl)
theorem dJ41_linkFirst_22 : decode cJ41_linkFirst 22 = .ok (.ifnonnull 11, 3) := dk_199 0 11 (dk_at dksJ41_linkFirst_1 0 rfl rfl)
theorem dJ41_linkFirst_25 : decode cJ41_linkFirst 25 = .ok (.aload_n 0, 1) := dk_42 (dk_at dksJ41_linkFirst_1 3 rfl rfl)
theorem dJ41_linkFirst_26 : decode cJ41_linkFirst 26 = .ok (.aload_n 3, 1) := dk_45 (dk_at dksJ41_linkFirst_1 4 rfl rfl)
theorem dJ41_linkFirst_27 : decode cJ41_linkFirst 27 = .ok (.putfield 27, 3) := dk_181 0 27 (dk_at dksJ41_linkFirst_1 5 rfl rfl)
theorem dJ41_linkFirst_30 : decode cJ41_linkFirst 30 = .ok (.goto 8, 3) := dk_167 0 8 (dk_at dksJ41_linkFirst_1 8 rfl rfl)
theorem dJ41_linkFirst_33 : decode cJ41_linkFirst 33 = .ok (.aload_n 2, 1) := dk_44 (dk_at dksJ41_linkFirst_1 11 rfl rfl)
theorem dJ41_linkFirst_34 : decode cJ41_linkFirst 34 = .ok (.aload_n 3, 1) := dk_45 (dk_at dksJ41_linkFirst_1 12 rfl rfl)
theorem dJ41_linkFirst_35 : decode cJ41_linkFirst 35 = .ok (.putfield 30, 3) := dk_181 0 30 (dk_at dksJ41_linkFirst_1 13 rfl rfl)
theorem dJ41_linkFirst_38 : decode cJ41_linkFirst 38 = .ok (.aload_n 0, 1) := dk_42 (dk_at dksJ41_linkFirst_1 16 rfl rfl)
theorem dJ41_linkFirst_39 : decode cJ41_linkFirst 39 = .ok (.dup, 1) := dk_89 (dk_at dksJ41_linkFirst_1 17 rfl rfl)
theorem dJ41_linkFirst_40 : decode cJ41_linkFirst 40 = .ok (.getfield 7, 3) := dk_180 0 7 (dk_at dksJ41_linkFirst_1 18 rfl rfl)
theorem dJ41_linkFirst_43 : decode cJ41_linkFirst 43 = .ok (.iconst 1, 1) := dk_4 (dk_at dksJ41_linkFirst_1 21 rfl rfl)
theorem dJ41_linkFirst_44 : decode cJ41_linkFirst 44 = .ok (.iadd, 1) := dk_96 (dk_at dksJ41_linkFirst_1 22 rfl rfl)
theorem dJ41_linkFirst_45 : decode cJ41_linkFirst 45 = .ok (.putfield 7, 3) := dk_181 0 7 (dk_at dksJ41_linkFirst_2 0 rfl rfl)
theorem dJ41_linkFirst_48 : decode cJ41_linkFirst 48 = .ok (.aload_n 0, 1) := dk_42 (dk_at dksJ41_linkFirst_2 3 rfl rfl)
theorem dJ41_linkFirst_49 : decode cJ41_linkFirst 49 = .ok (.dup, 1) := dk_89 (dk_at dksJ41_linkFirst_2 4 rfl rfl)
theorem dJ41_linkFirst_50 : decode cJ41_linkFirst 50 = .ok (.getfield 33, 3) := dk_180 0 33 (dk_at dksJ41_linkFirst_2 5 rfl rfl)
theorem dJ41_linkFirst_53 : decode cJ41_linkFirst 53 = .ok (.iconst 1, 1) := dk_4 (dk_at dksJ41_linkFirst_2 8 rfl rfl)
theorem dJ41_linkFirst_54 : decode cJ41_linkFirst 54 = .ok (.iadd, 1) := dk_96 (dk_at dksJ41_linkFirst_2 9 rfl rfl)
theorem dJ41_linkFirst_55 : decode cJ41_linkFirst 55 = .ok (.putfield 33, 3) := dk_181 0 33 (dk_at dksJ41_linkFirst_2 10 rfl rfl)
theorem dJ41_linkFirst_58 : decode cJ41_linkFirst 58 = .ok (.return_, 1) := dk_177 (dk_at dksJ41_linkFirst_2 13 rfl rfl)
theorem q156 : (Jvm.Cond.initialized "java/util/LinkedList") ∈ lw_all := lw_g (lw_at lw_m1 70 rfl) rfl
theorem q270 : (Jvm.Cond.selects "java/util/LinkedList" ({ cls := "java/lang/Object", name := "getClass", desc := "()Ljava/lang/Class;" } : Jvm.MethodName) ({ cls := "java/lang/Object", name := "getClass", desc := "()Ljava/lang/Class;" } : Jvm.MethodName)) ∈ lw_all := lw_g (lw_at lw_m1 184 rfl) rfl
theorem q768 : (Jvm.Cond.sameField "java/util/LinkedList" "java/util/AbstractList" "modCount" "I") ∈ lw_all := lw_g (lw_at lw_m3 202 rfl) rfl
theorem q772 : (Jvm.Cond.fieldLink "java/util/LinkedList" (33 : Nat) "java/util/LinkedList" "modCount" "I") ∈ lw_all := lw_g (lw_at lw_m3 206 rfl) rfl
theorem q931 : (Jvm.Cond.selects "java/util/LinkedList" ({ cls := "java/util/AbstractList", name := "size", desc := "()I" } : Jvm.MethodName) ({ cls := "java/util/LinkedList", name := "size", desc := "()I" } : Jvm.MethodName)) ∈ lw_all := lw_g (lw_at lw_m4 125 rfl) rfl
theorem q932 : (Jvm.Cond.instanceMethod ({ cls := "java/util/LinkedList", name := "size", desc := "()I" } : Jvm.MethodName)) ∈ lw_all := lw_g (lw_at lw_m4 126 rfl) rfl
theorem q933 : (Jvm.Cond.code ({ cls := "java/util/LinkedList", name := "size", desc := "()I" } : Jvm.MethodName) prog_80_method_16_code (1 : Nat) (Option.some Jvm.ClassFile.FieldType.int)) ∈ lw_all := lw_g (lw_at lw_m4 127 rfl) rfl
theorem q1191 : (Jvm.Cond.selects "java/util/LinkedList" ({ cls := "java/util/AbstractList", name := "add", desc := "(ILjava/lang/Object;)V" } : Jvm.MethodName) ({ cls := "java/util/LinkedList", name := "add", desc := "(ILjava/lang/Object;)V" } : Jvm.MethodName)) ∈ lw_all := lw_g (lw_at lw_m5 145 rfl) rfl
theorem q1192 : (Jvm.Cond.instanceMethod ({ cls := "java/util/LinkedList", name := "add", desc := "(ILjava/lang/Object;)V" } : Jvm.MethodName)) ∈ lw_all := lw_g (lw_at lw_m5 146 rfl) rfl
theorem q1193 : (Jvm.Cond.code ({ cls := "java/util/LinkedList", name := "add", desc := "(ILjava/lang/Object;)V" } : Jvm.MethodName) prog_80_method_24_code (3 : Nat) (Option.none : Option Jvm.ClassFile.FieldType)) ∈ lw_all := lw_g (lw_at lw_m5 147 rfl) rfl
theorem q1194 : (Jvm.Cond.methodLink "java/util/LinkedList" (76 : Nat) ({ cls := "java/util/LinkedList", name := "checkPositionIndex", desc := "(I)V" } : Jvm.MethodName)) ∈ lw_all := lw_g (lw_at lw_m5 148 rfl) rfl
theorem q1195 : (Jvm.Cond.privateMethod ({ cls := "java/util/LinkedList", name := "checkPositionIndex", desc := "(I)V" } : Jvm.MethodName)) ∈ lw_tbl := lw_at lw_m5 149 rfl
theorem q1196 : (Jvm.Cond.instanceMethod ({ cls := "java/util/LinkedList", name := "checkPositionIndex", desc := "(I)V" } : Jvm.MethodName)) ∈ lw_all := lw_g (lw_at lw_m5 150 rfl) rfl
theorem q1197 : (Jvm.Cond.instantiable "java/util/LinkedList" (4 : Nat)) ∈ lw_all := lw_g (lw_at lw_m5 151 rfl) rfl
theorem q1198 : (Jvm.Cond.code ({ cls := "java/util/LinkedList", name := "checkPositionIndex", desc := "(I)V" } : Jvm.MethodName) prog_80_method_30_code (2 : Nat) (Option.none : Option Jvm.ClassFile.FieldType)) ∈ lw_all := lw_g (lw_at lw_m5 152 rfl) rfl
theorem q1199 : (Jvm.Cond.methodLink "java/util/LinkedList" (128 : Nat) ({ cls := "java/util/LinkedList", name := "isPositionIndex", desc := "(I)Z" } : Jvm.MethodName)) ∈ lw_all := lw_g (lw_at lw_m5 153 rfl) rfl
theorem q1200 : (Jvm.Cond.privateMethod ({ cls := "java/util/LinkedList", name := "isPositionIndex", desc := "(I)Z" } : Jvm.MethodName)) ∈ lw_tbl := lw_at lw_m5 154 rfl
theorem q1201 : (Jvm.Cond.instanceMethod ({ cls := "java/util/LinkedList", name := "isPositionIndex", desc := "(I)Z" } : Jvm.MethodName)) ∈ lw_all := lw_g (lw_at lw_m5 155 rfl) rfl
theorem q1202 : (Jvm.Cond.code ({ cls := "java/util/LinkedList", name := "isPositionIndex", desc := "(I)Z" } : Jvm.MethodName) prog_80_method_27_code (2 : Nat) (Option.some Jvm.ClassFile.FieldType.boolean)) ∈ lw_all := lw_g (lw_at lw_m5 156 rfl) rfl
theorem q1203 : (Jvm.Cond.classLink "java/util/LinkedList" (119 : Nat) "java/lang/IndexOutOfBoundsException") ∈ lw_all := lw_g (lw_at lw_m5 157 rfl) rfl
theorem q1204 : (Jvm.Cond.methodLink "java/util/LinkedList" (121 : Nat) ({ cls := "java/util/LinkedList", name := "outOfBoundsMsg", desc := "(I)Ljava/lang/String;" } : Jvm.MethodName)) ∈ lw_all := lw_g (lw_at lw_m5 158 rfl) rfl
theorem q1205 : (Jvm.Cond.privateMethod ({ cls := "java/util/LinkedList", name := "outOfBoundsMsg", desc := "(I)Ljava/lang/String;" } : Jvm.MethodName)) ∈ lw_tbl := lw_at lw_m5 159 rfl
theorem q1206 : (Jvm.Cond.instanceMethod ({ cls := "java/util/LinkedList", name := "outOfBoundsMsg", desc := "(I)Ljava/lang/String;" } : Jvm.MethodName)) ∈ lw_all := lw_g (lw_at lw_m5 160 rfl) rfl
theorem q1207 : (Jvm.Cond.code ({ cls := "java/util/LinkedList", name := "outOfBoundsMsg", desc := "(I)Ljava/lang/String;" } : Jvm.MethodName) prog_80_method_28_code (2 : Nat) (Option.some (Jvm.ClassFile.FieldType.object "java/lang/String"))) ∈ lw_all := lw_g (lw_at lw_m5 161 rfl) rfl
theorem q1208 : (Jvm.Cond.classLink "java/util/LinkedList" (97 : Nat) "java/lang/StringBuilder") ∈ lw_all := lw_g (lw_at lw_m5 162 rfl) rfl
theorem q1209 : (Jvm.Cond.methodLink "java/util/LinkedList" (99 : Nat) ({ cls := "java/lang/StringBuilder", name := "<init>", desc := "()V" } : Jvm.MethodName)) ∈ lw_all := lw_g (lw_at lw_m5 163 rfl) rfl
theorem q1210 : (Jvm.Cond.stringRef "java/util/LinkedList" (100 : Nat) "Index: ") ∈ lw_tbl := lw_at lw_m5 164 rfl
theorem q1211 : (Jvm.Cond.methodLink "java/util/LinkedList" (102 : Nat) ({ cls := "java/lang/StringBuilder", name := "append", desc := "(Ljava/lang/String;)Ljava/lang/StringBuilder;" } : Jvm.MethodName)) ∈ lw_all := lw_g (lw_at lw_m5 165 rfl) rfl
theorem q1212 : (Jvm.Cond.methodLink "java/util/LinkedList" (106 : Nat) ({ cls := "java/lang/StringBuilder", name := "append", desc := "(I)Ljava/lang/StringBuilder;" } : Jvm.MethodName)) ∈ lw_all := lw_g (lw_at lw_m5 166 rfl) rfl
theorem q1213 : (Jvm.Cond.stringRef "java/util/LinkedList" (109 : Nat) ", Size: ") ∈ lw_tbl := lw_at lw_m5 167 rfl
theorem q1214 : (Jvm.Cond.methodLink "java/util/LinkedList" (111 : Nat) ({ cls := "java/lang/StringBuilder", name := "toString", desc := "()Ljava/lang/String;" } : Jvm.MethodName)) ∈ lw_all := lw_g (lw_at lw_m5 168 rfl) rfl
theorem q1215 : (Jvm.Cond.methodLink "java/util/LinkedList" (125 : Nat) ({ cls := "java/lang/IndexOutOfBoundsException", name := "<init>", desc := "(Ljava/lang/String;)V" } : Jvm.MethodName)) ∈ lw_all := lw_g (lw_at lw_m5 169 rfl) rfl
theorem q1216 : (Jvm.Cond.methodLink "java/util/LinkedList" (57 : Nat) ({ cls := "java/util/LinkedList", name := "linkLast", desc := "(Ljava/lang/Object;)V" } : Jvm.MethodName)) ∈ lw_all := lw_g (lw_at lw_m5 170 rfl) rfl
theorem q1217 : (Jvm.Cond.instanceMethod ({ cls := "java/util/LinkedList", name := "linkLast", desc := "(Ljava/lang/Object;)V" } : Jvm.MethodName)) ∈ lw_all := lw_g (lw_at lw_m5 171 rfl) rfl
theorem q1218 : (Jvm.Cond.selects "java/util/LinkedList" ({ cls := "java/util/LinkedList", name := "linkLast", desc := "(Ljava/lang/Object;)V" } : Jvm.MethodName) ({ cls := "java/util/LinkedList", name := "linkLast", desc := "(Ljava/lang/Object;)V" } : Jvm.MethodName)) ∈ lw_all := lw_g (lw_at lw_m5 172 rfl) rfl
theorem q1219 : (Jvm.Cond.code ({ cls := "java/util/LinkedList", name := "linkLast", desc := "(Ljava/lang/Object;)V" } : Jvm.MethodName) prog_80_method_4_code (4 : Nat) (Option.none : Option Jvm.ClassFile.FieldType)) ∈ lw_all := lw_g (lw_at lw_m5 173 rfl) rfl
theorem q1220 : (Jvm.Cond.classLink "java/util/LinkedList" (22 : Nat) "java/util/LinkedList$Node") ∈ lw_all := lw_g (lw_at lw_m5 174 rfl) rfl
theorem q1222 : (Jvm.Cond.methodLink "java/util/LinkedList" (24 : Nat) ({ cls := "java/util/LinkedList$Node", name := "<init>", desc := "(Ljava/util/LinkedList$Node;Ljava/lang/Object;Ljava/util/LinkedList$Node;)V" } : Jvm.MethodName)) ∈ lw_all := lw_g (lw_at lw_m5 176 rfl) rfl
theorem q1228 : (Jvm.Cond.fieldLink "java/util/LinkedList" (39 : Nat) "java/util/LinkedList$Node" "item" "Ljava/lang/Object;") ∈ lw_all := lw_g (lw_at lw_m5 182 rfl) rfl
theorem q1231 : (Jvm.Cond.fieldLink "java/util/LinkedList" (36 : Nat) "java/util/LinkedList$Node" "next" "Ljava/util/LinkedList$Node;") ∈ lw_all := lw_g (lw_at lw_m5 185 rfl) rfl
theorem q1233 : (Jvm.Cond.fieldLink "java/util/LinkedList" (30 : Nat) "java/util/LinkedList$Node" "prev" "Ljava/util/LinkedList$Node;") ∈ lw_all := lw_g (lw_at lw_m5 187 rfl) rfl
theorem q1241 : (Jvm.Cond.methodLink "java/util/LinkedList" (86 : Nat) ({ cls := "java/util/LinkedList", name := "node", desc := "(I)Ljava/util/LinkedList$Node;" } : Jvm.MethodName)) ∈ lw_all := lw_g (lw_at lw_m5 195 rfl) rfl
theorem q1242 : (Jvm.Cond.instanceMethod ({ cls := "java/util/LinkedList", name := "node", desc := "(I)Ljava/util/LinkedList$Node;" } : Jvm.MethodName)) ∈ lw_all := lw_g (lw_at lw_m5 196 rfl) rfl
theorem q1243 : (Jvm.Cond.selects "java/util/LinkedList" ({ cls := "java/util/LinkedList", name := "node", desc := "(I)Ljava/util/LinkedList$Node;" } : Jvm.MethodName) ({ cls := "java/util/LinkedList", name := "node", desc := "(I)Ljava/util/LinkedList$Node;" } : Jvm.MethodName)) ∈ lw_all := lw_g (lw_at lw_m5 197 rfl) rfl
theorem q1244 : (Jvm.Cond.code ({ cls := "java/util/LinkedList", name := "node", desc := "(I)Ljava/util/LinkedList$Node;" } : Jvm.MethodName) prog_80_method_31_code (4 : Nat) (Option.some (Jvm.ClassFile.FieldType.object "java/util/LinkedList$Node"))) ∈ lw_all := lw_g (lw_at lw_m5 198 rfl) rfl
theorem q1245 : (Jvm.Cond.methodLink "java/util/LinkedList" (93 : Nat) ({ cls := "java/util/LinkedList", name := "linkBefore", desc := "(Ljava/lang/Object;Ljava/util/LinkedList$Node;)V" } : Jvm.MethodName)) ∈ lw_all := lw_g (lw_at lw_m5 199 rfl) rfl
theorem q1246 : (Jvm.Cond.instanceMethod ({ cls := "java/util/LinkedList", name := "linkBefore", desc := "(Ljava/lang/Object;Ljava/util/LinkedList$Node;)V" } : Jvm.MethodName)) ∈ lw_all := lw_g (lw_at lw_m5 200 rfl) rfl
theorem q1247 : (Jvm.Cond.selects "java/util/LinkedList" ({ cls := "java/util/LinkedList", name := "linkBefore", desc := "(Ljava/lang/Object;Ljava/util/LinkedList$Node;)V" } : Jvm.MethodName) ({ cls := "java/util/LinkedList", name := "linkBefore", desc := "(Ljava/lang/Object;Ljava/util/LinkedList$Node;)V" } : Jvm.MethodName)) ∈ lw_all := lw_g (lw_at lw_m5 201 rfl) rfl
theorem q1248 : (Jvm.Cond.code ({ cls := "java/util/LinkedList", name := "linkBefore", desc := "(Ljava/lang/Object;Ljava/util/LinkedList$Node;)V" } : Jvm.MethodName) prog_80_method_5_code (5 : Nat) (Option.none : Option Jvm.ClassFile.FieldType)) ∈ lw_all := lw_g (lw_at lw_m5 202 rfl) rfl
theorem q1259 : (Jvm.Cond.castable "java/util/LinkedList" "java/util/List") ∈ lw_tbl := lw_at lw_m5 213 rfl
theorem q1260 : (Jvm.Cond.selects "java/util/LinkedList" ({ cls := "java/util/List", name := "add", desc := "(Ljava/lang/Object;)Z" } : Jvm.MethodName) ({ cls := "java/util/LinkedList", name := "add", desc := "(Ljava/lang/Object;)Z" } : Jvm.MethodName)) ∈ lw_all := lw_g (lw_at lw_m5 214 rfl) rfl
theorem q1261 : (Jvm.Cond.unhidden "java/util/LinkedList" "add" "(Ljava/lang/Object;)Z") ∈ lw_tbl := lw_at lw_m5 215 rfl
theorem q1262 : (Jvm.Cond.instanceMethod ({ cls := "java/util/LinkedList", name := "add", desc := "(Ljava/lang/Object;)Z" } : Jvm.MethodName)) ∈ lw_all := lw_g (lw_at lw_m5 216 rfl) rfl
theorem q1263 : (Jvm.Cond.publicMethod ({ cls := "java/util/LinkedList", name := "add", desc := "(Ljava/lang/Object;)Z" } : Jvm.MethodName)) ∈ lw_tbl := lw_at lw_m5 217 rfl
theorem q1264 : (Jvm.Cond.code ({ cls := "java/util/LinkedList", name := "add", desc := "(Ljava/lang/Object;)Z" } : Jvm.MethodName) prog_80_method_17_code (2 : Nat) (Option.some Jvm.ClassFile.FieldType.boolean)) ∈ lw_all := lw_g (lw_at lw_m5 218 rfl) rfl
theorem q1285 : (Jvm.Cond.selects "java/util/LinkedList" ({ cls := "java/util/List", name := "size", desc := "()I" } : Jvm.MethodName) ({ cls := "java/util/LinkedList", name := "size", desc := "()I" } : Jvm.MethodName)) ∈ lw_all := lw_g (lw_at lw_m5 239 rfl) rfl
theorem q1286 : (Jvm.Cond.unhidden "java/util/LinkedList" "size" "()I") ∈ lw_tbl := lw_at lw_m6 0 rfl
theorem q1287 : (Jvm.Cond.publicMethod ({ cls := "java/util/LinkedList", name := "size", desc := "()I" } : Jvm.MethodName)) ∈ lw_tbl := lw_at lw_m6 1 rfl
theorem q1381 : (Jvm.Cond.selects "java/util/LinkedList" ({ cls := "java/util/List", name := "iterator", desc := "()Ljava/util/Iterator;" } : Jvm.MethodName) ({ cls := "java/util/AbstractSequentialList", name := "iterator", desc := "()Ljava/util/Iterator;" } : Jvm.MethodName)) ∈ lw_all := lw_g (lw_at lw_m6 95 rfl) rfl
theorem q1382 : (Jvm.Cond.unhidden "java/util/LinkedList" "iterator" "()Ljava/util/Iterator;") ∈ lw_tbl := lw_at lw_m6 96 rfl
theorem q1389 : (Jvm.Cond.selects "java/util/LinkedList" ({ cls := "java/util/AbstractSequentialList", name := "listIterator", desc := "()Ljava/util/ListIterator;" } : Jvm.MethodName) ({ cls := "java/util/AbstractList", name := "listIterator", desc := "()Ljava/util/ListIterator;" } : Jvm.MethodName)) ∈ lw_all := lw_g (lw_at lw_m6 103 rfl) rfl
theorem q1413 : (Jvm.Cond.selects "java/util/LinkedList" ({ cls := "java/util/AbstractList", name := "listIterator", desc := "(I)Ljava/util/ListIterator;" } : Jvm.MethodName) ({ cls := "java/util/LinkedList", name := "listIterator", desc := "(I)Ljava/util/ListIterator;" } : Jvm.MethodName)) ∈ lw_all := lw_g (lw_at lw_m6 127 rfl) rfl
theorem q1414 : (Jvm.Cond.instanceMethod ({ cls := "java/util/LinkedList", name := "listIterator", desc := "(I)Ljava/util/ListIterator;" } : Jvm.MethodName)) ∈ lw_all := lw_g (lw_at lw_m6 128 rfl) rfl
theorem q1415 : (Jvm.Cond.code ({ cls := "java/util/LinkedList", name := "listIterator", desc := "(I)Ljava/util/ListIterator;" } : Jvm.MethodName) prog_80_method_49_code (2 : Nat) (Option.some (Jvm.ClassFile.FieldType.object "java/util/ListIterator"))) ∈ lw_all := lw_g (lw_at lw_m6 129 rfl) rfl
theorem q1416 : (Jvm.Cond.classLink "java/util/LinkedList" (150 : Nat) "java/util/LinkedList$ListItr") ∈ lw_all := lw_g (lw_at lw_m6 130 rfl) rfl
theorem q1418 : (Jvm.Cond.methodLink "java/util/LinkedList" (152 : Nat) ({ cls := "java/util/LinkedList$ListItr", name := "<init>", desc := "(Ljava/util/LinkedList;I)V" } : Jvm.MethodName)) ∈ lw_all := lw_g (lw_at lw_m6 132 rfl) rfl
theorem q1547 : (Jvm.Cond.selects "java/util/LinkedList" ({ cls := "java/util/AbstractList", name := "get", desc := "(I)Ljava/lang/Object;" } : Jvm.MethodName) ({ cls := "java/util/LinkedList", name := "get", desc := "(I)Ljava/lang/Object;" } : Jvm.MethodName)) ∈ lw_all := lw_g (lw_at lw_m7 21 rfl) rfl
theorem q1548 : (Jvm.Cond.instanceMethod ({ cls := "java/util/LinkedList", name := "get", desc := "(I)Ljava/lang/Object;" } : Jvm.MethodName)) ∈ lw_all := lw_g (lw_at lw_m7 22 rfl) rfl
theorem q1549 : (Jvm.Cond.code ({ cls := "java/util/LinkedList", name := "get", desc := "(I)Ljava/lang/Object;" } : Jvm.MethodName) prog_80_method_22_code (2 : Nat) (Option.some (Jvm.ClassFile.FieldType.object "java/lang/Object"))) ∈ lw_all := lw_g (lw_at lw_m7 23 rfl) rfl
theorem q1550 : (Jvm.Cond.methodLink "java/util/LinkedList" (90 : Nat) ({ cls := "java/util/LinkedList", name := "checkElementIndex", desc := "(I)V" } : Jvm.MethodName)) ∈ lw_all := lw_g (lw_at lw_m7 24 rfl) rfl
theorem q1551 : (Jvm.Cond.privateMethod ({ cls := "java/util/LinkedList", name := "checkElementIndex", desc := "(I)V" } : Jvm.MethodName)) ∈ lw_tbl := lw_at lw_m7 25 rfl
theorem q1552 : (Jvm.Cond.instanceMethod ({ cls := "java/util/LinkedList", name := "checkElementIndex", desc := "(I)V" } : Jvm.MethodName)) ∈ lw_all := lw_g (lw_at lw_m7 26 rfl) rfl
theorem q1553 : (Jvm.Cond.code ({ cls := "java/util/LinkedList", name := "checkElementIndex", desc := "(I)V" } : Jvm.MethodName) prog_80_method_29_code (2 : Nat) (Option.none : Option Jvm.ClassFile.FieldType)) ∈ lw_all := lw_g (lw_at lw_m7 27 rfl) rfl
theorem q1554 : (Jvm.Cond.methodLink "java/util/LinkedList" (115 : Nat) ({ cls := "java/util/LinkedList", name := "isElementIndex", desc := "(I)Z" } : Jvm.MethodName)) ∈ lw_all := lw_g (lw_at lw_m7 28 rfl) rfl
theorem q1555 : (Jvm.Cond.privateMethod ({ cls := "java/util/LinkedList", name := "isElementIndex", desc := "(I)Z" } : Jvm.MethodName)) ∈ lw_tbl := lw_at lw_m7 29 rfl
theorem q1556 : (Jvm.Cond.instanceMethod ({ cls := "java/util/LinkedList", name := "isElementIndex", desc := "(I)Z" } : Jvm.MethodName)) ∈ lw_all := lw_g (lw_at lw_m7 30 rfl) rfl
theorem q1557 : (Jvm.Cond.code ({ cls := "java/util/LinkedList", name := "isElementIndex", desc := "(I)Z" } : Jvm.MethodName) prog_80_method_26_code (2 : Nat) (Option.some Jvm.ClassFile.FieldType.boolean)) ∈ lw_all := lw_g (lw_at lw_m7 31 rfl) rfl
theorem q1692 : (Jvm.Cond.selects "java/util/LinkedList" ({ cls := "java/util/List", name := "get", desc := "(I)Ljava/lang/Object;" } : Jvm.MethodName) ({ cls := "java/util/LinkedList", name := "get", desc := "(I)Ljava/lang/Object;" } : Jvm.MethodName)) ∈ lw_all := lw_g (lw_at lw_m7 166 rfl) rfl
theorem q1693 : (Jvm.Cond.unhidden "java/util/LinkedList" "get" "(I)Ljava/lang/Object;") ∈ lw_tbl := lw_at lw_m7 167 rfl
theorem q1694 : (Jvm.Cond.publicMethod ({ cls := "java/util/LinkedList", name := "get", desc := "(I)Ljava/lang/Object;" } : Jvm.MethodName)) ∈ lw_tbl := lw_at lw_m7 168 rfl
theorem q2501 : (Jvm.Cond.instanceMethod ({ cls := "java/util/LinkedList", name := "<init>", desc := "()V" } : Jvm.MethodName)) ∈ lw_all := lw_g (lw_at lw_m11 15 rfl) rfl
theorem q2502 : (Jvm.Cond.code ({ cls := "java/util/LinkedList", name := "<init>", desc := "()V" } : Jvm.MethodName) prog_80_method_1_code (1 : Nat) (Option.none : Option Jvm.ClassFile.FieldType)) ∈ lw_all := lw_g (lw_at lw_m11 16 rfl) rfl
theorem q2503 : (Jvm.Cond.methodLink "java/util/LinkedList" (1 : Nat) ({ cls := "java/util/AbstractSequentialList", name := "<init>", desc := "()V" } : Jvm.MethodName)) ∈ lw_all := lw_g (lw_at lw_m11 17 rfl) rfl
theorem q2507 : (Jvm.Cond.fieldLink "java/util/LinkedList" (7 : Nat) "java/util/LinkedList" "size" "I") ∈ lw_all := lw_g (lw_at lw_m11 21 rfl) rfl
theorem q2509 : (Jvm.Cond.fieldLink "java/util/LinkedList" (18 : Nat) "java/util/LinkedList" "first" "Ljava/util/LinkedList$Node;") ∈ lw_all := lw_g (lw_at lw_m11 23 rfl) rfl
theorem q2510 : (Jvm.Cond.fieldLink "java/util/LinkedList" (27 : Nat) "java/util/LinkedList" "last" "Ljava/util/LinkedList$Node;") ∈ lw_all := lw_g (lw_at lw_m11 24 rfl) rfl
theorem q2511 : (Jvm.Cond.lays "java/util/LinkedList" "java/util/LinkedList" "size" "I") ∈ lw_all := lw_g (lw_at lw_m11 25 rfl) rfl
theorem q2512 : (Jvm.Cond.soleField "java/util/LinkedList" "size") ∈ lw_all := lw_g (lw_at lw_m11 26 rfl) rfl
theorem q2513 : (Jvm.Cond.lays "java/util/LinkedList" "java/util/LinkedList" "first" "Ljava/util/LinkedList$Node;") ∈ lw_all := lw_g (lw_at lw_m11 27 rfl) rfl
theorem q2514 : (Jvm.Cond.soleField "java/util/LinkedList" "first") ∈ lw_all := lw_g (lw_at lw_m11 28 rfl) rfl
theorem q2515 : (Jvm.Cond.lays "java/util/LinkedList" "java/util/LinkedList" "last" "Ljava/util/LinkedList$Node;") ∈ lw_all := lw_g (lw_at lw_m11 29 rfl) rfl
theorem q2516 : (Jvm.Cond.soleField "java/util/LinkedList" "last") ∈ lw_all := lw_g (lw_at lw_m11 30 rfl) rfl
theorem q2517 : (Jvm.Cond.lays "java/util/LinkedList" "java/util/AbstractList" "modCount" "I") ∈ lw_all := lw_g (lw_at lw_m11 31 rfl) rfl
theorem q2518 : (Jvm.Cond.superclass "java/util/LinkedList" "java/util/AbstractSequentialList") ∈ lw_all := lw_g (lw_at lw_m11 32 rfl) rfl
theorem q2535 : (Jvm.Cond.instanceMethod ({ cls := "java/util/LinkedList", name := "addLast", desc := "(Ljava/lang/Object;)V" } : Jvm.MethodName)) ∈ lw_all := lw_g (lw_at lw_m11 49 rfl) rfl
theorem q2536 : (Jvm.Cond.selects "java/util/LinkedList" ({ cls := "java/util/LinkedList", name := "addLast", desc := "(Ljava/lang/Object;)V" } : Jvm.MethodName) ({ cls := "java/util/LinkedList", name := "addLast", desc := "(Ljava/lang/Object;)V" } : Jvm.MethodName)) ∈ lw_all := lw_g (lw_at lw_m11 50 rfl) rfl
theorem q2537 : (Jvm.Cond.code ({ cls := "java/util/LinkedList", name := "addLast", desc := "(Ljava/lang/Object;)V" } : Jvm.MethodName) prog_80_method_14_code (2 : Nat) (Option.none : Option Jvm.ClassFile.FieldType)) ∈ lw_all := lw_g (lw_at lw_m11 51 rfl) rfl
theorem q2543 : (Jvm.Cond.sameMethod "java/util/LinkedList" "java/util/AbstractSequentialList" "iterator" "()Ljava/util/Iterator;") ∈ lw_all := lw_g (lw_at lw_m11 57 rfl) rfl
theorem q2545 : (Jvm.Cond.selects "java/util/LinkedList" ({ cls := "java/util/LinkedList", name := "iterator", desc := "()Ljava/util/Iterator;" } : Jvm.MethodName) ({ cls := "java/util/AbstractSequentialList", name := "iterator", desc := "()Ljava/util/Iterator;" } : Jvm.MethodName)) ∈ lw_all := lw_g (lw_at lw_m11 59 rfl) rfl
theorem q2582 : (Jvm.Cond.selects "java/util/LinkedList" ({ cls := "java/util/AbstractList", name := "remove", desc := "(I)Ljava/lang/Object;" } : Jvm.MethodName) ({ cls := "java/util/LinkedList", name := "remove", desc := "(I)Ljava/lang/Object;" } : Jvm.MethodName)) ∈ lw_all := lw_g (lw_at lw_m11 96 rfl) rfl
theorem q2583 : (Jvm.Cond.instanceMethod ({ cls := "java/util/LinkedList", name := "remove", desc := "(I)Ljava/lang/Object;" } : Jvm.MethodName)) ∈ lw_all := lw_g (lw_at lw_m11 97 rfl) rfl
theorem q2584 : (Jvm.Cond.code ({ cls := "java/util/LinkedList", name := "remove", desc := "(I)Ljava/lang/Object;" } : Jvm.MethodName) prog_80_method_25_code (2 : Nat) (Option.some (Jvm.ClassFile.FieldType.object "java/lang/Object"))) ∈ lw_all := lw_g (lw_at lw_m11 98 rfl) rfl
theorem q2585 : (Jvm.Cond.methodLink "java/util/LinkedList" (64 : Nat) ({ cls := "java/util/LinkedList", name := "unlink", desc := "(Ljava/util/LinkedList$Node;)Ljava/lang/Object;" } : Jvm.MethodName)) ∈ lw_all := lw_g (lw_at lw_m11 99 rfl) rfl
theorem q2586 : (Jvm.Cond.instanceMethod ({ cls := "java/util/LinkedList", name := "unlink", desc := "(Ljava/util/LinkedList$Node;)Ljava/lang/Object;" } : Jvm.MethodName)) ∈ lw_all := lw_g (lw_at lw_m11 100 rfl) rfl
theorem q2587 : (Jvm.Cond.selects "java/util/LinkedList" ({ cls := "java/util/LinkedList", name := "unlink", desc := "(Ljava/util/LinkedList$Node;)Ljava/lang/Object;" } : Jvm.MethodName) ({ cls := "java/util/LinkedList", name := "unlink", desc := "(Ljava/util/LinkedList$Node;)Ljava/lang/Object;" } : Jvm.MethodName)) ∈ lw_all := lw_g (lw_at lw_m11 101 rfl) rfl
theorem q2588 : (Jvm.Cond.code ({ cls := "java/util/LinkedList", name := "unlink", desc := "(Ljava/util/LinkedList$Node;)Ljava/lang/Object;" } : Jvm.MethodName) prog_80_method_8_code (5 : Nat) (Option.some (Jvm.ClassFile.FieldType.object "java/lang/Object"))) ∈ lw_all := lw_g (lw_at lw_m11 102 rfl) rfl
theorem q2735 : (Jvm.Cond.castable "java/util/LinkedList" "java/util/Collection") ∈ lw_tbl := lw_at lw_m12 9 rfl
theorem q2736 : (Jvm.Cond.selects "java/util/LinkedList" ({ cls := "java/util/Collection", name := "toArray", desc := "()[Ljava/lang/Object;" } : Jvm.MethodName) ({ cls := "java/util/LinkedList", name := "toArray", desc := "()[Ljava/lang/Object;" } : Jvm.MethodName)) ∈ lw_all := lw_g (lw_at lw_m12 10 rfl) rfl
theorem q2737 : (Jvm.Cond.unhidden "java/util/LinkedList" "toArray" "()[Ljava/lang/Object;") ∈ lw_tbl := lw_at lw_m12 11 rfl
theorem q2738 : (Jvm.Cond.instanceMethod ({ cls := "java/util/LinkedList", name := "toArray", desc := "()[Ljava/lang/Object;" } : Jvm.MethodName)) ∈ lw_all := lw_g (lw_at lw_m12 12 rfl) rfl
theorem q2739 : (Jvm.Cond.publicMethod ({ cls := "java/util/LinkedList", name := "toArray", desc := "()[Ljava/lang/Object;" } : Jvm.MethodName)) ∈ lw_tbl := lw_at lw_m12 13 rfl
theorem q2740 : (Jvm.Cond.code ({ cls := "java/util/LinkedList", name := "toArray", desc := "()[Ljava/lang/Object;" } : Jvm.MethodName) prog_80_method_53_code (4 : Nat) (Option.some (Jvm.ClassFile.FieldType.array (Jvm.ClassFile.FieldType.object "java/lang/Object")))) ∈ lw_all := lw_g (lw_at lw_m12 14 rfl) rfl
theorem q2741 : (Jvm.Cond.classLink "java/util/LinkedList" (68 : Nat) "java/lang/Object") ∈ lw_all := lw_g (lw_at lw_m12 15 rfl) rfl
theorem q2752 : (Jvm.Cond.unhidden "java/util/LinkedList" "getClass" "()Ljava/lang/Class;") ∈ lw_tbl := lw_at lw_m12 26 rfl
theorem q2781 : (Jvm.Cond.selects "java/util/LinkedList" ({ cls := "java/util/List", name := "set", desc := "(ILjava/lang/Object;)Ljava/lang/Object;" } : Jvm.MethodName) ({ cls := "java/util/LinkedList", name := "set", desc := "(ILjava/lang/Object;)Ljava/lang/Object;" } : Jvm.MethodName)) ∈ lw_all := lw_g (lw_at lw_m12 55 rfl) rfl
theorem q2782 : (Jvm.Cond.unhidden "java/util/LinkedList" "set" "(ILjava/lang/Object;)Ljava/lang/Object;") ∈ lw_tbl := lw_at lw_m12 56 rfl
theorem q2783 : (Jvm.Cond.instanceMethod ({ cls := "java/util/LinkedList", name := "set", desc := "(ILjava/lang/Object;)Ljava/lang/Object;" } : Jvm.MethodName)) ∈ lw_all := lw_g (lw_at lw_m12 57 rfl) rfl
theorem q2784 : (Jvm.Cond.publicMethod ({ cls := "java/util/LinkedList", name := "set", desc := "(ILjava/lang/Object;)Ljava/lang/Object;" } : Jvm.MethodName)) ∈ lw_tbl := lw_at lw_m12 58 rfl
theorem q2785 : (Jvm.Cond.code ({ cls := "java/util/LinkedList", name := "set", desc := "(ILjava/lang/Object;)Ljava/lang/Object;" } : Jvm.MethodName) prog_80_method_23_code (5 : Nat) (Option.some (Jvm.ClassFile.FieldType.object "java/lang/Object"))) ∈ lw_all := lw_g (lw_at lw_m12 59 rfl) rfl
theorem q2800 : (Jvm.Cond.selects "java/util/LinkedList" ({ cls := "java/util/Collection", name := "iterator", desc := "()Ljava/util/Iterator;" } : Jvm.MethodName) ({ cls := "java/util/AbstractSequentialList", name := "iterator", desc := "()Ljava/util/Iterator;" } : Jvm.MethodName)) ∈ lw_all := lw_g (lw_at lw_m12 74 rfl) rfl
theorem q3085 : (Jvm.Cond.selects "java/util/LinkedList" ({ cls := "java/util/List", name := "indexOf", desc := "(Ljava/lang/Object;)I" } : Jvm.MethodName) ({ cls := "java/util/LinkedList", name := "indexOf", desc := "(Ljava/lang/Object;)I" } : Jvm.MethodName)) ∈ lw_all := lw_g (lw_at lw_m13 119 rfl) rfl
theorem q3086 : (Jvm.Cond.unhidden "java/util/LinkedList" "indexOf" "(Ljava/lang/Object;)I") ∈ lw_tbl := lw_at lw_m13 120 rfl
theorem q3087 : (Jvm.Cond.instanceMethod ({ cls := "java/util/LinkedList", name := "indexOf", desc := "(Ljava/lang/Object;)I" } : Jvm.MethodName)) ∈ lw_all := lw_g (lw_at lw_m13 121 rfl) rfl
theorem q3088 : (Jvm.Cond.publicMethod ({ cls := "java/util/LinkedList", name := "indexOf", desc := "(Ljava/lang/Object;)I" } : Jvm.MethodName)) ∈ lw_tbl := lw_at lw_m13 122 rfl
theorem q3089 : (Jvm.Cond.code ({ cls := "java/util/LinkedList", name := "indexOf", desc := "(Ljava/lang/Object;)I" } : Jvm.MethodName) prog_80_method_32_code (4 : Nat) (Option.some Jvm.ClassFile.FieldType.int)) ∈ lw_all := lw_g (lw_at lw_m13 123 rfl) rfl
theorem q3090 : (Jvm.Cond.methodLink "java/util/LinkedList" (67 : Nat) ({ cls := "java/lang/Object", name := "equals", desc := "(Ljava/lang/Object;)Z" } : Jvm.MethodName)) ∈ lw_all := lw_g (lw_at lw_m13 124 rfl) rfl
theorem q3149 : (Jvm.Cond.sameMethod "java/util/LinkedList" "java/util/AbstractCollection" "isEmpty" "()Z") ∈ lw_all := lw_g (lw_at lw_m13 183 rfl) rfl
theorem q3151 : (Jvm.Cond.selects "java/util/LinkedList" ({ cls := "java/util/LinkedList", name := "isEmpty", desc := "()Z" } : Jvm.MethodName) ({ cls := "java/util/AbstractCollection", name := "isEmpty", desc := "()Z" } : Jvm.MethodName)) ∈ lw_all := lw_g (lw_at lw_m13 185 rfl) rfl
theorem q3164 : (Jvm.Cond.instanceMethod ({ cls := "java/util/LinkedList", name := "addFirst", desc := "(Ljava/lang/Object;)V" } : Jvm.MethodName)) ∈ lw_all := lw_g (lw_at lw_m13 198 rfl) rfl
theorem q3165 : (Jvm.Cond.selects "java/util/LinkedList" ({ cls := "java/util/LinkedList", name := "addFirst", desc := "(Ljava/lang/Object;)V" } : Jvm.MethodName) ({ cls := "java/util/LinkedList", name := "addFirst", desc := "(Ljava/lang/Object;)V" } : Jvm.MethodName)) ∈ lw_all := lw_g (lw_at lw_m13 199 rfl) rfl
theorem q3166 : (Jvm.Cond.code ({ cls := "java/util/LinkedList", name := "addFirst", desc := "(Ljava/lang/Object;)V" } : Jvm.MethodName) prog_80_method_13_code (2 : Nat) (Option.none : Option Jvm.ClassFile.FieldType)) ∈ lw_all := lw_g (lw_at lw_m13 200 rfl) rfl
theorem q3167 : (Jvm.Cond.methodLink "java/util/LinkedList" (53 : Nat) ({ cls := "java/util/LinkedList", name := "linkFirst", desc := "(Ljava/lang/Object;)V" } : Jvm.MethodName)) ∈ lw_all := lw_g (lw_at lw_m13 201 rfl) rfl
theorem q3168 : (Jvm.Cond.privateMethod ({ cls := "java/util/LinkedList", name := "linkFirst", desc := "(Ljava/lang/Object;)V" } : Jvm.MethodName)) ∈ lw_tbl := lw_at lw_m13 202 rfl
theorem q3169 : (Jvm.Cond.instanceMethod ({ cls := "java/util/LinkedList", name := "linkFirst", desc := "(Ljava/lang/Object;)V" } : Jvm.MethodName)) ∈ lw_all := lw_g (lw_at lw_m13 203 rfl) rfl
theorem q3170 : (Jvm.Cond.code ({ cls := "java/util/LinkedList", name := "linkFirst", desc := "(Ljava/lang/Object;)V" } : Jvm.MethodName) prog_80_method_3_code (4 : Nat) (Option.none : Option Jvm.ClassFile.FieldType)) ∈ lw_all := lw_g (lw_at lw_m13 204 rfl) rfl
theorem q3765 : (Jvm.Cond.selects "java/util/LinkedList" ({ cls := "java/util/LinkedList", name := "size", desc := "()I" } : Jvm.MethodName) ({ cls := "java/util/LinkedList", name := "size", desc := "()I" } : Jvm.MethodName)) ∈ lw_all := lw_g (lw_at lw_m16 79 rfl) rfl
theorem q3774 : (Jvm.Cond.selects "java/util/LinkedList" ({ cls := "java/util/AbstractCollection", name := "size", desc := "()I" } : Jvm.MethodName) ({ cls := "java/util/LinkedList", name := "size", desc := "()I" } : Jvm.MethodName)) ∈ lw_all := lw_g (lw_at lw_m16 88 rfl) rfl
theorem q3775 : (Jvm.Cond.selects "java/util/LinkedList" ({ cls := "java/util/LinkedList", name := "add", desc := "(ILjava/lang/Object;)V" } : Jvm.MethodName) ({ cls := "java/util/LinkedList", name := "add", desc := "(ILjava/lang/Object;)V" } : Jvm.MethodName)) ∈ lw_all := lw_g (lw_at lw_m16 89 rfl) rfl
theorem q3776 : (Jvm.Cond.selects "java/util/LinkedList" ({ cls := "java/util/LinkedList", name := "remove", desc := "(I)Ljava/lang/Object;" } : Jvm.MethodName) ({ cls := "java/util/LinkedList", name := "remove", desc := "(I)Ljava/lang/Object;" } : Jvm.MethodName)) ∈ lw_all := lw_g (lw_at lw_m16 90 rfl) rfl
theorem q3777 : (Jvm.Cond.selects "java/util/LinkedList" ({ cls := "java/util/LinkedList", name := "set", desc := "(ILjava/lang/Object;)Ljava/lang/Object;" } : Jvm.MethodName) ({ cls := "java/util/LinkedList", name := "set", desc := "(ILjava/lang/Object;)Ljava/lang/Object;" } : Jvm.MethodName)) ∈ lw_all := lw_g (lw_at lw_m16 91 rfl) rfl
theorem q3837 : (Jvm.Cond.castable "java/util/LinkedList" "java/lang/Object") ∈ lw_tbl := lw_at lw_m16 151 rfl
theorem in_J41 : ∀ w ∈ wsJ410, w ∈ lw_all := lw_in wsJ410 [2517, 2511, 2513, 2515] (by decide +kernel) (by decide +kernel)
/-! java/util/Collections -/
set_option maxRecDepth 100000
def RJ44 : String := "java/util/Collections"
abbrev cJ44_nCopies : ByteArray := prog_69_method_76_code
def yJ44_nCopies : MethodName := ⟨RJ44, "nCopies", "(ILjava/lang/Object;)Ljava/util/List;"⟩
def dkwJ44_nCopies_1 : List UInt8 := [182, 1, 153, 182, 1, 156, 183, 1, 160, 191, 187, 1, 161, 89, 26, 43, 183, 1, 163, 176]
abbrev dktJ44_nCopies_1 : List UInt8 := dkwJ44_nCopies_1 ++ []
def dkwJ44_nCopies_0 : List UInt8 := [26, 156, 0, 31, 187, 1, 142, 89, 187, 1, 144, 89, 183, 1, 146, 19, 1, 147, 182, 1, 149, 26]
abbrev dktJ44_nCopies_0 : List UInt8 := dkwJ44_nCopies_0 ++ dktJ44_nCopies_1
theorem dksJ44_nCopies_0 : cJ44_nCopies.data.toList.drop 0 = dktJ44_nCopies_0 := by decide +kernel
theorem dksJ44_nCopies_1 : cJ44_nCopies.data.toList.drop 22 = dktJ44_nCopies_1 := dk_seg dksJ44_nCopies_0 22 rfl rfl
theorem dJ44_nCopies_0 : decode cJ44_nCopies 0 = .ok (.iload_n 0, 1) := dk_26 (dk_at dksJ44_nCopies_0 0 rfl rfl)
theorem dJ44_nCopies_1 : decode cJ44_nCopies 1 = .ok (.ifCond .ge 31, 3) := dk_156 0 31 (dk_at dksJ44_nCopies_0 1 rfl rfl)
theorem dJ44_nCopies_4 : decode cJ44_nCopies 4 = .ok (.new 398, 3) := dk_187 1 142 (dk_at dksJ44_nCopies_0 4 rfl rfl)
theorem dJ44_nCopies_7 : decode cJ44_nCopies 7 = .ok (.dup, 1) := dk_89 (dk_at dksJ44_nCopies_0 7 rfl rfl)
theorem dJ44_nCopies_8 : decode cJ44_nCopies 8 = .ok (.new 400, 3) := dk_187 1 144 (dk_at dksJ44_nCopies_0 8 rfl rfl)
theorem dJ44_nCopies_11 : decode cJ44_nCopies 11 = .ok (.dup, 1) := dk_89 (dk_at dksJ44_nCopies_0 11 rfl rfl)
theorem dJ44_nCopies_12 : decode cJ44_nCopies 12 = .ok (.invokespecial 402, 3) := dk_183 1 146 (dk_at dksJ44_nCopies_0 12 rfl rfl)
theorem dJ44_nCopies_15 : decode cJ44_nCopies 15 = .ok (.ldc_w 403, 3) := dk_19 1 147 (dk_at dksJ44_nCopies_0 15 rfl rfl)
theorem dJ44_nCopies_18 : decode cJ44_nCopies 18 = .ok (.invokevirtual 405, 3) := dk_182 1 149 (dk_at dksJ44_nCopies_0 18 rfl rfl)
theorem dJ44_nCopies_21 : decode cJ44_nCopies 21 = .ok (.iload_n 0, 1) := dk_26 (dk_at dksJ44_nCopies_0 21 rfl rfl)
theorem dJ44_nCopies_22 : decode cJ44_nCopies 22 = .ok (.invokevirtual 409, 3) := dk_182 1 153 (dk_at dksJ44_nCopies_1 0 rfl rfl)
theorem dJ44_nCopies_25 : decode cJ44_nCopies 25 = .ok (.invokevirtual 412, 3) := dk_182 1 156 (dk_at dksJ44_nCopies_1 3 rfl rfl)
theorem dJ44_nCopies_28 : decode cJ44_nCopies 28 = .ok (.invokespecial 416, 3) := dk_183 1 160 (dk_at dksJ44_nCopies_1 6 rfl rfl)
theorem dJ44_nCopies_31 : decode cJ44_nCopies 31 = .ok (.athrow, 1) := dk_191 (dk_at dksJ44_nCopies_1 9 rfl rfl)
theorem dJ44_nCopies_32 : decode cJ44_nCopies 32 = .ok (.new 417, 3) := dk_187 1 161 (dk_at dksJ44_nCopies_1 10 rfl rfl)
theorem dJ44_nCopies_35 : decode cJ44_nCopies 35 = .ok (.dup, 1) := dk_89 (dk_at dksJ44_nCopies_1 13 rfl rfl)
theorem dJ44_nCopies_36 : decode cJ44_nCopies 36 = .ok (.iload_n 0, 1) := dk_26 (dk_at dksJ44_nCopies_1 14 rfl rfl)
theorem dJ44_nCopies_37 : decode cJ44_nCopies 37 = .ok (.aload_n 1, 1) := dk_43 (dk_at dksJ44_nCopies_1 15 rfl rfl)
theorem dJ44_nCopies_38 : decode cJ44_nCopies 38 = .ok (.invokespecial 419, 3) := dk_183 1 163 (dk_at dksJ44_nCopies_1 16 rfl rfl)
theorem dJ44_nCopies_41 : decode cJ44_nCopies 41 = .ok (.areturn, 1) := dk_176 (dk_at dksJ44_nCopies_1 19 rfl rfl)
abbrev cJ44_max : ByteArray := prog_69_method_21_code
def yJ44_max : MethodName := ⟨RJ44, "max", "(Ljava/util/Collection;)Ljava/lang/Object;"⟩
def dkwJ44_max_2 : List UInt8 := [44, 176]
abbrev dktJ44_max_2 : List UInt8 := dkwJ44_max_2 ++ []
def dkwJ44_max_1 : List UInt8 := [185, 0, 125, 1, 0, 78, 45, 192, 0, 32, 44, 185, 0, 34, 2, 0, 158, 0, 5, 45, 77, 167, 255, 225]
abbrev dktJ44_max_1 : List UInt8 := dkwJ44_max_1 ++ dktJ44_max_2
def dkwJ44_max_0 : List UInt8 := [42, 185, 0, 119, 1, 0, 76, 43, 185, 0, 125, 1, 0, 77, 43, 185, 0, 128, 1, 0, 153, 0, 28, 43]
abbrev dktJ44_max_0 : List UInt8 := dkwJ44_max_0 ++ dktJ44_max_1
theorem dksJ44_max_0 : cJ44_max.data.toList.drop 0 = dktJ44_max_0 := by decide +kernel
theorem dksJ44_max_1 : cJ44_max.data.toList.drop 24 = dktJ44_max_1 := dk_seg dksJ44_max_0 24 rfl rfl
theorem dksJ44_max_2 : cJ44_max.data.toList.drop 48 = dktJ44_max_2 := dk_seg dksJ44_max_1 24 rfl rfl
theorem dJ44_max_0 : decode cJ44_max 0 = .ok (.aload_n 0, 1) := dk_42 (dk_at dksJ44_max_0 0 rfl rfl)
theorem dJ44_max_1 : decode cJ44_max 1 = .ok (.invokeinterface 119 1, 5) := by decide +kernel
theorem dJ44_max_6 : decode cJ44_max 6 = .ok (.astore_n 1, 1) := dk_76 (dk_at dksJ44_max_0 6 rfl rfl)
theorem dJ44_max_7 : decode cJ44_max 7 = .ok (.aload_n 1, 1) := dk_43 (dk_at dksJ44_max_0 7 rfl rfl)
theorem dJ44_max_8 : decode cJ44_max 8 = .ok (.invokeinterface 125 1, 5) := by decide +kernel
theorem dJ44_max_13 : decode cJ44_max 13 = .ok (.astore_n 2, 1) := dk_77 (dk_at dksJ44_max_0 13 rfl rfl)
theorem dJ44_max_14 : decode cJ44_max 14 = .ok (.aload_n 1, 1) := dk_43 (dk_at dksJ44_max_0 14 rfl rfl)
theorem dJ44_max_15 : decode cJ44_max 15 = .ok (.invokeinterface 128 1, 5) := by decide +kernel
theorem dJ44_max_20 : decode cJ44_max 20 = .ok (.ifCond .eq 28, 3) := dk_153 0 28 (dk_at dksJ44_max_0 20 rfl rfl)
theorem dJ44_max_23 : decode cJ44_max 23 = .ok (.aload_n 1, 1) := dk_43 (dk_at dksJ44_max_0 23 rfl rfl)
theorem dJ44_max_24 : decode cJ44_max 24 = .ok (.invokeinterface 125 1, 5) := by decide +kernel
theorem dJ44_max_29 : decode cJ44_max 29 = .ok (.astore_n 3, 1) := dk_78 (dk_at dksJ44_max_1 5 rfl rfl)
theorem dJ44_max_30 : decode cJ44_max 30 = .ok (.aload_n 3, 1) := dk_45 (dk_at dksJ44_max_1 6 rfl rfl)
theorem dJ44_max_31 : decode cJ44_max 31 = .ok (.checkcast 32, 3) := dk_192 0 32 (dk_at dksJ44_max_1 7 rfl rfl)
theorem dJ44_max_34 : decode cJ44_max 34 = .ok (.aload_n 2, 1) := dk_44 (dk_at dksJ44_max_1 10 rfl rfl)
theorem dJ44_max_35 : decode cJ44_max 35 = .ok (.invokeinterface 34 2, 5) := by decide +kernel
theorem dJ44_max_40 : decode cJ44_max 40 = .ok (.ifCond .le 5, 3) := dk_158 0 5 (dk_at dksJ44_max_1 16 rfl rfl)
theorem dJ44_max_43 : decode cJ44_max 43 = .ok (.aload_n 3, 1) := dk_45 (dk_at dksJ44_max_1 19 rfl rfl)
theorem dJ44_max_44 : decode cJ44_max 44 = .ok (.astore_n 2, 1) := dk_77 (dk_at dksJ44_max_1 20 rfl rfl)
theorem dJ44_max_45 : decode cJ44_max 45 = .ok (.goto (-31), 3) := dk_167 255 225 (dk_at dksJ44_max_1 21 rfl rfl)
theorem dJ44_max_48 : decode cJ44_max 48 = .ok (.aload_n 2, 1) := dk_44 (dk_at dksJ44_max_2 0 rfl rfl)
theorem dJ44_max_49 : decode cJ44_max 49 = .ok (.areturn, 1) := dk_176 (dk_at dksJ44_max_2 1 rfl rfl)
abbrev cJ44_eq : ByteArray := prog_69_method_81_code
def yJ44_eq : MethodName := ⟨RJ44, "eq", "(Ljava/lang/Object;Ljava/lang/Object;)Z"⟩
def dkwJ44_eq_0 : List UInt8 := [42, 199, 0, 15, 43, 199, 0, 7, 4, 167, 0, 12, 3, 167, 0, 8, 42, 43, 182, 0, 154, 172]
abbrev dktJ44_eq_0 : List UInt8 := dkwJ44_eq_0 ++ []
theorem dksJ44_eq_0 : cJ44_eq.data.toList.drop 0 = dktJ44_eq_0 := by decide +kernel
theorem dJ44_eq_0 : decode cJ44_eq 0 = .ok (.aload_n 0, 1) := dk_42 (dk_at dksJ44_eq_0 0 rfl rfl)
theorem dJ44_eq_1 : decode cJ44_eq 1 = .ok (.ifnonnull 15, 3) := dk_199 0 15 (dk_at dksJ44_eq_0 1 rfl rfl)
theorem dJ44_eq_4 : decode cJ44_eq 4 = .ok (.aload_n 1, 1) := dk_43 (dk_at dksJ44_eq_0 4 rfl rfl)
theorem dJ44_eq_5 : decode cJ44_eq 5 = .ok (.ifnonnull 7, 3) := dk_199 0 7 (dk_at dksJ44_eq_0 5 rfl rfl)
theorem dJ44_eq_8 : decode cJ44_eq 8 = .ok (.iconst 1, 1) := dk_4 (dk_at dksJ44_eq_0 8 rfl rfl)
theorem dJ44_eq_9 : decode cJ44_eq 9 = .ok (.goto 12, 3) := dk_167 0 12 (dk_at dksJ44_eq_0 9 rfl rfl)
theorem dJ44_eq_12 : decode cJ44_eq 12 = .ok (.iconst 0, 1) := dk_3 (dk_at dksJ44_eq_0 12 rfl rfl)
theorem dJ44_eq_13 : decode cJ44_eq 13 = .ok (.goto 8, 3) := dk_167 0 8 (dk_at dksJ44_eq_0 13 rfl rfl)
theorem dJ44_eq_16 : decode cJ44_eq 16 = .ok (.aload_n 0, 1) := dk_42 (dk_at dksJ44_eq_0 16 rfl rfl)
theorem dJ44_eq_17 : decode cJ44_eq 17 = .ok (.aload_n 1, 1) := dk_43 (dk_at dksJ44_eq_0 17 rfl rfl)
theorem dJ44_eq_18 : decode cJ44_eq 18 = .ok (.invokevirtual 154, 3) := dk_182 0 154 (dk_at dksJ44_eq_0 18 rfl rfl)
theorem dJ44_eq_21 : decode cJ44_eq 21 = .ok (.ireturn, 1) := dk_172 (dk_at dksJ44_eq_0 21 rfl rfl)
theorem q160 : (Jvm.Cond.initialized "java/util/Collections") ∈ lw_all := lw_g (lw_at lw_m1 74 rfl) rfl
theorem q2653 : (Jvm.Cond.static ({ cls := "java/util/Collections", name := "nCopies", desc := "(ILjava/lang/Object;)Ljava/util/List;" } : Jvm.MethodName)) ∈ lw_all := lw_g (lw_at lw_m11 167 rfl) rfl
theorem q2654 : (Jvm.Cond.code ({ cls := "java/util/Collections", name := "nCopies", desc := "(ILjava/lang/Object;)Ljava/util/List;" } : Jvm.MethodName) prog_69_method_76_code (2 : Nat) (Option.some (Jvm.ClassFile.FieldType.object "java/util/List"))) ∈ lw_all := lw_g (lw_at lw_m11 168 rfl) rfl
theorem q2655 : (Jvm.Cond.classLink "java/util/Collections" (417 : Nat) "java/util/Collections$CopiesList") ∈ lw_all := lw_g (lw_at lw_m11 169 rfl) rfl
theorem q2657 : (Jvm.Cond.methodLink "java/util/Collections" (419 : Nat) ({ cls := "java/util/Collections$CopiesList", name := "<init>", desc := "(ILjava/lang/Object;)V" } : Jvm.MethodName)) ∈ lw_all := lw_g (lw_at lw_m11 171 rfl) rfl
theorem q2787 : (Jvm.Cond.static ({ cls := "java/util/Collections", name := "max", desc := "(Ljava/util/Collection;)Ljava/lang/Object;" } : Jvm.MethodName)) ∈ lw_all := lw_g (lw_at lw_m12 61 rfl) rfl
theorem q2788 : (Jvm.Cond.code ({ cls := "java/util/Collections", name := "max", desc := "(Ljava/util/Collection;)Ljava/lang/Object;" } : Jvm.MethodName) prog_69_method_21_code (4 : Nat) (Option.some (Jvm.ClassFile.FieldType.object "java/lang/Object"))) ∈ lw_all := lw_g (lw_at lw_m12 62 rfl) rfl
theorem q2789 : (Jvm.Cond.interfaceEntry "java/util/Collections" (119 : Nat)) ∈ lw_tbl := lw_at lw_m12 63 rfl
theorem q2790 : (Jvm.Cond.methodLink "java/util/Collections" (119 : Nat) ({ cls := "java/util/Collection", name := "iterator", desc := "()Ljava/util/Iterator;" } : Jvm.MethodName)) ∈ lw_all := lw_g (lw_at lw_m12 64 rfl) rfl
theorem q2801 : (Jvm.Cond.interfaceEntry "java/util/Collections" (125 : Nat)) ∈ lw_tbl := lw_at lw_m12 75 rfl
theorem q2802 : (Jvm.Cond.methodLink "java/util/Collections" (125 : Nat) ({ cls := "java/util/Iterator", name := "next", desc := "()Ljava/lang/Object;" } : Jvm.MethodName)) ∈ lw_all := lw_g (lw_at lw_m12 76 rfl) rfl
theorem q2803 : (Jvm.Cond.interfaceEntry "java/util/Collections" (128 : Nat)) ∈ lw_tbl := lw_at lw_m12 77 rfl
theorem q2804 : (Jvm.Cond.methodLink "java/util/Collections" (128 : Nat) ({ cls := "java/util/Iterator", name := "hasNext", desc := "()Z" } : Jvm.MethodName)) ∈ lw_all := lw_g (lw_at lw_m12 78 rfl) rfl
theorem q2805 : (Jvm.Cond.classLink "java/util/Collections" (32 : Nat) "java/lang/Comparable") ∈ lw_all := lw_g (lw_at lw_m12 79 rfl) rfl
theorem q2806 : (Jvm.Cond.interfaceEntry "java/util/Collections" (34 : Nat)) ∈ lw_tbl := lw_at lw_m12 80 rfl
theorem q2807 : (Jvm.Cond.methodLink "java/util/Collections" (34 : Nat) ({ cls := "java/lang/Comparable", name := "compareTo", desc := "(Ljava/lang/Object;)I" } : Jvm.MethodName)) ∈ lw_all := lw_g (lw_at lw_m12 81 rfl) rfl
theorem q3067 : (Jvm.Cond.static ({ cls := "java/util/Collections", name := "eq", desc := "(Ljava/lang/Object;Ljava/lang/Object;)Z" } : Jvm.MethodName)) ∈ lw_all := lw_g (lw_at lw_m13 101 rfl) rfl
theorem q3068 : (Jvm.Cond.code ({ cls := "java/util/Collections", name := "eq", desc := "(Ljava/lang/Object;Ljava/lang/Object;)Z" } : Jvm.MethodName) prog_69_method_81_code (2 : Nat) (Option.some Jvm.ClassFile.FieldType.boolean)) ∈ lw_all := lw_g (lw_at lw_m13 102 rfl) rfl
theorem q3069 : (Jvm.Cond.methodLink "java/util/Collections" (154 : Nat) ({ cls := "java/lang/Object", name := "equals", desc := "(Ljava/lang/Object;)Z" } : Jvm.MethodName)) ∈ lw_all := lw_g (lw_at lw_m13 103 rfl) rfl
/-! java/util/Collections$CopiesList -/
set_option maxRecDepth 100000
def RJ45 : String := "java/util/Collections$CopiesList"
def TJ45 : u_T := fun k => match k with
  | 0 => ("java/util/AbstractList", "modCount", "I", false)
  | 1 => ("java/util/Collections$CopiesList", "n", "I", true)
  | _ => ("java/util/Collections$CopiesList", "element", "Ljava/lang/Object;", true)
def tyJ45 : Nat → FieldType := fun k => match k with
  | 0 => .int
  | 1 => .int
  | _ => .object "java/lang/Object"
abbrev wsJ450 : List Cond := u_ws RJ45 TJ45 3
theorem nmJ45 : ∀ a, a < 3 → ∀ b, b < 3 → a ≠ b → (TJ45 a).2.1 ≠ (TJ45 b).2.1 := by decide +kernel
theorem tyJ45_ok : ∀ k, k < 3 → parseFieldDescriptor (TJ45 k).2.2.1 = some (tyJ45 k) := by decide +kernel
abbrev cJ45_size : ByteArray := prog_70_method_2_code
def yJ45_size : MethodName := ⟨RJ45, "size", "()I"⟩
theorem dJ45_size_0 : decode cJ45_size 0 = .ok (.aload_n 0, 1) := by decide +kernel
theorem dJ45_size_1 : decode cJ45_size 1 = .ok (.getfield 16, 3) := by decide +kernel
theorem dJ45_size_4 : decode cJ45_size 4 = .ok (.ireturn, 1) := by decide +kernel
abbrev cJ45_get : ByteArray := prog_70_method_6_code
def yJ45_get : MethodName := ⟨RJ45, "get", "(I)Ljava/lang/Object;"⟩
def dkwJ45_get_0 : List UInt8 := [27, 42, 180, 0, 16, 184, 0, 34, 87, 42, 180, 0, 20, 176]
abbrev dktJ45_get_0 : List UInt8 := dkwJ45_get_0 ++ []
theorem dksJ45_get_0 : cJ45_get.data.toList.drop 0 = dktJ45_get_0 := by decide +kernel
theorem dJ45_get_0 : decode cJ45_get 0 = .ok (.iload_n 1, 1) := dk_27 (dk_at dksJ45_get_0 0 rfl rfl)
theorem dJ45_get_1 : decode cJ45_get 1 = .ok (.aload_n 0, 1) := dk_42 (dk_at dksJ45_get_0 1 rfl rfl)
theorem dJ45_get_2 : decode cJ45_get 2 = .ok (.getfield 16, 3) := dk_180 0 16 (dk_at dksJ45_get_0 2 rfl rfl)
theorem dJ45_get_5 : decode cJ45_get 5 = .ok (.invokestatic 34, 3) := dk_184 0 34 (dk_at dksJ45_get_0 5 rfl rfl)
theorem dJ45_get_8 : decode cJ45_get 8 = .ok (.pop, 1) := dk_87 (dk_at dksJ45_get_0 8 rfl rfl)
theorem dJ45_get_9 : decode cJ45_get 9 = .ok (.aload_n 0, 1) := dk_42 (dk_at dksJ45_get_0 9 rfl rfl)
theorem dJ45_get_10 : decode cJ45_get 10 = .ok (.getfield 20, 3) := dk_180 0 20 (dk_at dksJ45_get_0 10 rfl rfl)
theorem dJ45_get_13 : decode cJ45_get 13 = .ok (.areturn, 1) := dk_176 (dk_at dksJ45_get_0 13 rfl rfl)
abbrev cJ45_init : ByteArray := prog_70_method_1_code
def yJ45_init : MethodName := ⟨RJ45, "<init>", "(ILjava/lang/Object;)V"⟩
def dkwJ45_init_1 : List UInt8 := [181, 0, 16, 42, 44, 181, 0, 20, 177]
abbrev dktJ45_init_1 : List UInt8 := dkwJ45_init_1 ++ []
def dkwJ45_init_0 : List UInt8 := [42, 183, 0, 1, 178, 0, 7, 154, 0, 15, 27, 156, 0, 11, 187, 0, 13, 89, 183, 0, 15, 191, 42, 27]
abbrev dktJ45_init_0 : List UInt8 := dkwJ45_init_0 ++ dktJ45_init_1
theorem dksJ45_init_0 : cJ45_init.data.toList.drop 0 = dktJ45_init_0 := by decide +kernel
theorem dksJ45_init_1 : cJ45_init.data.toList.drop 24 = dktJ45_init_1 := dk_seg dksJ45_init_0 24 rfl rfl
theorem dJ45_init_0 : decode cJ45_init 0 = .ok (.aload_n 0, 1) := dk_42 (dk_at dksJ45_init_0 0 rfl rfl)
theorem dJ45_init_1 : decode cJ45_init 1 = .ok (.invokespecial 1, 3) := dk_183 0 1 (dk_at dksJ45_init_0 1 rfl rfl)
theorem dJ45_init_4 : decode cJ45_init 4 = .ok (.getstatic 7, 3) := dk_178 0 7 (dk_at dksJ45_init_0 4 rfl rfl)
theorem dJ45_init_7 : decode cJ45_init 7 = .ok (.ifCond .ne 15, 3) := dk_154 0 15 (dk_at dksJ45_init_0 7 rfl rfl)
theorem dJ45_init_10 : decode cJ45_init 10 = .ok (.iload_n 1, 1) := dk_27 (dk_at dksJ45_init_0 10 rfl rfl)
theorem dJ45_init_11 : decode cJ45_init 11 = .ok (.ifCond .ge 11, 3) := dk_156 0 11 (dk_at dksJ45_init_0 11 rfl rfl)
theorem dJ45_init_14 : decode cJ45_init 14 = .ok (.new 13, 3) := dk_187 0 13 (dk_at dksJ45_init_0 14 rfl rfl)
theorem dJ45_init_17 : decode cJ45_init 17 = .ok (.dup, 1) := dk_89 (dk_at dksJ45_init_0 17 rfl rfl)
theorem dJ45_init_18 : decode cJ45_init 18 = .ok (.invokespecial 15, 3) := dk_183 0 15 (dk_at dksJ45_init_0 18 rfl rfl)
theorem dJ45_init_21 : decode cJ45_init 21 = .ok (.athrow, 1) := dk_191 (dk_at dksJ45_init_0 21 rfl rfl)
theorem dJ45_init_22 : decode cJ45_init 22 = .ok (.aload_n 0, 1) := dk_42 (dk_at dksJ45_init_0 22 rfl rfl)
theorem dJ45_init_23 : decode cJ45_init 23 = .ok (.iload_n 1, 1) := dk_27 (dk_at dksJ45_init_0 23 rfl rfl)
theorem dJ45_init_24 : decode cJ45_init 24 = .ok (.putfield 16, 3) := dk_181 0 16 (dk_at dksJ45_init_1 0 rfl rfl)
theorem dJ45_init_27 : decode cJ45_init 27 = .ok (.aload_n 0, 1) := dk_42 (dk_at dksJ45_init_1 3 rfl rfl)
theorem dJ45_init_28 : decode cJ45_init 28 = .ok (.aload_n 2, 1) := dk_44 (dk_at dksJ45_init_1 4 rfl rfl)
theorem dJ45_init_29 : decode cJ45_init 29 = .ok (.putfield 20, 3) := dk_181 0 20 (dk_at dksJ45_init_1 5 rfl rfl)
theorem dJ45_init_32 : decode cJ45_init 32 = .ok (.return_, 1) := dk_177 (dk_at dksJ45_init_1 8 rfl rfl)
abbrev cJ45_toArray : ByteArray := prog_70_method_8_code
def yJ45_toArray : MethodName := ⟨RJ45, "toArray", "()[Ljava/lang/Object;"⟩
def dkwJ45_toArray_1 : List UInt8 := [180, 0, 20, 184, 0, 52, 43, 176]
abbrev dktJ45_toArray_1 : List UInt8 := dkwJ45_toArray_1 ++ []
def dkwJ45_toArray_0 : List UInt8 := [42, 180, 0, 16, 189, 0, 50, 76, 42, 180, 0, 20, 198, 0, 16, 43, 3, 42, 180, 0, 16, 42]
abbrev dktJ45_toArray_0 : List UInt8 := dkwJ45_toArray_0 ++ dktJ45_toArray_1
theorem dksJ45_toArray_0 : cJ45_toArray.data.toList.drop 0 = dktJ45_toArray_0 := by decide +kernel
theorem dksJ45_toArray_1 : cJ45_toArray.data.toList.drop 22 = dktJ45_toArray_1 := dk_seg dksJ45_toArray_0 22 rfl rfl
theorem dJ45_toArray_0 : decode cJ45_toArray 0 = .ok (.aload_n 0, 1) := dk_42 (dk_at dksJ45_toArray_0 0 rfl rfl)
theorem dJ45_toArray_1 : decode cJ45_toArray 1 = .ok (.getfield 16, 3) := dk_180 0 16 (dk_at dksJ45_toArray_0 1 rfl rfl)
theorem dJ45_toArray_4 : decode cJ45_toArray 4 = .ok (.anewarray 50, 3) := dk_189 0 50 (dk_at dksJ45_toArray_0 4 rfl rfl)
theorem dJ45_toArray_7 : decode cJ45_toArray 7 = .ok (.astore_n 1, 1) := dk_76 (dk_at dksJ45_toArray_0 7 rfl rfl)
theorem dJ45_toArray_8 : decode cJ45_toArray 8 = .ok (.aload_n 0, 1) := dk_42 (dk_at dksJ45_toArray_0 8 rfl rfl)
theorem dJ45_toArray_9 : decode cJ45_toArray 9 = .ok (.getfield 20, 3) := dk_180 0 20 (dk_at dksJ45_toArray_0 9 rfl rfl)
theorem dJ45_toArray_12 : decode cJ45_toArray 12 = .ok (.ifnull 16, 3) := dk_198 0 16 (dk_at dksJ45_toArray_0 12 rfl rfl)
theorem dJ45_toArray_15 : decode cJ45_toArray 15 = .ok (.aload_n 1, 1) := dk_43 (dk_at dksJ45_toArray_0 15 rfl rfl)
theorem dJ45_toArray_16 : decode cJ45_toArray 16 = .ok (.iconst 0, 1) := dk_3 (dk_at dksJ45_toArray_0 16 rfl rfl)
theorem dJ45_toArray_17 : decode cJ45_toArray 17 = .ok (.aload_n 0, 1) := dk_42 (dk_at dksJ45_toArray_0 17 rfl rfl)
theorem dJ45_toArray_18 : decode cJ45_toArray 18 = .ok (.getfield 16, 3) := dk_180 0 16 (dk_at dksJ45_toArray_0 18 rfl rfl)
theorem dJ45_toArray_21 : decode cJ45_toArray 21 = .ok (.aload_n 0, 1) := dk_42 (dk_at dksJ45_toArray_0 21 rfl rfl)
theorem dJ45_toArray_22 : decode cJ45_toArray 22 = .ok (.getfield 20, 3) := dk_180 0 20 (dk_at dksJ45_toArray_1 0 rfl rfl)
theorem dJ45_toArray_25 : decode cJ45_toArray 25 = .ok (.invokestatic 52, 3) := dk_184 0 52 (dk_at dksJ45_toArray_1 3 rfl rfl)
theorem dJ45_toArray_28 : decode cJ45_toArray 28 = .ok (.aload_n 1, 1) := dk_43 (dk_at dksJ45_toArray_1 6 rfl rfl)
theorem dJ45_toArray_29 : decode cJ45_toArray 29 = .ok (.areturn, 1) := dk_176 (dk_at dksJ45_toArray_1 7 rfl rfl)
abbrev cJ45_indexOf : ByteArray := prog_70_method_4_code
def yJ45_indexOf : MethodName := ⟨RJ45, "indexOf", "(Ljava/lang/Object;)I"⟩
def dkwJ45_indexOf_0 : List UInt8 := [42, 43, 182, 0, 30, 153, 0, 7, 3, 167, 0, 4, 2, 172]
abbrev dktJ45_indexOf_0 : List UInt8 := dkwJ45_indexOf_0 ++ []
theorem dksJ45_indexOf_0 : cJ45_indexOf.data.toList.drop 0 = dktJ45_indexOf_0 := by decide +kernel
theorem dJ45_indexOf_0 : decode cJ45_indexOf 0 = .ok (.aload_n 0, 1) := dk_42 (dk_at dksJ45_indexOf_0 0 rfl rfl)
theorem dJ45_indexOf_1 : decode cJ45_indexOf 1 = .ok (.aload_n 1, 1) := dk_43 (dk_at dksJ45_indexOf_0 1 rfl rfl)
theorem dJ45_indexOf_2 : decode cJ45_indexOf 2 = .ok (.invokevirtual 30, 3) := dk_182 0 30 (dk_at dksJ45_indexOf_0 2 rfl rfl)
theorem dJ45_indexOf_5 : decode cJ45_indexOf 5 = .ok (.ifCond .eq 7, 3) := dk_153 0 7 (dk_at dksJ45_indexOf_0 5 rfl rfl)
theorem dJ45_indexOf_8 : decode cJ45_indexOf 8 = .ok (.iconst 0, 1) := dk_3 (dk_at dksJ45_indexOf_0 8 rfl rfl)
theorem dJ45_indexOf_9 : decode cJ45_indexOf 9 = .ok (.goto 4, 3) := dk_167 0 4 (dk_at dksJ45_indexOf_0 9 rfl rfl)
theorem dJ45_indexOf_12 : decode cJ45_indexOf 12 = .ok (.iconst (-1), 1) := dk_2 (dk_at dksJ45_indexOf_0 12 rfl rfl)
theorem dJ45_indexOf_13 : decode cJ45_indexOf 13 = .ok (.ireturn, 1) := dk_172 (dk_at dksJ45_indexOf_0 13 rfl rfl)
abbrev cJ45_contains : ByteArray := prog_70_method_3_code
def yJ45_contains : MethodName := ⟨RJ45, "contains", "(Ljava/lang/Object;)Z"⟩
def dkwJ45_contains_0 : List UInt8 := [42, 180, 0, 16, 153, 0, 18, 43, 42, 180, 0, 20, 184, 0, 24, 153, 0, 7, 4, 167, 0, 4, 3, 172]
abbrev dktJ45_contains_0 : List UInt8 := dkwJ45_contains_0 ++ []
theorem dksJ45_contains_0 : cJ45_contains.data.toList.drop 0 = dktJ45_contains_0 := by decide +kernel
theorem dJ45_contains_0 : decode cJ45_contains 0 = .ok (.aload_n 0, 1) := dk_42 (dk_at dksJ45_contains_0 0 rfl rfl)
theorem dJ45_contains_1 : decode cJ45_contains 1 = .ok (.getfield 16, 3) := dk_180 0 16 (dk_at dksJ45_contains_0 1 rfl rfl)
theorem dJ45_contains_4 : decode cJ45_contains 4 = .ok (.ifCond .eq 18, 3) := dk_153 0 18 (dk_at dksJ45_contains_0 4 rfl rfl)
theorem dJ45_contains_7 : decode cJ45_contains 7 = .ok (.aload_n 1, 1) := dk_43 (dk_at dksJ45_contains_0 7 rfl rfl)
theorem dJ45_contains_8 : decode cJ45_contains 8 = .ok (.aload_n 0, 1) := dk_42 (dk_at dksJ45_contains_0 8 rfl rfl)
theorem dJ45_contains_9 : decode cJ45_contains 9 = .ok (.getfield 20, 3) := dk_180 0 20 (dk_at dksJ45_contains_0 9 rfl rfl)
theorem dJ45_contains_12 : decode cJ45_contains 12 = .ok (.invokestatic 24, 3) := dk_184 0 24 (dk_at dksJ45_contains_0 12 rfl rfl)
theorem dJ45_contains_15 : decode cJ45_contains 15 = .ok (.ifCond .eq 7, 3) := dk_153 0 7 (dk_at dksJ45_contains_0 15 rfl rfl)
theorem dJ45_contains_18 : decode cJ45_contains 18 = .ok (.iconst 1, 1) := dk_4 (dk_at dksJ45_contains_0 18 rfl rfl)
theorem dJ45_contains_19 : decode cJ45_contains 19 = .ok (.goto 4, 3) := dk_167 0 4 (dk_at dksJ45_contains_0 19 rfl rfl)
theorem dJ45_contains_22 : decode cJ45_contains 22 = .ok (.iconst 0, 1) := dk_3 (dk_at dksJ45_contains_0 22 rfl rfl)
theorem dJ45_contains_23 : decode cJ45_contains 23 = .ok (.ireturn, 1) := dk_172 (dk_at dksJ45_contains_0 23 rfl rfl)
theorem q161 : (Jvm.Cond.initialized "java/util/Collections$CopiesList") ∈ lw_all := lw_g (lw_at lw_m1 75 rfl) rfl
theorem q265 : (Jvm.Cond.selects "java/util/Collections$CopiesList" ({ cls := "java/lang/Object", name := "getClass", desc := "()Ljava/lang/Class;" } : Jvm.MethodName) ({ cls := "java/lang/Object", name := "getClass", desc := "()Ljava/lang/Class;" } : Jvm.MethodName)) ∈ lw_all := lw_g (lw_at lw_m1 179 rfl) rfl
theorem q916 : (Jvm.Cond.castable "java/util/Collections$CopiesList" "java/util/List") ∈ lw_tbl := lw_at lw_m4 110 rfl
theorem q917 : (Jvm.Cond.selects "java/util/Collections$CopiesList" ({ cls := "java/util/List", name := "add", desc := "(Ljava/lang/Object;)Z" } : Jvm.MethodName) ({ cls := "java/util/AbstractList", name := "add", desc := "(Ljava/lang/Object;)Z" } : Jvm.MethodName)) ∈ lw_all := lw_g (lw_at lw_m4 111 rfl) rfl
theorem q918 : (Jvm.Cond.unhidden "java/util/Collections$CopiesList" "add" "(Ljava/lang/Object;)Z") ∈ lw_tbl := lw_at lw_m4 112 rfl
theorem q928 : (Jvm.Cond.selects "java/util/Collections$CopiesList" ({ cls := "java/util/AbstractList", name := "size", desc := "()I" } : Jvm.MethodName) ({ cls := "java/util/Collections$CopiesList", name := "size", desc := "()I" } : Jvm.MethodName)) ∈ lw_all := lw_g (lw_at lw_m4 122 rfl) rfl
theorem q929 : (Jvm.Cond.instanceMethod ({ cls := "java/util/Collections$CopiesList", name := "size", desc := "()I" } : Jvm.MethodName)) ∈ lw_all := lw_g (lw_at lw_m4 123 rfl) rfl
theorem q930 : (Jvm.Cond.code ({ cls := "java/util/Collections$CopiesList", name := "size", desc := "()I" } : Jvm.MethodName) prog_70_method_2_code (1 : Nat) (Option.some Jvm.ClassFile.FieldType.int)) ∈ lw_all := lw_g (lw_at lw_m4 124 rfl) rfl
theorem q1190 : (Jvm.Cond.selects "java/util/Collections$CopiesList" ({ cls := "java/util/AbstractList", name := "add", desc := "(ILjava/lang/Object;)V" } : Jvm.MethodName) ({ cls := "java/util/AbstractList", name := "add", desc := "(ILjava/lang/Object;)V" } : Jvm.MethodName)) ∈ lw_all := lw_g (lw_at lw_m5 144 rfl) rfl
theorem q1272 : (Jvm.Cond.selects "java/util/Collections$CopiesList" ({ cls := "java/util/List", name := "size", desc := "()I" } : Jvm.MethodName) ({ cls := "java/util/Collections$CopiesList", name := "size", desc := "()I" } : Jvm.MethodName)) ∈ lw_all := lw_g (lw_at lw_m5 226 rfl) rfl
theorem q1273 : (Jvm.Cond.unhidden "java/util/Collections$CopiesList" "size" "()I") ∈ lw_tbl := lw_at lw_m5 227 rfl
theorem q1274 : (Jvm.Cond.publicMethod ({ cls := "java/util/Collections$CopiesList", name := "size", desc := "()I" } : Jvm.MethodName)) ∈ lw_tbl := lw_at lw_m5 228 rfl
theorem q1325 : (Jvm.Cond.selects "java/util/Collections$CopiesList" ({ cls := "java/util/List", name := "iterator", desc := "()Ljava/util/Iterator;" } : Jvm.MethodName) ({ cls := "java/util/AbstractList", name := "iterator", desc := "()Ljava/util/Iterator;" } : Jvm.MethodName)) ∈ lw_all := lw_g (lw_at lw_m6 39 rfl) rfl
theorem q1326 : (Jvm.Cond.unhidden "java/util/Collections$CopiesList" "iterator" "()Ljava/util/Iterator;") ∈ lw_tbl := lw_at lw_m6 40 rfl
theorem q1412 : (Jvm.Cond.selects "java/util/Collections$CopiesList" ({ cls := "java/util/AbstractList", name := "listIterator", desc := "(I)Ljava/util/ListIterator;" } : Jvm.MethodName) ({ cls := "java/util/AbstractList", name := "listIterator", desc := "(I)Ljava/util/ListIterator;" } : Jvm.MethodName)) ∈ lw_all := lw_g (lw_at lw_m6 126 rfl) rfl
theorem q1543 : (Jvm.Cond.selects "java/util/Collections$CopiesList" ({ cls := "java/util/AbstractList", name := "get", desc := "(I)Ljava/lang/Object;" } : Jvm.MethodName) ({ cls := "java/util/Collections$CopiesList", name := "get", desc := "(I)Ljava/lang/Object;" } : Jvm.MethodName)) ∈ lw_all := lw_g (lw_at lw_m7 17 rfl) rfl
theorem q1544 : (Jvm.Cond.instanceMethod ({ cls := "java/util/Collections$CopiesList", name := "get", desc := "(I)Ljava/lang/Object;" } : Jvm.MethodName)) ∈ lw_all := lw_g (lw_at lw_m7 18 rfl) rfl
theorem q1545 : (Jvm.Cond.code ({ cls := "java/util/Collections$CopiesList", name := "get", desc := "(I)Ljava/lang/Object;" } : Jvm.MethodName) prog_70_method_6_code (2 : Nat) (Option.some (Jvm.ClassFile.FieldType.object "java/lang/Object"))) ∈ lw_all := lw_g (lw_at lw_m7 19 rfl) rfl
theorem q1546 : (Jvm.Cond.methodLink "java/util/Collections$CopiesList" (34 : Nat) ({ cls := "java/util/Objects", name := "checkIndex", desc := "(II)I" } : Jvm.MethodName)) ∈ lw_all := lw_g (lw_at lw_m7 20 rfl) rfl
theorem q1664 : (Jvm.Cond.selects "java/util/Collections$CopiesList" ({ cls := "java/util/List", name := "get", desc := "(I)Ljava/lang/Object;" } : Jvm.MethodName) ({ cls := "java/util/Collections$CopiesList", name := "get", desc := "(I)Ljava/lang/Object;" } : Jvm.MethodName)) ∈ lw_all := lw_g (lw_at lw_m7 138 rfl) rfl
theorem q1665 : (Jvm.Cond.unhidden "java/util/Collections$CopiesList" "get" "(I)Ljava/lang/Object;") ∈ lw_tbl := lw_at lw_m7 139 rfl
theorem q1666 : (Jvm.Cond.publicMethod ({ cls := "java/util/Collections$CopiesList", name := "get", desc := "(I)Ljava/lang/Object;" } : Jvm.MethodName)) ∈ lw_tbl := lw_at lw_m7 140 rfl
theorem q2581 : (Jvm.Cond.selects "java/util/Collections$CopiesList" ({ cls := "java/util/AbstractList", name := "remove", desc := "(I)Ljava/lang/Object;" } : Jvm.MethodName) ({ cls := "java/util/AbstractList", name := "remove", desc := "(I)Ljava/lang/Object;" } : Jvm.MethodName)) ∈ lw_all := lw_g (lw_at lw_m11 95 rfl) rfl
theorem q2656 : (Jvm.Cond.instantiable "java/util/Collections$CopiesList" (3 : Nat)) ∈ lw_all := lw_g (lw_at lw_m11 170 rfl) rfl
theorem q2658 : (Jvm.Cond.instanceMethod ({ cls := "java/util/Collections$CopiesList", name := "<init>", desc := "(ILjava/lang/Object;)V" } : Jvm.MethodName)) ∈ lw_all := lw_g (lw_at lw_m11 172 rfl) rfl
theorem q2659 : (Jvm.Cond.code ({ cls := "java/util/Collections$CopiesList", name := "<init>", desc := "(ILjava/lang/Object;)V" } : Jvm.MethodName) prog_70_method_1_code (3 : Nat) (Option.none : Option Jvm.ClassFile.FieldType)) ∈ lw_all := lw_g (lw_at lw_m11 173 rfl) rfl
theorem q2660 : (Jvm.Cond.methodLink "java/util/Collections$CopiesList" (1 : Nat) ({ cls := "java/util/AbstractList", name := "<init>", desc := "()V" } : Jvm.MethodName)) ∈ lw_all := lw_g (lw_at lw_m11 174 rfl) rfl
theorem q2661 : (Jvm.Cond.fieldLink "java/util/Collections$CopiesList" (7 : Nat) "java/util/Collections$CopiesList" "$assertionsDisabled" "Z") ∈ lw_all := lw_g (lw_at lw_m11 175 rfl) rfl
theorem q2662 : (Jvm.Cond.laysStatic "java/util/Collections$CopiesList" "$assertionsDisabled" "Z") ∈ lw_tbl := lw_at lw_m11 176 rfl
theorem q2663 : (Jvm.Cond.fieldLink "java/util/Collections$CopiesList" (16 : Nat) "java/util/Collections$CopiesList" "n" "I") ∈ lw_all := lw_g (lw_at lw_m11 177 rfl) rfl
theorem q2664 : (Jvm.Cond.fieldLink "java/util/Collections$CopiesList" (20 : Nat) "java/util/Collections$CopiesList" "element" "Ljava/lang/Object;") ∈ lw_all := lw_g (lw_at lw_m11 178 rfl) rfl
theorem q2665 : (Jvm.Cond.laysFinal "java/util/Collections$CopiesList" "java/util/Collections$CopiesList" "n" "I") ∈ lw_all := lw_g (lw_at lw_m11 179 rfl) rfl
theorem q2666 : (Jvm.Cond.soleField "java/util/Collections$CopiesList" "n") ∈ lw_all := lw_g (lw_at lw_m11 180 rfl) rfl
theorem q2667 : (Jvm.Cond.laysFinal "java/util/Collections$CopiesList" "java/util/Collections$CopiesList" "element" "Ljava/lang/Object;") ∈ lw_all := lw_g (lw_at lw_m11 181 rfl) rfl
theorem q2668 : (Jvm.Cond.soleField "java/util/Collections$CopiesList" "element") ∈ lw_all := lw_g (lw_at lw_m11 182 rfl) rfl
theorem q2669 : (Jvm.Cond.lays "java/util/Collections$CopiesList" "java/util/AbstractList" "modCount" "I") ∈ lw_all := lw_g (lw_at lw_m11 183 rfl) rfl
theorem q2670 : (Jvm.Cond.superclass "java/util/Collections$CopiesList" "java/util/AbstractList") ∈ lw_all := lw_g (lw_at lw_m11 184 rfl) rfl
theorem q2698 : (Jvm.Cond.castable "java/util/Collections$CopiesList" "java/util/Collection") ∈ lw_tbl := lw_at lw_m11 212 rfl
theorem q2699 : (Jvm.Cond.selects "java/util/Collections$CopiesList" ({ cls := "java/util/Collection", name := "toArray", desc := "()[Ljava/lang/Object;" } : Jvm.MethodName) ({ cls := "java/util/Collections$CopiesList", name := "toArray", desc := "()[Ljava/lang/Object;" } : Jvm.MethodName)) ∈ lw_all := lw_g (lw_at lw_m11 213 rfl) rfl
theorem q2700 : (Jvm.Cond.unhidden "java/util/Collections$CopiesList" "toArray" "()[Ljava/lang/Object;") ∈ lw_tbl := lw_at lw_m11 214 rfl
theorem q2701 : (Jvm.Cond.instanceMethod ({ cls := "java/util/Collections$CopiesList", name := "toArray", desc := "()[Ljava/lang/Object;" } : Jvm.MethodName)) ∈ lw_all := lw_g (lw_at lw_m11 215 rfl) rfl
theorem q2702 : (Jvm.Cond.publicMethod ({ cls := "java/util/Collections$CopiesList", name := "toArray", desc := "()[Ljava/lang/Object;" } : Jvm.MethodName)) ∈ lw_tbl := lw_at lw_m11 216 rfl
theorem q2703 : (Jvm.Cond.code ({ cls := "java/util/Collections$CopiesList", name := "toArray", desc := "()[Ljava/lang/Object;" } : Jvm.MethodName) prog_70_method_8_code (2 : Nat) (Option.some (Jvm.ClassFile.FieldType.array (Jvm.ClassFile.FieldType.object "java/lang/Object")))) ∈ lw_all := lw_g (lw_at lw_m11 217 rfl) rfl
theorem q2704 : (Jvm.Cond.classLink "java/util/Collections$CopiesList" (50 : Nat) "java/lang/Object") ∈ lw_all := lw_g (lw_at lw_m11 218 rfl) rfl
theorem q2705 : (Jvm.Cond.methodLink "java/util/Collections$CopiesList" (52 : Nat) ({ cls := "java/util/Arrays", name := "fill", desc := "([Ljava/lang/Object;IILjava/lang/Object;)V" } : Jvm.MethodName)) ∈ lw_all := lw_g (lw_at lw_m11 219 rfl) rfl
theorem q2749 : (Jvm.Cond.unhidden "java/util/Collections$CopiesList" "getClass" "()Ljava/lang/Class;") ∈ lw_tbl := lw_at lw_m12 23 rfl
theorem q2769 : (Jvm.Cond.selects "java/util/Collections$CopiesList" ({ cls := "java/util/List", name := "set", desc := "(ILjava/lang/Object;)Ljava/lang/Object;" } : Jvm.MethodName) ({ cls := "java/util/AbstractList", name := "set", desc := "(ILjava/lang/Object;)Ljava/lang/Object;" } : Jvm.MethodName)) ∈ lw_all := lw_g (lw_at lw_m12 43 rfl) rfl
theorem q2770 : (Jvm.Cond.unhidden "java/util/Collections$CopiesList" "set" "(ILjava/lang/Object;)Ljava/lang/Object;") ∈ lw_tbl := lw_at lw_m12 44 rfl
theorem q2797 : (Jvm.Cond.selects "java/util/Collections$CopiesList" ({ cls := "java/util/Collection", name := "iterator", desc := "()Ljava/util/Iterator;" } : Jvm.MethodName) ({ cls := "java/util/AbstractList", name := "iterator", desc := "()Ljava/util/Iterator;" } : Jvm.MethodName)) ∈ lw_all := lw_g (lw_at lw_m12 71 rfl) rfl
theorem q3057 : (Jvm.Cond.selects "java/util/Collections$CopiesList" ({ cls := "java/util/List", name := "indexOf", desc := "(Ljava/lang/Object;)I" } : Jvm.MethodName) ({ cls := "java/util/Collections$CopiesList", name := "indexOf", desc := "(Ljava/lang/Object;)I" } : Jvm.MethodName)) ∈ lw_all := lw_g (lw_at lw_m13 91 rfl) rfl
theorem q3058 : (Jvm.Cond.unhidden "java/util/Collections$CopiesList" "indexOf" "(Ljava/lang/Object;)I") ∈ lw_tbl := lw_at lw_m13 92 rfl
theorem q3059 : (Jvm.Cond.instanceMethod ({ cls := "java/util/Collections$CopiesList", name := "indexOf", desc := "(Ljava/lang/Object;)I" } : Jvm.MethodName)) ∈ lw_all := lw_g (lw_at lw_m13 93 rfl) rfl
theorem q3060 : (Jvm.Cond.publicMethod ({ cls := "java/util/Collections$CopiesList", name := "indexOf", desc := "(Ljava/lang/Object;)I" } : Jvm.MethodName)) ∈ lw_tbl := lw_at lw_m13 94 rfl
theorem q3061 : (Jvm.Cond.code ({ cls := "java/util/Collections$CopiesList", name := "indexOf", desc := "(Ljava/lang/Object;)I" } : Jvm.MethodName) prog_70_method_4_code (2 : Nat) (Option.some Jvm.ClassFile.FieldType.int)) ∈ lw_all := lw_g (lw_at lw_m13 95 rfl) rfl
theorem q3062 : (Jvm.Cond.methodLink "java/util/Collections$CopiesList" (30 : Nat) ({ cls := "java/util/Collections$CopiesList", name := "contains", desc := "(Ljava/lang/Object;)Z" } : Jvm.MethodName)) ∈ lw_all := lw_g (lw_at lw_m13 96 rfl) rfl
theorem q3063 : (Jvm.Cond.instanceMethod ({ cls := "java/util/Collections$CopiesList", name := "contains", desc := "(Ljava/lang/Object;)Z" } : Jvm.MethodName)) ∈ lw_all := lw_g (lw_at lw_m13 97 rfl) rfl
theorem q3064 : (Jvm.Cond.selects "java/util/Collections$CopiesList" ({ cls := "java/util/Collections$CopiesList", name := "contains", desc := "(Ljava/lang/Object;)Z" } : Jvm.MethodName) ({ cls := "java/util/Collections$CopiesList", name := "contains", desc := "(Ljava/lang/Object;)Z" } : Jvm.MethodName)) ∈ lw_all := lw_g (lw_at lw_m13 98 rfl) rfl
theorem q3065 : (Jvm.Cond.code ({ cls := "java/util/Collections$CopiesList", name := "contains", desc := "(Ljava/lang/Object;)Z" } : Jvm.MethodName) prog_70_method_3_code (2 : Nat) (Option.some Jvm.ClassFile.FieldType.boolean)) ∈ lw_all := lw_g (lw_at lw_m13 99 rfl) rfl
theorem q3066 : (Jvm.Cond.methodLink "java/util/Collections$CopiesList" (24 : Nat) ({ cls := "java/util/Collections", name := "eq", desc := "(Ljava/lang/Object;Ljava/lang/Object;)Z" } : Jvm.MethodName)) ∈ lw_all := lw_g (lw_at lw_m13 100 rfl) rfl
theorem q3771 : (Jvm.Cond.selects "java/util/Collections$CopiesList" ({ cls := "java/util/AbstractCollection", name := "size", desc := "()I" } : Jvm.MethodName) ({ cls := "java/util/Collections$CopiesList", name := "size", desc := "()I" } : Jvm.MethodName)) ∈ lw_all := lw_g (lw_at lw_m16 85 rfl) rfl
theorem q3845 : (Jvm.Cond.castable "java/util/Collections$CopiesList" "java/lang/Object") ∈ lw_tbl := lw_at lw_m16 159 rfl
theorem in_J45 : ∀ w ∈ wsJ450, w ∈ lw_all := lw_in wsJ450 [2669, 2665, 2667] (by decide +kernel) (by decide +kernel)
/-! java/lang/Object -/
set_option maxRecDepth 100000
def RJ47 : String := "java/lang/Object"
abbrev cJ47_init : ByteArray := object_method_1_code
def yJ47_init : MethodName := ⟨RJ47, "<init>", "()V"⟩
theorem dJ47_init_0 : decode cJ47_init 0 = .ok (.return_, 1) := by decide +kernel
abbrev cJ47_equals : ByteArray := object_method_4_code
def yJ47_equals : MethodName := ⟨RJ47, "equals", "(Ljava/lang/Object;)Z"⟩
def dkwJ47_equals_0 : List UInt8 := [42, 43, 166, 0, 7, 4, 167, 0, 4, 3, 172]
abbrev dktJ47_equals_0 : List UInt8 := dkwJ47_equals_0 ++ []
theorem dksJ47_equals_0 : cJ47_equals.data.toList.drop 0 = dktJ47_equals_0 := by decide +kernel
theorem dJ47_equals_0 : decode cJ47_equals 0 = .ok (.aload_n 0, 1) := dk_42 (dk_at dksJ47_equals_0 0 rfl rfl)
theorem dJ47_equals_1 : decode cJ47_equals 1 = .ok (.aload_n 1, 1) := dk_43 (dk_at dksJ47_equals_0 1 rfl rfl)
theorem dJ47_equals_2 : decode cJ47_equals 2 = .ok (.if_acmp .ne 7, 3) := dk_166 0 7 (dk_at dksJ47_equals_0 2 rfl rfl)
theorem dJ47_equals_5 : decode cJ47_equals 5 = .ok (.iconst 1, 1) := dk_4 (dk_at dksJ47_equals_0 5 rfl rfl)
theorem dJ47_equals_6 : decode cJ47_equals 6 = .ok (.goto 4, 3) := dk_167 0 4 (dk_at dksJ47_equals_0 6 rfl rfl)
theorem dJ47_equals_9 : decode cJ47_equals 9 = .ok (.iconst 0, 1) := dk_3 (dk_at dksJ47_equals_0 9 rfl rfl)
theorem dJ47_equals_10 : decode cJ47_equals 10 = .ok (.ireturn, 1) := dk_172 (dk_at dksJ47_equals_0 10 rfl rfl)
theorem q170 : (Jvm.Cond.instanceMethod ({ cls := "java/lang/Object", name := "<init>", desc := "()V" } : Jvm.MethodName)) ∈ lw_all := lw_g (lw_at lw_m1 84 rfl) rfl
theorem q171 : (Jvm.Cond.code ({ cls := "java/lang/Object", name := "<init>", desc := "()V" } : Jvm.MethodName) object_method_1_code (1 : Nat) (Option.none : Option Jvm.ClassFile.FieldType)) ∈ lw_all := lw_g (lw_at lw_m1 85 rfl) rfl
theorem q221 : (Jvm.Cond.instanceMethod ({ cls := "java/lang/Object", name := "getClass", desc := "()Ljava/lang/Class;" } : Jvm.MethodName)) ∈ lw_all := lw_g (lw_at lw_m1 135 rfl) rfl
theorem q222 : (Jvm.Cond.sameMethod "java/lang/Object" "java/lang/Object" "getClass" "()Ljava/lang/Class;") ∈ lw_all := lw_g (lw_at lw_m1 136 rfl) rfl
theorem q275 : (Jvm.Cond.native ({ cls := "java/lang/Object", name := "getClass", desc := "()Ljava/lang/Class;" } : Jvm.MethodName)) ∈ lw_all := lw_g (lw_at lw_m1 189 rfl) rfl
theorem q1026 : (Jvm.Cond.native ({ cls := "java/lang/Object", name := "clone", desc := "()Ljava/lang/Object;" } : Jvm.MethodName)) ∈ lw_all := lw_g (lw_at lw_m4 220 rfl) rfl
theorem q1027 : (Jvm.Cond.instanceMethod ({ cls := "java/lang/Object", name := "clone", desc := "()Ljava/lang/Object;" } : Jvm.MethodName)) ∈ lw_all := lw_g (lw_at lw_m4 221 rfl) rfl
theorem q2745 : (Jvm.Cond.declares ({ cls := "java/lang/Object", name := "getClass", desc := "()Ljava/lang/Class;" } : Jvm.MethodName)) ∈ lw_tbl := lw_at lw_m12 19 rfl
theorem q2747 : (Jvm.Cond.publicMethod ({ cls := "java/lang/Object", name := "getClass", desc := "()Ljava/lang/Class;" } : Jvm.MethodName)) ∈ lw_tbl := lw_at lw_m12 21 rfl
theorem q3009 : (Jvm.Cond.declares ({ cls := "java/lang/Object", name := "equals", desc := "(Ljava/lang/Object;)Z" } : Jvm.MethodName)) ∈ lw_tbl := lw_at lw_m13 43 rfl
theorem q3011 : (Jvm.Cond.instanceMethod ({ cls := "java/lang/Object", name := "equals", desc := "(Ljava/lang/Object;)Z" } : Jvm.MethodName)) ∈ lw_all := lw_g (lw_at lw_m13 45 rfl) rfl
theorem q3012 : (Jvm.Cond.sameMethod "java/lang/Object" "java/lang/Object" "equals" "(Ljava/lang/Object;)Z") ∈ lw_all := lw_g (lw_at lw_m13 46 rfl) rfl
theorem q3056 : (Jvm.Cond.code ({ cls := "java/lang/Object", name := "equals", desc := "(Ljava/lang/Object;)Z" } : Jvm.MethodName) object_method_4_code (2 : Nat) (Option.some Jvm.ClassFile.FieldType.boolean)) ∈ lw_all := lw_g (lw_at lw_m13 90 rfl) rfl
theorem q3780 : (Jvm.Cond.initialized "java/lang/Object") ∈ lw_all := lw_g (lw_at lw_m16 94 rfl) rfl
/-! java/lang/Math -/
set_option maxRecDepth 100000
def RJ21 : String := "java/lang/Math"
abbrev cJ21_max : ByteArray := prog_44_method_65_code
def yJ21_max : MethodName := ⟨RJ21, "max", "(II)I"⟩
def dkwJ21_max_0 : List UInt8 := [26, 27, 161, 0, 7, 26, 167, 0, 4, 27, 172]
abbrev dktJ21_max_0 : List UInt8 := dkwJ21_max_0 ++ []
theorem dksJ21_max_0 : cJ21_max.data.toList.drop 0 = dktJ21_max_0 := by decide +kernel
theorem dJ21_max_0 : decode cJ21_max 0 = .ok (.iload_n 0, 1) := dk_26 (dk_at dksJ21_max_0 0 rfl rfl)
theorem dJ21_max_1 : decode cJ21_max 1 = .ok (.iload_n 1, 1) := dk_27 (dk_at dksJ21_max_0 1 rfl rfl)
theorem dJ21_max_2 : decode cJ21_max 2 = .ok (.if_icmp .lt 7, 3) := dk_161 0 7 (dk_at dksJ21_max_0 2 rfl rfl)
theorem dJ21_max_5 : decode cJ21_max 5 = .ok (.iload_n 0, 1) := dk_26 (dk_at dksJ21_max_0 5 rfl rfl)
theorem dJ21_max_6 : decode cJ21_max 6 = .ok (.goto 4, 3) := dk_167 0 4 (dk_at dksJ21_max_0 6 rfl rfl)
theorem dJ21_max_9 : decode cJ21_max 9 = .ok (.iload_n 1, 1) := dk_27 (dk_at dksJ21_max_0 9 rfl rfl)
theorem dJ21_max_10 : decode cJ21_max 10 = .ok (.ireturn, 1) := dk_172 (dk_at dksJ21_max_0 10 rfl rfl)
abbrev cJ21_min : ByteArray := prog_44_method_69_code
def yJ21_min : MethodName := ⟨RJ21, "min", "(II)I"⟩
def dkwJ21_min_0 : List UInt8 := [26, 27, 163, 0, 7, 26, 167, 0, 4, 27, 172]
abbrev dktJ21_min_0 : List UInt8 := dkwJ21_min_0 ++ []
theorem dksJ21_min_0 : cJ21_min.data.toList.drop 0 = dktJ21_min_0 := by decide +kernel
theorem dJ21_min_0 : decode cJ21_min 0 = .ok (.iload_n 0, 1) := dk_26 (dk_at dksJ21_min_0 0 rfl rfl)
theorem dJ21_min_1 : decode cJ21_min 1 = .ok (.iload_n 1, 1) := dk_27 (dk_at dksJ21_min_0 1 rfl rfl)
theorem dJ21_min_2 : decode cJ21_min 2 = .ok (.if_icmp .gt 7, 3) := dk_163 0 7 (dk_at dksJ21_min_0 2 rfl rfl)
theorem dJ21_min_5 : decode cJ21_min 5 = .ok (.iload_n 0, 1) := dk_26 (dk_at dksJ21_min_0 5 rfl rfl)
theorem dJ21_min_6 : decode cJ21_min 6 = .ok (.goto 4, 3) := dk_167 0 4 (dk_at dksJ21_min_0 6 rfl rfl)
theorem dJ21_min_9 : decode cJ21_min 9 = .ok (.iload_n 1, 1) := dk_27 (dk_at dksJ21_min_0 9 rfl rfl)
theorem dJ21_min_10 : decode cJ21_min 10 = .ok (.ireturn, 1) := dk_172 (dk_at dksJ21_min_0 10 rfl rfl)
theorem q124 : (Jvm.Cond.initialized "java/lang/Math") ∈ lw_all := lw_g (lw_at lw_m1 38 rfl) rfl
theorem q895 : (Jvm.Cond.static ({ cls := "java/lang/Math", name := "max", desc := "(II)I" } : Jvm.MethodName)) ∈ lw_all := lw_g (lw_at lw_m4 89 rfl) rfl
theorem q896 : (Jvm.Cond.code ({ cls := "java/lang/Math", name := "max", desc := "(II)I" } : Jvm.MethodName) prog_44_method_65_code (2 : Nat) (Option.some Jvm.ClassFile.FieldType.int)) ∈ lw_all := lw_g (lw_at lw_m4 90 rfl) rfl
theorem q911 : (Jvm.Cond.static ({ cls := "java/lang/Math", name := "min", desc := "(II)I" } : Jvm.MethodName)) ∈ lw_all := lw_g (lw_at lw_m4 105 rfl) rfl
theorem q912 : (Jvm.Cond.code ({ cls := "java/lang/Math", name := "min", desc := "(II)I" } : Jvm.MethodName) prog_44_method_69_code (2 : Nat) (Option.some Jvm.ClassFile.FieldType.int)) ∈ lw_all := lw_g (lw_at lw_m4 106 rfl) rfl
/-! java/lang/IndexOutOfBoundsException -/
set_option maxRecDepth 100000
def RJ13 : String := "java/lang/IndexOutOfBoundsException"
def TJ13 : u_T := fun k => match k with
  | 0 => ("java/lang/Throwable", "cause", "Ljava/lang/Throwable;", false)
  | 1 => ("java/lang/Throwable", "stackTrace", "[Ljava/lang/StackTraceElement;", false)
  | 2 => ("java/lang/Throwable", "suppressedExceptions", "Ljava/util/List;", false)
  | 3 => ("java/lang/Throwable", "detailMessage", "Ljava/lang/String;", false)
  | 4 => ("java/lang/Throwable", "backtrace", "Ljava/lang/Object;", false)
  | _ => ("java/lang/Throwable", "depth", "I", false)
def tyJ13 : Nat → FieldType := fun k => match k with
  | 0 => .object "java/lang/Throwable"
  | 1 => .array (.object "java/lang/StackTraceElement")
  | 2 => .object "java/util/List"
  | 3 => .object "java/lang/String"
  | 4 => .object "java/lang/Object"
  | _ => .int
abbrev wsJ130 : List Cond := u_ws RJ13 TJ13 6
theorem nmJ13 : ∀ a, a < 6 → ∀ b, b < 6 → a ≠ b → (TJ13 a).2.1 ≠ (TJ13 b).2.1 := by decide +kernel
theorem tyJ13_ok : ∀ k, k < 6 → parseFieldDescriptor (TJ13 k).2.2.1 = some (tyJ13 k) := by decide +kernel
abbrev cJ13_init : ByteArray := prog_39_method_2_code
def yJ13_init : MethodName := ⟨RJ13, "<init>", "(Ljava/lang/String;)V"⟩
def dkwJ13_init_0 : List UInt8 := [42, 43, 183, 0, 7, 177]
abbrev dktJ13_init_0 : List UInt8 := dkwJ13_init_0 ++ []
theorem dksJ13_init_0 : cJ13_init.data.toList.drop 0 = dktJ13_init_0 := by decide +kernel
theorem dJ13_init_0 : decode cJ13_init 0 = .ok (.aload_n 0, 1) := dk_42 (dk_at dksJ13_init_0 0 rfl rfl)
theorem dJ13_init_1 : decode cJ13_init 1 = .ok (.aload_n 1, 1) := dk_43 (dk_at dksJ13_init_0 1 rfl rfl)
theorem dJ13_init_2 : decode cJ13_init 2 = .ok (.invokespecial 7, 3) := dk_183 0 7 (dk_at dksJ13_init_0 2 rfl rfl)
theorem dJ13_init_5 : decode cJ13_init 5 = .ok (.return_, 1) := dk_177 (dk_at dksJ13_init_0 5 rfl rfl)
theorem q106 : (Jvm.Cond.initialized "java/lang/IndexOutOfBoundsException") ∈ lw_all := lw_g (lw_at lw_m1 20 rfl) rfl
theorem q252 : (Jvm.Cond.selects "java/lang/IndexOutOfBoundsException" ({ cls := "java/lang/Object", name := "getClass", desc := "()Ljava/lang/Class;" } : Jvm.MethodName) ({ cls := "java/lang/Object", name := "getClass", desc := "()Ljava/lang/Class;" } : Jvm.MethodName)) ∈ lw_all := lw_g (lw_at lw_m1 166 rfl) rfl
theorem q420 : (Jvm.Cond.instanceMethod ({ cls := "java/lang/IndexOutOfBoundsException", name := "<init>", desc := "(Ljava/lang/String;)V" } : Jvm.MethodName)) ∈ lw_all := lw_g (lw_at lw_m2 94 rfl) rfl
theorem q421 : (Jvm.Cond.code ({ cls := "java/lang/IndexOutOfBoundsException", name := "<init>", desc := "(Ljava/lang/String;)V" } : Jvm.MethodName) prog_39_method_2_code (2 : Nat) (Option.none : Option Jvm.ClassFile.FieldType)) ∈ lw_all := lw_g (lw_at lw_m2 95 rfl) rfl
theorem q422 : (Jvm.Cond.methodLink "java/lang/IndexOutOfBoundsException" (7 : Nat) ({ cls := "java/lang/RuntimeException", name := "<init>", desc := "(Ljava/lang/String;)V" } : Jvm.MethodName)) ∈ lw_all := lw_g (lw_at lw_m2 96 rfl) rfl
theorem q444 : (Jvm.Cond.selects "java/lang/IndexOutOfBoundsException" ({ cls := "java/lang/Throwable", name := "fillInStackTrace", desc := "()Ljava/lang/Throwable;" } : Jvm.MethodName) ({ cls := "java/lang/Throwable", name := "fillInStackTrace", desc := "()Ljava/lang/Throwable;" } : Jvm.MethodName)) ∈ lw_all := lw_g (lw_at lw_m2 118 rfl) rfl
theorem q473 : (Jvm.Cond.declares ({ cls := "java/lang/IndexOutOfBoundsException", name := "<init>", desc := "()V" } : Jvm.MethodName)) ∈ lw_tbl := lw_at lw_m2 147 rfl
theorem q474 : (Jvm.Cond.declares ({ cls := "java/lang/IndexOutOfBoundsException", name := "<init>", desc := "(Ljava/lang/String;)V" } : Jvm.MethodName)) ∈ lw_tbl := lw_at lw_m2 148 rfl
theorem q945 : (Jvm.Cond.instantiable "java/lang/IndexOutOfBoundsException" (6 : Nat)) ∈ lw_all := lw_g (lw_at lw_m4 139 rfl) rfl
theorem q946 : (Jvm.Cond.castable "java/lang/IndexOutOfBoundsException" "java/lang/IndexOutOfBoundsException") ∈ lw_tbl := lw_at lw_m4 140 rfl
theorem q947 : (Jvm.Cond.selects "java/lang/IndexOutOfBoundsException" ({ cls := "java/lang/Throwable", name := "fillInStackTrace", desc := "(I)Ljava/lang/Throwable;" } : Jvm.MethodName) ({ cls := "java/lang/Throwable", name := "fillInStackTrace", desc := "(I)Ljava/lang/Throwable;" } : Jvm.MethodName)) ∈ lw_all := lw_g (lw_at lw_m4 141 rfl) rfl
theorem q948 : (Jvm.Cond.lays "java/lang/IndexOutOfBoundsException" "java/lang/Throwable" "cause" "Ljava/lang/Throwable;") ∈ lw_all := lw_g (lw_at lw_m4 142 rfl) rfl
theorem q949 : (Jvm.Cond.lays "java/lang/IndexOutOfBoundsException" "java/lang/Throwable" "stackTrace" "[Ljava/lang/StackTraceElement;") ∈ lw_all := lw_g (lw_at lw_m4 143 rfl) rfl
theorem q950 : (Jvm.Cond.lays "java/lang/IndexOutOfBoundsException" "java/lang/Throwable" "suppressedExceptions" "Ljava/util/List;") ∈ lw_all := lw_g (lw_at lw_m4 144 rfl) rfl
theorem q951 : (Jvm.Cond.lays "java/lang/IndexOutOfBoundsException" "java/lang/Throwable" "detailMessage" "Ljava/lang/String;") ∈ lw_all := lw_g (lw_at lw_m4 145 rfl) rfl
theorem q952 : (Jvm.Cond.lays "java/lang/IndexOutOfBoundsException" "java/lang/Throwable" "backtrace" "Ljava/lang/Object;") ∈ lw_all := lw_g (lw_at lw_m4 146 rfl) rfl
theorem q1187 : (Jvm.Cond.lays "java/lang/IndexOutOfBoundsException" "java/lang/Throwable" "depth" "I") ∈ lw_all := lw_g (lw_at lw_m5 141 rfl) rfl
theorem q1188 : (Jvm.Cond.superclass "java/lang/IndexOutOfBoundsException" "java/lang/RuntimeException") ∈ lw_all := lw_g (lw_at lw_m5 142 rfl) rfl
theorem q1587 : (Jvm.Cond.selects "java/lang/IndexOutOfBoundsException" ({ cls := "java/lang/Throwable", name := "toString", desc := "()Ljava/lang/String;" } : Jvm.MethodName) ({ cls := "java/lang/Throwable", name := "toString", desc := "()Ljava/lang/String;" } : Jvm.MethodName)) ∈ lw_all := lw_g (lw_at lw_m7 61 rfl) rfl
theorem q1601 : (Jvm.Cond.selects "java/lang/IndexOutOfBoundsException" ({ cls := "java/lang/Throwable", name := "getLocalizedMessage", desc := "()Ljava/lang/String;" } : Jvm.MethodName) ({ cls := "java/lang/Throwable", name := "getLocalizedMessage", desc := "()Ljava/lang/String;" } : Jvm.MethodName)) ∈ lw_all := lw_g (lw_at lw_m7 75 rfl) rfl
theorem q1614 : (Jvm.Cond.selects "java/lang/IndexOutOfBoundsException" ({ cls := "java/lang/Throwable", name := "getMessage", desc := "()Ljava/lang/String;" } : Jvm.MethodName) ({ cls := "java/lang/Throwable", name := "getMessage", desc := "()Ljava/lang/String;" } : Jvm.MethodName)) ∈ lw_all := lw_g (lw_at lw_m7 88 rfl) rfl
theorem q3042 : (Jvm.Cond.selects "java/lang/IndexOutOfBoundsException" ({ cls := "java/lang/Object", name := "equals", desc := "(Ljava/lang/Object;)Z" } : Jvm.MethodName) ({ cls := "java/lang/Object", name := "equals", desc := "(Ljava/lang/Object;)Z" } : Jvm.MethodName)) ∈ lw_all := lw_g (lw_at lw_m13 76 rfl) rfl
theorem q3820 : (Jvm.Cond.castable "java/lang/IndexOutOfBoundsException" "java/lang/Object") ∈ lw_tbl := lw_at lw_m16 134 rfl
theorem in_J13 : ∀ w ∈ wsJ130, w ∈ lw_all := lw_in wsJ130 [948, 949, 950, 951, 952, 1187] (by decide +kernel) (by decide +kernel)
/-! java/lang/ArrayIndexOutOfBoundsException -/
set_option maxRecDepth 100000
def RJ14 : String := "java/lang/ArrayIndexOutOfBoundsException"
def TJ14 : u_T := fun k => match k with
  | 0 => ("java/lang/Throwable", "backtrace", "Ljava/lang/Object;", false)
  | 1 => ("java/lang/Throwable", "detailMessage", "Ljava/lang/String;", false)
  | 2 => ("java/lang/Throwable", "cause", "Ljava/lang/Throwable;", false)
  | 3 => ("java/lang/Throwable", "stackTrace", "[Ljava/lang/StackTraceElement;", false)
  | 4 => ("java/lang/Throwable", "depth", "I", false)
  | _ => ("java/lang/Throwable", "suppressedExceptions", "Ljava/util/List;", false)
def tyJ14 : Nat → FieldType := fun k => match k with
  | 0 => .object "java/lang/Object"
  | 1 => .object "java/lang/String"
  | 2 => .object "java/lang/Throwable"
  | 3 => .array (.object "java/lang/StackTraceElement")
  | 4 => .int
  | _ => .object "java/util/List"
abbrev wsJ140 : List Cond := u_ws RJ14 TJ14 6
theorem nmJ14 : ∀ a, a < 6 → ∀ b, b < 6 → a ≠ b → (TJ14 a).2.1 ≠ (TJ14 b).2.1 := by decide +kernel
theorem tyJ14_ok : ∀ k, k < 6 → parseFieldDescriptor (TJ14 k).2.2.1 = some (tyJ14 k) := by decide +kernel
abbrev cJ14_init : ByteArray := prog_32_method_2_code
def yJ14_init : MethodName := ⟨RJ14, "<init>", "(Ljava/lang/String;)V"⟩
def dkwJ14_init_0 : List UInt8 := [42, 43, 183, 0, 7, 177]
abbrev dktJ14_init_0 : List UInt8 := dkwJ14_init_0 ++ []
theorem dksJ14_init_0 : cJ14_init.data.toList.drop 0 = dktJ14_init_0 := by decide +kernel
theorem dJ14_init_0 : decode cJ14_init 0 = .ok (.aload_n 0, 1) := dk_42 (dk_at dksJ14_init_0 0 rfl rfl)
theorem dJ14_init_1 : decode cJ14_init 1 = .ok (.aload_n 1, 1) := dk_43 (dk_at dksJ14_init_0 1 rfl rfl)
theorem dJ14_init_2 : decode cJ14_init 2 = .ok (.invokespecial 7, 3) := dk_183 0 7 (dk_at dksJ14_init_0 2 rfl rfl)
theorem dJ14_init_5 : decode cJ14_init 5 = .ok (.return_, 1) := dk_177 (dk_at dksJ14_init_0 5 rfl rfl)
abbrev cJ14_init_2 : ByteArray := prog_32_method_3_code
def yJ14_init_2 : MethodName := ⟨RJ14, "<init>", "(I)V"⟩
def dkwJ14_init_2_0 : List UInt8 := [42, 187, 0, 10, 89, 183, 0, 12, 18, 13, 182, 0, 15, 27, 182, 0, 19, 182, 0, 22, 183, 0, 7, 177]
abbrev dktJ14_init_2_0 : List UInt8 := dkwJ14_init_2_0 ++ []
theorem dksJ14_init_2_0 : cJ14_init_2.data.toList.drop 0 = dktJ14_init_2_0 := by decide +kernel
theorem dJ14_init_2_0 : decode cJ14_init_2 0 = .ok (.aload_n 0, 1) := dk_42 (dk_at dksJ14_init_2_0 0 rfl rfl)
theorem dJ14_init_2_1 : decode cJ14_init_2 1 = .ok (.new 10, 3) := dk_187 0 10 (dk_at dksJ14_init_2_0 1 rfl rfl)
theorem dJ14_init_2_4 : decode cJ14_init_2 4 = .ok (.dup, 1) := dk_89 (dk_at dksJ14_init_2_0 4 rfl rfl)
theorem dJ14_init_2_5 : decode cJ14_init_2 5 = .ok (.invokespecial 12, 3) := dk_183 0 12 (dk_at dksJ14_init_2_0 5 rfl rfl)
theorem dJ14_init_2_8 : decode cJ14_init_2 8 = .ok (.ldc 13, 2) := dk_18 13 (dk_at dksJ14_init_2_0 8 rfl rfl)
theorem dJ14_init_2_10 : decode cJ14_init_2 10 = .ok (.invokevirtual 15, 3) := dk_182 0 15 (dk_at dksJ14_init_2_0 10 rfl rfl)
theorem dJ14_init_2_13 : decode cJ14_init_2 13 = .ok (.iload_n 1, 1) := dk_27 (dk_at dksJ14_init_2_0 13 rfl rfl)
theorem dJ14_init_2_14 : decode cJ14_init_2 14 = .ok (.invokevirtual 19, 3) := dk_182 0 19 (dk_at dksJ14_init_2_0 14 rfl rfl)
theorem dJ14_init_2_17 : decode cJ14_init_2 17 = .ok (.invokevirtual 22, 3) := dk_182 0 22 (dk_at dksJ14_init_2_0 17 rfl rfl)
theorem dJ14_init_2_20 : decode cJ14_init_2 20 = .ok (.invokespecial 7, 3) := dk_183 0 7 (dk_at dksJ14_init_2_0 20 rfl rfl)
theorem dJ14_init_2_23 : decode cJ14_init_2 23 = .ok (.return_, 1) := dk_177 (dk_at dksJ14_init_2_0 23 rfl rfl)
theorem q107 : (Jvm.Cond.initialized "java/lang/ArrayIndexOutOfBoundsException") ∈ lw_all := lw_g (lw_at lw_m1 21 rfl) rfl
theorem q249 : (Jvm.Cond.selects "java/lang/ArrayIndexOutOfBoundsException" ({ cls := "java/lang/Object", name := "getClass", desc := "()Ljava/lang/Class;" } : Jvm.MethodName) ({ cls := "java/lang/Object", name := "getClass", desc := "()Ljava/lang/Class;" } : Jvm.MethodName)) ∈ lw_all := lw_g (lw_at lw_m1 163 rfl) rfl
theorem q416 : (Jvm.Cond.instantiable "java/lang/ArrayIndexOutOfBoundsException" (6 : Nat)) ∈ lw_all := lw_g (lw_at lw_m2 90 rfl) rfl
theorem q417 : (Jvm.Cond.instanceMethod ({ cls := "java/lang/ArrayIndexOutOfBoundsException", name := "<init>", desc := "(Ljava/lang/String;)V" } : Jvm.MethodName)) ∈ lw_all := lw_g (lw_at lw_m2 91 rfl) rfl
theorem q418 : (Jvm.Cond.code ({ cls := "java/lang/ArrayIndexOutOfBoundsException", name := "<init>", desc := "(Ljava/lang/String;)V" } : Jvm.MethodName) prog_32_method_2_code (2 : Nat) (Option.none : Option Jvm.ClassFile.FieldType)) ∈ lw_all := lw_g (lw_at lw_m2 92 rfl) rfl
theorem q419 : (Jvm.Cond.methodLink "java/lang/ArrayIndexOutOfBoundsException" (7 : Nat) ({ cls := "java/lang/IndexOutOfBoundsException", name := "<init>", desc := "(Ljava/lang/String;)V" } : Jvm.MethodName)) ∈ lw_all := lw_g (lw_at lw_m2 93 rfl) rfl
theorem q441 : (Jvm.Cond.selects "java/lang/ArrayIndexOutOfBoundsException" ({ cls := "java/lang/Throwable", name := "fillInStackTrace", desc := "()Ljava/lang/Throwable;" } : Jvm.MethodName) ({ cls := "java/lang/Throwable", name := "fillInStackTrace", desc := "()Ljava/lang/Throwable;" } : Jvm.MethodName)) ∈ lw_all := lw_g (lw_at lw_m2 115 rfl) rfl
theorem q459 : (Jvm.Cond.lays "java/lang/ArrayIndexOutOfBoundsException" "java/lang/Throwable" "backtrace" "Ljava/lang/Object;") ∈ lw_all := lw_g (lw_at lw_m2 133 rfl) rfl
theorem q461 : (Jvm.Cond.lays "java/lang/ArrayIndexOutOfBoundsException" "java/lang/Throwable" "detailMessage" "Ljava/lang/String;") ∈ lw_all := lw_g (lw_at lw_m2 135 rfl) rfl
theorem q463 : (Jvm.Cond.lays "java/lang/ArrayIndexOutOfBoundsException" "java/lang/Throwable" "cause" "Ljava/lang/Throwable;") ∈ lw_all := lw_g (lw_at lw_m2 137 rfl) rfl
theorem q465 : (Jvm.Cond.lays "java/lang/ArrayIndexOutOfBoundsException" "java/lang/Throwable" "stackTrace" "[Ljava/lang/StackTraceElement;") ∈ lw_all := lw_g (lw_at lw_m2 139 rfl) rfl
theorem q467 : (Jvm.Cond.lays "java/lang/ArrayIndexOutOfBoundsException" "java/lang/Throwable" "depth" "I") ∈ lw_all := lw_g (lw_at lw_m2 141 rfl) rfl
theorem q469 : (Jvm.Cond.lays "java/lang/ArrayIndexOutOfBoundsException" "java/lang/Throwable" "suppressedExceptions" "Ljava/util/List;") ∈ lw_all := lw_g (lw_at lw_m2 143 rfl) rfl
theorem q471 : (Jvm.Cond.superclass "java/lang/ArrayIndexOutOfBoundsException" "java/lang/IndexOutOfBoundsException") ∈ lw_all := lw_g (lw_at lw_m2 145 rfl) rfl
theorem q472 : (Jvm.Cond.castable "java/lang/ArrayIndexOutOfBoundsException" "java/lang/ArrayIndexOutOfBoundsException") ∈ lw_tbl := lw_at lw_m2 146 rfl
theorem q481 : (Jvm.Cond.selects "java/lang/ArrayIndexOutOfBoundsException" ({ cls := "java/lang/Throwable", name := "fillInStackTrace", desc := "(I)Ljava/lang/Throwable;" } : Jvm.MethodName) ({ cls := "java/lang/Throwable", name := "fillInStackTrace", desc := "(I)Ljava/lang/Throwable;" } : Jvm.MethodName)) ∈ lw_all := lw_g (lw_at lw_m2 155 rfl) rfl
theorem q1584 : (Jvm.Cond.selects "java/lang/ArrayIndexOutOfBoundsException" ({ cls := "java/lang/Throwable", name := "toString", desc := "()Ljava/lang/String;" } : Jvm.MethodName) ({ cls := "java/lang/Throwable", name := "toString", desc := "()Ljava/lang/String;" } : Jvm.MethodName)) ∈ lw_all := lw_g (lw_at lw_m7 58 rfl) rfl
theorem q1598 : (Jvm.Cond.selects "java/lang/ArrayIndexOutOfBoundsException" ({ cls := "java/lang/Throwable", name := "getLocalizedMessage", desc := "()Ljava/lang/String;" } : Jvm.MethodName) ({ cls := "java/lang/Throwable", name := "getLocalizedMessage", desc := "()Ljava/lang/String;" } : Jvm.MethodName)) ∈ lw_all := lw_g (lw_at lw_m7 72 rfl) rfl
theorem q1611 : (Jvm.Cond.selects "java/lang/ArrayIndexOutOfBoundsException" ({ cls := "java/lang/Throwable", name := "getMessage", desc := "()Ljava/lang/String;" } : Jvm.MethodName) ({ cls := "java/lang/Throwable", name := "getMessage", desc := "()Ljava/lang/String;" } : Jvm.MethodName)) ∈ lw_all := lw_g (lw_at lw_m7 85 rfl) rfl
theorem q2713 : (Jvm.Cond.instanceMethod ({ cls := "java/lang/ArrayIndexOutOfBoundsException", name := "<init>", desc := "(I)V" } : Jvm.MethodName)) ∈ lw_all := lw_g (lw_at lw_m11 227 rfl) rfl
theorem q2714 : (Jvm.Cond.code ({ cls := "java/lang/ArrayIndexOutOfBoundsException", name := "<init>", desc := "(I)V" } : Jvm.MethodName) prog_32_method_3_code (2 : Nat) (Option.none : Option Jvm.ClassFile.FieldType)) ∈ lw_all := lw_g (lw_at lw_m11 228 rfl) rfl
theorem q2715 : (Jvm.Cond.classLink "java/lang/ArrayIndexOutOfBoundsException" (10 : Nat) "java/lang/StringBuilder") ∈ lw_all := lw_g (lw_at lw_m11 229 rfl) rfl
theorem q2716 : (Jvm.Cond.methodLink "java/lang/ArrayIndexOutOfBoundsException" (12 : Nat) ({ cls := "java/lang/StringBuilder", name := "<init>", desc := "()V" } : Jvm.MethodName)) ∈ lw_all := lw_g (lw_at lw_m11 230 rfl) rfl
theorem q2717 : (Jvm.Cond.stringRef "java/lang/ArrayIndexOutOfBoundsException" (13 : Nat) "Array index out of range: ") ∈ lw_tbl := lw_at lw_m11 231 rfl
theorem q2718 : (Jvm.Cond.methodLink "java/lang/ArrayIndexOutOfBoundsException" (15 : Nat) ({ cls := "java/lang/StringBuilder", name := "append", desc := "(Ljava/lang/String;)Ljava/lang/StringBuilder;" } : Jvm.MethodName)) ∈ lw_all := lw_g (lw_at lw_m11 232 rfl) rfl
theorem q2719 : (Jvm.Cond.methodLink "java/lang/ArrayIndexOutOfBoundsException" (19 : Nat) ({ cls := "java/lang/StringBuilder", name := "append", desc := "(I)Ljava/lang/StringBuilder;" } : Jvm.MethodName)) ∈ lw_all := lw_g (lw_at lw_m11 233 rfl) rfl
theorem q2720 : (Jvm.Cond.methodLink "java/lang/ArrayIndexOutOfBoundsException" (22 : Nat) ({ cls := "java/lang/StringBuilder", name := "toString", desc := "()Ljava/lang/String;" } : Jvm.MethodName)) ∈ lw_all := lw_g (lw_at lw_m11 234 rfl) rfl
theorem q3039 : (Jvm.Cond.selects "java/lang/ArrayIndexOutOfBoundsException" ({ cls := "java/lang/Object", name := "equals", desc := "(Ljava/lang/Object;)Z" } : Jvm.MethodName) ({ cls := "java/lang/Object", name := "equals", desc := "(Ljava/lang/Object;)Z" } : Jvm.MethodName)) ∈ lw_all := lw_g (lw_at lw_m13 73 rfl) rfl
theorem q3781 : (Jvm.Cond.castable "java/lang/ArrayIndexOutOfBoundsException" "java/lang/IndexOutOfBoundsException") ∈ lw_tbl := lw_at lw_m16 95 rfl
theorem q3807 : (Jvm.Cond.castable "java/lang/ArrayIndexOutOfBoundsException" "java/lang/Object") ∈ lw_tbl := lw_at lw_m16 121 rfl
theorem in_J14 : ∀ w ∈ wsJ140, w ∈ lw_all := lw_in wsJ140 [459, 461, 463, 465, 467, 469] (by decide +kernel) (by decide +kernel)
/-! java/lang/ClassCastException -/
set_option maxRecDepth 100000
def RJ17 : String := "java/lang/ClassCastException"
def TJ17 : u_T := fun k => match k with
  | 0 => ("java/lang/Throwable", "backtrace", "Ljava/lang/Object;", false)
  | 1 => ("java/lang/Throwable", "detailMessage", "Ljava/lang/String;", false)
  | 2 => ("java/lang/Throwable", "cause", "Ljava/lang/Throwable;", false)
  | 3 => ("java/lang/Throwable", "stackTrace", "[Ljava/lang/StackTraceElement;", false)
  | 4 => ("java/lang/Throwable", "depth", "I", false)
  | _ => ("java/lang/Throwable", "suppressedExceptions", "Ljava/util/List;", false)
def tyJ17 : Nat → FieldType := fun k => match k with
  | 0 => .object "java/lang/Object"
  | 1 => .object "java/lang/String"
  | 2 => .object "java/lang/Throwable"
  | 3 => .array (.object "java/lang/StackTraceElement")
  | 4 => .int
  | _ => .object "java/util/List"
abbrev wsJ170 : List Cond := u_ws RJ17 TJ17 6
theorem nmJ17 : ∀ a, a < 6 → ∀ b, b < 6 → a ≠ b → (TJ17 a).2.1 ≠ (TJ17 b).2.1 := by decide +kernel
theorem tyJ17_ok : ∀ k, k < 6 → parseFieldDescriptor (TJ17 k).2.2.1 = some (tyJ17 k) := by decide +kernel
abbrev cJ17_init : ByteArray := prog_34_method_2_code
def yJ17_init : MethodName := ⟨RJ17, "<init>", "(Ljava/lang/String;)V"⟩
def dkwJ17_init_0 : List UInt8 := [42, 43, 183, 0, 7, 177]
abbrev dktJ17_init_0 : List UInt8 := dkwJ17_init_0 ++ []
theorem dksJ17_init_0 : cJ17_init.data.toList.drop 0 = dktJ17_init_0 := by decide +kernel
theorem dJ17_init_0 : decode cJ17_init 0 = .ok (.aload_n 0, 1) := dk_42 (dk_at dksJ17_init_0 0 rfl rfl)
theorem dJ17_init_1 : decode cJ17_init 1 = .ok (.aload_n 1, 1) := dk_43 (dk_at dksJ17_init_0 1 rfl rfl)
theorem dJ17_init_2 : decode cJ17_init 2 = .ok (.invokespecial 7, 3) := dk_183 0 7 (dk_at dksJ17_init_0 2 rfl rfl)
theorem dJ17_init_5 : decode cJ17_init 5 = .ok (.return_, 1) := dk_177 (dk_at dksJ17_init_0 5 rfl rfl)
theorem q116 : (Jvm.Cond.initialized "java/lang/ClassCastException") ∈ lw_all := lw_g (lw_at lw_m1 30 rfl) rfl
theorem q250 : (Jvm.Cond.selects "java/lang/ClassCastException" ({ cls := "java/lang/Object", name := "getClass", desc := "()Ljava/lang/Class;" } : Jvm.MethodName) ({ cls := "java/lang/Object", name := "getClass", desc := "()Ljava/lang/Class;" } : Jvm.MethodName)) ∈ lw_all := lw_g (lw_at lw_m1 164 rfl) rfl
theorem q442 : (Jvm.Cond.selects "java/lang/ClassCastException" ({ cls := "java/lang/Throwable", name := "fillInStackTrace", desc := "()Ljava/lang/Throwable;" } : Jvm.MethodName) ({ cls := "java/lang/Throwable", name := "fillInStackTrace", desc := "()Ljava/lang/Throwable;" } : Jvm.MethodName)) ∈ lw_all := lw_g (lw_at lw_m2 116 rfl) rfl
theorem q602 : (Jvm.Cond.instantiable "java/lang/ClassCastException" (6 : Nat)) ∈ lw_all := lw_g (lw_at lw_m3 36 rfl) rfl
theorem q603 : (Jvm.Cond.instanceMethod ({ cls := "java/lang/ClassCastException", name := "<init>", desc := "(Ljava/lang/String;)V" } : Jvm.MethodName)) ∈ lw_all := lw_g (lw_at lw_m3 37 rfl) rfl
theorem q604 : (Jvm.Cond.code ({ cls := "java/lang/ClassCastException", name := "<init>", desc := "(Ljava/lang/String;)V" } : Jvm.MethodName) prog_34_method_2_code (2 : Nat) (Option.none : Option Jvm.ClassFile.FieldType)) ∈ lw_all := lw_g (lw_at lw_m3 38 rfl) rfl
theorem q605 : (Jvm.Cond.methodLink "java/lang/ClassCastException" (7 : Nat) ({ cls := "java/lang/RuntimeException", name := "<init>", desc := "(Ljava/lang/String;)V" } : Jvm.MethodName)) ∈ lw_all := lw_g (lw_at lw_m3 39 rfl) rfl
theorem q606 : (Jvm.Cond.lays "java/lang/ClassCastException" "java/lang/Throwable" "backtrace" "Ljava/lang/Object;") ∈ lw_all := lw_g (lw_at lw_m3 40 rfl) rfl
theorem q607 : (Jvm.Cond.lays "java/lang/ClassCastException" "java/lang/Throwable" "detailMessage" "Ljava/lang/String;") ∈ lw_all := lw_g (lw_at lw_m3 41 rfl) rfl
theorem q608 : (Jvm.Cond.lays "java/lang/ClassCastException" "java/lang/Throwable" "cause" "Ljava/lang/Throwable;") ∈ lw_all := lw_g (lw_at lw_m3 42 rfl) rfl
theorem q609 : (Jvm.Cond.lays "java/lang/ClassCastException" "java/lang/Throwable" "stackTrace" "[Ljava/lang/StackTraceElement;") ∈ lw_all := lw_g (lw_at lw_m3 43 rfl) rfl
theorem q610 : (Jvm.Cond.lays "java/lang/ClassCastException" "java/lang/Throwable" "depth" "I") ∈ lw_all := lw_g (lw_at lw_m3 44 rfl) rfl
theorem q611 : (Jvm.Cond.lays "java/lang/ClassCastException" "java/lang/Throwable" "suppressedExceptions" "Ljava/util/List;") ∈ lw_all := lw_g (lw_at lw_m3 45 rfl) rfl
theorem q612 : (Jvm.Cond.superclass "java/lang/ClassCastException" "java/lang/RuntimeException") ∈ lw_all := lw_g (lw_at lw_m3 46 rfl) rfl
theorem q613 : (Jvm.Cond.castable "java/lang/ClassCastException" "java/lang/ClassCastException") ∈ lw_tbl := lw_at lw_m3 47 rfl
theorem q614 : (Jvm.Cond.selects "java/lang/ClassCastException" ({ cls := "java/lang/Throwable", name := "fillInStackTrace", desc := "(I)Ljava/lang/Throwable;" } : Jvm.MethodName) ({ cls := "java/lang/Throwable", name := "fillInStackTrace", desc := "(I)Ljava/lang/Throwable;" } : Jvm.MethodName)) ∈ lw_all := lw_g (lw_at lw_m3 48 rfl) rfl
theorem q1585 : (Jvm.Cond.selects "java/lang/ClassCastException" ({ cls := "java/lang/Throwable", name := "toString", desc := "()Ljava/lang/String;" } : Jvm.MethodName) ({ cls := "java/lang/Throwable", name := "toString", desc := "()Ljava/lang/String;" } : Jvm.MethodName)) ∈ lw_all := lw_g (lw_at lw_m7 59 rfl) rfl
theorem q1599 : (Jvm.Cond.selects "java/lang/ClassCastException" ({ cls := "java/lang/Throwable", name := "getLocalizedMessage", desc := "()Ljava/lang/String;" } : Jvm.MethodName) ({ cls := "java/lang/Throwable", name := "getLocalizedMessage", desc := "()Ljava/lang/String;" } : Jvm.MethodName)) ∈ lw_all := lw_g (lw_at lw_m7 73 rfl) rfl
theorem q1612 : (Jvm.Cond.selects "java/lang/ClassCastException" ({ cls := "java/lang/Throwable", name := "getMessage", desc := "()Ljava/lang/String;" } : Jvm.MethodName) ({ cls := "java/lang/Throwable", name := "getMessage", desc := "()Ljava/lang/String;" } : Jvm.MethodName)) ∈ lw_all := lw_g (lw_at lw_m7 86 rfl) rfl
theorem q3040 : (Jvm.Cond.selects "java/lang/ClassCastException" ({ cls := "java/lang/Object", name := "equals", desc := "(Ljava/lang/Object;)Z" } : Jvm.MethodName) ({ cls := "java/lang/Object", name := "equals", desc := "(Ljava/lang/Object;)Z" } : Jvm.MethodName)) ∈ lw_all := lw_g (lw_at lw_m13 74 rfl) rfl
theorem q3814 : (Jvm.Cond.castable "java/lang/ClassCastException" "java/lang/Object") ∈ lw_tbl := lw_at lw_m16 128 rfl
theorem in_J17 : ∀ w ∈ wsJ170, w ∈ lw_all := lw_in wsJ170 [606, 607, 608, 609, 610, 611] (by decide +kernel) (by decide +kernel)
/-! java/lang/RuntimeException -/
set_option maxRecDepth 100000
def RJ12 : String := "java/lang/RuntimeException"
abbrev cJ12_init : ByteArray := prog_47_method_2_code
def yJ12_init : MethodName := ⟨RJ12, "<init>", "(Ljava/lang/String;)V"⟩
def dkwJ12_init_0 : List UInt8 := [42, 43, 183, 0, 7, 177]
abbrev dktJ12_init_0 : List UInt8 := dkwJ12_init_0 ++ []
theorem dksJ12_init_0 : cJ12_init.data.toList.drop 0 = dktJ12_init_0 := by decide +kernel
theorem dJ12_init_0 : decode cJ12_init 0 = .ok (.aload_n 0, 1) := dk_42 (dk_at dksJ12_init_0 0 rfl rfl)
theorem dJ12_init_1 : decode cJ12_init 1 = .ok (.aload_n 1, 1) := dk_43 (dk_at dksJ12_init_0 1 rfl rfl)
theorem dJ12_init_2 : decode cJ12_init 2 = .ok (.invokespecial 7, 3) := dk_183 0 7 (dk_at dksJ12_init_0 2 rfl rfl)
theorem dJ12_init_5 : decode cJ12_init 5 = .ok (.return_, 1) := dk_177 (dk_at dksJ12_init_0 5 rfl rfl)
abbrev cJ12_init_2 : ByteArray := prog_47_method_1_code
def yJ12_init_2 : MethodName := ⟨RJ12, "<init>", "()V"⟩
theorem dJ12_init_2_0 : decode cJ12_init_2 0 = .ok (.aload_n 0, 1) := by decide +kernel
theorem dJ12_init_2_1 : decode cJ12_init_2 1 = .ok (.invokespecial 1, 3) := by decide +kernel
theorem dJ12_init_2_4 : decode cJ12_init_2 4 = .ok (.return_, 1) := by decide +kernel
abbrev cJ12_init_3 : ByteArray := prog_47_method_4_code
def yJ12_init_3 : MethodName := ⟨RJ12, "<init>", "(Ljava/lang/Throwable;)V"⟩
def dkwJ12_init_3_0 : List UInt8 := [42, 43, 183, 0, 13, 177]
abbrev dktJ12_init_3_0 : List UInt8 := dkwJ12_init_3_0 ++ []
theorem dksJ12_init_3_0 : cJ12_init_3.data.toList.drop 0 = dktJ12_init_3_0 := by decide +kernel
theorem dJ12_init_3_0 : decode cJ12_init_3 0 = .ok (.aload_n 0, 1) := dk_42 (dk_at dksJ12_init_3_0 0 rfl rfl)
theorem dJ12_init_3_1 : decode cJ12_init_3 1 = .ok (.aload_n 1, 1) := dk_43 (dk_at dksJ12_init_3_0 1 rfl rfl)
theorem dJ12_init_3_2 : decode cJ12_init_3 2 = .ok (.invokespecial 13, 3) := dk_183 0 13 (dk_at dksJ12_init_3_0 2 rfl rfl)
theorem dJ12_init_3_5 : decode cJ12_init_3 5 = .ok (.return_, 1) := dk_177 (dk_at dksJ12_init_3_0 5 rfl rfl)
theorem q105 : (Jvm.Cond.initialized "java/lang/RuntimeException") ∈ lw_all := lw_g (lw_at lw_m1 19 rfl) rfl
theorem q423 : (Jvm.Cond.instanceMethod ({ cls := "java/lang/RuntimeException", name := "<init>", desc := "(Ljava/lang/String;)V" } : Jvm.MethodName)) ∈ lw_all := lw_g (lw_at lw_m2 97 rfl) rfl
theorem q424 : (Jvm.Cond.code ({ cls := "java/lang/RuntimeException", name := "<init>", desc := "(Ljava/lang/String;)V" } : Jvm.MethodName) prog_47_method_2_code (2 : Nat) (Option.none : Option Jvm.ClassFile.FieldType)) ∈ lw_all := lw_g (lw_at lw_m2 98 rfl) rfl
theorem q425 : (Jvm.Cond.methodLink "java/lang/RuntimeException" (7 : Nat) ({ cls := "java/lang/Exception", name := "<init>", desc := "(Ljava/lang/String;)V" } : Jvm.MethodName)) ∈ lw_all := lw_g (lw_at lw_m2 99 rfl) rfl
theorem q475 : (Jvm.Cond.declares ({ cls := "java/lang/RuntimeException", name := "<init>", desc := "()V" } : Jvm.MethodName)) ∈ lw_tbl := lw_at lw_m2 149 rfl
theorem q476 : (Jvm.Cond.declares ({ cls := "java/lang/RuntimeException", name := "<init>", desc := "(Ljava/lang/String;)V" } : Jvm.MethodName)) ∈ lw_tbl := lw_at lw_m2 150 rfl
theorem q979 : (Jvm.Cond.instanceMethod ({ cls := "java/lang/RuntimeException", name := "<init>", desc := "()V" } : Jvm.MethodName)) ∈ lw_all := lw_g (lw_at lw_m4 173 rfl) rfl
theorem q980 : (Jvm.Cond.code ({ cls := "java/lang/RuntimeException", name := "<init>", desc := "()V" } : Jvm.MethodName) prog_47_method_1_code (1 : Nat) (Option.none : Option Jvm.ClassFile.FieldType)) ∈ lw_all := lw_g (lw_at lw_m4 174 rfl) rfl
theorem q981 : (Jvm.Cond.methodLink "java/lang/RuntimeException" (1 : Nat) ({ cls := "java/lang/Exception", name := "<init>", desc := "()V" } : Jvm.MethodName)) ∈ lw_all := lw_g (lw_at lw_m4 175 rfl) rfl
theorem q1571 : (Jvm.Cond.instanceMethod ({ cls := "java/lang/RuntimeException", name := "<init>", desc := "(Ljava/lang/Throwable;)V" } : Jvm.MethodName)) ∈ lw_all := lw_g (lw_at lw_m7 45 rfl) rfl
theorem q1572 : (Jvm.Cond.code ({ cls := "java/lang/RuntimeException", name := "<init>", desc := "(Ljava/lang/Throwable;)V" } : Jvm.MethodName) prog_47_method_4_code (2 : Nat) (Option.none : Option Jvm.ClassFile.FieldType)) ∈ lw_all := lw_g (lw_at lw_m7 46 rfl) rfl
theorem q1573 : (Jvm.Cond.methodLink "java/lang/RuntimeException" (13 : Nat) ({ cls := "java/lang/Exception", name := "<init>", desc := "(Ljava/lang/Throwable;)V" } : Jvm.MethodName)) ∈ lw_all := lw_g (lw_at lw_m7 47 rfl) rfl
/-! java/lang/NegativeArraySizeException -/
set_option maxRecDepth 100000
def RJ16 : String := "java/lang/NegativeArraySizeException"
def TJ16 : u_T := fun k => match k with
  | 0 => ("java/lang/Throwable", "backtrace", "Ljava/lang/Object;", false)
  | 1 => ("java/lang/Throwable", "detailMessage", "Ljava/lang/String;", false)
  | 2 => ("java/lang/Throwable", "cause", "Ljava/lang/Throwable;", false)
  | 3 => ("java/lang/Throwable", "stackTrace", "[Ljava/lang/StackTraceElement;", false)
  | 4 => ("java/lang/Throwable", "depth", "I", false)
  | _ => ("java/lang/Throwable", "suppressedExceptions", "Ljava/util/List;", false)
def tyJ16 : Nat → FieldType := fun k => match k with
  | 0 => .object "java/lang/Object"
  | 1 => .object "java/lang/String"
  | 2 => .object "java/lang/Throwable"
  | 3 => .array (.object "java/lang/StackTraceElement")
  | 4 => .int
  | _ => .object "java/util/List"
abbrev wsJ160 : List Cond := u_ws RJ16 TJ16 6
theorem nmJ16 : ∀ a, a < 6 → ∀ b, b < 6 → a ≠ b → (TJ16 a).2.1 ≠ (TJ16 b).2.1 := by decide +kernel
theorem tyJ16_ok : ∀ k, k < 6 → parseFieldDescriptor (TJ16 k).2.2.1 = some (tyJ16 k) := by decide +kernel
abbrev cJ16_init : ByteArray := prog_45_method_2_code
def yJ16_init : MethodName := ⟨RJ16, "<init>", "(Ljava/lang/String;)V"⟩
def dkwJ16_init_0 : List UInt8 := [42, 43, 183, 0, 7, 177]
abbrev dktJ16_init_0 : List UInt8 := dkwJ16_init_0 ++ []
theorem dksJ16_init_0 : cJ16_init.data.toList.drop 0 = dktJ16_init_0 := by decide +kernel
theorem dJ16_init_0 : decode cJ16_init 0 = .ok (.aload_n 0, 1) := dk_42 (dk_at dksJ16_init_0 0 rfl rfl)
theorem dJ16_init_1 : decode cJ16_init 1 = .ok (.aload_n 1, 1) := dk_43 (dk_at dksJ16_init_0 1 rfl rfl)
theorem dJ16_init_2 : decode cJ16_init 2 = .ok (.invokespecial 7, 3) := dk_183 0 7 (dk_at dksJ16_init_0 2 rfl rfl)
theorem dJ16_init_5 : decode cJ16_init 5 = .ok (.return_, 1) := dk_177 (dk_at dksJ16_init_0 5 rfl rfl)
abbrev cJ16_init_2 : ByteArray := prog_45_method_1_code
def yJ16_init_2 : MethodName := ⟨RJ16, "<init>", "()V"⟩
theorem dJ16_init_2_0 : decode cJ16_init_2 0 = .ok (.aload_n 0, 1) := by decide +kernel
theorem dJ16_init_2_1 : decode cJ16_init_2 1 = .ok (.invokespecial 1, 3) := by decide +kernel
theorem dJ16_init_2_4 : decode cJ16_init_2 4 = .ok (.return_, 1) := by decide +kernel
theorem q110 : (Jvm.Cond.initialized "java/lang/NegativeArraySizeException") ∈ lw_all := lw_g (lw_at lw_m1 24 rfl) rfl
theorem q254 : (Jvm.Cond.selects "java/lang/NegativeArraySizeException" ({ cls := "java/lang/Object", name := "getClass", desc := "()Ljava/lang/Class;" } : Jvm.MethodName) ({ cls := "java/lang/Object", name := "getClass", desc := "()Ljava/lang/Class;" } : Jvm.MethodName)) ∈ lw_all := lw_g (lw_at lw_m1 168 rfl) rfl
theorem q445 : (Jvm.Cond.selects "java/lang/NegativeArraySizeException" ({ cls := "java/lang/Throwable", name := "fillInStackTrace", desc := "()Ljava/lang/Throwable;" } : Jvm.MethodName) ({ cls := "java/lang/Throwable", name := "fillInStackTrace", desc := "()Ljava/lang/Throwable;" } : Jvm.MethodName)) ∈ lw_all := lw_g (lw_at lw_m2 119 rfl) rfl
theorem q531 : (Jvm.Cond.instantiable "java/lang/NegativeArraySizeException" (6 : Nat)) ∈ lw_all := lw_g (lw_at lw_m2 205 rfl) rfl
theorem q532 : (Jvm.Cond.instanceMethod ({ cls := "java/lang/NegativeArraySizeException", name := "<init>", desc := "(Ljava/lang/String;)V" } : Jvm.MethodName)) ∈ lw_all := lw_g (lw_at lw_m2 206 rfl) rfl
theorem q533 : (Jvm.Cond.code ({ cls := "java/lang/NegativeArraySizeException", name := "<init>", desc := "(Ljava/lang/String;)V" } : Jvm.MethodName) prog_45_method_2_code (2 : Nat) (Option.none : Option Jvm.ClassFile.FieldType)) ∈ lw_all := lw_g (lw_at lw_m2 207 rfl) rfl
theorem q534 : (Jvm.Cond.methodLink "java/lang/NegativeArraySizeException" (7 : Nat) ({ cls := "java/lang/RuntimeException", name := "<init>", desc := "(Ljava/lang/String;)V" } : Jvm.MethodName)) ∈ lw_all := lw_g (lw_at lw_m2 208 rfl) rfl
theorem q535 : (Jvm.Cond.lays "java/lang/NegativeArraySizeException" "java/lang/Throwable" "backtrace" "Ljava/lang/Object;") ∈ lw_all := lw_g (lw_at lw_m2 209 rfl) rfl
theorem q536 : (Jvm.Cond.lays "java/lang/NegativeArraySizeException" "java/lang/Throwable" "detailMessage" "Ljava/lang/String;") ∈ lw_all := lw_g (lw_at lw_m2 210 rfl) rfl
theorem q537 : (Jvm.Cond.lays "java/lang/NegativeArraySizeException" "java/lang/Throwable" "cause" "Ljava/lang/Throwable;") ∈ lw_all := lw_g (lw_at lw_m2 211 rfl) rfl
theorem q538 : (Jvm.Cond.lays "java/lang/NegativeArraySizeException" "java/lang/Throwable" "stackTrace" "[Ljava/lang/StackTraceElement;") ∈ lw_all := lw_g (lw_at lw_m2 212 rfl) rfl
theorem q539 : (Jvm.Cond.lays "java/lang/NegativeArraySizeException" "java/lang/Throwable" "depth" "I") ∈ lw_all := lw_g (lw_at lw_m2 213 rfl) rfl
theorem q540 : (Jvm.Cond.lays "java/lang/NegativeArraySizeException" "java/lang/Throwable" "suppressedExceptions" "Ljava/util/List;") ∈ lw_all := lw_g (lw_at lw_m2 214 rfl) rfl
theorem q541 : (Jvm.Cond.superclass "java/lang/NegativeArraySizeException" "java/lang/RuntimeException") ∈ lw_all := lw_g (lw_at lw_m2 215 rfl) rfl
theorem q542 : (Jvm.Cond.castable "java/lang/NegativeArraySizeException" "java/lang/NegativeArraySizeException") ∈ lw_tbl := lw_at lw_m2 216 rfl
theorem q543 : (Jvm.Cond.selects "java/lang/NegativeArraySizeException" ({ cls := "java/lang/Throwable", name := "fillInStackTrace", desc := "(I)Ljava/lang/Throwable;" } : Jvm.MethodName) ({ cls := "java/lang/Throwable", name := "fillInStackTrace", desc := "(I)Ljava/lang/Throwable;" } : Jvm.MethodName)) ∈ lw_all := lw_g (lw_at lw_m2 217 rfl) rfl
theorem q976 : (Jvm.Cond.instanceMethod ({ cls := "java/lang/NegativeArraySizeException", name := "<init>", desc := "()V" } : Jvm.MethodName)) ∈ lw_all := lw_g (lw_at lw_m4 170 rfl) rfl
theorem q977 : (Jvm.Cond.code ({ cls := "java/lang/NegativeArraySizeException", name := "<init>", desc := "()V" } : Jvm.MethodName) prog_45_method_1_code (1 : Nat) (Option.none : Option Jvm.ClassFile.FieldType)) ∈ lw_all := lw_g (lw_at lw_m4 171 rfl) rfl
theorem q978 : (Jvm.Cond.methodLink "java/lang/NegativeArraySizeException" (1 : Nat) ({ cls := "java/lang/RuntimeException", name := "<init>", desc := "()V" } : Jvm.MethodName)) ∈ lw_all := lw_g (lw_at lw_m4 172 rfl) rfl
theorem q1588 : (Jvm.Cond.selects "java/lang/NegativeArraySizeException" ({ cls := "java/lang/Throwable", name := "toString", desc := "()Ljava/lang/String;" } : Jvm.MethodName) ({ cls := "java/lang/Throwable", name := "toString", desc := "()Ljava/lang/String;" } : Jvm.MethodName)) ∈ lw_all := lw_g (lw_at lw_m7 62 rfl) rfl
theorem q1602 : (Jvm.Cond.selects "java/lang/NegativeArraySizeException" ({ cls := "java/lang/Throwable", name := "getLocalizedMessage", desc := "()Ljava/lang/String;" } : Jvm.MethodName) ({ cls := "java/lang/Throwable", name := "getLocalizedMessage", desc := "()Ljava/lang/String;" } : Jvm.MethodName)) ∈ lw_all := lw_g (lw_at lw_m7 76 rfl) rfl
theorem q1615 : (Jvm.Cond.selects "java/lang/NegativeArraySizeException" ({ cls := "java/lang/Throwable", name := "getMessage", desc := "()Ljava/lang/String;" } : Jvm.MethodName) ({ cls := "java/lang/Throwable", name := "getMessage", desc := "()Ljava/lang/String;" } : Jvm.MethodName)) ∈ lw_all := lw_g (lw_at lw_m7 89 rfl) rfl
theorem q3047 : (Jvm.Cond.selects "java/lang/NegativeArraySizeException" ({ cls := "java/lang/Object", name := "equals", desc := "(Ljava/lang/Object;)Z" } : Jvm.MethodName) ({ cls := "java/lang/Object", name := "equals", desc := "(Ljava/lang/Object;)Z" } : Jvm.MethodName)) ∈ lw_all := lw_g (lw_at lw_m13 81 rfl) rfl
theorem q3809 : (Jvm.Cond.castable "java/lang/NegativeArraySizeException" "java/lang/Object") ∈ lw_tbl := lw_at lw_m16 123 rfl
theorem in_J16 : ∀ w ∈ wsJ160, w ∈ lw_all := lw_in wsJ160 [535, 536, 537, 538, 539, 540] (by decide +kernel) (by decide +kernel)
/-! jdk/internal/util/ArraysSupport -/
set_option maxRecDepth 100000
def RJ20 : String := "jdk/internal/util/ArraysSupport"
abbrev cJ20_newLength : ByteArray := prog_92_method_27_code
def yJ20_newLength : MethodName := ⟨RJ20, "newLength", "(III)I"⟩
def dkwJ20_newLength_1 : List UInt8 := [184, 0, 201, 172]
abbrev dktJ20_newLength_1 : List UInt8 := dkwJ20_newLength_1 ++ []
def dkwJ20_newLength_0 : List UInt8 := [26, 27, 28, 184, 0, 194, 96, 62, 3, 29, 162, 0, 11, 29, 18, 200, 163, 0, 5, 29, 172, 26, 27]
abbrev dktJ20_newLength_0 : List UInt8 := dkwJ20_newLength_0 ++ dktJ20_newLength_1
theorem dksJ20_newLength_0 : cJ20_newLength.data.toList.drop 0 = dktJ20_newLength_0 := by decide +kernel
theorem dksJ20_newLength_1 : cJ20_newLength.data.toList.drop 23 = dktJ20_newLength_1 := dk_seg dksJ20_newLength_0 23 rfl rfl
theorem dJ20_newLength_0 : decode cJ20_newLength 0 = .ok (.iload_n 0, 1) := dk_26 (dk_at dksJ20_newLength_0 0 rfl rfl)
theorem dJ20_newLength_1 : decode cJ20_newLength 1 = .ok (.iload_n 1, 1) := dk_27 (dk_at dksJ20_newLength_0 1 rfl rfl)
theorem dJ20_newLength_2 : decode cJ20_newLength 2 = .ok (.iload_n 2, 1) := dk_28 (dk_at dksJ20_newLength_0 2 rfl rfl)
theorem dJ20_newLength_3 : decode cJ20_newLength 3 = .ok (.invokestatic 194, 3) := dk_184 0 194 (dk_at dksJ20_newLength_0 3 rfl rfl)
theorem dJ20_newLength_6 : decode cJ20_newLength 6 = .ok (.iadd, 1) := dk_96 (dk_at dksJ20_newLength_0 6 rfl rfl)
theorem dJ20_newLength_7 : decode cJ20_newLength 7 = .ok (.istore_n 3, 1) := dk_62 (dk_at dksJ20_newLength_0 7 rfl rfl)
theorem dJ20_newLength_8 : decode cJ20_newLength 8 = .ok (.iconst 0, 1) := dk_3 (dk_at dksJ20_newLength_0 8 rfl rfl)
theorem dJ20_newLength_9 : decode cJ20_newLength 9 = .ok (.iload_n 3, 1) := dk_29 (dk_at dksJ20_newLength_0 9 rfl rfl)
theorem dJ20_newLength_10 : decode cJ20_newLength 10 = .ok (.if_icmp .ge 11, 3) := dk_162 0 11 (dk_at dksJ20_newLength_0 10 rfl rfl)
theorem dJ20_newLength_13 : decode cJ20_newLength 13 = .ok (.iload_n 3, 1) := dk_29 (dk_at dksJ20_newLength_0 13 rfl rfl)
theorem dJ20_newLength_14 : decode cJ20_newLength 14 = .ok (.ldc 200, 2) := dk_18 200 (dk_at dksJ20_newLength_0 14 rfl rfl)
theorem dJ20_newLength_16 : decode cJ20_newLength 16 = .ok (.if_icmp .gt 5, 3) := dk_163 0 5 (dk_at dksJ20_newLength_0 16 rfl rfl)
theorem dJ20_newLength_19 : decode cJ20_newLength 19 = .ok (.iload_n 3, 1) := dk_29 (dk_at dksJ20_newLength_0 19 rfl rfl)
theorem dJ20_newLength_20 : decode cJ20_newLength 20 = .ok (.ireturn, 1) := dk_172 (dk_at dksJ20_newLength_0 20 rfl rfl)
theorem dJ20_newLength_21 : decode cJ20_newLength 21 = .ok (.iload_n 0, 1) := dk_26 (dk_at dksJ20_newLength_0 21 rfl rfl)
theorem dJ20_newLength_22 : decode cJ20_newLength 22 = .ok (.iload_n 1, 1) := dk_27 (dk_at dksJ20_newLength_0 22 rfl rfl)
theorem dJ20_newLength_23 : decode cJ20_newLength 23 = .ok (.invokestatic 201, 3) := dk_184 0 201 (dk_at dksJ20_newLength_1 0 rfl rfl)
theorem dJ20_newLength_26 : decode cJ20_newLength 26 = .ok (.ireturn, 1) := dk_172 (dk_at dksJ20_newLength_1 3 rfl rfl)
abbrev cJ20_hugeLength : ByteArray := prog_92_method_28_code
def yJ20_hugeLength : MethodName := ⟨RJ20, "hugeLength", "(II)I"⟩
def dkwJ20_hugeLength_2 : List UInt8 := [191, 28, 18, 200, 163, 0, 6, 18, 200, 172, 28, 172]
abbrev dktJ20_hugeLength_2 : List UInt8 := dkwJ20_hugeLength_2 ++ []
def dkwJ20_hugeLength_1 : List UInt8 := [26, 182, 0, 98, 18, 208, 182, 0, 94, 27, 182, 0, 98, 18, 210, 182, 0, 94, 182, 0, 101, 183, 0, 212]
abbrev dktJ20_hugeLength_1 : List UInt8 := dkwJ20_hugeLength_1 ++ dktJ20_hugeLength_2
def dkwJ20_hugeLength_0 : List UInt8 := [26, 27, 96, 61, 28, 156, 0, 44, 187, 0, 204, 89, 187, 0, 89, 89, 183, 0, 91, 18, 206, 182, 0, 94]
abbrev dktJ20_hugeLength_0 : List UInt8 := dkwJ20_hugeLength_0 ++ dktJ20_hugeLength_1
theorem dksJ20_hugeLength_0 : cJ20_hugeLength.data.toList.drop 0 = dktJ20_hugeLength_0 := by decide +kernel
theorem dksJ20_hugeLength_1 : cJ20_hugeLength.data.toList.drop 24 = dktJ20_hugeLength_1 := dk_seg dksJ20_hugeLength_0 24 rfl rfl
theorem dksJ20_hugeLength_2 : cJ20_hugeLength.data.toList.drop 48 = dktJ20_hugeLength_2 := dk_seg dksJ20_hugeLength_1 24 rfl rfl
theorem dJ20_hugeLength_0 : decode cJ20_hugeLength 0 = .ok (.iload_n 0, 1) := dk_26 (dk_at dksJ20_hugeLength_0 0 rfl rfl)
theorem dJ20_hugeLength_1 : decode cJ20_hugeLength 1 = .ok (.iload_n 1, 1) := dk_27 (dk_at dksJ20_hugeLength_0 1 rfl rfl)
theorem dJ20_hugeLength_2 : decode cJ20_hugeLength 2 = .ok (.iadd, 1) := dk_96 (dk_at dksJ20_hugeLength_0 2 rfl rfl)
theorem dJ20_hugeLength_3 : decode cJ20_hugeLength 3 = .ok (.istore_n 2, 1) := dk_61 (dk_at dksJ20_hugeLength_0 3 rfl rfl)
theorem dJ20_hugeLength_4 : decode cJ20_hugeLength 4 = .ok (.iload_n 2, 1) := dk_28 (dk_at dksJ20_hugeLength_0 4 rfl rfl)
theorem dJ20_hugeLength_5 : decode cJ20_hugeLength 5 = .ok (.ifCond .ge 44, 3) := dk_156 0 44 (dk_at dksJ20_hugeLength_0 5 rfl rfl)
theorem dJ20_hugeLength_8 : decode cJ20_hugeLength 8 = .ok (.new 204, 3) := dk_187 0 204 (dk_at dksJ20_hugeLength_0 8 rfl rfl)
theorem dJ20_hugeLength_11 : decode cJ20_hugeLength 11 = .ok (.dup, 1) := dk_89 (dk_at dksJ20_hugeLength_0 11 rfl rfl)
theorem dJ20_hugeLength_12 : decode cJ20_hugeLength 12 = .ok (.new 89, 3) := dk_187 0 89 (dk_at dksJ20_hugeLength_0 12 rfl rfl)
theorem dJ20_hugeLength_15 : decode cJ20_hugeLength 15 = .ok (.dup, 1) := dk_89 (dk_at dksJ20_hugeLength_0 15 rfl rfl)
theorem dJ20_hugeLength_16 : decode cJ20_hugeLength 16 = .ok (.invokespecial 91, 3) := dk_183 0 91 (dk_at dksJ20_hugeLength_0 16 rfl rfl)
theorem dJ20_hugeLength_19 : decode cJ20_hugeLength 19 = .ok (.ldc 206, 2) := dk_18 206 (dk_at dksJ20_hugeLength_0 19 rfl rfl)
theorem dJ20_hugeLength_21 : decode cJ20_hugeLength 21 = .ok (.invokevirtual 94, 3) := dk_182 0 94 (dk_at dksJ20_hugeLength_0 21 rfl rfl)
theorem dJ20_hugeLength_24 : decode cJ20_hugeLength 24 = .ok (.iload_n 0, 1) := dk_26 (dk_at dksJ20_hugeLength_1 0 rfl rfl)
theorem dJ20_hugeLength_25 : decode cJ20_hugeLength 25 = .ok (.invokevirtual 98, 3) := dk_182 0 98 (dk_at dksJ20_hugeLength_1 1 rfl rfl)
theorem dJ20_hugeLength_28 : decode cJ20_hugeLength 28 = .ok (.ldc 208, 2) := dk_18 208 (dk_at dksJ20_hugeLength_1 4 rfl rfl)
theorem dJ20_hugeLength_30 : decode cJ20_hugeLength 30 = .ok (.invokevirtual 94, 3) := dk_182 0 94 (dk_at dksJ20_hugeLength_1 6 rfl rfl)
theorem dJ20_hugeLength_33 : decode cJ20_hugeLength 33 = .ok (.iload_n 1, 1) := dk_27 (dk_at dksJ20_hugeLength_1 9 rfl rfl)
theorem dJ20_hugeLength_34 : decode cJ20_hugeLength 34 = .ok (.invokevirtual 98, 3) := dk_182 0 98 (dk_at dksJ20_hugeLength_1 10 rfl rfl)
theorem dJ20_hugeLength_37 : decode cJ20_hugeLength 37 = .ok (.ldc 210, 2) := dk_18 210 (dk_at dksJ20_hugeLength_1 13 rfl rfl)
theorem dJ20_hugeLength_39 : decode cJ20_hugeLength 39 = .ok (.invokevirtual 94, 3) := dk_182 0 94 (dk_at dksJ20_hugeLength_1 15 rfl rfl)
theorem dJ20_hugeLength_42 : decode cJ20_hugeLength 42 = .ok (.invokevirtual 101, 3) := dk_182 0 101 (dk_at dksJ20_hugeLength_1 18 rfl rfl)
theorem dJ20_hugeLength_45 : decode cJ20_hugeLength 45 = .ok (.invokespecial 212, 3) := dk_183 0 212 (dk_at dksJ20_hugeLength_1 21 rfl rfl)
theorem dJ20_hugeLength_48 : decode cJ20_hugeLength 48 = .ok (.athrow, 1) := dk_191 (dk_at dksJ20_hugeLength_2 0 rfl rfl)
theorem dJ20_hugeLength_49 : decode cJ20_hugeLength 49 = .ok (.iload_n 2, 1) := dk_28 (dk_at dksJ20_hugeLength_2 1 rfl rfl)
theorem dJ20_hugeLength_50 : decode cJ20_hugeLength 50 = .ok (.ldc 200, 2) := dk_18 200 (dk_at dksJ20_hugeLength_2 2 rfl rfl)
theorem dJ20_hugeLength_52 : decode cJ20_hugeLength 52 = .ok (.if_icmp .gt 6, 3) := dk_163 0 6 (dk_at dksJ20_hugeLength_2 4 rfl rfl)
theorem dJ20_hugeLength_55 : decode cJ20_hugeLength 55 = .ok (.ldc 200, 2) := dk_18 200 (dk_at dksJ20_hugeLength_2 7 rfl rfl)
theorem dJ20_hugeLength_57 : decode cJ20_hugeLength 57 = .ok (.ireturn, 1) := dk_172 (dk_at dksJ20_hugeLength_2 9 rfl rfl)
theorem dJ20_hugeLength_58 : decode cJ20_hugeLength 58 = .ok (.iload_n 2, 1) := dk_28 (dk_at dksJ20_hugeLength_2 10 rfl rfl)
theorem dJ20_hugeLength_59 : decode cJ20_hugeLength 59 = .ok (.ireturn, 1) := dk_172 (dk_at dksJ20_hugeLength_2 11 rfl rfl)
abbrev cJ20_mismatch : ByteArray := prog_92_method_13_code
def yJ20_mismatch : MethodName := ⟨RJ20, "mismatch", "([B[BI)I"⟩
def dkwJ20_mismatch_3 : List UInt8 := [172]
abbrev dktJ20_mismatch_3 : List UInt8 := dkwJ20_mismatch_3 ++ []
def dkwJ20_mismatch_2 : List UInt8 := [62, 29, 28, 162, 0, 20, 42, 29, 51, 43, 29, 51, 159, 0, 5, 29, 172, 132, 3, 1, 167, 255, 237, 2]
abbrev dktJ20_mismatch_2 : List UInt8 := dkwJ20_mismatch_2 ++ dktJ20_mismatch_3
def dkwJ20_mismatch_1 : List UInt8 := [43, 178, 0, 126, 133, 28, 178, 0, 129, 184, 0, 122, 62, 29, 155, 0, 5, 29, 172, 28, 29, 2, 130, 100]
abbrev dktJ20_mismatch_1 : List UInt8 := dkwJ20_mismatch_1 ++ dktJ20_mismatch_2
def dkwJ20_mismatch_0 : List UInt8 := [3, 62, 28, 16, 7, 164, 0, 44, 42, 3, 51, 43, 3, 51, 159, 0, 5, 3, 172, 42, 178, 0, 126, 133]
abbrev dktJ20_mismatch_0 : List UInt8 := dkwJ20_mismatch_0 ++ dktJ20_mismatch_1
theorem dksJ20_mismatch_0 : cJ20_mismatch.data.toList.drop 0 = dktJ20_mismatch_0 := by decide +kernel
theorem dksJ20_mismatch_1 : cJ20_mismatch.data.toList.drop 24 = dktJ20_mismatch_1 := dk_seg dksJ20_mismatch_0 24 rfl rfl
theorem dksJ20_mismatch_2 : cJ20_mismatch.data.toList.drop 48 = dktJ20_mismatch_2 := dk_seg dksJ20_mismatch_1 24 rfl rfl
theorem dksJ20_mismatch_3 : cJ20_mismatch.data.toList.drop 72 = dktJ20_mismatch_3 := dk_seg dksJ20_mismatch_2 24 rfl rfl
theorem dJ20_mismatch_0 : decode cJ20_mismatch 0 = .ok (.iconst 0, 1) := dk_3 (dk_at dksJ20_mismatch_0 0 rfl rfl)
theorem dJ20_mismatch_1 : decode cJ20_mismatch 1 = .ok (.istore_n 3, 1) := dk_62 (dk_at dksJ20_mismatch_0 1 rfl rfl)
theorem dJ20_mismatch_2 : decode cJ20_mismatch 2 = .ok (.iload_n 2, 1) := dk_28 (dk_at dksJ20_mismatch_0 2 rfl rfl)
theorem dJ20_mismatch_3 : decode cJ20_mismatch 3 = .ok (.bipush 7, 2) := dk_16 7 (dk_at dksJ20_mismatch_0 3 rfl rfl)
theorem dJ20_mismatch_5 : decode cJ20_mismatch 5 = .ok (.if_icmp .le 44, 3) := dk_164 0 44 (dk_at dksJ20_mismatch_0 5 rfl rfl)
theorem dJ20_mismatch_8 : decode cJ20_mismatch 8 = .ok (.aload_n 0, 1) := dk_42 (dk_at dksJ20_mismatch_0 8 rfl rfl)
theorem dJ20_mismatch_9 : decode cJ20_mismatch 9 = .ok (.iconst 0, 1) := dk_3 (dk_at dksJ20_mismatch_0 9 rfl rfl)
theorem dJ20_mismatch_10 : decode cJ20_mismatch 10 = .ok (.baload, 1) := dk_51 (dk_at dksJ20_mismatch_0 10 rfl rfl)
theorem dJ20_mismatch_11 : decode cJ20_mismatch 11 = .ok (.aload_n 1, 1) := dk_43 (dk_at dksJ20_mismatch_0 11 rfl rfl)
theorem dJ20_mismatch_12 : decode cJ20_mismatch 12 = .ok (.iconst 0, 1) := dk_3 (dk_at dksJ20_mismatch_0 12 rfl rfl)
theorem dJ20_mismatch_13 : decode cJ20_mismatch 13 = .ok (.baload, 1) := dk_51 (dk_at dksJ20_mismatch_0 13 rfl rfl)
theorem dJ20_mismatch_14 : decode cJ20_mismatch 14 = .ok (.if_icmp .eq 5, 3) := dk_159 0 5 (dk_at dksJ20_mismatch_0 14 rfl rfl)
theorem dJ20_mismatch_17 : decode cJ20_mismatch 17 = .ok (.iconst 0, 1) := dk_3 (dk_at dksJ20_mismatch_0 17 rfl rfl)
theorem dJ20_mismatch_18 : decode cJ20_mismatch 18 = .ok (.ireturn, 1) := dk_172 (dk_at dksJ20_mismatch_0 18 rfl rfl)
theorem dJ20_mismatch_19 : decode cJ20_mismatch 19 = .ok (.aload_n 0, 1) := dk_42 (dk_at dksJ20_mismatch_0 19 rfl rfl)
theorem dJ20_mismatch_20 : decode cJ20_mismatch 20 = .ok (.getstatic 126, 3) := dk_178 0 126 (dk_at dksJ20_mismatch_0 20 rfl rfl)
theorem dJ20_mismatch_23 : decode cJ20_mismatch 23 = .ok (.i2l, 1) := dk_133 (dk_at dksJ20_mismatch_0 23 rfl rfl)
theorem dJ20_mismatch_24 : decode cJ20_mismatch 24 = .ok (.aload_n 1, 1) := dk_43 (dk_at dksJ20_mismatch_1 0 rfl rfl)
theorem dJ20_mismatch_25 : decode cJ20_mismatch 25 = .ok (.getstatic 126, 3) := dk_178 0 126 (dk_at dksJ20_mismatch_1 1 rfl rfl)
theorem dJ20_mismatch_28 : decode cJ20_mismatch 28 = .ok (.i2l, 1) := dk_133 (dk_at dksJ20_mismatch_1 4 rfl rfl)
theorem dJ20_mismatch_29 : decode cJ20_mismatch 29 = .ok (.iload_n 2, 1) := dk_28 (dk_at dksJ20_mismatch_1 5 rfl rfl)
theorem dJ20_mismatch_30 : decode cJ20_mismatch 30 = .ok (.getstatic 129, 3) := dk_178 0 129 (dk_at dksJ20_mismatch_1 6 rfl rfl)
theorem dJ20_mismatch_33 : decode cJ20_mismatch 33 = .ok (.invokestatic 122, 3) := dk_184 0 122 (dk_at dksJ20_mismatch_1 9 rfl rfl)
theorem dJ20_mismatch_36 : decode cJ20_mismatch 36 = .ok (.istore_n 3, 1) := dk_62 (dk_at dksJ20_mismatch_1 12 rfl rfl)
theorem dJ20_mismatch_37 : decode cJ20_mismatch 37 = .ok (.iload_n 3, 1) := dk_29 (dk_at dksJ20_mismatch_1 13 rfl rfl)
theorem dJ20_mismatch_38 : decode cJ20_mismatch 38 = .ok (.ifCond .lt 5, 3) := dk_155 0 5 (dk_at dksJ20_mismatch_1 14 rfl rfl)
theorem dJ20_mismatch_41 : decode cJ20_mismatch 41 = .ok (.iload_n 3, 1) := dk_29 (dk_at dksJ20_mismatch_1 17 rfl rfl)
theorem dJ20_mismatch_42 : decode cJ20_mismatch 42 = .ok (.ireturn, 1) := dk_172 (dk_at dksJ20_mismatch_1 18 rfl rfl)
theorem dJ20_mismatch_43 : decode cJ20_mismatch 43 = .ok (.iload_n 2, 1) := dk_28 (dk_at dksJ20_mismatch_1 19 rfl rfl)
theorem dJ20_mismatch_44 : decode cJ20_mismatch 44 = .ok (.iload_n 3, 1) := dk_29 (dk_at dksJ20_mismatch_1 20 rfl rfl)
theorem dJ20_mismatch_45 : decode cJ20_mismatch 45 = .ok (.iconst (-1), 1) := dk_2 (dk_at dksJ20_mismatch_1 21 rfl rfl)
theorem dJ20_mismatch_46 : decode cJ20_mismatch 46 = .ok (.ixor, 1) := dk_130 (dk_at dksJ20_mismatch_1 22 rfl rfl)
theorem dJ20_mismatch_47 : decode cJ20_mismatch 47 = .ok (.isub, 1) := dk_100 (dk_at dksJ20_mismatch_1 23 rfl rfl)
theorem dJ20_mismatch_48 : decode cJ20_mismatch 48 = .ok (.istore_n 3, 1) := dk_62 (dk_at dksJ20_mismatch_2 0 rfl rfl)
theorem dJ20_mismatch_49 : decode cJ20_mismatch 49 = .ok (.iload_n 3, 1) := dk_29 (dk_at dksJ20_mismatch_2 1 rfl rfl)
theorem dJ20_mismatch_50 : decode cJ20_mismatch 50 = .ok (.iload_n 2, 1) := dk_28 (dk_at dksJ20_mismatch_2 2 rfl rfl)
theorem dJ20_mismatch_51 : decode cJ20_mismatch 51 = .ok (.if_icmp .ge 20, 3) := dk_162 0 20 (dk_at dksJ20_mismatch_2 3 rfl rfl)
theorem dJ20_mismatch_54 : decode cJ20_mismatch 54 = .ok (.aload_n 0, 1) := dk_42 (dk_at dksJ20_mismatch_2 6 rfl rfl)
theorem dJ20_mismatch_55 : decode cJ20_mismatch 55 = .ok (.iload_n 3, 1) := dk_29 (dk_at dksJ20_mismatch_2 7 rfl rfl)
theorem dJ20_mismatch_56 : decode cJ20_mismatch 56 = .ok (.baload, 1) := dk_51 (dk_at dksJ20_mismatch_2 8 rfl rfl)
theorem dJ20_mismatch_57 : decode cJ20_mismatch 57 = .ok (.aload_n 1, 1) := dk_43 (dk_at dksJ20_mismatch_2 9 rfl rfl)
theorem dJ20_mismatch_58 : decode cJ20_mismatch 58 = .ok (.iload_n 3, 1) := dk_29 (dk_at dksJ20_mismatch_2 10 rfl rfl)
theorem dJ20_mismatch_59 : decode cJ20_mismatch 59 = .ok (.baload, 1) := dk_51 (dk_at dksJ20_mismatch_2 11 rfl rfl)
theorem dJ20_mismatch_60 : decode cJ20_mismatch 60 = .ok (.if_icmp .eq 5, 3) := dk_159 0 5 (dk_at dksJ20_mismatch_2 12 rfl rfl)
theorem dJ20_mismatch_63 : decode cJ20_mismatch 63 = .ok (.iload_n 3, 1) := dk_29 (dk_at dksJ20_mismatch_2 15 rfl rfl)
theorem dJ20_mismatch_64 : decode cJ20_mismatch 64 = .ok (.ireturn, 1) := dk_172 (dk_at dksJ20_mismatch_2 16 rfl rfl)
theorem dJ20_mismatch_65 : decode cJ20_mismatch 65 = .ok (.iinc 3 1, 3) := dk_132 3 1 (dk_at dksJ20_mismatch_2 17 rfl rfl)
theorem dJ20_mismatch_68 : decode cJ20_mismatch 68 = .ok (.goto (-19), 3) := dk_167 255 237 (dk_at dksJ20_mismatch_2 20 rfl rfl)
theorem dJ20_mismatch_71 : decode cJ20_mismatch 71 = .ok (.iconst (-1), 1) := dk_2 (dk_at dksJ20_mismatch_2 23 rfl rfl)
theorem dJ20_mismatch_72 : decode cJ20_mismatch 72 = .ok (.ireturn, 1) := dk_172 (dk_at dksJ20_mismatch_3 0 rfl rfl)
abbrev cJ20_vectorizedMismatch : ByteArray := prog_92_method_3_code
def yJ20_vectorizedMismatch : MethodName := ⟨RJ20, "vectorizedMismatch", "(Ljava/lang/Object;JLjava/lang/Object;JII)I"⟩
def dkwJ20_vectorizedMismatch_11 : List UInt8 := [54, 10, 21, 10, 2, 130, 172, 21, 10, 2, 130, 172]
abbrev dktJ20_vectorizedMismatch_11 : List UInt8 := dkwJ20_vectorizedMismatch_11 ++ []
def dkwJ20_vectorizedMismatch_10 : List UInt8 := [178, 0, 46, 21, 7, 96, 122, 54, 17, 21, 9, 21, 8, 120, 21, 17, 96, 172, 21, 10, 21, 11, 100]
abbrev dktJ20_vectorizedMismatch_10 : List UInt8 := dkwJ20_vectorizedMismatch_10 ++ dktJ20_vectorizedMismatch_11
def dkwJ20_vectorizedMismatch_9 : List UInt8 := [153, 0, 18, 21, 16, 184, 0, 58, 178, 0, 46, 21, 7, 96, 122, 167, 0, 15, 21, 16, 184, 0, 11]
abbrev dktJ20_vectorizedMismatch_9 : List UInt8 := dkwJ20_vectorizedMismatch_9 ++ dktJ20_vectorizedMismatch_10
def dkwJ20_vectorizedMismatch_8 : List UInt8 := [182, 0, 54, 54, 15, 21, 14, 21, 15, 159, 0, 54, 21, 14, 21, 15, 130, 54, 16, 178, 0, 36]
abbrev dktJ20_vectorizedMismatch_8 : List UInt8 := dkwJ20_vectorizedMismatch_8 ++ dktJ20_vectorizedMismatch_9
def dkwJ20_vectorizedMismatch_7 : List UInt8 := [55, 12, 178, 0, 26, 42, 31, 22, 12, 97, 182, 0, 54, 54, 14, 178, 0, 26, 45, 22, 4, 22, 12, 97]
abbrev dktJ20_vectorizedMismatch_7 : List UInt8 := dkwJ20_vectorizedMismatch_7 ++ dktJ20_vectorizedMismatch_8
def dkwJ20_vectorizedMismatch_6 : List UInt8 := [4, 178, 0, 51, 21, 7, 100, 120, 54, 11, 21, 10, 21, 11, 161, 0, 104, 21, 9, 133, 178, 0, 20, 121]
abbrev dktJ20_vectorizedMismatch_6 : List UInt8 := dkwJ20_vectorizedMismatch_6 ++ dktJ20_vectorizedMismatch_7
def dkwJ20_vectorizedMismatch_5 : List UInt8 := [132, 9, 1, 167, 255, 148, 21, 6, 21, 9, 21, 8, 120, 100, 54, 10, 21, 7, 178, 0, 51, 162, 0, 126]
abbrev dktJ20_vectorizedMismatch_5 : List UInt8 := dkwJ20_vectorizedMismatch_5 ++ dktJ20_vectorizedMismatch_6
def dkwJ20_vectorizedMismatch_4 : List UInt8 := [22, 16, 184, 0, 49, 178, 0, 46, 21, 7, 96, 122, 54, 18, 21, 9, 21, 8, 120, 21, 18, 96, 172]
abbrev dktJ20_vectorizedMismatch_4 : List UInt8 := dkwJ20_vectorizedMismatch_4 ++ dktJ20_vectorizedMismatch_5
def dkwJ20_vectorizedMismatch_3 : List UInt8 := [55, 16, 178, 0, 36, 153, 0, 18, 22, 16, 184, 0, 40, 178, 0, 46, 21, 7, 96, 122, 167, 0, 15]
abbrev dktJ20_vectorizedMismatch_3 : List UInt8 := dkwJ20_vectorizedMismatch_3 ++ dktJ20_vectorizedMismatch_4
def dkwJ20_vectorizedMismatch_2 : List UInt8 := [22, 4, 22, 10, 97, 182, 0, 30, 55, 14, 22, 12, 22, 14, 148, 153, 0, 54, 22, 12, 22, 14, 131]
abbrev dktJ20_vectorizedMismatch_2 : List UInt8 := dkwJ20_vectorizedMismatch_2 ++ dktJ20_vectorizedMismatch_3
def dkwJ20_vectorizedMismatch_1 : List UInt8 := [178, 0, 20, 121, 55, 10, 178, 0, 26, 42, 31, 22, 10, 97, 182, 0, 30, 55, 12, 178, 0, 26, 45]
abbrev dktJ20_vectorizedMismatch_1 : List UInt8 := dkwJ20_vectorizedMismatch_1 ++ dktJ20_vectorizedMismatch_2
def dkwJ20_vectorizedMismatch_0 : List UInt8 := [178, 0, 20, 21, 7, 100, 54, 8, 3, 54, 9, 21, 9, 21, 6, 21, 8, 122, 162, 0, 104, 21, 9, 133]
abbrev dktJ20_vectorizedMismatch_0 : List UInt8 := dkwJ20_vectorizedMismatch_0 ++ dktJ20_vectorizedMismatch_1
theorem dksJ20_vectorizedMismatch_0 : cJ20_vectorizedMismatch.data.toList.drop 0 = dktJ20_vectorizedMismatch_0 := by decide +kernel
theorem dksJ20_vectorizedMismatch_1 : cJ20_vectorizedMismatch.data.toList.drop 24 = dktJ20_vectorizedMismatch_1 := dk_seg dksJ20_vectorizedMismatch_0 24 rfl rfl
theorem dksJ20_vectorizedMismatch_2 : cJ20_vectorizedMismatch.data.toList.drop 47 = dktJ20_vectorizedMismatch_2 := dk_seg dksJ20_vectorizedMismatch_1 23 rfl rfl
theorem dksJ20_vectorizedMismatch_3 : cJ20_vectorizedMismatch.data.toList.drop 70 = dktJ20_vectorizedMismatch_3 := dk_seg dksJ20_vectorizedMismatch_2 23 rfl rfl
theorem dksJ20_vectorizedMismatch_4 : cJ20_vectorizedMismatch.data.toList.drop 93 = dktJ20_vectorizedMismatch_4 := dk_seg dksJ20_vectorizedMismatch_3 23 rfl rfl
theorem dksJ20_vectorizedMismatch_5 : cJ20_vectorizedMismatch.data.toList.drop 116 = dktJ20_vectorizedMismatch_5 := dk_seg dksJ20_vectorizedMismatch_4 23 rfl rfl
theorem dksJ20_vectorizedMismatch_6 : cJ20_vectorizedMismatch.data.toList.drop 140 = dktJ20_vectorizedMismatch_6 := dk_seg dksJ20_vectorizedMismatch_5 24 rfl rfl
theorem dksJ20_vectorizedMismatch_7 : cJ20_vectorizedMismatch.data.toList.drop 164 = dktJ20_vectorizedMismatch_7 := dk_seg dksJ20_vectorizedMismatch_6 24 rfl rfl
theorem dksJ20_vectorizedMismatch_8 : cJ20_vectorizedMismatch.data.toList.drop 188 = dktJ20_vectorizedMismatch_8 := dk_seg dksJ20_vectorizedMismatch_7 24 rfl rfl
theorem dksJ20_vectorizedMismatch_9 : cJ20_vectorizedMismatch.data.toList.drop 210 = dktJ20_vectorizedMismatch_9 := dk_seg dksJ20_vectorizedMismatch_8 22 rfl rfl
theorem dksJ20_vectorizedMismatch_10 : cJ20_vectorizedMismatch.data.toList.drop 233 = dktJ20_vectorizedMismatch_10 := dk_seg dksJ20_vectorizedMismatch_9 23 rfl rfl
theorem dksJ20_vectorizedMismatch_11 : cJ20_vectorizedMismatch.data.toList.drop 256 = dktJ20_vectorizedMismatch_11 := dk_seg dksJ20_vectorizedMismatch_10 23 rfl rfl
theorem dJ20_vectorizedMismatch_0 : decode cJ20_vectorizedMismatch 0 = .ok (.getstatic 20, 3) := dk_178 0 20 (dk_at dksJ20_vectorizedMismatch_0 0 rfl rfl)
theorem dJ20_vectorizedMismatch_3 : decode cJ20_vectorizedMismatch 3 = .ok (.iload 7, 2) := dk_21 7 (dk_at dksJ20_vectorizedMismatch_0 3 rfl rfl)
theorem dJ20_vectorizedMismatch_5 : decode cJ20_vectorizedMismatch 5 = .ok (.isub, 1) := dk_100 (dk_at dksJ20_vectorizedMismatch_0 5 rfl rfl)
theorem dJ20_vectorizedMismatch_6 : decode cJ20_vectorizedMismatch 6 = .ok (.istore 8, 2) := dk_54 8 (dk_at dksJ20_vectorizedMismatch_0 6 rfl rfl)
theorem dJ20_vectorizedMismatch_8 : decode cJ20_vectorizedMismatch 8 = .ok (.iconst 0, 1) := dk_3 (dk_at dksJ20_vectorizedMismatch_0 8 rfl rfl)
theorem dJ20_vectorizedMismatch_9 : decode cJ20_vectorizedMismatch 9 = .ok (.istore 9, 2) := dk_54 9 (dk_at dksJ20_vectorizedMismatch_0 9 rfl rfl)
theorem dJ20_vectorizedMismatch_11 : decode cJ20_vectorizedMismatch 11 = .ok (.iload 9, 2) := dk_21 9 (dk_at dksJ20_vectorizedMismatch_0 11 rfl rfl)
theorem dJ20_vectorizedMismatch_13 : decode cJ20_vectorizedMismatch 13 = .ok (.iload 6, 2) := dk_21 6 (dk_at dksJ20_vectorizedMismatch_0 13 rfl rfl)
theorem dJ20_vectorizedMismatch_15 : decode cJ20_vectorizedMismatch 15 = .ok (.iload 8, 2) := dk_21 8 (dk_at dksJ20_vectorizedMismatch_0 15 rfl rfl)
theorem dJ20_vectorizedMismatch_17 : decode cJ20_vectorizedMismatch 17 = .ok (.ishr, 1) := dk_122 (dk_at dksJ20_vectorizedMismatch_0 17 rfl rfl)
theorem dJ20_vectorizedMismatch_18 : decode cJ20_vectorizedMismatch 18 = .ok (.if_icmp .ge 104, 3) := dk_162 0 104 (dk_at dksJ20_vectorizedMismatch_0 18 rfl rfl)
theorem dJ20_vectorizedMismatch_21 : decode cJ20_vectorizedMismatch 21 = .ok (.iload 9, 2) := dk_21 9 (dk_at dksJ20_vectorizedMismatch_0 21 rfl rfl)
theorem dJ20_vectorizedMismatch_23 : decode cJ20_vectorizedMismatch 23 = .ok (.i2l, 1) := dk_133 (dk_at dksJ20_vectorizedMismatch_0 23 rfl rfl)
theorem dJ20_vectorizedMismatch_24 : decode cJ20_vectorizedMismatch 24 = .ok (.getstatic 20, 3) := dk_178 0 20 (dk_at dksJ20_vectorizedMismatch_1 0 rfl rfl)
theorem dJ20_vectorizedMismatch_27 : decode cJ20_vectorizedMismatch 27 = .ok (.lshl, 1) := dk_121 (dk_at dksJ20_vectorizedMismatch_1 3 rfl rfl)
theorem dJ20_vectorizedMismatch_28 : decode cJ20_vectorizedMismatch 28 = .ok (.lstore 10, 2) := dk_55 10 (dk_at dksJ20_vectorizedMismatch_1 4 rfl rfl)
theorem dJ20_vectorizedMismatch_30 : decode cJ20_vectorizedMismatch 30 = .ok (.getstatic 26, 3) := dk_178 0 26 (dk_at dksJ20_vectorizedMismatch_1 6 rfl rfl)
theorem dJ20_vectorizedMismatch_33 : decode cJ20_vectorizedMismatch 33 = .ok (.aload_n 0, 1) := dk_42 (dk_at dksJ20_vectorizedMismatch_1 9 rfl rfl)
theorem dJ20_vectorizedMismatch_34 : decode cJ20_vectorizedMismatch 34 = .ok (.lload_n 1, 1) := dk_31 (dk_at dksJ20_vectorizedMismatch_1 10 rfl rfl)
theorem dJ20_vectorizedMismatch_35 : decode cJ20_vectorizedMismatch 35 = .ok (.lload 10, 2) := dk_22 10 (dk_at dksJ20_vectorizedMismatch_1 11 rfl rfl)
theorem dJ20_vectorizedMismatch_37 : decode cJ20_vectorizedMismatch 37 = .ok (.ladd, 1) := dk_97 (dk_at dksJ20_vectorizedMismatch_1 13 rfl rfl)
theorem dJ20_vectorizedMismatch_38 : decode cJ20_vectorizedMismatch 38 = .ok (.invokevirtual 30, 3) := dk_182 0 30 (dk_at dksJ20_vectorizedMismatch_1 14 rfl rfl)
theorem dJ20_vectorizedMismatch_41 : decode cJ20_vectorizedMismatch 41 = .ok (.lstore 12, 2) := dk_55 12 (dk_at dksJ20_vectorizedMismatch_1 17 rfl rfl)
theorem dJ20_vectorizedMismatch_43 : decode cJ20_vectorizedMismatch 43 = .ok (.getstatic 26, 3) := dk_178 0 26 (dk_at dksJ20_vectorizedMismatch_1 19 rfl rfl)
theorem dJ20_vectorizedMismatch_46 : decode cJ20_vectorizedMismatch 46 = .ok (.aload_n 3, 1) := dk_45 (dk_at dksJ20_vectorizedMismatch_1 22 rfl rfl)
theorem dJ20_vectorizedMismatch_47 : decode cJ20_vectorizedMismatch 47 = .ok (.lload 4, 2) := dk_22 4 (dk_at dksJ20_vectorizedMismatch_2 0 rfl rfl)
theorem dJ20_vectorizedMismatch_49 : decode cJ20_vectorizedMismatch 49 = .ok (.lload 10, 2) := dk_22 10 (dk_at dksJ20_vectorizedMismatch_2 2 rfl rfl)
theorem dJ20_vectorizedMismatch_51 : decode cJ20_vectorizedMismatch 51 = .ok (.ladd, 1) := dk_97 (dk_at dksJ20_vectorizedMismatch_2 4 rfl rfl)
theorem dJ20_vectorizedMismatch_52 : decode cJ20_vectorizedMismatch 52 = .ok (.invokevirtual 30, 3) := dk_182 0 30 (dk_at dksJ20_vectorizedMismatch_2 5 rfl rfl)
theorem dJ20_vectorizedMismatch_55 : decode cJ20_vectorizedMismatch 55 = .ok (.lstore 14, 2) := dk_55 14 (dk_at dksJ20_vectorizedMismatch_2 8 rfl rfl)
theorem dJ20_vectorizedMismatch_57 : decode cJ20_vectorizedMismatch 57 = .ok (.lload 12, 2) := dk_22 12 (dk_at dksJ20_vectorizedMismatch_2 10 rfl rfl)
theorem dJ20_vectorizedMismatch_59 : decode cJ20_vectorizedMismatch 59 = .ok (.lload 14, 2) := dk_22 14 (dk_at dksJ20_vectorizedMismatch_2 12 rfl rfl)
theorem dJ20_vectorizedMismatch_61 : decode cJ20_vectorizedMismatch 61 = .ok (.lcmp, 1) := dk_148 (dk_at dksJ20_vectorizedMismatch_2 14 rfl rfl)
theorem dJ20_vectorizedMismatch_62 : decode cJ20_vectorizedMismatch 62 = .ok (.ifCond .eq 54, 3) := dk_153 0 54 (dk_at dksJ20_vectorizedMismatch_2 15 rfl rfl)
theorem dJ20_vectorizedMismatch_65 : decode cJ20_vectorizedMismatch 65 = .ok (.lload 12, 2) := dk_22 12 (dk_at dksJ20_vectorizedMismatch_2 18 rfl rfl)
theorem dJ20_vectorizedMismatch_67 : decode cJ20_vectorizedMismatch 67 = .ok (.lload 14, 2) := dk_22 14 (dk_at dksJ20_vectorizedMismatch_2 20 rfl rfl)
theorem dJ20_vectorizedMismatch_69 : decode cJ20_vectorizedMismatch 69 = .ok (.lxor, 1) := dk_131 (dk_at dksJ20_vectorizedMismatch_2 22 rfl rfl)
theorem dJ20_vectorizedMismatch_70 : decode cJ20_vectorizedMismatch 70 = .ok (.lstore 16, 2) := dk_55 16 (dk_at dksJ20_vectorizedMismatch_3 0 rfl rfl)
theorem dJ20_vectorizedMismatch_72 : decode cJ20_vectorizedMismatch 72 = .ok (.getstatic 36, 3) := dk_178 0 36 (dk_at dksJ20_vectorizedMismatch_3 2 rfl rfl)
theorem dJ20_vectorizedMismatch_75 : decode cJ20_vectorizedMismatch 75 = .ok (.ifCond .eq 18, 3) := dk_153 0 18 (dk_at dksJ20_vectorizedMismatch_3 5 rfl rfl)
theorem dJ20_vectorizedMismatch_78 : decode cJ20_vectorizedMismatch 78 = .ok (.lload 16, 2) := dk_22 16 (dk_at dksJ20_vectorizedMismatch_3 8 rfl rfl)
theorem dJ20_vectorizedMismatch_80 : decode cJ20_vectorizedMismatch 80 = .ok (.invokestatic 40, 3) := dk_184 0 40 (dk_at dksJ20_vectorizedMismatch_3 10 rfl rfl)
theorem dJ20_vectorizedMismatch_83 : decode cJ20_vectorizedMismatch 83 = .ok (.getstatic 46, 3) := dk_178 0 46 (dk_at dksJ20_vectorizedMismatch_3 13 rfl rfl)
theorem dJ20_vectorizedMismatch_86 : decode cJ20_vectorizedMismatch 86 = .ok (.iload 7, 2) := dk_21 7 (dk_at dksJ20_vectorizedMismatch_3 16 rfl rfl)
theorem dJ20_vectorizedMismatch_88 : decode cJ20_vectorizedMismatch 88 = .ok (.iadd, 1) := dk_96 (dk_at dksJ20_vectorizedMismatch_3 18 rfl rfl)
theorem dJ20_vectorizedMismatch_89 : decode cJ20_vectorizedMismatch 89 = .ok (.ishr, 1) := dk_122 (dk_at dksJ20_vectorizedMismatch_3 19 rfl rfl)
theorem dJ20_vectorizedMismatch_90 : decode cJ20_vectorizedMismatch 90 = .ok (.goto 15, 3) := dk_167 0 15 (dk_at dksJ20_vectorizedMismatch_3 20 rfl rfl)
theorem dJ20_vectorizedMismatch_93 : decode cJ20_vectorizedMismatch 93 = .ok (.lload 16, 2) := dk_22 16 (dk_at dksJ20_vectorizedMismatch_4 0 rfl rfl)
theorem dJ20_vectorizedMismatch_95 : decode cJ20_vectorizedMismatch 95 = .ok (.invokestatic 49, 3) := dk_184 0 49 (dk_at dksJ20_vectorizedMismatch_4 2 rfl rfl)
theorem dJ20_vectorizedMismatch_98 : decode cJ20_vectorizedMismatch 98 = .ok (.getstatic 46, 3) := dk_178 0 46 (dk_at dksJ20_vectorizedMismatch_4 5 rfl rfl)
theorem dJ20_vectorizedMismatch_101 : decode cJ20_vectorizedMismatch 101 = .ok (.iload 7, 2) := dk_21 7 (dk_at dksJ20_vectorizedMismatch_4 8 rfl rfl)
theorem dJ20_vectorizedMismatch_103 : decode cJ20_vectorizedMismatch 103 = .ok (.iadd, 1) := dk_96 (dk_at dksJ20_vectorizedMismatch_4 10 rfl rfl)
theorem dJ20_vectorizedMismatch_104 : decode cJ20_vectorizedMismatch 104 = .ok (.ishr, 1) := dk_122 (dk_at dksJ20_vectorizedMismatch_4 11 rfl rfl)
theorem dJ20_vectorizedMismatch_105 : decode cJ20_vectorizedMismatch 105 = .ok (.istore 18, 2) := dk_54 18 (dk_at dksJ20_vectorizedMismatch_4 12 rfl rfl)
theorem dJ20_vectorizedMismatch_107 : decode cJ20_vectorizedMismatch 107 = .ok (.iload 9, 2) := dk_21 9 (dk_at dksJ20_vectorizedMismatch_4 14 rfl rfl)
theorem dJ20_vectorizedMismatch_109 : decode cJ20_vectorizedMismatch 109 = .ok (.iload 8, 2) := dk_21 8 (dk_at dksJ20_vectorizedMismatch_4 16 rfl rfl)
theorem dJ20_vectorizedMismatch_111 : decode cJ20_vectorizedMismatch 111 = .ok (.ishl, 1) := dk_120 (dk_at dksJ20_vectorizedMismatch_4 18 rfl rfl)
theorem dJ20_vectorizedMismatch_112 : decode cJ20_vectorizedMismatch 112 = .ok (.iload 18, 2) := dk_21 18 (dk_at dksJ20_vectorizedMismatch_4 19 rfl rfl)
theorem dJ20_vectorizedMismatch_114 : decode cJ20_vectorizedMismatch 114 = .ok (.iadd, 1) := dk_96 (dk_at dksJ20_vectorizedMismatch_4 21 rfl rfl)
theorem dJ20_vectorizedMismatch_115 : decode cJ20_vectorizedMismatch 115 = .ok (.ireturn, 1) := dk_172 (dk_at dksJ20_vectorizedMismatch_4 22 rfl rfl)
theorem dJ20_vectorizedMismatch_116 : decode cJ20_vectorizedMismatch 116 = .ok (.iinc 9 1, 3) := dk_132 9 1 (dk_at dksJ20_vectorizedMismatch_5 0 rfl rfl)
theorem dJ20_vectorizedMismatch_119 : decode cJ20_vectorizedMismatch 119 = .ok (.goto (-108), 3) := dk_167 255 148 (dk_at dksJ20_vectorizedMismatch_5 3 rfl rfl)
theorem dJ20_vectorizedMismatch_122 : decode cJ20_vectorizedMismatch 122 = .ok (.iload 6, 2) := dk_21 6 (dk_at dksJ20_vectorizedMismatch_5 6 rfl rfl)
theorem dJ20_vectorizedMismatch_124 : decode cJ20_vectorizedMismatch 124 = .ok (.iload 9, 2) := dk_21 9 (dk_at dksJ20_vectorizedMismatch_5 8 rfl rfl)
theorem dJ20_vectorizedMismatch_126 : decode cJ20_vectorizedMismatch 126 = .ok (.iload 8, 2) := dk_21 8 (dk_at dksJ20_vectorizedMismatch_5 10 rfl rfl)
theorem dJ20_vectorizedMismatch_128 : decode cJ20_vectorizedMismatch 128 = .ok (.ishl, 1) := dk_120 (dk_at dksJ20_vectorizedMismatch_5 12 rfl rfl)
theorem dJ20_vectorizedMismatch_129 : decode cJ20_vectorizedMismatch 129 = .ok (.isub, 1) := dk_100 (dk_at dksJ20_vectorizedMismatch_5 13 rfl rfl)
theorem dJ20_vectorizedMismatch_130 : decode cJ20_vectorizedMismatch 130 = .ok (.istore 10, 2) := dk_54 10 (dk_at dksJ20_vectorizedMismatch_5 14 rfl rfl)
theorem dJ20_vectorizedMismatch_132 : decode cJ20_vectorizedMismatch 132 = .ok (.iload 7, 2) := dk_21 7 (dk_at dksJ20_vectorizedMismatch_5 16 rfl rfl)
theorem dJ20_vectorizedMismatch_134 : decode cJ20_vectorizedMismatch 134 = .ok (.getstatic 51, 3) := dk_178 0 51 (dk_at dksJ20_vectorizedMismatch_5 18 rfl rfl)
theorem dJ20_vectorizedMismatch_137 : decode cJ20_vectorizedMismatch 137 = .ok (.if_icmp .ge 126, 3) := dk_162 0 126 (dk_at dksJ20_vectorizedMismatch_5 21 rfl rfl)
theorem dJ20_vectorizedMismatch_140 : decode cJ20_vectorizedMismatch 140 = .ok (.iconst 1, 1) := dk_4 (dk_at dksJ20_vectorizedMismatch_6 0 rfl rfl)
theorem dJ20_vectorizedMismatch_141 : decode cJ20_vectorizedMismatch 141 = .ok (.getstatic 51, 3) := dk_178 0 51 (dk_at dksJ20_vectorizedMismatch_6 1 rfl rfl)
theorem dJ20_vectorizedMismatch_144 : decode cJ20_vectorizedMismatch 144 = .ok (.iload 7, 2) := dk_21 7 (dk_at dksJ20_vectorizedMismatch_6 4 rfl rfl)
theorem dJ20_vectorizedMismatch_146 : decode cJ20_vectorizedMismatch 146 = .ok (.isub, 1) := dk_100 (dk_at dksJ20_vectorizedMismatch_6 6 rfl rfl)
theorem dJ20_vectorizedMismatch_147 : decode cJ20_vectorizedMismatch 147 = .ok (.ishl, 1) := dk_120 (dk_at dksJ20_vectorizedMismatch_6 7 rfl rfl)
theorem dJ20_vectorizedMismatch_148 : decode cJ20_vectorizedMismatch 148 = .ok (.istore 11, 2) := dk_54 11 (dk_at dksJ20_vectorizedMismatch_6 8 rfl rfl)
theorem dJ20_vectorizedMismatch_150 : decode cJ20_vectorizedMismatch 150 = .ok (.iload 10, 2) := dk_21 10 (dk_at dksJ20_vectorizedMismatch_6 10 rfl rfl)
theorem dJ20_vectorizedMismatch_152 : decode cJ20_vectorizedMismatch 152 = .ok (.iload 11, 2) := dk_21 11 (dk_at dksJ20_vectorizedMismatch_6 12 rfl rfl)
theorem dJ20_vectorizedMismatch_154 : decode cJ20_vectorizedMismatch 154 = .ok (.if_icmp .lt 104, 3) := dk_161 0 104 (dk_at dksJ20_vectorizedMismatch_6 14 rfl rfl)
theorem dJ20_vectorizedMismatch_157 : decode cJ20_vectorizedMismatch 157 = .ok (.iload 9, 2) := dk_21 9 (dk_at dksJ20_vectorizedMismatch_6 17 rfl rfl)
theorem dJ20_vectorizedMismatch_159 : decode cJ20_vectorizedMismatch 159 = .ok (.i2l, 1) := dk_133 (dk_at dksJ20_vectorizedMismatch_6 19 rfl rfl)
theorem dJ20_vectorizedMismatch_160 : decode cJ20_vectorizedMismatch 160 = .ok (.getstatic 20, 3) := dk_178 0 20 (dk_at dksJ20_vectorizedMismatch_6 20 rfl rfl)
theorem dJ20_vectorizedMismatch_163 : decode cJ20_vectorizedMismatch 163 = .ok (.lshl, 1) := dk_121 (dk_at dksJ20_vectorizedMismatch_6 23 rfl rfl)
theorem dJ20_vectorizedMismatch_164 : decode cJ20_vectorizedMismatch 164 = .ok (.lstore 12, 2) := dk_55 12 (dk_at dksJ20_vectorizedMismatch_7 0 rfl rfl)
theorem dJ20_vectorizedMismatch_166 : decode cJ20_vectorizedMismatch 166 = .ok (.getstatic 26, 3) := dk_178 0 26 (dk_at dksJ20_vectorizedMismatch_7 2 rfl rfl)
theorem dJ20_vectorizedMismatch_169 : decode cJ20_vectorizedMismatch 169 = .ok (.aload_n 0, 1) := dk_42 (dk_at dksJ20_vectorizedMismatch_7 5 rfl rfl)
theorem dJ20_vectorizedMismatch_170 : decode cJ20_vectorizedMismatch 170 = .ok (.lload_n 1, 1) := dk_31 (dk_at dksJ20_vectorizedMismatch_7 6 rfl rfl)
theorem dJ20_vectorizedMismatch_171 : decode cJ20_vectorizedMismatch 171 = .ok (.lload 12, 2) := dk_22 12 (dk_at dksJ20_vectorizedMismatch_7 7 rfl rfl)
theorem dJ20_vectorizedMismatch_173 : decode cJ20_vectorizedMismatch 173 = .ok (.ladd, 1) := dk_97 (dk_at dksJ20_vectorizedMismatch_7 9 rfl rfl)
theorem dJ20_vectorizedMismatch_174 : decode cJ20_vectorizedMismatch 174 = .ok (.invokevirtual 54, 3) := dk_182 0 54 (dk_at dksJ20_vectorizedMismatch_7 10 rfl rfl)
theorem dJ20_vectorizedMismatch_177 : decode cJ20_vectorizedMismatch 177 = .ok (.istore 14, 2) := dk_54 14 (dk_at dksJ20_vectorizedMismatch_7 13 rfl rfl)
theorem dJ20_vectorizedMismatch_179 : decode cJ20_vectorizedMismatch 179 = .ok (.getstatic 26, 3) := dk_178 0 26 (dk_at dksJ20_vectorizedMismatch_7 15 rfl rfl)
theorem dJ20_vectorizedMismatch_182 : decode cJ20_vectorizedMismatch 182 = .ok (.aload_n 3, 1) := dk_45 (dk_at dksJ20_vectorizedMismatch_7 18 rfl rfl)
theorem dJ20_vectorizedMismatch_183 : decode cJ20_vectorizedMismatch 183 = .ok (.lload 4, 2) := dk_22 4 (dk_at dksJ20_vectorizedMismatch_7 19 rfl rfl)
theorem dJ20_vectorizedMismatch_185 : decode cJ20_vectorizedMismatch 185 = .ok (.lload 12, 2) := dk_22 12 (dk_at dksJ20_vectorizedMismatch_7 21 rfl rfl)
theorem dJ20_vectorizedMismatch_187 : decode cJ20_vectorizedMismatch 187 = .ok (.ladd, 1) := dk_97 (dk_at dksJ20_vectorizedMismatch_7 23 rfl rfl)
theorem dJ20_vectorizedMismatch_188 : decode cJ20_vectorizedMismatch 188 = .ok (.invokevirtual 54, 3) := dk_182 0 54 (dk_at dksJ20_vectorizedMismatch_8 0 rfl rfl)
theorem dJ20_vectorizedMismatch_191 : decode cJ20_vectorizedMismatch 191 = .ok (.istore 15, 2) := dk_54 15 (dk_at dksJ20_vectorizedMismatch_8 3 rfl rfl)
theorem dJ20_vectorizedMismatch_193 : decode cJ20_vectorizedMismatch 193 = .ok (.iload 14, 2) := dk_21 14 (dk_at dksJ20_vectorizedMismatch_8 5 rfl rfl)
theorem dJ20_vectorizedMismatch_195 : decode cJ20_vectorizedMismatch 195 = .ok (.iload 15, 2) := dk_21 15 (dk_at dksJ20_vectorizedMismatch_8 7 rfl rfl)
theorem dJ20_vectorizedMismatch_197 : decode cJ20_vectorizedMismatch 197 = .ok (.if_icmp .eq 54, 3) := dk_159 0 54 (dk_at dksJ20_vectorizedMismatch_8 9 rfl rfl)
theorem dJ20_vectorizedMismatch_200 : decode cJ20_vectorizedMismatch 200 = .ok (.iload 14, 2) := dk_21 14 (dk_at dksJ20_vectorizedMismatch_8 12 rfl rfl)
theorem dJ20_vectorizedMismatch_202 : decode cJ20_vectorizedMismatch 202 = .ok (.iload 15, 2) := dk_21 15 (dk_at dksJ20_vectorizedMismatch_8 14 rfl rfl)
theorem dJ20_vectorizedMismatch_204 : decode cJ20_vectorizedMismatch 204 = .ok (.ixor, 1) := dk_130 (dk_at dksJ20_vectorizedMismatch_8 16 rfl rfl)
theorem dJ20_vectorizedMismatch_205 : decode cJ20_vectorizedMismatch 205 = .ok (.istore 16, 2) := dk_54 16 (dk_at dksJ20_vectorizedMismatch_8 17 rfl rfl)
theorem dJ20_vectorizedMismatch_207 : decode cJ20_vectorizedMismatch 207 = .ok (.getstatic 36, 3) := dk_178 0 36 (dk_at dksJ20_vectorizedMismatch_8 19 rfl rfl)
theorem dJ20_vectorizedMismatch_210 : decode cJ20_vectorizedMismatch 210 = .ok (.ifCond .eq 18, 3) := dk_153 0 18 (dk_at dksJ20_vectorizedMismatch_9 0 rfl rfl)
theorem dJ20_vectorizedMismatch_213 : decode cJ20_vectorizedMismatch 213 = .ok (.iload 16, 2) := dk_21 16 (dk_at dksJ20_vectorizedMismatch_9 3 rfl rfl)
theorem dJ20_vectorizedMismatch_215 : decode cJ20_vectorizedMismatch 215 = .ok (.invokestatic 58, 3) := dk_184 0 58 (dk_at dksJ20_vectorizedMismatch_9 5 rfl rfl)
theorem dJ20_vectorizedMismatch_218 : decode cJ20_vectorizedMismatch 218 = .ok (.getstatic 46, 3) := dk_178 0 46 (dk_at dksJ20_vectorizedMismatch_9 8 rfl rfl)
theorem dJ20_vectorizedMismatch_221 : decode cJ20_vectorizedMismatch 221 = .ok (.iload 7, 2) := dk_21 7 (dk_at dksJ20_vectorizedMismatch_9 11 rfl rfl)
theorem dJ20_vectorizedMismatch_223 : decode cJ20_vectorizedMismatch 223 = .ok (.iadd, 1) := dk_96 (dk_at dksJ20_vectorizedMismatch_9 13 rfl rfl)
theorem dJ20_vectorizedMismatch_224 : decode cJ20_vectorizedMismatch 224 = .ok (.ishr, 1) := dk_122 (dk_at dksJ20_vectorizedMismatch_9 14 rfl rfl)
theorem dJ20_vectorizedMismatch_225 : decode cJ20_vectorizedMismatch 225 = .ok (.goto 15, 3) := dk_167 0 15 (dk_at dksJ20_vectorizedMismatch_9 15 rfl rfl)
theorem dJ20_vectorizedMismatch_228 : decode cJ20_vectorizedMismatch 228 = .ok (.iload 16, 2) := dk_21 16 (dk_at dksJ20_vectorizedMismatch_9 18 rfl rfl)
theorem dJ20_vectorizedMismatch_230 : decode cJ20_vectorizedMismatch 230 = .ok (.invokestatic 11, 3) := dk_184 0 11 (dk_at dksJ20_vectorizedMismatch_9 20 rfl rfl)
theorem dJ20_vectorizedMismatch_233 : decode cJ20_vectorizedMismatch 233 = .ok (.getstatic 46, 3) := dk_178 0 46 (dk_at dksJ20_vectorizedMismatch_10 0 rfl rfl)
theorem dJ20_vectorizedMismatch_236 : decode cJ20_vectorizedMismatch 236 = .ok (.iload 7, 2) := dk_21 7 (dk_at dksJ20_vectorizedMismatch_10 3 rfl rfl)
theorem dJ20_vectorizedMismatch_238 : decode cJ20_vectorizedMismatch 238 = .ok (.iadd, 1) := dk_96 (dk_at dksJ20_vectorizedMismatch_10 5 rfl rfl)
theorem dJ20_vectorizedMismatch_239 : decode cJ20_vectorizedMismatch 239 = .ok (.ishr, 1) := dk_122 (dk_at dksJ20_vectorizedMismatch_10 6 rfl rfl)
theorem dJ20_vectorizedMismatch_240 : decode cJ20_vectorizedMismatch 240 = .ok (.istore 17, 2) := dk_54 17 (dk_at dksJ20_vectorizedMismatch_10 7 rfl rfl)
theorem dJ20_vectorizedMismatch_242 : decode cJ20_vectorizedMismatch 242 = .ok (.iload 9, 2) := dk_21 9 (dk_at dksJ20_vectorizedMismatch_10 9 rfl rfl)
theorem dJ20_vectorizedMismatch_244 : decode cJ20_vectorizedMismatch 244 = .ok (.iload 8, 2) := dk_21 8 (dk_at dksJ20_vectorizedMismatch_10 11 rfl rfl)
theorem dJ20_vectorizedMismatch_246 : decode cJ20_vectorizedMismatch 246 = .ok (.ishl, 1) := dk_120 (dk_at dksJ20_vectorizedMismatch_10 13 rfl rfl)
theorem dJ20_vectorizedMismatch_247 : decode cJ20_vectorizedMismatch 247 = .ok (.iload 17, 2) := dk_21 17 (dk_at dksJ20_vectorizedMismatch_10 14 rfl rfl)
theorem dJ20_vectorizedMismatch_249 : decode cJ20_vectorizedMismatch 249 = .ok (.iadd, 1) := dk_96 (dk_at dksJ20_vectorizedMismatch_10 16 rfl rfl)
theorem dJ20_vectorizedMismatch_250 : decode cJ20_vectorizedMismatch 250 = .ok (.ireturn, 1) := dk_172 (dk_at dksJ20_vectorizedMismatch_10 17 rfl rfl)
theorem dJ20_vectorizedMismatch_251 : decode cJ20_vectorizedMismatch 251 = .ok (.iload 10, 2) := dk_21 10 (dk_at dksJ20_vectorizedMismatch_10 18 rfl rfl)
theorem dJ20_vectorizedMismatch_253 : decode cJ20_vectorizedMismatch 253 = .ok (.iload 11, 2) := dk_21 11 (dk_at dksJ20_vectorizedMismatch_10 20 rfl rfl)
theorem dJ20_vectorizedMismatch_255 : decode cJ20_vectorizedMismatch 255 = .ok (.isub, 1) := dk_100 (dk_at dksJ20_vectorizedMismatch_10 22 rfl rfl)
theorem dJ20_vectorizedMismatch_256 : decode cJ20_vectorizedMismatch 256 = .ok (.istore 10, 2) := dk_54 10 (dk_at dksJ20_vectorizedMismatch_11 0 rfl rfl)
theorem dJ20_vectorizedMismatch_258 : decode cJ20_vectorizedMismatch 258 = .ok (.iload 10, 2) := dk_21 10 (dk_at dksJ20_vectorizedMismatch_11 2 rfl rfl)
theorem dJ20_vectorizedMismatch_260 : decode cJ20_vectorizedMismatch 260 = .ok (.iconst (-1), 1) := dk_2 (dk_at dksJ20_vectorizedMismatch_11 4 rfl rfl)
theorem dJ20_vectorizedMismatch_261 : decode cJ20_vectorizedMismatch 261 = .ok (.ixor, 1) := dk_130 (dk_at dksJ20_vectorizedMismatch_11 5 rfl rfl)
theorem dJ20_vectorizedMismatch_262 : decode cJ20_vectorizedMismatch 262 = .ok (.ireturn, 1) := dk_172 (dk_at dksJ20_vectorizedMismatch_11 6 rfl rfl)
theorem dJ20_vectorizedMismatch_263 : decode cJ20_vectorizedMismatch 263 = .ok (.iload 10, 2) := dk_21 10 (dk_at dksJ20_vectorizedMismatch_11 7 rfl rfl)
theorem dJ20_vectorizedMismatch_265 : decode cJ20_vectorizedMismatch 265 = .ok (.iconst (-1), 1) := dk_2 (dk_at dksJ20_vectorizedMismatch_11 9 rfl rfl)
theorem dJ20_vectorizedMismatch_266 : decode cJ20_vectorizedMismatch 266 = .ok (.ixor, 1) := dk_130 (dk_at dksJ20_vectorizedMismatch_11 10 rfl rfl)
theorem dJ20_vectorizedMismatch_267 : decode cJ20_vectorizedMismatch 267 = .ok (.ireturn, 1) := dk_172 (dk_at dksJ20_vectorizedMismatch_11 11 rfl rfl)
theorem q123 : (Jvm.Cond.initialized "jdk/internal/util/ArraysSupport") ∈ lw_all := lw_g (lw_at lw_m1 37 rfl) rfl
theorem q892 : (Jvm.Cond.static ({ cls := "jdk/internal/util/ArraysSupport", name := "newLength", desc := "(III)I" } : Jvm.MethodName)) ∈ lw_all := lw_g (lw_at lw_m4 86 rfl) rfl
theorem q893 : (Jvm.Cond.code ({ cls := "jdk/internal/util/ArraysSupport", name := "newLength", desc := "(III)I" } : Jvm.MethodName) prog_92_method_27_code (4 : Nat) (Option.some Jvm.ClassFile.FieldType.int)) ∈ lw_all := lw_g (lw_at lw_m4 87 rfl) rfl
theorem q894 : (Jvm.Cond.methodLink "jdk/internal/util/ArraysSupport" (194 : Nat) ({ cls := "java/lang/Math", name := "max", desc := "(II)I" } : Jvm.MethodName)) ∈ lw_all := lw_g (lw_at lw_m4 88 rfl) rfl
theorem q897 : (Jvm.Cond.constant "jdk/internal/util/ArraysSupport" (200 : Nat) (2147483639 : Int32)) ∈ lw_all := lw_g (lw_at lw_m4 91 rfl) rfl
theorem q898 : (Jvm.Cond.methodLink "jdk/internal/util/ArraysSupport" (201 : Nat) ({ cls := "jdk/internal/util/ArraysSupport", name := "hugeLength", desc := "(II)I" } : Jvm.MethodName)) ∈ lw_all := lw_g (lw_at lw_m4 92 rfl) rfl
theorem q899 : (Jvm.Cond.static ({ cls := "jdk/internal/util/ArraysSupport", name := "hugeLength", desc := "(II)I" } : Jvm.MethodName)) ∈ lw_all := lw_g (lw_at lw_m4 93 rfl) rfl
theorem q900 : (Jvm.Cond.code ({ cls := "jdk/internal/util/ArraysSupport", name := "hugeLength", desc := "(II)I" } : Jvm.MethodName) prog_92_method_28_code (3 : Nat) (Option.some Jvm.ClassFile.FieldType.int)) ∈ lw_all := lw_g (lw_at lw_m4 94 rfl) rfl
theorem q2842 : (Jvm.Cond.static ({ cls := "jdk/internal/util/ArraysSupport", name := "mismatch", desc := "([B[BI)I" } : Jvm.MethodName)) ∈ lw_all := lw_g (lw_at lw_m12 116 rfl) rfl
theorem q2843 : (Jvm.Cond.code ({ cls := "jdk/internal/util/ArraysSupport", name := "mismatch", desc := "([B[BI)I" } : Jvm.MethodName) prog_92_method_13_code (4 : Nat) (Option.some Jvm.ClassFile.FieldType.int)) ∈ lw_all := lw_g (lw_at lw_m12 117 rfl) rfl
theorem q2844 : (Jvm.Cond.fieldLink "jdk/internal/util/ArraysSupport" (126 : Nat) "jdk/internal/misc/Unsafe" "ARRAY_BYTE_BASE_OFFSET" "I") ∈ lw_all := lw_g (lw_at lw_m12 118 rfl) rfl
theorem q2846 : (Jvm.Cond.fieldLink "jdk/internal/util/ArraysSupport" (129 : Nat) "jdk/internal/util/ArraysSupport" "LOG2_ARRAY_BYTE_INDEX_SCALE" "I") ∈ lw_all := lw_g (lw_at lw_m12 120 rfl) rfl
theorem q2847 : (Jvm.Cond.laysStatic "jdk/internal/util/ArraysSupport" "LOG2_ARRAY_BYTE_INDEX_SCALE" "I") ∈ lw_tbl := lw_at lw_m12 121 rfl
theorem q2848 : (Jvm.Cond.methodLink "jdk/internal/util/ArraysSupport" (122 : Nat) ({ cls := "jdk/internal/util/ArraysSupport", name := "vectorizedMismatch", desc := "(Ljava/lang/Object;JLjava/lang/Object;JII)I" } : Jvm.MethodName)) ∈ lw_all := lw_g (lw_at lw_m12 122 rfl) rfl
theorem q2849 : (Jvm.Cond.static ({ cls := "jdk/internal/util/ArraysSupport", name := "vectorizedMismatch", desc := "(Ljava/lang/Object;JLjava/lang/Object;JII)I" } : Jvm.MethodName)) ∈ lw_all := lw_g (lw_at lw_m12 123 rfl) rfl
theorem q2850 : (Jvm.Cond.code ({ cls := "jdk/internal/util/ArraysSupport", name := "vectorizedMismatch", desc := "(Ljava/lang/Object;JLjava/lang/Object;JII)I" } : Jvm.MethodName) prog_92_method_3_code (19 : Nat) (Option.some Jvm.ClassFile.FieldType.int)) ∈ lw_all := lw_g (lw_at lw_m12 124 rfl) rfl
theorem q2851 : (Jvm.Cond.fieldLink "jdk/internal/util/ArraysSupport" (20 : Nat) "jdk/internal/util/ArraysSupport" "LOG2_ARRAY_LONG_INDEX_SCALE" "I") ∈ lw_all := lw_g (lw_at lw_m12 125 rfl) rfl
theorem q2852 : (Jvm.Cond.laysStatic "jdk/internal/util/ArraysSupport" "LOG2_ARRAY_LONG_INDEX_SCALE" "I") ∈ lw_tbl := lw_at lw_m12 126 rfl
theorem q2853 : (Jvm.Cond.fieldLink "jdk/internal/util/ArraysSupport" (26 : Nat) "jdk/internal/util/ArraysSupport" "U" "Ljdk/internal/misc/Unsafe;") ∈ lw_all := lw_g (lw_at lw_m12 127 rfl) rfl
theorem q2854 : (Jvm.Cond.laysStatic "jdk/internal/util/ArraysSupport" "U" "Ljdk/internal/misc/Unsafe;") ∈ lw_tbl := lw_at lw_m12 128 rfl
theorem q2855 : (Jvm.Cond.methodLink "jdk/internal/util/ArraysSupport" (30 : Nat) ({ cls := "jdk/internal/misc/Unsafe", name := "getLongUnaligned", desc := "(Ljava/lang/Object;J)J" } : Jvm.MethodName)) ∈ lw_all := lw_g (lw_at lw_m12 129 rfl) rfl
theorem q2907 : (Jvm.Cond.fieldLink "jdk/internal/util/ArraysSupport" (36 : Nat) "jdk/internal/util/ArraysSupport" "BIG_ENDIAN" "Z") ∈ lw_all := lw_g (lw_at lw_m12 181 rfl) rfl
theorem q2908 : (Jvm.Cond.laysStatic "jdk/internal/util/ArraysSupport" "BIG_ENDIAN" "Z") ∈ lw_tbl := lw_at lw_m12 182 rfl
theorem q2909 : (Jvm.Cond.methodLink "jdk/internal/util/ArraysSupport" (40 : Nat) ({ cls := "java/lang/Long", name := "numberOfLeadingZeros", desc := "(J)I" } : Jvm.MethodName)) ∈ lw_all := lw_g (lw_at lw_m12 183 rfl) rfl
theorem q2915 : (Jvm.Cond.fieldLink "jdk/internal/util/ArraysSupport" (46 : Nat) "jdk/internal/util/ArraysSupport" "LOG2_BYTE_BIT_SIZE" "I") ∈ lw_all := lw_g (lw_at lw_m12 189 rfl) rfl
theorem q2916 : (Jvm.Cond.laysStatic "jdk/internal/util/ArraysSupport" "LOG2_BYTE_BIT_SIZE" "I") ∈ lw_tbl := lw_at lw_m12 190 rfl
theorem q2917 : (Jvm.Cond.methodLink "jdk/internal/util/ArraysSupport" (49 : Nat) ({ cls := "java/lang/Long", name := "numberOfTrailingZeros", desc := "(J)I" } : Jvm.MethodName)) ∈ lw_all := lw_g (lw_at lw_m12 191 rfl) rfl
theorem q2918 : (Jvm.Cond.fieldLink "jdk/internal/util/ArraysSupport" (51 : Nat) "jdk/internal/util/ArraysSupport" "LOG2_ARRAY_INT_INDEX_SCALE" "I") ∈ lw_all := lw_g (lw_at lw_m12 192 rfl) rfl
theorem q2919 : (Jvm.Cond.laysStatic "jdk/internal/util/ArraysSupport" "LOG2_ARRAY_INT_INDEX_SCALE" "I") ∈ lw_tbl := lw_at lw_m12 193 rfl
theorem q2920 : (Jvm.Cond.methodLink "jdk/internal/util/ArraysSupport" (54 : Nat) ({ cls := "jdk/internal/misc/Unsafe", name := "getIntUnaligned", desc := "(Ljava/lang/Object;J)I" } : Jvm.MethodName)) ∈ lw_all := lw_g (lw_at lw_m12 194 rfl) rfl
theorem q2937 : (Jvm.Cond.methodLink "jdk/internal/util/ArraysSupport" (58 : Nat) ({ cls := "java/lang/Integer", name := "numberOfLeadingZeros", desc := "(I)I" } : Jvm.MethodName)) ∈ lw_all := lw_g (lw_at lw_m12 211 rfl) rfl
theorem q2938 : (Jvm.Cond.methodLink "jdk/internal/util/ArraysSupport" (11 : Nat) ({ cls := "java/lang/Integer", name := "numberOfTrailingZeros", desc := "(I)I" } : Jvm.MethodName)) ∈ lw_all := lw_g (lw_at lw_m12 212 rfl) rfl
/-! jdk/internal/util/Preconditions -/
set_option maxRecDepth 100000
def RJ26 : String := "jdk/internal/util/Preconditions"
abbrev cJ26_checkFromToIndex : ByteArray := prog_93_method_12_code
def yJ26_checkFromToIndex : MethodName := ⟨RJ26, "checkFromToIndex", "(IIILjava/util/function/BiFunction;)I"⟩
def dkwJ26_checkFromToIndex_0 : List UInt8 := [26, 155, 0, 13, 26, 27, 163, 0, 8, 27, 28, 164, 0, 11, 45, 26, 27, 28, 184, 0, 99, 191, 26, 172]
abbrev dktJ26_checkFromToIndex_0 : List UInt8 := dkwJ26_checkFromToIndex_0 ++ []
theorem dksJ26_checkFromToIndex_0 : cJ26_checkFromToIndex.data.toList.drop 0 = dktJ26_checkFromToIndex_0 := by decide +kernel
theorem dJ26_checkFromToIndex_0 : decode cJ26_checkFromToIndex 0 = .ok (.iload_n 0, 1) := dk_26 (dk_at dksJ26_checkFromToIndex_0 0 rfl rfl)
theorem dJ26_checkFromToIndex_1 : decode cJ26_checkFromToIndex 1 = .ok (.ifCond .lt 13, 3) := dk_155 0 13 (dk_at dksJ26_checkFromToIndex_0 1 rfl rfl)
theorem dJ26_checkFromToIndex_4 : decode cJ26_checkFromToIndex 4 = .ok (.iload_n 0, 1) := dk_26 (dk_at dksJ26_checkFromToIndex_0 4 rfl rfl)
theorem dJ26_checkFromToIndex_5 : decode cJ26_checkFromToIndex 5 = .ok (.iload_n 1, 1) := dk_27 (dk_at dksJ26_checkFromToIndex_0 5 rfl rfl)
theorem dJ26_checkFromToIndex_6 : decode cJ26_checkFromToIndex 6 = .ok (.if_icmp .gt 8, 3) := dk_163 0 8 (dk_at dksJ26_checkFromToIndex_0 6 rfl rfl)
theorem dJ26_checkFromToIndex_9 : decode cJ26_checkFromToIndex 9 = .ok (.iload_n 1, 1) := dk_27 (dk_at dksJ26_checkFromToIndex_0 9 rfl rfl)
theorem dJ26_checkFromToIndex_10 : decode cJ26_checkFromToIndex 10 = .ok (.iload_n 2, 1) := dk_28 (dk_at dksJ26_checkFromToIndex_0 10 rfl rfl)
theorem dJ26_checkFromToIndex_11 : decode cJ26_checkFromToIndex 11 = .ok (.if_icmp .le 11, 3) := dk_164 0 11 (dk_at dksJ26_checkFromToIndex_0 11 rfl rfl)
theorem dJ26_checkFromToIndex_14 : decode cJ26_checkFromToIndex 14 = .ok (.aload_n 3, 1) := dk_45 (dk_at dksJ26_checkFromToIndex_0 14 rfl rfl)
theorem dJ26_checkFromToIndex_15 : decode cJ26_checkFromToIndex 15 = .ok (.iload_n 0, 1) := dk_26 (dk_at dksJ26_checkFromToIndex_0 15 rfl rfl)
theorem dJ26_checkFromToIndex_16 : decode cJ26_checkFromToIndex 16 = .ok (.iload_n 1, 1) := dk_27 (dk_at dksJ26_checkFromToIndex_0 16 rfl rfl)
theorem dJ26_checkFromToIndex_17 : decode cJ26_checkFromToIndex 17 = .ok (.iload_n 2, 1) := dk_28 (dk_at dksJ26_checkFromToIndex_0 17 rfl rfl)
theorem dJ26_checkFromToIndex_18 : decode cJ26_checkFromToIndex 18 = .ok (.invokestatic 99, 3) := dk_184 0 99 (dk_at dksJ26_checkFromToIndex_0 18 rfl rfl)
theorem dJ26_checkFromToIndex_21 : decode cJ26_checkFromToIndex 21 = .ok (.athrow, 1) := dk_191 (dk_at dksJ26_checkFromToIndex_0 21 rfl rfl)
theorem dJ26_checkFromToIndex_22 : decode cJ26_checkFromToIndex 22 = .ok (.iload_n 0, 1) := dk_26 (dk_at dksJ26_checkFromToIndex_0 22 rfl rfl)
theorem dJ26_checkFromToIndex_23 : decode cJ26_checkFromToIndex 23 = .ok (.ireturn, 1) := dk_172 (dk_at dksJ26_checkFromToIndex_0 23 rfl rfl)
abbrev cJ26_checkFromIndexSize : ByteArray := prog_93_method_13_code
def yJ26_checkFromIndexSize : MethodName := ⟨RJ26, "checkFromIndexSize", "(IIILjava/util/function/BiFunction;)I"⟩
def dkwJ26_checkFromIndexSize_1 : List UInt8 := [172]
abbrev dktJ26_checkFromIndexSize_1 : List UInt8 := dkwJ26_checkFromIndexSize_1 ++ []
def dkwJ26_checkFromIndexSize_0 : List UInt8 := [28, 26, 128, 27, 128, 155, 0, 10, 27, 28, 26, 100, 164, 0, 11, 45, 26, 27, 28, 184, 0, 103, 191, 26]
abbrev dktJ26_checkFromIndexSize_0 : List UInt8 := dkwJ26_checkFromIndexSize_0 ++ dktJ26_checkFromIndexSize_1
theorem dksJ26_checkFromIndexSize_0 : cJ26_checkFromIndexSize.data.toList.drop 0 = dktJ26_checkFromIndexSize_0 := by decide +kernel
theorem dksJ26_checkFromIndexSize_1 : cJ26_checkFromIndexSize.data.toList.drop 24 = dktJ26_checkFromIndexSize_1 := dk_seg dksJ26_checkFromIndexSize_0 24 rfl rfl
theorem dJ26_checkFromIndexSize_0 : decode cJ26_checkFromIndexSize 0 = .ok (.iload_n 2, 1) := dk_28 (dk_at dksJ26_checkFromIndexSize_0 0 rfl rfl)
theorem dJ26_checkFromIndexSize_1 : decode cJ26_checkFromIndexSize 1 = .ok (.iload_n 0, 1) := dk_26 (dk_at dksJ26_checkFromIndexSize_0 1 rfl rfl)
theorem dJ26_checkFromIndexSize_2 : decode cJ26_checkFromIndexSize 2 = .ok (.ior, 1) := dk_128 (dk_at dksJ26_checkFromIndexSize_0 2 rfl rfl)
theorem dJ26_checkFromIndexSize_3 : decode cJ26_checkFromIndexSize 3 = .ok (.iload_n 1, 1) := dk_27 (dk_at dksJ26_checkFromIndexSize_0 3 rfl rfl)
theorem dJ26_checkFromIndexSize_4 : decode cJ26_checkFromIndexSize 4 = .ok (.ior, 1) := dk_128 (dk_at dksJ26_checkFromIndexSize_0 4 rfl rfl)
theorem dJ26_checkFromIndexSize_5 : decode cJ26_checkFromIndexSize 5 = .ok (.ifCond .lt 10, 3) := dk_155 0 10 (dk_at dksJ26_checkFromIndexSize_0 5 rfl rfl)
theorem dJ26_checkFromIndexSize_8 : decode cJ26_checkFromIndexSize 8 = .ok (.iload_n 1, 1) := dk_27 (dk_at dksJ26_checkFromIndexSize_0 8 rfl rfl)
theorem dJ26_checkFromIndexSize_9 : decode cJ26_checkFromIndexSize 9 = .ok (.iload_n 2, 1) := dk_28 (dk_at dksJ26_checkFromIndexSize_0 9 rfl rfl)
theorem dJ26_checkFromIndexSize_10 : decode cJ26_checkFromIndexSize 10 = .ok (.iload_n 0, 1) := dk_26 (dk_at dksJ26_checkFromIndexSize_0 10 rfl rfl)
theorem dJ26_checkFromIndexSize_11 : decode cJ26_checkFromIndexSize 11 = .ok (.isub, 1) := dk_100 (dk_at dksJ26_checkFromIndexSize_0 11 rfl rfl)
theorem dJ26_checkFromIndexSize_12 : decode cJ26_checkFromIndexSize 12 = .ok (.if_icmp .le 11, 3) := dk_164 0 11 (dk_at dksJ26_checkFromIndexSize_0 12 rfl rfl)
theorem dJ26_checkFromIndexSize_15 : decode cJ26_checkFromIndexSize 15 = .ok (.aload_n 3, 1) := dk_45 (dk_at dksJ26_checkFromIndexSize_0 15 rfl rfl)
theorem dJ26_checkFromIndexSize_16 : decode cJ26_checkFromIndexSize 16 = .ok (.iload_n 0, 1) := dk_26 (dk_at dksJ26_checkFromIndexSize_0 16 rfl rfl)
theorem dJ26_checkFromIndexSize_17 : decode cJ26_checkFromIndexSize 17 = .ok (.iload_n 1, 1) := dk_27 (dk_at dksJ26_checkFromIndexSize_0 17 rfl rfl)
theorem dJ26_checkFromIndexSize_18 : decode cJ26_checkFromIndexSize 18 = .ok (.iload_n 2, 1) := dk_28 (dk_at dksJ26_checkFromIndexSize_0 18 rfl rfl)
theorem dJ26_checkFromIndexSize_19 : decode cJ26_checkFromIndexSize 19 = .ok (.invokestatic 103, 3) := dk_184 0 103 (dk_at dksJ26_checkFromIndexSize_0 19 rfl rfl)
theorem dJ26_checkFromIndexSize_22 : decode cJ26_checkFromIndexSize 22 = .ok (.athrow, 1) := dk_191 (dk_at dksJ26_checkFromIndexSize_0 22 rfl rfl)
theorem dJ26_checkFromIndexSize_23 : decode cJ26_checkFromIndexSize 23 = .ok (.iload_n 0, 1) := dk_26 (dk_at dksJ26_checkFromIndexSize_0 23 rfl rfl)
theorem dJ26_checkFromIndexSize_24 : decode cJ26_checkFromIndexSize 24 = .ok (.ireturn, 1) := dk_172 (dk_at dksJ26_checkFromIndexSize_1 0 rfl rfl)
abbrev cJ26_checkIndex : ByteArray := prog_93_method_11_code
def yJ26_checkIndex : MethodName := ⟨RJ26, "checkIndex", "(IILjava/util/function/BiFunction;)I"⟩
def dkwJ26_checkIndex_0 : List UInt8 := [26, 155, 0, 8, 26, 27, 161, 0, 10, 44, 26, 27, 184, 0, 95, 191, 26, 172]
abbrev dktJ26_checkIndex_0 : List UInt8 := dkwJ26_checkIndex_0 ++ []
theorem dksJ26_checkIndex_0 : cJ26_checkIndex.data.toList.drop 0 = dktJ26_checkIndex_0 := by decide +kernel
theorem dJ26_checkIndex_0 : decode cJ26_checkIndex 0 = .ok (.iload_n 0, 1) := dk_26 (dk_at dksJ26_checkIndex_0 0 rfl rfl)
theorem dJ26_checkIndex_1 : decode cJ26_checkIndex 1 = .ok (.ifCond .lt 8, 3) := dk_155 0 8 (dk_at dksJ26_checkIndex_0 1 rfl rfl)
theorem dJ26_checkIndex_4 : decode cJ26_checkIndex 4 = .ok (.iload_n 0, 1) := dk_26 (dk_at dksJ26_checkIndex_0 4 rfl rfl)
theorem dJ26_checkIndex_5 : decode cJ26_checkIndex 5 = .ok (.iload_n 1, 1) := dk_27 (dk_at dksJ26_checkIndex_0 5 rfl rfl)
theorem dJ26_checkIndex_6 : decode cJ26_checkIndex 6 = .ok (.if_icmp .lt 10, 3) := dk_161 0 10 (dk_at dksJ26_checkIndex_0 6 rfl rfl)
theorem dJ26_checkIndex_9 : decode cJ26_checkIndex 9 = .ok (.aload_n 2, 1) := dk_44 (dk_at dksJ26_checkIndex_0 9 rfl rfl)
theorem dJ26_checkIndex_10 : decode cJ26_checkIndex 10 = .ok (.iload_n 0, 1) := dk_26 (dk_at dksJ26_checkIndex_0 10 rfl rfl)
theorem dJ26_checkIndex_11 : decode cJ26_checkIndex 11 = .ok (.iload_n 1, 1) := dk_27 (dk_at dksJ26_checkIndex_0 11 rfl rfl)
theorem dJ26_checkIndex_12 : decode cJ26_checkIndex 12 = .ok (.invokestatic 95, 3) := dk_184 0 95 (dk_at dksJ26_checkIndex_0 12 rfl rfl)
theorem dJ26_checkIndex_15 : decode cJ26_checkIndex 15 = .ok (.athrow, 1) := dk_191 (dk_at dksJ26_checkIndex_0 15 rfl rfl)
theorem dJ26_checkIndex_16 : decode cJ26_checkIndex 16 = .ok (.iload_n 0, 1) := dk_26 (dk_at dksJ26_checkIndex_0 16 rfl rfl)
theorem dJ26_checkIndex_17 : decode cJ26_checkIndex 17 = .ok (.ireturn, 1) := dk_172 (dk_at dksJ26_checkIndex_0 17 rfl rfl)
theorem q129 : (Jvm.Cond.initialized "jdk/internal/util/Preconditions") ∈ lw_all := lw_g (lw_at lw_m1 43 rfl) rfl
theorem q1049 : (Jvm.Cond.laysStatic "jdk/internal/util/Preconditions" "SIOOBE_FORMATTER" "Ljava/util/function/BiFunction;") ∈ lw_tbl := lw_at lw_m5 3 rfl
theorem q1051 : (Jvm.Cond.static ({ cls := "jdk/internal/util/Preconditions", name := "checkFromToIndex", desc := "(IIILjava/util/function/BiFunction;)I" } : Jvm.MethodName)) ∈ lw_all := lw_g (lw_at lw_m5 5 rfl) rfl
theorem q1052 : (Jvm.Cond.code ({ cls := "jdk/internal/util/Preconditions", name := "checkFromToIndex", desc := "(IIILjava/util/function/BiFunction;)I" } : Jvm.MethodName) prog_93_method_12_code (4 : Nat) (Option.some Jvm.ClassFile.FieldType.int)) ∈ lw_all := lw_g (lw_at lw_m5 6 rfl) rfl
theorem q1097 : (Jvm.Cond.static ({ cls := "jdk/internal/util/Preconditions", name := "checkFromIndexSize", desc := "(IIILjava/util/function/BiFunction;)I" } : Jvm.MethodName)) ∈ lw_all := lw_g (lw_at lw_m5 51 rfl) rfl
theorem q1098 : (Jvm.Cond.code ({ cls := "jdk/internal/util/Preconditions", name := "checkFromIndexSize", desc := "(IIILjava/util/function/BiFunction;)I" } : Jvm.MethodName) prog_93_method_13_code (4 : Nat) (Option.some Jvm.ClassFile.FieldType.int)) ∈ lw_all := lw_g (lw_at lw_m5 52 rfl) rfl
theorem q1537 : (Jvm.Cond.static ({ cls := "jdk/internal/util/Preconditions", name := "checkIndex", desc := "(IILjava/util/function/BiFunction;)I" } : Jvm.MethodName)) ∈ lw_all := lw_g (lw_at lw_m7 11 rfl) rfl
theorem q1538 : (Jvm.Cond.code ({ cls := "jdk/internal/util/Preconditions", name := "checkIndex", desc := "(IILjava/util/function/BiFunction;)I" } : Jvm.MethodName) prog_93_method_11_code (3 : Nat) (Option.some Jvm.ClassFile.FieldType.int)) ∈ lw_all := lw_g (lw_at lw_m7 12 rfl) rfl
