/-! LineRemarks -/
set_option maxRecDepth 100000
def RX0 : String := "LineRemarks"
def TX0 : u_T := fun k => match k with
  | 0 => ("LineRemarks", "shelves", "[LLineRemarks$Shelf;", true)
  | 1 => ("LineRemarks", "refusals", "[I", true)
  | 2 => ("LineRemarks", "ran", "LLineRemarks$Trace;", true)
  | 3 => ("LineRemarks", "kinds", "Ljava/util/List;", true)
  | 4 => ("LineRemarks", "w", "LLineRemarks$World;", false)
  | 5 => ("LineRemarks", "imaged", "LLineRemarks$World;", false)
  | _ => ("LineRemarks", "latestFault", "I", false)
def tyX0 : Nat → FieldType := fun k => match k with
  | 0 => .array (.object "LineRemarks$Shelf")
  | 1 => .array .int
  | 2 => .object "LineRemarks$Trace"
  | 3 => .object "java/util/List"
  | 4 => .object "LineRemarks$World"
  | 5 => .object "LineRemarks$World"
  | _ => .int
abbrev wsX00 : List Cond := u_ws RX0 TX0 7
theorem nmX0 : ∀ a, a < 7 → ∀ b, b < 7 → a ≠ b → (TX0 a).2.1 ≠ (TX0 b).2.1 := by decide +kernel
theorem tyX0_ok : ∀ k, k < 7 → parseFieldDescriptor (TX0 k).2.2.1 = some (tyX0 k) := by decide +kernel
abbrev cX0_init : ByteArray := prog_1_method_6_code
def yX0_init : MethodName := ⟨RX0, "<init>", "()V"⟩
def dkwX0_init_4 : List UInt8 := [180, 0, 79, 27, 187, 0, 77, 89, 183, 0, 119, 83, 132, 1, 1, 167, 255, 234, 177]
abbrev dktX0_init_4 : List UInt8 := dkwX0_init_4 ++ []
def dkwX0_init_3 : List UInt8 := [187, 0, 108, 89, 183, 0, 110, 181, 0, 111, 42, 2, 181, 0, 115, 3, 60, 27, 16, 8, 162, 0, 22, 42]
abbrev dktX0_init_3 : List UInt8 := dkwX0_init_3 ++ dktX0_init_4
def dkwX0_init_2 : List UInt8 := [184, 0, 94, 7, 184, 0, 94, 8, 184, 0, 94, 16, 6, 184, 0, 94, 184, 0, 100, 181, 0, 104, 42]
abbrev dktX0_init_2 : List UInt8 := dkwX0_init_2 ++ dktX0_init_3
def dkwX0_init_1 : List UInt8 := [187, 0, 87, 89, 183, 0, 89, 181, 0, 90, 42, 3, 184, 0, 94, 4, 184, 0, 94, 5, 184, 0, 94, 6]
abbrev dktX0_init_1 : List UInt8 := dkwX0_init_1 ++ dktX0_init_2
def dkwX0_init_0 : List UInt8 := [42, 183, 0, 70, 42, 16, 8, 189, 0, 77, 181, 0, 79, 42, 16, 8, 188, 10, 181, 0, 83, 42]
abbrev dktX0_init_0 : List UInt8 := dkwX0_init_0 ++ dktX0_init_1
theorem dksX0_init_0 : cX0_init.data.toList.drop 0 = dktX0_init_0 := by decide +kernel
theorem dksX0_init_1 : cX0_init.data.toList.drop 22 = dktX0_init_1 := dk_seg dksX0_init_0 22 rfl rfl
theorem dksX0_init_2 : cX0_init.data.toList.drop 46 = dktX0_init_2 := dk_seg dksX0_init_1 24 rfl rfl
theorem dksX0_init_3 : cX0_init.data.toList.drop 69 = dktX0_init_3 := dk_seg dksX0_init_2 23 rfl rfl
theorem dksX0_init_4 : cX0_init.data.toList.drop 93 = dktX0_init_4 := dk_seg dksX0_init_3 24 rfl rfl
theorem dX0_init_0 : decode cX0_init 0 = .ok (.aload_n 0, 1) := dk_42 (dk_at dksX0_init_0 0 rfl rfl)
theorem dX0_init_1 : decode cX0_init 1 = .ok (.invokespecial 70, 3) := dk_183 0 70 (dk_at dksX0_init_0 1 rfl rfl)
theorem dX0_init_4 : decode cX0_init 4 = .ok (.aload_n 0, 1) := dk_42 (dk_at dksX0_init_0 4 rfl rfl)
theorem dX0_init_5 : decode cX0_init 5 = .ok (.bipush 8, 2) := dk_16 8 (dk_at dksX0_init_0 5 rfl rfl)
theorem dX0_init_7 : decode cX0_init 7 = .ok (.anewarray 77, 3) := dk_189 0 77 (dk_at dksX0_init_0 7 rfl rfl)
theorem dX0_init_10 : decode cX0_init 10 = .ok (.putfield 79, 3) := dk_181 0 79 (dk_at dksX0_init_0 10 rfl rfl)
theorem dX0_init_13 : decode cX0_init 13 = .ok (.aload_n 0, 1) := dk_42 (dk_at dksX0_init_0 13 rfl rfl)
theorem dX0_init_14 : decode cX0_init 14 = .ok (.bipush 8, 2) := dk_16 8 (dk_at dksX0_init_0 14 rfl rfl)
theorem dX0_init_16 : decode cX0_init 16 = .ok (.newarray .int, 2) := dk_188_10 (dk_at dksX0_init_0 16 rfl rfl)
theorem dX0_init_18 : decode cX0_init 18 = .ok (.putfield 83, 3) := dk_181 0 83 (dk_at dksX0_init_0 18 rfl rfl)
theorem dX0_init_21 : decode cX0_init 21 = .ok (.aload_n 0, 1) := dk_42 (dk_at dksX0_init_0 21 rfl rfl)
theorem dX0_init_22 : decode cX0_init 22 = .ok (.new 87, 3) := dk_187 0 87 (dk_at dksX0_init_1 0 rfl rfl)
theorem dX0_init_25 : decode cX0_init 25 = .ok (.dup, 1) := dk_89 (dk_at dksX0_init_1 3 rfl rfl)
theorem dX0_init_26 : decode cX0_init 26 = .ok (.invokespecial 89, 3) := dk_183 0 89 (dk_at dksX0_init_1 4 rfl rfl)
theorem dX0_init_29 : decode cX0_init 29 = .ok (.putfield 90, 3) := dk_181 0 90 (dk_at dksX0_init_1 7 rfl rfl)
theorem dX0_init_32 : decode cX0_init 32 = .ok (.aload_n 0, 1) := dk_42 (dk_at dksX0_init_1 10 rfl rfl)
theorem dX0_init_33 : decode cX0_init 33 = .ok (.iconst 0, 1) := dk_3 (dk_at dksX0_init_1 11 rfl rfl)
theorem dX0_init_34 : decode cX0_init 34 = .ok (.invokestatic 94, 3) := dk_184 0 94 (dk_at dksX0_init_1 12 rfl rfl)
theorem dX0_init_37 : decode cX0_init 37 = .ok (.iconst 1, 1) := dk_4 (dk_at dksX0_init_1 15 rfl rfl)
theorem dX0_init_38 : decode cX0_init 38 = .ok (.invokestatic 94, 3) := dk_184 0 94 (dk_at dksX0_init_1 16 rfl rfl)
theorem dX0_init_41 : decode cX0_init 41 = .ok (.iconst 2, 1) := dk_5 (dk_at dksX0_init_1 19 rfl rfl)
theorem dX0_init_42 : decode cX0_init 42 = .ok (.invokestatic 94, 3) := dk_184 0 94 (dk_at dksX0_init_1 20 rfl rfl)
theorem dX0_init_45 : decode cX0_init 45 = .ok (.iconst 3, 1) := dk_6 (dk_at dksX0_init_1 23 rfl rfl)
theorem dX0_init_46 : decode cX0_init 46 = .ok (.invokestatic 94, 3) := dk_184 0 94 (dk_at dksX0_init_2 0 rfl rfl)
theorem dX0_init_49 : decode cX0_init 49 = .ok (.iconst 4, 1) := dk_7 (dk_at dksX0_init_2 3 rfl rfl)
theorem dX0_init_50 : decode cX0_init 50 = .ok (.invokestatic 94, 3) := dk_184 0 94 (dk_at dksX0_init_2 4 rfl rfl)
theorem dX0_init_53 : decode cX0_init 53 = .ok (.iconst 5, 1) := dk_8 (dk_at dksX0_init_2 7 rfl rfl)
theorem dX0_init_54 : decode cX0_init 54 = .ok (.invokestatic 94, 3) := dk_184 0 94 (dk_at dksX0_init_2 8 rfl rfl)
theorem dX0_init_57 : decode cX0_init 57 = .ok (.bipush 6, 2) := dk_16 6 (dk_at dksX0_init_2 11 rfl rfl)
theorem dX0_init_59 : decode cX0_init 59 = .ok (.invokestatic 94, 3) := dk_184 0 94 (dk_at dksX0_init_2 13 rfl rfl)
theorem dX0_init_62 : decode cX0_init 62 = .ok (.invokestatic 100, 3) := dk_184 0 100 (dk_at dksX0_init_2 16 rfl rfl)
theorem dX0_init_65 : decode cX0_init 65 = .ok (.putfield 104, 3) := dk_181 0 104 (dk_at dksX0_init_2 19 rfl rfl)
theorem dX0_init_68 : decode cX0_init 68 = .ok (.aload_n 0, 1) := dk_42 (dk_at dksX0_init_2 22 rfl rfl)
theorem dX0_init_69 : decode cX0_init 69 = .ok (.new 108, 3) := dk_187 0 108 (dk_at dksX0_init_3 0 rfl rfl)
theorem dX0_init_72 : decode cX0_init 72 = .ok (.dup, 1) := dk_89 (dk_at dksX0_init_3 3 rfl rfl)
theorem dX0_init_73 : decode cX0_init 73 = .ok (.invokespecial 110, 3) := dk_183 0 110 (dk_at dksX0_init_3 4 rfl rfl)
theorem dX0_init_76 : decode cX0_init 76 = .ok (.putfield 111, 3) := dk_181 0 111 (dk_at dksX0_init_3 7 rfl rfl)
theorem dX0_init_79 : decode cX0_init 79 = .ok (.aload_n 0, 1) := dk_42 (dk_at dksX0_init_3 10 rfl rfl)
theorem dX0_init_80 : decode cX0_init 80 = .ok (.iconst (-1), 1) := dk_2 (dk_at dksX0_init_3 11 rfl rfl)
theorem dX0_init_81 : decode cX0_init 81 = .ok (.putfield 115, 3) := dk_181 0 115 (dk_at dksX0_init_3 12 rfl rfl)
theorem dX0_init_84 : decode cX0_init 84 = .ok (.iconst 0, 1) := dk_3 (dk_at dksX0_init_3 15 rfl rfl)
theorem dX0_init_85 : decode cX0_init 85 = .ok (.istore_n 1, 1) := dk_60 (dk_at dksX0_init_3 16 rfl rfl)
theorem dX0_init_86 : decode cX0_init 86 = .ok (.iload_n 1, 1) := dk_27 (dk_at dksX0_init_3 17 rfl rfl)
theorem dX0_init_87 : decode cX0_init 87 = .ok (.bipush 8, 2) := dk_16 8 (dk_at dksX0_init_3 18 rfl rfl)
theorem dX0_init_89 : decode cX0_init 89 = .ok (.if_icmp .ge 22, 3) := dk_162 0 22 (dk_at dksX0_init_3 20 rfl rfl)
theorem dX0_init_92 : decode cX0_init 92 = .ok (.aload_n 0, 1) := dk_42 (dk_at dksX0_init_3 23 rfl rfl)
theorem dX0_init_93 : decode cX0_init 93 = .ok (.getfield 79, 3) := dk_180 0 79 (dk_at dksX0_init_4 0 rfl rfl)
theorem dX0_init_96 : decode cX0_init 96 = .ok (.iload_n 1, 1) := dk_27 (dk_at dksX0_init_4 3 rfl rfl)
theorem dX0_init_97 : decode cX0_init 97 = .ok (.new 77, 3) := dk_187 0 77 (dk_at dksX0_init_4 4 rfl rfl)
theorem dX0_init_100 : decode cX0_init 100 = .ok (.dup, 1) := dk_89 (dk_at dksX0_init_4 7 rfl rfl)
theorem dX0_init_101 : decode cX0_init 101 = .ok (.invokespecial 119, 3) := dk_183 0 119 (dk_at dksX0_init_4 8 rfl rfl)
theorem dX0_init_104 : decode cX0_init 104 = .ok (.aastore, 1) := dk_83 (dk_at dksX0_init_4 11 rfl rfl)
theorem dX0_init_105 : decode cX0_init 105 = .ok (.iinc 1 1, 3) := dk_132 1 1 (dk_at dksX0_init_4 12 rfl rfl)
theorem dX0_init_108 : decode cX0_init 108 = .ok (.goto (-22), 3) := dk_167 255 234 (dk_at dksX0_init_4 15 rfl rfl)
theorem dX0_init_111 : decode cX0_init 111 = .ok (.return_, 1) := dk_177 (dk_at dksX0_init_4 18 rfl rfl)
abbrev cX0_row : ByteArray := prog_1_method_14_code
def yX0_row : MethodName := ⟨RX0, "row", "(III)I"⟩
def dkwX0_row_3 : List UInt8 := [182, 0, 181, 172]
abbrev dktX0_row_3 : List UInt8 := dkwX0_row_3 ++ []
def dkwX0_row_2 : List UInt8 := [16, 249, 184, 0, 129, 25, 4, 28, 29, 184, 0, 177, 181, 0, 147, 4, 172, 58, 4, 42, 25, 4]
abbrev dktX0_row_2 : List UInt8 := dkwX0_row_2 ++ dktX0_row_3
def dkwX0_row_1 : List UInt8 := [20, 0, 171, 184, 0, 173, 16, 250, 184, 0, 129, 29, 17, 0, 160, 163, 0, 7, 4, 167, 0, 4, 3]
abbrev dktX0_row_1 : List UInt8 := dkwX0_row_1 ++ dktX0_row_2
def dkwX0_row_0 : List UInt8 := [42, 27, 182, 0, 167, 58, 4, 29, 155, 0, 7, 4, 167, 0, 4, 3, 16, 252, 184, 0, 129, 28, 133, 9]
abbrev dktX0_row_0 : List UInt8 := dkwX0_row_0 ++ dktX0_row_1
theorem dksX0_row_0 : cX0_row.data.toList.drop 0 = dktX0_row_0 := by decide +kernel
theorem dksX0_row_1 : cX0_row.data.toList.drop 24 = dktX0_row_1 := dk_seg dksX0_row_0 24 rfl rfl
theorem dksX0_row_2 : cX0_row.data.toList.drop 47 = dktX0_row_2 := dk_seg dksX0_row_1 23 rfl rfl
theorem dksX0_row_3 : cX0_row.data.toList.drop 69 = dktX0_row_3 := dk_seg dksX0_row_2 22 rfl rfl
theorem dX0_row_0 : decode cX0_row 0 = .ok (.aload_n 0, 1) := dk_42 (dk_at dksX0_row_0 0 rfl rfl)
theorem dX0_row_1 : decode cX0_row 1 = .ok (.iload_n 1, 1) := dk_27 (dk_at dksX0_row_0 1 rfl rfl)
theorem dX0_row_2 : decode cX0_row 2 = .ok (.invokevirtual 167, 3) := dk_182 0 167 (dk_at dksX0_row_0 2 rfl rfl)
theorem dX0_row_5 : decode cX0_row 5 = .ok (.astore 4, 2) := dk_58 4 (dk_at dksX0_row_0 5 rfl rfl)
theorem dX0_row_7 : decode cX0_row 7 = .ok (.iload_n 3, 1) := dk_29 (dk_at dksX0_row_0 7 rfl rfl)
theorem dX0_row_8 : decode cX0_row 8 = .ok (.ifCond .lt 7, 3) := dk_155 0 7 (dk_at dksX0_row_0 8 rfl rfl)
theorem dX0_row_11 : decode cX0_row 11 = .ok (.iconst 1, 1) := dk_4 (dk_at dksX0_row_0 11 rfl rfl)
theorem dX0_row_12 : decode cX0_row 12 = .ok (.goto 4, 3) := dk_167 0 4 (dk_at dksX0_row_0 12 rfl rfl)
theorem dX0_row_15 : decode cX0_row 15 = .ok (.iconst 0, 1) := dk_3 (dk_at dksX0_row_0 15 rfl rfl)
theorem dX0_row_16 : decode cX0_row 16 = .ok (.bipush (-4), 2) := dk_16 252 (dk_at dksX0_row_0 16 rfl rfl)
theorem dX0_row_18 : decode cX0_row 18 = .ok (.invokestatic 129, 3) := dk_184 0 129 (dk_at dksX0_row_0 18 rfl rfl)
theorem dX0_row_21 : decode cX0_row 21 = .ok (.iload_n 2, 1) := dk_28 (dk_at dksX0_row_0 21 rfl rfl)
theorem dX0_row_22 : decode cX0_row 22 = .ok (.i2l, 1) := dk_133 (dk_at dksX0_row_0 22 rfl rfl)
theorem dX0_row_23 : decode cX0_row 23 = .ok (.lconst 0, 1) := dk_9 (dk_at dksX0_row_0 23 rfl rfl)
theorem dX0_row_24 : decode cX0_row 24 = .ok (.ldc2_w 171, 3) := dk_20 0 171 (dk_at dksX0_row_1 0 rfl rfl)
theorem dX0_row_27 : decode cX0_row 27 = .ok (.invokestatic 173, 3) := dk_184 0 173 (dk_at dksX0_row_1 3 rfl rfl)
theorem dX0_row_30 : decode cX0_row 30 = .ok (.bipush (-6), 2) := dk_16 250 (dk_at dksX0_row_1 6 rfl rfl)
theorem dX0_row_32 : decode cX0_row 32 = .ok (.invokestatic 129, 3) := dk_184 0 129 (dk_at dksX0_row_1 8 rfl rfl)
theorem dX0_row_35 : decode cX0_row 35 = .ok (.iload_n 3, 1) := dk_29 (dk_at dksX0_row_1 11 rfl rfl)
theorem dX0_row_36 : decode cX0_row 36 = .ok (.sipush 160, 3) := dk_17 0 160 (dk_at dksX0_row_1 12 rfl rfl)
theorem dX0_row_39 : decode cX0_row 39 = .ok (.if_icmp .gt 7, 3) := dk_163 0 7 (dk_at dksX0_row_1 15 rfl rfl)
theorem dX0_row_42 : decode cX0_row 42 = .ok (.iconst 1, 1) := dk_4 (dk_at dksX0_row_1 18 rfl rfl)
theorem dX0_row_43 : decode cX0_row 43 = .ok (.goto 4, 3) := dk_167 0 4 (dk_at dksX0_row_1 19 rfl rfl)
theorem dX0_row_46 : decode cX0_row 46 = .ok (.iconst 0, 1) := dk_3 (dk_at dksX0_row_1 22 rfl rfl)
theorem dX0_row_47 : decode cX0_row 47 = .ok (.bipush (-7), 2) := dk_16 249 (dk_at dksX0_row_2 0 rfl rfl)
theorem dX0_row_49 : decode cX0_row 49 = .ok (.invokestatic 129, 3) := dk_184 0 129 (dk_at dksX0_row_2 2 rfl rfl)
theorem dX0_row_52 : decode cX0_row 52 = .ok (.aload 4, 2) := dk_25 4 (dk_at dksX0_row_2 5 rfl rfl)
theorem dX0_row_54 : decode cX0_row 54 = .ok (.iload_n 2, 1) := dk_28 (dk_at dksX0_row_2 7 rfl rfl)
theorem dX0_row_55 : decode cX0_row 55 = .ok (.iload_n 3, 1) := dk_29 (dk_at dksX0_row_2 8 rfl rfl)
theorem dX0_row_56 : decode cX0_row 56 = .ok (.invokestatic 177, 3) := dk_184 0 177 (dk_at dksX0_row_2 9 rfl rfl)
theorem dX0_row_59 : decode cX0_row 59 = .ok (.putfield 147, 3) := dk_181 0 147 (dk_at dksX0_row_2 12 rfl rfl)
theorem dX0_row_62 : decode cX0_row 62 = .ok (.iconst 1, 1) := dk_4 (dk_at dksX0_row_2 15 rfl rfl)
theorem dX0_row_63 : decode cX0_row 63 = .ok (.ireturn, 1) := dk_172 (dk_at dksX0_row_2 16 rfl rfl)
theorem dX0_row_64 : decode cX0_row 64 = .ok (.astore 4, 2) := dk_58 4 (dk_at dksX0_row_2 17 rfl rfl)
theorem dX0_row_66 : decode cX0_row 66 = .ok (.aload_n 0, 1) := dk_42 (dk_at dksX0_row_2 19 rfl rfl)
theorem dX0_row_67 : decode cX0_row 67 = .ok (.aload 4, 2) := dk_25 4 (dk_at dksX0_row_2 20 rfl rfl)
theorem dX0_row_69 : decode cX0_row 69 = .ok (.invokevirtual 181, 3) := dk_182 0 181 (dk_at dksX0_row_3 0 rfl rfl)
theorem dX0_row_72 : decode cX0_row 72 = .ok (.ireturn, 1) := dk_172 (dk_at dksX0_row_3 3 rfl rfl)
abbrev cX0_shelf : ByteArray := prog_1_method_9_code
def yX0_shelf : MethodName := ⟨RX0, "shelf", "(I)LLineRemarks$Shelf;"⟩
def dkwX0_shelf_0 : List UInt8 := [42, 180, 0, 79, 27, 50, 176, 77, 187, 0, 21, 89, 2, 183, 0, 23, 191]
abbrev dktX0_shelf_0 : List UInt8 := dkwX0_shelf_0 ++ []
theorem dksX0_shelf_0 : cX0_shelf.data.toList.drop 0 = dktX0_shelf_0 := by decide +kernel
theorem dX0_shelf_0 : decode cX0_shelf 0 = .ok (.aload_n 0, 1) := dk_42 (dk_at dksX0_shelf_0 0 rfl rfl)
theorem dX0_shelf_1 : decode cX0_shelf 1 = .ok (.getfield 79, 3) := dk_180 0 79 (dk_at dksX0_shelf_0 1 rfl rfl)
theorem dX0_shelf_4 : decode cX0_shelf 4 = .ok (.iload_n 1, 1) := dk_27 (dk_at dksX0_shelf_0 4 rfl rfl)
theorem dX0_shelf_5 : decode cX0_shelf 5 = .ok (.aaload, 1) := dk_50 (dk_at dksX0_shelf_0 5 rfl rfl)
theorem dX0_shelf_6 : decode cX0_shelf 6 = .ok (.areturn, 1) := dk_176 (dk_at dksX0_shelf_0 6 rfl rfl)
theorem dX0_shelf_7 : decode cX0_shelf 7 = .ok (.astore_n 2, 1) := dk_77 (dk_at dksX0_shelf_0 7 rfl rfl)
theorem dX0_shelf_8 : decode cX0_shelf 8 = .ok (.new 21, 3) := dk_187 0 21 (dk_at dksX0_shelf_0 8 rfl rfl)
theorem dX0_shelf_11 : decode cX0_shelf 11 = .ok (.dup, 1) := dk_89 (dk_at dksX0_shelf_0 11 rfl rfl)
theorem dX0_shelf_12 : decode cX0_shelf 12 = .ok (.iconst (-1), 1) := dk_2 (dk_at dksX0_shelf_0 12 rfl rfl)
theorem dX0_shelf_13 : decode cX0_shelf 13 = .ok (.invokespecial 23, 3) := dk_183 0 23 (dk_at dksX0_shelf_0 13 rfl rfl)
theorem dX0_shelf_16 : decode cX0_shelf 16 = .ok (.athrow, 1) := dk_191 (dk_at dksX0_shelf_0 16 rfl rfl)
abbrev cX0_need : ByteArray := prog_1_method_2_code
def yX0_need : MethodName := ⟨RX0, "need", "(ZI)V"⟩
def dkwX0_need_0 : List UInt8 := [26, 154, 0, 12, 187, 0, 21, 89, 27, 183, 0, 23, 191, 177]
abbrev dktX0_need_0 : List UInt8 := dkwX0_need_0 ++ []
theorem dksX0_need_0 : cX0_need.data.toList.drop 0 = dktX0_need_0 := by decide +kernel
theorem dX0_need_0 : decode cX0_need 0 = .ok (.iload_n 0, 1) := dk_26 (dk_at dksX0_need_0 0 rfl rfl)
theorem dX0_need_1 : decode cX0_need 1 = .ok (.ifCond .ne 12, 3) := dk_154 0 12 (dk_at dksX0_need_0 1 rfl rfl)
theorem dX0_need_4 : decode cX0_need 4 = .ok (.new 21, 3) := dk_187 0 21 (dk_at dksX0_need_0 4 rfl rfl)
theorem dX0_need_7 : decode cX0_need 7 = .ok (.dup, 1) := dk_89 (dk_at dksX0_need_0 7 rfl rfl)
theorem dX0_need_8 : decode cX0_need 8 = .ok (.iload_n 1, 1) := dk_27 (dk_at dksX0_need_0 8 rfl rfl)
theorem dX0_need_9 : decode cX0_need 9 = .ok (.invokespecial 23, 3) := dk_183 0 23 (dk_at dksX0_need_0 9 rfl rfl)
theorem dX0_need_12 : decode cX0_need 12 = .ok (.athrow, 1) := dk_191 (dk_at dksX0_need_0 12 rfl rfl)
theorem dX0_need_13 : decode cX0_need 13 = .ok (.return_, 1) := dk_177 (dk_at dksX0_need_0 13 rfl rfl)
abbrev cX0_in : ByteArray := prog_1_method_3_code
def yX0_in : MethodName := ⟨RX0, "in", "(JJJ)Z"⟩
def dkwX0_in_0 : List UInt8 := [30, 32, 148, 155, 0, 14, 30, 22, 4, 148, 157, 0, 7, 4, 167, 0, 4, 3, 172]
abbrev dktX0_in_0 : List UInt8 := dkwX0_in_0 ++ []
theorem dksX0_in_0 : cX0_in.data.toList.drop 0 = dktX0_in_0 := by decide +kernel
theorem dX0_in_0 : decode cX0_in 0 = .ok (.lload_n 0, 1) := dk_30 (dk_at dksX0_in_0 0 rfl rfl)
theorem dX0_in_1 : decode cX0_in 1 = .ok (.lload_n 2, 1) := dk_32 (dk_at dksX0_in_0 1 rfl rfl)
theorem dX0_in_2 : decode cX0_in 2 = .ok (.lcmp, 1) := dk_148 (dk_at dksX0_in_0 2 rfl rfl)
theorem dX0_in_3 : decode cX0_in 3 = .ok (.ifCond .lt 14, 3) := dk_155 0 14 (dk_at dksX0_in_0 3 rfl rfl)
theorem dX0_in_6 : decode cX0_in 6 = .ok (.lload_n 0, 1) := dk_30 (dk_at dksX0_in_0 6 rfl rfl)
theorem dX0_in_7 : decode cX0_in 7 = .ok (.lload 4, 2) := dk_22 4 (dk_at dksX0_in_0 7 rfl rfl)
theorem dX0_in_9 : decode cX0_in 9 = .ok (.lcmp, 1) := dk_148 (dk_at dksX0_in_0 9 rfl rfl)
theorem dX0_in_10 : decode cX0_in 10 = .ok (.ifCond .gt 7, 3) := dk_157 0 7 (dk_at dksX0_in_0 10 rfl rfl)
theorem dX0_in_13 : decode cX0_in 13 = .ok (.iconst 1, 1) := dk_4 (dk_at dksX0_in_0 13 rfl rfl)
theorem dX0_in_14 : decode cX0_in 14 = .ok (.goto 4, 3) := dk_167 0 4 (dk_at dksX0_in_0 14 rfl rfl)
theorem dX0_in_17 : decode cX0_in 17 = .ok (.iconst 0, 1) := dk_3 (dk_at dksX0_in_0 17 rfl rfl)
theorem dX0_in_18 : decode cX0_in 18 = .ok (.ireturn, 1) := dk_172 (dk_at dksX0_in_0 18 rfl rfl)
abbrev cX0_newRow : ByteArray := prog_1_method_13_code
def yX0_newRow : MethodName := ⟨RX0, "newRow", "(II)LLineRemarks$Row;"⟩
def dkwX0_newRow_4 : List UInt8 := [187, 0, 21, 89, 16, 252, 183, 0, 23, 191]
abbrev dktX0_newRow_4 : List UInt8 := dkwX0_newRow_4 ++ []
def dkwX0_newRow_3 : List UInt8 := [183, 0, 161, 176, 187, 0, 162, 89, 27, 183, 0, 164, 176, 187, 0, 21, 89, 16, 250, 183, 0, 23, 191, 77]
abbrev dktX0_newRow_3 : List UInt8 := dkwX0_newRow_3 ++ dktX0_newRow_4
def dkwX0_newRow_2 : List UInt8 := [187, 0, 153, 89, 27, 183, 0, 155, 176, 187, 0, 156, 89, 27, 183, 0, 158, 176, 187, 0, 159, 89, 27]
abbrev dktX0_newRow_2 : List UInt8 := dkwX0_newRow_2 ++ dktX0_newRow_3
def dkwX0_newRow_1 : List UInt8 := [170, 0, 0, 0, 0, 0, 67, 0, 0, 0, 0, 0, 0, 0, 3, 0, 0, 0, 31, 0, 0, 0, 40, 0, 0, 0, 49, 0, 0, 0, 58]
abbrev dktX0_newRow_1 : List UInt8 := dkwX0_newRow_1 ++ dktX0_newRow_2
def dkwX0_newRow_0 : List UInt8 := [26]
abbrev dktX0_newRow_0 : List UInt8 := dkwX0_newRow_0 ++ dktX0_newRow_1
theorem dksX0_newRow_0 : cX0_newRow.data.toList.drop 0 = dktX0_newRow_0 := by decide +kernel
theorem dksX0_newRow_1 : cX0_newRow.data.toList.drop 1 = dktX0_newRow_1 := dk_seg dksX0_newRow_0 1 rfl rfl
theorem dksX0_newRow_2 : cX0_newRow.data.toList.drop 32 = dktX0_newRow_2 := dk_seg dksX0_newRow_1 31 rfl rfl
theorem dksX0_newRow_3 : cX0_newRow.data.toList.drop 55 = dktX0_newRow_3 := dk_seg dksX0_newRow_2 23 rfl rfl
theorem dksX0_newRow_4 : cX0_newRow.data.toList.drop 79 = dktX0_newRow_4 := dk_seg dksX0_newRow_3 24 rfl rfl
theorem dX0_newRow_0 : decode cX0_newRow 0 = .ok (.iload_n 0, 1) := dk_26 (dk_at dksX0_newRow_0 0 rfl rfl)
theorem dX0_newRow_1 : decode cX0_newRow 1 = .ok (.tableswitch 67 0 3 #[31, 40, 49, 58], 31) := by decide +kernel
theorem dX0_newRow_32 : decode cX0_newRow 32 = .ok (.new 153, 3) := dk_187 0 153 (dk_at dksX0_newRow_2 0 rfl rfl)
theorem dX0_newRow_35 : decode cX0_newRow 35 = .ok (.dup, 1) := dk_89 (dk_at dksX0_newRow_2 3 rfl rfl)
theorem dX0_newRow_36 : decode cX0_newRow 36 = .ok (.iload_n 1, 1) := dk_27 (dk_at dksX0_newRow_2 4 rfl rfl)
theorem dX0_newRow_37 : decode cX0_newRow 37 = .ok (.invokespecial 155, 3) := dk_183 0 155 (dk_at dksX0_newRow_2 5 rfl rfl)
theorem dX0_newRow_40 : decode cX0_newRow 40 = .ok (.areturn, 1) := dk_176 (dk_at dksX0_newRow_2 8 rfl rfl)
theorem dX0_newRow_41 : decode cX0_newRow 41 = .ok (.new 156, 3) := dk_187 0 156 (dk_at dksX0_newRow_2 9 rfl rfl)
theorem dX0_newRow_44 : decode cX0_newRow 44 = .ok (.dup, 1) := dk_89 (dk_at dksX0_newRow_2 12 rfl rfl)
theorem dX0_newRow_45 : decode cX0_newRow 45 = .ok (.iload_n 1, 1) := dk_27 (dk_at dksX0_newRow_2 13 rfl rfl)
theorem dX0_newRow_46 : decode cX0_newRow 46 = .ok (.invokespecial 158, 3) := dk_183 0 158 (dk_at dksX0_newRow_2 14 rfl rfl)
theorem dX0_newRow_49 : decode cX0_newRow 49 = .ok (.areturn, 1) := dk_176 (dk_at dksX0_newRow_2 17 rfl rfl)
theorem dX0_newRow_50 : decode cX0_newRow 50 = .ok (.new 159, 3) := dk_187 0 159 (dk_at dksX0_newRow_2 18 rfl rfl)
theorem dX0_newRow_53 : decode cX0_newRow 53 = .ok (.dup, 1) := dk_89 (dk_at dksX0_newRow_2 21 rfl rfl)
theorem dX0_newRow_54 : decode cX0_newRow 54 = .ok (.iload_n 1, 1) := dk_27 (dk_at dksX0_newRow_2 22 rfl rfl)
theorem dX0_newRow_55 : decode cX0_newRow 55 = .ok (.invokespecial 161, 3) := dk_183 0 161 (dk_at dksX0_newRow_3 0 rfl rfl)
theorem dX0_newRow_58 : decode cX0_newRow 58 = .ok (.areturn, 1) := dk_176 (dk_at dksX0_newRow_3 3 rfl rfl)
theorem dX0_newRow_59 : decode cX0_newRow 59 = .ok (.new 162, 3) := dk_187 0 162 (dk_at dksX0_newRow_3 4 rfl rfl)
theorem dX0_newRow_62 : decode cX0_newRow 62 = .ok (.dup, 1) := dk_89 (dk_at dksX0_newRow_3 7 rfl rfl)
theorem dX0_newRow_63 : decode cX0_newRow 63 = .ok (.iload_n 1, 1) := dk_27 (dk_at dksX0_newRow_3 8 rfl rfl)
theorem dX0_newRow_64 : decode cX0_newRow 64 = .ok (.invokespecial 164, 3) := dk_183 0 164 (dk_at dksX0_newRow_3 9 rfl rfl)
theorem dX0_newRow_67 : decode cX0_newRow 67 = .ok (.areturn, 1) := dk_176 (dk_at dksX0_newRow_3 12 rfl rfl)
theorem dX0_newRow_68 : decode cX0_newRow 68 = .ok (.new 21, 3) := dk_187 0 21 (dk_at dksX0_newRow_3 13 rfl rfl)
theorem dX0_newRow_71 : decode cX0_newRow 71 = .ok (.dup, 1) := dk_89 (dk_at dksX0_newRow_3 16 rfl rfl)
theorem dX0_newRow_72 : decode cX0_newRow 72 = .ok (.bipush (-6), 2) := dk_16 250 (dk_at dksX0_newRow_3 17 rfl rfl)
theorem dX0_newRow_74 : decode cX0_newRow 74 = .ok (.invokespecial 23, 3) := dk_183 0 23 (dk_at dksX0_newRow_3 19 rfl rfl)
theorem dX0_newRow_77 : decode cX0_newRow 77 = .ok (.athrow, 1) := dk_191 (dk_at dksX0_newRow_3 22 rfl rfl)
theorem dX0_newRow_78 : decode cX0_newRow 78 = .ok (.astore_n 2, 1) := dk_77 (dk_at dksX0_newRow_3 23 rfl rfl)
theorem dX0_newRow_79 : decode cX0_newRow 79 = .ok (.new 21, 3) := dk_187 0 21 (dk_at dksX0_newRow_4 0 rfl rfl)
theorem dX0_newRow_82 : decode cX0_newRow 82 = .ok (.dup, 1) := dk_89 (dk_at dksX0_newRow_4 3 rfl rfl)
theorem dX0_newRow_83 : decode cX0_newRow 83 = .ok (.bipush (-4), 2) := dk_16 252 (dk_at dksX0_newRow_4 4 rfl rfl)
theorem dX0_newRow_85 : decode cX0_newRow 85 = .ok (.invokespecial 23, 3) := dk_183 0 23 (dk_at dksX0_newRow_4 6 rfl rfl)
theorem dX0_newRow_88 : decode cX0_newRow 88 = .ok (.athrow, 1) := dk_191 (dk_at dksX0_newRow_4 9 rfl rfl)
abbrev cX0_refused : ByteArray := prog_1_method_7_code
def yX0_refused : MethodName := ⟨RX0, "refused", "(LLineRemarks$Refused;)I"⟩
def dkwX0_refused_0 : List UInt8 := [42, 180, 0, 83, 43, 180, 0, 120, 116, 92, 46, 4, 96, 79, 43, 180, 0, 120, 172]
abbrev dktX0_refused_0 : List UInt8 := dkwX0_refused_0 ++ []
theorem dksX0_refused_0 : cX0_refused.data.toList.drop 0 = dktX0_refused_0 := by decide +kernel
theorem dX0_refused_0 : decode cX0_refused 0 = .ok (.aload_n 0, 1) := dk_42 (dk_at dksX0_refused_0 0 rfl rfl)
theorem dX0_refused_1 : decode cX0_refused 1 = .ok (.getfield 83, 3) := dk_180 0 83 (dk_at dksX0_refused_0 1 rfl rfl)
theorem dX0_refused_4 : decode cX0_refused 4 = .ok (.aload_n 1, 1) := dk_43 (dk_at dksX0_refused_0 4 rfl rfl)
theorem dX0_refused_5 : decode cX0_refused 5 = .ok (.getfield 120, 3) := dk_180 0 120 (dk_at dksX0_refused_0 5 rfl rfl)
theorem dX0_refused_8 : decode cX0_refused 8 = .ok (.ineg, 1) := dk_116 (dk_at dksX0_refused_0 8 rfl rfl)
theorem dX0_refused_9 : decode cX0_refused 9 = .ok (.dup2, 1) := dk_92 (dk_at dksX0_refused_0 9 rfl rfl)
theorem dX0_refused_10 : decode cX0_refused 10 = .ok (.iaload, 1) := dk_46 (dk_at dksX0_refused_0 10 rfl rfl)
theorem dX0_refused_11 : decode cX0_refused 11 = .ok (.iconst 1, 1) := dk_4 (dk_at dksX0_refused_0 11 rfl rfl)
theorem dX0_refused_12 : decode cX0_refused 12 = .ok (.iadd, 1) := dk_96 (dk_at dksX0_refused_0 12 rfl rfl)
theorem dX0_refused_13 : decode cX0_refused 13 = .ok (.iastore, 1) := dk_79 (dk_at dksX0_refused_0 13 rfl rfl)
theorem dX0_refused_14 : decode cX0_refused 14 = .ok (.aload_n 1, 1) := dk_43 (dk_at dksX0_refused_0 14 rfl rfl)
theorem dX0_refused_15 : decode cX0_refused 15 = .ok (.getfield 120, 3) := dk_180 0 120 (dk_at dksX0_refused_0 15 rfl rfl)
theorem dX0_refused_18 : decode cX0_refused 18 = .ok (.ireturn, 1) := dk_172 (dk_at dksX0_refused_0 18 rfl rfl)
abbrev cX0_set : ByteArray := prog_1_method_15_code
def yX0_set : MethodName := ⟨RX0, "set", "(IIJ)I"⟩
def dkwX0_set_1 : List UInt8 := [187, 0, 21, 89, 16, 251, 183, 0, 23, 191, 4, 172, 58, 5, 42, 25, 5, 182, 0, 181, 172]
abbrev dktX0_set_1 : List UInt8 := dkwX0_set_1 ++ []
def dkwX0_set_0 : List UInt8 := [42, 27, 182, 0, 167, 182, 0, 185, 58, 5, 25, 5, 28, 33, 182, 0, 188, 167, 0, 15, 58, 6]
abbrev dktX0_set_0 : List UInt8 := dkwX0_set_0 ++ dktX0_set_1
theorem dksX0_set_0 : cX0_set.data.toList.drop 0 = dktX0_set_0 := by decide +kernel
theorem dksX0_set_1 : cX0_set.data.toList.drop 22 = dktX0_set_1 := dk_seg dksX0_set_0 22 rfl rfl
theorem dX0_set_0 : decode cX0_set 0 = .ok (.aload_n 0, 1) := dk_42 (dk_at dksX0_set_0 0 rfl rfl)
theorem dX0_set_1 : decode cX0_set 1 = .ok (.iload_n 1, 1) := dk_27 (dk_at dksX0_set_0 1 rfl rfl)
theorem dX0_set_2 : decode cX0_set 2 = .ok (.invokevirtual 167, 3) := dk_182 0 167 (dk_at dksX0_set_0 2 rfl rfl)
theorem dX0_set_5 : decode cX0_set 5 = .ok (.invokevirtual 185, 3) := dk_182 0 185 (dk_at dksX0_set_0 5 rfl rfl)
theorem dX0_set_8 : decode cX0_set 8 = .ok (.astore 5, 2) := dk_58 5 (dk_at dksX0_set_0 8 rfl rfl)
theorem dX0_set_10 : decode cX0_set 10 = .ok (.aload 5, 2) := dk_25 5 (dk_at dksX0_set_0 10 rfl rfl)
theorem dX0_set_12 : decode cX0_set 12 = .ok (.iload_n 2, 1) := dk_28 (dk_at dksX0_set_0 12 rfl rfl)
theorem dX0_set_13 : decode cX0_set 13 = .ok (.lload_n 3, 1) := dk_33 (dk_at dksX0_set_0 13 rfl rfl)
theorem dX0_set_14 : decode cX0_set 14 = .ok (.invokevirtual 188, 3) := dk_182 0 188 (dk_at dksX0_set_0 14 rfl rfl)
theorem dX0_set_17 : decode cX0_set 17 = .ok (.goto 15, 3) := dk_167 0 15 (dk_at dksX0_set_0 17 rfl rfl)
theorem dX0_set_20 : decode cX0_set 20 = .ok (.astore 6, 2) := dk_58 6 (dk_at dksX0_set_0 20 rfl rfl)
theorem dX0_set_22 : decode cX0_set 22 = .ok (.new 21, 3) := dk_187 0 21 (dk_at dksX0_set_1 0 rfl rfl)
theorem dX0_set_25 : decode cX0_set 25 = .ok (.dup, 1) := dk_89 (dk_at dksX0_set_1 3 rfl rfl)
theorem dX0_set_26 : decode cX0_set 26 = .ok (.bipush (-5), 2) := dk_16 251 (dk_at dksX0_set_1 4 rfl rfl)
theorem dX0_set_28 : decode cX0_set 28 = .ok (.invokespecial 23, 3) := dk_183 0 23 (dk_at dksX0_set_1 6 rfl rfl)
theorem dX0_set_31 : decode cX0_set 31 = .ok (.athrow, 1) := dk_191 (dk_at dksX0_set_1 9 rfl rfl)
theorem dX0_set_32 : decode cX0_set 32 = .ok (.iconst 1, 1) := dk_4 (dk_at dksX0_set_1 10 rfl rfl)
theorem dX0_set_33 : decode cX0_set 33 = .ok (.ireturn, 1) := dk_172 (dk_at dksX0_set_1 11 rfl rfl)
theorem dX0_set_34 : decode cX0_set 34 = .ok (.astore 5, 2) := dk_58 5 (dk_at dksX0_set_1 12 rfl rfl)
theorem dX0_set_36 : decode cX0_set 36 = .ok (.aload_n 0, 1) := dk_42 (dk_at dksX0_set_1 14 rfl rfl)
theorem dX0_set_37 : decode cX0_set 37 = .ok (.aload 5, 2) := dk_25 5 (dk_at dksX0_set_1 15 rfl rfl)
theorem dX0_set_39 : decode cX0_set 39 = .ok (.invokevirtual 181, 3) := dk_182 0 181 (dk_at dksX0_set_1 17 rfl rfl)
theorem dX0_set_42 : decode cX0_set 42 = .ok (.ireturn, 1) := dk_172 (dk_at dksX0_set_1 20 rfl rfl)
abbrev cX0_copy : ByteArray := prog_1_method_16_code
def yX0_copy : MethodName := ⟨RX0, "copy", "(IIIII)I"⟩
def dkwX0_copy_6 : List UInt8 := [89, 16, 251, 183, 0, 23, 191, 4, 172, 58, 6, 42, 25, 6, 182, 0, 181, 172]
abbrev dktX0_copy_6 : List UInt8 := dkwX0_copy_6 ++ []
def dkwX0_copy_5 : List UInt8 := [182, 0, 7, 29, 25, 9, 182, 0, 7, 21, 4, 21, 5, 184, 0, 15, 167, 0, 15, 58, 10, 187, 0, 21]
abbrev dktX0_copy_5 : List UInt8 := dkwX0_copy_5 ++ dktX0_copy_6
def dkwX0_copy_4 : List UInt8 := [182, 0, 185, 58, 9, 21, 5, 155, 0, 7, 4, 167, 0, 4, 3, 16, 252, 184, 0, 129, 25, 8]
abbrev dktX0_copy_4 : List UInt8 := dkwX0_copy_4 ++ dktX0_copy_5
def dkwX0_copy_3 : List UInt8 := [160, 0, 7, 4, 167, 0, 4, 3, 16, 254, 184, 0, 129, 25, 6, 182, 0, 185, 58, 8, 25, 7]
abbrev dktX0_copy_3 : List UInt8 := dkwX0_copy_3 ++ dktX0_copy_4
def dkwX0_copy_2 : List UInt8 := [25, 7, 180, 0, 147, 198, 0, 32, 25, 6, 182, 0, 185, 182, 0, 192, 25, 7, 182, 0, 185, 182, 0, 192]
abbrev dktX0_copy_2 : List UInt8 := dkwX0_copy_2 ++ dktX0_copy_3
def dkwX0_copy_1 : List UInt8 := [182, 0, 144, 154, 0, 7, 4, 167, 0, 4, 3, 16, 254, 184, 0, 129, 25, 6, 180, 0, 147, 198, 0, 40]
abbrev dktX0_copy_1 : List UInt8 := dkwX0_copy_1 ++ dktX0_copy_2
def dkwX0_copy_0 : List UInt8 := [42, 27, 182, 0, 167, 58, 6, 42, 28, 182, 0, 167, 58, 7, 25, 6, 182, 0, 144, 154, 0, 15, 25, 7]
abbrev dktX0_copy_0 : List UInt8 := dkwX0_copy_0 ++ dktX0_copy_1
theorem dksX0_copy_0 : cX0_copy.data.toList.drop 0 = dktX0_copy_0 := by decide +kernel
theorem dksX0_copy_1 : cX0_copy.data.toList.drop 24 = dktX0_copy_1 := dk_seg dksX0_copy_0 24 rfl rfl
theorem dksX0_copy_2 : cX0_copy.data.toList.drop 48 = dktX0_copy_2 := dk_seg dksX0_copy_1 24 rfl rfl
theorem dksX0_copy_3 : cX0_copy.data.toList.drop 72 = dktX0_copy_3 := dk_seg dksX0_copy_2 24 rfl rfl
theorem dksX0_copy_4 : cX0_copy.data.toList.drop 94 = dktX0_copy_4 := dk_seg dksX0_copy_3 22 rfl rfl
theorem dksX0_copy_5 : cX0_copy.data.toList.drop 116 = dktX0_copy_5 := dk_seg dksX0_copy_4 22 rfl rfl
theorem dksX0_copy_6 : cX0_copy.data.toList.drop 140 = dktX0_copy_6 := dk_seg dksX0_copy_5 24 rfl rfl
theorem dX0_copy_0 : decode cX0_copy 0 = .ok (.aload_n 0, 1) := dk_42 (dk_at dksX0_copy_0 0 rfl rfl)
theorem dX0_copy_1 : decode cX0_copy 1 = .ok (.iload_n 1, 1) := dk_27 (dk_at dksX0_copy_0 1 rfl rfl)
theorem dX0_copy_2 : decode cX0_copy 2 = .ok (.invokevirtual 167, 3) := dk_182 0 167 (dk_at dksX0_copy_0 2 rfl rfl)
theorem dX0_copy_5 : decode cX0_copy 5 = .ok (.astore 6, 2) := dk_58 6 (dk_at dksX0_copy_0 5 rfl rfl)
theorem dX0_copy_7 : decode cX0_copy 7 = .ok (.aload_n 0, 1) := dk_42 (dk_at dksX0_copy_0 7 rfl rfl)
theorem dX0_copy_8 : decode cX0_copy 8 = .ok (.iload_n 2, 1) := dk_28 (dk_at dksX0_copy_0 8 rfl rfl)
theorem dX0_copy_9 : decode cX0_copy 9 = .ok (.invokevirtual 167, 3) := dk_182 0 167 (dk_at dksX0_copy_0 9 rfl rfl)
theorem dX0_copy_12 : decode cX0_copy 12 = .ok (.astore 7, 2) := dk_58 7 (dk_at dksX0_copy_0 12 rfl rfl)
theorem dX0_copy_14 : decode cX0_copy 14 = .ok (.aload 6, 2) := dk_25 6 (dk_at dksX0_copy_0 14 rfl rfl)
theorem dX0_copy_16 : decode cX0_copy 16 = .ok (.invokevirtual 144, 3) := dk_182 0 144 (dk_at dksX0_copy_0 16 rfl rfl)
theorem dX0_copy_19 : decode cX0_copy 19 = .ok (.ifCond .ne 15, 3) := dk_154 0 15 (dk_at dksX0_copy_0 19 rfl rfl)
theorem dX0_copy_22 : decode cX0_copy 22 = .ok (.aload 7, 2) := dk_25 7 (dk_at dksX0_copy_0 22 rfl rfl)
theorem dX0_copy_24 : decode cX0_copy 24 = .ok (.invokevirtual 144, 3) := dk_182 0 144 (dk_at dksX0_copy_1 0 rfl rfl)
theorem dX0_copy_27 : decode cX0_copy 27 = .ok (.ifCond .ne 7, 3) := dk_154 0 7 (dk_at dksX0_copy_1 3 rfl rfl)
theorem dX0_copy_30 : decode cX0_copy 30 = .ok (.iconst 1, 1) := dk_4 (dk_at dksX0_copy_1 6 rfl rfl)
theorem dX0_copy_31 : decode cX0_copy 31 = .ok (.goto 4, 3) := dk_167 0 4 (dk_at dksX0_copy_1 7 rfl rfl)
theorem dX0_copy_34 : decode cX0_copy 34 = .ok (.iconst 0, 1) := dk_3 (dk_at dksX0_copy_1 10 rfl rfl)
theorem dX0_copy_35 : decode cX0_copy 35 = .ok (.bipush (-2), 2) := dk_16 254 (dk_at dksX0_copy_1 11 rfl rfl)
theorem dX0_copy_37 : decode cX0_copy 37 = .ok (.invokestatic 129, 3) := dk_184 0 129 (dk_at dksX0_copy_1 13 rfl rfl)
theorem dX0_copy_40 : decode cX0_copy 40 = .ok (.aload 6, 2) := dk_25 6 (dk_at dksX0_copy_1 16 rfl rfl)
theorem dX0_copy_42 : decode cX0_copy 42 = .ok (.getfield 147, 3) := dk_180 0 147 (dk_at dksX0_copy_1 18 rfl rfl)
theorem dX0_copy_45 : decode cX0_copy 45 = .ok (.ifnull 40, 3) := dk_198 0 40 (dk_at dksX0_copy_1 21 rfl rfl)
theorem dX0_copy_48 : decode cX0_copy 48 = .ok (.aload 7, 2) := dk_25 7 (dk_at dksX0_copy_2 0 rfl rfl)
theorem dX0_copy_50 : decode cX0_copy 50 = .ok (.getfield 147, 3) := dk_180 0 147 (dk_at dksX0_copy_2 2 rfl rfl)
theorem dX0_copy_53 : decode cX0_copy 53 = .ok (.ifnull 32, 3) := dk_198 0 32 (dk_at dksX0_copy_2 5 rfl rfl)
theorem dX0_copy_56 : decode cX0_copy 56 = .ok (.aload 6, 2) := dk_25 6 (dk_at dksX0_copy_2 8 rfl rfl)
theorem dX0_copy_58 : decode cX0_copy 58 = .ok (.invokevirtual 185, 3) := dk_182 0 185 (dk_at dksX0_copy_2 10 rfl rfl)
theorem dX0_copy_61 : decode cX0_copy 61 = .ok (.invokevirtual 192, 3) := dk_182 0 192 (dk_at dksX0_copy_2 13 rfl rfl)
theorem dX0_copy_64 : decode cX0_copy 64 = .ok (.aload 7, 2) := dk_25 7 (dk_at dksX0_copy_2 16 rfl rfl)
theorem dX0_copy_66 : decode cX0_copy 66 = .ok (.invokevirtual 185, 3) := dk_182 0 185 (dk_at dksX0_copy_2 18 rfl rfl)
theorem dX0_copy_69 : decode cX0_copy 69 = .ok (.invokevirtual 192, 3) := dk_182 0 192 (dk_at dksX0_copy_2 21 rfl rfl)
theorem dX0_copy_72 : decode cX0_copy 72 = .ok (.if_icmp .ne 7, 3) := dk_160 0 7 (dk_at dksX0_copy_3 0 rfl rfl)
theorem dX0_copy_75 : decode cX0_copy 75 = .ok (.iconst 1, 1) := dk_4 (dk_at dksX0_copy_3 3 rfl rfl)
theorem dX0_copy_76 : decode cX0_copy 76 = .ok (.goto 4, 3) := dk_167 0 4 (dk_at dksX0_copy_3 4 rfl rfl)
theorem dX0_copy_79 : decode cX0_copy 79 = .ok (.iconst 0, 1) := dk_3 (dk_at dksX0_copy_3 7 rfl rfl)
theorem dX0_copy_80 : decode cX0_copy 80 = .ok (.bipush (-2), 2) := dk_16 254 (dk_at dksX0_copy_3 8 rfl rfl)
theorem dX0_copy_82 : decode cX0_copy 82 = .ok (.invokestatic 129, 3) := dk_184 0 129 (dk_at dksX0_copy_3 10 rfl rfl)
theorem dX0_copy_85 : decode cX0_copy 85 = .ok (.aload 6, 2) := dk_25 6 (dk_at dksX0_copy_3 13 rfl rfl)
theorem dX0_copy_87 : decode cX0_copy 87 = .ok (.invokevirtual 185, 3) := dk_182 0 185 (dk_at dksX0_copy_3 15 rfl rfl)
theorem dX0_copy_90 : decode cX0_copy 90 = .ok (.astore 8, 2) := dk_58 8 (dk_at dksX0_copy_3 18 rfl rfl)
theorem dX0_copy_92 : decode cX0_copy 92 = .ok (.aload 7, 2) := dk_25 7 (dk_at dksX0_copy_3 20 rfl rfl)
theorem dX0_copy_94 : decode cX0_copy 94 = .ok (.invokevirtual 185, 3) := dk_182 0 185 (dk_at dksX0_copy_4 0 rfl rfl)
theorem dX0_copy_97 : decode cX0_copy 97 = .ok (.astore 9, 2) := dk_58 9 (dk_at dksX0_copy_4 3 rfl rfl)
theorem dX0_copy_99 : decode cX0_copy 99 = .ok (.iload 5, 2) := dk_21 5 (dk_at dksX0_copy_4 5 rfl rfl)
theorem dX0_copy_101 : decode cX0_copy 101 = .ok (.ifCond .lt 7, 3) := dk_155 0 7 (dk_at dksX0_copy_4 7 rfl rfl)
theorem dX0_copy_104 : decode cX0_copy 104 = .ok (.iconst 1, 1) := dk_4 (dk_at dksX0_copy_4 10 rfl rfl)
theorem dX0_copy_105 : decode cX0_copy 105 = .ok (.goto 4, 3) := dk_167 0 4 (dk_at dksX0_copy_4 11 rfl rfl)
theorem dX0_copy_108 : decode cX0_copy 108 = .ok (.iconst 0, 1) := dk_3 (dk_at dksX0_copy_4 14 rfl rfl)
theorem dX0_copy_109 : decode cX0_copy 109 = .ok (.bipush (-4), 2) := dk_16 252 (dk_at dksX0_copy_4 15 rfl rfl)
theorem dX0_copy_111 : decode cX0_copy 111 = .ok (.invokestatic 129, 3) := dk_184 0 129 (dk_at dksX0_copy_4 17 rfl rfl)
theorem dX0_copy_114 : decode cX0_copy 114 = .ok (.aload 8, 2) := dk_25 8 (dk_at dksX0_copy_4 20 rfl rfl)
theorem dX0_copy_116 : decode cX0_copy 116 = .ok (.invokevirtual 7, 3) := dk_182 0 7 (dk_at dksX0_copy_5 0 rfl rfl)
theorem dX0_copy_119 : decode cX0_copy 119 = .ok (.iload_n 3, 1) := dk_29 (dk_at dksX0_copy_5 3 rfl rfl)
theorem dX0_copy_120 : decode cX0_copy 120 = .ok (.aload 9, 2) := dk_25 9 (dk_at dksX0_copy_5 4 rfl rfl)
theorem dX0_copy_122 : decode cX0_copy 122 = .ok (.invokevirtual 7, 3) := dk_182 0 7 (dk_at dksX0_copy_5 6 rfl rfl)
theorem dX0_copy_125 : decode cX0_copy 125 = .ok (.iload 4, 2) := dk_21 4 (dk_at dksX0_copy_5 9 rfl rfl)
theorem dX0_copy_127 : decode cX0_copy 127 = .ok (.iload 5, 2) := dk_21 5 (dk_at dksX0_copy_5 11 rfl rfl)
theorem dX0_copy_129 : decode cX0_copy 129 = .ok (.invokestatic 15, 3) := dk_184 0 15 (dk_at dksX0_copy_5 13 rfl rfl)
theorem dX0_copy_132 : decode cX0_copy 132 = .ok (.goto 15, 3) := dk_167 0 15 (dk_at dksX0_copy_5 16 rfl rfl)
theorem dX0_copy_135 : decode cX0_copy 135 = .ok (.astore 10, 2) := dk_58 10 (dk_at dksX0_copy_5 19 rfl rfl)
theorem dX0_copy_137 : decode cX0_copy 137 = .ok (.new 21, 3) := dk_187 0 21 (dk_at dksX0_copy_5 21 rfl rfl)
theorem dX0_copy_140 : decode cX0_copy 140 = .ok (.dup, 1) := dk_89 (dk_at dksX0_copy_6 0 rfl rfl)
theorem dX0_copy_141 : decode cX0_copy 141 = .ok (.bipush (-5), 2) := dk_16 251 (dk_at dksX0_copy_6 1 rfl rfl)
theorem dX0_copy_143 : decode cX0_copy 143 = .ok (.invokespecial 23, 3) := dk_183 0 23 (dk_at dksX0_copy_6 3 rfl rfl)
theorem dX0_copy_146 : decode cX0_copy 146 = .ok (.athrow, 1) := dk_191 (dk_at dksX0_copy_6 6 rfl rfl)
theorem dX0_copy_147 : decode cX0_copy 147 = .ok (.iconst 1, 1) := dk_4 (dk_at dksX0_copy_6 7 rfl rfl)
theorem dX0_copy_148 : decode cX0_copy 148 = .ok (.ireturn, 1) := dk_172 (dk_at dksX0_copy_6 8 rfl rfl)
theorem dX0_copy_149 : decode cX0_copy 149 = .ok (.astore 6, 2) := dk_58 6 (dk_at dksX0_copy_6 9 rfl rfl)
theorem dX0_copy_151 : decode cX0_copy 151 = .ok (.aload_n 0, 1) := dk_42 (dk_at dksX0_copy_6 11 rfl rfl)
theorem dX0_copy_152 : decode cX0_copy 152 = .ok (.aload 6, 2) := dk_25 6 (dk_at dksX0_copy_6 12 rfl rfl)
theorem dX0_copy_154 : decode cX0_copy 154 = .ok (.invokevirtual 181, 3) := dk_182 0 181 (dk_at dksX0_copy_6 14 rfl rfl)
theorem dX0_copy_157 : decode cX0_copy 157 = .ok (.ireturn, 1) := dk_172 (dk_at dksX0_copy_6 17 rfl rfl)
abbrev cX0_element : ByteArray := prog_1_method_17_code
def yX0_element : MethodName := ⟨RX0, "element", "(II)J"⟩
def dkwX0_element_0 : List UInt8 := [42, 27, 182, 0, 167, 182, 0, 185, 28, 182, 0, 197, 173, 78, 9, 173, 78, 9, 173]
abbrev dktX0_element_0 : List UInt8 := dkwX0_element_0 ++ []
theorem dksX0_element_0 : cX0_element.data.toList.drop 0 = dktX0_element_0 := by decide +kernel
theorem dX0_element_0 : decode cX0_element 0 = .ok (.aload_n 0, 1) := dk_42 (dk_at dksX0_element_0 0 rfl rfl)
theorem dX0_element_1 : decode cX0_element 1 = .ok (.iload_n 1, 1) := dk_27 (dk_at dksX0_element_0 1 rfl rfl)
theorem dX0_element_2 : decode cX0_element 2 = .ok (.invokevirtual 167, 3) := dk_182 0 167 (dk_at dksX0_element_0 2 rfl rfl)
theorem dX0_element_5 : decode cX0_element 5 = .ok (.invokevirtual 185, 3) := dk_182 0 185 (dk_at dksX0_element_0 5 rfl rfl)
theorem dX0_element_8 : decode cX0_element 8 = .ok (.iload_n 2, 1) := dk_28 (dk_at dksX0_element_0 8 rfl rfl)
theorem dX0_element_9 : decode cX0_element 9 = .ok (.invokevirtual 197, 3) := dk_182 0 197 (dk_at dksX0_element_0 9 rfl rfl)
theorem dX0_element_12 : decode cX0_element 12 = .ok (.lreturn, 1) := dk_173 (dk_at dksX0_element_0 12 rfl rfl)
theorem dX0_element_13 : decode cX0_element 13 = .ok (.astore_n 3, 1) := dk_78 (dk_at dksX0_element_0 13 rfl rfl)
theorem dX0_element_14 : decode cX0_element 14 = .ok (.lconst 0, 1) := dk_9 (dk_at dksX0_element_0 14 rfl rfl)
theorem dX0_element_15 : decode cX0_element 15 = .ok (.lreturn, 1) := dk_173 (dk_at dksX0_element_0 15 rfl rfl)
theorem dX0_element_16 : decode cX0_element 16 = .ok (.astore_n 3, 1) := dk_78 (dk_at dksX0_element_0 16 rfl rfl)
theorem dX0_element_17 : decode cX0_element 17 = .ok (.lconst 0, 1) := dk_9 (dk_at dksX0_element_0 17 rfl rfl)
theorem dX0_element_18 : decode cX0_element 18 = .ok (.lreturn, 1) := dk_173 (dk_at dksX0_element_0 18 rfl rfl)
abbrev cX0_show : ByteArray := prog_1_method_18_code
def yX0_show : MethodName := ⟨RX0, "show", "(II)I"⟩
def dkwX0_show_1 : List UInt8 := [181, 0, 147, 4, 172, 78, 42, 45, 182, 0, 181, 172]
abbrev dktX0_show_1 : List UInt8 := dkwX0_show_1 ++ []
def dkwX0_show_0 : List UInt8 := [42, 27, 182, 0, 167, 78, 28, 2, 160, 0, 10, 45, 1, 181, 0, 147, 3, 172, 45, 42, 28, 182, 0, 201]
abbrev dktX0_show_0 : List UInt8 := dkwX0_show_0 ++ dktX0_show_1
theorem dksX0_show_0 : cX0_show.data.toList.drop 0 = dktX0_show_0 := by decide +kernel
theorem dksX0_show_1 : cX0_show.data.toList.drop 24 = dktX0_show_1 := dk_seg dksX0_show_0 24 rfl rfl
theorem dX0_show_0 : decode cX0_show 0 = .ok (.aload_n 0, 1) := dk_42 (dk_at dksX0_show_0 0 rfl rfl)
theorem dX0_show_1 : decode cX0_show 1 = .ok (.iload_n 1, 1) := dk_27 (dk_at dksX0_show_0 1 rfl rfl)
theorem dX0_show_2 : decode cX0_show 2 = .ok (.invokevirtual 167, 3) := dk_182 0 167 (dk_at dksX0_show_0 2 rfl rfl)
theorem dX0_show_5 : decode cX0_show 5 = .ok (.astore_n 3, 1) := dk_78 (dk_at dksX0_show_0 5 rfl rfl)
theorem dX0_show_6 : decode cX0_show 6 = .ok (.iload_n 2, 1) := dk_28 (dk_at dksX0_show_0 6 rfl rfl)
theorem dX0_show_7 : decode cX0_show 7 = .ok (.iconst (-1), 1) := dk_2 (dk_at dksX0_show_0 7 rfl rfl)
theorem dX0_show_8 : decode cX0_show 8 = .ok (.if_icmp .ne 10, 3) := dk_160 0 10 (dk_at dksX0_show_0 8 rfl rfl)
theorem dX0_show_11 : decode cX0_show 11 = .ok (.aload_n 3, 1) := dk_45 (dk_at dksX0_show_0 11 rfl rfl)
theorem dX0_show_12 : decode cX0_show 12 = .ok (.aconst_null, 1) := dk_1 (dk_at dksX0_show_0 12 rfl rfl)
theorem dX0_show_13 : decode cX0_show 13 = .ok (.putfield 147, 3) := dk_181 0 147 (dk_at dksX0_show_0 13 rfl rfl)
theorem dX0_show_16 : decode cX0_show 16 = .ok (.iconst 0, 1) := dk_3 (dk_at dksX0_show_0 16 rfl rfl)
theorem dX0_show_17 : decode cX0_show 17 = .ok (.ireturn, 1) := dk_172 (dk_at dksX0_show_0 17 rfl rfl)
theorem dX0_show_18 : decode cX0_show 18 = .ok (.aload_n 3, 1) := dk_45 (dk_at dksX0_show_0 18 rfl rfl)
theorem dX0_show_19 : decode cX0_show 19 = .ok (.aload_n 0, 1) := dk_42 (dk_at dksX0_show_0 19 rfl rfl)
theorem dX0_show_20 : decode cX0_show 20 = .ok (.iload_n 2, 1) := dk_28 (dk_at dksX0_show_0 20 rfl rfl)
theorem dX0_show_21 : decode cX0_show 21 = .ok (.invokevirtual 201, 3) := dk_182 0 201 (dk_at dksX0_show_0 21 rfl rfl)
theorem dX0_show_24 : decode cX0_show 24 = .ok (.putfield 147, 3) := dk_181 0 147 (dk_at dksX0_show_1 0 rfl rfl)
theorem dX0_show_27 : decode cX0_show 27 = .ok (.iconst 1, 1) := dk_4 (dk_at dksX0_show_1 3 rfl rfl)
theorem dX0_show_28 : decode cX0_show 28 = .ok (.ireturn, 1) := dk_172 (dk_at dksX0_show_1 4 rfl rfl)
theorem dX0_show_29 : decode cX0_show 29 = .ok (.astore_n 3, 1) := dk_78 (dk_at dksX0_show_1 5 rfl rfl)
theorem dX0_show_30 : decode cX0_show 30 = .ok (.aload_n 0, 1) := dk_42 (dk_at dksX0_show_1 6 rfl rfl)
theorem dX0_show_31 : decode cX0_show 31 = .ok (.aload_n 3, 1) := dk_45 (dk_at dksX0_show_1 7 rfl rfl)
theorem dX0_show_32 : decode cX0_show 32 = .ok (.invokevirtual 181, 3) := dk_182 0 181 (dk_at dksX0_show_1 8 rfl rfl)
theorem dX0_show_35 : decode cX0_show 35 = .ok (.ireturn, 1) := dk_172 (dk_at dksX0_show_1 11 rfl rfl)
abbrev cX0_told : ByteArray := prog_1_method_11_code
def yX0_told : MethodName := ⟨RX0, "told", "(I)LLineRemarks$Remark;"⟩
def dkwX0_told_0 : List UInt8 := [42, 180, 0, 111, 27, 182, 0, 137, 2, 184, 0, 129, 42, 180, 0, 111, 180, 0, 140, 27, 50, 176]
abbrev dktX0_told_0 : List UInt8 := dkwX0_told_0 ++ []
theorem dksX0_told_0 : cX0_told.data.toList.drop 0 = dktX0_told_0 := by decide +kernel
theorem dX0_told_0 : decode cX0_told 0 = .ok (.aload_n 0, 1) := dk_42 (dk_at dksX0_told_0 0 rfl rfl)
theorem dX0_told_1 : decode cX0_told 1 = .ok (.getfield 111, 3) := dk_180 0 111 (dk_at dksX0_told_0 1 rfl rfl)
theorem dX0_told_4 : decode cX0_told 4 = .ok (.iload_n 1, 1) := dk_27 (dk_at dksX0_told_0 4 rfl rfl)
theorem dX0_told_5 : decode cX0_told 5 = .ok (.invokevirtual 137, 3) := dk_182 0 137 (dk_at dksX0_told_0 5 rfl rfl)
theorem dX0_told_8 : decode cX0_told 8 = .ok (.iconst (-1), 1) := dk_2 (dk_at dksX0_told_0 8 rfl rfl)
theorem dX0_told_9 : decode cX0_told 9 = .ok (.invokestatic 129, 3) := dk_184 0 129 (dk_at dksX0_told_0 9 rfl rfl)
theorem dX0_told_12 : decode cX0_told 12 = .ok (.aload_n 0, 1) := dk_42 (dk_at dksX0_told_0 12 rfl rfl)
theorem dX0_told_13 : decode cX0_told 13 = .ok (.getfield 111, 3) := dk_180 0 111 (dk_at dksX0_told_0 13 rfl rfl)
theorem dX0_told_16 : decode cX0_told 16 = .ok (.getfield 140, 3) := dk_180 0 140 (dk_at dksX0_told_0 16 rfl rfl)
theorem dX0_told_19 : decode cX0_told 19 = .ok (.iload_n 1, 1) := dk_27 (dk_at dksX0_told_0 19 rfl rfl)
theorem dX0_told_20 : decode cX0_told 20 = .ok (.aaload, 1) := dk_50 (dk_at dksX0_told_0 20 rfl rfl)
theorem dX0_told_21 : decode cX0_told 21 = .ok (.areturn, 1) := dk_176 (dk_at dksX0_told_0 21 rfl rfl)
abbrev cX0_holds : ByteArray := prog_1_method_19_code
def yX0_holds : MethodName := ⟨RX0, "holds", "(I)I"⟩
def dkwX0_holds_2 : List UInt8 := [167, 0, 13, 16, 100, 44, 192, 0, 2, 182, 0, 192, 96, 172]
abbrev dktX0_holds_2 : List UInt8 := dkwX0_holds_2 ++ []
def dkwX0_holds_1 : List UInt8 := [42, 180, 0, 79, 27, 50, 180, 0, 147, 77, 44, 193, 0, 67, 153, 0, 13, 44, 192, 0, 67, 180, 0, 150]
abbrev dktX0_holds_1 : List UInt8 := dkwX0_holds_1 ++ dktX0_holds_2
def dkwX0_holds_0 : List UInt8 := [27, 155, 0, 21, 27, 16, 8, 162, 0, 15, 42, 180, 0, 79, 27, 50, 180, 0, 147, 199, 0, 5, 2, 172]
abbrev dktX0_holds_0 : List UInt8 := dkwX0_holds_0 ++ dktX0_holds_1
theorem dksX0_holds_0 : cX0_holds.data.toList.drop 0 = dktX0_holds_0 := by decide +kernel
theorem dksX0_holds_1 : cX0_holds.data.toList.drop 24 = dktX0_holds_1 := dk_seg dksX0_holds_0 24 rfl rfl
theorem dksX0_holds_2 : cX0_holds.data.toList.drop 48 = dktX0_holds_2 := dk_seg dksX0_holds_1 24 rfl rfl
theorem dX0_holds_0 : decode cX0_holds 0 = .ok (.iload_n 1, 1) := dk_27 (dk_at dksX0_holds_0 0 rfl rfl)
theorem dX0_holds_1 : decode cX0_holds 1 = .ok (.ifCond .lt 21, 3) := dk_155 0 21 (dk_at dksX0_holds_0 1 rfl rfl)
theorem dX0_holds_4 : decode cX0_holds 4 = .ok (.iload_n 1, 1) := dk_27 (dk_at dksX0_holds_0 4 rfl rfl)
theorem dX0_holds_5 : decode cX0_holds 5 = .ok (.bipush 8, 2) := dk_16 8 (dk_at dksX0_holds_0 5 rfl rfl)
theorem dX0_holds_7 : decode cX0_holds 7 = .ok (.if_icmp .ge 15, 3) := dk_162 0 15 (dk_at dksX0_holds_0 7 rfl rfl)
theorem dX0_holds_10 : decode cX0_holds 10 = .ok (.aload_n 0, 1) := dk_42 (dk_at dksX0_holds_0 10 rfl rfl)
theorem dX0_holds_11 : decode cX0_holds 11 = .ok (.getfield 79, 3) := dk_180 0 79 (dk_at dksX0_holds_0 11 rfl rfl)
theorem dX0_holds_14 : decode cX0_holds 14 = .ok (.iload_n 1, 1) := dk_27 (dk_at dksX0_holds_0 14 rfl rfl)
theorem dX0_holds_15 : decode cX0_holds 15 = .ok (.aaload, 1) := dk_50 (dk_at dksX0_holds_0 15 rfl rfl)
theorem dX0_holds_16 : decode cX0_holds 16 = .ok (.getfield 147, 3) := dk_180 0 147 (dk_at dksX0_holds_0 16 rfl rfl)
theorem dX0_holds_19 : decode cX0_holds 19 = .ok (.ifnonnull 5, 3) := dk_199 0 5 (dk_at dksX0_holds_0 19 rfl rfl)
theorem dX0_holds_22 : decode cX0_holds 22 = .ok (.iconst (-1), 1) := dk_2 (dk_at dksX0_holds_0 22 rfl rfl)
theorem dX0_holds_23 : decode cX0_holds 23 = .ok (.ireturn, 1) := dk_172 (dk_at dksX0_holds_0 23 rfl rfl)
theorem dX0_holds_24 : decode cX0_holds 24 = .ok (.aload_n 0, 1) := dk_42 (dk_at dksX0_holds_1 0 rfl rfl)
theorem dX0_holds_25 : decode cX0_holds 25 = .ok (.getfield 79, 3) := dk_180 0 79 (dk_at dksX0_holds_1 1 rfl rfl)
theorem dX0_holds_28 : decode cX0_holds 28 = .ok (.iload_n 1, 1) := dk_27 (dk_at dksX0_holds_1 4 rfl rfl)
theorem dX0_holds_29 : decode cX0_holds 29 = .ok (.aaload, 1) := dk_50 (dk_at dksX0_holds_1 5 rfl rfl)
theorem dX0_holds_30 : decode cX0_holds 30 = .ok (.getfield 147, 3) := dk_180 0 147 (dk_at dksX0_holds_1 6 rfl rfl)
theorem dX0_holds_33 : decode cX0_holds 33 = .ok (.astore_n 2, 1) := dk_77 (dk_at dksX0_holds_1 9 rfl rfl)
theorem dX0_holds_34 : decode cX0_holds 34 = .ok (.aload_n 2, 1) := dk_44 (dk_at dksX0_holds_1 10 rfl rfl)
theorem dX0_holds_35 : decode cX0_holds 35 = .ok (.instanceof 67, 3) := dk_193 0 67 (dk_at dksX0_holds_1 11 rfl rfl)
theorem dX0_holds_38 : decode cX0_holds 38 = .ok (.ifCond .eq 13, 3) := dk_153 0 13 (dk_at dksX0_holds_1 14 rfl rfl)
theorem dX0_holds_41 : decode cX0_holds 41 = .ok (.aload_n 2, 1) := dk_44 (dk_at dksX0_holds_1 17 rfl rfl)
theorem dX0_holds_42 : decode cX0_holds 42 = .ok (.checkcast 67, 3) := dk_192 0 67 (dk_at dksX0_holds_1 18 rfl rfl)
theorem dX0_holds_45 : decode cX0_holds 45 = .ok (.getfield 150, 3) := dk_180 0 150 (dk_at dksX0_holds_1 21 rfl rfl)
theorem dX0_holds_48 : decode cX0_holds 48 = .ok (.goto 13, 3) := dk_167 0 13 (dk_at dksX0_holds_2 0 rfl rfl)
theorem dX0_holds_51 : decode cX0_holds 51 = .ok (.bipush 100, 2) := dk_16 100 (dk_at dksX0_holds_2 3 rfl rfl)
theorem dX0_holds_53 : decode cX0_holds 53 = .ok (.aload_n 2, 1) := dk_44 (dk_at dksX0_holds_2 5 rfl rfl)
theorem dX0_holds_54 : decode cX0_holds 54 = .ok (.checkcast 2, 3) := dk_192 0 2 (dk_at dksX0_holds_2 6 rfl rfl)
theorem dX0_holds_57 : decode cX0_holds 57 = .ok (.invokevirtual 192, 3) := dk_182 0 192 (dk_at dksX0_holds_2 9 rfl rfl)
theorem dX0_holds_60 : decode cX0_holds 60 = .ok (.iadd, 1) := dk_96 (dk_at dksX0_holds_2 12 rfl rfl)
theorem dX0_holds_61 : decode cX0_holds 61 = .ok (.ireturn, 1) := dk_172 (dk_at dksX0_holds_2 13 rfl rfl)
abbrev cX0_says : ByteArray := prog_1_method_20_code
def yX0_says : MethodName := ⟨RX0, "says", "(II)I"⟩
def dkwX0_says_1 : List UInt8 := [172, 78, 42, 45, 182, 0, 181, 172]
abbrev dktX0_says_1 : List UInt8 := dkwX0_says_1 ++ []
def dkwX0_says_0 : List UInt8 := [42, 27, 182, 0, 167, 78, 28, 133, 9, 20, 0, 205, 184, 0, 173, 2, 184, 0, 129, 45, 28, 182, 0, 207]
abbrev dktX0_says_0 : List UInt8 := dkwX0_says_0 ++ dktX0_says_1
theorem dksX0_says_0 : cX0_says.data.toList.drop 0 = dktX0_says_0 := by decide +kernel
theorem dksX0_says_1 : cX0_says.data.toList.drop 24 = dktX0_says_1 := dk_seg dksX0_says_0 24 rfl rfl
theorem dX0_says_0 : decode cX0_says 0 = .ok (.aload_n 0, 1) := dk_42 (dk_at dksX0_says_0 0 rfl rfl)
theorem dX0_says_1 : decode cX0_says 1 = .ok (.iload_n 1, 1) := dk_27 (dk_at dksX0_says_0 1 rfl rfl)
theorem dX0_says_2 : decode cX0_says 2 = .ok (.invokevirtual 167, 3) := dk_182 0 167 (dk_at dksX0_says_0 2 rfl rfl)
theorem dX0_says_5 : decode cX0_says 5 = .ok (.astore_n 3, 1) := dk_78 (dk_at dksX0_says_0 5 rfl rfl)
theorem dX0_says_6 : decode cX0_says 6 = .ok (.iload_n 2, 1) := dk_28 (dk_at dksX0_says_0 6 rfl rfl)
theorem dX0_says_7 : decode cX0_says 7 = .ok (.i2l, 1) := dk_133 (dk_at dksX0_says_0 7 rfl rfl)
theorem dX0_says_8 : decode cX0_says 8 = .ok (.lconst 0, 1) := dk_9 (dk_at dksX0_says_0 8 rfl rfl)
theorem dX0_says_9 : decode cX0_says 9 = .ok (.ldc2_w 205, 3) := dk_20 0 205 (dk_at dksX0_says_0 9 rfl rfl)
theorem dX0_says_12 : decode cX0_says 12 = .ok (.invokestatic 173, 3) := dk_184 0 173 (dk_at dksX0_says_0 12 rfl rfl)
theorem dX0_says_15 : decode cX0_says 15 = .ok (.iconst (-1), 1) := dk_2 (dk_at dksX0_says_0 15 rfl rfl)
theorem dX0_says_16 : decode cX0_says 16 = .ok (.invokestatic 129, 3) := dk_184 0 129 (dk_at dksX0_says_0 16 rfl rfl)
theorem dX0_says_19 : decode cX0_says 19 = .ok (.aload_n 3, 1) := dk_45 (dk_at dksX0_says_0 19 rfl rfl)
theorem dX0_says_20 : decode cX0_says 20 = .ok (.iload_n 2, 1) := dk_28 (dk_at dksX0_says_0 20 rfl rfl)
theorem dX0_says_21 : decode cX0_says 21 = .ok (.invokevirtual 207, 3) := dk_182 0 207 (dk_at dksX0_says_0 21 rfl rfl)
theorem dX0_says_24 : decode cX0_says 24 = .ok (.ireturn, 1) := dk_172 (dk_at dksX0_says_1 0 rfl rfl)
theorem dX0_says_25 : decode cX0_says 25 = .ok (.astore_n 3, 1) := dk_78 (dk_at dksX0_says_1 1 rfl rfl)
theorem dX0_says_26 : decode cX0_says 26 = .ok (.aload_n 0, 1) := dk_42 (dk_at dksX0_says_1 2 rfl rfl)
theorem dX0_says_27 : decode cX0_says 27 = .ok (.aload_n 3, 1) := dk_45 (dk_at dksX0_says_1 3 rfl rfl)
theorem dX0_says_28 : decode cX0_says 28 = .ok (.invokevirtual 181, 3) := dk_182 0 181 (dk_at dksX0_says_1 4 rfl rfl)
theorem dX0_says_31 : decode cX0_says 31 = .ok (.ireturn, 1) := dk_172 (dk_at dksX0_says_1 7 rfl rfl)
abbrev cX0_revise : ByteArray := prog_1_method_21_code
def yX0_revise : MethodName := ⟨RX0, "revise", "(II)I"⟩
def dkwX0_revise_4 : List UInt8 := [180, 0, 111, 25, 4, 25, 6, 182, 0, 232, 172, 78, 42, 45, 182, 0, 181, 172]
abbrev dktX0_revise_4 : List UInt8 := dkwX0_revise_4 ++ []
def dkwX0_revise_3 : List UInt8 := [42, 180, 0, 111, 180, 0, 229, 16, 16, 162, 0, 7, 4, 167, 0, 4, 3, 16, 249, 184, 0, 129, 42]
abbrev dktX0_revise_3 : List UInt8 := dkwX0_revise_3 ++ dktX0_revise_4
def dkwX0_revise_2 : List UInt8 := [167, 0, 24, 58, 7, 42, 25, 7, 180, 0, 226, 181, 0, 115, 187, 0, 21, 89, 16, 250, 183, 0, 23, 191]
abbrev dktX0_revise_2 : List UInt8 := dkwX0_revise_2 ++ dktX0_revise_3
def dkwX0_revise_1 : List UInt8 := [182, 0, 185, 58, 5, 42, 2, 181, 0, 115, 187, 0, 215, 89, 25, 5, 183, 0, 217, 182, 0, 220, 58, 6]
abbrev dktX0_revise_1 : List UInt8 := dkwX0_revise_1 ++ dktX0_revise_2
def dkwX0_revise_0 : List UInt8 := [42, 27, 182, 0, 167, 78, 28, 2, 160, 0, 7, 1, 167, 0, 8, 42, 28, 182, 0, 211, 58, 4, 45]
abbrev dktX0_revise_0 : List UInt8 := dkwX0_revise_0 ++ dktX0_revise_1
theorem dksX0_revise_0 : cX0_revise.data.toList.drop 0 = dktX0_revise_0 := by decide +kernel
theorem dksX0_revise_1 : cX0_revise.data.toList.drop 23 = dktX0_revise_1 := dk_seg dksX0_revise_0 23 rfl rfl
theorem dksX0_revise_2 : cX0_revise.data.toList.drop 47 = dktX0_revise_2 := dk_seg dksX0_revise_1 24 rfl rfl
theorem dksX0_revise_3 : cX0_revise.data.toList.drop 71 = dktX0_revise_3 := dk_seg dksX0_revise_2 24 rfl rfl
theorem dksX0_revise_4 : cX0_revise.data.toList.drop 94 = dktX0_revise_4 := dk_seg dksX0_revise_3 23 rfl rfl
theorem dX0_revise_0 : decode cX0_revise 0 = .ok (.aload_n 0, 1) := dk_42 (dk_at dksX0_revise_0 0 rfl rfl)
theorem dX0_revise_1 : decode cX0_revise 1 = .ok (.iload_n 1, 1) := dk_27 (dk_at dksX0_revise_0 1 rfl rfl)
theorem dX0_revise_2 : decode cX0_revise 2 = .ok (.invokevirtual 167, 3) := dk_182 0 167 (dk_at dksX0_revise_0 2 rfl rfl)
theorem dX0_revise_5 : decode cX0_revise 5 = .ok (.astore_n 3, 1) := dk_78 (dk_at dksX0_revise_0 5 rfl rfl)
theorem dX0_revise_6 : decode cX0_revise 6 = .ok (.iload_n 2, 1) := dk_28 (dk_at dksX0_revise_0 6 rfl rfl)
theorem dX0_revise_7 : decode cX0_revise 7 = .ok (.iconst (-1), 1) := dk_2 (dk_at dksX0_revise_0 7 rfl rfl)
theorem dX0_revise_8 : decode cX0_revise 8 = .ok (.if_icmp .ne 7, 3) := dk_160 0 7 (dk_at dksX0_revise_0 8 rfl rfl)
theorem dX0_revise_11 : decode cX0_revise 11 = .ok (.aconst_null, 1) := dk_1 (dk_at dksX0_revise_0 11 rfl rfl)
theorem dX0_revise_12 : decode cX0_revise 12 = .ok (.goto 8, 3) := dk_167 0 8 (dk_at dksX0_revise_0 12 rfl rfl)
theorem dX0_revise_15 : decode cX0_revise 15 = .ok (.aload_n 0, 1) := dk_42 (dk_at dksX0_revise_0 15 rfl rfl)
theorem dX0_revise_16 : decode cX0_revise 16 = .ok (.iload_n 2, 1) := dk_28 (dk_at dksX0_revise_0 16 rfl rfl)
theorem dX0_revise_17 : decode cX0_revise 17 = .ok (.invokevirtual 211, 3) := dk_182 0 211 (dk_at dksX0_revise_0 17 rfl rfl)
theorem dX0_revise_20 : decode cX0_revise 20 = .ok (.astore 4, 2) := dk_58 4 (dk_at dksX0_revise_0 20 rfl rfl)
theorem dX0_revise_22 : decode cX0_revise 22 = .ok (.aload_n 3, 1) := dk_45 (dk_at dksX0_revise_0 22 rfl rfl)
theorem dX0_revise_23 : decode cX0_revise 23 = .ok (.invokevirtual 185, 3) := dk_182 0 185 (dk_at dksX0_revise_1 0 rfl rfl)
theorem dX0_revise_26 : decode cX0_revise 26 = .ok (.astore 5, 2) := dk_58 5 (dk_at dksX0_revise_1 3 rfl rfl)
theorem dX0_revise_28 : decode cX0_revise 28 = .ok (.aload_n 0, 1) := dk_42 (dk_at dksX0_revise_1 5 rfl rfl)
theorem dX0_revise_29 : decode cX0_revise 29 = .ok (.iconst (-1), 1) := dk_2 (dk_at dksX0_revise_1 6 rfl rfl)
theorem dX0_revise_30 : decode cX0_revise 30 = .ok (.putfield 115, 3) := dk_181 0 115 (dk_at dksX0_revise_1 7 rfl rfl)
theorem dX0_revise_33 : decode cX0_revise 33 = .ok (.new 215, 3) := dk_187 0 215 (dk_at dksX0_revise_1 10 rfl rfl)
theorem dX0_revise_36 : decode cX0_revise 36 = .ok (.dup, 1) := dk_89 (dk_at dksX0_revise_1 13 rfl rfl)
theorem dX0_revise_37 : decode cX0_revise 37 = .ok (.aload 5, 2) := dk_25 5 (dk_at dksX0_revise_1 14 rfl rfl)
theorem dX0_revise_39 : decode cX0_revise 39 = .ok (.invokespecial 217, 3) := dk_183 0 217 (dk_at dksX0_revise_1 16 rfl rfl)
theorem dX0_revise_42 : decode cX0_revise 42 = .ok (.invokevirtual 220, 3) := dk_182 0 220 (dk_at dksX0_revise_1 19 rfl rfl)
theorem dX0_revise_45 : decode cX0_revise 45 = .ok (.astore 6, 2) := dk_58 6 (dk_at dksX0_revise_1 22 rfl rfl)
theorem dX0_revise_47 : decode cX0_revise 47 = .ok (.goto 24, 3) := dk_167 0 24 (dk_at dksX0_revise_2 0 rfl rfl)
theorem dX0_revise_50 : decode cX0_revise 50 = .ok (.astore 7, 2) := dk_58 7 (dk_at dksX0_revise_2 3 rfl rfl)
theorem dX0_revise_52 : decode cX0_revise 52 = .ok (.aload_n 0, 1) := dk_42 (dk_at dksX0_revise_2 5 rfl rfl)
theorem dX0_revise_53 : decode cX0_revise 53 = .ok (.aload 7, 2) := dk_25 7 (dk_at dksX0_revise_2 6 rfl rfl)
theorem dX0_revise_55 : decode cX0_revise 55 = .ok (.getfield 226, 3) := dk_180 0 226 (dk_at dksX0_revise_2 8 rfl rfl)
theorem dX0_revise_58 : decode cX0_revise 58 = .ok (.putfield 115, 3) := dk_181 0 115 (dk_at dksX0_revise_2 11 rfl rfl)
theorem dX0_revise_61 : decode cX0_revise 61 = .ok (.new 21, 3) := dk_187 0 21 (dk_at dksX0_revise_2 14 rfl rfl)
theorem dX0_revise_64 : decode cX0_revise 64 = .ok (.dup, 1) := dk_89 (dk_at dksX0_revise_2 17 rfl rfl)
theorem dX0_revise_65 : decode cX0_revise 65 = .ok (.bipush (-6), 2) := dk_16 250 (dk_at dksX0_revise_2 18 rfl rfl)
theorem dX0_revise_67 : decode cX0_revise 67 = .ok (.invokespecial 23, 3) := dk_183 0 23 (dk_at dksX0_revise_2 20 rfl rfl)
theorem dX0_revise_70 : decode cX0_revise 70 = .ok (.athrow, 1) := dk_191 (dk_at dksX0_revise_2 23 rfl rfl)
theorem dX0_revise_71 : decode cX0_revise 71 = .ok (.aload_n 0, 1) := dk_42 (dk_at dksX0_revise_3 0 rfl rfl)
theorem dX0_revise_72 : decode cX0_revise 72 = .ok (.getfield 111, 3) := dk_180 0 111 (dk_at dksX0_revise_3 1 rfl rfl)
theorem dX0_revise_75 : decode cX0_revise 75 = .ok (.getfield 229, 3) := dk_180 0 229 (dk_at dksX0_revise_3 4 rfl rfl)
theorem dX0_revise_78 : decode cX0_revise 78 = .ok (.bipush 16, 2) := dk_16 16 (dk_at dksX0_revise_3 7 rfl rfl)
theorem dX0_revise_80 : decode cX0_revise 80 = .ok (.if_icmp .ge 7, 3) := dk_162 0 7 (dk_at dksX0_revise_3 9 rfl rfl)
theorem dX0_revise_83 : decode cX0_revise 83 = .ok (.iconst 1, 1) := dk_4 (dk_at dksX0_revise_3 12 rfl rfl)
theorem dX0_revise_84 : decode cX0_revise 84 = .ok (.goto 4, 3) := dk_167 0 4 (dk_at dksX0_revise_3 13 rfl rfl)
theorem dX0_revise_87 : decode cX0_revise 87 = .ok (.iconst 0, 1) := dk_3 (dk_at dksX0_revise_3 16 rfl rfl)
theorem dX0_revise_88 : decode cX0_revise 88 = .ok (.bipush (-7), 2) := dk_16 249 (dk_at dksX0_revise_3 17 rfl rfl)
theorem dX0_revise_90 : decode cX0_revise 90 = .ok (.invokestatic 129, 3) := dk_184 0 129 (dk_at dksX0_revise_3 19 rfl rfl)
theorem dX0_revise_93 : decode cX0_revise 93 = .ok (.aload_n 0, 1) := dk_42 (dk_at dksX0_revise_3 22 rfl rfl)
theorem dX0_revise_94 : decode cX0_revise 94 = .ok (.getfield 111, 3) := dk_180 0 111 (dk_at dksX0_revise_4 0 rfl rfl)
theorem dX0_revise_97 : decode cX0_revise 97 = .ok (.aload 4, 2) := dk_25 4 (dk_at dksX0_revise_4 3 rfl rfl)
theorem dX0_revise_99 : decode cX0_revise 99 = .ok (.aload 6, 2) := dk_25 6 (dk_at dksX0_revise_4 5 rfl rfl)
theorem dX0_revise_101 : decode cX0_revise 101 = .ok (.invokevirtual 232, 3) := dk_182 0 232 (dk_at dksX0_revise_4 7 rfl rfl)
theorem dX0_revise_104 : decode cX0_revise 104 = .ok (.ireturn, 1) := dk_172 (dk_at dksX0_revise_4 10 rfl rfl)
theorem dX0_revise_105 : decode cX0_revise 105 = .ok (.astore_n 3, 1) := dk_78 (dk_at dksX0_revise_4 11 rfl rfl)
theorem dX0_revise_106 : decode cX0_revise 106 = .ok (.aload_n 0, 1) := dk_42 (dk_at dksX0_revise_4 12 rfl rfl)
theorem dX0_revise_107 : decode cX0_revise 107 = .ok (.aload_n 3, 1) := dk_45 (dk_at dksX0_revise_4 13 rfl rfl)
theorem dX0_revise_108 : decode cX0_revise 108 = .ok (.invokevirtual 181, 3) := dk_182 0 181 (dk_at dksX0_revise_4 14 rfl rfl)
theorem dX0_revise_111 : decode cX0_revise 111 = .ok (.ireturn, 1) := dk_172 (dk_at dksX0_revise_4 17 rfl rfl)
abbrev cX0_revision : ByteArray := prog_1_method_10_code
def yX0_revision : MethodName := ⟨RX0, "revision", "(I)LLineRemarks$Revision;"⟩
def dkwX0_revision_0 : List UInt8 := [42, 180, 0, 111, 27, 182, 0, 125, 2, 184, 0, 129, 42, 180, 0, 111, 180, 0, 133, 27, 50, 176]
abbrev dktX0_revision_0 : List UInt8 := dkwX0_revision_0 ++ []
theorem dksX0_revision_0 : cX0_revision.data.toList.drop 0 = dktX0_revision_0 := by decide +kernel
theorem dX0_revision_0 : decode cX0_revision 0 = .ok (.aload_n 0, 1) := dk_42 (dk_at dksX0_revision_0 0 rfl rfl)
theorem dX0_revision_1 : decode cX0_revision 1 = .ok (.getfield 111, 3) := dk_180 0 111 (dk_at dksX0_revision_0 1 rfl rfl)
theorem dX0_revision_4 : decode cX0_revision 4 = .ok (.iload_n 1, 1) := dk_27 (dk_at dksX0_revision_0 4 rfl rfl)
theorem dX0_revision_5 : decode cX0_revision 5 = .ok (.invokevirtual 125, 3) := dk_182 0 125 (dk_at dksX0_revision_0 5 rfl rfl)
theorem dX0_revision_8 : decode cX0_revision 8 = .ok (.iconst (-1), 1) := dk_2 (dk_at dksX0_revision_0 8 rfl rfl)
theorem dX0_revision_9 : decode cX0_revision 9 = .ok (.invokestatic 129, 3) := dk_184 0 129 (dk_at dksX0_revision_0 9 rfl rfl)
theorem dX0_revision_12 : decode cX0_revision 12 = .ok (.aload_n 0, 1) := dk_42 (dk_at dksX0_revision_0 12 rfl rfl)
theorem dX0_revision_13 : decode cX0_revision 13 = .ok (.getfield 111, 3) := dk_180 0 111 (dk_at dksX0_revision_0 13 rfl rfl)
theorem dX0_revision_16 : decode cX0_revision 16 = .ok (.getfield 133, 3) := dk_180 0 133 (dk_at dksX0_revision_0 16 rfl rfl)
theorem dX0_revision_19 : decode cX0_revision 19 = .ok (.iload_n 1, 1) := dk_27 (dk_at dksX0_revision_0 19 rfl rfl)
theorem dX0_revision_20 : decode cX0_revision 20 = .ok (.aaload, 1) := dk_50 (dk_at dksX0_revision_0 20 rfl rfl)
theorem dX0_revision_21 : decode cX0_revision 21 = .ok (.areturn, 1) := dk_176 (dk_at dksX0_revision_0 21 rfl rfl)
abbrev cX0_rowOf : ByteArray := prog_1_method_4_code
def yX0_rowOf : MethodName := ⟨RX0, "rowOf", "(Ljava/util/List;)[LLineRemarks$Line;"⟩
def dkwX0_rowOf_2 : List UInt8 := [167, 255, 232, 43, 176]
abbrev dktX0_rowOf_2 : List UInt8 := dkwX0_rowOf_2 ++ []
def dkwX0_rowOf_1 : List UInt8 := [185, 0, 38, 1, 0, 153, 0, 21, 43, 28, 45, 185, 0, 44, 1, 0, 192, 0, 32, 83, 132, 2, 1]
abbrev dktX0_rowOf_1 : List UInt8 := dkwX0_rowOf_1 ++ dktX0_rowOf_2
def dkwX0_rowOf_0 : List UInt8 := [42, 185, 0, 27, 1, 0, 189, 0, 32, 76, 3, 61, 42, 185, 0, 34, 1, 0, 78, 45]
abbrev dktX0_rowOf_0 : List UInt8 := dkwX0_rowOf_0 ++ dktX0_rowOf_1
theorem dksX0_rowOf_0 : cX0_rowOf.data.toList.drop 0 = dktX0_rowOf_0 := by decide +kernel
theorem dksX0_rowOf_1 : cX0_rowOf.data.toList.drop 20 = dktX0_rowOf_1 := dk_seg dksX0_rowOf_0 20 rfl rfl
theorem dksX0_rowOf_2 : cX0_rowOf.data.toList.drop 43 = dktX0_rowOf_2 := dk_seg dksX0_rowOf_1 23 rfl rfl
theorem dX0_rowOf_0 : decode cX0_rowOf 0 = .ok (.aload_n 0, 1) := dk_42 (dk_at dksX0_rowOf_0 0 rfl rfl)
theorem dX0_rowOf_1 : decode cX0_rowOf 1 = .ok (.invokeinterface 27 1, 5) := by decide +kernel
theorem dX0_rowOf_6 : decode cX0_rowOf 6 = .ok (.anewarray 32, 3) := dk_189 0 32 (dk_at dksX0_rowOf_0 6 rfl rfl)
theorem dX0_rowOf_9 : decode cX0_rowOf 9 = .ok (.astore_n 1, 1) := dk_76 (dk_at dksX0_rowOf_0 9 rfl rfl)
theorem dX0_rowOf_10 : decode cX0_rowOf 10 = .ok (.iconst 0, 1) := dk_3 (dk_at dksX0_rowOf_0 10 rfl rfl)
theorem dX0_rowOf_11 : decode cX0_rowOf 11 = .ok (.istore_n 2, 1) := dk_61 (dk_at dksX0_rowOf_0 11 rfl rfl)
theorem dX0_rowOf_12 : decode cX0_rowOf 12 = .ok (.aload_n 0, 1) := dk_42 (dk_at dksX0_rowOf_0 12 rfl rfl)
theorem dX0_rowOf_13 : decode cX0_rowOf 13 = .ok (.invokeinterface 34 1, 5) := by decide +kernel
theorem dX0_rowOf_18 : decode cX0_rowOf 18 = .ok (.astore_n 3, 1) := dk_78 (dk_at dksX0_rowOf_0 18 rfl rfl)
theorem dX0_rowOf_19 : decode cX0_rowOf 19 = .ok (.aload_n 3, 1) := dk_45 (dk_at dksX0_rowOf_0 19 rfl rfl)
theorem dX0_rowOf_20 : decode cX0_rowOf 20 = .ok (.invokeinterface 38 1, 5) := by decide +kernel
theorem dX0_rowOf_25 : decode cX0_rowOf 25 = .ok (.ifCond .eq 21, 3) := dk_153 0 21 (dk_at dksX0_rowOf_1 5 rfl rfl)
theorem dX0_rowOf_28 : decode cX0_rowOf 28 = .ok (.aload_n 1, 1) := dk_43 (dk_at dksX0_rowOf_1 8 rfl rfl)
theorem dX0_rowOf_29 : decode cX0_rowOf 29 = .ok (.iload_n 2, 1) := dk_28 (dk_at dksX0_rowOf_1 9 rfl rfl)
theorem dX0_rowOf_30 : decode cX0_rowOf 30 = .ok (.aload_n 3, 1) := dk_45 (dk_at dksX0_rowOf_1 10 rfl rfl)
theorem dX0_rowOf_31 : decode cX0_rowOf 31 = .ok (.invokeinterface 44 1, 5) := by decide +kernel
theorem dX0_rowOf_36 : decode cX0_rowOf 36 = .ok (.checkcast 32, 3) := dk_192 0 32 (dk_at dksX0_rowOf_1 16 rfl rfl)
theorem dX0_rowOf_39 : decode cX0_rowOf 39 = .ok (.aastore, 1) := dk_83 (dk_at dksX0_rowOf_1 19 rfl rfl)
theorem dX0_rowOf_40 : decode cX0_rowOf 40 = .ok (.iinc 2 1, 3) := dk_132 2 1 (dk_at dksX0_rowOf_1 20 rfl rfl)
theorem dX0_rowOf_43 : decode cX0_rowOf 43 = .ok (.goto (-24), 3) := dk_167 255 232 (dk_at dksX0_rowOf_2 0 rfl rfl)
theorem dX0_rowOf_46 : decode cX0_rowOf 46 = .ok (.aload_n 1, 1) := dk_43 (dk_at dksX0_rowOf_2 3 rfl rfl)
theorem dX0_rowOf_47 : decode cX0_rowOf 47 = .ok (.areturn, 1) := dk_176 (dk_at dksX0_rowOf_2 4 rfl rfl)
abbrev cX0_fault : ByteArray := prog_1_method_22_code
def yX0_fault : MethodName := ⟨RX0, "fault", "()I"⟩
theorem dX0_fault_0 : decode cX0_fault 0 = .ok (.aload_n 0, 1) := by decide +kernel
theorem dX0_fault_1 : decode cX0_fault 1 = .ok (.getfield 115, 3) := by decide +kernel
theorem dX0_fault_4 : decode cX0_fault 4 = .ok (.ireturn, 1) := by decide +kernel
abbrev cX0_lines : ByteArray := prog_1_method_23_code
def yX0_lines : MethodName := ⟨RX0, "lines", "(I)I"⟩
def dkwX0_lines_0 : List UInt8 := [42, 27, 182, 0, 211, 180, 0, 236, 190, 172, 77, 42, 44, 182, 0, 181, 172]
abbrev dktX0_lines_0 : List UInt8 := dkwX0_lines_0 ++ []
theorem dksX0_lines_0 : cX0_lines.data.toList.drop 0 = dktX0_lines_0 := by decide +kernel
theorem dX0_lines_0 : decode cX0_lines 0 = .ok (.aload_n 0, 1) := dk_42 (dk_at dksX0_lines_0 0 rfl rfl)
theorem dX0_lines_1 : decode cX0_lines 1 = .ok (.iload_n 1, 1) := dk_27 (dk_at dksX0_lines_0 1 rfl rfl)
theorem dX0_lines_2 : decode cX0_lines 2 = .ok (.invokevirtual 211, 3) := dk_182 0 211 (dk_at dksX0_lines_0 2 rfl rfl)
theorem dX0_lines_5 : decode cX0_lines 5 = .ok (.getfield 236, 3) := dk_180 0 236 (dk_at dksX0_lines_0 5 rfl rfl)
theorem dX0_lines_8 : decode cX0_lines 8 = .ok (.arraylength, 1) := dk_190 (dk_at dksX0_lines_0 8 rfl rfl)
theorem dX0_lines_9 : decode cX0_lines 9 = .ok (.ireturn, 1) := dk_172 (dk_at dksX0_lines_0 9 rfl rfl)
theorem dX0_lines_10 : decode cX0_lines 10 = .ok (.astore_n 2, 1) := dk_77 (dk_at dksX0_lines_0 10 rfl rfl)
theorem dX0_lines_11 : decode cX0_lines 11 = .ok (.aload_n 0, 1) := dk_42 (dk_at dksX0_lines_0 11 rfl rfl)
theorem dX0_lines_12 : decode cX0_lines 12 = .ok (.aload_n 2, 1) := dk_44 (dk_at dksX0_lines_0 12 rfl rfl)
theorem dX0_lines_13 : decode cX0_lines 13 = .ok (.invokevirtual 181, 3) := dk_182 0 181 (dk_at dksX0_lines_0 13 rfl rfl)
theorem dX0_lines_16 : decode cX0_lines 16 = .ok (.ireturn, 1) := dk_172 (dk_at dksX0_lines_0 16 rfl rfl)
abbrev cX0_letter : ByteArray := prog_1_method_25_code
def yX0_letter : MethodName := ⟨RX0, "letter", "(III)I"⟩
def dkwX0_letter_1 : List UInt8 := [184, 0, 129, 25, 4, 28, 182, 0, 242, 29, 182, 0, 252, 172, 58, 4, 42, 25, 4, 182, 0, 181, 172]
abbrev dktX0_letter_1 : List UInt8 := dkwX0_letter_1 ++ []
def dkwX0_letter_0 : List UInt8 := [42, 27, 182, 0, 211, 58, 4, 25, 4, 28, 184, 0, 246, 29, 133, 9, 20, 0, 250, 184, 0, 173, 16, 251]
abbrev dktX0_letter_0 : List UInt8 := dkwX0_letter_0 ++ dktX0_letter_1
theorem dksX0_letter_0 : cX0_letter.data.toList.drop 0 = dktX0_letter_0 := by decide +kernel
theorem dksX0_letter_1 : cX0_letter.data.toList.drop 24 = dktX0_letter_1 := dk_seg dksX0_letter_0 24 rfl rfl
theorem dX0_letter_0 : decode cX0_letter 0 = .ok (.aload_n 0, 1) := dk_42 (dk_at dksX0_letter_0 0 rfl rfl)
theorem dX0_letter_1 : decode cX0_letter 1 = .ok (.iload_n 1, 1) := dk_27 (dk_at dksX0_letter_0 1 rfl rfl)
theorem dX0_letter_2 : decode cX0_letter 2 = .ok (.invokevirtual 211, 3) := dk_182 0 211 (dk_at dksX0_letter_0 2 rfl rfl)
theorem dX0_letter_5 : decode cX0_letter 5 = .ok (.astore 4, 2) := dk_58 4 (dk_at dksX0_letter_0 5 rfl rfl)
theorem dX0_letter_7 : decode cX0_letter 7 = .ok (.aload 4, 2) := dk_25 4 (dk_at dksX0_letter_0 7 rfl rfl)
theorem dX0_letter_9 : decode cX0_letter 9 = .ok (.iload_n 2, 1) := dk_28 (dk_at dksX0_letter_0 9 rfl rfl)
theorem dX0_letter_10 : decode cX0_letter 10 = .ok (.invokestatic 246, 3) := dk_184 0 246 (dk_at dksX0_letter_0 10 rfl rfl)
theorem dX0_letter_13 : decode cX0_letter 13 = .ok (.iload_n 3, 1) := dk_29 (dk_at dksX0_letter_0 13 rfl rfl)
theorem dX0_letter_14 : decode cX0_letter 14 = .ok (.i2l, 1) := dk_133 (dk_at dksX0_letter_0 14 rfl rfl)
theorem dX0_letter_15 : decode cX0_letter 15 = .ok (.lconst 0, 1) := dk_9 (dk_at dksX0_letter_0 15 rfl rfl)
theorem dX0_letter_16 : decode cX0_letter 16 = .ok (.ldc2_w 250, 3) := dk_20 0 250 (dk_at dksX0_letter_0 16 rfl rfl)
theorem dX0_letter_19 : decode cX0_letter 19 = .ok (.invokestatic 173, 3) := dk_184 0 173 (dk_at dksX0_letter_0 19 rfl rfl)
theorem dX0_letter_22 : decode cX0_letter 22 = .ok (.bipush (-5), 2) := dk_16 251 (dk_at dksX0_letter_0 22 rfl rfl)
theorem dX0_letter_24 : decode cX0_letter 24 = .ok (.invokestatic 129, 3) := dk_184 0 129 (dk_at dksX0_letter_1 0 rfl rfl)
theorem dX0_letter_27 : decode cX0_letter 27 = .ok (.aload 4, 2) := dk_25 4 (dk_at dksX0_letter_1 3 rfl rfl)
theorem dX0_letter_29 : decode cX0_letter 29 = .ok (.iload_n 2, 1) := dk_28 (dk_at dksX0_letter_1 5 rfl rfl)
theorem dX0_letter_30 : decode cX0_letter 30 = .ok (.invokevirtual 242, 3) := dk_182 0 242 (dk_at dksX0_letter_1 6 rfl rfl)
theorem dX0_letter_33 : decode cX0_letter 33 = .ok (.iload_n 3, 1) := dk_29 (dk_at dksX0_letter_1 9 rfl rfl)
theorem dX0_letter_34 : decode cX0_letter 34 = .ok (.invokevirtual 252, 3) := dk_182 0 252 (dk_at dksX0_letter_1 10 rfl rfl)
theorem dX0_letter_37 : decode cX0_letter 37 = .ok (.ireturn, 1) := dk_172 (dk_at dksX0_letter_1 13 rfl rfl)
theorem dX0_letter_38 : decode cX0_letter 38 = .ok (.astore 4, 2) := dk_58 4 (dk_at dksX0_letter_1 14 rfl rfl)
theorem dX0_letter_40 : decode cX0_letter 40 = .ok (.aload_n 0, 1) := dk_42 (dk_at dksX0_letter_1 16 rfl rfl)
theorem dX0_letter_41 : decode cX0_letter 41 = .ok (.aload 4, 2) := dk_25 4 (dk_at dksX0_letter_1 17 rfl rfl)
theorem dX0_letter_43 : decode cX0_letter 43 = .ok (.invokevirtual 181, 3) := dk_182 0 181 (dk_at dksX0_letter_1 19 rfl rfl)
theorem dX0_letter_46 : decode cX0_letter 46 = .ok (.ireturn, 1) := dk_172 (dk_at dksX0_letter_1 22 rfl rfl)
abbrev cX0_mustLine : ByteArray := prog_1_method_24_code
def yX0_mustLine : MethodName := ⟨RX0, "mustLine", "(LLineRemarks$Revision;I)V"⟩
def dkwX0_mustLine_0 : List UInt8 := [42, 27, 182, 0, 242, 198, 0, 7, 4, 167, 0, 4, 3, 16, 251, 184, 0, 129, 177]
abbrev dktX0_mustLine_0 : List UInt8 := dkwX0_mustLine_0 ++ []
theorem dksX0_mustLine_0 : cX0_mustLine.data.toList.drop 0 = dktX0_mustLine_0 := by decide +kernel
theorem dX0_mustLine_0 : decode cX0_mustLine 0 = .ok (.aload_n 0, 1) := dk_42 (dk_at dksX0_mustLine_0 0 rfl rfl)
theorem dX0_mustLine_1 : decode cX0_mustLine 1 = .ok (.iload_n 1, 1) := dk_27 (dk_at dksX0_mustLine_0 1 rfl rfl)
theorem dX0_mustLine_2 : decode cX0_mustLine 2 = .ok (.invokevirtual 242, 3) := dk_182 0 242 (dk_at dksX0_mustLine_0 2 rfl rfl)
theorem dX0_mustLine_5 : decode cX0_mustLine 5 = .ok (.ifnull 7, 3) := dk_198 0 7 (dk_at dksX0_mustLine_0 5 rfl rfl)
theorem dX0_mustLine_8 : decode cX0_mustLine 8 = .ok (.iconst 1, 1) := dk_4 (dk_at dksX0_mustLine_0 8 rfl rfl)
theorem dX0_mustLine_9 : decode cX0_mustLine 9 = .ok (.goto 4, 3) := dk_167 0 4 (dk_at dksX0_mustLine_0 9 rfl rfl)
theorem dX0_mustLine_12 : decode cX0_mustLine 12 = .ok (.iconst 0, 1) := dk_3 (dk_at dksX0_mustLine_0 12 rfl rfl)
theorem dX0_mustLine_13 : decode cX0_mustLine 13 = .ok (.bipush (-5), 2) := dk_16 251 (dk_at dksX0_mustLine_0 13 rfl rfl)
theorem dX0_mustLine_15 : decode cX0_mustLine 15 = .ok (.invokestatic 129, 3) := dk_184 0 129 (dk_at dksX0_mustLine_0 15 rfl rfl)
theorem dX0_mustLine_18 : decode cX0_mustLine 18 = .ok (.return_, 1) := dk_177 (dk_at dksX0_mustLine_0 18 rfl rfl)
abbrev cX0_former : ByteArray := prog_1_method_26_code
def yX0_former : MethodName := ⟨RX0, "former", "(I)I"⟩
def dkwX0_former_1 : List UInt8 := [172, 77, 42, 44, 182, 0, 181, 16, 10, 100, 172]
abbrev dktX0_former_1 : List UInt8 := dkwX0_former_1 ++ []
def dkwX0_former_0 : List UInt8 := [42, 27, 182, 0, 211, 77, 44, 180, 0, 255, 199, 0, 7, 2, 167, 0, 10, 44, 180, 0, 255, 180, 1, 3]
abbrev dktX0_former_0 : List UInt8 := dkwX0_former_0 ++ dktX0_former_1
theorem dksX0_former_0 : cX0_former.data.toList.drop 0 = dktX0_former_0 := by decide +kernel
theorem dksX0_former_1 : cX0_former.data.toList.drop 24 = dktX0_former_1 := dk_seg dksX0_former_0 24 rfl rfl
theorem dX0_former_0 : decode cX0_former 0 = .ok (.aload_n 0, 1) := dk_42 (dk_at dksX0_former_0 0 rfl rfl)
theorem dX0_former_1 : decode cX0_former 1 = .ok (.iload_n 1, 1) := dk_27 (dk_at dksX0_former_0 1 rfl rfl)
theorem dX0_former_2 : decode cX0_former 2 = .ok (.invokevirtual 211, 3) := dk_182 0 211 (dk_at dksX0_former_0 2 rfl rfl)
theorem dX0_former_5 : decode cX0_former 5 = .ok (.astore_n 2, 1) := dk_77 (dk_at dksX0_former_0 5 rfl rfl)
theorem dX0_former_6 : decode cX0_former 6 = .ok (.aload_n 2, 1) := dk_44 (dk_at dksX0_former_0 6 rfl rfl)
theorem dX0_former_7 : decode cX0_former 7 = .ok (.getfield 255, 3) := dk_180 0 255 (dk_at dksX0_former_0 7 rfl rfl)
theorem dX0_former_10 : decode cX0_former 10 = .ok (.ifnonnull 7, 3) := dk_199 0 7 (dk_at dksX0_former_0 10 rfl rfl)
theorem dX0_former_13 : decode cX0_former 13 = .ok (.iconst (-1), 1) := dk_2 (dk_at dksX0_former_0 13 rfl rfl)
theorem dX0_former_14 : decode cX0_former 14 = .ok (.goto 10, 3) := dk_167 0 10 (dk_at dksX0_former_0 14 rfl rfl)
theorem dX0_former_17 : decode cX0_former 17 = .ok (.aload_n 2, 1) := dk_44 (dk_at dksX0_former_0 17 rfl rfl)
theorem dX0_former_18 : decode cX0_former 18 = .ok (.getfield 255, 3) := dk_180 0 255 (dk_at dksX0_former_0 18 rfl rfl)
theorem dX0_former_21 : decode cX0_former 21 = .ok (.getfield 259, 3) := dk_180 1 3 (dk_at dksX0_former_0 21 rfl rfl)
theorem dX0_former_24 : decode cX0_former 24 = .ok (.ireturn, 1) := dk_172 (dk_at dksX0_former_1 0 rfl rfl)
theorem dX0_former_25 : decode cX0_former 25 = .ok (.astore_n 2, 1) := dk_77 (dk_at dksX0_former_1 1 rfl rfl)
theorem dX0_former_26 : decode cX0_former 26 = .ok (.aload_n 0, 1) := dk_42 (dk_at dksX0_former_1 2 rfl rfl)
theorem dX0_former_27 : decode cX0_former 27 = .ok (.aload_n 2, 1) := dk_44 (dk_at dksX0_former_1 3 rfl rfl)
theorem dX0_former_28 : decode cX0_former 28 = .ok (.invokevirtual 181, 3) := dk_182 0 181 (dk_at dksX0_former_1 4 rfl rfl)
theorem dX0_former_31 : decode cX0_former 31 = .ok (.bipush 10, 2) := dk_16 10 (dk_at dksX0_former_1 7 rfl rfl)
theorem dX0_former_33 : decode cX0_former 33 = .ok (.isub, 1) := dk_100 (dk_at dksX0_former_1 9 rfl rfl)
theorem dX0_former_34 : decode cX0_former 34 = .ok (.ireturn, 1) := dk_172 (dk_at dksX0_former_1 10 rfl rfl)
abbrev cX0_rule : ByteArray := prog_1_method_27_code
def yX0_rule : MethodName := ⟨RX0, "rule", "(II)I"⟩
def dkwX0_rule_7 : List UInt8 := [78, 42, 45, 182, 0, 181, 172]
abbrev dktX0_rule_7 : List UInt8 := dkwX0_rule_7 ++ []
def dkwX0_rule_6 : List UInt8 := [180, 0, 111, 27, 5, 160, 0, 7, 28, 167, 0, 10, 42, 180, 0, 111, 180, 1, 19, 181, 1, 19, 29, 172]
abbrev dktX0_rule_6 : List UInt8 := dkwX0_rule_6 ++ dktX0_rule_7
def dkwX0_rule_5 : List UInt8 := [180, 0, 111, 27, 4, 160, 0, 7, 28, 167, 0, 10, 42, 180, 0, 111, 180, 1, 17, 181, 1, 17, 42]
abbrev dktX0_rule_5 : List UInt8 := dkwX0_rule_5 ++ dktX0_rule_6
def dkwX0_rule_4 : List UInt8 := [180, 0, 111, 27, 154, 0, 7, 28, 167, 0, 10, 42, 180, 0, 111, 180, 1, 14, 181, 1, 14, 42]
abbrev dktX0_rule_4 : List UInt8 := dkwX0_rule_4 ++ dktX0_rule_5
def dkwX0_rule_3 : List UInt8 := [160, 0, 13, 42, 180, 0, 111, 180, 1, 17, 167, 0, 10, 42, 180, 0, 111, 180, 1, 19, 62, 42]
abbrev dktX0_rule_3 : List UInt8 := dkwX0_rule_3 ++ dktX0_rule_4
def dkwX0_rule_2 : List UInt8 := [184, 0, 173, 16, 250, 184, 0, 129, 27, 154, 0, 13, 42, 180, 0, 111, 180, 1, 14, 167, 0, 25, 27, 4]
abbrev dktX0_rule_2 : List UInt8 := dkwX0_rule_2 ++ dktX0_rule_3
def dkwX0_rule_1 : List UInt8 := [184, 0, 173, 167, 0, 23, 28, 133, 9, 27, 4, 160, 0, 9, 20, 1, 10, 167, 0, 6, 20, 1, 12]
abbrev dktX0_rule_1 : List UInt8 := dkwX0_rule_1 ++ dktX0_rule_2
def dkwX0_rule_0 : List UInt8 := [27, 133, 9, 20, 1, 6, 184, 0, 173, 16, 250, 184, 0, 129, 27, 154, 0, 15, 28, 133, 10, 20, 1, 8]
abbrev dktX0_rule_0 : List UInt8 := dkwX0_rule_0 ++ dktX0_rule_1
theorem dksX0_rule_0 : cX0_rule.data.toList.drop 0 = dktX0_rule_0 := by decide +kernel
theorem dksX0_rule_1 : cX0_rule.data.toList.drop 24 = dktX0_rule_1 := dk_seg dksX0_rule_0 24 rfl rfl
theorem dksX0_rule_2 : cX0_rule.data.toList.drop 47 = dktX0_rule_2 := dk_seg dksX0_rule_1 23 rfl rfl
theorem dksX0_rule_3 : cX0_rule.data.toList.drop 71 = dktX0_rule_3 := dk_seg dksX0_rule_2 24 rfl rfl
theorem dksX0_rule_4 : cX0_rule.data.toList.drop 93 = dktX0_rule_4 := dk_seg dksX0_rule_3 22 rfl rfl
theorem dksX0_rule_5 : cX0_rule.data.toList.drop 115 = dktX0_rule_5 := dk_seg dksX0_rule_4 22 rfl rfl
theorem dksX0_rule_6 : cX0_rule.data.toList.drop 138 = dktX0_rule_6 := dk_seg dksX0_rule_5 23 rfl rfl
theorem dksX0_rule_7 : cX0_rule.data.toList.drop 162 = dktX0_rule_7 := dk_seg dksX0_rule_6 24 rfl rfl
theorem dX0_rule_0 : decode cX0_rule 0 = .ok (.iload_n 1, 1) := dk_27 (dk_at dksX0_rule_0 0 rfl rfl)
theorem dX0_rule_1 : decode cX0_rule 1 = .ok (.i2l, 1) := dk_133 (dk_at dksX0_rule_0 1 rfl rfl)
theorem dX0_rule_2 : decode cX0_rule 2 = .ok (.lconst 0, 1) := dk_9 (dk_at dksX0_rule_0 2 rfl rfl)
theorem dX0_rule_3 : decode cX0_rule 3 = .ok (.ldc2_w 262, 3) := dk_20 1 6 (dk_at dksX0_rule_0 3 rfl rfl)
theorem dX0_rule_6 : decode cX0_rule 6 = .ok (.invokestatic 173, 3) := dk_184 0 173 (dk_at dksX0_rule_0 6 rfl rfl)
theorem dX0_rule_9 : decode cX0_rule 9 = .ok (.bipush (-6), 2) := dk_16 250 (dk_at dksX0_rule_0 9 rfl rfl)
theorem dX0_rule_11 : decode cX0_rule 11 = .ok (.invokestatic 129, 3) := dk_184 0 129 (dk_at dksX0_rule_0 11 rfl rfl)
theorem dX0_rule_14 : decode cX0_rule 14 = .ok (.iload_n 1, 1) := dk_27 (dk_at dksX0_rule_0 14 rfl rfl)
theorem dX0_rule_15 : decode cX0_rule 15 = .ok (.ifCond .ne 15, 3) := dk_154 0 15 (dk_at dksX0_rule_0 15 rfl rfl)
theorem dX0_rule_18 : decode cX0_rule 18 = .ok (.iload_n 2, 1) := dk_28 (dk_at dksX0_rule_0 18 rfl rfl)
theorem dX0_rule_19 : decode cX0_rule 19 = .ok (.i2l, 1) := dk_133 (dk_at dksX0_rule_0 19 rfl rfl)
theorem dX0_rule_20 : decode cX0_rule 20 = .ok (.lconst 1, 1) := dk_10 (dk_at dksX0_rule_0 20 rfl rfl)
theorem dX0_rule_21 : decode cX0_rule 21 = .ok (.ldc2_w 264, 3) := dk_20 1 8 (dk_at dksX0_rule_0 21 rfl rfl)
theorem dX0_rule_24 : decode cX0_rule 24 = .ok (.invokestatic 173, 3) := dk_184 0 173 (dk_at dksX0_rule_1 0 rfl rfl)
theorem dX0_rule_27 : decode cX0_rule 27 = .ok (.goto 23, 3) := dk_167 0 23 (dk_at dksX0_rule_1 3 rfl rfl)
theorem dX0_rule_30 : decode cX0_rule 30 = .ok (.iload_n 2, 1) := dk_28 (dk_at dksX0_rule_1 6 rfl rfl)
theorem dX0_rule_31 : decode cX0_rule 31 = .ok (.i2l, 1) := dk_133 (dk_at dksX0_rule_1 7 rfl rfl)
theorem dX0_rule_32 : decode cX0_rule 32 = .ok (.lconst 0, 1) := dk_9 (dk_at dksX0_rule_1 8 rfl rfl)
theorem dX0_rule_33 : decode cX0_rule 33 = .ok (.iload_n 1, 1) := dk_27 (dk_at dksX0_rule_1 9 rfl rfl)
theorem dX0_rule_34 : decode cX0_rule 34 = .ok (.iconst 1, 1) := dk_4 (dk_at dksX0_rule_1 10 rfl rfl)
theorem dX0_rule_35 : decode cX0_rule 35 = .ok (.if_icmp .ne 9, 3) := dk_160 0 9 (dk_at dksX0_rule_1 11 rfl rfl)
theorem dX0_rule_38 : decode cX0_rule 38 = .ok (.ldc2_w 266, 3) := dk_20 1 10 (dk_at dksX0_rule_1 14 rfl rfl)
theorem dX0_rule_41 : decode cX0_rule 41 = .ok (.goto 6, 3) := dk_167 0 6 (dk_at dksX0_rule_1 17 rfl rfl)
theorem dX0_rule_44 : decode cX0_rule 44 = .ok (.ldc2_w 268, 3) := dk_20 1 12 (dk_at dksX0_rule_1 20 rfl rfl)
theorem dX0_rule_47 : decode cX0_rule 47 = .ok (.invokestatic 173, 3) := dk_184 0 173 (dk_at dksX0_rule_2 0 rfl rfl)
theorem dX0_rule_50 : decode cX0_rule 50 = .ok (.bipush (-6), 2) := dk_16 250 (dk_at dksX0_rule_2 3 rfl rfl)
theorem dX0_rule_52 : decode cX0_rule 52 = .ok (.invokestatic 129, 3) := dk_184 0 129 (dk_at dksX0_rule_2 5 rfl rfl)
theorem dX0_rule_55 : decode cX0_rule 55 = .ok (.iload_n 1, 1) := dk_27 (dk_at dksX0_rule_2 8 rfl rfl)
theorem dX0_rule_56 : decode cX0_rule 56 = .ok (.ifCond .ne 13, 3) := dk_154 0 13 (dk_at dksX0_rule_2 9 rfl rfl)
theorem dX0_rule_59 : decode cX0_rule 59 = .ok (.aload_n 0, 1) := dk_42 (dk_at dksX0_rule_2 12 rfl rfl)
theorem dX0_rule_60 : decode cX0_rule 60 = .ok (.getfield 111, 3) := dk_180 0 111 (dk_at dksX0_rule_2 13 rfl rfl)
theorem dX0_rule_63 : decode cX0_rule 63 = .ok (.getfield 270, 3) := dk_180 1 14 (dk_at dksX0_rule_2 16 rfl rfl)
theorem dX0_rule_66 : decode cX0_rule 66 = .ok (.goto 25, 3) := dk_167 0 25 (dk_at dksX0_rule_2 19 rfl rfl)
theorem dX0_rule_69 : decode cX0_rule 69 = .ok (.iload_n 1, 1) := dk_27 (dk_at dksX0_rule_2 22 rfl rfl)
theorem dX0_rule_70 : decode cX0_rule 70 = .ok (.iconst 1, 1) := dk_4 (dk_at dksX0_rule_2 23 rfl rfl)
theorem dX0_rule_71 : decode cX0_rule 71 = .ok (.if_icmp .ne 13, 3) := dk_160 0 13 (dk_at dksX0_rule_3 0 rfl rfl)
theorem dX0_rule_74 : decode cX0_rule 74 = .ok (.aload_n 0, 1) := dk_42 (dk_at dksX0_rule_3 3 rfl rfl)
theorem dX0_rule_75 : decode cX0_rule 75 = .ok (.getfield 111, 3) := dk_180 0 111 (dk_at dksX0_rule_3 4 rfl rfl)
theorem dX0_rule_78 : decode cX0_rule 78 = .ok (.getfield 273, 3) := dk_180 1 17 (dk_at dksX0_rule_3 7 rfl rfl)
theorem dX0_rule_81 : decode cX0_rule 81 = .ok (.goto 10, 3) := dk_167 0 10 (dk_at dksX0_rule_3 10 rfl rfl)
theorem dX0_rule_84 : decode cX0_rule 84 = .ok (.aload_n 0, 1) := dk_42 (dk_at dksX0_rule_3 13 rfl rfl)
theorem dX0_rule_85 : decode cX0_rule 85 = .ok (.getfield 111, 3) := dk_180 0 111 (dk_at dksX0_rule_3 14 rfl rfl)
theorem dX0_rule_88 : decode cX0_rule 88 = .ok (.getfield 275, 3) := dk_180 1 19 (dk_at dksX0_rule_3 17 rfl rfl)
theorem dX0_rule_91 : decode cX0_rule 91 = .ok (.istore_n 3, 1) := dk_62 (dk_at dksX0_rule_3 20 rfl rfl)
theorem dX0_rule_92 : decode cX0_rule 92 = .ok (.aload_n 0, 1) := dk_42 (dk_at dksX0_rule_3 21 rfl rfl)
theorem dX0_rule_93 : decode cX0_rule 93 = .ok (.getfield 111, 3) := dk_180 0 111 (dk_at dksX0_rule_4 0 rfl rfl)
theorem dX0_rule_96 : decode cX0_rule 96 = .ok (.iload_n 1, 1) := dk_27 (dk_at dksX0_rule_4 3 rfl rfl)
theorem dX0_rule_97 : decode cX0_rule 97 = .ok (.ifCond .ne 7, 3) := dk_154 0 7 (dk_at dksX0_rule_4 4 rfl rfl)
theorem dX0_rule_100 : decode cX0_rule 100 = .ok (.iload_n 2, 1) := dk_28 (dk_at dksX0_rule_4 7 rfl rfl)
theorem dX0_rule_101 : decode cX0_rule 101 = .ok (.goto 10, 3) := dk_167 0 10 (dk_at dksX0_rule_4 8 rfl rfl)
theorem dX0_rule_104 : decode cX0_rule 104 = .ok (.aload_n 0, 1) := dk_42 (dk_at dksX0_rule_4 11 rfl rfl)
theorem dX0_rule_105 : decode cX0_rule 105 = .ok (.getfield 111, 3) := dk_180 0 111 (dk_at dksX0_rule_4 12 rfl rfl)
theorem dX0_rule_108 : decode cX0_rule 108 = .ok (.getfield 270, 3) := dk_180 1 14 (dk_at dksX0_rule_4 15 rfl rfl)
theorem dX0_rule_111 : decode cX0_rule 111 = .ok (.putfield 270, 3) := dk_181 1 14 (dk_at dksX0_rule_4 18 rfl rfl)
theorem dX0_rule_114 : decode cX0_rule 114 = .ok (.aload_n 0, 1) := dk_42 (dk_at dksX0_rule_4 21 rfl rfl)
theorem dX0_rule_115 : decode cX0_rule 115 = .ok (.getfield 111, 3) := dk_180 0 111 (dk_at dksX0_rule_5 0 rfl rfl)
theorem dX0_rule_118 : decode cX0_rule 118 = .ok (.iload_n 1, 1) := dk_27 (dk_at dksX0_rule_5 3 rfl rfl)
theorem dX0_rule_119 : decode cX0_rule 119 = .ok (.iconst 1, 1) := dk_4 (dk_at dksX0_rule_5 4 rfl rfl)
theorem dX0_rule_120 : decode cX0_rule 120 = .ok (.if_icmp .ne 7, 3) := dk_160 0 7 (dk_at dksX0_rule_5 5 rfl rfl)
theorem dX0_rule_123 : decode cX0_rule 123 = .ok (.iload_n 2, 1) := dk_28 (dk_at dksX0_rule_5 8 rfl rfl)
theorem dX0_rule_124 : decode cX0_rule 124 = .ok (.goto 10, 3) := dk_167 0 10 (dk_at dksX0_rule_5 9 rfl rfl)
theorem dX0_rule_127 : decode cX0_rule 127 = .ok (.aload_n 0, 1) := dk_42 (dk_at dksX0_rule_5 12 rfl rfl)
theorem dX0_rule_128 : decode cX0_rule 128 = .ok (.getfield 111, 3) := dk_180 0 111 (dk_at dksX0_rule_5 13 rfl rfl)
theorem dX0_rule_131 : decode cX0_rule 131 = .ok (.getfield 273, 3) := dk_180 1 17 (dk_at dksX0_rule_5 16 rfl rfl)
theorem dX0_rule_134 : decode cX0_rule 134 = .ok (.putfield 273, 3) := dk_181 1 17 (dk_at dksX0_rule_5 19 rfl rfl)
theorem dX0_rule_137 : decode cX0_rule 137 = .ok (.aload_n 0, 1) := dk_42 (dk_at dksX0_rule_5 22 rfl rfl)
theorem dX0_rule_138 : decode cX0_rule 138 = .ok (.getfield 111, 3) := dk_180 0 111 (dk_at dksX0_rule_6 0 rfl rfl)
theorem dX0_rule_141 : decode cX0_rule 141 = .ok (.iload_n 1, 1) := dk_27 (dk_at dksX0_rule_6 3 rfl rfl)
theorem dX0_rule_142 : decode cX0_rule 142 = .ok (.iconst 2, 1) := dk_5 (dk_at dksX0_rule_6 4 rfl rfl)
theorem dX0_rule_143 : decode cX0_rule 143 = .ok (.if_icmp .ne 7, 3) := dk_160 0 7 (dk_at dksX0_rule_6 5 rfl rfl)
theorem dX0_rule_146 : decode cX0_rule 146 = .ok (.iload_n 2, 1) := dk_28 (dk_at dksX0_rule_6 8 rfl rfl)
theorem dX0_rule_147 : decode cX0_rule 147 = .ok (.goto 10, 3) := dk_167 0 10 (dk_at dksX0_rule_6 9 rfl rfl)
theorem dX0_rule_150 : decode cX0_rule 150 = .ok (.aload_n 0, 1) := dk_42 (dk_at dksX0_rule_6 12 rfl rfl)
theorem dX0_rule_151 : decode cX0_rule 151 = .ok (.getfield 111, 3) := dk_180 0 111 (dk_at dksX0_rule_6 13 rfl rfl)
theorem dX0_rule_154 : decode cX0_rule 154 = .ok (.getfield 275, 3) := dk_180 1 19 (dk_at dksX0_rule_6 16 rfl rfl)
theorem dX0_rule_157 : decode cX0_rule 157 = .ok (.putfield 275, 3) := dk_181 1 19 (dk_at dksX0_rule_6 19 rfl rfl)
theorem dX0_rule_160 : decode cX0_rule 160 = .ok (.iload_n 3, 1) := dk_29 (dk_at dksX0_rule_6 22 rfl rfl)
theorem dX0_rule_161 : decode cX0_rule 161 = .ok (.ireturn, 1) := dk_172 (dk_at dksX0_rule_6 23 rfl rfl)
theorem dX0_rule_162 : decode cX0_rule 162 = .ok (.astore_n 3, 1) := dk_78 (dk_at dksX0_rule_7 0 rfl rfl)
theorem dX0_rule_163 : decode cX0_rule 163 = .ok (.aload_n 0, 1) := dk_42 (dk_at dksX0_rule_7 1 rfl rfl)
theorem dX0_rule_164 : decode cX0_rule 164 = .ok (.aload_n 3, 1) := dk_45 (dk_at dksX0_rule_7 2 rfl rfl)
theorem dX0_rule_165 : decode cX0_rule 165 = .ok (.invokevirtual 181, 3) := dk_182 0 181 (dk_at dksX0_rule_7 3 rfl rfl)
theorem dX0_rule_168 : decode cX0_rule 168 = .ok (.ireturn, 1) := dk_172 (dk_at dksX0_rule_7 6 rfl rfl)
abbrev cX0_place : ByteArray := prog_1_method_29_code
def yX0_place : MethodName := ⟨RX0, "place", "(III)I"⟩
def dkwX0_place_1 : List UInt8 := [25, 5, 182, 1, 27, 180, 1, 31, 29, 46, 172, 58, 4, 42, 25, 4, 182, 0, 181, 16, 10, 100, 172]
abbrev dktX0_place_1 : List UInt8 := dkwX0_place_1 ++ []
def dkwX0_place_0 : List UInt8 := [42, 27, 182, 0, 211, 58, 4, 42, 28, 182, 0, 211, 58, 5, 25, 4, 29, 184, 0, 246, 42, 25, 4]
abbrev dktX0_place_0 : List UInt8 := dkwX0_place_0 ++ dktX0_place_1
theorem dksX0_place_0 : cX0_place.data.toList.drop 0 = dktX0_place_0 := by decide +kernel
theorem dksX0_place_1 : cX0_place.data.toList.drop 23 = dktX0_place_1 := dk_seg dksX0_place_0 23 rfl rfl
theorem dX0_place_0 : decode cX0_place 0 = .ok (.aload_n 0, 1) := dk_42 (dk_at dksX0_place_0 0 rfl rfl)
theorem dX0_place_1 : decode cX0_place 1 = .ok (.iload_n 1, 1) := dk_27 (dk_at dksX0_place_0 1 rfl rfl)
theorem dX0_place_2 : decode cX0_place 2 = .ok (.invokevirtual 211, 3) := dk_182 0 211 (dk_at dksX0_place_0 2 rfl rfl)
theorem dX0_place_5 : decode cX0_place 5 = .ok (.astore 4, 2) := dk_58 4 (dk_at dksX0_place_0 5 rfl rfl)
theorem dX0_place_7 : decode cX0_place 7 = .ok (.aload_n 0, 1) := dk_42 (dk_at dksX0_place_0 7 rfl rfl)
theorem dX0_place_8 : decode cX0_place 8 = .ok (.iload_n 2, 1) := dk_28 (dk_at dksX0_place_0 8 rfl rfl)
theorem dX0_place_9 : decode cX0_place 9 = .ok (.invokevirtual 211, 3) := dk_182 0 211 (dk_at dksX0_place_0 9 rfl rfl)
theorem dX0_place_12 : decode cX0_place 12 = .ok (.astore 5, 2) := dk_58 5 (dk_at dksX0_place_0 12 rfl rfl)
theorem dX0_place_14 : decode cX0_place 14 = .ok (.aload 4, 2) := dk_25 4 (dk_at dksX0_place_0 14 rfl rfl)
theorem dX0_place_16 : decode cX0_place 16 = .ok (.iload_n 3, 1) := dk_29 (dk_at dksX0_place_0 16 rfl rfl)
theorem dX0_place_17 : decode cX0_place 17 = .ok (.invokestatic 246, 3) := dk_184 0 246 (dk_at dksX0_place_0 17 rfl rfl)
theorem dX0_place_20 : decode cX0_place 20 = .ok (.aload_n 0, 1) := dk_42 (dk_at dksX0_place_0 20 rfl rfl)
theorem dX0_place_21 : decode cX0_place 21 = .ok (.aload 4, 2) := dk_25 4 (dk_at dksX0_place_0 21 rfl rfl)
theorem dX0_place_23 : decode cX0_place 23 = .ok (.aload 5, 2) := dk_25 5 (dk_at dksX0_place_1 0 rfl rfl)
theorem dX0_place_25 : decode cX0_place 25 = .ok (.invokevirtual 283, 3) := dk_182 1 27 (dk_at dksX0_place_1 2 rfl rfl)
theorem dX0_place_28 : decode cX0_place 28 = .ok (.getfield 287, 3) := dk_180 1 31 (dk_at dksX0_place_1 5 rfl rfl)
theorem dX0_place_31 : decode cX0_place 31 = .ok (.iload_n 3, 1) := dk_29 (dk_at dksX0_place_1 8 rfl rfl)
theorem dX0_place_32 : decode cX0_place 32 = .ok (.iaload, 1) := dk_46 (dk_at dksX0_place_1 9 rfl rfl)
theorem dX0_place_33 : decode cX0_place 33 = .ok (.ireturn, 1) := dk_172 (dk_at dksX0_place_1 10 rfl rfl)
theorem dX0_place_34 : decode cX0_place 34 = .ok (.astore 4, 2) := dk_58 4 (dk_at dksX0_place_1 11 rfl rfl)
theorem dX0_place_36 : decode cX0_place 36 = .ok (.aload_n 0, 1) := dk_42 (dk_at dksX0_place_1 13 rfl rfl)
theorem dX0_place_37 : decode cX0_place 37 = .ok (.aload 4, 2) := dk_25 4 (dk_at dksX0_place_1 14 rfl rfl)
theorem dX0_place_39 : decode cX0_place 39 = .ok (.invokevirtual 181, 3) := dk_182 0 181 (dk_at dksX0_place_1 16 rfl rfl)
theorem dX0_place_42 : decode cX0_place 42 = .ok (.bipush 10, 2) := dk_16 10 (dk_at dksX0_place_1 19 rfl rfl)
theorem dX0_place_44 : decode cX0_place 44 = .ok (.isub, 1) := dk_100 (dk_at dksX0_place_1 21 rfl rfl)
theorem dX0_place_45 : decode cX0_place 45 = .ok (.ireturn, 1) := dk_172 (dk_at dksX0_place_1 22 rfl rfl)
abbrev cX0_match : ByteArray := prog_1_method_28_code
def yX0_match : MethodName := ⟨RX0, "match", "(LLineRemarks$Revision;LLineRemarks$Revision;)LLineRemarks$Match;"⟩
def dkwX0_match_0 : List UInt8 := [187, 1, 22, 89, 43, 180, 0, 236, 44, 180, 0, 236, 42, 180, 0, 111, 180, 1, 14, 183, 1, 24, 176]
abbrev dktX0_match_0 : List UInt8 := dkwX0_match_0 ++ []
theorem dksX0_match_0 : cX0_match.data.toList.drop 0 = dktX0_match_0 := by decide +kernel
theorem dX0_match_0 : decode cX0_match 0 = .ok (.new 278, 3) := dk_187 1 22 (dk_at dksX0_match_0 0 rfl rfl)
theorem dX0_match_3 : decode cX0_match 3 = .ok (.dup, 1) := dk_89 (dk_at dksX0_match_0 3 rfl rfl)
theorem dX0_match_4 : decode cX0_match 4 = .ok (.aload_n 1, 1) := dk_43 (dk_at dksX0_match_0 4 rfl rfl)
theorem dX0_match_5 : decode cX0_match 5 = .ok (.getfield 236, 3) := dk_180 0 236 (dk_at dksX0_match_0 5 rfl rfl)
theorem dX0_match_8 : decode cX0_match 8 = .ok (.aload_n 2, 1) := dk_44 (dk_at dksX0_match_0 8 rfl rfl)
theorem dX0_match_9 : decode cX0_match 9 = .ok (.getfield 236, 3) := dk_180 0 236 (dk_at dksX0_match_0 9 rfl rfl)
theorem dX0_match_12 : decode cX0_match 12 = .ok (.aload_n 0, 1) := dk_42 (dk_at dksX0_match_0 12 rfl rfl)
theorem dX0_match_13 : decode cX0_match 13 = .ok (.getfield 111, 3) := dk_180 0 111 (dk_at dksX0_match_0 13 rfl rfl)
theorem dX0_match_16 : decode cX0_match 16 = .ok (.getfield 270, 3) := dk_180 1 14 (dk_at dksX0_match_0 16 rfl rfl)
theorem dX0_match_19 : decode cX0_match 19 = .ok (.invokespecial 280, 3) := dk_183 1 24 (dk_at dksX0_match_0 19 rfl rfl)
theorem dX0_match_22 : decode cX0_match 22 = .ok (.areturn, 1) := dk_176 (dk_at dksX0_match_0 22 rfl rfl)
abbrev cX0_matched : ByteArray := prog_1_method_30_code
def yX0_matched : MethodName := ⟨RX0, "matched", "(III)I"⟩
def dkwX0_matched_2 : List UInt8 := [58, 4, 42, 25, 4, 182, 0, 181, 172]
abbrev dktX0_matched_2 : List UInt8 := dkwX0_matched_2 ++ []
def dkwX0_matched_1 : List UInt8 := [16, 251, 184, 0, 129, 29, 154, 0, 11, 25, 4, 180, 1, 33, 167, 0, 8, 25, 4, 180, 1, 36, 172]
abbrev dktX0_matched_1 : List UInt8 := dkwX0_matched_1 ++ dktX0_matched_2
def dkwX0_matched_0 : List UInt8 := [42, 42, 27, 182, 0, 211, 42, 28, 182, 0, 211, 182, 1, 27, 58, 4, 29, 133, 9, 10, 184, 0, 173]
abbrev dktX0_matched_0 : List UInt8 := dkwX0_matched_0 ++ dktX0_matched_1
theorem dksX0_matched_0 : cX0_matched.data.toList.drop 0 = dktX0_matched_0 := by decide +kernel
theorem dksX0_matched_1 : cX0_matched.data.toList.drop 23 = dktX0_matched_1 := dk_seg dksX0_matched_0 23 rfl rfl
theorem dksX0_matched_2 : cX0_matched.data.toList.drop 46 = dktX0_matched_2 := dk_seg dksX0_matched_1 23 rfl rfl
theorem dX0_matched_0 : decode cX0_matched 0 = .ok (.aload_n 0, 1) := dk_42 (dk_at dksX0_matched_0 0 rfl rfl)
theorem dX0_matched_1 : decode cX0_matched 1 = .ok (.aload_n 0, 1) := dk_42 (dk_at dksX0_matched_0 1 rfl rfl)
theorem dX0_matched_2 : decode cX0_matched 2 = .ok (.iload_n 1, 1) := dk_27 (dk_at dksX0_matched_0 2 rfl rfl)
theorem dX0_matched_3 : decode cX0_matched 3 = .ok (.invokevirtual 211, 3) := dk_182 0 211 (dk_at dksX0_matched_0 3 rfl rfl)
theorem dX0_matched_6 : decode cX0_matched 6 = .ok (.aload_n 0, 1) := dk_42 (dk_at dksX0_matched_0 6 rfl rfl)
theorem dX0_matched_7 : decode cX0_matched 7 = .ok (.iload_n 2, 1) := dk_28 (dk_at dksX0_matched_0 7 rfl rfl)
theorem dX0_matched_8 : decode cX0_matched 8 = .ok (.invokevirtual 211, 3) := dk_182 0 211 (dk_at dksX0_matched_0 8 rfl rfl)
theorem dX0_matched_11 : decode cX0_matched 11 = .ok (.invokevirtual 283, 3) := dk_182 1 27 (dk_at dksX0_matched_0 11 rfl rfl)
theorem dX0_matched_14 : decode cX0_matched 14 = .ok (.astore 4, 2) := dk_58 4 (dk_at dksX0_matched_0 14 rfl rfl)
theorem dX0_matched_16 : decode cX0_matched 16 = .ok (.iload_n 3, 1) := dk_29 (dk_at dksX0_matched_0 16 rfl rfl)
theorem dX0_matched_17 : decode cX0_matched 17 = .ok (.i2l, 1) := dk_133 (dk_at dksX0_matched_0 17 rfl rfl)
theorem dX0_matched_18 : decode cX0_matched 18 = .ok (.lconst 0, 1) := dk_9 (dk_at dksX0_matched_0 18 rfl rfl)
theorem dX0_matched_19 : decode cX0_matched 19 = .ok (.lconst 1, 1) := dk_10 (dk_at dksX0_matched_0 19 rfl rfl)
theorem dX0_matched_20 : decode cX0_matched 20 = .ok (.invokestatic 173, 3) := dk_184 0 173 (dk_at dksX0_matched_0 20 rfl rfl)
theorem dX0_matched_23 : decode cX0_matched 23 = .ok (.bipush (-5), 2) := dk_16 251 (dk_at dksX0_matched_1 0 rfl rfl)
theorem dX0_matched_25 : decode cX0_matched 25 = .ok (.invokestatic 129, 3) := dk_184 0 129 (dk_at dksX0_matched_1 2 rfl rfl)
theorem dX0_matched_28 : decode cX0_matched 28 = .ok (.iload_n 3, 1) := dk_29 (dk_at dksX0_matched_1 5 rfl rfl)
theorem dX0_matched_29 : decode cX0_matched 29 = .ok (.ifCond .ne 11, 3) := dk_154 0 11 (dk_at dksX0_matched_1 6 rfl rfl)
theorem dX0_matched_32 : decode cX0_matched 32 = .ok (.aload 4, 2) := dk_25 4 (dk_at dksX0_matched_1 9 rfl rfl)
theorem dX0_matched_34 : decode cX0_matched 34 = .ok (.getfield 289, 3) := dk_180 1 33 (dk_at dksX0_matched_1 11 rfl rfl)
theorem dX0_matched_37 : decode cX0_matched 37 = .ok (.goto 8, 3) := dk_167 0 8 (dk_at dksX0_matched_1 14 rfl rfl)
theorem dX0_matched_40 : decode cX0_matched 40 = .ok (.aload 4, 2) := dk_25 4 (dk_at dksX0_matched_1 17 rfl rfl)
theorem dX0_matched_42 : decode cX0_matched 42 = .ok (.getfield 292, 3) := dk_180 1 36 (dk_at dksX0_matched_1 19 rfl rfl)
theorem dX0_matched_45 : decode cX0_matched 45 = .ok (.ireturn, 1) := dk_172 (dk_at dksX0_matched_1 22 rfl rfl)
theorem dX0_matched_46 : decode cX0_matched 46 = .ok (.astore 4, 2) := dk_58 4 (dk_at dksX0_matched_2 0 rfl rfl)
theorem dX0_matched_48 : decode cX0_matched 48 = .ok (.aload_n 0, 1) := dk_42 (dk_at dksX0_matched_2 2 rfl rfl)
theorem dX0_matched_49 : decode cX0_matched 49 = .ok (.aload 4, 2) := dk_25 4 (dk_at dksX0_matched_2 3 rfl rfl)
theorem dX0_matched_51 : decode cX0_matched 51 = .ok (.invokevirtual 181, 3) := dk_182 0 181 (dk_at dksX0_matched_2 5 rfl rfl)
theorem dX0_matched_54 : decode cX0_matched 54 = .ok (.ireturn, 1) := dk_172 (dk_at dksX0_matched_2 8 rfl rfl)
abbrev cX0_through : ByteArray := prog_1_method_32_code
def yX0_through : MethodName := ⟨RX0, "through", "(III)I"⟩
def dkwX0_through_5 : List UInt8 := [182, 0, 181, 16, 10, 100, 172]
abbrev dktX0_through_5 : List UInt8 := dkwX0_through_5 ++ []
def dkwX0_through_4 : List UInt8 := [182, 1, 54, 180, 1, 31, 21, 6, 46, 54, 6, 167, 255, 196, 21, 6, 172, 58, 4, 42, 25, 4]
abbrev dktX0_through_4 : List UInt8 := dkwX0_through_4 ++ dktX0_through_5
def dkwX0_through_3 : List UInt8 := [165, 0, 9, 21, 6, 2, 160, 0, 8, 21, 6, 167, 0, 21, 25, 8, 42, 180, 0, 111, 180, 1, 14]
abbrev dktX0_through_3 : List UInt8 := dkwX0_through_3 ++ dktX0_through_4
def dkwX0_through_2 : List UInt8 := [185, 0, 38, 1, 0, 153, 0, 56, 25, 7, 185, 0, 44, 1, 0, 192, 0, 237, 58, 8, 25, 8, 25, 4]
abbrev dktX0_through_2 : List UInt8 := dkwX0_through_2 ++ dktX0_through_3
def dkwX0_through_1 : List UInt8 := [184, 1, 43, 29, 54, 6, 25, 5, 25, 4, 182, 1, 47, 182, 1, 51, 58, 7, 25, 7]
abbrev dktX0_through_1 : List UInt8 := dkwX0_through_1 ++ dktX0_through_2
def dkwX0_through_0 : List UInt8 := [42, 27, 182, 0, 211, 58, 4, 42, 28, 182, 0, 211, 58, 5, 25, 4, 29, 184, 0, 246, 25, 5, 25, 4]
abbrev dktX0_through_0 : List UInt8 := dkwX0_through_0 ++ dktX0_through_1
theorem dksX0_through_0 : cX0_through.data.toList.drop 0 = dktX0_through_0 := by decide +kernel
theorem dksX0_through_1 : cX0_through.data.toList.drop 24 = dktX0_through_1 := dk_seg dksX0_through_0 24 rfl rfl
theorem dksX0_through_2 : cX0_through.data.toList.drop 44 = dktX0_through_2 := dk_seg dksX0_through_1 20 rfl rfl
theorem dksX0_through_3 : cX0_through.data.toList.drop 68 = dktX0_through_3 := dk_seg dksX0_through_2 24 rfl rfl
theorem dksX0_through_4 : cX0_through.data.toList.drop 91 = dktX0_through_4 := dk_seg dksX0_through_3 23 rfl rfl
theorem dksX0_through_5 : cX0_through.data.toList.drop 113 = dktX0_through_5 := dk_seg dksX0_through_4 22 rfl rfl
theorem dX0_through_0 : decode cX0_through 0 = .ok (.aload_n 0, 1) := dk_42 (dk_at dksX0_through_0 0 rfl rfl)
theorem dX0_through_1 : decode cX0_through 1 = .ok (.iload_n 1, 1) := dk_27 (dk_at dksX0_through_0 1 rfl rfl)
theorem dX0_through_2 : decode cX0_through 2 = .ok (.invokevirtual 211, 3) := dk_182 0 211 (dk_at dksX0_through_0 2 rfl rfl)
theorem dX0_through_5 : decode cX0_through 5 = .ok (.astore 4, 2) := dk_58 4 (dk_at dksX0_through_0 5 rfl rfl)
theorem dX0_through_7 : decode cX0_through 7 = .ok (.aload_n 0, 1) := dk_42 (dk_at dksX0_through_0 7 rfl rfl)
theorem dX0_through_8 : decode cX0_through 8 = .ok (.iload_n 2, 1) := dk_28 (dk_at dksX0_through_0 8 rfl rfl)
theorem dX0_through_9 : decode cX0_through 9 = .ok (.invokevirtual 211, 3) := dk_182 0 211 (dk_at dksX0_through_0 9 rfl rfl)
theorem dX0_through_12 : decode cX0_through 12 = .ok (.astore 5, 2) := dk_58 5 (dk_at dksX0_through_0 12 rfl rfl)
theorem dX0_through_14 : decode cX0_through 14 = .ok (.aload 4, 2) := dk_25 4 (dk_at dksX0_through_0 14 rfl rfl)
theorem dX0_through_16 : decode cX0_through 16 = .ok (.iload_n 3, 1) := dk_29 (dk_at dksX0_through_0 16 rfl rfl)
theorem dX0_through_17 : decode cX0_through 17 = .ok (.invokestatic 246, 3) := dk_184 0 246 (dk_at dksX0_through_0 17 rfl rfl)
theorem dX0_through_20 : decode cX0_through 20 = .ok (.aload 5, 2) := dk_25 5 (dk_at dksX0_through_0 20 rfl rfl)
theorem dX0_through_22 : decode cX0_through 22 = .ok (.aload 4, 2) := dk_25 4 (dk_at dksX0_through_0 22 rfl rfl)
theorem dX0_through_24 : decode cX0_through 24 = .ok (.invokestatic 299, 3) := dk_184 1 43 (dk_at dksX0_through_1 0 rfl rfl)
theorem dX0_through_27 : decode cX0_through 27 = .ok (.iload_n 3, 1) := dk_29 (dk_at dksX0_through_1 3 rfl rfl)
theorem dX0_through_28 : decode cX0_through 28 = .ok (.istore 6, 2) := dk_54 6 (dk_at dksX0_through_1 4 rfl rfl)
theorem dX0_through_30 : decode cX0_through 30 = .ok (.aload 5, 2) := dk_25 5 (dk_at dksX0_through_1 6 rfl rfl)
theorem dX0_through_32 : decode cX0_through 32 = .ok (.aload 4, 2) := dk_25 4 (dk_at dksX0_through_1 8 rfl rfl)
theorem dX0_through_34 : decode cX0_through 34 = .ok (.invokevirtual 303, 3) := dk_182 1 47 (dk_at dksX0_through_1 10 rfl rfl)
theorem dX0_through_37 : decode cX0_through 37 = .ok (.invokevirtual 307, 3) := dk_182 1 51 (dk_at dksX0_through_1 13 rfl rfl)
theorem dX0_through_40 : decode cX0_through 40 = .ok (.astore 7, 2) := dk_58 7 (dk_at dksX0_through_1 16 rfl rfl)
theorem dX0_through_42 : decode cX0_through 42 = .ok (.aload 7, 2) := dk_25 7 (dk_at dksX0_through_1 18 rfl rfl)
theorem dX0_through_44 : decode cX0_through 44 = .ok (.invokeinterface 38 1, 5) := by decide +kernel
theorem dX0_through_49 : decode cX0_through 49 = .ok (.ifCond .eq 56, 3) := dk_153 0 56 (dk_at dksX0_through_2 5 rfl rfl)
theorem dX0_through_52 : decode cX0_through 52 = .ok (.aload 7, 2) := dk_25 7 (dk_at dksX0_through_2 8 rfl rfl)
theorem dX0_through_54 : decode cX0_through 54 = .ok (.invokeinterface 44 1, 5) := by decide +kernel
theorem dX0_through_59 : decode cX0_through 59 = .ok (.checkcast 237, 3) := dk_192 0 237 (dk_at dksX0_through_2 15 rfl rfl)
theorem dX0_through_62 : decode cX0_through 62 = .ok (.astore 8, 2) := dk_58 8 (dk_at dksX0_through_2 18 rfl rfl)
theorem dX0_through_64 : decode cX0_through 64 = .ok (.aload 8, 2) := dk_25 8 (dk_at dksX0_through_2 20 rfl rfl)
theorem dX0_through_66 : decode cX0_through 66 = .ok (.aload 4, 2) := dk_25 4 (dk_at dksX0_through_2 22 rfl rfl)
theorem dX0_through_68 : decode cX0_through 68 = .ok (.if_acmp .eq 9, 3) := dk_165 0 9 (dk_at dksX0_through_3 0 rfl rfl)
theorem dX0_through_71 : decode cX0_through 71 = .ok (.iload 6, 2) := dk_21 6 (dk_at dksX0_through_3 3 rfl rfl)
theorem dX0_through_73 : decode cX0_through 73 = .ok (.iconst (-1), 1) := dk_2 (dk_at dksX0_through_3 5 rfl rfl)
theorem dX0_through_74 : decode cX0_through 74 = .ok (.if_icmp .ne 8, 3) := dk_160 0 8 (dk_at dksX0_through_3 6 rfl rfl)
theorem dX0_through_77 : decode cX0_through 77 = .ok (.iload 6, 2) := dk_21 6 (dk_at dksX0_through_3 9 rfl rfl)
theorem dX0_through_79 : decode cX0_through 79 = .ok (.goto 21, 3) := dk_167 0 21 (dk_at dksX0_through_3 11 rfl rfl)
theorem dX0_through_82 : decode cX0_through 82 = .ok (.aload 8, 2) := dk_25 8 (dk_at dksX0_through_3 14 rfl rfl)
theorem dX0_through_84 : decode cX0_through 84 = .ok (.aload_n 0, 1) := dk_42 (dk_at dksX0_through_3 16 rfl rfl)
theorem dX0_through_85 : decode cX0_through 85 = .ok (.getfield 111, 3) := dk_180 0 111 (dk_at dksX0_through_3 17 rfl rfl)
theorem dX0_through_88 : decode cX0_through 88 = .ok (.getfield 270, 3) := dk_180 1 14 (dk_at dksX0_through_3 20 rfl rfl)
theorem dX0_through_91 : decode cX0_through 91 = .ok (.invokevirtual 310, 3) := dk_182 1 54 (dk_at dksX0_through_4 0 rfl rfl)
theorem dX0_through_94 : decode cX0_through 94 = .ok (.getfield 287, 3) := dk_180 1 31 (dk_at dksX0_through_4 3 rfl rfl)
theorem dX0_through_97 : decode cX0_through 97 = .ok (.iload 6, 2) := dk_21 6 (dk_at dksX0_through_4 6 rfl rfl)
theorem dX0_through_99 : decode cX0_through 99 = .ok (.iaload, 1) := dk_46 (dk_at dksX0_through_4 8 rfl rfl)
theorem dX0_through_100 : decode cX0_through 100 = .ok (.istore 6, 2) := dk_54 6 (dk_at dksX0_through_4 9 rfl rfl)
theorem dX0_through_102 : decode cX0_through 102 = .ok (.goto (-60), 3) := dk_167 255 196 (dk_at dksX0_through_4 11 rfl rfl)
theorem dX0_through_105 : decode cX0_through 105 = .ok (.iload 6, 2) := dk_21 6 (dk_at dksX0_through_4 14 rfl rfl)
theorem dX0_through_107 : decode cX0_through 107 = .ok (.ireturn, 1) := dk_172 (dk_at dksX0_through_4 16 rfl rfl)
theorem dX0_through_108 : decode cX0_through 108 = .ok (.astore 4, 2) := dk_58 4 (dk_at dksX0_through_4 17 rfl rfl)
theorem dX0_through_110 : decode cX0_through 110 = .ok (.aload_n 0, 1) := dk_42 (dk_at dksX0_through_4 19 rfl rfl)
theorem dX0_through_111 : decode cX0_through 111 = .ok (.aload 4, 2) := dk_25 4 (dk_at dksX0_through_4 20 rfl rfl)
theorem dX0_through_113 : decode cX0_through 113 = .ok (.invokevirtual 181, 3) := dk_182 0 181 (dk_at dksX0_through_5 0 rfl rfl)
theorem dX0_through_116 : decode cX0_through 116 = .ok (.bipush 10, 2) := dk_16 10 (dk_at dksX0_through_5 3 rfl rfl)
theorem dX0_through_118 : decode cX0_through 118 = .ok (.isub, 1) := dk_100 (dk_at dksX0_through_5 5 rfl rfl)
theorem dX0_through_119 : decode cX0_through 119 = .ok (.ireturn, 1) := dk_172 (dk_at dksX0_through_5 6 rfl rfl)
abbrev cX0_mustBehind : ByteArray := prog_1_method_31_code
def yX0_mustBehind : MethodName := ⟨RX0, "mustBehind", "(LLineRemarks$Revision;LLineRemarks$Revision;)V"⟩
def dkwX0_mustBehind_0 : List UInt8 := [42, 43, 182, 1, 39, 16, 250, 184, 0, 129, 177]
abbrev dktX0_mustBehind_0 : List UInt8 := dkwX0_mustBehind_0 ++ []
theorem dksX0_mustBehind_0 : cX0_mustBehind.data.toList.drop 0 = dktX0_mustBehind_0 := by decide +kernel
theorem dX0_mustBehind_0 : decode cX0_mustBehind 0 = .ok (.aload_n 0, 1) := dk_42 (dk_at dksX0_mustBehind_0 0 rfl rfl)
theorem dX0_mustBehind_1 : decode cX0_mustBehind 1 = .ok (.aload_n 1, 1) := dk_43 (dk_at dksX0_mustBehind_0 1 rfl rfl)
theorem dX0_mustBehind_2 : decode cX0_mustBehind 2 = .ok (.invokevirtual 295, 3) := dk_182 1 39 (dk_at dksX0_mustBehind_0 2 rfl rfl)
theorem dX0_mustBehind_5 : decode cX0_mustBehind 5 = .ok (.bipush (-6), 2) := dk_16 250 (dk_at dksX0_mustBehind_0 5 rfl rfl)
theorem dX0_mustBehind_7 : decode cX0_mustBehind 7 = .ok (.invokestatic 129, 3) := dk_184 0 129 (dk_at dksX0_mustBehind_0 7 rfl rfl)
theorem dX0_mustBehind_10 : decode cX0_mustBehind 10 = .ok (.return_, 1) := dk_177 (dk_at dksX0_mustBehind_0 10 rfl rfl)
abbrev cX0_origin : ByteArray := prog_1_method_33_code
def yX0_origin : MethodName := ⟨RX0, "origin", "(III)I"⟩
def dkwX0_origin_5 : List UInt8 := [180, 1, 3, 167, 0, 5, 21, 5, 172, 58, 4, 42, 25, 4, 182, 0, 181, 172]
abbrev dktX0_origin_5 : List UInt8 := dkwX0_origin_5 ++ []
def dkwX0_origin_4 : List UInt8 := [180, 1, 14, 182, 1, 54, 21, 5, 182, 1, 58, 54, 6, 167, 255, 208, 29, 154, 0, 11, 25, 4]
abbrev dktX0_origin_4 : List UInt8 := dkwX0_origin_4 ++ dktX0_origin_5
def dkwX0_origin_3 : List UInt8 := [58, 4, 21, 6, 54, 5, 25, 4, 180, 0, 255, 199, 0, 7, 2, 167, 0, 20, 25, 4, 42, 180, 0, 111]
abbrev dktX0_origin_3 : List UInt8 := dkwX0_origin_3 ++ dktX0_origin_4
def dkwX0_origin_2 : List UInt8 := [180, 1, 14, 182, 1, 54, 21, 5, 182, 1, 58, 54, 6, 21, 6, 2, 159, 0, 48, 25, 4, 180, 0, 255]
abbrev dktX0_origin_2 : List UInt8 := dkwX0_origin_2 ++ dktX0_origin_3
def dkwX0_origin_1 : List UInt8 := [184, 0, 129, 28, 54, 5, 25, 4, 180, 0, 255, 199, 0, 7, 2, 167, 0, 20, 25, 4, 42, 180, 0, 111]
abbrev dktX0_origin_1 : List UInt8 := dkwX0_origin_1 ++ dktX0_origin_2
def dkwX0_origin_0 : List UInt8 := [42, 27, 182, 0, 211, 58, 4, 25, 4, 28, 184, 0, 246, 29, 133, 9, 10, 184, 0, 173, 16, 251]
abbrev dktX0_origin_0 : List UInt8 := dkwX0_origin_0 ++ dktX0_origin_1
theorem dksX0_origin_0 : cX0_origin.data.toList.drop 0 = dktX0_origin_0 := by decide +kernel
theorem dksX0_origin_1 : cX0_origin.data.toList.drop 22 = dktX0_origin_1 := dk_seg dksX0_origin_0 22 rfl rfl
theorem dksX0_origin_2 : cX0_origin.data.toList.drop 46 = dktX0_origin_2 := dk_seg dksX0_origin_1 24 rfl rfl
theorem dksX0_origin_3 : cX0_origin.data.toList.drop 70 = dktX0_origin_3 := dk_seg dksX0_origin_2 24 rfl rfl
theorem dksX0_origin_4 : cX0_origin.data.toList.drop 94 = dktX0_origin_4 := dk_seg dksX0_origin_3 24 rfl rfl
theorem dksX0_origin_5 : cX0_origin.data.toList.drop 116 = dktX0_origin_5 := dk_seg dksX0_origin_4 22 rfl rfl
theorem dX0_origin_0 : decode cX0_origin 0 = .ok (.aload_n 0, 1) := dk_42 (dk_at dksX0_origin_0 0 rfl rfl)
theorem dX0_origin_1 : decode cX0_origin 1 = .ok (.iload_n 1, 1) := dk_27 (dk_at dksX0_origin_0 1 rfl rfl)
theorem dX0_origin_2 : decode cX0_origin 2 = .ok (.invokevirtual 211, 3) := dk_182 0 211 (dk_at dksX0_origin_0 2 rfl rfl)
theorem dX0_origin_5 : decode cX0_origin 5 = .ok (.astore 4, 2) := dk_58 4 (dk_at dksX0_origin_0 5 rfl rfl)
theorem dX0_origin_7 : decode cX0_origin 7 = .ok (.aload 4, 2) := dk_25 4 (dk_at dksX0_origin_0 7 rfl rfl)
theorem dX0_origin_9 : decode cX0_origin 9 = .ok (.iload_n 2, 1) := dk_28 (dk_at dksX0_origin_0 9 rfl rfl)
theorem dX0_origin_10 : decode cX0_origin 10 = .ok (.invokestatic 246, 3) := dk_184 0 246 (dk_at dksX0_origin_0 10 rfl rfl)
theorem dX0_origin_13 : decode cX0_origin 13 = .ok (.iload_n 3, 1) := dk_29 (dk_at dksX0_origin_0 13 rfl rfl)
theorem dX0_origin_14 : decode cX0_origin 14 = .ok (.i2l, 1) := dk_133 (dk_at dksX0_origin_0 14 rfl rfl)
theorem dX0_origin_15 : decode cX0_origin 15 = .ok (.lconst 0, 1) := dk_9 (dk_at dksX0_origin_0 15 rfl rfl)
theorem dX0_origin_16 : decode cX0_origin 16 = .ok (.lconst 1, 1) := dk_10 (dk_at dksX0_origin_0 16 rfl rfl)
theorem dX0_origin_17 : decode cX0_origin 17 = .ok (.invokestatic 173, 3) := dk_184 0 173 (dk_at dksX0_origin_0 17 rfl rfl)
theorem dX0_origin_20 : decode cX0_origin 20 = .ok (.bipush (-5), 2) := dk_16 251 (dk_at dksX0_origin_0 20 rfl rfl)
theorem dX0_origin_22 : decode cX0_origin 22 = .ok (.invokestatic 129, 3) := dk_184 0 129 (dk_at dksX0_origin_1 0 rfl rfl)
theorem dX0_origin_25 : decode cX0_origin 25 = .ok (.iload_n 2, 1) := dk_28 (dk_at dksX0_origin_1 3 rfl rfl)
theorem dX0_origin_26 : decode cX0_origin 26 = .ok (.istore 5, 2) := dk_54 5 (dk_at dksX0_origin_1 4 rfl rfl)
theorem dX0_origin_28 : decode cX0_origin 28 = .ok (.aload 4, 2) := dk_25 4 (dk_at dksX0_origin_1 6 rfl rfl)
theorem dX0_origin_30 : decode cX0_origin 30 = .ok (.getfield 255, 3) := dk_180 0 255 (dk_at dksX0_origin_1 8 rfl rfl)
theorem dX0_origin_33 : decode cX0_origin 33 = .ok (.ifnonnull 7, 3) := dk_199 0 7 (dk_at dksX0_origin_1 11 rfl rfl)
theorem dX0_origin_36 : decode cX0_origin 36 = .ok (.iconst (-1), 1) := dk_2 (dk_at dksX0_origin_1 14 rfl rfl)
theorem dX0_origin_37 : decode cX0_origin 37 = .ok (.goto 20, 3) := dk_167 0 20 (dk_at dksX0_origin_1 15 rfl rfl)
theorem dX0_origin_40 : decode cX0_origin 40 = .ok (.aload 4, 2) := dk_25 4 (dk_at dksX0_origin_1 18 rfl rfl)
theorem dX0_origin_42 : decode cX0_origin 42 = .ok (.aload_n 0, 1) := dk_42 (dk_at dksX0_origin_1 20 rfl rfl)
theorem dX0_origin_43 : decode cX0_origin 43 = .ok (.getfield 111, 3) := dk_180 0 111 (dk_at dksX0_origin_1 21 rfl rfl)
theorem dX0_origin_46 : decode cX0_origin 46 = .ok (.getfield 270, 3) := dk_180 1 14 (dk_at dksX0_origin_2 0 rfl rfl)
theorem dX0_origin_49 : decode cX0_origin 49 = .ok (.invokevirtual 310, 3) := dk_182 1 54 (dk_at dksX0_origin_2 3 rfl rfl)
theorem dX0_origin_52 : decode cX0_origin 52 = .ok (.iload 5, 2) := dk_21 5 (dk_at dksX0_origin_2 6 rfl rfl)
theorem dX0_origin_54 : decode cX0_origin 54 = .ok (.invokevirtual 314, 3) := dk_182 1 58 (dk_at dksX0_origin_2 8 rfl rfl)
theorem dX0_origin_57 : decode cX0_origin 57 = .ok (.istore 6, 2) := dk_54 6 (dk_at dksX0_origin_2 11 rfl rfl)
theorem dX0_origin_59 : decode cX0_origin 59 = .ok (.iload 6, 2) := dk_21 6 (dk_at dksX0_origin_2 13 rfl rfl)
theorem dX0_origin_61 : decode cX0_origin 61 = .ok (.iconst (-1), 1) := dk_2 (dk_at dksX0_origin_2 15 rfl rfl)
theorem dX0_origin_62 : decode cX0_origin 62 = .ok (.if_icmp .eq 48, 3) := dk_159 0 48 (dk_at dksX0_origin_2 16 rfl rfl)
theorem dX0_origin_65 : decode cX0_origin 65 = .ok (.aload 4, 2) := dk_25 4 (dk_at dksX0_origin_2 19 rfl rfl)
theorem dX0_origin_67 : decode cX0_origin 67 = .ok (.getfield 255, 3) := dk_180 0 255 (dk_at dksX0_origin_2 21 rfl rfl)
theorem dX0_origin_70 : decode cX0_origin 70 = .ok (.astore 4, 2) := dk_58 4 (dk_at dksX0_origin_3 0 rfl rfl)
theorem dX0_origin_72 : decode cX0_origin 72 = .ok (.iload 6, 2) := dk_21 6 (dk_at dksX0_origin_3 2 rfl rfl)
theorem dX0_origin_74 : decode cX0_origin 74 = .ok (.istore 5, 2) := dk_54 5 (dk_at dksX0_origin_3 4 rfl rfl)
theorem dX0_origin_76 : decode cX0_origin 76 = .ok (.aload 4, 2) := dk_25 4 (dk_at dksX0_origin_3 6 rfl rfl)
theorem dX0_origin_78 : decode cX0_origin 78 = .ok (.getfield 255, 3) := dk_180 0 255 (dk_at dksX0_origin_3 8 rfl rfl)
theorem dX0_origin_81 : decode cX0_origin 81 = .ok (.ifnonnull 7, 3) := dk_199 0 7 (dk_at dksX0_origin_3 11 rfl rfl)
theorem dX0_origin_84 : decode cX0_origin 84 = .ok (.iconst (-1), 1) := dk_2 (dk_at dksX0_origin_3 14 rfl rfl)
theorem dX0_origin_85 : decode cX0_origin 85 = .ok (.goto 20, 3) := dk_167 0 20 (dk_at dksX0_origin_3 15 rfl rfl)
theorem dX0_origin_88 : decode cX0_origin 88 = .ok (.aload 4, 2) := dk_25 4 (dk_at dksX0_origin_3 18 rfl rfl)
theorem dX0_origin_90 : decode cX0_origin 90 = .ok (.aload_n 0, 1) := dk_42 (dk_at dksX0_origin_3 20 rfl rfl)
theorem dX0_origin_91 : decode cX0_origin 91 = .ok (.getfield 111, 3) := dk_180 0 111 (dk_at dksX0_origin_3 21 rfl rfl)
theorem dX0_origin_94 : decode cX0_origin 94 = .ok (.getfield 270, 3) := dk_180 1 14 (dk_at dksX0_origin_4 0 rfl rfl)
theorem dX0_origin_97 : decode cX0_origin 97 = .ok (.invokevirtual 310, 3) := dk_182 1 54 (dk_at dksX0_origin_4 3 rfl rfl)
theorem dX0_origin_100 : decode cX0_origin 100 = .ok (.iload 5, 2) := dk_21 5 (dk_at dksX0_origin_4 6 rfl rfl)
theorem dX0_origin_102 : decode cX0_origin 102 = .ok (.invokevirtual 314, 3) := dk_182 1 58 (dk_at dksX0_origin_4 8 rfl rfl)
theorem dX0_origin_105 : decode cX0_origin 105 = .ok (.istore 6, 2) := dk_54 6 (dk_at dksX0_origin_4 11 rfl rfl)
theorem dX0_origin_107 : decode cX0_origin 107 = .ok (.goto (-48), 3) := dk_167 255 208 (dk_at dksX0_origin_4 13 rfl rfl)
theorem dX0_origin_110 : decode cX0_origin 110 = .ok (.iload_n 3, 1) := dk_29 (dk_at dksX0_origin_4 16 rfl rfl)
theorem dX0_origin_111 : decode cX0_origin 111 = .ok (.ifCond .ne 11, 3) := dk_154 0 11 (dk_at dksX0_origin_4 17 rfl rfl)
theorem dX0_origin_114 : decode cX0_origin 114 = .ok (.aload 4, 2) := dk_25 4 (dk_at dksX0_origin_4 20 rfl rfl)
theorem dX0_origin_116 : decode cX0_origin 116 = .ok (.getfield 259, 3) := dk_180 1 3 (dk_at dksX0_origin_5 0 rfl rfl)
theorem dX0_origin_119 : decode cX0_origin 119 = .ok (.goto 5, 3) := dk_167 0 5 (dk_at dksX0_origin_5 3 rfl rfl)
theorem dX0_origin_122 : decode cX0_origin 122 = .ok (.iload 5, 2) := dk_21 5 (dk_at dksX0_origin_5 6 rfl rfl)
theorem dX0_origin_124 : decode cX0_origin 124 = .ok (.ireturn, 1) := dk_172 (dk_at dksX0_origin_5 8 rfl rfl)
theorem dX0_origin_125 : decode cX0_origin 125 = .ok (.astore 4, 2) := dk_58 4 (dk_at dksX0_origin_5 9 rfl rfl)
theorem dX0_origin_127 : decode cX0_origin 127 = .ok (.aload_n 0, 1) := dk_42 (dk_at dksX0_origin_5 11 rfl rfl)
theorem dX0_origin_128 : decode cX0_origin 128 = .ok (.aload 4, 2) := dk_25 4 (dk_at dksX0_origin_5 12 rfl rfl)
theorem dX0_origin_130 : decode cX0_origin 130 = .ok (.invokevirtual 181, 3) := dk_182 0 181 (dk_at dksX0_origin_5 14 rfl rfl)
theorem dX0_origin_133 : decode cX0_origin 133 = .ok (.ireturn, 1) := dk_172 (dk_at dksX0_origin_5 17 rfl rfl)
abbrev cX0_remark : ByteArray := prog_1_method_34_code
def yX0_remark : MethodName := ⟨RX0, "remark", "(IIIIII)I"⟩
def dkwX0_remark_6 : List UInt8 := [182, 0, 181, 172]
abbrev dktX0_remark_6 : List UInt8 := dkwX0_remark_6 ++ []
def dkwX0_remark_5 : List UInt8 := [180, 0, 111, 27, 28, 25, 7, 21, 4, 21, 5, 21, 6, 182, 1, 64, 172, 58, 7, 42, 25, 7]
abbrev dktX0_remark_5 : List UInt8 := dkwX0_remark_5 ++ dktX0_remark_6
def dkwX0_remark_4 : List UInt8 := [180, 0, 111, 180, 1, 61, 16, 16, 162, 0, 7, 4, 167, 0, 4, 3, 16, 249, 184, 0, 129, 42]
abbrev dktX0_remark_4 : List UInt8 := dkwX0_remark_4 ++ dktX0_remark_5
def dkwX0_remark_3 : List UInt8 := [167, 0, 4, 3, 16, 251, 184, 0, 129, 28, 133, 9, 20, 1, 8, 184, 0, 173, 16, 250, 184, 0, 129, 42]
abbrev dktX0_remark_3 : List UInt8 := dkwX0_remark_3 ++ dktX0_remark_4
def dkwX0_remark_2 : List UInt8 := [25, 7, 21, 4, 184, 0, 246, 25, 7, 21, 5, 184, 0, 246, 21, 4, 21, 5, 163, 0, 7, 4]
abbrev dktX0_remark_2 : List UInt8 := dkwX0_remark_2 ++ dktX0_remark_3
def dkwX0_remark_1 : List UInt8 := [159, 0, 15, 42, 180, 0, 111, 21, 6, 182, 0, 137, 153, 0, 7, 4, 167, 0, 4, 3, 2, 184, 0, 129]
abbrev dktX0_remark_1 : List UInt8 := dkwX0_remark_1 ++ dktX0_remark_2
def dkwX0_remark_0 : List UInt8 := [27, 133, 9, 20, 0, 205, 184, 0, 173, 2, 184, 0, 129, 42, 29, 182, 0, 211, 58, 7, 21, 6, 2]
abbrev dktX0_remark_0 : List UInt8 := dkwX0_remark_0 ++ dktX0_remark_1
theorem dksX0_remark_0 : cX0_remark.data.toList.drop 0 = dktX0_remark_0 := by decide +kernel
theorem dksX0_remark_1 : cX0_remark.data.toList.drop 23 = dktX0_remark_1 := dk_seg dksX0_remark_0 23 rfl rfl
theorem dksX0_remark_2 : cX0_remark.data.toList.drop 47 = dktX0_remark_2 := dk_seg dksX0_remark_1 24 rfl rfl
theorem dksX0_remark_3 : cX0_remark.data.toList.drop 69 = dktX0_remark_3 := dk_seg dksX0_remark_2 22 rfl rfl
theorem dksX0_remark_4 : cX0_remark.data.toList.drop 93 = dktX0_remark_4 := dk_seg dksX0_remark_3 24 rfl rfl
theorem dksX0_remark_5 : cX0_remark.data.toList.drop 115 = dktX0_remark_5 := dk_seg dksX0_remark_4 22 rfl rfl
theorem dksX0_remark_6 : cX0_remark.data.toList.drop 137 = dktX0_remark_6 := dk_seg dksX0_remark_5 22 rfl rfl
theorem dX0_remark_0 : decode cX0_remark 0 = .ok (.iload_n 1, 1) := dk_27 (dk_at dksX0_remark_0 0 rfl rfl)
theorem dX0_remark_1 : decode cX0_remark 1 = .ok (.i2l, 1) := dk_133 (dk_at dksX0_remark_0 1 rfl rfl)
theorem dX0_remark_2 : decode cX0_remark 2 = .ok (.lconst 0, 1) := dk_9 (dk_at dksX0_remark_0 2 rfl rfl)
theorem dX0_remark_3 : decode cX0_remark 3 = .ok (.ldc2_w 205, 3) := dk_20 0 205 (dk_at dksX0_remark_0 3 rfl rfl)
theorem dX0_remark_6 : decode cX0_remark 6 = .ok (.invokestatic 173, 3) := dk_184 0 173 (dk_at dksX0_remark_0 6 rfl rfl)
theorem dX0_remark_9 : decode cX0_remark 9 = .ok (.iconst (-1), 1) := dk_2 (dk_at dksX0_remark_0 9 rfl rfl)
theorem dX0_remark_10 : decode cX0_remark 10 = .ok (.invokestatic 129, 3) := dk_184 0 129 (dk_at dksX0_remark_0 10 rfl rfl)
theorem dX0_remark_13 : decode cX0_remark 13 = .ok (.aload_n 0, 1) := dk_42 (dk_at dksX0_remark_0 13 rfl rfl)
theorem dX0_remark_14 : decode cX0_remark 14 = .ok (.iload_n 3, 1) := dk_29 (dk_at dksX0_remark_0 14 rfl rfl)
theorem dX0_remark_15 : decode cX0_remark 15 = .ok (.invokevirtual 211, 3) := dk_182 0 211 (dk_at dksX0_remark_0 15 rfl rfl)
theorem dX0_remark_18 : decode cX0_remark 18 = .ok (.astore 7, 2) := dk_58 7 (dk_at dksX0_remark_0 18 rfl rfl)
theorem dX0_remark_20 : decode cX0_remark 20 = .ok (.iload 6, 2) := dk_21 6 (dk_at dksX0_remark_0 20 rfl rfl)
theorem dX0_remark_22 : decode cX0_remark 22 = .ok (.iconst (-1), 1) := dk_2 (dk_at dksX0_remark_0 22 rfl rfl)
theorem dX0_remark_23 : decode cX0_remark 23 = .ok (.if_icmp .eq 15, 3) := dk_159 0 15 (dk_at dksX0_remark_1 0 rfl rfl)
theorem dX0_remark_26 : decode cX0_remark 26 = .ok (.aload_n 0, 1) := dk_42 (dk_at dksX0_remark_1 3 rfl rfl)
theorem dX0_remark_27 : decode cX0_remark 27 = .ok (.getfield 111, 3) := dk_180 0 111 (dk_at dksX0_remark_1 4 rfl rfl)
theorem dX0_remark_30 : decode cX0_remark 30 = .ok (.iload 6, 2) := dk_21 6 (dk_at dksX0_remark_1 7 rfl rfl)
theorem dX0_remark_32 : decode cX0_remark 32 = .ok (.invokevirtual 137, 3) := dk_182 0 137 (dk_at dksX0_remark_1 9 rfl rfl)
theorem dX0_remark_35 : decode cX0_remark 35 = .ok (.ifCond .eq 7, 3) := dk_153 0 7 (dk_at dksX0_remark_1 12 rfl rfl)
theorem dX0_remark_38 : decode cX0_remark 38 = .ok (.iconst 1, 1) := dk_4 (dk_at dksX0_remark_1 15 rfl rfl)
theorem dX0_remark_39 : decode cX0_remark 39 = .ok (.goto 4, 3) := dk_167 0 4 (dk_at dksX0_remark_1 16 rfl rfl)
theorem dX0_remark_42 : decode cX0_remark 42 = .ok (.iconst 0, 1) := dk_3 (dk_at dksX0_remark_1 19 rfl rfl)
theorem dX0_remark_43 : decode cX0_remark 43 = .ok (.iconst (-1), 1) := dk_2 (dk_at dksX0_remark_1 20 rfl rfl)
theorem dX0_remark_44 : decode cX0_remark 44 = .ok (.invokestatic 129, 3) := dk_184 0 129 (dk_at dksX0_remark_1 21 rfl rfl)
theorem dX0_remark_47 : decode cX0_remark 47 = .ok (.aload 7, 2) := dk_25 7 (dk_at dksX0_remark_2 0 rfl rfl)
theorem dX0_remark_49 : decode cX0_remark 49 = .ok (.iload 4, 2) := dk_21 4 (dk_at dksX0_remark_2 2 rfl rfl)
theorem dX0_remark_51 : decode cX0_remark 51 = .ok (.invokestatic 246, 3) := dk_184 0 246 (dk_at dksX0_remark_2 4 rfl rfl)
theorem dX0_remark_54 : decode cX0_remark 54 = .ok (.aload 7, 2) := dk_25 7 (dk_at dksX0_remark_2 7 rfl rfl)
theorem dX0_remark_56 : decode cX0_remark 56 = .ok (.iload 5, 2) := dk_21 5 (dk_at dksX0_remark_2 9 rfl rfl)
theorem dX0_remark_58 : decode cX0_remark 58 = .ok (.invokestatic 246, 3) := dk_184 0 246 (dk_at dksX0_remark_2 11 rfl rfl)
theorem dX0_remark_61 : decode cX0_remark 61 = .ok (.iload 4, 2) := dk_21 4 (dk_at dksX0_remark_2 14 rfl rfl)
theorem dX0_remark_63 : decode cX0_remark 63 = .ok (.iload 5, 2) := dk_21 5 (dk_at dksX0_remark_2 16 rfl rfl)
theorem dX0_remark_65 : decode cX0_remark 65 = .ok (.if_icmp .gt 7, 3) := dk_163 0 7 (dk_at dksX0_remark_2 18 rfl rfl)
theorem dX0_remark_68 : decode cX0_remark 68 = .ok (.iconst 1, 1) := dk_4 (dk_at dksX0_remark_2 21 rfl rfl)
theorem dX0_remark_69 : decode cX0_remark 69 = .ok (.goto 4, 3) := dk_167 0 4 (dk_at dksX0_remark_3 0 rfl rfl)
theorem dX0_remark_72 : decode cX0_remark 72 = .ok (.iconst 0, 1) := dk_3 (dk_at dksX0_remark_3 3 rfl rfl)
theorem dX0_remark_73 : decode cX0_remark 73 = .ok (.bipush (-5), 2) := dk_16 251 (dk_at dksX0_remark_3 4 rfl rfl)
theorem dX0_remark_75 : decode cX0_remark 75 = .ok (.invokestatic 129, 3) := dk_184 0 129 (dk_at dksX0_remark_3 6 rfl rfl)
theorem dX0_remark_78 : decode cX0_remark 78 = .ok (.iload_n 2, 1) := dk_28 (dk_at dksX0_remark_3 9 rfl rfl)
theorem dX0_remark_79 : decode cX0_remark 79 = .ok (.i2l, 1) := dk_133 (dk_at dksX0_remark_3 10 rfl rfl)
theorem dX0_remark_80 : decode cX0_remark 80 = .ok (.lconst 0, 1) := dk_9 (dk_at dksX0_remark_3 11 rfl rfl)
theorem dX0_remark_81 : decode cX0_remark 81 = .ok (.ldc2_w 264, 3) := dk_20 1 8 (dk_at dksX0_remark_3 12 rfl rfl)
theorem dX0_remark_84 : decode cX0_remark 84 = .ok (.invokestatic 173, 3) := dk_184 0 173 (dk_at dksX0_remark_3 15 rfl rfl)
theorem dX0_remark_87 : decode cX0_remark 87 = .ok (.bipush (-6), 2) := dk_16 250 (dk_at dksX0_remark_3 18 rfl rfl)
theorem dX0_remark_89 : decode cX0_remark 89 = .ok (.invokestatic 129, 3) := dk_184 0 129 (dk_at dksX0_remark_3 20 rfl rfl)
theorem dX0_remark_92 : decode cX0_remark 92 = .ok (.aload_n 0, 1) := dk_42 (dk_at dksX0_remark_3 23 rfl rfl)
theorem dX0_remark_93 : decode cX0_remark 93 = .ok (.getfield 111, 3) := dk_180 0 111 (dk_at dksX0_remark_4 0 rfl rfl)
theorem dX0_remark_96 : decode cX0_remark 96 = .ok (.getfield 317, 3) := dk_180 1 61 (dk_at dksX0_remark_4 3 rfl rfl)
theorem dX0_remark_99 : decode cX0_remark 99 = .ok (.bipush 16, 2) := dk_16 16 (dk_at dksX0_remark_4 6 rfl rfl)
theorem dX0_remark_101 : decode cX0_remark 101 = .ok (.if_icmp .ge 7, 3) := dk_162 0 7 (dk_at dksX0_remark_4 8 rfl rfl)
theorem dX0_remark_104 : decode cX0_remark 104 = .ok (.iconst 1, 1) := dk_4 (dk_at dksX0_remark_4 11 rfl rfl)
theorem dX0_remark_105 : decode cX0_remark 105 = .ok (.goto 4, 3) := dk_167 0 4 (dk_at dksX0_remark_4 12 rfl rfl)
theorem dX0_remark_108 : decode cX0_remark 108 = .ok (.iconst 0, 1) := dk_3 (dk_at dksX0_remark_4 15 rfl rfl)
theorem dX0_remark_109 : decode cX0_remark 109 = .ok (.bipush (-7), 2) := dk_16 249 (dk_at dksX0_remark_4 16 rfl rfl)
theorem dX0_remark_111 : decode cX0_remark 111 = .ok (.invokestatic 129, 3) := dk_184 0 129 (dk_at dksX0_remark_4 18 rfl rfl)
theorem dX0_remark_114 : decode cX0_remark 114 = .ok (.aload_n 0, 1) := dk_42 (dk_at dksX0_remark_4 21 rfl rfl)
theorem dX0_remark_115 : decode cX0_remark 115 = .ok (.getfield 111, 3) := dk_180 0 111 (dk_at dksX0_remark_5 0 rfl rfl)
theorem dX0_remark_118 : decode cX0_remark 118 = .ok (.iload_n 1, 1) := dk_27 (dk_at dksX0_remark_5 3 rfl rfl)
theorem dX0_remark_119 : decode cX0_remark 119 = .ok (.iload_n 2, 1) := dk_28 (dk_at dksX0_remark_5 4 rfl rfl)
theorem dX0_remark_120 : decode cX0_remark 120 = .ok (.aload 7, 2) := dk_25 7 (dk_at dksX0_remark_5 5 rfl rfl)
theorem dX0_remark_122 : decode cX0_remark 122 = .ok (.iload 4, 2) := dk_21 4 (dk_at dksX0_remark_5 7 rfl rfl)
theorem dX0_remark_124 : decode cX0_remark 124 = .ok (.iload 5, 2) := dk_21 5 (dk_at dksX0_remark_5 9 rfl rfl)
theorem dX0_remark_126 : decode cX0_remark 126 = .ok (.iload 6, 2) := dk_21 6 (dk_at dksX0_remark_5 11 rfl rfl)
theorem dX0_remark_128 : decode cX0_remark 128 = .ok (.invokevirtual 320, 3) := dk_182 1 64 (dk_at dksX0_remark_5 13 rfl rfl)
theorem dX0_remark_131 : decode cX0_remark 131 = .ok (.ireturn, 1) := dk_172 (dk_at dksX0_remark_5 16 rfl rfl)
theorem dX0_remark_132 : decode cX0_remark 132 = .ok (.astore 7, 2) := dk_58 7 (dk_at dksX0_remark_5 17 rfl rfl)
theorem dX0_remark_134 : decode cX0_remark 134 = .ok (.aload_n 0, 1) := dk_42 (dk_at dksX0_remark_5 19 rfl rfl)
theorem dX0_remark_135 : decode cX0_remark 135 = .ok (.aload 7, 2) := dk_25 7 (dk_at dksX0_remark_5 20 rfl rfl)
theorem dX0_remark_137 : decode cX0_remark 137 = .ok (.invokevirtual 181, 3) := dk_182 0 181 (dk_at dksX0_remark_6 0 rfl rfl)
theorem dX0_remark_140 : decode cX0_remark 140 = .ok (.ireturn, 1) := dk_172 (dk_at dksX0_remark_6 3 rfl rfl)
abbrev cX0_ofKind : ByteArray := prog_1_method_5_code
def yX0_ofKind : MethodName := ⟨RX0, "ofKind", "(IIILLineRemarks$Revision;III)LLineRemarks$Remark;"⟩
def dkwX0_ofKind_7 : List UInt8 := [176]
abbrev dktX0_ofKind_7 : List UInt8 := dkwX0_ofKind_7 ++ []
def dkwX0_ofKind_6 : List UInt8 := [21, 5, 21, 6, 183, 0, 66, 176, 187, 0, 67, 89, 27, 28, 45, 21, 4, 21, 5, 21, 6, 183, 0, 69]
abbrev dktX0_ofKind_6 : List UInt8 := dkwX0_ofKind_6 ++ dktX0_ofKind_7
def dkwX0_ofKind_5 : List UInt8 := [89, 27, 28, 45, 21, 4, 21, 5, 21, 6, 183, 0, 63, 176, 187, 0, 64, 89, 27, 28, 45, 21, 4]
abbrev dktX0_ofKind_5 : List UInt8 := dkwX0_ofKind_5 ++ dktX0_ofKind_6
def dkwX0_ofKind_4 : List UInt8 := [183, 0, 57, 176, 187, 0, 58, 89, 27, 28, 45, 21, 4, 21, 5, 21, 6, 183, 0, 60, 176, 187, 0, 61]
abbrev dktX0_ofKind_4 : List UInt8 := dkwX0_ofKind_4 ++ dktX0_ofKind_5
def dkwX0_ofKind_3 : List UInt8 := [21, 4, 21, 5, 21, 6, 183, 0, 54, 176, 187, 0, 55, 89, 27, 28, 45, 21, 4, 21, 5, 21, 6]
abbrev dktX0_ofKind_3 : List UInt8 := dkwX0_ofKind_3 ++ dktX0_ofKind_4
def dkwX0_ofKind_2 : List UInt8 := [187, 0, 47, 89, 27, 28, 45, 21, 4, 21, 5, 21, 6, 183, 0, 49, 176, 187, 0, 52, 89, 27, 28, 45]
abbrev dktX0_ofKind_2 : List UInt8 := dkwX0_ofKind_2 ++ dktX0_ofKind_3
def dkwX0_ofKind_1 : List UInt8 := [170, 0, 0, 0, 0, 0, 141, 0, 0, 0, 1, 0, 0, 0, 6, 0, 0, 0, 39, 0, 0, 0, 56, 0, 0, 0, 73, 0, 0, 0, 90, 0, 0, 0, 107, 0, 0, 0, 124]
abbrev dktX0_ofKind_1 : List UInt8 := dkwX0_ofKind_1 ++ dktX0_ofKind_2
def dkwX0_ofKind_0 : List UInt8 := [26]
abbrev dktX0_ofKind_0 : List UInt8 := dkwX0_ofKind_0 ++ dktX0_ofKind_1
theorem dksX0_ofKind_0 : cX0_ofKind.data.toList.drop 0 = dktX0_ofKind_0 := by decide +kernel
theorem dksX0_ofKind_1 : cX0_ofKind.data.toList.drop 1 = dktX0_ofKind_1 := dk_seg dksX0_ofKind_0 1 rfl rfl
theorem dksX0_ofKind_2 : cX0_ofKind.data.toList.drop 40 = dktX0_ofKind_2 := dk_seg dksX0_ofKind_1 39 rfl rfl
theorem dksX0_ofKind_3 : cX0_ofKind.data.toList.drop 64 = dktX0_ofKind_3 := dk_seg dksX0_ofKind_2 24 rfl rfl
theorem dksX0_ofKind_4 : cX0_ofKind.data.toList.drop 87 = dktX0_ofKind_4 := dk_seg dksX0_ofKind_3 23 rfl rfl
theorem dksX0_ofKind_5 : cX0_ofKind.data.toList.drop 111 = dktX0_ofKind_5 := dk_seg dksX0_ofKind_4 24 rfl rfl
theorem dksX0_ofKind_6 : cX0_ofKind.data.toList.drop 134 = dktX0_ofKind_6 := dk_seg dksX0_ofKind_5 23 rfl rfl
theorem dksX0_ofKind_7 : cX0_ofKind.data.toList.drop 158 = dktX0_ofKind_7 := dk_seg dksX0_ofKind_6 24 rfl rfl
theorem dX0_ofKind_0 : decode cX0_ofKind 0 = .ok (.iload_n 0, 1) := dk_26 (dk_at dksX0_ofKind_0 0 rfl rfl)
theorem dX0_ofKind_1 : decode cX0_ofKind 1 = .ok (.tableswitch 141 1 6 #[39, 56, 73, 90, 107, 124], 39) := by decide +kernel
theorem dX0_ofKind_40 : decode cX0_ofKind 40 = .ok (.new 47, 3) := dk_187 0 47 (dk_at dksX0_ofKind_2 0 rfl rfl)
theorem dX0_ofKind_43 : decode cX0_ofKind 43 = .ok (.dup, 1) := dk_89 (dk_at dksX0_ofKind_2 3 rfl rfl)
theorem dX0_ofKind_44 : decode cX0_ofKind 44 = .ok (.iload_n 1, 1) := dk_27 (dk_at dksX0_ofKind_2 4 rfl rfl)
theorem dX0_ofKind_45 : decode cX0_ofKind 45 = .ok (.iload_n 2, 1) := dk_28 (dk_at dksX0_ofKind_2 5 rfl rfl)
theorem dX0_ofKind_46 : decode cX0_ofKind 46 = .ok (.aload_n 3, 1) := dk_45 (dk_at dksX0_ofKind_2 6 rfl rfl)
theorem dX0_ofKind_47 : decode cX0_ofKind 47 = .ok (.iload 4, 2) := dk_21 4 (dk_at dksX0_ofKind_2 7 rfl rfl)
theorem dX0_ofKind_49 : decode cX0_ofKind 49 = .ok (.iload 5, 2) := dk_21 5 (dk_at dksX0_ofKind_2 9 rfl rfl)
theorem dX0_ofKind_51 : decode cX0_ofKind 51 = .ok (.iload 6, 2) := dk_21 6 (dk_at dksX0_ofKind_2 11 rfl rfl)
theorem dX0_ofKind_53 : decode cX0_ofKind 53 = .ok (.invokespecial 49, 3) := dk_183 0 49 (dk_at dksX0_ofKind_2 13 rfl rfl)
theorem dX0_ofKind_56 : decode cX0_ofKind 56 = .ok (.areturn, 1) := dk_176 (dk_at dksX0_ofKind_2 16 rfl rfl)
theorem dX0_ofKind_57 : decode cX0_ofKind 57 = .ok (.new 52, 3) := dk_187 0 52 (dk_at dksX0_ofKind_2 17 rfl rfl)
theorem dX0_ofKind_60 : decode cX0_ofKind 60 = .ok (.dup, 1) := dk_89 (dk_at dksX0_ofKind_2 20 rfl rfl)
theorem dX0_ofKind_61 : decode cX0_ofKind 61 = .ok (.iload_n 1, 1) := dk_27 (dk_at dksX0_ofKind_2 21 rfl rfl)
theorem dX0_ofKind_62 : decode cX0_ofKind 62 = .ok (.iload_n 2, 1) := dk_28 (dk_at dksX0_ofKind_2 22 rfl rfl)
theorem dX0_ofKind_63 : decode cX0_ofKind 63 = .ok (.aload_n 3, 1) := dk_45 (dk_at dksX0_ofKind_2 23 rfl rfl)
theorem dX0_ofKind_64 : decode cX0_ofKind 64 = .ok (.iload 4, 2) := dk_21 4 (dk_at dksX0_ofKind_3 0 rfl rfl)
theorem dX0_ofKind_66 : decode cX0_ofKind 66 = .ok (.iload 5, 2) := dk_21 5 (dk_at dksX0_ofKind_3 2 rfl rfl)
theorem dX0_ofKind_68 : decode cX0_ofKind 68 = .ok (.iload 6, 2) := dk_21 6 (dk_at dksX0_ofKind_3 4 rfl rfl)
theorem dX0_ofKind_70 : decode cX0_ofKind 70 = .ok (.invokespecial 54, 3) := dk_183 0 54 (dk_at dksX0_ofKind_3 6 rfl rfl)
theorem dX0_ofKind_73 : decode cX0_ofKind 73 = .ok (.areturn, 1) := dk_176 (dk_at dksX0_ofKind_3 9 rfl rfl)
theorem dX0_ofKind_74 : decode cX0_ofKind 74 = .ok (.new 55, 3) := dk_187 0 55 (dk_at dksX0_ofKind_3 10 rfl rfl)
theorem dX0_ofKind_77 : decode cX0_ofKind 77 = .ok (.dup, 1) := dk_89 (dk_at dksX0_ofKind_3 13 rfl rfl)
theorem dX0_ofKind_78 : decode cX0_ofKind 78 = .ok (.iload_n 1, 1) := dk_27 (dk_at dksX0_ofKind_3 14 rfl rfl)
theorem dX0_ofKind_79 : decode cX0_ofKind 79 = .ok (.iload_n 2, 1) := dk_28 (dk_at dksX0_ofKind_3 15 rfl rfl)
theorem dX0_ofKind_80 : decode cX0_ofKind 80 = .ok (.aload_n 3, 1) := dk_45 (dk_at dksX0_ofKind_3 16 rfl rfl)
theorem dX0_ofKind_81 : decode cX0_ofKind 81 = .ok (.iload 4, 2) := dk_21 4 (dk_at dksX0_ofKind_3 17 rfl rfl)
theorem dX0_ofKind_83 : decode cX0_ofKind 83 = .ok (.iload 5, 2) := dk_21 5 (dk_at dksX0_ofKind_3 19 rfl rfl)
theorem dX0_ofKind_85 : decode cX0_ofKind 85 = .ok (.iload 6, 2) := dk_21 6 (dk_at dksX0_ofKind_3 21 rfl rfl)
theorem dX0_ofKind_87 : decode cX0_ofKind 87 = .ok (.invokespecial 57, 3) := dk_183 0 57 (dk_at dksX0_ofKind_4 0 rfl rfl)
theorem dX0_ofKind_90 : decode cX0_ofKind 90 = .ok (.areturn, 1) := dk_176 (dk_at dksX0_ofKind_4 3 rfl rfl)
theorem dX0_ofKind_91 : decode cX0_ofKind 91 = .ok (.new 58, 3) := dk_187 0 58 (dk_at dksX0_ofKind_4 4 rfl rfl)
theorem dX0_ofKind_94 : decode cX0_ofKind 94 = .ok (.dup, 1) := dk_89 (dk_at dksX0_ofKind_4 7 rfl rfl)
theorem dX0_ofKind_95 : decode cX0_ofKind 95 = .ok (.iload_n 1, 1) := dk_27 (dk_at dksX0_ofKind_4 8 rfl rfl)
theorem dX0_ofKind_96 : decode cX0_ofKind 96 = .ok (.iload_n 2, 1) := dk_28 (dk_at dksX0_ofKind_4 9 rfl rfl)
theorem dX0_ofKind_97 : decode cX0_ofKind 97 = .ok (.aload_n 3, 1) := dk_45 (dk_at dksX0_ofKind_4 10 rfl rfl)
theorem dX0_ofKind_98 : decode cX0_ofKind 98 = .ok (.iload 4, 2) := dk_21 4 (dk_at dksX0_ofKind_4 11 rfl rfl)
theorem dX0_ofKind_100 : decode cX0_ofKind 100 = .ok (.iload 5, 2) := dk_21 5 (dk_at dksX0_ofKind_4 13 rfl rfl)
theorem dX0_ofKind_102 : decode cX0_ofKind 102 = .ok (.iload 6, 2) := dk_21 6 (dk_at dksX0_ofKind_4 15 rfl rfl)
theorem dX0_ofKind_104 : decode cX0_ofKind 104 = .ok (.invokespecial 60, 3) := dk_183 0 60 (dk_at dksX0_ofKind_4 17 rfl rfl)
theorem dX0_ofKind_107 : decode cX0_ofKind 107 = .ok (.areturn, 1) := dk_176 (dk_at dksX0_ofKind_4 20 rfl rfl)
theorem dX0_ofKind_108 : decode cX0_ofKind 108 = .ok (.new 61, 3) := dk_187 0 61 (dk_at dksX0_ofKind_4 21 rfl rfl)
theorem dX0_ofKind_111 : decode cX0_ofKind 111 = .ok (.dup, 1) := dk_89 (dk_at dksX0_ofKind_5 0 rfl rfl)
theorem dX0_ofKind_112 : decode cX0_ofKind 112 = .ok (.iload_n 1, 1) := dk_27 (dk_at dksX0_ofKind_5 1 rfl rfl)
theorem dX0_ofKind_113 : decode cX0_ofKind 113 = .ok (.iload_n 2, 1) := dk_28 (dk_at dksX0_ofKind_5 2 rfl rfl)
theorem dX0_ofKind_114 : decode cX0_ofKind 114 = .ok (.aload_n 3, 1) := dk_45 (dk_at dksX0_ofKind_5 3 rfl rfl)
theorem dX0_ofKind_115 : decode cX0_ofKind 115 = .ok (.iload 4, 2) := dk_21 4 (dk_at dksX0_ofKind_5 4 rfl rfl)
theorem dX0_ofKind_117 : decode cX0_ofKind 117 = .ok (.iload 5, 2) := dk_21 5 (dk_at dksX0_ofKind_5 6 rfl rfl)
theorem dX0_ofKind_119 : decode cX0_ofKind 119 = .ok (.iload 6, 2) := dk_21 6 (dk_at dksX0_ofKind_5 8 rfl rfl)
theorem dX0_ofKind_121 : decode cX0_ofKind 121 = .ok (.invokespecial 63, 3) := dk_183 0 63 (dk_at dksX0_ofKind_5 10 rfl rfl)
theorem dX0_ofKind_124 : decode cX0_ofKind 124 = .ok (.areturn, 1) := dk_176 (dk_at dksX0_ofKind_5 13 rfl rfl)
theorem dX0_ofKind_125 : decode cX0_ofKind 125 = .ok (.new 64, 3) := dk_187 0 64 (dk_at dksX0_ofKind_5 14 rfl rfl)
theorem dX0_ofKind_128 : decode cX0_ofKind 128 = .ok (.dup, 1) := dk_89 (dk_at dksX0_ofKind_5 17 rfl rfl)
theorem dX0_ofKind_129 : decode cX0_ofKind 129 = .ok (.iload_n 1, 1) := dk_27 (dk_at dksX0_ofKind_5 18 rfl rfl)
theorem dX0_ofKind_130 : decode cX0_ofKind 130 = .ok (.iload_n 2, 1) := dk_28 (dk_at dksX0_ofKind_5 19 rfl rfl)
theorem dX0_ofKind_131 : decode cX0_ofKind 131 = .ok (.aload_n 3, 1) := dk_45 (dk_at dksX0_ofKind_5 20 rfl rfl)
theorem dX0_ofKind_132 : decode cX0_ofKind 132 = .ok (.iload 4, 2) := dk_21 4 (dk_at dksX0_ofKind_5 21 rfl rfl)
theorem dX0_ofKind_134 : decode cX0_ofKind 134 = .ok (.iload 5, 2) := dk_21 5 (dk_at dksX0_ofKind_6 0 rfl rfl)
theorem dX0_ofKind_136 : decode cX0_ofKind 136 = .ok (.iload 6, 2) := dk_21 6 (dk_at dksX0_ofKind_6 2 rfl rfl)
theorem dX0_ofKind_138 : decode cX0_ofKind 138 = .ok (.invokespecial 66, 3) := dk_183 0 66 (dk_at dksX0_ofKind_6 4 rfl rfl)
theorem dX0_ofKind_141 : decode cX0_ofKind 141 = .ok (.areturn, 1) := dk_176 (dk_at dksX0_ofKind_6 7 rfl rfl)
theorem dX0_ofKind_142 : decode cX0_ofKind 142 = .ok (.new 67, 3) := dk_187 0 67 (dk_at dksX0_ofKind_6 8 rfl rfl)
theorem dX0_ofKind_145 : decode cX0_ofKind 145 = .ok (.dup, 1) := dk_89 (dk_at dksX0_ofKind_6 11 rfl rfl)
theorem dX0_ofKind_146 : decode cX0_ofKind 146 = .ok (.iload_n 1, 1) := dk_27 (dk_at dksX0_ofKind_6 12 rfl rfl)
theorem dX0_ofKind_147 : decode cX0_ofKind 147 = .ok (.iload_n 2, 1) := dk_28 (dk_at dksX0_ofKind_6 13 rfl rfl)
theorem dX0_ofKind_148 : decode cX0_ofKind 148 = .ok (.aload_n 3, 1) := dk_45 (dk_at dksX0_ofKind_6 14 rfl rfl)
theorem dX0_ofKind_149 : decode cX0_ofKind 149 = .ok (.iload 4, 2) := dk_21 4 (dk_at dksX0_ofKind_6 15 rfl rfl)
theorem dX0_ofKind_151 : decode cX0_ofKind 151 = .ok (.iload 5, 2) := dk_21 5 (dk_at dksX0_ofKind_6 17 rfl rfl)
theorem dX0_ofKind_153 : decode cX0_ofKind 153 = .ok (.iload 6, 2) := dk_21 6 (dk_at dksX0_ofKind_6 19 rfl rfl)
theorem dX0_ofKind_155 : decode cX0_ofKind 155 = .ok (.invokespecial 69, 3) := dk_183 0 69 (dk_at dksX0_ofKind_6 21 rfl rfl)
theorem dX0_ofKind_158 : decode cX0_ofKind 158 = .ok (.areturn, 1) := dk_176 (dk_at dksX0_ofKind_7 0 rfl rfl)
abbrev cX0_remarkOf : ByteArray := prog_1_method_35_code
def yX0_remarkOf : MethodName := ⟨RX0, "remarkOf", "(II)I"⟩
def dkwX0_remarkOf_6 : List UInt8 := [180, 0, 111, 27, 182, 1, 99, 153, 0, 7, 4, 167, 0, 4, 3, 172, 42, 182, 1, 68, 172]
abbrev dktX0_remarkOf_6 : List UInt8 := dkwX0_remarkOf_6 ++ []
def dkwX0_remarkOf_5 : List UInt8 := [167, 0, 4, 3, 172, 42, 180, 0, 111, 27, 182, 1, 93, 172, 42, 180, 0, 111, 27, 182, 1, 96, 172, 42]
abbrev dktX0_remarkOf_5 : List UInt8 := dkwX0_remarkOf_5 ++ dktX0_remarkOf_6
def dkwX0_remarkOf_4 : List UInt8 := [180, 1, 83, 172, 45, 180, 1, 86, 172, 42, 180, 0, 111, 180, 1, 89, 27, 51, 153, 0, 7, 4]
abbrev dktX0_remarkOf_4 : List UInt8 := dkwX0_remarkOf_4 ++ dktX0_remarkOf_5
def dkwX0_remarkOf_3 : List UInt8 := [45, 182, 1, 71, 172, 45, 180, 1, 74, 172, 45, 180, 1, 77, 180, 1, 3, 172, 45, 180, 1, 80, 172, 45]
abbrev dktX0_remarkOf_3 : List UInt8 := dkwX0_remarkOf_3 ++ dktX0_remarkOf_4
def dkwX0_remarkOf_2 : List UInt8 := [170, 0, 0, 0, 139, 0, 0, 0, 0, 0, 0, 0, 9, 0, 0, 0, 53, 0, 0, 0, 58, 0, 0, 0, 63, 0, 0, 0, 71, 0, 0, 0, 76, 0, 0, 0, 81, 0, 0, 0, 86, 0, 0, 0, 104, 0, 0, 0, 113, 0, 0, 0, 122]
abbrev dktX0_remarkOf_2 : List UInt8 := dkwX0_remarkOf_2 ++ dktX0_remarkOf_3
def dkwX0_remarkOf_1 : List UInt8 := [50, 78, 28]
abbrev dktX0_remarkOf_1 : List UInt8 := dkwX0_remarkOf_1 ++ dktX0_remarkOf_2
def dkwX0_remarkOf_0 : List UInt8 := [42, 180, 0, 111, 27, 182, 0, 137, 154, 0, 8, 42, 182, 1, 68, 172, 42, 180, 0, 111, 180, 0, 140, 27]
abbrev dktX0_remarkOf_0 : List UInt8 := dkwX0_remarkOf_0 ++ dktX0_remarkOf_1
theorem dksX0_remarkOf_0 : cX0_remarkOf.data.toList.drop 0 = dktX0_remarkOf_0 := by decide +kernel
theorem dksX0_remarkOf_1 : cX0_remarkOf.data.toList.drop 24 = dktX0_remarkOf_1 := dk_seg dksX0_remarkOf_0 24 rfl rfl
theorem dksX0_remarkOf_2 : cX0_remarkOf.data.toList.drop 27 = dktX0_remarkOf_2 := dk_seg dksX0_remarkOf_1 3 rfl rfl
theorem dksX0_remarkOf_3 : cX0_remarkOf.data.toList.drop 80 = dktX0_remarkOf_3 := dk_seg dksX0_remarkOf_2 53 rfl rfl
theorem dksX0_remarkOf_4 : cX0_remarkOf.data.toList.drop 104 = dktX0_remarkOf_4 := dk_seg dksX0_remarkOf_3 24 rfl rfl
theorem dksX0_remarkOf_5 : cX0_remarkOf.data.toList.drop 126 = dktX0_remarkOf_5 := dk_seg dksX0_remarkOf_4 22 rfl rfl
theorem dksX0_remarkOf_6 : cX0_remarkOf.data.toList.drop 150 = dktX0_remarkOf_6 := dk_seg dksX0_remarkOf_5 24 rfl rfl
theorem dX0_remarkOf_0 : decode cX0_remarkOf 0 = .ok (.aload_n 0, 1) := dk_42 (dk_at dksX0_remarkOf_0 0 rfl rfl)
theorem dX0_remarkOf_1 : decode cX0_remarkOf 1 = .ok (.getfield 111, 3) := dk_180 0 111 (dk_at dksX0_remarkOf_0 1 rfl rfl)
theorem dX0_remarkOf_4 : decode cX0_remarkOf 4 = .ok (.iload_n 1, 1) := dk_27 (dk_at dksX0_remarkOf_0 4 rfl rfl)
theorem dX0_remarkOf_5 : decode cX0_remarkOf 5 = .ok (.invokevirtual 137, 3) := dk_182 0 137 (dk_at dksX0_remarkOf_0 5 rfl rfl)
theorem dX0_remarkOf_8 : decode cX0_remarkOf 8 = .ok (.ifCond .ne 8, 3) := dk_154 0 8 (dk_at dksX0_remarkOf_0 8 rfl rfl)
theorem dX0_remarkOf_11 : decode cX0_remarkOf 11 = .ok (.aload_n 0, 1) := dk_42 (dk_at dksX0_remarkOf_0 11 rfl rfl)
theorem dX0_remarkOf_12 : decode cX0_remarkOf 12 = .ok (.invokevirtual 324, 3) := dk_182 1 68 (dk_at dksX0_remarkOf_0 12 rfl rfl)
theorem dX0_remarkOf_15 : decode cX0_remarkOf 15 = .ok (.ireturn, 1) := dk_172 (dk_at dksX0_remarkOf_0 15 rfl rfl)
theorem dX0_remarkOf_16 : decode cX0_remarkOf 16 = .ok (.aload_n 0, 1) := dk_42 (dk_at dksX0_remarkOf_0 16 rfl rfl)
theorem dX0_remarkOf_17 : decode cX0_remarkOf 17 = .ok (.getfield 111, 3) := dk_180 0 111 (dk_at dksX0_remarkOf_0 17 rfl rfl)
theorem dX0_remarkOf_20 : decode cX0_remarkOf 20 = .ok (.getfield 140, 3) := dk_180 0 140 (dk_at dksX0_remarkOf_0 20 rfl rfl)
theorem dX0_remarkOf_23 : decode cX0_remarkOf 23 = .ok (.iload_n 1, 1) := dk_27 (dk_at dksX0_remarkOf_0 23 rfl rfl)
theorem dX0_remarkOf_24 : decode cX0_remarkOf 24 = .ok (.aaload, 1) := dk_50 (dk_at dksX0_remarkOf_1 0 rfl rfl)
theorem dX0_remarkOf_25 : decode cX0_remarkOf 25 = .ok (.astore_n 3, 1) := dk_78 (dk_at dksX0_remarkOf_1 1 rfl rfl)
theorem dX0_remarkOf_26 : decode cX0_remarkOf 26 = .ok (.iload_n 2, 1) := dk_28 (dk_at dksX0_remarkOf_1 2 rfl rfl)
theorem dX0_remarkOf_27 : decode cX0_remarkOf 27 = .ok (.tableswitch 139 0 9 #[53, 58, 63, 71, 76, 81, 86, 104, 113, 122], 53) := by decide +kernel
theorem dX0_remarkOf_80 : decode cX0_remarkOf 80 = .ok (.aload_n 3, 1) := dk_45 (dk_at dksX0_remarkOf_3 0 rfl rfl)
theorem dX0_remarkOf_81 : decode cX0_remarkOf 81 = .ok (.invokevirtual 327, 3) := dk_182 1 71 (dk_at dksX0_remarkOf_3 1 rfl rfl)
theorem dX0_remarkOf_84 : decode cX0_remarkOf 84 = .ok (.ireturn, 1) := dk_172 (dk_at dksX0_remarkOf_3 4 rfl rfl)
theorem dX0_remarkOf_85 : decode cX0_remarkOf 85 = .ok (.aload_n 3, 1) := dk_45 (dk_at dksX0_remarkOf_3 5 rfl rfl)
theorem dX0_remarkOf_86 : decode cX0_remarkOf 86 = .ok (.getfield 330, 3) := dk_180 1 74 (dk_at dksX0_remarkOf_3 6 rfl rfl)
theorem dX0_remarkOf_89 : decode cX0_remarkOf 89 = .ok (.ireturn, 1) := dk_172 (dk_at dksX0_remarkOf_3 9 rfl rfl)
theorem dX0_remarkOf_90 : decode cX0_remarkOf 90 = .ok (.aload_n 3, 1) := dk_45 (dk_at dksX0_remarkOf_3 10 rfl rfl)
theorem dX0_remarkOf_91 : decode cX0_remarkOf 91 = .ok (.getfield 333, 3) := dk_180 1 77 (dk_at dksX0_remarkOf_3 11 rfl rfl)
theorem dX0_remarkOf_94 : decode cX0_remarkOf 94 = .ok (.getfield 259, 3) := dk_180 1 3 (dk_at dksX0_remarkOf_3 14 rfl rfl)
theorem dX0_remarkOf_97 : decode cX0_remarkOf 97 = .ok (.ireturn, 1) := dk_172 (dk_at dksX0_remarkOf_3 17 rfl rfl)
theorem dX0_remarkOf_98 : decode cX0_remarkOf 98 = .ok (.aload_n 3, 1) := dk_45 (dk_at dksX0_remarkOf_3 18 rfl rfl)
theorem dX0_remarkOf_99 : decode cX0_remarkOf 99 = .ok (.getfield 336, 3) := dk_180 1 80 (dk_at dksX0_remarkOf_3 19 rfl rfl)
theorem dX0_remarkOf_102 : decode cX0_remarkOf 102 = .ok (.ireturn, 1) := dk_172 (dk_at dksX0_remarkOf_3 22 rfl rfl)
theorem dX0_remarkOf_103 : decode cX0_remarkOf 103 = .ok (.aload_n 3, 1) := dk_45 (dk_at dksX0_remarkOf_3 23 rfl rfl)
theorem dX0_remarkOf_104 : decode cX0_remarkOf 104 = .ok (.getfield 339, 3) := dk_180 1 83 (dk_at dksX0_remarkOf_4 0 rfl rfl)
theorem dX0_remarkOf_107 : decode cX0_remarkOf 107 = .ok (.ireturn, 1) := dk_172 (dk_at dksX0_remarkOf_4 3 rfl rfl)
theorem dX0_remarkOf_108 : decode cX0_remarkOf 108 = .ok (.aload_n 3, 1) := dk_45 (dk_at dksX0_remarkOf_4 4 rfl rfl)
theorem dX0_remarkOf_109 : decode cX0_remarkOf 109 = .ok (.getfield 342, 3) := dk_180 1 86 (dk_at dksX0_remarkOf_4 5 rfl rfl)
theorem dX0_remarkOf_112 : decode cX0_remarkOf 112 = .ok (.ireturn, 1) := dk_172 (dk_at dksX0_remarkOf_4 8 rfl rfl)
theorem dX0_remarkOf_113 : decode cX0_remarkOf 113 = .ok (.aload_n 0, 1) := dk_42 (dk_at dksX0_remarkOf_4 9 rfl rfl)
theorem dX0_remarkOf_114 : decode cX0_remarkOf 114 = .ok (.getfield 111, 3) := dk_180 0 111 (dk_at dksX0_remarkOf_4 10 rfl rfl)
theorem dX0_remarkOf_117 : decode cX0_remarkOf 117 = .ok (.getfield 345, 3) := dk_180 1 89 (dk_at dksX0_remarkOf_4 13 rfl rfl)
theorem dX0_remarkOf_120 : decode cX0_remarkOf 120 = .ok (.iload_n 1, 1) := dk_27 (dk_at dksX0_remarkOf_4 16 rfl rfl)
theorem dX0_remarkOf_121 : decode cX0_remarkOf 121 = .ok (.baload, 1) := dk_51 (dk_at dksX0_remarkOf_4 17 rfl rfl)
theorem dX0_remarkOf_122 : decode cX0_remarkOf 122 = .ok (.ifCond .eq 7, 3) := dk_153 0 7 (dk_at dksX0_remarkOf_4 18 rfl rfl)
theorem dX0_remarkOf_125 : decode cX0_remarkOf 125 = .ok (.iconst 1, 1) := dk_4 (dk_at dksX0_remarkOf_4 21 rfl rfl)
theorem dX0_remarkOf_126 : decode cX0_remarkOf 126 = .ok (.goto 4, 3) := dk_167 0 4 (dk_at dksX0_remarkOf_5 0 rfl rfl)
theorem dX0_remarkOf_129 : decode cX0_remarkOf 129 = .ok (.iconst 0, 1) := dk_3 (dk_at dksX0_remarkOf_5 3 rfl rfl)
theorem dX0_remarkOf_130 : decode cX0_remarkOf 130 = .ok (.ireturn, 1) := dk_172 (dk_at dksX0_remarkOf_5 4 rfl rfl)
theorem dX0_remarkOf_131 : decode cX0_remarkOf 131 = .ok (.aload_n 0, 1) := dk_42 (dk_at dksX0_remarkOf_5 5 rfl rfl)
theorem dX0_remarkOf_132 : decode cX0_remarkOf 132 = .ok (.getfield 111, 3) := dk_180 0 111 (dk_at dksX0_remarkOf_5 6 rfl rfl)
theorem dX0_remarkOf_135 : decode cX0_remarkOf 135 = .ok (.iload_n 1, 1) := dk_27 (dk_at dksX0_remarkOf_5 9 rfl rfl)
theorem dX0_remarkOf_136 : decode cX0_remarkOf 136 = .ok (.invokevirtual 349, 3) := dk_182 1 93 (dk_at dksX0_remarkOf_5 10 rfl rfl)
theorem dX0_remarkOf_139 : decode cX0_remarkOf 139 = .ok (.ireturn, 1) := dk_172 (dk_at dksX0_remarkOf_5 13 rfl rfl)
theorem dX0_remarkOf_140 : decode cX0_remarkOf 140 = .ok (.aload_n 0, 1) := dk_42 (dk_at dksX0_remarkOf_5 14 rfl rfl)
theorem dX0_remarkOf_141 : decode cX0_remarkOf 141 = .ok (.getfield 111, 3) := dk_180 0 111 (dk_at dksX0_remarkOf_5 15 rfl rfl)
theorem dX0_remarkOf_144 : decode cX0_remarkOf 144 = .ok (.iload_n 1, 1) := dk_27 (dk_at dksX0_remarkOf_5 18 rfl rfl)
theorem dX0_remarkOf_145 : decode cX0_remarkOf 145 = .ok (.invokevirtual 352, 3) := dk_182 1 96 (dk_at dksX0_remarkOf_5 19 rfl rfl)
theorem dX0_remarkOf_148 : decode cX0_remarkOf 148 = .ok (.ireturn, 1) := dk_172 (dk_at dksX0_remarkOf_5 22 rfl rfl)
theorem dX0_remarkOf_149 : decode cX0_remarkOf 149 = .ok (.aload_n 0, 1) := dk_42 (dk_at dksX0_remarkOf_5 23 rfl rfl)
theorem dX0_remarkOf_150 : decode cX0_remarkOf 150 = .ok (.getfield 111, 3) := dk_180 0 111 (dk_at dksX0_remarkOf_6 0 rfl rfl)
theorem dX0_remarkOf_153 : decode cX0_remarkOf 153 = .ok (.iload_n 1, 1) := dk_27 (dk_at dksX0_remarkOf_6 3 rfl rfl)
theorem dX0_remarkOf_154 : decode cX0_remarkOf 154 = .ok (.invokevirtual 355, 3) := dk_182 1 99 (dk_at dksX0_remarkOf_6 4 rfl rfl)
theorem dX0_remarkOf_157 : decode cX0_remarkOf 157 = .ok (.ifCond .eq 7, 3) := dk_153 0 7 (dk_at dksX0_remarkOf_6 7 rfl rfl)
theorem dX0_remarkOf_160 : decode cX0_remarkOf 160 = .ok (.iconst 1, 1) := dk_4 (dk_at dksX0_remarkOf_6 10 rfl rfl)
theorem dX0_remarkOf_161 : decode cX0_remarkOf 161 = .ok (.goto 4, 3) := dk_167 0 4 (dk_at dksX0_remarkOf_6 11 rfl rfl)
theorem dX0_remarkOf_164 : decode cX0_remarkOf 164 = .ok (.iconst 0, 1) := dk_3 (dk_at dksX0_remarkOf_6 14 rfl rfl)
theorem dX0_remarkOf_165 : decode cX0_remarkOf 165 = .ok (.ireturn, 1) := dk_172 (dk_at dksX0_remarkOf_6 15 rfl rfl)
theorem dX0_remarkOf_166 : decode cX0_remarkOf 166 = .ok (.aload_n 0, 1) := dk_42 (dk_at dksX0_remarkOf_6 16 rfl rfl)
theorem dX0_remarkOf_167 : decode cX0_remarkOf 167 = .ok (.invokevirtual 324, 3) := dk_182 1 68 (dk_at dksX0_remarkOf_6 17 rfl rfl)
theorem dX0_remarkOf_170 : decode cX0_remarkOf 170 = .ok (.ireturn, 1) := dk_172 (dk_at dksX0_remarkOf_6 20 rfl rfl)
abbrev cX0_beyond : ByteArray := prog_1_method_8_code
def yX0_beyond : MethodName := ⟨RX0, "beyond", "()I"⟩
def dkwX0_beyond_0 : List UInt8 := [42, 180, 0, 83, 8, 92, 46, 4, 96, 79, 16, 251, 172]
abbrev dktX0_beyond_0 : List UInt8 := dkwX0_beyond_0 ++ []
theorem dksX0_beyond_0 : cX0_beyond.data.toList.drop 0 = dktX0_beyond_0 := by decide +kernel
theorem dX0_beyond_0 : decode cX0_beyond 0 = .ok (.aload_n 0, 1) := dk_42 (dk_at dksX0_beyond_0 0 rfl rfl)
theorem dX0_beyond_1 : decode cX0_beyond 1 = .ok (.getfield 83, 3) := dk_180 0 83 (dk_at dksX0_beyond_0 1 rfl rfl)
theorem dX0_beyond_4 : decode cX0_beyond 4 = .ok (.iconst 5, 1) := dk_8 (dk_at dksX0_beyond_0 4 rfl rfl)
theorem dX0_beyond_5 : decode cX0_beyond 5 = .ok (.dup2, 1) := dk_92 (dk_at dksX0_beyond_0 5 rfl rfl)
theorem dX0_beyond_6 : decode cX0_beyond 6 = .ok (.iaload, 1) := dk_46 (dk_at dksX0_beyond_0 6 rfl rfl)
theorem dX0_beyond_7 : decode cX0_beyond 7 = .ok (.iconst 1, 1) := dk_4 (dk_at dksX0_beyond_0 7 rfl rfl)
theorem dX0_beyond_8 : decode cX0_beyond 8 = .ok (.iadd, 1) := dk_96 (dk_at dksX0_beyond_0 8 rfl rfl)
theorem dX0_beyond_9 : decode cX0_beyond 9 = .ok (.iastore, 1) := dk_79 (dk_at dksX0_beyond_0 9 rfl rfl)
theorem dX0_beyond_10 : decode cX0_beyond 10 = .ok (.bipush (-5), 2) := dk_16 251 (dk_at dksX0_beyond_0 10 rfl rfl)
theorem dX0_beyond_12 : decode cX0_beyond 12 = .ok (.ireturn, 1) := dk_172 (dk_at dksX0_beyond_0 12 rfl rfl)
abbrev cX0_settle : ByteArray := prog_1_method_36_code
def yX0_settle : MethodName := ⟨RX0, "settle", "(IZ)I"⟩
def dkwX0_settle_1 : List UInt8 := [42, 180, 0, 111, 180, 1, 89, 27, 28, 84, 29, 172, 78, 42, 45, 182, 0, 181, 172]
abbrev dktX0_settle_1 : List UInt8 := dkwX0_settle_1 ++ []
def dkwX0_settle_0 : List UInt8 := [42, 27, 182, 0, 201, 87, 42, 180, 0, 111, 180, 1, 89, 27, 51, 153, 0, 7, 4, 167, 0, 4, 3, 62]
abbrev dktX0_settle_0 : List UInt8 := dkwX0_settle_0 ++ dktX0_settle_1
theorem dksX0_settle_0 : cX0_settle.data.toList.drop 0 = dktX0_settle_0 := by decide +kernel
theorem dksX0_settle_1 : cX0_settle.data.toList.drop 24 = dktX0_settle_1 := dk_seg dksX0_settle_0 24 rfl rfl
theorem dX0_settle_0 : decode cX0_settle 0 = .ok (.aload_n 0, 1) := dk_42 (dk_at dksX0_settle_0 0 rfl rfl)
theorem dX0_settle_1 : decode cX0_settle 1 = .ok (.iload_n 1, 1) := dk_27 (dk_at dksX0_settle_0 1 rfl rfl)
theorem dX0_settle_2 : decode cX0_settle 2 = .ok (.invokevirtual 201, 3) := dk_182 0 201 (dk_at dksX0_settle_0 2 rfl rfl)
theorem dX0_settle_5 : decode cX0_settle 5 = .ok (.pop, 1) := dk_87 (dk_at dksX0_settle_0 5 rfl rfl)
theorem dX0_settle_6 : decode cX0_settle 6 = .ok (.aload_n 0, 1) := dk_42 (dk_at dksX0_settle_0 6 rfl rfl)
theorem dX0_settle_7 : decode cX0_settle 7 = .ok (.getfield 111, 3) := dk_180 0 111 (dk_at dksX0_settle_0 7 rfl rfl)
theorem dX0_settle_10 : decode cX0_settle 10 = .ok (.getfield 345, 3) := dk_180 1 89 (dk_at dksX0_settle_0 10 rfl rfl)
theorem dX0_settle_13 : decode cX0_settle 13 = .ok (.iload_n 1, 1) := dk_27 (dk_at dksX0_settle_0 13 rfl rfl)
theorem dX0_settle_14 : decode cX0_settle 14 = .ok (.baload, 1) := dk_51 (dk_at dksX0_settle_0 14 rfl rfl)
theorem dX0_settle_15 : decode cX0_settle 15 = .ok (.ifCond .eq 7, 3) := dk_153 0 7 (dk_at dksX0_settle_0 15 rfl rfl)
theorem dX0_settle_18 : decode cX0_settle 18 = .ok (.iconst 1, 1) := dk_4 (dk_at dksX0_settle_0 18 rfl rfl)
theorem dX0_settle_19 : decode cX0_settle 19 = .ok (.goto 4, 3) := dk_167 0 4 (dk_at dksX0_settle_0 19 rfl rfl)
theorem dX0_settle_22 : decode cX0_settle 22 = .ok (.iconst 0, 1) := dk_3 (dk_at dksX0_settle_0 22 rfl rfl)
theorem dX0_settle_23 : decode cX0_settle 23 = .ok (.istore_n 3, 1) := dk_62 (dk_at dksX0_settle_0 23 rfl rfl)
theorem dX0_settle_24 : decode cX0_settle 24 = .ok (.aload_n 0, 1) := dk_42 (dk_at dksX0_settle_1 0 rfl rfl)
theorem dX0_settle_25 : decode cX0_settle 25 = .ok (.getfield 111, 3) := dk_180 0 111 (dk_at dksX0_settle_1 1 rfl rfl)
theorem dX0_settle_28 : decode cX0_settle 28 = .ok (.getfield 345, 3) := dk_180 1 89 (dk_at dksX0_settle_1 4 rfl rfl)
theorem dX0_settle_31 : decode cX0_settle 31 = .ok (.iload_n 1, 1) := dk_27 (dk_at dksX0_settle_1 7 rfl rfl)
theorem dX0_settle_32 : decode cX0_settle 32 = .ok (.iload_n 2, 1) := dk_28 (dk_at dksX0_settle_1 8 rfl rfl)
theorem dX0_settle_33 : decode cX0_settle 33 = .ok (.bastore, 1) := dk_84 (dk_at dksX0_settle_1 9 rfl rfl)
theorem dX0_settle_34 : decode cX0_settle 34 = .ok (.iload_n 3, 1) := dk_29 (dk_at dksX0_settle_1 10 rfl rfl)
theorem dX0_settle_35 : decode cX0_settle 35 = .ok (.ireturn, 1) := dk_172 (dk_at dksX0_settle_1 11 rfl rfl)
theorem dX0_settle_36 : decode cX0_settle 36 = .ok (.astore_n 3, 1) := dk_78 (dk_at dksX0_settle_1 12 rfl rfl)
theorem dX0_settle_37 : decode cX0_settle 37 = .ok (.aload_n 0, 1) := dk_42 (dk_at dksX0_settle_1 13 rfl rfl)
theorem dX0_settle_38 : decode cX0_settle 38 = .ok (.aload_n 3, 1) := dk_45 (dk_at dksX0_settle_1 14 rfl rfl)
theorem dX0_settle_39 : decode cX0_settle 39 = .ok (.invokevirtual 181, 3) := dk_182 0 181 (dk_at dksX0_settle_1 15 rfl rfl)
theorem dX0_settle_42 : decode cX0_settle 42 = .ok (.ireturn, 1) := dk_172 (dk_at dksX0_settle_1 18 rfl rfl)
abbrev cX0_put : ByteArray := prog_1_method_37_code
def yX0_put : MethodName := ⟨RX0, "put", "(III)I"⟩
def dkwX0_put_5 : List UInt8 := [182, 0, 181, 16, 10, 100, 172]
abbrev dktX0_put_5 : List UInt8 := dkwX0_put_5 ++ []
def dkwX0_put_4 : List UInt8 := [167, 0, 17, 25, 6, 182, 1, 122, 153, 0, 7, 2, 167, 0, 5, 21, 7, 172, 58, 4, 42, 25, 4]
abbrev dktX0_put_4 : List UInt8 := dkwX0_put_4 ++ dktX0_put_5
def dkwX0_put_3 : List UInt8 := [167, 0, 11, 25, 6, 180, 1, 111, 180, 1, 118, 54, 7, 29, 5, 160, 0, 11, 25, 6, 180, 1, 119]
abbrev dktX0_put_3 : List UInt8 := dkwX0_put_3 ++ dktX0_put_4
def dkwX0_put_2 : List UInt8 := [183, 1, 104, 25, 4, 25, 5, 182, 1, 107, 58, 6, 29, 154, 0, 14, 25, 6, 180, 1, 111, 180, 1, 115]
abbrev dktX0_put_2 : List UInt8 := dkwX0_put_2 ++ dktX0_put_3
def dkwX0_put_1 : List UInt8 := [16, 251, 184, 0, 129, 25, 5, 25, 4, 180, 1, 77, 184, 1, 43, 187, 1, 102, 89, 42, 180, 0, 111]
abbrev dktX0_put_1 : List UInt8 := dkwX0_put_1 ++ dktX0_put_2
def dkwX0_put_0 : List UInt8 := [42, 27, 182, 0, 201, 58, 4, 42, 28, 182, 0, 211, 58, 5, 29, 133, 9, 20, 1, 6, 184, 0, 173]
abbrev dktX0_put_0 : List UInt8 := dkwX0_put_0 ++ dktX0_put_1
theorem dksX0_put_0 : cX0_put.data.toList.drop 0 = dktX0_put_0 := by decide +kernel
theorem dksX0_put_1 : cX0_put.data.toList.drop 23 = dktX0_put_1 := dk_seg dksX0_put_0 23 rfl rfl
theorem dksX0_put_2 : cX0_put.data.toList.drop 46 = dktX0_put_2 := dk_seg dksX0_put_1 23 rfl rfl
theorem dksX0_put_3 : cX0_put.data.toList.drop 70 = dktX0_put_3 := dk_seg dksX0_put_2 24 rfl rfl
theorem dksX0_put_4 : cX0_put.data.toList.drop 93 = dktX0_put_4 := dk_seg dksX0_put_3 23 rfl rfl
theorem dksX0_put_5 : cX0_put.data.toList.drop 116 = dktX0_put_5 := dk_seg dksX0_put_4 23 rfl rfl
theorem dX0_put_0 : decode cX0_put 0 = .ok (.aload_n 0, 1) := dk_42 (dk_at dksX0_put_0 0 rfl rfl)
theorem dX0_put_1 : decode cX0_put 1 = .ok (.iload_n 1, 1) := dk_27 (dk_at dksX0_put_0 1 rfl rfl)
theorem dX0_put_2 : decode cX0_put 2 = .ok (.invokevirtual 201, 3) := dk_182 0 201 (dk_at dksX0_put_0 2 rfl rfl)
theorem dX0_put_5 : decode cX0_put 5 = .ok (.astore 4, 2) := dk_58 4 (dk_at dksX0_put_0 5 rfl rfl)
theorem dX0_put_7 : decode cX0_put 7 = .ok (.aload_n 0, 1) := dk_42 (dk_at dksX0_put_0 7 rfl rfl)
theorem dX0_put_8 : decode cX0_put 8 = .ok (.iload_n 2, 1) := dk_28 (dk_at dksX0_put_0 8 rfl rfl)
theorem dX0_put_9 : decode cX0_put 9 = .ok (.invokevirtual 211, 3) := dk_182 0 211 (dk_at dksX0_put_0 9 rfl rfl)
theorem dX0_put_12 : decode cX0_put 12 = .ok (.astore 5, 2) := dk_58 5 (dk_at dksX0_put_0 12 rfl rfl)
theorem dX0_put_14 : decode cX0_put 14 = .ok (.iload_n 3, 1) := dk_29 (dk_at dksX0_put_0 14 rfl rfl)
theorem dX0_put_15 : decode cX0_put 15 = .ok (.i2l, 1) := dk_133 (dk_at dksX0_put_0 15 rfl rfl)
theorem dX0_put_16 : decode cX0_put 16 = .ok (.lconst 0, 1) := dk_9 (dk_at dksX0_put_0 16 rfl rfl)
theorem dX0_put_17 : decode cX0_put 17 = .ok (.ldc2_w 262, 3) := dk_20 1 6 (dk_at dksX0_put_0 17 rfl rfl)
theorem dX0_put_20 : decode cX0_put 20 = .ok (.invokestatic 173, 3) := dk_184 0 173 (dk_at dksX0_put_0 20 rfl rfl)
theorem dX0_put_23 : decode cX0_put 23 = .ok (.bipush (-5), 2) := dk_16 251 (dk_at dksX0_put_1 0 rfl rfl)
theorem dX0_put_25 : decode cX0_put 25 = .ok (.invokestatic 129, 3) := dk_184 0 129 (dk_at dksX0_put_1 2 rfl rfl)
theorem dX0_put_28 : decode cX0_put 28 = .ok (.aload 5, 2) := dk_25 5 (dk_at dksX0_put_1 5 rfl rfl)
theorem dX0_put_30 : decode cX0_put 30 = .ok (.aload 4, 2) := dk_25 4 (dk_at dksX0_put_1 7 rfl rfl)
theorem dX0_put_32 : decode cX0_put 32 = .ok (.getfield 333, 3) := dk_180 1 77 (dk_at dksX0_put_1 9 rfl rfl)
theorem dX0_put_35 : decode cX0_put 35 = .ok (.invokestatic 299, 3) := dk_184 1 43 (dk_at dksX0_put_1 12 rfl rfl)
theorem dX0_put_38 : decode cX0_put 38 = .ok (.new 358, 3) := dk_187 1 102 (dk_at dksX0_put_1 15 rfl rfl)
theorem dX0_put_41 : decode cX0_put 41 = .ok (.dup, 1) := dk_89 (dk_at dksX0_put_1 18 rfl rfl)
theorem dX0_put_42 : decode cX0_put 42 = .ok (.aload_n 0, 1) := dk_42 (dk_at dksX0_put_1 19 rfl rfl)
theorem dX0_put_43 : decode cX0_put 43 = .ok (.getfield 111, 3) := dk_180 0 111 (dk_at dksX0_put_1 20 rfl rfl)
theorem dX0_put_46 : decode cX0_put 46 = .ok (.invokespecial 360, 3) := dk_183 1 104 (dk_at dksX0_put_2 0 rfl rfl)
theorem dX0_put_49 : decode cX0_put 49 = .ok (.aload 4, 2) := dk_25 4 (dk_at dksX0_put_2 3 rfl rfl)
theorem dX0_put_51 : decode cX0_put 51 = .ok (.aload 5, 2) := dk_25 5 (dk_at dksX0_put_2 5 rfl rfl)
theorem dX0_put_53 : decode cX0_put 53 = .ok (.invokevirtual 363, 3) := dk_182 1 107 (dk_at dksX0_put_2 7 rfl rfl)
theorem dX0_put_56 : decode cX0_put 56 = .ok (.astore 6, 2) := dk_58 6 (dk_at dksX0_put_2 10 rfl rfl)
theorem dX0_put_58 : decode cX0_put 58 = .ok (.iload_n 3, 1) := dk_29 (dk_at dksX0_put_2 12 rfl rfl)
theorem dX0_put_59 : decode cX0_put 59 = .ok (.ifCond .ne 14, 3) := dk_154 0 14 (dk_at dksX0_put_2 13 rfl rfl)
theorem dX0_put_62 : decode cX0_put 62 = .ok (.aload 6, 2) := dk_25 6 (dk_at dksX0_put_2 16 rfl rfl)
theorem dX0_put_64 : decode cX0_put 64 = .ok (.getfield 367, 3) := dk_180 1 111 (dk_at dksX0_put_2 18 rfl rfl)
theorem dX0_put_67 : decode cX0_put 67 = .ok (.getfield 371, 3) := dk_180 1 115 (dk_at dksX0_put_2 21 rfl rfl)
theorem dX0_put_70 : decode cX0_put 70 = .ok (.goto 11, 3) := dk_167 0 11 (dk_at dksX0_put_3 0 rfl rfl)
theorem dX0_put_73 : decode cX0_put 73 = .ok (.aload 6, 2) := dk_25 6 (dk_at dksX0_put_3 3 rfl rfl)
theorem dX0_put_75 : decode cX0_put 75 = .ok (.getfield 367, 3) := dk_180 1 111 (dk_at dksX0_put_3 5 rfl rfl)
theorem dX0_put_78 : decode cX0_put 78 = .ok (.getfield 374, 3) := dk_180 1 118 (dk_at dksX0_put_3 8 rfl rfl)
theorem dX0_put_81 : decode cX0_put 81 = .ok (.istore 7, 2) := dk_54 7 (dk_at dksX0_put_3 11 rfl rfl)
theorem dX0_put_83 : decode cX0_put 83 = .ok (.iload_n 3, 1) := dk_29 (dk_at dksX0_put_3 13 rfl rfl)
theorem dX0_put_84 : decode cX0_put 84 = .ok (.iconst 2, 1) := dk_5 (dk_at dksX0_put_3 14 rfl rfl)
theorem dX0_put_85 : decode cX0_put 85 = .ok (.if_icmp .ne 11, 3) := dk_160 0 11 (dk_at dksX0_put_3 15 rfl rfl)
theorem dX0_put_88 : decode cX0_put 88 = .ok (.aload 6, 2) := dk_25 6 (dk_at dksX0_put_3 18 rfl rfl)
theorem dX0_put_90 : decode cX0_put 90 = .ok (.getfield 375, 3) := dk_180 1 119 (dk_at dksX0_put_3 20 rfl rfl)
theorem dX0_put_93 : decode cX0_put 93 = .ok (.goto 17, 3) := dk_167 0 17 (dk_at dksX0_put_4 0 rfl rfl)
theorem dX0_put_96 : decode cX0_put 96 = .ok (.aload 6, 2) := dk_25 6 (dk_at dksX0_put_4 3 rfl rfl)
theorem dX0_put_98 : decode cX0_put 98 = .ok (.invokevirtual 378, 3) := dk_182 1 122 (dk_at dksX0_put_4 5 rfl rfl)
theorem dX0_put_101 : decode cX0_put 101 = .ok (.ifCond .eq 7, 3) := dk_153 0 7 (dk_at dksX0_put_4 8 rfl rfl)
theorem dX0_put_104 : decode cX0_put 104 = .ok (.iconst (-1), 1) := dk_2 (dk_at dksX0_put_4 11 rfl rfl)
theorem dX0_put_105 : decode cX0_put 105 = .ok (.goto 5, 3) := dk_167 0 5 (dk_at dksX0_put_4 12 rfl rfl)
theorem dX0_put_108 : decode cX0_put 108 = .ok (.iload 7, 2) := dk_21 7 (dk_at dksX0_put_4 15 rfl rfl)
theorem dX0_put_110 : decode cX0_put 110 = .ok (.ireturn, 1) := dk_172 (dk_at dksX0_put_4 17 rfl rfl)
theorem dX0_put_111 : decode cX0_put 111 = .ok (.astore 4, 2) := dk_58 4 (dk_at dksX0_put_4 18 rfl rfl)
theorem dX0_put_113 : decode cX0_put 113 = .ok (.aload_n 0, 1) := dk_42 (dk_at dksX0_put_4 20 rfl rfl)
theorem dX0_put_114 : decode cX0_put 114 = .ok (.aload 4, 2) := dk_25 4 (dk_at dksX0_put_4 21 rfl rfl)
theorem dX0_put_116 : decode cX0_put 116 = .ok (.invokevirtual 181, 3) := dk_182 0 181 (dk_at dksX0_put_5 0 rfl rfl)
theorem dX0_put_119 : decode cX0_put 119 = .ok (.bipush 10, 2) := dk_16 10 (dk_at dksX0_put_5 3 rfl rfl)
theorem dX0_put_121 : decode cX0_put 121 = .ok (.isub, 1) := dk_100 (dk_at dksX0_put_5 5 rfl rfl)
theorem dX0_put_122 : decode cX0_put 122 = .ok (.ireturn, 1) := dk_172 (dk_at dksX0_put_5 6 rfl rfl)
abbrev cX0_score : ByteArray := prog_1_method_39_code
def yX0_score : MethodName := ⟨RX0, "score", "(III)I"⟩
def dkwX0_score_2 : List UInt8 := [25, 5, 29, 182, 1, 138, 172, 58, 4, 42, 25, 4, 182, 0, 181, 172]
abbrev dktX0_score_2 : List UInt8 := dkwX0_score_2 ++ []
def dkwX0_score_1 : List UInt8 := [29, 133, 9, 25, 6, 25, 5, 182, 1, 132, 4, 100, 133, 184, 0, 173, 16, 251, 184, 0, 129, 25, 6]
abbrev dktX0_score_1 : List UInt8 := dkwX0_score_1 ++ dktX0_score_2
def dkwX0_score_0 : List UInt8 := [42, 27, 182, 0, 201, 58, 4, 42, 28, 182, 0, 211, 58, 5, 42, 25, 4, 25, 5, 182, 1, 129, 58, 6]
abbrev dktX0_score_0 : List UInt8 := dkwX0_score_0 ++ dktX0_score_1
theorem dksX0_score_0 : cX0_score.data.toList.drop 0 = dktX0_score_0 := by decide +kernel
theorem dksX0_score_1 : cX0_score.data.toList.drop 24 = dktX0_score_1 := dk_seg dksX0_score_0 24 rfl rfl
theorem dksX0_score_2 : cX0_score.data.toList.drop 47 = dktX0_score_2 := dk_seg dksX0_score_1 23 rfl rfl
theorem dX0_score_0 : decode cX0_score 0 = .ok (.aload_n 0, 1) := dk_42 (dk_at dksX0_score_0 0 rfl rfl)
theorem dX0_score_1 : decode cX0_score 1 = .ok (.iload_n 1, 1) := dk_27 (dk_at dksX0_score_0 1 rfl rfl)
theorem dX0_score_2 : decode cX0_score 2 = .ok (.invokevirtual 201, 3) := dk_182 0 201 (dk_at dksX0_score_0 2 rfl rfl)
theorem dX0_score_5 : decode cX0_score 5 = .ok (.astore 4, 2) := dk_58 4 (dk_at dksX0_score_0 5 rfl rfl)
theorem dX0_score_7 : decode cX0_score 7 = .ok (.aload_n 0, 1) := dk_42 (dk_at dksX0_score_0 7 rfl rfl)
theorem dX0_score_8 : decode cX0_score 8 = .ok (.iload_n 2, 1) := dk_28 (dk_at dksX0_score_0 8 rfl rfl)
theorem dX0_score_9 : decode cX0_score 9 = .ok (.invokevirtual 211, 3) := dk_182 0 211 (dk_at dksX0_score_0 9 rfl rfl)
theorem dX0_score_12 : decode cX0_score 12 = .ok (.astore 5, 2) := dk_58 5 (dk_at dksX0_score_0 12 rfl rfl)
theorem dX0_score_14 : decode cX0_score 14 = .ok (.aload_n 0, 1) := dk_42 (dk_at dksX0_score_0 14 rfl rfl)
theorem dX0_score_15 : decode cX0_score 15 = .ok (.aload 4, 2) := dk_25 4 (dk_at dksX0_score_0 15 rfl rfl)
theorem dX0_score_17 : decode cX0_score 17 = .ok (.aload 5, 2) := dk_25 5 (dk_at dksX0_score_0 17 rfl rfl)
theorem dX0_score_19 : decode cX0_score 19 = .ok (.invokevirtual 385, 3) := dk_182 1 129 (dk_at dksX0_score_0 19 rfl rfl)
theorem dX0_score_22 : decode cX0_score 22 = .ok (.astore 6, 2) := dk_58 6 (dk_at dksX0_score_0 22 rfl rfl)
theorem dX0_score_24 : decode cX0_score 24 = .ok (.iload_n 3, 1) := dk_29 (dk_at dksX0_score_1 0 rfl rfl)
theorem dX0_score_25 : decode cX0_score 25 = .ok (.i2l, 1) := dk_133 (dk_at dksX0_score_1 1 rfl rfl)
theorem dX0_score_26 : decode cX0_score 26 = .ok (.lconst 0, 1) := dk_9 (dk_at dksX0_score_1 2 rfl rfl)
theorem dX0_score_27 : decode cX0_score 27 = .ok (.aload 6, 2) := dk_25 6 (dk_at dksX0_score_1 3 rfl rfl)
theorem dX0_score_29 : decode cX0_score 29 = .ok (.aload 5, 2) := dk_25 5 (dk_at dksX0_score_1 5 rfl rfl)
theorem dX0_score_31 : decode cX0_score 31 = .ok (.invokevirtual 388, 3) := dk_182 1 132 (dk_at dksX0_score_1 7 rfl rfl)
theorem dX0_score_34 : decode cX0_score 34 = .ok (.iconst 1, 1) := dk_4 (dk_at dksX0_score_1 10 rfl rfl)
theorem dX0_score_35 : decode cX0_score 35 = .ok (.isub, 1) := dk_100 (dk_at dksX0_score_1 11 rfl rfl)
theorem dX0_score_36 : decode cX0_score 36 = .ok (.i2l, 1) := dk_133 (dk_at dksX0_score_1 12 rfl rfl)
theorem dX0_score_37 : decode cX0_score 37 = .ok (.invokestatic 173, 3) := dk_184 0 173 (dk_at dksX0_score_1 13 rfl rfl)
theorem dX0_score_40 : decode cX0_score 40 = .ok (.bipush (-5), 2) := dk_16 251 (dk_at dksX0_score_1 16 rfl rfl)
theorem dX0_score_42 : decode cX0_score 42 = .ok (.invokestatic 129, 3) := dk_184 0 129 (dk_at dksX0_score_1 18 rfl rfl)
theorem dX0_score_45 : decode cX0_score 45 = .ok (.aload 6, 2) := dk_25 6 (dk_at dksX0_score_1 21 rfl rfl)
theorem dX0_score_47 : decode cX0_score 47 = .ok (.aload 5, 2) := dk_25 5 (dk_at dksX0_score_2 0 rfl rfl)
theorem dX0_score_49 : decode cX0_score 49 = .ok (.iload_n 3, 1) := dk_29 (dk_at dksX0_score_2 2 rfl rfl)
theorem dX0_score_50 : decode cX0_score 50 = .ok (.invokevirtual 394, 3) := dk_182 1 138 (dk_at dksX0_score_2 3 rfl rfl)
theorem dX0_score_53 : decode cX0_score 53 = .ok (.ireturn, 1) := dk_172 (dk_at dksX0_score_2 6 rfl rfl)
theorem dX0_score_54 : decode cX0_score 54 = .ok (.astore 4, 2) := dk_58 4 (dk_at dksX0_score_2 7 rfl rfl)
theorem dX0_score_56 : decode cX0_score 56 = .ok (.aload_n 0, 1) := dk_42 (dk_at dksX0_score_2 9 rfl rfl)
theorem dX0_score_57 : decode cX0_score 57 = .ok (.aload 4, 2) := dk_25 4 (dk_at dksX0_score_2 10 rfl rfl)
theorem dX0_score_59 : decode cX0_score 59 = .ok (.invokevirtual 181, 3) := dk_182 0 181 (dk_at dksX0_score_2 12 rfl rfl)
theorem dX0_score_62 : decode cX0_score 62 = .ok (.ireturn, 1) := dk_172 (dk_at dksX0_score_2 15 rfl rfl)
abbrev cX0_contextOn : ByteArray := prog_1_method_38_code
def yX0_contextOn : MethodName := ⟨RX0, "contextOn", "(LLineRemarks$Remark;LLineRemarks$Revision;)LLineRemarks$Context;"⟩
def dkwX0_contextOn_1 : List UInt8 := [16, 250, 184, 0, 129, 187, 1, 102, 89, 42, 180, 0, 111, 183, 1, 104, 43, 44, 182, 1, 125, 176]
abbrev dktX0_contextOn_1 : List UInt8 := dkwX0_contextOn_1 ++ []
def dkwX0_contextOn_0 : List UInt8 := [44, 43, 180, 1, 77, 182, 1, 39, 153, 0, 15, 44, 43, 180, 1, 77, 165, 0, 7, 4, 167, 0, 4, 3]
abbrev dktX0_contextOn_0 : List UInt8 := dkwX0_contextOn_0 ++ dktX0_contextOn_1
theorem dksX0_contextOn_0 : cX0_contextOn.data.toList.drop 0 = dktX0_contextOn_0 := by decide +kernel
theorem dksX0_contextOn_1 : cX0_contextOn.data.toList.drop 24 = dktX0_contextOn_1 := dk_seg dksX0_contextOn_0 24 rfl rfl
theorem dX0_contextOn_0 : decode cX0_contextOn 0 = .ok (.aload_n 2, 1) := dk_44 (dk_at dksX0_contextOn_0 0 rfl rfl)
theorem dX0_contextOn_1 : decode cX0_contextOn 1 = .ok (.aload_n 1, 1) := dk_43 (dk_at dksX0_contextOn_0 1 rfl rfl)
theorem dX0_contextOn_2 : decode cX0_contextOn 2 = .ok (.getfield 333, 3) := dk_180 1 77 (dk_at dksX0_contextOn_0 2 rfl rfl)
theorem dX0_contextOn_5 : decode cX0_contextOn 5 = .ok (.invokevirtual 295, 3) := dk_182 1 39 (dk_at dksX0_contextOn_0 5 rfl rfl)
theorem dX0_contextOn_8 : decode cX0_contextOn 8 = .ok (.ifCond .eq 15, 3) := dk_153 0 15 (dk_at dksX0_contextOn_0 8 rfl rfl)
theorem dX0_contextOn_11 : decode cX0_contextOn 11 = .ok (.aload_n 2, 1) := dk_44 (dk_at dksX0_contextOn_0 11 rfl rfl)
theorem dX0_contextOn_12 : decode cX0_contextOn 12 = .ok (.aload_n 1, 1) := dk_43 (dk_at dksX0_contextOn_0 12 rfl rfl)
theorem dX0_contextOn_13 : decode cX0_contextOn 13 = .ok (.getfield 333, 3) := dk_180 1 77 (dk_at dksX0_contextOn_0 13 rfl rfl)
theorem dX0_contextOn_16 : decode cX0_contextOn 16 = .ok (.if_acmp .eq 7, 3) := dk_165 0 7 (dk_at dksX0_contextOn_0 16 rfl rfl)
theorem dX0_contextOn_19 : decode cX0_contextOn 19 = .ok (.iconst 1, 1) := dk_4 (dk_at dksX0_contextOn_0 19 rfl rfl)
theorem dX0_contextOn_20 : decode cX0_contextOn 20 = .ok (.goto 4, 3) := dk_167 0 4 (dk_at dksX0_contextOn_0 20 rfl rfl)
theorem dX0_contextOn_23 : decode cX0_contextOn 23 = .ok (.iconst 0, 1) := dk_3 (dk_at dksX0_contextOn_0 23 rfl rfl)
theorem dX0_contextOn_24 : decode cX0_contextOn 24 = .ok (.bipush (-6), 2) := dk_16 250 (dk_at dksX0_contextOn_1 0 rfl rfl)
theorem dX0_contextOn_26 : decode cX0_contextOn 26 = .ok (.invokestatic 129, 3) := dk_184 0 129 (dk_at dksX0_contextOn_1 2 rfl rfl)
theorem dX0_contextOn_29 : decode cX0_contextOn 29 = .ok (.new 358, 3) := dk_187 1 102 (dk_at dksX0_contextOn_1 5 rfl rfl)
theorem dX0_contextOn_32 : decode cX0_contextOn 32 = .ok (.dup, 1) := dk_89 (dk_at dksX0_contextOn_1 8 rfl rfl)
theorem dX0_contextOn_33 : decode cX0_contextOn 33 = .ok (.aload_n 0, 1) := dk_42 (dk_at dksX0_contextOn_1 9 rfl rfl)
theorem dX0_contextOn_34 : decode cX0_contextOn 34 = .ok (.getfield 111, 3) := dk_180 0 111 (dk_at dksX0_contextOn_1 10 rfl rfl)
theorem dX0_contextOn_37 : decode cX0_contextOn 37 = .ok (.invokespecial 360, 3) := dk_183 1 104 (dk_at dksX0_contextOn_1 13 rfl rfl)
theorem dX0_contextOn_40 : decode cX0_contextOn 40 = .ok (.aload_n 1, 1) := dk_43 (dk_at dksX0_contextOn_1 16 rfl rfl)
theorem dX0_contextOn_41 : decode cX0_contextOn 41 = .ok (.aload_n 2, 1) := dk_44 (dk_at dksX0_contextOn_1 17 rfl rfl)
theorem dX0_contextOn_42 : decode cX0_contextOn 42 = .ok (.invokevirtual 381, 3) := dk_182 1 125 (dk_at dksX0_contextOn_1 18 rfl rfl)
theorem dX0_contextOn_45 : decode cX0_contextOn 45 = .ok (.areturn, 1) := dk_176 (dk_at dksX0_contextOn_1 21 rfl rfl)
abbrev cX0_leastNeed : ByteArray := prog_1_method_40_code
def yX0_leastNeed : MethodName := ⟨RX0, "leastNeed", "(II)I"⟩
def dkwX0_leastNeed_2 : List UInt8 := [25, 5, 25, 4, 21, 6, 182, 1, 138, 172, 78, 42, 45, 182, 0, 181, 16, 10, 100, 172]
abbrev dktX0_leastNeed_2 : List UInt8 := dkwX0_leastNeed_2 ++ []
def dkwX0_leastNeed_1 : List UInt8 := [25, 4, 42, 180, 0, 111, 180, 1, 19, 182, 1, 142, 54, 6, 21, 6, 2, 160, 0, 7, 2, 167, 0, 12]
abbrev dktX0_leastNeed_1 : List UInt8 := dkwX0_leastNeed_1 ++ dktX0_leastNeed_2
def dkwX0_leastNeed_0 : List UInt8 := [42, 27, 182, 0, 201, 78, 42, 28, 182, 0, 211, 58, 4, 42, 45, 25, 4, 182, 1, 129, 58, 5, 25, 5]
abbrev dktX0_leastNeed_0 : List UInt8 := dkwX0_leastNeed_0 ++ dktX0_leastNeed_1
theorem dksX0_leastNeed_0 : cX0_leastNeed.data.toList.drop 0 = dktX0_leastNeed_0 := by decide +kernel
theorem dksX0_leastNeed_1 : cX0_leastNeed.data.toList.drop 24 = dktX0_leastNeed_1 := dk_seg dksX0_leastNeed_0 24 rfl rfl
theorem dksX0_leastNeed_2 : cX0_leastNeed.data.toList.drop 48 = dktX0_leastNeed_2 := dk_seg dksX0_leastNeed_1 24 rfl rfl
theorem dX0_leastNeed_0 : decode cX0_leastNeed 0 = .ok (.aload_n 0, 1) := dk_42 (dk_at dksX0_leastNeed_0 0 rfl rfl)
theorem dX0_leastNeed_1 : decode cX0_leastNeed 1 = .ok (.iload_n 1, 1) := dk_27 (dk_at dksX0_leastNeed_0 1 rfl rfl)
theorem dX0_leastNeed_2 : decode cX0_leastNeed 2 = .ok (.invokevirtual 201, 3) := dk_182 0 201 (dk_at dksX0_leastNeed_0 2 rfl rfl)
theorem dX0_leastNeed_5 : decode cX0_leastNeed 5 = .ok (.astore_n 3, 1) := dk_78 (dk_at dksX0_leastNeed_0 5 rfl rfl)
theorem dX0_leastNeed_6 : decode cX0_leastNeed 6 = .ok (.aload_n 0, 1) := dk_42 (dk_at dksX0_leastNeed_0 6 rfl rfl)
theorem dX0_leastNeed_7 : decode cX0_leastNeed 7 = .ok (.iload_n 2, 1) := dk_28 (dk_at dksX0_leastNeed_0 7 rfl rfl)
theorem dX0_leastNeed_8 : decode cX0_leastNeed 8 = .ok (.invokevirtual 211, 3) := dk_182 0 211 (dk_at dksX0_leastNeed_0 8 rfl rfl)
theorem dX0_leastNeed_11 : decode cX0_leastNeed 11 = .ok (.astore 4, 2) := dk_58 4 (dk_at dksX0_leastNeed_0 11 rfl rfl)
theorem dX0_leastNeed_13 : decode cX0_leastNeed 13 = .ok (.aload_n 0, 1) := dk_42 (dk_at dksX0_leastNeed_0 13 rfl rfl)
theorem dX0_leastNeed_14 : decode cX0_leastNeed 14 = .ok (.aload_n 3, 1) := dk_45 (dk_at dksX0_leastNeed_0 14 rfl rfl)
theorem dX0_leastNeed_15 : decode cX0_leastNeed 15 = .ok (.aload 4, 2) := dk_25 4 (dk_at dksX0_leastNeed_0 15 rfl rfl)
theorem dX0_leastNeed_17 : decode cX0_leastNeed 17 = .ok (.invokevirtual 385, 3) := dk_182 1 129 (dk_at dksX0_leastNeed_0 17 rfl rfl)
theorem dX0_leastNeed_20 : decode cX0_leastNeed 20 = .ok (.astore 5, 2) := dk_58 5 (dk_at dksX0_leastNeed_0 20 rfl rfl)
theorem dX0_leastNeed_22 : decode cX0_leastNeed 22 = .ok (.aload 5, 2) := dk_25 5 (dk_at dksX0_leastNeed_0 22 rfl rfl)
theorem dX0_leastNeed_24 : decode cX0_leastNeed 24 = .ok (.aload 4, 2) := dk_25 4 (dk_at dksX0_leastNeed_1 0 rfl rfl)
theorem dX0_leastNeed_26 : decode cX0_leastNeed 26 = .ok (.aload_n 0, 1) := dk_42 (dk_at dksX0_leastNeed_1 2 rfl rfl)
theorem dX0_leastNeed_27 : decode cX0_leastNeed 27 = .ok (.getfield 111, 3) := dk_180 0 111 (dk_at dksX0_leastNeed_1 3 rfl rfl)
theorem dX0_leastNeed_30 : decode cX0_leastNeed 30 = .ok (.getfield 275, 3) := dk_180 1 19 (dk_at dksX0_leastNeed_1 6 rfl rfl)
theorem dX0_leastNeed_33 : decode cX0_leastNeed 33 = .ok (.invokevirtual 398, 3) := dk_182 1 142 (dk_at dksX0_leastNeed_1 9 rfl rfl)
theorem dX0_leastNeed_36 : decode cX0_leastNeed 36 = .ok (.istore 6, 2) := dk_54 6 (dk_at dksX0_leastNeed_1 12 rfl rfl)
theorem dX0_leastNeed_38 : decode cX0_leastNeed 38 = .ok (.iload 6, 2) := dk_21 6 (dk_at dksX0_leastNeed_1 14 rfl rfl)
theorem dX0_leastNeed_40 : decode cX0_leastNeed 40 = .ok (.iconst (-1), 1) := dk_2 (dk_at dksX0_leastNeed_1 16 rfl rfl)
theorem dX0_leastNeed_41 : decode cX0_leastNeed 41 = .ok (.if_icmp .ne 7, 3) := dk_160 0 7 (dk_at dksX0_leastNeed_1 17 rfl rfl)
theorem dX0_leastNeed_44 : decode cX0_leastNeed 44 = .ok (.iconst (-1), 1) := dk_2 (dk_at dksX0_leastNeed_1 20 rfl rfl)
theorem dX0_leastNeed_45 : decode cX0_leastNeed 45 = .ok (.goto 12, 3) := dk_167 0 12 (dk_at dksX0_leastNeed_1 21 rfl rfl)
theorem dX0_leastNeed_48 : decode cX0_leastNeed 48 = .ok (.aload 5, 2) := dk_25 5 (dk_at dksX0_leastNeed_2 0 rfl rfl)
theorem dX0_leastNeed_50 : decode cX0_leastNeed 50 = .ok (.aload 4, 2) := dk_25 4 (dk_at dksX0_leastNeed_2 2 rfl rfl)
theorem dX0_leastNeed_52 : decode cX0_leastNeed 52 = .ok (.iload 6, 2) := dk_21 6 (dk_at dksX0_leastNeed_2 4 rfl rfl)
theorem dX0_leastNeed_54 : decode cX0_leastNeed 54 = .ok (.invokevirtual 394, 3) := dk_182 1 138 (dk_at dksX0_leastNeed_2 6 rfl rfl)
theorem dX0_leastNeed_57 : decode cX0_leastNeed 57 = .ok (.ireturn, 1) := dk_172 (dk_at dksX0_leastNeed_2 9 rfl rfl)
theorem dX0_leastNeed_58 : decode cX0_leastNeed 58 = .ok (.astore_n 3, 1) := dk_78 (dk_at dksX0_leastNeed_2 10 rfl rfl)
theorem dX0_leastNeed_59 : decode cX0_leastNeed 59 = .ok (.aload_n 0, 1) := dk_42 (dk_at dksX0_leastNeed_2 11 rfl rfl)
theorem dX0_leastNeed_60 : decode cX0_leastNeed 60 = .ok (.aload_n 3, 1) := dk_45 (dk_at dksX0_leastNeed_2 12 rfl rfl)
theorem dX0_leastNeed_61 : decode cX0_leastNeed 61 = .ok (.invokevirtual 181, 3) := dk_182 0 181 (dk_at dksX0_leastNeed_2 13 rfl rfl)
theorem dX0_leastNeed_64 : decode cX0_leastNeed 64 = .ok (.bipush 10, 2) := dk_16 10 (dk_at dksX0_leastNeed_2 16 rfl rfl)
theorem dX0_leastNeed_66 : decode cX0_leastNeed 66 = .ok (.isub, 1) := dk_100 (dk_at dksX0_leastNeed_2 18 rfl rfl)
theorem dX0_leastNeed_67 : decode cX0_leastNeed 67 = .ok (.ireturn, 1) := dk_172 (dk_at dksX0_leastNeed_2 19 rfl rfl)
abbrev cX0_fitting : ByteArray := prog_1_method_41_code
def yX0_fitting : MethodName := ⟨RX0, "fitting", "(II)I"⟩
def dkwX0_fitting_6 : List UInt8 := [182, 0, 181, 172]
abbrev dktX0_fitting_6 : List UInt8 := dkwX0_fitting_6 ++ []
def dkwX0_fitting_5 : List UInt8 := [153, 0, 7, 3, 167, 0, 7, 4, 21, 7, 120, 128, 54, 5, 167, 255, 163, 21, 5, 172, 78, 42, 45]
abbrev dktX0_fitting_5 : List UInt8 := dkwX0_fitting_5 ++ dktX0_fitting_6
def dkwX0_fitting_4 : List UInt8 := [21, 5, 187, 1, 102, 89, 42, 180, 0, 111, 183, 1, 104, 25, 8, 25, 4, 182, 1, 107, 182, 1, 122]
abbrev dktX0_fitting_4 : List UInt8 := dkwX0_fitting_4 ++ dktX0_fitting_5
def dkwX0_fitting_3 : List UInt8 := [180, 1, 74, 45, 180, 1, 77, 45, 180, 1, 80, 45, 180, 1, 83, 45, 180, 1, 86, 184, 1, 148, 58, 8]
abbrev dktX0_fitting_3 : List UInt8 := dkwX0_fitting_3 ++ dktX0_fitting_4
def dkwX0_fitting_2 : List UInt8 := [25, 6, 185, 0, 44, 1, 0, 192, 0, 95, 182, 1, 145, 54, 7, 21, 7, 45, 180, 0, 150, 45]
abbrev dktX0_fitting_2 : List UInt8 := dkwX0_fitting_2 ++ dktX0_fitting_3
def dkwX0_fitting_1 : List UInt8 := [54, 5, 42, 180, 0, 104, 185, 0, 34, 1, 0, 58, 6, 25, 6, 185, 0, 38, 1, 0, 153, 0, 89]
abbrev dktX0_fitting_1 : List UInt8 := dkwX0_fitting_1 ++ dktX0_fitting_2
def dkwX0_fitting_0 : List UInt8 := [42, 27, 182, 0, 201, 78, 42, 28, 182, 0, 211, 58, 4, 25, 4, 45, 180, 1, 77, 184, 1, 43, 3]
abbrev dktX0_fitting_0 : List UInt8 := dkwX0_fitting_0 ++ dktX0_fitting_1
theorem dksX0_fitting_0 : cX0_fitting.data.toList.drop 0 = dktX0_fitting_0 := by decide +kernel
theorem dksX0_fitting_1 : cX0_fitting.data.toList.drop 23 = dktX0_fitting_1 := dk_seg dksX0_fitting_0 23 rfl rfl
theorem dksX0_fitting_2 : cX0_fitting.data.toList.drop 46 = dktX0_fitting_2 := dk_seg dksX0_fitting_1 23 rfl rfl
theorem dksX0_fitting_3 : cX0_fitting.data.toList.drop 68 = dktX0_fitting_3 := dk_seg dksX0_fitting_2 22 rfl rfl
theorem dksX0_fitting_4 : cX0_fitting.data.toList.drop 92 = dktX0_fitting_4 := dk_seg dksX0_fitting_3 24 rfl rfl
theorem dksX0_fitting_5 : cX0_fitting.data.toList.drop 115 = dktX0_fitting_5 := dk_seg dksX0_fitting_4 23 rfl rfl
theorem dksX0_fitting_6 : cX0_fitting.data.toList.drop 138 = dktX0_fitting_6 := dk_seg dksX0_fitting_5 23 rfl rfl
theorem dX0_fitting_0 : decode cX0_fitting 0 = .ok (.aload_n 0, 1) := dk_42 (dk_at dksX0_fitting_0 0 rfl rfl)
theorem dX0_fitting_1 : decode cX0_fitting 1 = .ok (.iload_n 1, 1) := dk_27 (dk_at dksX0_fitting_0 1 rfl rfl)
theorem dX0_fitting_2 : decode cX0_fitting 2 = .ok (.invokevirtual 201, 3) := dk_182 0 201 (dk_at dksX0_fitting_0 2 rfl rfl)
theorem dX0_fitting_5 : decode cX0_fitting 5 = .ok (.astore_n 3, 1) := dk_78 (dk_at dksX0_fitting_0 5 rfl rfl)
theorem dX0_fitting_6 : decode cX0_fitting 6 = .ok (.aload_n 0, 1) := dk_42 (dk_at dksX0_fitting_0 6 rfl rfl)
theorem dX0_fitting_7 : decode cX0_fitting 7 = .ok (.iload_n 2, 1) := dk_28 (dk_at dksX0_fitting_0 7 rfl rfl)
theorem dX0_fitting_8 : decode cX0_fitting 8 = .ok (.invokevirtual 211, 3) := dk_182 0 211 (dk_at dksX0_fitting_0 8 rfl rfl)
theorem dX0_fitting_11 : decode cX0_fitting 11 = .ok (.astore 4, 2) := dk_58 4 (dk_at dksX0_fitting_0 11 rfl rfl)
theorem dX0_fitting_13 : decode cX0_fitting 13 = .ok (.aload 4, 2) := dk_25 4 (dk_at dksX0_fitting_0 13 rfl rfl)
theorem dX0_fitting_15 : decode cX0_fitting 15 = .ok (.aload_n 3, 1) := dk_45 (dk_at dksX0_fitting_0 15 rfl rfl)
theorem dX0_fitting_16 : decode cX0_fitting 16 = .ok (.getfield 333, 3) := dk_180 1 77 (dk_at dksX0_fitting_0 16 rfl rfl)
theorem dX0_fitting_19 : decode cX0_fitting 19 = .ok (.invokestatic 299, 3) := dk_184 1 43 (dk_at dksX0_fitting_0 19 rfl rfl)
theorem dX0_fitting_22 : decode cX0_fitting 22 = .ok (.iconst 0, 1) := dk_3 (dk_at dksX0_fitting_0 22 rfl rfl)
theorem dX0_fitting_23 : decode cX0_fitting 23 = .ok (.istore 5, 2) := dk_54 5 (dk_at dksX0_fitting_1 0 rfl rfl)
theorem dX0_fitting_25 : decode cX0_fitting 25 = .ok (.aload_n 0, 1) := dk_42 (dk_at dksX0_fitting_1 2 rfl rfl)
theorem dX0_fitting_26 : decode cX0_fitting 26 = .ok (.getfield 104, 3) := dk_180 0 104 (dk_at dksX0_fitting_1 3 rfl rfl)
theorem dX0_fitting_29 : decode cX0_fitting 29 = .ok (.invokeinterface 34 1, 5) := by decide +kernel
theorem dX0_fitting_34 : decode cX0_fitting 34 = .ok (.astore 6, 2) := dk_58 6 (dk_at dksX0_fitting_1 11 rfl rfl)
theorem dX0_fitting_36 : decode cX0_fitting 36 = .ok (.aload 6, 2) := dk_25 6 (dk_at dksX0_fitting_1 13 rfl rfl)
theorem dX0_fitting_38 : decode cX0_fitting 38 = .ok (.invokeinterface 38 1, 5) := by decide +kernel
theorem dX0_fitting_43 : decode cX0_fitting 43 = .ok (.ifCond .eq 89, 3) := dk_153 0 89 (dk_at dksX0_fitting_1 20 rfl rfl)
theorem dX0_fitting_46 : decode cX0_fitting 46 = .ok (.aload 6, 2) := dk_25 6 (dk_at dksX0_fitting_2 0 rfl rfl)
theorem dX0_fitting_48 : decode cX0_fitting 48 = .ok (.invokeinterface 44 1, 5) := by decide +kernel
theorem dX0_fitting_53 : decode cX0_fitting 53 = .ok (.checkcast 95, 3) := dk_192 0 95 (dk_at dksX0_fitting_2 7 rfl rfl)
theorem dX0_fitting_56 : decode cX0_fitting 56 = .ok (.invokevirtual 401, 3) := dk_182 1 145 (dk_at dksX0_fitting_2 10 rfl rfl)
theorem dX0_fitting_59 : decode cX0_fitting 59 = .ok (.istore 7, 2) := dk_54 7 (dk_at dksX0_fitting_2 13 rfl rfl)
theorem dX0_fitting_61 : decode cX0_fitting 61 = .ok (.iload 7, 2) := dk_21 7 (dk_at dksX0_fitting_2 15 rfl rfl)
theorem dX0_fitting_63 : decode cX0_fitting 63 = .ok (.aload_n 3, 1) := dk_45 (dk_at dksX0_fitting_2 17 rfl rfl)
theorem dX0_fitting_64 : decode cX0_fitting 64 = .ok (.getfield 150, 3) := dk_180 0 150 (dk_at dksX0_fitting_2 18 rfl rfl)
theorem dX0_fitting_67 : decode cX0_fitting 67 = .ok (.aload_n 3, 1) := dk_45 (dk_at dksX0_fitting_2 21 rfl rfl)
theorem dX0_fitting_68 : decode cX0_fitting 68 = .ok (.getfield 330, 3) := dk_180 1 74 (dk_at dksX0_fitting_3 0 rfl rfl)
theorem dX0_fitting_71 : decode cX0_fitting 71 = .ok (.aload_n 3, 1) := dk_45 (dk_at dksX0_fitting_3 3 rfl rfl)
theorem dX0_fitting_72 : decode cX0_fitting 72 = .ok (.getfield 333, 3) := dk_180 1 77 (dk_at dksX0_fitting_3 4 rfl rfl)
theorem dX0_fitting_75 : decode cX0_fitting 75 = .ok (.aload_n 3, 1) := dk_45 (dk_at dksX0_fitting_3 7 rfl rfl)
theorem dX0_fitting_76 : decode cX0_fitting 76 = .ok (.getfield 336, 3) := dk_180 1 80 (dk_at dksX0_fitting_3 8 rfl rfl)
theorem dX0_fitting_79 : decode cX0_fitting 79 = .ok (.aload_n 3, 1) := dk_45 (dk_at dksX0_fitting_3 11 rfl rfl)
theorem dX0_fitting_80 : decode cX0_fitting 80 = .ok (.getfield 339, 3) := dk_180 1 83 (dk_at dksX0_fitting_3 12 rfl rfl)
theorem dX0_fitting_83 : decode cX0_fitting 83 = .ok (.aload_n 3, 1) := dk_45 (dk_at dksX0_fitting_3 15 rfl rfl)
theorem dX0_fitting_84 : decode cX0_fitting 84 = .ok (.getfield 342, 3) := dk_180 1 86 (dk_at dksX0_fitting_3 16 rfl rfl)
theorem dX0_fitting_87 : decode cX0_fitting 87 = .ok (.invokestatic 404, 3) := dk_184 1 148 (dk_at dksX0_fitting_3 19 rfl rfl)
theorem dX0_fitting_90 : decode cX0_fitting 90 = .ok (.astore 8, 2) := dk_58 8 (dk_at dksX0_fitting_3 22 rfl rfl)
theorem dX0_fitting_92 : decode cX0_fitting 92 = .ok (.iload 5, 2) := dk_21 5 (dk_at dksX0_fitting_4 0 rfl rfl)
theorem dX0_fitting_94 : decode cX0_fitting 94 = .ok (.new 358, 3) := dk_187 1 102 (dk_at dksX0_fitting_4 2 rfl rfl)
theorem dX0_fitting_97 : decode cX0_fitting 97 = .ok (.dup, 1) := dk_89 (dk_at dksX0_fitting_4 5 rfl rfl)
theorem dX0_fitting_98 : decode cX0_fitting 98 = .ok (.aload_n 0, 1) := dk_42 (dk_at dksX0_fitting_4 6 rfl rfl)
theorem dX0_fitting_99 : decode cX0_fitting 99 = .ok (.getfield 111, 3) := dk_180 0 111 (dk_at dksX0_fitting_4 7 rfl rfl)
theorem dX0_fitting_102 : decode cX0_fitting 102 = .ok (.invokespecial 360, 3) := dk_183 1 104 (dk_at dksX0_fitting_4 10 rfl rfl)
theorem dX0_fitting_105 : decode cX0_fitting 105 = .ok (.aload 8, 2) := dk_25 8 (dk_at dksX0_fitting_4 13 rfl rfl)
theorem dX0_fitting_107 : decode cX0_fitting 107 = .ok (.aload 4, 2) := dk_25 4 (dk_at dksX0_fitting_4 15 rfl rfl)
theorem dX0_fitting_109 : decode cX0_fitting 109 = .ok (.invokevirtual 363, 3) := dk_182 1 107 (dk_at dksX0_fitting_4 17 rfl rfl)
theorem dX0_fitting_112 : decode cX0_fitting 112 = .ok (.invokevirtual 378, 3) := dk_182 1 122 (dk_at dksX0_fitting_4 20 rfl rfl)
theorem dX0_fitting_115 : decode cX0_fitting 115 = .ok (.ifCond .eq 7, 3) := dk_153 0 7 (dk_at dksX0_fitting_5 0 rfl rfl)
theorem dX0_fitting_118 : decode cX0_fitting 118 = .ok (.iconst 0, 1) := dk_3 (dk_at dksX0_fitting_5 3 rfl rfl)
theorem dX0_fitting_119 : decode cX0_fitting 119 = .ok (.goto 7, 3) := dk_167 0 7 (dk_at dksX0_fitting_5 4 rfl rfl)
theorem dX0_fitting_122 : decode cX0_fitting 122 = .ok (.iconst 1, 1) := dk_4 (dk_at dksX0_fitting_5 7 rfl rfl)
theorem dX0_fitting_123 : decode cX0_fitting 123 = .ok (.iload 7, 2) := dk_21 7 (dk_at dksX0_fitting_5 8 rfl rfl)
theorem dX0_fitting_125 : decode cX0_fitting 125 = .ok (.ishl, 1) := dk_120 (dk_at dksX0_fitting_5 10 rfl rfl)
theorem dX0_fitting_126 : decode cX0_fitting 126 = .ok (.ior, 1) := dk_128 (dk_at dksX0_fitting_5 11 rfl rfl)
theorem dX0_fitting_127 : decode cX0_fitting 127 = .ok (.istore 5, 2) := dk_54 5 (dk_at dksX0_fitting_5 12 rfl rfl)
theorem dX0_fitting_129 : decode cX0_fitting 129 = .ok (.goto (-93), 3) := dk_167 255 163 (dk_at dksX0_fitting_5 14 rfl rfl)
theorem dX0_fitting_132 : decode cX0_fitting 132 = .ok (.iload 5, 2) := dk_21 5 (dk_at dksX0_fitting_5 17 rfl rfl)
theorem dX0_fitting_134 : decode cX0_fitting 134 = .ok (.ireturn, 1) := dk_172 (dk_at dksX0_fitting_5 19 rfl rfl)
theorem dX0_fitting_135 : decode cX0_fitting 135 = .ok (.astore_n 3, 1) := dk_78 (dk_at dksX0_fitting_5 20 rfl rfl)
theorem dX0_fitting_136 : decode cX0_fitting 136 = .ok (.aload_n 0, 1) := dk_42 (dk_at dksX0_fitting_5 21 rfl rfl)
theorem dX0_fitting_137 : decode cX0_fitting 137 = .ok (.aload_n 3, 1) := dk_45 (dk_at dksX0_fitting_5 22 rfl rfl)
theorem dX0_fitting_138 : decode cX0_fitting 138 = .ok (.invokevirtual 181, 3) := dk_182 0 181 (dk_at dksX0_fitting_6 0 rfl rfl)
theorem dX0_fitting_141 : decode cX0_fitting 141 = .ok (.ireturn, 1) := dk_172 (dk_at dksX0_fitting_6 3 rfl rfl)
abbrev cX0_inOrder : ByteArray := prog_1_method_44_code
def yX0_inOrder : MethodName := ⟨RX0, "inOrder", "(II)I"⟩
def dkwX0_inOrder_2 : List UInt8 := [184, 1, 183, 172, 78, 42, 45, 182, 0, 181, 16, 10, 100, 172]
abbrev dktX0_inOrder_2 : List UInt8 := dkwX0_inOrder_2 ++ []
def dkwX0_inOrder_1 : List UInt8 := [172, 3, 54, 4, 21, 4, 28, 162, 0, 14, 45, 184, 1, 183, 87, 132, 4, 1, 167, 255, 242, 45]
abbrev dktX0_inOrder_1 : List UInt8 := dkwX0_inOrder_1 ++ dktX0_inOrder_2
def dkwX0_inOrder_0 : List UInt8 := [42, 42, 27, 182, 0, 211, 3, 182, 1, 178, 78, 28, 155, 0, 11, 28, 45, 182, 1, 182, 161, 0, 5, 2]
abbrev dktX0_inOrder_0 : List UInt8 := dkwX0_inOrder_0 ++ dktX0_inOrder_1
theorem dksX0_inOrder_0 : cX0_inOrder.data.toList.drop 0 = dktX0_inOrder_0 := by decide +kernel
theorem dksX0_inOrder_1 : cX0_inOrder.data.toList.drop 24 = dktX0_inOrder_1 := dk_seg dksX0_inOrder_0 24 rfl rfl
theorem dksX0_inOrder_2 : cX0_inOrder.data.toList.drop 46 = dktX0_inOrder_2 := dk_seg dksX0_inOrder_1 22 rfl rfl
theorem dX0_inOrder_0 : decode cX0_inOrder 0 = .ok (.aload_n 0, 1) := dk_42 (dk_at dksX0_inOrder_0 0 rfl rfl)
theorem dX0_inOrder_1 : decode cX0_inOrder 1 = .ok (.aload_n 0, 1) := dk_42 (dk_at dksX0_inOrder_0 1 rfl rfl)
theorem dX0_inOrder_2 : decode cX0_inOrder 2 = .ok (.iload_n 1, 1) := dk_27 (dk_at dksX0_inOrder_0 2 rfl rfl)
theorem dX0_inOrder_3 : decode cX0_inOrder 3 = .ok (.invokevirtual 211, 3) := dk_182 0 211 (dk_at dksX0_inOrder_0 3 rfl rfl)
theorem dX0_inOrder_6 : decode cX0_inOrder 6 = .ok (.iconst 0, 1) := dk_3 (dk_at dksX0_inOrder_0 6 rfl rfl)
theorem dX0_inOrder_7 : decode cX0_inOrder 7 = .ok (.invokevirtual 434, 3) := dk_182 1 178 (dk_at dksX0_inOrder_0 7 rfl rfl)
theorem dX0_inOrder_10 : decode cX0_inOrder 10 = .ok (.astore_n 3, 1) := dk_78 (dk_at dksX0_inOrder_0 10 rfl rfl)
theorem dX0_inOrder_11 : decode cX0_inOrder 11 = .ok (.iload_n 2, 1) := dk_28 (dk_at dksX0_inOrder_0 11 rfl rfl)
theorem dX0_inOrder_12 : decode cX0_inOrder 12 = .ok (.ifCond .lt 11, 3) := dk_155 0 11 (dk_at dksX0_inOrder_0 12 rfl rfl)
theorem dX0_inOrder_15 : decode cX0_inOrder 15 = .ok (.iload_n 2, 1) := dk_28 (dk_at dksX0_inOrder_0 15 rfl rfl)
theorem dX0_inOrder_16 : decode cX0_inOrder 16 = .ok (.aload_n 3, 1) := dk_45 (dk_at dksX0_inOrder_0 16 rfl rfl)
theorem dX0_inOrder_17 : decode cX0_inOrder 17 = .ok (.invokevirtual 438, 3) := dk_182 1 182 (dk_at dksX0_inOrder_0 17 rfl rfl)
theorem dX0_inOrder_20 : decode cX0_inOrder 20 = .ok (.if_icmp .lt 5, 3) := dk_161 0 5 (dk_at dksX0_inOrder_0 20 rfl rfl)
theorem dX0_inOrder_23 : decode cX0_inOrder 23 = .ok (.iconst (-1), 1) := dk_2 (dk_at dksX0_inOrder_0 23 rfl rfl)
theorem dX0_inOrder_24 : decode cX0_inOrder 24 = .ok (.ireturn, 1) := dk_172 (dk_at dksX0_inOrder_1 0 rfl rfl)
theorem dX0_inOrder_25 : decode cX0_inOrder 25 = .ok (.iconst 0, 1) := dk_3 (dk_at dksX0_inOrder_1 1 rfl rfl)
theorem dX0_inOrder_26 : decode cX0_inOrder 26 = .ok (.istore 4, 2) := dk_54 4 (dk_at dksX0_inOrder_1 2 rfl rfl)
theorem dX0_inOrder_28 : decode cX0_inOrder 28 = .ok (.iload 4, 2) := dk_21 4 (dk_at dksX0_inOrder_1 4 rfl rfl)
theorem dX0_inOrder_30 : decode cX0_inOrder 30 = .ok (.iload_n 2, 1) := dk_28 (dk_at dksX0_inOrder_1 6 rfl rfl)
theorem dX0_inOrder_31 : decode cX0_inOrder 31 = .ok (.if_icmp .ge 14, 3) := dk_162 0 14 (dk_at dksX0_inOrder_1 7 rfl rfl)
theorem dX0_inOrder_34 : decode cX0_inOrder 34 = .ok (.aload_n 3, 1) := dk_45 (dk_at dksX0_inOrder_1 10 rfl rfl)
theorem dX0_inOrder_35 : decode cX0_inOrder 35 = .ok (.invokestatic 439, 3) := dk_184 1 183 (dk_at dksX0_inOrder_1 11 rfl rfl)
theorem dX0_inOrder_38 : decode cX0_inOrder 38 = .ok (.pop, 1) := dk_87 (dk_at dksX0_inOrder_1 14 rfl rfl)
theorem dX0_inOrder_39 : decode cX0_inOrder 39 = .ok (.iinc 4 1, 3) := dk_132 4 1 (dk_at dksX0_inOrder_1 15 rfl rfl)
theorem dX0_inOrder_42 : decode cX0_inOrder 42 = .ok (.goto (-14), 3) := dk_167 255 242 (dk_at dksX0_inOrder_1 18 rfl rfl)
theorem dX0_inOrder_45 : decode cX0_inOrder 45 = .ok (.aload_n 3, 1) := dk_45 (dk_at dksX0_inOrder_1 21 rfl rfl)
theorem dX0_inOrder_46 : decode cX0_inOrder 46 = .ok (.invokestatic 439, 3) := dk_184 1 183 (dk_at dksX0_inOrder_2 0 rfl rfl)
theorem dX0_inOrder_49 : decode cX0_inOrder 49 = .ok (.ireturn, 1) := dk_172 (dk_at dksX0_inOrder_2 3 rfl rfl)
theorem dX0_inOrder_50 : decode cX0_inOrder 50 = .ok (.astore_n 3, 1) := dk_78 (dk_at dksX0_inOrder_2 4 rfl rfl)
theorem dX0_inOrder_51 : decode cX0_inOrder 51 = .ok (.aload_n 0, 1) := dk_42 (dk_at dksX0_inOrder_2 5 rfl rfl)
theorem dX0_inOrder_52 : decode cX0_inOrder 52 = .ok (.aload_n 3, 1) := dk_45 (dk_at dksX0_inOrder_2 6 rfl rfl)
theorem dX0_inOrder_53 : decode cX0_inOrder 53 = .ok (.invokevirtual 181, 3) := dk_182 0 181 (dk_at dksX0_inOrder_2 7 rfl rfl)
theorem dX0_inOrder_56 : decode cX0_inOrder 56 = .ok (.bipush 10, 2) := dk_16 10 (dk_at dksX0_inOrder_2 10 rfl rfl)
theorem dX0_inOrder_58 : decode cX0_inOrder 58 = .ok (.isub, 1) := dk_100 (dk_at dksX0_inOrder_2 12 rfl rfl)
theorem dX0_inOrder_59 : decode cX0_inOrder 59 = .ok (.ireturn, 1) := dk_172 (dk_at dksX0_inOrder_2 13 rfl rfl)
abbrev cX0_puts : ByteArray := prog_1_method_42_code
def yX0_puts : MethodName := ⟨RX0, "puts", "(LLineRemarks$Revision;Z)Ljava/util/LinkedList;"⟩
def dkwX0_puts_4 : List UInt8 := [182, 1, 160, 132, 4, 1, 167, 255, 167, 45, 176]
abbrev dktX0_puts_4 : List UInt8 := dkwX0_puts_4 ++ []
def dkwX0_puts_3 : List UInt8 := [182, 1, 122, 28, 160, 0, 21, 45, 187, 1, 155, 89, 21, 4, 25, 5, 180, 1, 111, 183, 1, 157]
abbrev dktX0_puts_3 : List UInt8 := dkwX0_puts_3 ++ dktX0_puts_4
def dkwX0_puts_2 : List UInt8 := [180, 0, 111, 183, 1, 104, 42, 180, 0, 111, 180, 0, 140, 21, 4, 50, 43, 182, 1, 107, 58, 5, 25, 5]
abbrev dktX0_puts_2 : List UInt8 := dkwX0_puts_2 ++ dktX0_puts_3
def dkwX0_puts_1 : List UInt8 := [42, 180, 0, 111, 180, 0, 140, 21, 4, 50, 180, 1, 77, 182, 1, 39, 153, 0, 57, 187, 1, 102, 89, 42]
abbrev dktX0_puts_1 : List UInt8 := dkwX0_puts_1 ++ dktX0_puts_2
def dkwX0_puts_0 : List UInt8 := [187, 1, 152, 89, 183, 1, 154, 78, 3, 54, 4, 21, 4, 42, 180, 0, 111, 180, 1, 61, 162, 0, 83, 43]
abbrev dktX0_puts_0 : List UInt8 := dkwX0_puts_0 ++ dktX0_puts_1
theorem dksX0_puts_0 : cX0_puts.data.toList.drop 0 = dktX0_puts_0 := by decide +kernel
theorem dksX0_puts_1 : cX0_puts.data.toList.drop 24 = dktX0_puts_1 := dk_seg dksX0_puts_0 24 rfl rfl
theorem dksX0_puts_2 : cX0_puts.data.toList.drop 48 = dktX0_puts_2 := dk_seg dksX0_puts_1 24 rfl rfl
theorem dksX0_puts_3 : cX0_puts.data.toList.drop 72 = dktX0_puts_3 := dk_seg dksX0_puts_2 24 rfl rfl
theorem dksX0_puts_4 : cX0_puts.data.toList.drop 94 = dktX0_puts_4 := dk_seg dksX0_puts_3 22 rfl rfl
theorem dX0_puts_0 : decode cX0_puts 0 = .ok (.new 408, 3) := dk_187 1 152 (dk_at dksX0_puts_0 0 rfl rfl)
theorem dX0_puts_3 : decode cX0_puts 3 = .ok (.dup, 1) := dk_89 (dk_at dksX0_puts_0 3 rfl rfl)
theorem dX0_puts_4 : decode cX0_puts 4 = .ok (.invokespecial 410, 3) := dk_183 1 154 (dk_at dksX0_puts_0 4 rfl rfl)
theorem dX0_puts_7 : decode cX0_puts 7 = .ok (.astore_n 3, 1) := dk_78 (dk_at dksX0_puts_0 7 rfl rfl)
theorem dX0_puts_8 : decode cX0_puts 8 = .ok (.iconst 0, 1) := dk_3 (dk_at dksX0_puts_0 8 rfl rfl)
theorem dX0_puts_9 : decode cX0_puts 9 = .ok (.istore 4, 2) := dk_54 4 (dk_at dksX0_puts_0 9 rfl rfl)
theorem dX0_puts_11 : decode cX0_puts 11 = .ok (.iload 4, 2) := dk_21 4 (dk_at dksX0_puts_0 11 rfl rfl)
theorem dX0_puts_13 : decode cX0_puts 13 = .ok (.aload_n 0, 1) := dk_42 (dk_at dksX0_puts_0 13 rfl rfl)
theorem dX0_puts_14 : decode cX0_puts 14 = .ok (.getfield 111, 3) := dk_180 0 111 (dk_at dksX0_puts_0 14 rfl rfl)
theorem dX0_puts_17 : decode cX0_puts 17 = .ok (.getfield 317, 3) := dk_180 1 61 (dk_at dksX0_puts_0 17 rfl rfl)
theorem dX0_puts_20 : decode cX0_puts 20 = .ok (.if_icmp .ge 83, 3) := dk_162 0 83 (dk_at dksX0_puts_0 20 rfl rfl)
theorem dX0_puts_23 : decode cX0_puts 23 = .ok (.aload_n 1, 1) := dk_43 (dk_at dksX0_puts_0 23 rfl rfl)
theorem dX0_puts_24 : decode cX0_puts 24 = .ok (.aload_n 0, 1) := dk_42 (dk_at dksX0_puts_1 0 rfl rfl)
theorem dX0_puts_25 : decode cX0_puts 25 = .ok (.getfield 111, 3) := dk_180 0 111 (dk_at dksX0_puts_1 1 rfl rfl)
theorem dX0_puts_28 : decode cX0_puts 28 = .ok (.getfield 140, 3) := dk_180 0 140 (dk_at dksX0_puts_1 4 rfl rfl)
theorem dX0_puts_31 : decode cX0_puts 31 = .ok (.iload 4, 2) := dk_21 4 (dk_at dksX0_puts_1 7 rfl rfl)
theorem dX0_puts_33 : decode cX0_puts 33 = .ok (.aaload, 1) := dk_50 (dk_at dksX0_puts_1 9 rfl rfl)
theorem dX0_puts_34 : decode cX0_puts 34 = .ok (.getfield 333, 3) := dk_180 1 77 (dk_at dksX0_puts_1 10 rfl rfl)
theorem dX0_puts_37 : decode cX0_puts 37 = .ok (.invokevirtual 295, 3) := dk_182 1 39 (dk_at dksX0_puts_1 13 rfl rfl)
theorem dX0_puts_40 : decode cX0_puts 40 = .ok (.ifCond .eq 57, 3) := dk_153 0 57 (dk_at dksX0_puts_1 16 rfl rfl)
theorem dX0_puts_43 : decode cX0_puts 43 = .ok (.new 358, 3) := dk_187 1 102 (dk_at dksX0_puts_1 19 rfl rfl)
theorem dX0_puts_46 : decode cX0_puts 46 = .ok (.dup, 1) := dk_89 (dk_at dksX0_puts_1 22 rfl rfl)
theorem dX0_puts_47 : decode cX0_puts 47 = .ok (.aload_n 0, 1) := dk_42 (dk_at dksX0_puts_1 23 rfl rfl)
theorem dX0_puts_48 : decode cX0_puts 48 = .ok (.getfield 111, 3) := dk_180 0 111 (dk_at dksX0_puts_2 0 rfl rfl)
theorem dX0_puts_51 : decode cX0_puts 51 = .ok (.invokespecial 360, 3) := dk_183 1 104 (dk_at dksX0_puts_2 3 rfl rfl)
theorem dX0_puts_54 : decode cX0_puts 54 = .ok (.aload_n 0, 1) := dk_42 (dk_at dksX0_puts_2 6 rfl rfl)
theorem dX0_puts_55 : decode cX0_puts 55 = .ok (.getfield 111, 3) := dk_180 0 111 (dk_at dksX0_puts_2 7 rfl rfl)
theorem dX0_puts_58 : decode cX0_puts 58 = .ok (.getfield 140, 3) := dk_180 0 140 (dk_at dksX0_puts_2 10 rfl rfl)
theorem dX0_puts_61 : decode cX0_puts 61 = .ok (.iload 4, 2) := dk_21 4 (dk_at dksX0_puts_2 13 rfl rfl)
theorem dX0_puts_63 : decode cX0_puts 63 = .ok (.aaload, 1) := dk_50 (dk_at dksX0_puts_2 15 rfl rfl)
theorem dX0_puts_64 : decode cX0_puts 64 = .ok (.aload_n 1, 1) := dk_43 (dk_at dksX0_puts_2 16 rfl rfl)
theorem dX0_puts_65 : decode cX0_puts 65 = .ok (.invokevirtual 363, 3) := dk_182 1 107 (dk_at dksX0_puts_2 17 rfl rfl)
theorem dX0_puts_68 : decode cX0_puts 68 = .ok (.astore 5, 2) := dk_58 5 (dk_at dksX0_puts_2 20 rfl rfl)
theorem dX0_puts_70 : decode cX0_puts 70 = .ok (.aload 5, 2) := dk_25 5 (dk_at dksX0_puts_2 22 rfl rfl)
theorem dX0_puts_72 : decode cX0_puts 72 = .ok (.invokevirtual 378, 3) := dk_182 1 122 (dk_at dksX0_puts_3 0 rfl rfl)
theorem dX0_puts_75 : decode cX0_puts 75 = .ok (.iload_n 2, 1) := dk_28 (dk_at dksX0_puts_3 3 rfl rfl)
theorem dX0_puts_76 : decode cX0_puts 76 = .ok (.if_icmp .ne 21, 3) := dk_160 0 21 (dk_at dksX0_puts_3 4 rfl rfl)
theorem dX0_puts_79 : decode cX0_puts 79 = .ok (.aload_n 3, 1) := dk_45 (dk_at dksX0_puts_3 7 rfl rfl)
theorem dX0_puts_80 : decode cX0_puts 80 = .ok (.new 411, 3) := dk_187 1 155 (dk_at dksX0_puts_3 8 rfl rfl)
theorem dX0_puts_83 : decode cX0_puts 83 = .ok (.dup, 1) := dk_89 (dk_at dksX0_puts_3 11 rfl rfl)
theorem dX0_puts_84 : decode cX0_puts 84 = .ok (.iload 4, 2) := dk_21 4 (dk_at dksX0_puts_3 12 rfl rfl)
theorem dX0_puts_86 : decode cX0_puts 86 = .ok (.aload 5, 2) := dk_25 5 (dk_at dksX0_puts_3 14 rfl rfl)
theorem dX0_puts_88 : decode cX0_puts 88 = .ok (.getfield 367, 3) := dk_180 1 111 (dk_at dksX0_puts_3 16 rfl rfl)
theorem dX0_puts_91 : decode cX0_puts 91 = .ok (.invokespecial 413, 3) := dk_183 1 157 (dk_at dksX0_puts_3 19 rfl rfl)
theorem dX0_puts_94 : decode cX0_puts 94 = .ok (.invokevirtual 416, 3) := dk_182 1 160 (dk_at dksX0_puts_4 0 rfl rfl)
theorem dX0_puts_97 : decode cX0_puts 97 = .ok (.iinc 4 1, 3) := dk_132 4 1 (dk_at dksX0_puts_4 3 rfl rfl)
theorem dX0_puts_100 : decode cX0_puts 100 = .ok (.goto (-89), 3) := dk_167 255 167 (dk_at dksX0_puts_4 6 rfl rfl)
theorem dX0_puts_103 : decode cX0_puts 103 = .ok (.aload_n 3, 1) := dk_45 (dk_at dksX0_puts_4 9 rfl rfl)
theorem dX0_puts_104 : decode cX0_puts 104 = .ok (.areturn, 1) := dk_176 (dk_at dksX0_puts_4 10 rfl rfl)
abbrev cX0_firstOut : ByteArray := prog_1_method_43_code
def yX0_firstOut : MethodName := ⟨RX0, "firstOut", "(Ljava/util/LinkedList;)I"⟩
def dkwX0_firstOut_3 : List UInt8 := [180, 1, 115, 27, 160, 0, 14, 44, 185, 1, 172, 1, 0, 45, 180, 1, 175, 172, 167, 255, 215, 2, 172]
abbrev dktX0_firstOut_3 : List UInt8 := dkwX0_firstOut_3 ++ []
def dkwX0_firstOut_2 : List UInt8 := [44, 185, 0, 38, 1, 0, 153, 0, 38, 44, 185, 0, 44, 1, 0, 192, 1, 155, 78, 45, 180, 1, 165]
abbrev dktX0_firstOut_2 : List UInt8 := dkwX0_firstOut_2 ++ dktX0_firstOut_3
def dkwX0_firstOut_1 : List UInt8 := [192, 1, 155, 78, 27, 45, 180, 1, 165, 180, 1, 115, 184, 1, 166, 60, 167, 255, 225, 42, 182, 1, 164, 77]
abbrev dktX0_firstOut_1 : List UInt8 := dkwX0_firstOut_1 ++ dktX0_firstOut_2
def dkwX0_firstOut_0 : List UInt8 := [16, 24, 60, 42, 182, 1, 164, 77, 44, 185, 0, 38, 1, 0, 153, 0, 28, 44, 185, 0, 44, 1, 0]
abbrev dktX0_firstOut_0 : List UInt8 := dkwX0_firstOut_0 ++ dktX0_firstOut_1
theorem dksX0_firstOut_0 : cX0_firstOut.data.toList.drop 0 = dktX0_firstOut_0 := by decide +kernel
theorem dksX0_firstOut_1 : cX0_firstOut.data.toList.drop 23 = dktX0_firstOut_1 := dk_seg dksX0_firstOut_0 23 rfl rfl
theorem dksX0_firstOut_2 : cX0_firstOut.data.toList.drop 47 = dktX0_firstOut_2 := dk_seg dksX0_firstOut_1 24 rfl rfl
theorem dksX0_firstOut_3 : cX0_firstOut.data.toList.drop 70 = dktX0_firstOut_3 := dk_seg dksX0_firstOut_2 23 rfl rfl
theorem dX0_firstOut_0 : decode cX0_firstOut 0 = .ok (.bipush 24, 2) := dk_16 24 (dk_at dksX0_firstOut_0 0 rfl rfl)
theorem dX0_firstOut_2 : decode cX0_firstOut 2 = .ok (.istore_n 1, 1) := dk_60 (dk_at dksX0_firstOut_0 2 rfl rfl)
theorem dX0_firstOut_3 : decode cX0_firstOut 3 = .ok (.aload_n 0, 1) := dk_42 (dk_at dksX0_firstOut_0 3 rfl rfl)
theorem dX0_firstOut_4 : decode cX0_firstOut 4 = .ok (.invokevirtual 420, 3) := dk_182 1 164 (dk_at dksX0_firstOut_0 4 rfl rfl)
theorem dX0_firstOut_7 : decode cX0_firstOut 7 = .ok (.astore_n 2, 1) := dk_77 (dk_at dksX0_firstOut_0 7 rfl rfl)
theorem dX0_firstOut_8 : decode cX0_firstOut 8 = .ok (.aload_n 2, 1) := dk_44 (dk_at dksX0_firstOut_0 8 rfl rfl)
theorem dX0_firstOut_9 : decode cX0_firstOut 9 = .ok (.invokeinterface 38 1, 5) := by decide +kernel
theorem dX0_firstOut_14 : decode cX0_firstOut 14 = .ok (.ifCond .eq 28, 3) := dk_153 0 28 (dk_at dksX0_firstOut_0 14 rfl rfl)
theorem dX0_firstOut_17 : decode cX0_firstOut 17 = .ok (.aload_n 2, 1) := dk_44 (dk_at dksX0_firstOut_0 17 rfl rfl)
theorem dX0_firstOut_18 : decode cX0_firstOut 18 = .ok (.invokeinterface 44 1, 5) := by decide +kernel
theorem dX0_firstOut_23 : decode cX0_firstOut 23 = .ok (.checkcast 411, 3) := dk_192 1 155 (dk_at dksX0_firstOut_1 0 rfl rfl)
theorem dX0_firstOut_26 : decode cX0_firstOut 26 = .ok (.astore_n 3, 1) := dk_78 (dk_at dksX0_firstOut_1 3 rfl rfl)
theorem dX0_firstOut_27 : decode cX0_firstOut 27 = .ok (.iload_n 1, 1) := dk_27 (dk_at dksX0_firstOut_1 4 rfl rfl)
theorem dX0_firstOut_28 : decode cX0_firstOut 28 = .ok (.aload_n 3, 1) := dk_45 (dk_at dksX0_firstOut_1 5 rfl rfl)
theorem dX0_firstOut_29 : decode cX0_firstOut 29 = .ok (.getfield 421, 3) := dk_180 1 165 (dk_at dksX0_firstOut_1 6 rfl rfl)
theorem dX0_firstOut_32 : decode cX0_firstOut 32 = .ok (.getfield 371, 3) := dk_180 1 115 (dk_at dksX0_firstOut_1 9 rfl rfl)
theorem dX0_firstOut_35 : decode cX0_firstOut 35 = .ok (.invokestatic 422, 3) := dk_184 1 166 (dk_at dksX0_firstOut_1 12 rfl rfl)
theorem dX0_firstOut_38 : decode cX0_firstOut 38 = .ok (.istore_n 1, 1) := dk_60 (dk_at dksX0_firstOut_1 15 rfl rfl)
theorem dX0_firstOut_39 : decode cX0_firstOut 39 = .ok (.goto (-31), 3) := dk_167 255 225 (dk_at dksX0_firstOut_1 16 rfl rfl)
theorem dX0_firstOut_42 : decode cX0_firstOut 42 = .ok (.aload_n 0, 1) := dk_42 (dk_at dksX0_firstOut_1 19 rfl rfl)
theorem dX0_firstOut_43 : decode cX0_firstOut 43 = .ok (.invokevirtual 420, 3) := dk_182 1 164 (dk_at dksX0_firstOut_1 20 rfl rfl)
theorem dX0_firstOut_46 : decode cX0_firstOut 46 = .ok (.astore_n 2, 1) := dk_77 (dk_at dksX0_firstOut_1 23 rfl rfl)
theorem dX0_firstOut_47 : decode cX0_firstOut 47 = .ok (.aload_n 2, 1) := dk_44 (dk_at dksX0_firstOut_2 0 rfl rfl)
theorem dX0_firstOut_48 : decode cX0_firstOut 48 = .ok (.invokeinterface 38 1, 5) := by decide +kernel
theorem dX0_firstOut_53 : decode cX0_firstOut 53 = .ok (.ifCond .eq 38, 3) := dk_153 0 38 (dk_at dksX0_firstOut_2 6 rfl rfl)
theorem dX0_firstOut_56 : decode cX0_firstOut 56 = .ok (.aload_n 2, 1) := dk_44 (dk_at dksX0_firstOut_2 9 rfl rfl)
theorem dX0_firstOut_57 : decode cX0_firstOut 57 = .ok (.invokeinterface 44 1, 5) := by decide +kernel
theorem dX0_firstOut_62 : decode cX0_firstOut 62 = .ok (.checkcast 411, 3) := dk_192 1 155 (dk_at dksX0_firstOut_2 15 rfl rfl)
theorem dX0_firstOut_65 : decode cX0_firstOut 65 = .ok (.astore_n 3, 1) := dk_78 (dk_at dksX0_firstOut_2 18 rfl rfl)
theorem dX0_firstOut_66 : decode cX0_firstOut 66 = .ok (.aload_n 3, 1) := dk_45 (dk_at dksX0_firstOut_2 19 rfl rfl)
theorem dX0_firstOut_67 : decode cX0_firstOut 67 = .ok (.getfield 421, 3) := dk_180 1 165 (dk_at dksX0_firstOut_2 20 rfl rfl)
theorem dX0_firstOut_70 : decode cX0_firstOut 70 = .ok (.getfield 371, 3) := dk_180 1 115 (dk_at dksX0_firstOut_3 0 rfl rfl)
theorem dX0_firstOut_73 : decode cX0_firstOut 73 = .ok (.iload_n 1, 1) := dk_27 (dk_at dksX0_firstOut_3 3 rfl rfl)
theorem dX0_firstOut_74 : decode cX0_firstOut 74 = .ok (.if_icmp .ne 14, 3) := dk_160 0 14 (dk_at dksX0_firstOut_3 4 rfl rfl)
theorem dX0_firstOut_77 : decode cX0_firstOut 77 = .ok (.aload_n 2, 1) := dk_44 (dk_at dksX0_firstOut_3 7 rfl rfl)
theorem dX0_firstOut_78 : decode cX0_firstOut 78 = .ok (.invokeinterface 428 1, 5) := by decide +kernel
theorem dX0_firstOut_83 : decode cX0_firstOut 83 = .ok (.aload_n 3, 1) := dk_45 (dk_at dksX0_firstOut_3 13 rfl rfl)
theorem dX0_firstOut_84 : decode cX0_firstOut 84 = .ok (.getfield 431, 3) := dk_180 1 175 (dk_at dksX0_firstOut_3 14 rfl rfl)
theorem dX0_firstOut_87 : decode cX0_firstOut 87 = .ok (.ireturn, 1) := dk_172 (dk_at dksX0_firstOut_3 17 rfl rfl)
theorem dX0_firstOut_88 : decode cX0_firstOut 88 = .ok (.goto (-41), 3) := dk_167 255 215 (dk_at dksX0_firstOut_3 18 rfl rfl)
theorem dX0_firstOut_91 : decode cX0_firstOut 91 = .ok (.iconst (-1), 1) := dk_2 (dk_at dksX0_firstOut_3 21 rfl rfl)
theorem dX0_firstOut_92 : decode cX0_firstOut 92 = .ok (.ireturn, 1) := dk_172 (dk_at dksX0_firstOut_3 22 rfl rfl)
abbrev cX0_who : ByteArray := prog_1_method_47_code
def yX0_who : MethodName := ⟨RX0, "who", "(II)I"⟩
def dkwX0_who_2 : List UInt8 := [167, 0, 8, 25, 4, 184, 1, 216, 172, 78, 42, 45, 182, 0, 181, 172]
abbrev dktX0_who_2 : List UInt8 := dkwX0_who_2 ++ []
def dkwX0_who_1 : List UInt8 := [160, 0, 7, 4, 167, 0, 4, 3, 182, 1, 178, 58, 4, 28, 5, 160, 0, 11, 25, 4, 184, 1, 213]
abbrev dktX0_who_1 : List UInt8 := dkwX0_who_1 ++ dktX0_who_2
def dkwX0_who_0 : List UInt8 := [42, 27, 182, 0, 211, 78, 28, 133, 9, 20, 1, 6, 184, 0, 173, 16, 251, 184, 0, 129, 42, 45, 28, 4]
abbrev dktX0_who_0 : List UInt8 := dkwX0_who_0 ++ dktX0_who_1
theorem dksX0_who_0 : cX0_who.data.toList.drop 0 = dktX0_who_0 := by decide +kernel
theorem dksX0_who_1 : cX0_who.data.toList.drop 24 = dktX0_who_1 := dk_seg dksX0_who_0 24 rfl rfl
theorem dksX0_who_2 : cX0_who.data.toList.drop 47 = dktX0_who_2 := dk_seg dksX0_who_1 23 rfl rfl
theorem dX0_who_0 : decode cX0_who 0 = .ok (.aload_n 0, 1) := dk_42 (dk_at dksX0_who_0 0 rfl rfl)
theorem dX0_who_1 : decode cX0_who 1 = .ok (.iload_n 1, 1) := dk_27 (dk_at dksX0_who_0 1 rfl rfl)
theorem dX0_who_2 : decode cX0_who 2 = .ok (.invokevirtual 211, 3) := dk_182 0 211 (dk_at dksX0_who_0 2 rfl rfl)
theorem dX0_who_5 : decode cX0_who 5 = .ok (.astore_n 3, 1) := dk_78 (dk_at dksX0_who_0 5 rfl rfl)
theorem dX0_who_6 : decode cX0_who 6 = .ok (.iload_n 2, 1) := dk_28 (dk_at dksX0_who_0 6 rfl rfl)
theorem dX0_who_7 : decode cX0_who 7 = .ok (.i2l, 1) := dk_133 (dk_at dksX0_who_0 7 rfl rfl)
theorem dX0_who_8 : decode cX0_who 8 = .ok (.lconst 0, 1) := dk_9 (dk_at dksX0_who_0 8 rfl rfl)
theorem dX0_who_9 : decode cX0_who 9 = .ok (.ldc2_w 262, 3) := dk_20 1 6 (dk_at dksX0_who_0 9 rfl rfl)
theorem dX0_who_12 : decode cX0_who 12 = .ok (.invokestatic 173, 3) := dk_184 0 173 (dk_at dksX0_who_0 12 rfl rfl)
theorem dX0_who_15 : decode cX0_who 15 = .ok (.bipush (-5), 2) := dk_16 251 (dk_at dksX0_who_0 15 rfl rfl)
theorem dX0_who_17 : decode cX0_who 17 = .ok (.invokestatic 129, 3) := dk_184 0 129 (dk_at dksX0_who_0 17 rfl rfl)
theorem dX0_who_20 : decode cX0_who 20 = .ok (.aload_n 0, 1) := dk_42 (dk_at dksX0_who_0 20 rfl rfl)
theorem dX0_who_21 : decode cX0_who 21 = .ok (.aload_n 3, 1) := dk_45 (dk_at dksX0_who_0 21 rfl rfl)
theorem dX0_who_22 : decode cX0_who 22 = .ok (.iload_n 2, 1) := dk_28 (dk_at dksX0_who_0 22 rfl rfl)
theorem dX0_who_23 : decode cX0_who 23 = .ok (.iconst 1, 1) := dk_4 (dk_at dksX0_who_0 23 rfl rfl)
theorem dX0_who_24 : decode cX0_who 24 = .ok (.if_icmp .ne 7, 3) := dk_160 0 7 (dk_at dksX0_who_1 0 rfl rfl)
theorem dX0_who_27 : decode cX0_who 27 = .ok (.iconst 1, 1) := dk_4 (dk_at dksX0_who_1 3 rfl rfl)
theorem dX0_who_28 : decode cX0_who 28 = .ok (.goto 4, 3) := dk_167 0 4 (dk_at dksX0_who_1 4 rfl rfl)
theorem dX0_who_31 : decode cX0_who 31 = .ok (.iconst 0, 1) := dk_3 (dk_at dksX0_who_1 7 rfl rfl)
theorem dX0_who_32 : decode cX0_who 32 = .ok (.invokevirtual 434, 3) := dk_182 1 178 (dk_at dksX0_who_1 8 rfl rfl)
theorem dX0_who_35 : decode cX0_who 35 = .ok (.astore 4, 2) := dk_58 4 (dk_at dksX0_who_1 11 rfl rfl)
theorem dX0_who_37 : decode cX0_who 37 = .ok (.iload_n 2, 1) := dk_28 (dk_at dksX0_who_1 13 rfl rfl)
theorem dX0_who_38 : decode cX0_who 38 = .ok (.iconst 2, 1) := dk_5 (dk_at dksX0_who_1 14 rfl rfl)
theorem dX0_who_39 : decode cX0_who 39 = .ok (.if_icmp .ne 11, 3) := dk_160 0 11 (dk_at dksX0_who_1 15 rfl rfl)
theorem dX0_who_42 : decode cX0_who 42 = .ok (.aload 4, 2) := dk_25 4 (dk_at dksX0_who_1 18 rfl rfl)
theorem dX0_who_44 : decode cX0_who 44 = .ok (.invokestatic 469, 3) := dk_184 1 213 (dk_at dksX0_who_1 20 rfl rfl)
theorem dX0_who_47 : decode cX0_who 47 = .ok (.goto 8, 3) := dk_167 0 8 (dk_at dksX0_who_2 0 rfl rfl)
theorem dX0_who_50 : decode cX0_who 50 = .ok (.aload 4, 2) := dk_25 4 (dk_at dksX0_who_2 3 rfl rfl)
theorem dX0_who_52 : decode cX0_who 52 = .ok (.invokestatic 472, 3) := dk_184 1 216 (dk_at dksX0_who_2 5 rfl rfl)
theorem dX0_who_55 : decode cX0_who 55 = .ok (.ireturn, 1) := dk_172 (dk_at dksX0_who_2 8 rfl rfl)
theorem dX0_who_56 : decode cX0_who 56 = .ok (.astore_n 3, 1) := dk_78 (dk_at dksX0_who_2 9 rfl rfl)
theorem dX0_who_57 : decode cX0_who 57 = .ok (.aload_n 0, 1) := dk_42 (dk_at dksX0_who_2 10 rfl rfl)
theorem dX0_who_58 : decode cX0_who 58 = .ok (.aload_n 3, 1) := dk_45 (dk_at dksX0_who_2 11 rfl rfl)
theorem dX0_who_59 : decode cX0_who 59 = .ok (.invokevirtual 181, 3) := dk_182 0 181 (dk_at dksX0_who_2 12 rfl rfl)
theorem dX0_who_62 : decode cX0_who 62 = .ok (.ireturn, 1) := dk_172 (dk_at dksX0_who_2 15 rfl rfl)
abbrev cX0_heat : ByteArray := prog_1_method_46_code
def yX0_heat : MethodName := ⟨RX0, "heat", "(Ljava/util/LinkedList;)I"⟩
def dkwX0_heat_5 : List UInt8 := [16, 99, 167, 0, 13, 43, 28, 184, 0, 94, 185, 1, 209, 2, 0, 172]
abbrev dktX0_heat_5 : List UInt8 := dkwX0_heat_5 ++ []
def dkwX0_heat_4 : List UInt8 := [132, 4, 1, 167, 255, 213, 167, 255, 182, 43, 184, 1, 205, 192, 0, 95, 182, 1, 145, 61, 28, 154, 0, 8]
abbrev dktX0_heat_4 : List UInt8 := dkwX0_heat_4 ++ dktX0_heat_5
def dkwX0_heat_3 : List UInt8 := [185, 1, 198, 2, 0, 192, 0, 95, 182, 1, 145, 4, 96, 184, 0, 94, 185, 1, 201, 3, 0, 87]
abbrev dktX0_heat_3 : List UInt8 := dkwX0_heat_3 ++ dktX0_heat_4
def dkwX0_heat_2 : List UInt8 := [180, 1, 115, 54, 4, 21, 4, 45, 180, 1, 165, 180, 1, 118, 163, 0, 37, 43, 21, 4, 43, 21, 4]
abbrev dktX0_heat_2 : List UInt8 := dkwX0_heat_2 ++ dktX0_heat_3
def dkwX0_heat_1 : List UInt8 := [185, 0, 38, 1, 0, 153, 0, 71, 44, 185, 0, 44, 1, 0, 192, 1, 155, 78, 45, 180, 1, 165]
abbrev dktX0_heat_1 : List UInt8 := dkwX0_heat_1 ++ dktX0_heat_2
def dkwX0_heat_0 : List UInt8 := [187, 1, 187, 89, 16, 24, 3, 184, 0, 94, 184, 1, 189, 183, 1, 195, 76, 42, 182, 1, 164, 77, 44]
abbrev dktX0_heat_0 : List UInt8 := dkwX0_heat_0 ++ dktX0_heat_1
theorem dksX0_heat_0 : cX0_heat.data.toList.drop 0 = dktX0_heat_0 := by decide +kernel
theorem dksX0_heat_1 : cX0_heat.data.toList.drop 23 = dktX0_heat_1 := dk_seg dksX0_heat_0 23 rfl rfl
theorem dksX0_heat_2 : cX0_heat.data.toList.drop 45 = dktX0_heat_2 := dk_seg dksX0_heat_1 22 rfl rfl
theorem dksX0_heat_3 : cX0_heat.data.toList.drop 68 = dktX0_heat_3 := dk_seg dksX0_heat_2 23 rfl rfl
theorem dksX0_heat_4 : cX0_heat.data.toList.drop 90 = dktX0_heat_4 := dk_seg dksX0_heat_3 22 rfl rfl
theorem dksX0_heat_5 : cX0_heat.data.toList.drop 114 = dktX0_heat_5 := dk_seg dksX0_heat_4 24 rfl rfl
theorem dX0_heat_0 : decode cX0_heat 0 = .ok (.new 443, 3) := dk_187 1 187 (dk_at dksX0_heat_0 0 rfl rfl)
theorem dX0_heat_3 : decode cX0_heat 3 = .ok (.dup, 1) := dk_89 (dk_at dksX0_heat_0 3 rfl rfl)
theorem dX0_heat_4 : decode cX0_heat 4 = .ok (.bipush 24, 2) := dk_16 24 (dk_at dksX0_heat_0 4 rfl rfl)
theorem dX0_heat_6 : decode cX0_heat 6 = .ok (.iconst 0, 1) := dk_3 (dk_at dksX0_heat_0 6 rfl rfl)
theorem dX0_heat_7 : decode cX0_heat 7 = .ok (.invokestatic 94, 3) := dk_184 0 94 (dk_at dksX0_heat_0 7 rfl rfl)
theorem dX0_heat_10 : decode cX0_heat 10 = .ok (.invokestatic 445, 3) := dk_184 1 189 (dk_at dksX0_heat_0 10 rfl rfl)
theorem dX0_heat_13 : decode cX0_heat 13 = .ok (.invokespecial 451, 3) := dk_183 1 195 (dk_at dksX0_heat_0 13 rfl rfl)
theorem dX0_heat_16 : decode cX0_heat 16 = .ok (.astore_n 1, 1) := dk_76 (dk_at dksX0_heat_0 16 rfl rfl)
theorem dX0_heat_17 : decode cX0_heat 17 = .ok (.aload_n 0, 1) := dk_42 (dk_at dksX0_heat_0 17 rfl rfl)
theorem dX0_heat_18 : decode cX0_heat 18 = .ok (.invokevirtual 420, 3) := dk_182 1 164 (dk_at dksX0_heat_0 18 rfl rfl)
theorem dX0_heat_21 : decode cX0_heat 21 = .ok (.astore_n 2, 1) := dk_77 (dk_at dksX0_heat_0 21 rfl rfl)
theorem dX0_heat_22 : decode cX0_heat 22 = .ok (.aload_n 2, 1) := dk_44 (dk_at dksX0_heat_0 22 rfl rfl)
theorem dX0_heat_23 : decode cX0_heat 23 = .ok (.invokeinterface 38 1, 5) := by decide +kernel
theorem dX0_heat_28 : decode cX0_heat 28 = .ok (.ifCond .eq 71, 3) := dk_153 0 71 (dk_at dksX0_heat_1 5 rfl rfl)
theorem dX0_heat_31 : decode cX0_heat 31 = .ok (.aload_n 2, 1) := dk_44 (dk_at dksX0_heat_1 8 rfl rfl)
theorem dX0_heat_32 : decode cX0_heat 32 = .ok (.invokeinterface 44 1, 5) := by decide +kernel
theorem dX0_heat_37 : decode cX0_heat 37 = .ok (.checkcast 411, 3) := dk_192 1 155 (dk_at dksX0_heat_1 14 rfl rfl)
theorem dX0_heat_40 : decode cX0_heat 40 = .ok (.astore_n 3, 1) := dk_78 (dk_at dksX0_heat_1 17 rfl rfl)
theorem dX0_heat_41 : decode cX0_heat 41 = .ok (.aload_n 3, 1) := dk_45 (dk_at dksX0_heat_1 18 rfl rfl)
theorem dX0_heat_42 : decode cX0_heat 42 = .ok (.getfield 421, 3) := dk_180 1 165 (dk_at dksX0_heat_1 19 rfl rfl)
theorem dX0_heat_45 : decode cX0_heat 45 = .ok (.getfield 371, 3) := dk_180 1 115 (dk_at dksX0_heat_2 0 rfl rfl)
theorem dX0_heat_48 : decode cX0_heat 48 = .ok (.istore 4, 2) := dk_54 4 (dk_at dksX0_heat_2 3 rfl rfl)
theorem dX0_heat_50 : decode cX0_heat 50 = .ok (.iload 4, 2) := dk_21 4 (dk_at dksX0_heat_2 5 rfl rfl)
theorem dX0_heat_52 : decode cX0_heat 52 = .ok (.aload_n 3, 1) := dk_45 (dk_at dksX0_heat_2 7 rfl rfl)
theorem dX0_heat_53 : decode cX0_heat 53 = .ok (.getfield 421, 3) := dk_180 1 165 (dk_at dksX0_heat_2 8 rfl rfl)
theorem dX0_heat_56 : decode cX0_heat 56 = .ok (.getfield 374, 3) := dk_180 1 118 (dk_at dksX0_heat_2 11 rfl rfl)
theorem dX0_heat_59 : decode cX0_heat 59 = .ok (.if_icmp .gt 37, 3) := dk_163 0 37 (dk_at dksX0_heat_2 14 rfl rfl)
theorem dX0_heat_62 : decode cX0_heat 62 = .ok (.aload_n 1, 1) := dk_43 (dk_at dksX0_heat_2 17 rfl rfl)
theorem dX0_heat_63 : decode cX0_heat 63 = .ok (.iload 4, 2) := dk_21 4 (dk_at dksX0_heat_2 18 rfl rfl)
theorem dX0_heat_65 : decode cX0_heat 65 = .ok (.aload_n 1, 1) := dk_43 (dk_at dksX0_heat_2 20 rfl rfl)
theorem dX0_heat_66 : decode cX0_heat 66 = .ok (.iload 4, 2) := dk_21 4 (dk_at dksX0_heat_2 21 rfl rfl)
theorem dX0_heat_68 : decode cX0_heat 68 = .ok (.invokeinterface 454 2, 5) := by decide +kernel
theorem dX0_heat_73 : decode cX0_heat 73 = .ok (.checkcast 95, 3) := dk_192 0 95 (dk_at dksX0_heat_3 5 rfl rfl)
theorem dX0_heat_76 : decode cX0_heat 76 = .ok (.invokevirtual 401, 3) := dk_182 1 145 (dk_at dksX0_heat_3 8 rfl rfl)
theorem dX0_heat_79 : decode cX0_heat 79 = .ok (.iconst 1, 1) := dk_4 (dk_at dksX0_heat_3 11 rfl rfl)
theorem dX0_heat_80 : decode cX0_heat 80 = .ok (.iadd, 1) := dk_96 (dk_at dksX0_heat_3 12 rfl rfl)
theorem dX0_heat_81 : decode cX0_heat 81 = .ok (.invokestatic 94, 3) := dk_184 0 94 (dk_at dksX0_heat_3 13 rfl rfl)
theorem dX0_heat_84 : decode cX0_heat 84 = .ok (.invokeinterface 457 3, 5) := by decide +kernel
theorem dX0_heat_89 : decode cX0_heat 89 = .ok (.pop, 1) := dk_87 (dk_at dksX0_heat_3 21 rfl rfl)
theorem dX0_heat_90 : decode cX0_heat 90 = .ok (.iinc 4 1, 3) := dk_132 4 1 (dk_at dksX0_heat_4 0 rfl rfl)
theorem dX0_heat_93 : decode cX0_heat 93 = .ok (.goto (-43), 3) := dk_167 255 213 (dk_at dksX0_heat_4 3 rfl rfl)
theorem dX0_heat_96 : decode cX0_heat 96 = .ok (.goto (-74), 3) := dk_167 255 182 (dk_at dksX0_heat_4 6 rfl rfl)
theorem dX0_heat_99 : decode cX0_heat 99 = .ok (.aload_n 1, 1) := dk_43 (dk_at dksX0_heat_4 9 rfl rfl)
theorem dX0_heat_100 : decode cX0_heat 100 = .ok (.invokestatic 461, 3) := dk_184 1 205 (dk_at dksX0_heat_4 10 rfl rfl)
theorem dX0_heat_103 : decode cX0_heat 103 = .ok (.checkcast 95, 3) := dk_192 0 95 (dk_at dksX0_heat_4 13 rfl rfl)
theorem dX0_heat_106 : decode cX0_heat 106 = .ok (.invokevirtual 401, 3) := dk_182 1 145 (dk_at dksX0_heat_4 16 rfl rfl)
theorem dX0_heat_109 : decode cX0_heat 109 = .ok (.istore_n 2, 1) := dk_61 (dk_at dksX0_heat_4 19 rfl rfl)
theorem dX0_heat_110 : decode cX0_heat 110 = .ok (.iload_n 2, 1) := dk_28 (dk_at dksX0_heat_4 20 rfl rfl)
theorem dX0_heat_111 : decode cX0_heat 111 = .ok (.ifCond .ne 8, 3) := dk_154 0 8 (dk_at dksX0_heat_4 21 rfl rfl)
theorem dX0_heat_114 : decode cX0_heat 114 = .ok (.bipush 99, 2) := dk_16 99 (dk_at dksX0_heat_5 0 rfl rfl)
theorem dX0_heat_116 : decode cX0_heat 116 = .ok (.goto 13, 3) := dk_167 0 13 (dk_at dksX0_heat_5 2 rfl rfl)
theorem dX0_heat_119 : decode cX0_heat 119 = .ok (.aload_n 1, 1) := dk_43 (dk_at dksX0_heat_5 5 rfl rfl)
theorem dX0_heat_120 : decode cX0_heat 120 = .ok (.iload_n 2, 1) := dk_28 (dk_at dksX0_heat_5 6 rfl rfl)
theorem dX0_heat_121 : decode cX0_heat 121 = .ok (.invokestatic 94, 3) := dk_184 0 94 (dk_at dksX0_heat_5 7 rfl rfl)
theorem dX0_heat_124 : decode cX0_heat 124 = .ok (.invokeinterface 465 2, 5) := by decide +kernel
theorem dX0_heat_129 : decode cX0_heat 129 = .ok (.ireturn, 1) := dk_172 (dk_at dksX0_heat_5 15 rfl rfl)
abbrev cX0_bitsOf : ByteArray := prog_1_method_45_code
def yX0_bitsOf : MethodName := ⟨RX0, "bitsOf", "(Ljava/util/LinkedList;)I"⟩
def dkwX0_bitsOf_1 : List UInt8 := [192, 1, 155, 78, 27, 4, 45, 180, 1, 175, 120, 128, 60, 167, 255, 228, 27, 172]
abbrev dktX0_bitsOf_1 : List UInt8 := dkwX0_bitsOf_1 ++ []
def dkwX0_bitsOf_0 : List UInt8 := [3, 60, 42, 182, 1, 164, 77, 44, 185, 0, 38, 1, 0, 153, 0, 25, 44, 185, 0, 44, 1, 0]
abbrev dktX0_bitsOf_0 : List UInt8 := dkwX0_bitsOf_0 ++ dktX0_bitsOf_1
theorem dksX0_bitsOf_0 : cX0_bitsOf.data.toList.drop 0 = dktX0_bitsOf_0 := by decide +kernel
theorem dksX0_bitsOf_1 : cX0_bitsOf.data.toList.drop 22 = dktX0_bitsOf_1 := dk_seg dksX0_bitsOf_0 22 rfl rfl
theorem dX0_bitsOf_0 : decode cX0_bitsOf 0 = .ok (.iconst 0, 1) := dk_3 (dk_at dksX0_bitsOf_0 0 rfl rfl)
theorem dX0_bitsOf_1 : decode cX0_bitsOf 1 = .ok (.istore_n 1, 1) := dk_60 (dk_at dksX0_bitsOf_0 1 rfl rfl)
theorem dX0_bitsOf_2 : decode cX0_bitsOf 2 = .ok (.aload_n 0, 1) := dk_42 (dk_at dksX0_bitsOf_0 2 rfl rfl)
theorem dX0_bitsOf_3 : decode cX0_bitsOf 3 = .ok (.invokevirtual 420, 3) := dk_182 1 164 (dk_at dksX0_bitsOf_0 3 rfl rfl)
theorem dX0_bitsOf_6 : decode cX0_bitsOf 6 = .ok (.astore_n 2, 1) := dk_77 (dk_at dksX0_bitsOf_0 6 rfl rfl)
theorem dX0_bitsOf_7 : decode cX0_bitsOf 7 = .ok (.aload_n 2, 1) := dk_44 (dk_at dksX0_bitsOf_0 7 rfl rfl)
theorem dX0_bitsOf_8 : decode cX0_bitsOf 8 = .ok (.invokeinterface 38 1, 5) := by decide +kernel
theorem dX0_bitsOf_13 : decode cX0_bitsOf 13 = .ok (.ifCond .eq 25, 3) := dk_153 0 25 (dk_at dksX0_bitsOf_0 13 rfl rfl)
theorem dX0_bitsOf_16 : decode cX0_bitsOf 16 = .ok (.aload_n 2, 1) := dk_44 (dk_at dksX0_bitsOf_0 16 rfl rfl)
theorem dX0_bitsOf_17 : decode cX0_bitsOf 17 = .ok (.invokeinterface 44 1, 5) := by decide +kernel
theorem dX0_bitsOf_22 : decode cX0_bitsOf 22 = .ok (.checkcast 411, 3) := dk_192 1 155 (dk_at dksX0_bitsOf_1 0 rfl rfl)
theorem dX0_bitsOf_25 : decode cX0_bitsOf 25 = .ok (.astore_n 3, 1) := dk_78 (dk_at dksX0_bitsOf_1 3 rfl rfl)
theorem dX0_bitsOf_26 : decode cX0_bitsOf 26 = .ok (.iload_n 1, 1) := dk_27 (dk_at dksX0_bitsOf_1 4 rfl rfl)
theorem dX0_bitsOf_27 : decode cX0_bitsOf 27 = .ok (.iconst 1, 1) := dk_4 (dk_at dksX0_bitsOf_1 5 rfl rfl)
theorem dX0_bitsOf_28 : decode cX0_bitsOf 28 = .ok (.aload_n 3, 1) := dk_45 (dk_at dksX0_bitsOf_1 6 rfl rfl)
theorem dX0_bitsOf_29 : decode cX0_bitsOf 29 = .ok (.getfield 431, 3) := dk_180 1 175 (dk_at dksX0_bitsOf_1 7 rfl rfl)
theorem dX0_bitsOf_32 : decode cX0_bitsOf 32 = .ok (.ishl, 1) := dk_120 (dk_at dksX0_bitsOf_1 10 rfl rfl)
theorem dX0_bitsOf_33 : decode cX0_bitsOf 33 = .ok (.ior, 1) := dk_128 (dk_at dksX0_bitsOf_1 11 rfl rfl)
theorem dX0_bitsOf_34 : decode cX0_bitsOf 34 = .ok (.istore_n 1, 1) := dk_60 (dk_at dksX0_bitsOf_1 12 rfl rfl)
theorem dX0_bitsOf_35 : decode cX0_bitsOf 35 = .ok (.goto (-28), 3) := dk_167 255 228 (dk_at dksX0_bitsOf_1 13 rfl rfl)
theorem dX0_bitsOf_38 : decode cX0_bitsOf 38 = .ok (.iload_n 1, 1) := dk_27 (dk_at dksX0_bitsOf_1 16 rfl rfl)
theorem dX0_bitsOf_39 : decode cX0_bitsOf 39 = .ok (.ireturn, 1) := dk_172 (dk_at dksX0_bitsOf_1 17 rfl rfl)
abbrev cX0_covered : ByteArray := prog_1_method_48_code
def yX0_covered : MethodName := ⟨RX0, "covered", "(I)I"⟩
def dkwX0_covered_4 : List UInt8 := [182, 1, 225, 54, 4, 167, 255, 234, 29, 172, 77, 42, 44, 182, 0, 181, 172]
abbrev dktX0_covered_4 : List UInt8 := dkwX0_covered_4 ++ []
def dkwX0_covered_3 : List UInt8 := [44, 3, 182, 1, 225, 54, 4, 21, 4, 155, 0, 23, 29, 4, 21, 4, 120, 128, 62, 44, 21, 4, 4, 96]
abbrev dktX0_covered_3 : List UInt8 := dkwX0_covered_3 ++ dktX0_covered_4
def dkwX0_covered_2 : List UInt8 := [180, 1, 165, 180, 1, 115, 25, 4, 180, 1, 165, 180, 1, 118, 4, 96, 182, 1, 222, 167, 255, 214, 3, 62]
abbrev dktX0_covered_2 : List UInt8 := dkwX0_covered_2 ++ dktX0_covered_3
def dkwX0_covered_1 : List UInt8 := [185, 0, 38, 1, 0, 153, 0, 39, 45, 185, 0, 44, 1, 0, 192, 1, 155, 58, 4, 44, 25, 4]
abbrev dktX0_covered_1 : List UInt8 := dkwX0_covered_1 ++ dktX0_covered_2
def dkwX0_covered_0 : List UInt8 := [187, 1, 219, 89, 183, 1, 221, 77, 42, 42, 27, 182, 0, 211, 3, 182, 1, 178, 182, 1, 164, 78, 45]
abbrev dktX0_covered_0 : List UInt8 := dkwX0_covered_0 ++ dktX0_covered_1
theorem dksX0_covered_0 : cX0_covered.data.toList.drop 0 = dktX0_covered_0 := by decide +kernel
theorem dksX0_covered_1 : cX0_covered.data.toList.drop 23 = dktX0_covered_1 := dk_seg dksX0_covered_0 23 rfl rfl
theorem dksX0_covered_2 : cX0_covered.data.toList.drop 45 = dktX0_covered_2 := dk_seg dksX0_covered_1 22 rfl rfl
theorem dksX0_covered_3 : cX0_covered.data.toList.drop 69 = dktX0_covered_3 := dk_seg dksX0_covered_2 24 rfl rfl
theorem dksX0_covered_4 : cX0_covered.data.toList.drop 93 = dktX0_covered_4 := dk_seg dksX0_covered_3 24 rfl rfl
theorem dX0_covered_0 : decode cX0_covered 0 = .ok (.new 475, 3) := dk_187 1 219 (dk_at dksX0_covered_0 0 rfl rfl)
theorem dX0_covered_3 : decode cX0_covered 3 = .ok (.dup, 1) := dk_89 (dk_at dksX0_covered_0 3 rfl rfl)
theorem dX0_covered_4 : decode cX0_covered 4 = .ok (.invokespecial 477, 3) := dk_183 1 221 (dk_at dksX0_covered_0 4 rfl rfl)
theorem dX0_covered_7 : decode cX0_covered 7 = .ok (.astore_n 2, 1) := dk_77 (dk_at dksX0_covered_0 7 rfl rfl)
theorem dX0_covered_8 : decode cX0_covered 8 = .ok (.aload_n 0, 1) := dk_42 (dk_at dksX0_covered_0 8 rfl rfl)
theorem dX0_covered_9 : decode cX0_covered 9 = .ok (.aload_n 0, 1) := dk_42 (dk_at dksX0_covered_0 9 rfl rfl)
theorem dX0_covered_10 : decode cX0_covered 10 = .ok (.iload_n 1, 1) := dk_27 (dk_at dksX0_covered_0 10 rfl rfl)
theorem dX0_covered_11 : decode cX0_covered 11 = .ok (.invokevirtual 211, 3) := dk_182 0 211 (dk_at dksX0_covered_0 11 rfl rfl)
theorem dX0_covered_14 : decode cX0_covered 14 = .ok (.iconst 0, 1) := dk_3 (dk_at dksX0_covered_0 14 rfl rfl)
theorem dX0_covered_15 : decode cX0_covered 15 = .ok (.invokevirtual 434, 3) := dk_182 1 178 (dk_at dksX0_covered_0 15 rfl rfl)
theorem dX0_covered_18 : decode cX0_covered 18 = .ok (.invokevirtual 420, 3) := dk_182 1 164 (dk_at dksX0_covered_0 18 rfl rfl)
theorem dX0_covered_21 : decode cX0_covered 21 = .ok (.astore_n 3, 1) := dk_78 (dk_at dksX0_covered_0 21 rfl rfl)
theorem dX0_covered_22 : decode cX0_covered 22 = .ok (.aload_n 3, 1) := dk_45 (dk_at dksX0_covered_0 22 rfl rfl)
theorem dX0_covered_23 : decode cX0_covered 23 = .ok (.invokeinterface 38 1, 5) := by decide +kernel
theorem dX0_covered_28 : decode cX0_covered 28 = .ok (.ifCond .eq 39, 3) := dk_153 0 39 (dk_at dksX0_covered_1 5 rfl rfl)
theorem dX0_covered_31 : decode cX0_covered 31 = .ok (.aload_n 3, 1) := dk_45 (dk_at dksX0_covered_1 8 rfl rfl)
theorem dX0_covered_32 : decode cX0_covered 32 = .ok (.invokeinterface 44 1, 5) := by decide +kernel
theorem dX0_covered_37 : decode cX0_covered 37 = .ok (.checkcast 411, 3) := dk_192 1 155 (dk_at dksX0_covered_1 14 rfl rfl)
theorem dX0_covered_40 : decode cX0_covered 40 = .ok (.astore 4, 2) := dk_58 4 (dk_at dksX0_covered_1 17 rfl rfl)
theorem dX0_covered_42 : decode cX0_covered 42 = .ok (.aload_n 2, 1) := dk_44 (dk_at dksX0_covered_1 19 rfl rfl)
theorem dX0_covered_43 : decode cX0_covered 43 = .ok (.aload 4, 2) := dk_25 4 (dk_at dksX0_covered_1 20 rfl rfl)
theorem dX0_covered_45 : decode cX0_covered 45 = .ok (.getfield 421, 3) := dk_180 1 165 (dk_at dksX0_covered_2 0 rfl rfl)
theorem dX0_covered_48 : decode cX0_covered 48 = .ok (.getfield 371, 3) := dk_180 1 115 (dk_at dksX0_covered_2 3 rfl rfl)
theorem dX0_covered_51 : decode cX0_covered 51 = .ok (.aload 4, 2) := dk_25 4 (dk_at dksX0_covered_2 6 rfl rfl)
theorem dX0_covered_53 : decode cX0_covered 53 = .ok (.getfield 421, 3) := dk_180 1 165 (dk_at dksX0_covered_2 8 rfl rfl)
theorem dX0_covered_56 : decode cX0_covered 56 = .ok (.getfield 374, 3) := dk_180 1 118 (dk_at dksX0_covered_2 11 rfl rfl)
theorem dX0_covered_59 : decode cX0_covered 59 = .ok (.iconst 1, 1) := dk_4 (dk_at dksX0_covered_2 14 rfl rfl)
theorem dX0_covered_60 : decode cX0_covered 60 = .ok (.iadd, 1) := dk_96 (dk_at dksX0_covered_2 15 rfl rfl)
theorem dX0_covered_61 : decode cX0_covered 61 = .ok (.invokevirtual 478, 3) := dk_182 1 222 (dk_at dksX0_covered_2 16 rfl rfl)
theorem dX0_covered_64 : decode cX0_covered 64 = .ok (.goto (-42), 3) := dk_167 255 214 (dk_at dksX0_covered_2 19 rfl rfl)
theorem dX0_covered_67 : decode cX0_covered 67 = .ok (.iconst 0, 1) := dk_3 (dk_at dksX0_covered_2 22 rfl rfl)
theorem dX0_covered_68 : decode cX0_covered 68 = .ok (.istore_n 3, 1) := dk_62 (dk_at dksX0_covered_2 23 rfl rfl)
theorem dX0_covered_69 : decode cX0_covered 69 = .ok (.aload_n 2, 1) := dk_44 (dk_at dksX0_covered_3 0 rfl rfl)
theorem dX0_covered_70 : decode cX0_covered 70 = .ok (.iconst 0, 1) := dk_3 (dk_at dksX0_covered_3 1 rfl rfl)
theorem dX0_covered_71 : decode cX0_covered 71 = .ok (.invokevirtual 481, 3) := dk_182 1 225 (dk_at dksX0_covered_3 2 rfl rfl)
theorem dX0_covered_74 : decode cX0_covered 74 = .ok (.istore 4, 2) := dk_54 4 (dk_at dksX0_covered_3 5 rfl rfl)
theorem dX0_covered_76 : decode cX0_covered 76 = .ok (.iload 4, 2) := dk_21 4 (dk_at dksX0_covered_3 7 rfl rfl)
theorem dX0_covered_78 : decode cX0_covered 78 = .ok (.ifCond .lt 23, 3) := dk_155 0 23 (dk_at dksX0_covered_3 9 rfl rfl)
theorem dX0_covered_81 : decode cX0_covered 81 = .ok (.iload_n 3, 1) := dk_29 (dk_at dksX0_covered_3 12 rfl rfl)
theorem dX0_covered_82 : decode cX0_covered 82 = .ok (.iconst 1, 1) := dk_4 (dk_at dksX0_covered_3 13 rfl rfl)
theorem dX0_covered_83 : decode cX0_covered 83 = .ok (.iload 4, 2) := dk_21 4 (dk_at dksX0_covered_3 14 rfl rfl)
theorem dX0_covered_85 : decode cX0_covered 85 = .ok (.ishl, 1) := dk_120 (dk_at dksX0_covered_3 16 rfl rfl)
theorem dX0_covered_86 : decode cX0_covered 86 = .ok (.ior, 1) := dk_128 (dk_at dksX0_covered_3 17 rfl rfl)
theorem dX0_covered_87 : decode cX0_covered 87 = .ok (.istore_n 3, 1) := dk_62 (dk_at dksX0_covered_3 18 rfl rfl)
theorem dX0_covered_88 : decode cX0_covered 88 = .ok (.aload_n 2, 1) := dk_44 (dk_at dksX0_covered_3 19 rfl rfl)
theorem dX0_covered_89 : decode cX0_covered 89 = .ok (.iload 4, 2) := dk_21 4 (dk_at dksX0_covered_3 20 rfl rfl)
theorem dX0_covered_91 : decode cX0_covered 91 = .ok (.iconst 1, 1) := dk_4 (dk_at dksX0_covered_3 22 rfl rfl)
theorem dX0_covered_92 : decode cX0_covered 92 = .ok (.iadd, 1) := dk_96 (dk_at dksX0_covered_3 23 rfl rfl)
theorem dX0_covered_93 : decode cX0_covered 93 = .ok (.invokevirtual 481, 3) := dk_182 1 225 (dk_at dksX0_covered_4 0 rfl rfl)
theorem dX0_covered_96 : decode cX0_covered 96 = .ok (.istore 4, 2) := dk_54 4 (dk_at dksX0_covered_4 3 rfl rfl)
theorem dX0_covered_98 : decode cX0_covered 98 = .ok (.goto (-22), 3) := dk_167 255 234 (dk_at dksX0_covered_4 5 rfl rfl)
theorem dX0_covered_101 : decode cX0_covered 101 = .ok (.iload_n 3, 1) := dk_29 (dk_at dksX0_covered_4 8 rfl rfl)
theorem dX0_covered_102 : decode cX0_covered 102 = .ok (.ireturn, 1) := dk_172 (dk_at dksX0_covered_4 9 rfl rfl)
theorem dX0_covered_103 : decode cX0_covered 103 = .ok (.astore_n 2, 1) := dk_77 (dk_at dksX0_covered_4 10 rfl rfl)
theorem dX0_covered_104 : decode cX0_covered 104 = .ok (.aload_n 0, 1) := dk_42 (dk_at dksX0_covered_4 11 rfl rfl)
theorem dX0_covered_105 : decode cX0_covered 105 = .ok (.aload_n 2, 1) := dk_44 (dk_at dksX0_covered_4 12 rfl rfl)
theorem dX0_covered_106 : decode cX0_covered 106 = .ok (.invokevirtual 181, 3) := dk_182 0 181 (dk_at dksX0_covered_4 13 rfl rfl)
theorem dX0_covered_109 : decode cX0_covered 109 = .ok (.ireturn, 1) := dk_172 (dk_at dksX0_covered_4 16 rfl rfl)
abbrev cX0_judge : ByteArray := prog_1_method_49_code
def yX0_judge : MethodName := ⟨RX0, "judge", "(III)I"⟩
def dkwX0_judge_9 : List UInt8 := [132, 10, 1, 167, 255, 181, 2, 172, 58, 4, 42, 25, 4, 182, 0, 181, 16, 10, 100, 172]
abbrev dktX0_judge_9 : List UInt8 := dkwX0_judge_9 ++ []
def dkwX0_judge_8 : List UInt8 := [182, 1, 122, 153, 0, 7, 2, 167, 0, 11, 25, 9, 180, 1, 111, 180, 1, 115, 159, 0, 6, 21, 10, 172]
abbrev dktX0_judge_8 : List UInt8 := dkwX0_judge_8 ++ dktX0_judge_9
def dkwX0_judge_7 : List UInt8 := [180, 1, 77, 165, 0, 10, 25, 9, 25, 12, 182, 1, 237, 25, 7, 21, 10, 182, 1, 241, 25, 9]
abbrev dktX0_judge_7 : List UInt8 := dkwX0_judge_7 ++ dktX0_judge_8
def dkwX0_judge_6 : List UInt8 := [185, 0, 38, 1, 0, 153, 0, 71, 25, 11, 185, 0, 44, 1, 0, 192, 0, 237, 58, 12, 25, 12, 25, 5]
abbrev dktX0_judge_6 : List UInt8 := dkwX0_judge_6 ++ dktX0_judge_7
def dkwX0_judge_5 : List UInt8 := [58, 9, 25, 9, 25, 5, 182, 1, 233, 3, 54, 10, 25, 8, 182, 1, 51, 58, 11, 25, 11]
abbrev dktX0_judge_5 : List UInt8 := dkwX0_judge_5 ++ dktX0_judge_6
def dkwX0_judge_4 : List UInt8 := [154, 0, 7, 4, 167, 0, 4, 3, 16, 250, 184, 0, 129, 187, 1, 102, 89, 42, 180, 0, 111, 183, 1, 104]
abbrev dktX0_judge_4 : List UInt8 := dkwX0_judge_4 ++ dktX0_judge_5
def dkwX0_judge_3 : List UInt8 := [25, 7, 182, 0, 11, 163, 0, 7, 4, 167, 0, 4, 3, 16, 251, 184, 0, 129, 25, 8, 182, 1, 230]
abbrev dktX0_judge_3 : List UInt8 := dkwX0_judge_3 ++ dktX0_judge_4
def dkwX0_judge_2 : List UInt8 := [180, 1, 77, 182, 1, 47, 167, 0, 10, 187, 1, 52, 89, 183, 1, 228, 58, 8, 25, 8, 182, 1, 229]
abbrev dktX0_judge_2 : List UInt8 := dkwX0_judge_2 ++ dktX0_judge_3
def dkwX0_judge_1 : List UInt8 := [182, 0, 185, 58, 7, 25, 6, 25, 5, 180, 1, 77, 182, 1, 39, 153, 0, 16, 25, 6, 25, 5]
abbrev dktX0_judge_1 : List UInt8 := dkwX0_judge_1 ++ dktX0_judge_2
def dkwX0_judge_0 : List UInt8 := [42, 27, 182, 0, 167, 58, 4, 42, 28, 182, 0, 201, 58, 5, 42, 29, 182, 0, 211, 58, 6, 25, 4]
abbrev dktX0_judge_0 : List UInt8 := dkwX0_judge_0 ++ dktX0_judge_1
theorem dksX0_judge_0 : cX0_judge.data.toList.drop 0 = dktX0_judge_0 := by decide +kernel
theorem dksX0_judge_1 : cX0_judge.data.toList.drop 23 = dktX0_judge_1 := dk_seg dksX0_judge_0 23 rfl rfl
theorem dksX0_judge_2 : cX0_judge.data.toList.drop 45 = dktX0_judge_2 := dk_seg dksX0_judge_1 22 rfl rfl
theorem dksX0_judge_3 : cX0_judge.data.toList.drop 68 = dktX0_judge_3 := dk_seg dksX0_judge_2 23 rfl rfl
theorem dksX0_judge_4 : cX0_judge.data.toList.drop 91 = dktX0_judge_4 := dk_seg dksX0_judge_3 23 rfl rfl
theorem dksX0_judge_5 : cX0_judge.data.toList.drop 115 = dktX0_judge_5 := dk_seg dksX0_judge_4 24 rfl rfl
theorem dksX0_judge_6 : cX0_judge.data.toList.drop 136 = dktX0_judge_6 := dk_seg dksX0_judge_5 21 rfl rfl
theorem dksX0_judge_7 : cX0_judge.data.toList.drop 160 = dktX0_judge_7 := dk_seg dksX0_judge_6 24 rfl rfl
theorem dksX0_judge_8 : cX0_judge.data.toList.drop 182 = dktX0_judge_8 := dk_seg dksX0_judge_7 22 rfl rfl
theorem dksX0_judge_9 : cX0_judge.data.toList.drop 206 = dktX0_judge_9 := dk_seg dksX0_judge_8 24 rfl rfl
theorem dX0_judge_0 : decode cX0_judge 0 = .ok (.aload_n 0, 1) := dk_42 (dk_at dksX0_judge_0 0 rfl rfl)
theorem dX0_judge_1 : decode cX0_judge 1 = .ok (.iload_n 1, 1) := dk_27 (dk_at dksX0_judge_0 1 rfl rfl)
theorem dX0_judge_2 : decode cX0_judge 2 = .ok (.invokevirtual 167, 3) := dk_182 0 167 (dk_at dksX0_judge_0 2 rfl rfl)
theorem dX0_judge_5 : decode cX0_judge 5 = .ok (.astore 4, 2) := dk_58 4 (dk_at dksX0_judge_0 5 rfl rfl)
theorem dX0_judge_7 : decode cX0_judge 7 = .ok (.aload_n 0, 1) := dk_42 (dk_at dksX0_judge_0 7 rfl rfl)
theorem dX0_judge_8 : decode cX0_judge 8 = .ok (.iload_n 2, 1) := dk_28 (dk_at dksX0_judge_0 8 rfl rfl)
theorem dX0_judge_9 : decode cX0_judge 9 = .ok (.invokevirtual 201, 3) := dk_182 0 201 (dk_at dksX0_judge_0 9 rfl rfl)
theorem dX0_judge_12 : decode cX0_judge 12 = .ok (.astore 5, 2) := dk_58 5 (dk_at dksX0_judge_0 12 rfl rfl)
theorem dX0_judge_14 : decode cX0_judge 14 = .ok (.aload_n 0, 1) := dk_42 (dk_at dksX0_judge_0 14 rfl rfl)
theorem dX0_judge_15 : decode cX0_judge 15 = .ok (.iload_n 3, 1) := dk_29 (dk_at dksX0_judge_0 15 rfl rfl)
theorem dX0_judge_16 : decode cX0_judge 16 = .ok (.invokevirtual 211, 3) := dk_182 0 211 (dk_at dksX0_judge_0 16 rfl rfl)
theorem dX0_judge_19 : decode cX0_judge 19 = .ok (.astore 6, 2) := dk_58 6 (dk_at dksX0_judge_0 19 rfl rfl)
theorem dX0_judge_21 : decode cX0_judge 21 = .ok (.aload 4, 2) := dk_25 4 (dk_at dksX0_judge_0 21 rfl rfl)
theorem dX0_judge_23 : decode cX0_judge 23 = .ok (.invokevirtual 185, 3) := dk_182 0 185 (dk_at dksX0_judge_1 0 rfl rfl)
theorem dX0_judge_26 : decode cX0_judge 26 = .ok (.astore 7, 2) := dk_58 7 (dk_at dksX0_judge_1 3 rfl rfl)
theorem dX0_judge_28 : decode cX0_judge 28 = .ok (.aload 6, 2) := dk_25 6 (dk_at dksX0_judge_1 5 rfl rfl)
theorem dX0_judge_30 : decode cX0_judge 30 = .ok (.aload 5, 2) := dk_25 5 (dk_at dksX0_judge_1 7 rfl rfl)
theorem dX0_judge_32 : decode cX0_judge 32 = .ok (.getfield 333, 3) := dk_180 1 77 (dk_at dksX0_judge_1 9 rfl rfl)
theorem dX0_judge_35 : decode cX0_judge 35 = .ok (.invokevirtual 295, 3) := dk_182 1 39 (dk_at dksX0_judge_1 12 rfl rfl)
theorem dX0_judge_38 : decode cX0_judge 38 = .ok (.ifCond .eq 16, 3) := dk_153 0 16 (dk_at dksX0_judge_1 15 rfl rfl)
theorem dX0_judge_41 : decode cX0_judge 41 = .ok (.aload 6, 2) := dk_25 6 (dk_at dksX0_judge_1 18 rfl rfl)
theorem dX0_judge_43 : decode cX0_judge 43 = .ok (.aload 5, 2) := dk_25 5 (dk_at dksX0_judge_1 20 rfl rfl)
theorem dX0_judge_45 : decode cX0_judge 45 = .ok (.getfield 333, 3) := dk_180 1 77 (dk_at dksX0_judge_2 0 rfl rfl)
theorem dX0_judge_48 : decode cX0_judge 48 = .ok (.invokevirtual 303, 3) := dk_182 1 47 (dk_at dksX0_judge_2 3 rfl rfl)
theorem dX0_judge_51 : decode cX0_judge 51 = .ok (.goto 10, 3) := dk_167 0 10 (dk_at dksX0_judge_2 6 rfl rfl)
theorem dX0_judge_54 : decode cX0_judge 54 = .ok (.new 308, 3) := dk_187 1 52 (dk_at dksX0_judge_2 9 rfl rfl)
theorem dX0_judge_57 : decode cX0_judge 57 = .ok (.dup, 1) := dk_89 (dk_at dksX0_judge_2 12 rfl rfl)
theorem dX0_judge_58 : decode cX0_judge 58 = .ok (.invokespecial 484, 3) := dk_183 1 228 (dk_at dksX0_judge_2 13 rfl rfl)
theorem dX0_judge_61 : decode cX0_judge 61 = .ok (.astore 8, 2) := dk_58 8 (dk_at dksX0_judge_2 16 rfl rfl)
theorem dX0_judge_63 : decode cX0_judge 63 = .ok (.aload 8, 2) := dk_25 8 (dk_at dksX0_judge_2 18 rfl rfl)
theorem dX0_judge_65 : decode cX0_judge 65 = .ok (.invokevirtual 485, 3) := dk_182 1 229 (dk_at dksX0_judge_2 20 rfl rfl)
theorem dX0_judge_68 : decode cX0_judge 68 = .ok (.aload 7, 2) := dk_25 7 (dk_at dksX0_judge_3 0 rfl rfl)
theorem dX0_judge_70 : decode cX0_judge 70 = .ok (.invokevirtual 11, 3) := dk_182 0 11 (dk_at dksX0_judge_3 2 rfl rfl)
theorem dX0_judge_73 : decode cX0_judge 73 = .ok (.if_icmp .gt 7, 3) := dk_163 0 7 (dk_at dksX0_judge_3 5 rfl rfl)
theorem dX0_judge_76 : decode cX0_judge 76 = .ok (.iconst 1, 1) := dk_4 (dk_at dksX0_judge_3 8 rfl rfl)
theorem dX0_judge_77 : decode cX0_judge 77 = .ok (.goto 4, 3) := dk_167 0 4 (dk_at dksX0_judge_3 9 rfl rfl)
theorem dX0_judge_80 : decode cX0_judge 80 = .ok (.iconst 0, 1) := dk_3 (dk_at dksX0_judge_3 12 rfl rfl)
theorem dX0_judge_81 : decode cX0_judge 81 = .ok (.bipush (-5), 2) := dk_16 251 (dk_at dksX0_judge_3 13 rfl rfl)
theorem dX0_judge_83 : decode cX0_judge 83 = .ok (.invokestatic 129, 3) := dk_184 0 129 (dk_at dksX0_judge_3 15 rfl rfl)
theorem dX0_judge_86 : decode cX0_judge 86 = .ok (.aload 8, 2) := dk_25 8 (dk_at dksX0_judge_3 18 rfl rfl)
theorem dX0_judge_88 : decode cX0_judge 88 = .ok (.invokevirtual 486, 3) := dk_182 1 230 (dk_at dksX0_judge_3 20 rfl rfl)
theorem dX0_judge_91 : decode cX0_judge 91 = .ok (.ifCond .ne 7, 3) := dk_154 0 7 (dk_at dksX0_judge_4 0 rfl rfl)
theorem dX0_judge_94 : decode cX0_judge 94 = .ok (.iconst 1, 1) := dk_4 (dk_at dksX0_judge_4 3 rfl rfl)
theorem dX0_judge_95 : decode cX0_judge 95 = .ok (.goto 4, 3) := dk_167 0 4 (dk_at dksX0_judge_4 4 rfl rfl)
theorem dX0_judge_98 : decode cX0_judge 98 = .ok (.iconst 0, 1) := dk_3 (dk_at dksX0_judge_4 7 rfl rfl)
theorem dX0_judge_99 : decode cX0_judge 99 = .ok (.bipush (-6), 2) := dk_16 250 (dk_at dksX0_judge_4 8 rfl rfl)
theorem dX0_judge_101 : decode cX0_judge 101 = .ok (.invokestatic 129, 3) := dk_184 0 129 (dk_at dksX0_judge_4 10 rfl rfl)
theorem dX0_judge_104 : decode cX0_judge 104 = .ok (.new 358, 3) := dk_187 1 102 (dk_at dksX0_judge_4 13 rfl rfl)
theorem dX0_judge_107 : decode cX0_judge 107 = .ok (.dup, 1) := dk_89 (dk_at dksX0_judge_4 16 rfl rfl)
theorem dX0_judge_108 : decode cX0_judge 108 = .ok (.aload_n 0, 1) := dk_42 (dk_at dksX0_judge_4 17 rfl rfl)
theorem dX0_judge_109 : decode cX0_judge 109 = .ok (.getfield 111, 3) := dk_180 0 111 (dk_at dksX0_judge_4 18 rfl rfl)
theorem dX0_judge_112 : decode cX0_judge 112 = .ok (.invokespecial 360, 3) := dk_183 1 104 (dk_at dksX0_judge_4 21 rfl rfl)
theorem dX0_judge_115 : decode cX0_judge 115 = .ok (.astore 9, 2) := dk_58 9 (dk_at dksX0_judge_5 0 rfl rfl)
theorem dX0_judge_117 : decode cX0_judge 117 = .ok (.aload 9, 2) := dk_25 9 (dk_at dksX0_judge_5 2 rfl rfl)
theorem dX0_judge_119 : decode cX0_judge 119 = .ok (.aload 5, 2) := dk_25 5 (dk_at dksX0_judge_5 4 rfl rfl)
theorem dX0_judge_121 : decode cX0_judge 121 = .ok (.invokevirtual 489, 3) := dk_182 1 233 (dk_at dksX0_judge_5 6 rfl rfl)
theorem dX0_judge_124 : decode cX0_judge 124 = .ok (.iconst 0, 1) := dk_3 (dk_at dksX0_judge_5 9 rfl rfl)
theorem dX0_judge_125 : decode cX0_judge 125 = .ok (.istore 10, 2) := dk_54 10 (dk_at dksX0_judge_5 10 rfl rfl)
theorem dX0_judge_127 : decode cX0_judge 127 = .ok (.aload 8, 2) := dk_25 8 (dk_at dksX0_judge_5 12 rfl rfl)
theorem dX0_judge_129 : decode cX0_judge 129 = .ok (.invokevirtual 307, 3) := dk_182 1 51 (dk_at dksX0_judge_5 14 rfl rfl)
theorem dX0_judge_132 : decode cX0_judge 132 = .ok (.astore 11, 2) := dk_58 11 (dk_at dksX0_judge_5 17 rfl rfl)
theorem dX0_judge_134 : decode cX0_judge 134 = .ok (.aload 11, 2) := dk_25 11 (dk_at dksX0_judge_5 19 rfl rfl)
theorem dX0_judge_136 : decode cX0_judge 136 = .ok (.invokeinterface 38 1, 5) := by decide +kernel
theorem dX0_judge_141 : decode cX0_judge 141 = .ok (.ifCond .eq 71, 3) := dk_153 0 71 (dk_at dksX0_judge_6 5 rfl rfl)
theorem dX0_judge_144 : decode cX0_judge 144 = .ok (.aload 11, 2) := dk_25 11 (dk_at dksX0_judge_6 8 rfl rfl)
theorem dX0_judge_146 : decode cX0_judge 146 = .ok (.invokeinterface 44 1, 5) := by decide +kernel
theorem dX0_judge_151 : decode cX0_judge 151 = .ok (.checkcast 237, 3) := dk_192 0 237 (dk_at dksX0_judge_6 15 rfl rfl)
theorem dX0_judge_154 : decode cX0_judge 154 = .ok (.astore 12, 2) := dk_58 12 (dk_at dksX0_judge_6 18 rfl rfl)
theorem dX0_judge_156 : decode cX0_judge 156 = .ok (.aload 12, 2) := dk_25 12 (dk_at dksX0_judge_6 20 rfl rfl)
theorem dX0_judge_158 : decode cX0_judge 158 = .ok (.aload 5, 2) := dk_25 5 (dk_at dksX0_judge_6 22 rfl rfl)
theorem dX0_judge_160 : decode cX0_judge 160 = .ok (.getfield 333, 3) := dk_180 1 77 (dk_at dksX0_judge_7 0 rfl rfl)
theorem dX0_judge_163 : decode cX0_judge 163 = .ok (.if_acmp .eq 10, 3) := dk_165 0 10 (dk_at dksX0_judge_7 3 rfl rfl)
theorem dX0_judge_166 : decode cX0_judge 166 = .ok (.aload 9, 2) := dk_25 9 (dk_at dksX0_judge_7 6 rfl rfl)
theorem dX0_judge_168 : decode cX0_judge 168 = .ok (.aload 12, 2) := dk_25 12 (dk_at dksX0_judge_7 8 rfl rfl)
theorem dX0_judge_170 : decode cX0_judge 170 = .ok (.invokevirtual 493, 3) := dk_182 1 237 (dk_at dksX0_judge_7 10 rfl rfl)
theorem dX0_judge_173 : decode cX0_judge 173 = .ok (.aload 7, 2) := dk_25 7 (dk_at dksX0_judge_7 13 rfl rfl)
theorem dX0_judge_175 : decode cX0_judge 175 = .ok (.iload 10, 2) := dk_21 10 (dk_at dksX0_judge_7 15 rfl rfl)
theorem dX0_judge_177 : decode cX0_judge 177 = .ok (.invokevirtual 497, 3) := dk_182 1 241 (dk_at dksX0_judge_7 17 rfl rfl)
theorem dX0_judge_180 : decode cX0_judge 180 = .ok (.aload 9, 2) := dk_25 9 (dk_at dksX0_judge_7 20 rfl rfl)
theorem dX0_judge_182 : decode cX0_judge 182 = .ok (.invokevirtual 378, 3) := dk_182 1 122 (dk_at dksX0_judge_8 0 rfl rfl)
theorem dX0_judge_185 : decode cX0_judge 185 = .ok (.ifCond .eq 7, 3) := dk_153 0 7 (dk_at dksX0_judge_8 3 rfl rfl)
theorem dX0_judge_188 : decode cX0_judge 188 = .ok (.iconst (-1), 1) := dk_2 (dk_at dksX0_judge_8 6 rfl rfl)
theorem dX0_judge_189 : decode cX0_judge 189 = .ok (.goto 11, 3) := dk_167 0 11 (dk_at dksX0_judge_8 7 rfl rfl)
theorem dX0_judge_192 : decode cX0_judge 192 = .ok (.aload 9, 2) := dk_25 9 (dk_at dksX0_judge_8 10 rfl rfl)
theorem dX0_judge_194 : decode cX0_judge 194 = .ok (.getfield 367, 3) := dk_180 1 111 (dk_at dksX0_judge_8 12 rfl rfl)
theorem dX0_judge_197 : decode cX0_judge 197 = .ok (.getfield 371, 3) := dk_180 1 115 (dk_at dksX0_judge_8 15 rfl rfl)
theorem dX0_judge_200 : decode cX0_judge 200 = .ok (.if_icmp .eq 6, 3) := dk_159 0 6 (dk_at dksX0_judge_8 18 rfl rfl)
theorem dX0_judge_203 : decode cX0_judge 203 = .ok (.iload 10, 2) := dk_21 10 (dk_at dksX0_judge_8 21 rfl rfl)
theorem dX0_judge_205 : decode cX0_judge 205 = .ok (.ireturn, 1) := dk_172 (dk_at dksX0_judge_8 23 rfl rfl)
theorem dX0_judge_206 : decode cX0_judge 206 = .ok (.iinc 10 1, 3) := dk_132 10 1 (dk_at dksX0_judge_9 0 rfl rfl)
theorem dX0_judge_209 : decode cX0_judge 209 = .ok (.goto (-75), 3) := dk_167 255 181 (dk_at dksX0_judge_9 3 rfl rfl)
theorem dX0_judge_212 : decode cX0_judge 212 = .ok (.iconst (-1), 1) := dk_2 (dk_at dksX0_judge_9 6 rfl rfl)
theorem dX0_judge_213 : decode cX0_judge 213 = .ok (.ireturn, 1) := dk_172 (dk_at dksX0_judge_9 7 rfl rfl)
theorem dX0_judge_214 : decode cX0_judge 214 = .ok (.astore 4, 2) := dk_58 4 (dk_at dksX0_judge_9 8 rfl rfl)
theorem dX0_judge_216 : decode cX0_judge 216 = .ok (.aload_n 0, 1) := dk_42 (dk_at dksX0_judge_9 10 rfl rfl)
theorem dX0_judge_217 : decode cX0_judge 217 = .ok (.aload 4, 2) := dk_25 4 (dk_at dksX0_judge_9 11 rfl rfl)
theorem dX0_judge_219 : decode cX0_judge 219 = .ok (.invokevirtual 181, 3) := dk_182 0 181 (dk_at dksX0_judge_9 13 rfl rfl)
theorem dX0_judge_222 : decode cX0_judge 222 = .ok (.bipush 10, 2) := dk_16 10 (dk_at dksX0_judge_9 16 rfl rfl)
theorem dX0_judge_224 : decode cX0_judge 224 = .ok (.isub, 1) := dk_100 (dk_at dksX0_judge_9 18 rfl rfl)
theorem dX0_judge_225 : decode cX0_judge 225 = .ok (.ireturn, 1) := dk_172 (dk_at dksX0_judge_9 19 rfl rfl)
abbrev cX0_again : ByteArray := prog_1_method_51_code
def yX0_again : MethodName := ⟨RX0, "again", "(II)I"⟩
def dkwX0_again_8 : List UInt8 := [132, 8, 1, 167, 255, 177, 21, 5, 172, 78, 42, 45, 182, 0, 181, 172]
abbrev dktX0_again_8 : List UInt8 := dkwX0_again_8 ++ []
def dkwX0_again_7 : List UInt8 := [180, 1, 74, 25, 6, 25, 9, 180, 1, 80, 25, 9, 180, 1, 83, 25, 9, 180, 1, 86, 182, 1, 64, 87]
abbrev dktX0_again_7 : List UInt8 := dkwX0_again_7 ++ dktX0_again_8
def dkwX0_again_6 : List UInt8 := [42, 180, 0, 111, 180, 1, 89, 21, 8, 51, 154, 0, 38, 42, 180, 0, 111, 25, 9, 182, 1, 71, 25, 9]
abbrev dktX0_again_6 : List UInt8 := dkwX0_again_6 ++ dktX0_again_7
def dkwX0_again_5 : List UInt8 := [162, 0, 78, 42, 180, 0, 111, 180, 0, 140, 21, 8, 50, 58, 9, 25, 9, 180, 1, 77, 45, 166, 0, 51]
abbrev dktX0_again_5 : List UInt8 := dkwX0_again_5 ++ dktX0_again_6
def dkwX0_again_4 : List UInt8 := [182, 0, 232, 50, 58, 6, 42, 180, 0, 111, 180, 1, 61, 54, 7, 3, 54, 8, 21, 8, 21, 7]
abbrev dktX0_again_4 : List UInt8 := dkwX0_again_4 ++ dktX0_again_5
def dkwX0_again_3 : List UInt8 := [3, 16, 249, 184, 0, 129, 42, 180, 0, 111, 180, 0, 133, 42, 180, 0, 111, 25, 4, 45, 180, 0, 236]
abbrev dktX0_again_3 : List UInt8 := dkwX0_again_3 ++ dktX0_again_4
def dkwX0_again_2 : List UInt8 := [16, 16, 162, 0, 22, 42, 180, 0, 111, 180, 1, 61, 21, 5, 96, 16, 16, 163, 0, 7, 4, 167, 0, 4]
abbrev dktX0_again_2 : List UInt8 := dkwX0_again_2 ++ dktX0_again_3
def dkwX0_again_1 : List UInt8 := [167, 0, 4, 3, 16, 250, 184, 0, 129, 42, 45, 182, 1, 244, 54, 5, 42, 180, 0, 111, 180, 0, 229]
abbrev dktX0_again_1 : List UInt8 := dkwX0_again_1 ++ dktX0_again_2
def dkwX0_again_0 : List UInt8 := [42, 27, 182, 0, 211, 78, 42, 28, 182, 0, 211, 58, 4, 25, 4, 45, 182, 1, 39, 154, 0, 7, 4]
abbrev dktX0_again_0 : List UInt8 := dkwX0_again_0 ++ dktX0_again_1
theorem dksX0_again_0 : cX0_again.data.toList.drop 0 = dktX0_again_0 := by decide +kernel
theorem dksX0_again_1 : cX0_again.data.toList.drop 23 = dktX0_again_1 := dk_seg dksX0_again_0 23 rfl rfl
theorem dksX0_again_2 : cX0_again.data.toList.drop 46 = dktX0_again_2 := dk_seg dksX0_again_1 23 rfl rfl
theorem dksX0_again_3 : cX0_again.data.toList.drop 70 = dktX0_again_3 := dk_seg dksX0_again_2 24 rfl rfl
theorem dksX0_again_4 : cX0_again.data.toList.drop 93 = dktX0_again_4 := dk_seg dksX0_again_3 23 rfl rfl
theorem dksX0_again_5 : cX0_again.data.toList.drop 115 = dktX0_again_5 := dk_seg dksX0_again_4 22 rfl rfl
theorem dksX0_again_6 : cX0_again.data.toList.drop 139 = dktX0_again_6 := dk_seg dksX0_again_5 24 rfl rfl
theorem dksX0_again_7 : cX0_again.data.toList.drop 163 = dktX0_again_7 := dk_seg dksX0_again_6 24 rfl rfl
theorem dksX0_again_8 : cX0_again.data.toList.drop 187 = dktX0_again_8 := dk_seg dksX0_again_7 24 rfl rfl
theorem dX0_again_0 : decode cX0_again 0 = .ok (.aload_n 0, 1) := dk_42 (dk_at dksX0_again_0 0 rfl rfl)
theorem dX0_again_1 : decode cX0_again 1 = .ok (.iload_n 1, 1) := dk_27 (dk_at dksX0_again_0 1 rfl rfl)
theorem dX0_again_2 : decode cX0_again 2 = .ok (.invokevirtual 211, 3) := dk_182 0 211 (dk_at dksX0_again_0 2 rfl rfl)
theorem dX0_again_5 : decode cX0_again 5 = .ok (.astore_n 3, 1) := dk_78 (dk_at dksX0_again_0 5 rfl rfl)
theorem dX0_again_6 : decode cX0_again 6 = .ok (.aload_n 0, 1) := dk_42 (dk_at dksX0_again_0 6 rfl rfl)
theorem dX0_again_7 : decode cX0_again 7 = .ok (.iload_n 2, 1) := dk_28 (dk_at dksX0_again_0 7 rfl rfl)
theorem dX0_again_8 : decode cX0_again 8 = .ok (.invokevirtual 211, 3) := dk_182 0 211 (dk_at dksX0_again_0 8 rfl rfl)
theorem dX0_again_11 : decode cX0_again 11 = .ok (.astore 4, 2) := dk_58 4 (dk_at dksX0_again_0 11 rfl rfl)
theorem dX0_again_13 : decode cX0_again 13 = .ok (.aload 4, 2) := dk_25 4 (dk_at dksX0_again_0 13 rfl rfl)
theorem dX0_again_15 : decode cX0_again 15 = .ok (.aload_n 3, 1) := dk_45 (dk_at dksX0_again_0 15 rfl rfl)
theorem dX0_again_16 : decode cX0_again 16 = .ok (.invokevirtual 295, 3) := dk_182 1 39 (dk_at dksX0_again_0 16 rfl rfl)
theorem dX0_again_19 : decode cX0_again 19 = .ok (.ifCond .ne 7, 3) := dk_154 0 7 (dk_at dksX0_again_0 19 rfl rfl)
theorem dX0_again_22 : decode cX0_again 22 = .ok (.iconst 1, 1) := dk_4 (dk_at dksX0_again_0 22 rfl rfl)
theorem dX0_again_23 : decode cX0_again 23 = .ok (.goto 4, 3) := dk_167 0 4 (dk_at dksX0_again_1 0 rfl rfl)
theorem dX0_again_26 : decode cX0_again 26 = .ok (.iconst 0, 1) := dk_3 (dk_at dksX0_again_1 3 rfl rfl)
theorem dX0_again_27 : decode cX0_again 27 = .ok (.bipush (-6), 2) := dk_16 250 (dk_at dksX0_again_1 4 rfl rfl)
theorem dX0_again_29 : decode cX0_again 29 = .ok (.invokestatic 129, 3) := dk_184 0 129 (dk_at dksX0_again_1 6 rfl rfl)
theorem dX0_again_32 : decode cX0_again 32 = .ok (.aload_n 0, 1) := dk_42 (dk_at dksX0_again_1 9 rfl rfl)
theorem dX0_again_33 : decode cX0_again 33 = .ok (.aload_n 3, 1) := dk_45 (dk_at dksX0_again_1 10 rfl rfl)
theorem dX0_again_34 : decode cX0_again 34 = .ok (.invokevirtual 500, 3) := dk_182 1 244 (dk_at dksX0_again_1 11 rfl rfl)
theorem dX0_again_37 : decode cX0_again 37 = .ok (.istore 5, 2) := dk_54 5 (dk_at dksX0_again_1 14 rfl rfl)
theorem dX0_again_39 : decode cX0_again 39 = .ok (.aload_n 0, 1) := dk_42 (dk_at dksX0_again_1 16 rfl rfl)
theorem dX0_again_40 : decode cX0_again 40 = .ok (.getfield 111, 3) := dk_180 0 111 (dk_at dksX0_again_1 17 rfl rfl)
theorem dX0_again_43 : decode cX0_again 43 = .ok (.getfield 229, 3) := dk_180 0 229 (dk_at dksX0_again_1 20 rfl rfl)
theorem dX0_again_46 : decode cX0_again 46 = .ok (.bipush 16, 2) := dk_16 16 (dk_at dksX0_again_2 0 rfl rfl)
theorem dX0_again_48 : decode cX0_again 48 = .ok (.if_icmp .ge 22, 3) := dk_162 0 22 (dk_at dksX0_again_2 2 rfl rfl)
theorem dX0_again_51 : decode cX0_again 51 = .ok (.aload_n 0, 1) := dk_42 (dk_at dksX0_again_2 5 rfl rfl)
theorem dX0_again_52 : decode cX0_again 52 = .ok (.getfield 111, 3) := dk_180 0 111 (dk_at dksX0_again_2 6 rfl rfl)
theorem dX0_again_55 : decode cX0_again 55 = .ok (.getfield 317, 3) := dk_180 1 61 (dk_at dksX0_again_2 9 rfl rfl)
theorem dX0_again_58 : decode cX0_again 58 = .ok (.iload 5, 2) := dk_21 5 (dk_at dksX0_again_2 12 rfl rfl)
theorem dX0_again_60 : decode cX0_again 60 = .ok (.iadd, 1) := dk_96 (dk_at dksX0_again_2 14 rfl rfl)
theorem dX0_again_61 : decode cX0_again 61 = .ok (.bipush 16, 2) := dk_16 16 (dk_at dksX0_again_2 15 rfl rfl)
theorem dX0_again_63 : decode cX0_again 63 = .ok (.if_icmp .gt 7, 3) := dk_163 0 7 (dk_at dksX0_again_2 17 rfl rfl)
theorem dX0_again_66 : decode cX0_again 66 = .ok (.iconst 1, 1) := dk_4 (dk_at dksX0_again_2 20 rfl rfl)
theorem dX0_again_67 : decode cX0_again 67 = .ok (.goto 4, 3) := dk_167 0 4 (dk_at dksX0_again_2 21 rfl rfl)
theorem dX0_again_70 : decode cX0_again 70 = .ok (.iconst 0, 1) := dk_3 (dk_at dksX0_again_3 0 rfl rfl)
theorem dX0_again_71 : decode cX0_again 71 = .ok (.bipush (-7), 2) := dk_16 249 (dk_at dksX0_again_3 1 rfl rfl)
theorem dX0_again_73 : decode cX0_again 73 = .ok (.invokestatic 129, 3) := dk_184 0 129 (dk_at dksX0_again_3 3 rfl rfl)
theorem dX0_again_76 : decode cX0_again 76 = .ok (.aload_n 0, 1) := dk_42 (dk_at dksX0_again_3 6 rfl rfl)
theorem dX0_again_77 : decode cX0_again 77 = .ok (.getfield 111, 3) := dk_180 0 111 (dk_at dksX0_again_3 7 rfl rfl)
theorem dX0_again_80 : decode cX0_again 80 = .ok (.getfield 133, 3) := dk_180 0 133 (dk_at dksX0_again_3 10 rfl rfl)
theorem dX0_again_83 : decode cX0_again 83 = .ok (.aload_n 0, 1) := dk_42 (dk_at dksX0_again_3 13 rfl rfl)
theorem dX0_again_84 : decode cX0_again 84 = .ok (.getfield 111, 3) := dk_180 0 111 (dk_at dksX0_again_3 14 rfl rfl)
theorem dX0_again_87 : decode cX0_again 87 = .ok (.aload 4, 2) := dk_25 4 (dk_at dksX0_again_3 17 rfl rfl)
theorem dX0_again_89 : decode cX0_again 89 = .ok (.aload_n 3, 1) := dk_45 (dk_at dksX0_again_3 19 rfl rfl)
theorem dX0_again_90 : decode cX0_again 90 = .ok (.getfield 236, 3) := dk_180 0 236 (dk_at dksX0_again_3 20 rfl rfl)
theorem dX0_again_93 : decode cX0_again 93 = .ok (.invokevirtual 232, 3) := dk_182 0 232 (dk_at dksX0_again_4 0 rfl rfl)
theorem dX0_again_96 : decode cX0_again 96 = .ok (.aaload, 1) := dk_50 (dk_at dksX0_again_4 3 rfl rfl)
theorem dX0_again_97 : decode cX0_again 97 = .ok (.astore 6, 2) := dk_58 6 (dk_at dksX0_again_4 4 rfl rfl)
theorem dX0_again_99 : decode cX0_again 99 = .ok (.aload_n 0, 1) := dk_42 (dk_at dksX0_again_4 6 rfl rfl)
theorem dX0_again_100 : decode cX0_again 100 = .ok (.getfield 111, 3) := dk_180 0 111 (dk_at dksX0_again_4 7 rfl rfl)
theorem dX0_again_103 : decode cX0_again 103 = .ok (.getfield 317, 3) := dk_180 1 61 (dk_at dksX0_again_4 10 rfl rfl)
theorem dX0_again_106 : decode cX0_again 106 = .ok (.istore 7, 2) := dk_54 7 (dk_at dksX0_again_4 13 rfl rfl)
theorem dX0_again_108 : decode cX0_again 108 = .ok (.iconst 0, 1) := dk_3 (dk_at dksX0_again_4 15 rfl rfl)
theorem dX0_again_109 : decode cX0_again 109 = .ok (.istore 8, 2) := dk_54 8 (dk_at dksX0_again_4 16 rfl rfl)
theorem dX0_again_111 : decode cX0_again 111 = .ok (.iload 8, 2) := dk_21 8 (dk_at dksX0_again_4 18 rfl rfl)
theorem dX0_again_113 : decode cX0_again 113 = .ok (.iload 7, 2) := dk_21 7 (dk_at dksX0_again_4 20 rfl rfl)
theorem dX0_again_115 : decode cX0_again 115 = .ok (.if_icmp .ge 78, 3) := dk_162 0 78 (dk_at dksX0_again_5 0 rfl rfl)
theorem dX0_again_118 : decode cX0_again 118 = .ok (.aload_n 0, 1) := dk_42 (dk_at dksX0_again_5 3 rfl rfl)
theorem dX0_again_119 : decode cX0_again 119 = .ok (.getfield 111, 3) := dk_180 0 111 (dk_at dksX0_again_5 4 rfl rfl)
theorem dX0_again_122 : decode cX0_again 122 = .ok (.getfield 140, 3) := dk_180 0 140 (dk_at dksX0_again_5 7 rfl rfl)
theorem dX0_again_125 : decode cX0_again 125 = .ok (.iload 8, 2) := dk_21 8 (dk_at dksX0_again_5 10 rfl rfl)
theorem dX0_again_127 : decode cX0_again 127 = .ok (.aaload, 1) := dk_50 (dk_at dksX0_again_5 12 rfl rfl)
theorem dX0_again_128 : decode cX0_again 128 = .ok (.astore 9, 2) := dk_58 9 (dk_at dksX0_again_5 13 rfl rfl)
theorem dX0_again_130 : decode cX0_again 130 = .ok (.aload 9, 2) := dk_25 9 (dk_at dksX0_again_5 15 rfl rfl)
theorem dX0_again_132 : decode cX0_again 132 = .ok (.getfield 333, 3) := dk_180 1 77 (dk_at dksX0_again_5 17 rfl rfl)
theorem dX0_again_135 : decode cX0_again 135 = .ok (.aload_n 3, 1) := dk_45 (dk_at dksX0_again_5 20 rfl rfl)
theorem dX0_again_136 : decode cX0_again 136 = .ok (.if_acmp .ne 51, 3) := dk_166 0 51 (dk_at dksX0_again_5 21 rfl rfl)
theorem dX0_again_139 : decode cX0_again 139 = .ok (.aload_n 0, 1) := dk_42 (dk_at dksX0_again_6 0 rfl rfl)
theorem dX0_again_140 : decode cX0_again 140 = .ok (.getfield 111, 3) := dk_180 0 111 (dk_at dksX0_again_6 1 rfl rfl)
theorem dX0_again_143 : decode cX0_again 143 = .ok (.getfield 345, 3) := dk_180 1 89 (dk_at dksX0_again_6 4 rfl rfl)
theorem dX0_again_146 : decode cX0_again 146 = .ok (.iload 8, 2) := dk_21 8 (dk_at dksX0_again_6 7 rfl rfl)
theorem dX0_again_148 : decode cX0_again 148 = .ok (.baload, 1) := dk_51 (dk_at dksX0_again_6 9 rfl rfl)
theorem dX0_again_149 : decode cX0_again 149 = .ok (.ifCond .ne 38, 3) := dk_154 0 38 (dk_at dksX0_again_6 10 rfl rfl)
theorem dX0_again_152 : decode cX0_again 152 = .ok (.aload_n 0, 1) := dk_42 (dk_at dksX0_again_6 13 rfl rfl)
theorem dX0_again_153 : decode cX0_again 153 = .ok (.getfield 111, 3) := dk_180 0 111 (dk_at dksX0_again_6 14 rfl rfl)
theorem dX0_again_156 : decode cX0_again 156 = .ok (.aload 9, 2) := dk_25 9 (dk_at dksX0_again_6 17 rfl rfl)
theorem dX0_again_158 : decode cX0_again 158 = .ok (.invokevirtual 327, 3) := dk_182 1 71 (dk_at dksX0_again_6 19 rfl rfl)
theorem dX0_again_161 : decode cX0_again 161 = .ok (.aload 9, 2) := dk_25 9 (dk_at dksX0_again_6 22 rfl rfl)
theorem dX0_again_163 : decode cX0_again 163 = .ok (.getfield 330, 3) := dk_180 1 74 (dk_at dksX0_again_7 0 rfl rfl)
theorem dX0_again_166 : decode cX0_again 166 = .ok (.aload 6, 2) := dk_25 6 (dk_at dksX0_again_7 3 rfl rfl)
theorem dX0_again_168 : decode cX0_again 168 = .ok (.aload 9, 2) := dk_25 9 (dk_at dksX0_again_7 5 rfl rfl)
theorem dX0_again_170 : decode cX0_again 170 = .ok (.getfield 336, 3) := dk_180 1 80 (dk_at dksX0_again_7 7 rfl rfl)
theorem dX0_again_173 : decode cX0_again 173 = .ok (.aload 9, 2) := dk_25 9 (dk_at dksX0_again_7 10 rfl rfl)
theorem dX0_again_175 : decode cX0_again 175 = .ok (.getfield 339, 3) := dk_180 1 83 (dk_at dksX0_again_7 12 rfl rfl)
theorem dX0_again_178 : decode cX0_again 178 = .ok (.aload 9, 2) := dk_25 9 (dk_at dksX0_again_7 15 rfl rfl)
theorem dX0_again_180 : decode cX0_again 180 = .ok (.getfield 342, 3) := dk_180 1 86 (dk_at dksX0_again_7 17 rfl rfl)
theorem dX0_again_183 : decode cX0_again 183 = .ok (.invokevirtual 320, 3) := dk_182 1 64 (dk_at dksX0_again_7 20 rfl rfl)
theorem dX0_again_186 : decode cX0_again 186 = .ok (.pop, 1) := dk_87 (dk_at dksX0_again_7 23 rfl rfl)
theorem dX0_again_187 : decode cX0_again 187 = .ok (.iinc 8 1, 3) := dk_132 8 1 (dk_at dksX0_again_8 0 rfl rfl)
theorem dX0_again_190 : decode cX0_again 190 = .ok (.goto (-79), 3) := dk_167 255 177 (dk_at dksX0_again_8 3 rfl rfl)
theorem dX0_again_193 : decode cX0_again 193 = .ok (.iload 5, 2) := dk_21 5 (dk_at dksX0_again_8 6 rfl rfl)
theorem dX0_again_195 : decode cX0_again 195 = .ok (.ireturn, 1) := dk_172 (dk_at dksX0_again_8 8 rfl rfl)
theorem dX0_again_196 : decode cX0_again 196 = .ok (.astore_n 3, 1) := dk_78 (dk_at dksX0_again_8 9 rfl rfl)
theorem dX0_again_197 : decode cX0_again 197 = .ok (.aload_n 0, 1) := dk_42 (dk_at dksX0_again_8 10 rfl rfl)
theorem dX0_again_198 : decode cX0_again 198 = .ok (.aload_n 3, 1) := dk_45 (dk_at dksX0_again_8 11 rfl rfl)
theorem dX0_again_199 : decode cX0_again 199 = .ok (.invokevirtual 181, 3) := dk_182 0 181 (dk_at dksX0_again_8 12 rfl rfl)
theorem dX0_again_202 : decode cX0_again 202 = .ok (.ireturn, 1) := dk_172 (dk_at dksX0_again_8 15 rfl rfl)
abbrev cX0_toMake : ByteArray := prog_1_method_50_code
def yX0_toMake : MethodName := ⟨RX0, "toMake", "(LLineRemarks$Revision;)I"⟩
def dkwX0_toMake_2 : List UInt8 := [3, 96, 61, 132, 3, 1, 167, 255, 206, 28, 172]
abbrev dktX0_toMake_2 : List UInt8 := dkwX0_toMake_2 ++ []
def dkwX0_toMake_1 : List UInt8 := [50, 180, 1, 77, 43, 166, 0, 19, 42, 180, 0, 111, 180, 1, 89, 29, 51, 154, 0, 7, 4, 167, 0, 4]
abbrev dktX0_toMake_1 : List UInt8 := dkwX0_toMake_1 ++ dktX0_toMake_2
def dkwX0_toMake_0 : List UInt8 := [3, 61, 3, 62, 29, 42, 180, 0, 111, 180, 1, 61, 162, 0, 45, 28, 42, 180, 0, 111, 180, 0, 140, 29]
abbrev dktX0_toMake_0 : List UInt8 := dkwX0_toMake_0 ++ dktX0_toMake_1
theorem dksX0_toMake_0 : cX0_toMake.data.toList.drop 0 = dktX0_toMake_0 := by decide +kernel
theorem dksX0_toMake_1 : cX0_toMake.data.toList.drop 24 = dktX0_toMake_1 := dk_seg dksX0_toMake_0 24 rfl rfl
theorem dksX0_toMake_2 : cX0_toMake.data.toList.drop 48 = dktX0_toMake_2 := dk_seg dksX0_toMake_1 24 rfl rfl
theorem dX0_toMake_0 : decode cX0_toMake 0 = .ok (.iconst 0, 1) := dk_3 (dk_at dksX0_toMake_0 0 rfl rfl)
theorem dX0_toMake_1 : decode cX0_toMake 1 = .ok (.istore_n 2, 1) := dk_61 (dk_at dksX0_toMake_0 1 rfl rfl)
theorem dX0_toMake_2 : decode cX0_toMake 2 = .ok (.iconst 0, 1) := dk_3 (dk_at dksX0_toMake_0 2 rfl rfl)
theorem dX0_toMake_3 : decode cX0_toMake 3 = .ok (.istore_n 3, 1) := dk_62 (dk_at dksX0_toMake_0 3 rfl rfl)
theorem dX0_toMake_4 : decode cX0_toMake 4 = .ok (.iload_n 3, 1) := dk_29 (dk_at dksX0_toMake_0 4 rfl rfl)
theorem dX0_toMake_5 : decode cX0_toMake 5 = .ok (.aload_n 0, 1) := dk_42 (dk_at dksX0_toMake_0 5 rfl rfl)
theorem dX0_toMake_6 : decode cX0_toMake 6 = .ok (.getfield 111, 3) := dk_180 0 111 (dk_at dksX0_toMake_0 6 rfl rfl)
theorem dX0_toMake_9 : decode cX0_toMake 9 = .ok (.getfield 317, 3) := dk_180 1 61 (dk_at dksX0_toMake_0 9 rfl rfl)
theorem dX0_toMake_12 : decode cX0_toMake 12 = .ok (.if_icmp .ge 45, 3) := dk_162 0 45 (dk_at dksX0_toMake_0 12 rfl rfl)
theorem dX0_toMake_15 : decode cX0_toMake 15 = .ok (.iload_n 2, 1) := dk_28 (dk_at dksX0_toMake_0 15 rfl rfl)
theorem dX0_toMake_16 : decode cX0_toMake 16 = .ok (.aload_n 0, 1) := dk_42 (dk_at dksX0_toMake_0 16 rfl rfl)
theorem dX0_toMake_17 : decode cX0_toMake 17 = .ok (.getfield 111, 3) := dk_180 0 111 (dk_at dksX0_toMake_0 17 rfl rfl)
theorem dX0_toMake_20 : decode cX0_toMake 20 = .ok (.getfield 140, 3) := dk_180 0 140 (dk_at dksX0_toMake_0 20 rfl rfl)
theorem dX0_toMake_23 : decode cX0_toMake 23 = .ok (.iload_n 3, 1) := dk_29 (dk_at dksX0_toMake_0 23 rfl rfl)
theorem dX0_toMake_24 : decode cX0_toMake 24 = .ok (.aaload, 1) := dk_50 (dk_at dksX0_toMake_1 0 rfl rfl)
theorem dX0_toMake_25 : decode cX0_toMake 25 = .ok (.getfield 333, 3) := dk_180 1 77 (dk_at dksX0_toMake_1 1 rfl rfl)
theorem dX0_toMake_28 : decode cX0_toMake 28 = .ok (.aload_n 1, 1) := dk_43 (dk_at dksX0_toMake_1 4 rfl rfl)
theorem dX0_toMake_29 : decode cX0_toMake 29 = .ok (.if_acmp .ne 19, 3) := dk_166 0 19 (dk_at dksX0_toMake_1 5 rfl rfl)
theorem dX0_toMake_32 : decode cX0_toMake 32 = .ok (.aload_n 0, 1) := dk_42 (dk_at dksX0_toMake_1 8 rfl rfl)
theorem dX0_toMake_33 : decode cX0_toMake 33 = .ok (.getfield 111, 3) := dk_180 0 111 (dk_at dksX0_toMake_1 9 rfl rfl)
theorem dX0_toMake_36 : decode cX0_toMake 36 = .ok (.getfield 345, 3) := dk_180 1 89 (dk_at dksX0_toMake_1 12 rfl rfl)
theorem dX0_toMake_39 : decode cX0_toMake 39 = .ok (.iload_n 3, 1) := dk_29 (dk_at dksX0_toMake_1 15 rfl rfl)
theorem dX0_toMake_40 : decode cX0_toMake 40 = .ok (.baload, 1) := dk_51 (dk_at dksX0_toMake_1 16 rfl rfl)
theorem dX0_toMake_41 : decode cX0_toMake 41 = .ok (.ifCond .ne 7, 3) := dk_154 0 7 (dk_at dksX0_toMake_1 17 rfl rfl)
theorem dX0_toMake_44 : decode cX0_toMake 44 = .ok (.iconst 1, 1) := dk_4 (dk_at dksX0_toMake_1 20 rfl rfl)
theorem dX0_toMake_45 : decode cX0_toMake 45 = .ok (.goto 4, 3) := dk_167 0 4 (dk_at dksX0_toMake_1 21 rfl rfl)
theorem dX0_toMake_48 : decode cX0_toMake 48 = .ok (.iconst 0, 1) := dk_3 (dk_at dksX0_toMake_2 0 rfl rfl)
theorem dX0_toMake_49 : decode cX0_toMake 49 = .ok (.iadd, 1) := dk_96 (dk_at dksX0_toMake_2 1 rfl rfl)
theorem dX0_toMake_50 : decode cX0_toMake 50 = .ok (.istore_n 2, 1) := dk_61 (dk_at dksX0_toMake_2 2 rfl rfl)
theorem dX0_toMake_51 : decode cX0_toMake 51 = .ok (.iinc 3 1, 3) := dk_132 3 1 (dk_at dksX0_toMake_2 3 rfl rfl)
theorem dX0_toMake_54 : decode cX0_toMake 54 = .ok (.goto (-50), 3) := dk_167 255 206 (dk_at dksX0_toMake_2 6 rfl rfl)
theorem dX0_toMake_57 : decode cX0_toMake 57 = .ok (.iload_n 2, 1) := dk_28 (dk_at dksX0_toMake_2 9 rfl rfl)
theorem dX0_toMake_58 : decode cX0_toMake 58 = .ok (.ireturn, 1) := dk_172 (dk_at dksX0_toMake_2 10 rfl rfl)
abbrev cX0_drift : ByteArray := prog_1_method_52_code
def yX0_drift : MethodName := ⟨RX0, "drift", "(I)I"⟩
def dkwX0_drift_4 : List UInt8 := [182, 0, 181, 172]
abbrev dktX0_drift_4 : List UInt8 := dkwX0_drift_4 ++ []
def dkwX0_drift_3 : List UInt8 := [182, 1, 249, 132, 2, 1, 167, 255, 241, 42, 180, 0, 111, 180, 0, 229, 4, 100, 172, 77, 42, 44]
abbrev dktX0_drift_3 : List UInt8 := dkwX0_drift_3 ++ dktX0_drift_4
def dkwX0_drift_2 : List UInt8 := [163, 0, 7, 4, 167, 0, 4, 3, 16, 249, 184, 0, 129, 3, 61, 28, 27, 162, 0, 16, 42, 180, 0, 111]
abbrev dktX0_drift_2 : List UInt8 := dkwX0_drift_2 ++ dktX0_drift_3
def dkwX0_drift_1 : List UInt8 := [20, 1, 247, 184, 0, 173, 16, 250, 184, 0, 129, 42, 180, 0, 111, 180, 0, 229, 27, 96, 16, 16]
abbrev dktX0_drift_1 : List UInt8 := dkwX0_drift_1 ++ dktX0_drift_2
def dkwX0_drift_0 : List UInt8 := [42, 180, 0, 111, 180, 0, 229, 158, 0, 7, 4, 167, 0, 4, 3, 16, 251, 184, 0, 129, 27, 133, 10]
abbrev dktX0_drift_0 : List UInt8 := dkwX0_drift_0 ++ dktX0_drift_1
theorem dksX0_drift_0 : cX0_drift.data.toList.drop 0 = dktX0_drift_0 := by decide +kernel
theorem dksX0_drift_1 : cX0_drift.data.toList.drop 23 = dktX0_drift_1 := dk_seg dksX0_drift_0 23 rfl rfl
theorem dksX0_drift_2 : cX0_drift.data.toList.drop 45 = dktX0_drift_2 := dk_seg dksX0_drift_1 22 rfl rfl
theorem dksX0_drift_3 : cX0_drift.data.toList.drop 69 = dktX0_drift_3 := dk_seg dksX0_drift_2 24 rfl rfl
theorem dksX0_drift_4 : cX0_drift.data.toList.drop 91 = dktX0_drift_4 := dk_seg dksX0_drift_3 22 rfl rfl
theorem dX0_drift_0 : decode cX0_drift 0 = .ok (.aload_n 0, 1) := dk_42 (dk_at dksX0_drift_0 0 rfl rfl)
theorem dX0_drift_1 : decode cX0_drift 1 = .ok (.getfield 111, 3) := dk_180 0 111 (dk_at dksX0_drift_0 1 rfl rfl)
theorem dX0_drift_4 : decode cX0_drift 4 = .ok (.getfield 229, 3) := dk_180 0 229 (dk_at dksX0_drift_0 4 rfl rfl)
theorem dX0_drift_7 : decode cX0_drift 7 = .ok (.ifCond .le 7, 3) := dk_158 0 7 (dk_at dksX0_drift_0 7 rfl rfl)
theorem dX0_drift_10 : decode cX0_drift 10 = .ok (.iconst 1, 1) := dk_4 (dk_at dksX0_drift_0 10 rfl rfl)
theorem dX0_drift_11 : decode cX0_drift 11 = .ok (.goto 4, 3) := dk_167 0 4 (dk_at dksX0_drift_0 11 rfl rfl)
theorem dX0_drift_14 : decode cX0_drift 14 = .ok (.iconst 0, 1) := dk_3 (dk_at dksX0_drift_0 14 rfl rfl)
theorem dX0_drift_15 : decode cX0_drift 15 = .ok (.bipush (-5), 2) := dk_16 251 (dk_at dksX0_drift_0 15 rfl rfl)
theorem dX0_drift_17 : decode cX0_drift 17 = .ok (.invokestatic 129, 3) := dk_184 0 129 (dk_at dksX0_drift_0 17 rfl rfl)
theorem dX0_drift_20 : decode cX0_drift 20 = .ok (.iload_n 1, 1) := dk_27 (dk_at dksX0_drift_0 20 rfl rfl)
theorem dX0_drift_21 : decode cX0_drift 21 = .ok (.i2l, 1) := dk_133 (dk_at dksX0_drift_0 21 rfl rfl)
theorem dX0_drift_22 : decode cX0_drift 22 = .ok (.lconst 1, 1) := dk_10 (dk_at dksX0_drift_0 22 rfl rfl)
theorem dX0_drift_23 : decode cX0_drift 23 = .ok (.ldc2_w 503, 3) := dk_20 1 247 (dk_at dksX0_drift_1 0 rfl rfl)
theorem dX0_drift_26 : decode cX0_drift 26 = .ok (.invokestatic 173, 3) := dk_184 0 173 (dk_at dksX0_drift_1 3 rfl rfl)
theorem dX0_drift_29 : decode cX0_drift 29 = .ok (.bipush (-6), 2) := dk_16 250 (dk_at dksX0_drift_1 6 rfl rfl)
theorem dX0_drift_31 : decode cX0_drift 31 = .ok (.invokestatic 129, 3) := dk_184 0 129 (dk_at dksX0_drift_1 8 rfl rfl)
theorem dX0_drift_34 : decode cX0_drift 34 = .ok (.aload_n 0, 1) := dk_42 (dk_at dksX0_drift_1 11 rfl rfl)
theorem dX0_drift_35 : decode cX0_drift 35 = .ok (.getfield 111, 3) := dk_180 0 111 (dk_at dksX0_drift_1 12 rfl rfl)
theorem dX0_drift_38 : decode cX0_drift 38 = .ok (.getfield 229, 3) := dk_180 0 229 (dk_at dksX0_drift_1 15 rfl rfl)
theorem dX0_drift_41 : decode cX0_drift 41 = .ok (.iload_n 1, 1) := dk_27 (dk_at dksX0_drift_1 18 rfl rfl)
theorem dX0_drift_42 : decode cX0_drift 42 = .ok (.iadd, 1) := dk_96 (dk_at dksX0_drift_1 19 rfl rfl)
theorem dX0_drift_43 : decode cX0_drift 43 = .ok (.bipush 16, 2) := dk_16 16 (dk_at dksX0_drift_1 20 rfl rfl)
theorem dX0_drift_45 : decode cX0_drift 45 = .ok (.if_icmp .gt 7, 3) := dk_163 0 7 (dk_at dksX0_drift_2 0 rfl rfl)
theorem dX0_drift_48 : decode cX0_drift 48 = .ok (.iconst 1, 1) := dk_4 (dk_at dksX0_drift_2 3 rfl rfl)
theorem dX0_drift_49 : decode cX0_drift 49 = .ok (.goto 4, 3) := dk_167 0 4 (dk_at dksX0_drift_2 4 rfl rfl)
theorem dX0_drift_52 : decode cX0_drift 52 = .ok (.iconst 0, 1) := dk_3 (dk_at dksX0_drift_2 7 rfl rfl)
theorem dX0_drift_53 : decode cX0_drift 53 = .ok (.bipush (-7), 2) := dk_16 249 (dk_at dksX0_drift_2 8 rfl rfl)
theorem dX0_drift_55 : decode cX0_drift 55 = .ok (.invokestatic 129, 3) := dk_184 0 129 (dk_at dksX0_drift_2 10 rfl rfl)
theorem dX0_drift_58 : decode cX0_drift 58 = .ok (.iconst 0, 1) := dk_3 (dk_at dksX0_drift_2 13 rfl rfl)
theorem dX0_drift_59 : decode cX0_drift 59 = .ok (.istore_n 2, 1) := dk_61 (dk_at dksX0_drift_2 14 rfl rfl)
theorem dX0_drift_60 : decode cX0_drift 60 = .ok (.iload_n 2, 1) := dk_28 (dk_at dksX0_drift_2 15 rfl rfl)
theorem dX0_drift_61 : decode cX0_drift 61 = .ok (.iload_n 1, 1) := dk_27 (dk_at dksX0_drift_2 16 rfl rfl)
theorem dX0_drift_62 : decode cX0_drift 62 = .ok (.if_icmp .ge 16, 3) := dk_162 0 16 (dk_at dksX0_drift_2 17 rfl rfl)
theorem dX0_drift_65 : decode cX0_drift 65 = .ok (.aload_n 0, 1) := dk_42 (dk_at dksX0_drift_2 20 rfl rfl)
theorem dX0_drift_66 : decode cX0_drift 66 = .ok (.getfield 111, 3) := dk_180 0 111 (dk_at dksX0_drift_2 21 rfl rfl)
theorem dX0_drift_69 : decode cX0_drift 69 = .ok (.invokevirtual 505, 3) := dk_182 1 249 (dk_at dksX0_drift_3 0 rfl rfl)
theorem dX0_drift_72 : decode cX0_drift 72 = .ok (.iinc 2 1, 3) := dk_132 2 1 (dk_at dksX0_drift_3 3 rfl rfl)
theorem dX0_drift_75 : decode cX0_drift 75 = .ok (.goto (-15), 3) := dk_167 255 241 (dk_at dksX0_drift_3 6 rfl rfl)
theorem dX0_drift_78 : decode cX0_drift 78 = .ok (.aload_n 0, 1) := dk_42 (dk_at dksX0_drift_3 9 rfl rfl)
theorem dX0_drift_79 : decode cX0_drift 79 = .ok (.getfield 111, 3) := dk_180 0 111 (dk_at dksX0_drift_3 10 rfl rfl)
theorem dX0_drift_82 : decode cX0_drift 82 = .ok (.getfield 229, 3) := dk_180 0 229 (dk_at dksX0_drift_3 13 rfl rfl)
theorem dX0_drift_85 : decode cX0_drift 85 = .ok (.iconst 1, 1) := dk_4 (dk_at dksX0_drift_3 16 rfl rfl)
theorem dX0_drift_86 : decode cX0_drift 86 = .ok (.isub, 1) := dk_100 (dk_at dksX0_drift_3 17 rfl rfl)
theorem dX0_drift_87 : decode cX0_drift 87 = .ok (.ireturn, 1) := dk_172 (dk_at dksX0_drift_3 18 rfl rfl)
theorem dX0_drift_88 : decode cX0_drift 88 = .ok (.astore_n 2, 1) := dk_77 (dk_at dksX0_drift_3 19 rfl rfl)
theorem dX0_drift_89 : decode cX0_drift 89 = .ok (.aload_n 0, 1) := dk_42 (dk_at dksX0_drift_3 20 rfl rfl)
theorem dX0_drift_90 : decode cX0_drift 90 = .ok (.aload_n 2, 1) := dk_44 (dk_at dksX0_drift_3 21 rfl rfl)
theorem dX0_drift_91 : decode cX0_drift 91 = .ok (.invokevirtual 181, 3) := dk_182 0 181 (dk_at dksX0_drift_4 0 rfl rfl)
theorem dX0_drift_94 : decode cX0_drift 94 = .ok (.ireturn, 1) := dk_172 (dk_at dksX0_drift_4 3 rfl rfl)
abbrev cX0_seed : ByteArray := prog_1_method_53_code
def yX0_seed : MethodName := ⟨RX0, "seed", "(I)I"⟩
def dkwX0_seed_0 : List UInt8 := [42, 180, 0, 111, 180, 1, 252, 61, 42, 180, 0, 111, 27, 181, 1, 252, 28, 172]
abbrev dktX0_seed_0 : List UInt8 := dkwX0_seed_0 ++ []
theorem dksX0_seed_0 : cX0_seed.data.toList.drop 0 = dktX0_seed_0 := by decide +kernel
theorem dX0_seed_0 : decode cX0_seed 0 = .ok (.aload_n 0, 1) := dk_42 (dk_at dksX0_seed_0 0 rfl rfl)
theorem dX0_seed_1 : decode cX0_seed 1 = .ok (.getfield 111, 3) := dk_180 0 111 (dk_at dksX0_seed_0 1 rfl rfl)
theorem dX0_seed_4 : decode cX0_seed 4 = .ok (.getfield 508, 3) := dk_180 1 252 (dk_at dksX0_seed_0 4 rfl rfl)
theorem dX0_seed_7 : decode cX0_seed 7 = .ok (.istore_n 2, 1) := dk_61 (dk_at dksX0_seed_0 7 rfl rfl)
theorem dX0_seed_8 : decode cX0_seed 8 = .ok (.aload_n 0, 1) := dk_42 (dk_at dksX0_seed_0 8 rfl rfl)
theorem dX0_seed_9 : decode cX0_seed 9 = .ok (.getfield 111, 3) := dk_180 0 111 (dk_at dksX0_seed_0 9 rfl rfl)
theorem dX0_seed_12 : decode cX0_seed 12 = .ok (.iload_n 1, 1) := dk_27 (dk_at dksX0_seed_0 12 rfl rfl)
theorem dX0_seed_13 : decode cX0_seed 13 = .ok (.putfield 508, 3) := dk_181 1 252 (dk_at dksX0_seed_0 13 rfl rfl)
theorem dX0_seed_16 : decode cX0_seed 16 = .ok (.iload_n 2, 1) := dk_28 (dk_at dksX0_seed_0 16 rfl rfl)
theorem dX0_seed_17 : decode cX0_seed 17 = .ok (.ireturn, 1) := dk_172 (dk_at dksX0_seed_0 17 rfl rfl)
abbrev cX0_act : ByteArray := prog_1_method_54_code
def yX0_act : MethodName := ⟨RX0, "act", "(III)I"⟩
def dkwX0_act_4 : List UInt8 := [29, 42, 180, 0, 90, 182, 2, 7, 172, 3, 172]
abbrev dktX0_act_4 : List UInt8 := dkwX0_act_4 ++ []
def dkwX0_act_3 : List UInt8 := [25, 4, 29, 42, 180, 0, 90, 182, 2, 0, 172, 25, 4, 29, 42, 180, 0, 90, 182, 2, 4, 172, 25, 4]
abbrev dktX0_act_3 : List UInt8 := dkwX0_act_3 ++ dktX0_act_4
def dkwX0_act_2 : List UInt8 := [170, 0, 0, 0, 0, 0, 60, 0, 0, 0, 0, 0, 0, 0, 2, 0, 0, 0, 27, 0, 0, 0, 38, 0, 0, 0, 49]
abbrev dktX0_act_2 : List UInt8 := dkwX0_act_2 ++ dktX0_act_3
def dkwX0_act_1 : List UInt8 := [180, 0, 111, 180, 0, 140, 27, 50, 58, 4, 28]
abbrev dktX0_act_1 : List UInt8 := dkwX0_act_1 ++ dktX0_act_2
def dkwX0_act_0 : List UInt8 := [42, 180, 0, 90, 3, 181, 1, 255, 42, 180, 0, 111, 27, 182, 0, 137, 154, 0, 5, 3, 172, 42]
abbrev dktX0_act_0 : List UInt8 := dkwX0_act_0 ++ dktX0_act_1
theorem dksX0_act_0 : cX0_act.data.toList.drop 0 = dktX0_act_0 := by decide +kernel
theorem dksX0_act_1 : cX0_act.data.toList.drop 22 = dktX0_act_1 := dk_seg dksX0_act_0 22 rfl rfl
theorem dksX0_act_2 : cX0_act.data.toList.drop 33 = dktX0_act_2 := dk_seg dksX0_act_1 11 rfl rfl
theorem dksX0_act_3 : cX0_act.data.toList.drop 60 = dktX0_act_3 := dk_seg dksX0_act_2 27 rfl rfl
theorem dksX0_act_4 : cX0_act.data.toList.drop 84 = dktX0_act_4 := dk_seg dksX0_act_3 24 rfl rfl
theorem dX0_act_0 : decode cX0_act 0 = .ok (.aload_n 0, 1) := dk_42 (dk_at dksX0_act_0 0 rfl rfl)
theorem dX0_act_1 : decode cX0_act 1 = .ok (.getfield 90, 3) := dk_180 0 90 (dk_at dksX0_act_0 1 rfl rfl)
theorem dX0_act_4 : decode cX0_act 4 = .ok (.iconst 0, 1) := dk_3 (dk_at dksX0_act_0 4 rfl rfl)
theorem dX0_act_5 : decode cX0_act 5 = .ok (.putfield 511, 3) := dk_181 1 255 (dk_at dksX0_act_0 5 rfl rfl)
theorem dX0_act_8 : decode cX0_act 8 = .ok (.aload_n 0, 1) := dk_42 (dk_at dksX0_act_0 8 rfl rfl)
theorem dX0_act_9 : decode cX0_act 9 = .ok (.getfield 111, 3) := dk_180 0 111 (dk_at dksX0_act_0 9 rfl rfl)
theorem dX0_act_12 : decode cX0_act 12 = .ok (.iload_n 1, 1) := dk_27 (dk_at dksX0_act_0 12 rfl rfl)
theorem dX0_act_13 : decode cX0_act 13 = .ok (.invokevirtual 137, 3) := dk_182 0 137 (dk_at dksX0_act_0 13 rfl rfl)
theorem dX0_act_16 : decode cX0_act 16 = .ok (.ifCond .ne 5, 3) := dk_154 0 5 (dk_at dksX0_act_0 16 rfl rfl)
theorem dX0_act_19 : decode cX0_act 19 = .ok (.iconst 0, 1) := dk_3 (dk_at dksX0_act_0 19 rfl rfl)
theorem dX0_act_20 : decode cX0_act 20 = .ok (.ireturn, 1) := dk_172 (dk_at dksX0_act_0 20 rfl rfl)
theorem dX0_act_21 : decode cX0_act 21 = .ok (.aload_n 0, 1) := dk_42 (dk_at dksX0_act_0 21 rfl rfl)
theorem dX0_act_22 : decode cX0_act 22 = .ok (.getfield 111, 3) := dk_180 0 111 (dk_at dksX0_act_1 0 rfl rfl)
theorem dX0_act_25 : decode cX0_act 25 = .ok (.getfield 140, 3) := dk_180 0 140 (dk_at dksX0_act_1 3 rfl rfl)
theorem dX0_act_28 : decode cX0_act 28 = .ok (.iload_n 1, 1) := dk_27 (dk_at dksX0_act_1 6 rfl rfl)
theorem dX0_act_29 : decode cX0_act 29 = .ok (.aaload, 1) := dk_50 (dk_at dksX0_act_1 7 rfl rfl)
theorem dX0_act_30 : decode cX0_act 30 = .ok (.astore 4, 2) := dk_58 4 (dk_at dksX0_act_1 8 rfl rfl)
theorem dX0_act_32 : decode cX0_act 32 = .ok (.iload_n 2, 1) := dk_28 (dk_at dksX0_act_1 10 rfl rfl)
theorem dX0_act_33 : decode cX0_act 33 = .ok (.tableswitch 60 0 2 #[27, 38, 49], 27) := by decide +kernel
theorem dX0_act_60 : decode cX0_act 60 = .ok (.aload 4, 2) := dk_25 4 (dk_at dksX0_act_3 0 rfl rfl)
theorem dX0_act_62 : decode cX0_act 62 = .ok (.iload_n 3, 1) := dk_29 (dk_at dksX0_act_3 2 rfl rfl)
theorem dX0_act_63 : decode cX0_act 63 = .ok (.aload_n 0, 1) := dk_42 (dk_at dksX0_act_3 3 rfl rfl)
theorem dX0_act_64 : decode cX0_act 64 = .ok (.getfield 90, 3) := dk_180 0 90 (dk_at dksX0_act_3 4 rfl rfl)
theorem dX0_act_67 : decode cX0_act 67 = .ok (.invokevirtual 512, 3) := dk_182 2 0 (dk_at dksX0_act_3 7 rfl rfl)
theorem dX0_act_70 : decode cX0_act 70 = .ok (.ireturn, 1) := dk_172 (dk_at dksX0_act_3 10 rfl rfl)
theorem dX0_act_71 : decode cX0_act 71 = .ok (.aload 4, 2) := dk_25 4 (dk_at dksX0_act_3 11 rfl rfl)
theorem dX0_act_73 : decode cX0_act 73 = .ok (.iload_n 3, 1) := dk_29 (dk_at dksX0_act_3 13 rfl rfl)
theorem dX0_act_74 : decode cX0_act 74 = .ok (.aload_n 0, 1) := dk_42 (dk_at dksX0_act_3 14 rfl rfl)
theorem dX0_act_75 : decode cX0_act 75 = .ok (.getfield 90, 3) := dk_180 0 90 (dk_at dksX0_act_3 15 rfl rfl)
theorem dX0_act_78 : decode cX0_act 78 = .ok (.invokevirtual 516, 3) := dk_182 2 4 (dk_at dksX0_act_3 18 rfl rfl)
theorem dX0_act_81 : decode cX0_act 81 = .ok (.ireturn, 1) := dk_172 (dk_at dksX0_act_3 21 rfl rfl)
theorem dX0_act_82 : decode cX0_act 82 = .ok (.aload 4, 2) := dk_25 4 (dk_at dksX0_act_3 22 rfl rfl)
theorem dX0_act_84 : decode cX0_act 84 = .ok (.iload_n 3, 1) := dk_29 (dk_at dksX0_act_4 0 rfl rfl)
theorem dX0_act_85 : decode cX0_act 85 = .ok (.aload_n 0, 1) := dk_42 (dk_at dksX0_act_4 1 rfl rfl)
theorem dX0_act_86 : decode cX0_act 86 = .ok (.getfield 90, 3) := dk_180 0 90 (dk_at dksX0_act_4 2 rfl rfl)
theorem dX0_act_89 : decode cX0_act 89 = .ok (.invokevirtual 519, 3) := dk_182 2 7 (dk_at dksX0_act_4 5 rfl rfl)
theorem dX0_act_92 : decode cX0_act 92 = .ok (.ireturn, 1) := dk_172 (dk_at dksX0_act_4 8 rfl rfl)
theorem dX0_act_93 : decode cX0_act 93 = .ok (.iconst 0, 1) := dk_3 (dk_at dksX0_act_4 9 rfl rfl)
theorem dX0_act_94 : decode cX0_act 94 = .ok (.ireturn, 1) := dk_172 (dk_at dksX0_act_4 10 rfl rfl)
abbrev cX0_trace : ByteArray := prog_1_method_55_code
def yX0_trace : MethodName := ⟨RX0, "trace", "(I)I"⟩
def dkwX0_trace_1 : List UInt8 := [42, 180, 0, 90, 180, 2, 10, 27, 46, 167, 0, 4, 2, 172]
abbrev dktX0_trace_1 : List UInt8 := dkwX0_trace_1 ++ []
def dkwX0_trace_0 : List UInt8 := [27, 133, 9, 42, 180, 0, 90, 180, 1, 255, 16, 20, 184, 1, 166, 4, 100, 133, 184, 0, 173, 153, 0, 15]
abbrev dktX0_trace_0 : List UInt8 := dkwX0_trace_0 ++ dktX0_trace_1
theorem dksX0_trace_0 : cX0_trace.data.toList.drop 0 = dktX0_trace_0 := by decide +kernel
theorem dksX0_trace_1 : cX0_trace.data.toList.drop 24 = dktX0_trace_1 := dk_seg dksX0_trace_0 24 rfl rfl
theorem dX0_trace_0 : decode cX0_trace 0 = .ok (.iload_n 1, 1) := dk_27 (dk_at dksX0_trace_0 0 rfl rfl)
theorem dX0_trace_1 : decode cX0_trace 1 = .ok (.i2l, 1) := dk_133 (dk_at dksX0_trace_0 1 rfl rfl)
theorem dX0_trace_2 : decode cX0_trace 2 = .ok (.lconst 0, 1) := dk_9 (dk_at dksX0_trace_0 2 rfl rfl)
theorem dX0_trace_3 : decode cX0_trace 3 = .ok (.aload_n 0, 1) := dk_42 (dk_at dksX0_trace_0 3 rfl rfl)
theorem dX0_trace_4 : decode cX0_trace 4 = .ok (.getfield 90, 3) := dk_180 0 90 (dk_at dksX0_trace_0 4 rfl rfl)
theorem dX0_trace_7 : decode cX0_trace 7 = .ok (.getfield 511, 3) := dk_180 1 255 (dk_at dksX0_trace_0 7 rfl rfl)
theorem dX0_trace_10 : decode cX0_trace 10 = .ok (.bipush 20, 2) := dk_16 20 (dk_at dksX0_trace_0 10 rfl rfl)
theorem dX0_trace_12 : decode cX0_trace 12 = .ok (.invokestatic 422, 3) := dk_184 1 166 (dk_at dksX0_trace_0 12 rfl rfl)
theorem dX0_trace_15 : decode cX0_trace 15 = .ok (.iconst 1, 1) := dk_4 (dk_at dksX0_trace_0 15 rfl rfl)
theorem dX0_trace_16 : decode cX0_trace 16 = .ok (.isub, 1) := dk_100 (dk_at dksX0_trace_0 16 rfl rfl)
theorem dX0_trace_17 : decode cX0_trace 17 = .ok (.i2l, 1) := dk_133 (dk_at dksX0_trace_0 17 rfl rfl)
theorem dX0_trace_18 : decode cX0_trace 18 = .ok (.invokestatic 173, 3) := dk_184 0 173 (dk_at dksX0_trace_0 18 rfl rfl)
theorem dX0_trace_21 : decode cX0_trace 21 = .ok (.ifCond .eq 15, 3) := dk_153 0 15 (dk_at dksX0_trace_0 21 rfl rfl)
theorem dX0_trace_24 : decode cX0_trace 24 = .ok (.aload_n 0, 1) := dk_42 (dk_at dksX0_trace_1 0 rfl rfl)
theorem dX0_trace_25 : decode cX0_trace 25 = .ok (.getfield 90, 3) := dk_180 0 90 (dk_at dksX0_trace_1 1 rfl rfl)
theorem dX0_trace_28 : decode cX0_trace 28 = .ok (.getfield 522, 3) := dk_180 2 10 (dk_at dksX0_trace_1 4 rfl rfl)
theorem dX0_trace_31 : decode cX0_trace 31 = .ok (.iload_n 1, 1) := dk_27 (dk_at dksX0_trace_1 7 rfl rfl)
theorem dX0_trace_32 : decode cX0_trace 32 = .ok (.iaload, 1) := dk_46 (dk_at dksX0_trace_1 8 rfl rfl)
theorem dX0_trace_33 : decode cX0_trace 33 = .ok (.goto 4, 3) := dk_167 0 4 (dk_at dksX0_trace_1 9 rfl rfl)
theorem dX0_trace_36 : decode cX0_trace 36 = .ok (.iconst (-1), 1) := dk_2 (dk_at dksX0_trace_1 12 rfl rfl)
theorem dX0_trace_37 : decode cX0_trace 37 = .ok (.ireturn, 1) := dk_172 (dk_at dksX0_trace_1 13 rfl rfl)
abbrev cX0_image : ByteArray := prog_1_method_56_code
def yX0_image : MethodName := ⟨RX0, "image", "()I"⟩
def dkwX0_image_1 : List UInt8 := [180, 1, 61, 172]
abbrev dktX0_image_1 : List UInt8 := dkwX0_image_1 ++ []
def dkwX0_image_0 : List UInt8 := [42, 187, 0, 108, 89, 183, 0, 110, 42, 180, 0, 111, 182, 2, 13, 181, 2, 17, 42, 180, 0, 111]
abbrev dktX0_image_0 : List UInt8 := dkwX0_image_0 ++ dktX0_image_1
theorem dksX0_image_0 : cX0_image.data.toList.drop 0 = dktX0_image_0 := by decide +kernel
theorem dksX0_image_1 : cX0_image.data.toList.drop 22 = dktX0_image_1 := dk_seg dksX0_image_0 22 rfl rfl
theorem dX0_image_0 : decode cX0_image 0 = .ok (.aload_n 0, 1) := dk_42 (dk_at dksX0_image_0 0 rfl rfl)
theorem dX0_image_1 : decode cX0_image 1 = .ok (.new 108, 3) := dk_187 0 108 (dk_at dksX0_image_0 1 rfl rfl)
theorem dX0_image_4 : decode cX0_image 4 = .ok (.dup, 1) := dk_89 (dk_at dksX0_image_0 4 rfl rfl)
theorem dX0_image_5 : decode cX0_image 5 = .ok (.invokespecial 110, 3) := dk_183 0 110 (dk_at dksX0_image_0 5 rfl rfl)
theorem dX0_image_8 : decode cX0_image 8 = .ok (.aload_n 0, 1) := dk_42 (dk_at dksX0_image_0 8 rfl rfl)
theorem dX0_image_9 : decode cX0_image 9 = .ok (.getfield 111, 3) := dk_180 0 111 (dk_at dksX0_image_0 9 rfl rfl)
theorem dX0_image_12 : decode cX0_image 12 = .ok (.invokevirtual 525, 3) := dk_182 2 13 (dk_at dksX0_image_0 12 rfl rfl)
theorem dX0_image_15 : decode cX0_image 15 = .ok (.putfield 529, 3) := dk_181 2 17 (dk_at dksX0_image_0 15 rfl rfl)
theorem dX0_image_18 : decode cX0_image 18 = .ok (.aload_n 0, 1) := dk_42 (dk_at dksX0_image_0 18 rfl rfl)
theorem dX0_image_19 : decode cX0_image 19 = .ok (.getfield 111, 3) := dk_180 0 111 (dk_at dksX0_image_0 19 rfl rfl)
theorem dX0_image_22 : decode cX0_image 22 = .ok (.getfield 317, 3) := dk_180 1 61 (dk_at dksX0_image_1 0 rfl rfl)
theorem dX0_image_25 : decode cX0_image 25 = .ok (.ireturn, 1) := dk_172 (dk_at dksX0_image_1 3 rfl rfl)
abbrev cX0_restore : ByteArray := prog_1_method_57_code
def yX0_restore : MethodName := ⟨RX0, "restore", "()I"⟩
def dkwX0_restore_2 : List UInt8 := [172, 76, 42, 43, 182, 0, 181, 172]
abbrev dktX0_restore_2 : List UInt8 := dkwX0_restore_2 ++ []
def dkwX0_restore_1 : List UInt8 := [183, 0, 110, 42, 180, 2, 17, 182, 2, 13, 181, 0, 111, 42, 182, 2, 20, 42, 180, 0, 111, 180, 1, 61]
abbrev dktX0_restore_1 : List UInt8 := dkwX0_restore_1 ++ dktX0_restore_2
def dkwX0_restore_0 : List UInt8 := [42, 180, 2, 17, 198, 0, 7, 4, 167, 0, 4, 3, 16, 250, 184, 0, 129, 42, 187, 0, 108, 89]
abbrev dktX0_restore_0 : List UInt8 := dkwX0_restore_0 ++ dktX0_restore_1
theorem dksX0_restore_0 : cX0_restore.data.toList.drop 0 = dktX0_restore_0 := by decide +kernel
theorem dksX0_restore_1 : cX0_restore.data.toList.drop 22 = dktX0_restore_1 := dk_seg dksX0_restore_0 22 rfl rfl
theorem dksX0_restore_2 : cX0_restore.data.toList.drop 46 = dktX0_restore_2 := dk_seg dksX0_restore_1 24 rfl rfl
theorem dX0_restore_0 : decode cX0_restore 0 = .ok (.aload_n 0, 1) := dk_42 (dk_at dksX0_restore_0 0 rfl rfl)
theorem dX0_restore_1 : decode cX0_restore 1 = .ok (.getfield 529, 3) := dk_180 2 17 (dk_at dksX0_restore_0 1 rfl rfl)
theorem dX0_restore_4 : decode cX0_restore 4 = .ok (.ifnull 7, 3) := dk_198 0 7 (dk_at dksX0_restore_0 4 rfl rfl)
theorem dX0_restore_7 : decode cX0_restore 7 = .ok (.iconst 1, 1) := dk_4 (dk_at dksX0_restore_0 7 rfl rfl)
theorem dX0_restore_8 : decode cX0_restore 8 = .ok (.goto 4, 3) := dk_167 0 4 (dk_at dksX0_restore_0 8 rfl rfl)
theorem dX0_restore_11 : decode cX0_restore 11 = .ok (.iconst 0, 1) := dk_3 (dk_at dksX0_restore_0 11 rfl rfl)
theorem dX0_restore_12 : decode cX0_restore 12 = .ok (.bipush (-6), 2) := dk_16 250 (dk_at dksX0_restore_0 12 rfl rfl)
theorem dX0_restore_14 : decode cX0_restore 14 = .ok (.invokestatic 129, 3) := dk_184 0 129 (dk_at dksX0_restore_0 14 rfl rfl)
theorem dX0_restore_17 : decode cX0_restore 17 = .ok (.aload_n 0, 1) := dk_42 (dk_at dksX0_restore_0 17 rfl rfl)
theorem dX0_restore_18 : decode cX0_restore 18 = .ok (.new 108, 3) := dk_187 0 108 (dk_at dksX0_restore_0 18 rfl rfl)
theorem dX0_restore_21 : decode cX0_restore 21 = .ok (.dup, 1) := dk_89 (dk_at dksX0_restore_0 21 rfl rfl)
theorem dX0_restore_22 : decode cX0_restore 22 = .ok (.invokespecial 110, 3) := dk_183 0 110 (dk_at dksX0_restore_1 0 rfl rfl)
theorem dX0_restore_25 : decode cX0_restore 25 = .ok (.aload_n 0, 1) := dk_42 (dk_at dksX0_restore_1 3 rfl rfl)
theorem dX0_restore_26 : decode cX0_restore 26 = .ok (.getfield 529, 3) := dk_180 2 17 (dk_at dksX0_restore_1 4 rfl rfl)
theorem dX0_restore_29 : decode cX0_restore 29 = .ok (.invokevirtual 525, 3) := dk_182 2 13 (dk_at dksX0_restore_1 7 rfl rfl)
theorem dX0_restore_32 : decode cX0_restore 32 = .ok (.putfield 111, 3) := dk_181 0 111 (dk_at dksX0_restore_1 10 rfl rfl)
theorem dX0_restore_35 : decode cX0_restore 35 = .ok (.aload_n 0, 1) := dk_42 (dk_at dksX0_restore_1 13 rfl rfl)
theorem dX0_restore_36 : decode cX0_restore 36 = .ok (.invokevirtual 532, 3) := dk_182 2 20 (dk_at dksX0_restore_1 14 rfl rfl)
theorem dX0_restore_39 : decode cX0_restore 39 = .ok (.aload_n 0, 1) := dk_42 (dk_at dksX0_restore_1 17 rfl rfl)
theorem dX0_restore_40 : decode cX0_restore 40 = .ok (.getfield 111, 3) := dk_180 0 111 (dk_at dksX0_restore_1 18 rfl rfl)
theorem dX0_restore_43 : decode cX0_restore 43 = .ok (.getfield 317, 3) := dk_180 1 61 (dk_at dksX0_restore_1 21 rfl rfl)
theorem dX0_restore_46 : decode cX0_restore 46 = .ok (.ireturn, 1) := dk_172 (dk_at dksX0_restore_2 0 rfl rfl)
theorem dX0_restore_47 : decode cX0_restore 47 = .ok (.astore_n 1, 1) := dk_76 (dk_at dksX0_restore_2 1 rfl rfl)
theorem dX0_restore_48 : decode cX0_restore 48 = .ok (.aload_n 0, 1) := dk_42 (dk_at dksX0_restore_2 2 rfl rfl)
theorem dX0_restore_49 : decode cX0_restore 49 = .ok (.aload_n 1, 1) := dk_43 (dk_at dksX0_restore_2 3 rfl rfl)
theorem dX0_restore_50 : decode cX0_restore 50 = .ok (.invokevirtual 181, 3) := dk_182 0 181 (dk_at dksX0_restore_2 4 rfl rfl)
theorem dX0_restore_53 : decode cX0_restore 53 = .ok (.ireturn, 1) := dk_172 (dk_at dksX0_restore_2 7 rfl rfl)
abbrev cX0_shelvesFollow : ByteArray := prog_1_method_12_code
def yX0_shelvesFollow : MethodName := ⟨RX0, "shelvesFollow", "()V"⟩
def dkwX0_shelvesFollow_3 : List UInt8 := [1, 181, 0, 147, 132, 3, 1, 167, 255, 191, 177]
abbrev dktX0_shelvesFollow_3 : List UInt8 := dkwX0_shelvesFollow_3 ++ []
def dkwX0_shelvesFollow_2 : List UInt8 := [180, 0, 111, 21, 5, 182, 0, 137, 153, 0, 16, 42, 180, 0, 111, 180, 0, 140, 21, 5, 50, 167, 0, 4]
abbrev dktX0_shelvesFollow_2 : List UInt8 := dkwX0_shelvesFollow_2 ++ dktX0_shelvesFollow_3
def dkwX0_shelvesFollow_1 : List UInt8 := [182, 0, 144, 153, 0, 47, 25, 4, 180, 0, 147, 192, 0, 67, 180, 0, 150, 54, 5, 25, 4, 42]
abbrev dktX0_shelvesFollow_1 : List UInt8 := dkwX0_shelvesFollow_1 ++ dktX0_shelvesFollow_2
def dkwX0_shelvesFollow_0 : List UInt8 := [42, 180, 0, 79, 76, 43, 190, 61, 3, 62, 29, 28, 162, 0, 66, 43, 29, 50, 58, 4, 25, 4]
abbrev dktX0_shelvesFollow_0 : List UInt8 := dkwX0_shelvesFollow_0 ++ dktX0_shelvesFollow_1
theorem dksX0_shelvesFollow_0 : cX0_shelvesFollow.data.toList.drop 0 = dktX0_shelvesFollow_0 := by decide +kernel
theorem dksX0_shelvesFollow_1 : cX0_shelvesFollow.data.toList.drop 22 = dktX0_shelvesFollow_1 := dk_seg dksX0_shelvesFollow_0 22 rfl rfl
theorem dksX0_shelvesFollow_2 : cX0_shelvesFollow.data.toList.drop 44 = dktX0_shelvesFollow_2 := dk_seg dksX0_shelvesFollow_1 22 rfl rfl
theorem dksX0_shelvesFollow_3 : cX0_shelvesFollow.data.toList.drop 68 = dktX0_shelvesFollow_3 := dk_seg dksX0_shelvesFollow_2 24 rfl rfl
theorem dX0_shelvesFollow_0 : decode cX0_shelvesFollow 0 = .ok (.aload_n 0, 1) := dk_42 (dk_at dksX0_shelvesFollow_0 0 rfl rfl)
theorem dX0_shelvesFollow_1 : decode cX0_shelvesFollow 1 = .ok (.getfield 79, 3) := dk_180 0 79 (dk_at dksX0_shelvesFollow_0 1 rfl rfl)
theorem dX0_shelvesFollow_4 : decode cX0_shelvesFollow 4 = .ok (.astore_n 1, 1) := dk_76 (dk_at dksX0_shelvesFollow_0 4 rfl rfl)
theorem dX0_shelvesFollow_5 : decode cX0_shelvesFollow 5 = .ok (.aload_n 1, 1) := dk_43 (dk_at dksX0_shelvesFollow_0 5 rfl rfl)
theorem dX0_shelvesFollow_6 : decode cX0_shelvesFollow 6 = .ok (.arraylength, 1) := dk_190 (dk_at dksX0_shelvesFollow_0 6 rfl rfl)
theorem dX0_shelvesFollow_7 : decode cX0_shelvesFollow 7 = .ok (.istore_n 2, 1) := dk_61 (dk_at dksX0_shelvesFollow_0 7 rfl rfl)
theorem dX0_shelvesFollow_8 : decode cX0_shelvesFollow 8 = .ok (.iconst 0, 1) := dk_3 (dk_at dksX0_shelvesFollow_0 8 rfl rfl)
theorem dX0_shelvesFollow_9 : decode cX0_shelvesFollow 9 = .ok (.istore_n 3, 1) := dk_62 (dk_at dksX0_shelvesFollow_0 9 rfl rfl)
theorem dX0_shelvesFollow_10 : decode cX0_shelvesFollow 10 = .ok (.iload_n 3, 1) := dk_29 (dk_at dksX0_shelvesFollow_0 10 rfl rfl)
theorem dX0_shelvesFollow_11 : decode cX0_shelvesFollow 11 = .ok (.iload_n 2, 1) := dk_28 (dk_at dksX0_shelvesFollow_0 11 rfl rfl)
theorem dX0_shelvesFollow_12 : decode cX0_shelvesFollow 12 = .ok (.if_icmp .ge 66, 3) := dk_162 0 66 (dk_at dksX0_shelvesFollow_0 12 rfl rfl)
theorem dX0_shelvesFollow_15 : decode cX0_shelvesFollow 15 = .ok (.aload_n 1, 1) := dk_43 (dk_at dksX0_shelvesFollow_0 15 rfl rfl)
theorem dX0_shelvesFollow_16 : decode cX0_shelvesFollow 16 = .ok (.iload_n 3, 1) := dk_29 (dk_at dksX0_shelvesFollow_0 16 rfl rfl)
theorem dX0_shelvesFollow_17 : decode cX0_shelvesFollow 17 = .ok (.aaload, 1) := dk_50 (dk_at dksX0_shelvesFollow_0 17 rfl rfl)
theorem dX0_shelvesFollow_18 : decode cX0_shelvesFollow 18 = .ok (.astore 4, 2) := dk_58 4 (dk_at dksX0_shelvesFollow_0 18 rfl rfl)
theorem dX0_shelvesFollow_20 : decode cX0_shelvesFollow 20 = .ok (.aload 4, 2) := dk_25 4 (dk_at dksX0_shelvesFollow_0 20 rfl rfl)
theorem dX0_shelvesFollow_22 : decode cX0_shelvesFollow 22 = .ok (.invokevirtual 144, 3) := dk_182 0 144 (dk_at dksX0_shelvesFollow_1 0 rfl rfl)
theorem dX0_shelvesFollow_25 : decode cX0_shelvesFollow 25 = .ok (.ifCond .eq 47, 3) := dk_153 0 47 (dk_at dksX0_shelvesFollow_1 3 rfl rfl)
theorem dX0_shelvesFollow_28 : decode cX0_shelvesFollow 28 = .ok (.aload 4, 2) := dk_25 4 (dk_at dksX0_shelvesFollow_1 6 rfl rfl)
theorem dX0_shelvesFollow_30 : decode cX0_shelvesFollow 30 = .ok (.getfield 147, 3) := dk_180 0 147 (dk_at dksX0_shelvesFollow_1 8 rfl rfl)
theorem dX0_shelvesFollow_33 : decode cX0_shelvesFollow 33 = .ok (.checkcast 67, 3) := dk_192 0 67 (dk_at dksX0_shelvesFollow_1 11 rfl rfl)
theorem dX0_shelvesFollow_36 : decode cX0_shelvesFollow 36 = .ok (.getfield 150, 3) := dk_180 0 150 (dk_at dksX0_shelvesFollow_1 14 rfl rfl)
theorem dX0_shelvesFollow_39 : decode cX0_shelvesFollow 39 = .ok (.istore 5, 2) := dk_54 5 (dk_at dksX0_shelvesFollow_1 17 rfl rfl)
theorem dX0_shelvesFollow_41 : decode cX0_shelvesFollow 41 = .ok (.aload 4, 2) := dk_25 4 (dk_at dksX0_shelvesFollow_1 19 rfl rfl)
theorem dX0_shelvesFollow_43 : decode cX0_shelvesFollow 43 = .ok (.aload_n 0, 1) := dk_42 (dk_at dksX0_shelvesFollow_1 21 rfl rfl)
theorem dX0_shelvesFollow_44 : decode cX0_shelvesFollow 44 = .ok (.getfield 111, 3) := dk_180 0 111 (dk_at dksX0_shelvesFollow_2 0 rfl rfl)
theorem dX0_shelvesFollow_47 : decode cX0_shelvesFollow 47 = .ok (.iload 5, 2) := dk_21 5 (dk_at dksX0_shelvesFollow_2 3 rfl rfl)
theorem dX0_shelvesFollow_49 : decode cX0_shelvesFollow 49 = .ok (.invokevirtual 137, 3) := dk_182 0 137 (dk_at dksX0_shelvesFollow_2 5 rfl rfl)
theorem dX0_shelvesFollow_52 : decode cX0_shelvesFollow 52 = .ok (.ifCond .eq 16, 3) := dk_153 0 16 (dk_at dksX0_shelvesFollow_2 8 rfl rfl)
theorem dX0_shelvesFollow_55 : decode cX0_shelvesFollow 55 = .ok (.aload_n 0, 1) := dk_42 (dk_at dksX0_shelvesFollow_2 11 rfl rfl)
theorem dX0_shelvesFollow_56 : decode cX0_shelvesFollow 56 = .ok (.getfield 111, 3) := dk_180 0 111 (dk_at dksX0_shelvesFollow_2 12 rfl rfl)
theorem dX0_shelvesFollow_59 : decode cX0_shelvesFollow 59 = .ok (.getfield 140, 3) := dk_180 0 140 (dk_at dksX0_shelvesFollow_2 15 rfl rfl)
theorem dX0_shelvesFollow_62 : decode cX0_shelvesFollow 62 = .ok (.iload 5, 2) := dk_21 5 (dk_at dksX0_shelvesFollow_2 18 rfl rfl)
theorem dX0_shelvesFollow_64 : decode cX0_shelvesFollow 64 = .ok (.aaload, 1) := dk_50 (dk_at dksX0_shelvesFollow_2 20 rfl rfl)
theorem dX0_shelvesFollow_65 : decode cX0_shelvesFollow 65 = .ok (.goto 4, 3) := dk_167 0 4 (dk_at dksX0_shelvesFollow_2 21 rfl rfl)
theorem dX0_shelvesFollow_68 : decode cX0_shelvesFollow 68 = .ok (.aconst_null, 1) := dk_1 (dk_at dksX0_shelvesFollow_3 0 rfl rfl)
theorem dX0_shelvesFollow_69 : decode cX0_shelvesFollow 69 = .ok (.putfield 147, 3) := dk_181 0 147 (dk_at dksX0_shelvesFollow_3 1 rfl rfl)
theorem dX0_shelvesFollow_72 : decode cX0_shelvesFollow 72 = .ok (.iinc 3 1, 3) := dk_132 3 1 (dk_at dksX0_shelvesFollow_3 4 rfl rfl)
theorem dX0_shelvesFollow_75 : decode cX0_shelvesFollow 75 = .ok (.goto (-65), 3) := dk_167 255 191 (dk_at dksX0_shelvesFollow_3 7 rfl rfl)
theorem dX0_shelvesFollow_78 : decode cX0_shelvesFollow 78 = .ok (.return_, 1) := dk_177 (dk_at dksX0_shelvesFollow_3 10 rfl rfl)
abbrev cX0_status : ByteArray := prog_1_method_60_code
def yX0_status : MethodName := ⟨RX0, "status", "(I)I"⟩
def dkwX0_status_7 : List UInt8 := [180, 0, 83, 27, 16, 10, 100, 46, 167, 0, 4, 2, 172]
abbrev dktX0_status_7 : List UInt8 := dkwX0_status_7 ++ []
def dkwX0_status_6 : List UInt8 := [172, 42, 180, 0, 90, 180, 1, 255, 172, 27, 133, 20, 2, 29, 20, 2, 31, 184, 0, 173, 153, 0, 15, 42]
abbrev dktX0_status_6 : List UInt8 := dkwX0_status_6 ++ dktX0_status_7
def dkwX0_status_5 : List UInt8 := [167, 0, 24, 42, 180, 0, 111, 180, 0, 133, 42, 180, 0, 111, 180, 0, 229, 4, 100, 50, 180, 0, 236, 190]
abbrev dktX0_status_5 : List UInt8 := dkwX0_status_5 ++ dktX0_status_6
def dkwX0_status_4 : List UInt8 := [180, 1, 19, 172, 42, 180, 0, 111, 180, 1, 252, 172, 42, 180, 0, 111, 180, 0, 229, 154, 0, 7, 3]
abbrev dktX0_status_4 : List UInt8 := dkwX0_status_4 ++ dktX0_status_5
def dkwX0_status_3 : List UInt8 := [182, 2, 26, 172, 42, 180, 0, 111, 180, 1, 14, 172, 42, 180, 0, 111, 180, 1, 17, 172, 42, 180, 0, 111]
abbrev dktX0_status_3 : List UInt8 := dkwX0_status_3 ++ dktX0_status_4
def dkwX0_status_2 : List UInt8 := [42, 180, 0, 111, 180, 0, 229, 172, 42, 180, 0, 111, 180, 1, 61, 172, 42, 182, 2, 23, 172, 42]
abbrev dktX0_status_2 : List UInt8 := dkwX0_status_2 ++ dktX0_status_3
def dkwX0_status_1 : List UInt8 := [170, 0, 0, 0, 0, 0, 157, 0, 0, 0, 0, 0, 0, 0, 9, 0, 0, 0, 55, 0, 0, 0, 63, 0, 0, 0, 71, 0, 0, 0, 76, 0, 0, 0, 81, 0, 0, 0, 89, 0, 0, 0, 97, 0, 0, 0, 105, 0, 0, 0, 113, 0, 0, 0, 149]
abbrev dktX0_status_1 : List UInt8 := dkwX0_status_1 ++ dktX0_status_2
def dkwX0_status_0 : List UInt8 := [27]
abbrev dktX0_status_0 : List UInt8 := dkwX0_status_0 ++ dktX0_status_1
theorem dksX0_status_0 : cX0_status.data.toList.drop 0 = dktX0_status_0 := by decide +kernel
theorem dksX0_status_1 : cX0_status.data.toList.drop 1 = dktX0_status_1 := dk_seg dksX0_status_0 1 rfl rfl
theorem dksX0_status_2 : cX0_status.data.toList.drop 56 = dktX0_status_2 := dk_seg dksX0_status_1 55 rfl rfl
theorem dksX0_status_3 : cX0_status.data.toList.drop 78 = dktX0_status_3 := dk_seg dksX0_status_2 22 rfl rfl
theorem dksX0_status_4 : cX0_status.data.toList.drop 102 = dktX0_status_4 := dk_seg dksX0_status_3 24 rfl rfl
theorem dksX0_status_5 : cX0_status.data.toList.drop 125 = dktX0_status_5 := dk_seg dksX0_status_4 23 rfl rfl
theorem dksX0_status_6 : cX0_status.data.toList.drop 149 = dktX0_status_6 := dk_seg dksX0_status_5 24 rfl rfl
theorem dksX0_status_7 : cX0_status.data.toList.drop 173 = dktX0_status_7 := dk_seg dksX0_status_6 24 rfl rfl
theorem dX0_status_0 : decode cX0_status 0 = .ok (.iload_n 1, 1) := dk_27 (dk_at dksX0_status_0 0 rfl rfl)
theorem dX0_status_1 : decode cX0_status 1 = .ok (.tableswitch 157 0 9 #[55, 63, 71, 76, 81, 89, 97, 105, 113, 149], 55) := by decide +kernel
theorem dX0_status_56 : decode cX0_status 56 = .ok (.aload_n 0, 1) := dk_42 (dk_at dksX0_status_2 0 rfl rfl)
theorem dX0_status_57 : decode cX0_status 57 = .ok (.getfield 111, 3) := dk_180 0 111 (dk_at dksX0_status_2 1 rfl rfl)
theorem dX0_status_60 : decode cX0_status 60 = .ok (.getfield 229, 3) := dk_180 0 229 (dk_at dksX0_status_2 4 rfl rfl)
theorem dX0_status_63 : decode cX0_status 63 = .ok (.ireturn, 1) := dk_172 (dk_at dksX0_status_2 7 rfl rfl)
theorem dX0_status_64 : decode cX0_status 64 = .ok (.aload_n 0, 1) := dk_42 (dk_at dksX0_status_2 8 rfl rfl)
theorem dX0_status_65 : decode cX0_status 65 = .ok (.getfield 111, 3) := dk_180 0 111 (dk_at dksX0_status_2 9 rfl rfl)
theorem dX0_status_68 : decode cX0_status 68 = .ok (.getfield 317, 3) := dk_180 1 61 (dk_at dksX0_status_2 12 rfl rfl)
theorem dX0_status_71 : decode cX0_status 71 = .ok (.ireturn, 1) := dk_172 (dk_at dksX0_status_2 15 rfl rfl)
theorem dX0_status_72 : decode cX0_status 72 = .ok (.aload_n 0, 1) := dk_42 (dk_at dksX0_status_2 16 rfl rfl)
theorem dX0_status_73 : decode cX0_status 73 = .ok (.invokevirtual 535, 3) := dk_182 2 23 (dk_at dksX0_status_2 17 rfl rfl)
theorem dX0_status_76 : decode cX0_status 76 = .ok (.ireturn, 1) := dk_172 (dk_at dksX0_status_2 20 rfl rfl)
theorem dX0_status_77 : decode cX0_status 77 = .ok (.aload_n 0, 1) := dk_42 (dk_at dksX0_status_2 21 rfl rfl)
theorem dX0_status_78 : decode cX0_status 78 = .ok (.invokevirtual 538, 3) := dk_182 2 26 (dk_at dksX0_status_3 0 rfl rfl)
theorem dX0_status_81 : decode cX0_status 81 = .ok (.ireturn, 1) := dk_172 (dk_at dksX0_status_3 3 rfl rfl)
theorem dX0_status_82 : decode cX0_status 82 = .ok (.aload_n 0, 1) := dk_42 (dk_at dksX0_status_3 4 rfl rfl)
theorem dX0_status_83 : decode cX0_status 83 = .ok (.getfield 111, 3) := dk_180 0 111 (dk_at dksX0_status_3 5 rfl rfl)
theorem dX0_status_86 : decode cX0_status 86 = .ok (.getfield 270, 3) := dk_180 1 14 (dk_at dksX0_status_3 8 rfl rfl)
theorem dX0_status_89 : decode cX0_status 89 = .ok (.ireturn, 1) := dk_172 (dk_at dksX0_status_3 11 rfl rfl)
theorem dX0_status_90 : decode cX0_status 90 = .ok (.aload_n 0, 1) := dk_42 (dk_at dksX0_status_3 12 rfl rfl)
theorem dX0_status_91 : decode cX0_status 91 = .ok (.getfield 111, 3) := dk_180 0 111 (dk_at dksX0_status_3 13 rfl rfl)
theorem dX0_status_94 : decode cX0_status 94 = .ok (.getfield 273, 3) := dk_180 1 17 (dk_at dksX0_status_3 16 rfl rfl)
theorem dX0_status_97 : decode cX0_status 97 = .ok (.ireturn, 1) := dk_172 (dk_at dksX0_status_3 19 rfl rfl)
theorem dX0_status_98 : decode cX0_status 98 = .ok (.aload_n 0, 1) := dk_42 (dk_at dksX0_status_3 20 rfl rfl)
theorem dX0_status_99 : decode cX0_status 99 = .ok (.getfield 111, 3) := dk_180 0 111 (dk_at dksX0_status_3 21 rfl rfl)
theorem dX0_status_102 : decode cX0_status 102 = .ok (.getfield 275, 3) := dk_180 1 19 (dk_at dksX0_status_4 0 rfl rfl)
theorem dX0_status_105 : decode cX0_status 105 = .ok (.ireturn, 1) := dk_172 (dk_at dksX0_status_4 3 rfl rfl)
theorem dX0_status_106 : decode cX0_status 106 = .ok (.aload_n 0, 1) := dk_42 (dk_at dksX0_status_4 4 rfl rfl)
theorem dX0_status_107 : decode cX0_status 107 = .ok (.getfield 111, 3) := dk_180 0 111 (dk_at dksX0_status_4 5 rfl rfl)
theorem dX0_status_110 : decode cX0_status 110 = .ok (.getfield 508, 3) := dk_180 1 252 (dk_at dksX0_status_4 8 rfl rfl)
theorem dX0_status_113 : decode cX0_status 113 = .ok (.ireturn, 1) := dk_172 (dk_at dksX0_status_4 11 rfl rfl)
theorem dX0_status_114 : decode cX0_status 114 = .ok (.aload_n 0, 1) := dk_42 (dk_at dksX0_status_4 12 rfl rfl)
theorem dX0_status_115 : decode cX0_status 115 = .ok (.getfield 111, 3) := dk_180 0 111 (dk_at dksX0_status_4 13 rfl rfl)
theorem dX0_status_118 : decode cX0_status 118 = .ok (.getfield 229, 3) := dk_180 0 229 (dk_at dksX0_status_4 16 rfl rfl)
theorem dX0_status_121 : decode cX0_status 121 = .ok (.ifCond .ne 7, 3) := dk_154 0 7 (dk_at dksX0_status_4 19 rfl rfl)
theorem dX0_status_124 : decode cX0_status 124 = .ok (.iconst 0, 1) := dk_3 (dk_at dksX0_status_4 22 rfl rfl)
theorem dX0_status_125 : decode cX0_status 125 = .ok (.goto 24, 3) := dk_167 0 24 (dk_at dksX0_status_5 0 rfl rfl)
theorem dX0_status_128 : decode cX0_status 128 = .ok (.aload_n 0, 1) := dk_42 (dk_at dksX0_status_5 3 rfl rfl)
theorem dX0_status_129 : decode cX0_status 129 = .ok (.getfield 111, 3) := dk_180 0 111 (dk_at dksX0_status_5 4 rfl rfl)
theorem dX0_status_132 : decode cX0_status 132 = .ok (.getfield 133, 3) := dk_180 0 133 (dk_at dksX0_status_5 7 rfl rfl)
theorem dX0_status_135 : decode cX0_status 135 = .ok (.aload_n 0, 1) := dk_42 (dk_at dksX0_status_5 10 rfl rfl)
theorem dX0_status_136 : decode cX0_status 136 = .ok (.getfield 111, 3) := dk_180 0 111 (dk_at dksX0_status_5 11 rfl rfl)
theorem dX0_status_139 : decode cX0_status 139 = .ok (.getfield 229, 3) := dk_180 0 229 (dk_at dksX0_status_5 14 rfl rfl)
theorem dX0_status_142 : decode cX0_status 142 = .ok (.iconst 1, 1) := dk_4 (dk_at dksX0_status_5 17 rfl rfl)
theorem dX0_status_143 : decode cX0_status 143 = .ok (.isub, 1) := dk_100 (dk_at dksX0_status_5 18 rfl rfl)
theorem dX0_status_144 : decode cX0_status 144 = .ok (.aaload, 1) := dk_50 (dk_at dksX0_status_5 19 rfl rfl)
theorem dX0_status_145 : decode cX0_status 145 = .ok (.getfield 236, 3) := dk_180 0 236 (dk_at dksX0_status_5 20 rfl rfl)
theorem dX0_status_148 : decode cX0_status 148 = .ok (.arraylength, 1) := dk_190 (dk_at dksX0_status_5 23 rfl rfl)
theorem dX0_status_149 : decode cX0_status 149 = .ok (.ireturn, 1) := dk_172 (dk_at dksX0_status_6 0 rfl rfl)
theorem dX0_status_150 : decode cX0_status 150 = .ok (.aload_n 0, 1) := dk_42 (dk_at dksX0_status_6 1 rfl rfl)
theorem dX0_status_151 : decode cX0_status 151 = .ok (.getfield 90, 3) := dk_180 0 90 (dk_at dksX0_status_6 2 rfl rfl)
theorem dX0_status_154 : decode cX0_status 154 = .ok (.getfield 511, 3) := dk_180 1 255 (dk_at dksX0_status_6 5 rfl rfl)
theorem dX0_status_157 : decode cX0_status 157 = .ok (.ireturn, 1) := dk_172 (dk_at dksX0_status_6 8 rfl rfl)
theorem dX0_status_158 : decode cX0_status 158 = .ok (.iload_n 1, 1) := dk_27 (dk_at dksX0_status_6 9 rfl rfl)
theorem dX0_status_159 : decode cX0_status 159 = .ok (.i2l, 1) := dk_133 (dk_at dksX0_status_6 10 rfl rfl)
theorem dX0_status_160 : decode cX0_status 160 = .ok (.ldc2_w 541, 3) := dk_20 2 29 (dk_at dksX0_status_6 11 rfl rfl)
theorem dX0_status_163 : decode cX0_status 163 = .ok (.ldc2_w 543, 3) := dk_20 2 31 (dk_at dksX0_status_6 14 rfl rfl)
theorem dX0_status_166 : decode cX0_status 166 = .ok (.invokestatic 173, 3) := dk_184 0 173 (dk_at dksX0_status_6 17 rfl rfl)
theorem dX0_status_169 : decode cX0_status 169 = .ok (.ifCond .eq 15, 3) := dk_153 0 15 (dk_at dksX0_status_6 20 rfl rfl)
theorem dX0_status_172 : decode cX0_status 172 = .ok (.aload_n 0, 1) := dk_42 (dk_at dksX0_status_6 23 rfl rfl)
theorem dX0_status_173 : decode cX0_status 173 = .ok (.getfield 83, 3) := dk_180 0 83 (dk_at dksX0_status_7 0 rfl rfl)
theorem dX0_status_176 : decode cX0_status 176 = .ok (.iload_n 1, 1) := dk_27 (dk_at dksX0_status_7 3 rfl rfl)
theorem dX0_status_177 : decode cX0_status 177 = .ok (.bipush 10, 2) := dk_16 10 (dk_at dksX0_status_7 4 rfl rfl)
theorem dX0_status_179 : decode cX0_status 179 = .ok (.isub, 1) := dk_100 (dk_at dksX0_status_7 6 rfl rfl)
theorem dX0_status_180 : decode cX0_status 180 = .ok (.iaload, 1) := dk_46 (dk_at dksX0_status_7 7 rfl rfl)
theorem dX0_status_181 : decode cX0_status 181 = .ok (.goto 4, 3) := dk_167 0 4 (dk_at dksX0_status_7 8 rfl rfl)
theorem dX0_status_184 : decode cX0_status 184 = .ok (.iconst (-1), 1) := dk_2 (dk_at dksX0_status_7 11 rfl rfl)
theorem dX0_status_185 : decode cX0_status 185 = .ok (.ireturn, 1) := dk_172 (dk_at dksX0_status_7 12 rfl rfl)
abbrev cX0_settledMany : ByteArray := prog_1_method_58_code
def yX0_settledMany : MethodName := ⟨RX0, "settledMany", "()I"⟩
def dkwX0_settledMany_1 : List UInt8 := [51, 153, 0, 7, 4, 167, 0, 4, 3, 96, 60, 132, 2, 1, 167, 255, 222, 27, 172]
abbrev dktX0_settledMany_1 : List UInt8 := dkwX0_settledMany_1 ++ []
def dkwX0_settledMany_0 : List UInt8 := [3, 60, 3, 61, 28, 42, 180, 0, 111, 180, 1, 61, 162, 0, 29, 27, 42, 180, 0, 111, 180, 1, 89, 28]
abbrev dktX0_settledMany_0 : List UInt8 := dkwX0_settledMany_0 ++ dktX0_settledMany_1
theorem dksX0_settledMany_0 : cX0_settledMany.data.toList.drop 0 = dktX0_settledMany_0 := by decide +kernel
theorem dksX0_settledMany_1 : cX0_settledMany.data.toList.drop 24 = dktX0_settledMany_1 := dk_seg dksX0_settledMany_0 24 rfl rfl
theorem dX0_settledMany_0 : decode cX0_settledMany 0 = .ok (.iconst 0, 1) := dk_3 (dk_at dksX0_settledMany_0 0 rfl rfl)
theorem dX0_settledMany_1 : decode cX0_settledMany 1 = .ok (.istore_n 1, 1) := dk_60 (dk_at dksX0_settledMany_0 1 rfl rfl)
theorem dX0_settledMany_2 : decode cX0_settledMany 2 = .ok (.iconst 0, 1) := dk_3 (dk_at dksX0_settledMany_0 2 rfl rfl)
theorem dX0_settledMany_3 : decode cX0_settledMany 3 = .ok (.istore_n 2, 1) := dk_61 (dk_at dksX0_settledMany_0 3 rfl rfl)
theorem dX0_settledMany_4 : decode cX0_settledMany 4 = .ok (.iload_n 2, 1) := dk_28 (dk_at dksX0_settledMany_0 4 rfl rfl)
theorem dX0_settledMany_5 : decode cX0_settledMany 5 = .ok (.aload_n 0, 1) := dk_42 (dk_at dksX0_settledMany_0 5 rfl rfl)
theorem dX0_settledMany_6 : decode cX0_settledMany 6 = .ok (.getfield 111, 3) := dk_180 0 111 (dk_at dksX0_settledMany_0 6 rfl rfl)
theorem dX0_settledMany_9 : decode cX0_settledMany 9 = .ok (.getfield 317, 3) := dk_180 1 61 (dk_at dksX0_settledMany_0 9 rfl rfl)
theorem dX0_settledMany_12 : decode cX0_settledMany 12 = .ok (.if_icmp .ge 29, 3) := dk_162 0 29 (dk_at dksX0_settledMany_0 12 rfl rfl)
theorem dX0_settledMany_15 : decode cX0_settledMany 15 = .ok (.iload_n 1, 1) := dk_27 (dk_at dksX0_settledMany_0 15 rfl rfl)
theorem dX0_settledMany_16 : decode cX0_settledMany 16 = .ok (.aload_n 0, 1) := dk_42 (dk_at dksX0_settledMany_0 16 rfl rfl)
theorem dX0_settledMany_17 : decode cX0_settledMany 17 = .ok (.getfield 111, 3) := dk_180 0 111 (dk_at dksX0_settledMany_0 17 rfl rfl)
theorem dX0_settledMany_20 : decode cX0_settledMany 20 = .ok (.getfield 345, 3) := dk_180 1 89 (dk_at dksX0_settledMany_0 20 rfl rfl)
theorem dX0_settledMany_23 : decode cX0_settledMany 23 = .ok (.iload_n 2, 1) := dk_28 (dk_at dksX0_settledMany_0 23 rfl rfl)
theorem dX0_settledMany_24 : decode cX0_settledMany 24 = .ok (.baload, 1) := dk_51 (dk_at dksX0_settledMany_1 0 rfl rfl)
theorem dX0_settledMany_25 : decode cX0_settledMany 25 = .ok (.ifCond .eq 7, 3) := dk_153 0 7 (dk_at dksX0_settledMany_1 1 rfl rfl)
theorem dX0_settledMany_28 : decode cX0_settledMany 28 = .ok (.iconst 1, 1) := dk_4 (dk_at dksX0_settledMany_1 4 rfl rfl)
theorem dX0_settledMany_29 : decode cX0_settledMany 29 = .ok (.goto 4, 3) := dk_167 0 4 (dk_at dksX0_settledMany_1 5 rfl rfl)
theorem dX0_settledMany_32 : decode cX0_settledMany 32 = .ok (.iconst 0, 1) := dk_3 (dk_at dksX0_settledMany_1 8 rfl rfl)
theorem dX0_settledMany_33 : decode cX0_settledMany 33 = .ok (.iadd, 1) := dk_96 (dk_at dksX0_settledMany_1 9 rfl rfl)
theorem dX0_settledMany_34 : decode cX0_settledMany 34 = .ok (.istore_n 1, 1) := dk_60 (dk_at dksX0_settledMany_1 10 rfl rfl)
theorem dX0_settledMany_35 : decode cX0_settledMany 35 = .ok (.iinc 2 1, 3) := dk_132 2 1 (dk_at dksX0_settledMany_1 11 rfl rfl)
theorem dX0_settledMany_38 : decode cX0_settledMany 38 = .ok (.goto (-34), 3) := dk_167 255 222 (dk_at dksX0_settledMany_1 14 rfl rfl)
theorem dX0_settledMany_41 : decode cX0_settledMany 41 = .ok (.iload_n 1, 1) := dk_27 (dk_at dksX0_settledMany_1 17 rfl rfl)
theorem dX0_settledMany_42 : decode cX0_settledMany 42 = .ok (.ireturn, 1) := dk_172 (dk_at dksX0_settledMany_1 18 rfl rfl)
abbrev cX0_openRoots : ByteArray := prog_1_method_59_code
def yX0_openRoots : MethodName := ⟨RX0, "openRoots", "()I"⟩
def dkwX0_openRoots_2 : List UInt8 := [96, 60, 132, 2, 1, 167, 255, 207, 27, 172]
abbrev dktX0_openRoots_2 : List UInt8 := dkwX0_openRoots_2 ++ []
def dkwX0_openRoots_1 : List UInt8 := [50, 180, 1, 86, 2, 160, 0, 18, 42, 180, 0, 111, 28, 182, 1, 99, 153, 0, 7, 4, 167, 0, 4, 3]
abbrev dktX0_openRoots_1 : List UInt8 := dkwX0_openRoots_1 ++ dktX0_openRoots_2
def dkwX0_openRoots_0 : List UInt8 := [3, 60, 3, 61, 28, 42, 180, 0, 111, 180, 1, 61, 162, 0, 44, 27, 42, 180, 0, 111, 180, 0, 140, 28]
abbrev dktX0_openRoots_0 : List UInt8 := dkwX0_openRoots_0 ++ dktX0_openRoots_1
theorem dksX0_openRoots_0 : cX0_openRoots.data.toList.drop 0 = dktX0_openRoots_0 := by decide +kernel
theorem dksX0_openRoots_1 : cX0_openRoots.data.toList.drop 24 = dktX0_openRoots_1 := dk_seg dksX0_openRoots_0 24 rfl rfl
theorem dksX0_openRoots_2 : cX0_openRoots.data.toList.drop 48 = dktX0_openRoots_2 := dk_seg dksX0_openRoots_1 24 rfl rfl
theorem dX0_openRoots_0 : decode cX0_openRoots 0 = .ok (.iconst 0, 1) := dk_3 (dk_at dksX0_openRoots_0 0 rfl rfl)
theorem dX0_openRoots_1 : decode cX0_openRoots 1 = .ok (.istore_n 1, 1) := dk_60 (dk_at dksX0_openRoots_0 1 rfl rfl)
theorem dX0_openRoots_2 : decode cX0_openRoots 2 = .ok (.iconst 0, 1) := dk_3 (dk_at dksX0_openRoots_0 2 rfl rfl)
theorem dX0_openRoots_3 : decode cX0_openRoots 3 = .ok (.istore_n 2, 1) := dk_61 (dk_at dksX0_openRoots_0 3 rfl rfl)
theorem dX0_openRoots_4 : decode cX0_openRoots 4 = .ok (.iload_n 2, 1) := dk_28 (dk_at dksX0_openRoots_0 4 rfl rfl)
theorem dX0_openRoots_5 : decode cX0_openRoots 5 = .ok (.aload_n 0, 1) := dk_42 (dk_at dksX0_openRoots_0 5 rfl rfl)
theorem dX0_openRoots_6 : decode cX0_openRoots 6 = .ok (.getfield 111, 3) := dk_180 0 111 (dk_at dksX0_openRoots_0 6 rfl rfl)
theorem dX0_openRoots_9 : decode cX0_openRoots 9 = .ok (.getfield 317, 3) := dk_180 1 61 (dk_at dksX0_openRoots_0 9 rfl rfl)
theorem dX0_openRoots_12 : decode cX0_openRoots 12 = .ok (.if_icmp .ge 44, 3) := dk_162 0 44 (dk_at dksX0_openRoots_0 12 rfl rfl)
theorem dX0_openRoots_15 : decode cX0_openRoots 15 = .ok (.iload_n 1, 1) := dk_27 (dk_at dksX0_openRoots_0 15 rfl rfl)
theorem dX0_openRoots_16 : decode cX0_openRoots 16 = .ok (.aload_n 0, 1) := dk_42 (dk_at dksX0_openRoots_0 16 rfl rfl)
theorem dX0_openRoots_17 : decode cX0_openRoots 17 = .ok (.getfield 111, 3) := dk_180 0 111 (dk_at dksX0_openRoots_0 17 rfl rfl)
theorem dX0_openRoots_20 : decode cX0_openRoots 20 = .ok (.getfield 140, 3) := dk_180 0 140 (dk_at dksX0_openRoots_0 20 rfl rfl)
theorem dX0_openRoots_23 : decode cX0_openRoots 23 = .ok (.iload_n 2, 1) := dk_28 (dk_at dksX0_openRoots_0 23 rfl rfl)
theorem dX0_openRoots_24 : decode cX0_openRoots 24 = .ok (.aaload, 1) := dk_50 (dk_at dksX0_openRoots_1 0 rfl rfl)
theorem dX0_openRoots_25 : decode cX0_openRoots 25 = .ok (.getfield 342, 3) := dk_180 1 86 (dk_at dksX0_openRoots_1 1 rfl rfl)
theorem dX0_openRoots_28 : decode cX0_openRoots 28 = .ok (.iconst (-1), 1) := dk_2 (dk_at dksX0_openRoots_1 4 rfl rfl)
theorem dX0_openRoots_29 : decode cX0_openRoots 29 = .ok (.if_icmp .ne 18, 3) := dk_160 0 18 (dk_at dksX0_openRoots_1 5 rfl rfl)
theorem dX0_openRoots_32 : decode cX0_openRoots 32 = .ok (.aload_n 0, 1) := dk_42 (dk_at dksX0_openRoots_1 8 rfl rfl)
theorem dX0_openRoots_33 : decode cX0_openRoots 33 = .ok (.getfield 111, 3) := dk_180 0 111 (dk_at dksX0_openRoots_1 9 rfl rfl)
theorem dX0_openRoots_36 : decode cX0_openRoots 36 = .ok (.iload_n 2, 1) := dk_28 (dk_at dksX0_openRoots_1 12 rfl rfl)
theorem dX0_openRoots_37 : decode cX0_openRoots 37 = .ok (.invokevirtual 355, 3) := dk_182 1 99 (dk_at dksX0_openRoots_1 13 rfl rfl)
theorem dX0_openRoots_40 : decode cX0_openRoots 40 = .ok (.ifCond .eq 7, 3) := dk_153 0 7 (dk_at dksX0_openRoots_1 16 rfl rfl)
theorem dX0_openRoots_43 : decode cX0_openRoots 43 = .ok (.iconst 1, 1) := dk_4 (dk_at dksX0_openRoots_1 19 rfl rfl)
theorem dX0_openRoots_44 : decode cX0_openRoots 44 = .ok (.goto 4, 3) := dk_167 0 4 (dk_at dksX0_openRoots_1 20 rfl rfl)
theorem dX0_openRoots_47 : decode cX0_openRoots 47 = .ok (.iconst 0, 1) := dk_3 (dk_at dksX0_openRoots_1 23 rfl rfl)
theorem dX0_openRoots_48 : decode cX0_openRoots 48 = .ok (.iadd, 1) := dk_96 (dk_at dksX0_openRoots_2 0 rfl rfl)
theorem dX0_openRoots_49 : decode cX0_openRoots 49 = .ok (.istore_n 1, 1) := dk_60 (dk_at dksX0_openRoots_2 1 rfl rfl)
theorem dX0_openRoots_50 : decode cX0_openRoots 50 = .ok (.iinc 2 1, 3) := dk_132 2 1 (dk_at dksX0_openRoots_2 2 rfl rfl)
theorem dX0_openRoots_53 : decode cX0_openRoots 53 = .ok (.goto (-49), 3) := dk_167 255 207 (dk_at dksX0_openRoots_2 5 rfl rfl)
theorem dX0_openRoots_56 : decode cX0_openRoots 56 = .ok (.iload_n 1, 1) := dk_27 (dk_at dksX0_openRoots_2 8 rfl rfl)
theorem dX0_openRoots_57 : decode cX0_openRoots 57 = .ok (.ireturn, 1) := dk_172 (dk_at dksX0_openRoots_2 9 rfl rfl)
theorem q87 : (Jvm.Cond.initialized "LineRemarks") ∈ lw_all := lw_g (lw_at lw_m1 1 rfl) rfl
theorem q165 : (Jvm.Cond.instantiable "LineRemarks" (7 : Nat)) ∈ lw_all := lw_g (lw_at lw_m1 79 rfl) rfl
theorem q167 : (Jvm.Cond.instanceMethod ({ cls := "LineRemarks", name := "<init>", desc := "()V" } : Jvm.MethodName)) ∈ lw_all := lw_g (lw_at lw_m1 81 rfl) rfl
theorem q168 : (Jvm.Cond.code ({ cls := "LineRemarks", name := "<init>", desc := "()V" } : Jvm.MethodName) prog_1_method_6_code (2 : Nat) (Option.none : Option Jvm.ClassFile.FieldType)) ∈ lw_all := lw_g (lw_at lw_m1 82 rfl) rfl
theorem q169 : (Jvm.Cond.methodLink "LineRemarks" (70 : Nat) ({ cls := "java/lang/Object", name := "<init>", desc := "()V" } : Jvm.MethodName)) ∈ lw_all := lw_g (lw_at lw_m1 83 rfl) rfl
theorem q172 : (Jvm.Cond.classLink "LineRemarks" (77 : Nat) "LineRemarks$Shelf") ∈ lw_all := lw_g (lw_at lw_m1 86 rfl) rfl
theorem q174 : (Jvm.Cond.classLink "LineRemarks" (87 : Nat) "LineRemarks$Trace") ∈ lw_all := lw_g (lw_at lw_m1 88 rfl) rfl
theorem q176 : (Jvm.Cond.methodLink "LineRemarks" (89 : Nat) ({ cls := "LineRemarks$Trace", name := "<init>", desc := "()V" } : Jvm.MethodName)) ∈ lw_all := lw_g (lw_at lw_m1 90 rfl) rfl
theorem q181 : (Jvm.Cond.fieldLink "LineRemarks" (522 : Nat) "LineRemarks$Trace" "bodies" "[I") ∈ lw_all := lw_g (lw_at lw_m1 95 rfl) rfl
theorem q183 : (Jvm.Cond.fieldLink "LineRemarks" (511 : Nat) "LineRemarks$Trace" "many" "I") ∈ lw_all := lw_g (lw_at lw_m1 97 rfl) rfl
theorem q190 : (Jvm.Cond.methodLink "LineRemarks" (94 : Nat) ({ cls := "java/lang/Integer", name := "valueOf", desc := "(I)Ljava/lang/Integer;" } : Jvm.MethodName)) ∈ lw_all := lw_g (lw_at lw_m1 104 rfl) rfl
theorem q210 : (Jvm.Cond.methodLink "LineRemarks" (100 : Nat) ({ cls := "java/util/List", name := "of", desc := "(Ljava/lang/Object;Ljava/lang/Object;Ljava/lang/Object;Ljava/lang/Object;Ljava/lang/Object;Ljava/lang/Object;Ljava/lang/Object;)Ljava/util/List;" } : Jvm.MethodName)) ∈ lw_all := lw_g (lw_at lw_m1 124 rfl) rfl
theorem q223 : (Jvm.Cond.selects "LineRemarks" ({ cls := "java/lang/Object", name := "getClass", desc := "()Ljava/lang/Class;" } : Jvm.MethodName) ({ cls := "java/lang/Object", name := "getClass", desc := "()Ljava/lang/Class;" } : Jvm.MethodName)) ∈ lw_all := lw_g (lw_at lw_m1 137 rfl) rfl
theorem q323 : (Jvm.Cond.classLink "LineRemarks" (108 : Nat) "LineRemarks$World") ∈ lw_all := lw_g (lw_at lw_m1 237 rfl) rfl
theorem q325 : (Jvm.Cond.methodLink "LineRemarks" (110 : Nat) ({ cls := "LineRemarks$World", name := "<init>", desc := "()V" } : Jvm.MethodName)) ∈ lw_all := lw_g (lw_at lw_m1 239 rfl) rfl
theorem q334 : (Jvm.Cond.fieldLink "LineRemarks" (229 : Nat) "LineRemarks$World" "many" "I") ∈ lw_all := lw_g (lw_at lw_m2 8 rfl) rfl
theorem q336 : (Jvm.Cond.fieldLink "LineRemarks" (317 : Nat) "LineRemarks$World" "made" "I") ∈ lw_all := lw_g (lw_at lw_m2 10 rfl) rfl
theorem q339 : (Jvm.Cond.fieldLink "LineRemarks" (270 : Nat) "LineRemarks$World" "run" "I") ∈ lw_all := lw_g (lw_at lw_m2 13 rfl) rfl
theorem q342 : (Jvm.Cond.fieldLink "LineRemarks" (273 : Nat) "LineRemarks$World" "need" "I") ∈ lw_all := lw_g (lw_at lw_m2 16 rfl) rfl
theorem q345 : (Jvm.Cond.fieldLink "LineRemarks" (275 : Nat) "LineRemarks$World" "margin" "I") ∈ lw_all := lw_g (lw_at lw_m2 19 rfl) rfl
theorem q347 : (Jvm.Cond.fieldLink "LineRemarks" (508 : Nat) "LineRemarks$World" "seed" "I") ∈ lw_all := lw_g (lw_at lw_m2 21 rfl) rfl
theorem q349 : (Jvm.Cond.fieldLink "LineRemarks" (133 : Nat) "LineRemarks$World" "revisions" "[LLineRemarks$Revision;") ∈ lw_all := lw_g (lw_at lw_m2 23 rfl) rfl
theorem q351 : (Jvm.Cond.fieldLink "LineRemarks" (140 : Nat) "LineRemarks$World" "remarks" "[LLineRemarks$Remark;") ∈ lw_all := lw_g (lw_at lw_m2 25 rfl) rfl
theorem q353 : (Jvm.Cond.fieldLink "LineRemarks" (345 : Nat) "LineRemarks$World" "settled" "[Z") ∈ lw_all := lw_g (lw_at lw_m2 27 rfl) rfl
theorem q375 : (Jvm.Cond.methodLink "LineRemarks" (119 : Nat) ({ cls := "LineRemarks$Shelf", name := "<init>", desc := "()V" } : Jvm.MethodName)) ∈ lw_all := lw_g (lw_at lw_m2 49 rfl) rfl
theorem q380 : (Jvm.Cond.fieldLink "LineRemarks" (147 : Nat) "LineRemarks$Shelf" "held" "Ljava/lang/Object;") ∈ lw_all := lw_g (lw_at lw_m2 54 rfl) rfl
theorem q384 : (Jvm.Cond.fieldLink "LineRemarks" (79 : Nat) "LineRemarks" "shelves" "[LLineRemarks$Shelf;") ∈ lw_all := lw_g (lw_at lw_m2 58 rfl) rfl
theorem q385 : (Jvm.Cond.fieldLink "LineRemarks" (83 : Nat) "LineRemarks" "refusals" "[I") ∈ lw_all := lw_g (lw_at lw_m2 59 rfl) rfl
theorem q386 : (Jvm.Cond.fieldLink "LineRemarks" (90 : Nat) "LineRemarks" "ran" "LLineRemarks$Trace;") ∈ lw_all := lw_g (lw_at lw_m2 60 rfl) rfl
theorem q387 : (Jvm.Cond.fieldLink "LineRemarks" (104 : Nat) "LineRemarks" "kinds" "Ljava/util/List;") ∈ lw_all := lw_g (lw_at lw_m2 61 rfl) rfl
theorem q388 : (Jvm.Cond.fieldLink "LineRemarks" (111 : Nat) "LineRemarks" "w" "LLineRemarks$World;") ∈ lw_all := lw_g (lw_at lw_m2 62 rfl) rfl
theorem q389 : (Jvm.Cond.fieldLink "LineRemarks" (529 : Nat) "LineRemarks" "imaged" "LLineRemarks$World;") ∈ lw_all := lw_g (lw_at lw_m2 63 rfl) rfl
theorem q390 : (Jvm.Cond.fieldLink "LineRemarks" (115 : Nat) "LineRemarks" "latestFault" "I") ∈ lw_all := lw_g (lw_at lw_m2 64 rfl) rfl
theorem q391 : (Jvm.Cond.laysFinal "LineRemarks" "LineRemarks" "shelves" "[LLineRemarks$Shelf;") ∈ lw_all := lw_g (lw_at lw_m2 65 rfl) rfl
theorem q392 : (Jvm.Cond.soleField "LineRemarks" "shelves") ∈ lw_all := lw_g (lw_at lw_m2 66 rfl) rfl
theorem q393 : (Jvm.Cond.laysFinal "LineRemarks" "LineRemarks" "refusals" "[I") ∈ lw_all := lw_g (lw_at lw_m2 67 rfl) rfl
theorem q394 : (Jvm.Cond.soleField "LineRemarks" "refusals") ∈ lw_all := lw_g (lw_at lw_m2 68 rfl) rfl
theorem q395 : (Jvm.Cond.laysFinal "LineRemarks" "LineRemarks" "ran" "LLineRemarks$Trace;") ∈ lw_all := lw_g (lw_at lw_m2 69 rfl) rfl
theorem q396 : (Jvm.Cond.soleField "LineRemarks" "ran") ∈ lw_all := lw_g (lw_at lw_m2 70 rfl) rfl
theorem q397 : (Jvm.Cond.laysFinal "LineRemarks" "LineRemarks" "kinds" "Ljava/util/List;") ∈ lw_all := lw_g (lw_at lw_m2 71 rfl) rfl
theorem q398 : (Jvm.Cond.soleField "LineRemarks" "kinds") ∈ lw_all := lw_g (lw_at lw_m2 72 rfl) rfl
theorem q399 : (Jvm.Cond.lays "LineRemarks" "LineRemarks" "w" "LLineRemarks$World;") ∈ lw_all := lw_g (lw_at lw_m2 73 rfl) rfl
theorem q400 : (Jvm.Cond.soleField "LineRemarks" "w") ∈ lw_all := lw_g (lw_at lw_m2 74 rfl) rfl
theorem q401 : (Jvm.Cond.lays "LineRemarks" "LineRemarks" "imaged" "LLineRemarks$World;") ∈ lw_all := lw_g (lw_at lw_m2 75 rfl) rfl
theorem q402 : (Jvm.Cond.soleField "LineRemarks" "imaged") ∈ lw_all := lw_g (lw_at lw_m2 76 rfl) rfl
theorem q403 : (Jvm.Cond.lays "LineRemarks" "LineRemarks" "latestFault" "I") ∈ lw_all := lw_g (lw_at lw_m2 77 rfl) rfl
theorem q404 : (Jvm.Cond.soleField "LineRemarks" "latestFault") ∈ lw_all := lw_g (lw_at lw_m2 78 rfl) rfl
theorem q405 : (Jvm.Cond.superclass "LineRemarks" "java/lang/Object") ∈ lw_all := lw_g (lw_at lw_m2 79 rfl) rfl
theorem q407 : (Jvm.Cond.instanceMethod ({ cls := "LineRemarks", name := "row", desc := "(III)I" } : Jvm.MethodName)) ∈ lw_all := lw_g (lw_at lw_m2 81 rfl) rfl
theorem q408 : (Jvm.Cond.selects "LineRemarks" ({ cls := "LineRemarks", name := "row", desc := "(III)I" } : Jvm.MethodName) ({ cls := "LineRemarks", name := "row", desc := "(III)I" } : Jvm.MethodName)) ∈ lw_all := lw_g (lw_at lw_m2 82 rfl) rfl
theorem q409 : (Jvm.Cond.codeWith ({ cls := "LineRemarks", name := "row", desc := "(III)I" } : Jvm.MethodName) prog_1_method_14_code (5 : Nat) (Option.some Jvm.ClassFile.FieldType.int) [((0 : Nat), (63 : Nat), (64 : Nat), (21 : Nat))]) ∈ lw_all := lw_g (lw_at lw_m2 83 rfl) rfl
theorem q410 : (Jvm.Cond.classLink "LineRemarks" (21 : Nat) "LineRemarks$Refused") ∈ lw_all := lw_g (lw_at lw_m2 84 rfl) rfl
theorem q411 : (Jvm.Cond.methodLink "LineRemarks" (167 : Nat) ({ cls := "LineRemarks", name := "shelf", desc := "(I)LLineRemarks$Shelf;" } : Jvm.MethodName)) ∈ lw_all := lw_g (lw_at lw_m2 85 rfl) rfl
theorem q412 : (Jvm.Cond.privateMethod ({ cls := "LineRemarks", name := "shelf", desc := "(I)LLineRemarks$Shelf;" } : Jvm.MethodName)) ∈ lw_tbl := lw_at lw_m2 86 rfl
theorem q413 : (Jvm.Cond.instanceMethod ({ cls := "LineRemarks", name := "shelf", desc := "(I)LLineRemarks$Shelf;" } : Jvm.MethodName)) ∈ lw_all := lw_g (lw_at lw_m2 87 rfl) rfl
theorem q414 : (Jvm.Cond.codeWith ({ cls := "LineRemarks", name := "shelf", desc := "(I)LLineRemarks$Shelf;" } : Jvm.MethodName) prog_1_method_9_code (3 : Nat) (Option.some (Jvm.ClassFile.FieldType.object "LineRemarks$Shelf")) [((0 : Nat), (6 : Nat), (7 : Nat), (123 : Nat))]) ∈ lw_all := lw_g (lw_at lw_m2 88 rfl) rfl
theorem q415 : (Jvm.Cond.classLink "LineRemarks" (123 : Nat) "java/lang/ArrayIndexOutOfBoundsException") ∈ lw_all := lw_g (lw_at lw_m2 89 rfl) rfl
theorem q505 : (Jvm.Cond.methodLink "LineRemarks" (23 : Nat) ({ cls := "LineRemarks$Refused", name := "<init>", desc := "(I)V" } : Jvm.MethodName)) ∈ lw_all := lw_g (lw_at lw_m2 179 rfl) rfl
theorem q515 : (Jvm.Cond.fieldLink "LineRemarks" (120 : Nat) "LineRemarks$Refused" "why" "I") ∈ lw_all := lw_g (lw_at lw_m2 189 rfl) rfl
theorem q520 : (Jvm.Cond.methodLink "LineRemarks" (129 : Nat) ({ cls := "LineRemarks", name := "need", desc := "(ZI)V" } : Jvm.MethodName)) ∈ lw_all := lw_g (lw_at lw_m2 194 rfl) rfl
theorem q521 : (Jvm.Cond.static ({ cls := "LineRemarks", name := "need", desc := "(ZI)V" } : Jvm.MethodName)) ∈ lw_all := lw_g (lw_at lw_m2 195 rfl) rfl
theorem q522 : (Jvm.Cond.code ({ cls := "LineRemarks", name := "need", desc := "(ZI)V" } : Jvm.MethodName) prog_1_method_2_code (2 : Nat) (Option.none : Option Jvm.ClassFile.FieldType)) ∈ lw_all := lw_g (lw_at lw_m2 196 rfl) rfl
theorem q523 : (Jvm.Cond.constantLong "LineRemarks" (171 : Nat) (3 : Int64)) ∈ lw_all := lw_g (lw_at lw_m2 197 rfl) rfl
theorem q524 : (Jvm.Cond.methodLink "LineRemarks" (173 : Nat) ({ cls := "LineRemarks", name := "in", desc := "(JJJ)Z" } : Jvm.MethodName)) ∈ lw_all := lw_g (lw_at lw_m2 198 rfl) rfl
theorem q525 : (Jvm.Cond.static ({ cls := "LineRemarks", name := "in", desc := "(JJJ)Z" } : Jvm.MethodName)) ∈ lw_all := lw_g (lw_at lw_m2 199 rfl) rfl
theorem q526 : (Jvm.Cond.code ({ cls := "LineRemarks", name := "in", desc := "(JJJ)Z" } : Jvm.MethodName) prog_1_method_3_code (6 : Nat) (Option.some Jvm.ClassFile.FieldType.boolean)) ∈ lw_all := lw_g (lw_at lw_m2 200 rfl) rfl
theorem q527 : (Jvm.Cond.methodLink "LineRemarks" (177 : Nat) ({ cls := "LineRemarks", name := "newRow", desc := "(II)LLineRemarks$Row;" } : Jvm.MethodName)) ∈ lw_all := lw_g (lw_at lw_m2 201 rfl) rfl
theorem q528 : (Jvm.Cond.static ({ cls := "LineRemarks", name := "newRow", desc := "(II)LLineRemarks$Row;" } : Jvm.MethodName)) ∈ lw_all := lw_g (lw_at lw_m2 202 rfl) rfl
theorem q529 : (Jvm.Cond.codeWith ({ cls := "LineRemarks", name := "newRow", desc := "(II)LLineRemarks$Row;" } : Jvm.MethodName) prog_1_method_13_code (3 : Nat) (Option.some (Jvm.ClassFile.FieldType.object "LineRemarks$Row")) [((0 : Nat), (40 : Nat), (78 : Nat), (165 : Nat)), ((41 : Nat), (49 : Nat), (78 : Nat), (165 : Nat)), ((50 : Nat), (58 : Nat), (78 : Nat), (165 : Nat)), ((59 : Nat), (67 : Nat), (78 : Nat), (165 : Nat)), ((68 : Nat), (78 : Nat), (78 : Nat), (165 : Nat))]) ∈ lw_all := lw_g (lw_at lw_m2 203 rfl) rfl
theorem q530 : (Jvm.Cond.classLink "LineRemarks" (165 : Nat) "java/lang/NegativeArraySizeException") ∈ lw_all := lw_g (lw_at lw_m2 204 rfl) rfl
theorem q544 : (Jvm.Cond.classLink "LineRemarks" (153 : Nat) "LineRemarks$Bytes") ∈ lw_all := lw_g (lw_at lw_m2 218 rfl) rfl
theorem q546 : (Jvm.Cond.methodLink "LineRemarks" (155 : Nat) ({ cls := "LineRemarks$Bytes", name := "<init>", desc := "(I)V" } : Jvm.MethodName)) ∈ lw_all := lw_g (lw_at lw_m2 220 rfl) rfl
theorem q557 : (Jvm.Cond.classLink "LineRemarks" (156 : Nat) "LineRemarks$Shorts") ∈ lw_all := lw_g (lw_at lw_m2 231 rfl) rfl
theorem q559 : (Jvm.Cond.methodLink "LineRemarks" (158 : Nat) ({ cls := "LineRemarks$Shorts", name := "<init>", desc := "(I)V" } : Jvm.MethodName)) ∈ lw_all := lw_g (lw_at lw_m2 233 rfl) rfl
theorem q568 : (Jvm.Cond.classLink "LineRemarks" (159 : Nat) "LineRemarks$Ints") ∈ lw_all := lw_g (lw_at lw_m3 2 rfl) rfl
theorem q570 : (Jvm.Cond.methodLink "LineRemarks" (161 : Nat) ({ cls := "LineRemarks$Ints", name := "<init>", desc := "(I)V" } : Jvm.MethodName)) ∈ lw_all := lw_g (lw_at lw_m3 4 rfl) rfl
theorem q578 : (Jvm.Cond.classLink "LineRemarks" (162 : Nat) "LineRemarks$Longs") ∈ lw_all := lw_g (lw_at lw_m3 12 rfl) rfl
theorem q580 : (Jvm.Cond.methodLink "LineRemarks" (164 : Nat) ({ cls := "LineRemarks$Longs", name := "<init>", desc := "(I)V" } : Jvm.MethodName)) ∈ lw_all := lw_g (lw_at lw_m3 14 rfl) rfl
theorem q589 : (Jvm.Cond.methodLink "LineRemarks" (181 : Nat) ({ cls := "LineRemarks", name := "refused", desc := "(LLineRemarks$Refused;)I" } : Jvm.MethodName)) ∈ lw_all := lw_g (lw_at lw_m3 23 rfl) rfl
theorem q590 : (Jvm.Cond.privateMethod ({ cls := "LineRemarks", name := "refused", desc := "(LLineRemarks$Refused;)I" } : Jvm.MethodName)) ∈ lw_tbl := lw_at lw_m3 24 rfl
theorem q591 : (Jvm.Cond.instanceMethod ({ cls := "LineRemarks", name := "refused", desc := "(LLineRemarks$Refused;)I" } : Jvm.MethodName)) ∈ lw_all := lw_g (lw_at lw_m3 25 rfl) rfl
theorem q592 : (Jvm.Cond.code ({ cls := "LineRemarks", name := "refused", desc := "(LLineRemarks$Refused;)I" } : Jvm.MethodName) prog_1_method_7_code (2 : Nat) (Option.some Jvm.ClassFile.FieldType.int)) ∈ lw_all := lw_g (lw_at lw_m3 26 rfl) rfl
theorem q594 : (Jvm.Cond.instanceMethod ({ cls := "LineRemarks", name := "set", desc := "(IIJ)I" } : Jvm.MethodName)) ∈ lw_all := lw_g (lw_at lw_m3 28 rfl) rfl
theorem q595 : (Jvm.Cond.selects "LineRemarks" ({ cls := "LineRemarks", name := "set", desc := "(IIJ)I" } : Jvm.MethodName) ({ cls := "LineRemarks", name := "set", desc := "(IIJ)I" } : Jvm.MethodName)) ∈ lw_all := lw_g (lw_at lw_m3 29 rfl) rfl
theorem q596 : (Jvm.Cond.codeWith ({ cls := "LineRemarks", name := "set", desc := "(IIJ)I" } : Jvm.MethodName) prog_1_method_15_code (7 : Nat) (Option.some Jvm.ClassFile.FieldType.int) [((10 : Nat), (17 : Nat), (20 : Nat), (123 : Nat)), ((0 : Nat), (33 : Nat), (34 : Nat), (21 : Nat))]) ∈ lw_all := lw_g (lw_at lw_m3 30 rfl) rfl
theorem q597 : (Jvm.Cond.methodLink "LineRemarks" (185 : Nat) ({ cls := "LineRemarks$Shelf", name := "row", desc := "()LLineRemarks$Row;" } : Jvm.MethodName)) ∈ lw_all := lw_g (lw_at lw_m3 31 rfl) rfl
theorem q619 : (Jvm.Cond.methodLink "LineRemarks" (188 : Nat) ({ cls := "LineRemarks$Row", name := "put", desc := "(IJ)V" } : Jvm.MethodName)) ∈ lw_all := lw_g (lw_at lw_m3 53 rfl) rfl
theorem q635 : (Jvm.Cond.instanceMethod ({ cls := "LineRemarks", name := "copy", desc := "(IIIII)I" } : Jvm.MethodName)) ∈ lw_all := lw_g (lw_at lw_m3 69 rfl) rfl
theorem q636 : (Jvm.Cond.selects "LineRemarks" ({ cls := "LineRemarks", name := "copy", desc := "(IIIII)I" } : Jvm.MethodName) ({ cls := "LineRemarks", name := "copy", desc := "(IIIII)I" } : Jvm.MethodName)) ∈ lw_all := lw_g (lw_at lw_m3 70 rfl) rfl
theorem q637 : (Jvm.Cond.codeWith ({ cls := "LineRemarks", name := "copy", desc := "(IIIII)I" } : Jvm.MethodName) prog_1_method_16_code (11 : Nat) (Option.some Jvm.ClassFile.FieldType.int) [((114 : Nat), (132 : Nat), (135 : Nat), (195 : Nat)), ((0 : Nat), (148 : Nat), (149 : Nat), (21 : Nat))]) ∈ lw_all := lw_g (lw_at lw_m3 71 rfl) rfl
theorem q638 : (Jvm.Cond.classLink "LineRemarks" (195 : Nat) "java/lang/IndexOutOfBoundsException") ∈ lw_all := lw_g (lw_at lw_m3 72 rfl) rfl
theorem q639 : (Jvm.Cond.methodLink "LineRemarks" (144 : Nat) ({ cls := "LineRemarks$Shelf", name := "holdsRemark", desc := "()Z" } : Jvm.MethodName)) ∈ lw_all := lw_g (lw_at lw_m3 73 rfl) rfl
theorem q644 : (Jvm.Cond.methodLink "LineRemarks" (192 : Nat) ({ cls := "LineRemarks$Row", name := "sort", desc := "()I" } : Jvm.MethodName)) ∈ lw_all := lw_g (lw_at lw_m3 78 rfl) rfl
theorem q659 : (Jvm.Cond.methodLink "LineRemarks" (7 : Nat) ({ cls := "LineRemarks$Row", name := "held", desc := "()Ljava/lang/Object;" } : Jvm.MethodName)) ∈ lw_all := lw_g (lw_at lw_m3 93 rfl) rfl
theorem q674 : (Jvm.Cond.methodLink "LineRemarks" (15 : Nat) ({ cls := "java/lang/System", name := "arraycopy", desc := "(Ljava/lang/Object;ILjava/lang/Object;II)V" } : Jvm.MethodName)) ∈ lw_all := lw_g (lw_at lw_m3 108 rfl) rfl
theorem q678 : (Jvm.Cond.instanceMethod ({ cls := "LineRemarks", name := "element", desc := "(II)J" } : Jvm.MethodName)) ∈ lw_all := lw_g (lw_at lw_m3 112 rfl) rfl
theorem q679 : (Jvm.Cond.selects "LineRemarks" ({ cls := "LineRemarks", name := "element", desc := "(II)J" } : Jvm.MethodName) ({ cls := "LineRemarks", name := "element", desc := "(II)J" } : Jvm.MethodName)) ∈ lw_all := lw_g (lw_at lw_m3 113 rfl) rfl
theorem q680 : (Jvm.Cond.codeWith ({ cls := "LineRemarks", name := "element", desc := "(II)J" } : Jvm.MethodName) prog_1_method_17_code (4 : Nat) (Option.some Jvm.ClassFile.FieldType.long) [((0 : Nat), (12 : Nat), (13 : Nat), (21 : Nat)), ((0 : Nat), (12 : Nat), (16 : Nat), (123 : Nat))]) ∈ lw_all := lw_g (lw_at lw_m3 114 rfl) rfl
theorem q681 : (Jvm.Cond.methodLink "LineRemarks" (197 : Nat) ({ cls := "LineRemarks$Row", name := "get", desc := "(I)J" } : Jvm.MethodName)) ∈ lw_all := lw_g (lw_at lw_m3 115 rfl) rfl
theorem q697 : (Jvm.Cond.instanceMethod ({ cls := "LineRemarks", name := "show", desc := "(II)I" } : Jvm.MethodName)) ∈ lw_all := lw_g (lw_at lw_m3 131 rfl) rfl
theorem q698 : (Jvm.Cond.selects "LineRemarks" ({ cls := "LineRemarks", name := "show", desc := "(II)I" } : Jvm.MethodName) ({ cls := "LineRemarks", name := "show", desc := "(II)I" } : Jvm.MethodName)) ∈ lw_all := lw_g (lw_at lw_m3 132 rfl) rfl
theorem q699 : (Jvm.Cond.codeWith ({ cls := "LineRemarks", name := "show", desc := "(II)I" } : Jvm.MethodName) prog_1_method_18_code (4 : Nat) (Option.some Jvm.ClassFile.FieldType.int) [((0 : Nat), (17 : Nat), (29 : Nat), (21 : Nat)), ((18 : Nat), (28 : Nat), (29 : Nat), (21 : Nat))]) ∈ lw_all := lw_g (lw_at lw_m3 133 rfl) rfl
theorem q700 : (Jvm.Cond.methodLink "LineRemarks" (201 : Nat) ({ cls := "LineRemarks", name := "told", desc := "(I)LLineRemarks$Remark;" } : Jvm.MethodName)) ∈ lw_all := lw_g (lw_at lw_m3 134 rfl) rfl
theorem q701 : (Jvm.Cond.privateMethod ({ cls := "LineRemarks", name := "told", desc := "(I)LLineRemarks$Remark;" } : Jvm.MethodName)) ∈ lw_tbl := lw_at lw_m3 135 rfl
theorem q702 : (Jvm.Cond.instanceMethod ({ cls := "LineRemarks", name := "told", desc := "(I)LLineRemarks$Remark;" } : Jvm.MethodName)) ∈ lw_all := lw_g (lw_at lw_m3 136 rfl) rfl
theorem q703 : (Jvm.Cond.code ({ cls := "LineRemarks", name := "told", desc := "(I)LLineRemarks$Remark;" } : Jvm.MethodName) prog_1_method_11_code (2 : Nat) (Option.some (Jvm.ClassFile.FieldType.object "LineRemarks$Remark"))) ∈ lw_all := lw_g (lw_at lw_m3 137 rfl) rfl
theorem q704 : (Jvm.Cond.methodLink "LineRemarks" (137 : Nat) ({ cls := "LineRemarks$World", name := "isRemark", desc := "(I)Z" } : Jvm.MethodName)) ∈ lw_all := lw_g (lw_at lw_m3 138 rfl) rfl
theorem q709 : (Jvm.Cond.instanceMethod ({ cls := "LineRemarks", name := "holds", desc := "(I)I" } : Jvm.MethodName)) ∈ lw_all := lw_g (lw_at lw_m3 143 rfl) rfl
theorem q710 : (Jvm.Cond.selects "LineRemarks" ({ cls := "LineRemarks", name := "holds", desc := "(I)I" } : Jvm.MethodName) ({ cls := "LineRemarks", name := "holds", desc := "(I)I" } : Jvm.MethodName)) ∈ lw_all := lw_g (lw_at lw_m3 144 rfl) rfl
theorem q711 : (Jvm.Cond.code ({ cls := "LineRemarks", name := "holds", desc := "(I)I" } : Jvm.MethodName) prog_1_method_19_code (3 : Nat) (Option.some Jvm.ClassFile.FieldType.int)) ∈ lw_all := lw_g (lw_at lw_m3 145 rfl) rfl
theorem q712 : (Jvm.Cond.classLink "LineRemarks" (67 : Nat) "LineRemarks$Remark") ∈ lw_all := lw_g (lw_at lw_m3 146 rfl) rfl
theorem q713 : (Jvm.Cond.classLink "LineRemarks" (2 : Nat) "LineRemarks$Row") ∈ lw_all := lw_g (lw_at lw_m3 147 rfl) rfl
theorem q715 : (Jvm.Cond.instanceMethod ({ cls := "LineRemarks", name := "says", desc := "(II)I" } : Jvm.MethodName)) ∈ lw_all := lw_g (lw_at lw_m3 149 rfl) rfl
theorem q716 : (Jvm.Cond.selects "LineRemarks" ({ cls := "LineRemarks", name := "says", desc := "(II)I" } : Jvm.MethodName) ({ cls := "LineRemarks", name := "says", desc := "(II)I" } : Jvm.MethodName)) ∈ lw_all := lw_g (lw_at lw_m3 150 rfl) rfl
theorem q717 : (Jvm.Cond.codeWith ({ cls := "LineRemarks", name := "says", desc := "(II)I" } : Jvm.MethodName) prog_1_method_20_code (4 : Nat) (Option.some Jvm.ClassFile.FieldType.int) [((0 : Nat), (24 : Nat), (25 : Nat), (21 : Nat))]) ∈ lw_all := lw_g (lw_at lw_m3 151 rfl) rfl
theorem q718 : (Jvm.Cond.constantLong "LineRemarks" (205 : Nat) (6 : Int64)) ∈ lw_all := lw_g (lw_at lw_m3 152 rfl) rfl
theorem q719 : (Jvm.Cond.methodLink "LineRemarks" (207 : Nat) ({ cls := "LineRemarks$Shelf", name := "says", desc := "(I)I" } : Jvm.MethodName)) ∈ lw_all := lw_g (lw_at lw_m3 153 rfl) rfl
theorem q733 : (Jvm.Cond.instanceMethod ({ cls := "LineRemarks", name := "revise", desc := "(II)I" } : Jvm.MethodName)) ∈ lw_all := lw_g (lw_at lw_m3 167 rfl) rfl
theorem q734 : (Jvm.Cond.selects "LineRemarks" ({ cls := "LineRemarks", name := "revise", desc := "(II)I" } : Jvm.MethodName) ({ cls := "LineRemarks", name := "revise", desc := "(II)I" } : Jvm.MethodName)) ∈ lw_all := lw_g (lw_at lw_m3 168 rfl) rfl
theorem q735 : (Jvm.Cond.codeWith ({ cls := "LineRemarks", name := "revise", desc := "(II)I" } : Jvm.MethodName) prog_1_method_21_code (8 : Nat) (Option.some Jvm.ClassFile.FieldType.int) [((33 : Nat), (47 : Nat), (50 : Nat), (224 : Nat)), ((0 : Nat), (104 : Nat), (105 : Nat), (21 : Nat))]) ∈ lw_all := lw_g (lw_at lw_m3 169 rfl) rfl
theorem q736 : (Jvm.Cond.classLink "LineRemarks" (224 : Nat) "LineRemarks$Faulty") ∈ lw_all := lw_g (lw_at lw_m3 170 rfl) rfl
theorem q737 : (Jvm.Cond.methodLink "LineRemarks" (211 : Nat) ({ cls := "LineRemarks", name := "revision", desc := "(I)LLineRemarks$Revision;" } : Jvm.MethodName)) ∈ lw_all := lw_g (lw_at lw_m3 171 rfl) rfl
theorem q738 : (Jvm.Cond.privateMethod ({ cls := "LineRemarks", name := "revision", desc := "(I)LLineRemarks$Revision;" } : Jvm.MethodName)) ∈ lw_tbl := lw_at lw_m3 172 rfl
theorem q739 : (Jvm.Cond.instanceMethod ({ cls := "LineRemarks", name := "revision", desc := "(I)LLineRemarks$Revision;" } : Jvm.MethodName)) ∈ lw_all := lw_g (lw_at lw_m3 173 rfl) rfl
theorem q740 : (Jvm.Cond.code ({ cls := "LineRemarks", name := "revision", desc := "(I)LLineRemarks$Revision;" } : Jvm.MethodName) prog_1_method_10_code (2 : Nat) (Option.some (Jvm.ClassFile.FieldType.object "LineRemarks$Revision"))) ∈ lw_all := lw_g (lw_at lw_m3 174 rfl) rfl
theorem q741 : (Jvm.Cond.methodLink "LineRemarks" (125 : Nat) ({ cls := "LineRemarks$World", name := "isRevision", desc := "(I)Z" } : Jvm.MethodName)) ∈ lw_all := lw_g (lw_at lw_m3 175 rfl) rfl
theorem q745 : (Jvm.Cond.classLink "LineRemarks" (215 : Nat) "LineRemarks$Reader") ∈ lw_all := lw_g (lw_at lw_m3 179 rfl) rfl
theorem q747 : (Jvm.Cond.methodLink "LineRemarks" (217 : Nat) ({ cls := "LineRemarks$Reader", name := "<init>", desc := "(LLineRemarks$Row;)V" } : Jvm.MethodName)) ∈ lw_all := lw_g (lw_at lw_m3 181 rfl) rfl
theorem q795 : (Jvm.Cond.methodLink "LineRemarks" (220 : Nat) ({ cls := "LineRemarks$Reader", name := "whole", desc := "()[LLineRemarks$Line;" } : Jvm.MethodName)) ∈ lw_all := lw_g (lw_at lw_m3 229 rfl) rfl
theorem q853 : (Jvm.Cond.fieldLink "LineRemarks" (226 : Nat) "LineRemarks$Faulty" "place" "I") ∈ lw_all := lw_g (lw_at lw_m4 47 rfl) rfl
theorem q1289 : (Jvm.Cond.static ({ cls := "LineRemarks", name := "rowOf", desc := "(Ljava/util/List;)[LLineRemarks$Line;" } : Jvm.MethodName)) ∈ lw_all := lw_g (lw_at lw_m6 3 rfl) rfl
theorem q1290 : (Jvm.Cond.code ({ cls := "LineRemarks", name := "rowOf", desc := "(Ljava/util/List;)[LLineRemarks$Line;" } : Jvm.MethodName) prog_1_method_4_code (4 : Nat) (Option.some (Jvm.ClassFile.FieldType.array (Jvm.ClassFile.FieldType.object "LineRemarks$Line")))) ∈ lw_all := lw_g (lw_at lw_m6 4 rfl) rfl
theorem q1291 : (Jvm.Cond.interfaceEntry "LineRemarks" (27 : Nat)) ∈ lw_tbl := lw_at lw_m6 5 rfl
theorem q1292 : (Jvm.Cond.methodLink "LineRemarks" (27 : Nat) ({ cls := "java/util/List", name := "size", desc := "()I" } : Jvm.MethodName)) ∈ lw_all := lw_g (lw_at lw_m6 6 rfl) rfl
theorem q1293 : (Jvm.Cond.classLink "LineRemarks" (32 : Nat) "LineRemarks$Line") ∈ lw_all := lw_g (lw_at lw_m6 7 rfl) rfl
theorem q1295 : (Jvm.Cond.interfaceEntry "LineRemarks" (34 : Nat)) ∈ lw_tbl := lw_at lw_m6 9 rfl
theorem q1296 : (Jvm.Cond.methodLink "LineRemarks" (34 : Nat) ({ cls := "java/util/List", name := "iterator", desc := "()Ljava/util/Iterator;" } : Jvm.MethodName)) ∈ lw_all := lw_g (lw_at lw_m6 10 rfl) rfl
theorem q1471 : (Jvm.Cond.interfaceEntry "LineRemarks" (38 : Nat)) ∈ lw_tbl := lw_at lw_m6 185 rfl
theorem q1472 : (Jvm.Cond.methodLink "LineRemarks" (38 : Nat) ({ cls := "java/util/Iterator", name := "hasNext", desc := "()Z" } : Jvm.MethodName)) ∈ lw_all := lw_g (lw_at lw_m6 186 rfl) rfl
theorem q1512 : (Jvm.Cond.interfaceEntry "LineRemarks" (44 : Nat)) ∈ lw_tbl := lw_at lw_m6 226 rfl
theorem q1513 : (Jvm.Cond.methodLink "LineRemarks" (44 : Nat) ({ cls := "java/util/Iterator", name := "next", desc := "()Ljava/lang/Object;" } : Jvm.MethodName)) ∈ lw_all := lw_g (lw_at lw_m6 227 rfl) rfl
theorem q1710 : (Jvm.Cond.methodLink "LineRemarks" (232 : Nat) ({ cls := "LineRemarks$World", name := "add", desc := "(LLineRemarks$Revision;[LLineRemarks$Line;)I" } : Jvm.MethodName)) ∈ lw_all := lw_g (lw_at lw_m7 184 rfl) rfl
theorem q1721 : (Jvm.Cond.fieldLink "LineRemarks" (259 : Nat) "LineRemarks$Revision" "number" "I") ∈ lw_all := lw_g (lw_at lw_m7 195 rfl) rfl
theorem q1724 : (Jvm.Cond.fieldLink "LineRemarks" (255 : Nat) "LineRemarks$Revision" "former" "LLineRemarks$Revision;") ∈ lw_all := lw_g (lw_at lw_m7 198 rfl) rfl
theorem q1728 : (Jvm.Cond.fieldLink "LineRemarks" (236 : Nat) "LineRemarks$Revision" "lines" "[LLineRemarks$Line;") ∈ lw_all := lw_g (lw_at lw_m7 202 rfl) rfl
theorem q1740 : (Jvm.Cond.instanceMethod ({ cls := "LineRemarks", name := "fault", desc := "()I" } : Jvm.MethodName)) ∈ lw_all := lw_g (lw_at lw_m7 214 rfl) rfl
theorem q1741 : (Jvm.Cond.selects "LineRemarks" ({ cls := "LineRemarks", name := "fault", desc := "()I" } : Jvm.MethodName) ({ cls := "LineRemarks", name := "fault", desc := "()I" } : Jvm.MethodName)) ∈ lw_all := lw_g (lw_at lw_m7 215 rfl) rfl
theorem q1742 : (Jvm.Cond.code ({ cls := "LineRemarks", name := "fault", desc := "()I" } : Jvm.MethodName) prog_1_method_22_code (1 : Nat) (Option.some Jvm.ClassFile.FieldType.int)) ∈ lw_all := lw_g (lw_at lw_m7 216 rfl) rfl
theorem q1744 : (Jvm.Cond.instanceMethod ({ cls := "LineRemarks", name := "lines", desc := "(I)I" } : Jvm.MethodName)) ∈ lw_all := lw_g (lw_at lw_m7 218 rfl) rfl
theorem q1745 : (Jvm.Cond.selects "LineRemarks" ({ cls := "LineRemarks", name := "lines", desc := "(I)I" } : Jvm.MethodName) ({ cls := "LineRemarks", name := "lines", desc := "(I)I" } : Jvm.MethodName)) ∈ lw_all := lw_g (lw_at lw_m7 219 rfl) rfl
theorem q1746 : (Jvm.Cond.codeWith ({ cls := "LineRemarks", name := "lines", desc := "(I)I" } : Jvm.MethodName) prog_1_method_23_code (3 : Nat) (Option.some Jvm.ClassFile.FieldType.int) [((0 : Nat), (9 : Nat), (10 : Nat), (21 : Nat))]) ∈ lw_all := lw_g (lw_at lw_m7 220 rfl) rfl
theorem q1748 : (Jvm.Cond.instanceMethod ({ cls := "LineRemarks", name := "letter", desc := "(III)I" } : Jvm.MethodName)) ∈ lw_all := lw_g (lw_at lw_m7 222 rfl) rfl
theorem q1749 : (Jvm.Cond.selects "LineRemarks" ({ cls := "LineRemarks", name := "letter", desc := "(III)I" } : Jvm.MethodName) ({ cls := "LineRemarks", name := "letter", desc := "(III)I" } : Jvm.MethodName)) ∈ lw_all := lw_g (lw_at lw_m7 223 rfl) rfl
theorem q1750 : (Jvm.Cond.codeWith ({ cls := "LineRemarks", name := "letter", desc := "(III)I" } : Jvm.MethodName) prog_1_method_25_code (5 : Nat) (Option.some Jvm.ClassFile.FieldType.int) [((0 : Nat), (37 : Nat), (38 : Nat), (21 : Nat))]) ∈ lw_all := lw_g (lw_at lw_m7 224 rfl) rfl
theorem q1751 : (Jvm.Cond.methodLink "LineRemarks" (246 : Nat) ({ cls := "LineRemarks", name := "mustLine", desc := "(LLineRemarks$Revision;I)V" } : Jvm.MethodName)) ∈ lw_all := lw_g (lw_at lw_m7 225 rfl) rfl
theorem q1752 : (Jvm.Cond.static ({ cls := "LineRemarks", name := "mustLine", desc := "(LLineRemarks$Revision;I)V" } : Jvm.MethodName)) ∈ lw_all := lw_g (lw_at lw_m7 226 rfl) rfl
theorem q1753 : (Jvm.Cond.code ({ cls := "LineRemarks", name := "mustLine", desc := "(LLineRemarks$Revision;I)V" } : Jvm.MethodName) prog_1_method_24_code (2 : Nat) (Option.none : Option Jvm.ClassFile.FieldType)) ∈ lw_all := lw_g (lw_at lw_m7 227 rfl) rfl
theorem q1754 : (Jvm.Cond.methodLink "LineRemarks" (242 : Nat) ({ cls := "LineRemarks$Revision", name := "at", desc := "(I)LLineRemarks$Line;" } : Jvm.MethodName)) ∈ lw_all := lw_g (lw_at lw_m7 228 rfl) rfl
theorem q1758 : (Jvm.Cond.constantLong "LineRemarks" (250 : Nat) (8 : Int64)) ∈ lw_all := lw_g (lw_at lw_m7 232 rfl) rfl
theorem q1759 : (Jvm.Cond.methodLink "LineRemarks" (252 : Nat) ({ cls := "LineRemarks$Line", name := "letter", desc := "(I)I" } : Jvm.MethodName)) ∈ lw_all := lw_g (lw_at lw_m7 233 rfl) rfl
theorem q1765 : (Jvm.Cond.instanceMethod ({ cls := "LineRemarks", name := "former", desc := "(I)I" } : Jvm.MethodName)) ∈ lw_all := lw_g (lw_at lw_m7 239 rfl) rfl
theorem q1766 : (Jvm.Cond.selects "LineRemarks" ({ cls := "LineRemarks", name := "former", desc := "(I)I" } : Jvm.MethodName) ({ cls := "LineRemarks", name := "former", desc := "(I)I" } : Jvm.MethodName)) ∈ lw_all := lw_g (lw_at lw_m8 0 rfl) rfl
theorem q1767 : (Jvm.Cond.codeWith ({ cls := "LineRemarks", name := "former", desc := "(I)I" } : Jvm.MethodName) prog_1_method_26_code (3 : Nat) (Option.some Jvm.ClassFile.FieldType.int) [((0 : Nat), (24 : Nat), (25 : Nat), (21 : Nat))]) ∈ lw_all := lw_g (lw_at lw_m8 1 rfl) rfl
theorem q1769 : (Jvm.Cond.instanceMethod ({ cls := "LineRemarks", name := "rule", desc := "(II)I" } : Jvm.MethodName)) ∈ lw_all := lw_g (lw_at lw_m8 3 rfl) rfl
theorem q1770 : (Jvm.Cond.selects "LineRemarks" ({ cls := "LineRemarks", name := "rule", desc := "(II)I" } : Jvm.MethodName) ({ cls := "LineRemarks", name := "rule", desc := "(II)I" } : Jvm.MethodName)) ∈ lw_all := lw_g (lw_at lw_m8 4 rfl) rfl
theorem q1771 : (Jvm.Cond.codeWith ({ cls := "LineRemarks", name := "rule", desc := "(II)I" } : Jvm.MethodName) prog_1_method_27_code (4 : Nat) (Option.some Jvm.ClassFile.FieldType.int) [((0 : Nat), (161 : Nat), (162 : Nat), (21 : Nat))]) ∈ lw_all := lw_g (lw_at lw_m8 5 rfl) rfl
theorem q1772 : (Jvm.Cond.constantLong "LineRemarks" (262 : Nat) (2 : Int64)) ∈ lw_all := lw_g (lw_at lw_m8 6 rfl) rfl
theorem q1773 : (Jvm.Cond.constantLong "LineRemarks" (264 : Nat) (9 : Int64)) ∈ lw_all := lw_g (lw_at lw_m8 7 rfl) rfl
theorem q1774 : (Jvm.Cond.constantLong "LineRemarks" (266 : Nat) (99 : Int64)) ∈ lw_all := lw_g (lw_at lw_m8 8 rfl) rfl
theorem q1775 : (Jvm.Cond.constantLong "LineRemarks" (268 : Nat) (20 : Int64)) ∈ lw_all := lw_g (lw_at lw_m8 9 rfl) rfl
theorem q1777 : (Jvm.Cond.instanceMethod ({ cls := "LineRemarks", name := "place", desc := "(III)I" } : Jvm.MethodName)) ∈ lw_all := lw_g (lw_at lw_m8 11 rfl) rfl
theorem q1778 : (Jvm.Cond.selects "LineRemarks" ({ cls := "LineRemarks", name := "place", desc := "(III)I" } : Jvm.MethodName) ({ cls := "LineRemarks", name := "place", desc := "(III)I" } : Jvm.MethodName)) ∈ lw_all := lw_g (lw_at lw_m8 12 rfl) rfl
theorem q1779 : (Jvm.Cond.codeWith ({ cls := "LineRemarks", name := "place", desc := "(III)I" } : Jvm.MethodName) prog_1_method_29_code (6 : Nat) (Option.some Jvm.ClassFile.FieldType.int) [((0 : Nat), (33 : Nat), (34 : Nat), (21 : Nat))]) ∈ lw_all := lw_g (lw_at lw_m8 13 rfl) rfl
theorem q1780 : (Jvm.Cond.methodLink "LineRemarks" (283 : Nat) ({ cls := "LineRemarks", name := "match", desc := "(LLineRemarks$Revision;LLineRemarks$Revision;)LLineRemarks$Match;" } : Jvm.MethodName)) ∈ lw_all := lw_g (lw_at lw_m8 14 rfl) rfl
theorem q1781 : (Jvm.Cond.privateMethod ({ cls := "LineRemarks", name := "match", desc := "(LLineRemarks$Revision;LLineRemarks$Revision;)LLineRemarks$Match;" } : Jvm.MethodName)) ∈ lw_tbl := lw_at lw_m8 15 rfl
theorem q1782 : (Jvm.Cond.instanceMethod ({ cls := "LineRemarks", name := "match", desc := "(LLineRemarks$Revision;LLineRemarks$Revision;)LLineRemarks$Match;" } : Jvm.MethodName)) ∈ lw_all := lw_g (lw_at lw_m8 16 rfl) rfl
theorem q1783 : (Jvm.Cond.code ({ cls := "LineRemarks", name := "match", desc := "(LLineRemarks$Revision;LLineRemarks$Revision;)LLineRemarks$Match;" } : Jvm.MethodName) prog_1_method_28_code (3 : Nat) (Option.some (Jvm.ClassFile.FieldType.object "LineRemarks$Match"))) ∈ lw_all := lw_g (lw_at lw_m8 17 rfl) rfl
theorem q1784 : (Jvm.Cond.classLink "LineRemarks" (278 : Nat) "LineRemarks$Match") ∈ lw_all := lw_g (lw_at lw_m8 18 rfl) rfl
theorem q1786 : (Jvm.Cond.methodLink "LineRemarks" (280 : Nat) ({ cls := "LineRemarks$Match", name := "<init>", desc := "([LLineRemarks$Line;[LLineRemarks$Line;I)V" } : Jvm.MethodName)) ∈ lw_all := lw_g (lw_at lw_m8 20 rfl) rfl
theorem q1913 : (Jvm.Cond.fieldLink "LineRemarks" (287 : Nat) "LineRemarks$Match" "place" "[I") ∈ lw_all := lw_g (lw_at lw_m8 147 rfl) rfl
theorem q1915 : (Jvm.Cond.fieldLink "LineRemarks" (289 : Nat) "LineRemarks$Match" "pairs" "I") ∈ lw_all := lw_g (lw_at lw_m8 149 rfl) rfl
theorem q1917 : (Jvm.Cond.fieldLink "LineRemarks" (292 : Nat) "LineRemarks$Match" "moved" "I") ∈ lw_all := lw_g (lw_at lw_m8 151 rfl) rfl
theorem q1942 : (Jvm.Cond.instanceMethod ({ cls := "LineRemarks", name := "matched", desc := "(III)I" } : Jvm.MethodName)) ∈ lw_all := lw_g (lw_at lw_m8 176 rfl) rfl
theorem q1943 : (Jvm.Cond.selects "LineRemarks" ({ cls := "LineRemarks", name := "matched", desc := "(III)I" } : Jvm.MethodName) ({ cls := "LineRemarks", name := "matched", desc := "(III)I" } : Jvm.MethodName)) ∈ lw_all := lw_g (lw_at lw_m8 177 rfl) rfl
theorem q1944 : (Jvm.Cond.codeWith ({ cls := "LineRemarks", name := "matched", desc := "(III)I" } : Jvm.MethodName) prog_1_method_30_code (5 : Nat) (Option.some Jvm.ClassFile.FieldType.int) [((0 : Nat), (45 : Nat), (46 : Nat), (21 : Nat))]) ∈ lw_all := lw_g (lw_at lw_m8 178 rfl) rfl
theorem q1946 : (Jvm.Cond.instanceMethod ({ cls := "LineRemarks", name := "through", desc := "(III)I" } : Jvm.MethodName)) ∈ lw_all := lw_g (lw_at lw_m8 180 rfl) rfl
theorem q1947 : (Jvm.Cond.selects "LineRemarks" ({ cls := "LineRemarks", name := "through", desc := "(III)I" } : Jvm.MethodName) ({ cls := "LineRemarks", name := "through", desc := "(III)I" } : Jvm.MethodName)) ∈ lw_all := lw_g (lw_at lw_m8 181 rfl) rfl
theorem q1948 : (Jvm.Cond.codeWith ({ cls := "LineRemarks", name := "through", desc := "(III)I" } : Jvm.MethodName) prog_1_method_32_code (9 : Nat) (Option.some Jvm.ClassFile.FieldType.int) [((0 : Nat), (107 : Nat), (108 : Nat), (21 : Nat))]) ∈ lw_all := lw_g (lw_at lw_m8 182 rfl) rfl
theorem q1949 : (Jvm.Cond.methodLink "LineRemarks" (299 : Nat) ({ cls := "LineRemarks", name := "mustBehind", desc := "(LLineRemarks$Revision;LLineRemarks$Revision;)V" } : Jvm.MethodName)) ∈ lw_all := lw_g (lw_at lw_m8 183 rfl) rfl
theorem q1950 : (Jvm.Cond.static ({ cls := "LineRemarks", name := "mustBehind", desc := "(LLineRemarks$Revision;LLineRemarks$Revision;)V" } : Jvm.MethodName)) ∈ lw_all := lw_g (lw_at lw_m8 184 rfl) rfl
theorem q1951 : (Jvm.Cond.code ({ cls := "LineRemarks", name := "mustBehind", desc := "(LLineRemarks$Revision;LLineRemarks$Revision;)V" } : Jvm.MethodName) prog_1_method_31_code (2 : Nat) (Option.none : Option Jvm.ClassFile.FieldType)) ∈ lw_all := lw_g (lw_at lw_m8 185 rfl) rfl
theorem q1952 : (Jvm.Cond.methodLink "LineRemarks" (295 : Nat) ({ cls := "LineRemarks$Revision", name := "isBehind", desc := "(LLineRemarks$Revision;)Z" } : Jvm.MethodName)) ∈ lw_all := lw_g (lw_at lw_m8 186 rfl) rfl
theorem q1956 : (Jvm.Cond.methodLink "LineRemarks" (303 : Nat) ({ cls := "LineRemarks$Revision", name := "since", desc := "(LLineRemarks$Revision;)Ljava/util/ArrayDeque;" } : Jvm.MethodName)) ∈ lw_all := lw_g (lw_at lw_m8 190 rfl) rfl
theorem q1998 : (Jvm.Cond.methodLink "LineRemarks" (307 : Nat) ({ cls := "java/util/ArrayDeque", name := "iterator", desc := "()Ljava/util/Iterator;" } : Jvm.MethodName)) ∈ lw_all := lw_g (lw_at lw_m8 232 rfl) rfl
theorem q2028 : (Jvm.Cond.classLink "LineRemarks" (237 : Nat) "LineRemarks$Revision") ∈ lw_all := lw_g (lw_at lw_m9 22 rfl) rfl
theorem q2029 : (Jvm.Cond.methodLink "LineRemarks" (310 : Nat) ({ cls := "LineRemarks$Revision", name := "fromFormer", desc := "(I)LLineRemarks$Match;" } : Jvm.MethodName)) ∈ lw_all := lw_g (lw_at lw_m9 23 rfl) rfl
theorem q2036 : (Jvm.Cond.instanceMethod ({ cls := "LineRemarks", name := "origin", desc := "(III)I" } : Jvm.MethodName)) ∈ lw_all := lw_g (lw_at lw_m9 30 rfl) rfl
theorem q2037 : (Jvm.Cond.selects "LineRemarks" ({ cls := "LineRemarks", name := "origin", desc := "(III)I" } : Jvm.MethodName) ({ cls := "LineRemarks", name := "origin", desc := "(III)I" } : Jvm.MethodName)) ∈ lw_all := lw_g (lw_at lw_m9 31 rfl) rfl
theorem q2038 : (Jvm.Cond.codeWith ({ cls := "LineRemarks", name := "origin", desc := "(III)I" } : Jvm.MethodName) prog_1_method_33_code (7 : Nat) (Option.some Jvm.ClassFile.FieldType.int) [((0 : Nat), (124 : Nat), (125 : Nat), (21 : Nat))]) ∈ lw_all := lw_g (lw_at lw_m9 32 rfl) rfl
theorem q2039 : (Jvm.Cond.methodLink "LineRemarks" (314 : Nat) ({ cls := "LineRemarks$Match", name := "lineOf", desc := "(I)I" } : Jvm.MethodName)) ∈ lw_all := lw_g (lw_at lw_m9 33 rfl) rfl
theorem q2044 : (Jvm.Cond.instanceMethod ({ cls := "LineRemarks", name := "remark", desc := "(IIIIII)I" } : Jvm.MethodName)) ∈ lw_all := lw_g (lw_at lw_m9 38 rfl) rfl
theorem q2045 : (Jvm.Cond.selects "LineRemarks" ({ cls := "LineRemarks", name := "remark", desc := "(IIIIII)I" } : Jvm.MethodName) ({ cls := "LineRemarks", name := "remark", desc := "(IIIIII)I" } : Jvm.MethodName)) ∈ lw_all := lw_g (lw_at lw_m9 39 rfl) rfl
theorem q2046 : (Jvm.Cond.codeWith ({ cls := "LineRemarks", name := "remark", desc := "(IIIIII)I" } : Jvm.MethodName) prog_1_method_34_code (8 : Nat) (Option.some Jvm.ClassFile.FieldType.int) [((0 : Nat), (131 : Nat), (132 : Nat), (21 : Nat))]) ∈ lw_all := lw_g (lw_at lw_m9 40 rfl) rfl
theorem q2047 : (Jvm.Cond.methodLink "LineRemarks" (320 : Nat) ({ cls := "LineRemarks$World", name := "make", desc := "(IILLineRemarks$Revision;III)I" } : Jvm.MethodName)) ∈ lw_all := lw_g (lw_at lw_m9 41 rfl) rfl
theorem q2052 : (Jvm.Cond.static ({ cls := "LineRemarks", name := "ofKind", desc := "(IIILLineRemarks$Revision;III)LLineRemarks$Remark;" } : Jvm.MethodName)) ∈ lw_all := lw_g (lw_at lw_m9 46 rfl) rfl
theorem q2053 : (Jvm.Cond.code ({ cls := "LineRemarks", name := "ofKind", desc := "(IIILLineRemarks$Revision;III)LLineRemarks$Remark;" } : Jvm.MethodName) prog_1_method_5_code (7 : Nat) (Option.some (Jvm.ClassFile.FieldType.object "LineRemarks$Remark"))) ∈ lw_all := lw_g (lw_at lw_m9 47 rfl) rfl
theorem q2054 : (Jvm.Cond.classLink "LineRemarks" (47 : Nat) "LineRemarks$Point") ∈ lw_all := lw_g (lw_at lw_m9 48 rfl) rfl
theorem q2056 : (Jvm.Cond.methodLink "LineRemarks" (49 : Nat) ({ cls := "LineRemarks$Point", name := "<init>", desc := "(IILLineRemarks$Revision;III)V" } : Jvm.MethodName)) ∈ lw_all := lw_g (lw_at lw_m9 50 rfl) rfl
theorem q2066 : (Jvm.Cond.fieldLink "LineRemarks" (150 : Nat) "LineRemarks$Remark" "index" "I") ∈ lw_all := lw_g (lw_at lw_m9 60 rfl) rfl
theorem q2079 : (Jvm.Cond.fieldLink "LineRemarks" (330 : Nat) "LineRemarks$Remark" "by" "I") ∈ lw_all := lw_g (lw_at lw_m9 73 rfl) rfl
theorem q2084 : (Jvm.Cond.fieldLink "LineRemarks" (333 : Nat) "LineRemarks$Remark" "on" "LLineRemarks$Revision;") ∈ lw_all := lw_g (lw_at lw_m9 78 rfl) rfl
theorem q2090 : (Jvm.Cond.fieldLink "LineRemarks" (336 : Nat) "LineRemarks$Remark" "p" "I") ∈ lw_all := lw_g (lw_at lw_m9 84 rfl) rfl
theorem q2097 : (Jvm.Cond.fieldLink "LineRemarks" (339 : Nat) "LineRemarks$Remark" "q" "I") ∈ lw_all := lw_g (lw_at lw_m9 91 rfl) rfl
theorem q2100 : (Jvm.Cond.fieldLink "LineRemarks" (342 : Nat) "LineRemarks$Remark" "answers" "I") ∈ lw_all := lw_g (lw_at lw_m9 94 rfl) rfl
theorem q2114 : (Jvm.Cond.classLink "LineRemarks" (52 : Nat) "LineRemarks$Block") ∈ lw_all := lw_g (lw_at lw_m9 108 rfl) rfl
theorem q2116 : (Jvm.Cond.methodLink "LineRemarks" (54 : Nat) ({ cls := "LineRemarks$Block", name := "<init>", desc := "(IILLineRemarks$Revision;III)V" } : Jvm.MethodName)) ∈ lw_all := lw_g (lw_at lw_m9 110 rfl) rfl
theorem q2127 : (Jvm.Cond.classLink "LineRemarks" (55 : Nat) "LineRemarks$Caret") ∈ lw_all := lw_g (lw_at lw_m9 121 rfl) rfl
theorem q2129 : (Jvm.Cond.methodLink "LineRemarks" (57 : Nat) ({ cls := "LineRemarks$Caret", name := "<init>", desc := "(IILLineRemarks$Revision;III)V" } : Jvm.MethodName)) ∈ lw_all := lw_g (lw_at lw_m9 123 rfl) rfl
theorem q2140 : (Jvm.Cond.classLink "LineRemarks" (58 : Nat) "LineRemarks$Loose") ∈ lw_all := lw_g (lw_at lw_m9 134 rfl) rfl
theorem q2142 : (Jvm.Cond.methodLink "LineRemarks" (60 : Nat) ({ cls := "LineRemarks$Loose", name := "<init>", desc := "(IILLineRemarks$Revision;III)V" } : Jvm.MethodName)) ∈ lw_all := lw_g (lw_at lw_m9 136 rfl) rfl
theorem q2153 : (Jvm.Cond.classLink "LineRemarks" (61 : Nat) "LineRemarks$Wall") ∈ lw_all := lw_g (lw_at lw_m9 147 rfl) rfl
theorem q2155 : (Jvm.Cond.methodLink "LineRemarks" (63 : Nat) ({ cls := "LineRemarks$Wall", name := "<init>", desc := "(IILLineRemarks$Revision;III)V" } : Jvm.MethodName)) ∈ lw_all := lw_g (lw_at lw_m9 149 rfl) rfl
theorem q2166 : (Jvm.Cond.classLink "LineRemarks" (64 : Nat) "LineRemarks$Tail") ∈ lw_all := lw_g (lw_at lw_m9 160 rfl) rfl
theorem q2168 : (Jvm.Cond.methodLink "LineRemarks" (66 : Nat) ({ cls := "LineRemarks$Tail", name := "<init>", desc := "(IILLineRemarks$Revision;III)V" } : Jvm.MethodName)) ∈ lw_all := lw_g (lw_at lw_m9 162 rfl) rfl
theorem q2180 : (Jvm.Cond.methodLink "LineRemarks" (69 : Nat) ({ cls := "LineRemarks$Remark", name := "<init>", desc := "(IILLineRemarks$Revision;III)V" } : Jvm.MethodName)) ∈ lw_all := lw_g (lw_at lw_m9 174 rfl) rfl
theorem q2189 : (Jvm.Cond.instanceMethod ({ cls := "LineRemarks", name := "remarkOf", desc := "(II)I" } : Jvm.MethodName)) ∈ lw_all := lw_g (lw_at lw_m9 183 rfl) rfl
theorem q2190 : (Jvm.Cond.selects "LineRemarks" ({ cls := "LineRemarks", name := "remarkOf", desc := "(II)I" } : Jvm.MethodName) ({ cls := "LineRemarks", name := "remarkOf", desc := "(II)I" } : Jvm.MethodName)) ∈ lw_all := lw_g (lw_at lw_m9 184 rfl) rfl
theorem q2191 : (Jvm.Cond.code ({ cls := "LineRemarks", name := "remarkOf", desc := "(II)I" } : Jvm.MethodName) prog_1_method_35_code (4 : Nat) (Option.some Jvm.ClassFile.FieldType.int)) ∈ lw_all := lw_g (lw_at lw_m9 185 rfl) rfl
theorem q2192 : (Jvm.Cond.methodLink "LineRemarks" (324 : Nat) ({ cls := "LineRemarks", name := "beyond", desc := "()I" } : Jvm.MethodName)) ∈ lw_all := lw_g (lw_at lw_m9 186 rfl) rfl
theorem q2193 : (Jvm.Cond.privateMethod ({ cls := "LineRemarks", name := "beyond", desc := "()I" } : Jvm.MethodName)) ∈ lw_tbl := lw_at lw_m9 187 rfl
theorem q2194 : (Jvm.Cond.instanceMethod ({ cls := "LineRemarks", name := "beyond", desc := "()I" } : Jvm.MethodName)) ∈ lw_all := lw_g (lw_at lw_m9 188 rfl) rfl
theorem q2195 : (Jvm.Cond.code ({ cls := "LineRemarks", name := "beyond", desc := "()I" } : Jvm.MethodName) prog_1_method_8_code (1 : Nat) (Option.some Jvm.ClassFile.FieldType.int)) ∈ lw_all := lw_g (lw_at lw_m9 189 rfl) rfl
theorem q2196 : (Jvm.Cond.methodLink "LineRemarks" (327 : Nat) ({ cls := "LineRemarks$Remark", name := "kind", desc := "()I" } : Jvm.MethodName)) ∈ lw_all := lw_g (lw_at lw_m9 190 rfl) rfl
theorem q2219 : (Jvm.Cond.methodLink "LineRemarks" (349 : Nat) ({ cls := "LineRemarks$World", name := "depth", desc := "(I)I" } : Jvm.MethodName)) ∈ lw_all := lw_g (lw_at lw_m9 213 rfl) rfl
theorem q2224 : (Jvm.Cond.methodLink "LineRemarks" (352 : Nat) ({ cls := "LineRemarks$World", name := "answering", desc := "(I)I" } : Jvm.MethodName)) ∈ lw_all := lw_g (lw_at lw_m9 218 rfl) rfl
theorem q2264 : (Jvm.Cond.methodLink "LineRemarks" (355 : Nat) ({ cls := "LineRemarks$World", name := "isOpen", desc := "(I)Z" } : Jvm.MethodName)) ∈ lw_all := lw_g (lw_at lw_m10 18 rfl) rfl
theorem q2273 : (Jvm.Cond.instanceMethod ({ cls := "LineRemarks", name := "settle", desc := "(IZ)I" } : Jvm.MethodName)) ∈ lw_all := lw_g (lw_at lw_m10 27 rfl) rfl
theorem q2274 : (Jvm.Cond.selects "LineRemarks" ({ cls := "LineRemarks", name := "settle", desc := "(IZ)I" } : Jvm.MethodName) ({ cls := "LineRemarks", name := "settle", desc := "(IZ)I" } : Jvm.MethodName)) ∈ lw_all := lw_g (lw_at lw_m10 28 rfl) rfl
theorem q2275 : (Jvm.Cond.codeWith ({ cls := "LineRemarks", name := "settle", desc := "(IZ)I" } : Jvm.MethodName) prog_1_method_36_code (4 : Nat) (Option.some Jvm.ClassFile.FieldType.int) [((0 : Nat), (35 : Nat), (36 : Nat), (21 : Nat))]) ∈ lw_all := lw_g (lw_at lw_m10 29 rfl) rfl
theorem q2277 : (Jvm.Cond.instanceMethod ({ cls := "LineRemarks", name := "put", desc := "(III)I" } : Jvm.MethodName)) ∈ lw_all := lw_g (lw_at lw_m10 31 rfl) rfl
theorem q2278 : (Jvm.Cond.selects "LineRemarks" ({ cls := "LineRemarks", name := "put", desc := "(III)I" } : Jvm.MethodName) ({ cls := "LineRemarks", name := "put", desc := "(III)I" } : Jvm.MethodName)) ∈ lw_all := lw_g (lw_at lw_m10 32 rfl) rfl
theorem q2279 : (Jvm.Cond.codeWith ({ cls := "LineRemarks", name := "put", desc := "(III)I" } : Jvm.MethodName) prog_1_method_37_code (8 : Nat) (Option.some Jvm.ClassFile.FieldType.int) [((0 : Nat), (110 : Nat), (111 : Nat), (21 : Nat))]) ∈ lw_all := lw_g (lw_at lw_m10 33 rfl) rfl
theorem q2280 : (Jvm.Cond.classLink "LineRemarks" (358 : Nat) "LineRemarks$Walk") ∈ lw_all := lw_g (lw_at lw_m10 34 rfl) rfl
theorem q2282 : (Jvm.Cond.methodLink "LineRemarks" (360 : Nat) ({ cls := "LineRemarks$Walk", name := "<init>", desc := "(LLineRemarks$World;)V" } : Jvm.MethodName)) ∈ lw_all := lw_g (lw_at lw_m10 36 rfl) rfl
theorem q2300 : (Jvm.Cond.fieldLink "LineRemarks" (371 : Nat) "LineRemarks$Span" "p" "I") ∈ lw_all := lw_g (lw_at lw_m10 54 rfl) rfl
theorem q2306 : (Jvm.Cond.fieldLink "LineRemarks" (374 : Nat) "LineRemarks$Span" "q" "I") ∈ lw_all := lw_g (lw_at lw_m10 60 rfl) rfl
theorem q2331 : (Jvm.Cond.fieldLink "LineRemarks" (367 : Nat) "LineRemarks$Walk" "span" "LLineRemarks$Span;") ∈ lw_all := lw_g (lw_at lw_m10 85 rfl) rfl
theorem q2337 : (Jvm.Cond.fieldLink "LineRemarks" (375 : Nat) "LineRemarks$Walk" "how" "I") ∈ lw_all := lw_g (lw_at lw_m10 91 rfl) rfl
theorem q2351 : (Jvm.Cond.methodLink "LineRemarks" (363 : Nat) ({ cls := "LineRemarks$Walk", name := "to", desc := "(LLineRemarks$Remark;LLineRemarks$Revision;)LLineRemarks$Walk;" } : Jvm.MethodName)) ∈ lw_all := lw_g (lw_at lw_m10 105 rfl) rfl
theorem q2463 : (Jvm.Cond.methodLink "LineRemarks" (378 : Nat) ({ cls := "LineRemarks$Walk", name := "isLost", desc := "()Z" } : Jvm.MethodName)) ∈ lw_all := lw_g (lw_at lw_m10 217 rfl) rfl
theorem q2465 : (Jvm.Cond.instanceMethod ({ cls := "LineRemarks", name := "score", desc := "(III)I" } : Jvm.MethodName)) ∈ lw_all := lw_g (lw_at lw_m10 219 rfl) rfl
theorem q2466 : (Jvm.Cond.selects "LineRemarks" ({ cls := "LineRemarks", name := "score", desc := "(III)I" } : Jvm.MethodName) ({ cls := "LineRemarks", name := "score", desc := "(III)I" } : Jvm.MethodName)) ∈ lw_all := lw_g (lw_at lw_m10 220 rfl) rfl
theorem q2467 : (Jvm.Cond.codeWith ({ cls := "LineRemarks", name := "score", desc := "(III)I" } : Jvm.MethodName) prog_1_method_39_code (7 : Nat) (Option.some Jvm.ClassFile.FieldType.int) [((0 : Nat), (53 : Nat), (54 : Nat), (21 : Nat))]) ∈ lw_all := lw_g (lw_at lw_m10 221 rfl) rfl
theorem q2468 : (Jvm.Cond.methodLink "LineRemarks" (385 : Nat) ({ cls := "LineRemarks", name := "contextOn", desc := "(LLineRemarks$Remark;LLineRemarks$Revision;)LLineRemarks$Context;" } : Jvm.MethodName)) ∈ lw_all := lw_g (lw_at lw_m10 222 rfl) rfl
theorem q2469 : (Jvm.Cond.privateMethod ({ cls := "LineRemarks", name := "contextOn", desc := "(LLineRemarks$Remark;LLineRemarks$Revision;)LLineRemarks$Context;" } : Jvm.MethodName)) ∈ lw_tbl := lw_at lw_m10 223 rfl
theorem q2470 : (Jvm.Cond.instanceMethod ({ cls := "LineRemarks", name := "contextOn", desc := "(LLineRemarks$Remark;LLineRemarks$Revision;)LLineRemarks$Context;" } : Jvm.MethodName)) ∈ lw_all := lw_g (lw_at lw_m10 224 rfl) rfl
theorem q2471 : (Jvm.Cond.code ({ cls := "LineRemarks", name := "contextOn", desc := "(LLineRemarks$Remark;LLineRemarks$Revision;)LLineRemarks$Context;" } : Jvm.MethodName) prog_1_method_38_code (3 : Nat) (Option.some (Jvm.ClassFile.FieldType.object "LineRemarks$Context"))) ∈ lw_all := lw_g (lw_at lw_m10 225 rfl) rfl
theorem q2472 : (Jvm.Cond.methodLink "LineRemarks" (381 : Nat) ({ cls := "LineRemarks$Walk", name := "aheadOf", desc := "(LLineRemarks$Remark;LLineRemarks$Revision;)LLineRemarks$Context;" } : Jvm.MethodName)) ∈ lw_all := lw_g (lw_at lw_m10 226 rfl) rfl
theorem q2477 : (Jvm.Cond.methodLink "LineRemarks" (388 : Nat) ({ cls := "LineRemarks$Context", name := "places", desc := "(LLineRemarks$Revision;)I" } : Jvm.MethodName)) ∈ lw_all := lw_g (lw_at lw_m10 231 rfl) rfl
theorem q2478 : (Jvm.Cond.methodLink "LineRemarks" (394 : Nat) ({ cls := "LineRemarks$Context", name := "score", desc := "(LLineRemarks$Revision;I)I" } : Jvm.MethodName)) ∈ lw_all := lw_g (lw_at lw_m10 232 rfl) rfl
theorem q2480 : (Jvm.Cond.instanceMethod ({ cls := "LineRemarks", name := "leastNeed", desc := "(II)I" } : Jvm.MethodName)) ∈ lw_all := lw_g (lw_at lw_m10 234 rfl) rfl
theorem q2481 : (Jvm.Cond.selects "LineRemarks" ({ cls := "LineRemarks", name := "leastNeed", desc := "(II)I" } : Jvm.MethodName) ({ cls := "LineRemarks", name := "leastNeed", desc := "(II)I" } : Jvm.MethodName)) ∈ lw_all := lw_g (lw_at lw_m10 235 rfl) rfl
theorem q2482 : (Jvm.Cond.codeWith ({ cls := "LineRemarks", name := "leastNeed", desc := "(II)I" } : Jvm.MethodName) prog_1_method_40_code (7 : Nat) (Option.some Jvm.ClassFile.FieldType.int) [((0 : Nat), (57 : Nat), (58 : Nat), (21 : Nat))]) ∈ lw_all := lw_g (lw_at lw_m10 236 rfl) rfl
theorem q2483 : (Jvm.Cond.methodLink "LineRemarks" (398 : Nat) ({ cls := "LineRemarks$Context", name := "best", desc := "(LLineRemarks$Revision;I)I" } : Jvm.MethodName)) ∈ lw_all := lw_g (lw_at lw_m10 237 rfl) rfl
theorem q2485 : (Jvm.Cond.instanceMethod ({ cls := "LineRemarks", name := "fitting", desc := "(II)I" } : Jvm.MethodName)) ∈ lw_all := lw_g (lw_at lw_m10 239 rfl) rfl
theorem q2486 : (Jvm.Cond.selects "LineRemarks" ({ cls := "LineRemarks", name := "fitting", desc := "(II)I" } : Jvm.MethodName) ({ cls := "LineRemarks", name := "fitting", desc := "(II)I" } : Jvm.MethodName)) ∈ lw_all := lw_g (lw_at lw_m11 0 rfl) rfl
theorem q2487 : (Jvm.Cond.codeWith ({ cls := "LineRemarks", name := "fitting", desc := "(II)I" } : Jvm.MethodName) prog_1_method_41_code (9 : Nat) (Option.some Jvm.ClassFile.FieldType.int) [((0 : Nat), (134 : Nat), (135 : Nat), (21 : Nat))]) ∈ lw_all := lw_g (lw_at lw_m11 1 rfl) rfl
theorem q2488 : (Jvm.Cond.classLink "LineRemarks" (95 : Nat) "java/lang/Integer") ∈ lw_all := lw_g (lw_at lw_m11 2 rfl) rfl
theorem q2489 : (Jvm.Cond.methodLink "LineRemarks" (401 : Nat) ({ cls := "java/lang/Integer", name := "intValue", desc := "()I" } : Jvm.MethodName)) ∈ lw_all := lw_g (lw_at lw_m11 3 rfl) rfl
theorem q2490 : (Jvm.Cond.methodLink "LineRemarks" (404 : Nat) ({ cls := "LineRemarks", name := "ofKind", desc := "(IIILLineRemarks$Revision;III)LLineRemarks$Remark;" } : Jvm.MethodName)) ∈ lw_all := lw_g (lw_at lw_m11 4 rfl) rfl
theorem q2492 : (Jvm.Cond.instanceMethod ({ cls := "LineRemarks", name := "inOrder", desc := "(II)I" } : Jvm.MethodName)) ∈ lw_all := lw_g (lw_at lw_m11 6 rfl) rfl
theorem q2493 : (Jvm.Cond.selects "LineRemarks" ({ cls := "LineRemarks", name := "inOrder", desc := "(II)I" } : Jvm.MethodName) ({ cls := "LineRemarks", name := "inOrder", desc := "(II)I" } : Jvm.MethodName)) ∈ lw_all := lw_g (lw_at lw_m11 7 rfl) rfl
theorem q2494 : (Jvm.Cond.codeWith ({ cls := "LineRemarks", name := "inOrder", desc := "(II)I" } : Jvm.MethodName) prog_1_method_44_code (5 : Nat) (Option.some Jvm.ClassFile.FieldType.int) [((0 : Nat), (24 : Nat), (50 : Nat), (21 : Nat)), ((25 : Nat), (49 : Nat), (50 : Nat), (21 : Nat))]) ∈ lw_all := lw_g (lw_at lw_m11 8 rfl) rfl
theorem q2495 : (Jvm.Cond.methodLink "LineRemarks" (434 : Nat) ({ cls := "LineRemarks", name := "puts", desc := "(LLineRemarks$Revision;Z)Ljava/util/LinkedList;" } : Jvm.MethodName)) ∈ lw_all := lw_g (lw_at lw_m11 9 rfl) rfl
theorem q2496 : (Jvm.Cond.privateMethod ({ cls := "LineRemarks", name := "puts", desc := "(LLineRemarks$Revision;Z)Ljava/util/LinkedList;" } : Jvm.MethodName)) ∈ lw_tbl := lw_at lw_m11 10 rfl
theorem q2497 : (Jvm.Cond.instanceMethod ({ cls := "LineRemarks", name := "puts", desc := "(LLineRemarks$Revision;Z)Ljava/util/LinkedList;" } : Jvm.MethodName)) ∈ lw_all := lw_g (lw_at lw_m11 11 rfl) rfl
theorem q2498 : (Jvm.Cond.code ({ cls := "LineRemarks", name := "puts", desc := "(LLineRemarks$Revision;Z)Ljava/util/LinkedList;" } : Jvm.MethodName) prog_1_method_42_code (6 : Nat) (Option.some (Jvm.ClassFile.FieldType.object "java/util/LinkedList"))) ∈ lw_all := lw_g (lw_at lw_m11 12 rfl) rfl
theorem q2499 : (Jvm.Cond.classLink "LineRemarks" (408 : Nat) "java/util/LinkedList") ∈ lw_all := lw_g (lw_at lw_m11 13 rfl) rfl
theorem q2500 : (Jvm.Cond.methodLink "LineRemarks" (410 : Nat) ({ cls := "java/util/LinkedList", name := "<init>", desc := "()V" } : Jvm.MethodName)) ∈ lw_all := lw_g (lw_at lw_m11 14 rfl) rfl
theorem q2519 : (Jvm.Cond.classLink "LineRemarks" (411 : Nat) "LineRemarks$Put") ∈ lw_all := lw_g (lw_at lw_m11 33 rfl) rfl
theorem q2521 : (Jvm.Cond.methodLink "LineRemarks" (413 : Nat) ({ cls := "LineRemarks$Put", name := "<init>", desc := "(ILLineRemarks$Span;)V" } : Jvm.MethodName)) ∈ lw_all := lw_g (lw_at lw_m11 35 rfl) rfl
theorem q2526 : (Jvm.Cond.fieldLink "LineRemarks" (431 : Nat) "LineRemarks$Put" "m" "I") ∈ lw_all := lw_g (lw_at lw_m11 40 rfl) rfl
theorem q2528 : (Jvm.Cond.fieldLink "LineRemarks" (421 : Nat) "LineRemarks$Put" "span" "LLineRemarks$Span;") ∈ lw_all := lw_g (lw_at lw_m11 42 rfl) rfl
theorem q2534 : (Jvm.Cond.methodLink "LineRemarks" (416 : Nat) ({ cls := "java/util/LinkedList", name := "addLast", desc := "(Ljava/lang/Object;)V" } : Jvm.MethodName)) ∈ lw_all := lw_g (lw_at lw_m11 48 rfl) rfl
theorem q2538 : (Jvm.Cond.methodLink "LineRemarks" (438 : Nat) ({ cls := "java/util/LinkedList", name := "size", desc := "()I" } : Jvm.MethodName)) ∈ lw_all := lw_g (lw_at lw_m11 52 rfl) rfl
theorem q2539 : (Jvm.Cond.methodLink "LineRemarks" (439 : Nat) ({ cls := "LineRemarks", name := "firstOut", desc := "(Ljava/util/LinkedList;)I" } : Jvm.MethodName)) ∈ lw_all := lw_g (lw_at lw_m11 53 rfl) rfl
theorem q2540 : (Jvm.Cond.static ({ cls := "LineRemarks", name := "firstOut", desc := "(Ljava/util/LinkedList;)I" } : Jvm.MethodName)) ∈ lw_all := lw_g (lw_at lw_m11 54 rfl) rfl
theorem q2541 : (Jvm.Cond.code ({ cls := "LineRemarks", name := "firstOut", desc := "(Ljava/util/LinkedList;)I" } : Jvm.MethodName) prog_1_method_43_code (4 : Nat) (Option.some Jvm.ClassFile.FieldType.int)) ∈ lw_all := lw_g (lw_at lw_m11 55 rfl) rfl
theorem q2542 : (Jvm.Cond.methodLink "LineRemarks" (420 : Nat) ({ cls := "java/util/LinkedList", name := "iterator", desc := "()Ljava/util/Iterator;" } : Jvm.MethodName)) ∈ lw_all := lw_g (lw_at lw_m11 56 rfl) rfl
theorem q2546 : (Jvm.Cond.methodLink "LineRemarks" (422 : Nat) ({ cls := "java/lang/Math", name := "min", desc := "(II)I" } : Jvm.MethodName)) ∈ lw_all := lw_g (lw_at lw_m11 60 rfl) rfl
theorem q2547 : (Jvm.Cond.interfaceEntry "LineRemarks" (428 : Nat)) ∈ lw_tbl := lw_at lw_m11 61 rfl
theorem q2548 : (Jvm.Cond.methodLink "LineRemarks" (428 : Nat) ({ cls := "java/util/Iterator", name := "remove", desc := "()V" } : Jvm.MethodName)) ∈ lw_all := lw_g (lw_at lw_m11 62 rfl) rfl
theorem q2645 : (Jvm.Cond.instanceMethod ({ cls := "LineRemarks", name := "who", desc := "(II)I" } : Jvm.MethodName)) ∈ lw_all := lw_g (lw_at lw_m11 159 rfl) rfl
theorem q2646 : (Jvm.Cond.selects "LineRemarks" ({ cls := "LineRemarks", name := "who", desc := "(II)I" } : Jvm.MethodName) ({ cls := "LineRemarks", name := "who", desc := "(II)I" } : Jvm.MethodName)) ∈ lw_all := lw_g (lw_at lw_m11 160 rfl) rfl
theorem q2647 : (Jvm.Cond.codeWith ({ cls := "LineRemarks", name := "who", desc := "(II)I" } : Jvm.MethodName) prog_1_method_47_code (5 : Nat) (Option.some Jvm.ClassFile.FieldType.int) [((0 : Nat), (55 : Nat), (56 : Nat), (21 : Nat))]) ∈ lw_all := lw_g (lw_at lw_m11 161 rfl) rfl
theorem q2648 : (Jvm.Cond.methodLink "LineRemarks" (469 : Nat) ({ cls := "LineRemarks", name := "heat", desc := "(Ljava/util/LinkedList;)I" } : Jvm.MethodName)) ∈ lw_all := lw_g (lw_at lw_m11 162 rfl) rfl
theorem q2649 : (Jvm.Cond.static ({ cls := "LineRemarks", name := "heat", desc := "(Ljava/util/LinkedList;)I" } : Jvm.MethodName)) ∈ lw_all := lw_g (lw_at lw_m11 163 rfl) rfl
theorem q2650 : (Jvm.Cond.code ({ cls := "LineRemarks", name := "heat", desc := "(Ljava/util/LinkedList;)I" } : Jvm.MethodName) prog_1_method_46_code (5 : Nat) (Option.some Jvm.ClassFile.FieldType.int)) ∈ lw_all := lw_g (lw_at lw_m11 164 rfl) rfl
theorem q2651 : (Jvm.Cond.classLink "LineRemarks" (443 : Nat) "java/util/ArrayList") ∈ lw_all := lw_g (lw_at lw_m11 165 rfl) rfl
theorem q2652 : (Jvm.Cond.methodLink "LineRemarks" (445 : Nat) ({ cls := "java/util/Collections", name := "nCopies", desc := "(ILjava/lang/Object;)Ljava/util/List;" } : Jvm.MethodName)) ∈ lw_all := lw_g (lw_at lw_m11 166 rfl) rfl
theorem q2671 : (Jvm.Cond.methodLink "LineRemarks" (451 : Nat) ({ cls := "java/util/ArrayList", name := "<init>", desc := "(Ljava/util/Collection;)V" } : Jvm.MethodName)) ∈ lw_all := lw_g (lw_at lw_m11 185 rfl) rfl
theorem q2758 : (Jvm.Cond.interfaceEntry "LineRemarks" (454 : Nat)) ∈ lw_tbl := lw_at lw_m12 32 rfl
theorem q2759 : (Jvm.Cond.methodLink "LineRemarks" (454 : Nat) ({ cls := "java/util/List", name := "get", desc := "(I)Ljava/lang/Object;" } : Jvm.MethodName)) ∈ lw_all := lw_g (lw_at lw_m12 33 rfl) rfl
theorem q2760 : (Jvm.Cond.interfaceEntry "LineRemarks" (457 : Nat)) ∈ lw_tbl := lw_at lw_m12 34 rfl
theorem q2761 : (Jvm.Cond.methodLink "LineRemarks" (457 : Nat) ({ cls := "java/util/List", name := "set", desc := "(ILjava/lang/Object;)Ljava/lang/Object;" } : Jvm.MethodName)) ∈ lw_all := lw_g (lw_at lw_m12 35 rfl) rfl
theorem q2786 : (Jvm.Cond.methodLink "LineRemarks" (461 : Nat) ({ cls := "java/util/Collections", name := "max", desc := "(Ljava/util/Collection;)Ljava/lang/Object;" } : Jvm.MethodName)) ∈ lw_all := lw_g (lw_at lw_m12 60 rfl) rfl
theorem q2996 : (Jvm.Cond.interfaceEntry "LineRemarks" (465 : Nat)) ∈ lw_tbl := lw_at lw_m13 30 rfl
theorem q2997 : (Jvm.Cond.methodLink "LineRemarks" (465 : Nat) ({ cls := "java/util/List", name := "indexOf", desc := "(Ljava/lang/Object;)I" } : Jvm.MethodName)) ∈ lw_all := lw_g (lw_at lw_m13 31 rfl) rfl
theorem q3013 : (Jvm.Cond.selects "LineRemarks" ({ cls := "java/lang/Object", name := "equals", desc := "(Ljava/lang/Object;)Z" } : Jvm.MethodName) ({ cls := "java/lang/Object", name := "equals", desc := "(Ljava/lang/Object;)Z" } : Jvm.MethodName)) ∈ lw_all := lw_g (lw_at lw_m13 47 rfl) rfl
theorem q3091 : (Jvm.Cond.methodLink "LineRemarks" (472 : Nat) ({ cls := "LineRemarks", name := "bitsOf", desc := "(Ljava/util/LinkedList;)I" } : Jvm.MethodName)) ∈ lw_all := lw_g (lw_at lw_m13 125 rfl) rfl
theorem q3092 : (Jvm.Cond.static ({ cls := "LineRemarks", name := "bitsOf", desc := "(Ljava/util/LinkedList;)I" } : Jvm.MethodName)) ∈ lw_all := lw_g (lw_at lw_m13 126 rfl) rfl
theorem q3093 : (Jvm.Cond.code ({ cls := "LineRemarks", name := "bitsOf", desc := "(Ljava/util/LinkedList;)I" } : Jvm.MethodName) prog_1_method_45_code (4 : Nat) (Option.some Jvm.ClassFile.FieldType.int)) ∈ lw_all := lw_g (lw_at lw_m13 127 rfl) rfl
theorem q3095 : (Jvm.Cond.instanceMethod ({ cls := "LineRemarks", name := "covered", desc := "(I)I" } : Jvm.MethodName)) ∈ lw_all := lw_g (lw_at lw_m13 129 rfl) rfl
theorem q3096 : (Jvm.Cond.selects "LineRemarks" ({ cls := "LineRemarks", name := "covered", desc := "(I)I" } : Jvm.MethodName) ({ cls := "LineRemarks", name := "covered", desc := "(I)I" } : Jvm.MethodName)) ∈ lw_all := lw_g (lw_at lw_m13 130 rfl) rfl
theorem q3097 : (Jvm.Cond.codeWith ({ cls := "LineRemarks", name := "covered", desc := "(I)I" } : Jvm.MethodName) prog_1_method_48_code (5 : Nat) (Option.some Jvm.ClassFile.FieldType.int) [((0 : Nat), (102 : Nat), (103 : Nat), (21 : Nat))]) ∈ lw_all := lw_g (lw_at lw_m13 131 rfl) rfl
theorem q3098 : (Jvm.Cond.classLink "LineRemarks" (475 : Nat) "java/util/BitSet") ∈ lw_all := lw_g (lw_at lw_m13 132 rfl) rfl
theorem q3099 : (Jvm.Cond.methodLink "LineRemarks" (477 : Nat) ({ cls := "java/util/BitSet", name := "<init>", desc := "()V" } : Jvm.MethodName)) ∈ lw_all := lw_g (lw_at lw_m13 133 rfl) rfl
theorem q3100 : (Jvm.Cond.methodLink "LineRemarks" (478 : Nat) ({ cls := "java/util/BitSet", name := "set", desc := "(II)V" } : Jvm.MethodName)) ∈ lw_all := lw_g (lw_at lw_m13 134 rfl) rfl
theorem q3110 : (Jvm.Cond.methodLink "LineRemarks" (481 : Nat) ({ cls := "java/util/BitSet", name := "nextSetBit", desc := "(I)I" } : Jvm.MethodName)) ∈ lw_all := lw_g (lw_at lw_m13 144 rfl) rfl
theorem q3112 : (Jvm.Cond.instanceMethod ({ cls := "LineRemarks", name := "judge", desc := "(III)I" } : Jvm.MethodName)) ∈ lw_all := lw_g (lw_at lw_m13 146 rfl) rfl
theorem q3113 : (Jvm.Cond.selects "LineRemarks" ({ cls := "LineRemarks", name := "judge", desc := "(III)I" } : Jvm.MethodName) ({ cls := "LineRemarks", name := "judge", desc := "(III)I" } : Jvm.MethodName)) ∈ lw_all := lw_g (lw_at lw_m13 147 rfl) rfl
theorem q3114 : (Jvm.Cond.codeWith ({ cls := "LineRemarks", name := "judge", desc := "(III)I" } : Jvm.MethodName) prog_1_method_49_code (13 : Nat) (Option.some Jvm.ClassFile.FieldType.int) [((0 : Nat), (205 : Nat), (214 : Nat), (21 : Nat)), ((206 : Nat), (213 : Nat), (214 : Nat), (21 : Nat))]) ∈ lw_all := lw_g (lw_at lw_m13 148 rfl) rfl
theorem q3115 : (Jvm.Cond.classLink "LineRemarks" (308 : Nat) "java/util/ArrayDeque") ∈ lw_all := lw_g (lw_at lw_m13 149 rfl) rfl
theorem q3116 : (Jvm.Cond.methodLink "LineRemarks" (484 : Nat) ({ cls := "java/util/ArrayDeque", name := "<init>", desc := "()V" } : Jvm.MethodName)) ∈ lw_all := lw_g (lw_at lw_m13 150 rfl) rfl
theorem q3117 : (Jvm.Cond.methodLink "LineRemarks" (485 : Nat) ({ cls := "java/util/ArrayDeque", name := "size", desc := "()I" } : Jvm.MethodName)) ∈ lw_all := lw_g (lw_at lw_m13 151 rfl) rfl
theorem q3118 : (Jvm.Cond.methodLink "LineRemarks" (11 : Nat) ({ cls := "LineRemarks$Row", name := "length", desc := "()I" } : Jvm.MethodName)) ∈ lw_all := lw_g (lw_at lw_m13 152 rfl) rfl
theorem q3119 : (Jvm.Cond.methodLink "LineRemarks" (486 : Nat) ({ cls := "java/util/ArrayDeque", name := "isEmpty", desc := "()Z" } : Jvm.MethodName)) ∈ lw_all := lw_g (lw_at lw_m13 153 rfl) rfl
theorem q3120 : (Jvm.Cond.methodLink "LineRemarks" (489 : Nat) ({ cls := "LineRemarks$Walk", name := "begin", desc := "(LLineRemarks$Remark;)V" } : Jvm.MethodName)) ∈ lw_all := lw_g (lw_at lw_m13 154 rfl) rfl
theorem q3121 : (Jvm.Cond.methodLink "LineRemarks" (493 : Nat) ({ cls := "LineRemarks$Walk", name := "step", desc := "(LLineRemarks$Revision;)V" } : Jvm.MethodName)) ∈ lw_all := lw_g (lw_at lw_m13 155 rfl) rfl
theorem q3122 : (Jvm.Cond.methodLink "LineRemarks" (497 : Nat) ({ cls := "LineRemarks$Row", name := "asInt", desc := "(I)I" } : Jvm.MethodName)) ∈ lw_all := lw_g (lw_at lw_m13 156 rfl) rfl
theorem q3124 : (Jvm.Cond.instanceMethod ({ cls := "LineRemarks", name := "again", desc := "(II)I" } : Jvm.MethodName)) ∈ lw_all := lw_g (lw_at lw_m13 158 rfl) rfl
theorem q3125 : (Jvm.Cond.selects "LineRemarks" ({ cls := "LineRemarks", name := "again", desc := "(II)I" } : Jvm.MethodName) ({ cls := "LineRemarks", name := "again", desc := "(II)I" } : Jvm.MethodName)) ∈ lw_all := lw_g (lw_at lw_m13 159 rfl) rfl
theorem q3126 : (Jvm.Cond.codeWith ({ cls := "LineRemarks", name := "again", desc := "(II)I" } : Jvm.MethodName) prog_1_method_51_code (10 : Nat) (Option.some Jvm.ClassFile.FieldType.int) [((0 : Nat), (195 : Nat), (196 : Nat), (21 : Nat))]) ∈ lw_all := lw_g (lw_at lw_m13 160 rfl) rfl
theorem q3127 : (Jvm.Cond.methodLink "LineRemarks" (500 : Nat) ({ cls := "LineRemarks", name := "toMake", desc := "(LLineRemarks$Revision;)I" } : Jvm.MethodName)) ∈ lw_all := lw_g (lw_at lw_m13 161 rfl) rfl
theorem q3128 : (Jvm.Cond.privateMethod ({ cls := "LineRemarks", name := "toMake", desc := "(LLineRemarks$Revision;)I" } : Jvm.MethodName)) ∈ lw_tbl := lw_at lw_m13 162 rfl
theorem q3129 : (Jvm.Cond.instanceMethod ({ cls := "LineRemarks", name := "toMake", desc := "(LLineRemarks$Revision;)I" } : Jvm.MethodName)) ∈ lw_all := lw_g (lw_at lw_m13 163 rfl) rfl
theorem q3130 : (Jvm.Cond.code ({ cls := "LineRemarks", name := "toMake", desc := "(LLineRemarks$Revision;)I" } : Jvm.MethodName) prog_1_method_50_code (4 : Nat) (Option.some Jvm.ClassFile.FieldType.int)) ∈ lw_all := lw_g (lw_at lw_m13 164 rfl) rfl
theorem q3132 : (Jvm.Cond.instanceMethod ({ cls := "LineRemarks", name := "drift", desc := "(I)I" } : Jvm.MethodName)) ∈ lw_all := lw_g (lw_at lw_m13 166 rfl) rfl
theorem q3133 : (Jvm.Cond.selects "LineRemarks" ({ cls := "LineRemarks", name := "drift", desc := "(I)I" } : Jvm.MethodName) ({ cls := "LineRemarks", name := "drift", desc := "(I)I" } : Jvm.MethodName)) ∈ lw_all := lw_g (lw_at lw_m13 167 rfl) rfl
theorem q3134 : (Jvm.Cond.codeWith ({ cls := "LineRemarks", name := "drift", desc := "(I)I" } : Jvm.MethodName) prog_1_method_52_code (3 : Nat) (Option.some Jvm.ClassFile.FieldType.int) [((0 : Nat), (87 : Nat), (88 : Nat), (21 : Nat))]) ∈ lw_all := lw_g (lw_at lw_m13 168 rfl) rfl
theorem q3135 : (Jvm.Cond.constantLong "LineRemarks" (503 : Nat) (15 : Int64)) ∈ lw_all := lw_g (lw_at lw_m13 169 rfl) rfl
theorem q3136 : (Jvm.Cond.methodLink "LineRemarks" (505 : Nat) ({ cls := "LineRemarks$World", name := "drift", desc := "()V" } : Jvm.MethodName)) ∈ lw_all := lw_g (lw_at lw_m13 170 rfl) rfl
theorem q3175 : (Jvm.Cond.instanceMethod ({ cls := "LineRemarks", name := "seed", desc := "(I)I" } : Jvm.MethodName)) ∈ lw_all := lw_g (lw_at lw_m13 209 rfl) rfl
theorem q3176 : (Jvm.Cond.selects "LineRemarks" ({ cls := "LineRemarks", name := "seed", desc := "(I)I" } : Jvm.MethodName) ({ cls := "LineRemarks", name := "seed", desc := "(I)I" } : Jvm.MethodName)) ∈ lw_all := lw_g (lw_at lw_m13 210 rfl) rfl
theorem q3177 : (Jvm.Cond.code ({ cls := "LineRemarks", name := "seed", desc := "(I)I" } : Jvm.MethodName) prog_1_method_53_code (3 : Nat) (Option.some Jvm.ClassFile.FieldType.int)) ∈ lw_all := lw_g (lw_at lw_m13 211 rfl) rfl
theorem q3179 : (Jvm.Cond.instanceMethod ({ cls := "LineRemarks", name := "act", desc := "(III)I" } : Jvm.MethodName)) ∈ lw_all := lw_g (lw_at lw_m13 213 rfl) rfl
theorem q3180 : (Jvm.Cond.selects "LineRemarks" ({ cls := "LineRemarks", name := "act", desc := "(III)I" } : Jvm.MethodName) ({ cls := "LineRemarks", name := "act", desc := "(III)I" } : Jvm.MethodName)) ∈ lw_all := lw_g (lw_at lw_m13 214 rfl) rfl
theorem q3181 : (Jvm.Cond.code ({ cls := "LineRemarks", name := "act", desc := "(III)I" } : Jvm.MethodName) prog_1_method_54_code (5 : Nat) (Option.some Jvm.ClassFile.FieldType.int)) ∈ lw_all := lw_g (lw_at lw_m13 215 rfl) rfl
theorem q3182 : (Jvm.Cond.methodLink "LineRemarks" (512 : Nat) ({ cls := "LineRemarks$Remark", name := "pointing", desc := "(ILLineRemarks$Trace;)I" } : Jvm.MethodName)) ∈ lw_all := lw_g (lw_at lw_m13 216 rfl) rfl
theorem q3213 : (Jvm.Cond.methodLink "LineRemarks" (516 : Nat) ({ cls := "LineRemarks$Remark", name := "weighing", desc := "(ILLineRemarks$Trace;)I" } : Jvm.MethodName)) ∈ lw_all := lw_g (lw_at lw_m14 7 rfl) rfl
theorem q3234 : (Jvm.Cond.methodLink "LineRemarks" (519 : Nat) ({ cls := "LineRemarks$Remark", name := "clinging", desc := "(ILLineRemarks$Trace;)I" } : Jvm.MethodName)) ∈ lw_all := lw_g (lw_at lw_m14 28 rfl) rfl
theorem q3256 : (Jvm.Cond.instanceMethod ({ cls := "LineRemarks", name := "trace", desc := "(I)I" } : Jvm.MethodName)) ∈ lw_all := lw_g (lw_at lw_m14 50 rfl) rfl
theorem q3257 : (Jvm.Cond.selects "LineRemarks" ({ cls := "LineRemarks", name := "trace", desc := "(I)I" } : Jvm.MethodName) ({ cls := "LineRemarks", name := "trace", desc := "(I)I" } : Jvm.MethodName)) ∈ lw_all := lw_g (lw_at lw_m14 51 rfl) rfl
theorem q3258 : (Jvm.Cond.code ({ cls := "LineRemarks", name := "trace", desc := "(I)I" } : Jvm.MethodName) prog_1_method_55_code (2 : Nat) (Option.some Jvm.ClassFile.FieldType.int)) ∈ lw_all := lw_g (lw_at lw_m14 52 rfl) rfl
theorem q3260 : (Jvm.Cond.instanceMethod ({ cls := "LineRemarks", name := "image", desc := "()I" } : Jvm.MethodName)) ∈ lw_all := lw_g (lw_at lw_m14 54 rfl) rfl
theorem q3261 : (Jvm.Cond.selects "LineRemarks" ({ cls := "LineRemarks", name := "image", desc := "()I" } : Jvm.MethodName) ({ cls := "LineRemarks", name := "image", desc := "()I" } : Jvm.MethodName)) ∈ lw_all := lw_g (lw_at lw_m14 55 rfl) rfl
theorem q3262 : (Jvm.Cond.code ({ cls := "LineRemarks", name := "image", desc := "()I" } : Jvm.MethodName) prog_1_method_56_code (1 : Nat) (Option.some Jvm.ClassFile.FieldType.int)) ∈ lw_all := lw_g (lw_at lw_m14 56 rfl) rfl
theorem q3263 : (Jvm.Cond.methodLink "LineRemarks" (525 : Nat) ({ cls := "LineRemarks$World", name := "take", desc := "(LLineRemarks$World;)LLineRemarks$World;" } : Jvm.MethodName)) ∈ lw_all := lw_g (lw_at lw_m14 57 rfl) rfl
theorem q3269 : (Jvm.Cond.instanceMethod ({ cls := "LineRemarks", name := "restore", desc := "()I" } : Jvm.MethodName)) ∈ lw_all := lw_g (lw_at lw_m14 63 rfl) rfl
theorem q3270 : (Jvm.Cond.selects "LineRemarks" ({ cls := "LineRemarks", name := "restore", desc := "()I" } : Jvm.MethodName) ({ cls := "LineRemarks", name := "restore", desc := "()I" } : Jvm.MethodName)) ∈ lw_all := lw_g (lw_at lw_m14 64 rfl) rfl
theorem q3271 : (Jvm.Cond.codeWith ({ cls := "LineRemarks", name := "restore", desc := "()I" } : Jvm.MethodName) prog_1_method_57_code (2 : Nat) (Option.some Jvm.ClassFile.FieldType.int) [((0 : Nat), (46 : Nat), (47 : Nat), (21 : Nat))]) ∈ lw_all := lw_g (lw_at lw_m14 65 rfl) rfl
theorem q3272 : (Jvm.Cond.methodLink "LineRemarks" (532 : Nat) ({ cls := "LineRemarks", name := "shelvesFollow", desc := "()V" } : Jvm.MethodName)) ∈ lw_all := lw_g (lw_at lw_m14 66 rfl) rfl
theorem q3273 : (Jvm.Cond.privateMethod ({ cls := "LineRemarks", name := "shelvesFollow", desc := "()V" } : Jvm.MethodName)) ∈ lw_tbl := lw_at lw_m14 67 rfl
theorem q3274 : (Jvm.Cond.instanceMethod ({ cls := "LineRemarks", name := "shelvesFollow", desc := "()V" } : Jvm.MethodName)) ∈ lw_all := lw_g (lw_at lw_m14 68 rfl) rfl
theorem q3275 : (Jvm.Cond.code ({ cls := "LineRemarks", name := "shelvesFollow", desc := "()V" } : Jvm.MethodName) prog_1_method_12_code (6 : Nat) (Option.none : Option Jvm.ClassFile.FieldType)) ∈ lw_all := lw_g (lw_at lw_m14 69 rfl) rfl
theorem q3277 : (Jvm.Cond.instanceMethod ({ cls := "LineRemarks", name := "status", desc := "(I)I" } : Jvm.MethodName)) ∈ lw_all := lw_g (lw_at lw_m14 71 rfl) rfl
theorem q3278 : (Jvm.Cond.selects "LineRemarks" ({ cls := "LineRemarks", name := "status", desc := "(I)I" } : Jvm.MethodName) ({ cls := "LineRemarks", name := "status", desc := "(I)I" } : Jvm.MethodName)) ∈ lw_all := lw_g (lw_at lw_m14 72 rfl) rfl
theorem q3279 : (Jvm.Cond.code ({ cls := "LineRemarks", name := "status", desc := "(I)I" } : Jvm.MethodName) prog_1_method_60_code (2 : Nat) (Option.some Jvm.ClassFile.FieldType.int)) ∈ lw_all := lw_g (lw_at lw_m14 73 rfl) rfl
theorem q3280 : (Jvm.Cond.methodLink "LineRemarks" (535 : Nat) ({ cls := "LineRemarks", name := "settledMany", desc := "()I" } : Jvm.MethodName)) ∈ lw_all := lw_g (lw_at lw_m14 74 rfl) rfl
theorem q3281 : (Jvm.Cond.privateMethod ({ cls := "LineRemarks", name := "settledMany", desc := "()I" } : Jvm.MethodName)) ∈ lw_tbl := lw_at lw_m14 75 rfl
theorem q3282 : (Jvm.Cond.instanceMethod ({ cls := "LineRemarks", name := "settledMany", desc := "()I" } : Jvm.MethodName)) ∈ lw_all := lw_g (lw_at lw_m14 76 rfl) rfl
theorem q3283 : (Jvm.Cond.code ({ cls := "LineRemarks", name := "settledMany", desc := "()I" } : Jvm.MethodName) prog_1_method_58_code (3 : Nat) (Option.some Jvm.ClassFile.FieldType.int)) ∈ lw_all := lw_g (lw_at lw_m14 77 rfl) rfl
theorem q3284 : (Jvm.Cond.methodLink "LineRemarks" (538 : Nat) ({ cls := "LineRemarks", name := "openRoots", desc := "()I" } : Jvm.MethodName)) ∈ lw_all := lw_g (lw_at lw_m14 78 rfl) rfl
theorem q3285 : (Jvm.Cond.privateMethod ({ cls := "LineRemarks", name := "openRoots", desc := "()I" } : Jvm.MethodName)) ∈ lw_tbl := lw_at lw_m14 79 rfl
theorem q3286 : (Jvm.Cond.instanceMethod ({ cls := "LineRemarks", name := "openRoots", desc := "()I" } : Jvm.MethodName)) ∈ lw_all := lw_g (lw_at lw_m14 80 rfl) rfl
theorem q3287 : (Jvm.Cond.code ({ cls := "LineRemarks", name := "openRoots", desc := "()I" } : Jvm.MethodName) prog_1_method_59_code (3 : Nat) (Option.some Jvm.ClassFile.FieldType.int)) ∈ lw_all := lw_g (lw_at lw_m14 81 rfl) rfl
theorem q3288 : (Jvm.Cond.constantLong "LineRemarks" (541 : Nat) (11 : Int64)) ∈ lw_all := lw_g (lw_at lw_m14 82 rfl) rfl
theorem q3289 : (Jvm.Cond.constantLong "LineRemarks" (543 : Nat) (17 : Int64)) ∈ lw_all := lw_g (lw_at lw_m14 83 rfl) rfl
theorem q3800 : (Jvm.Cond.castable "LineRemarks" "java/lang/Object") ∈ lw_tbl := lw_at lw_m16 114 rfl
theorem in_X0 : ∀ w ∈ wsX00, w ∈ lw_all := lw_in wsX00 [391, 393, 395, 397, 399, 401, 403] (by decide +kernel) (by decide +kernel)
/-! the law's own entry -/
set_option maxRecDepth 100000
abbrev cL_law : ByteArray := code
def dkwL_law_57 : List UInt8 := [167, 250, 82, 4, 172]
abbrev dktL_law_57 : List UInt8 := dkwL_law_57 ++ []
def dkwL_law_56 : List UInt8 := [4, 96, 46, 182, 0, 164, 44, 42, 29, 4, 96, 46, 182, 0, 167, 159, 0, 5, 3, 172, 132, 3, 7]
abbrev dktL_law_56 : List UInt8 := dkwL_law_56 ++ dktL_law_57
def dkwL_law_55 : List UInt8 := [182, 0, 159, 159, 0, 41, 3, 172, 43, 182, 0, 160, 44, 182, 0, 163, 159, 0, 28, 3, 172, 43, 42, 29]
abbrev dktL_law_55 : List UInt8 := dkwL_law_55 ++ dktL_law_56
def dkwL_law_54 : List UInt8 := [182, 0, 152, 44, 42, 29, 4, 96, 46, 182, 0, 155, 159, 0, 54, 3, 172, 43, 182, 0, 156, 44]
abbrev dktL_law_54 : List UInt8 := dkwL_law_54 ++ dktL_law_55
def dkwL_law_53 : List UInt8 := [42, 29, 5, 96, 46, 42, 29, 6, 96, 46, 182, 0, 151, 159, 0, 77, 3, 172, 43, 42, 29, 4, 96, 46]
abbrev dktL_law_53 : List UInt8 := dkwL_law_53 ++ dktL_law_54
def dkwL_law_52 : List UInt8 := [42, 29, 4, 96, 46, 42, 29, 5, 96, 46, 42, 29, 6, 96, 46, 182, 0, 148, 44, 42, 29, 4, 96, 46]
abbrev dktL_law_52 : List UInt8 := dkwL_law_52 ++ dktL_law_53
def dkwL_law_51 : List UInt8 := [43, 42, 29, 4, 96, 46, 182, 0, 144, 44, 42, 29, 4, 96, 46, 182, 0, 147, 159, 0, 120, 3, 172, 43]
abbrev dktL_law_51 : List UInt8 := dkwL_law_51 ++ dktL_law_52
def dkwL_law_50 : List UInt8 := [172, 43, 42, 29, 4, 96, 46, 182, 0, 140, 44, 42, 29, 4, 96, 46, 182, 0, 143, 159, 0, 143, 3, 172]
abbrev dktL_law_50 : List UInt8 := dkwL_law_50 ++ dktL_law_51
def dkwL_law_49 : List UInt8 := [5, 96, 46, 182, 0, 136, 44, 42, 29, 4, 96, 46, 42, 29, 5, 96, 46, 182, 0, 139, 159, 0, 166, 3]
abbrev dktL_law_49 : List UInt8 := dkwL_law_49 ++ dktL_law_50
def dkwL_law_48 : List UInt8 := [5, 96, 46, 42, 29, 6, 96, 46, 182, 0, 135, 159, 0, 199, 3, 172, 43, 42, 29, 4, 96, 46, 42, 29]
abbrev dktL_law_48 : List UInt8 := dkwL_law_48 ++ dktL_law_49
def dkwL_law_47 : List UInt8 := [4, 96, 46, 42, 29, 5, 96, 46, 42, 29, 6, 96, 46, 182, 0, 132, 44, 42, 29, 4, 96, 46, 42, 29]
abbrev dktL_law_47 : List UInt8 := dkwL_law_47 ++ dktL_law_48
def dkwL_law_46 : List UInt8 := [29, 4, 96, 46, 182, 0, 128, 44, 42, 29, 4, 96, 46, 182, 0, 131, 159, 0, 242, 3, 172, 43, 42, 29]
abbrev dktL_law_46 : List UInt8 := dkwL_law_46 ++ dktL_law_47
def dkwL_law_45 : List UInt8 := [182, 0, 124, 44, 42, 29, 4, 96, 46, 42, 29, 5, 96, 46, 182, 0, 127, 159, 1, 9, 3, 172, 43, 42]
abbrev dktL_law_45 : List UInt8 := dkwL_law_45 ++ dktL_law_46
def dkwL_law_44 : List UInt8 := [5, 96, 46, 182, 0, 123, 159, 1, 42, 3, 172, 43, 42, 29, 4, 96, 46, 42, 29, 5, 96, 46]
abbrev dktL_law_44 : List UInt8 := dkwL_law_44 ++ dktL_law_45
def dkwL_law_43 : List UInt8 := [3, 172, 43, 42, 29, 4, 96, 46, 42, 29, 5, 96, 46, 182, 0, 120, 44, 42, 29, 4, 96, 46, 42, 29]
abbrev dktL_law_43 : List UInt8 := dkwL_law_43 ++ dktL_law_44
def dkwL_law_42 : List UInt8 := [29, 5, 96, 46, 182, 0, 116, 44, 42, 29, 4, 96, 46, 42, 29, 5, 96, 46, 182, 0, 119, 159, 1, 75]
abbrev dktL_law_42 : List UInt8 := dkwL_law_42 ++ dktL_law_43
def dkwL_law_41 : List UInt8 := [29, 4, 96, 46, 42, 29, 5, 96, 46, 182, 0, 115, 159, 1, 108, 3, 172, 43, 42, 29, 4, 96, 46, 42]
abbrev dktL_law_41 : List UInt8 := dkwL_law_41 ++ dktL_law_42
def dkwL_law_40 : List UInt8 := [182, 0, 111, 159, 1, 141, 3, 172, 43, 42, 29, 4, 96, 46, 42, 29, 5, 96, 46, 182, 0, 112, 44, 42]
abbrev dktL_law_40 : List UInt8 := dkwL_law_40 ++ dktL_law_41
def dkwL_law_39 : List UInt8 := [6, 96, 46, 182, 0, 108, 44, 42, 29, 4, 96, 46, 42, 29, 5, 96, 46, 42, 29, 6, 96, 46]
abbrev dktL_law_39 : List UInt8 := dkwL_law_39 ++ dktL_law_40
def dkwL_law_38 : List UInt8 := [6, 96, 46, 182, 0, 107, 159, 1, 184, 3, 172, 43, 42, 29, 4, 96, 46, 42, 29, 5, 96, 46, 42, 29]
abbrev dktL_law_38 : List UInt8 := dkwL_law_38 ++ dktL_law_39
def dkwL_law_37 : List UInt8 := [5, 96, 46, 42, 29, 6, 96, 46, 182, 0, 104, 44, 42, 29, 4, 96, 46, 42, 29, 5, 96, 46, 42, 29]
abbrev dktL_law_37 : List UInt8 := dkwL_law_37 ++ dktL_law_38
def dkwL_law_36 : List UInt8 := [153, 0, 7, 4, 167, 0, 4, 3, 182, 0, 103, 159, 1, 227, 3, 172, 43, 42, 29, 4, 96, 46, 42, 29]
abbrev dktL_law_36 : List UInt8 := dkwL_law_36 ++ dktL_law_37
def dkwL_law_35 : List UInt8 := [46, 153, 0, 7, 4, 167, 0, 4, 3, 182, 0, 99, 44, 42, 29, 4, 96, 46, 42, 29, 5, 96, 46]
abbrev dktL_law_35 : List UInt8 := dkwL_law_35 ++ dktL_law_36
def dkwL_law_34 : List UInt8 := [46, 42, 29, 5, 96, 46, 182, 0, 98, 159, 2, 20, 3, 172, 43, 42, 29, 4, 96, 46, 42, 29, 5, 96]
abbrev dktL_law_34 : List UInt8 := dkwL_law_34 ++ dktL_law_35
def dkwL_law_33 : List UInt8 := [159, 2, 53, 3, 172, 43, 42, 29, 4, 96, 46, 42, 29, 5, 96, 46, 182, 0, 95, 44, 42, 29, 4, 96]
abbrev dktL_law_33 : List UInt8 := dkwL_law_33 ++ dktL_law_34
def dkwL_law_32 : List UInt8 := [6, 96, 46, 42, 29, 7, 96, 46, 42, 29, 8, 96, 46, 42, 29, 16, 6, 96, 46, 182, 0, 94]
abbrev dktL_law_32 : List UInt8 := dkwL_law_32 ++ dktL_law_33
def dkwL_law_31 : List UInt8 := [96, 46, 42, 29, 16, 6, 96, 46, 182, 0, 90, 44, 42, 29, 4, 96, 46, 42, 29, 5, 96, 46, 42, 29]
abbrev dktL_law_31 : List UInt8 := dkwL_law_31 ++ dktL_law_32
def dkwL_law_30 : List UInt8 := [43, 42, 29, 4, 96, 46, 42, 29, 5, 96, 46, 42, 29, 6, 96, 46, 42, 29, 7, 96, 46, 42, 29, 8]
abbrev dktL_law_30 : List UInt8 := dkwL_law_30 ++ dktL_law_31
def dkwL_law_29 : List UInt8 := [44, 42, 29, 4, 96, 46, 42, 29, 5, 96, 46, 42, 29, 6, 96, 46, 182, 0, 89, 159, 2, 128, 3, 172]
abbrev dktL_law_29 : List UInt8 := dkwL_law_29 ++ dktL_law_30
def dkwL_law_28 : List UInt8 := [159, 2, 171, 3, 172, 43, 42, 29, 4, 96, 46, 42, 29, 5, 96, 46, 42, 29, 6, 96, 46, 182, 0, 86]
abbrev dktL_law_28 : List UInt8 := dkwL_law_28 ++ dktL_law_29
def dkwL_law_27 : List UInt8 := [182, 0, 82, 44, 42, 29, 4, 96, 46, 42, 29, 5, 96, 46, 42, 29, 6, 96, 46, 182, 0, 85]
abbrev dktL_law_27 : List UInt8 := dkwL_law_27 ++ dktL_law_28
def dkwL_law_26 : List UInt8 := [182, 0, 81, 159, 2, 214, 3, 172, 43, 42, 29, 4, 96, 46, 42, 29, 5, 96, 46, 42, 29, 6, 96, 46]
abbrev dktL_law_26 : List UInt8 := dkwL_law_26 ++ dktL_law_27
def dkwL_law_25 : List UInt8 := [29, 6, 96, 46, 182, 0, 78, 44, 42, 29, 4, 96, 46, 42, 29, 5, 96, 46, 42, 29, 6, 96, 46]
abbrev dktL_law_25 : List UInt8 := dkwL_law_25 ++ dktL_law_26
def dkwL_law_24 : List UInt8 := [29, 6, 96, 46, 182, 0, 77, 159, 3, 1, 3, 172, 43, 42, 29, 4, 96, 46, 42, 29, 5, 96, 46, 42]
abbrev dktL_law_24 : List UInt8 := dkwL_law_24 ++ dktL_law_25
def dkwL_law_23 : List UInt8 := [29, 5, 96, 46, 42, 29, 6, 96, 46, 182, 0, 74, 44, 42, 29, 4, 96, 46, 42, 29, 5, 96, 46, 42]
abbrev dktL_law_23 : List UInt8 := dkwL_law_23 ++ dktL_law_24
def dkwL_law_22 : List UInt8 := [29, 4, 96, 46, 42, 29, 5, 96, 46, 182, 0, 73, 159, 3, 44, 3, 172, 43, 42, 29, 4, 96, 46, 42]
abbrev dktL_law_22 : List UInt8 := dkwL_law_22 ++ dktL_law_23
def dkwL_law_21 : List UInt8 := [182, 0, 69, 159, 3, 77, 3, 172, 43, 42, 29, 4, 96, 46, 42, 29, 5, 96, 46, 182, 0, 70, 44, 42]
abbrev dktL_law_21 : List UInt8 := dkwL_law_21 ++ dktL_law_22
def dkwL_law_20 : List UInt8 := [46, 182, 0, 65, 159, 3, 100, 3, 172, 43, 42, 29, 4, 96, 46, 182, 0, 66, 44, 42, 29, 4, 96, 46]
abbrev dktL_law_20 : List UInt8 := dkwL_law_20 ++ dktL_law_21
def dkwL_law_19 : List UInt8 := [46, 42, 29, 6, 96, 46, 182, 0, 62, 44, 42, 29, 4, 96, 46, 42, 29, 5, 96, 46, 42, 29, 6, 96]
abbrev dktL_law_19 : List UInt8 := dkwL_law_19 ++ dktL_law_20
def dkwL_law_18 : List UInt8 := [44, 42, 29, 4, 96, 46, 182, 0, 61, 159, 3, 143, 3, 172, 43, 42, 29, 4, 96, 46, 42, 29, 5, 96]
abbrev dktL_law_18 : List UInt8 := dkwL_law_18 ++ dktL_law_19
def dkwL_law_17 : List UInt8 := [3, 172, 43, 182, 0, 53, 44, 182, 0, 57, 159, 3, 166, 3, 172, 43, 42, 29, 4, 96, 46, 182, 0, 58]
abbrev dktL_law_17 : List UInt8 := dkwL_law_17 ++ dktL_law_18
def dkwL_law_16 : List UInt8 := [29, 5, 96, 46, 182, 0, 49, 44, 42, 29, 4, 96, 46, 42, 29, 5, 96, 46, 182, 0, 52, 159, 3, 179]
abbrev dktL_law_16 : List UInt8 := dkwL_law_16 ++ dktL_law_17
def dkwL_law_15 : List UInt8 := [29, 4, 96, 46, 42, 29, 5, 96, 46, 182, 0, 48, 159, 3, 212, 3, 172, 43, 42, 29, 4, 96, 46, 42]
abbrev dktL_law_15 : List UInt8 := dkwL_law_15 ++ dktL_law_16
def dkwL_law_14 : List UInt8 := [182, 0, 44, 159, 3, 245, 3, 172, 43, 42, 29, 4, 96, 46, 42, 29, 5, 96, 46, 182, 0, 45, 44, 42]
abbrev dktL_law_14 : List UInt8 := dkwL_law_14 ++ dktL_law_15
def dkwL_law_13 : List UInt8 := [182, 0, 39, 159, 4, 12, 3, 172, 43, 42, 29, 4, 96, 46, 182, 0, 40, 44, 42, 29, 4, 96, 46]
abbrev dktL_law_13 : List UInt8 := dkwL_law_13 ++ dktL_law_14
def dkwL_law_12 : List UInt8 := [42, 29, 4, 96, 46, 42, 29, 5, 96, 46, 182, 0, 35, 44, 42, 29, 4, 96, 46, 42, 29, 5, 96, 46]
abbrev dktL_law_12 : List UInt8 := dkwL_law_12 ++ dktL_law_13
def dkwL_law_11 : List UInt8 := [182, 0, 30, 44, 42, 29, 4, 96, 46, 42, 29, 5, 96, 46, 182, 0, 34, 148, 153, 4, 45, 3, 172, 43]
abbrev dktL_law_11 : List UInt8 := dkwL_law_11 ++ dktL_law_12
def dkwL_law_10 : List UInt8 := [42, 29, 8, 96, 46, 182, 0, 29, 159, 4, 79, 3, 172, 43, 42, 29, 4, 96, 46, 42, 29, 5, 96, 46]
abbrev dktL_law_10 : List UInt8 := dkwL_law_10 ++ dktL_law_11
def dkwL_law_9 : List UInt8 := [182, 0, 25, 44, 42, 29, 4, 96, 46, 42, 29, 5, 96, 46, 42, 29, 6, 96, 46, 42, 29, 7, 96, 46]
abbrev dktL_law_9 : List UInt8 := dkwL_law_9 ++ dktL_law_10
def dkwL_law_8 : List UInt8 := [96, 46, 42, 29, 5, 96, 46, 42, 29, 6, 96, 46, 42, 29, 7, 96, 46, 42, 29, 8, 96, 46]
abbrev dktL_law_8 : List UInt8 := dkwL_law_8 ++ dktL_law_9
def dkwL_law_7 : List UInt8 := [121, 42, 29, 7, 96, 46, 133, 20, 0, 18, 127, 129, 182, 0, 24, 159, 4, 142, 3, 172, 43, 42, 29, 4]
abbrev dktL_law_7 : List UInt8 := dkwL_law_7 ++ dktL_law_8
def dkwL_law_6 : List UInt8 := [127, 129, 182, 0, 20, 44, 42, 29, 4, 96, 46, 42, 29, 5, 96, 46, 42, 29, 6, 96, 46, 133, 16, 32]
abbrev dktL_law_6 : List UInt8 := dkwL_law_6 ++ dktL_law_7
def dkwL_law_5 : List UInt8 := [46, 42, 29, 5, 96, 46, 42, 29, 6, 96, 46, 133, 16, 32, 121, 42, 29, 7, 96, 46, 133, 20, 0, 18]
abbrev dktL_law_5 : List UInt8 := dkwL_law_5 ++ dktL_law_6
def dkwL_law_4 : List UInt8 := [46, 42, 29, 5, 96, 46, 42, 29, 6, 96, 46, 182, 0, 17, 159, 4, 215, 3, 172, 43, 42, 29, 4, 96]
abbrev dktL_law_4 : List UInt8 := dkwL_law_4 ++ dktL_law_5
def dkwL_law_3 : List UInt8 := [43, 42, 29, 4, 96, 46, 42, 29, 5, 96, 46, 42, 29, 6, 96, 46, 182, 0, 13, 44, 42, 29, 4, 96]
abbrev dktL_law_3 : List UInt8 := dkwL_law_3 ++ dktL_law_4
def dkwL_law_2 : List UInt8 := [170, 0, 0, 0, 0, 5, 156, 0, 0, 0, 0, 0, 0, 0, 35, 0, 0, 0, 159, 0, 0, 0, 202, 0, 0, 1, 19, 0, 0, 1, 82, 0, 0, 1, 116, 0, 0, 1, 149, 0, 0, 1, 172, 0, 0, 1, 205, 0, 0, 1, 238, 0, 0, 1, 251, 0, 0, 2, 18, 0, 0, 2, 61, 0, 0, 2, 84, 0, 0, 2, 117, 0, 0, 2, 160, 0, 0, 2, 203, 0, 0, 2, 246, 0, 0, 3, 33, 0, 0, 3, 108, 0, 0, 3, 141, 0, 0, 3, 190, 0, 0, 3, 233, 0, 0, 4, 20, 0, 0, 4, 53, 0, 0, 4, 86, 0, 0, 4, 119, 0, 0, 4, 152, 0, 0, 4, 175, 0, 0, 4, 218, 0, 0, 4, 251, 0, 0, 5, 18, 0, 0, 5, 41, 0, 0, 5, 84, 0, 0, 5, 107, 0, 0, 5, 120, 0, 0, 5, 133]
abbrev dktL_law_2 : List UInt8 := dkwL_law_2 ++ dktL_law_3
def dkwL_law_1 : List UInt8 := [163, 5, 171, 42, 29, 46, 16, 63, 126]
abbrev dktL_law_1 : List UInt8 := dkwL_law_1 ++ dktL_law_2
def dkwL_law_0 : List UInt8 := [187, 0, 7, 89, 183, 0, 9, 76, 187, 0, 10, 89, 183, 0, 12, 77, 3, 62, 29, 42, 190, 16, 7, 100]
abbrev dktL_law_0 : List UInt8 := dkwL_law_0 ++ dktL_law_1
theorem dksL_law_0 : cL_law.data.toList.drop 0 = dktL_law_0 := by decide +kernel
theorem dksL_law_1 : cL_law.data.toList.drop 24 = dktL_law_1 := dk_seg dksL_law_0 24 rfl rfl
theorem dksL_law_2 : cL_law.data.toList.drop 33 = dktL_law_2 := dk_seg dksL_law_1 9 rfl rfl
theorem dksL_law_3 : cL_law.data.toList.drop 192 = dktL_law_3 := dk_seg dksL_law_2 159 rfl rfl
theorem dksL_law_4 : cL_law.data.toList.drop 216 = dktL_law_4 := dk_seg dksL_law_3 24 rfl rfl
theorem dksL_law_5 : cL_law.data.toList.drop 240 = dktL_law_5 := dk_seg dksL_law_4 24 rfl rfl
theorem dksL_law_6 : cL_law.data.toList.drop 264 = dktL_law_6 := dk_seg dksL_law_5 24 rfl rfl
theorem dksL_law_7 : cL_law.data.toList.drop 288 = dktL_law_7 := dk_seg dksL_law_6 24 rfl rfl
theorem dksL_law_8 : cL_law.data.toList.drop 312 = dktL_law_8 := dk_seg dksL_law_7 24 rfl rfl
theorem dksL_law_9 : cL_law.data.toList.drop 334 = dktL_law_9 := dk_seg dksL_law_8 22 rfl rfl
theorem dksL_law_10 : cL_law.data.toList.drop 358 = dktL_law_10 := dk_seg dksL_law_9 24 rfl rfl
theorem dksL_law_11 : cL_law.data.toList.drop 382 = dktL_law_11 := dk_seg dksL_law_10 24 rfl rfl
theorem dksL_law_12 : cL_law.data.toList.drop 406 = dktL_law_12 := dk_seg dksL_law_11 24 rfl rfl
theorem dksL_law_13 : cL_law.data.toList.drop 430 = dktL_law_13 := dk_seg dksL_law_12 24 rfl rfl
theorem dksL_law_14 : cL_law.data.toList.drop 453 = dktL_law_14 := dk_seg dksL_law_13 23 rfl rfl
theorem dksL_law_15 : cL_law.data.toList.drop 477 = dktL_law_15 := dk_seg dksL_law_14 24 rfl rfl
theorem dksL_law_16 : cL_law.data.toList.drop 501 = dktL_law_16 := dk_seg dksL_law_15 24 rfl rfl
theorem dksL_law_17 : cL_law.data.toList.drop 525 = dktL_law_17 := dk_seg dksL_law_16 24 rfl rfl
theorem dksL_law_18 : cL_law.data.toList.drop 549 = dktL_law_18 := dk_seg dksL_law_17 24 rfl rfl
theorem dksL_law_19 : cL_law.data.toList.drop 573 = dktL_law_19 := dk_seg dksL_law_18 24 rfl rfl
theorem dksL_law_20 : cL_law.data.toList.drop 597 = dktL_law_20 := dk_seg dksL_law_19 24 rfl rfl
theorem dksL_law_21 : cL_law.data.toList.drop 621 = dktL_law_21 := dk_seg dksL_law_20 24 rfl rfl
theorem dksL_law_22 : cL_law.data.toList.drop 645 = dktL_law_22 := dk_seg dksL_law_21 24 rfl rfl
theorem dksL_law_23 : cL_law.data.toList.drop 669 = dktL_law_23 := dk_seg dksL_law_22 24 rfl rfl
theorem dksL_law_24 : cL_law.data.toList.drop 693 = dktL_law_24 := dk_seg dksL_law_23 24 rfl rfl
theorem dksL_law_25 : cL_law.data.toList.drop 717 = dktL_law_25 := dk_seg dksL_law_24 24 rfl rfl
theorem dksL_law_26 : cL_law.data.toList.drop 740 = dktL_law_26 := dk_seg dksL_law_25 23 rfl rfl
theorem dksL_law_27 : cL_law.data.toList.drop 764 = dktL_law_27 := dk_seg dksL_law_26 24 rfl rfl
theorem dksL_law_28 : cL_law.data.toList.drop 786 = dktL_law_28 := dk_seg dksL_law_27 22 rfl rfl
theorem dksL_law_29 : cL_law.data.toList.drop 810 = dktL_law_29 := dk_seg dksL_law_28 24 rfl rfl
theorem dksL_law_30 : cL_law.data.toList.drop 834 = dktL_law_30 := dk_seg dksL_law_29 24 rfl rfl
theorem dksL_law_31 : cL_law.data.toList.drop 858 = dktL_law_31 := dk_seg dksL_law_30 24 rfl rfl
theorem dksL_law_32 : cL_law.data.toList.drop 882 = dktL_law_32 := dk_seg dksL_law_31 24 rfl rfl
theorem dksL_law_33 : cL_law.data.toList.drop 904 = dktL_law_33 := dk_seg dksL_law_32 22 rfl rfl
theorem dksL_law_34 : cL_law.data.toList.drop 928 = dktL_law_34 := dk_seg dksL_law_33 24 rfl rfl
theorem dksL_law_35 : cL_law.data.toList.drop 952 = dktL_law_35 := dk_seg dksL_law_34 24 rfl rfl
theorem dksL_law_36 : cL_law.data.toList.drop 975 = dktL_law_36 := dk_seg dksL_law_35 23 rfl rfl
theorem dksL_law_37 : cL_law.data.toList.drop 999 = dktL_law_37 := dk_seg dksL_law_36 24 rfl rfl
theorem dksL_law_38 : cL_law.data.toList.drop 1023 = dktL_law_38 := dk_seg dksL_law_37 24 rfl rfl
theorem dksL_law_39 : cL_law.data.toList.drop 1047 = dktL_law_39 := dk_seg dksL_law_38 24 rfl rfl
theorem dksL_law_40 : cL_law.data.toList.drop 1069 = dktL_law_40 := dk_seg dksL_law_39 22 rfl rfl
theorem dksL_law_41 : cL_law.data.toList.drop 1093 = dktL_law_41 := dk_seg dksL_law_40 24 rfl rfl
theorem dksL_law_42 : cL_law.data.toList.drop 1117 = dktL_law_42 := dk_seg dksL_law_41 24 rfl rfl
theorem dksL_law_43 : cL_law.data.toList.drop 1141 = dktL_law_43 := dk_seg dksL_law_42 24 rfl rfl
theorem dksL_law_44 : cL_law.data.toList.drop 1165 = dktL_law_44 := dk_seg dksL_law_43 24 rfl rfl
theorem dksL_law_45 : cL_law.data.toList.drop 1187 = dktL_law_45 := dk_seg dksL_law_44 22 rfl rfl
theorem dksL_law_46 : cL_law.data.toList.drop 1211 = dktL_law_46 := dk_seg dksL_law_45 24 rfl rfl
theorem dksL_law_47 : cL_law.data.toList.drop 1235 = dktL_law_47 := dk_seg dksL_law_46 24 rfl rfl
theorem dksL_law_48 : cL_law.data.toList.drop 1259 = dktL_law_48 := dk_seg dksL_law_47 24 rfl rfl
theorem dksL_law_49 : cL_law.data.toList.drop 1283 = dktL_law_49 := dk_seg dksL_law_48 24 rfl rfl
theorem dksL_law_50 : cL_law.data.toList.drop 1307 = dktL_law_50 := dk_seg dksL_law_49 24 rfl rfl
theorem dksL_law_51 : cL_law.data.toList.drop 1331 = dktL_law_51 := dk_seg dksL_law_50 24 rfl rfl
theorem dksL_law_52 : cL_law.data.toList.drop 1355 = dktL_law_52 := dk_seg dksL_law_51 24 rfl rfl
theorem dksL_law_53 : cL_law.data.toList.drop 1379 = dktL_law_53 := dk_seg dksL_law_52 24 rfl rfl
theorem dksL_law_54 : cL_law.data.toList.drop 1403 = dktL_law_54 := dk_seg dksL_law_53 24 rfl rfl
theorem dksL_law_55 : cL_law.data.toList.drop 1425 = dktL_law_55 := dk_seg dksL_law_54 22 rfl rfl
theorem dksL_law_56 : cL_law.data.toList.drop 1449 = dktL_law_56 := dk_seg dksL_law_55 24 rfl rfl
theorem dksL_law_57 : cL_law.data.toList.drop 1472 = dktL_law_57 := dk_seg dksL_law_56 23 rfl rfl
theorem dL_law_0 : decode cL_law 0 = .ok (.new 7, 3) := dk_187 0 7 (dk_at dksL_law_0 0 rfl rfl)
theorem dL_law_3 : decode cL_law 3 = .ok (.dup, 1) := dk_89 (dk_at dksL_law_0 3 rfl rfl)
theorem dL_law_4 : decode cL_law 4 = .ok (.invokespecial 9, 3) := dk_183 0 9 (dk_at dksL_law_0 4 rfl rfl)
theorem dL_law_7 : decode cL_law 7 = .ok (.astore_n 1, 1) := dk_76 (dk_at dksL_law_0 7 rfl rfl)
theorem dL_law_8 : decode cL_law 8 = .ok (.new 10, 3) := dk_187 0 10 (dk_at dksL_law_0 8 rfl rfl)
theorem dL_law_11 : decode cL_law 11 = .ok (.dup, 1) := dk_89 (dk_at dksL_law_0 11 rfl rfl)
theorem dL_law_12 : decode cL_law 12 = .ok (.invokespecial 12, 3) := dk_183 0 12 (dk_at dksL_law_0 12 rfl rfl)
theorem dL_law_15 : decode cL_law 15 = .ok (.astore_n 2, 1) := dk_77 (dk_at dksL_law_0 15 rfl rfl)
theorem dL_law_16 : decode cL_law 16 = .ok (.iconst 0, 1) := dk_3 (dk_at dksL_law_0 16 rfl rfl)
theorem dL_law_17 : decode cL_law 17 = .ok (.istore_n 3, 1) := dk_62 (dk_at dksL_law_0 17 rfl rfl)
theorem dL_law_18 : decode cL_law 18 = .ok (.iload_n 3, 1) := dk_29 (dk_at dksL_law_0 18 rfl rfl)
theorem dL_law_19 : decode cL_law 19 = .ok (.aload_n 0, 1) := dk_42 (dk_at dksL_law_0 19 rfl rfl)
theorem dL_law_20 : decode cL_law 20 = .ok (.arraylength, 1) := dk_190 (dk_at dksL_law_0 20 rfl rfl)
theorem dL_law_21 : decode cL_law 21 = .ok (.bipush 7, 2) := dk_16 7 (dk_at dksL_law_0 21 rfl rfl)
theorem dL_law_23 : decode cL_law 23 = .ok (.isub, 1) := dk_100 (dk_at dksL_law_0 23 rfl rfl)
theorem dL_law_24 : decode cL_law 24 = .ok (.if_icmp .gt 1451, 3) := dk_163 5 171 (dk_at dksL_law_1 0 rfl rfl)
theorem dL_law_27 : decode cL_law 27 = .ok (.aload_n 0, 1) := dk_42 (dk_at dksL_law_1 3 rfl rfl)
theorem dL_law_28 : decode cL_law 28 = .ok (.iload_n 3, 1) := dk_29 (dk_at dksL_law_1 4 rfl rfl)
theorem dL_law_29 : decode cL_law 29 = .ok (.iaload, 1) := dk_46 (dk_at dksL_law_1 5 rfl rfl)
theorem dL_law_30 : decode cL_law 30 = .ok (.bipush 63, 2) := dk_16 63 (dk_at dksL_law_1 6 rfl rfl)
theorem dL_law_32 : decode cL_law 32 = .ok (.iand, 1) := dk_126 (dk_at dksL_law_1 8 rfl rfl)
theorem dL_law_33 : decode cL_law 33 = .ok (.tableswitch 1436 0 35 #[159, 202, 275, 338, 372, 405, 428, 461, 494, 507, 530, 573, 596, 629, 672, 715, 758, 801, 876, 909, 958, 1001, 1044, 1077, 1110, 1143, 1176, 1199, 1242, 1275, 1298, 1321, 1364, 1387, 1400, 1413], 159) := by decide +kernel
theorem dL_law_192 : decode cL_law 192 = .ok (.aload_n 1, 1) := dk_43 (dk_at dksL_law_3 0 rfl rfl)
theorem dL_law_193 : decode cL_law 193 = .ok (.aload_n 0, 1) := dk_42 (dk_at dksL_law_3 1 rfl rfl)
theorem dL_law_194 : decode cL_law 194 = .ok (.iload_n 3, 1) := dk_29 (dk_at dksL_law_3 2 rfl rfl)
theorem dL_law_195 : decode cL_law 195 = .ok (.iconst 1, 1) := dk_4 (dk_at dksL_law_3 3 rfl rfl)
theorem dL_law_196 : decode cL_law 196 = .ok (.iadd, 1) := dk_96 (dk_at dksL_law_3 4 rfl rfl)
theorem dL_law_197 : decode cL_law 197 = .ok (.iaload, 1) := dk_46 (dk_at dksL_law_3 5 rfl rfl)
theorem dL_law_198 : decode cL_law 198 = .ok (.aload_n 0, 1) := dk_42 (dk_at dksL_law_3 6 rfl rfl)
theorem dL_law_199 : decode cL_law 199 = .ok (.iload_n 3, 1) := dk_29 (dk_at dksL_law_3 7 rfl rfl)
theorem dL_law_200 : decode cL_law 200 = .ok (.iconst 2, 1) := dk_5 (dk_at dksL_law_3 8 rfl rfl)
theorem dL_law_201 : decode cL_law 201 = .ok (.iadd, 1) := dk_96 (dk_at dksL_law_3 9 rfl rfl)
theorem dL_law_202 : decode cL_law 202 = .ok (.iaload, 1) := dk_46 (dk_at dksL_law_3 10 rfl rfl)
theorem dL_law_203 : decode cL_law 203 = .ok (.aload_n 0, 1) := dk_42 (dk_at dksL_law_3 11 rfl rfl)
theorem dL_law_204 : decode cL_law 204 = .ok (.iload_n 3, 1) := dk_29 (dk_at dksL_law_3 12 rfl rfl)
theorem dL_law_205 : decode cL_law 205 = .ok (.iconst 3, 1) := dk_6 (dk_at dksL_law_3 13 rfl rfl)
theorem dL_law_206 : decode cL_law 206 = .ok (.iadd, 1) := dk_96 (dk_at dksL_law_3 14 rfl rfl)
theorem dL_law_207 : decode cL_law 207 = .ok (.iaload, 1) := dk_46 (dk_at dksL_law_3 15 rfl rfl)
theorem dL_law_208 : decode cL_law 208 = .ok (.invokevirtual 13, 3) := dk_182 0 13 (dk_at dksL_law_3 16 rfl rfl)
theorem dL_law_211 : decode cL_law 211 = .ok (.aload_n 2, 1) := dk_44 (dk_at dksL_law_3 19 rfl rfl)
theorem dL_law_212 : decode cL_law 212 = .ok (.aload_n 0, 1) := dk_42 (dk_at dksL_law_3 20 rfl rfl)
theorem dL_law_213 : decode cL_law 213 = .ok (.iload_n 3, 1) := dk_29 (dk_at dksL_law_3 21 rfl rfl)
theorem dL_law_214 : decode cL_law 214 = .ok (.iconst 1, 1) := dk_4 (dk_at dksL_law_3 22 rfl rfl)
theorem dL_law_215 : decode cL_law 215 = .ok (.iadd, 1) := dk_96 (dk_at dksL_law_3 23 rfl rfl)
theorem dL_law_216 : decode cL_law 216 = .ok (.iaload, 1) := dk_46 (dk_at dksL_law_4 0 rfl rfl)
theorem dL_law_217 : decode cL_law 217 = .ok (.aload_n 0, 1) := dk_42 (dk_at dksL_law_4 1 rfl rfl)
theorem dL_law_218 : decode cL_law 218 = .ok (.iload_n 3, 1) := dk_29 (dk_at dksL_law_4 2 rfl rfl)
theorem dL_law_219 : decode cL_law 219 = .ok (.iconst 2, 1) := dk_5 (dk_at dksL_law_4 3 rfl rfl)
theorem dL_law_220 : decode cL_law 220 = .ok (.iadd, 1) := dk_96 (dk_at dksL_law_4 4 rfl rfl)
theorem dL_law_221 : decode cL_law 221 = .ok (.iaload, 1) := dk_46 (dk_at dksL_law_4 5 rfl rfl)
theorem dL_law_222 : decode cL_law 222 = .ok (.aload_n 0, 1) := dk_42 (dk_at dksL_law_4 6 rfl rfl)
theorem dL_law_223 : decode cL_law 223 = .ok (.iload_n 3, 1) := dk_29 (dk_at dksL_law_4 7 rfl rfl)
theorem dL_law_224 : decode cL_law 224 = .ok (.iconst 3, 1) := dk_6 (dk_at dksL_law_4 8 rfl rfl)
theorem dL_law_225 : decode cL_law 225 = .ok (.iadd, 1) := dk_96 (dk_at dksL_law_4 9 rfl rfl)
theorem dL_law_226 : decode cL_law 226 = .ok (.iaload, 1) := dk_46 (dk_at dksL_law_4 10 rfl rfl)
theorem dL_law_227 : decode cL_law 227 = .ok (.invokevirtual 17, 3) := dk_182 0 17 (dk_at dksL_law_4 11 rfl rfl)
theorem dL_law_230 : decode cL_law 230 = .ok (.if_icmp .eq 1239, 3) := dk_159 4 215 (dk_at dksL_law_4 14 rfl rfl)
theorem dL_law_233 : decode cL_law 233 = .ok (.iconst 0, 1) := dk_3 (dk_at dksL_law_4 17 rfl rfl)
theorem dL_law_234 : decode cL_law 234 = .ok (.ireturn, 1) := dk_172 (dk_at dksL_law_4 18 rfl rfl)
theorem dL_law_235 : decode cL_law 235 = .ok (.aload_n 1, 1) := dk_43 (dk_at dksL_law_4 19 rfl rfl)
theorem dL_law_236 : decode cL_law 236 = .ok (.aload_n 0, 1) := dk_42 (dk_at dksL_law_4 20 rfl rfl)
theorem dL_law_237 : decode cL_law 237 = .ok (.iload_n 3, 1) := dk_29 (dk_at dksL_law_4 21 rfl rfl)
theorem dL_law_238 : decode cL_law 238 = .ok (.iconst 1, 1) := dk_4 (dk_at dksL_law_4 22 rfl rfl)
theorem dL_law_239 : decode cL_law 239 = .ok (.iadd, 1) := dk_96 (dk_at dksL_law_4 23 rfl rfl)
theorem dL_law_240 : decode cL_law 240 = .ok (.iaload, 1) := dk_46 (dk_at dksL_law_5 0 rfl rfl)
theorem dL_law_241 : decode cL_law 241 = .ok (.aload_n 0, 1) := dk_42 (dk_at dksL_law_5 1 rfl rfl)
theorem dL_law_242 : decode cL_law 242 = .ok (.iload_n 3, 1) := dk_29 (dk_at dksL_law_5 2 rfl rfl)
theorem dL_law_243 : decode cL_law 243 = .ok (.iconst 2, 1) := dk_5 (dk_at dksL_law_5 3 rfl rfl)
theorem dL_law_244 : decode cL_law 244 = .ok (.iadd, 1) := dk_96 (dk_at dksL_law_5 4 rfl rfl)
theorem dL_law_245 : decode cL_law 245 = .ok (.iaload, 1) := dk_46 (dk_at dksL_law_5 5 rfl rfl)
theorem dL_law_246 : decode cL_law 246 = .ok (.aload_n 0, 1) := dk_42 (dk_at dksL_law_5 6 rfl rfl)
theorem dL_law_247 : decode cL_law 247 = .ok (.iload_n 3, 1) := dk_29 (dk_at dksL_law_5 7 rfl rfl)
theorem dL_law_248 : decode cL_law 248 = .ok (.iconst 3, 1) := dk_6 (dk_at dksL_law_5 8 rfl rfl)
theorem dL_law_249 : decode cL_law 249 = .ok (.iadd, 1) := dk_96 (dk_at dksL_law_5 9 rfl rfl)
theorem dL_law_250 : decode cL_law 250 = .ok (.iaload, 1) := dk_46 (dk_at dksL_law_5 10 rfl rfl)
theorem dL_law_251 : decode cL_law 251 = .ok (.i2l, 1) := dk_133 (dk_at dksL_law_5 11 rfl rfl)
theorem dL_law_252 : decode cL_law 252 = .ok (.bipush 32, 2) := dk_16 32 (dk_at dksL_law_5 12 rfl rfl)
theorem dL_law_254 : decode cL_law 254 = .ok (.lshl, 1) := dk_121 (dk_at dksL_law_5 14 rfl rfl)
theorem dL_law_255 : decode cL_law 255 = .ok (.aload_n 0, 1) := dk_42 (dk_at dksL_law_5 15 rfl rfl)
theorem dL_law_256 : decode cL_law 256 = .ok (.iload_n 3, 1) := dk_29 (dk_at dksL_law_5 16 rfl rfl)
theorem dL_law_257 : decode cL_law 257 = .ok (.iconst 4, 1) := dk_7 (dk_at dksL_law_5 17 rfl rfl)
theorem dL_law_258 : decode cL_law 258 = .ok (.iadd, 1) := dk_96 (dk_at dksL_law_5 18 rfl rfl)
theorem dL_law_259 : decode cL_law 259 = .ok (.iaload, 1) := dk_46 (dk_at dksL_law_5 19 rfl rfl)
theorem dL_law_260 : decode cL_law 260 = .ok (.i2l, 1) := dk_133 (dk_at dksL_law_5 20 rfl rfl)
theorem dL_law_261 : decode cL_law 261 = .ok (.ldc2_w 18, 3) := dk_20 0 18 (dk_at dksL_law_5 21 rfl rfl)
theorem dL_law_264 : decode cL_law 264 = .ok (.land, 1) := dk_127 (dk_at dksL_law_6 0 rfl rfl)
theorem dL_law_265 : decode cL_law 265 = .ok (.lor, 1) := dk_129 (dk_at dksL_law_6 1 rfl rfl)
theorem dL_law_266 : decode cL_law 266 = .ok (.invokevirtual 20, 3) := dk_182 0 20 (dk_at dksL_law_6 2 rfl rfl)
theorem dL_law_269 : decode cL_law 269 = .ok (.aload_n 2, 1) := dk_44 (dk_at dksL_law_6 5 rfl rfl)
theorem dL_law_270 : decode cL_law 270 = .ok (.aload_n 0, 1) := dk_42 (dk_at dksL_law_6 6 rfl rfl)
theorem dL_law_271 : decode cL_law 271 = .ok (.iload_n 3, 1) := dk_29 (dk_at dksL_law_6 7 rfl rfl)
theorem dL_law_272 : decode cL_law 272 = .ok (.iconst 1, 1) := dk_4 (dk_at dksL_law_6 8 rfl rfl)
theorem dL_law_273 : decode cL_law 273 = .ok (.iadd, 1) := dk_96 (dk_at dksL_law_6 9 rfl rfl)
theorem dL_law_274 : decode cL_law 274 = .ok (.iaload, 1) := dk_46 (dk_at dksL_law_6 10 rfl rfl)
theorem dL_law_275 : decode cL_law 275 = .ok (.aload_n 0, 1) := dk_42 (dk_at dksL_law_6 11 rfl rfl)
theorem dL_law_276 : decode cL_law 276 = .ok (.iload_n 3, 1) := dk_29 (dk_at dksL_law_6 12 rfl rfl)
theorem dL_law_277 : decode cL_law 277 = .ok (.iconst 2, 1) := dk_5 (dk_at dksL_law_6 13 rfl rfl)
theorem dL_law_278 : decode cL_law 278 = .ok (.iadd, 1) := dk_96 (dk_at dksL_law_6 14 rfl rfl)
theorem dL_law_279 : decode cL_law 279 = .ok (.iaload, 1) := dk_46 (dk_at dksL_law_6 15 rfl rfl)
theorem dL_law_280 : decode cL_law 280 = .ok (.aload_n 0, 1) := dk_42 (dk_at dksL_law_6 16 rfl rfl)
theorem dL_law_281 : decode cL_law 281 = .ok (.iload_n 3, 1) := dk_29 (dk_at dksL_law_6 17 rfl rfl)
theorem dL_law_282 : decode cL_law 282 = .ok (.iconst 3, 1) := dk_6 (dk_at dksL_law_6 18 rfl rfl)
theorem dL_law_283 : decode cL_law 283 = .ok (.iadd, 1) := dk_96 (dk_at dksL_law_6 19 rfl rfl)
theorem dL_law_284 : decode cL_law 284 = .ok (.iaload, 1) := dk_46 (dk_at dksL_law_6 20 rfl rfl)
theorem dL_law_285 : decode cL_law 285 = .ok (.i2l, 1) := dk_133 (dk_at dksL_law_6 21 rfl rfl)
theorem dL_law_286 : decode cL_law 286 = .ok (.bipush 32, 2) := dk_16 32 (dk_at dksL_law_6 22 rfl rfl)
theorem dL_law_288 : decode cL_law 288 = .ok (.lshl, 1) := dk_121 (dk_at dksL_law_7 0 rfl rfl)
theorem dL_law_289 : decode cL_law 289 = .ok (.aload_n 0, 1) := dk_42 (dk_at dksL_law_7 1 rfl rfl)
theorem dL_law_290 : decode cL_law 290 = .ok (.iload_n 3, 1) := dk_29 (dk_at dksL_law_7 2 rfl rfl)
theorem dL_law_291 : decode cL_law 291 = .ok (.iconst 4, 1) := dk_7 (dk_at dksL_law_7 3 rfl rfl)
theorem dL_law_292 : decode cL_law 292 = .ok (.iadd, 1) := dk_96 (dk_at dksL_law_7 4 rfl rfl)
theorem dL_law_293 : decode cL_law 293 = .ok (.iaload, 1) := dk_46 (dk_at dksL_law_7 5 rfl rfl)
theorem dL_law_294 : decode cL_law 294 = .ok (.i2l, 1) := dk_133 (dk_at dksL_law_7 6 rfl rfl)
theorem dL_law_295 : decode cL_law 295 = .ok (.ldc2_w 18, 3) := dk_20 0 18 (dk_at dksL_law_7 7 rfl rfl)
theorem dL_law_298 : decode cL_law 298 = .ok (.land, 1) := dk_127 (dk_at dksL_law_7 10 rfl rfl)
theorem dL_law_299 : decode cL_law 299 = .ok (.lor, 1) := dk_129 (dk_at dksL_law_7 11 rfl rfl)
theorem dL_law_300 : decode cL_law 300 = .ok (.invokevirtual 24, 3) := dk_182 0 24 (dk_at dksL_law_7 12 rfl rfl)
theorem dL_law_303 : decode cL_law 303 = .ok (.if_icmp .eq 1166, 3) := dk_159 4 142 (dk_at dksL_law_7 15 rfl rfl)
theorem dL_law_306 : decode cL_law 306 = .ok (.iconst 0, 1) := dk_3 (dk_at dksL_law_7 18 rfl rfl)
theorem dL_law_307 : decode cL_law 307 = .ok (.ireturn, 1) := dk_172 (dk_at dksL_law_7 19 rfl rfl)
theorem dL_law_308 : decode cL_law 308 = .ok (.aload_n 1, 1) := dk_43 (dk_at dksL_law_7 20 rfl rfl)
theorem dL_law_309 : decode cL_law 309 = .ok (.aload_n 0, 1) := dk_42 (dk_at dksL_law_7 21 rfl rfl)
theorem dL_law_310 : decode cL_law 310 = .ok (.iload_n 3, 1) := dk_29 (dk_at dksL_law_7 22 rfl rfl)
theorem dL_law_311 : decode cL_law 311 = .ok (.iconst 1, 1) := dk_4 (dk_at dksL_law_7 23 rfl rfl)
theorem dL_law_312 : decode cL_law 312 = .ok (.iadd, 1) := dk_96 (dk_at dksL_law_8 0 rfl rfl)
theorem dL_law_313 : decode cL_law 313 = .ok (.iaload, 1) := dk_46 (dk_at dksL_law_8 1 rfl rfl)
theorem dL_law_314 : decode cL_law 314 = .ok (.aload_n 0, 1) := dk_42 (dk_at dksL_law_8 2 rfl rfl)
theorem dL_law_315 : decode cL_law 315 = .ok (.iload_n 3, 1) := dk_29 (dk_at dksL_law_8 3 rfl rfl)
theorem dL_law_316 : decode cL_law 316 = .ok (.iconst 2, 1) := dk_5 (dk_at dksL_law_8 4 rfl rfl)
theorem dL_law_317 : decode cL_law 317 = .ok (.iadd, 1) := dk_96 (dk_at dksL_law_8 5 rfl rfl)
theorem dL_law_318 : decode cL_law 318 = .ok (.iaload, 1) := dk_46 (dk_at dksL_law_8 6 rfl rfl)
theorem dL_law_319 : decode cL_law 319 = .ok (.aload_n 0, 1) := dk_42 (dk_at dksL_law_8 7 rfl rfl)
theorem dL_law_320 : decode cL_law 320 = .ok (.iload_n 3, 1) := dk_29 (dk_at dksL_law_8 8 rfl rfl)
theorem dL_law_321 : decode cL_law 321 = .ok (.iconst 3, 1) := dk_6 (dk_at dksL_law_8 9 rfl rfl)
theorem dL_law_322 : decode cL_law 322 = .ok (.iadd, 1) := dk_96 (dk_at dksL_law_8 10 rfl rfl)
theorem dL_law_323 : decode cL_law 323 = .ok (.iaload, 1) := dk_46 (dk_at dksL_law_8 11 rfl rfl)
theorem dL_law_324 : decode cL_law 324 = .ok (.aload_n 0, 1) := dk_42 (dk_at dksL_law_8 12 rfl rfl)
theorem dL_law_325 : decode cL_law 325 = .ok (.iload_n 3, 1) := dk_29 (dk_at dksL_law_8 13 rfl rfl)
theorem dL_law_326 : decode cL_law 326 = .ok (.iconst 4, 1) := dk_7 (dk_at dksL_law_8 14 rfl rfl)
theorem dL_law_327 : decode cL_law 327 = .ok (.iadd, 1) := dk_96 (dk_at dksL_law_8 15 rfl rfl)
theorem dL_law_328 : decode cL_law 328 = .ok (.iaload, 1) := dk_46 (dk_at dksL_law_8 16 rfl rfl)
theorem dL_law_329 : decode cL_law 329 = .ok (.aload_n 0, 1) := dk_42 (dk_at dksL_law_8 17 rfl rfl)
theorem dL_law_330 : decode cL_law 330 = .ok (.iload_n 3, 1) := dk_29 (dk_at dksL_law_8 18 rfl rfl)
theorem dL_law_331 : decode cL_law 331 = .ok (.iconst 5, 1) := dk_8 (dk_at dksL_law_8 19 rfl rfl)
theorem dL_law_332 : decode cL_law 332 = .ok (.iadd, 1) := dk_96 (dk_at dksL_law_8 20 rfl rfl)
theorem dL_law_333 : decode cL_law 333 = .ok (.iaload, 1) := dk_46 (dk_at dksL_law_8 21 rfl rfl)
theorem dL_law_334 : decode cL_law 334 = .ok (.invokevirtual 25, 3) := dk_182 0 25 (dk_at dksL_law_9 0 rfl rfl)
theorem dL_law_337 : decode cL_law 337 = .ok (.aload_n 2, 1) := dk_44 (dk_at dksL_law_9 3 rfl rfl)
theorem dL_law_338 : decode cL_law 338 = .ok (.aload_n 0, 1) := dk_42 (dk_at dksL_law_9 4 rfl rfl)
theorem dL_law_339 : decode cL_law 339 = .ok (.iload_n 3, 1) := dk_29 (dk_at dksL_law_9 5 rfl rfl)
theorem dL_law_340 : decode cL_law 340 = .ok (.iconst 1, 1) := dk_4 (dk_at dksL_law_9 6 rfl rfl)
theorem dL_law_341 : decode cL_law 341 = .ok (.iadd, 1) := dk_96 (dk_at dksL_law_9 7 rfl rfl)
theorem dL_law_342 : decode cL_law 342 = .ok (.iaload, 1) := dk_46 (dk_at dksL_law_9 8 rfl rfl)
theorem dL_law_343 : decode cL_law 343 = .ok (.aload_n 0, 1) := dk_42 (dk_at dksL_law_9 9 rfl rfl)
theorem dL_law_344 : decode cL_law 344 = .ok (.iload_n 3, 1) := dk_29 (dk_at dksL_law_9 10 rfl rfl)
theorem dL_law_345 : decode cL_law 345 = .ok (.iconst 2, 1) := dk_5 (dk_at dksL_law_9 11 rfl rfl)
theorem dL_law_346 : decode cL_law 346 = .ok (.iadd, 1) := dk_96 (dk_at dksL_law_9 12 rfl rfl)
theorem dL_law_347 : decode cL_law 347 = .ok (.iaload, 1) := dk_46 (dk_at dksL_law_9 13 rfl rfl)
theorem dL_law_348 : decode cL_law 348 = .ok (.aload_n 0, 1) := dk_42 (dk_at dksL_law_9 14 rfl rfl)
theorem dL_law_349 : decode cL_law 349 = .ok (.iload_n 3, 1) := dk_29 (dk_at dksL_law_9 15 rfl rfl)
theorem dL_law_350 : decode cL_law 350 = .ok (.iconst 3, 1) := dk_6 (dk_at dksL_law_9 16 rfl rfl)
theorem dL_law_351 : decode cL_law 351 = .ok (.iadd, 1) := dk_96 (dk_at dksL_law_9 17 rfl rfl)
theorem dL_law_352 : decode cL_law 352 = .ok (.iaload, 1) := dk_46 (dk_at dksL_law_9 18 rfl rfl)
theorem dL_law_353 : decode cL_law 353 = .ok (.aload_n 0, 1) := dk_42 (dk_at dksL_law_9 19 rfl rfl)
theorem dL_law_354 : decode cL_law 354 = .ok (.iload_n 3, 1) := dk_29 (dk_at dksL_law_9 20 rfl rfl)
theorem dL_law_355 : decode cL_law 355 = .ok (.iconst 4, 1) := dk_7 (dk_at dksL_law_9 21 rfl rfl)
theorem dL_law_356 : decode cL_law 356 = .ok (.iadd, 1) := dk_96 (dk_at dksL_law_9 22 rfl rfl)
theorem dL_law_357 : decode cL_law 357 = .ok (.iaload, 1) := dk_46 (dk_at dksL_law_9 23 rfl rfl)
theorem dL_law_358 : decode cL_law 358 = .ok (.aload_n 0, 1) := dk_42 (dk_at dksL_law_10 0 rfl rfl)
theorem dL_law_359 : decode cL_law 359 = .ok (.iload_n 3, 1) := dk_29 (dk_at dksL_law_10 1 rfl rfl)
theorem dL_law_360 : decode cL_law 360 = .ok (.iconst 5, 1) := dk_8 (dk_at dksL_law_10 2 rfl rfl)
theorem dL_law_361 : decode cL_law 361 = .ok (.iadd, 1) := dk_96 (dk_at dksL_law_10 3 rfl rfl)
theorem dL_law_362 : decode cL_law 362 = .ok (.iaload, 1) := dk_46 (dk_at dksL_law_10 4 rfl rfl)
theorem dL_law_363 : decode cL_law 363 = .ok (.invokevirtual 29, 3) := dk_182 0 29 (dk_at dksL_law_10 5 rfl rfl)
theorem dL_law_366 : decode cL_law 366 = .ok (.if_icmp .eq 1103, 3) := dk_159 4 79 (dk_at dksL_law_10 8 rfl rfl)
theorem dL_law_369 : decode cL_law 369 = .ok (.iconst 0, 1) := dk_3 (dk_at dksL_law_10 11 rfl rfl)
theorem dL_law_370 : decode cL_law 370 = .ok (.ireturn, 1) := dk_172 (dk_at dksL_law_10 12 rfl rfl)
theorem dL_law_371 : decode cL_law 371 = .ok (.aload_n 1, 1) := dk_43 (dk_at dksL_law_10 13 rfl rfl)
theorem dL_law_372 : decode cL_law 372 = .ok (.aload_n 0, 1) := dk_42 (dk_at dksL_law_10 14 rfl rfl)
theorem dL_law_373 : decode cL_law 373 = .ok (.iload_n 3, 1) := dk_29 (dk_at dksL_law_10 15 rfl rfl)
theorem dL_law_374 : decode cL_law 374 = .ok (.iconst 1, 1) := dk_4 (dk_at dksL_law_10 16 rfl rfl)
theorem dL_law_375 : decode cL_law 375 = .ok (.iadd, 1) := dk_96 (dk_at dksL_law_10 17 rfl rfl)
theorem dL_law_376 : decode cL_law 376 = .ok (.iaload, 1) := dk_46 (dk_at dksL_law_10 18 rfl rfl)
theorem dL_law_377 : decode cL_law 377 = .ok (.aload_n 0, 1) := dk_42 (dk_at dksL_law_10 19 rfl rfl)
theorem dL_law_378 : decode cL_law 378 = .ok (.iload_n 3, 1) := dk_29 (dk_at dksL_law_10 20 rfl rfl)
theorem dL_law_379 : decode cL_law 379 = .ok (.iconst 2, 1) := dk_5 (dk_at dksL_law_10 21 rfl rfl)
theorem dL_law_380 : decode cL_law 380 = .ok (.iadd, 1) := dk_96 (dk_at dksL_law_10 22 rfl rfl)
theorem dL_law_381 : decode cL_law 381 = .ok (.iaload, 1) := dk_46 (dk_at dksL_law_10 23 rfl rfl)
theorem dL_law_382 : decode cL_law 382 = .ok (.invokevirtual 30, 3) := dk_182 0 30 (dk_at dksL_law_11 0 rfl rfl)
theorem dL_law_385 : decode cL_law 385 = .ok (.aload_n 2, 1) := dk_44 (dk_at dksL_law_11 3 rfl rfl)
theorem dL_law_386 : decode cL_law 386 = .ok (.aload_n 0, 1) := dk_42 (dk_at dksL_law_11 4 rfl rfl)
theorem dL_law_387 : decode cL_law 387 = .ok (.iload_n 3, 1) := dk_29 (dk_at dksL_law_11 5 rfl rfl)
theorem dL_law_388 : decode cL_law 388 = .ok (.iconst 1, 1) := dk_4 (dk_at dksL_law_11 6 rfl rfl)
theorem dL_law_389 : decode cL_law 389 = .ok (.iadd, 1) := dk_96 (dk_at dksL_law_11 7 rfl rfl)
theorem dL_law_390 : decode cL_law 390 = .ok (.iaload, 1) := dk_46 (dk_at dksL_law_11 8 rfl rfl)
theorem dL_law_391 : decode cL_law 391 = .ok (.aload_n 0, 1) := dk_42 (dk_at dksL_law_11 9 rfl rfl)
theorem dL_law_392 : decode cL_law 392 = .ok (.iload_n 3, 1) := dk_29 (dk_at dksL_law_11 10 rfl rfl)
theorem dL_law_393 : decode cL_law 393 = .ok (.iconst 2, 1) := dk_5 (dk_at dksL_law_11 11 rfl rfl)
theorem dL_law_394 : decode cL_law 394 = .ok (.iadd, 1) := dk_96 (dk_at dksL_law_11 12 rfl rfl)
theorem dL_law_395 : decode cL_law 395 = .ok (.iaload, 1) := dk_46 (dk_at dksL_law_11 13 rfl rfl)
theorem dL_law_396 : decode cL_law 396 = .ok (.invokevirtual 34, 3) := dk_182 0 34 (dk_at dksL_law_11 14 rfl rfl)
theorem dL_law_399 : decode cL_law 399 = .ok (.lcmp, 1) := dk_148 (dk_at dksL_law_11 17 rfl rfl)
theorem dL_law_400 : decode cL_law 400 = .ok (.ifCond .eq 1069, 3) := dk_153 4 45 (dk_at dksL_law_11 18 rfl rfl)
theorem dL_law_403 : decode cL_law 403 = .ok (.iconst 0, 1) := dk_3 (dk_at dksL_law_11 21 rfl rfl)
theorem dL_law_404 : decode cL_law 404 = .ok (.ireturn, 1) := dk_172 (dk_at dksL_law_11 22 rfl rfl)
theorem dL_law_405 : decode cL_law 405 = .ok (.aload_n 1, 1) := dk_43 (dk_at dksL_law_11 23 rfl rfl)
theorem dL_law_406 : decode cL_law 406 = .ok (.aload_n 0, 1) := dk_42 (dk_at dksL_law_12 0 rfl rfl)
theorem dL_law_407 : decode cL_law 407 = .ok (.iload_n 3, 1) := dk_29 (dk_at dksL_law_12 1 rfl rfl)
theorem dL_law_408 : decode cL_law 408 = .ok (.iconst 1, 1) := dk_4 (dk_at dksL_law_12 2 rfl rfl)
theorem dL_law_409 : decode cL_law 409 = .ok (.iadd, 1) := dk_96 (dk_at dksL_law_12 3 rfl rfl)
theorem dL_law_410 : decode cL_law 410 = .ok (.iaload, 1) := dk_46 (dk_at dksL_law_12 4 rfl rfl)
theorem dL_law_411 : decode cL_law 411 = .ok (.aload_n 0, 1) := dk_42 (dk_at dksL_law_12 5 rfl rfl)
theorem dL_law_412 : decode cL_law 412 = .ok (.iload_n 3, 1) := dk_29 (dk_at dksL_law_12 6 rfl rfl)
theorem dL_law_413 : decode cL_law 413 = .ok (.iconst 2, 1) := dk_5 (dk_at dksL_law_12 7 rfl rfl)
theorem dL_law_414 : decode cL_law 414 = .ok (.iadd, 1) := dk_96 (dk_at dksL_law_12 8 rfl rfl)
theorem dL_law_415 : decode cL_law 415 = .ok (.iaload, 1) := dk_46 (dk_at dksL_law_12 9 rfl rfl)
theorem dL_law_416 : decode cL_law 416 = .ok (.invokevirtual 35, 3) := dk_182 0 35 (dk_at dksL_law_12 10 rfl rfl)
theorem dL_law_419 : decode cL_law 419 = .ok (.aload_n 2, 1) := dk_44 (dk_at dksL_law_12 13 rfl rfl)
theorem dL_law_420 : decode cL_law 420 = .ok (.aload_n 0, 1) := dk_42 (dk_at dksL_law_12 14 rfl rfl)
theorem dL_law_421 : decode cL_law 421 = .ok (.iload_n 3, 1) := dk_29 (dk_at dksL_law_12 15 rfl rfl)
theorem dL_law_422 : decode cL_law 422 = .ok (.iconst 1, 1) := dk_4 (dk_at dksL_law_12 16 rfl rfl)
theorem dL_law_423 : decode cL_law 423 = .ok (.iadd, 1) := dk_96 (dk_at dksL_law_12 17 rfl rfl)
theorem dL_law_424 : decode cL_law 424 = .ok (.iaload, 1) := dk_46 (dk_at dksL_law_12 18 rfl rfl)
theorem dL_law_425 : decode cL_law 425 = .ok (.aload_n 0, 1) := dk_42 (dk_at dksL_law_12 19 rfl rfl)
theorem dL_law_426 : decode cL_law 426 = .ok (.iload_n 3, 1) := dk_29 (dk_at dksL_law_12 20 rfl rfl)
theorem dL_law_427 : decode cL_law 427 = .ok (.iconst 2, 1) := dk_5 (dk_at dksL_law_12 21 rfl rfl)
theorem dL_law_428 : decode cL_law 428 = .ok (.iadd, 1) := dk_96 (dk_at dksL_law_12 22 rfl rfl)
theorem dL_law_429 : decode cL_law 429 = .ok (.iaload, 1) := dk_46 (dk_at dksL_law_12 23 rfl rfl)
theorem dL_law_430 : decode cL_law 430 = .ok (.invokevirtual 39, 3) := dk_182 0 39 (dk_at dksL_law_13 0 rfl rfl)
theorem dL_law_433 : decode cL_law 433 = .ok (.if_icmp .eq 1036, 3) := dk_159 4 12 (dk_at dksL_law_13 3 rfl rfl)
theorem dL_law_436 : decode cL_law 436 = .ok (.iconst 0, 1) := dk_3 (dk_at dksL_law_13 6 rfl rfl)
theorem dL_law_437 : decode cL_law 437 = .ok (.ireturn, 1) := dk_172 (dk_at dksL_law_13 7 rfl rfl)
theorem dL_law_438 : decode cL_law 438 = .ok (.aload_n 1, 1) := dk_43 (dk_at dksL_law_13 8 rfl rfl)
theorem dL_law_439 : decode cL_law 439 = .ok (.aload_n 0, 1) := dk_42 (dk_at dksL_law_13 9 rfl rfl)
theorem dL_law_440 : decode cL_law 440 = .ok (.iload_n 3, 1) := dk_29 (dk_at dksL_law_13 10 rfl rfl)
theorem dL_law_441 : decode cL_law 441 = .ok (.iconst 1, 1) := dk_4 (dk_at dksL_law_13 11 rfl rfl)
theorem dL_law_442 : decode cL_law 442 = .ok (.iadd, 1) := dk_96 (dk_at dksL_law_13 12 rfl rfl)
theorem dL_law_443 : decode cL_law 443 = .ok (.iaload, 1) := dk_46 (dk_at dksL_law_13 13 rfl rfl)
theorem dL_law_444 : decode cL_law 444 = .ok (.invokevirtual 40, 3) := dk_182 0 40 (dk_at dksL_law_13 14 rfl rfl)
theorem dL_law_447 : decode cL_law 447 = .ok (.aload_n 2, 1) := dk_44 (dk_at dksL_law_13 17 rfl rfl)
theorem dL_law_448 : decode cL_law 448 = .ok (.aload_n 0, 1) := dk_42 (dk_at dksL_law_13 18 rfl rfl)
theorem dL_law_449 : decode cL_law 449 = .ok (.iload_n 3, 1) := dk_29 (dk_at dksL_law_13 19 rfl rfl)
theorem dL_law_450 : decode cL_law 450 = .ok (.iconst 1, 1) := dk_4 (dk_at dksL_law_13 20 rfl rfl)
theorem dL_law_451 : decode cL_law 451 = .ok (.iadd, 1) := dk_96 (dk_at dksL_law_13 21 rfl rfl)
theorem dL_law_452 : decode cL_law 452 = .ok (.iaload, 1) := dk_46 (dk_at dksL_law_13 22 rfl rfl)
theorem dL_law_453 : decode cL_law 453 = .ok (.invokevirtual 44, 3) := dk_182 0 44 (dk_at dksL_law_14 0 rfl rfl)
theorem dL_law_456 : decode cL_law 456 = .ok (.if_icmp .eq 1013, 3) := dk_159 3 245 (dk_at dksL_law_14 3 rfl rfl)
theorem dL_law_459 : decode cL_law 459 = .ok (.iconst 0, 1) := dk_3 (dk_at dksL_law_14 6 rfl rfl)
theorem dL_law_460 : decode cL_law 460 = .ok (.ireturn, 1) := dk_172 (dk_at dksL_law_14 7 rfl rfl)
theorem dL_law_461 : decode cL_law 461 = .ok (.aload_n 1, 1) := dk_43 (dk_at dksL_law_14 8 rfl rfl)
theorem dL_law_462 : decode cL_law 462 = .ok (.aload_n 0, 1) := dk_42 (dk_at dksL_law_14 9 rfl rfl)
theorem dL_law_463 : decode cL_law 463 = .ok (.iload_n 3, 1) := dk_29 (dk_at dksL_law_14 10 rfl rfl)
theorem dL_law_464 : decode cL_law 464 = .ok (.iconst 1, 1) := dk_4 (dk_at dksL_law_14 11 rfl rfl)
theorem dL_law_465 : decode cL_law 465 = .ok (.iadd, 1) := dk_96 (dk_at dksL_law_14 12 rfl rfl)
theorem dL_law_466 : decode cL_law 466 = .ok (.iaload, 1) := dk_46 (dk_at dksL_law_14 13 rfl rfl)
theorem dL_law_467 : decode cL_law 467 = .ok (.aload_n 0, 1) := dk_42 (dk_at dksL_law_14 14 rfl rfl)
theorem dL_law_468 : decode cL_law 468 = .ok (.iload_n 3, 1) := dk_29 (dk_at dksL_law_14 15 rfl rfl)
theorem dL_law_469 : decode cL_law 469 = .ok (.iconst 2, 1) := dk_5 (dk_at dksL_law_14 16 rfl rfl)
theorem dL_law_470 : decode cL_law 470 = .ok (.iadd, 1) := dk_96 (dk_at dksL_law_14 17 rfl rfl)
theorem dL_law_471 : decode cL_law 471 = .ok (.iaload, 1) := dk_46 (dk_at dksL_law_14 18 rfl rfl)
theorem dL_law_472 : decode cL_law 472 = .ok (.invokevirtual 45, 3) := dk_182 0 45 (dk_at dksL_law_14 19 rfl rfl)
theorem dL_law_475 : decode cL_law 475 = .ok (.aload_n 2, 1) := dk_44 (dk_at dksL_law_14 22 rfl rfl)
theorem dL_law_476 : decode cL_law 476 = .ok (.aload_n 0, 1) := dk_42 (dk_at dksL_law_14 23 rfl rfl)
theorem dL_law_477 : decode cL_law 477 = .ok (.iload_n 3, 1) := dk_29 (dk_at dksL_law_15 0 rfl rfl)
theorem dL_law_478 : decode cL_law 478 = .ok (.iconst 1, 1) := dk_4 (dk_at dksL_law_15 1 rfl rfl)
theorem dL_law_479 : decode cL_law 479 = .ok (.iadd, 1) := dk_96 (dk_at dksL_law_15 2 rfl rfl)
theorem dL_law_480 : decode cL_law 480 = .ok (.iaload, 1) := dk_46 (dk_at dksL_law_15 3 rfl rfl)
theorem dL_law_481 : decode cL_law 481 = .ok (.aload_n 0, 1) := dk_42 (dk_at dksL_law_15 4 rfl rfl)
theorem dL_law_482 : decode cL_law 482 = .ok (.iload_n 3, 1) := dk_29 (dk_at dksL_law_15 5 rfl rfl)
theorem dL_law_483 : decode cL_law 483 = .ok (.iconst 2, 1) := dk_5 (dk_at dksL_law_15 6 rfl rfl)
theorem dL_law_484 : decode cL_law 484 = .ok (.iadd, 1) := dk_96 (dk_at dksL_law_15 7 rfl rfl)
theorem dL_law_485 : decode cL_law 485 = .ok (.iaload, 1) := dk_46 (dk_at dksL_law_15 8 rfl rfl)
theorem dL_law_486 : decode cL_law 486 = .ok (.invokevirtual 48, 3) := dk_182 0 48 (dk_at dksL_law_15 9 rfl rfl)
theorem dL_law_489 : decode cL_law 489 = .ok (.if_icmp .eq 980, 3) := dk_159 3 212 (dk_at dksL_law_15 12 rfl rfl)
theorem dL_law_492 : decode cL_law 492 = .ok (.iconst 0, 1) := dk_3 (dk_at dksL_law_15 15 rfl rfl)
theorem dL_law_493 : decode cL_law 493 = .ok (.ireturn, 1) := dk_172 (dk_at dksL_law_15 16 rfl rfl)
theorem dL_law_494 : decode cL_law 494 = .ok (.aload_n 1, 1) := dk_43 (dk_at dksL_law_15 17 rfl rfl)
theorem dL_law_495 : decode cL_law 495 = .ok (.aload_n 0, 1) := dk_42 (dk_at dksL_law_15 18 rfl rfl)
theorem dL_law_496 : decode cL_law 496 = .ok (.iload_n 3, 1) := dk_29 (dk_at dksL_law_15 19 rfl rfl)
theorem dL_law_497 : decode cL_law 497 = .ok (.iconst 1, 1) := dk_4 (dk_at dksL_law_15 20 rfl rfl)
theorem dL_law_498 : decode cL_law 498 = .ok (.iadd, 1) := dk_96 (dk_at dksL_law_15 21 rfl rfl)
theorem dL_law_499 : decode cL_law 499 = .ok (.iaload, 1) := dk_46 (dk_at dksL_law_15 22 rfl rfl)
theorem dL_law_500 : decode cL_law 500 = .ok (.aload_n 0, 1) := dk_42 (dk_at dksL_law_15 23 rfl rfl)
theorem dL_law_501 : decode cL_law 501 = .ok (.iload_n 3, 1) := dk_29 (dk_at dksL_law_16 0 rfl rfl)
theorem dL_law_502 : decode cL_law 502 = .ok (.iconst 2, 1) := dk_5 (dk_at dksL_law_16 1 rfl rfl)
theorem dL_law_503 : decode cL_law 503 = .ok (.iadd, 1) := dk_96 (dk_at dksL_law_16 2 rfl rfl)
theorem dL_law_504 : decode cL_law 504 = .ok (.iaload, 1) := dk_46 (dk_at dksL_law_16 3 rfl rfl)
theorem dL_law_505 : decode cL_law 505 = .ok (.invokevirtual 49, 3) := dk_182 0 49 (dk_at dksL_law_16 4 rfl rfl)
theorem dL_law_508 : decode cL_law 508 = .ok (.aload_n 2, 1) := dk_44 (dk_at dksL_law_16 7 rfl rfl)
theorem dL_law_509 : decode cL_law 509 = .ok (.aload_n 0, 1) := dk_42 (dk_at dksL_law_16 8 rfl rfl)
theorem dL_law_510 : decode cL_law 510 = .ok (.iload_n 3, 1) := dk_29 (dk_at dksL_law_16 9 rfl rfl)
theorem dL_law_511 : decode cL_law 511 = .ok (.iconst 1, 1) := dk_4 (dk_at dksL_law_16 10 rfl rfl)
theorem dL_law_512 : decode cL_law 512 = .ok (.iadd, 1) := dk_96 (dk_at dksL_law_16 11 rfl rfl)
theorem dL_law_513 : decode cL_law 513 = .ok (.iaload, 1) := dk_46 (dk_at dksL_law_16 12 rfl rfl)
theorem dL_law_514 : decode cL_law 514 = .ok (.aload_n 0, 1) := dk_42 (dk_at dksL_law_16 13 rfl rfl)
theorem dL_law_515 : decode cL_law 515 = .ok (.iload_n 3, 1) := dk_29 (dk_at dksL_law_16 14 rfl rfl)
theorem dL_law_516 : decode cL_law 516 = .ok (.iconst 2, 1) := dk_5 (dk_at dksL_law_16 15 rfl rfl)
theorem dL_law_517 : decode cL_law 517 = .ok (.iadd, 1) := dk_96 (dk_at dksL_law_16 16 rfl rfl)
theorem dL_law_518 : decode cL_law 518 = .ok (.iaload, 1) := dk_46 (dk_at dksL_law_16 17 rfl rfl)
theorem dL_law_519 : decode cL_law 519 = .ok (.invokevirtual 52, 3) := dk_182 0 52 (dk_at dksL_law_16 18 rfl rfl)
theorem dL_law_522 : decode cL_law 522 = .ok (.if_icmp .eq 947, 3) := dk_159 3 179 (dk_at dksL_law_16 21 rfl rfl)
theorem dL_law_525 : decode cL_law 525 = .ok (.iconst 0, 1) := dk_3 (dk_at dksL_law_17 0 rfl rfl)
theorem dL_law_526 : decode cL_law 526 = .ok (.ireturn, 1) := dk_172 (dk_at dksL_law_17 1 rfl rfl)
theorem dL_law_527 : decode cL_law 527 = .ok (.aload_n 1, 1) := dk_43 (dk_at dksL_law_17 2 rfl rfl)
theorem dL_law_528 : decode cL_law 528 = .ok (.invokevirtual 53, 3) := dk_182 0 53 (dk_at dksL_law_17 3 rfl rfl)
theorem dL_law_531 : decode cL_law 531 = .ok (.aload_n 2, 1) := dk_44 (dk_at dksL_law_17 6 rfl rfl)
theorem dL_law_532 : decode cL_law 532 = .ok (.invokevirtual 57, 3) := dk_182 0 57 (dk_at dksL_law_17 7 rfl rfl)
theorem dL_law_535 : decode cL_law 535 = .ok (.if_icmp .eq 934, 3) := dk_159 3 166 (dk_at dksL_law_17 10 rfl rfl)
theorem dL_law_538 : decode cL_law 538 = .ok (.iconst 0, 1) := dk_3 (dk_at dksL_law_17 13 rfl rfl)
theorem dL_law_539 : decode cL_law 539 = .ok (.ireturn, 1) := dk_172 (dk_at dksL_law_17 14 rfl rfl)
theorem dL_law_540 : decode cL_law 540 = .ok (.aload_n 1, 1) := dk_43 (dk_at dksL_law_17 15 rfl rfl)
theorem dL_law_541 : decode cL_law 541 = .ok (.aload_n 0, 1) := dk_42 (dk_at dksL_law_17 16 rfl rfl)
theorem dL_law_542 : decode cL_law 542 = .ok (.iload_n 3, 1) := dk_29 (dk_at dksL_law_17 17 rfl rfl)
theorem dL_law_543 : decode cL_law 543 = .ok (.iconst 1, 1) := dk_4 (dk_at dksL_law_17 18 rfl rfl)
theorem dL_law_544 : decode cL_law 544 = .ok (.iadd, 1) := dk_96 (dk_at dksL_law_17 19 rfl rfl)
theorem dL_law_545 : decode cL_law 545 = .ok (.iaload, 1) := dk_46 (dk_at dksL_law_17 20 rfl rfl)
theorem dL_law_546 : decode cL_law 546 = .ok (.invokevirtual 58, 3) := dk_182 0 58 (dk_at dksL_law_17 21 rfl rfl)
theorem dL_law_549 : decode cL_law 549 = .ok (.aload_n 2, 1) := dk_44 (dk_at dksL_law_18 0 rfl rfl)
theorem dL_law_550 : decode cL_law 550 = .ok (.aload_n 0, 1) := dk_42 (dk_at dksL_law_18 1 rfl rfl)
theorem dL_law_551 : decode cL_law 551 = .ok (.iload_n 3, 1) := dk_29 (dk_at dksL_law_18 2 rfl rfl)
theorem dL_law_552 : decode cL_law 552 = .ok (.iconst 1, 1) := dk_4 (dk_at dksL_law_18 3 rfl rfl)
theorem dL_law_553 : decode cL_law 553 = .ok (.iadd, 1) := dk_96 (dk_at dksL_law_18 4 rfl rfl)
theorem dL_law_554 : decode cL_law 554 = .ok (.iaload, 1) := dk_46 (dk_at dksL_law_18 5 rfl rfl)
theorem dL_law_555 : decode cL_law 555 = .ok (.invokevirtual 61, 3) := dk_182 0 61 (dk_at dksL_law_18 6 rfl rfl)
theorem dL_law_558 : decode cL_law 558 = .ok (.if_icmp .eq 911, 3) := dk_159 3 143 (dk_at dksL_law_18 9 rfl rfl)
theorem dL_law_561 : decode cL_law 561 = .ok (.iconst 0, 1) := dk_3 (dk_at dksL_law_18 12 rfl rfl)
theorem dL_law_562 : decode cL_law 562 = .ok (.ireturn, 1) := dk_172 (dk_at dksL_law_18 13 rfl rfl)
theorem dL_law_563 : decode cL_law 563 = .ok (.aload_n 1, 1) := dk_43 (dk_at dksL_law_18 14 rfl rfl)
theorem dL_law_564 : decode cL_law 564 = .ok (.aload_n 0, 1) := dk_42 (dk_at dksL_law_18 15 rfl rfl)
theorem dL_law_565 : decode cL_law 565 = .ok (.iload_n 3, 1) := dk_29 (dk_at dksL_law_18 16 rfl rfl)
theorem dL_law_566 : decode cL_law 566 = .ok (.iconst 1, 1) := dk_4 (dk_at dksL_law_18 17 rfl rfl)
theorem dL_law_567 : decode cL_law 567 = .ok (.iadd, 1) := dk_96 (dk_at dksL_law_18 18 rfl rfl)
theorem dL_law_568 : decode cL_law 568 = .ok (.iaload, 1) := dk_46 (dk_at dksL_law_18 19 rfl rfl)
theorem dL_law_569 : decode cL_law 569 = .ok (.aload_n 0, 1) := dk_42 (dk_at dksL_law_18 20 rfl rfl)
theorem dL_law_570 : decode cL_law 570 = .ok (.iload_n 3, 1) := dk_29 (dk_at dksL_law_18 21 rfl rfl)
theorem dL_law_571 : decode cL_law 571 = .ok (.iconst 2, 1) := dk_5 (dk_at dksL_law_18 22 rfl rfl)
theorem dL_law_572 : decode cL_law 572 = .ok (.iadd, 1) := dk_96 (dk_at dksL_law_18 23 rfl rfl)
theorem dL_law_573 : decode cL_law 573 = .ok (.iaload, 1) := dk_46 (dk_at dksL_law_19 0 rfl rfl)
theorem dL_law_574 : decode cL_law 574 = .ok (.aload_n 0, 1) := dk_42 (dk_at dksL_law_19 1 rfl rfl)
theorem dL_law_575 : decode cL_law 575 = .ok (.iload_n 3, 1) := dk_29 (dk_at dksL_law_19 2 rfl rfl)
theorem dL_law_576 : decode cL_law 576 = .ok (.iconst 3, 1) := dk_6 (dk_at dksL_law_19 3 rfl rfl)
theorem dL_law_577 : decode cL_law 577 = .ok (.iadd, 1) := dk_96 (dk_at dksL_law_19 4 rfl rfl)
theorem dL_law_578 : decode cL_law 578 = .ok (.iaload, 1) := dk_46 (dk_at dksL_law_19 5 rfl rfl)
theorem dL_law_579 : decode cL_law 579 = .ok (.invokevirtual 62, 3) := dk_182 0 62 (dk_at dksL_law_19 6 rfl rfl)
theorem dL_law_582 : decode cL_law 582 = .ok (.aload_n 2, 1) := dk_44 (dk_at dksL_law_19 9 rfl rfl)
theorem dL_law_583 : decode cL_law 583 = .ok (.aload_n 0, 1) := dk_42 (dk_at dksL_law_19 10 rfl rfl)
theorem dL_law_584 : decode cL_law 584 = .ok (.iload_n 3, 1) := dk_29 (dk_at dksL_law_19 11 rfl rfl)
theorem dL_law_585 : decode cL_law 585 = .ok (.iconst 1, 1) := dk_4 (dk_at dksL_law_19 12 rfl rfl)
theorem dL_law_586 : decode cL_law 586 = .ok (.iadd, 1) := dk_96 (dk_at dksL_law_19 13 rfl rfl)
theorem dL_law_587 : decode cL_law 587 = .ok (.iaload, 1) := dk_46 (dk_at dksL_law_19 14 rfl rfl)
theorem dL_law_588 : decode cL_law 588 = .ok (.aload_n 0, 1) := dk_42 (dk_at dksL_law_19 15 rfl rfl)
theorem dL_law_589 : decode cL_law 589 = .ok (.iload_n 3, 1) := dk_29 (dk_at dksL_law_19 16 rfl rfl)
theorem dL_law_590 : decode cL_law 590 = .ok (.iconst 2, 1) := dk_5 (dk_at dksL_law_19 17 rfl rfl)
theorem dL_law_591 : decode cL_law 591 = .ok (.iadd, 1) := dk_96 (dk_at dksL_law_19 18 rfl rfl)
theorem dL_law_592 : decode cL_law 592 = .ok (.iaload, 1) := dk_46 (dk_at dksL_law_19 19 rfl rfl)
theorem dL_law_593 : decode cL_law 593 = .ok (.aload_n 0, 1) := dk_42 (dk_at dksL_law_19 20 rfl rfl)
theorem dL_law_594 : decode cL_law 594 = .ok (.iload_n 3, 1) := dk_29 (dk_at dksL_law_19 21 rfl rfl)
theorem dL_law_595 : decode cL_law 595 = .ok (.iconst 3, 1) := dk_6 (dk_at dksL_law_19 22 rfl rfl)
theorem dL_law_596 : decode cL_law 596 = .ok (.iadd, 1) := dk_96 (dk_at dksL_law_19 23 rfl rfl)
theorem dL_law_597 : decode cL_law 597 = .ok (.iaload, 1) := dk_46 (dk_at dksL_law_20 0 rfl rfl)
theorem dL_law_598 : decode cL_law 598 = .ok (.invokevirtual 65, 3) := dk_182 0 65 (dk_at dksL_law_20 1 rfl rfl)
theorem dL_law_601 : decode cL_law 601 = .ok (.if_icmp .eq 868, 3) := dk_159 3 100 (dk_at dksL_law_20 4 rfl rfl)
theorem dL_law_604 : decode cL_law 604 = .ok (.iconst 0, 1) := dk_3 (dk_at dksL_law_20 7 rfl rfl)
theorem dL_law_605 : decode cL_law 605 = .ok (.ireturn, 1) := dk_172 (dk_at dksL_law_20 8 rfl rfl)
theorem dL_law_606 : decode cL_law 606 = .ok (.aload_n 1, 1) := dk_43 (dk_at dksL_law_20 9 rfl rfl)
theorem dL_law_607 : decode cL_law 607 = .ok (.aload_n 0, 1) := dk_42 (dk_at dksL_law_20 10 rfl rfl)
theorem dL_law_608 : decode cL_law 608 = .ok (.iload_n 3, 1) := dk_29 (dk_at dksL_law_20 11 rfl rfl)
theorem dL_law_609 : decode cL_law 609 = .ok (.iconst 1, 1) := dk_4 (dk_at dksL_law_20 12 rfl rfl)
theorem dL_law_610 : decode cL_law 610 = .ok (.iadd, 1) := dk_96 (dk_at dksL_law_20 13 rfl rfl)
theorem dL_law_611 : decode cL_law 611 = .ok (.iaload, 1) := dk_46 (dk_at dksL_law_20 14 rfl rfl)
theorem dL_law_612 : decode cL_law 612 = .ok (.invokevirtual 66, 3) := dk_182 0 66 (dk_at dksL_law_20 15 rfl rfl)
theorem dL_law_615 : decode cL_law 615 = .ok (.aload_n 2, 1) := dk_44 (dk_at dksL_law_20 18 rfl rfl)
theorem dL_law_616 : decode cL_law 616 = .ok (.aload_n 0, 1) := dk_42 (dk_at dksL_law_20 19 rfl rfl)
theorem dL_law_617 : decode cL_law 617 = .ok (.iload_n 3, 1) := dk_29 (dk_at dksL_law_20 20 rfl rfl)
theorem dL_law_618 : decode cL_law 618 = .ok (.iconst 1, 1) := dk_4 (dk_at dksL_law_20 21 rfl rfl)
theorem dL_law_619 : decode cL_law 619 = .ok (.iadd, 1) := dk_96 (dk_at dksL_law_20 22 rfl rfl)
theorem dL_law_620 : decode cL_law 620 = .ok (.iaload, 1) := dk_46 (dk_at dksL_law_20 23 rfl rfl)
theorem dL_law_621 : decode cL_law 621 = .ok (.invokevirtual 69, 3) := dk_182 0 69 (dk_at dksL_law_21 0 rfl rfl)
theorem dL_law_624 : decode cL_law 624 = .ok (.if_icmp .eq 845, 3) := dk_159 3 77 (dk_at dksL_law_21 3 rfl rfl)
theorem dL_law_627 : decode cL_law 627 = .ok (.iconst 0, 1) := dk_3 (dk_at dksL_law_21 6 rfl rfl)
theorem dL_law_628 : decode cL_law 628 = .ok (.ireturn, 1) := dk_172 (dk_at dksL_law_21 7 rfl rfl)
theorem dL_law_629 : decode cL_law 629 = .ok (.aload_n 1, 1) := dk_43 (dk_at dksL_law_21 8 rfl rfl)
theorem dL_law_630 : decode cL_law 630 = .ok (.aload_n 0, 1) := dk_42 (dk_at dksL_law_21 9 rfl rfl)
theorem dL_law_631 : decode cL_law 631 = .ok (.iload_n 3, 1) := dk_29 (dk_at dksL_law_21 10 rfl rfl)
theorem dL_law_632 : decode cL_law 632 = .ok (.iconst 1, 1) := dk_4 (dk_at dksL_law_21 11 rfl rfl)
theorem dL_law_633 : decode cL_law 633 = .ok (.iadd, 1) := dk_96 (dk_at dksL_law_21 12 rfl rfl)
theorem dL_law_634 : decode cL_law 634 = .ok (.iaload, 1) := dk_46 (dk_at dksL_law_21 13 rfl rfl)
theorem dL_law_635 : decode cL_law 635 = .ok (.aload_n 0, 1) := dk_42 (dk_at dksL_law_21 14 rfl rfl)
theorem dL_law_636 : decode cL_law 636 = .ok (.iload_n 3, 1) := dk_29 (dk_at dksL_law_21 15 rfl rfl)
theorem dL_law_637 : decode cL_law 637 = .ok (.iconst 2, 1) := dk_5 (dk_at dksL_law_21 16 rfl rfl)
theorem dL_law_638 : decode cL_law 638 = .ok (.iadd, 1) := dk_96 (dk_at dksL_law_21 17 rfl rfl)
theorem dL_law_639 : decode cL_law 639 = .ok (.iaload, 1) := dk_46 (dk_at dksL_law_21 18 rfl rfl)
theorem dL_law_640 : decode cL_law 640 = .ok (.invokevirtual 70, 3) := dk_182 0 70 (dk_at dksL_law_21 19 rfl rfl)
theorem dL_law_643 : decode cL_law 643 = .ok (.aload_n 2, 1) := dk_44 (dk_at dksL_law_21 22 rfl rfl)
theorem dL_law_644 : decode cL_law 644 = .ok (.aload_n 0, 1) := dk_42 (dk_at dksL_law_21 23 rfl rfl)
theorem dL_law_645 : decode cL_law 645 = .ok (.iload_n 3, 1) := dk_29 (dk_at dksL_law_22 0 rfl rfl)
theorem dL_law_646 : decode cL_law 646 = .ok (.iconst 1, 1) := dk_4 (dk_at dksL_law_22 1 rfl rfl)
theorem dL_law_647 : decode cL_law 647 = .ok (.iadd, 1) := dk_96 (dk_at dksL_law_22 2 rfl rfl)
theorem dL_law_648 : decode cL_law 648 = .ok (.iaload, 1) := dk_46 (dk_at dksL_law_22 3 rfl rfl)
theorem dL_law_649 : decode cL_law 649 = .ok (.aload_n 0, 1) := dk_42 (dk_at dksL_law_22 4 rfl rfl)
theorem dL_law_650 : decode cL_law 650 = .ok (.iload_n 3, 1) := dk_29 (dk_at dksL_law_22 5 rfl rfl)
theorem dL_law_651 : decode cL_law 651 = .ok (.iconst 2, 1) := dk_5 (dk_at dksL_law_22 6 rfl rfl)
theorem dL_law_652 : decode cL_law 652 = .ok (.iadd, 1) := dk_96 (dk_at dksL_law_22 7 rfl rfl)
theorem dL_law_653 : decode cL_law 653 = .ok (.iaload, 1) := dk_46 (dk_at dksL_law_22 8 rfl rfl)
theorem dL_law_654 : decode cL_law 654 = .ok (.invokevirtual 73, 3) := dk_182 0 73 (dk_at dksL_law_22 9 rfl rfl)
theorem dL_law_657 : decode cL_law 657 = .ok (.if_icmp .eq 812, 3) := dk_159 3 44 (dk_at dksL_law_22 12 rfl rfl)
theorem dL_law_660 : decode cL_law 660 = .ok (.iconst 0, 1) := dk_3 (dk_at dksL_law_22 15 rfl rfl)
theorem dL_law_661 : decode cL_law 661 = .ok (.ireturn, 1) := dk_172 (dk_at dksL_law_22 16 rfl rfl)
theorem dL_law_662 : decode cL_law 662 = .ok (.aload_n 1, 1) := dk_43 (dk_at dksL_law_22 17 rfl rfl)
theorem dL_law_663 : decode cL_law 663 = .ok (.aload_n 0, 1) := dk_42 (dk_at dksL_law_22 18 rfl rfl)
theorem dL_law_664 : decode cL_law 664 = .ok (.iload_n 3, 1) := dk_29 (dk_at dksL_law_22 19 rfl rfl)
theorem dL_law_665 : decode cL_law 665 = .ok (.iconst 1, 1) := dk_4 (dk_at dksL_law_22 20 rfl rfl)
theorem dL_law_666 : decode cL_law 666 = .ok (.iadd, 1) := dk_96 (dk_at dksL_law_22 21 rfl rfl)
theorem dL_law_667 : decode cL_law 667 = .ok (.iaload, 1) := dk_46 (dk_at dksL_law_22 22 rfl rfl)
theorem dL_law_668 : decode cL_law 668 = .ok (.aload_n 0, 1) := dk_42 (dk_at dksL_law_22 23 rfl rfl)
theorem dL_law_669 : decode cL_law 669 = .ok (.iload_n 3, 1) := dk_29 (dk_at dksL_law_23 0 rfl rfl)
theorem dL_law_670 : decode cL_law 670 = .ok (.iconst 2, 1) := dk_5 (dk_at dksL_law_23 1 rfl rfl)
theorem dL_law_671 : decode cL_law 671 = .ok (.iadd, 1) := dk_96 (dk_at dksL_law_23 2 rfl rfl)
theorem dL_law_672 : decode cL_law 672 = .ok (.iaload, 1) := dk_46 (dk_at dksL_law_23 3 rfl rfl)
theorem dL_law_673 : decode cL_law 673 = .ok (.aload_n 0, 1) := dk_42 (dk_at dksL_law_23 4 rfl rfl)
theorem dL_law_674 : decode cL_law 674 = .ok (.iload_n 3, 1) := dk_29 (dk_at dksL_law_23 5 rfl rfl)
theorem dL_law_675 : decode cL_law 675 = .ok (.iconst 3, 1) := dk_6 (dk_at dksL_law_23 6 rfl rfl)
theorem dL_law_676 : decode cL_law 676 = .ok (.iadd, 1) := dk_96 (dk_at dksL_law_23 7 rfl rfl)
theorem dL_law_677 : decode cL_law 677 = .ok (.iaload, 1) := dk_46 (dk_at dksL_law_23 8 rfl rfl)
theorem dL_law_678 : decode cL_law 678 = .ok (.invokevirtual 74, 3) := dk_182 0 74 (dk_at dksL_law_23 9 rfl rfl)
theorem dL_law_681 : decode cL_law 681 = .ok (.aload_n 2, 1) := dk_44 (dk_at dksL_law_23 12 rfl rfl)
theorem dL_law_682 : decode cL_law 682 = .ok (.aload_n 0, 1) := dk_42 (dk_at dksL_law_23 13 rfl rfl)
theorem dL_law_683 : decode cL_law 683 = .ok (.iload_n 3, 1) := dk_29 (dk_at dksL_law_23 14 rfl rfl)
theorem dL_law_684 : decode cL_law 684 = .ok (.iconst 1, 1) := dk_4 (dk_at dksL_law_23 15 rfl rfl)
theorem dL_law_685 : decode cL_law 685 = .ok (.iadd, 1) := dk_96 (dk_at dksL_law_23 16 rfl rfl)
theorem dL_law_686 : decode cL_law 686 = .ok (.iaload, 1) := dk_46 (dk_at dksL_law_23 17 rfl rfl)
theorem dL_law_687 : decode cL_law 687 = .ok (.aload_n 0, 1) := dk_42 (dk_at dksL_law_23 18 rfl rfl)
theorem dL_law_688 : decode cL_law 688 = .ok (.iload_n 3, 1) := dk_29 (dk_at dksL_law_23 19 rfl rfl)
theorem dL_law_689 : decode cL_law 689 = .ok (.iconst 2, 1) := dk_5 (dk_at dksL_law_23 20 rfl rfl)
theorem dL_law_690 : decode cL_law 690 = .ok (.iadd, 1) := dk_96 (dk_at dksL_law_23 21 rfl rfl)
theorem dL_law_691 : decode cL_law 691 = .ok (.iaload, 1) := dk_46 (dk_at dksL_law_23 22 rfl rfl)
theorem dL_law_692 : decode cL_law 692 = .ok (.aload_n 0, 1) := dk_42 (dk_at dksL_law_23 23 rfl rfl)
theorem dL_law_693 : decode cL_law 693 = .ok (.iload_n 3, 1) := dk_29 (dk_at dksL_law_24 0 rfl rfl)
theorem dL_law_694 : decode cL_law 694 = .ok (.iconst 3, 1) := dk_6 (dk_at dksL_law_24 1 rfl rfl)
theorem dL_law_695 : decode cL_law 695 = .ok (.iadd, 1) := dk_96 (dk_at dksL_law_24 2 rfl rfl)
theorem dL_law_696 : decode cL_law 696 = .ok (.iaload, 1) := dk_46 (dk_at dksL_law_24 3 rfl rfl)
theorem dL_law_697 : decode cL_law 697 = .ok (.invokevirtual 77, 3) := dk_182 0 77 (dk_at dksL_law_24 4 rfl rfl)
theorem dL_law_700 : decode cL_law 700 = .ok (.if_icmp .eq 769, 3) := dk_159 3 1 (dk_at dksL_law_24 7 rfl rfl)
theorem dL_law_703 : decode cL_law 703 = .ok (.iconst 0, 1) := dk_3 (dk_at dksL_law_24 10 rfl rfl)
theorem dL_law_704 : decode cL_law 704 = .ok (.ireturn, 1) := dk_172 (dk_at dksL_law_24 11 rfl rfl)
theorem dL_law_705 : decode cL_law 705 = .ok (.aload_n 1, 1) := dk_43 (dk_at dksL_law_24 12 rfl rfl)
theorem dL_law_706 : decode cL_law 706 = .ok (.aload_n 0, 1) := dk_42 (dk_at dksL_law_24 13 rfl rfl)
theorem dL_law_707 : decode cL_law 707 = .ok (.iload_n 3, 1) := dk_29 (dk_at dksL_law_24 14 rfl rfl)
theorem dL_law_708 : decode cL_law 708 = .ok (.iconst 1, 1) := dk_4 (dk_at dksL_law_24 15 rfl rfl)
theorem dL_law_709 : decode cL_law 709 = .ok (.iadd, 1) := dk_96 (dk_at dksL_law_24 16 rfl rfl)
theorem dL_law_710 : decode cL_law 710 = .ok (.iaload, 1) := dk_46 (dk_at dksL_law_24 17 rfl rfl)
theorem dL_law_711 : decode cL_law 711 = .ok (.aload_n 0, 1) := dk_42 (dk_at dksL_law_24 18 rfl rfl)
theorem dL_law_712 : decode cL_law 712 = .ok (.iload_n 3, 1) := dk_29 (dk_at dksL_law_24 19 rfl rfl)
theorem dL_law_713 : decode cL_law 713 = .ok (.iconst 2, 1) := dk_5 (dk_at dksL_law_24 20 rfl rfl)
theorem dL_law_714 : decode cL_law 714 = .ok (.iadd, 1) := dk_96 (dk_at dksL_law_24 21 rfl rfl)
theorem dL_law_715 : decode cL_law 715 = .ok (.iaload, 1) := dk_46 (dk_at dksL_law_24 22 rfl rfl)
theorem dL_law_716 : decode cL_law 716 = .ok (.aload_n 0, 1) := dk_42 (dk_at dksL_law_24 23 rfl rfl)
theorem dL_law_717 : decode cL_law 717 = .ok (.iload_n 3, 1) := dk_29 (dk_at dksL_law_25 0 rfl rfl)
theorem dL_law_718 : decode cL_law 718 = .ok (.iconst 3, 1) := dk_6 (dk_at dksL_law_25 1 rfl rfl)
theorem dL_law_719 : decode cL_law 719 = .ok (.iadd, 1) := dk_96 (dk_at dksL_law_25 2 rfl rfl)
theorem dL_law_720 : decode cL_law 720 = .ok (.iaload, 1) := dk_46 (dk_at dksL_law_25 3 rfl rfl)
theorem dL_law_721 : decode cL_law 721 = .ok (.invokevirtual 78, 3) := dk_182 0 78 (dk_at dksL_law_25 4 rfl rfl)
theorem dL_law_724 : decode cL_law 724 = .ok (.aload_n 2, 1) := dk_44 (dk_at dksL_law_25 7 rfl rfl)
theorem dL_law_725 : decode cL_law 725 = .ok (.aload_n 0, 1) := dk_42 (dk_at dksL_law_25 8 rfl rfl)
theorem dL_law_726 : decode cL_law 726 = .ok (.iload_n 3, 1) := dk_29 (dk_at dksL_law_25 9 rfl rfl)
theorem dL_law_727 : decode cL_law 727 = .ok (.iconst 1, 1) := dk_4 (dk_at dksL_law_25 10 rfl rfl)
theorem dL_law_728 : decode cL_law 728 = .ok (.iadd, 1) := dk_96 (dk_at dksL_law_25 11 rfl rfl)
theorem dL_law_729 : decode cL_law 729 = .ok (.iaload, 1) := dk_46 (dk_at dksL_law_25 12 rfl rfl)
theorem dL_law_730 : decode cL_law 730 = .ok (.aload_n 0, 1) := dk_42 (dk_at dksL_law_25 13 rfl rfl)
theorem dL_law_731 : decode cL_law 731 = .ok (.iload_n 3, 1) := dk_29 (dk_at dksL_law_25 14 rfl rfl)
theorem dL_law_732 : decode cL_law 732 = .ok (.iconst 2, 1) := dk_5 (dk_at dksL_law_25 15 rfl rfl)
theorem dL_law_733 : decode cL_law 733 = .ok (.iadd, 1) := dk_96 (dk_at dksL_law_25 16 rfl rfl)
theorem dL_law_734 : decode cL_law 734 = .ok (.iaload, 1) := dk_46 (dk_at dksL_law_25 17 rfl rfl)
theorem dL_law_735 : decode cL_law 735 = .ok (.aload_n 0, 1) := dk_42 (dk_at dksL_law_25 18 rfl rfl)
theorem dL_law_736 : decode cL_law 736 = .ok (.iload_n 3, 1) := dk_29 (dk_at dksL_law_25 19 rfl rfl)
theorem dL_law_737 : decode cL_law 737 = .ok (.iconst 3, 1) := dk_6 (dk_at dksL_law_25 20 rfl rfl)
theorem dL_law_738 : decode cL_law 738 = .ok (.iadd, 1) := dk_96 (dk_at dksL_law_25 21 rfl rfl)
theorem dL_law_739 : decode cL_law 739 = .ok (.iaload, 1) := dk_46 (dk_at dksL_law_25 22 rfl rfl)
theorem dL_law_740 : decode cL_law 740 = .ok (.invokevirtual 81, 3) := dk_182 0 81 (dk_at dksL_law_26 0 rfl rfl)
theorem dL_law_743 : decode cL_law 743 = .ok (.if_icmp .eq 726, 3) := dk_159 2 214 (dk_at dksL_law_26 3 rfl rfl)
theorem dL_law_746 : decode cL_law 746 = .ok (.iconst 0, 1) := dk_3 (dk_at dksL_law_26 6 rfl rfl)
theorem dL_law_747 : decode cL_law 747 = .ok (.ireturn, 1) := dk_172 (dk_at dksL_law_26 7 rfl rfl)
theorem dL_law_748 : decode cL_law 748 = .ok (.aload_n 1, 1) := dk_43 (dk_at dksL_law_26 8 rfl rfl)
theorem dL_law_749 : decode cL_law 749 = .ok (.aload_n 0, 1) := dk_42 (dk_at dksL_law_26 9 rfl rfl)
theorem dL_law_750 : decode cL_law 750 = .ok (.iload_n 3, 1) := dk_29 (dk_at dksL_law_26 10 rfl rfl)
theorem dL_law_751 : decode cL_law 751 = .ok (.iconst 1, 1) := dk_4 (dk_at dksL_law_26 11 rfl rfl)
theorem dL_law_752 : decode cL_law 752 = .ok (.iadd, 1) := dk_96 (dk_at dksL_law_26 12 rfl rfl)
theorem dL_law_753 : decode cL_law 753 = .ok (.iaload, 1) := dk_46 (dk_at dksL_law_26 13 rfl rfl)
theorem dL_law_754 : decode cL_law 754 = .ok (.aload_n 0, 1) := dk_42 (dk_at dksL_law_26 14 rfl rfl)
theorem dL_law_755 : decode cL_law 755 = .ok (.iload_n 3, 1) := dk_29 (dk_at dksL_law_26 15 rfl rfl)
theorem dL_law_756 : decode cL_law 756 = .ok (.iconst 2, 1) := dk_5 (dk_at dksL_law_26 16 rfl rfl)
theorem dL_law_757 : decode cL_law 757 = .ok (.iadd, 1) := dk_96 (dk_at dksL_law_26 17 rfl rfl)
theorem dL_law_758 : decode cL_law 758 = .ok (.iaload, 1) := dk_46 (dk_at dksL_law_26 18 rfl rfl)
theorem dL_law_759 : decode cL_law 759 = .ok (.aload_n 0, 1) := dk_42 (dk_at dksL_law_26 19 rfl rfl)
theorem dL_law_760 : decode cL_law 760 = .ok (.iload_n 3, 1) := dk_29 (dk_at dksL_law_26 20 rfl rfl)
theorem dL_law_761 : decode cL_law 761 = .ok (.iconst 3, 1) := dk_6 (dk_at dksL_law_26 21 rfl rfl)
theorem dL_law_762 : decode cL_law 762 = .ok (.iadd, 1) := dk_96 (dk_at dksL_law_26 22 rfl rfl)
theorem dL_law_763 : decode cL_law 763 = .ok (.iaload, 1) := dk_46 (dk_at dksL_law_26 23 rfl rfl)
theorem dL_law_764 : decode cL_law 764 = .ok (.invokevirtual 82, 3) := dk_182 0 82 (dk_at dksL_law_27 0 rfl rfl)
theorem dL_law_767 : decode cL_law 767 = .ok (.aload_n 2, 1) := dk_44 (dk_at dksL_law_27 3 rfl rfl)
theorem dL_law_768 : decode cL_law 768 = .ok (.aload_n 0, 1) := dk_42 (dk_at dksL_law_27 4 rfl rfl)
theorem dL_law_769 : decode cL_law 769 = .ok (.iload_n 3, 1) := dk_29 (dk_at dksL_law_27 5 rfl rfl)
theorem dL_law_770 : decode cL_law 770 = .ok (.iconst 1, 1) := dk_4 (dk_at dksL_law_27 6 rfl rfl)
theorem dL_law_771 : decode cL_law 771 = .ok (.iadd, 1) := dk_96 (dk_at dksL_law_27 7 rfl rfl)
theorem dL_law_772 : decode cL_law 772 = .ok (.iaload, 1) := dk_46 (dk_at dksL_law_27 8 rfl rfl)
theorem dL_law_773 : decode cL_law 773 = .ok (.aload_n 0, 1) := dk_42 (dk_at dksL_law_27 9 rfl rfl)
theorem dL_law_774 : decode cL_law 774 = .ok (.iload_n 3, 1) := dk_29 (dk_at dksL_law_27 10 rfl rfl)
theorem dL_law_775 : decode cL_law 775 = .ok (.iconst 2, 1) := dk_5 (dk_at dksL_law_27 11 rfl rfl)
theorem dL_law_776 : decode cL_law 776 = .ok (.iadd, 1) := dk_96 (dk_at dksL_law_27 12 rfl rfl)
theorem dL_law_777 : decode cL_law 777 = .ok (.iaload, 1) := dk_46 (dk_at dksL_law_27 13 rfl rfl)
theorem dL_law_778 : decode cL_law 778 = .ok (.aload_n 0, 1) := dk_42 (dk_at dksL_law_27 14 rfl rfl)
theorem dL_law_779 : decode cL_law 779 = .ok (.iload_n 3, 1) := dk_29 (dk_at dksL_law_27 15 rfl rfl)
theorem dL_law_780 : decode cL_law 780 = .ok (.iconst 3, 1) := dk_6 (dk_at dksL_law_27 16 rfl rfl)
theorem dL_law_781 : decode cL_law 781 = .ok (.iadd, 1) := dk_96 (dk_at dksL_law_27 17 rfl rfl)
theorem dL_law_782 : decode cL_law 782 = .ok (.iaload, 1) := dk_46 (dk_at dksL_law_27 18 rfl rfl)
theorem dL_law_783 : decode cL_law 783 = .ok (.invokevirtual 85, 3) := dk_182 0 85 (dk_at dksL_law_27 19 rfl rfl)
theorem dL_law_786 : decode cL_law 786 = .ok (.if_icmp .eq 683, 3) := dk_159 2 171 (dk_at dksL_law_28 0 rfl rfl)
theorem dL_law_789 : decode cL_law 789 = .ok (.iconst 0, 1) := dk_3 (dk_at dksL_law_28 3 rfl rfl)
theorem dL_law_790 : decode cL_law 790 = .ok (.ireturn, 1) := dk_172 (dk_at dksL_law_28 4 rfl rfl)
theorem dL_law_791 : decode cL_law 791 = .ok (.aload_n 1, 1) := dk_43 (dk_at dksL_law_28 5 rfl rfl)
theorem dL_law_792 : decode cL_law 792 = .ok (.aload_n 0, 1) := dk_42 (dk_at dksL_law_28 6 rfl rfl)
theorem dL_law_793 : decode cL_law 793 = .ok (.iload_n 3, 1) := dk_29 (dk_at dksL_law_28 7 rfl rfl)
theorem dL_law_794 : decode cL_law 794 = .ok (.iconst 1, 1) := dk_4 (dk_at dksL_law_28 8 rfl rfl)
theorem dL_law_795 : decode cL_law 795 = .ok (.iadd, 1) := dk_96 (dk_at dksL_law_28 9 rfl rfl)
theorem dL_law_796 : decode cL_law 796 = .ok (.iaload, 1) := dk_46 (dk_at dksL_law_28 10 rfl rfl)
theorem dL_law_797 : decode cL_law 797 = .ok (.aload_n 0, 1) := dk_42 (dk_at dksL_law_28 11 rfl rfl)
theorem dL_law_798 : decode cL_law 798 = .ok (.iload_n 3, 1) := dk_29 (dk_at dksL_law_28 12 rfl rfl)
theorem dL_law_799 : decode cL_law 799 = .ok (.iconst 2, 1) := dk_5 (dk_at dksL_law_28 13 rfl rfl)
theorem dL_law_800 : decode cL_law 800 = .ok (.iadd, 1) := dk_96 (dk_at dksL_law_28 14 rfl rfl)
theorem dL_law_801 : decode cL_law 801 = .ok (.iaload, 1) := dk_46 (dk_at dksL_law_28 15 rfl rfl)
theorem dL_law_802 : decode cL_law 802 = .ok (.aload_n 0, 1) := dk_42 (dk_at dksL_law_28 16 rfl rfl)
theorem dL_law_803 : decode cL_law 803 = .ok (.iload_n 3, 1) := dk_29 (dk_at dksL_law_28 17 rfl rfl)
theorem dL_law_804 : decode cL_law 804 = .ok (.iconst 3, 1) := dk_6 (dk_at dksL_law_28 18 rfl rfl)
theorem dL_law_805 : decode cL_law 805 = .ok (.iadd, 1) := dk_96 (dk_at dksL_law_28 19 rfl rfl)
theorem dL_law_806 : decode cL_law 806 = .ok (.iaload, 1) := dk_46 (dk_at dksL_law_28 20 rfl rfl)
theorem dL_law_807 : decode cL_law 807 = .ok (.invokevirtual 86, 3) := dk_182 0 86 (dk_at dksL_law_28 21 rfl rfl)
theorem dL_law_810 : decode cL_law 810 = .ok (.aload_n 2, 1) := dk_44 (dk_at dksL_law_29 0 rfl rfl)
theorem dL_law_811 : decode cL_law 811 = .ok (.aload_n 0, 1) := dk_42 (dk_at dksL_law_29 1 rfl rfl)
theorem dL_law_812 : decode cL_law 812 = .ok (.iload_n 3, 1) := dk_29 (dk_at dksL_law_29 2 rfl rfl)
theorem dL_law_813 : decode cL_law 813 = .ok (.iconst 1, 1) := dk_4 (dk_at dksL_law_29 3 rfl rfl)
theorem dL_law_814 : decode cL_law 814 = .ok (.iadd, 1) := dk_96 (dk_at dksL_law_29 4 rfl rfl)
theorem dL_law_815 : decode cL_law 815 = .ok (.iaload, 1) := dk_46 (dk_at dksL_law_29 5 rfl rfl)
theorem dL_law_816 : decode cL_law 816 = .ok (.aload_n 0, 1) := dk_42 (dk_at dksL_law_29 6 rfl rfl)
theorem dL_law_817 : decode cL_law 817 = .ok (.iload_n 3, 1) := dk_29 (dk_at dksL_law_29 7 rfl rfl)
theorem dL_law_818 : decode cL_law 818 = .ok (.iconst 2, 1) := dk_5 (dk_at dksL_law_29 8 rfl rfl)
theorem dL_law_819 : decode cL_law 819 = .ok (.iadd, 1) := dk_96 (dk_at dksL_law_29 9 rfl rfl)
theorem dL_law_820 : decode cL_law 820 = .ok (.iaload, 1) := dk_46 (dk_at dksL_law_29 10 rfl rfl)
theorem dL_law_821 : decode cL_law 821 = .ok (.aload_n 0, 1) := dk_42 (dk_at dksL_law_29 11 rfl rfl)
theorem dL_law_822 : decode cL_law 822 = .ok (.iload_n 3, 1) := dk_29 (dk_at dksL_law_29 12 rfl rfl)
theorem dL_law_823 : decode cL_law 823 = .ok (.iconst 3, 1) := dk_6 (dk_at dksL_law_29 13 rfl rfl)
theorem dL_law_824 : decode cL_law 824 = .ok (.iadd, 1) := dk_96 (dk_at dksL_law_29 14 rfl rfl)
theorem dL_law_825 : decode cL_law 825 = .ok (.iaload, 1) := dk_46 (dk_at dksL_law_29 15 rfl rfl)
theorem dL_law_826 : decode cL_law 826 = .ok (.invokevirtual 89, 3) := dk_182 0 89 (dk_at dksL_law_29 16 rfl rfl)
theorem dL_law_829 : decode cL_law 829 = .ok (.if_icmp .eq 640, 3) := dk_159 2 128 (dk_at dksL_law_29 19 rfl rfl)
theorem dL_law_832 : decode cL_law 832 = .ok (.iconst 0, 1) := dk_3 (dk_at dksL_law_29 22 rfl rfl)
theorem dL_law_833 : decode cL_law 833 = .ok (.ireturn, 1) := dk_172 (dk_at dksL_law_29 23 rfl rfl)
theorem dL_law_834 : decode cL_law 834 = .ok (.aload_n 1, 1) := dk_43 (dk_at dksL_law_30 0 rfl rfl)
theorem dL_law_835 : decode cL_law 835 = .ok (.aload_n 0, 1) := dk_42 (dk_at dksL_law_30 1 rfl rfl)
theorem dL_law_836 : decode cL_law 836 = .ok (.iload_n 3, 1) := dk_29 (dk_at dksL_law_30 2 rfl rfl)
theorem dL_law_837 : decode cL_law 837 = .ok (.iconst 1, 1) := dk_4 (dk_at dksL_law_30 3 rfl rfl)
theorem dL_law_838 : decode cL_law 838 = .ok (.iadd, 1) := dk_96 (dk_at dksL_law_30 4 rfl rfl)
theorem dL_law_839 : decode cL_law 839 = .ok (.iaload, 1) := dk_46 (dk_at dksL_law_30 5 rfl rfl)
theorem dL_law_840 : decode cL_law 840 = .ok (.aload_n 0, 1) := dk_42 (dk_at dksL_law_30 6 rfl rfl)
theorem dL_law_841 : decode cL_law 841 = .ok (.iload_n 3, 1) := dk_29 (dk_at dksL_law_30 7 rfl rfl)
theorem dL_law_842 : decode cL_law 842 = .ok (.iconst 2, 1) := dk_5 (dk_at dksL_law_30 8 rfl rfl)
theorem dL_law_843 : decode cL_law 843 = .ok (.iadd, 1) := dk_96 (dk_at dksL_law_30 9 rfl rfl)
theorem dL_law_844 : decode cL_law 844 = .ok (.iaload, 1) := dk_46 (dk_at dksL_law_30 10 rfl rfl)
theorem dL_law_845 : decode cL_law 845 = .ok (.aload_n 0, 1) := dk_42 (dk_at dksL_law_30 11 rfl rfl)
theorem dL_law_846 : decode cL_law 846 = .ok (.iload_n 3, 1) := dk_29 (dk_at dksL_law_30 12 rfl rfl)
theorem dL_law_847 : decode cL_law 847 = .ok (.iconst 3, 1) := dk_6 (dk_at dksL_law_30 13 rfl rfl)
theorem dL_law_848 : decode cL_law 848 = .ok (.iadd, 1) := dk_96 (dk_at dksL_law_30 14 rfl rfl)
theorem dL_law_849 : decode cL_law 849 = .ok (.iaload, 1) := dk_46 (dk_at dksL_law_30 15 rfl rfl)
theorem dL_law_850 : decode cL_law 850 = .ok (.aload_n 0, 1) := dk_42 (dk_at dksL_law_30 16 rfl rfl)
theorem dL_law_851 : decode cL_law 851 = .ok (.iload_n 3, 1) := dk_29 (dk_at dksL_law_30 17 rfl rfl)
theorem dL_law_852 : decode cL_law 852 = .ok (.iconst 4, 1) := dk_7 (dk_at dksL_law_30 18 rfl rfl)
theorem dL_law_853 : decode cL_law 853 = .ok (.iadd, 1) := dk_96 (dk_at dksL_law_30 19 rfl rfl)
theorem dL_law_854 : decode cL_law 854 = .ok (.iaload, 1) := dk_46 (dk_at dksL_law_30 20 rfl rfl)
theorem dL_law_855 : decode cL_law 855 = .ok (.aload_n 0, 1) := dk_42 (dk_at dksL_law_30 21 rfl rfl)
theorem dL_law_856 : decode cL_law 856 = .ok (.iload_n 3, 1) := dk_29 (dk_at dksL_law_30 22 rfl rfl)
theorem dL_law_857 : decode cL_law 857 = .ok (.iconst 5, 1) := dk_8 (dk_at dksL_law_30 23 rfl rfl)
theorem dL_law_858 : decode cL_law 858 = .ok (.iadd, 1) := dk_96 (dk_at dksL_law_31 0 rfl rfl)
theorem dL_law_859 : decode cL_law 859 = .ok (.iaload, 1) := dk_46 (dk_at dksL_law_31 1 rfl rfl)
theorem dL_law_860 : decode cL_law 860 = .ok (.aload_n 0, 1) := dk_42 (dk_at dksL_law_31 2 rfl rfl)
theorem dL_law_861 : decode cL_law 861 = .ok (.iload_n 3, 1) := dk_29 (dk_at dksL_law_31 3 rfl rfl)
theorem dL_law_862 : decode cL_law 862 = .ok (.bipush 6, 2) := dk_16 6 (dk_at dksL_law_31 4 rfl rfl)
theorem dL_law_864 : decode cL_law 864 = .ok (.iadd, 1) := dk_96 (dk_at dksL_law_31 6 rfl rfl)
theorem dL_law_865 : decode cL_law 865 = .ok (.iaload, 1) := dk_46 (dk_at dksL_law_31 7 rfl rfl)
theorem dL_law_866 : decode cL_law 866 = .ok (.invokevirtual 90, 3) := dk_182 0 90 (dk_at dksL_law_31 8 rfl rfl)
theorem dL_law_869 : decode cL_law 869 = .ok (.aload_n 2, 1) := dk_44 (dk_at dksL_law_31 11 rfl rfl)
theorem dL_law_870 : decode cL_law 870 = .ok (.aload_n 0, 1) := dk_42 (dk_at dksL_law_31 12 rfl rfl)
theorem dL_law_871 : decode cL_law 871 = .ok (.iload_n 3, 1) := dk_29 (dk_at dksL_law_31 13 rfl rfl)
theorem dL_law_872 : decode cL_law 872 = .ok (.iconst 1, 1) := dk_4 (dk_at dksL_law_31 14 rfl rfl)
theorem dL_law_873 : decode cL_law 873 = .ok (.iadd, 1) := dk_96 (dk_at dksL_law_31 15 rfl rfl)
theorem dL_law_874 : decode cL_law 874 = .ok (.iaload, 1) := dk_46 (dk_at dksL_law_31 16 rfl rfl)
theorem dL_law_875 : decode cL_law 875 = .ok (.aload_n 0, 1) := dk_42 (dk_at dksL_law_31 17 rfl rfl)
theorem dL_law_876 : decode cL_law 876 = .ok (.iload_n 3, 1) := dk_29 (dk_at dksL_law_31 18 rfl rfl)
theorem dL_law_877 : decode cL_law 877 = .ok (.iconst 2, 1) := dk_5 (dk_at dksL_law_31 19 rfl rfl)
theorem dL_law_878 : decode cL_law 878 = .ok (.iadd, 1) := dk_96 (dk_at dksL_law_31 20 rfl rfl)
theorem dL_law_879 : decode cL_law 879 = .ok (.iaload, 1) := dk_46 (dk_at dksL_law_31 21 rfl rfl)
theorem dL_law_880 : decode cL_law 880 = .ok (.aload_n 0, 1) := dk_42 (dk_at dksL_law_31 22 rfl rfl)
theorem dL_law_881 : decode cL_law 881 = .ok (.iload_n 3, 1) := dk_29 (dk_at dksL_law_31 23 rfl rfl)
theorem dL_law_882 : decode cL_law 882 = .ok (.iconst 3, 1) := dk_6 (dk_at dksL_law_32 0 rfl rfl)
theorem dL_law_883 : decode cL_law 883 = .ok (.iadd, 1) := dk_96 (dk_at dksL_law_32 1 rfl rfl)
theorem dL_law_884 : decode cL_law 884 = .ok (.iaload, 1) := dk_46 (dk_at dksL_law_32 2 rfl rfl)
theorem dL_law_885 : decode cL_law 885 = .ok (.aload_n 0, 1) := dk_42 (dk_at dksL_law_32 3 rfl rfl)
theorem dL_law_886 : decode cL_law 886 = .ok (.iload_n 3, 1) := dk_29 (dk_at dksL_law_32 4 rfl rfl)
theorem dL_law_887 : decode cL_law 887 = .ok (.iconst 4, 1) := dk_7 (dk_at dksL_law_32 5 rfl rfl)
theorem dL_law_888 : decode cL_law 888 = .ok (.iadd, 1) := dk_96 (dk_at dksL_law_32 6 rfl rfl)
theorem dL_law_889 : decode cL_law 889 = .ok (.iaload, 1) := dk_46 (dk_at dksL_law_32 7 rfl rfl)
theorem dL_law_890 : decode cL_law 890 = .ok (.aload_n 0, 1) := dk_42 (dk_at dksL_law_32 8 rfl rfl)
theorem dL_law_891 : decode cL_law 891 = .ok (.iload_n 3, 1) := dk_29 (dk_at dksL_law_32 9 rfl rfl)
theorem dL_law_892 : decode cL_law 892 = .ok (.iconst 5, 1) := dk_8 (dk_at dksL_law_32 10 rfl rfl)
theorem dL_law_893 : decode cL_law 893 = .ok (.iadd, 1) := dk_96 (dk_at dksL_law_32 11 rfl rfl)
theorem dL_law_894 : decode cL_law 894 = .ok (.iaload, 1) := dk_46 (dk_at dksL_law_32 12 rfl rfl)
theorem dL_law_895 : decode cL_law 895 = .ok (.aload_n 0, 1) := dk_42 (dk_at dksL_law_32 13 rfl rfl)
theorem dL_law_896 : decode cL_law 896 = .ok (.iload_n 3, 1) := dk_29 (dk_at dksL_law_32 14 rfl rfl)
theorem dL_law_897 : decode cL_law 897 = .ok (.bipush 6, 2) := dk_16 6 (dk_at dksL_law_32 15 rfl rfl)
theorem dL_law_899 : decode cL_law 899 = .ok (.iadd, 1) := dk_96 (dk_at dksL_law_32 17 rfl rfl)
theorem dL_law_900 : decode cL_law 900 = .ok (.iaload, 1) := dk_46 (dk_at dksL_law_32 18 rfl rfl)
theorem dL_law_901 : decode cL_law 901 = .ok (.invokevirtual 94, 3) := dk_182 0 94 (dk_at dksL_law_32 19 rfl rfl)
theorem dL_law_904 : decode cL_law 904 = .ok (.if_icmp .eq 565, 3) := dk_159 2 53 (dk_at dksL_law_33 0 rfl rfl)
theorem dL_law_907 : decode cL_law 907 = .ok (.iconst 0, 1) := dk_3 (dk_at dksL_law_33 3 rfl rfl)
theorem dL_law_908 : decode cL_law 908 = .ok (.ireturn, 1) := dk_172 (dk_at dksL_law_33 4 rfl rfl)
theorem dL_law_909 : decode cL_law 909 = .ok (.aload_n 1, 1) := dk_43 (dk_at dksL_law_33 5 rfl rfl)
theorem dL_law_910 : decode cL_law 910 = .ok (.aload_n 0, 1) := dk_42 (dk_at dksL_law_33 6 rfl rfl)
theorem dL_law_911 : decode cL_law 911 = .ok (.iload_n 3, 1) := dk_29 (dk_at dksL_law_33 7 rfl rfl)
theorem dL_law_912 : decode cL_law 912 = .ok (.iconst 1, 1) := dk_4 (dk_at dksL_law_33 8 rfl rfl)
theorem dL_law_913 : decode cL_law 913 = .ok (.iadd, 1) := dk_96 (dk_at dksL_law_33 9 rfl rfl)
theorem dL_law_914 : decode cL_law 914 = .ok (.iaload, 1) := dk_46 (dk_at dksL_law_33 10 rfl rfl)
theorem dL_law_915 : decode cL_law 915 = .ok (.aload_n 0, 1) := dk_42 (dk_at dksL_law_33 11 rfl rfl)
theorem dL_law_916 : decode cL_law 916 = .ok (.iload_n 3, 1) := dk_29 (dk_at dksL_law_33 12 rfl rfl)
theorem dL_law_917 : decode cL_law 917 = .ok (.iconst 2, 1) := dk_5 (dk_at dksL_law_33 13 rfl rfl)
theorem dL_law_918 : decode cL_law 918 = .ok (.iadd, 1) := dk_96 (dk_at dksL_law_33 14 rfl rfl)
theorem dL_law_919 : decode cL_law 919 = .ok (.iaload, 1) := dk_46 (dk_at dksL_law_33 15 rfl rfl)
theorem dL_law_920 : decode cL_law 920 = .ok (.invokevirtual 95, 3) := dk_182 0 95 (dk_at dksL_law_33 16 rfl rfl)
theorem dL_law_923 : decode cL_law 923 = .ok (.aload_n 2, 1) := dk_44 (dk_at dksL_law_33 19 rfl rfl)
theorem dL_law_924 : decode cL_law 924 = .ok (.aload_n 0, 1) := dk_42 (dk_at dksL_law_33 20 rfl rfl)
theorem dL_law_925 : decode cL_law 925 = .ok (.iload_n 3, 1) := dk_29 (dk_at dksL_law_33 21 rfl rfl)
theorem dL_law_926 : decode cL_law 926 = .ok (.iconst 1, 1) := dk_4 (dk_at dksL_law_33 22 rfl rfl)
theorem dL_law_927 : decode cL_law 927 = .ok (.iadd, 1) := dk_96 (dk_at dksL_law_33 23 rfl rfl)
theorem dL_law_928 : decode cL_law 928 = .ok (.iaload, 1) := dk_46 (dk_at dksL_law_34 0 rfl rfl)
theorem dL_law_929 : decode cL_law 929 = .ok (.aload_n 0, 1) := dk_42 (dk_at dksL_law_34 1 rfl rfl)
theorem dL_law_930 : decode cL_law 930 = .ok (.iload_n 3, 1) := dk_29 (dk_at dksL_law_34 2 rfl rfl)
theorem dL_law_931 : decode cL_law 931 = .ok (.iconst 2, 1) := dk_5 (dk_at dksL_law_34 3 rfl rfl)
theorem dL_law_932 : decode cL_law 932 = .ok (.iadd, 1) := dk_96 (dk_at dksL_law_34 4 rfl rfl)
theorem dL_law_933 : decode cL_law 933 = .ok (.iaload, 1) := dk_46 (dk_at dksL_law_34 5 rfl rfl)
theorem dL_law_934 : decode cL_law 934 = .ok (.invokevirtual 98, 3) := dk_182 0 98 (dk_at dksL_law_34 6 rfl rfl)
theorem dL_law_937 : decode cL_law 937 = .ok (.if_icmp .eq 532, 3) := dk_159 2 20 (dk_at dksL_law_34 9 rfl rfl)
theorem dL_law_940 : decode cL_law 940 = .ok (.iconst 0, 1) := dk_3 (dk_at dksL_law_34 12 rfl rfl)
theorem dL_law_941 : decode cL_law 941 = .ok (.ireturn, 1) := dk_172 (dk_at dksL_law_34 13 rfl rfl)
theorem dL_law_942 : decode cL_law 942 = .ok (.aload_n 1, 1) := dk_43 (dk_at dksL_law_34 14 rfl rfl)
theorem dL_law_943 : decode cL_law 943 = .ok (.aload_n 0, 1) := dk_42 (dk_at dksL_law_34 15 rfl rfl)
theorem dL_law_944 : decode cL_law 944 = .ok (.iload_n 3, 1) := dk_29 (dk_at dksL_law_34 16 rfl rfl)
theorem dL_law_945 : decode cL_law 945 = .ok (.iconst 1, 1) := dk_4 (dk_at dksL_law_34 17 rfl rfl)
theorem dL_law_946 : decode cL_law 946 = .ok (.iadd, 1) := dk_96 (dk_at dksL_law_34 18 rfl rfl)
theorem dL_law_947 : decode cL_law 947 = .ok (.iaload, 1) := dk_46 (dk_at dksL_law_34 19 rfl rfl)
theorem dL_law_948 : decode cL_law 948 = .ok (.aload_n 0, 1) := dk_42 (dk_at dksL_law_34 20 rfl rfl)
theorem dL_law_949 : decode cL_law 949 = .ok (.iload_n 3, 1) := dk_29 (dk_at dksL_law_34 21 rfl rfl)
theorem dL_law_950 : decode cL_law 950 = .ok (.iconst 2, 1) := dk_5 (dk_at dksL_law_34 22 rfl rfl)
theorem dL_law_951 : decode cL_law 951 = .ok (.iadd, 1) := dk_96 (dk_at dksL_law_34 23 rfl rfl)
theorem dL_law_952 : decode cL_law 952 = .ok (.iaload, 1) := dk_46 (dk_at dksL_law_35 0 rfl rfl)
theorem dL_law_953 : decode cL_law 953 = .ok (.ifCond .eq 7, 3) := dk_153 0 7 (dk_at dksL_law_35 1 rfl rfl)
theorem dL_law_956 : decode cL_law 956 = .ok (.iconst 1, 1) := dk_4 (dk_at dksL_law_35 4 rfl rfl)
theorem dL_law_957 : decode cL_law 957 = .ok (.goto 4, 3) := dk_167 0 4 (dk_at dksL_law_35 5 rfl rfl)
theorem dL_law_960 : decode cL_law 960 = .ok (.iconst 0, 1) := dk_3 (dk_at dksL_law_35 8 rfl rfl)
theorem dL_law_961 : decode cL_law 961 = .ok (.invokevirtual 99, 3) := dk_182 0 99 (dk_at dksL_law_35 9 rfl rfl)
theorem dL_law_964 : decode cL_law 964 = .ok (.aload_n 2, 1) := dk_44 (dk_at dksL_law_35 12 rfl rfl)
theorem dL_law_965 : decode cL_law 965 = .ok (.aload_n 0, 1) := dk_42 (dk_at dksL_law_35 13 rfl rfl)
theorem dL_law_966 : decode cL_law 966 = .ok (.iload_n 3, 1) := dk_29 (dk_at dksL_law_35 14 rfl rfl)
theorem dL_law_967 : decode cL_law 967 = .ok (.iconst 1, 1) := dk_4 (dk_at dksL_law_35 15 rfl rfl)
theorem dL_law_968 : decode cL_law 968 = .ok (.iadd, 1) := dk_96 (dk_at dksL_law_35 16 rfl rfl)
theorem dL_law_969 : decode cL_law 969 = .ok (.iaload, 1) := dk_46 (dk_at dksL_law_35 17 rfl rfl)
theorem dL_law_970 : decode cL_law 970 = .ok (.aload_n 0, 1) := dk_42 (dk_at dksL_law_35 18 rfl rfl)
theorem dL_law_971 : decode cL_law 971 = .ok (.iload_n 3, 1) := dk_29 (dk_at dksL_law_35 19 rfl rfl)
theorem dL_law_972 : decode cL_law 972 = .ok (.iconst 2, 1) := dk_5 (dk_at dksL_law_35 20 rfl rfl)
theorem dL_law_973 : decode cL_law 973 = .ok (.iadd, 1) := dk_96 (dk_at dksL_law_35 21 rfl rfl)
theorem dL_law_974 : decode cL_law 974 = .ok (.iaload, 1) := dk_46 (dk_at dksL_law_35 22 rfl rfl)
theorem dL_law_975 : decode cL_law 975 = .ok (.ifCond .eq 7, 3) := dk_153 0 7 (dk_at dksL_law_36 0 rfl rfl)
theorem dL_law_978 : decode cL_law 978 = .ok (.iconst 1, 1) := dk_4 (dk_at dksL_law_36 3 rfl rfl)
theorem dL_law_979 : decode cL_law 979 = .ok (.goto 4, 3) := dk_167 0 4 (dk_at dksL_law_36 4 rfl rfl)
theorem dL_law_982 : decode cL_law 982 = .ok (.iconst 0, 1) := dk_3 (dk_at dksL_law_36 7 rfl rfl)
theorem dL_law_983 : decode cL_law 983 = .ok (.invokevirtual 103, 3) := dk_182 0 103 (dk_at dksL_law_36 8 rfl rfl)
theorem dL_law_986 : decode cL_law 986 = .ok (.if_icmp .eq 483, 3) := dk_159 1 227 (dk_at dksL_law_36 11 rfl rfl)
theorem dL_law_989 : decode cL_law 989 = .ok (.iconst 0, 1) := dk_3 (dk_at dksL_law_36 14 rfl rfl)
theorem dL_law_990 : decode cL_law 990 = .ok (.ireturn, 1) := dk_172 (dk_at dksL_law_36 15 rfl rfl)
theorem dL_law_991 : decode cL_law 991 = .ok (.aload_n 1, 1) := dk_43 (dk_at dksL_law_36 16 rfl rfl)
theorem dL_law_992 : decode cL_law 992 = .ok (.aload_n 0, 1) := dk_42 (dk_at dksL_law_36 17 rfl rfl)
theorem dL_law_993 : decode cL_law 993 = .ok (.iload_n 3, 1) := dk_29 (dk_at dksL_law_36 18 rfl rfl)
theorem dL_law_994 : decode cL_law 994 = .ok (.iconst 1, 1) := dk_4 (dk_at dksL_law_36 19 rfl rfl)
theorem dL_law_995 : decode cL_law 995 = .ok (.iadd, 1) := dk_96 (dk_at dksL_law_36 20 rfl rfl)
theorem dL_law_996 : decode cL_law 996 = .ok (.iaload, 1) := dk_46 (dk_at dksL_law_36 21 rfl rfl)
theorem dL_law_997 : decode cL_law 997 = .ok (.aload_n 0, 1) := dk_42 (dk_at dksL_law_36 22 rfl rfl)
theorem dL_law_998 : decode cL_law 998 = .ok (.iload_n 3, 1) := dk_29 (dk_at dksL_law_36 23 rfl rfl)
theorem dL_law_999 : decode cL_law 999 = .ok (.iconst 2, 1) := dk_5 (dk_at dksL_law_37 0 rfl rfl)
theorem dL_law_1000 : decode cL_law 1000 = .ok (.iadd, 1) := dk_96 (dk_at dksL_law_37 1 rfl rfl)
theorem dL_law_1001 : decode cL_law 1001 = .ok (.iaload, 1) := dk_46 (dk_at dksL_law_37 2 rfl rfl)
theorem dL_law_1002 : decode cL_law 1002 = .ok (.aload_n 0, 1) := dk_42 (dk_at dksL_law_37 3 rfl rfl)
theorem dL_law_1003 : decode cL_law 1003 = .ok (.iload_n 3, 1) := dk_29 (dk_at dksL_law_37 4 rfl rfl)
theorem dL_law_1004 : decode cL_law 1004 = .ok (.iconst 3, 1) := dk_6 (dk_at dksL_law_37 5 rfl rfl)
theorem dL_law_1005 : decode cL_law 1005 = .ok (.iadd, 1) := dk_96 (dk_at dksL_law_37 6 rfl rfl)
theorem dL_law_1006 : decode cL_law 1006 = .ok (.iaload, 1) := dk_46 (dk_at dksL_law_37 7 rfl rfl)
theorem dL_law_1007 : decode cL_law 1007 = .ok (.invokevirtual 104, 3) := dk_182 0 104 (dk_at dksL_law_37 8 rfl rfl)
theorem dL_law_1010 : decode cL_law 1010 = .ok (.aload_n 2, 1) := dk_44 (dk_at dksL_law_37 11 rfl rfl)
theorem dL_law_1011 : decode cL_law 1011 = .ok (.aload_n 0, 1) := dk_42 (dk_at dksL_law_37 12 rfl rfl)
theorem dL_law_1012 : decode cL_law 1012 = .ok (.iload_n 3, 1) := dk_29 (dk_at dksL_law_37 13 rfl rfl)
theorem dL_law_1013 : decode cL_law 1013 = .ok (.iconst 1, 1) := dk_4 (dk_at dksL_law_37 14 rfl rfl)
theorem dL_law_1014 : decode cL_law 1014 = .ok (.iadd, 1) := dk_96 (dk_at dksL_law_37 15 rfl rfl)
theorem dL_law_1015 : decode cL_law 1015 = .ok (.iaload, 1) := dk_46 (dk_at dksL_law_37 16 rfl rfl)
theorem dL_law_1016 : decode cL_law 1016 = .ok (.aload_n 0, 1) := dk_42 (dk_at dksL_law_37 17 rfl rfl)
theorem dL_law_1017 : decode cL_law 1017 = .ok (.iload_n 3, 1) := dk_29 (dk_at dksL_law_37 18 rfl rfl)
theorem dL_law_1018 : decode cL_law 1018 = .ok (.iconst 2, 1) := dk_5 (dk_at dksL_law_37 19 rfl rfl)
theorem dL_law_1019 : decode cL_law 1019 = .ok (.iadd, 1) := dk_96 (dk_at dksL_law_37 20 rfl rfl)
theorem dL_law_1020 : decode cL_law 1020 = .ok (.iaload, 1) := dk_46 (dk_at dksL_law_37 21 rfl rfl)
theorem dL_law_1021 : decode cL_law 1021 = .ok (.aload_n 0, 1) := dk_42 (dk_at dksL_law_37 22 rfl rfl)
theorem dL_law_1022 : decode cL_law 1022 = .ok (.iload_n 3, 1) := dk_29 (dk_at dksL_law_37 23 rfl rfl)
theorem dL_law_1023 : decode cL_law 1023 = .ok (.iconst 3, 1) := dk_6 (dk_at dksL_law_38 0 rfl rfl)
theorem dL_law_1024 : decode cL_law 1024 = .ok (.iadd, 1) := dk_96 (dk_at dksL_law_38 1 rfl rfl)
theorem dL_law_1025 : decode cL_law 1025 = .ok (.iaload, 1) := dk_46 (dk_at dksL_law_38 2 rfl rfl)
theorem dL_law_1026 : decode cL_law 1026 = .ok (.invokevirtual 107, 3) := dk_182 0 107 (dk_at dksL_law_38 3 rfl rfl)
theorem dL_law_1029 : decode cL_law 1029 = .ok (.if_icmp .eq 440, 3) := dk_159 1 184 (dk_at dksL_law_38 6 rfl rfl)
theorem dL_law_1032 : decode cL_law 1032 = .ok (.iconst 0, 1) := dk_3 (dk_at dksL_law_38 9 rfl rfl)
theorem dL_law_1033 : decode cL_law 1033 = .ok (.ireturn, 1) := dk_172 (dk_at dksL_law_38 10 rfl rfl)
theorem dL_law_1034 : decode cL_law 1034 = .ok (.aload_n 1, 1) := dk_43 (dk_at dksL_law_38 11 rfl rfl)
theorem dL_law_1035 : decode cL_law 1035 = .ok (.aload_n 0, 1) := dk_42 (dk_at dksL_law_38 12 rfl rfl)
theorem dL_law_1036 : decode cL_law 1036 = .ok (.iload_n 3, 1) := dk_29 (dk_at dksL_law_38 13 rfl rfl)
theorem dL_law_1037 : decode cL_law 1037 = .ok (.iconst 1, 1) := dk_4 (dk_at dksL_law_38 14 rfl rfl)
theorem dL_law_1038 : decode cL_law 1038 = .ok (.iadd, 1) := dk_96 (dk_at dksL_law_38 15 rfl rfl)
theorem dL_law_1039 : decode cL_law 1039 = .ok (.iaload, 1) := dk_46 (dk_at dksL_law_38 16 rfl rfl)
theorem dL_law_1040 : decode cL_law 1040 = .ok (.aload_n 0, 1) := dk_42 (dk_at dksL_law_38 17 rfl rfl)
theorem dL_law_1041 : decode cL_law 1041 = .ok (.iload_n 3, 1) := dk_29 (dk_at dksL_law_38 18 rfl rfl)
theorem dL_law_1042 : decode cL_law 1042 = .ok (.iconst 2, 1) := dk_5 (dk_at dksL_law_38 19 rfl rfl)
theorem dL_law_1043 : decode cL_law 1043 = .ok (.iadd, 1) := dk_96 (dk_at dksL_law_38 20 rfl rfl)
theorem dL_law_1044 : decode cL_law 1044 = .ok (.iaload, 1) := dk_46 (dk_at dksL_law_38 21 rfl rfl)
theorem dL_law_1045 : decode cL_law 1045 = .ok (.aload_n 0, 1) := dk_42 (dk_at dksL_law_38 22 rfl rfl)
theorem dL_law_1046 : decode cL_law 1046 = .ok (.iload_n 3, 1) := dk_29 (dk_at dksL_law_38 23 rfl rfl)
theorem dL_law_1047 : decode cL_law 1047 = .ok (.iconst 3, 1) := dk_6 (dk_at dksL_law_39 0 rfl rfl)
theorem dL_law_1048 : decode cL_law 1048 = .ok (.iadd, 1) := dk_96 (dk_at dksL_law_39 1 rfl rfl)
theorem dL_law_1049 : decode cL_law 1049 = .ok (.iaload, 1) := dk_46 (dk_at dksL_law_39 2 rfl rfl)
theorem dL_law_1050 : decode cL_law 1050 = .ok (.invokevirtual 108, 3) := dk_182 0 108 (dk_at dksL_law_39 3 rfl rfl)
theorem dL_law_1053 : decode cL_law 1053 = .ok (.aload_n 2, 1) := dk_44 (dk_at dksL_law_39 6 rfl rfl)
theorem dL_law_1054 : decode cL_law 1054 = .ok (.aload_n 0, 1) := dk_42 (dk_at dksL_law_39 7 rfl rfl)
theorem dL_law_1055 : decode cL_law 1055 = .ok (.iload_n 3, 1) := dk_29 (dk_at dksL_law_39 8 rfl rfl)
theorem dL_law_1056 : decode cL_law 1056 = .ok (.iconst 1, 1) := dk_4 (dk_at dksL_law_39 9 rfl rfl)
theorem dL_law_1057 : decode cL_law 1057 = .ok (.iadd, 1) := dk_96 (dk_at dksL_law_39 10 rfl rfl)
theorem dL_law_1058 : decode cL_law 1058 = .ok (.iaload, 1) := dk_46 (dk_at dksL_law_39 11 rfl rfl)
theorem dL_law_1059 : decode cL_law 1059 = .ok (.aload_n 0, 1) := dk_42 (dk_at dksL_law_39 12 rfl rfl)
theorem dL_law_1060 : decode cL_law 1060 = .ok (.iload_n 3, 1) := dk_29 (dk_at dksL_law_39 13 rfl rfl)
theorem dL_law_1061 : decode cL_law 1061 = .ok (.iconst 2, 1) := dk_5 (dk_at dksL_law_39 14 rfl rfl)
theorem dL_law_1062 : decode cL_law 1062 = .ok (.iadd, 1) := dk_96 (dk_at dksL_law_39 15 rfl rfl)
theorem dL_law_1063 : decode cL_law 1063 = .ok (.iaload, 1) := dk_46 (dk_at dksL_law_39 16 rfl rfl)
theorem dL_law_1064 : decode cL_law 1064 = .ok (.aload_n 0, 1) := dk_42 (dk_at dksL_law_39 17 rfl rfl)
theorem dL_law_1065 : decode cL_law 1065 = .ok (.iload_n 3, 1) := dk_29 (dk_at dksL_law_39 18 rfl rfl)
theorem dL_law_1066 : decode cL_law 1066 = .ok (.iconst 3, 1) := dk_6 (dk_at dksL_law_39 19 rfl rfl)
theorem dL_law_1067 : decode cL_law 1067 = .ok (.iadd, 1) := dk_96 (dk_at dksL_law_39 20 rfl rfl)
theorem dL_law_1068 : decode cL_law 1068 = .ok (.iaload, 1) := dk_46 (dk_at dksL_law_39 21 rfl rfl)
theorem dL_law_1069 : decode cL_law 1069 = .ok (.invokevirtual 111, 3) := dk_182 0 111 (dk_at dksL_law_40 0 rfl rfl)
theorem dL_law_1072 : decode cL_law 1072 = .ok (.if_icmp .eq 397, 3) := dk_159 1 141 (dk_at dksL_law_40 3 rfl rfl)
theorem dL_law_1075 : decode cL_law 1075 = .ok (.iconst 0, 1) := dk_3 (dk_at dksL_law_40 6 rfl rfl)
theorem dL_law_1076 : decode cL_law 1076 = .ok (.ireturn, 1) := dk_172 (dk_at dksL_law_40 7 rfl rfl)
theorem dL_law_1077 : decode cL_law 1077 = .ok (.aload_n 1, 1) := dk_43 (dk_at dksL_law_40 8 rfl rfl)
theorem dL_law_1078 : decode cL_law 1078 = .ok (.aload_n 0, 1) := dk_42 (dk_at dksL_law_40 9 rfl rfl)
theorem dL_law_1079 : decode cL_law 1079 = .ok (.iload_n 3, 1) := dk_29 (dk_at dksL_law_40 10 rfl rfl)
theorem dL_law_1080 : decode cL_law 1080 = .ok (.iconst 1, 1) := dk_4 (dk_at dksL_law_40 11 rfl rfl)
theorem dL_law_1081 : decode cL_law 1081 = .ok (.iadd, 1) := dk_96 (dk_at dksL_law_40 12 rfl rfl)
theorem dL_law_1082 : decode cL_law 1082 = .ok (.iaload, 1) := dk_46 (dk_at dksL_law_40 13 rfl rfl)
theorem dL_law_1083 : decode cL_law 1083 = .ok (.aload_n 0, 1) := dk_42 (dk_at dksL_law_40 14 rfl rfl)
theorem dL_law_1084 : decode cL_law 1084 = .ok (.iload_n 3, 1) := dk_29 (dk_at dksL_law_40 15 rfl rfl)
theorem dL_law_1085 : decode cL_law 1085 = .ok (.iconst 2, 1) := dk_5 (dk_at dksL_law_40 16 rfl rfl)
theorem dL_law_1086 : decode cL_law 1086 = .ok (.iadd, 1) := dk_96 (dk_at dksL_law_40 17 rfl rfl)
theorem dL_law_1087 : decode cL_law 1087 = .ok (.iaload, 1) := dk_46 (dk_at dksL_law_40 18 rfl rfl)
theorem dL_law_1088 : decode cL_law 1088 = .ok (.invokevirtual 112, 3) := dk_182 0 112 (dk_at dksL_law_40 19 rfl rfl)
theorem dL_law_1091 : decode cL_law 1091 = .ok (.aload_n 2, 1) := dk_44 (dk_at dksL_law_40 22 rfl rfl)
theorem dL_law_1092 : decode cL_law 1092 = .ok (.aload_n 0, 1) := dk_42 (dk_at dksL_law_40 23 rfl rfl)
theorem dL_law_1093 : decode cL_law 1093 = .ok (.iload_n 3, 1) := dk_29 (dk_at dksL_law_41 0 rfl rfl)
theorem dL_law_1094 : decode cL_law 1094 = .ok (.iconst 1, 1) := dk_4 (dk_at dksL_law_41 1 rfl rfl)
theorem dL_law_1095 : decode cL_law 1095 = .ok (.iadd, 1) := dk_96 (dk_at dksL_law_41 2 rfl rfl)
theorem dL_law_1096 : decode cL_law 1096 = .ok (.iaload, 1) := dk_46 (dk_at dksL_law_41 3 rfl rfl)
theorem dL_law_1097 : decode cL_law 1097 = .ok (.aload_n 0, 1) := dk_42 (dk_at dksL_law_41 4 rfl rfl)
theorem dL_law_1098 : decode cL_law 1098 = .ok (.iload_n 3, 1) := dk_29 (dk_at dksL_law_41 5 rfl rfl)
theorem dL_law_1099 : decode cL_law 1099 = .ok (.iconst 2, 1) := dk_5 (dk_at dksL_law_41 6 rfl rfl)
theorem dL_law_1100 : decode cL_law 1100 = .ok (.iadd, 1) := dk_96 (dk_at dksL_law_41 7 rfl rfl)
theorem dL_law_1101 : decode cL_law 1101 = .ok (.iaload, 1) := dk_46 (dk_at dksL_law_41 8 rfl rfl)
theorem dL_law_1102 : decode cL_law 1102 = .ok (.invokevirtual 115, 3) := dk_182 0 115 (dk_at dksL_law_41 9 rfl rfl)
theorem dL_law_1105 : decode cL_law 1105 = .ok (.if_icmp .eq 364, 3) := dk_159 1 108 (dk_at dksL_law_41 12 rfl rfl)
theorem dL_law_1108 : decode cL_law 1108 = .ok (.iconst 0, 1) := dk_3 (dk_at dksL_law_41 15 rfl rfl)
theorem dL_law_1109 : decode cL_law 1109 = .ok (.ireturn, 1) := dk_172 (dk_at dksL_law_41 16 rfl rfl)
theorem dL_law_1110 : decode cL_law 1110 = .ok (.aload_n 1, 1) := dk_43 (dk_at dksL_law_41 17 rfl rfl)
theorem dL_law_1111 : decode cL_law 1111 = .ok (.aload_n 0, 1) := dk_42 (dk_at dksL_law_41 18 rfl rfl)
theorem dL_law_1112 : decode cL_law 1112 = .ok (.iload_n 3, 1) := dk_29 (dk_at dksL_law_41 19 rfl rfl)
theorem dL_law_1113 : decode cL_law 1113 = .ok (.iconst 1, 1) := dk_4 (dk_at dksL_law_41 20 rfl rfl)
theorem dL_law_1114 : decode cL_law 1114 = .ok (.iadd, 1) := dk_96 (dk_at dksL_law_41 21 rfl rfl)
theorem dL_law_1115 : decode cL_law 1115 = .ok (.iaload, 1) := dk_46 (dk_at dksL_law_41 22 rfl rfl)
theorem dL_law_1116 : decode cL_law 1116 = .ok (.aload_n 0, 1) := dk_42 (dk_at dksL_law_41 23 rfl rfl)
theorem dL_law_1117 : decode cL_law 1117 = .ok (.iload_n 3, 1) := dk_29 (dk_at dksL_law_42 0 rfl rfl)
theorem dL_law_1118 : decode cL_law 1118 = .ok (.iconst 2, 1) := dk_5 (dk_at dksL_law_42 1 rfl rfl)
theorem dL_law_1119 : decode cL_law 1119 = .ok (.iadd, 1) := dk_96 (dk_at dksL_law_42 2 rfl rfl)
theorem dL_law_1120 : decode cL_law 1120 = .ok (.iaload, 1) := dk_46 (dk_at dksL_law_42 3 rfl rfl)
theorem dL_law_1121 : decode cL_law 1121 = .ok (.invokevirtual 116, 3) := dk_182 0 116 (dk_at dksL_law_42 4 rfl rfl)
theorem dL_law_1124 : decode cL_law 1124 = .ok (.aload_n 2, 1) := dk_44 (dk_at dksL_law_42 7 rfl rfl)
theorem dL_law_1125 : decode cL_law 1125 = .ok (.aload_n 0, 1) := dk_42 (dk_at dksL_law_42 8 rfl rfl)
theorem dL_law_1126 : decode cL_law 1126 = .ok (.iload_n 3, 1) := dk_29 (dk_at dksL_law_42 9 rfl rfl)
theorem dL_law_1127 : decode cL_law 1127 = .ok (.iconst 1, 1) := dk_4 (dk_at dksL_law_42 10 rfl rfl)
theorem dL_law_1128 : decode cL_law 1128 = .ok (.iadd, 1) := dk_96 (dk_at dksL_law_42 11 rfl rfl)
theorem dL_law_1129 : decode cL_law 1129 = .ok (.iaload, 1) := dk_46 (dk_at dksL_law_42 12 rfl rfl)
theorem dL_law_1130 : decode cL_law 1130 = .ok (.aload_n 0, 1) := dk_42 (dk_at dksL_law_42 13 rfl rfl)
theorem dL_law_1131 : decode cL_law 1131 = .ok (.iload_n 3, 1) := dk_29 (dk_at dksL_law_42 14 rfl rfl)
theorem dL_law_1132 : decode cL_law 1132 = .ok (.iconst 2, 1) := dk_5 (dk_at dksL_law_42 15 rfl rfl)
theorem dL_law_1133 : decode cL_law 1133 = .ok (.iadd, 1) := dk_96 (dk_at dksL_law_42 16 rfl rfl)
theorem dL_law_1134 : decode cL_law 1134 = .ok (.iaload, 1) := dk_46 (dk_at dksL_law_42 17 rfl rfl)
theorem dL_law_1135 : decode cL_law 1135 = .ok (.invokevirtual 119, 3) := dk_182 0 119 (dk_at dksL_law_42 18 rfl rfl)
theorem dL_law_1138 : decode cL_law 1138 = .ok (.if_icmp .eq 331, 3) := dk_159 1 75 (dk_at dksL_law_42 21 rfl rfl)
theorem dL_law_1141 : decode cL_law 1141 = .ok (.iconst 0, 1) := dk_3 (dk_at dksL_law_43 0 rfl rfl)
theorem dL_law_1142 : decode cL_law 1142 = .ok (.ireturn, 1) := dk_172 (dk_at dksL_law_43 1 rfl rfl)
theorem dL_law_1143 : decode cL_law 1143 = .ok (.aload_n 1, 1) := dk_43 (dk_at dksL_law_43 2 rfl rfl)
theorem dL_law_1144 : decode cL_law 1144 = .ok (.aload_n 0, 1) := dk_42 (dk_at dksL_law_43 3 rfl rfl)
theorem dL_law_1145 : decode cL_law 1145 = .ok (.iload_n 3, 1) := dk_29 (dk_at dksL_law_43 4 rfl rfl)
theorem dL_law_1146 : decode cL_law 1146 = .ok (.iconst 1, 1) := dk_4 (dk_at dksL_law_43 5 rfl rfl)
theorem dL_law_1147 : decode cL_law 1147 = .ok (.iadd, 1) := dk_96 (dk_at dksL_law_43 6 rfl rfl)
theorem dL_law_1148 : decode cL_law 1148 = .ok (.iaload, 1) := dk_46 (dk_at dksL_law_43 7 rfl rfl)
theorem dL_law_1149 : decode cL_law 1149 = .ok (.aload_n 0, 1) := dk_42 (dk_at dksL_law_43 8 rfl rfl)
theorem dL_law_1150 : decode cL_law 1150 = .ok (.iload_n 3, 1) := dk_29 (dk_at dksL_law_43 9 rfl rfl)
theorem dL_law_1151 : decode cL_law 1151 = .ok (.iconst 2, 1) := dk_5 (dk_at dksL_law_43 10 rfl rfl)
theorem dL_law_1152 : decode cL_law 1152 = .ok (.iadd, 1) := dk_96 (dk_at dksL_law_43 11 rfl rfl)
theorem dL_law_1153 : decode cL_law 1153 = .ok (.iaload, 1) := dk_46 (dk_at dksL_law_43 12 rfl rfl)
theorem dL_law_1154 : decode cL_law 1154 = .ok (.invokevirtual 120, 3) := dk_182 0 120 (dk_at dksL_law_43 13 rfl rfl)
theorem dL_law_1157 : decode cL_law 1157 = .ok (.aload_n 2, 1) := dk_44 (dk_at dksL_law_43 16 rfl rfl)
theorem dL_law_1158 : decode cL_law 1158 = .ok (.aload_n 0, 1) := dk_42 (dk_at dksL_law_43 17 rfl rfl)
theorem dL_law_1159 : decode cL_law 1159 = .ok (.iload_n 3, 1) := dk_29 (dk_at dksL_law_43 18 rfl rfl)
theorem dL_law_1160 : decode cL_law 1160 = .ok (.iconst 1, 1) := dk_4 (dk_at dksL_law_43 19 rfl rfl)
theorem dL_law_1161 : decode cL_law 1161 = .ok (.iadd, 1) := dk_96 (dk_at dksL_law_43 20 rfl rfl)
theorem dL_law_1162 : decode cL_law 1162 = .ok (.iaload, 1) := dk_46 (dk_at dksL_law_43 21 rfl rfl)
theorem dL_law_1163 : decode cL_law 1163 = .ok (.aload_n 0, 1) := dk_42 (dk_at dksL_law_43 22 rfl rfl)
theorem dL_law_1164 : decode cL_law 1164 = .ok (.iload_n 3, 1) := dk_29 (dk_at dksL_law_43 23 rfl rfl)
theorem dL_law_1165 : decode cL_law 1165 = .ok (.iconst 2, 1) := dk_5 (dk_at dksL_law_44 0 rfl rfl)
theorem dL_law_1166 : decode cL_law 1166 = .ok (.iadd, 1) := dk_96 (dk_at dksL_law_44 1 rfl rfl)
theorem dL_law_1167 : decode cL_law 1167 = .ok (.iaload, 1) := dk_46 (dk_at dksL_law_44 2 rfl rfl)
theorem dL_law_1168 : decode cL_law 1168 = .ok (.invokevirtual 123, 3) := dk_182 0 123 (dk_at dksL_law_44 3 rfl rfl)
theorem dL_law_1171 : decode cL_law 1171 = .ok (.if_icmp .eq 298, 3) := dk_159 1 42 (dk_at dksL_law_44 6 rfl rfl)
theorem dL_law_1174 : decode cL_law 1174 = .ok (.iconst 0, 1) := dk_3 (dk_at dksL_law_44 9 rfl rfl)
theorem dL_law_1175 : decode cL_law 1175 = .ok (.ireturn, 1) := dk_172 (dk_at dksL_law_44 10 rfl rfl)
theorem dL_law_1176 : decode cL_law 1176 = .ok (.aload_n 1, 1) := dk_43 (dk_at dksL_law_44 11 rfl rfl)
theorem dL_law_1177 : decode cL_law 1177 = .ok (.aload_n 0, 1) := dk_42 (dk_at dksL_law_44 12 rfl rfl)
theorem dL_law_1178 : decode cL_law 1178 = .ok (.iload_n 3, 1) := dk_29 (dk_at dksL_law_44 13 rfl rfl)
theorem dL_law_1179 : decode cL_law 1179 = .ok (.iconst 1, 1) := dk_4 (dk_at dksL_law_44 14 rfl rfl)
theorem dL_law_1180 : decode cL_law 1180 = .ok (.iadd, 1) := dk_96 (dk_at dksL_law_44 15 rfl rfl)
theorem dL_law_1181 : decode cL_law 1181 = .ok (.iaload, 1) := dk_46 (dk_at dksL_law_44 16 rfl rfl)
theorem dL_law_1182 : decode cL_law 1182 = .ok (.aload_n 0, 1) := dk_42 (dk_at dksL_law_44 17 rfl rfl)
theorem dL_law_1183 : decode cL_law 1183 = .ok (.iload_n 3, 1) := dk_29 (dk_at dksL_law_44 18 rfl rfl)
theorem dL_law_1184 : decode cL_law 1184 = .ok (.iconst 2, 1) := dk_5 (dk_at dksL_law_44 19 rfl rfl)
theorem dL_law_1185 : decode cL_law 1185 = .ok (.iadd, 1) := dk_96 (dk_at dksL_law_44 20 rfl rfl)
theorem dL_law_1186 : decode cL_law 1186 = .ok (.iaload, 1) := dk_46 (dk_at dksL_law_44 21 rfl rfl)
theorem dL_law_1187 : decode cL_law 1187 = .ok (.invokevirtual 124, 3) := dk_182 0 124 (dk_at dksL_law_45 0 rfl rfl)
theorem dL_law_1190 : decode cL_law 1190 = .ok (.aload_n 2, 1) := dk_44 (dk_at dksL_law_45 3 rfl rfl)
theorem dL_law_1191 : decode cL_law 1191 = .ok (.aload_n 0, 1) := dk_42 (dk_at dksL_law_45 4 rfl rfl)
theorem dL_law_1192 : decode cL_law 1192 = .ok (.iload_n 3, 1) := dk_29 (dk_at dksL_law_45 5 rfl rfl)
theorem dL_law_1193 : decode cL_law 1193 = .ok (.iconst 1, 1) := dk_4 (dk_at dksL_law_45 6 rfl rfl)
theorem dL_law_1194 : decode cL_law 1194 = .ok (.iadd, 1) := dk_96 (dk_at dksL_law_45 7 rfl rfl)
theorem dL_law_1195 : decode cL_law 1195 = .ok (.iaload, 1) := dk_46 (dk_at dksL_law_45 8 rfl rfl)
theorem dL_law_1196 : decode cL_law 1196 = .ok (.aload_n 0, 1) := dk_42 (dk_at dksL_law_45 9 rfl rfl)
theorem dL_law_1197 : decode cL_law 1197 = .ok (.iload_n 3, 1) := dk_29 (dk_at dksL_law_45 10 rfl rfl)
theorem dL_law_1198 : decode cL_law 1198 = .ok (.iconst 2, 1) := dk_5 (dk_at dksL_law_45 11 rfl rfl)
theorem dL_law_1199 : decode cL_law 1199 = .ok (.iadd, 1) := dk_96 (dk_at dksL_law_45 12 rfl rfl)
theorem dL_law_1200 : decode cL_law 1200 = .ok (.iaload, 1) := dk_46 (dk_at dksL_law_45 13 rfl rfl)
theorem dL_law_1201 : decode cL_law 1201 = .ok (.invokevirtual 127, 3) := dk_182 0 127 (dk_at dksL_law_45 14 rfl rfl)
theorem dL_law_1204 : decode cL_law 1204 = .ok (.if_icmp .eq 265, 3) := dk_159 1 9 (dk_at dksL_law_45 17 rfl rfl)
theorem dL_law_1207 : decode cL_law 1207 = .ok (.iconst 0, 1) := dk_3 (dk_at dksL_law_45 20 rfl rfl)
theorem dL_law_1208 : decode cL_law 1208 = .ok (.ireturn, 1) := dk_172 (dk_at dksL_law_45 21 rfl rfl)
theorem dL_law_1209 : decode cL_law 1209 = .ok (.aload_n 1, 1) := dk_43 (dk_at dksL_law_45 22 rfl rfl)
theorem dL_law_1210 : decode cL_law 1210 = .ok (.aload_n 0, 1) := dk_42 (dk_at dksL_law_45 23 rfl rfl)
theorem dL_law_1211 : decode cL_law 1211 = .ok (.iload_n 3, 1) := dk_29 (dk_at dksL_law_46 0 rfl rfl)
theorem dL_law_1212 : decode cL_law 1212 = .ok (.iconst 1, 1) := dk_4 (dk_at dksL_law_46 1 rfl rfl)
theorem dL_law_1213 : decode cL_law 1213 = .ok (.iadd, 1) := dk_96 (dk_at dksL_law_46 2 rfl rfl)
theorem dL_law_1214 : decode cL_law 1214 = .ok (.iaload, 1) := dk_46 (dk_at dksL_law_46 3 rfl rfl)
theorem dL_law_1215 : decode cL_law 1215 = .ok (.invokevirtual 128, 3) := dk_182 0 128 (dk_at dksL_law_46 4 rfl rfl)
theorem dL_law_1218 : decode cL_law 1218 = .ok (.aload_n 2, 1) := dk_44 (dk_at dksL_law_46 7 rfl rfl)
theorem dL_law_1219 : decode cL_law 1219 = .ok (.aload_n 0, 1) := dk_42 (dk_at dksL_law_46 8 rfl rfl)
theorem dL_law_1220 : decode cL_law 1220 = .ok (.iload_n 3, 1) := dk_29 (dk_at dksL_law_46 9 rfl rfl)
theorem dL_law_1221 : decode cL_law 1221 = .ok (.iconst 1, 1) := dk_4 (dk_at dksL_law_46 10 rfl rfl)
theorem dL_law_1222 : decode cL_law 1222 = .ok (.iadd, 1) := dk_96 (dk_at dksL_law_46 11 rfl rfl)
theorem dL_law_1223 : decode cL_law 1223 = .ok (.iaload, 1) := dk_46 (dk_at dksL_law_46 12 rfl rfl)
theorem dL_law_1224 : decode cL_law 1224 = .ok (.invokevirtual 131, 3) := dk_182 0 131 (dk_at dksL_law_46 13 rfl rfl)
theorem dL_law_1227 : decode cL_law 1227 = .ok (.if_icmp .eq 242, 3) := dk_159 0 242 (dk_at dksL_law_46 16 rfl rfl)
theorem dL_law_1230 : decode cL_law 1230 = .ok (.iconst 0, 1) := dk_3 (dk_at dksL_law_46 19 rfl rfl)
theorem dL_law_1231 : decode cL_law 1231 = .ok (.ireturn, 1) := dk_172 (dk_at dksL_law_46 20 rfl rfl)
theorem dL_law_1232 : decode cL_law 1232 = .ok (.aload_n 1, 1) := dk_43 (dk_at dksL_law_46 21 rfl rfl)
theorem dL_law_1233 : decode cL_law 1233 = .ok (.aload_n 0, 1) := dk_42 (dk_at dksL_law_46 22 rfl rfl)
theorem dL_law_1234 : decode cL_law 1234 = .ok (.iload_n 3, 1) := dk_29 (dk_at dksL_law_46 23 rfl rfl)
theorem dL_law_1235 : decode cL_law 1235 = .ok (.iconst 1, 1) := dk_4 (dk_at dksL_law_47 0 rfl rfl)
theorem dL_law_1236 : decode cL_law 1236 = .ok (.iadd, 1) := dk_96 (dk_at dksL_law_47 1 rfl rfl)
theorem dL_law_1237 : decode cL_law 1237 = .ok (.iaload, 1) := dk_46 (dk_at dksL_law_47 2 rfl rfl)
theorem dL_law_1238 : decode cL_law 1238 = .ok (.aload_n 0, 1) := dk_42 (dk_at dksL_law_47 3 rfl rfl)
theorem dL_law_1239 : decode cL_law 1239 = .ok (.iload_n 3, 1) := dk_29 (dk_at dksL_law_47 4 rfl rfl)
theorem dL_law_1240 : decode cL_law 1240 = .ok (.iconst 2, 1) := dk_5 (dk_at dksL_law_47 5 rfl rfl)
theorem dL_law_1241 : decode cL_law 1241 = .ok (.iadd, 1) := dk_96 (dk_at dksL_law_47 6 rfl rfl)
theorem dL_law_1242 : decode cL_law 1242 = .ok (.iaload, 1) := dk_46 (dk_at dksL_law_47 7 rfl rfl)
theorem dL_law_1243 : decode cL_law 1243 = .ok (.aload_n 0, 1) := dk_42 (dk_at dksL_law_47 8 rfl rfl)
theorem dL_law_1244 : decode cL_law 1244 = .ok (.iload_n 3, 1) := dk_29 (dk_at dksL_law_47 9 rfl rfl)
theorem dL_law_1245 : decode cL_law 1245 = .ok (.iconst 3, 1) := dk_6 (dk_at dksL_law_47 10 rfl rfl)
theorem dL_law_1246 : decode cL_law 1246 = .ok (.iadd, 1) := dk_96 (dk_at dksL_law_47 11 rfl rfl)
theorem dL_law_1247 : decode cL_law 1247 = .ok (.iaload, 1) := dk_46 (dk_at dksL_law_47 12 rfl rfl)
theorem dL_law_1248 : decode cL_law 1248 = .ok (.invokevirtual 132, 3) := dk_182 0 132 (dk_at dksL_law_47 13 rfl rfl)
theorem dL_law_1251 : decode cL_law 1251 = .ok (.aload_n 2, 1) := dk_44 (dk_at dksL_law_47 16 rfl rfl)
theorem dL_law_1252 : decode cL_law 1252 = .ok (.aload_n 0, 1) := dk_42 (dk_at dksL_law_47 17 rfl rfl)
theorem dL_law_1253 : decode cL_law 1253 = .ok (.iload_n 3, 1) := dk_29 (dk_at dksL_law_47 18 rfl rfl)
theorem dL_law_1254 : decode cL_law 1254 = .ok (.iconst 1, 1) := dk_4 (dk_at dksL_law_47 19 rfl rfl)
theorem dL_law_1255 : decode cL_law 1255 = .ok (.iadd, 1) := dk_96 (dk_at dksL_law_47 20 rfl rfl)
theorem dL_law_1256 : decode cL_law 1256 = .ok (.iaload, 1) := dk_46 (dk_at dksL_law_47 21 rfl rfl)
theorem dL_law_1257 : decode cL_law 1257 = .ok (.aload_n 0, 1) := dk_42 (dk_at dksL_law_47 22 rfl rfl)
theorem dL_law_1258 : decode cL_law 1258 = .ok (.iload_n 3, 1) := dk_29 (dk_at dksL_law_47 23 rfl rfl)
theorem dL_law_1259 : decode cL_law 1259 = .ok (.iconst 2, 1) := dk_5 (dk_at dksL_law_48 0 rfl rfl)
theorem dL_law_1260 : decode cL_law 1260 = .ok (.iadd, 1) := dk_96 (dk_at dksL_law_48 1 rfl rfl)
theorem dL_law_1261 : decode cL_law 1261 = .ok (.iaload, 1) := dk_46 (dk_at dksL_law_48 2 rfl rfl)
theorem dL_law_1262 : decode cL_law 1262 = .ok (.aload_n 0, 1) := dk_42 (dk_at dksL_law_48 3 rfl rfl)
theorem dL_law_1263 : decode cL_law 1263 = .ok (.iload_n 3, 1) := dk_29 (dk_at dksL_law_48 4 rfl rfl)
theorem dL_law_1264 : decode cL_law 1264 = .ok (.iconst 3, 1) := dk_6 (dk_at dksL_law_48 5 rfl rfl)
theorem dL_law_1265 : decode cL_law 1265 = .ok (.iadd, 1) := dk_96 (dk_at dksL_law_48 6 rfl rfl)
theorem dL_law_1266 : decode cL_law 1266 = .ok (.iaload, 1) := dk_46 (dk_at dksL_law_48 7 rfl rfl)
theorem dL_law_1267 : decode cL_law 1267 = .ok (.invokevirtual 135, 3) := dk_182 0 135 (dk_at dksL_law_48 8 rfl rfl)
theorem dL_law_1270 : decode cL_law 1270 = .ok (.if_icmp .eq 199, 3) := dk_159 0 199 (dk_at dksL_law_48 11 rfl rfl)
theorem dL_law_1273 : decode cL_law 1273 = .ok (.iconst 0, 1) := dk_3 (dk_at dksL_law_48 14 rfl rfl)
theorem dL_law_1274 : decode cL_law 1274 = .ok (.ireturn, 1) := dk_172 (dk_at dksL_law_48 15 rfl rfl)
theorem dL_law_1275 : decode cL_law 1275 = .ok (.aload_n 1, 1) := dk_43 (dk_at dksL_law_48 16 rfl rfl)
theorem dL_law_1276 : decode cL_law 1276 = .ok (.aload_n 0, 1) := dk_42 (dk_at dksL_law_48 17 rfl rfl)
theorem dL_law_1277 : decode cL_law 1277 = .ok (.iload_n 3, 1) := dk_29 (dk_at dksL_law_48 18 rfl rfl)
theorem dL_law_1278 : decode cL_law 1278 = .ok (.iconst 1, 1) := dk_4 (dk_at dksL_law_48 19 rfl rfl)
theorem dL_law_1279 : decode cL_law 1279 = .ok (.iadd, 1) := dk_96 (dk_at dksL_law_48 20 rfl rfl)
theorem dL_law_1280 : decode cL_law 1280 = .ok (.iaload, 1) := dk_46 (dk_at dksL_law_48 21 rfl rfl)
theorem dL_law_1281 : decode cL_law 1281 = .ok (.aload_n 0, 1) := dk_42 (dk_at dksL_law_48 22 rfl rfl)
theorem dL_law_1282 : decode cL_law 1282 = .ok (.iload_n 3, 1) := dk_29 (dk_at dksL_law_48 23 rfl rfl)
theorem dL_law_1283 : decode cL_law 1283 = .ok (.iconst 2, 1) := dk_5 (dk_at dksL_law_49 0 rfl rfl)
theorem dL_law_1284 : decode cL_law 1284 = .ok (.iadd, 1) := dk_96 (dk_at dksL_law_49 1 rfl rfl)
theorem dL_law_1285 : decode cL_law 1285 = .ok (.iaload, 1) := dk_46 (dk_at dksL_law_49 2 rfl rfl)
theorem dL_law_1286 : decode cL_law 1286 = .ok (.invokevirtual 136, 3) := dk_182 0 136 (dk_at dksL_law_49 3 rfl rfl)
theorem dL_law_1289 : decode cL_law 1289 = .ok (.aload_n 2, 1) := dk_44 (dk_at dksL_law_49 6 rfl rfl)
theorem dL_law_1290 : decode cL_law 1290 = .ok (.aload_n 0, 1) := dk_42 (dk_at dksL_law_49 7 rfl rfl)
theorem dL_law_1291 : decode cL_law 1291 = .ok (.iload_n 3, 1) := dk_29 (dk_at dksL_law_49 8 rfl rfl)
theorem dL_law_1292 : decode cL_law 1292 = .ok (.iconst 1, 1) := dk_4 (dk_at dksL_law_49 9 rfl rfl)
theorem dL_law_1293 : decode cL_law 1293 = .ok (.iadd, 1) := dk_96 (dk_at dksL_law_49 10 rfl rfl)
theorem dL_law_1294 : decode cL_law 1294 = .ok (.iaload, 1) := dk_46 (dk_at dksL_law_49 11 rfl rfl)
theorem dL_law_1295 : decode cL_law 1295 = .ok (.aload_n 0, 1) := dk_42 (dk_at dksL_law_49 12 rfl rfl)
theorem dL_law_1296 : decode cL_law 1296 = .ok (.iload_n 3, 1) := dk_29 (dk_at dksL_law_49 13 rfl rfl)
theorem dL_law_1297 : decode cL_law 1297 = .ok (.iconst 2, 1) := dk_5 (dk_at dksL_law_49 14 rfl rfl)
theorem dL_law_1298 : decode cL_law 1298 = .ok (.iadd, 1) := dk_96 (dk_at dksL_law_49 15 rfl rfl)
theorem dL_law_1299 : decode cL_law 1299 = .ok (.iaload, 1) := dk_46 (dk_at dksL_law_49 16 rfl rfl)
theorem dL_law_1300 : decode cL_law 1300 = .ok (.invokevirtual 139, 3) := dk_182 0 139 (dk_at dksL_law_49 17 rfl rfl)
theorem dL_law_1303 : decode cL_law 1303 = .ok (.if_icmp .eq 166, 3) := dk_159 0 166 (dk_at dksL_law_49 20 rfl rfl)
theorem dL_law_1306 : decode cL_law 1306 = .ok (.iconst 0, 1) := dk_3 (dk_at dksL_law_49 23 rfl rfl)
theorem dL_law_1307 : decode cL_law 1307 = .ok (.ireturn, 1) := dk_172 (dk_at dksL_law_50 0 rfl rfl)
theorem dL_law_1308 : decode cL_law 1308 = .ok (.aload_n 1, 1) := dk_43 (dk_at dksL_law_50 1 rfl rfl)
theorem dL_law_1309 : decode cL_law 1309 = .ok (.aload_n 0, 1) := dk_42 (dk_at dksL_law_50 2 rfl rfl)
theorem dL_law_1310 : decode cL_law 1310 = .ok (.iload_n 3, 1) := dk_29 (dk_at dksL_law_50 3 rfl rfl)
theorem dL_law_1311 : decode cL_law 1311 = .ok (.iconst 1, 1) := dk_4 (dk_at dksL_law_50 4 rfl rfl)
theorem dL_law_1312 : decode cL_law 1312 = .ok (.iadd, 1) := dk_96 (dk_at dksL_law_50 5 rfl rfl)
theorem dL_law_1313 : decode cL_law 1313 = .ok (.iaload, 1) := dk_46 (dk_at dksL_law_50 6 rfl rfl)
theorem dL_law_1314 : decode cL_law 1314 = .ok (.invokevirtual 140, 3) := dk_182 0 140 (dk_at dksL_law_50 7 rfl rfl)
theorem dL_law_1317 : decode cL_law 1317 = .ok (.aload_n 2, 1) := dk_44 (dk_at dksL_law_50 10 rfl rfl)
theorem dL_law_1318 : decode cL_law 1318 = .ok (.aload_n 0, 1) := dk_42 (dk_at dksL_law_50 11 rfl rfl)
theorem dL_law_1319 : decode cL_law 1319 = .ok (.iload_n 3, 1) := dk_29 (dk_at dksL_law_50 12 rfl rfl)
theorem dL_law_1320 : decode cL_law 1320 = .ok (.iconst 1, 1) := dk_4 (dk_at dksL_law_50 13 rfl rfl)
theorem dL_law_1321 : decode cL_law 1321 = .ok (.iadd, 1) := dk_96 (dk_at dksL_law_50 14 rfl rfl)
theorem dL_law_1322 : decode cL_law 1322 = .ok (.iaload, 1) := dk_46 (dk_at dksL_law_50 15 rfl rfl)
theorem dL_law_1323 : decode cL_law 1323 = .ok (.invokevirtual 143, 3) := dk_182 0 143 (dk_at dksL_law_50 16 rfl rfl)
theorem dL_law_1326 : decode cL_law 1326 = .ok (.if_icmp .eq 143, 3) := dk_159 0 143 (dk_at dksL_law_50 19 rfl rfl)
theorem dL_law_1329 : decode cL_law 1329 = .ok (.iconst 0, 1) := dk_3 (dk_at dksL_law_50 22 rfl rfl)
theorem dL_law_1330 : decode cL_law 1330 = .ok (.ireturn, 1) := dk_172 (dk_at dksL_law_50 23 rfl rfl)
theorem dL_law_1331 : decode cL_law 1331 = .ok (.aload_n 1, 1) := dk_43 (dk_at dksL_law_51 0 rfl rfl)
theorem dL_law_1332 : decode cL_law 1332 = .ok (.aload_n 0, 1) := dk_42 (dk_at dksL_law_51 1 rfl rfl)
theorem dL_law_1333 : decode cL_law 1333 = .ok (.iload_n 3, 1) := dk_29 (dk_at dksL_law_51 2 rfl rfl)
theorem dL_law_1334 : decode cL_law 1334 = .ok (.iconst 1, 1) := dk_4 (dk_at dksL_law_51 3 rfl rfl)
theorem dL_law_1335 : decode cL_law 1335 = .ok (.iadd, 1) := dk_96 (dk_at dksL_law_51 4 rfl rfl)
theorem dL_law_1336 : decode cL_law 1336 = .ok (.iaload, 1) := dk_46 (dk_at dksL_law_51 5 rfl rfl)
theorem dL_law_1337 : decode cL_law 1337 = .ok (.invokevirtual 144, 3) := dk_182 0 144 (dk_at dksL_law_51 6 rfl rfl)
theorem dL_law_1340 : decode cL_law 1340 = .ok (.aload_n 2, 1) := dk_44 (dk_at dksL_law_51 9 rfl rfl)
theorem dL_law_1341 : decode cL_law 1341 = .ok (.aload_n 0, 1) := dk_42 (dk_at dksL_law_51 10 rfl rfl)
theorem dL_law_1342 : decode cL_law 1342 = .ok (.iload_n 3, 1) := dk_29 (dk_at dksL_law_51 11 rfl rfl)
theorem dL_law_1343 : decode cL_law 1343 = .ok (.iconst 1, 1) := dk_4 (dk_at dksL_law_51 12 rfl rfl)
theorem dL_law_1344 : decode cL_law 1344 = .ok (.iadd, 1) := dk_96 (dk_at dksL_law_51 13 rfl rfl)
theorem dL_law_1345 : decode cL_law 1345 = .ok (.iaload, 1) := dk_46 (dk_at dksL_law_51 14 rfl rfl)
theorem dL_law_1346 : decode cL_law 1346 = .ok (.invokevirtual 147, 3) := dk_182 0 147 (dk_at dksL_law_51 15 rfl rfl)
theorem dL_law_1349 : decode cL_law 1349 = .ok (.if_icmp .eq 120, 3) := dk_159 0 120 (dk_at dksL_law_51 18 rfl rfl)
theorem dL_law_1352 : decode cL_law 1352 = .ok (.iconst 0, 1) := dk_3 (dk_at dksL_law_51 21 rfl rfl)
theorem dL_law_1353 : decode cL_law 1353 = .ok (.ireturn, 1) := dk_172 (dk_at dksL_law_51 22 rfl rfl)
theorem dL_law_1354 : decode cL_law 1354 = .ok (.aload_n 1, 1) := dk_43 (dk_at dksL_law_51 23 rfl rfl)
theorem dL_law_1355 : decode cL_law 1355 = .ok (.aload_n 0, 1) := dk_42 (dk_at dksL_law_52 0 rfl rfl)
theorem dL_law_1356 : decode cL_law 1356 = .ok (.iload_n 3, 1) := dk_29 (dk_at dksL_law_52 1 rfl rfl)
theorem dL_law_1357 : decode cL_law 1357 = .ok (.iconst 1, 1) := dk_4 (dk_at dksL_law_52 2 rfl rfl)
theorem dL_law_1358 : decode cL_law 1358 = .ok (.iadd, 1) := dk_96 (dk_at dksL_law_52 3 rfl rfl)
theorem dL_law_1359 : decode cL_law 1359 = .ok (.iaload, 1) := dk_46 (dk_at dksL_law_52 4 rfl rfl)
theorem dL_law_1360 : decode cL_law 1360 = .ok (.aload_n 0, 1) := dk_42 (dk_at dksL_law_52 5 rfl rfl)
theorem dL_law_1361 : decode cL_law 1361 = .ok (.iload_n 3, 1) := dk_29 (dk_at dksL_law_52 6 rfl rfl)
theorem dL_law_1362 : decode cL_law 1362 = .ok (.iconst 2, 1) := dk_5 (dk_at dksL_law_52 7 rfl rfl)
theorem dL_law_1363 : decode cL_law 1363 = .ok (.iadd, 1) := dk_96 (dk_at dksL_law_52 8 rfl rfl)
theorem dL_law_1364 : decode cL_law 1364 = .ok (.iaload, 1) := dk_46 (dk_at dksL_law_52 9 rfl rfl)
theorem dL_law_1365 : decode cL_law 1365 = .ok (.aload_n 0, 1) := dk_42 (dk_at dksL_law_52 10 rfl rfl)
theorem dL_law_1366 : decode cL_law 1366 = .ok (.iload_n 3, 1) := dk_29 (dk_at dksL_law_52 11 rfl rfl)
theorem dL_law_1367 : decode cL_law 1367 = .ok (.iconst 3, 1) := dk_6 (dk_at dksL_law_52 12 rfl rfl)
theorem dL_law_1368 : decode cL_law 1368 = .ok (.iadd, 1) := dk_96 (dk_at dksL_law_52 13 rfl rfl)
theorem dL_law_1369 : decode cL_law 1369 = .ok (.iaload, 1) := dk_46 (dk_at dksL_law_52 14 rfl rfl)
theorem dL_law_1370 : decode cL_law 1370 = .ok (.invokevirtual 148, 3) := dk_182 0 148 (dk_at dksL_law_52 15 rfl rfl)
theorem dL_law_1373 : decode cL_law 1373 = .ok (.aload_n 2, 1) := dk_44 (dk_at dksL_law_52 18 rfl rfl)
theorem dL_law_1374 : decode cL_law 1374 = .ok (.aload_n 0, 1) := dk_42 (dk_at dksL_law_52 19 rfl rfl)
theorem dL_law_1375 : decode cL_law 1375 = .ok (.iload_n 3, 1) := dk_29 (dk_at dksL_law_52 20 rfl rfl)
theorem dL_law_1376 : decode cL_law 1376 = .ok (.iconst 1, 1) := dk_4 (dk_at dksL_law_52 21 rfl rfl)
theorem dL_law_1377 : decode cL_law 1377 = .ok (.iadd, 1) := dk_96 (dk_at dksL_law_52 22 rfl rfl)
theorem dL_law_1378 : decode cL_law 1378 = .ok (.iaload, 1) := dk_46 (dk_at dksL_law_52 23 rfl rfl)
theorem dL_law_1379 : decode cL_law 1379 = .ok (.aload_n 0, 1) := dk_42 (dk_at dksL_law_53 0 rfl rfl)
theorem dL_law_1380 : decode cL_law 1380 = .ok (.iload_n 3, 1) := dk_29 (dk_at dksL_law_53 1 rfl rfl)
theorem dL_law_1381 : decode cL_law 1381 = .ok (.iconst 2, 1) := dk_5 (dk_at dksL_law_53 2 rfl rfl)
theorem dL_law_1382 : decode cL_law 1382 = .ok (.iadd, 1) := dk_96 (dk_at dksL_law_53 3 rfl rfl)
theorem dL_law_1383 : decode cL_law 1383 = .ok (.iaload, 1) := dk_46 (dk_at dksL_law_53 4 rfl rfl)
theorem dL_law_1384 : decode cL_law 1384 = .ok (.aload_n 0, 1) := dk_42 (dk_at dksL_law_53 5 rfl rfl)
theorem dL_law_1385 : decode cL_law 1385 = .ok (.iload_n 3, 1) := dk_29 (dk_at dksL_law_53 6 rfl rfl)
theorem dL_law_1386 : decode cL_law 1386 = .ok (.iconst 3, 1) := dk_6 (dk_at dksL_law_53 7 rfl rfl)
theorem dL_law_1387 : decode cL_law 1387 = .ok (.iadd, 1) := dk_96 (dk_at dksL_law_53 8 rfl rfl)
theorem dL_law_1388 : decode cL_law 1388 = .ok (.iaload, 1) := dk_46 (dk_at dksL_law_53 9 rfl rfl)
theorem dL_law_1389 : decode cL_law 1389 = .ok (.invokevirtual 151, 3) := dk_182 0 151 (dk_at dksL_law_53 10 rfl rfl)
theorem dL_law_1392 : decode cL_law 1392 = .ok (.if_icmp .eq 77, 3) := dk_159 0 77 (dk_at dksL_law_53 13 rfl rfl)
theorem dL_law_1395 : decode cL_law 1395 = .ok (.iconst 0, 1) := dk_3 (dk_at dksL_law_53 16 rfl rfl)
theorem dL_law_1396 : decode cL_law 1396 = .ok (.ireturn, 1) := dk_172 (dk_at dksL_law_53 17 rfl rfl)
theorem dL_law_1397 : decode cL_law 1397 = .ok (.aload_n 1, 1) := dk_43 (dk_at dksL_law_53 18 rfl rfl)
theorem dL_law_1398 : decode cL_law 1398 = .ok (.aload_n 0, 1) := dk_42 (dk_at dksL_law_53 19 rfl rfl)
theorem dL_law_1399 : decode cL_law 1399 = .ok (.iload_n 3, 1) := dk_29 (dk_at dksL_law_53 20 rfl rfl)
theorem dL_law_1400 : decode cL_law 1400 = .ok (.iconst 1, 1) := dk_4 (dk_at dksL_law_53 21 rfl rfl)
theorem dL_law_1401 : decode cL_law 1401 = .ok (.iadd, 1) := dk_96 (dk_at dksL_law_53 22 rfl rfl)
theorem dL_law_1402 : decode cL_law 1402 = .ok (.iaload, 1) := dk_46 (dk_at dksL_law_53 23 rfl rfl)
theorem dL_law_1403 : decode cL_law 1403 = .ok (.invokevirtual 152, 3) := dk_182 0 152 (dk_at dksL_law_54 0 rfl rfl)
theorem dL_law_1406 : decode cL_law 1406 = .ok (.aload_n 2, 1) := dk_44 (dk_at dksL_law_54 3 rfl rfl)
theorem dL_law_1407 : decode cL_law 1407 = .ok (.aload_n 0, 1) := dk_42 (dk_at dksL_law_54 4 rfl rfl)
theorem dL_law_1408 : decode cL_law 1408 = .ok (.iload_n 3, 1) := dk_29 (dk_at dksL_law_54 5 rfl rfl)
theorem dL_law_1409 : decode cL_law 1409 = .ok (.iconst 1, 1) := dk_4 (dk_at dksL_law_54 6 rfl rfl)
theorem dL_law_1410 : decode cL_law 1410 = .ok (.iadd, 1) := dk_96 (dk_at dksL_law_54 7 rfl rfl)
theorem dL_law_1411 : decode cL_law 1411 = .ok (.iaload, 1) := dk_46 (dk_at dksL_law_54 8 rfl rfl)
theorem dL_law_1412 : decode cL_law 1412 = .ok (.invokevirtual 155, 3) := dk_182 0 155 (dk_at dksL_law_54 9 rfl rfl)
theorem dL_law_1415 : decode cL_law 1415 = .ok (.if_icmp .eq 54, 3) := dk_159 0 54 (dk_at dksL_law_54 12 rfl rfl)
theorem dL_law_1418 : decode cL_law 1418 = .ok (.iconst 0, 1) := dk_3 (dk_at dksL_law_54 15 rfl rfl)
theorem dL_law_1419 : decode cL_law 1419 = .ok (.ireturn, 1) := dk_172 (dk_at dksL_law_54 16 rfl rfl)
theorem dL_law_1420 : decode cL_law 1420 = .ok (.aload_n 1, 1) := dk_43 (dk_at dksL_law_54 17 rfl rfl)
theorem dL_law_1421 : decode cL_law 1421 = .ok (.invokevirtual 156, 3) := dk_182 0 156 (dk_at dksL_law_54 18 rfl rfl)
theorem dL_law_1424 : decode cL_law 1424 = .ok (.aload_n 2, 1) := dk_44 (dk_at dksL_law_54 21 rfl rfl)
theorem dL_law_1425 : decode cL_law 1425 = .ok (.invokevirtual 159, 3) := dk_182 0 159 (dk_at dksL_law_55 0 rfl rfl)
theorem dL_law_1428 : decode cL_law 1428 = .ok (.if_icmp .eq 41, 3) := dk_159 0 41 (dk_at dksL_law_55 3 rfl rfl)
theorem dL_law_1431 : decode cL_law 1431 = .ok (.iconst 0, 1) := dk_3 (dk_at dksL_law_55 6 rfl rfl)
theorem dL_law_1432 : decode cL_law 1432 = .ok (.ireturn, 1) := dk_172 (dk_at dksL_law_55 7 rfl rfl)
theorem dL_law_1433 : decode cL_law 1433 = .ok (.aload_n 1, 1) := dk_43 (dk_at dksL_law_55 8 rfl rfl)
theorem dL_law_1434 : decode cL_law 1434 = .ok (.invokevirtual 160, 3) := dk_182 0 160 (dk_at dksL_law_55 9 rfl rfl)
theorem dL_law_1437 : decode cL_law 1437 = .ok (.aload_n 2, 1) := dk_44 (dk_at dksL_law_55 12 rfl rfl)
theorem dL_law_1438 : decode cL_law 1438 = .ok (.invokevirtual 163, 3) := dk_182 0 163 (dk_at dksL_law_55 13 rfl rfl)
theorem dL_law_1441 : decode cL_law 1441 = .ok (.if_icmp .eq 28, 3) := dk_159 0 28 (dk_at dksL_law_55 16 rfl rfl)
theorem dL_law_1444 : decode cL_law 1444 = .ok (.iconst 0, 1) := dk_3 (dk_at dksL_law_55 19 rfl rfl)
theorem dL_law_1445 : decode cL_law 1445 = .ok (.ireturn, 1) := dk_172 (dk_at dksL_law_55 20 rfl rfl)
theorem dL_law_1446 : decode cL_law 1446 = .ok (.aload_n 1, 1) := dk_43 (dk_at dksL_law_55 21 rfl rfl)
theorem dL_law_1447 : decode cL_law 1447 = .ok (.aload_n 0, 1) := dk_42 (dk_at dksL_law_55 22 rfl rfl)
theorem dL_law_1448 : decode cL_law 1448 = .ok (.iload_n 3, 1) := dk_29 (dk_at dksL_law_55 23 rfl rfl)
theorem dL_law_1449 : decode cL_law 1449 = .ok (.iconst 1, 1) := dk_4 (dk_at dksL_law_56 0 rfl rfl)
theorem dL_law_1450 : decode cL_law 1450 = .ok (.iadd, 1) := dk_96 (dk_at dksL_law_56 1 rfl rfl)
theorem dL_law_1451 : decode cL_law 1451 = .ok (.iaload, 1) := dk_46 (dk_at dksL_law_56 2 rfl rfl)
theorem dL_law_1452 : decode cL_law 1452 = .ok (.invokevirtual 164, 3) := dk_182 0 164 (dk_at dksL_law_56 3 rfl rfl)
theorem dL_law_1455 : decode cL_law 1455 = .ok (.aload_n 2, 1) := dk_44 (dk_at dksL_law_56 6 rfl rfl)
theorem dL_law_1456 : decode cL_law 1456 = .ok (.aload_n 0, 1) := dk_42 (dk_at dksL_law_56 7 rfl rfl)
theorem dL_law_1457 : decode cL_law 1457 = .ok (.iload_n 3, 1) := dk_29 (dk_at dksL_law_56 8 rfl rfl)
theorem dL_law_1458 : decode cL_law 1458 = .ok (.iconst 1, 1) := dk_4 (dk_at dksL_law_56 9 rfl rfl)
theorem dL_law_1459 : decode cL_law 1459 = .ok (.iadd, 1) := dk_96 (dk_at dksL_law_56 10 rfl rfl)
theorem dL_law_1460 : decode cL_law 1460 = .ok (.iaload, 1) := dk_46 (dk_at dksL_law_56 11 rfl rfl)
theorem dL_law_1461 : decode cL_law 1461 = .ok (.invokevirtual 167, 3) := dk_182 0 167 (dk_at dksL_law_56 12 rfl rfl)
theorem dL_law_1464 : decode cL_law 1464 = .ok (.if_icmp .eq 5, 3) := dk_159 0 5 (dk_at dksL_law_56 15 rfl rfl)
theorem dL_law_1467 : decode cL_law 1467 = .ok (.iconst 0, 1) := dk_3 (dk_at dksL_law_56 18 rfl rfl)
theorem dL_law_1468 : decode cL_law 1468 = .ok (.ireturn, 1) := dk_172 (dk_at dksL_law_56 19 rfl rfl)
theorem dL_law_1469 : decode cL_law 1469 = .ok (.iinc 3 7, 3) := dk_132 3 7 (dk_at dksL_law_56 20 rfl rfl)
theorem dL_law_1472 : decode cL_law 1472 = .ok (.goto (-1454), 3) := dk_167 250 82 (dk_at dksL_law_57 0 rfl rfl)
theorem dL_law_1475 : decode cL_law 1475 = .ok (.iconst 1, 1) := dk_4 (dk_at dksL_law_57 3 rfl rfl)
theorem dL_law_1476 : decode cL_law 1476 = .ok (.ireturn, 1) := dk_172 (dk_at dksL_law_57 4 rfl rfl)
