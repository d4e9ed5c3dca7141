/-! LineRemarksModel -/
set_option maxRecDepth 100000
def RX4 : String := "LineRemarksModel"
def TX4 : u_T := fun k => match k with
  | 0 => ("LineRemarksModel", "revisions", "I", false)
  | 1 => ("LineRemarksModel", "former", "[I", true)
  | 2 => ("LineRemarksModel", "many", "[I", true)
  | 3 => ("LineRemarksModel", "lines", "[J", true)
  | 4 => ("LineRemarksModel", "comes", "[I", true)
  | 5 => ("LineRemarksModel", "remarks", "I", false)
  | 6 => ("LineRemarksModel", "told", "[I", true)
  | 7 => ("LineRemarksModel", "rules", "[I", true)
  | 8 => ("LineRemarksModel", "seed", "I", false)
  | 9 => ("LineRemarksModel", "holding", "[I", true)
  | 10 => ("LineRemarksModel", "rowLength", "[I", true)
  | 11 => ("LineRemarksModel", "rowOf", "[J", true)
  | 12 => ("LineRemarksModel", "fault", "I", false)
  | 13 => ("LineRemarksModel", "traced", "I", false)
  | 14 => ("LineRemarksModel", "traces", "[I", true)
  | 15 => ("LineRemarksModel", "refusals", "[I", true)
  | 16 => ("LineRemarksModel", "imaged", "Z", false)
  | 17 => ("LineRemarksModel", "oldRevisions", "I", false)
  | 18 => ("LineRemarksModel", "oldFormer", "[I", true)
  | 19 => ("LineRemarksModel", "oldMany", "[I", true)
  | 20 => ("LineRemarksModel", "oldLines", "[J", true)
  | 21 => ("LineRemarksModel", "oldRemarks", "I", false)
  | 22 => ("LineRemarksModel", "oldTold", "[I", true)
  | 23 => ("LineRemarksModel", "oldRules", "[I", true)
  | 24 => ("LineRemarksModel", "oldSeed", "I", false)
  | 25 => ("LineRemarksModel", "common", "[I", true)
  | 26 => ("LineRemarksModel", "place", "[I", true)
  | 27 => ("LineRemarksModel", "used", "[Z", true)
  | 28 => ("LineRemarksModel", "pairs", "I", false)
  | 29 => ("LineRemarksModel", "moved", "I", false)
  | 30 => ("LineRemarksModel", "chain", "[I", true)
  | 31 => ("LineRemarksModel", "p", "I", false)
  | 32 => ("LineRemarksModel", "q", "I", false)
  | 33 => ("LineRemarksModel", "how", "I", false)
  | 34 => ("LineRemarksModel", "last", "I", false)
  | 35 => ("LineRemarksModel", "lastP", "I", false)
  | 36 => ("LineRemarksModel", "lastQ", "I", false)
  | 37 => ("LineRemarksModel", "spots", "[I", true)
  | 38 => ("LineRemarksModel", "bestAt", "I", false)
  | 39 => ("LineRemarksModel", "bestScore", "I", false)
  | _ => ("LineRemarksModel", "isClear", "Z", false)
def tyX4 : Nat → FieldType := fun k => match k with
  | 0 => .int
  | 1 => .array .int
  | 2 => .array .int
  | 3 => .array .long
  | 4 => .array .int
  | 5 => .int
  | 6 => .array .int
  | 7 => .array .int
  | 8 => .int
  | 9 => .array .int
  | 10 => .array .int
  | 11 => .array .long
  | 12 => .int
  | 13 => .int
  | 14 => .array .int
  | 15 => .array .int
  | 16 => .boolean
  | 17 => .int
  | 18 => .array .int
  | 19 => .array .int
  | 20 => .array .long
  | 21 => .int
  | 22 => .array .int
  | 23 => .array .int
  | 24 => .int
  | 25 => .array .int
  | 26 => .array .int
  | 27 => .array .boolean
  | 28 => .int
  | 29 => .int
  | 30 => .array .int
  | 31 => .int
  | 32 => .int
  | 33 => .int
  | 34 => .int
  | 35 => .int
  | 36 => .int
  | 37 => .array .int
  | 38 => .int
  | 39 => .int
  | _ => .boolean
abbrev wsX40 : List Cond := u_ws RX4 TX4 41
set_option maxRecDepth 100000 in
theorem nmX4 : ∀ a, a < 41 → ∀ b, b < 41 → a ≠ b → (TX4 a).2.1 ≠ (TX4 b).2.1 := by decide +kernel
set_option maxRecDepth 100000 in
theorem tyX4_ok : ∀ k, k < 41 → parseFieldDescriptor (TX4 k).2.2.1 = some (tyX4 k) := by decide +kernel
abbrev cX4_init : ByteArray := prog_28_method_1_code
def yX4_init : MethodName := ⟨RX4, "<init>", "()V"⟩
def dkwX4_init_9 : List UInt8 := [16, 8, 162, 0, 16, 42, 180, 0, 29, 27, 2, 79, 132, 1, 1, 167, 255, 240, 177]
abbrev dktX4_init_9 : List UInt8 := dkwX4_init_9 ++ []
def dkwX4_init_8 : List UInt8 := [16, 6, 79, 42, 180, 0, 26, 5, 4, 79, 42, 4, 181, 0, 75, 42, 2, 181, 0, 79, 3, 60, 27]
abbrev dktX4_init_8 : List UInt8 := dkwX4_init_8 ++ dktX4_init_9
def dkwX4_init_7 : List UInt8 := [181, 0, 69, 42, 16, 16, 188, 10, 181, 0, 72, 42, 180, 0, 26, 3, 5, 79, 42, 180, 0, 26, 4]
abbrev dktX4_init_7 : List UInt8 := dkwX4_init_7 ++ dktX4_init_8
def dkwX4_init_6 : List UInt8 := [181, 0, 59, 42, 16, 24, 188, 10, 181, 0, 62, 42, 16, 24, 188, 4, 181, 0, 65, 42, 16, 16, 188, 10]
abbrev dktX4_init_6 : List UInt8 := dkwX4_init_6 ++ dktX4_init_7
def dkwX4_init_5 : List UInt8 := [181, 0, 50, 42, 16, 112, 188, 10, 181, 0, 53, 42, 6, 188, 10, 181, 0, 56, 42, 17, 2, 113, 188, 10]
abbrev dktX4_init_5 : List UInt8 := dkwX4_init_5 ++ dktX4_init_6
def dkwX4_init_4 : List UInt8 := [42, 16, 16, 188, 10, 181, 0, 44, 42, 16, 16, 188, 10, 181, 0, 47, 42, 17, 1, 128, 188, 11]
abbrev dktX4_init_4 : List UInt8 := dkwX4_init_4 ++ dktX4_init_5
def dkwX4_init_3 : List UInt8 := [17, 5, 0, 188, 11, 181, 0, 35, 42, 16, 20, 188, 10, 181, 0, 38, 42, 16, 8, 188, 10, 181, 0, 41]
abbrev dktX4_init_3 : List UInt8 := dkwX4_init_3 ++ dktX4_init_4
def dkwX4_init_2 : List UInt8 := [188, 10, 181, 0, 26, 42, 16, 8, 188, 10, 181, 0, 29, 42, 16, 8, 188, 10, 181, 0, 32, 42]
abbrev dktX4_init_2 : List UInt8 := dkwX4_init_2 ++ dktX4_init_3
def dkwX4_init_1 : List UInt8 := [188, 11, 181, 0, 16, 42, 17, 1, 128, 188, 10, 181, 0, 20, 42, 16, 112, 188, 10, 181, 0, 23, 42, 6]
abbrev dktX4_init_1 : List UInt8 := dkwX4_init_1 ++ dktX4_init_2
def dkwX4_init_0 : List UInt8 := [42, 183, 0, 1, 42, 16, 16, 188, 10, 181, 0, 7, 42, 16, 17, 188, 10, 181, 0, 13, 42, 17, 1, 152]
abbrev dktX4_init_0 : List UInt8 := dkwX4_init_0 ++ dktX4_init_1
theorem dksX4_init_0 : cX4_init.data.toList.drop 0 = dktX4_init_0 := by decide +kernel
theorem dksX4_init_1 : cX4_init.data.toList.drop 24 = dktX4_init_1 := dk_seg dksX4_init_0 24 rfl rfl
theorem dksX4_init_2 : cX4_init.data.toList.drop 48 = dktX4_init_2 := dk_seg dksX4_init_1 24 rfl rfl
theorem dksX4_init_3 : cX4_init.data.toList.drop 70 = dktX4_init_3 := dk_seg dksX4_init_2 22 rfl rfl
theorem dksX4_init_4 : cX4_init.data.toList.drop 94 = dktX4_init_4 := dk_seg dksX4_init_3 24 rfl rfl
theorem dksX4_init_5 : cX4_init.data.toList.drop 116 = dktX4_init_5 := dk_seg dksX4_init_4 22 rfl rfl
theorem dksX4_init_6 : cX4_init.data.toList.drop 140 = dktX4_init_6 := dk_seg dksX4_init_5 24 rfl rfl
theorem dksX4_init_7 : cX4_init.data.toList.drop 164 = dktX4_init_7 := dk_seg dksX4_init_6 24 rfl rfl
theorem dksX4_init_8 : cX4_init.data.toList.drop 187 = dktX4_init_8 := dk_seg dksX4_init_7 23 rfl rfl
theorem dksX4_init_9 : cX4_init.data.toList.drop 210 = dktX4_init_9 := dk_seg dksX4_init_8 23 rfl rfl
theorem dX4_init_0 : decode cX4_init 0 = .ok (.aload_n 0, 1) := dk_42 (dk_at dksX4_init_0 0 rfl rfl)
theorem dX4_init_1 : decode cX4_init 1 = .ok (.invokespecial 1, 3) := dk_183 0 1 (dk_at dksX4_init_0 1 rfl rfl)
theorem dX4_init_4 : decode cX4_init 4 = .ok (.aload_n 0, 1) := dk_42 (dk_at dksX4_init_0 4 rfl rfl)
theorem dX4_init_5 : decode cX4_init 5 = .ok (.bipush 16, 2) := dk_16 16 (dk_at dksX4_init_0 5 rfl rfl)
theorem dX4_init_7 : decode cX4_init 7 = .ok (.newarray .int, 2) := dk_188_10 (dk_at dksX4_init_0 7 rfl rfl)
theorem dX4_init_9 : decode cX4_init 9 = .ok (.putfield 7, 3) := dk_181 0 7 (dk_at dksX4_init_0 9 rfl rfl)
theorem dX4_init_12 : decode cX4_init 12 = .ok (.aload_n 0, 1) := dk_42 (dk_at dksX4_init_0 12 rfl rfl)
theorem dX4_init_13 : decode cX4_init 13 = .ok (.bipush 17, 2) := dk_16 17 (dk_at dksX4_init_0 13 rfl rfl)
theorem dX4_init_15 : decode cX4_init 15 = .ok (.newarray .int, 2) := dk_188_10 (dk_at dksX4_init_0 15 rfl rfl)
theorem dX4_init_17 : decode cX4_init 17 = .ok (.putfield 13, 3) := dk_181 0 13 (dk_at dksX4_init_0 17 rfl rfl)
theorem dX4_init_20 : decode cX4_init 20 = .ok (.aload_n 0, 1) := dk_42 (dk_at dksX4_init_0 20 rfl rfl)
theorem dX4_init_21 : decode cX4_init 21 = .ok (.sipush 408, 3) := dk_17 1 152 (dk_at dksX4_init_0 21 rfl rfl)
theorem dX4_init_24 : decode cX4_init 24 = .ok (.newarray .long, 2) := dk_188_11 (dk_at dksX4_init_1 0 rfl rfl)
theorem dX4_init_26 : decode cX4_init 26 = .ok (.putfield 16, 3) := dk_181 0 16 (dk_at dksX4_init_1 2 rfl rfl)
theorem dX4_init_29 : decode cX4_init 29 = .ok (.aload_n 0, 1) := dk_42 (dk_at dksX4_init_1 5 rfl rfl)
theorem dX4_init_30 : decode cX4_init 30 = .ok (.sipush 384, 3) := dk_17 1 128 (dk_at dksX4_init_1 6 rfl rfl)
theorem dX4_init_33 : decode cX4_init 33 = .ok (.newarray .int, 2) := dk_188_10 (dk_at dksX4_init_1 9 rfl rfl)
theorem dX4_init_35 : decode cX4_init 35 = .ok (.putfield 20, 3) := dk_181 0 20 (dk_at dksX4_init_1 11 rfl rfl)
theorem dX4_init_38 : decode cX4_init 38 = .ok (.aload_n 0, 1) := dk_42 (dk_at dksX4_init_1 14 rfl rfl)
theorem dX4_init_39 : decode cX4_init 39 = .ok (.bipush 112, 2) := dk_16 112 (dk_at dksX4_init_1 15 rfl rfl)
theorem dX4_init_41 : decode cX4_init 41 = .ok (.newarray .int, 2) := dk_188_10 (dk_at dksX4_init_1 17 rfl rfl)
theorem dX4_init_43 : decode cX4_init 43 = .ok (.putfield 23, 3) := dk_181 0 23 (dk_at dksX4_init_1 19 rfl rfl)
theorem dX4_init_46 : decode cX4_init 46 = .ok (.aload_n 0, 1) := dk_42 (dk_at dksX4_init_1 22 rfl rfl)
theorem dX4_init_47 : decode cX4_init 47 = .ok (.iconst 3, 1) := dk_6 (dk_at dksX4_init_1 23 rfl rfl)
theorem dX4_init_48 : decode cX4_init 48 = .ok (.newarray .int, 2) := dk_188_10 (dk_at dksX4_init_2 0 rfl rfl)
theorem dX4_init_50 : decode cX4_init 50 = .ok (.putfield 26, 3) := dk_181 0 26 (dk_at dksX4_init_2 2 rfl rfl)
theorem dX4_init_53 : decode cX4_init 53 = .ok (.aload_n 0, 1) := dk_42 (dk_at dksX4_init_2 5 rfl rfl)
theorem dX4_init_54 : decode cX4_init 54 = .ok (.bipush 8, 2) := dk_16 8 (dk_at dksX4_init_2 6 rfl rfl)
theorem dX4_init_56 : decode cX4_init 56 = .ok (.newarray .int, 2) := dk_188_10 (dk_at dksX4_init_2 8 rfl rfl)
theorem dX4_init_58 : decode cX4_init 58 = .ok (.putfield 29, 3) := dk_181 0 29 (dk_at dksX4_init_2 10 rfl rfl)
theorem dX4_init_61 : decode cX4_init 61 = .ok (.aload_n 0, 1) := dk_42 (dk_at dksX4_init_2 13 rfl rfl)
theorem dX4_init_62 : decode cX4_init 62 = .ok (.bipush 8, 2) := dk_16 8 (dk_at dksX4_init_2 14 rfl rfl)
theorem dX4_init_64 : decode cX4_init 64 = .ok (.newarray .int, 2) := dk_188_10 (dk_at dksX4_init_2 16 rfl rfl)
theorem dX4_init_66 : decode cX4_init 66 = .ok (.putfield 32, 3) := dk_181 0 32 (dk_at dksX4_init_2 18 rfl rfl)
theorem dX4_init_69 : decode cX4_init 69 = .ok (.aload_n 0, 1) := dk_42 (dk_at dksX4_init_2 21 rfl rfl)
theorem dX4_init_70 : decode cX4_init 70 = .ok (.sipush 1280, 3) := dk_17 5 0 (dk_at dksX4_init_3 0 rfl rfl)
theorem dX4_init_73 : decode cX4_init 73 = .ok (.newarray .long, 2) := dk_188_11 (dk_at dksX4_init_3 3 rfl rfl)
theorem dX4_init_75 : decode cX4_init 75 = .ok (.putfield 35, 3) := dk_181 0 35 (dk_at dksX4_init_3 5 rfl rfl)
theorem dX4_init_78 : decode cX4_init 78 = .ok (.aload_n 0, 1) := dk_42 (dk_at dksX4_init_3 8 rfl rfl)
theorem dX4_init_79 : decode cX4_init 79 = .ok (.bipush 20, 2) := dk_16 20 (dk_at dksX4_init_3 9 rfl rfl)
theorem dX4_init_81 : decode cX4_init 81 = .ok (.newarray .int, 2) := dk_188_10 (dk_at dksX4_init_3 11 rfl rfl)
theorem dX4_init_83 : decode cX4_init 83 = .ok (.putfield 38, 3) := dk_181 0 38 (dk_at dksX4_init_3 13 rfl rfl)
theorem dX4_init_86 : decode cX4_init 86 = .ok (.aload_n 0, 1) := dk_42 (dk_at dksX4_init_3 16 rfl rfl)
theorem dX4_init_87 : decode cX4_init 87 = .ok (.bipush 8, 2) := dk_16 8 (dk_at dksX4_init_3 17 rfl rfl)
theorem dX4_init_89 : decode cX4_init 89 = .ok (.newarray .int, 2) := dk_188_10 (dk_at dksX4_init_3 19 rfl rfl)
theorem dX4_init_91 : decode cX4_init 91 = .ok (.putfield 41, 3) := dk_181 0 41 (dk_at dksX4_init_3 21 rfl rfl)
theorem dX4_init_94 : decode cX4_init 94 = .ok (.aload_n 0, 1) := dk_42 (dk_at dksX4_init_4 0 rfl rfl)
theorem dX4_init_95 : decode cX4_init 95 = .ok (.bipush 16, 2) := dk_16 16 (dk_at dksX4_init_4 1 rfl rfl)
theorem dX4_init_97 : decode cX4_init 97 = .ok (.newarray .int, 2) := dk_188_10 (dk_at dksX4_init_4 3 rfl rfl)
theorem dX4_init_99 : decode cX4_init 99 = .ok (.putfield 44, 3) := dk_181 0 44 (dk_at dksX4_init_4 5 rfl rfl)
theorem dX4_init_102 : decode cX4_init 102 = .ok (.aload_n 0, 1) := dk_42 (dk_at dksX4_init_4 8 rfl rfl)
theorem dX4_init_103 : decode cX4_init 103 = .ok (.bipush 16, 2) := dk_16 16 (dk_at dksX4_init_4 9 rfl rfl)
theorem dX4_init_105 : decode cX4_init 105 = .ok (.newarray .int, 2) := dk_188_10 (dk_at dksX4_init_4 11 rfl rfl)
theorem dX4_init_107 : decode cX4_init 107 = .ok (.putfield 47, 3) := dk_181 0 47 (dk_at dksX4_init_4 13 rfl rfl)
theorem dX4_init_110 : decode cX4_init 110 = .ok (.aload_n 0, 1) := dk_42 (dk_at dksX4_init_4 16 rfl rfl)
theorem dX4_init_111 : decode cX4_init 111 = .ok (.sipush 384, 3) := dk_17 1 128 (dk_at dksX4_init_4 17 rfl rfl)
theorem dX4_init_114 : decode cX4_init 114 = .ok (.newarray .long, 2) := dk_188_11 (dk_at dksX4_init_4 20 rfl rfl)
theorem dX4_init_116 : decode cX4_init 116 = .ok (.putfield 50, 3) := dk_181 0 50 (dk_at dksX4_init_5 0 rfl rfl)
theorem dX4_init_119 : decode cX4_init 119 = .ok (.aload_n 0, 1) := dk_42 (dk_at dksX4_init_5 3 rfl rfl)
theorem dX4_init_120 : decode cX4_init 120 = .ok (.bipush 112, 2) := dk_16 112 (dk_at dksX4_init_5 4 rfl rfl)
theorem dX4_init_122 : decode cX4_init 122 = .ok (.newarray .int, 2) := dk_188_10 (dk_at dksX4_init_5 6 rfl rfl)
theorem dX4_init_124 : decode cX4_init 124 = .ok (.putfield 53, 3) := dk_181 0 53 (dk_at dksX4_init_5 8 rfl rfl)
theorem dX4_init_127 : decode cX4_init 127 = .ok (.aload_n 0, 1) := dk_42 (dk_at dksX4_init_5 11 rfl rfl)
theorem dX4_init_128 : decode cX4_init 128 = .ok (.iconst 3, 1) := dk_6 (dk_at dksX4_init_5 12 rfl rfl)
theorem dX4_init_129 : decode cX4_init 129 = .ok (.newarray .int, 2) := dk_188_10 (dk_at dksX4_init_5 13 rfl rfl)
theorem dX4_init_131 : decode cX4_init 131 = .ok (.putfield 56, 3) := dk_181 0 56 (dk_at dksX4_init_5 15 rfl rfl)
theorem dX4_init_134 : decode cX4_init 134 = .ok (.aload_n 0, 1) := dk_42 (dk_at dksX4_init_5 18 rfl rfl)
theorem dX4_init_135 : decode cX4_init 135 = .ok (.sipush 625, 3) := dk_17 2 113 (dk_at dksX4_init_5 19 rfl rfl)
theorem dX4_init_138 : decode cX4_init 138 = .ok (.newarray .int, 2) := dk_188_10 (dk_at dksX4_init_5 22 rfl rfl)
theorem dX4_init_140 : decode cX4_init 140 = .ok (.putfield 59, 3) := dk_181 0 59 (dk_at dksX4_init_6 0 rfl rfl)
theorem dX4_init_143 : decode cX4_init 143 = .ok (.aload_n 0, 1) := dk_42 (dk_at dksX4_init_6 3 rfl rfl)
theorem dX4_init_144 : decode cX4_init 144 = .ok (.bipush 24, 2) := dk_16 24 (dk_at dksX4_init_6 4 rfl rfl)
theorem dX4_init_146 : decode cX4_init 146 = .ok (.newarray .int, 2) := dk_188_10 (dk_at dksX4_init_6 6 rfl rfl)
theorem dX4_init_148 : decode cX4_init 148 = .ok (.putfield 62, 3) := dk_181 0 62 (dk_at dksX4_init_6 8 rfl rfl)
theorem dX4_init_151 : decode cX4_init 151 = .ok (.aload_n 0, 1) := dk_42 (dk_at dksX4_init_6 11 rfl rfl)
theorem dX4_init_152 : decode cX4_init 152 = .ok (.bipush 24, 2) := dk_16 24 (dk_at dksX4_init_6 12 rfl rfl)
theorem dX4_init_154 : decode cX4_init 154 = .ok (.newarray .boolean, 2) := dk_188_4 (dk_at dksX4_init_6 14 rfl rfl)
theorem dX4_init_156 : decode cX4_init 156 = .ok (.putfield 65, 3) := dk_181 0 65 (dk_at dksX4_init_6 16 rfl rfl)
theorem dX4_init_159 : decode cX4_init 159 = .ok (.aload_n 0, 1) := dk_42 (dk_at dksX4_init_6 19 rfl rfl)
theorem dX4_init_160 : decode cX4_init 160 = .ok (.bipush 16, 2) := dk_16 16 (dk_at dksX4_init_6 20 rfl rfl)
theorem dX4_init_162 : decode cX4_init 162 = .ok (.newarray .int, 2) := dk_188_10 (dk_at dksX4_init_6 22 rfl rfl)
theorem dX4_init_164 : decode cX4_init 164 = .ok (.putfield 69, 3) := dk_181 0 69 (dk_at dksX4_init_7 0 rfl rfl)
theorem dX4_init_167 : decode cX4_init 167 = .ok (.aload_n 0, 1) := dk_42 (dk_at dksX4_init_7 3 rfl rfl)
theorem dX4_init_168 : decode cX4_init 168 = .ok (.bipush 16, 2) := dk_16 16 (dk_at dksX4_init_7 4 rfl rfl)
theorem dX4_init_170 : decode cX4_init 170 = .ok (.newarray .int, 2) := dk_188_10 (dk_at dksX4_init_7 6 rfl rfl)
theorem dX4_init_172 : decode cX4_init 172 = .ok (.putfield 72, 3) := dk_181 0 72 (dk_at dksX4_init_7 8 rfl rfl)
theorem dX4_init_175 : decode cX4_init 175 = .ok (.aload_n 0, 1) := dk_42 (dk_at dksX4_init_7 11 rfl rfl)
theorem dX4_init_176 : decode cX4_init 176 = .ok (.getfield 26, 3) := dk_180 0 26 (dk_at dksX4_init_7 12 rfl rfl)
theorem dX4_init_179 : decode cX4_init 179 = .ok (.iconst 0, 1) := dk_3 (dk_at dksX4_init_7 15 rfl rfl)
theorem dX4_init_180 : decode cX4_init 180 = .ok (.iconst 2, 1) := dk_5 (dk_at dksX4_init_7 16 rfl rfl)
theorem dX4_init_181 : decode cX4_init 181 = .ok (.iastore, 1) := dk_79 (dk_at dksX4_init_7 17 rfl rfl)
theorem dX4_init_182 : decode cX4_init 182 = .ok (.aload_n 0, 1) := dk_42 (dk_at dksX4_init_7 18 rfl rfl)
theorem dX4_init_183 : decode cX4_init 183 = .ok (.getfield 26, 3) := dk_180 0 26 (dk_at dksX4_init_7 19 rfl rfl)
theorem dX4_init_186 : decode cX4_init 186 = .ok (.iconst 1, 1) := dk_4 (dk_at dksX4_init_7 22 rfl rfl)
theorem dX4_init_187 : decode cX4_init 187 = .ok (.bipush 6, 2) := dk_16 6 (dk_at dksX4_init_8 0 rfl rfl)
theorem dX4_init_189 : decode cX4_init 189 = .ok (.iastore, 1) := dk_79 (dk_at dksX4_init_8 2 rfl rfl)
theorem dX4_init_190 : decode cX4_init 190 = .ok (.aload_n 0, 1) := dk_42 (dk_at dksX4_init_8 3 rfl rfl)
theorem dX4_init_191 : decode cX4_init 191 = .ok (.getfield 26, 3) := dk_180 0 26 (dk_at dksX4_init_8 4 rfl rfl)
theorem dX4_init_194 : decode cX4_init 194 = .ok (.iconst 2, 1) := dk_5 (dk_at dksX4_init_8 7 rfl rfl)
theorem dX4_init_195 : decode cX4_init 195 = .ok (.iconst 1, 1) := dk_4 (dk_at dksX4_init_8 8 rfl rfl)
theorem dX4_init_196 : decode cX4_init 196 = .ok (.iastore, 1) := dk_79 (dk_at dksX4_init_8 9 rfl rfl)
theorem dX4_init_197 : decode cX4_init 197 = .ok (.aload_n 0, 1) := dk_42 (dk_at dksX4_init_8 10 rfl rfl)
theorem dX4_init_198 : decode cX4_init 198 = .ok (.iconst 1, 1) := dk_4 (dk_at dksX4_init_8 11 rfl rfl)
theorem dX4_init_199 : decode cX4_init 199 = .ok (.putfield 75, 3) := dk_181 0 75 (dk_at dksX4_init_8 12 rfl rfl)
theorem dX4_init_202 : decode cX4_init 202 = .ok (.aload_n 0, 1) := dk_42 (dk_at dksX4_init_8 15 rfl rfl)
theorem dX4_init_203 : decode cX4_init 203 = .ok (.iconst (-1), 1) := dk_2 (dk_at dksX4_init_8 16 rfl rfl)
theorem dX4_init_204 : decode cX4_init 204 = .ok (.putfield 79, 3) := dk_181 0 79 (dk_at dksX4_init_8 17 rfl rfl)
theorem dX4_init_207 : decode cX4_init 207 = .ok (.iconst 0, 1) := dk_3 (dk_at dksX4_init_8 20 rfl rfl)
theorem dX4_init_208 : decode cX4_init 208 = .ok (.istore_n 1, 1) := dk_60 (dk_at dksX4_init_8 21 rfl rfl)
theorem dX4_init_209 : decode cX4_init 209 = .ok (.iload_n 1, 1) := dk_27 (dk_at dksX4_init_8 22 rfl rfl)
theorem dX4_init_210 : decode cX4_init 210 = .ok (.bipush 8, 2) := dk_16 8 (dk_at dksX4_init_9 0 rfl rfl)
theorem dX4_init_212 : decode cX4_init 212 = .ok (.if_icmp .ge 16, 3) := dk_162 0 16 (dk_at dksX4_init_9 2 rfl rfl)
theorem dX4_init_215 : decode cX4_init 215 = .ok (.aload_n 0, 1) := dk_42 (dk_at dksX4_init_9 5 rfl rfl)
theorem dX4_init_216 : decode cX4_init 216 = .ok (.getfield 29, 3) := dk_180 0 29 (dk_at dksX4_init_9 6 rfl rfl)
theorem dX4_init_219 : decode cX4_init 219 = .ok (.iload_n 1, 1) := dk_27 (dk_at dksX4_init_9 9 rfl rfl)
theorem dX4_init_220 : decode cX4_init 220 = .ok (.iconst (-1), 1) := dk_2 (dk_at dksX4_init_9 10 rfl rfl)
theorem dX4_init_221 : decode cX4_init 221 = .ok (.iastore, 1) := dk_79 (dk_at dksX4_init_9 11 rfl rfl)
theorem dX4_init_222 : decode cX4_init 222 = .ok (.iinc 1 1, 3) := dk_132 1 1 (dk_at dksX4_init_9 12 rfl rfl)
theorem dX4_init_225 : decode cX4_init 225 = .ok (.goto (-16), 3) := dk_167 255 240 (dk_at dksX4_init_9 15 rfl rfl)
theorem dX4_init_228 : decode cX4_init 228 = .ok (.return_, 1) := dk_177 (dk_at dksX4_init_9 18 rfl rfl)
abbrev cX4_row : ByteArray := prog_28_method_9_code
def yX4_row : MethodName := ⟨RX4, "row", "(III)I"⟩
def dkwX4_row_4 : List UInt8 := [21, 4, 96, 9, 80, 132, 4, 1, 167, 255, 231, 4, 172]
abbrev dktX4_row_4 : List UInt8 := dkwX4_row_4 ++ []
def dkwX4_row_3 : List UInt8 := [27, 29, 79, 3, 54, 4, 21, 4, 17, 0, 160, 162, 0, 23, 42, 180, 0, 35, 17, 0, 160, 27, 104]
abbrev dktX4_row_3 : List UInt8 := dkwX4_row_3 ++ dktX4_row_4
def dkwX4_row_2 : List UInt8 := [164, 0, 10, 42, 16, 249, 182, 0, 82, 172, 42, 180, 0, 29, 27, 16, 100, 28, 96, 79, 42, 180, 0, 32]
abbrev dktX4_row_2 : List UInt8 := dkwX4_row_2 ++ dktX4_row_3
def dkwX4_row_1 : List UInt8 := [182, 0, 82, 172, 28, 3, 6, 184, 0, 89, 154, 0, 10, 42, 16, 250, 182, 0, 82, 172, 29, 17, 0, 160]
abbrev dktX4_row_1 : List UInt8 := dkwX4_row_1 ++ dktX4_row_2
def dkwX4_row_0 : List UInt8 := [27, 3, 16, 7, 184, 0, 89, 154, 0, 9, 42, 2, 182, 0, 82, 172, 29, 156, 0, 10, 42, 16, 252]
abbrev dktX4_row_0 : List UInt8 := dkwX4_row_0 ++ dktX4_row_1
theorem dksX4_row_0 : cX4_row.data.toList.drop 0 = dktX4_row_0 := by decide +kernel
theorem dksX4_row_1 : cX4_row.data.toList.drop 23 = dktX4_row_1 := dk_seg dksX4_row_0 23 rfl rfl
theorem dksX4_row_2 : cX4_row.data.toList.drop 47 = dktX4_row_2 := dk_seg dksX4_row_1 24 rfl rfl
theorem dksX4_row_3 : cX4_row.data.toList.drop 71 = dktX4_row_3 := dk_seg dksX4_row_2 24 rfl rfl
theorem dksX4_row_4 : cX4_row.data.toList.drop 94 = dktX4_row_4 := dk_seg dksX4_row_3 23 rfl rfl
theorem dX4_row_0 : decode cX4_row 0 = .ok (.iload_n 1, 1) := dk_27 (dk_at dksX4_row_0 0 rfl rfl)
theorem dX4_row_1 : decode cX4_row 1 = .ok (.iconst 0, 1) := dk_3 (dk_at dksX4_row_0 1 rfl rfl)
theorem dX4_row_2 : decode cX4_row 2 = .ok (.bipush 7, 2) := dk_16 7 (dk_at dksX4_row_0 2 rfl rfl)
theorem dX4_row_4 : decode cX4_row 4 = .ok (.invokestatic 89, 3) := dk_184 0 89 (dk_at dksX4_row_0 4 rfl rfl)
theorem dX4_row_7 : decode cX4_row 7 = .ok (.ifCond .ne 9, 3) := dk_154 0 9 (dk_at dksX4_row_0 7 rfl rfl)
theorem dX4_row_10 : decode cX4_row 10 = .ok (.aload_n 0, 1) := dk_42 (dk_at dksX4_row_0 10 rfl rfl)
theorem dX4_row_11 : decode cX4_row 11 = .ok (.iconst (-1), 1) := dk_2 (dk_at dksX4_row_0 11 rfl rfl)
theorem dX4_row_12 : decode cX4_row 12 = .ok (.invokevirtual 82, 3) := dk_182 0 82 (dk_at dksX4_row_0 12 rfl rfl)
theorem dX4_row_15 : decode cX4_row 15 = .ok (.ireturn, 1) := dk_172 (dk_at dksX4_row_0 15 rfl rfl)
theorem dX4_row_16 : decode cX4_row 16 = .ok (.iload_n 3, 1) := dk_29 (dk_at dksX4_row_0 16 rfl rfl)
theorem dX4_row_17 : decode cX4_row 17 = .ok (.ifCond .ge 10, 3) := dk_156 0 10 (dk_at dksX4_row_0 17 rfl rfl)
theorem dX4_row_20 : decode cX4_row 20 = .ok (.aload_n 0, 1) := dk_42 (dk_at dksX4_row_0 20 rfl rfl)
theorem dX4_row_21 : decode cX4_row 21 = .ok (.bipush (-4), 2) := dk_16 252 (dk_at dksX4_row_0 21 rfl rfl)
theorem dX4_row_23 : decode cX4_row 23 = .ok (.invokevirtual 82, 3) := dk_182 0 82 (dk_at dksX4_row_1 0 rfl rfl)
theorem dX4_row_26 : decode cX4_row 26 = .ok (.ireturn, 1) := dk_172 (dk_at dksX4_row_1 3 rfl rfl)
theorem dX4_row_27 : decode cX4_row 27 = .ok (.iload_n 2, 1) := dk_28 (dk_at dksX4_row_1 4 rfl rfl)
theorem dX4_row_28 : decode cX4_row 28 = .ok (.iconst 0, 1) := dk_3 (dk_at dksX4_row_1 5 rfl rfl)
theorem dX4_row_29 : decode cX4_row 29 = .ok (.iconst 3, 1) := dk_6 (dk_at dksX4_row_1 6 rfl rfl)
theorem dX4_row_30 : decode cX4_row 30 = .ok (.invokestatic 89, 3) := dk_184 0 89 (dk_at dksX4_row_1 7 rfl rfl)
theorem dX4_row_33 : decode cX4_row 33 = .ok (.ifCond .ne 10, 3) := dk_154 0 10 (dk_at dksX4_row_1 10 rfl rfl)
theorem dX4_row_36 : decode cX4_row 36 = .ok (.aload_n 0, 1) := dk_42 (dk_at dksX4_row_1 13 rfl rfl)
theorem dX4_row_37 : decode cX4_row 37 = .ok (.bipush (-6), 2) := dk_16 250 (dk_at dksX4_row_1 14 rfl rfl)
theorem dX4_row_39 : decode cX4_row 39 = .ok (.invokevirtual 82, 3) := dk_182 0 82 (dk_at dksX4_row_1 16 rfl rfl)
theorem dX4_row_42 : decode cX4_row 42 = .ok (.ireturn, 1) := dk_172 (dk_at dksX4_row_1 19 rfl rfl)
theorem dX4_row_43 : decode cX4_row 43 = .ok (.iload_n 3, 1) := dk_29 (dk_at dksX4_row_1 20 rfl rfl)
theorem dX4_row_44 : decode cX4_row 44 = .ok (.sipush 160, 3) := dk_17 0 160 (dk_at dksX4_row_1 21 rfl rfl)
theorem dX4_row_47 : decode cX4_row 47 = .ok (.if_icmp .le 10, 3) := dk_164 0 10 (dk_at dksX4_row_2 0 rfl rfl)
theorem dX4_row_50 : decode cX4_row 50 = .ok (.aload_n 0, 1) := dk_42 (dk_at dksX4_row_2 3 rfl rfl)
theorem dX4_row_51 : decode cX4_row 51 = .ok (.bipush (-7), 2) := dk_16 249 (dk_at dksX4_row_2 4 rfl rfl)
theorem dX4_row_53 : decode cX4_row 53 = .ok (.invokevirtual 82, 3) := dk_182 0 82 (dk_at dksX4_row_2 6 rfl rfl)
theorem dX4_row_56 : decode cX4_row 56 = .ok (.ireturn, 1) := dk_172 (dk_at dksX4_row_2 9 rfl rfl)
theorem dX4_row_57 : decode cX4_row 57 = .ok (.aload_n 0, 1) := dk_42 (dk_at dksX4_row_2 10 rfl rfl)
theorem dX4_row_58 : decode cX4_row 58 = .ok (.getfield 29, 3) := dk_180 0 29 (dk_at dksX4_row_2 11 rfl rfl)
theorem dX4_row_61 : decode cX4_row 61 = .ok (.iload_n 1, 1) := dk_27 (dk_at dksX4_row_2 14 rfl rfl)
theorem dX4_row_62 : decode cX4_row 62 = .ok (.bipush 100, 2) := dk_16 100 (dk_at dksX4_row_2 15 rfl rfl)
theorem dX4_row_64 : decode cX4_row 64 = .ok (.iload_n 2, 1) := dk_28 (dk_at dksX4_row_2 17 rfl rfl)
theorem dX4_row_65 : decode cX4_row 65 = .ok (.iadd, 1) := dk_96 (dk_at dksX4_row_2 18 rfl rfl)
theorem dX4_row_66 : decode cX4_row 66 = .ok (.iastore, 1) := dk_79 (dk_at dksX4_row_2 19 rfl rfl)
theorem dX4_row_67 : decode cX4_row 67 = .ok (.aload_n 0, 1) := dk_42 (dk_at dksX4_row_2 20 rfl rfl)
theorem dX4_row_68 : decode cX4_row 68 = .ok (.getfield 32, 3) := dk_180 0 32 (dk_at dksX4_row_2 21 rfl rfl)
theorem dX4_row_71 : decode cX4_row 71 = .ok (.iload_n 1, 1) := dk_27 (dk_at dksX4_row_3 0 rfl rfl)
theorem dX4_row_72 : decode cX4_row 72 = .ok (.iload_n 3, 1) := dk_29 (dk_at dksX4_row_3 1 rfl rfl)
theorem dX4_row_73 : decode cX4_row 73 = .ok (.iastore, 1) := dk_79 (dk_at dksX4_row_3 2 rfl rfl)
theorem dX4_row_74 : decode cX4_row 74 = .ok (.iconst 0, 1) := dk_3 (dk_at dksX4_row_3 3 rfl rfl)
theorem dX4_row_75 : decode cX4_row 75 = .ok (.istore 4, 2) := dk_54 4 (dk_at dksX4_row_3 4 rfl rfl)
theorem dX4_row_77 : decode cX4_row 77 = .ok (.iload 4, 2) := dk_21 4 (dk_at dksX4_row_3 6 rfl rfl)
theorem dX4_row_79 : decode cX4_row 79 = .ok (.sipush 160, 3) := dk_17 0 160 (dk_at dksX4_row_3 8 rfl rfl)
theorem dX4_row_82 : decode cX4_row 82 = .ok (.if_icmp .ge 23, 3) := dk_162 0 23 (dk_at dksX4_row_3 11 rfl rfl)
theorem dX4_row_85 : decode cX4_row 85 = .ok (.aload_n 0, 1) := dk_42 (dk_at dksX4_row_3 14 rfl rfl)
theorem dX4_row_86 : decode cX4_row 86 = .ok (.getfield 35, 3) := dk_180 0 35 (dk_at dksX4_row_3 15 rfl rfl)
theorem dX4_row_89 : decode cX4_row 89 = .ok (.sipush 160, 3) := dk_17 0 160 (dk_at dksX4_row_3 18 rfl rfl)
theorem dX4_row_92 : decode cX4_row 92 = .ok (.iload_n 1, 1) := dk_27 (dk_at dksX4_row_3 21 rfl rfl)
theorem dX4_row_93 : decode cX4_row 93 = .ok (.imul, 1) := dk_104 (dk_at dksX4_row_3 22 rfl rfl)
theorem dX4_row_94 : decode cX4_row 94 = .ok (.iload 4, 2) := dk_21 4 (dk_at dksX4_row_4 0 rfl rfl)
theorem dX4_row_96 : decode cX4_row 96 = .ok (.iadd, 1) := dk_96 (dk_at dksX4_row_4 2 rfl rfl)
theorem dX4_row_97 : decode cX4_row 97 = .ok (.lconst 0, 1) := dk_9 (dk_at dksX4_row_4 3 rfl rfl)
theorem dX4_row_98 : decode cX4_row 98 = .ok (.lastore, 1) := dk_80 (dk_at dksX4_row_4 4 rfl rfl)
theorem dX4_row_99 : decode cX4_row 99 = .ok (.iinc 4 1, 3) := dk_132 4 1 (dk_at dksX4_row_4 5 rfl rfl)
theorem dX4_row_102 : decode cX4_row 102 = .ok (.goto (-25), 3) := dk_167 255 231 (dk_at dksX4_row_4 8 rfl rfl)
theorem dX4_row_105 : decode cX4_row 105 = .ok (.iconst 1, 1) := dk_4 (dk_at dksX4_row_4 11 rfl rfl)
theorem dX4_row_106 : decode cX4_row 106 = .ok (.ireturn, 1) := dk_172 (dk_at dksX4_row_4 12 rfl rfl)
abbrev cX4_within : ByteArray := prog_28_method_4_code
def yX4_within : MethodName := ⟨RX4, "within", "(III)Z"⟩
def dkwX4_within_0 : List UInt8 := [26, 27, 161, 0, 12, 26, 28, 163, 0, 7, 4, 167, 0, 4, 3, 172]
abbrev dktX4_within_0 : List UInt8 := dkwX4_within_0 ++ []
theorem dksX4_within_0 : cX4_within.data.toList.drop 0 = dktX4_within_0 := by decide +kernel
theorem dX4_within_0 : decode cX4_within 0 = .ok (.iload_n 0, 1) := dk_26 (dk_at dksX4_within_0 0 rfl rfl)
theorem dX4_within_1 : decode cX4_within 1 = .ok (.iload_n 1, 1) := dk_27 (dk_at dksX4_within_0 1 rfl rfl)
theorem dX4_within_2 : decode cX4_within 2 = .ok (.if_icmp .lt 12, 3) := dk_161 0 12 (dk_at dksX4_within_0 2 rfl rfl)
theorem dX4_within_5 : decode cX4_within 5 = .ok (.iload_n 0, 1) := dk_26 (dk_at dksX4_within_0 5 rfl rfl)
theorem dX4_within_6 : decode cX4_within 6 = .ok (.iload_n 2, 1) := dk_28 (dk_at dksX4_within_0 6 rfl rfl)
theorem dX4_within_7 : decode cX4_within 7 = .ok (.if_icmp .gt 7, 3) := dk_163 0 7 (dk_at dksX4_within_0 7 rfl rfl)
theorem dX4_within_10 : decode cX4_within 10 = .ok (.iconst 1, 1) := dk_4 (dk_at dksX4_within_0 10 rfl rfl)
theorem dX4_within_11 : decode cX4_within 11 = .ok (.goto 4, 3) := dk_167 0 4 (dk_at dksX4_within_0 11 rfl rfl)
theorem dX4_within_14 : decode cX4_within 14 = .ok (.iconst 0, 1) := dk_3 (dk_at dksX4_within_0 14 rfl rfl)
theorem dX4_within_15 : decode cX4_within 15 = .ok (.ireturn, 1) := dk_172 (dk_at dksX4_within_0 15 rfl rfl)
abbrev cX4_no : ByteArray := prog_28_method_2_code
def yX4_no : MethodName := ⟨RX4, "no", "(I)I"⟩
def dkwX4_no_0 : List UInt8 := [42, 180, 0, 41, 27, 116, 92, 46, 4, 96, 79, 27, 172]
abbrev dktX4_no_0 : List UInt8 := dkwX4_no_0 ++ []
theorem dksX4_no_0 : cX4_no.data.toList.drop 0 = dktX4_no_0 := by decide +kernel
theorem dX4_no_0 : decode cX4_no 0 = .ok (.aload_n 0, 1) := dk_42 (dk_at dksX4_no_0 0 rfl rfl)
theorem dX4_no_1 : decode cX4_no 1 = .ok (.getfield 41, 3) := dk_180 0 41 (dk_at dksX4_no_0 1 rfl rfl)
theorem dX4_no_4 : decode cX4_no 4 = .ok (.iload_n 1, 1) := dk_27 (dk_at dksX4_no_0 4 rfl rfl)
theorem dX4_no_5 : decode cX4_no 5 = .ok (.ineg, 1) := dk_116 (dk_at dksX4_no_0 5 rfl rfl)
theorem dX4_no_6 : decode cX4_no 6 = .ok (.dup2, 1) := dk_92 (dk_at dksX4_no_0 6 rfl rfl)
theorem dX4_no_7 : decode cX4_no 7 = .ok (.iaload, 1) := dk_46 (dk_at dksX4_no_0 7 rfl rfl)
theorem dX4_no_8 : decode cX4_no 8 = .ok (.iconst 1, 1) := dk_4 (dk_at dksX4_no_0 8 rfl rfl)
theorem dX4_no_9 : decode cX4_no 9 = .ok (.iadd, 1) := dk_96 (dk_at dksX4_no_0 9 rfl rfl)
theorem dX4_no_10 : decode cX4_no 10 = .ok (.iastore, 1) := dk_79 (dk_at dksX4_no_0 10 rfl rfl)
theorem dX4_no_11 : decode cX4_no 11 = .ok (.iload_n 1, 1) := dk_27 (dk_at dksX4_no_0 11 rfl rfl)
theorem dX4_no_12 : decode cX4_no 12 = .ok (.ireturn, 1) := dk_172 (dk_at dksX4_no_0 12 rfl rfl)
abbrev cX4_set : ByteArray := prog_28_method_11_code
def yX4_set : MethodName := ⟨RX4, "set", "(IIJ)I"⟩
def dkwX4_set_4 : List UInt8 := [160, 0, 9, 33, 136, 133, 167, 0, 4, 33, 80, 4, 172]
abbrev dktX4_set_4 : List UInt8 := dkwX4_set_4 ++ []
def dkwX4_set_3 : List UInt8 := [136, 145, 133, 167, 0, 29, 21, 6, 4, 160, 0, 10, 33, 136, 147, 133, 167, 0, 16, 21, 6, 5]
abbrev dktX4_set_3 : List UInt8 := dkwX4_set_3 ++ dktX4_set_4
def dkwX4_set_2 : List UInt8 := [27, 46, 16, 100, 100, 54, 6, 42, 180, 0, 35, 17, 0, 160, 27, 104, 28, 96, 21, 6, 154, 0, 10, 33]
abbrev dktX4_set_2 : List UInt8 := dkwX4_set_2 ++ dktX4_set_3
def dkwX4_set_1 : List UInt8 := [180, 0, 32, 27, 46, 4, 100, 184, 0, 89, 154, 0, 10, 42, 16, 251, 182, 0, 82, 172, 42, 180, 0, 29]
abbrev dktX4_set_1 : List UInt8 := dkwX4_set_1 ++ dktX4_set_2
def dkwX4_set_0 : List UInt8 := [42, 27, 182, 0, 100, 54, 5, 21, 5, 156, 0, 10, 42, 21, 5, 182, 0, 82, 172, 28, 3, 42]
abbrev dktX4_set_0 : List UInt8 := dkwX4_set_0 ++ dktX4_set_1
theorem dksX4_set_0 : cX4_set.data.toList.drop 0 = dktX4_set_0 := by decide +kernel
theorem dksX4_set_1 : cX4_set.data.toList.drop 22 = dktX4_set_1 := dk_seg dksX4_set_0 22 rfl rfl
theorem dksX4_set_2 : cX4_set.data.toList.drop 46 = dktX4_set_2 := dk_seg dksX4_set_1 24 rfl rfl
theorem dksX4_set_3 : cX4_set.data.toList.drop 70 = dktX4_set_3 := dk_seg dksX4_set_2 24 rfl rfl
theorem dksX4_set_4 : cX4_set.data.toList.drop 92 = dktX4_set_4 := dk_seg dksX4_set_3 22 rfl rfl
theorem dX4_set_0 : decode cX4_set 0 = .ok (.aload_n 0, 1) := dk_42 (dk_at dksX4_set_0 0 rfl rfl)
theorem dX4_set_1 : decode cX4_set 1 = .ok (.iload_n 1, 1) := dk_27 (dk_at dksX4_set_0 1 rfl rfl)
theorem dX4_set_2 : decode cX4_set 2 = .ok (.invokevirtual 100, 3) := dk_182 0 100 (dk_at dksX4_set_0 2 rfl rfl)
theorem dX4_set_5 : decode cX4_set 5 = .ok (.istore 5, 2) := dk_54 5 (dk_at dksX4_set_0 5 rfl rfl)
theorem dX4_set_7 : decode cX4_set 7 = .ok (.iload 5, 2) := dk_21 5 (dk_at dksX4_set_0 7 rfl rfl)
theorem dX4_set_9 : decode cX4_set 9 = .ok (.ifCond .ge 10, 3) := dk_156 0 10 (dk_at dksX4_set_0 9 rfl rfl)
theorem dX4_set_12 : decode cX4_set 12 = .ok (.aload_n 0, 1) := dk_42 (dk_at dksX4_set_0 12 rfl rfl)
theorem dX4_set_13 : decode cX4_set 13 = .ok (.iload 5, 2) := dk_21 5 (dk_at dksX4_set_0 13 rfl rfl)
theorem dX4_set_15 : decode cX4_set 15 = .ok (.invokevirtual 82, 3) := dk_182 0 82 (dk_at dksX4_set_0 15 rfl rfl)
theorem dX4_set_18 : decode cX4_set 18 = .ok (.ireturn, 1) := dk_172 (dk_at dksX4_set_0 18 rfl rfl)
theorem dX4_set_19 : decode cX4_set 19 = .ok (.iload_n 2, 1) := dk_28 (dk_at dksX4_set_0 19 rfl rfl)
theorem dX4_set_20 : decode cX4_set 20 = .ok (.iconst 0, 1) := dk_3 (dk_at dksX4_set_0 20 rfl rfl)
theorem dX4_set_21 : decode cX4_set 21 = .ok (.aload_n 0, 1) := dk_42 (dk_at dksX4_set_0 21 rfl rfl)
theorem dX4_set_22 : decode cX4_set 22 = .ok (.getfield 32, 3) := dk_180 0 32 (dk_at dksX4_set_1 0 rfl rfl)
theorem dX4_set_25 : decode cX4_set 25 = .ok (.iload_n 1, 1) := dk_27 (dk_at dksX4_set_1 3 rfl rfl)
theorem dX4_set_26 : decode cX4_set 26 = .ok (.iaload, 1) := dk_46 (dk_at dksX4_set_1 4 rfl rfl)
theorem dX4_set_27 : decode cX4_set 27 = .ok (.iconst 1, 1) := dk_4 (dk_at dksX4_set_1 5 rfl rfl)
theorem dX4_set_28 : decode cX4_set 28 = .ok (.isub, 1) := dk_100 (dk_at dksX4_set_1 6 rfl rfl)
theorem dX4_set_29 : decode cX4_set 29 = .ok (.invokestatic 89, 3) := dk_184 0 89 (dk_at dksX4_set_1 7 rfl rfl)
theorem dX4_set_32 : decode cX4_set 32 = .ok (.ifCond .ne 10, 3) := dk_154 0 10 (dk_at dksX4_set_1 10 rfl rfl)
theorem dX4_set_35 : decode cX4_set 35 = .ok (.aload_n 0, 1) := dk_42 (dk_at dksX4_set_1 13 rfl rfl)
theorem dX4_set_36 : decode cX4_set 36 = .ok (.bipush (-5), 2) := dk_16 251 (dk_at dksX4_set_1 14 rfl rfl)
theorem dX4_set_38 : decode cX4_set 38 = .ok (.invokevirtual 82, 3) := dk_182 0 82 (dk_at dksX4_set_1 16 rfl rfl)
theorem dX4_set_41 : decode cX4_set 41 = .ok (.ireturn, 1) := dk_172 (dk_at dksX4_set_1 19 rfl rfl)
theorem dX4_set_42 : decode cX4_set 42 = .ok (.aload_n 0, 1) := dk_42 (dk_at dksX4_set_1 20 rfl rfl)
theorem dX4_set_43 : decode cX4_set 43 = .ok (.getfield 29, 3) := dk_180 0 29 (dk_at dksX4_set_1 21 rfl rfl)
theorem dX4_set_46 : decode cX4_set 46 = .ok (.iload_n 1, 1) := dk_27 (dk_at dksX4_set_2 0 rfl rfl)
theorem dX4_set_47 : decode cX4_set 47 = .ok (.iaload, 1) := dk_46 (dk_at dksX4_set_2 1 rfl rfl)
theorem dX4_set_48 : decode cX4_set 48 = .ok (.bipush 100, 2) := dk_16 100 (dk_at dksX4_set_2 2 rfl rfl)
theorem dX4_set_50 : decode cX4_set 50 = .ok (.isub, 1) := dk_100 (dk_at dksX4_set_2 4 rfl rfl)
theorem dX4_set_51 : decode cX4_set 51 = .ok (.istore 6, 2) := dk_54 6 (dk_at dksX4_set_2 5 rfl rfl)
theorem dX4_set_53 : decode cX4_set 53 = .ok (.aload_n 0, 1) := dk_42 (dk_at dksX4_set_2 7 rfl rfl)
theorem dX4_set_54 : decode cX4_set 54 = .ok (.getfield 35, 3) := dk_180 0 35 (dk_at dksX4_set_2 8 rfl rfl)
theorem dX4_set_57 : decode cX4_set 57 = .ok (.sipush 160, 3) := dk_17 0 160 (dk_at dksX4_set_2 11 rfl rfl)
theorem dX4_set_60 : decode cX4_set 60 = .ok (.iload_n 1, 1) := dk_27 (dk_at dksX4_set_2 14 rfl rfl)
theorem dX4_set_61 : decode cX4_set 61 = .ok (.imul, 1) := dk_104 (dk_at dksX4_set_2 15 rfl rfl)
theorem dX4_set_62 : decode cX4_set 62 = .ok (.iload_n 2, 1) := dk_28 (dk_at dksX4_set_2 16 rfl rfl)
theorem dX4_set_63 : decode cX4_set 63 = .ok (.iadd, 1) := dk_96 (dk_at dksX4_set_2 17 rfl rfl)
theorem dX4_set_64 : decode cX4_set 64 = .ok (.iload 6, 2) := dk_21 6 (dk_at dksX4_set_2 18 rfl rfl)
theorem dX4_set_66 : decode cX4_set 66 = .ok (.ifCond .ne 10, 3) := dk_154 0 10 (dk_at dksX4_set_2 20 rfl rfl)
theorem dX4_set_69 : decode cX4_set 69 = .ok (.lload_n 3, 1) := dk_33 (dk_at dksX4_set_2 23 rfl rfl)
theorem dX4_set_70 : decode cX4_set 70 = .ok (.l2i, 1) := dk_136 (dk_at dksX4_set_3 0 rfl rfl)
theorem dX4_set_71 : decode cX4_set 71 = .ok (.i2b, 1) := dk_145 (dk_at dksX4_set_3 1 rfl rfl)
theorem dX4_set_72 : decode cX4_set 72 = .ok (.i2l, 1) := dk_133 (dk_at dksX4_set_3 2 rfl rfl)
theorem dX4_set_73 : decode cX4_set 73 = .ok (.goto 29, 3) := dk_167 0 29 (dk_at dksX4_set_3 3 rfl rfl)
theorem dX4_set_76 : decode cX4_set 76 = .ok (.iload 6, 2) := dk_21 6 (dk_at dksX4_set_3 6 rfl rfl)
theorem dX4_set_78 : decode cX4_set 78 = .ok (.iconst 1, 1) := dk_4 (dk_at dksX4_set_3 8 rfl rfl)
theorem dX4_set_79 : decode cX4_set 79 = .ok (.if_icmp .ne 10, 3) := dk_160 0 10 (dk_at dksX4_set_3 9 rfl rfl)
theorem dX4_set_82 : decode cX4_set 82 = .ok (.lload_n 3, 1) := dk_33 (dk_at dksX4_set_3 12 rfl rfl)
theorem dX4_set_83 : decode cX4_set 83 = .ok (.l2i, 1) := dk_136 (dk_at dksX4_set_3 13 rfl rfl)
theorem dX4_set_84 : decode cX4_set 84 = .ok (.i2s, 1) := dk_147 (dk_at dksX4_set_3 14 rfl rfl)
theorem dX4_set_85 : decode cX4_set 85 = .ok (.i2l, 1) := dk_133 (dk_at dksX4_set_3 15 rfl rfl)
theorem dX4_set_86 : decode cX4_set 86 = .ok (.goto 16, 3) := dk_167 0 16 (dk_at dksX4_set_3 16 rfl rfl)
theorem dX4_set_89 : decode cX4_set 89 = .ok (.iload 6, 2) := dk_21 6 (dk_at dksX4_set_3 19 rfl rfl)
theorem dX4_set_91 : decode cX4_set 91 = .ok (.iconst 2, 1) := dk_5 (dk_at dksX4_set_3 21 rfl rfl)
theorem dX4_set_92 : decode cX4_set 92 = .ok (.if_icmp .ne 9, 3) := dk_160 0 9 (dk_at dksX4_set_4 0 rfl rfl)
theorem dX4_set_95 : decode cX4_set 95 = .ok (.lload_n 3, 1) := dk_33 (dk_at dksX4_set_4 3 rfl rfl)
theorem dX4_set_96 : decode cX4_set 96 = .ok (.l2i, 1) := dk_136 (dk_at dksX4_set_4 4 rfl rfl)
theorem dX4_set_97 : decode cX4_set 97 = .ok (.i2l, 1) := dk_133 (dk_at dksX4_set_4 5 rfl rfl)
theorem dX4_set_98 : decode cX4_set 98 = .ok (.goto 4, 3) := dk_167 0 4 (dk_at dksX4_set_4 6 rfl rfl)
theorem dX4_set_101 : decode cX4_set 101 = .ok (.lload_n 3, 1) := dk_33 (dk_at dksX4_set_4 9 rfl rfl)
theorem dX4_set_102 : decode cX4_set 102 = .ok (.lastore, 1) := dk_80 (dk_at dksX4_set_4 10 rfl rfl)
theorem dX4_set_103 : decode cX4_set 103 = .ok (.iconst 1, 1) := dk_4 (dk_at dksX4_set_4 11 rfl rfl)
theorem dX4_set_104 : decode cX4_set 104 = .ok (.ireturn, 1) := dk_172 (dk_at dksX4_set_4 12 rfl rfl)
abbrev cX4_noRow : ByteArray := prog_28_method_10_code
def yX4_noRow : MethodName := ⟨RX4, "noRow", "(I)I"⟩
def dkwX4_noRow_2 : List UInt8 := [172]
abbrev dktX4_noRow_2 : List UInt8 := dkwX4_noRow_2 ++ []
def dkwX4_noRow_1 : List UInt8 := [182, 0, 96, 154, 0, 6, 16, 254, 172, 42, 180, 0, 29, 27, 46, 156, 0, 8, 16, 253, 167, 0, 4, 3]
abbrev dktX4_noRow_1 : List UInt8 := dkwX4_noRow_1 ++ dktX4_noRow_2
def dkwX4_noRow_0 : List UInt8 := [27, 3, 16, 7, 184, 0, 89, 154, 0, 5, 2, 172, 42, 180, 0, 29, 27, 46, 155, 0, 14, 42, 27]
abbrev dktX4_noRow_0 : List UInt8 := dkwX4_noRow_0 ++ dktX4_noRow_1
theorem dksX4_noRow_0 : cX4_noRow.data.toList.drop 0 = dktX4_noRow_0 := by decide +kernel
theorem dksX4_noRow_1 : cX4_noRow.data.toList.drop 23 = dktX4_noRow_1 := dk_seg dksX4_noRow_0 23 rfl rfl
theorem dksX4_noRow_2 : cX4_noRow.data.toList.drop 47 = dktX4_noRow_2 := dk_seg dksX4_noRow_1 24 rfl rfl
theorem dX4_noRow_0 : decode cX4_noRow 0 = .ok (.iload_n 1, 1) := dk_27 (dk_at dksX4_noRow_0 0 rfl rfl)
theorem dX4_noRow_1 : decode cX4_noRow 1 = .ok (.iconst 0, 1) := dk_3 (dk_at dksX4_noRow_0 1 rfl rfl)
theorem dX4_noRow_2 : decode cX4_noRow 2 = .ok (.bipush 7, 2) := dk_16 7 (dk_at dksX4_noRow_0 2 rfl rfl)
theorem dX4_noRow_4 : decode cX4_noRow 4 = .ok (.invokestatic 89, 3) := dk_184 0 89 (dk_at dksX4_noRow_0 4 rfl rfl)
theorem dX4_noRow_7 : decode cX4_noRow 7 = .ok (.ifCond .ne 5, 3) := dk_154 0 5 (dk_at dksX4_noRow_0 7 rfl rfl)
theorem dX4_noRow_10 : decode cX4_noRow 10 = .ok (.iconst (-1), 1) := dk_2 (dk_at dksX4_noRow_0 10 rfl rfl)
theorem dX4_noRow_11 : decode cX4_noRow 11 = .ok (.ireturn, 1) := dk_172 (dk_at dksX4_noRow_0 11 rfl rfl)
theorem dX4_noRow_12 : decode cX4_noRow 12 = .ok (.aload_n 0, 1) := dk_42 (dk_at dksX4_noRow_0 12 rfl rfl)
theorem dX4_noRow_13 : decode cX4_noRow 13 = .ok (.getfield 29, 3) := dk_180 0 29 (dk_at dksX4_noRow_0 13 rfl rfl)
theorem dX4_noRow_16 : decode cX4_noRow 16 = .ok (.iload_n 1, 1) := dk_27 (dk_at dksX4_noRow_0 16 rfl rfl)
theorem dX4_noRow_17 : decode cX4_noRow 17 = .ok (.iaload, 1) := dk_46 (dk_at dksX4_noRow_0 17 rfl rfl)
theorem dX4_noRow_18 : decode cX4_noRow 18 = .ok (.ifCond .lt 14, 3) := dk_155 0 14 (dk_at dksX4_noRow_0 18 rfl rfl)
theorem dX4_noRow_21 : decode cX4_noRow 21 = .ok (.aload_n 0, 1) := dk_42 (dk_at dksX4_noRow_0 21 rfl rfl)
theorem dX4_noRow_22 : decode cX4_noRow 22 = .ok (.iload_n 1, 1) := dk_27 (dk_at dksX4_noRow_0 22 rfl rfl)
theorem dX4_noRow_23 : decode cX4_noRow 23 = .ok (.invokevirtual 96, 3) := dk_182 0 96 (dk_at dksX4_noRow_1 0 rfl rfl)
theorem dX4_noRow_26 : decode cX4_noRow 26 = .ok (.ifCond .ne 6, 3) := dk_154 0 6 (dk_at dksX4_noRow_1 3 rfl rfl)
theorem dX4_noRow_29 : decode cX4_noRow 29 = .ok (.bipush (-2), 2) := dk_16 254 (dk_at dksX4_noRow_1 6 rfl rfl)
theorem dX4_noRow_31 : decode cX4_noRow 31 = .ok (.ireturn, 1) := dk_172 (dk_at dksX4_noRow_1 8 rfl rfl)
theorem dX4_noRow_32 : decode cX4_noRow 32 = .ok (.aload_n 0, 1) := dk_42 (dk_at dksX4_noRow_1 9 rfl rfl)
theorem dX4_noRow_33 : decode cX4_noRow 33 = .ok (.getfield 29, 3) := dk_180 0 29 (dk_at dksX4_noRow_1 10 rfl rfl)
theorem dX4_noRow_36 : decode cX4_noRow 36 = .ok (.iload_n 1, 1) := dk_27 (dk_at dksX4_noRow_1 13 rfl rfl)
theorem dX4_noRow_37 : decode cX4_noRow 37 = .ok (.iaload, 1) := dk_46 (dk_at dksX4_noRow_1 14 rfl rfl)
theorem dX4_noRow_38 : decode cX4_noRow 38 = .ok (.ifCond .ge 8, 3) := dk_156 0 8 (dk_at dksX4_noRow_1 15 rfl rfl)
theorem dX4_noRow_41 : decode cX4_noRow 41 = .ok (.bipush (-3), 2) := dk_16 253 (dk_at dksX4_noRow_1 18 rfl rfl)
theorem dX4_noRow_43 : decode cX4_noRow 43 = .ok (.goto 4, 3) := dk_167 0 4 (dk_at dksX4_noRow_1 20 rfl rfl)
theorem dX4_noRow_46 : decode cX4_noRow 46 = .ok (.iconst 0, 1) := dk_3 (dk_at dksX4_noRow_1 23 rfl rfl)
theorem dX4_noRow_47 : decode cX4_noRow 47 = .ok (.ireturn, 1) := dk_172 (dk_at dksX4_noRow_2 0 rfl rfl)
abbrev cX4_isRow : ByteArray := prog_28_method_8_code
def yX4_isRow : MethodName := ⟨RX4, "isRow", "(I)Z"⟩
def dkwX4_isRow_0 : List UInt8 := [42, 180, 0, 29, 27, 46, 16, 100, 161, 0, 7, 4, 167, 0, 4, 3, 172]
abbrev dktX4_isRow_0 : List UInt8 := dkwX4_isRow_0 ++ []
theorem dksX4_isRow_0 : cX4_isRow.data.toList.drop 0 = dktX4_isRow_0 := by decide +kernel
theorem dX4_isRow_0 : decode cX4_isRow 0 = .ok (.aload_n 0, 1) := dk_42 (dk_at dksX4_isRow_0 0 rfl rfl)
theorem dX4_isRow_1 : decode cX4_isRow 1 = .ok (.getfield 29, 3) := dk_180 0 29 (dk_at dksX4_isRow_0 1 rfl rfl)
theorem dX4_isRow_4 : decode cX4_isRow 4 = .ok (.iload_n 1, 1) := dk_27 (dk_at dksX4_isRow_0 4 rfl rfl)
theorem dX4_isRow_5 : decode cX4_isRow 5 = .ok (.iaload, 1) := dk_46 (dk_at dksX4_isRow_0 5 rfl rfl)
theorem dX4_isRow_6 : decode cX4_isRow 6 = .ok (.bipush 100, 2) := dk_16 100 (dk_at dksX4_isRow_0 6 rfl rfl)
theorem dX4_isRow_8 : decode cX4_isRow 8 = .ok (.if_icmp .lt 7, 3) := dk_161 0 7 (dk_at dksX4_isRow_0 8 rfl rfl)
theorem dX4_isRow_11 : decode cX4_isRow 11 = .ok (.iconst 1, 1) := dk_4 (dk_at dksX4_isRow_0 11 rfl rfl)
theorem dX4_isRow_12 : decode cX4_isRow 12 = .ok (.goto 4, 3) := dk_167 0 4 (dk_at dksX4_isRow_0 12 rfl rfl)
theorem dX4_isRow_15 : decode cX4_isRow 15 = .ok (.iconst 0, 1) := dk_3 (dk_at dksX4_isRow_0 15 rfl rfl)
theorem dX4_isRow_16 : decode cX4_isRow 16 = .ok (.ireturn, 1) := dk_172 (dk_at dksX4_isRow_0 16 rfl rfl)
abbrev cX4_copy : ByteArray := prog_28_method_12_code
def yX4_copy : MethodName := ⟨RX4, "copy", "(IIIII)I"⟩
def dkwX4_copy_12 : List UInt8 := [17, 0, 160, 27, 104, 29, 96, 21, 6, 96, 47, 80, 132, 6, 1, 167, 255, 215, 4, 172]
abbrev dktX4_copy_12 : List UInt8 := dkwX4_copy_12 ++ []
def dkwX4_copy_11 : List UInt8 := [162, 0, 40, 42, 180, 0, 35, 17, 0, 160, 28, 104, 21, 4, 96, 21, 6, 96, 42, 180, 0, 35]
abbrev dktX4_copy_11 : List UInt8 := dkwX4_copy_11 ++ dktX4_copy_12
def dkwX4_copy_10 : List UInt8 := [96, 21, 6, 96, 47, 80, 132, 6, 255, 167, 255, 217, 167, 0, 50, 3, 54, 6, 21, 6, 21, 5]
abbrev dktX4_copy_10 : List UInt8 := dkwX4_copy_10 ++ dktX4_copy_11
def dkwX4_copy_9 : List UInt8 := [180, 0, 35, 17, 0, 160, 28, 104, 21, 4, 96, 21, 6, 96, 42, 180, 0, 35, 17, 0, 160, 27, 104, 29]
abbrev dktX4_copy_9 : List UInt8 := dkwX4_copy_9 ++ dktX4_copy_10
def dkwX4_copy_8 : List UInt8 := [28, 160, 0, 60, 29, 21, 4, 162, 0, 54, 21, 5, 4, 100, 54, 6, 21, 6, 155, 0, 40, 42]
abbrev dktX4_copy_8 : List UInt8 := dkwX4_copy_8 ++ dktX4_copy_9
def dkwX4_copy_7 : List UInt8 := [133, 21, 5, 133, 97, 42, 180, 0, 32, 28, 46, 133, 148, 158, 0, 10, 42, 16, 251, 182, 0, 82, 172, 27]
abbrev dktX4_copy_7 : List UInt8 := dkwX4_copy_7 ++ dktX4_copy_8
def dkwX4_copy_6 : List UInt8 := [21, 4, 155, 0, 38, 29, 133, 21, 5, 133, 97, 42, 180, 0, 32, 27, 46, 133, 148, 157, 0, 21, 21, 4]
abbrev dktX4_copy_6 : List UInt8 := dkwX4_copy_6 ++ dktX4_copy_7
def dkwX4_copy_5 : List UInt8 := [42, 16, 253, 182, 0, 82, 172, 21, 5, 156, 0, 10, 42, 16, 252, 182, 0, 82, 172, 29, 155, 0, 43]
abbrev dktX4_copy_5 : List UInt8 := dkwX4_copy_5 ++ dktX4_copy_6
def dkwX4_copy_4 : List UInt8 := [16, 254, 182, 0, 82, 172, 42, 180, 0, 29, 27, 46, 155, 0, 12, 42, 180, 0, 29, 28, 46, 156, 0, 10]
abbrev dktX4_copy_4 : List UInt8 := dkwX4_copy_4 ++ dktX4_copy_5
def dkwX4_copy_3 : List UInt8 := [42, 28, 182, 0, 96, 153, 0, 25, 42, 180, 0, 29, 27, 46, 42, 180, 0, 29, 28, 46, 159, 0, 10, 42]
abbrev dktX4_copy_3 : List UInt8 := dkwX4_copy_3 ++ dktX4_copy_4
def dkwX4_copy_2 : List UInt8 := [180, 0, 29, 28, 46, 155, 0, 11, 42, 28, 182, 0, 96, 153, 0, 34, 42, 27, 182, 0, 96, 153, 0, 33]
abbrev dktX4_copy_2 : List UInt8 := dkwX4_copy_2 ++ dktX4_copy_3
def dkwX4_copy_1 : List UInt8 := [182, 0, 82, 172, 42, 180, 0, 29, 27, 46, 155, 0, 11, 42, 27, 182, 0, 96, 153, 0, 51, 42]
abbrev dktX4_copy_1 : List UInt8 := dkwX4_copy_1 ++ dktX4_copy_2
def dkwX4_copy_0 : List UInt8 := [27, 3, 16, 7, 184, 0, 89, 153, 0, 13, 28, 3, 16, 7, 184, 0, 89, 154, 0, 9, 42, 2]
abbrev dktX4_copy_0 : List UInt8 := dkwX4_copy_0 ++ dktX4_copy_1
theorem dksX4_copy_0 : cX4_copy.data.toList.drop 0 = dktX4_copy_0 := by decide +kernel
theorem dksX4_copy_1 : cX4_copy.data.toList.drop 22 = dktX4_copy_1 := dk_seg dksX4_copy_0 22 rfl rfl
theorem dksX4_copy_2 : cX4_copy.data.toList.drop 44 = dktX4_copy_2 := dk_seg dksX4_copy_1 22 rfl rfl
theorem dksX4_copy_3 : cX4_copy.data.toList.drop 68 = dktX4_copy_3 := dk_seg dksX4_copy_2 24 rfl rfl
theorem dksX4_copy_4 : cX4_copy.data.toList.drop 92 = dktX4_copy_4 := dk_seg dksX4_copy_3 24 rfl rfl
theorem dksX4_copy_5 : cX4_copy.data.toList.drop 116 = dktX4_copy_5 := dk_seg dksX4_copy_4 24 rfl rfl
theorem dksX4_copy_6 : cX4_copy.data.toList.drop 139 = dktX4_copy_6 := dk_seg dksX4_copy_5 23 rfl rfl
theorem dksX4_copy_7 : cX4_copy.data.toList.drop 163 = dktX4_copy_7 := dk_seg dksX4_copy_6 24 rfl rfl
theorem dksX4_copy_8 : cX4_copy.data.toList.drop 187 = dktX4_copy_8 := dk_seg dksX4_copy_7 24 rfl rfl
theorem dksX4_copy_9 : cX4_copy.data.toList.drop 209 = dktX4_copy_9 := dk_seg dksX4_copy_8 22 rfl rfl
theorem dksX4_copy_10 : cX4_copy.data.toList.drop 233 = dktX4_copy_10 := dk_seg dksX4_copy_9 24 rfl rfl
theorem dksX4_copy_11 : cX4_copy.data.toList.drop 255 = dktX4_copy_11 := dk_seg dksX4_copy_10 22 rfl rfl
theorem dksX4_copy_12 : cX4_copy.data.toList.drop 277 = dktX4_copy_12 := dk_seg dksX4_copy_11 22 rfl rfl
theorem dX4_copy_0 : decode cX4_copy 0 = .ok (.iload_n 1, 1) := dk_27 (dk_at dksX4_copy_0 0 rfl rfl)
theorem dX4_copy_1 : decode cX4_copy 1 = .ok (.iconst 0, 1) := dk_3 (dk_at dksX4_copy_0 1 rfl rfl)
theorem dX4_copy_2 : decode cX4_copy 2 = .ok (.bipush 7, 2) := dk_16 7 (dk_at dksX4_copy_0 2 rfl rfl)
theorem dX4_copy_4 : decode cX4_copy 4 = .ok (.invokestatic 89, 3) := dk_184 0 89 (dk_at dksX4_copy_0 4 rfl rfl)
theorem dX4_copy_7 : decode cX4_copy 7 = .ok (.ifCond .eq 13, 3) := dk_153 0 13 (dk_at dksX4_copy_0 7 rfl rfl)
theorem dX4_copy_10 : decode cX4_copy 10 = .ok (.iload_n 2, 1) := dk_28 (dk_at dksX4_copy_0 10 rfl rfl)
theorem dX4_copy_11 : decode cX4_copy 11 = .ok (.iconst 0, 1) := dk_3 (dk_at dksX4_copy_0 11 rfl rfl)
theorem dX4_copy_12 : decode cX4_copy 12 = .ok (.bipush 7, 2) := dk_16 7 (dk_at dksX4_copy_0 12 rfl rfl)
theorem dX4_copy_14 : decode cX4_copy 14 = .ok (.invokestatic 89, 3) := dk_184 0 89 (dk_at dksX4_copy_0 14 rfl rfl)
theorem dX4_copy_17 : decode cX4_copy 17 = .ok (.ifCond .ne 9, 3) := dk_154 0 9 (dk_at dksX4_copy_0 17 rfl rfl)
theorem dX4_copy_20 : decode cX4_copy 20 = .ok (.aload_n 0, 1) := dk_42 (dk_at dksX4_copy_0 20 rfl rfl)
theorem dX4_copy_21 : decode cX4_copy 21 = .ok (.iconst (-1), 1) := dk_2 (dk_at dksX4_copy_0 21 rfl rfl)
theorem dX4_copy_22 : decode cX4_copy 22 = .ok (.invokevirtual 82, 3) := dk_182 0 82 (dk_at dksX4_copy_1 0 rfl rfl)
theorem dX4_copy_25 : decode cX4_copy 25 = .ok (.ireturn, 1) := dk_172 (dk_at dksX4_copy_1 3 rfl rfl)
theorem dX4_copy_26 : decode cX4_copy 26 = .ok (.aload_n 0, 1) := dk_42 (dk_at dksX4_copy_1 4 rfl rfl)
theorem dX4_copy_27 : decode cX4_copy 27 = .ok (.getfield 29, 3) := dk_180 0 29 (dk_at dksX4_copy_1 5 rfl rfl)
theorem dX4_copy_30 : decode cX4_copy 30 = .ok (.iload_n 1, 1) := dk_27 (dk_at dksX4_copy_1 8 rfl rfl)
theorem dX4_copy_31 : decode cX4_copy 31 = .ok (.iaload, 1) := dk_46 (dk_at dksX4_copy_1 9 rfl rfl)
theorem dX4_copy_32 : decode cX4_copy 32 = .ok (.ifCond .lt 11, 3) := dk_155 0 11 (dk_at dksX4_copy_1 10 rfl rfl)
theorem dX4_copy_35 : decode cX4_copy 35 = .ok (.aload_n 0, 1) := dk_42 (dk_at dksX4_copy_1 13 rfl rfl)
theorem dX4_copy_36 : decode cX4_copy 36 = .ok (.iload_n 1, 1) := dk_27 (dk_at dksX4_copy_1 14 rfl rfl)
theorem dX4_copy_37 : decode cX4_copy 37 = .ok (.invokevirtual 96, 3) := dk_182 0 96 (dk_at dksX4_copy_1 15 rfl rfl)
theorem dX4_copy_40 : decode cX4_copy 40 = .ok (.ifCond .eq 51, 3) := dk_153 0 51 (dk_at dksX4_copy_1 18 rfl rfl)
theorem dX4_copy_43 : decode cX4_copy 43 = .ok (.aload_n 0, 1) := dk_42 (dk_at dksX4_copy_1 21 rfl rfl)
theorem dX4_copy_44 : decode cX4_copy 44 = .ok (.getfield 29, 3) := dk_180 0 29 (dk_at dksX4_copy_2 0 rfl rfl)
theorem dX4_copy_47 : decode cX4_copy 47 = .ok (.iload_n 2, 1) := dk_28 (dk_at dksX4_copy_2 3 rfl rfl)
theorem dX4_copy_48 : decode cX4_copy 48 = .ok (.iaload, 1) := dk_46 (dk_at dksX4_copy_2 4 rfl rfl)
theorem dX4_copy_49 : decode cX4_copy 49 = .ok (.ifCond .lt 11, 3) := dk_155 0 11 (dk_at dksX4_copy_2 5 rfl rfl)
theorem dX4_copy_52 : decode cX4_copy 52 = .ok (.aload_n 0, 1) := dk_42 (dk_at dksX4_copy_2 8 rfl rfl)
theorem dX4_copy_53 : decode cX4_copy 53 = .ok (.iload_n 2, 1) := dk_28 (dk_at dksX4_copy_2 9 rfl rfl)
theorem dX4_copy_54 : decode cX4_copy 54 = .ok (.invokevirtual 96, 3) := dk_182 0 96 (dk_at dksX4_copy_2 10 rfl rfl)
theorem dX4_copy_57 : decode cX4_copy 57 = .ok (.ifCond .eq 34, 3) := dk_153 0 34 (dk_at dksX4_copy_2 13 rfl rfl)
theorem dX4_copy_60 : decode cX4_copy 60 = .ok (.aload_n 0, 1) := dk_42 (dk_at dksX4_copy_2 16 rfl rfl)
theorem dX4_copy_61 : decode cX4_copy 61 = .ok (.iload_n 1, 1) := dk_27 (dk_at dksX4_copy_2 17 rfl rfl)
theorem dX4_copy_62 : decode cX4_copy 62 = .ok (.invokevirtual 96, 3) := dk_182 0 96 (dk_at dksX4_copy_2 18 rfl rfl)
theorem dX4_copy_65 : decode cX4_copy 65 = .ok (.ifCond .eq 33, 3) := dk_153 0 33 (dk_at dksX4_copy_2 21 rfl rfl)
theorem dX4_copy_68 : decode cX4_copy 68 = .ok (.aload_n 0, 1) := dk_42 (dk_at dksX4_copy_3 0 rfl rfl)
theorem dX4_copy_69 : decode cX4_copy 69 = .ok (.iload_n 2, 1) := dk_28 (dk_at dksX4_copy_3 1 rfl rfl)
theorem dX4_copy_70 : decode cX4_copy 70 = .ok (.invokevirtual 96, 3) := dk_182 0 96 (dk_at dksX4_copy_3 2 rfl rfl)
theorem dX4_copy_73 : decode cX4_copy 73 = .ok (.ifCond .eq 25, 3) := dk_153 0 25 (dk_at dksX4_copy_3 5 rfl rfl)
theorem dX4_copy_76 : decode cX4_copy 76 = .ok (.aload_n 0, 1) := dk_42 (dk_at dksX4_copy_3 8 rfl rfl)
theorem dX4_copy_77 : decode cX4_copy 77 = .ok (.getfield 29, 3) := dk_180 0 29 (dk_at dksX4_copy_3 9 rfl rfl)
theorem dX4_copy_80 : decode cX4_copy 80 = .ok (.iload_n 1, 1) := dk_27 (dk_at dksX4_copy_3 12 rfl rfl)
theorem dX4_copy_81 : decode cX4_copy 81 = .ok (.iaload, 1) := dk_46 (dk_at dksX4_copy_3 13 rfl rfl)
theorem dX4_copy_82 : decode cX4_copy 82 = .ok (.aload_n 0, 1) := dk_42 (dk_at dksX4_copy_3 14 rfl rfl)
theorem dX4_copy_83 : decode cX4_copy 83 = .ok (.getfield 29, 3) := dk_180 0 29 (dk_at dksX4_copy_3 15 rfl rfl)
theorem dX4_copy_86 : decode cX4_copy 86 = .ok (.iload_n 2, 1) := dk_28 (dk_at dksX4_copy_3 18 rfl rfl)
theorem dX4_copy_87 : decode cX4_copy 87 = .ok (.iaload, 1) := dk_46 (dk_at dksX4_copy_3 19 rfl rfl)
theorem dX4_copy_88 : decode cX4_copy 88 = .ok (.if_icmp .eq 10, 3) := dk_159 0 10 (dk_at dksX4_copy_3 20 rfl rfl)
theorem dX4_copy_91 : decode cX4_copy 91 = .ok (.aload_n 0, 1) := dk_42 (dk_at dksX4_copy_3 23 rfl rfl)
theorem dX4_copy_92 : decode cX4_copy 92 = .ok (.bipush (-2), 2) := dk_16 254 (dk_at dksX4_copy_4 0 rfl rfl)
theorem dX4_copy_94 : decode cX4_copy 94 = .ok (.invokevirtual 82, 3) := dk_182 0 82 (dk_at dksX4_copy_4 2 rfl rfl)
theorem dX4_copy_97 : decode cX4_copy 97 = .ok (.ireturn, 1) := dk_172 (dk_at dksX4_copy_4 5 rfl rfl)
theorem dX4_copy_98 : decode cX4_copy 98 = .ok (.aload_n 0, 1) := dk_42 (dk_at dksX4_copy_4 6 rfl rfl)
theorem dX4_copy_99 : decode cX4_copy 99 = .ok (.getfield 29, 3) := dk_180 0 29 (dk_at dksX4_copy_4 7 rfl rfl)
theorem dX4_copy_102 : decode cX4_copy 102 = .ok (.iload_n 1, 1) := dk_27 (dk_at dksX4_copy_4 10 rfl rfl)
theorem dX4_copy_103 : decode cX4_copy 103 = .ok (.iaload, 1) := dk_46 (dk_at dksX4_copy_4 11 rfl rfl)
theorem dX4_copy_104 : decode cX4_copy 104 = .ok (.ifCond .lt 12, 3) := dk_155 0 12 (dk_at dksX4_copy_4 12 rfl rfl)
theorem dX4_copy_107 : decode cX4_copy 107 = .ok (.aload_n 0, 1) := dk_42 (dk_at dksX4_copy_4 15 rfl rfl)
theorem dX4_copy_108 : decode cX4_copy 108 = .ok (.getfield 29, 3) := dk_180 0 29 (dk_at dksX4_copy_4 16 rfl rfl)
theorem dX4_copy_111 : decode cX4_copy 111 = .ok (.iload_n 2, 1) := dk_28 (dk_at dksX4_copy_4 19 rfl rfl)
theorem dX4_copy_112 : decode cX4_copy 112 = .ok (.iaload, 1) := dk_46 (dk_at dksX4_copy_4 20 rfl rfl)
theorem dX4_copy_113 : decode cX4_copy 113 = .ok (.ifCond .ge 10, 3) := dk_156 0 10 (dk_at dksX4_copy_4 21 rfl rfl)
theorem dX4_copy_116 : decode cX4_copy 116 = .ok (.aload_n 0, 1) := dk_42 (dk_at dksX4_copy_5 0 rfl rfl)
theorem dX4_copy_117 : decode cX4_copy 117 = .ok (.bipush (-3), 2) := dk_16 253 (dk_at dksX4_copy_5 1 rfl rfl)
theorem dX4_copy_119 : decode cX4_copy 119 = .ok (.invokevirtual 82, 3) := dk_182 0 82 (dk_at dksX4_copy_5 3 rfl rfl)
theorem dX4_copy_122 : decode cX4_copy 122 = .ok (.ireturn, 1) := dk_172 (dk_at dksX4_copy_5 6 rfl rfl)
theorem dX4_copy_123 : decode cX4_copy 123 = .ok (.iload 5, 2) := dk_21 5 (dk_at dksX4_copy_5 7 rfl rfl)
theorem dX4_copy_125 : decode cX4_copy 125 = .ok (.ifCond .ge 10, 3) := dk_156 0 10 (dk_at dksX4_copy_5 9 rfl rfl)
theorem dX4_copy_128 : decode cX4_copy 128 = .ok (.aload_n 0, 1) := dk_42 (dk_at dksX4_copy_5 12 rfl rfl)
theorem dX4_copy_129 : decode cX4_copy 129 = .ok (.bipush (-4), 2) := dk_16 252 (dk_at dksX4_copy_5 13 rfl rfl)
theorem dX4_copy_131 : decode cX4_copy 131 = .ok (.invokevirtual 82, 3) := dk_182 0 82 (dk_at dksX4_copy_5 15 rfl rfl)
theorem dX4_copy_134 : decode cX4_copy 134 = .ok (.ireturn, 1) := dk_172 (dk_at dksX4_copy_5 18 rfl rfl)
theorem dX4_copy_135 : decode cX4_copy 135 = .ok (.iload_n 3, 1) := dk_29 (dk_at dksX4_copy_5 19 rfl rfl)
theorem dX4_copy_136 : decode cX4_copy 136 = .ok (.ifCond .lt 43, 3) := dk_155 0 43 (dk_at dksX4_copy_5 20 rfl rfl)
theorem dX4_copy_139 : decode cX4_copy 139 = .ok (.iload 4, 2) := dk_21 4 (dk_at dksX4_copy_6 0 rfl rfl)
theorem dX4_copy_141 : decode cX4_copy 141 = .ok (.ifCond .lt 38, 3) := dk_155 0 38 (dk_at dksX4_copy_6 2 rfl rfl)
theorem dX4_copy_144 : decode cX4_copy 144 = .ok (.iload_n 3, 1) := dk_29 (dk_at dksX4_copy_6 5 rfl rfl)
theorem dX4_copy_145 : decode cX4_copy 145 = .ok (.i2l, 1) := dk_133 (dk_at dksX4_copy_6 6 rfl rfl)
theorem dX4_copy_146 : decode cX4_copy 146 = .ok (.iload 5, 2) := dk_21 5 (dk_at dksX4_copy_6 7 rfl rfl)
theorem dX4_copy_148 : decode cX4_copy 148 = .ok (.i2l, 1) := dk_133 (dk_at dksX4_copy_6 9 rfl rfl)
theorem dX4_copy_149 : decode cX4_copy 149 = .ok (.ladd, 1) := dk_97 (dk_at dksX4_copy_6 10 rfl rfl)
theorem dX4_copy_150 : decode cX4_copy 150 = .ok (.aload_n 0, 1) := dk_42 (dk_at dksX4_copy_6 11 rfl rfl)
theorem dX4_copy_151 : decode cX4_copy 151 = .ok (.getfield 32, 3) := dk_180 0 32 (dk_at dksX4_copy_6 12 rfl rfl)
theorem dX4_copy_154 : decode cX4_copy 154 = .ok (.iload_n 1, 1) := dk_27 (dk_at dksX4_copy_6 15 rfl rfl)
theorem dX4_copy_155 : decode cX4_copy 155 = .ok (.iaload, 1) := dk_46 (dk_at dksX4_copy_6 16 rfl rfl)
theorem dX4_copy_156 : decode cX4_copy 156 = .ok (.i2l, 1) := dk_133 (dk_at dksX4_copy_6 17 rfl rfl)
theorem dX4_copy_157 : decode cX4_copy 157 = .ok (.lcmp, 1) := dk_148 (dk_at dksX4_copy_6 18 rfl rfl)
theorem dX4_copy_158 : decode cX4_copy 158 = .ok (.ifCond .gt 21, 3) := dk_157 0 21 (dk_at dksX4_copy_6 19 rfl rfl)
theorem dX4_copy_161 : decode cX4_copy 161 = .ok (.iload 4, 2) := dk_21 4 (dk_at dksX4_copy_6 22 rfl rfl)
theorem dX4_copy_163 : decode cX4_copy 163 = .ok (.i2l, 1) := dk_133 (dk_at dksX4_copy_7 0 rfl rfl)
theorem dX4_copy_164 : decode cX4_copy 164 = .ok (.iload 5, 2) := dk_21 5 (dk_at dksX4_copy_7 1 rfl rfl)
theorem dX4_copy_166 : decode cX4_copy 166 = .ok (.i2l, 1) := dk_133 (dk_at dksX4_copy_7 3 rfl rfl)
theorem dX4_copy_167 : decode cX4_copy 167 = .ok (.ladd, 1) := dk_97 (dk_at dksX4_copy_7 4 rfl rfl)
theorem dX4_copy_168 : decode cX4_copy 168 = .ok (.aload_n 0, 1) := dk_42 (dk_at dksX4_copy_7 5 rfl rfl)
theorem dX4_copy_169 : decode cX4_copy 169 = .ok (.getfield 32, 3) := dk_180 0 32 (dk_at dksX4_copy_7 6 rfl rfl)
theorem dX4_copy_172 : decode cX4_copy 172 = .ok (.iload_n 2, 1) := dk_28 (dk_at dksX4_copy_7 9 rfl rfl)
theorem dX4_copy_173 : decode cX4_copy 173 = .ok (.iaload, 1) := dk_46 (dk_at dksX4_copy_7 10 rfl rfl)
theorem dX4_copy_174 : decode cX4_copy 174 = .ok (.i2l, 1) := dk_133 (dk_at dksX4_copy_7 11 rfl rfl)
theorem dX4_copy_175 : decode cX4_copy 175 = .ok (.lcmp, 1) := dk_148 (dk_at dksX4_copy_7 12 rfl rfl)
theorem dX4_copy_176 : decode cX4_copy 176 = .ok (.ifCond .le 10, 3) := dk_158 0 10 (dk_at dksX4_copy_7 13 rfl rfl)
theorem dX4_copy_179 : decode cX4_copy 179 = .ok (.aload_n 0, 1) := dk_42 (dk_at dksX4_copy_7 16 rfl rfl)
theorem dX4_copy_180 : decode cX4_copy 180 = .ok (.bipush (-5), 2) := dk_16 251 (dk_at dksX4_copy_7 17 rfl rfl)
theorem dX4_copy_182 : decode cX4_copy 182 = .ok (.invokevirtual 82, 3) := dk_182 0 82 (dk_at dksX4_copy_7 19 rfl rfl)
theorem dX4_copy_185 : decode cX4_copy 185 = .ok (.ireturn, 1) := dk_172 (dk_at dksX4_copy_7 22 rfl rfl)
theorem dX4_copy_186 : decode cX4_copy 186 = .ok (.iload_n 1, 1) := dk_27 (dk_at dksX4_copy_7 23 rfl rfl)
theorem dX4_copy_187 : decode cX4_copy 187 = .ok (.iload_n 2, 1) := dk_28 (dk_at dksX4_copy_8 0 rfl rfl)
theorem dX4_copy_188 : decode cX4_copy 188 = .ok (.if_icmp .ne 60, 3) := dk_160 0 60 (dk_at dksX4_copy_8 1 rfl rfl)
theorem dX4_copy_191 : decode cX4_copy 191 = .ok (.iload_n 3, 1) := dk_29 (dk_at dksX4_copy_8 4 rfl rfl)
theorem dX4_copy_192 : decode cX4_copy 192 = .ok (.iload 4, 2) := dk_21 4 (dk_at dksX4_copy_8 5 rfl rfl)
theorem dX4_copy_194 : decode cX4_copy 194 = .ok (.if_icmp .ge 54, 3) := dk_162 0 54 (dk_at dksX4_copy_8 7 rfl rfl)
theorem dX4_copy_197 : decode cX4_copy 197 = .ok (.iload 5, 2) := dk_21 5 (dk_at dksX4_copy_8 10 rfl rfl)
theorem dX4_copy_199 : decode cX4_copy 199 = .ok (.iconst 1, 1) := dk_4 (dk_at dksX4_copy_8 12 rfl rfl)
theorem dX4_copy_200 : decode cX4_copy 200 = .ok (.isub, 1) := dk_100 (dk_at dksX4_copy_8 13 rfl rfl)
theorem dX4_copy_201 : decode cX4_copy 201 = .ok (.istore 6, 2) := dk_54 6 (dk_at dksX4_copy_8 14 rfl rfl)
theorem dX4_copy_203 : decode cX4_copy 203 = .ok (.iload 6, 2) := dk_21 6 (dk_at dksX4_copy_8 16 rfl rfl)
theorem dX4_copy_205 : decode cX4_copy 205 = .ok (.ifCond .lt 40, 3) := dk_155 0 40 (dk_at dksX4_copy_8 18 rfl rfl)
theorem dX4_copy_208 : decode cX4_copy 208 = .ok (.aload_n 0, 1) := dk_42 (dk_at dksX4_copy_8 21 rfl rfl)
theorem dX4_copy_209 : decode cX4_copy 209 = .ok (.getfield 35, 3) := dk_180 0 35 (dk_at dksX4_copy_9 0 rfl rfl)
theorem dX4_copy_212 : decode cX4_copy 212 = .ok (.sipush 160, 3) := dk_17 0 160 (dk_at dksX4_copy_9 3 rfl rfl)
theorem dX4_copy_215 : decode cX4_copy 215 = .ok (.iload_n 2, 1) := dk_28 (dk_at dksX4_copy_9 6 rfl rfl)
theorem dX4_copy_216 : decode cX4_copy 216 = .ok (.imul, 1) := dk_104 (dk_at dksX4_copy_9 7 rfl rfl)
theorem dX4_copy_217 : decode cX4_copy 217 = .ok (.iload 4, 2) := dk_21 4 (dk_at dksX4_copy_9 8 rfl rfl)
theorem dX4_copy_219 : decode cX4_copy 219 = .ok (.iadd, 1) := dk_96 (dk_at dksX4_copy_9 10 rfl rfl)
theorem dX4_copy_220 : decode cX4_copy 220 = .ok (.iload 6, 2) := dk_21 6 (dk_at dksX4_copy_9 11 rfl rfl)
theorem dX4_copy_222 : decode cX4_copy 222 = .ok (.iadd, 1) := dk_96 (dk_at dksX4_copy_9 13 rfl rfl)
theorem dX4_copy_223 : decode cX4_copy 223 = .ok (.aload_n 0, 1) := dk_42 (dk_at dksX4_copy_9 14 rfl rfl)
theorem dX4_copy_224 : decode cX4_copy 224 = .ok (.getfield 35, 3) := dk_180 0 35 (dk_at dksX4_copy_9 15 rfl rfl)
theorem dX4_copy_227 : decode cX4_copy 227 = .ok (.sipush 160, 3) := dk_17 0 160 (dk_at dksX4_copy_9 18 rfl rfl)
theorem dX4_copy_230 : decode cX4_copy 230 = .ok (.iload_n 1, 1) := dk_27 (dk_at dksX4_copy_9 21 rfl rfl)
theorem dX4_copy_231 : decode cX4_copy 231 = .ok (.imul, 1) := dk_104 (dk_at dksX4_copy_9 22 rfl rfl)
theorem dX4_copy_232 : decode cX4_copy 232 = .ok (.iload_n 3, 1) := dk_29 (dk_at dksX4_copy_9 23 rfl rfl)
theorem dX4_copy_233 : decode cX4_copy 233 = .ok (.iadd, 1) := dk_96 (dk_at dksX4_copy_10 0 rfl rfl)
theorem dX4_copy_234 : decode cX4_copy 234 = .ok (.iload 6, 2) := dk_21 6 (dk_at dksX4_copy_10 1 rfl rfl)
theorem dX4_copy_236 : decode cX4_copy 236 = .ok (.iadd, 1) := dk_96 (dk_at dksX4_copy_10 3 rfl rfl)
theorem dX4_copy_237 : decode cX4_copy 237 = .ok (.laload, 1) := dk_47 (dk_at dksX4_copy_10 4 rfl rfl)
theorem dX4_copy_238 : decode cX4_copy 238 = .ok (.lastore, 1) := dk_80 (dk_at dksX4_copy_10 5 rfl rfl)
theorem dX4_copy_239 : decode cX4_copy 239 = .ok (.iinc 6 (-1), 3) := dk_132 6 255 (dk_at dksX4_copy_10 6 rfl rfl)
theorem dX4_copy_242 : decode cX4_copy 242 = .ok (.goto (-39), 3) := dk_167 255 217 (dk_at dksX4_copy_10 9 rfl rfl)
theorem dX4_copy_245 : decode cX4_copy 245 = .ok (.goto 50, 3) := dk_167 0 50 (dk_at dksX4_copy_10 12 rfl rfl)
theorem dX4_copy_248 : decode cX4_copy 248 = .ok (.iconst 0, 1) := dk_3 (dk_at dksX4_copy_10 15 rfl rfl)
theorem dX4_copy_249 : decode cX4_copy 249 = .ok (.istore 6, 2) := dk_54 6 (dk_at dksX4_copy_10 16 rfl rfl)
theorem dX4_copy_251 : decode cX4_copy 251 = .ok (.iload 6, 2) := dk_21 6 (dk_at dksX4_copy_10 18 rfl rfl)
theorem dX4_copy_253 : decode cX4_copy 253 = .ok (.iload 5, 2) := dk_21 5 (dk_at dksX4_copy_10 20 rfl rfl)
theorem dX4_copy_255 : decode cX4_copy 255 = .ok (.if_icmp .ge 40, 3) := dk_162 0 40 (dk_at dksX4_copy_11 0 rfl rfl)
theorem dX4_copy_258 : decode cX4_copy 258 = .ok (.aload_n 0, 1) := dk_42 (dk_at dksX4_copy_11 3 rfl rfl)
theorem dX4_copy_259 : decode cX4_copy 259 = .ok (.getfield 35, 3) := dk_180 0 35 (dk_at dksX4_copy_11 4 rfl rfl)
theorem dX4_copy_262 : decode cX4_copy 262 = .ok (.sipush 160, 3) := dk_17 0 160 (dk_at dksX4_copy_11 7 rfl rfl)
theorem dX4_copy_265 : decode cX4_copy 265 = .ok (.iload_n 2, 1) := dk_28 (dk_at dksX4_copy_11 10 rfl rfl)
theorem dX4_copy_266 : decode cX4_copy 266 = .ok (.imul, 1) := dk_104 (dk_at dksX4_copy_11 11 rfl rfl)
theorem dX4_copy_267 : decode cX4_copy 267 = .ok (.iload 4, 2) := dk_21 4 (dk_at dksX4_copy_11 12 rfl rfl)
theorem dX4_copy_269 : decode cX4_copy 269 = .ok (.iadd, 1) := dk_96 (dk_at dksX4_copy_11 14 rfl rfl)
theorem dX4_copy_270 : decode cX4_copy 270 = .ok (.iload 6, 2) := dk_21 6 (dk_at dksX4_copy_11 15 rfl rfl)
theorem dX4_copy_272 : decode cX4_copy 272 = .ok (.iadd, 1) := dk_96 (dk_at dksX4_copy_11 17 rfl rfl)
theorem dX4_copy_273 : decode cX4_copy 273 = .ok (.aload_n 0, 1) := dk_42 (dk_at dksX4_copy_11 18 rfl rfl)
theorem dX4_copy_274 : decode cX4_copy 274 = .ok (.getfield 35, 3) := dk_180 0 35 (dk_at dksX4_copy_11 19 rfl rfl)
theorem dX4_copy_277 : decode cX4_copy 277 = .ok (.sipush 160, 3) := dk_17 0 160 (dk_at dksX4_copy_12 0 rfl rfl)
theorem dX4_copy_280 : decode cX4_copy 280 = .ok (.iload_n 1, 1) := dk_27 (dk_at dksX4_copy_12 3 rfl rfl)
theorem dX4_copy_281 : decode cX4_copy 281 = .ok (.imul, 1) := dk_104 (dk_at dksX4_copy_12 4 rfl rfl)
theorem dX4_copy_282 : decode cX4_copy 282 = .ok (.iload_n 3, 1) := dk_29 (dk_at dksX4_copy_12 5 rfl rfl)
theorem dX4_copy_283 : decode cX4_copy 283 = .ok (.iadd, 1) := dk_96 (dk_at dksX4_copy_12 6 rfl rfl)
theorem dX4_copy_284 : decode cX4_copy 284 = .ok (.iload 6, 2) := dk_21 6 (dk_at dksX4_copy_12 7 rfl rfl)
theorem dX4_copy_286 : decode cX4_copy 286 = .ok (.iadd, 1) := dk_96 (dk_at dksX4_copy_12 9 rfl rfl)
theorem dX4_copy_287 : decode cX4_copy 287 = .ok (.laload, 1) := dk_47 (dk_at dksX4_copy_12 10 rfl rfl)
theorem dX4_copy_288 : decode cX4_copy 288 = .ok (.lastore, 1) := dk_80 (dk_at dksX4_copy_12 11 rfl rfl)
theorem dX4_copy_289 : decode cX4_copy 289 = .ok (.iinc 6 1, 3) := dk_132 6 1 (dk_at dksX4_copy_12 12 rfl rfl)
theorem dX4_copy_292 : decode cX4_copy 292 = .ok (.goto (-41), 3) := dk_167 255 215 (dk_at dksX4_copy_12 15 rfl rfl)
theorem dX4_copy_295 : decode cX4_copy 295 = .ok (.iconst 1, 1) := dk_4 (dk_at dksX4_copy_12 18 rfl rfl)
theorem dX4_copy_296 : decode cX4_copy 296 = .ok (.ireturn, 1) := dk_172 (dk_at dksX4_copy_12 19 rfl rfl)
abbrev cX4_element : ByteArray := prog_28_method_13_code
def yX4_element : MethodName := ⟨RX4, "element", "(II)J"⟩
def dkwX4_element_2 : List UInt8 := [167, 0, 4, 9, 173]
abbrev dktX4_element_2 : List UInt8 := dkwX4_element_2 ++ []
def dkwX4_element_1 : List UInt8 := [27, 46, 4, 100, 184, 0, 89, 153, 0, 18, 42, 180, 0, 35, 17, 0, 160, 27, 104, 28, 96, 47]
abbrev dktX4_element_1 : List UInt8 := dkwX4_element_1 ++ dktX4_element_2
def dkwX4_element_0 : List UInt8 := [27, 3, 16, 7, 184, 0, 89, 153, 0, 42, 42, 27, 182, 0, 96, 153, 0, 34, 28, 3, 42, 180, 0, 32]
abbrev dktX4_element_0 : List UInt8 := dkwX4_element_0 ++ dktX4_element_1
theorem dksX4_element_0 : cX4_element.data.toList.drop 0 = dktX4_element_0 := by decide +kernel
theorem dksX4_element_1 : cX4_element.data.toList.drop 24 = dktX4_element_1 := dk_seg dksX4_element_0 24 rfl rfl
theorem dksX4_element_2 : cX4_element.data.toList.drop 46 = dktX4_element_2 := dk_seg dksX4_element_1 22 rfl rfl
theorem dX4_element_0 : decode cX4_element 0 = .ok (.iload_n 1, 1) := dk_27 (dk_at dksX4_element_0 0 rfl rfl)
theorem dX4_element_1 : decode cX4_element 1 = .ok (.iconst 0, 1) := dk_3 (dk_at dksX4_element_0 1 rfl rfl)
theorem dX4_element_2 : decode cX4_element 2 = .ok (.bipush 7, 2) := dk_16 7 (dk_at dksX4_element_0 2 rfl rfl)
theorem dX4_element_4 : decode cX4_element 4 = .ok (.invokestatic 89, 3) := dk_184 0 89 (dk_at dksX4_element_0 4 rfl rfl)
theorem dX4_element_7 : decode cX4_element 7 = .ok (.ifCond .eq 42, 3) := dk_153 0 42 (dk_at dksX4_element_0 7 rfl rfl)
theorem dX4_element_10 : decode cX4_element 10 = .ok (.aload_n 0, 1) := dk_42 (dk_at dksX4_element_0 10 rfl rfl)
theorem dX4_element_11 : decode cX4_element 11 = .ok (.iload_n 1, 1) := dk_27 (dk_at dksX4_element_0 11 rfl rfl)
theorem dX4_element_12 : decode cX4_element 12 = .ok (.invokevirtual 96, 3) := dk_182 0 96 (dk_at dksX4_element_0 12 rfl rfl)
theorem dX4_element_15 : decode cX4_element 15 = .ok (.ifCond .eq 34, 3) := dk_153 0 34 (dk_at dksX4_element_0 15 rfl rfl)
theorem dX4_element_18 : decode cX4_element 18 = .ok (.iload_n 2, 1) := dk_28 (dk_at dksX4_element_0 18 rfl rfl)
theorem dX4_element_19 : decode cX4_element 19 = .ok (.iconst 0, 1) := dk_3 (dk_at dksX4_element_0 19 rfl rfl)
theorem dX4_element_20 : decode cX4_element 20 = .ok (.aload_n 0, 1) := dk_42 (dk_at dksX4_element_0 20 rfl rfl)
theorem dX4_element_21 : decode cX4_element 21 = .ok (.getfield 32, 3) := dk_180 0 32 (dk_at dksX4_element_0 21 rfl rfl)
theorem dX4_element_24 : decode cX4_element 24 = .ok (.iload_n 1, 1) := dk_27 (dk_at dksX4_element_1 0 rfl rfl)
theorem dX4_element_25 : decode cX4_element 25 = .ok (.iaload, 1) := dk_46 (dk_at dksX4_element_1 1 rfl rfl)
theorem dX4_element_26 : decode cX4_element 26 = .ok (.iconst 1, 1) := dk_4 (dk_at dksX4_element_1 2 rfl rfl)
theorem dX4_element_27 : decode cX4_element 27 = .ok (.isub, 1) := dk_100 (dk_at dksX4_element_1 3 rfl rfl)
theorem dX4_element_28 : decode cX4_element 28 = .ok (.invokestatic 89, 3) := dk_184 0 89 (dk_at dksX4_element_1 4 rfl rfl)
theorem dX4_element_31 : decode cX4_element 31 = .ok (.ifCond .eq 18, 3) := dk_153 0 18 (dk_at dksX4_element_1 7 rfl rfl)
theorem dX4_element_34 : decode cX4_element 34 = .ok (.aload_n 0, 1) := dk_42 (dk_at dksX4_element_1 10 rfl rfl)
theorem dX4_element_35 : decode cX4_element 35 = .ok (.getfield 35, 3) := dk_180 0 35 (dk_at dksX4_element_1 11 rfl rfl)
theorem dX4_element_38 : decode cX4_element 38 = .ok (.sipush 160, 3) := dk_17 0 160 (dk_at dksX4_element_1 14 rfl rfl)
theorem dX4_element_41 : decode cX4_element 41 = .ok (.iload_n 1, 1) := dk_27 (dk_at dksX4_element_1 17 rfl rfl)
theorem dX4_element_42 : decode cX4_element 42 = .ok (.imul, 1) := dk_104 (dk_at dksX4_element_1 18 rfl rfl)
theorem dX4_element_43 : decode cX4_element 43 = .ok (.iload_n 2, 1) := dk_28 (dk_at dksX4_element_1 19 rfl rfl)
theorem dX4_element_44 : decode cX4_element 44 = .ok (.iadd, 1) := dk_96 (dk_at dksX4_element_1 20 rfl rfl)
theorem dX4_element_45 : decode cX4_element 45 = .ok (.laload, 1) := dk_47 (dk_at dksX4_element_1 21 rfl rfl)
theorem dX4_element_46 : decode cX4_element 46 = .ok (.goto 4, 3) := dk_167 0 4 (dk_at dksX4_element_2 0 rfl rfl)
theorem dX4_element_49 : decode cX4_element 49 = .ok (.lconst 0, 1) := dk_9 (dk_at dksX4_element_2 3 rfl rfl)
theorem dX4_element_50 : decode cX4_element 50 = .ok (.lreturn, 1) := dk_173 (dk_at dksX4_element_2 4 rfl rfl)
abbrev cX4_show : ByteArray := prog_28_method_14_code
def yX4_show : MethodName := ⟨RX4, "show", "(II)I"⟩
def dkwX4_show_1 : List UInt8 := [2, 182, 0, 82, 172, 42, 180, 0, 29, 27, 28, 79, 28, 2, 160, 0, 7, 3, 167, 0, 4, 4, 172]
abbrev dktX4_show_1 : List UInt8 := dkwX4_show_1 ++ []
def dkwX4_show_0 : List UInt8 := [27, 3, 16, 7, 184, 0, 89, 153, 0, 16, 28, 2, 159, 0, 17, 42, 28, 182, 0, 103, 154, 0, 9, 42]
abbrev dktX4_show_0 : List UInt8 := dkwX4_show_0 ++ dktX4_show_1
theorem dksX4_show_0 : cX4_show.data.toList.drop 0 = dktX4_show_0 := by decide +kernel
theorem dksX4_show_1 : cX4_show.data.toList.drop 24 = dktX4_show_1 := dk_seg dksX4_show_0 24 rfl rfl
theorem dX4_show_0 : decode cX4_show 0 = .ok (.iload_n 1, 1) := dk_27 (dk_at dksX4_show_0 0 rfl rfl)
theorem dX4_show_1 : decode cX4_show 1 = .ok (.iconst 0, 1) := dk_3 (dk_at dksX4_show_0 1 rfl rfl)
theorem dX4_show_2 : decode cX4_show 2 = .ok (.bipush 7, 2) := dk_16 7 (dk_at dksX4_show_0 2 rfl rfl)
theorem dX4_show_4 : decode cX4_show 4 = .ok (.invokestatic 89, 3) := dk_184 0 89 (dk_at dksX4_show_0 4 rfl rfl)
theorem dX4_show_7 : decode cX4_show 7 = .ok (.ifCond .eq 16, 3) := dk_153 0 16 (dk_at dksX4_show_0 7 rfl rfl)
theorem dX4_show_10 : decode cX4_show 10 = .ok (.iload_n 2, 1) := dk_28 (dk_at dksX4_show_0 10 rfl rfl)
theorem dX4_show_11 : decode cX4_show 11 = .ok (.iconst (-1), 1) := dk_2 (dk_at dksX4_show_0 11 rfl rfl)
theorem dX4_show_12 : decode cX4_show 12 = .ok (.if_icmp .eq 17, 3) := dk_159 0 17 (dk_at dksX4_show_0 12 rfl rfl)
theorem dX4_show_15 : decode cX4_show 15 = .ok (.aload_n 0, 1) := dk_42 (dk_at dksX4_show_0 15 rfl rfl)
theorem dX4_show_16 : decode cX4_show 16 = .ok (.iload_n 2, 1) := dk_28 (dk_at dksX4_show_0 16 rfl rfl)
theorem dX4_show_17 : decode cX4_show 17 = .ok (.invokevirtual 103, 3) := dk_182 0 103 (dk_at dksX4_show_0 17 rfl rfl)
theorem dX4_show_20 : decode cX4_show 20 = .ok (.ifCond .ne 9, 3) := dk_154 0 9 (dk_at dksX4_show_0 20 rfl rfl)
theorem dX4_show_23 : decode cX4_show 23 = .ok (.aload_n 0, 1) := dk_42 (dk_at dksX4_show_0 23 rfl rfl)
theorem dX4_show_24 : decode cX4_show 24 = .ok (.iconst (-1), 1) := dk_2 (dk_at dksX4_show_1 0 rfl rfl)
theorem dX4_show_25 : decode cX4_show 25 = .ok (.invokevirtual 82, 3) := dk_182 0 82 (dk_at dksX4_show_1 1 rfl rfl)
theorem dX4_show_28 : decode cX4_show 28 = .ok (.ireturn, 1) := dk_172 (dk_at dksX4_show_1 4 rfl rfl)
theorem dX4_show_29 : decode cX4_show 29 = .ok (.aload_n 0, 1) := dk_42 (dk_at dksX4_show_1 5 rfl rfl)
theorem dX4_show_30 : decode cX4_show 30 = .ok (.getfield 29, 3) := dk_180 0 29 (dk_at dksX4_show_1 6 rfl rfl)
theorem dX4_show_33 : decode cX4_show 33 = .ok (.iload_n 1, 1) := dk_27 (dk_at dksX4_show_1 9 rfl rfl)
theorem dX4_show_34 : decode cX4_show 34 = .ok (.iload_n 2, 1) := dk_28 (dk_at dksX4_show_1 10 rfl rfl)
theorem dX4_show_35 : decode cX4_show 35 = .ok (.iastore, 1) := dk_79 (dk_at dksX4_show_1 11 rfl rfl)
theorem dX4_show_36 : decode cX4_show 36 = .ok (.iload_n 2, 1) := dk_28 (dk_at dksX4_show_1 12 rfl rfl)
theorem dX4_show_37 : decode cX4_show 37 = .ok (.iconst (-1), 1) := dk_2 (dk_at dksX4_show_1 13 rfl rfl)
theorem dX4_show_38 : decode cX4_show 38 = .ok (.if_icmp .ne 7, 3) := dk_160 0 7 (dk_at dksX4_show_1 14 rfl rfl)
theorem dX4_show_41 : decode cX4_show 41 = .ok (.iconst 0, 1) := dk_3 (dk_at dksX4_show_1 17 rfl rfl)
theorem dX4_show_42 : decode cX4_show 42 = .ok (.goto 4, 3) := dk_167 0 4 (dk_at dksX4_show_1 18 rfl rfl)
theorem dX4_show_45 : decode cX4_show 45 = .ok (.iconst 1, 1) := dk_4 (dk_at dksX4_show_1 21 rfl rfl)
theorem dX4_show_46 : decode cX4_show 46 = .ok (.ireturn, 1) := dk_172 (dk_at dksX4_show_1 22 rfl rfl)
abbrev cX4_isRemark : ByteArray := prog_28_method_6_code
def yX4_isRemark : MethodName := ⟨RX4, "isRemark", "(I)Z"⟩
def dkwX4_isRemark_0 : List UInt8 := [27, 3, 42, 180, 0, 93, 4, 100, 184, 0, 89, 172]
abbrev dktX4_isRemark_0 : List UInt8 := dkwX4_isRemark_0 ++ []
theorem dksX4_isRemark_0 : cX4_isRemark.data.toList.drop 0 = dktX4_isRemark_0 := by decide +kernel
theorem dX4_isRemark_0 : decode cX4_isRemark 0 = .ok (.iload_n 1, 1) := dk_27 (dk_at dksX4_isRemark_0 0 rfl rfl)
theorem dX4_isRemark_1 : decode cX4_isRemark 1 = .ok (.iconst 0, 1) := dk_3 (dk_at dksX4_isRemark_0 1 rfl rfl)
theorem dX4_isRemark_2 : decode cX4_isRemark 2 = .ok (.aload_n 0, 1) := dk_42 (dk_at dksX4_isRemark_0 2 rfl rfl)
theorem dX4_isRemark_3 : decode cX4_isRemark 3 = .ok (.getfield 93, 3) := dk_180 0 93 (dk_at dksX4_isRemark_0 3 rfl rfl)
theorem dX4_isRemark_6 : decode cX4_isRemark 6 = .ok (.iconst 1, 1) := dk_4 (dk_at dksX4_isRemark_0 6 rfl rfl)
theorem dX4_isRemark_7 : decode cX4_isRemark 7 = .ok (.isub, 1) := dk_100 (dk_at dksX4_isRemark_0 7 rfl rfl)
theorem dX4_isRemark_8 : decode cX4_isRemark 8 = .ok (.invokestatic 89, 3) := dk_184 0 89 (dk_at dksX4_isRemark_0 8 rfl rfl)
theorem dX4_isRemark_11 : decode cX4_isRemark 11 = .ok (.ireturn, 1) := dk_172 (dk_at dksX4_isRemark_0 11 rfl rfl)
abbrev cX4_holds : ByteArray := prog_28_method_15_code
def yX4_holds : MethodName := ⟨RX4, "holds", "(I)I"⟩
def dkwX4_holds_0 : List UInt8 := [27, 3, 16, 7, 184, 0, 89, 153, 0, 12, 42, 180, 0, 29, 27, 46, 167, 0, 4, 2, 172]
abbrev dktX4_holds_0 : List UInt8 := dkwX4_holds_0 ++ []
theorem dksX4_holds_0 : cX4_holds.data.toList.drop 0 = dktX4_holds_0 := by decide +kernel
theorem dX4_holds_0 : decode cX4_holds 0 = .ok (.iload_n 1, 1) := dk_27 (dk_at dksX4_holds_0 0 rfl rfl)
theorem dX4_holds_1 : decode cX4_holds 1 = .ok (.iconst 0, 1) := dk_3 (dk_at dksX4_holds_0 1 rfl rfl)
theorem dX4_holds_2 : decode cX4_holds 2 = .ok (.bipush 7, 2) := dk_16 7 (dk_at dksX4_holds_0 2 rfl rfl)
theorem dX4_holds_4 : decode cX4_holds 4 = .ok (.invokestatic 89, 3) := dk_184 0 89 (dk_at dksX4_holds_0 4 rfl rfl)
theorem dX4_holds_7 : decode cX4_holds 7 = .ok (.ifCond .eq 12, 3) := dk_153 0 12 (dk_at dksX4_holds_0 7 rfl rfl)
theorem dX4_holds_10 : decode cX4_holds 10 = .ok (.aload_n 0, 1) := dk_42 (dk_at dksX4_holds_0 10 rfl rfl)
theorem dX4_holds_11 : decode cX4_holds 11 = .ok (.getfield 29, 3) := dk_180 0 29 (dk_at dksX4_holds_0 11 rfl rfl)
theorem dX4_holds_14 : decode cX4_holds 14 = .ok (.iload_n 1, 1) := dk_27 (dk_at dksX4_holds_0 14 rfl rfl)
theorem dX4_holds_15 : decode cX4_holds 15 = .ok (.iaload, 1) := dk_46 (dk_at dksX4_holds_0 15 rfl rfl)
theorem dX4_holds_16 : decode cX4_holds 16 = .ok (.goto 4, 3) := dk_167 0 4 (dk_at dksX4_holds_0 16 rfl rfl)
theorem dX4_holds_19 : decode cX4_holds 19 = .ok (.iconst (-1), 1) := dk_2 (dk_at dksX4_holds_0 19 rfl rfl)
theorem dX4_holds_20 : decode cX4_holds 20 = .ok (.ireturn, 1) := dk_172 (dk_at dksX4_holds_0 20 rfl rfl)
abbrev cX4_says : ByteArray := prog_28_method_19_code
def yX4_says : MethodName := ⟨RX4, "says", "(II)I"⟩
def dkwX4_says_6 : List UInt8 := [182, 0, 109, 172, 42, 7, 29, 182, 0, 109, 42, 6, 29, 182, 0, 109, 100, 4, 96, 172]
abbrev dktX4_says_6 : List UInt8 := dkwX4_says_6 ++ []
def dkwX4_says_5 : List UInt8 := [42, 6, 29, 182, 0, 109, 172, 42, 4, 29, 182, 0, 109, 172, 42, 7, 29, 182, 0, 109, 172, 42, 5, 29]
abbrev dktX4_says_5 : List UInt8 := dkwX4_says_5 ++ dktX4_says_6
def dkwX4_says_4 : List UInt8 := [170, 0, 0, 0, 0, 0, 71, 0, 0, 0, 0, 0, 0, 0, 6, 0, 0, 0, 43, 0, 0, 0, 50, 0, 0, 0, 71, 0, 0, 0, 50, 0, 0, 0, 57, 0, 0, 0, 71, 0, 0, 0, 64]
abbrev dktX4_says_4 : List UInt8 := dkwX4_says_4 ++ dktX4_says_5
def dkwX4_says_3 : List UInt8 := [16, 253, 182, 0, 82, 172, 28]
abbrev dktX4_says_3 : List UInt8 := dkwX4_says_3 ++ dktX4_says_4
def dkwX4_says_2 : List UInt8 := [3, 29, 182, 0, 109, 28, 184, 0, 113, 154, 0, 10, 42, 16, 254, 182, 0, 82, 172, 29, 156, 0, 10, 42]
abbrev dktX4_says_2 : List UInt8 := dkwX4_says_2 ++ dktX4_says_3
def dkwX4_says_1 : List UInt8 := [182, 0, 82, 172, 42, 180, 0, 29, 27, 46, 62, 29, 155, 0, 31, 42, 27, 182, 0, 96, 154, 0, 16, 42]
abbrev dktX4_says_1 : List UInt8 := dkwX4_says_1 ++ dktX4_says_2
def dkwX4_says_0 : List UInt8 := [27, 3, 16, 7, 184, 0, 89, 153, 0, 13, 28, 3, 16, 6, 184, 0, 89, 154, 0, 9, 42, 2]
abbrev dktX4_says_0 : List UInt8 := dkwX4_says_0 ++ dktX4_says_1
theorem dksX4_says_0 : cX4_says.data.toList.drop 0 = dktX4_says_0 := by decide +kernel
theorem dksX4_says_1 : cX4_says.data.toList.drop 22 = dktX4_says_1 := dk_seg dksX4_says_0 22 rfl rfl
theorem dksX4_says_2 : cX4_says.data.toList.drop 46 = dktX4_says_2 := dk_seg dksX4_says_1 24 rfl rfl
theorem dksX4_says_3 : cX4_says.data.toList.drop 70 = dktX4_says_3 := dk_seg dksX4_says_2 24 rfl rfl
theorem dksX4_says_4 : cX4_says.data.toList.drop 77 = dktX4_says_4 := dk_seg dksX4_says_3 7 rfl rfl
theorem dksX4_says_5 : cX4_says.data.toList.drop 120 = dktX4_says_5 := dk_seg dksX4_says_4 43 rfl rfl
theorem dksX4_says_6 : cX4_says.data.toList.drop 144 = dktX4_says_6 := dk_seg dksX4_says_5 24 rfl rfl
theorem dX4_says_0 : decode cX4_says 0 = .ok (.iload_n 1, 1) := dk_27 (dk_at dksX4_says_0 0 rfl rfl)
theorem dX4_says_1 : decode cX4_says 1 = .ok (.iconst 0, 1) := dk_3 (dk_at dksX4_says_0 1 rfl rfl)
theorem dX4_says_2 : decode cX4_says 2 = .ok (.bipush 7, 2) := dk_16 7 (dk_at dksX4_says_0 2 rfl rfl)
theorem dX4_says_4 : decode cX4_says 4 = .ok (.invokestatic 89, 3) := dk_184 0 89 (dk_at dksX4_says_0 4 rfl rfl)
theorem dX4_says_7 : decode cX4_says 7 = .ok (.ifCond .eq 13, 3) := dk_153 0 13 (dk_at dksX4_says_0 7 rfl rfl)
theorem dX4_says_10 : decode cX4_says 10 = .ok (.iload_n 2, 1) := dk_28 (dk_at dksX4_says_0 10 rfl rfl)
theorem dX4_says_11 : decode cX4_says 11 = .ok (.iconst 0, 1) := dk_3 (dk_at dksX4_says_0 11 rfl rfl)
theorem dX4_says_12 : decode cX4_says 12 = .ok (.bipush 6, 2) := dk_16 6 (dk_at dksX4_says_0 12 rfl rfl)
theorem dX4_says_14 : decode cX4_says 14 = .ok (.invokestatic 89, 3) := dk_184 0 89 (dk_at dksX4_says_0 14 rfl rfl)
theorem dX4_says_17 : decode cX4_says 17 = .ok (.ifCond .ne 9, 3) := dk_154 0 9 (dk_at dksX4_says_0 17 rfl rfl)
theorem dX4_says_20 : decode cX4_says 20 = .ok (.aload_n 0, 1) := dk_42 (dk_at dksX4_says_0 20 rfl rfl)
theorem dX4_says_21 : decode cX4_says 21 = .ok (.iconst (-1), 1) := dk_2 (dk_at dksX4_says_0 21 rfl rfl)
theorem dX4_says_22 : decode cX4_says 22 = .ok (.invokevirtual 82, 3) := dk_182 0 82 (dk_at dksX4_says_1 0 rfl rfl)
theorem dX4_says_25 : decode cX4_says 25 = .ok (.ireturn, 1) := dk_172 (dk_at dksX4_says_1 3 rfl rfl)
theorem dX4_says_26 : decode cX4_says 26 = .ok (.aload_n 0, 1) := dk_42 (dk_at dksX4_says_1 4 rfl rfl)
theorem dX4_says_27 : decode cX4_says 27 = .ok (.getfield 29, 3) := dk_180 0 29 (dk_at dksX4_says_1 5 rfl rfl)
theorem dX4_says_30 : decode cX4_says 30 = .ok (.iload_n 1, 1) := dk_27 (dk_at dksX4_says_1 8 rfl rfl)
theorem dX4_says_31 : decode cX4_says 31 = .ok (.iaload, 1) := dk_46 (dk_at dksX4_says_1 9 rfl rfl)
theorem dX4_says_32 : decode cX4_says 32 = .ok (.istore_n 3, 1) := dk_62 (dk_at dksX4_says_1 10 rfl rfl)
theorem dX4_says_33 : decode cX4_says 33 = .ok (.iload_n 3, 1) := dk_29 (dk_at dksX4_says_1 11 rfl rfl)
theorem dX4_says_34 : decode cX4_says 34 = .ok (.ifCond .lt 31, 3) := dk_155 0 31 (dk_at dksX4_says_1 12 rfl rfl)
theorem dX4_says_37 : decode cX4_says 37 = .ok (.aload_n 0, 1) := dk_42 (dk_at dksX4_says_1 15 rfl rfl)
theorem dX4_says_38 : decode cX4_says 38 = .ok (.iload_n 1, 1) := dk_27 (dk_at dksX4_says_1 16 rfl rfl)
theorem dX4_says_39 : decode cX4_says 39 = .ok (.invokevirtual 96, 3) := dk_182 0 96 (dk_at dksX4_says_1 17 rfl rfl)
theorem dX4_says_42 : decode cX4_says 42 = .ok (.ifCond .ne 16, 3) := dk_154 0 16 (dk_at dksX4_says_1 20 rfl rfl)
theorem dX4_says_45 : decode cX4_says 45 = .ok (.aload_n 0, 1) := dk_42 (dk_at dksX4_says_1 23 rfl rfl)
theorem dX4_says_46 : decode cX4_says 46 = .ok (.iconst 0, 1) := dk_3 (dk_at dksX4_says_2 0 rfl rfl)
theorem dX4_says_47 : decode cX4_says 47 = .ok (.iload_n 3, 1) := dk_29 (dk_at dksX4_says_2 1 rfl rfl)
theorem dX4_says_48 : decode cX4_says 48 = .ok (.invokevirtual 109, 3) := dk_182 0 109 (dk_at dksX4_says_2 2 rfl rfl)
theorem dX4_says_51 : decode cX4_says 51 = .ok (.iload_n 2, 1) := dk_28 (dk_at dksX4_says_2 5 rfl rfl)
theorem dX4_says_52 : decode cX4_says 52 = .ok (.invokestatic 113, 3) := dk_184 0 113 (dk_at dksX4_says_2 6 rfl rfl)
theorem dX4_says_55 : decode cX4_says 55 = .ok (.ifCond .ne 10, 3) := dk_154 0 10 (dk_at dksX4_says_2 9 rfl rfl)
theorem dX4_says_58 : decode cX4_says 58 = .ok (.aload_n 0, 1) := dk_42 (dk_at dksX4_says_2 12 rfl rfl)
theorem dX4_says_59 : decode cX4_says 59 = .ok (.bipush (-2), 2) := dk_16 254 (dk_at dksX4_says_2 13 rfl rfl)
theorem dX4_says_61 : decode cX4_says 61 = .ok (.invokevirtual 82, 3) := dk_182 0 82 (dk_at dksX4_says_2 15 rfl rfl)
theorem dX4_says_64 : decode cX4_says 64 = .ok (.ireturn, 1) := dk_172 (dk_at dksX4_says_2 18 rfl rfl)
theorem dX4_says_65 : decode cX4_says 65 = .ok (.iload_n 3, 1) := dk_29 (dk_at dksX4_says_2 19 rfl rfl)
theorem dX4_says_66 : decode cX4_says 66 = .ok (.ifCond .ge 10, 3) := dk_156 0 10 (dk_at dksX4_says_2 20 rfl rfl)
theorem dX4_says_69 : decode cX4_says 69 = .ok (.aload_n 0, 1) := dk_42 (dk_at dksX4_says_2 23 rfl rfl)
theorem dX4_says_70 : decode cX4_says 70 = .ok (.bipush (-3), 2) := dk_16 253 (dk_at dksX4_says_3 0 rfl rfl)
theorem dX4_says_72 : decode cX4_says 72 = .ok (.invokevirtual 82, 3) := dk_182 0 82 (dk_at dksX4_says_3 2 rfl rfl)
theorem dX4_says_75 : decode cX4_says 75 = .ok (.ireturn, 1) := dk_172 (dk_at dksX4_says_3 5 rfl rfl)
theorem dX4_says_76 : decode cX4_says 76 = .ok (.iload_n 2, 1) := dk_28 (dk_at dksX4_says_3 6 rfl rfl)
theorem dX4_says_77 : decode cX4_says 77 = .ok (.tableswitch 71 0 6 #[43, 50, 71, 50, 57, 71, 64], 43) := by decide +kernel
theorem dX4_says_120 : decode cX4_says 120 = .ok (.aload_n 0, 1) := dk_42 (dk_at dksX4_says_5 0 rfl rfl)
theorem dX4_says_121 : decode cX4_says 121 = .ok (.iconst 3, 1) := dk_6 (dk_at dksX4_says_5 1 rfl rfl)
theorem dX4_says_122 : decode cX4_says 122 = .ok (.iload_n 3, 1) := dk_29 (dk_at dksX4_says_5 2 rfl rfl)
theorem dX4_says_123 : decode cX4_says 123 = .ok (.invokevirtual 109, 3) := dk_182 0 109 (dk_at dksX4_says_5 3 rfl rfl)
theorem dX4_says_126 : decode cX4_says 126 = .ok (.ireturn, 1) := dk_172 (dk_at dksX4_says_5 6 rfl rfl)
theorem dX4_says_127 : decode cX4_says 127 = .ok (.aload_n 0, 1) := dk_42 (dk_at dksX4_says_5 7 rfl rfl)
theorem dX4_says_128 : decode cX4_says 128 = .ok (.iconst 1, 1) := dk_4 (dk_at dksX4_says_5 8 rfl rfl)
theorem dX4_says_129 : decode cX4_says 129 = .ok (.iload_n 3, 1) := dk_29 (dk_at dksX4_says_5 9 rfl rfl)
theorem dX4_says_130 : decode cX4_says 130 = .ok (.invokevirtual 109, 3) := dk_182 0 109 (dk_at dksX4_says_5 10 rfl rfl)
theorem dX4_says_133 : decode cX4_says 133 = .ok (.ireturn, 1) := dk_172 (dk_at dksX4_says_5 13 rfl rfl)
theorem dX4_says_134 : decode cX4_says 134 = .ok (.aload_n 0, 1) := dk_42 (dk_at dksX4_says_5 14 rfl rfl)
theorem dX4_says_135 : decode cX4_says 135 = .ok (.iconst 4, 1) := dk_7 (dk_at dksX4_says_5 15 rfl rfl)
theorem dX4_says_136 : decode cX4_says 136 = .ok (.iload_n 3, 1) := dk_29 (dk_at dksX4_says_5 16 rfl rfl)
theorem dX4_says_137 : decode cX4_says 137 = .ok (.invokevirtual 109, 3) := dk_182 0 109 (dk_at dksX4_says_5 17 rfl rfl)
theorem dX4_says_140 : decode cX4_says 140 = .ok (.ireturn, 1) := dk_172 (dk_at dksX4_says_5 20 rfl rfl)
theorem dX4_says_141 : decode cX4_says 141 = .ok (.aload_n 0, 1) := dk_42 (dk_at dksX4_says_5 21 rfl rfl)
theorem dX4_says_142 : decode cX4_says 142 = .ok (.iconst 2, 1) := dk_5 (dk_at dksX4_says_5 22 rfl rfl)
theorem dX4_says_143 : decode cX4_says 143 = .ok (.iload_n 3, 1) := dk_29 (dk_at dksX4_says_5 23 rfl rfl)
theorem dX4_says_144 : decode cX4_says 144 = .ok (.invokevirtual 109, 3) := dk_182 0 109 (dk_at dksX4_says_6 0 rfl rfl)
theorem dX4_says_147 : decode cX4_says 147 = .ok (.ireturn, 1) := dk_172 (dk_at dksX4_says_6 3 rfl rfl)
theorem dX4_says_148 : decode cX4_says 148 = .ok (.aload_n 0, 1) := dk_42 (dk_at dksX4_says_6 4 rfl rfl)
theorem dX4_says_149 : decode cX4_says 149 = .ok (.iconst 4, 1) := dk_7 (dk_at dksX4_says_6 5 rfl rfl)
theorem dX4_says_150 : decode cX4_says 150 = .ok (.iload_n 3, 1) := dk_29 (dk_at dksX4_says_6 6 rfl rfl)
theorem dX4_says_151 : decode cX4_says 151 = .ok (.invokevirtual 109, 3) := dk_182 0 109 (dk_at dksX4_says_6 7 rfl rfl)
theorem dX4_says_154 : decode cX4_says 154 = .ok (.aload_n 0, 1) := dk_42 (dk_at dksX4_says_6 10 rfl rfl)
theorem dX4_says_155 : decode cX4_says 155 = .ok (.iconst 3, 1) := dk_6 (dk_at dksX4_says_6 11 rfl rfl)
theorem dX4_says_156 : decode cX4_says 156 = .ok (.iload_n 3, 1) := dk_29 (dk_at dksX4_says_6 12 rfl rfl)
theorem dX4_says_157 : decode cX4_says 157 = .ok (.invokevirtual 109, 3) := dk_182 0 109 (dk_at dksX4_says_6 13 rfl rfl)
theorem dX4_says_160 : decode cX4_says 160 = .ok (.isub, 1) := dk_100 (dk_at dksX4_says_6 16 rfl rfl)
theorem dX4_says_161 : decode cX4_says 161 = .ok (.iconst 1, 1) := dk_4 (dk_at dksX4_says_6 17 rfl rfl)
theorem dX4_says_162 : decode cX4_says 162 = .ok (.iadd, 1) := dk_96 (dk_at dksX4_says_6 18 rfl rfl)
theorem dX4_says_163 : decode cX4_says 163 = .ok (.ireturn, 1) := dk_172 (dk_at dksX4_says_6 19 rfl rfl)
abbrev cX4_of : ByteArray := prog_28_method_18_code
def yX4_of : MethodName := ⟨RX4, "of", "(II)I"⟩
def dkwX4_of_0 : List UInt8 := [42, 180, 0, 23, 16, 16, 27, 104, 28, 96, 46, 172]
abbrev dktX4_of_0 : List UInt8 := dkwX4_of_0 ++ []
theorem dksX4_of_0 : cX4_of.data.toList.drop 0 = dktX4_of_0 := by decide +kernel
theorem dX4_of_0 : decode cX4_of 0 = .ok (.aload_n 0, 1) := dk_42 (dk_at dksX4_of_0 0 rfl rfl)
theorem dX4_of_1 : decode cX4_of 1 = .ok (.getfield 23, 3) := dk_180 0 23 (dk_at dksX4_of_0 1 rfl rfl)
theorem dX4_of_4 : decode cX4_of 4 = .ok (.bipush 16, 2) := dk_16 16 (dk_at dksX4_of_0 4 rfl rfl)
theorem dX4_of_6 : decode cX4_of 6 = .ok (.iload_n 1, 1) := dk_27 (dk_at dksX4_of_0 6 rfl rfl)
theorem dX4_of_7 : decode cX4_of 7 = .ok (.imul, 1) := dk_104 (dk_at dksX4_of_0 7 rfl rfl)
theorem dX4_of_8 : decode cX4_of 8 = .ok (.iload_n 2, 1) := dk_28 (dk_at dksX4_of_0 8 rfl rfl)
theorem dX4_of_9 : decode cX4_of 9 = .ok (.iadd, 1) := dk_96 (dk_at dksX4_of_0 9 rfl rfl)
theorem dX4_of_10 : decode cX4_of 10 = .ok (.iaload, 1) := dk_46 (dk_at dksX4_of_0 10 rfl rfl)
theorem dX4_of_11 : decode cX4_of 11 = .ok (.ireturn, 1) := dk_172 (dk_at dksX4_of_0 11 rfl rfl)
abbrev cX4_isUnder : ByteArray := prog_28_method_17_code
def yX4_isUnder : MethodName := ⟨RX4, "isUnder", "(II)Z"⟩
def dkwX4_isUnder_1 : List UInt8 := [4, 167, 0, 4, 3, 172]
abbrev dktX4_isUnder_1 : List UInt8 := dkwX4_isUnder_1 ++ []
def dkwX4_isUnder_0 : List UInt8 := [26, 61, 28, 27, 159, 0, 15, 28, 158, 0, 11, 28, 184, 0, 106, 61, 167, 255, 242, 28, 27, 160, 0, 7]
abbrev dktX4_isUnder_0 : List UInt8 := dkwX4_isUnder_0 ++ dktX4_isUnder_1
theorem dksX4_isUnder_0 : cX4_isUnder.data.toList.drop 0 = dktX4_isUnder_0 := by decide +kernel
theorem dksX4_isUnder_1 : cX4_isUnder.data.toList.drop 24 = dktX4_isUnder_1 := dk_seg dksX4_isUnder_0 24 rfl rfl
theorem dX4_isUnder_0 : decode cX4_isUnder 0 = .ok (.iload_n 0, 1) := dk_26 (dk_at dksX4_isUnder_0 0 rfl rfl)
theorem dX4_isUnder_1 : decode cX4_isUnder 1 = .ok (.istore_n 2, 1) := dk_61 (dk_at dksX4_isUnder_0 1 rfl rfl)
theorem dX4_isUnder_2 : decode cX4_isUnder 2 = .ok (.iload_n 2, 1) := dk_28 (dk_at dksX4_isUnder_0 2 rfl rfl)
theorem dX4_isUnder_3 : decode cX4_isUnder 3 = .ok (.iload_n 1, 1) := dk_27 (dk_at dksX4_isUnder_0 3 rfl rfl)
theorem dX4_isUnder_4 : decode cX4_isUnder 4 = .ok (.if_icmp .eq 15, 3) := dk_159 0 15 (dk_at dksX4_isUnder_0 4 rfl rfl)
theorem dX4_isUnder_7 : decode cX4_isUnder 7 = .ok (.iload_n 2, 1) := dk_28 (dk_at dksX4_isUnder_0 7 rfl rfl)
theorem dX4_isUnder_8 : decode cX4_isUnder 8 = .ok (.ifCond .le 11, 3) := dk_158 0 11 (dk_at dksX4_isUnder_0 8 rfl rfl)
theorem dX4_isUnder_11 : decode cX4_isUnder 11 = .ok (.iload_n 2, 1) := dk_28 (dk_at dksX4_isUnder_0 11 rfl rfl)
theorem dX4_isUnder_12 : decode cX4_isUnder 12 = .ok (.invokestatic 106, 3) := dk_184 0 106 (dk_at dksX4_isUnder_0 12 rfl rfl)
theorem dX4_isUnder_15 : decode cX4_isUnder 15 = .ok (.istore_n 2, 1) := dk_61 (dk_at dksX4_isUnder_0 15 rfl rfl)
theorem dX4_isUnder_16 : decode cX4_isUnder 16 = .ok (.goto (-14), 3) := dk_167 255 242 (dk_at dksX4_isUnder_0 16 rfl rfl)
theorem dX4_isUnder_19 : decode cX4_isUnder 19 = .ok (.iload_n 2, 1) := dk_28 (dk_at dksX4_isUnder_0 19 rfl rfl)
theorem dX4_isUnder_20 : decode cX4_isUnder 20 = .ok (.iload_n 1, 1) := dk_27 (dk_at dksX4_isUnder_0 20 rfl rfl)
theorem dX4_isUnder_21 : decode cX4_isUnder 21 = .ok (.if_icmp .ne 7, 3) := dk_160 0 7 (dk_at dksX4_isUnder_0 21 rfl rfl)
theorem dX4_isUnder_24 : decode cX4_isUnder 24 = .ok (.iconst 1, 1) := dk_4 (dk_at dksX4_isUnder_1 0 rfl rfl)
theorem dX4_isUnder_25 : decode cX4_isUnder 25 = .ok (.goto 4, 3) := dk_167 0 4 (dk_at dksX4_isUnder_1 1 rfl rfl)
theorem dX4_isUnder_28 : decode cX4_isUnder 28 = .ok (.iconst 0, 1) := dk_3 (dk_at dksX4_isUnder_1 4 rfl rfl)
theorem dX4_isUnder_29 : decode cX4_isUnder 29 = .ok (.ireturn, 1) := dk_172 (dk_at dksX4_isUnder_1 5 rfl rfl)
abbrev cX4_above : ByteArray := prog_28_method_16_code
def yX4_above : MethodName := ⟨RX4, "above", "(I)I"⟩
def dkwX4_above_1 : List UInt8 := [6, 167, 0, 4, 3, 172]
abbrev dktX4_above_1 : List UInt8 := dkwX4_above_1 ++ []
def dkwX4_above_0 : List UInt8 := [26, 6, 160, 0, 7, 4, 167, 0, 23, 26, 8, 160, 0, 7, 5, 167, 0, 14, 26, 16, 6, 160, 0, 7]
abbrev dktX4_above_0 : List UInt8 := dkwX4_above_0 ++ dktX4_above_1
theorem dksX4_above_0 : cX4_above.data.toList.drop 0 = dktX4_above_0 := by decide +kernel
theorem dksX4_above_1 : cX4_above.data.toList.drop 24 = dktX4_above_1 := dk_seg dksX4_above_0 24 rfl rfl
theorem dX4_above_0 : decode cX4_above 0 = .ok (.iload_n 0, 1) := dk_26 (dk_at dksX4_above_0 0 rfl rfl)
theorem dX4_above_1 : decode cX4_above 1 = .ok (.iconst 3, 1) := dk_6 (dk_at dksX4_above_0 1 rfl rfl)
theorem dX4_above_2 : decode cX4_above 2 = .ok (.if_icmp .ne 7, 3) := dk_160 0 7 (dk_at dksX4_above_0 2 rfl rfl)
theorem dX4_above_5 : decode cX4_above 5 = .ok (.iconst 1, 1) := dk_4 (dk_at dksX4_above_0 5 rfl rfl)
theorem dX4_above_6 : decode cX4_above 6 = .ok (.goto 23, 3) := dk_167 0 23 (dk_at dksX4_above_0 6 rfl rfl)
theorem dX4_above_9 : decode cX4_above 9 = .ok (.iload_n 0, 1) := dk_26 (dk_at dksX4_above_0 9 rfl rfl)
theorem dX4_above_10 : decode cX4_above 10 = .ok (.iconst 5, 1) := dk_8 (dk_at dksX4_above_0 10 rfl rfl)
theorem dX4_above_11 : decode cX4_above 11 = .ok (.if_icmp .ne 7, 3) := dk_160 0 7 (dk_at dksX4_above_0 11 rfl rfl)
theorem dX4_above_14 : decode cX4_above 14 = .ok (.iconst 2, 1) := dk_5 (dk_at dksX4_above_0 14 rfl rfl)
theorem dX4_above_15 : decode cX4_above 15 = .ok (.goto 14, 3) := dk_167 0 14 (dk_at dksX4_above_0 15 rfl rfl)
theorem dX4_above_18 : decode cX4_above 18 = .ok (.iload_n 0, 1) := dk_26 (dk_at dksX4_above_0 18 rfl rfl)
theorem dX4_above_19 : decode cX4_above 19 = .ok (.bipush 6, 2) := dk_16 6 (dk_at dksX4_above_0 19 rfl rfl)
theorem dX4_above_21 : decode cX4_above 21 = .ok (.if_icmp .ne 7, 3) := dk_160 0 7 (dk_at dksX4_above_0 21 rfl rfl)
theorem dX4_above_24 : decode cX4_above 24 = .ok (.iconst 3, 1) := dk_6 (dk_at dksX4_above_1 0 rfl rfl)
theorem dX4_above_25 : decode cX4_above 25 = .ok (.goto 4, 3) := dk_167 0 4 (dk_at dksX4_above_1 1 rfl rfl)
theorem dX4_above_28 : decode cX4_above 28 = .ok (.iconst 0, 1) := dk_3 (dk_at dksX4_above_1 4 rfl rfl)
theorem dX4_above_29 : decode cX4_above 29 = .ok (.ireturn, 1) := dk_172 (dk_at dksX4_above_1 5 rfl rfl)
abbrev cX4_revise : ByteArray := prog_28_method_23_code
def yX4_revise : MethodName := ⟨RX4, "revise", "(II)I"⟩
def dkwX4_revise_3 : List UInt8 := [160, 0, 10, 42, 16, 249, 182, 0, 82, 172, 42, 28, 182, 0, 130, 172]
abbrev dktX4_revise_3 : List UInt8 := dkwX4_revise_3 ++ []
def dkwX4_revise_2 : List UInt8 := [181, 0, 79, 42, 180, 0, 79, 2, 159, 0, 10, 42, 16, 250, 182, 0, 82, 172, 42, 180, 0, 86, 16, 16]
abbrev dktX4_revise_2 : List UInt8 := dkwX4_revise_2 ++ dktX4_revise_3
def dkwX4_revise_1 : List UInt8 := [42, 2, 182, 0, 82, 172, 29, 156, 0, 9, 42, 29, 182, 0, 82, 172, 42, 42, 27, 182, 0, 127]
abbrev dktX4_revise_1 : List UInt8 := dkwX4_revise_1 ++ dktX4_revise_2
def dkwX4_revise_0 : List UInt8 := [42, 27, 182, 0, 100, 62, 29, 2, 159, 0, 16, 28, 2, 159, 0, 17, 42, 28, 182, 0, 124, 154, 0, 9]
abbrev dktX4_revise_0 : List UInt8 := dkwX4_revise_0 ++ dktX4_revise_1
theorem dksX4_revise_0 : cX4_revise.data.toList.drop 0 = dktX4_revise_0 := by decide +kernel
theorem dksX4_revise_1 : cX4_revise.data.toList.drop 24 = dktX4_revise_1 := dk_seg dksX4_revise_0 24 rfl rfl
theorem dksX4_revise_2 : cX4_revise.data.toList.drop 46 = dktX4_revise_2 := dk_seg dksX4_revise_1 22 rfl rfl
theorem dksX4_revise_3 : cX4_revise.data.toList.drop 70 = dktX4_revise_3 := dk_seg dksX4_revise_2 24 rfl rfl
theorem dX4_revise_0 : decode cX4_revise 0 = .ok (.aload_n 0, 1) := dk_42 (dk_at dksX4_revise_0 0 rfl rfl)
theorem dX4_revise_1 : decode cX4_revise 1 = .ok (.iload_n 1, 1) := dk_27 (dk_at dksX4_revise_0 1 rfl rfl)
theorem dX4_revise_2 : decode cX4_revise 2 = .ok (.invokevirtual 100, 3) := dk_182 0 100 (dk_at dksX4_revise_0 2 rfl rfl)
theorem dX4_revise_5 : decode cX4_revise 5 = .ok (.istore_n 3, 1) := dk_62 (dk_at dksX4_revise_0 5 rfl rfl)
theorem dX4_revise_6 : decode cX4_revise 6 = .ok (.iload_n 3, 1) := dk_29 (dk_at dksX4_revise_0 6 rfl rfl)
theorem dX4_revise_7 : decode cX4_revise 7 = .ok (.iconst (-1), 1) := dk_2 (dk_at dksX4_revise_0 7 rfl rfl)
theorem dX4_revise_8 : decode cX4_revise 8 = .ok (.if_icmp .eq 16, 3) := dk_159 0 16 (dk_at dksX4_revise_0 8 rfl rfl)
theorem dX4_revise_11 : decode cX4_revise 11 = .ok (.iload_n 2, 1) := dk_28 (dk_at dksX4_revise_0 11 rfl rfl)
theorem dX4_revise_12 : decode cX4_revise 12 = .ok (.iconst (-1), 1) := dk_2 (dk_at dksX4_revise_0 12 rfl rfl)
theorem dX4_revise_13 : decode cX4_revise 13 = .ok (.if_icmp .eq 17, 3) := dk_159 0 17 (dk_at dksX4_revise_0 13 rfl rfl)
theorem dX4_revise_16 : decode cX4_revise 16 = .ok (.aload_n 0, 1) := dk_42 (dk_at dksX4_revise_0 16 rfl rfl)
theorem dX4_revise_17 : decode cX4_revise 17 = .ok (.iload_n 2, 1) := dk_28 (dk_at dksX4_revise_0 17 rfl rfl)
theorem dX4_revise_18 : decode cX4_revise 18 = .ok (.invokevirtual 124, 3) := dk_182 0 124 (dk_at dksX4_revise_0 18 rfl rfl)
theorem dX4_revise_21 : decode cX4_revise 21 = .ok (.ifCond .ne 9, 3) := dk_154 0 9 (dk_at dksX4_revise_0 21 rfl rfl)
theorem dX4_revise_24 : decode cX4_revise 24 = .ok (.aload_n 0, 1) := dk_42 (dk_at dksX4_revise_1 0 rfl rfl)
theorem dX4_revise_25 : decode cX4_revise 25 = .ok (.iconst (-1), 1) := dk_2 (dk_at dksX4_revise_1 1 rfl rfl)
theorem dX4_revise_26 : decode cX4_revise 26 = .ok (.invokevirtual 82, 3) := dk_182 0 82 (dk_at dksX4_revise_1 2 rfl rfl)
theorem dX4_revise_29 : decode cX4_revise 29 = .ok (.ireturn, 1) := dk_172 (dk_at dksX4_revise_1 5 rfl rfl)
theorem dX4_revise_30 : decode cX4_revise 30 = .ok (.iload_n 3, 1) := dk_29 (dk_at dksX4_revise_1 6 rfl rfl)
theorem dX4_revise_31 : decode cX4_revise 31 = .ok (.ifCond .ge 9, 3) := dk_156 0 9 (dk_at dksX4_revise_1 7 rfl rfl)
theorem dX4_revise_34 : decode cX4_revise 34 = .ok (.aload_n 0, 1) := dk_42 (dk_at dksX4_revise_1 10 rfl rfl)
theorem dX4_revise_35 : decode cX4_revise 35 = .ok (.iload_n 3, 1) := dk_29 (dk_at dksX4_revise_1 11 rfl rfl)
theorem dX4_revise_36 : decode cX4_revise 36 = .ok (.invokevirtual 82, 3) := dk_182 0 82 (dk_at dksX4_revise_1 12 rfl rfl)
theorem dX4_revise_39 : decode cX4_revise 39 = .ok (.ireturn, 1) := dk_172 (dk_at dksX4_revise_1 15 rfl rfl)
theorem dX4_revise_40 : decode cX4_revise 40 = .ok (.aload_n 0, 1) := dk_42 (dk_at dksX4_revise_1 16 rfl rfl)
theorem dX4_revise_41 : decode cX4_revise 41 = .ok (.aload_n 0, 1) := dk_42 (dk_at dksX4_revise_1 17 rfl rfl)
theorem dX4_revise_42 : decode cX4_revise 42 = .ok (.iload_n 1, 1) := dk_27 (dk_at dksX4_revise_1 18 rfl rfl)
theorem dX4_revise_43 : decode cX4_revise 43 = .ok (.invokevirtual 127, 3) := dk_182 0 127 (dk_at dksX4_revise_1 19 rfl rfl)
theorem dX4_revise_46 : decode cX4_revise 46 = .ok (.putfield 79, 3) := dk_181 0 79 (dk_at dksX4_revise_2 0 rfl rfl)
theorem dX4_revise_49 : decode cX4_revise 49 = .ok (.aload_n 0, 1) := dk_42 (dk_at dksX4_revise_2 3 rfl rfl)
theorem dX4_revise_50 : decode cX4_revise 50 = .ok (.getfield 79, 3) := dk_180 0 79 (dk_at dksX4_revise_2 4 rfl rfl)
theorem dX4_revise_53 : decode cX4_revise 53 = .ok (.iconst (-1), 1) := dk_2 (dk_at dksX4_revise_2 7 rfl rfl)
theorem dX4_revise_54 : decode cX4_revise 54 = .ok (.if_icmp .eq 10, 3) := dk_159 0 10 (dk_at dksX4_revise_2 8 rfl rfl)
theorem dX4_revise_57 : decode cX4_revise 57 = .ok (.aload_n 0, 1) := dk_42 (dk_at dksX4_revise_2 11 rfl rfl)
theorem dX4_revise_58 : decode cX4_revise 58 = .ok (.bipush (-6), 2) := dk_16 250 (dk_at dksX4_revise_2 12 rfl rfl)
theorem dX4_revise_60 : decode cX4_revise 60 = .ok (.invokevirtual 82, 3) := dk_182 0 82 (dk_at dksX4_revise_2 14 rfl rfl)
theorem dX4_revise_63 : decode cX4_revise 63 = .ok (.ireturn, 1) := dk_172 (dk_at dksX4_revise_2 17 rfl rfl)
theorem dX4_revise_64 : decode cX4_revise 64 = .ok (.aload_n 0, 1) := dk_42 (dk_at dksX4_revise_2 18 rfl rfl)
theorem dX4_revise_65 : decode cX4_revise 65 = .ok (.getfield 86, 3) := dk_180 0 86 (dk_at dksX4_revise_2 19 rfl rfl)
theorem dX4_revise_68 : decode cX4_revise 68 = .ok (.bipush 16, 2) := dk_16 16 (dk_at dksX4_revise_2 22 rfl rfl)
theorem dX4_revise_70 : decode cX4_revise 70 = .ok (.if_icmp .ne 10, 3) := dk_160 0 10 (dk_at dksX4_revise_3 0 rfl rfl)
theorem dX4_revise_73 : decode cX4_revise 73 = .ok (.aload_n 0, 1) := dk_42 (dk_at dksX4_revise_3 3 rfl rfl)
theorem dX4_revise_74 : decode cX4_revise 74 = .ok (.bipush (-7), 2) := dk_16 249 (dk_at dksX4_revise_3 4 rfl rfl)
theorem dX4_revise_76 : decode cX4_revise 76 = .ok (.invokevirtual 82, 3) := dk_182 0 82 (dk_at dksX4_revise_3 6 rfl rfl)
theorem dX4_revise_79 : decode cX4_revise 79 = .ok (.ireturn, 1) := dk_172 (dk_at dksX4_revise_3 9 rfl rfl)
theorem dX4_revise_80 : decode cX4_revise 80 = .ok (.aload_n 0, 1) := dk_42 (dk_at dksX4_revise_3 10 rfl rfl)
theorem dX4_revise_81 : decode cX4_revise 81 = .ok (.iload_n 2, 1) := dk_28 (dk_at dksX4_revise_3 11 rfl rfl)
theorem dX4_revise_82 : decode cX4_revise 82 = .ok (.invokevirtual 130, 3) := dk_182 0 130 (dk_at dksX4_revise_3 12 rfl rfl)
theorem dX4_revise_85 : decode cX4_revise 85 = .ok (.ireturn, 1) := dk_172 (dk_at dksX4_revise_3 15 rfl rfl)
abbrev cX4_isRevision : ByteArray := prog_28_method_5_code
def yX4_isRevision : MethodName := ⟨RX4, "isRevision", "(I)Z"⟩
def dkwX4_isRevision_0 : List UInt8 := [27, 3, 42, 180, 0, 86, 4, 100, 184, 0, 89, 172]
abbrev dktX4_isRevision_0 : List UInt8 := dkwX4_isRevision_0 ++ []
theorem dksX4_isRevision_0 : cX4_isRevision.data.toList.drop 0 = dktX4_isRevision_0 := by decide +kernel
theorem dX4_isRevision_0 : decode cX4_isRevision 0 = .ok (.iload_n 1, 1) := dk_27 (dk_at dksX4_isRevision_0 0 rfl rfl)
theorem dX4_isRevision_1 : decode cX4_isRevision 1 = .ok (.iconst 0, 1) := dk_3 (dk_at dksX4_isRevision_0 1 rfl rfl)
theorem dX4_isRevision_2 : decode cX4_isRevision 2 = .ok (.aload_n 0, 1) := dk_42 (dk_at dksX4_isRevision_0 2 rfl rfl)
theorem dX4_isRevision_3 : decode cX4_isRevision 3 = .ok (.getfield 86, 3) := dk_180 0 86 (dk_at dksX4_isRevision_0 3 rfl rfl)
theorem dX4_isRevision_6 : decode cX4_isRevision 6 = .ok (.iconst 1, 1) := dk_4 (dk_at dksX4_isRevision_0 6 rfl rfl)
theorem dX4_isRevision_7 : decode cX4_isRevision 7 = .ok (.isub, 1) := dk_100 (dk_at dksX4_isRevision_0 7 rfl rfl)
theorem dX4_isRevision_8 : decode cX4_isRevision 8 = .ok (.invokestatic 89, 3) := dk_184 0 89 (dk_at dksX4_isRevision_0 8 rfl rfl)
theorem dX4_isRevision_11 : decode cX4_isRevision 11 = .ok (.ireturn, 1) := dk_172 (dk_at dksX4_isRevision_0 11 rfl rfl)
abbrev cX4_reads : ByteArray := prog_28_method_21_code
def yX4_reads : MethodName := ⟨RX4, "reads", "(I)I"⟩
def dkwX4_reads_8 : List UInt8 := [3, 79, 2, 172]
abbrev dktX4_reads_8 : List UInt8 := dkwX4_reads_8 ++ []
def dkwX4_reads_7 : List UInt8 := [104, 29, 96, 22, 5, 80, 42, 180, 0, 13, 42, 180, 0, 86, 28, 158, 0, 9, 29, 4, 96, 167, 0, 4]
abbrev dktX4_reads_7 : List UInt8 := dkwX4_reads_7 ++ dktX4_reads_8
def dkwX4_reads_6 : List UInt8 := [158, 0, 10, 21, 4, 154, 0, 5, 28, 172, 28, 158, 0, 19, 42, 180, 0, 16, 16, 24, 42, 180, 0, 86]
abbrev dktX4_reads_6 : List UInt8 := dkwX4_reads_6 ++ dktX4_reads_7
def dkwX4_reads_5 : List UInt8 := [21, 8, 133, 16, 8, 21, 4, 104, 121, 129, 55, 5, 132, 4, 1, 132, 7, 1, 167, 255, 136, 28]
abbrev dktX4_reads_5 : List UInt8 := dkwX4_reads_5 ++ dktX4_reads_6
def dkwX4_reads_4 : List UInt8 := [42, 180, 0, 86, 104, 29, 96, 22, 5, 80, 132, 3, 1, 3, 54, 4, 9, 55, 5, 167, 0, 20, 22, 5]
abbrev dktX4_reads_4 : List UInt8 := dkwX4_reads_4 ++ dktX4_reads_5
def dkwX4_reads_3 : List UInt8 := [153, 0, 10, 21, 4, 16, 8, 160, 0, 6, 21, 7, 172, 21, 9, 153, 0, 31, 42, 180, 0, 16, 16, 24]
abbrev dktX4_reads_3 : List UInt8 := dkwX4_reads_3 ++ dktX4_reads_4
def dkwX4_reads_2 : List UInt8 := [162, 0, 7, 4, 167, 0, 4, 3, 54, 9, 21, 9, 154, 0, 25, 21, 8, 16, 97, 16, 122, 184, 0, 89]
abbrev dktX4_reads_2 : List UInt8 := dkwX4_reads_2 ++ dktX4_reads_3
def dkwX4_reads_1 : List UInt8 := [42, 27, 21, 7, 182, 0, 117, 54, 8, 21, 8, 16, 47, 160, 0, 18, 21, 4, 158, 0, 13, 29, 16, 23]
abbrev dktX4_reads_1 : List UInt8 := dkwX4_reads_1 ++ dktX4_reads_2
def dkwX4_reads_0 : List UInt8 := [42, 180, 0, 32, 27, 46, 61, 3, 62, 3, 54, 4, 9, 55, 5, 3, 54, 7, 21, 7, 28, 162, 0, 120]
abbrev dktX4_reads_0 : List UInt8 := dkwX4_reads_0 ++ dktX4_reads_1
theorem dksX4_reads_0 : cX4_reads.data.toList.drop 0 = dktX4_reads_0 := by decide +kernel
theorem dksX4_reads_1 : cX4_reads.data.toList.drop 24 = dktX4_reads_1 := dk_seg dksX4_reads_0 24 rfl rfl
theorem dksX4_reads_2 : cX4_reads.data.toList.drop 48 = dktX4_reads_2 := dk_seg dksX4_reads_1 24 rfl rfl
theorem dksX4_reads_3 : cX4_reads.data.toList.drop 72 = dktX4_reads_3 := dk_seg dksX4_reads_2 24 rfl rfl
theorem dksX4_reads_4 : cX4_reads.data.toList.drop 96 = dktX4_reads_4 := dk_seg dksX4_reads_3 24 rfl rfl
theorem dksX4_reads_5 : cX4_reads.data.toList.drop 120 = dktX4_reads_5 := dk_seg dksX4_reads_4 24 rfl rfl
theorem dksX4_reads_6 : cX4_reads.data.toList.drop 142 = dktX4_reads_6 := dk_seg dksX4_reads_5 22 rfl rfl
theorem dksX4_reads_7 : cX4_reads.data.toList.drop 166 = dktX4_reads_7 := dk_seg dksX4_reads_6 24 rfl rfl
theorem dksX4_reads_8 : cX4_reads.data.toList.drop 190 = dktX4_reads_8 := dk_seg dksX4_reads_7 24 rfl rfl
theorem dX4_reads_0 : decode cX4_reads 0 = .ok (.aload_n 0, 1) := dk_42 (dk_at dksX4_reads_0 0 rfl rfl)
theorem dX4_reads_1 : decode cX4_reads 1 = .ok (.getfield 32, 3) := dk_180 0 32 (dk_at dksX4_reads_0 1 rfl rfl)
theorem dX4_reads_4 : decode cX4_reads 4 = .ok (.iload_n 1, 1) := dk_27 (dk_at dksX4_reads_0 4 rfl rfl)
theorem dX4_reads_5 : decode cX4_reads 5 = .ok (.iaload, 1) := dk_46 (dk_at dksX4_reads_0 5 rfl rfl)
theorem dX4_reads_6 : decode cX4_reads 6 = .ok (.istore_n 2, 1) := dk_61 (dk_at dksX4_reads_0 6 rfl rfl)
theorem dX4_reads_7 : decode cX4_reads 7 = .ok (.iconst 0, 1) := dk_3 (dk_at dksX4_reads_0 7 rfl rfl)
theorem dX4_reads_8 : decode cX4_reads 8 = .ok (.istore_n 3, 1) := dk_62 (dk_at dksX4_reads_0 8 rfl rfl)
theorem dX4_reads_9 : decode cX4_reads 9 = .ok (.iconst 0, 1) := dk_3 (dk_at dksX4_reads_0 9 rfl rfl)
theorem dX4_reads_10 : decode cX4_reads 10 = .ok (.istore 4, 2) := dk_54 4 (dk_at dksX4_reads_0 10 rfl rfl)
theorem dX4_reads_12 : decode cX4_reads 12 = .ok (.lconst 0, 1) := dk_9 (dk_at dksX4_reads_0 12 rfl rfl)
theorem dX4_reads_13 : decode cX4_reads 13 = .ok (.lstore 5, 2) := dk_55 5 (dk_at dksX4_reads_0 13 rfl rfl)
theorem dX4_reads_15 : decode cX4_reads 15 = .ok (.iconst 0, 1) := dk_3 (dk_at dksX4_reads_0 15 rfl rfl)
theorem dX4_reads_16 : decode cX4_reads 16 = .ok (.istore 7, 2) := dk_54 7 (dk_at dksX4_reads_0 16 rfl rfl)
theorem dX4_reads_18 : decode cX4_reads 18 = .ok (.iload 7, 2) := dk_21 7 (dk_at dksX4_reads_0 18 rfl rfl)
theorem dX4_reads_20 : decode cX4_reads 20 = .ok (.iload_n 2, 1) := dk_28 (dk_at dksX4_reads_0 20 rfl rfl)
theorem dX4_reads_21 : decode cX4_reads 21 = .ok (.if_icmp .ge 120, 3) := dk_162 0 120 (dk_at dksX4_reads_0 21 rfl rfl)
theorem dX4_reads_24 : decode cX4_reads 24 = .ok (.aload_n 0, 1) := dk_42 (dk_at dksX4_reads_1 0 rfl rfl)
theorem dX4_reads_25 : decode cX4_reads 25 = .ok (.iload_n 1, 1) := dk_27 (dk_at dksX4_reads_1 1 rfl rfl)
theorem dX4_reads_26 : decode cX4_reads 26 = .ok (.iload 7, 2) := dk_21 7 (dk_at dksX4_reads_1 2 rfl rfl)
theorem dX4_reads_28 : decode cX4_reads 28 = .ok (.invokevirtual 117, 3) := dk_182 0 117 (dk_at dksX4_reads_1 4 rfl rfl)
theorem dX4_reads_31 : decode cX4_reads 31 = .ok (.istore 8, 2) := dk_54 8 (dk_at dksX4_reads_1 7 rfl rfl)
theorem dX4_reads_33 : decode cX4_reads 33 = .ok (.iload 8, 2) := dk_21 8 (dk_at dksX4_reads_1 9 rfl rfl)
theorem dX4_reads_35 : decode cX4_reads 35 = .ok (.bipush 47, 2) := dk_16 47 (dk_at dksX4_reads_1 11 rfl rfl)
theorem dX4_reads_37 : decode cX4_reads 37 = .ok (.if_icmp .ne 18, 3) := dk_160 0 18 (dk_at dksX4_reads_1 13 rfl rfl)
theorem dX4_reads_40 : decode cX4_reads 40 = .ok (.iload 4, 2) := dk_21 4 (dk_at dksX4_reads_1 16 rfl rfl)
theorem dX4_reads_42 : decode cX4_reads 42 = .ok (.ifCond .le 13, 3) := dk_158 0 13 (dk_at dksX4_reads_1 18 rfl rfl)
theorem dX4_reads_45 : decode cX4_reads 45 = .ok (.iload_n 3, 1) := dk_29 (dk_at dksX4_reads_1 21 rfl rfl)
theorem dX4_reads_46 : decode cX4_reads 46 = .ok (.bipush 23, 2) := dk_16 23 (dk_at dksX4_reads_1 22 rfl rfl)
theorem dX4_reads_48 : decode cX4_reads 48 = .ok (.if_icmp .ge 7, 3) := dk_162 0 7 (dk_at dksX4_reads_2 0 rfl rfl)
theorem dX4_reads_51 : decode cX4_reads 51 = .ok (.iconst 1, 1) := dk_4 (dk_at dksX4_reads_2 3 rfl rfl)
theorem dX4_reads_52 : decode cX4_reads 52 = .ok (.goto 4, 3) := dk_167 0 4 (dk_at dksX4_reads_2 4 rfl rfl)
theorem dX4_reads_55 : decode cX4_reads 55 = .ok (.iconst 0, 1) := dk_3 (dk_at dksX4_reads_2 7 rfl rfl)
theorem dX4_reads_56 : decode cX4_reads 56 = .ok (.istore 9, 2) := dk_54 9 (dk_at dksX4_reads_2 8 rfl rfl)
theorem dX4_reads_58 : decode cX4_reads 58 = .ok (.iload 9, 2) := dk_21 9 (dk_at dksX4_reads_2 10 rfl rfl)
theorem dX4_reads_60 : decode cX4_reads 60 = .ok (.ifCond .ne 25, 3) := dk_154 0 25 (dk_at dksX4_reads_2 12 rfl rfl)
theorem dX4_reads_63 : decode cX4_reads 63 = .ok (.iload 8, 2) := dk_21 8 (dk_at dksX4_reads_2 15 rfl rfl)
theorem dX4_reads_65 : decode cX4_reads 65 = .ok (.bipush 97, 2) := dk_16 97 (dk_at dksX4_reads_2 17 rfl rfl)
theorem dX4_reads_67 : decode cX4_reads 67 = .ok (.bipush 122, 2) := dk_16 122 (dk_at dksX4_reads_2 19 rfl rfl)
theorem dX4_reads_69 : decode cX4_reads 69 = .ok (.invokestatic 89, 3) := dk_184 0 89 (dk_at dksX4_reads_2 21 rfl rfl)
theorem dX4_reads_72 : decode cX4_reads 72 = .ok (.ifCond .eq 10, 3) := dk_153 0 10 (dk_at dksX4_reads_3 0 rfl rfl)
theorem dX4_reads_75 : decode cX4_reads 75 = .ok (.iload 4, 2) := dk_21 4 (dk_at dksX4_reads_3 3 rfl rfl)
theorem dX4_reads_77 : decode cX4_reads 77 = .ok (.bipush 8, 2) := dk_16 8 (dk_at dksX4_reads_3 5 rfl rfl)
theorem dX4_reads_79 : decode cX4_reads 79 = .ok (.if_icmp .ne 6, 3) := dk_160 0 6 (dk_at dksX4_reads_3 7 rfl rfl)
theorem dX4_reads_82 : decode cX4_reads 82 = .ok (.iload 7, 2) := dk_21 7 (dk_at dksX4_reads_3 10 rfl rfl)
theorem dX4_reads_84 : decode cX4_reads 84 = .ok (.ireturn, 1) := dk_172 (dk_at dksX4_reads_3 12 rfl rfl)
theorem dX4_reads_85 : decode cX4_reads 85 = .ok (.iload 9, 2) := dk_21 9 (dk_at dksX4_reads_3 13 rfl rfl)
theorem dX4_reads_87 : decode cX4_reads 87 = .ok (.ifCond .eq 31, 3) := dk_153 0 31 (dk_at dksX4_reads_3 15 rfl rfl)
theorem dX4_reads_90 : decode cX4_reads 90 = .ok (.aload_n 0, 1) := dk_42 (dk_at dksX4_reads_3 18 rfl rfl)
theorem dX4_reads_91 : decode cX4_reads 91 = .ok (.getfield 16, 3) := dk_180 0 16 (dk_at dksX4_reads_3 19 rfl rfl)
theorem dX4_reads_94 : decode cX4_reads 94 = .ok (.bipush 24, 2) := dk_16 24 (dk_at dksX4_reads_3 22 rfl rfl)
theorem dX4_reads_96 : decode cX4_reads 96 = .ok (.aload_n 0, 1) := dk_42 (dk_at dksX4_reads_4 0 rfl rfl)
theorem dX4_reads_97 : decode cX4_reads 97 = .ok (.getfield 86, 3) := dk_180 0 86 (dk_at dksX4_reads_4 1 rfl rfl)
theorem dX4_reads_100 : decode cX4_reads 100 = .ok (.imul, 1) := dk_104 (dk_at dksX4_reads_4 4 rfl rfl)
theorem dX4_reads_101 : decode cX4_reads 101 = .ok (.iload_n 3, 1) := dk_29 (dk_at dksX4_reads_4 5 rfl rfl)
theorem dX4_reads_102 : decode cX4_reads 102 = .ok (.iadd, 1) := dk_96 (dk_at dksX4_reads_4 6 rfl rfl)
theorem dX4_reads_103 : decode cX4_reads 103 = .ok (.lload 5, 2) := dk_22 5 (dk_at dksX4_reads_4 7 rfl rfl)
theorem dX4_reads_105 : decode cX4_reads 105 = .ok (.lastore, 1) := dk_80 (dk_at dksX4_reads_4 9 rfl rfl)
theorem dX4_reads_106 : decode cX4_reads 106 = .ok (.iinc 3 1, 3) := dk_132 3 1 (dk_at dksX4_reads_4 10 rfl rfl)
theorem dX4_reads_109 : decode cX4_reads 109 = .ok (.iconst 0, 1) := dk_3 (dk_at dksX4_reads_4 13 rfl rfl)
theorem dX4_reads_110 : decode cX4_reads 110 = .ok (.istore 4, 2) := dk_54 4 (dk_at dksX4_reads_4 14 rfl rfl)
theorem dX4_reads_112 : decode cX4_reads 112 = .ok (.lconst 0, 1) := dk_9 (dk_at dksX4_reads_4 16 rfl rfl)
theorem dX4_reads_113 : decode cX4_reads 113 = .ok (.lstore 5, 2) := dk_55 5 (dk_at dksX4_reads_4 17 rfl rfl)
theorem dX4_reads_115 : decode cX4_reads 115 = .ok (.goto 20, 3) := dk_167 0 20 (dk_at dksX4_reads_4 19 rfl rfl)
theorem dX4_reads_118 : decode cX4_reads 118 = .ok (.lload 5, 2) := dk_22 5 (dk_at dksX4_reads_4 22 rfl rfl)
theorem dX4_reads_120 : decode cX4_reads 120 = .ok (.iload 8, 2) := dk_21 8 (dk_at dksX4_reads_5 0 rfl rfl)
theorem dX4_reads_122 : decode cX4_reads 122 = .ok (.i2l, 1) := dk_133 (dk_at dksX4_reads_5 2 rfl rfl)
theorem dX4_reads_123 : decode cX4_reads 123 = .ok (.bipush 8, 2) := dk_16 8 (dk_at dksX4_reads_5 3 rfl rfl)
theorem dX4_reads_125 : decode cX4_reads 125 = .ok (.iload 4, 2) := dk_21 4 (dk_at dksX4_reads_5 5 rfl rfl)
theorem dX4_reads_127 : decode cX4_reads 127 = .ok (.imul, 1) := dk_104 (dk_at dksX4_reads_5 7 rfl rfl)
theorem dX4_reads_128 : decode cX4_reads 128 = .ok (.lshl, 1) := dk_121 (dk_at dksX4_reads_5 8 rfl rfl)
theorem dX4_reads_129 : decode cX4_reads 129 = .ok (.lor, 1) := dk_129 (dk_at dksX4_reads_5 9 rfl rfl)
theorem dX4_reads_130 : decode cX4_reads 130 = .ok (.lstore 5, 2) := dk_55 5 (dk_at dksX4_reads_5 10 rfl rfl)
theorem dX4_reads_132 : decode cX4_reads 132 = .ok (.iinc 4 1, 3) := dk_132 4 1 (dk_at dksX4_reads_5 12 rfl rfl)
theorem dX4_reads_135 : decode cX4_reads 135 = .ok (.iinc 7 1, 3) := dk_132 7 1 (dk_at dksX4_reads_5 15 rfl rfl)
theorem dX4_reads_138 : decode cX4_reads 138 = .ok (.goto (-120), 3) := dk_167 255 136 (dk_at dksX4_reads_5 18 rfl rfl)
theorem dX4_reads_141 : decode cX4_reads 141 = .ok (.iload_n 2, 1) := dk_28 (dk_at dksX4_reads_5 21 rfl rfl)
theorem dX4_reads_142 : decode cX4_reads 142 = .ok (.ifCond .le 10, 3) := dk_158 0 10 (dk_at dksX4_reads_6 0 rfl rfl)
theorem dX4_reads_145 : decode cX4_reads 145 = .ok (.iload 4, 2) := dk_21 4 (dk_at dksX4_reads_6 3 rfl rfl)
theorem dX4_reads_147 : decode cX4_reads 147 = .ok (.ifCond .ne 5, 3) := dk_154 0 5 (dk_at dksX4_reads_6 5 rfl rfl)
theorem dX4_reads_150 : decode cX4_reads 150 = .ok (.iload_n 2, 1) := dk_28 (dk_at dksX4_reads_6 8 rfl rfl)
theorem dX4_reads_151 : decode cX4_reads 151 = .ok (.ireturn, 1) := dk_172 (dk_at dksX4_reads_6 9 rfl rfl)
theorem dX4_reads_152 : decode cX4_reads 152 = .ok (.iload_n 2, 1) := dk_28 (dk_at dksX4_reads_6 10 rfl rfl)
theorem dX4_reads_153 : decode cX4_reads 153 = .ok (.ifCond .le 19, 3) := dk_158 0 19 (dk_at dksX4_reads_6 11 rfl rfl)
theorem dX4_reads_156 : decode cX4_reads 156 = .ok (.aload_n 0, 1) := dk_42 (dk_at dksX4_reads_6 14 rfl rfl)
theorem dX4_reads_157 : decode cX4_reads 157 = .ok (.getfield 16, 3) := dk_180 0 16 (dk_at dksX4_reads_6 15 rfl rfl)
theorem dX4_reads_160 : decode cX4_reads 160 = .ok (.bipush 24, 2) := dk_16 24 (dk_at dksX4_reads_6 18 rfl rfl)
theorem dX4_reads_162 : decode cX4_reads 162 = .ok (.aload_n 0, 1) := dk_42 (dk_at dksX4_reads_6 20 rfl rfl)
theorem dX4_reads_163 : decode cX4_reads 163 = .ok (.getfield 86, 3) := dk_180 0 86 (dk_at dksX4_reads_6 21 rfl rfl)
theorem dX4_reads_166 : decode cX4_reads 166 = .ok (.imul, 1) := dk_104 (dk_at dksX4_reads_7 0 rfl rfl)
theorem dX4_reads_167 : decode cX4_reads 167 = .ok (.iload_n 3, 1) := dk_29 (dk_at dksX4_reads_7 1 rfl rfl)
theorem dX4_reads_168 : decode cX4_reads 168 = .ok (.iadd, 1) := dk_96 (dk_at dksX4_reads_7 2 rfl rfl)
theorem dX4_reads_169 : decode cX4_reads 169 = .ok (.lload 5, 2) := dk_22 5 (dk_at dksX4_reads_7 3 rfl rfl)
theorem dX4_reads_171 : decode cX4_reads 171 = .ok (.lastore, 1) := dk_80 (dk_at dksX4_reads_7 5 rfl rfl)
theorem dX4_reads_172 : decode cX4_reads 172 = .ok (.aload_n 0, 1) := dk_42 (dk_at dksX4_reads_7 6 rfl rfl)
theorem dX4_reads_173 : decode cX4_reads 173 = .ok (.getfield 13, 3) := dk_180 0 13 (dk_at dksX4_reads_7 7 rfl rfl)
theorem dX4_reads_176 : decode cX4_reads 176 = .ok (.aload_n 0, 1) := dk_42 (dk_at dksX4_reads_7 10 rfl rfl)
theorem dX4_reads_177 : decode cX4_reads 177 = .ok (.getfield 86, 3) := dk_180 0 86 (dk_at dksX4_reads_7 11 rfl rfl)
theorem dX4_reads_180 : decode cX4_reads 180 = .ok (.iload_n 2, 1) := dk_28 (dk_at dksX4_reads_7 14 rfl rfl)
theorem dX4_reads_181 : decode cX4_reads 181 = .ok (.ifCond .le 9, 3) := dk_158 0 9 (dk_at dksX4_reads_7 15 rfl rfl)
theorem dX4_reads_184 : decode cX4_reads 184 = .ok (.iload_n 3, 1) := dk_29 (dk_at dksX4_reads_7 18 rfl rfl)
theorem dX4_reads_185 : decode cX4_reads 185 = .ok (.iconst 1, 1) := dk_4 (dk_at dksX4_reads_7 19 rfl rfl)
theorem dX4_reads_186 : decode cX4_reads 186 = .ok (.iadd, 1) := dk_96 (dk_at dksX4_reads_7 20 rfl rfl)
theorem dX4_reads_187 : decode cX4_reads 187 = .ok (.goto 4, 3) := dk_167 0 4 (dk_at dksX4_reads_7 21 rfl rfl)
theorem dX4_reads_190 : decode cX4_reads 190 = .ok (.iconst 0, 1) := dk_3 (dk_at dksX4_reads_8 0 rfl rfl)
theorem dX4_reads_191 : decode cX4_reads 191 = .ok (.iastore, 1) := dk_79 (dk_at dksX4_reads_8 1 rfl rfl)
theorem dX4_reads_192 : decode cX4_reads 192 = .ok (.iconst (-1), 1) := dk_2 (dk_at dksX4_reads_8 2 rfl rfl)
theorem dX4_reads_193 : decode cX4_reads 193 = .ok (.ireturn, 1) := dk_172 (dk_at dksX4_reads_8 3 rfl rfl)
abbrev cX4_read : ByteArray := prog_28_method_20_code
def yX4_read : MethodName := ⟨RX4, "read", "(II)I"⟩
def dkwX4_read_0 : List UInt8 := [42, 180, 0, 35, 17, 0, 160, 27, 104, 28, 96, 47, 136, 172]
abbrev dktX4_read_0 : List UInt8 := dkwX4_read_0 ++ []
theorem dksX4_read_0 : cX4_read.data.toList.drop 0 = dktX4_read_0 := by decide +kernel
theorem dX4_read_0 : decode cX4_read 0 = .ok (.aload_n 0, 1) := dk_42 (dk_at dksX4_read_0 0 rfl rfl)
theorem dX4_read_1 : decode cX4_read 1 = .ok (.getfield 35, 3) := dk_180 0 35 (dk_at dksX4_read_0 1 rfl rfl)
theorem dX4_read_4 : decode cX4_read 4 = .ok (.sipush 160, 3) := dk_17 0 160 (dk_at dksX4_read_0 4 rfl rfl)
theorem dX4_read_7 : decode cX4_read 7 = .ok (.iload_n 1, 1) := dk_27 (dk_at dksX4_read_0 7 rfl rfl)
theorem dX4_read_8 : decode cX4_read 8 = .ok (.imul, 1) := dk_104 (dk_at dksX4_read_0 8 rfl rfl)
theorem dX4_read_9 : decode cX4_read 9 = .ok (.iload_n 2, 1) := dk_28 (dk_at dksX4_read_0 9 rfl rfl)
theorem dX4_read_10 : decode cX4_read 10 = .ok (.iadd, 1) := dk_96 (dk_at dksX4_read_0 10 rfl rfl)
theorem dX4_read_11 : decode cX4_read 11 = .ok (.laload, 1) := dk_47 (dk_at dksX4_read_0 11 rfl rfl)
theorem dX4_read_12 : decode cX4_read 12 = .ok (.l2i, 1) := dk_136 (dk_at dksX4_read_0 12 rfl rfl)
theorem dX4_read_13 : decode cX4_read 13 = .ok (.ireturn, 1) := dk_172 (dk_at dksX4_read_0 13 rfl rfl)
abbrev cX4_comesTo : ByteArray := prog_28_method_22_code
def yX4_comesTo : MethodName := ⟨RX4, "comesTo", "(I)I"⟩
def dkwX4_comesTo_1 : List UInt8 := [4, 96, 181, 0, 86, 172]
abbrev dktX4_comesTo_1 : List UInt8 := dkwX4_comesTo_1 ++ []
def dkwX4_comesTo_0 : List UInt8 := [42, 180, 0, 7, 42, 180, 0, 86, 27, 79, 42, 42, 180, 0, 86, 182, 0, 120, 42, 89, 180, 0, 86, 90]
abbrev dktX4_comesTo_0 : List UInt8 := dkwX4_comesTo_0 ++ dktX4_comesTo_1
theorem dksX4_comesTo_0 : cX4_comesTo.data.toList.drop 0 = dktX4_comesTo_0 := by decide +kernel
theorem dksX4_comesTo_1 : cX4_comesTo.data.toList.drop 24 = dktX4_comesTo_1 := dk_seg dksX4_comesTo_0 24 rfl rfl
theorem dX4_comesTo_0 : decode cX4_comesTo 0 = .ok (.aload_n 0, 1) := dk_42 (dk_at dksX4_comesTo_0 0 rfl rfl)
theorem dX4_comesTo_1 : decode cX4_comesTo 1 = .ok (.getfield 7, 3) := dk_180 0 7 (dk_at dksX4_comesTo_0 1 rfl rfl)
theorem dX4_comesTo_4 : decode cX4_comesTo 4 = .ok (.aload_n 0, 1) := dk_42 (dk_at dksX4_comesTo_0 4 rfl rfl)
theorem dX4_comesTo_5 : decode cX4_comesTo 5 = .ok (.getfield 86, 3) := dk_180 0 86 (dk_at dksX4_comesTo_0 5 rfl rfl)
theorem dX4_comesTo_8 : decode cX4_comesTo 8 = .ok (.iload_n 1, 1) := dk_27 (dk_at dksX4_comesTo_0 8 rfl rfl)
theorem dX4_comesTo_9 : decode cX4_comesTo 9 = .ok (.iastore, 1) := dk_79 (dk_at dksX4_comesTo_0 9 rfl rfl)
theorem dX4_comesTo_10 : decode cX4_comesTo 10 = .ok (.aload_n 0, 1) := dk_42 (dk_at dksX4_comesTo_0 10 rfl rfl)
theorem dX4_comesTo_11 : decode cX4_comesTo 11 = .ok (.aload_n 0, 1) := dk_42 (dk_at dksX4_comesTo_0 11 rfl rfl)
theorem dX4_comesTo_12 : decode cX4_comesTo 12 = .ok (.getfield 86, 3) := dk_180 0 86 (dk_at dksX4_comesTo_0 12 rfl rfl)
theorem dX4_comesTo_15 : decode cX4_comesTo 15 = .ok (.invokevirtual 120, 3) := dk_182 0 120 (dk_at dksX4_comesTo_0 15 rfl rfl)
theorem dX4_comesTo_18 : decode cX4_comesTo 18 = .ok (.aload_n 0, 1) := dk_42 (dk_at dksX4_comesTo_0 18 rfl rfl)
theorem dX4_comesTo_19 : decode cX4_comesTo 19 = .ok (.dup, 1) := dk_89 (dk_at dksX4_comesTo_0 19 rfl rfl)
theorem dX4_comesTo_20 : decode cX4_comesTo 20 = .ok (.getfield 86, 3) := dk_180 0 86 (dk_at dksX4_comesTo_0 20 rfl rfl)
theorem dX4_comesTo_23 : decode cX4_comesTo 23 = .ok (.dup_x1, 1) := dk_90 (dk_at dksX4_comesTo_0 23 rfl rfl)
theorem dX4_comesTo_24 : decode cX4_comesTo 24 = .ok (.iconst 1, 1) := dk_4 (dk_at dksX4_comesTo_1 0 rfl rfl)
theorem dX4_comesTo_25 : decode cX4_comesTo 25 = .ok (.iadd, 1) := dk_96 (dk_at dksX4_comesTo_1 1 rfl rfl)
theorem dX4_comesTo_26 : decode cX4_comesTo 26 = .ok (.putfield 86, 3) := dk_181 0 86 (dk_at dksX4_comesTo_1 2 rfl rfl)
theorem dX4_comesTo_29 : decode cX4_comesTo 29 = .ok (.ireturn, 1) := dk_172 (dk_at dksX4_comesTo_1 5 rfl rfl)
abbrev cX4_learns : ByteArray := prog_28_method_34_code
def yX4_learns : MethodName := ⟨RX4, "learns", "(I)V"⟩
def dkwX4_learns_2 : List UInt8 := [132, 2, 1, 167, 255, 230, 177]
abbrev dktX4_learns_2 : List UInt8 := dkwX4_learns_2 ++ []
def dkwX4_learns_1 : List UInt8 := [28, 16, 24, 162, 0, 26, 42, 180, 0, 20, 16, 24, 27, 104, 28, 96, 42, 180, 0, 62, 28, 46, 79]
abbrev dktX4_learns_1 : List UInt8 := dkwX4_learns_1 ++ dktX4_learns_2
def dkwX4_learns_0 : List UInt8 := [42, 180, 0, 7, 27, 46, 2, 160, 0, 4, 177, 42, 42, 180, 0, 7, 27, 46, 27, 182, 0, 166, 3, 61]
abbrev dktX4_learns_0 : List UInt8 := dkwX4_learns_0 ++ dktX4_learns_1
theorem dksX4_learns_0 : cX4_learns.data.toList.drop 0 = dktX4_learns_0 := by decide +kernel
theorem dksX4_learns_1 : cX4_learns.data.toList.drop 24 = dktX4_learns_1 := dk_seg dksX4_learns_0 24 rfl rfl
theorem dksX4_learns_2 : cX4_learns.data.toList.drop 47 = dktX4_learns_2 := dk_seg dksX4_learns_1 23 rfl rfl
theorem dX4_learns_0 : decode cX4_learns 0 = .ok (.aload_n 0, 1) := dk_42 (dk_at dksX4_learns_0 0 rfl rfl)
theorem dX4_learns_1 : decode cX4_learns 1 = .ok (.getfield 7, 3) := dk_180 0 7 (dk_at dksX4_learns_0 1 rfl rfl)
theorem dX4_learns_4 : decode cX4_learns 4 = .ok (.iload_n 1, 1) := dk_27 (dk_at dksX4_learns_0 4 rfl rfl)
theorem dX4_learns_5 : decode cX4_learns 5 = .ok (.iaload, 1) := dk_46 (dk_at dksX4_learns_0 5 rfl rfl)
theorem dX4_learns_6 : decode cX4_learns 6 = .ok (.iconst (-1), 1) := dk_2 (dk_at dksX4_learns_0 6 rfl rfl)
theorem dX4_learns_7 : decode cX4_learns 7 = .ok (.if_icmp .ne 4, 3) := dk_160 0 4 (dk_at dksX4_learns_0 7 rfl rfl)
theorem dX4_learns_10 : decode cX4_learns 10 = .ok (.return_, 1) := dk_177 (dk_at dksX4_learns_0 10 rfl rfl)
theorem dX4_learns_11 : decode cX4_learns 11 = .ok (.aload_n 0, 1) := dk_42 (dk_at dksX4_learns_0 11 rfl rfl)
theorem dX4_learns_12 : decode cX4_learns 12 = .ok (.aload_n 0, 1) := dk_42 (dk_at dksX4_learns_0 12 rfl rfl)
theorem dX4_learns_13 : decode cX4_learns 13 = .ok (.getfield 7, 3) := dk_180 0 7 (dk_at dksX4_learns_0 13 rfl rfl)
theorem dX4_learns_16 : decode cX4_learns 16 = .ok (.iload_n 1, 1) := dk_27 (dk_at dksX4_learns_0 16 rfl rfl)
theorem dX4_learns_17 : decode cX4_learns 17 = .ok (.iaload, 1) := dk_46 (dk_at dksX4_learns_0 17 rfl rfl)
theorem dX4_learns_18 : decode cX4_learns 18 = .ok (.iload_n 1, 1) := dk_27 (dk_at dksX4_learns_0 18 rfl rfl)
theorem dX4_learns_19 : decode cX4_learns 19 = .ok (.invokevirtual 166, 3) := dk_182 0 166 (dk_at dksX4_learns_0 19 rfl rfl)
theorem dX4_learns_22 : decode cX4_learns 22 = .ok (.iconst 0, 1) := dk_3 (dk_at dksX4_learns_0 22 rfl rfl)
theorem dX4_learns_23 : decode cX4_learns 23 = .ok (.istore_n 2, 1) := dk_61 (dk_at dksX4_learns_0 23 rfl rfl)
theorem dX4_learns_24 : decode cX4_learns 24 = .ok (.iload_n 2, 1) := dk_28 (dk_at dksX4_learns_1 0 rfl rfl)
theorem dX4_learns_25 : decode cX4_learns 25 = .ok (.bipush 24, 2) := dk_16 24 (dk_at dksX4_learns_1 1 rfl rfl)
theorem dX4_learns_27 : decode cX4_learns 27 = .ok (.if_icmp .ge 26, 3) := dk_162 0 26 (dk_at dksX4_learns_1 3 rfl rfl)
theorem dX4_learns_30 : decode cX4_learns 30 = .ok (.aload_n 0, 1) := dk_42 (dk_at dksX4_learns_1 6 rfl rfl)
theorem dX4_learns_31 : decode cX4_learns 31 = .ok (.getfield 20, 3) := dk_180 0 20 (dk_at dksX4_learns_1 7 rfl rfl)
theorem dX4_learns_34 : decode cX4_learns 34 = .ok (.bipush 24, 2) := dk_16 24 (dk_at dksX4_learns_1 10 rfl rfl)
theorem dX4_learns_36 : decode cX4_learns 36 = .ok (.iload_n 1, 1) := dk_27 (dk_at dksX4_learns_1 12 rfl rfl)
theorem dX4_learns_37 : decode cX4_learns 37 = .ok (.imul, 1) := dk_104 (dk_at dksX4_learns_1 13 rfl rfl)
theorem dX4_learns_38 : decode cX4_learns 38 = .ok (.iload_n 2, 1) := dk_28 (dk_at dksX4_learns_1 14 rfl rfl)
theorem dX4_learns_39 : decode cX4_learns 39 = .ok (.iadd, 1) := dk_96 (dk_at dksX4_learns_1 15 rfl rfl)
theorem dX4_learns_40 : decode cX4_learns 40 = .ok (.aload_n 0, 1) := dk_42 (dk_at dksX4_learns_1 16 rfl rfl)
theorem dX4_learns_41 : decode cX4_learns 41 = .ok (.getfield 62, 3) := dk_180 0 62 (dk_at dksX4_learns_1 17 rfl rfl)
theorem dX4_learns_44 : decode cX4_learns 44 = .ok (.iload_n 2, 1) := dk_28 (dk_at dksX4_learns_1 20 rfl rfl)
theorem dX4_learns_45 : decode cX4_learns 45 = .ok (.iaload, 1) := dk_46 (dk_at dksX4_learns_1 21 rfl rfl)
theorem dX4_learns_46 : decode cX4_learns 46 = .ok (.iastore, 1) := dk_79 (dk_at dksX4_learns_1 22 rfl rfl)
theorem dX4_learns_47 : decode cX4_learns 47 = .ok (.iinc 2 1, 3) := dk_132 2 1 (dk_at dksX4_learns_2 0 rfl rfl)
theorem dX4_learns_50 : decode cX4_learns 50 = .ok (.goto (-26), 3) := dk_167 255 230 (dk_at dksX4_learns_2 3 rfl rfl)
theorem dX4_learns_53 : decode cX4_learns 53 = .ok (.return_, 1) := dk_177 (dk_at dksX4_learns_2 6 rfl rfl)
abbrev cX4_places : ByteArray := prog_28_method_33_code
def yX4_places : MethodName := ⟨RX4, "places", "(II)V"⟩
def dkwX4_places_2 : List UInt8 := [153, 0, 13, 42, 27, 28, 182, 0, 163, 62, 167, 255, 245, 177]
abbrev dktX4_places_2 : List UInt8 := dkwX4_places_2 ++ []
def dkwX4_places_1 : List UInt8 := [79, 42, 180, 0, 65, 29, 3, 84, 132, 3, 1, 167, 255, 233, 42, 27, 28, 182, 0, 160, 4, 62, 29]
abbrev dktX4_places_1 : List UInt8 := dkwX4_places_1 ++ dktX4_places_2
def dkwX4_places_0 : List UInt8 := [42, 3, 181, 0, 150, 42, 3, 181, 0, 157, 3, 62, 29, 16, 24, 162, 0, 23, 42, 180, 0, 62, 29, 2]
abbrev dktX4_places_0 : List UInt8 := dkwX4_places_0 ++ dktX4_places_1
theorem dksX4_places_0 : cX4_places.data.toList.drop 0 = dktX4_places_0 := by decide +kernel
theorem dksX4_places_1 : cX4_places.data.toList.drop 24 = dktX4_places_1 := dk_seg dksX4_places_0 24 rfl rfl
theorem dksX4_places_2 : cX4_places.data.toList.drop 47 = dktX4_places_2 := dk_seg dksX4_places_1 23 rfl rfl
theorem dX4_places_0 : decode cX4_places 0 = .ok (.aload_n 0, 1) := dk_42 (dk_at dksX4_places_0 0 rfl rfl)
theorem dX4_places_1 : decode cX4_places 1 = .ok (.iconst 0, 1) := dk_3 (dk_at dksX4_places_0 1 rfl rfl)
theorem dX4_places_2 : decode cX4_places 2 = .ok (.putfield 150, 3) := dk_181 0 150 (dk_at dksX4_places_0 2 rfl rfl)
theorem dX4_places_5 : decode cX4_places 5 = .ok (.aload_n 0, 1) := dk_42 (dk_at dksX4_places_0 5 rfl rfl)
theorem dX4_places_6 : decode cX4_places 6 = .ok (.iconst 0, 1) := dk_3 (dk_at dksX4_places_0 6 rfl rfl)
theorem dX4_places_7 : decode cX4_places 7 = .ok (.putfield 157, 3) := dk_181 0 157 (dk_at dksX4_places_0 7 rfl rfl)
theorem dX4_places_10 : decode cX4_places 10 = .ok (.iconst 0, 1) := dk_3 (dk_at dksX4_places_0 10 rfl rfl)
theorem dX4_places_11 : decode cX4_places 11 = .ok (.istore_n 3, 1) := dk_62 (dk_at dksX4_places_0 11 rfl rfl)
theorem dX4_places_12 : decode cX4_places 12 = .ok (.iload_n 3, 1) := dk_29 (dk_at dksX4_places_0 12 rfl rfl)
theorem dX4_places_13 : decode cX4_places 13 = .ok (.bipush 24, 2) := dk_16 24 (dk_at dksX4_places_0 13 rfl rfl)
theorem dX4_places_15 : decode cX4_places 15 = .ok (.if_icmp .ge 23, 3) := dk_162 0 23 (dk_at dksX4_places_0 15 rfl rfl)
theorem dX4_places_18 : decode cX4_places 18 = .ok (.aload_n 0, 1) := dk_42 (dk_at dksX4_places_0 18 rfl rfl)
theorem dX4_places_19 : decode cX4_places 19 = .ok (.getfield 62, 3) := dk_180 0 62 (dk_at dksX4_places_0 19 rfl rfl)
theorem dX4_places_22 : decode cX4_places 22 = .ok (.iload_n 3, 1) := dk_29 (dk_at dksX4_places_0 22 rfl rfl)
theorem dX4_places_23 : decode cX4_places 23 = .ok (.iconst (-1), 1) := dk_2 (dk_at dksX4_places_0 23 rfl rfl)
theorem dX4_places_24 : decode cX4_places 24 = .ok (.iastore, 1) := dk_79 (dk_at dksX4_places_1 0 rfl rfl)
theorem dX4_places_25 : decode cX4_places 25 = .ok (.aload_n 0, 1) := dk_42 (dk_at dksX4_places_1 1 rfl rfl)
theorem dX4_places_26 : decode cX4_places 26 = .ok (.getfield 65, 3) := dk_180 0 65 (dk_at dksX4_places_1 2 rfl rfl)
theorem dX4_places_29 : decode cX4_places 29 = .ok (.iload_n 3, 1) := dk_29 (dk_at dksX4_places_1 5 rfl rfl)
theorem dX4_places_30 : decode cX4_places 30 = .ok (.iconst 0, 1) := dk_3 (dk_at dksX4_places_1 6 rfl rfl)
theorem dX4_places_31 : decode cX4_places 31 = .ok (.bastore, 1) := dk_84 (dk_at dksX4_places_1 7 rfl rfl)
theorem dX4_places_32 : decode cX4_places 32 = .ok (.iinc 3 1, 3) := dk_132 3 1 (dk_at dksX4_places_1 8 rfl rfl)
theorem dX4_places_35 : decode cX4_places 35 = .ok (.goto (-23), 3) := dk_167 255 233 (dk_at dksX4_places_1 11 rfl rfl)
theorem dX4_places_38 : decode cX4_places 38 = .ok (.aload_n 0, 1) := dk_42 (dk_at dksX4_places_1 14 rfl rfl)
theorem dX4_places_39 : decode cX4_places 39 = .ok (.iload_n 1, 1) := dk_27 (dk_at dksX4_places_1 15 rfl rfl)
theorem dX4_places_40 : decode cX4_places 40 = .ok (.iload_n 2, 1) := dk_28 (dk_at dksX4_places_1 16 rfl rfl)
theorem dX4_places_41 : decode cX4_places 41 = .ok (.invokevirtual 160, 3) := dk_182 0 160 (dk_at dksX4_places_1 17 rfl rfl)
theorem dX4_places_44 : decode cX4_places 44 = .ok (.iconst 1, 1) := dk_4 (dk_at dksX4_places_1 20 rfl rfl)
theorem dX4_places_45 : decode cX4_places 45 = .ok (.istore_n 3, 1) := dk_62 (dk_at dksX4_places_1 21 rfl rfl)
theorem dX4_places_46 : decode cX4_places 46 = .ok (.iload_n 3, 1) := dk_29 (dk_at dksX4_places_1 22 rfl rfl)
theorem dX4_places_47 : decode cX4_places 47 = .ok (.ifCond .eq 13, 3) := dk_153 0 13 (dk_at dksX4_places_2 0 rfl rfl)
theorem dX4_places_50 : decode cX4_places 50 = .ok (.aload_n 0, 1) := dk_42 (dk_at dksX4_places_2 3 rfl rfl)
theorem dX4_places_51 : decode cX4_places 51 = .ok (.iload_n 1, 1) := dk_27 (dk_at dksX4_places_2 4 rfl rfl)
theorem dX4_places_52 : decode cX4_places 52 = .ok (.iload_n 2, 1) := dk_28 (dk_at dksX4_places_2 5 rfl rfl)
theorem dX4_places_53 : decode cX4_places 53 = .ok (.invokevirtual 163, 3) := dk_182 0 163 (dk_at dksX4_places_2 6 rfl rfl)
theorem dX4_places_56 : decode cX4_places 56 = .ok (.istore_n 3, 1) := dk_62 (dk_at dksX4_places_2 9 rfl rfl)
theorem dX4_places_57 : decode cX4_places 57 = .ok (.goto (-11), 3) := dk_167 255 245 (dk_at dksX4_places_2 10 rfl rfl)
theorem dX4_places_60 : decode cX4_places 60 = .ok (.return_, 1) := dk_177 (dk_at dksX4_places_2 13 rfl rfl)
abbrev cX4_pairs : ByteArray := prog_28_method_30_code
def yX4_pairs : MethodName := ⟨RX4, "pairs", "(II)V"⟩
def dkwX4_pairs_11 : List UInt8 := [21, 6, 96, 4, 96, 46, 161, 0, 9, 132, 5, 1, 167, 255, 157, 132, 6, 1, 167, 255, 151, 177]
abbrev dktX4_pairs_11 : List UInt8 := dkwX4_pairs_11 ++ []
def dkwX4_pairs_10 : List UInt8 := [180, 0, 59, 16, 25, 21, 5, 104, 21, 6, 96, 16, 25, 96, 46, 42, 180, 0, 59, 16, 25, 21, 5, 104]
abbrev dktX4_pairs_10 : List UInt8 := dkwX4_pairs_10 ++ dktX4_pairs_11
def dkwX4_pairs_9 : List UInt8 := [21, 6, 4, 84, 42, 89, 180, 0, 150, 4, 96, 181, 0, 150, 132, 5, 1, 132, 6, 1, 167, 255, 197, 42]
abbrev dktX4_pairs_9 : List UInt8 := dkwX4_pairs_9 ++ dktX4_pairs_10
def dkwX4_pairs_8 : List UInt8 := [21, 5, 28, 21, 6, 182, 0, 141, 153, 0, 39, 42, 180, 0, 62, 21, 5, 21, 6, 79, 42, 180, 0, 65]
abbrev dktX4_pairs_8 : List UInt8 := dkwX4_pairs_8 ++ dktX4_pairs_9
def dkwX4_pairs_7 : List UInt8 := [167, 255, 109, 3, 54, 5, 3, 54, 6, 21, 5, 29, 162, 0, 105, 21, 6, 21, 4, 162, 0, 98, 42, 27]
abbrev dktX4_pairs_7 : List UInt8 := dkwX4_pairs_7 ++ dktX4_pairs_8
def dkwX4_pairs_6 : List UInt8 := [16, 25, 21, 5, 104, 21, 6, 96, 4, 96, 46, 184, 0, 145, 79, 132, 6, 255, 167, 255, 124, 132, 5, 255]
abbrev dktX4_pairs_6 : List UInt8 := dkwX4_pairs_6 ++ dktX4_pairs_7
def dkwX4_pairs_5 : List UInt8 := [104, 21, 6, 96, 42, 180, 0, 59, 16, 25, 21, 5, 104, 21, 6, 96, 16, 25, 96, 46, 42, 180, 0, 59]
abbrev dktX4_pairs_5 : List UInt8 := dkwX4_pairs_5 ++ dktX4_pairs_6
def dkwX4_pairs_4 : List UInt8 := [21, 5, 104, 21, 6, 96, 16, 26, 96, 46, 4, 96, 79, 167, 0, 50, 42, 180, 0, 59, 16, 25, 21, 5]
abbrev dktX4_pairs_4 : List UInt8 := dkwX4_pairs_4 ++ dktX4_pairs_5
def dkwX4_pairs_3 : List UInt8 := [182, 0, 141, 153, 0, 37, 42, 180, 0, 59, 16, 25, 21, 5, 104, 21, 6, 96, 42, 180, 0, 59, 16, 25]
abbrev dktX4_pairs_3 : List UInt8 := dkwX4_pairs_3 ++ dktX4_pairs_4
def dkwX4_pairs_2 : List UInt8 := [180, 0, 59, 16, 25, 21, 5, 104, 21, 6, 96, 3, 79, 167, 0, 97, 42, 27, 21, 5, 28, 21, 6]
abbrev dktX4_pairs_2 : List UInt8 := dkwX4_pairs_2 ++ dktX4_pairs_3
def dkwX4_pairs_1 : List UInt8 := [21, 4, 54, 6, 21, 6, 155, 0, 133, 21, 5, 29, 159, 0, 10, 21, 6, 21, 4, 160, 0, 20, 42]
abbrev dktX4_pairs_1 : List UInt8 := dkwX4_pairs_1 ++ dktX4_pairs_2
def dkwX4_pairs_0 : List UInt8 := [42, 180, 0, 13, 27, 46, 62, 42, 180, 0, 13, 28, 46, 54, 4, 29, 54, 5, 21, 5, 155, 0, 148]
abbrev dktX4_pairs_0 : List UInt8 := dkwX4_pairs_0 ++ dktX4_pairs_1
theorem dksX4_pairs_0 : cX4_pairs.data.toList.drop 0 = dktX4_pairs_0 := by decide +kernel
theorem dksX4_pairs_1 : cX4_pairs.data.toList.drop 23 = dktX4_pairs_1 := dk_seg dksX4_pairs_0 23 rfl rfl
theorem dksX4_pairs_2 : cX4_pairs.data.toList.drop 46 = dktX4_pairs_2 := dk_seg dksX4_pairs_1 23 rfl rfl
theorem dksX4_pairs_3 : cX4_pairs.data.toList.drop 69 = dktX4_pairs_3 := dk_seg dksX4_pairs_2 23 rfl rfl
theorem dksX4_pairs_4 : cX4_pairs.data.toList.drop 93 = dktX4_pairs_4 := dk_seg dksX4_pairs_3 24 rfl rfl
theorem dksX4_pairs_5 : cX4_pairs.data.toList.drop 117 = dktX4_pairs_5 := dk_seg dksX4_pairs_4 24 rfl rfl
theorem dksX4_pairs_6 : cX4_pairs.data.toList.drop 141 = dktX4_pairs_6 := dk_seg dksX4_pairs_5 24 rfl rfl
theorem dksX4_pairs_7 : cX4_pairs.data.toList.drop 165 = dktX4_pairs_7 := dk_seg dksX4_pairs_6 24 rfl rfl
theorem dksX4_pairs_8 : cX4_pairs.data.toList.drop 189 = dktX4_pairs_8 := dk_seg dksX4_pairs_7 24 rfl rfl
theorem dksX4_pairs_9 : cX4_pairs.data.toList.drop 213 = dktX4_pairs_9 := dk_seg dksX4_pairs_8 24 rfl rfl
theorem dksX4_pairs_10 : cX4_pairs.data.toList.drop 237 = dktX4_pairs_10 := dk_seg dksX4_pairs_9 24 rfl rfl
theorem dksX4_pairs_11 : cX4_pairs.data.toList.drop 261 = dktX4_pairs_11 := dk_seg dksX4_pairs_10 24 rfl rfl
theorem dX4_pairs_0 : decode cX4_pairs 0 = .ok (.aload_n 0, 1) := dk_42 (dk_at dksX4_pairs_0 0 rfl rfl)
theorem dX4_pairs_1 : decode cX4_pairs 1 = .ok (.getfield 13, 3) := dk_180 0 13 (dk_at dksX4_pairs_0 1 rfl rfl)
theorem dX4_pairs_4 : decode cX4_pairs 4 = .ok (.iload_n 1, 1) := dk_27 (dk_at dksX4_pairs_0 4 rfl rfl)
theorem dX4_pairs_5 : decode cX4_pairs 5 = .ok (.iaload, 1) := dk_46 (dk_at dksX4_pairs_0 5 rfl rfl)
theorem dX4_pairs_6 : decode cX4_pairs 6 = .ok (.istore_n 3, 1) := dk_62 (dk_at dksX4_pairs_0 6 rfl rfl)
theorem dX4_pairs_7 : decode cX4_pairs 7 = .ok (.aload_n 0, 1) := dk_42 (dk_at dksX4_pairs_0 7 rfl rfl)
theorem dX4_pairs_8 : decode cX4_pairs 8 = .ok (.getfield 13, 3) := dk_180 0 13 (dk_at dksX4_pairs_0 8 rfl rfl)
theorem dX4_pairs_11 : decode cX4_pairs 11 = .ok (.iload_n 2, 1) := dk_28 (dk_at dksX4_pairs_0 11 rfl rfl)
theorem dX4_pairs_12 : decode cX4_pairs 12 = .ok (.iaload, 1) := dk_46 (dk_at dksX4_pairs_0 12 rfl rfl)
theorem dX4_pairs_13 : decode cX4_pairs 13 = .ok (.istore 4, 2) := dk_54 4 (dk_at dksX4_pairs_0 13 rfl rfl)
theorem dX4_pairs_15 : decode cX4_pairs 15 = .ok (.iload_n 3, 1) := dk_29 (dk_at dksX4_pairs_0 15 rfl rfl)
theorem dX4_pairs_16 : decode cX4_pairs 16 = .ok (.istore 5, 2) := dk_54 5 (dk_at dksX4_pairs_0 16 rfl rfl)
theorem dX4_pairs_18 : decode cX4_pairs 18 = .ok (.iload 5, 2) := dk_21 5 (dk_at dksX4_pairs_0 18 rfl rfl)
theorem dX4_pairs_20 : decode cX4_pairs 20 = .ok (.ifCond .lt 148, 3) := dk_155 0 148 (dk_at dksX4_pairs_0 20 rfl rfl)
theorem dX4_pairs_23 : decode cX4_pairs 23 = .ok (.iload 4, 2) := dk_21 4 (dk_at dksX4_pairs_1 0 rfl rfl)
theorem dX4_pairs_25 : decode cX4_pairs 25 = .ok (.istore 6, 2) := dk_54 6 (dk_at dksX4_pairs_1 2 rfl rfl)
theorem dX4_pairs_27 : decode cX4_pairs 27 = .ok (.iload 6, 2) := dk_21 6 (dk_at dksX4_pairs_1 4 rfl rfl)
theorem dX4_pairs_29 : decode cX4_pairs 29 = .ok (.ifCond .lt 133, 3) := dk_155 0 133 (dk_at dksX4_pairs_1 6 rfl rfl)
theorem dX4_pairs_32 : decode cX4_pairs 32 = .ok (.iload 5, 2) := dk_21 5 (dk_at dksX4_pairs_1 9 rfl rfl)
theorem dX4_pairs_34 : decode cX4_pairs 34 = .ok (.iload_n 3, 1) := dk_29 (dk_at dksX4_pairs_1 11 rfl rfl)
theorem dX4_pairs_35 : decode cX4_pairs 35 = .ok (.if_icmp .eq 10, 3) := dk_159 0 10 (dk_at dksX4_pairs_1 12 rfl rfl)
theorem dX4_pairs_38 : decode cX4_pairs 38 = .ok (.iload 6, 2) := dk_21 6 (dk_at dksX4_pairs_1 15 rfl rfl)
theorem dX4_pairs_40 : decode cX4_pairs 40 = .ok (.iload 4, 2) := dk_21 4 (dk_at dksX4_pairs_1 17 rfl rfl)
theorem dX4_pairs_42 : decode cX4_pairs 42 = .ok (.if_icmp .ne 20, 3) := dk_160 0 20 (dk_at dksX4_pairs_1 19 rfl rfl)
theorem dX4_pairs_45 : decode cX4_pairs 45 = .ok (.aload_n 0, 1) := dk_42 (dk_at dksX4_pairs_1 22 rfl rfl)
theorem dX4_pairs_46 : decode cX4_pairs 46 = .ok (.getfield 59, 3) := dk_180 0 59 (dk_at dksX4_pairs_2 0 rfl rfl)
theorem dX4_pairs_49 : decode cX4_pairs 49 = .ok (.bipush 25, 2) := dk_16 25 (dk_at dksX4_pairs_2 3 rfl rfl)
theorem dX4_pairs_51 : decode cX4_pairs 51 = .ok (.iload 5, 2) := dk_21 5 (dk_at dksX4_pairs_2 5 rfl rfl)
theorem dX4_pairs_53 : decode cX4_pairs 53 = .ok (.imul, 1) := dk_104 (dk_at dksX4_pairs_2 7 rfl rfl)
theorem dX4_pairs_54 : decode cX4_pairs 54 = .ok (.iload 6, 2) := dk_21 6 (dk_at dksX4_pairs_2 8 rfl rfl)
theorem dX4_pairs_56 : decode cX4_pairs 56 = .ok (.iadd, 1) := dk_96 (dk_at dksX4_pairs_2 10 rfl rfl)
theorem dX4_pairs_57 : decode cX4_pairs 57 = .ok (.iconst 0, 1) := dk_3 (dk_at dksX4_pairs_2 11 rfl rfl)
theorem dX4_pairs_58 : decode cX4_pairs 58 = .ok (.iastore, 1) := dk_79 (dk_at dksX4_pairs_2 12 rfl rfl)
theorem dX4_pairs_59 : decode cX4_pairs 59 = .ok (.goto 97, 3) := dk_167 0 97 (dk_at dksX4_pairs_2 13 rfl rfl)
theorem dX4_pairs_62 : decode cX4_pairs 62 = .ok (.aload_n 0, 1) := dk_42 (dk_at dksX4_pairs_2 16 rfl rfl)
theorem dX4_pairs_63 : decode cX4_pairs 63 = .ok (.iload_n 1, 1) := dk_27 (dk_at dksX4_pairs_2 17 rfl rfl)
theorem dX4_pairs_64 : decode cX4_pairs 64 = .ok (.iload 5, 2) := dk_21 5 (dk_at dksX4_pairs_2 18 rfl rfl)
theorem dX4_pairs_66 : decode cX4_pairs 66 = .ok (.iload_n 2, 1) := dk_28 (dk_at dksX4_pairs_2 20 rfl rfl)
theorem dX4_pairs_67 : decode cX4_pairs 67 = .ok (.iload 6, 2) := dk_21 6 (dk_at dksX4_pairs_2 21 rfl rfl)
theorem dX4_pairs_69 : decode cX4_pairs 69 = .ok (.invokevirtual 141, 3) := dk_182 0 141 (dk_at dksX4_pairs_3 0 rfl rfl)
theorem dX4_pairs_72 : decode cX4_pairs 72 = .ok (.ifCond .eq 37, 3) := dk_153 0 37 (dk_at dksX4_pairs_3 3 rfl rfl)
theorem dX4_pairs_75 : decode cX4_pairs 75 = .ok (.aload_n 0, 1) := dk_42 (dk_at dksX4_pairs_3 6 rfl rfl)
theorem dX4_pairs_76 : decode cX4_pairs 76 = .ok (.getfield 59, 3) := dk_180 0 59 (dk_at dksX4_pairs_3 7 rfl rfl)
theorem dX4_pairs_79 : decode cX4_pairs 79 = .ok (.bipush 25, 2) := dk_16 25 (dk_at dksX4_pairs_3 10 rfl rfl)
theorem dX4_pairs_81 : decode cX4_pairs 81 = .ok (.iload 5, 2) := dk_21 5 (dk_at dksX4_pairs_3 12 rfl rfl)
theorem dX4_pairs_83 : decode cX4_pairs 83 = .ok (.imul, 1) := dk_104 (dk_at dksX4_pairs_3 14 rfl rfl)
theorem dX4_pairs_84 : decode cX4_pairs 84 = .ok (.iload 6, 2) := dk_21 6 (dk_at dksX4_pairs_3 15 rfl rfl)
theorem dX4_pairs_86 : decode cX4_pairs 86 = .ok (.iadd, 1) := dk_96 (dk_at dksX4_pairs_3 17 rfl rfl)
theorem dX4_pairs_87 : decode cX4_pairs 87 = .ok (.aload_n 0, 1) := dk_42 (dk_at dksX4_pairs_3 18 rfl rfl)
theorem dX4_pairs_88 : decode cX4_pairs 88 = .ok (.getfield 59, 3) := dk_180 0 59 (dk_at dksX4_pairs_3 19 rfl rfl)
theorem dX4_pairs_91 : decode cX4_pairs 91 = .ok (.bipush 25, 2) := dk_16 25 (dk_at dksX4_pairs_3 22 rfl rfl)
theorem dX4_pairs_93 : decode cX4_pairs 93 = .ok (.iload 5, 2) := dk_21 5 (dk_at dksX4_pairs_4 0 rfl rfl)
theorem dX4_pairs_95 : decode cX4_pairs 95 = .ok (.imul, 1) := dk_104 (dk_at dksX4_pairs_4 2 rfl rfl)
theorem dX4_pairs_96 : decode cX4_pairs 96 = .ok (.iload 6, 2) := dk_21 6 (dk_at dksX4_pairs_4 3 rfl rfl)
theorem dX4_pairs_98 : decode cX4_pairs 98 = .ok (.iadd, 1) := dk_96 (dk_at dksX4_pairs_4 5 rfl rfl)
theorem dX4_pairs_99 : decode cX4_pairs 99 = .ok (.bipush 26, 2) := dk_16 26 (dk_at dksX4_pairs_4 6 rfl rfl)
theorem dX4_pairs_101 : decode cX4_pairs 101 = .ok (.iadd, 1) := dk_96 (dk_at dksX4_pairs_4 8 rfl rfl)
theorem dX4_pairs_102 : decode cX4_pairs 102 = .ok (.iaload, 1) := dk_46 (dk_at dksX4_pairs_4 9 rfl rfl)
theorem dX4_pairs_103 : decode cX4_pairs 103 = .ok (.iconst 1, 1) := dk_4 (dk_at dksX4_pairs_4 10 rfl rfl)
theorem dX4_pairs_104 : decode cX4_pairs 104 = .ok (.iadd, 1) := dk_96 (dk_at dksX4_pairs_4 11 rfl rfl)
theorem dX4_pairs_105 : decode cX4_pairs 105 = .ok (.iastore, 1) := dk_79 (dk_at dksX4_pairs_4 12 rfl rfl)
theorem dX4_pairs_106 : decode cX4_pairs 106 = .ok (.goto 50, 3) := dk_167 0 50 (dk_at dksX4_pairs_4 13 rfl rfl)
theorem dX4_pairs_109 : decode cX4_pairs 109 = .ok (.aload_n 0, 1) := dk_42 (dk_at dksX4_pairs_4 16 rfl rfl)
theorem dX4_pairs_110 : decode cX4_pairs 110 = .ok (.getfield 59, 3) := dk_180 0 59 (dk_at dksX4_pairs_4 17 rfl rfl)
theorem dX4_pairs_113 : decode cX4_pairs 113 = .ok (.bipush 25, 2) := dk_16 25 (dk_at dksX4_pairs_4 20 rfl rfl)
theorem dX4_pairs_115 : decode cX4_pairs 115 = .ok (.iload 5, 2) := dk_21 5 (dk_at dksX4_pairs_4 22 rfl rfl)
theorem dX4_pairs_117 : decode cX4_pairs 117 = .ok (.imul, 1) := dk_104 (dk_at dksX4_pairs_5 0 rfl rfl)
theorem dX4_pairs_118 : decode cX4_pairs 118 = .ok (.iload 6, 2) := dk_21 6 (dk_at dksX4_pairs_5 1 rfl rfl)
theorem dX4_pairs_120 : decode cX4_pairs 120 = .ok (.iadd, 1) := dk_96 (dk_at dksX4_pairs_5 3 rfl rfl)
theorem dX4_pairs_121 : decode cX4_pairs 121 = .ok (.aload_n 0, 1) := dk_42 (dk_at dksX4_pairs_5 4 rfl rfl)
theorem dX4_pairs_122 : decode cX4_pairs 122 = .ok (.getfield 59, 3) := dk_180 0 59 (dk_at dksX4_pairs_5 5 rfl rfl)
theorem dX4_pairs_125 : decode cX4_pairs 125 = .ok (.bipush 25, 2) := dk_16 25 (dk_at dksX4_pairs_5 8 rfl rfl)
theorem dX4_pairs_127 : decode cX4_pairs 127 = .ok (.iload 5, 2) := dk_21 5 (dk_at dksX4_pairs_5 10 rfl rfl)
theorem dX4_pairs_129 : decode cX4_pairs 129 = .ok (.imul, 1) := dk_104 (dk_at dksX4_pairs_5 12 rfl rfl)
theorem dX4_pairs_130 : decode cX4_pairs 130 = .ok (.iload 6, 2) := dk_21 6 (dk_at dksX4_pairs_5 13 rfl rfl)
theorem dX4_pairs_132 : decode cX4_pairs 132 = .ok (.iadd, 1) := dk_96 (dk_at dksX4_pairs_5 15 rfl rfl)
theorem dX4_pairs_133 : decode cX4_pairs 133 = .ok (.bipush 25, 2) := dk_16 25 (dk_at dksX4_pairs_5 16 rfl rfl)
theorem dX4_pairs_135 : decode cX4_pairs 135 = .ok (.iadd, 1) := dk_96 (dk_at dksX4_pairs_5 18 rfl rfl)
theorem dX4_pairs_136 : decode cX4_pairs 136 = .ok (.iaload, 1) := dk_46 (dk_at dksX4_pairs_5 19 rfl rfl)
theorem dX4_pairs_137 : decode cX4_pairs 137 = .ok (.aload_n 0, 1) := dk_42 (dk_at dksX4_pairs_5 20 rfl rfl)
theorem dX4_pairs_138 : decode cX4_pairs 138 = .ok (.getfield 59, 3) := dk_180 0 59 (dk_at dksX4_pairs_5 21 rfl rfl)
theorem dX4_pairs_141 : decode cX4_pairs 141 = .ok (.bipush 25, 2) := dk_16 25 (dk_at dksX4_pairs_6 0 rfl rfl)
theorem dX4_pairs_143 : decode cX4_pairs 143 = .ok (.iload 5, 2) := dk_21 5 (dk_at dksX4_pairs_6 2 rfl rfl)
theorem dX4_pairs_145 : decode cX4_pairs 145 = .ok (.imul, 1) := dk_104 (dk_at dksX4_pairs_6 4 rfl rfl)
theorem dX4_pairs_146 : decode cX4_pairs 146 = .ok (.iload 6, 2) := dk_21 6 (dk_at dksX4_pairs_6 5 rfl rfl)
theorem dX4_pairs_148 : decode cX4_pairs 148 = .ok (.iadd, 1) := dk_96 (dk_at dksX4_pairs_6 7 rfl rfl)
theorem dX4_pairs_149 : decode cX4_pairs 149 = .ok (.iconst 1, 1) := dk_4 (dk_at dksX4_pairs_6 8 rfl rfl)
theorem dX4_pairs_150 : decode cX4_pairs 150 = .ok (.iadd, 1) := dk_96 (dk_at dksX4_pairs_6 9 rfl rfl)
theorem dX4_pairs_151 : decode cX4_pairs 151 = .ok (.iaload, 1) := dk_46 (dk_at dksX4_pairs_6 10 rfl rfl)
theorem dX4_pairs_152 : decode cX4_pairs 152 = .ok (.invokestatic 145, 3) := dk_184 0 145 (dk_at dksX4_pairs_6 11 rfl rfl)
theorem dX4_pairs_155 : decode cX4_pairs 155 = .ok (.iastore, 1) := dk_79 (dk_at dksX4_pairs_6 14 rfl rfl)
theorem dX4_pairs_156 : decode cX4_pairs 156 = .ok (.iinc 6 (-1), 3) := dk_132 6 255 (dk_at dksX4_pairs_6 15 rfl rfl)
theorem dX4_pairs_159 : decode cX4_pairs 159 = .ok (.goto (-132), 3) := dk_167 255 124 (dk_at dksX4_pairs_6 18 rfl rfl)
theorem dX4_pairs_162 : decode cX4_pairs 162 = .ok (.iinc 5 (-1), 3) := dk_132 5 255 (dk_at dksX4_pairs_6 21 rfl rfl)
theorem dX4_pairs_165 : decode cX4_pairs 165 = .ok (.goto (-147), 3) := dk_167 255 109 (dk_at dksX4_pairs_7 0 rfl rfl)
theorem dX4_pairs_168 : decode cX4_pairs 168 = .ok (.iconst 0, 1) := dk_3 (dk_at dksX4_pairs_7 3 rfl rfl)
theorem dX4_pairs_169 : decode cX4_pairs 169 = .ok (.istore 5, 2) := dk_54 5 (dk_at dksX4_pairs_7 4 rfl rfl)
theorem dX4_pairs_171 : decode cX4_pairs 171 = .ok (.iconst 0, 1) := dk_3 (dk_at dksX4_pairs_7 6 rfl rfl)
theorem dX4_pairs_172 : decode cX4_pairs 172 = .ok (.istore 6, 2) := dk_54 6 (dk_at dksX4_pairs_7 7 rfl rfl)
theorem dX4_pairs_174 : decode cX4_pairs 174 = .ok (.iload 5, 2) := dk_21 5 (dk_at dksX4_pairs_7 9 rfl rfl)
theorem dX4_pairs_176 : decode cX4_pairs 176 = .ok (.iload_n 3, 1) := dk_29 (dk_at dksX4_pairs_7 11 rfl rfl)
theorem dX4_pairs_177 : decode cX4_pairs 177 = .ok (.if_icmp .ge 105, 3) := dk_162 0 105 (dk_at dksX4_pairs_7 12 rfl rfl)
theorem dX4_pairs_180 : decode cX4_pairs 180 = .ok (.iload 6, 2) := dk_21 6 (dk_at dksX4_pairs_7 15 rfl rfl)
theorem dX4_pairs_182 : decode cX4_pairs 182 = .ok (.iload 4, 2) := dk_21 4 (dk_at dksX4_pairs_7 17 rfl rfl)
theorem dX4_pairs_184 : decode cX4_pairs 184 = .ok (.if_icmp .ge 98, 3) := dk_162 0 98 (dk_at dksX4_pairs_7 19 rfl rfl)
theorem dX4_pairs_187 : decode cX4_pairs 187 = .ok (.aload_n 0, 1) := dk_42 (dk_at dksX4_pairs_7 22 rfl rfl)
theorem dX4_pairs_188 : decode cX4_pairs 188 = .ok (.iload_n 1, 1) := dk_27 (dk_at dksX4_pairs_7 23 rfl rfl)
theorem dX4_pairs_189 : decode cX4_pairs 189 = .ok (.iload 5, 2) := dk_21 5 (dk_at dksX4_pairs_8 0 rfl rfl)
theorem dX4_pairs_191 : decode cX4_pairs 191 = .ok (.iload_n 2, 1) := dk_28 (dk_at dksX4_pairs_8 2 rfl rfl)
theorem dX4_pairs_192 : decode cX4_pairs 192 = .ok (.iload 6, 2) := dk_21 6 (dk_at dksX4_pairs_8 3 rfl rfl)
theorem dX4_pairs_194 : decode cX4_pairs 194 = .ok (.invokevirtual 141, 3) := dk_182 0 141 (dk_at dksX4_pairs_8 5 rfl rfl)
theorem dX4_pairs_197 : decode cX4_pairs 197 = .ok (.ifCond .eq 39, 3) := dk_153 0 39 (dk_at dksX4_pairs_8 8 rfl rfl)
theorem dX4_pairs_200 : decode cX4_pairs 200 = .ok (.aload_n 0, 1) := dk_42 (dk_at dksX4_pairs_8 11 rfl rfl)
theorem dX4_pairs_201 : decode cX4_pairs 201 = .ok (.getfield 62, 3) := dk_180 0 62 (dk_at dksX4_pairs_8 12 rfl rfl)
theorem dX4_pairs_204 : decode cX4_pairs 204 = .ok (.iload 5, 2) := dk_21 5 (dk_at dksX4_pairs_8 15 rfl rfl)
theorem dX4_pairs_206 : decode cX4_pairs 206 = .ok (.iload 6, 2) := dk_21 6 (dk_at dksX4_pairs_8 17 rfl rfl)
theorem dX4_pairs_208 : decode cX4_pairs 208 = .ok (.iastore, 1) := dk_79 (dk_at dksX4_pairs_8 19 rfl rfl)
theorem dX4_pairs_209 : decode cX4_pairs 209 = .ok (.aload_n 0, 1) := dk_42 (dk_at dksX4_pairs_8 20 rfl rfl)
theorem dX4_pairs_210 : decode cX4_pairs 210 = .ok (.getfield 65, 3) := dk_180 0 65 (dk_at dksX4_pairs_8 21 rfl rfl)
theorem dX4_pairs_213 : decode cX4_pairs 213 = .ok (.iload 6, 2) := dk_21 6 (dk_at dksX4_pairs_9 0 rfl rfl)
theorem dX4_pairs_215 : decode cX4_pairs 215 = .ok (.iconst 1, 1) := dk_4 (dk_at dksX4_pairs_9 2 rfl rfl)
theorem dX4_pairs_216 : decode cX4_pairs 216 = .ok (.bastore, 1) := dk_84 (dk_at dksX4_pairs_9 3 rfl rfl)
theorem dX4_pairs_217 : decode cX4_pairs 217 = .ok (.aload_n 0, 1) := dk_42 (dk_at dksX4_pairs_9 4 rfl rfl)
theorem dX4_pairs_218 : decode cX4_pairs 218 = .ok (.dup, 1) := dk_89 (dk_at dksX4_pairs_9 5 rfl rfl)
theorem dX4_pairs_219 : decode cX4_pairs 219 = .ok (.getfield 150, 3) := dk_180 0 150 (dk_at dksX4_pairs_9 6 rfl rfl)
theorem dX4_pairs_222 : decode cX4_pairs 222 = .ok (.iconst 1, 1) := dk_4 (dk_at dksX4_pairs_9 9 rfl rfl)
theorem dX4_pairs_223 : decode cX4_pairs 223 = .ok (.iadd, 1) := dk_96 (dk_at dksX4_pairs_9 10 rfl rfl)
theorem dX4_pairs_224 : decode cX4_pairs 224 = .ok (.putfield 150, 3) := dk_181 0 150 (dk_at dksX4_pairs_9 11 rfl rfl)
theorem dX4_pairs_227 : decode cX4_pairs 227 = .ok (.iinc 5 1, 3) := dk_132 5 1 (dk_at dksX4_pairs_9 14 rfl rfl)
theorem dX4_pairs_230 : decode cX4_pairs 230 = .ok (.iinc 6 1, 3) := dk_132 6 1 (dk_at dksX4_pairs_9 17 rfl rfl)
theorem dX4_pairs_233 : decode cX4_pairs 233 = .ok (.goto (-59), 3) := dk_167 255 197 (dk_at dksX4_pairs_9 20 rfl rfl)
theorem dX4_pairs_236 : decode cX4_pairs 236 = .ok (.aload_n 0, 1) := dk_42 (dk_at dksX4_pairs_9 23 rfl rfl)
theorem dX4_pairs_237 : decode cX4_pairs 237 = .ok (.getfield 59, 3) := dk_180 0 59 (dk_at dksX4_pairs_10 0 rfl rfl)
theorem dX4_pairs_240 : decode cX4_pairs 240 = .ok (.bipush 25, 2) := dk_16 25 (dk_at dksX4_pairs_10 3 rfl rfl)
theorem dX4_pairs_242 : decode cX4_pairs 242 = .ok (.iload 5, 2) := dk_21 5 (dk_at dksX4_pairs_10 5 rfl rfl)
theorem dX4_pairs_244 : decode cX4_pairs 244 = .ok (.imul, 1) := dk_104 (dk_at dksX4_pairs_10 7 rfl rfl)
theorem dX4_pairs_245 : decode cX4_pairs 245 = .ok (.iload 6, 2) := dk_21 6 (dk_at dksX4_pairs_10 8 rfl rfl)
theorem dX4_pairs_247 : decode cX4_pairs 247 = .ok (.iadd, 1) := dk_96 (dk_at dksX4_pairs_10 10 rfl rfl)
theorem dX4_pairs_248 : decode cX4_pairs 248 = .ok (.bipush 25, 2) := dk_16 25 (dk_at dksX4_pairs_10 11 rfl rfl)
theorem dX4_pairs_250 : decode cX4_pairs 250 = .ok (.iadd, 1) := dk_96 (dk_at dksX4_pairs_10 13 rfl rfl)
theorem dX4_pairs_251 : decode cX4_pairs 251 = .ok (.iaload, 1) := dk_46 (dk_at dksX4_pairs_10 14 rfl rfl)
theorem dX4_pairs_252 : decode cX4_pairs 252 = .ok (.aload_n 0, 1) := dk_42 (dk_at dksX4_pairs_10 15 rfl rfl)
theorem dX4_pairs_253 : decode cX4_pairs 253 = .ok (.getfield 59, 3) := dk_180 0 59 (dk_at dksX4_pairs_10 16 rfl rfl)
theorem dX4_pairs_256 : decode cX4_pairs 256 = .ok (.bipush 25, 2) := dk_16 25 (dk_at dksX4_pairs_10 19 rfl rfl)
theorem dX4_pairs_258 : decode cX4_pairs 258 = .ok (.iload 5, 2) := dk_21 5 (dk_at dksX4_pairs_10 21 rfl rfl)
theorem dX4_pairs_260 : decode cX4_pairs 260 = .ok (.imul, 1) := dk_104 (dk_at dksX4_pairs_10 23 rfl rfl)
theorem dX4_pairs_261 : decode cX4_pairs 261 = .ok (.iload 6, 2) := dk_21 6 (dk_at dksX4_pairs_11 0 rfl rfl)
theorem dX4_pairs_263 : decode cX4_pairs 263 = .ok (.iadd, 1) := dk_96 (dk_at dksX4_pairs_11 2 rfl rfl)
theorem dX4_pairs_264 : decode cX4_pairs 264 = .ok (.iconst 1, 1) := dk_4 (dk_at dksX4_pairs_11 3 rfl rfl)
theorem dX4_pairs_265 : decode cX4_pairs 265 = .ok (.iadd, 1) := dk_96 (dk_at dksX4_pairs_11 4 rfl rfl)
theorem dX4_pairs_266 : decode cX4_pairs 266 = .ok (.iaload, 1) := dk_46 (dk_at dksX4_pairs_11 5 rfl rfl)
theorem dX4_pairs_267 : decode cX4_pairs 267 = .ok (.if_icmp .lt 9, 3) := dk_161 0 9 (dk_at dksX4_pairs_11 6 rfl rfl)
theorem dX4_pairs_270 : decode cX4_pairs 270 = .ok (.iinc 5 1, 3) := dk_132 5 1 (dk_at dksX4_pairs_11 9 rfl rfl)
theorem dX4_pairs_273 : decode cX4_pairs 273 = .ok (.goto (-99), 3) := dk_167 255 157 (dk_at dksX4_pairs_11 12 rfl rfl)
theorem dX4_pairs_276 : decode cX4_pairs 276 = .ok (.iinc 6 1, 3) := dk_132 6 1 (dk_at dksX4_pairs_11 15 rfl rfl)
theorem dX4_pairs_279 : decode cX4_pairs 279 = .ok (.goto (-105), 3) := dk_167 255 151 (dk_at dksX4_pairs_11 18 rfl rfl)
theorem dX4_pairs_282 : decode cX4_pairs 282 = .ok (.return_, 1) := dk_177 (dk_at dksX4_pairs_11 21 rfl rfl)
abbrev cX4_isAlike : ByteArray := prog_28_method_29_code
def yX4_isAlike : MethodName := ⟨RX4, "isAlike", "(IIII)Z"⟩
def dkwX4_isAlike_1 : List UInt8 := [154, 0, 7, 4, 167, 0, 4, 3, 172]
abbrev dktX4_isAlike_1 : List UInt8 := dkwX4_isAlike_1 ++ []
def dkwX4_isAlike_0 : List UInt8 := [42, 180, 0, 16, 16, 24, 27, 104, 28, 96, 47, 42, 180, 0, 16, 16, 24, 29, 104, 21, 4, 96, 47, 148]
abbrev dktX4_isAlike_0 : List UInt8 := dkwX4_isAlike_0 ++ dktX4_isAlike_1
theorem dksX4_isAlike_0 : cX4_isAlike.data.toList.drop 0 = dktX4_isAlike_0 := by decide +kernel
theorem dksX4_isAlike_1 : cX4_isAlike.data.toList.drop 24 = dktX4_isAlike_1 := dk_seg dksX4_isAlike_0 24 rfl rfl
theorem dX4_isAlike_0 : decode cX4_isAlike 0 = .ok (.aload_n 0, 1) := dk_42 (dk_at dksX4_isAlike_0 0 rfl rfl)
theorem dX4_isAlike_1 : decode cX4_isAlike 1 = .ok (.getfield 16, 3) := dk_180 0 16 (dk_at dksX4_isAlike_0 1 rfl rfl)
theorem dX4_isAlike_4 : decode cX4_isAlike 4 = .ok (.bipush 24, 2) := dk_16 24 (dk_at dksX4_isAlike_0 4 rfl rfl)
theorem dX4_isAlike_6 : decode cX4_isAlike 6 = .ok (.iload_n 1, 1) := dk_27 (dk_at dksX4_isAlike_0 6 rfl rfl)
theorem dX4_isAlike_7 : decode cX4_isAlike 7 = .ok (.imul, 1) := dk_104 (dk_at dksX4_isAlike_0 7 rfl rfl)
theorem dX4_isAlike_8 : decode cX4_isAlike 8 = .ok (.iload_n 2, 1) := dk_28 (dk_at dksX4_isAlike_0 8 rfl rfl)
theorem dX4_isAlike_9 : decode cX4_isAlike 9 = .ok (.iadd, 1) := dk_96 (dk_at dksX4_isAlike_0 9 rfl rfl)
theorem dX4_isAlike_10 : decode cX4_isAlike 10 = .ok (.laload, 1) := dk_47 (dk_at dksX4_isAlike_0 10 rfl rfl)
theorem dX4_isAlike_11 : decode cX4_isAlike 11 = .ok (.aload_n 0, 1) := dk_42 (dk_at dksX4_isAlike_0 11 rfl rfl)
theorem dX4_isAlike_12 : decode cX4_isAlike 12 = .ok (.getfield 16, 3) := dk_180 0 16 (dk_at dksX4_isAlike_0 12 rfl rfl)
theorem dX4_isAlike_15 : decode cX4_isAlike 15 = .ok (.bipush 24, 2) := dk_16 24 (dk_at dksX4_isAlike_0 15 rfl rfl)
theorem dX4_isAlike_17 : decode cX4_isAlike 17 = .ok (.iload_n 3, 1) := dk_29 (dk_at dksX4_isAlike_0 17 rfl rfl)
theorem dX4_isAlike_18 : decode cX4_isAlike 18 = .ok (.imul, 1) := dk_104 (dk_at dksX4_isAlike_0 18 rfl rfl)
theorem dX4_isAlike_19 : decode cX4_isAlike 19 = .ok (.iload 4, 2) := dk_21 4 (dk_at dksX4_isAlike_0 19 rfl rfl)
theorem dX4_isAlike_21 : decode cX4_isAlike 21 = .ok (.iadd, 1) := dk_96 (dk_at dksX4_isAlike_0 21 rfl rfl)
theorem dX4_isAlike_22 : decode cX4_isAlike 22 = .ok (.laload, 1) := dk_47 (dk_at dksX4_isAlike_0 22 rfl rfl)
theorem dX4_isAlike_23 : decode cX4_isAlike 23 = .ok (.lcmp, 1) := dk_148 (dk_at dksX4_isAlike_0 23 rfl rfl)
theorem dX4_isAlike_24 : decode cX4_isAlike 24 = .ok (.ifCond .ne 7, 3) := dk_154 0 7 (dk_at dksX4_isAlike_1 0 rfl rfl)
theorem dX4_isAlike_27 : decode cX4_isAlike 27 = .ok (.iconst 1, 1) := dk_4 (dk_at dksX4_isAlike_1 3 rfl rfl)
theorem dX4_isAlike_28 : decode cX4_isAlike 28 = .ok (.goto 4, 3) := dk_167 0 4 (dk_at dksX4_isAlike_1 4 rfl rfl)
theorem dX4_isAlike_31 : decode cX4_isAlike 31 = .ok (.iconst 0, 1) := dk_3 (dk_at dksX4_isAlike_1 7 rfl rfl)
theorem dX4_isAlike_32 : decode cX4_isAlike 32 = .ok (.ireturn, 1) := dk_172 (dk_at dksX4_isAlike_1 8 rfl rfl)
abbrev cX4_moves : ByteArray := prog_28_method_32_code
def yX4_moves : MethodName := ⟨RX4, "moves", "(II)Z"⟩
def dkwX4_moves_6 : List UInt8 := [181, 0, 157, 4, 172]
abbrev dktX4_moves_6 : List UInt8 := dkwX4_moves_6 ++ []
def dkwX4_moves_5 : List UInt8 := [42, 180, 0, 65, 21, 5, 21, 6, 96, 4, 84, 132, 6, 1, 167, 255, 221, 42, 89, 180, 0, 157, 29, 96]
abbrev dktX4_moves_5 : List UInt8 := dkwX4_moves_5 ++ dktX4_moves_6
def dkwX4_moves_4 : List UInt8 := [3, 54, 6, 21, 6, 29, 162, 0, 35, 42, 180, 0, 62, 21, 4, 21, 6, 96, 21, 5, 21, 6, 96, 79]
abbrev dktX4_moves_4 : List UInt8 := dkwX4_moves_4 ++ dktX4_moves_5
def dkwX4_moves_3 : List UInt8 := [132, 7, 1, 167, 255, 210, 132, 6, 1, 167, 255, 190, 29, 42, 180, 0, 26, 3, 46, 162, 0, 5, 3, 172]
abbrev dktX4_moves_3 : List UInt8 := dkwX4_moves_3 ++ dktX4_moves_4
def dkwX4_moves_2 : List UInt8 := [54, 8, 21, 8, 29, 163, 0, 6, 167, 0, 14, 21, 8, 62, 21, 6, 54, 4, 21, 7, 54, 5]
abbrev dktX4_moves_2 : List UInt8 := dkwX4_moves_2 ++ dktX4_moves_3
def dkwX4_moves_1 : List UInt8 := [54, 7, 21, 7, 42, 180, 0, 13, 28, 46, 162, 0, 41, 42, 27, 21, 6, 28, 21, 7, 182, 0, 153]
abbrev dktX4_moves_1 : List UInt8 := dkwX4_moves_1 ++ dktX4_moves_2
def dkwX4_moves_0 : List UInt8 := [3, 62, 3, 54, 4, 3, 54, 5, 3, 54, 6, 21, 6, 42, 180, 0, 13, 27, 46, 162, 0, 61, 3]
abbrev dktX4_moves_0 : List UInt8 := dkwX4_moves_0 ++ dktX4_moves_1
theorem dksX4_moves_0 : cX4_moves.data.toList.drop 0 = dktX4_moves_0 := by decide +kernel
theorem dksX4_moves_1 : cX4_moves.data.toList.drop 23 = dktX4_moves_1 := dk_seg dksX4_moves_0 23 rfl rfl
theorem dksX4_moves_2 : cX4_moves.data.toList.drop 46 = dktX4_moves_2 := dk_seg dksX4_moves_1 23 rfl rfl
theorem dksX4_moves_3 : cX4_moves.data.toList.drop 68 = dktX4_moves_3 := dk_seg dksX4_moves_2 22 rfl rfl
theorem dksX4_moves_4 : cX4_moves.data.toList.drop 92 = dktX4_moves_4 := dk_seg dksX4_moves_3 24 rfl rfl
theorem dksX4_moves_5 : cX4_moves.data.toList.drop 116 = dktX4_moves_5 := dk_seg dksX4_moves_4 24 rfl rfl
theorem dksX4_moves_6 : cX4_moves.data.toList.drop 140 = dktX4_moves_6 := dk_seg dksX4_moves_5 24 rfl rfl
theorem dX4_moves_0 : decode cX4_moves 0 = .ok (.iconst 0, 1) := dk_3 (dk_at dksX4_moves_0 0 rfl rfl)
theorem dX4_moves_1 : decode cX4_moves 1 = .ok (.istore_n 3, 1) := dk_62 (dk_at dksX4_moves_0 1 rfl rfl)
theorem dX4_moves_2 : decode cX4_moves 2 = .ok (.iconst 0, 1) := dk_3 (dk_at dksX4_moves_0 2 rfl rfl)
theorem dX4_moves_3 : decode cX4_moves 3 = .ok (.istore 4, 2) := dk_54 4 (dk_at dksX4_moves_0 3 rfl rfl)
theorem dX4_moves_5 : decode cX4_moves 5 = .ok (.iconst 0, 1) := dk_3 (dk_at dksX4_moves_0 5 rfl rfl)
theorem dX4_moves_6 : decode cX4_moves 6 = .ok (.istore 5, 2) := dk_54 5 (dk_at dksX4_moves_0 6 rfl rfl)
theorem dX4_moves_8 : decode cX4_moves 8 = .ok (.iconst 0, 1) := dk_3 (dk_at dksX4_moves_0 8 rfl rfl)
theorem dX4_moves_9 : decode cX4_moves 9 = .ok (.istore 6, 2) := dk_54 6 (dk_at dksX4_moves_0 9 rfl rfl)
theorem dX4_moves_11 : decode cX4_moves 11 = .ok (.iload 6, 2) := dk_21 6 (dk_at dksX4_moves_0 11 rfl rfl)
theorem dX4_moves_13 : decode cX4_moves 13 = .ok (.aload_n 0, 1) := dk_42 (dk_at dksX4_moves_0 13 rfl rfl)
theorem dX4_moves_14 : decode cX4_moves 14 = .ok (.getfield 13, 3) := dk_180 0 13 (dk_at dksX4_moves_0 14 rfl rfl)
theorem dX4_moves_17 : decode cX4_moves 17 = .ok (.iload_n 1, 1) := dk_27 (dk_at dksX4_moves_0 17 rfl rfl)
theorem dX4_moves_18 : decode cX4_moves 18 = .ok (.iaload, 1) := dk_46 (dk_at dksX4_moves_0 18 rfl rfl)
theorem dX4_moves_19 : decode cX4_moves 19 = .ok (.if_icmp .ge 61, 3) := dk_162 0 61 (dk_at dksX4_moves_0 19 rfl rfl)
theorem dX4_moves_22 : decode cX4_moves 22 = .ok (.iconst 0, 1) := dk_3 (dk_at dksX4_moves_0 22 rfl rfl)
theorem dX4_moves_23 : decode cX4_moves 23 = .ok (.istore 7, 2) := dk_54 7 (dk_at dksX4_moves_1 0 rfl rfl)
theorem dX4_moves_25 : decode cX4_moves 25 = .ok (.iload 7, 2) := dk_21 7 (dk_at dksX4_moves_1 2 rfl rfl)
theorem dX4_moves_27 : decode cX4_moves 27 = .ok (.aload_n 0, 1) := dk_42 (dk_at dksX4_moves_1 4 rfl rfl)
theorem dX4_moves_28 : decode cX4_moves 28 = .ok (.getfield 13, 3) := dk_180 0 13 (dk_at dksX4_moves_1 5 rfl rfl)
theorem dX4_moves_31 : decode cX4_moves 31 = .ok (.iload_n 2, 1) := dk_28 (dk_at dksX4_moves_1 8 rfl rfl)
theorem dX4_moves_32 : decode cX4_moves 32 = .ok (.iaload, 1) := dk_46 (dk_at dksX4_moves_1 9 rfl rfl)
theorem dX4_moves_33 : decode cX4_moves 33 = .ok (.if_icmp .ge 41, 3) := dk_162 0 41 (dk_at dksX4_moves_1 10 rfl rfl)
theorem dX4_moves_36 : decode cX4_moves 36 = .ok (.aload_n 0, 1) := dk_42 (dk_at dksX4_moves_1 13 rfl rfl)
theorem dX4_moves_37 : decode cX4_moves 37 = .ok (.iload_n 1, 1) := dk_27 (dk_at dksX4_moves_1 14 rfl rfl)
theorem dX4_moves_38 : decode cX4_moves 38 = .ok (.iload 6, 2) := dk_21 6 (dk_at dksX4_moves_1 15 rfl rfl)
theorem dX4_moves_40 : decode cX4_moves 40 = .ok (.iload_n 2, 1) := dk_28 (dk_at dksX4_moves_1 17 rfl rfl)
theorem dX4_moves_41 : decode cX4_moves 41 = .ok (.iload 7, 2) := dk_21 7 (dk_at dksX4_moves_1 18 rfl rfl)
theorem dX4_moves_43 : decode cX4_moves 43 = .ok (.invokevirtual 153, 3) := dk_182 0 153 (dk_at dksX4_moves_1 20 rfl rfl)
theorem dX4_moves_46 : decode cX4_moves 46 = .ok (.istore 8, 2) := dk_54 8 (dk_at dksX4_moves_2 0 rfl rfl)
theorem dX4_moves_48 : decode cX4_moves 48 = .ok (.iload 8, 2) := dk_21 8 (dk_at dksX4_moves_2 2 rfl rfl)
theorem dX4_moves_50 : decode cX4_moves 50 = .ok (.iload_n 3, 1) := dk_29 (dk_at dksX4_moves_2 4 rfl rfl)
theorem dX4_moves_51 : decode cX4_moves 51 = .ok (.if_icmp .gt 6, 3) := dk_163 0 6 (dk_at dksX4_moves_2 5 rfl rfl)
theorem dX4_moves_54 : decode cX4_moves 54 = .ok (.goto 14, 3) := dk_167 0 14 (dk_at dksX4_moves_2 8 rfl rfl)
theorem dX4_moves_57 : decode cX4_moves 57 = .ok (.iload 8, 2) := dk_21 8 (dk_at dksX4_moves_2 11 rfl rfl)
theorem dX4_moves_59 : decode cX4_moves 59 = .ok (.istore_n 3, 1) := dk_62 (dk_at dksX4_moves_2 13 rfl rfl)
theorem dX4_moves_60 : decode cX4_moves 60 = .ok (.iload 6, 2) := dk_21 6 (dk_at dksX4_moves_2 14 rfl rfl)
theorem dX4_moves_62 : decode cX4_moves 62 = .ok (.istore 4, 2) := dk_54 4 (dk_at dksX4_moves_2 16 rfl rfl)
theorem dX4_moves_64 : decode cX4_moves 64 = .ok (.iload 7, 2) := dk_21 7 (dk_at dksX4_moves_2 18 rfl rfl)
theorem dX4_moves_66 : decode cX4_moves 66 = .ok (.istore 5, 2) := dk_54 5 (dk_at dksX4_moves_2 20 rfl rfl)
theorem dX4_moves_68 : decode cX4_moves 68 = .ok (.iinc 7 1, 3) := dk_132 7 1 (dk_at dksX4_moves_3 0 rfl rfl)
theorem dX4_moves_71 : decode cX4_moves 71 = .ok (.goto (-46), 3) := dk_167 255 210 (dk_at dksX4_moves_3 3 rfl rfl)
theorem dX4_moves_74 : decode cX4_moves 74 = .ok (.iinc 6 1, 3) := dk_132 6 1 (dk_at dksX4_moves_3 6 rfl rfl)
theorem dX4_moves_77 : decode cX4_moves 77 = .ok (.goto (-66), 3) := dk_167 255 190 (dk_at dksX4_moves_3 9 rfl rfl)
theorem dX4_moves_80 : decode cX4_moves 80 = .ok (.iload_n 3, 1) := dk_29 (dk_at dksX4_moves_3 12 rfl rfl)
theorem dX4_moves_81 : decode cX4_moves 81 = .ok (.aload_n 0, 1) := dk_42 (dk_at dksX4_moves_3 13 rfl rfl)
theorem dX4_moves_82 : decode cX4_moves 82 = .ok (.getfield 26, 3) := dk_180 0 26 (dk_at dksX4_moves_3 14 rfl rfl)
theorem dX4_moves_85 : decode cX4_moves 85 = .ok (.iconst 0, 1) := dk_3 (dk_at dksX4_moves_3 17 rfl rfl)
theorem dX4_moves_86 : decode cX4_moves 86 = .ok (.iaload, 1) := dk_46 (dk_at dksX4_moves_3 18 rfl rfl)
theorem dX4_moves_87 : decode cX4_moves 87 = .ok (.if_icmp .ge 5, 3) := dk_162 0 5 (dk_at dksX4_moves_3 19 rfl rfl)
theorem dX4_moves_90 : decode cX4_moves 90 = .ok (.iconst 0, 1) := dk_3 (dk_at dksX4_moves_3 22 rfl rfl)
theorem dX4_moves_91 : decode cX4_moves 91 = .ok (.ireturn, 1) := dk_172 (dk_at dksX4_moves_3 23 rfl rfl)
theorem dX4_moves_92 : decode cX4_moves 92 = .ok (.iconst 0, 1) := dk_3 (dk_at dksX4_moves_4 0 rfl rfl)
theorem dX4_moves_93 : decode cX4_moves 93 = .ok (.istore 6, 2) := dk_54 6 (dk_at dksX4_moves_4 1 rfl rfl)
theorem dX4_moves_95 : decode cX4_moves 95 = .ok (.iload 6, 2) := dk_21 6 (dk_at dksX4_moves_4 3 rfl rfl)
theorem dX4_moves_97 : decode cX4_moves 97 = .ok (.iload_n 3, 1) := dk_29 (dk_at dksX4_moves_4 5 rfl rfl)
theorem dX4_moves_98 : decode cX4_moves 98 = .ok (.if_icmp .ge 35, 3) := dk_162 0 35 (dk_at dksX4_moves_4 6 rfl rfl)
theorem dX4_moves_101 : decode cX4_moves 101 = .ok (.aload_n 0, 1) := dk_42 (dk_at dksX4_moves_4 9 rfl rfl)
theorem dX4_moves_102 : decode cX4_moves 102 = .ok (.getfield 62, 3) := dk_180 0 62 (dk_at dksX4_moves_4 10 rfl rfl)
theorem dX4_moves_105 : decode cX4_moves 105 = .ok (.iload 4, 2) := dk_21 4 (dk_at dksX4_moves_4 13 rfl rfl)
theorem dX4_moves_107 : decode cX4_moves 107 = .ok (.iload 6, 2) := dk_21 6 (dk_at dksX4_moves_4 15 rfl rfl)
theorem dX4_moves_109 : decode cX4_moves 109 = .ok (.iadd, 1) := dk_96 (dk_at dksX4_moves_4 17 rfl rfl)
theorem dX4_moves_110 : decode cX4_moves 110 = .ok (.iload 5, 2) := dk_21 5 (dk_at dksX4_moves_4 18 rfl rfl)
theorem dX4_moves_112 : decode cX4_moves 112 = .ok (.iload 6, 2) := dk_21 6 (dk_at dksX4_moves_4 20 rfl rfl)
theorem dX4_moves_114 : decode cX4_moves 114 = .ok (.iadd, 1) := dk_96 (dk_at dksX4_moves_4 22 rfl rfl)
theorem dX4_moves_115 : decode cX4_moves 115 = .ok (.iastore, 1) := dk_79 (dk_at dksX4_moves_4 23 rfl rfl)
theorem dX4_moves_116 : decode cX4_moves 116 = .ok (.aload_n 0, 1) := dk_42 (dk_at dksX4_moves_5 0 rfl rfl)
theorem dX4_moves_117 : decode cX4_moves 117 = .ok (.getfield 65, 3) := dk_180 0 65 (dk_at dksX4_moves_5 1 rfl rfl)
theorem dX4_moves_120 : decode cX4_moves 120 = .ok (.iload 5, 2) := dk_21 5 (dk_at dksX4_moves_5 4 rfl rfl)
theorem dX4_moves_122 : decode cX4_moves 122 = .ok (.iload 6, 2) := dk_21 6 (dk_at dksX4_moves_5 6 rfl rfl)
theorem dX4_moves_124 : decode cX4_moves 124 = .ok (.iadd, 1) := dk_96 (dk_at dksX4_moves_5 8 rfl rfl)
theorem dX4_moves_125 : decode cX4_moves 125 = .ok (.iconst 1, 1) := dk_4 (dk_at dksX4_moves_5 9 rfl rfl)
theorem dX4_moves_126 : decode cX4_moves 126 = .ok (.bastore, 1) := dk_84 (dk_at dksX4_moves_5 10 rfl rfl)
theorem dX4_moves_127 : decode cX4_moves 127 = .ok (.iinc 6 1, 3) := dk_132 6 1 (dk_at dksX4_moves_5 11 rfl rfl)
theorem dX4_moves_130 : decode cX4_moves 130 = .ok (.goto (-35), 3) := dk_167 255 221 (dk_at dksX4_moves_5 14 rfl rfl)
theorem dX4_moves_133 : decode cX4_moves 133 = .ok (.aload_n 0, 1) := dk_42 (dk_at dksX4_moves_5 17 rfl rfl)
theorem dX4_moves_134 : decode cX4_moves 134 = .ok (.dup, 1) := dk_89 (dk_at dksX4_moves_5 18 rfl rfl)
theorem dX4_moves_135 : decode cX4_moves 135 = .ok (.getfield 157, 3) := dk_180 0 157 (dk_at dksX4_moves_5 19 rfl rfl)
theorem dX4_moves_138 : decode cX4_moves 138 = .ok (.iload_n 3, 1) := dk_29 (dk_at dksX4_moves_5 22 rfl rfl)
theorem dX4_moves_139 : decode cX4_moves 139 = .ok (.iadd, 1) := dk_96 (dk_at dksX4_moves_5 23 rfl rfl)
theorem dX4_moves_140 : decode cX4_moves 140 = .ok (.putfield 157, 3) := dk_181 0 157 (dk_at dksX4_moves_6 0 rfl rfl)
theorem dX4_moves_143 : decode cX4_moves 143 = .ok (.iconst 1, 1) := dk_4 (dk_at dksX4_moves_6 3 rfl rfl)
theorem dX4_moves_144 : decode cX4_moves 144 = .ok (.ireturn, 1) := dk_172 (dk_at dksX4_moves_6 4 rfl rfl)
abbrev cX4_run : ByteArray := prog_28_method_31_code
def yX4_run : MethodName := ⟨RX4, "run", "(IIII)I"⟩
def dkwX4_run_3 : List UInt8 := [182, 0, 141, 153, 0, 9, 132, 5, 1, 167, 255, 182, 21, 5, 172]
abbrev dktX4_run_3 : List UInt8 := dkwX4_run_3 ++ []
def dkwX4_run_2 : List UInt8 := [180, 0, 65, 21, 4, 21, 5, 96, 51, 154, 0, 27, 42, 27, 28, 21, 5, 96, 29, 21, 4, 21, 5, 96]
abbrev dktX4_run_2 : List UInt8 := dkwX4_run_2 ++ dktX4_run_3
def dkwX4_run_1 : List UInt8 := [180, 0, 13, 29, 46, 162, 0, 53, 42, 180, 0, 62, 28, 21, 5, 96, 46, 2, 160, 0, 40, 42]
abbrev dktX4_run_1 : List UInt8 := dkwX4_run_1 ++ dktX4_run_2
def dkwX4_run_0 : List UInt8 := [3, 54, 5, 28, 21, 5, 96, 42, 180, 0, 13, 27, 46, 162, 0, 67, 21, 4, 21, 5, 96, 42]
abbrev dktX4_run_0 : List UInt8 := dkwX4_run_0 ++ dktX4_run_1
theorem dksX4_run_0 : cX4_run.data.toList.drop 0 = dktX4_run_0 := by decide +kernel
theorem dksX4_run_1 : cX4_run.data.toList.drop 22 = dktX4_run_1 := dk_seg dksX4_run_0 22 rfl rfl
theorem dksX4_run_2 : cX4_run.data.toList.drop 44 = dktX4_run_2 := dk_seg dksX4_run_1 22 rfl rfl
theorem dksX4_run_3 : cX4_run.data.toList.drop 68 = dktX4_run_3 := dk_seg dksX4_run_2 24 rfl rfl
theorem dX4_run_0 : decode cX4_run 0 = .ok (.iconst 0, 1) := dk_3 (dk_at dksX4_run_0 0 rfl rfl)
theorem dX4_run_1 : decode cX4_run 1 = .ok (.istore 5, 2) := dk_54 5 (dk_at dksX4_run_0 1 rfl rfl)
theorem dX4_run_3 : decode cX4_run 3 = .ok (.iload_n 2, 1) := dk_28 (dk_at dksX4_run_0 3 rfl rfl)
theorem dX4_run_4 : decode cX4_run 4 = .ok (.iload 5, 2) := dk_21 5 (dk_at dksX4_run_0 4 rfl rfl)
theorem dX4_run_6 : decode cX4_run 6 = .ok (.iadd, 1) := dk_96 (dk_at dksX4_run_0 6 rfl rfl)
theorem dX4_run_7 : decode cX4_run 7 = .ok (.aload_n 0, 1) := dk_42 (dk_at dksX4_run_0 7 rfl rfl)
theorem dX4_run_8 : decode cX4_run 8 = .ok (.getfield 13, 3) := dk_180 0 13 (dk_at dksX4_run_0 8 rfl rfl)
theorem dX4_run_11 : decode cX4_run 11 = .ok (.iload_n 1, 1) := dk_27 (dk_at dksX4_run_0 11 rfl rfl)
theorem dX4_run_12 : decode cX4_run 12 = .ok (.iaload, 1) := dk_46 (dk_at dksX4_run_0 12 rfl rfl)
theorem dX4_run_13 : decode cX4_run 13 = .ok (.if_icmp .ge 67, 3) := dk_162 0 67 (dk_at dksX4_run_0 13 rfl rfl)
theorem dX4_run_16 : decode cX4_run 16 = .ok (.iload 4, 2) := dk_21 4 (dk_at dksX4_run_0 16 rfl rfl)
theorem dX4_run_18 : decode cX4_run 18 = .ok (.iload 5, 2) := dk_21 5 (dk_at dksX4_run_0 18 rfl rfl)
theorem dX4_run_20 : decode cX4_run 20 = .ok (.iadd, 1) := dk_96 (dk_at dksX4_run_0 20 rfl rfl)
theorem dX4_run_21 : decode cX4_run 21 = .ok (.aload_n 0, 1) := dk_42 (dk_at dksX4_run_0 21 rfl rfl)
theorem dX4_run_22 : decode cX4_run 22 = .ok (.getfield 13, 3) := dk_180 0 13 (dk_at dksX4_run_1 0 rfl rfl)
theorem dX4_run_25 : decode cX4_run 25 = .ok (.iload_n 3, 1) := dk_29 (dk_at dksX4_run_1 3 rfl rfl)
theorem dX4_run_26 : decode cX4_run 26 = .ok (.iaload, 1) := dk_46 (dk_at dksX4_run_1 4 rfl rfl)
theorem dX4_run_27 : decode cX4_run 27 = .ok (.if_icmp .ge 53, 3) := dk_162 0 53 (dk_at dksX4_run_1 5 rfl rfl)
theorem dX4_run_30 : decode cX4_run 30 = .ok (.aload_n 0, 1) := dk_42 (dk_at dksX4_run_1 8 rfl rfl)
theorem dX4_run_31 : decode cX4_run 31 = .ok (.getfield 62, 3) := dk_180 0 62 (dk_at dksX4_run_1 9 rfl rfl)
theorem dX4_run_34 : decode cX4_run 34 = .ok (.iload_n 2, 1) := dk_28 (dk_at dksX4_run_1 12 rfl rfl)
theorem dX4_run_35 : decode cX4_run 35 = .ok (.iload 5, 2) := dk_21 5 (dk_at dksX4_run_1 13 rfl rfl)
theorem dX4_run_37 : decode cX4_run 37 = .ok (.iadd, 1) := dk_96 (dk_at dksX4_run_1 15 rfl rfl)
theorem dX4_run_38 : decode cX4_run 38 = .ok (.iaload, 1) := dk_46 (dk_at dksX4_run_1 16 rfl rfl)
theorem dX4_run_39 : decode cX4_run 39 = .ok (.iconst (-1), 1) := dk_2 (dk_at dksX4_run_1 17 rfl rfl)
theorem dX4_run_40 : decode cX4_run 40 = .ok (.if_icmp .ne 40, 3) := dk_160 0 40 (dk_at dksX4_run_1 18 rfl rfl)
theorem dX4_run_43 : decode cX4_run 43 = .ok (.aload_n 0, 1) := dk_42 (dk_at dksX4_run_1 21 rfl rfl)
theorem dX4_run_44 : decode cX4_run 44 = .ok (.getfield 65, 3) := dk_180 0 65 (dk_at dksX4_run_2 0 rfl rfl)
theorem dX4_run_47 : decode cX4_run 47 = .ok (.iload 4, 2) := dk_21 4 (dk_at dksX4_run_2 3 rfl rfl)
theorem dX4_run_49 : decode cX4_run 49 = .ok (.iload 5, 2) := dk_21 5 (dk_at dksX4_run_2 5 rfl rfl)
theorem dX4_run_51 : decode cX4_run 51 = .ok (.iadd, 1) := dk_96 (dk_at dksX4_run_2 7 rfl rfl)
theorem dX4_run_52 : decode cX4_run 52 = .ok (.baload, 1) := dk_51 (dk_at dksX4_run_2 8 rfl rfl)
theorem dX4_run_53 : decode cX4_run 53 = .ok (.ifCond .ne 27, 3) := dk_154 0 27 (dk_at dksX4_run_2 9 rfl rfl)
theorem dX4_run_56 : decode cX4_run 56 = .ok (.aload_n 0, 1) := dk_42 (dk_at dksX4_run_2 12 rfl rfl)
theorem dX4_run_57 : decode cX4_run 57 = .ok (.iload_n 1, 1) := dk_27 (dk_at dksX4_run_2 13 rfl rfl)
theorem dX4_run_58 : decode cX4_run 58 = .ok (.iload_n 2, 1) := dk_28 (dk_at dksX4_run_2 14 rfl rfl)
theorem dX4_run_59 : decode cX4_run 59 = .ok (.iload 5, 2) := dk_21 5 (dk_at dksX4_run_2 15 rfl rfl)
theorem dX4_run_61 : decode cX4_run 61 = .ok (.iadd, 1) := dk_96 (dk_at dksX4_run_2 17 rfl rfl)
theorem dX4_run_62 : decode cX4_run 62 = .ok (.iload_n 3, 1) := dk_29 (dk_at dksX4_run_2 18 rfl rfl)
theorem dX4_run_63 : decode cX4_run 63 = .ok (.iload 4, 2) := dk_21 4 (dk_at dksX4_run_2 19 rfl rfl)
theorem dX4_run_65 : decode cX4_run 65 = .ok (.iload 5, 2) := dk_21 5 (dk_at dksX4_run_2 21 rfl rfl)
theorem dX4_run_67 : decode cX4_run 67 = .ok (.iadd, 1) := dk_96 (dk_at dksX4_run_2 23 rfl rfl)
theorem dX4_run_68 : decode cX4_run 68 = .ok (.invokevirtual 141, 3) := dk_182 0 141 (dk_at dksX4_run_3 0 rfl rfl)
theorem dX4_run_71 : decode cX4_run 71 = .ok (.ifCond .eq 9, 3) := dk_153 0 9 (dk_at dksX4_run_3 3 rfl rfl)
theorem dX4_run_74 : decode cX4_run 74 = .ok (.iinc 5 1, 3) := dk_132 5 1 (dk_at dksX4_run_3 6 rfl rfl)
theorem dX4_run_77 : decode cX4_run 77 = .ok (.goto (-74), 3) := dk_167 255 182 (dk_at dksX4_run_3 9 rfl rfl)
theorem dX4_run_80 : decode cX4_run 80 = .ok (.iload 5, 2) := dk_21 5 (dk_at dksX4_run_3 12 rfl rfl)
theorem dX4_run_82 : decode cX4_run 82 = .ok (.ireturn, 1) := dk_172 (dk_at dksX4_run_3 14 rfl rfl)
abbrev cX4_fault : ByteArray := prog_28_method_24_code
def yX4_fault : MethodName := ⟨RX4, "fault", "()I"⟩
theorem dX4_fault_0 : decode cX4_fault 0 = .ok (.aload_n 0, 1) := by decide +kernel
theorem dX4_fault_1 : decode cX4_fault 1 = .ok (.getfield 79, 3) := by decide +kernel
theorem dX4_fault_4 : decode cX4_fault 4 = .ok (.ireturn, 1) := by decide +kernel
abbrev cX4_lines : ByteArray := prog_28_method_25_code
def yX4_lines : MethodName := ⟨RX4, "lines", "(I)I"⟩
def dkwX4_lines_0 : List UInt8 := [42, 27, 182, 0, 124, 153, 0, 12, 42, 180, 0, 13, 27, 46, 167, 0, 8, 42, 2, 182, 0, 82, 172]
abbrev dktX4_lines_0 : List UInt8 := dkwX4_lines_0 ++ []
theorem dksX4_lines_0 : cX4_lines.data.toList.drop 0 = dktX4_lines_0 := by decide +kernel
theorem dX4_lines_0 : decode cX4_lines 0 = .ok (.aload_n 0, 1) := dk_42 (dk_at dksX4_lines_0 0 rfl rfl)
theorem dX4_lines_1 : decode cX4_lines 1 = .ok (.iload_n 1, 1) := dk_27 (dk_at dksX4_lines_0 1 rfl rfl)
theorem dX4_lines_2 : decode cX4_lines 2 = .ok (.invokevirtual 124, 3) := dk_182 0 124 (dk_at dksX4_lines_0 2 rfl rfl)
theorem dX4_lines_5 : decode cX4_lines 5 = .ok (.ifCond .eq 12, 3) := dk_153 0 12 (dk_at dksX4_lines_0 5 rfl rfl)
theorem dX4_lines_8 : decode cX4_lines 8 = .ok (.aload_n 0, 1) := dk_42 (dk_at dksX4_lines_0 8 rfl rfl)
theorem dX4_lines_9 : decode cX4_lines 9 = .ok (.getfield 13, 3) := dk_180 0 13 (dk_at dksX4_lines_0 9 rfl rfl)
theorem dX4_lines_12 : decode cX4_lines 12 = .ok (.iload_n 1, 1) := dk_27 (dk_at dksX4_lines_0 12 rfl rfl)
theorem dX4_lines_13 : decode cX4_lines 13 = .ok (.iaload, 1) := dk_46 (dk_at dksX4_lines_0 13 rfl rfl)
theorem dX4_lines_14 : decode cX4_lines 14 = .ok (.goto 8, 3) := dk_167 0 8 (dk_at dksX4_lines_0 14 rfl rfl)
theorem dX4_lines_17 : decode cX4_lines 17 = .ok (.aload_n 0, 1) := dk_42 (dk_at dksX4_lines_0 17 rfl rfl)
theorem dX4_lines_18 : decode cX4_lines 18 = .ok (.iconst (-1), 1) := dk_2 (dk_at dksX4_lines_0 18 rfl rfl)
theorem dX4_lines_19 : decode cX4_lines 19 = .ok (.invokevirtual 82, 3) := dk_182 0 82 (dk_at dksX4_lines_0 19 rfl rfl)
theorem dX4_lines_22 : decode cX4_lines 22 = .ok (.ireturn, 1) := dk_172 (dk_at dksX4_lines_0 22 rfl rfl)
abbrev cX4_letter : ByteArray := prog_28_method_26_code
def yX4_letter : MethodName := ⟨RX4, "letter", "(III)I"⟩
def dkwX4_letter_3 : List UInt8 := [172]
abbrev dktX4_letter_3 : List UInt8 := dkwX4_letter_3 ++ []
def dkwX4_letter_2 : List UInt8 := [167, 0, 24, 42, 180, 0, 16, 16, 24, 27, 104, 28, 96, 47, 16, 8, 29, 104, 125, 20, 0, 136, 127, 136]
abbrev dktX4_letter_2 : List UInt8 := dkwX4_letter_2 ++ dktX4_letter_3
def dkwX4_letter_1 : List UInt8 := [3, 16, 8, 184, 0, 89, 154, 0, 10, 42, 16, 251, 182, 0, 82, 172, 29, 16, 8, 160, 0, 7, 3]
abbrev dktX4_letter_1 : List UInt8 := dkwX4_letter_1 ++ dktX4_letter_2
def dkwX4_letter_0 : List UInt8 := [42, 27, 182, 0, 124, 154, 0, 9, 42, 2, 182, 0, 82, 172, 42, 27, 28, 182, 0, 133, 153, 0, 13, 29]
abbrev dktX4_letter_0 : List UInt8 := dkwX4_letter_0 ++ dktX4_letter_1
theorem dksX4_letter_0 : cX4_letter.data.toList.drop 0 = dktX4_letter_0 := by decide +kernel
theorem dksX4_letter_1 : cX4_letter.data.toList.drop 24 = dktX4_letter_1 := dk_seg dksX4_letter_0 24 rfl rfl
theorem dksX4_letter_2 : cX4_letter.data.toList.drop 47 = dktX4_letter_2 := dk_seg dksX4_letter_1 23 rfl rfl
theorem dksX4_letter_3 : cX4_letter.data.toList.drop 71 = dktX4_letter_3 := dk_seg dksX4_letter_2 24 rfl rfl
theorem dX4_letter_0 : decode cX4_letter 0 = .ok (.aload_n 0, 1) := dk_42 (dk_at dksX4_letter_0 0 rfl rfl)
theorem dX4_letter_1 : decode cX4_letter 1 = .ok (.iload_n 1, 1) := dk_27 (dk_at dksX4_letter_0 1 rfl rfl)
theorem dX4_letter_2 : decode cX4_letter 2 = .ok (.invokevirtual 124, 3) := dk_182 0 124 (dk_at dksX4_letter_0 2 rfl rfl)
theorem dX4_letter_5 : decode cX4_letter 5 = .ok (.ifCond .ne 9, 3) := dk_154 0 9 (dk_at dksX4_letter_0 5 rfl rfl)
theorem dX4_letter_8 : decode cX4_letter 8 = .ok (.aload_n 0, 1) := dk_42 (dk_at dksX4_letter_0 8 rfl rfl)
theorem dX4_letter_9 : decode cX4_letter 9 = .ok (.iconst (-1), 1) := dk_2 (dk_at dksX4_letter_0 9 rfl rfl)
theorem dX4_letter_10 : decode cX4_letter 10 = .ok (.invokevirtual 82, 3) := dk_182 0 82 (dk_at dksX4_letter_0 10 rfl rfl)
theorem dX4_letter_13 : decode cX4_letter 13 = .ok (.ireturn, 1) := dk_172 (dk_at dksX4_letter_0 13 rfl rfl)
theorem dX4_letter_14 : decode cX4_letter 14 = .ok (.aload_n 0, 1) := dk_42 (dk_at dksX4_letter_0 14 rfl rfl)
theorem dX4_letter_15 : decode cX4_letter 15 = .ok (.iload_n 1, 1) := dk_27 (dk_at dksX4_letter_0 15 rfl rfl)
theorem dX4_letter_16 : decode cX4_letter 16 = .ok (.iload_n 2, 1) := dk_28 (dk_at dksX4_letter_0 16 rfl rfl)
theorem dX4_letter_17 : decode cX4_letter 17 = .ok (.invokevirtual 133, 3) := dk_182 0 133 (dk_at dksX4_letter_0 17 rfl rfl)
theorem dX4_letter_20 : decode cX4_letter 20 = .ok (.ifCond .eq 13, 3) := dk_153 0 13 (dk_at dksX4_letter_0 20 rfl rfl)
theorem dX4_letter_23 : decode cX4_letter 23 = .ok (.iload_n 3, 1) := dk_29 (dk_at dksX4_letter_0 23 rfl rfl)
theorem dX4_letter_24 : decode cX4_letter 24 = .ok (.iconst 0, 1) := dk_3 (dk_at dksX4_letter_1 0 rfl rfl)
theorem dX4_letter_25 : decode cX4_letter 25 = .ok (.bipush 8, 2) := dk_16 8 (dk_at dksX4_letter_1 1 rfl rfl)
theorem dX4_letter_27 : decode cX4_letter 27 = .ok (.invokestatic 89, 3) := dk_184 0 89 (dk_at dksX4_letter_1 3 rfl rfl)
theorem dX4_letter_30 : decode cX4_letter 30 = .ok (.ifCond .ne 10, 3) := dk_154 0 10 (dk_at dksX4_letter_1 6 rfl rfl)
theorem dX4_letter_33 : decode cX4_letter 33 = .ok (.aload_n 0, 1) := dk_42 (dk_at dksX4_letter_1 9 rfl rfl)
theorem dX4_letter_34 : decode cX4_letter 34 = .ok (.bipush (-5), 2) := dk_16 251 (dk_at dksX4_letter_1 10 rfl rfl)
theorem dX4_letter_36 : decode cX4_letter 36 = .ok (.invokevirtual 82, 3) := dk_182 0 82 (dk_at dksX4_letter_1 12 rfl rfl)
theorem dX4_letter_39 : decode cX4_letter 39 = .ok (.ireturn, 1) := dk_172 (dk_at dksX4_letter_1 15 rfl rfl)
theorem dX4_letter_40 : decode cX4_letter 40 = .ok (.iload_n 3, 1) := dk_29 (dk_at dksX4_letter_1 16 rfl rfl)
theorem dX4_letter_41 : decode cX4_letter 41 = .ok (.bipush 8, 2) := dk_16 8 (dk_at dksX4_letter_1 17 rfl rfl)
theorem dX4_letter_43 : decode cX4_letter 43 = .ok (.if_icmp .ne 7, 3) := dk_160 0 7 (dk_at dksX4_letter_1 19 rfl rfl)
theorem dX4_letter_46 : decode cX4_letter 46 = .ok (.iconst 0, 1) := dk_3 (dk_at dksX4_letter_1 22 rfl rfl)
theorem dX4_letter_47 : decode cX4_letter 47 = .ok (.goto 24, 3) := dk_167 0 24 (dk_at dksX4_letter_2 0 rfl rfl)
theorem dX4_letter_50 : decode cX4_letter 50 = .ok (.aload_n 0, 1) := dk_42 (dk_at dksX4_letter_2 3 rfl rfl)
theorem dX4_letter_51 : decode cX4_letter 51 = .ok (.getfield 16, 3) := dk_180 0 16 (dk_at dksX4_letter_2 4 rfl rfl)
theorem dX4_letter_54 : decode cX4_letter 54 = .ok (.bipush 24, 2) := dk_16 24 (dk_at dksX4_letter_2 7 rfl rfl)
theorem dX4_letter_56 : decode cX4_letter 56 = .ok (.iload_n 1, 1) := dk_27 (dk_at dksX4_letter_2 9 rfl rfl)
theorem dX4_letter_57 : decode cX4_letter 57 = .ok (.imul, 1) := dk_104 (dk_at dksX4_letter_2 10 rfl rfl)
theorem dX4_letter_58 : decode cX4_letter 58 = .ok (.iload_n 2, 1) := dk_28 (dk_at dksX4_letter_2 11 rfl rfl)
theorem dX4_letter_59 : decode cX4_letter 59 = .ok (.iadd, 1) := dk_96 (dk_at dksX4_letter_2 12 rfl rfl)
theorem dX4_letter_60 : decode cX4_letter 60 = .ok (.laload, 1) := dk_47 (dk_at dksX4_letter_2 13 rfl rfl)
theorem dX4_letter_61 : decode cX4_letter 61 = .ok (.bipush 8, 2) := dk_16 8 (dk_at dksX4_letter_2 14 rfl rfl)
theorem dX4_letter_63 : decode cX4_letter 63 = .ok (.iload_n 3, 1) := dk_29 (dk_at dksX4_letter_2 16 rfl rfl)
theorem dX4_letter_64 : decode cX4_letter 64 = .ok (.imul, 1) := dk_104 (dk_at dksX4_letter_2 17 rfl rfl)
theorem dX4_letter_65 : decode cX4_letter 65 = .ok (.lushr, 1) := dk_125 (dk_at dksX4_letter_2 18 rfl rfl)
theorem dX4_letter_66 : decode cX4_letter 66 = .ok (.ldc2_w 136, 3) := dk_20 0 136 (dk_at dksX4_letter_2 19 rfl rfl)
theorem dX4_letter_69 : decode cX4_letter 69 = .ok (.land, 1) := dk_127 (dk_at dksX4_letter_2 22 rfl rfl)
theorem dX4_letter_70 : decode cX4_letter 70 = .ok (.l2i, 1) := dk_136 (dk_at dksX4_letter_2 23 rfl rfl)
theorem dX4_letter_71 : decode cX4_letter 71 = .ok (.ireturn, 1) := dk_172 (dk_at dksX4_letter_3 0 rfl rfl)
abbrev cX4_isLine : ByteArray := prog_28_method_7_code
def yX4_isLine : MethodName := ⟨RX4, "isLine", "(II)Z"⟩
def dkwX4_isLine_0 : List UInt8 := [28, 3, 42, 180, 0, 13, 27, 46, 4, 100, 184, 0, 89, 172]
abbrev dktX4_isLine_0 : List UInt8 := dkwX4_isLine_0 ++ []
theorem dksX4_isLine_0 : cX4_isLine.data.toList.drop 0 = dktX4_isLine_0 := by decide +kernel
theorem dX4_isLine_0 : decode cX4_isLine 0 = .ok (.iload_n 2, 1) := dk_28 (dk_at dksX4_isLine_0 0 rfl rfl)
theorem dX4_isLine_1 : decode cX4_isLine 1 = .ok (.iconst 0, 1) := dk_3 (dk_at dksX4_isLine_0 1 rfl rfl)
theorem dX4_isLine_2 : decode cX4_isLine 2 = .ok (.aload_n 0, 1) := dk_42 (dk_at dksX4_isLine_0 2 rfl rfl)
theorem dX4_isLine_3 : decode cX4_isLine 3 = .ok (.getfield 13, 3) := dk_180 0 13 (dk_at dksX4_isLine_0 3 rfl rfl)
theorem dX4_isLine_6 : decode cX4_isLine 6 = .ok (.iload_n 1, 1) := dk_27 (dk_at dksX4_isLine_0 6 rfl rfl)
theorem dX4_isLine_7 : decode cX4_isLine 7 = .ok (.iaload, 1) := dk_46 (dk_at dksX4_isLine_0 7 rfl rfl)
theorem dX4_isLine_8 : decode cX4_isLine 8 = .ok (.iconst 1, 1) := dk_4 (dk_at dksX4_isLine_0 8 rfl rfl)
theorem dX4_isLine_9 : decode cX4_isLine 9 = .ok (.isub, 1) := dk_100 (dk_at dksX4_isLine_0 9 rfl rfl)
theorem dX4_isLine_10 : decode cX4_isLine 10 = .ok (.invokestatic 89, 3) := dk_184 0 89 (dk_at dksX4_isLine_0 10 rfl rfl)
theorem dX4_isLine_13 : decode cX4_isLine 13 = .ok (.ireturn, 1) := dk_172 (dk_at dksX4_isLine_0 13 rfl rfl)
abbrev cX4_former : ByteArray := prog_28_method_27_code
def yX4_former : MethodName := ⟨RX4, "former", "(I)I"⟩
def dkwX4_former_0 : List UInt8 := [42, 27, 182, 0, 124, 153, 0, 12, 42, 180, 0, 7, 27, 46, 167, 0, 8, 42, 2, 182, 0, 138, 172]
abbrev dktX4_former_0 : List UInt8 := dkwX4_former_0 ++ []
theorem dksX4_former_0 : cX4_former.data.toList.drop 0 = dktX4_former_0 := by decide +kernel
theorem dX4_former_0 : decode cX4_former 0 = .ok (.aload_n 0, 1) := dk_42 (dk_at dksX4_former_0 0 rfl rfl)
theorem dX4_former_1 : decode cX4_former 1 = .ok (.iload_n 1, 1) := dk_27 (dk_at dksX4_former_0 1 rfl rfl)
theorem dX4_former_2 : decode cX4_former 2 = .ok (.invokevirtual 124, 3) := dk_182 0 124 (dk_at dksX4_former_0 2 rfl rfl)
theorem dX4_former_5 : decode cX4_former 5 = .ok (.ifCond .eq 12, 3) := dk_153 0 12 (dk_at dksX4_former_0 5 rfl rfl)
theorem dX4_former_8 : decode cX4_former 8 = .ok (.aload_n 0, 1) := dk_42 (dk_at dksX4_former_0 8 rfl rfl)
theorem dX4_former_9 : decode cX4_former 9 = .ok (.getfield 7, 3) := dk_180 0 7 (dk_at dksX4_former_0 9 rfl rfl)
theorem dX4_former_12 : decode cX4_former 12 = .ok (.iload_n 1, 1) := dk_27 (dk_at dksX4_former_0 12 rfl rfl)
theorem dX4_former_13 : decode cX4_former 13 = .ok (.iaload, 1) := dk_46 (dk_at dksX4_former_0 13 rfl rfl)
theorem dX4_former_14 : decode cX4_former 14 = .ok (.goto 8, 3) := dk_167 0 8 (dk_at dksX4_former_0 14 rfl rfl)
theorem dX4_former_17 : decode cX4_former 17 = .ok (.aload_n 0, 1) := dk_42 (dk_at dksX4_former_0 17 rfl rfl)
theorem dX4_former_18 : decode cX4_former 18 = .ok (.iconst (-1), 1) := dk_2 (dk_at dksX4_former_0 18 rfl rfl)
theorem dX4_former_19 : decode cX4_former 19 = .ok (.invokevirtual 138, 3) := dk_182 0 138 (dk_at dksX4_former_0 19 rfl rfl)
theorem dX4_former_22 : decode cX4_former 22 = .ok (.ireturn, 1) := dk_172 (dk_at dksX4_former_0 22 rfl rfl)
abbrev cX4_no10 : ByteArray := prog_28_method_3_code
def yX4_no10 : MethodName := ⟨RX4, "no10", "(I)I"⟩
def dkwX4_no10_0 : List UInt8 := [42, 27, 182, 0, 82, 16, 10, 100, 172]
abbrev dktX4_no10_0 : List UInt8 := dkwX4_no10_0 ++ []
theorem dksX4_no10_0 : cX4_no10.data.toList.drop 0 = dktX4_no10_0 := by decide +kernel
theorem dX4_no10_0 : decode cX4_no10 0 = .ok (.aload_n 0, 1) := dk_42 (dk_at dksX4_no10_0 0 rfl rfl)
theorem dX4_no10_1 : decode cX4_no10 1 = .ok (.iload_n 1, 1) := dk_27 (dk_at dksX4_no10_0 1 rfl rfl)
theorem dX4_no10_2 : decode cX4_no10 2 = .ok (.invokevirtual 82, 3) := dk_182 0 82 (dk_at dksX4_no10_0 2 rfl rfl)
theorem dX4_no10_5 : decode cX4_no10 5 = .ok (.bipush 10, 2) := dk_16 10 (dk_at dksX4_no10_0 5 rfl rfl)
theorem dX4_no10_7 : decode cX4_no10 7 = .ok (.isub, 1) := dk_100 (dk_at dksX4_no10_0 7 rfl rfl)
theorem dX4_no10_8 : decode cX4_no10 8 = .ok (.ireturn, 1) := dk_172 (dk_at dksX4_no10_0 8 rfl rfl)
abbrev cX4_rule : ByteArray := prog_28_method_28_code
def yX4_rule : MethodName := ⟨RX4, "rule", "(II)I"⟩
def dkwX4_rule_4 : List UInt8 := [29, 172]
abbrev dktX4_rule_4 : List UInt8 := dkwX4_rule_4 ++ []
def dkwX4_rule_3 : List UInt8 := [3, 54, 4, 21, 4, 42, 180, 0, 86, 162, 0, 15, 42, 21, 4, 182, 0, 120, 132, 4, 1, 167, 255, 238]
abbrev dktX4_rule_3 : List UInt8 := dkwX4_rule_3 ++ dktX4_rule_4
def dkwX4_rule_2 : List UInt8 := [16, 250, 182, 0, 82, 172, 42, 180, 0, 26, 27, 46, 62, 42, 180, 0, 26, 27, 28, 79, 27, 154, 0, 27]
abbrev dktX4_rule_2 : List UInt8 := dkwX4_rule_2 ++ dktX4_rule_3
def dkwX4_rule_1 : List UInt8 := [16, 9, 167, 0, 15, 27, 4, 160, 0, 8, 16, 99, 167, 0, 5, 16, 20, 184, 0, 89, 154, 0, 10, 42]
abbrev dktX4_rule_1 : List UInt8 := dkwX4_rule_1 ++ dktX4_rule_2
def dkwX4_rule_0 : List UInt8 := [27, 3, 5, 184, 0, 89, 153, 0, 40, 28, 27, 154, 0, 7, 4, 167, 0, 4, 3, 27, 154, 0, 8]
abbrev dktX4_rule_0 : List UInt8 := dkwX4_rule_0 ++ dktX4_rule_1
theorem dksX4_rule_0 : cX4_rule.data.toList.drop 0 = dktX4_rule_0 := by decide +kernel
theorem dksX4_rule_1 : cX4_rule.data.toList.drop 23 = dktX4_rule_1 := dk_seg dksX4_rule_0 23 rfl rfl
theorem dksX4_rule_2 : cX4_rule.data.toList.drop 47 = dktX4_rule_2 := dk_seg dksX4_rule_1 24 rfl rfl
theorem dksX4_rule_3 : cX4_rule.data.toList.drop 71 = dktX4_rule_3 := dk_seg dksX4_rule_2 24 rfl rfl
theorem dksX4_rule_4 : cX4_rule.data.toList.drop 95 = dktX4_rule_4 := dk_seg dksX4_rule_3 24 rfl rfl
theorem dX4_rule_0 : decode cX4_rule 0 = .ok (.iload_n 1, 1) := dk_27 (dk_at dksX4_rule_0 0 rfl rfl)
theorem dX4_rule_1 : decode cX4_rule 1 = .ok (.iconst 0, 1) := dk_3 (dk_at dksX4_rule_0 1 rfl rfl)
theorem dX4_rule_2 : decode cX4_rule 2 = .ok (.iconst 2, 1) := dk_5 (dk_at dksX4_rule_0 2 rfl rfl)
theorem dX4_rule_3 : decode cX4_rule 3 = .ok (.invokestatic 89, 3) := dk_184 0 89 (dk_at dksX4_rule_0 3 rfl rfl)
theorem dX4_rule_6 : decode cX4_rule 6 = .ok (.ifCond .eq 40, 3) := dk_153 0 40 (dk_at dksX4_rule_0 6 rfl rfl)
theorem dX4_rule_9 : decode cX4_rule 9 = .ok (.iload_n 2, 1) := dk_28 (dk_at dksX4_rule_0 9 rfl rfl)
theorem dX4_rule_10 : decode cX4_rule 10 = .ok (.iload_n 1, 1) := dk_27 (dk_at dksX4_rule_0 10 rfl rfl)
theorem dX4_rule_11 : decode cX4_rule 11 = .ok (.ifCond .ne 7, 3) := dk_154 0 7 (dk_at dksX4_rule_0 11 rfl rfl)
theorem dX4_rule_14 : decode cX4_rule 14 = .ok (.iconst 1, 1) := dk_4 (dk_at dksX4_rule_0 14 rfl rfl)
theorem dX4_rule_15 : decode cX4_rule 15 = .ok (.goto 4, 3) := dk_167 0 4 (dk_at dksX4_rule_0 15 rfl rfl)
theorem dX4_rule_18 : decode cX4_rule 18 = .ok (.iconst 0, 1) := dk_3 (dk_at dksX4_rule_0 18 rfl rfl)
theorem dX4_rule_19 : decode cX4_rule 19 = .ok (.iload_n 1, 1) := dk_27 (dk_at dksX4_rule_0 19 rfl rfl)
theorem dX4_rule_20 : decode cX4_rule 20 = .ok (.ifCond .ne 8, 3) := dk_154 0 8 (dk_at dksX4_rule_0 20 rfl rfl)
theorem dX4_rule_23 : decode cX4_rule 23 = .ok (.bipush 9, 2) := dk_16 9 (dk_at dksX4_rule_1 0 rfl rfl)
theorem dX4_rule_25 : decode cX4_rule 25 = .ok (.goto 15, 3) := dk_167 0 15 (dk_at dksX4_rule_1 2 rfl rfl)
theorem dX4_rule_28 : decode cX4_rule 28 = .ok (.iload_n 1, 1) := dk_27 (dk_at dksX4_rule_1 5 rfl rfl)
theorem dX4_rule_29 : decode cX4_rule 29 = .ok (.iconst 1, 1) := dk_4 (dk_at dksX4_rule_1 6 rfl rfl)
theorem dX4_rule_30 : decode cX4_rule 30 = .ok (.if_icmp .ne 8, 3) := dk_160 0 8 (dk_at dksX4_rule_1 7 rfl rfl)
theorem dX4_rule_33 : decode cX4_rule 33 = .ok (.bipush 99, 2) := dk_16 99 (dk_at dksX4_rule_1 10 rfl rfl)
theorem dX4_rule_35 : decode cX4_rule 35 = .ok (.goto 5, 3) := dk_167 0 5 (dk_at dksX4_rule_1 12 rfl rfl)
theorem dX4_rule_38 : decode cX4_rule 38 = .ok (.bipush 20, 2) := dk_16 20 (dk_at dksX4_rule_1 15 rfl rfl)
theorem dX4_rule_40 : decode cX4_rule 40 = .ok (.invokestatic 89, 3) := dk_184 0 89 (dk_at dksX4_rule_1 17 rfl rfl)
theorem dX4_rule_43 : decode cX4_rule 43 = .ok (.ifCond .ne 10, 3) := dk_154 0 10 (dk_at dksX4_rule_1 20 rfl rfl)
theorem dX4_rule_46 : decode cX4_rule 46 = .ok (.aload_n 0, 1) := dk_42 (dk_at dksX4_rule_1 23 rfl rfl)
theorem dX4_rule_47 : decode cX4_rule 47 = .ok (.bipush (-6), 2) := dk_16 250 (dk_at dksX4_rule_2 0 rfl rfl)
theorem dX4_rule_49 : decode cX4_rule 49 = .ok (.invokevirtual 82, 3) := dk_182 0 82 (dk_at dksX4_rule_2 2 rfl rfl)
theorem dX4_rule_52 : decode cX4_rule 52 = .ok (.ireturn, 1) := dk_172 (dk_at dksX4_rule_2 5 rfl rfl)
theorem dX4_rule_53 : decode cX4_rule 53 = .ok (.aload_n 0, 1) := dk_42 (dk_at dksX4_rule_2 6 rfl rfl)
theorem dX4_rule_54 : decode cX4_rule 54 = .ok (.getfield 26, 3) := dk_180 0 26 (dk_at dksX4_rule_2 7 rfl rfl)
theorem dX4_rule_57 : decode cX4_rule 57 = .ok (.iload_n 1, 1) := dk_27 (dk_at dksX4_rule_2 10 rfl rfl)
theorem dX4_rule_58 : decode cX4_rule 58 = .ok (.iaload, 1) := dk_46 (dk_at dksX4_rule_2 11 rfl rfl)
theorem dX4_rule_59 : decode cX4_rule 59 = .ok (.istore_n 3, 1) := dk_62 (dk_at dksX4_rule_2 12 rfl rfl)
theorem dX4_rule_60 : decode cX4_rule 60 = .ok (.aload_n 0, 1) := dk_42 (dk_at dksX4_rule_2 13 rfl rfl)
theorem dX4_rule_61 : decode cX4_rule 61 = .ok (.getfield 26, 3) := dk_180 0 26 (dk_at dksX4_rule_2 14 rfl rfl)
theorem dX4_rule_64 : decode cX4_rule 64 = .ok (.iload_n 1, 1) := dk_27 (dk_at dksX4_rule_2 17 rfl rfl)
theorem dX4_rule_65 : decode cX4_rule 65 = .ok (.iload_n 2, 1) := dk_28 (dk_at dksX4_rule_2 18 rfl rfl)
theorem dX4_rule_66 : decode cX4_rule 66 = .ok (.iastore, 1) := dk_79 (dk_at dksX4_rule_2 19 rfl rfl)
theorem dX4_rule_67 : decode cX4_rule 67 = .ok (.iload_n 1, 1) := dk_27 (dk_at dksX4_rule_2 20 rfl rfl)
theorem dX4_rule_68 : decode cX4_rule 68 = .ok (.ifCond .ne 27, 3) := dk_154 0 27 (dk_at dksX4_rule_2 21 rfl rfl)
theorem dX4_rule_71 : decode cX4_rule 71 = .ok (.iconst 0, 1) := dk_3 (dk_at dksX4_rule_3 0 rfl rfl)
theorem dX4_rule_72 : decode cX4_rule 72 = .ok (.istore 4, 2) := dk_54 4 (dk_at dksX4_rule_3 1 rfl rfl)
theorem dX4_rule_74 : decode cX4_rule 74 = .ok (.iload 4, 2) := dk_21 4 (dk_at dksX4_rule_3 3 rfl rfl)
theorem dX4_rule_76 : decode cX4_rule 76 = .ok (.aload_n 0, 1) := dk_42 (dk_at dksX4_rule_3 5 rfl rfl)
theorem dX4_rule_77 : decode cX4_rule 77 = .ok (.getfield 86, 3) := dk_180 0 86 (dk_at dksX4_rule_3 6 rfl rfl)
theorem dX4_rule_80 : decode cX4_rule 80 = .ok (.if_icmp .ge 15, 3) := dk_162 0 15 (dk_at dksX4_rule_3 9 rfl rfl)
theorem dX4_rule_83 : decode cX4_rule 83 = .ok (.aload_n 0, 1) := dk_42 (dk_at dksX4_rule_3 12 rfl rfl)
theorem dX4_rule_84 : decode cX4_rule 84 = .ok (.iload 4, 2) := dk_21 4 (dk_at dksX4_rule_3 13 rfl rfl)
theorem dX4_rule_86 : decode cX4_rule 86 = .ok (.invokevirtual 120, 3) := dk_182 0 120 (dk_at dksX4_rule_3 15 rfl rfl)
theorem dX4_rule_89 : decode cX4_rule 89 = .ok (.iinc 4 1, 3) := dk_132 4 1 (dk_at dksX4_rule_3 18 rfl rfl)
theorem dX4_rule_92 : decode cX4_rule 92 = .ok (.goto (-18), 3) := dk_167 255 238 (dk_at dksX4_rule_3 21 rfl rfl)
theorem dX4_rule_95 : decode cX4_rule 95 = .ok (.iload_n 3, 1) := dk_29 (dk_at dksX4_rule_4 0 rfl rfl)
theorem dX4_rule_96 : decode cX4_rule 96 = .ok (.ireturn, 1) := dk_172 (dk_at dksX4_rule_4 1 rfl rfl)
abbrev cX4_place : ByteArray := prog_28_method_35_code
def yX4_place : MethodName := ⟨RX4, "place", "(III)I"⟩
def dkwX4_place_2 : List UInt8 := [29, 46, 172]
abbrev dktX4_place_2 : List UInt8 := dkwX4_place_2 ++ []
def dkwX4_place_1 : List UInt8 := [29, 182, 0, 133, 154, 0, 10, 42, 16, 251, 182, 0, 138, 172, 42, 27, 28, 182, 0, 166, 42, 180, 0, 62]
abbrev dktX4_place_1 : List UInt8 := dkwX4_place_1 ++ dktX4_place_2
def dkwX4_place_0 : List UInt8 := [42, 27, 182, 0, 124, 153, 0, 11, 42, 28, 182, 0, 124, 154, 0, 9, 42, 2, 182, 0, 138, 172, 42, 27]
abbrev dktX4_place_0 : List UInt8 := dkwX4_place_0 ++ dktX4_place_1
theorem dksX4_place_0 : cX4_place.data.toList.drop 0 = dktX4_place_0 := by decide +kernel
theorem dksX4_place_1 : cX4_place.data.toList.drop 24 = dktX4_place_1 := dk_seg dksX4_place_0 24 rfl rfl
theorem dksX4_place_2 : cX4_place.data.toList.drop 48 = dktX4_place_2 := dk_seg dksX4_place_1 24 rfl rfl
theorem dX4_place_0 : decode cX4_place 0 = .ok (.aload_n 0, 1) := dk_42 (dk_at dksX4_place_0 0 rfl rfl)
theorem dX4_place_1 : decode cX4_place 1 = .ok (.iload_n 1, 1) := dk_27 (dk_at dksX4_place_0 1 rfl rfl)
theorem dX4_place_2 : decode cX4_place 2 = .ok (.invokevirtual 124, 3) := dk_182 0 124 (dk_at dksX4_place_0 2 rfl rfl)
theorem dX4_place_5 : decode cX4_place 5 = .ok (.ifCond .eq 11, 3) := dk_153 0 11 (dk_at dksX4_place_0 5 rfl rfl)
theorem dX4_place_8 : decode cX4_place 8 = .ok (.aload_n 0, 1) := dk_42 (dk_at dksX4_place_0 8 rfl rfl)
theorem dX4_place_9 : decode cX4_place 9 = .ok (.iload_n 2, 1) := dk_28 (dk_at dksX4_place_0 9 rfl rfl)
theorem dX4_place_10 : decode cX4_place 10 = .ok (.invokevirtual 124, 3) := dk_182 0 124 (dk_at dksX4_place_0 10 rfl rfl)
theorem dX4_place_13 : decode cX4_place 13 = .ok (.ifCond .ne 9, 3) := dk_154 0 9 (dk_at dksX4_place_0 13 rfl rfl)
theorem dX4_place_16 : decode cX4_place 16 = .ok (.aload_n 0, 1) := dk_42 (dk_at dksX4_place_0 16 rfl rfl)
theorem dX4_place_17 : decode cX4_place 17 = .ok (.iconst (-1), 1) := dk_2 (dk_at dksX4_place_0 17 rfl rfl)
theorem dX4_place_18 : decode cX4_place 18 = .ok (.invokevirtual 138, 3) := dk_182 0 138 (dk_at dksX4_place_0 18 rfl rfl)
theorem dX4_place_21 : decode cX4_place 21 = .ok (.ireturn, 1) := dk_172 (dk_at dksX4_place_0 21 rfl rfl)
theorem dX4_place_22 : decode cX4_place 22 = .ok (.aload_n 0, 1) := dk_42 (dk_at dksX4_place_0 22 rfl rfl)
theorem dX4_place_23 : decode cX4_place 23 = .ok (.iload_n 1, 1) := dk_27 (dk_at dksX4_place_0 23 rfl rfl)
theorem dX4_place_24 : decode cX4_place 24 = .ok (.iload_n 3, 1) := dk_29 (dk_at dksX4_place_1 0 rfl rfl)
theorem dX4_place_25 : decode cX4_place 25 = .ok (.invokevirtual 133, 3) := dk_182 0 133 (dk_at dksX4_place_1 1 rfl rfl)
theorem dX4_place_28 : decode cX4_place 28 = .ok (.ifCond .ne 10, 3) := dk_154 0 10 (dk_at dksX4_place_1 4 rfl rfl)
theorem dX4_place_31 : decode cX4_place 31 = .ok (.aload_n 0, 1) := dk_42 (dk_at dksX4_place_1 7 rfl rfl)
theorem dX4_place_32 : decode cX4_place 32 = .ok (.bipush (-5), 2) := dk_16 251 (dk_at dksX4_place_1 8 rfl rfl)
theorem dX4_place_34 : decode cX4_place 34 = .ok (.invokevirtual 138, 3) := dk_182 0 138 (dk_at dksX4_place_1 10 rfl rfl)
theorem dX4_place_37 : decode cX4_place 37 = .ok (.ireturn, 1) := dk_172 (dk_at dksX4_place_1 13 rfl rfl)
theorem dX4_place_38 : decode cX4_place 38 = .ok (.aload_n 0, 1) := dk_42 (dk_at dksX4_place_1 14 rfl rfl)
theorem dX4_place_39 : decode cX4_place 39 = .ok (.iload_n 1, 1) := dk_27 (dk_at dksX4_place_1 15 rfl rfl)
theorem dX4_place_40 : decode cX4_place 40 = .ok (.iload_n 2, 1) := dk_28 (dk_at dksX4_place_1 16 rfl rfl)
theorem dX4_place_41 : decode cX4_place 41 = .ok (.invokevirtual 166, 3) := dk_182 0 166 (dk_at dksX4_place_1 17 rfl rfl)
theorem dX4_place_44 : decode cX4_place 44 = .ok (.aload_n 0, 1) := dk_42 (dk_at dksX4_place_1 20 rfl rfl)
theorem dX4_place_45 : decode cX4_place 45 = .ok (.getfield 62, 3) := dk_180 0 62 (dk_at dksX4_place_1 21 rfl rfl)
theorem dX4_place_48 : decode cX4_place 48 = .ok (.iload_n 3, 1) := dk_29 (dk_at dksX4_place_2 0 rfl rfl)
theorem dX4_place_49 : decode cX4_place 49 = .ok (.iaload, 1) := dk_46 (dk_at dksX4_place_2 1 rfl rfl)
theorem dX4_place_50 : decode cX4_place 50 = .ok (.ireturn, 1) := dk_172 (dk_at dksX4_place_2 2 rfl rfl)
abbrev cX4_matched : ByteArray := prog_28_method_36_code
def yX4_matched : MethodName := ⟨RX4, "matched", "(III)I"⟩
def dkwX4_matched_2 : List UInt8 := [42, 180, 0, 150, 167, 0, 7, 42, 180, 0, 157, 172]
abbrev dktX4_matched_2 : List UInt8 := dkwX4_matched_2 ++ []
def dkwX4_matched_1 : List UInt8 := [4, 184, 0, 89, 154, 0, 10, 42, 16, 251, 182, 0, 82, 172, 42, 27, 28, 182, 0, 166, 29, 154, 0, 10]
abbrev dktX4_matched_1 : List UInt8 := dkwX4_matched_1 ++ dktX4_matched_2
def dkwX4_matched_0 : List UInt8 := [42, 27, 182, 0, 124, 153, 0, 11, 42, 28, 182, 0, 124, 154, 0, 9, 42, 2, 182, 0, 82, 172, 29, 3]
abbrev dktX4_matched_0 : List UInt8 := dkwX4_matched_0 ++ dktX4_matched_1
theorem dksX4_matched_0 : cX4_matched.data.toList.drop 0 = dktX4_matched_0 := by decide +kernel
theorem dksX4_matched_1 : cX4_matched.data.toList.drop 24 = dktX4_matched_1 := dk_seg dksX4_matched_0 24 rfl rfl
theorem dksX4_matched_2 : cX4_matched.data.toList.drop 48 = dktX4_matched_2 := dk_seg dksX4_matched_1 24 rfl rfl
theorem dX4_matched_0 : decode cX4_matched 0 = .ok (.aload_n 0, 1) := dk_42 (dk_at dksX4_matched_0 0 rfl rfl)
theorem dX4_matched_1 : decode cX4_matched 1 = .ok (.iload_n 1, 1) := dk_27 (dk_at dksX4_matched_0 1 rfl rfl)
theorem dX4_matched_2 : decode cX4_matched 2 = .ok (.invokevirtual 124, 3) := dk_182 0 124 (dk_at dksX4_matched_0 2 rfl rfl)
theorem dX4_matched_5 : decode cX4_matched 5 = .ok (.ifCond .eq 11, 3) := dk_153 0 11 (dk_at dksX4_matched_0 5 rfl rfl)
theorem dX4_matched_8 : decode cX4_matched 8 = .ok (.aload_n 0, 1) := dk_42 (dk_at dksX4_matched_0 8 rfl rfl)
theorem dX4_matched_9 : decode cX4_matched 9 = .ok (.iload_n 2, 1) := dk_28 (dk_at dksX4_matched_0 9 rfl rfl)
theorem dX4_matched_10 : decode cX4_matched 10 = .ok (.invokevirtual 124, 3) := dk_182 0 124 (dk_at dksX4_matched_0 10 rfl rfl)
theorem dX4_matched_13 : decode cX4_matched 13 = .ok (.ifCond .ne 9, 3) := dk_154 0 9 (dk_at dksX4_matched_0 13 rfl rfl)
theorem dX4_matched_16 : decode cX4_matched 16 = .ok (.aload_n 0, 1) := dk_42 (dk_at dksX4_matched_0 16 rfl rfl)
theorem dX4_matched_17 : decode cX4_matched 17 = .ok (.iconst (-1), 1) := dk_2 (dk_at dksX4_matched_0 17 rfl rfl)
theorem dX4_matched_18 : decode cX4_matched 18 = .ok (.invokevirtual 82, 3) := dk_182 0 82 (dk_at dksX4_matched_0 18 rfl rfl)
theorem dX4_matched_21 : decode cX4_matched 21 = .ok (.ireturn, 1) := dk_172 (dk_at dksX4_matched_0 21 rfl rfl)
theorem dX4_matched_22 : decode cX4_matched 22 = .ok (.iload_n 3, 1) := dk_29 (dk_at dksX4_matched_0 22 rfl rfl)
theorem dX4_matched_23 : decode cX4_matched 23 = .ok (.iconst 0, 1) := dk_3 (dk_at dksX4_matched_0 23 rfl rfl)
theorem dX4_matched_24 : decode cX4_matched 24 = .ok (.iconst 1, 1) := dk_4 (dk_at dksX4_matched_1 0 rfl rfl)
theorem dX4_matched_25 : decode cX4_matched 25 = .ok (.invokestatic 89, 3) := dk_184 0 89 (dk_at dksX4_matched_1 1 rfl rfl)
theorem dX4_matched_28 : decode cX4_matched 28 = .ok (.ifCond .ne 10, 3) := dk_154 0 10 (dk_at dksX4_matched_1 4 rfl rfl)
theorem dX4_matched_31 : decode cX4_matched 31 = .ok (.aload_n 0, 1) := dk_42 (dk_at dksX4_matched_1 7 rfl rfl)
theorem dX4_matched_32 : decode cX4_matched 32 = .ok (.bipush (-5), 2) := dk_16 251 (dk_at dksX4_matched_1 8 rfl rfl)
theorem dX4_matched_34 : decode cX4_matched 34 = .ok (.invokevirtual 82, 3) := dk_182 0 82 (dk_at dksX4_matched_1 10 rfl rfl)
theorem dX4_matched_37 : decode cX4_matched 37 = .ok (.ireturn, 1) := dk_172 (dk_at dksX4_matched_1 13 rfl rfl)
theorem dX4_matched_38 : decode cX4_matched 38 = .ok (.aload_n 0, 1) := dk_42 (dk_at dksX4_matched_1 14 rfl rfl)
theorem dX4_matched_39 : decode cX4_matched 39 = .ok (.iload_n 1, 1) := dk_27 (dk_at dksX4_matched_1 15 rfl rfl)
theorem dX4_matched_40 : decode cX4_matched 40 = .ok (.iload_n 2, 1) := dk_28 (dk_at dksX4_matched_1 16 rfl rfl)
theorem dX4_matched_41 : decode cX4_matched 41 = .ok (.invokevirtual 166, 3) := dk_182 0 166 (dk_at dksX4_matched_1 17 rfl rfl)
theorem dX4_matched_44 : decode cX4_matched 44 = .ok (.iload_n 3, 1) := dk_29 (dk_at dksX4_matched_1 20 rfl rfl)
theorem dX4_matched_45 : decode cX4_matched 45 = .ok (.ifCond .ne 10, 3) := dk_154 0 10 (dk_at dksX4_matched_1 21 rfl rfl)
theorem dX4_matched_48 : decode cX4_matched 48 = .ok (.aload_n 0, 1) := dk_42 (dk_at dksX4_matched_2 0 rfl rfl)
theorem dX4_matched_49 : decode cX4_matched 49 = .ok (.getfield 150, 3) := dk_180 0 150 (dk_at dksX4_matched_2 1 rfl rfl)
theorem dX4_matched_52 : decode cX4_matched 52 = .ok (.goto 7, 3) := dk_167 0 7 (dk_at dksX4_matched_2 4 rfl rfl)
theorem dX4_matched_55 : decode cX4_matched 55 = .ok (.aload_n 0, 1) := dk_42 (dk_at dksX4_matched_2 7 rfl rfl)
theorem dX4_matched_56 : decode cX4_matched 56 = .ok (.getfield 157, 3) := dk_180 0 157 (dk_at dksX4_matched_2 8 rfl rfl)
theorem dX4_matched_59 : decode cX4_matched 59 = .ok (.ireturn, 1) := dk_172 (dk_at dksX4_matched_2 11 rfl rfl)
abbrev cX4_through : ByteArray := prog_28_method_38_code
def yX4_through : MethodName := ⟨RX4, "through", "(III)I"⟩
def dkwX4_through_4 : List UInt8 := [21, 5, 96, 46, 54, 5, 132, 6, 255, 167, 255, 222, 21, 5, 172]
abbrev dktX4_through_4 : List UInt8 := dkwX4_through_4 ++ []
def dkwX4_through_3 : List UInt8 := [155, 0, 35, 21, 5, 2, 159, 0, 29, 42, 180, 0, 20, 16, 24, 42, 180, 0, 69, 21, 6, 46, 104]
abbrev dktX4_through_3 : List UInt8 := dkwX4_through_3 ++ dktX4_through_4
def dkwX4_through_2 : List UInt8 := [2, 160, 0, 10, 42, 16, 250, 182, 0, 138, 172, 29, 54, 5, 21, 4, 4, 100, 54, 6, 21, 6]
abbrev dktX4_through_2 : List UInt8 := dkwX4_through_2 ++ dktX4_through_3
def dkwX4_through_1 : List UInt8 := [29, 182, 0, 133, 154, 0, 10, 42, 16, 251, 182, 0, 138, 172, 42, 28, 27, 182, 0, 169, 54, 4, 21, 4]
abbrev dktX4_through_1 : List UInt8 := dkwX4_through_1 ++ dktX4_through_2
def dkwX4_through_0 : List UInt8 := [42, 27, 182, 0, 124, 153, 0, 11, 42, 28, 182, 0, 124, 154, 0, 9, 42, 2, 182, 0, 138, 172, 42, 27]
abbrev dktX4_through_0 : List UInt8 := dkwX4_through_0 ++ dktX4_through_1
theorem dksX4_through_0 : cX4_through.data.toList.drop 0 = dktX4_through_0 := by decide +kernel
theorem dksX4_through_1 : cX4_through.data.toList.drop 24 = dktX4_through_1 := dk_seg dksX4_through_0 24 rfl rfl
theorem dksX4_through_2 : cX4_through.data.toList.drop 48 = dktX4_through_2 := dk_seg dksX4_through_1 24 rfl rfl
theorem dksX4_through_3 : cX4_through.data.toList.drop 70 = dktX4_through_3 := dk_seg dksX4_through_2 22 rfl rfl
theorem dksX4_through_4 : cX4_through.data.toList.drop 93 = dktX4_through_4 := dk_seg dksX4_through_3 23 rfl rfl
theorem dX4_through_0 : decode cX4_through 0 = .ok (.aload_n 0, 1) := dk_42 (dk_at dksX4_through_0 0 rfl rfl)
theorem dX4_through_1 : decode cX4_through 1 = .ok (.iload_n 1, 1) := dk_27 (dk_at dksX4_through_0 1 rfl rfl)
theorem dX4_through_2 : decode cX4_through 2 = .ok (.invokevirtual 124, 3) := dk_182 0 124 (dk_at dksX4_through_0 2 rfl rfl)
theorem dX4_through_5 : decode cX4_through 5 = .ok (.ifCond .eq 11, 3) := dk_153 0 11 (dk_at dksX4_through_0 5 rfl rfl)
theorem dX4_through_8 : decode cX4_through 8 = .ok (.aload_n 0, 1) := dk_42 (dk_at dksX4_through_0 8 rfl rfl)
theorem dX4_through_9 : decode cX4_through 9 = .ok (.iload_n 2, 1) := dk_28 (dk_at dksX4_through_0 9 rfl rfl)
theorem dX4_through_10 : decode cX4_through 10 = .ok (.invokevirtual 124, 3) := dk_182 0 124 (dk_at dksX4_through_0 10 rfl rfl)
theorem dX4_through_13 : decode cX4_through 13 = .ok (.ifCond .ne 9, 3) := dk_154 0 9 (dk_at dksX4_through_0 13 rfl rfl)
theorem dX4_through_16 : decode cX4_through 16 = .ok (.aload_n 0, 1) := dk_42 (dk_at dksX4_through_0 16 rfl rfl)
theorem dX4_through_17 : decode cX4_through 17 = .ok (.iconst (-1), 1) := dk_2 (dk_at dksX4_through_0 17 rfl rfl)
theorem dX4_through_18 : decode cX4_through 18 = .ok (.invokevirtual 138, 3) := dk_182 0 138 (dk_at dksX4_through_0 18 rfl rfl)
theorem dX4_through_21 : decode cX4_through 21 = .ok (.ireturn, 1) := dk_172 (dk_at dksX4_through_0 21 rfl rfl)
theorem dX4_through_22 : decode cX4_through 22 = .ok (.aload_n 0, 1) := dk_42 (dk_at dksX4_through_0 22 rfl rfl)
theorem dX4_through_23 : decode cX4_through 23 = .ok (.iload_n 1, 1) := dk_27 (dk_at dksX4_through_0 23 rfl rfl)
theorem dX4_through_24 : decode cX4_through 24 = .ok (.iload_n 3, 1) := dk_29 (dk_at dksX4_through_1 0 rfl rfl)
theorem dX4_through_25 : decode cX4_through 25 = .ok (.invokevirtual 133, 3) := dk_182 0 133 (dk_at dksX4_through_1 1 rfl rfl)
theorem dX4_through_28 : decode cX4_through 28 = .ok (.ifCond .ne 10, 3) := dk_154 0 10 (dk_at dksX4_through_1 4 rfl rfl)
theorem dX4_through_31 : decode cX4_through 31 = .ok (.aload_n 0, 1) := dk_42 (dk_at dksX4_through_1 7 rfl rfl)
theorem dX4_through_32 : decode cX4_through 32 = .ok (.bipush (-5), 2) := dk_16 251 (dk_at dksX4_through_1 8 rfl rfl)
theorem dX4_through_34 : decode cX4_through 34 = .ok (.invokevirtual 138, 3) := dk_182 0 138 (dk_at dksX4_through_1 10 rfl rfl)
theorem dX4_through_37 : decode cX4_through 37 = .ok (.ireturn, 1) := dk_172 (dk_at dksX4_through_1 13 rfl rfl)
theorem dX4_through_38 : decode cX4_through 38 = .ok (.aload_n 0, 1) := dk_42 (dk_at dksX4_through_1 14 rfl rfl)
theorem dX4_through_39 : decode cX4_through 39 = .ok (.iload_n 2, 1) := dk_28 (dk_at dksX4_through_1 15 rfl rfl)
theorem dX4_through_40 : decode cX4_through 40 = .ok (.iload_n 1, 1) := dk_27 (dk_at dksX4_through_1 16 rfl rfl)
theorem dX4_through_41 : decode cX4_through 41 = .ok (.invokevirtual 169, 3) := dk_182 0 169 (dk_at dksX4_through_1 17 rfl rfl)
theorem dX4_through_44 : decode cX4_through 44 = .ok (.istore 4, 2) := dk_54 4 (dk_at dksX4_through_1 20 rfl rfl)
theorem dX4_through_46 : decode cX4_through 46 = .ok (.iload 4, 2) := dk_21 4 (dk_at dksX4_through_1 22 rfl rfl)
theorem dX4_through_48 : decode cX4_through 48 = .ok (.iconst (-1), 1) := dk_2 (dk_at dksX4_through_2 0 rfl rfl)
theorem dX4_through_49 : decode cX4_through 49 = .ok (.if_icmp .ne 10, 3) := dk_160 0 10 (dk_at dksX4_through_2 1 rfl rfl)
theorem dX4_through_52 : decode cX4_through 52 = .ok (.aload_n 0, 1) := dk_42 (dk_at dksX4_through_2 4 rfl rfl)
theorem dX4_through_53 : decode cX4_through 53 = .ok (.bipush (-6), 2) := dk_16 250 (dk_at dksX4_through_2 5 rfl rfl)
theorem dX4_through_55 : decode cX4_through 55 = .ok (.invokevirtual 138, 3) := dk_182 0 138 (dk_at dksX4_through_2 7 rfl rfl)
theorem dX4_through_58 : decode cX4_through 58 = .ok (.ireturn, 1) := dk_172 (dk_at dksX4_through_2 10 rfl rfl)
theorem dX4_through_59 : decode cX4_through 59 = .ok (.iload_n 3, 1) := dk_29 (dk_at dksX4_through_2 11 rfl rfl)
theorem dX4_through_60 : decode cX4_through 60 = .ok (.istore 5, 2) := dk_54 5 (dk_at dksX4_through_2 12 rfl rfl)
theorem dX4_through_62 : decode cX4_through 62 = .ok (.iload 4, 2) := dk_21 4 (dk_at dksX4_through_2 14 rfl rfl)
theorem dX4_through_64 : decode cX4_through 64 = .ok (.iconst 1, 1) := dk_4 (dk_at dksX4_through_2 16 rfl rfl)
theorem dX4_through_65 : decode cX4_through 65 = .ok (.isub, 1) := dk_100 (dk_at dksX4_through_2 17 rfl rfl)
theorem dX4_through_66 : decode cX4_through 66 = .ok (.istore 6, 2) := dk_54 6 (dk_at dksX4_through_2 18 rfl rfl)
theorem dX4_through_68 : decode cX4_through 68 = .ok (.iload 6, 2) := dk_21 6 (dk_at dksX4_through_2 20 rfl rfl)
theorem dX4_through_70 : decode cX4_through 70 = .ok (.ifCond .lt 35, 3) := dk_155 0 35 (dk_at dksX4_through_3 0 rfl rfl)
theorem dX4_through_73 : decode cX4_through 73 = .ok (.iload 5, 2) := dk_21 5 (dk_at dksX4_through_3 3 rfl rfl)
theorem dX4_through_75 : decode cX4_through 75 = .ok (.iconst (-1), 1) := dk_2 (dk_at dksX4_through_3 5 rfl rfl)
theorem dX4_through_76 : decode cX4_through 76 = .ok (.if_icmp .eq 29, 3) := dk_159 0 29 (dk_at dksX4_through_3 6 rfl rfl)
theorem dX4_through_79 : decode cX4_through 79 = .ok (.aload_n 0, 1) := dk_42 (dk_at dksX4_through_3 9 rfl rfl)
theorem dX4_through_80 : decode cX4_through 80 = .ok (.getfield 20, 3) := dk_180 0 20 (dk_at dksX4_through_3 10 rfl rfl)
theorem dX4_through_83 : decode cX4_through 83 = .ok (.bipush 24, 2) := dk_16 24 (dk_at dksX4_through_3 13 rfl rfl)
theorem dX4_through_85 : decode cX4_through 85 = .ok (.aload_n 0, 1) := dk_42 (dk_at dksX4_through_3 15 rfl rfl)
theorem dX4_through_86 : decode cX4_through 86 = .ok (.getfield 69, 3) := dk_180 0 69 (dk_at dksX4_through_3 16 rfl rfl)
theorem dX4_through_89 : decode cX4_through 89 = .ok (.iload 6, 2) := dk_21 6 (dk_at dksX4_through_3 19 rfl rfl)
theorem dX4_through_91 : decode cX4_through 91 = .ok (.iaload, 1) := dk_46 (dk_at dksX4_through_3 21 rfl rfl)
theorem dX4_through_92 : decode cX4_through 92 = .ok (.imul, 1) := dk_104 (dk_at dksX4_through_3 22 rfl rfl)
theorem dX4_through_93 : decode cX4_through 93 = .ok (.iload 5, 2) := dk_21 5 (dk_at dksX4_through_4 0 rfl rfl)
theorem dX4_through_95 : decode cX4_through 95 = .ok (.iadd, 1) := dk_96 (dk_at dksX4_through_4 2 rfl rfl)
theorem dX4_through_96 : decode cX4_through 96 = .ok (.iaload, 1) := dk_46 (dk_at dksX4_through_4 3 rfl rfl)
theorem dX4_through_97 : decode cX4_through 97 = .ok (.istore 5, 2) := dk_54 5 (dk_at dksX4_through_4 4 rfl rfl)
theorem dX4_through_99 : decode cX4_through 99 = .ok (.iinc 6 (-1), 3) := dk_132 6 255 (dk_at dksX4_through_4 6 rfl rfl)
theorem dX4_through_102 : decode cX4_through 102 = .ok (.goto (-34), 3) := dk_167 255 222 (dk_at dksX4_through_4 9 rfl rfl)
theorem dX4_through_105 : decode cX4_through 105 = .ok (.iload 5, 2) := dk_21 5 (dk_at dksX4_through_4 12 rfl rfl)
theorem dX4_through_107 : decode cX4_through 107 = .ok (.ireturn, 1) := dk_172 (dk_at dksX4_through_4 14 rfl rfl)
abbrev cX4_behind : ByteArray := prog_28_method_37_code
def yX4_behind : MethodName := ⟨RX4, "behind", "(II)I"⟩
def dkwX4_behind_1 : List UInt8 := [160, 0, 5, 29, 172, 132, 3, 1, 42, 180, 0, 7, 21, 4, 46, 54, 4, 167, 255, 222, 2, 172]
abbrev dktX4_behind_1 : List UInt8 := dkwX4_behind_1 ++ []
def dkwX4_behind_0 : List UInt8 := [3, 62, 27, 54, 4, 21, 4, 2, 159, 0, 34, 42, 180, 0, 69, 29, 21, 4, 79, 21, 4, 28]
abbrev dktX4_behind_0 : List UInt8 := dkwX4_behind_0 ++ dktX4_behind_1
theorem dksX4_behind_0 : cX4_behind.data.toList.drop 0 = dktX4_behind_0 := by decide +kernel
theorem dksX4_behind_1 : cX4_behind.data.toList.drop 22 = dktX4_behind_1 := dk_seg dksX4_behind_0 22 rfl rfl
theorem dX4_behind_0 : decode cX4_behind 0 = .ok (.iconst 0, 1) := dk_3 (dk_at dksX4_behind_0 0 rfl rfl)
theorem dX4_behind_1 : decode cX4_behind 1 = .ok (.istore_n 3, 1) := dk_62 (dk_at dksX4_behind_0 1 rfl rfl)
theorem dX4_behind_2 : decode cX4_behind 2 = .ok (.iload_n 1, 1) := dk_27 (dk_at dksX4_behind_0 2 rfl rfl)
theorem dX4_behind_3 : decode cX4_behind 3 = .ok (.istore 4, 2) := dk_54 4 (dk_at dksX4_behind_0 3 rfl rfl)
theorem dX4_behind_5 : decode cX4_behind 5 = .ok (.iload 4, 2) := dk_21 4 (dk_at dksX4_behind_0 5 rfl rfl)
theorem dX4_behind_7 : decode cX4_behind 7 = .ok (.iconst (-1), 1) := dk_2 (dk_at dksX4_behind_0 7 rfl rfl)
theorem dX4_behind_8 : decode cX4_behind 8 = .ok (.if_icmp .eq 34, 3) := dk_159 0 34 (dk_at dksX4_behind_0 8 rfl rfl)
theorem dX4_behind_11 : decode cX4_behind 11 = .ok (.aload_n 0, 1) := dk_42 (dk_at dksX4_behind_0 11 rfl rfl)
theorem dX4_behind_12 : decode cX4_behind 12 = .ok (.getfield 69, 3) := dk_180 0 69 (dk_at dksX4_behind_0 12 rfl rfl)
theorem dX4_behind_15 : decode cX4_behind 15 = .ok (.iload_n 3, 1) := dk_29 (dk_at dksX4_behind_0 15 rfl rfl)
theorem dX4_behind_16 : decode cX4_behind 16 = .ok (.iload 4, 2) := dk_21 4 (dk_at dksX4_behind_0 16 rfl rfl)
theorem dX4_behind_18 : decode cX4_behind 18 = .ok (.iastore, 1) := dk_79 (dk_at dksX4_behind_0 18 rfl rfl)
theorem dX4_behind_19 : decode cX4_behind 19 = .ok (.iload 4, 2) := dk_21 4 (dk_at dksX4_behind_0 19 rfl rfl)
theorem dX4_behind_21 : decode cX4_behind 21 = .ok (.iload_n 2, 1) := dk_28 (dk_at dksX4_behind_0 21 rfl rfl)
theorem dX4_behind_22 : decode cX4_behind 22 = .ok (.if_icmp .ne 5, 3) := dk_160 0 5 (dk_at dksX4_behind_1 0 rfl rfl)
theorem dX4_behind_25 : decode cX4_behind 25 = .ok (.iload_n 3, 1) := dk_29 (dk_at dksX4_behind_1 3 rfl rfl)
theorem dX4_behind_26 : decode cX4_behind 26 = .ok (.ireturn, 1) := dk_172 (dk_at dksX4_behind_1 4 rfl rfl)
theorem dX4_behind_27 : decode cX4_behind 27 = .ok (.iinc 3 1, 3) := dk_132 3 1 (dk_at dksX4_behind_1 5 rfl rfl)
theorem dX4_behind_30 : decode cX4_behind 30 = .ok (.aload_n 0, 1) := dk_42 (dk_at dksX4_behind_1 8 rfl rfl)
theorem dX4_behind_31 : decode cX4_behind 31 = .ok (.getfield 7, 3) := dk_180 0 7 (dk_at dksX4_behind_1 9 rfl rfl)
theorem dX4_behind_34 : decode cX4_behind 34 = .ok (.iload 4, 2) := dk_21 4 (dk_at dksX4_behind_1 12 rfl rfl)
theorem dX4_behind_36 : decode cX4_behind 36 = .ok (.iaload, 1) := dk_46 (dk_at dksX4_behind_1 14 rfl rfl)
theorem dX4_behind_37 : decode cX4_behind 37 = .ok (.istore 4, 2) := dk_54 4 (dk_at dksX4_behind_1 15 rfl rfl)
theorem dX4_behind_39 : decode cX4_behind 39 = .ok (.goto (-34), 3) := dk_167 255 222 (dk_at dksX4_behind_1 17 rfl rfl)
theorem dX4_behind_42 : decode cX4_behind 42 = .ok (.iconst (-1), 1) := dk_2 (dk_at dksX4_behind_1 20 rfl rfl)
theorem dX4_behind_43 : decode cX4_behind 43 = .ok (.ireturn, 1) := dk_172 (dk_at dksX4_behind_1 21 rfl rfl)
abbrev cX4_origin : ByteArray := prog_28_method_40_code
def yX4_origin : MethodName := ⟨RX4, "origin", "(III)I"⟩
def dkwX4_origin_4 : List UInt8 := [21, 5, 172]
abbrev dktX4_origin_4 : List UInt8 := dkwX4_origin_4 ++ []
def dkwX4_origin_3 : List UInt8 := [54, 4, 42, 21, 4, 21, 5, 182, 0, 172, 54, 6, 167, 255, 227, 29, 154, 0, 8, 21, 4, 167, 0, 5]
abbrev dktX4_origin_3 : List UInt8 := dkwX4_origin_3 ++ dktX4_origin_4
def dkwX4_origin_2 : List UInt8 := [21, 5, 182, 0, 172, 54, 6, 21, 6, 2, 159, 0, 29, 21, 6, 54, 5, 42, 180, 0, 7, 21, 4, 46]
abbrev dktX4_origin_2 : List UInt8 := dkwX4_origin_2 ++ dktX4_origin_3
def dkwX4_origin_1 : List UInt8 := [3, 4, 184, 0, 89, 154, 0, 10, 42, 16, 251, 182, 0, 82, 172, 27, 54, 4, 28, 54, 5, 42, 21, 4]
abbrev dktX4_origin_1 : List UInt8 := dkwX4_origin_1 ++ dktX4_origin_2
def dkwX4_origin_0 : List UInt8 := [42, 27, 182, 0, 124, 154, 0, 9, 42, 2, 182, 0, 82, 172, 42, 27, 28, 182, 0, 133, 153, 0, 12, 29]
abbrev dktX4_origin_0 : List UInt8 := dkwX4_origin_0 ++ dktX4_origin_1
theorem dksX4_origin_0 : cX4_origin.data.toList.drop 0 = dktX4_origin_0 := by decide +kernel
theorem dksX4_origin_1 : cX4_origin.data.toList.drop 24 = dktX4_origin_1 := dk_seg dksX4_origin_0 24 rfl rfl
theorem dksX4_origin_2 : cX4_origin.data.toList.drop 48 = dktX4_origin_2 := dk_seg dksX4_origin_1 24 rfl rfl
theorem dksX4_origin_3 : cX4_origin.data.toList.drop 72 = dktX4_origin_3 := dk_seg dksX4_origin_2 24 rfl rfl
theorem dksX4_origin_4 : cX4_origin.data.toList.drop 96 = dktX4_origin_4 := dk_seg dksX4_origin_3 24 rfl rfl
theorem dX4_origin_0 : decode cX4_origin 0 = .ok (.aload_n 0, 1) := dk_42 (dk_at dksX4_origin_0 0 rfl rfl)
theorem dX4_origin_1 : decode cX4_origin 1 = .ok (.iload_n 1, 1) := dk_27 (dk_at dksX4_origin_0 1 rfl rfl)
theorem dX4_origin_2 : decode cX4_origin 2 = .ok (.invokevirtual 124, 3) := dk_182 0 124 (dk_at dksX4_origin_0 2 rfl rfl)
theorem dX4_origin_5 : decode cX4_origin 5 = .ok (.ifCond .ne 9, 3) := dk_154 0 9 (dk_at dksX4_origin_0 5 rfl rfl)
theorem dX4_origin_8 : decode cX4_origin 8 = .ok (.aload_n 0, 1) := dk_42 (dk_at dksX4_origin_0 8 rfl rfl)
theorem dX4_origin_9 : decode cX4_origin 9 = .ok (.iconst (-1), 1) := dk_2 (dk_at dksX4_origin_0 9 rfl rfl)
theorem dX4_origin_10 : decode cX4_origin 10 = .ok (.invokevirtual 82, 3) := dk_182 0 82 (dk_at dksX4_origin_0 10 rfl rfl)
theorem dX4_origin_13 : decode cX4_origin 13 = .ok (.ireturn, 1) := dk_172 (dk_at dksX4_origin_0 13 rfl rfl)
theorem dX4_origin_14 : decode cX4_origin 14 = .ok (.aload_n 0, 1) := dk_42 (dk_at dksX4_origin_0 14 rfl rfl)
theorem dX4_origin_15 : decode cX4_origin 15 = .ok (.iload_n 1, 1) := dk_27 (dk_at dksX4_origin_0 15 rfl rfl)
theorem dX4_origin_16 : decode cX4_origin 16 = .ok (.iload_n 2, 1) := dk_28 (dk_at dksX4_origin_0 16 rfl rfl)
theorem dX4_origin_17 : decode cX4_origin 17 = .ok (.invokevirtual 133, 3) := dk_182 0 133 (dk_at dksX4_origin_0 17 rfl rfl)
theorem dX4_origin_20 : decode cX4_origin 20 = .ok (.ifCond .eq 12, 3) := dk_153 0 12 (dk_at dksX4_origin_0 20 rfl rfl)
theorem dX4_origin_23 : decode cX4_origin 23 = .ok (.iload_n 3, 1) := dk_29 (dk_at dksX4_origin_0 23 rfl rfl)
theorem dX4_origin_24 : decode cX4_origin 24 = .ok (.iconst 0, 1) := dk_3 (dk_at dksX4_origin_1 0 rfl rfl)
theorem dX4_origin_25 : decode cX4_origin 25 = .ok (.iconst 1, 1) := dk_4 (dk_at dksX4_origin_1 1 rfl rfl)
theorem dX4_origin_26 : decode cX4_origin 26 = .ok (.invokestatic 89, 3) := dk_184 0 89 (dk_at dksX4_origin_1 2 rfl rfl)
theorem dX4_origin_29 : decode cX4_origin 29 = .ok (.ifCond .ne 10, 3) := dk_154 0 10 (dk_at dksX4_origin_1 5 rfl rfl)
theorem dX4_origin_32 : decode cX4_origin 32 = .ok (.aload_n 0, 1) := dk_42 (dk_at dksX4_origin_1 8 rfl rfl)
theorem dX4_origin_33 : decode cX4_origin 33 = .ok (.bipush (-5), 2) := dk_16 251 (dk_at dksX4_origin_1 9 rfl rfl)
theorem dX4_origin_35 : decode cX4_origin 35 = .ok (.invokevirtual 82, 3) := dk_182 0 82 (dk_at dksX4_origin_1 11 rfl rfl)
theorem dX4_origin_38 : decode cX4_origin 38 = .ok (.ireturn, 1) := dk_172 (dk_at dksX4_origin_1 14 rfl rfl)
theorem dX4_origin_39 : decode cX4_origin 39 = .ok (.iload_n 1, 1) := dk_27 (dk_at dksX4_origin_1 15 rfl rfl)
theorem dX4_origin_40 : decode cX4_origin 40 = .ok (.istore 4, 2) := dk_54 4 (dk_at dksX4_origin_1 16 rfl rfl)
theorem dX4_origin_42 : decode cX4_origin 42 = .ok (.iload_n 2, 1) := dk_28 (dk_at dksX4_origin_1 18 rfl rfl)
theorem dX4_origin_43 : decode cX4_origin 43 = .ok (.istore 5, 2) := dk_54 5 (dk_at dksX4_origin_1 19 rfl rfl)
theorem dX4_origin_45 : decode cX4_origin 45 = .ok (.aload_n 0, 1) := dk_42 (dk_at dksX4_origin_1 21 rfl rfl)
theorem dX4_origin_46 : decode cX4_origin 46 = .ok (.iload 4, 2) := dk_21 4 (dk_at dksX4_origin_1 22 rfl rfl)
theorem dX4_origin_48 : decode cX4_origin 48 = .ok (.iload 5, 2) := dk_21 5 (dk_at dksX4_origin_2 0 rfl rfl)
theorem dX4_origin_50 : decode cX4_origin 50 = .ok (.invokevirtual 172, 3) := dk_182 0 172 (dk_at dksX4_origin_2 2 rfl rfl)
theorem dX4_origin_53 : decode cX4_origin 53 = .ok (.istore 6, 2) := dk_54 6 (dk_at dksX4_origin_2 5 rfl rfl)
theorem dX4_origin_55 : decode cX4_origin 55 = .ok (.iload 6, 2) := dk_21 6 (dk_at dksX4_origin_2 7 rfl rfl)
theorem dX4_origin_57 : decode cX4_origin 57 = .ok (.iconst (-1), 1) := dk_2 (dk_at dksX4_origin_2 9 rfl rfl)
theorem dX4_origin_58 : decode cX4_origin 58 = .ok (.if_icmp .eq 29, 3) := dk_159 0 29 (dk_at dksX4_origin_2 10 rfl rfl)
theorem dX4_origin_61 : decode cX4_origin 61 = .ok (.iload 6, 2) := dk_21 6 (dk_at dksX4_origin_2 13 rfl rfl)
theorem dX4_origin_63 : decode cX4_origin 63 = .ok (.istore 5, 2) := dk_54 5 (dk_at dksX4_origin_2 15 rfl rfl)
theorem dX4_origin_65 : decode cX4_origin 65 = .ok (.aload_n 0, 1) := dk_42 (dk_at dksX4_origin_2 17 rfl rfl)
theorem dX4_origin_66 : decode cX4_origin 66 = .ok (.getfield 7, 3) := dk_180 0 7 (dk_at dksX4_origin_2 18 rfl rfl)
theorem dX4_origin_69 : decode cX4_origin 69 = .ok (.iload 4, 2) := dk_21 4 (dk_at dksX4_origin_2 21 rfl rfl)
theorem dX4_origin_71 : decode cX4_origin 71 = .ok (.iaload, 1) := dk_46 (dk_at dksX4_origin_2 23 rfl rfl)
theorem dX4_origin_72 : decode cX4_origin 72 = .ok (.istore 4, 2) := dk_54 4 (dk_at dksX4_origin_3 0 rfl rfl)
theorem dX4_origin_74 : decode cX4_origin 74 = .ok (.aload_n 0, 1) := dk_42 (dk_at dksX4_origin_3 2 rfl rfl)
theorem dX4_origin_75 : decode cX4_origin 75 = .ok (.iload 4, 2) := dk_21 4 (dk_at dksX4_origin_3 3 rfl rfl)
theorem dX4_origin_77 : decode cX4_origin 77 = .ok (.iload 5, 2) := dk_21 5 (dk_at dksX4_origin_3 5 rfl rfl)
theorem dX4_origin_79 : decode cX4_origin 79 = .ok (.invokevirtual 172, 3) := dk_182 0 172 (dk_at dksX4_origin_3 7 rfl rfl)
theorem dX4_origin_82 : decode cX4_origin 82 = .ok (.istore 6, 2) := dk_54 6 (dk_at dksX4_origin_3 10 rfl rfl)
theorem dX4_origin_84 : decode cX4_origin 84 = .ok (.goto (-29), 3) := dk_167 255 227 (dk_at dksX4_origin_3 12 rfl rfl)
theorem dX4_origin_87 : decode cX4_origin 87 = .ok (.iload_n 3, 1) := dk_29 (dk_at dksX4_origin_3 15 rfl rfl)
theorem dX4_origin_88 : decode cX4_origin 88 = .ok (.ifCond .ne 8, 3) := dk_154 0 8 (dk_at dksX4_origin_3 16 rfl rfl)
theorem dX4_origin_91 : decode cX4_origin 91 = .ok (.iload 4, 2) := dk_21 4 (dk_at dksX4_origin_3 19 rfl rfl)
theorem dX4_origin_93 : decode cX4_origin 93 = .ok (.goto 5, 3) := dk_167 0 5 (dk_at dksX4_origin_3 21 rfl rfl)
theorem dX4_origin_96 : decode cX4_origin 96 = .ok (.iload 5, 2) := dk_21 5 (dk_at dksX4_origin_4 0 rfl rfl)
theorem dX4_origin_98 : decode cX4_origin 98 = .ok (.ireturn, 1) := dk_172 (dk_at dksX4_origin_4 2 rfl rfl)
abbrev cX4_comesFrom : ByteArray := prog_28_method_39_code
def yX4_comesFrom : MethodName := ⟨RX4, "comesFrom", "(II)I"⟩
def dkwX4_comesFrom_2 : List UInt8 := [132, 3, 1, 167, 255, 221, 2, 172]
abbrev dktX4_comesFrom_2 : List UInt8 := dkwX4_comesFrom_2 ++ []
def dkwX4_comesFrom_1 : List UInt8 := [46, 46, 162, 0, 26, 42, 180, 0, 20, 16, 24, 27, 104, 29, 96, 46, 28, 160, 0, 5, 29, 172]
abbrev dktX4_comesFrom_1 : List UInt8 := dkwX4_comesFrom_1 ++ dktX4_comesFrom_2
def dkwX4_comesFrom_0 : List UInt8 := [42, 180, 0, 7, 27, 46, 2, 160, 0, 5, 2, 172, 3, 62, 29, 42, 180, 0, 13, 42, 180, 0, 7, 27]
abbrev dktX4_comesFrom_0 : List UInt8 := dkwX4_comesFrom_0 ++ dktX4_comesFrom_1
theorem dksX4_comesFrom_0 : cX4_comesFrom.data.toList.drop 0 = dktX4_comesFrom_0 := by decide +kernel
theorem dksX4_comesFrom_1 : cX4_comesFrom.data.toList.drop 24 = dktX4_comesFrom_1 := dk_seg dksX4_comesFrom_0 24 rfl rfl
theorem dksX4_comesFrom_2 : cX4_comesFrom.data.toList.drop 46 = dktX4_comesFrom_2 := dk_seg dksX4_comesFrom_1 22 rfl rfl
theorem dX4_comesFrom_0 : decode cX4_comesFrom 0 = .ok (.aload_n 0, 1) := dk_42 (dk_at dksX4_comesFrom_0 0 rfl rfl)
theorem dX4_comesFrom_1 : decode cX4_comesFrom 1 = .ok (.getfield 7, 3) := dk_180 0 7 (dk_at dksX4_comesFrom_0 1 rfl rfl)
theorem dX4_comesFrom_4 : decode cX4_comesFrom 4 = .ok (.iload_n 1, 1) := dk_27 (dk_at dksX4_comesFrom_0 4 rfl rfl)
theorem dX4_comesFrom_5 : decode cX4_comesFrom 5 = .ok (.iaload, 1) := dk_46 (dk_at dksX4_comesFrom_0 5 rfl rfl)
theorem dX4_comesFrom_6 : decode cX4_comesFrom 6 = .ok (.iconst (-1), 1) := dk_2 (dk_at dksX4_comesFrom_0 6 rfl rfl)
theorem dX4_comesFrom_7 : decode cX4_comesFrom 7 = .ok (.if_icmp .ne 5, 3) := dk_160 0 5 (dk_at dksX4_comesFrom_0 7 rfl rfl)
theorem dX4_comesFrom_10 : decode cX4_comesFrom 10 = .ok (.iconst (-1), 1) := dk_2 (dk_at dksX4_comesFrom_0 10 rfl rfl)
theorem dX4_comesFrom_11 : decode cX4_comesFrom 11 = .ok (.ireturn, 1) := dk_172 (dk_at dksX4_comesFrom_0 11 rfl rfl)
theorem dX4_comesFrom_12 : decode cX4_comesFrom 12 = .ok (.iconst 0, 1) := dk_3 (dk_at dksX4_comesFrom_0 12 rfl rfl)
theorem dX4_comesFrom_13 : decode cX4_comesFrom 13 = .ok (.istore_n 3, 1) := dk_62 (dk_at dksX4_comesFrom_0 13 rfl rfl)
theorem dX4_comesFrom_14 : decode cX4_comesFrom 14 = .ok (.iload_n 3, 1) := dk_29 (dk_at dksX4_comesFrom_0 14 rfl rfl)
theorem dX4_comesFrom_15 : decode cX4_comesFrom 15 = .ok (.aload_n 0, 1) := dk_42 (dk_at dksX4_comesFrom_0 15 rfl rfl)
theorem dX4_comesFrom_16 : decode cX4_comesFrom 16 = .ok (.getfield 13, 3) := dk_180 0 13 (dk_at dksX4_comesFrom_0 16 rfl rfl)
theorem dX4_comesFrom_19 : decode cX4_comesFrom 19 = .ok (.aload_n 0, 1) := dk_42 (dk_at dksX4_comesFrom_0 19 rfl rfl)
theorem dX4_comesFrom_20 : decode cX4_comesFrom 20 = .ok (.getfield 7, 3) := dk_180 0 7 (dk_at dksX4_comesFrom_0 20 rfl rfl)
theorem dX4_comesFrom_23 : decode cX4_comesFrom 23 = .ok (.iload_n 1, 1) := dk_27 (dk_at dksX4_comesFrom_0 23 rfl rfl)
theorem dX4_comesFrom_24 : decode cX4_comesFrom 24 = .ok (.iaload, 1) := dk_46 (dk_at dksX4_comesFrom_1 0 rfl rfl)
theorem dX4_comesFrom_25 : decode cX4_comesFrom 25 = .ok (.iaload, 1) := dk_46 (dk_at dksX4_comesFrom_1 1 rfl rfl)
theorem dX4_comesFrom_26 : decode cX4_comesFrom 26 = .ok (.if_icmp .ge 26, 3) := dk_162 0 26 (dk_at dksX4_comesFrom_1 2 rfl rfl)
theorem dX4_comesFrom_29 : decode cX4_comesFrom 29 = .ok (.aload_n 0, 1) := dk_42 (dk_at dksX4_comesFrom_1 5 rfl rfl)
theorem dX4_comesFrom_30 : decode cX4_comesFrom 30 = .ok (.getfield 20, 3) := dk_180 0 20 (dk_at dksX4_comesFrom_1 6 rfl rfl)
theorem dX4_comesFrom_33 : decode cX4_comesFrom 33 = .ok (.bipush 24, 2) := dk_16 24 (dk_at dksX4_comesFrom_1 9 rfl rfl)
theorem dX4_comesFrom_35 : decode cX4_comesFrom 35 = .ok (.iload_n 1, 1) := dk_27 (dk_at dksX4_comesFrom_1 11 rfl rfl)
theorem dX4_comesFrom_36 : decode cX4_comesFrom 36 = .ok (.imul, 1) := dk_104 (dk_at dksX4_comesFrom_1 12 rfl rfl)
theorem dX4_comesFrom_37 : decode cX4_comesFrom 37 = .ok (.iload_n 3, 1) := dk_29 (dk_at dksX4_comesFrom_1 13 rfl rfl)
theorem dX4_comesFrom_38 : decode cX4_comesFrom 38 = .ok (.iadd, 1) := dk_96 (dk_at dksX4_comesFrom_1 14 rfl rfl)
theorem dX4_comesFrom_39 : decode cX4_comesFrom 39 = .ok (.iaload, 1) := dk_46 (dk_at dksX4_comesFrom_1 15 rfl rfl)
theorem dX4_comesFrom_40 : decode cX4_comesFrom 40 = .ok (.iload_n 2, 1) := dk_28 (dk_at dksX4_comesFrom_1 16 rfl rfl)
theorem dX4_comesFrom_41 : decode cX4_comesFrom 41 = .ok (.if_icmp .ne 5, 3) := dk_160 0 5 (dk_at dksX4_comesFrom_1 17 rfl rfl)
theorem dX4_comesFrom_44 : decode cX4_comesFrom 44 = .ok (.iload_n 3, 1) := dk_29 (dk_at dksX4_comesFrom_1 20 rfl rfl)
theorem dX4_comesFrom_45 : decode cX4_comesFrom 45 = .ok (.ireturn, 1) := dk_172 (dk_at dksX4_comesFrom_1 21 rfl rfl)
theorem dX4_comesFrom_46 : decode cX4_comesFrom 46 = .ok (.iinc 3 1, 3) := dk_132 3 1 (dk_at dksX4_comesFrom_2 0 rfl rfl)
theorem dX4_comesFrom_49 : decode cX4_comesFrom 49 = .ok (.goto (-35), 3) := dk_167 255 221 (dk_at dksX4_comesFrom_2 3 rfl rfl)
theorem dX4_comesFrom_52 : decode cX4_comesFrom 52 = .ok (.iconst (-1), 1) := dk_2 (dk_at dksX4_comesFrom_2 6 rfl rfl)
theorem dX4_comesFrom_53 : decode cX4_comesFrom 53 = .ok (.ireturn, 1) := dk_172 (dk_at dksX4_comesFrom_2 7 rfl rfl)
abbrev cX4_remark : ByteArray := prog_28_method_42_code
def yX4_remark : MethodName := ⟨RX4, "remark", "(IIIIII)I"⟩
def dkwX4_remark_5 : List UInt8 := [21, 5, 21, 6, 182, 0, 175, 172]
abbrev dktX4_remark_5 : List UInt8 := dkwX4_remark_5 ++ []
def dkwX4_remark_4 : List UInt8 := [180, 0, 93, 16, 16, 160, 0, 12, 42, 16, 249, 182, 0, 82, 167, 0, 16, 42, 27, 28, 29, 21, 4]
abbrev dktX4_remark_4 : List UInt8 := dkwX4_remark_4 ++ dktX4_remark_5
def dkwX4_remark_3 : List UInt8 := [182, 0, 82, 172, 28, 3, 16, 9, 184, 0, 89, 154, 0, 10, 42, 16, 250, 182, 0, 82, 172, 42]
abbrev dktX4_remark_3 : List UInt8 := dkwX4_remark_3 ++ dktX4_remark_4
def dkwX4_remark_2 : List UInt8 := [153, 0, 20, 42, 29, 21, 5, 182, 0, 133, 153, 0, 10, 21, 5, 21, 4, 162, 0, 10, 42, 16, 251]
abbrev dktX4_remark_2 : List UInt8 := dkwX4_remark_2 ++ dktX4_remark_3
def dkwX4_remark_1 : List UInt8 := [42, 21, 6, 182, 0, 103, 154, 0, 9, 42, 2, 182, 0, 82, 172, 42, 29, 21, 4, 182, 0, 133]
abbrev dktX4_remark_1 : List UInt8 := dkwX4_remark_1 ++ dktX4_remark_2
def dkwX4_remark_0 : List UInt8 := [27, 3, 16, 6, 184, 0, 89, 153, 0, 26, 42, 29, 182, 0, 124, 153, 0, 18, 21, 6, 2, 159, 0, 18]
abbrev dktX4_remark_0 : List UInt8 := dkwX4_remark_0 ++ dktX4_remark_1
theorem dksX4_remark_0 : cX4_remark.data.toList.drop 0 = dktX4_remark_0 := by decide +kernel
theorem dksX4_remark_1 : cX4_remark.data.toList.drop 24 = dktX4_remark_1 := dk_seg dksX4_remark_0 24 rfl rfl
theorem dksX4_remark_2 : cX4_remark.data.toList.drop 46 = dktX4_remark_2 := dk_seg dksX4_remark_1 22 rfl rfl
theorem dksX4_remark_3 : cX4_remark.data.toList.drop 69 = dktX4_remark_3 := dk_seg dksX4_remark_2 23 rfl rfl
theorem dksX4_remark_4 : cX4_remark.data.toList.drop 91 = dktX4_remark_4 := dk_seg dksX4_remark_3 22 rfl rfl
theorem dksX4_remark_5 : cX4_remark.data.toList.drop 114 = dktX4_remark_5 := dk_seg dksX4_remark_4 23 rfl rfl
theorem dX4_remark_0 : decode cX4_remark 0 = .ok (.iload_n 1, 1) := dk_27 (dk_at dksX4_remark_0 0 rfl rfl)
theorem dX4_remark_1 : decode cX4_remark 1 = .ok (.iconst 0, 1) := dk_3 (dk_at dksX4_remark_0 1 rfl rfl)
theorem dX4_remark_2 : decode cX4_remark 2 = .ok (.bipush 6, 2) := dk_16 6 (dk_at dksX4_remark_0 2 rfl rfl)
theorem dX4_remark_4 : decode cX4_remark 4 = .ok (.invokestatic 89, 3) := dk_184 0 89 (dk_at dksX4_remark_0 4 rfl rfl)
theorem dX4_remark_7 : decode cX4_remark 7 = .ok (.ifCond .eq 26, 3) := dk_153 0 26 (dk_at dksX4_remark_0 7 rfl rfl)
theorem dX4_remark_10 : decode cX4_remark 10 = .ok (.aload_n 0, 1) := dk_42 (dk_at dksX4_remark_0 10 rfl rfl)
theorem dX4_remark_11 : decode cX4_remark 11 = .ok (.iload_n 3, 1) := dk_29 (dk_at dksX4_remark_0 11 rfl rfl)
theorem dX4_remark_12 : decode cX4_remark 12 = .ok (.invokevirtual 124, 3) := dk_182 0 124 (dk_at dksX4_remark_0 12 rfl rfl)
theorem dX4_remark_15 : decode cX4_remark 15 = .ok (.ifCond .eq 18, 3) := dk_153 0 18 (dk_at dksX4_remark_0 15 rfl rfl)
theorem dX4_remark_18 : decode cX4_remark 18 = .ok (.iload 6, 2) := dk_21 6 (dk_at dksX4_remark_0 18 rfl rfl)
theorem dX4_remark_20 : decode cX4_remark 20 = .ok (.iconst (-1), 1) := dk_2 (dk_at dksX4_remark_0 20 rfl rfl)
theorem dX4_remark_21 : decode cX4_remark 21 = .ok (.if_icmp .eq 18, 3) := dk_159 0 18 (dk_at dksX4_remark_0 21 rfl rfl)
theorem dX4_remark_24 : decode cX4_remark 24 = .ok (.aload_n 0, 1) := dk_42 (dk_at dksX4_remark_1 0 rfl rfl)
theorem dX4_remark_25 : decode cX4_remark 25 = .ok (.iload 6, 2) := dk_21 6 (dk_at dksX4_remark_1 1 rfl rfl)
theorem dX4_remark_27 : decode cX4_remark 27 = .ok (.invokevirtual 103, 3) := dk_182 0 103 (dk_at dksX4_remark_1 3 rfl rfl)
theorem dX4_remark_30 : decode cX4_remark 30 = .ok (.ifCond .ne 9, 3) := dk_154 0 9 (dk_at dksX4_remark_1 6 rfl rfl)
theorem dX4_remark_33 : decode cX4_remark 33 = .ok (.aload_n 0, 1) := dk_42 (dk_at dksX4_remark_1 9 rfl rfl)
theorem dX4_remark_34 : decode cX4_remark 34 = .ok (.iconst (-1), 1) := dk_2 (dk_at dksX4_remark_1 10 rfl rfl)
theorem dX4_remark_35 : decode cX4_remark 35 = .ok (.invokevirtual 82, 3) := dk_182 0 82 (dk_at dksX4_remark_1 11 rfl rfl)
theorem dX4_remark_38 : decode cX4_remark 38 = .ok (.ireturn, 1) := dk_172 (dk_at dksX4_remark_1 14 rfl rfl)
theorem dX4_remark_39 : decode cX4_remark 39 = .ok (.aload_n 0, 1) := dk_42 (dk_at dksX4_remark_1 15 rfl rfl)
theorem dX4_remark_40 : decode cX4_remark 40 = .ok (.iload_n 3, 1) := dk_29 (dk_at dksX4_remark_1 16 rfl rfl)
theorem dX4_remark_41 : decode cX4_remark 41 = .ok (.iload 4, 2) := dk_21 4 (dk_at dksX4_remark_1 17 rfl rfl)
theorem dX4_remark_43 : decode cX4_remark 43 = .ok (.invokevirtual 133, 3) := dk_182 0 133 (dk_at dksX4_remark_1 19 rfl rfl)
theorem dX4_remark_46 : decode cX4_remark 46 = .ok (.ifCond .eq 20, 3) := dk_153 0 20 (dk_at dksX4_remark_2 0 rfl rfl)
theorem dX4_remark_49 : decode cX4_remark 49 = .ok (.aload_n 0, 1) := dk_42 (dk_at dksX4_remark_2 3 rfl rfl)
theorem dX4_remark_50 : decode cX4_remark 50 = .ok (.iload_n 3, 1) := dk_29 (dk_at dksX4_remark_2 4 rfl rfl)
theorem dX4_remark_51 : decode cX4_remark 51 = .ok (.iload 5, 2) := dk_21 5 (dk_at dksX4_remark_2 5 rfl rfl)
theorem dX4_remark_53 : decode cX4_remark 53 = .ok (.invokevirtual 133, 3) := dk_182 0 133 (dk_at dksX4_remark_2 7 rfl rfl)
theorem dX4_remark_56 : decode cX4_remark 56 = .ok (.ifCond .eq 10, 3) := dk_153 0 10 (dk_at dksX4_remark_2 10 rfl rfl)
theorem dX4_remark_59 : decode cX4_remark 59 = .ok (.iload 5, 2) := dk_21 5 (dk_at dksX4_remark_2 13 rfl rfl)
theorem dX4_remark_61 : decode cX4_remark 61 = .ok (.iload 4, 2) := dk_21 4 (dk_at dksX4_remark_2 15 rfl rfl)
theorem dX4_remark_63 : decode cX4_remark 63 = .ok (.if_icmp .ge 10, 3) := dk_162 0 10 (dk_at dksX4_remark_2 17 rfl rfl)
theorem dX4_remark_66 : decode cX4_remark 66 = .ok (.aload_n 0, 1) := dk_42 (dk_at dksX4_remark_2 20 rfl rfl)
theorem dX4_remark_67 : decode cX4_remark 67 = .ok (.bipush (-5), 2) := dk_16 251 (dk_at dksX4_remark_2 21 rfl rfl)
theorem dX4_remark_69 : decode cX4_remark 69 = .ok (.invokevirtual 82, 3) := dk_182 0 82 (dk_at dksX4_remark_3 0 rfl rfl)
theorem dX4_remark_72 : decode cX4_remark 72 = .ok (.ireturn, 1) := dk_172 (dk_at dksX4_remark_3 3 rfl rfl)
theorem dX4_remark_73 : decode cX4_remark 73 = .ok (.iload_n 2, 1) := dk_28 (dk_at dksX4_remark_3 4 rfl rfl)
theorem dX4_remark_74 : decode cX4_remark 74 = .ok (.iconst 0, 1) := dk_3 (dk_at dksX4_remark_3 5 rfl rfl)
theorem dX4_remark_75 : decode cX4_remark 75 = .ok (.bipush 9, 2) := dk_16 9 (dk_at dksX4_remark_3 6 rfl rfl)
theorem dX4_remark_77 : decode cX4_remark 77 = .ok (.invokestatic 89, 3) := dk_184 0 89 (dk_at dksX4_remark_3 8 rfl rfl)
theorem dX4_remark_80 : decode cX4_remark 80 = .ok (.ifCond .ne 10, 3) := dk_154 0 10 (dk_at dksX4_remark_3 11 rfl rfl)
theorem dX4_remark_83 : decode cX4_remark 83 = .ok (.aload_n 0, 1) := dk_42 (dk_at dksX4_remark_3 14 rfl rfl)
theorem dX4_remark_84 : decode cX4_remark 84 = .ok (.bipush (-6), 2) := dk_16 250 (dk_at dksX4_remark_3 15 rfl rfl)
theorem dX4_remark_86 : decode cX4_remark 86 = .ok (.invokevirtual 82, 3) := dk_182 0 82 (dk_at dksX4_remark_3 17 rfl rfl)
theorem dX4_remark_89 : decode cX4_remark 89 = .ok (.ireturn, 1) := dk_172 (dk_at dksX4_remark_3 20 rfl rfl)
theorem dX4_remark_90 : decode cX4_remark 90 = .ok (.aload_n 0, 1) := dk_42 (dk_at dksX4_remark_3 21 rfl rfl)
theorem dX4_remark_91 : decode cX4_remark 91 = .ok (.getfield 93, 3) := dk_180 0 93 (dk_at dksX4_remark_4 0 rfl rfl)
theorem dX4_remark_94 : decode cX4_remark 94 = .ok (.bipush 16, 2) := dk_16 16 (dk_at dksX4_remark_4 3 rfl rfl)
theorem dX4_remark_96 : decode cX4_remark 96 = .ok (.if_icmp .ne 12, 3) := dk_160 0 12 (dk_at dksX4_remark_4 5 rfl rfl)
theorem dX4_remark_99 : decode cX4_remark 99 = .ok (.aload_n 0, 1) := dk_42 (dk_at dksX4_remark_4 8 rfl rfl)
theorem dX4_remark_100 : decode cX4_remark 100 = .ok (.bipush (-7), 2) := dk_16 249 (dk_at dksX4_remark_4 9 rfl rfl)
theorem dX4_remark_102 : decode cX4_remark 102 = .ok (.invokevirtual 82, 3) := dk_182 0 82 (dk_at dksX4_remark_4 11 rfl rfl)
theorem dX4_remark_105 : decode cX4_remark 105 = .ok (.goto 16, 3) := dk_167 0 16 (dk_at dksX4_remark_4 14 rfl rfl)
theorem dX4_remark_108 : decode cX4_remark 108 = .ok (.aload_n 0, 1) := dk_42 (dk_at dksX4_remark_4 17 rfl rfl)
theorem dX4_remark_109 : decode cX4_remark 109 = .ok (.iload_n 1, 1) := dk_27 (dk_at dksX4_remark_4 18 rfl rfl)
theorem dX4_remark_110 : decode cX4_remark 110 = .ok (.iload_n 2, 1) := dk_28 (dk_at dksX4_remark_4 19 rfl rfl)
theorem dX4_remark_111 : decode cX4_remark 111 = .ok (.iload_n 3, 1) := dk_29 (dk_at dksX4_remark_4 20 rfl rfl)
theorem dX4_remark_112 : decode cX4_remark 112 = .ok (.iload 4, 2) := dk_21 4 (dk_at dksX4_remark_4 21 rfl rfl)
theorem dX4_remark_114 : decode cX4_remark 114 = .ok (.iload 5, 2) := dk_21 5 (dk_at dksX4_remark_5 0 rfl rfl)
theorem dX4_remark_116 : decode cX4_remark 116 = .ok (.iload 6, 2) := dk_21 6 (dk_at dksX4_remark_5 2 rfl rfl)
theorem dX4_remark_118 : decode cX4_remark 118 = .ok (.invokevirtual 175, 3) := dk_182 0 175 (dk_at dksX4_remark_5 4 rfl rfl)
theorem dX4_remark_121 : decode cX4_remark 121 = .ok (.ireturn, 1) := dk_172 (dk_at dksX4_remark_5 7 rfl rfl)
abbrev cX4_newRemark : ByteArray := prog_28_method_41_code
def yX4_newRemark : MethodName := ⟨RX4, "newRemark", "(IIIIII)I"⟩
def dkwX4_newRemark_4 : List UInt8 := [180, 0, 93, 90, 4, 96, 181, 0, 93, 172]
abbrev dktX4_newRemark_4 : List UInt8 := dkwX4_newRemark_4 ++ []
def dkwX4_newRemark_3 : List UInt8 := [180, 0, 93, 96, 21, 6, 79, 42, 180, 0, 23, 16, 96, 42, 180, 0, 93, 96, 3, 79, 42, 89]
abbrev dktX4_newRemark_3 : List UInt8 := dkwX4_newRemark_3 ++ dktX4_newRemark_4
def dkwX4_newRemark_2 : List UInt8 := [21, 4, 79, 42, 180, 0, 23, 16, 64, 42, 180, 0, 93, 96, 21, 5, 79, 42, 180, 0, 23, 16, 80, 42]
abbrev dktX4_newRemark_2 : List UInt8 := dkwX4_newRemark_2 ++ dktX4_newRemark_3
def dkwX4_newRemark_1 : List UInt8 := [180, 0, 23, 16, 32, 42, 180, 0, 93, 96, 29, 79, 42, 180, 0, 23, 16, 48, 42, 180, 0, 93, 96]
abbrev dktX4_newRemark_1 : List UInt8 := dkwX4_newRemark_1 ++ dktX4_newRemark_2
def dkwX4_newRemark_0 : List UInt8 := [42, 180, 0, 23, 42, 180, 0, 93, 27, 79, 42, 180, 0, 23, 16, 16, 42, 180, 0, 93, 96, 28, 79, 42]
abbrev dktX4_newRemark_0 : List UInt8 := dkwX4_newRemark_0 ++ dktX4_newRemark_1
theorem dksX4_newRemark_0 : cX4_newRemark.data.toList.drop 0 = dktX4_newRemark_0 := by decide +kernel
theorem dksX4_newRemark_1 : cX4_newRemark.data.toList.drop 24 = dktX4_newRemark_1 := dk_seg dksX4_newRemark_0 24 rfl rfl
theorem dksX4_newRemark_2 : cX4_newRemark.data.toList.drop 47 = dktX4_newRemark_2 := dk_seg dksX4_newRemark_1 23 rfl rfl
theorem dksX4_newRemark_3 : cX4_newRemark.data.toList.drop 71 = dktX4_newRemark_3 := dk_seg dksX4_newRemark_2 24 rfl rfl
theorem dksX4_newRemark_4 : cX4_newRemark.data.toList.drop 93 = dktX4_newRemark_4 := dk_seg dksX4_newRemark_3 22 rfl rfl
theorem dX4_newRemark_0 : decode cX4_newRemark 0 = .ok (.aload_n 0, 1) := dk_42 (dk_at dksX4_newRemark_0 0 rfl rfl)
theorem dX4_newRemark_1 : decode cX4_newRemark 1 = .ok (.getfield 23, 3) := dk_180 0 23 (dk_at dksX4_newRemark_0 1 rfl rfl)
theorem dX4_newRemark_4 : decode cX4_newRemark 4 = .ok (.aload_n 0, 1) := dk_42 (dk_at dksX4_newRemark_0 4 rfl rfl)
theorem dX4_newRemark_5 : decode cX4_newRemark 5 = .ok (.getfield 93, 3) := dk_180 0 93 (dk_at dksX4_newRemark_0 5 rfl rfl)
theorem dX4_newRemark_8 : decode cX4_newRemark 8 = .ok (.iload_n 1, 1) := dk_27 (dk_at dksX4_newRemark_0 8 rfl rfl)
theorem dX4_newRemark_9 : decode cX4_newRemark 9 = .ok (.iastore, 1) := dk_79 (dk_at dksX4_newRemark_0 9 rfl rfl)
theorem dX4_newRemark_10 : decode cX4_newRemark 10 = .ok (.aload_n 0, 1) := dk_42 (dk_at dksX4_newRemark_0 10 rfl rfl)
theorem dX4_newRemark_11 : decode cX4_newRemark 11 = .ok (.getfield 23, 3) := dk_180 0 23 (dk_at dksX4_newRemark_0 11 rfl rfl)
theorem dX4_newRemark_14 : decode cX4_newRemark 14 = .ok (.bipush 16, 2) := dk_16 16 (dk_at dksX4_newRemark_0 14 rfl rfl)
theorem dX4_newRemark_16 : decode cX4_newRemark 16 = .ok (.aload_n 0, 1) := dk_42 (dk_at dksX4_newRemark_0 16 rfl rfl)
theorem dX4_newRemark_17 : decode cX4_newRemark 17 = .ok (.getfield 93, 3) := dk_180 0 93 (dk_at dksX4_newRemark_0 17 rfl rfl)
theorem dX4_newRemark_20 : decode cX4_newRemark 20 = .ok (.iadd, 1) := dk_96 (dk_at dksX4_newRemark_0 20 rfl rfl)
theorem dX4_newRemark_21 : decode cX4_newRemark 21 = .ok (.iload_n 2, 1) := dk_28 (dk_at dksX4_newRemark_0 21 rfl rfl)
theorem dX4_newRemark_22 : decode cX4_newRemark 22 = .ok (.iastore, 1) := dk_79 (dk_at dksX4_newRemark_0 22 rfl rfl)
theorem dX4_newRemark_23 : decode cX4_newRemark 23 = .ok (.aload_n 0, 1) := dk_42 (dk_at dksX4_newRemark_0 23 rfl rfl)
theorem dX4_newRemark_24 : decode cX4_newRemark 24 = .ok (.getfield 23, 3) := dk_180 0 23 (dk_at dksX4_newRemark_1 0 rfl rfl)
theorem dX4_newRemark_27 : decode cX4_newRemark 27 = .ok (.bipush 32, 2) := dk_16 32 (dk_at dksX4_newRemark_1 3 rfl rfl)
theorem dX4_newRemark_29 : decode cX4_newRemark 29 = .ok (.aload_n 0, 1) := dk_42 (dk_at dksX4_newRemark_1 5 rfl rfl)
theorem dX4_newRemark_30 : decode cX4_newRemark 30 = .ok (.getfield 93, 3) := dk_180 0 93 (dk_at dksX4_newRemark_1 6 rfl rfl)
theorem dX4_newRemark_33 : decode cX4_newRemark 33 = .ok (.iadd, 1) := dk_96 (dk_at dksX4_newRemark_1 9 rfl rfl)
theorem dX4_newRemark_34 : decode cX4_newRemark 34 = .ok (.iload_n 3, 1) := dk_29 (dk_at dksX4_newRemark_1 10 rfl rfl)
theorem dX4_newRemark_35 : decode cX4_newRemark 35 = .ok (.iastore, 1) := dk_79 (dk_at dksX4_newRemark_1 11 rfl rfl)
theorem dX4_newRemark_36 : decode cX4_newRemark 36 = .ok (.aload_n 0, 1) := dk_42 (dk_at dksX4_newRemark_1 12 rfl rfl)
theorem dX4_newRemark_37 : decode cX4_newRemark 37 = .ok (.getfield 23, 3) := dk_180 0 23 (dk_at dksX4_newRemark_1 13 rfl rfl)
theorem dX4_newRemark_40 : decode cX4_newRemark 40 = .ok (.bipush 48, 2) := dk_16 48 (dk_at dksX4_newRemark_1 16 rfl rfl)
theorem dX4_newRemark_42 : decode cX4_newRemark 42 = .ok (.aload_n 0, 1) := dk_42 (dk_at dksX4_newRemark_1 18 rfl rfl)
theorem dX4_newRemark_43 : decode cX4_newRemark 43 = .ok (.getfield 93, 3) := dk_180 0 93 (dk_at dksX4_newRemark_1 19 rfl rfl)
theorem dX4_newRemark_46 : decode cX4_newRemark 46 = .ok (.iadd, 1) := dk_96 (dk_at dksX4_newRemark_1 22 rfl rfl)
theorem dX4_newRemark_47 : decode cX4_newRemark 47 = .ok (.iload 4, 2) := dk_21 4 (dk_at dksX4_newRemark_2 0 rfl rfl)
theorem dX4_newRemark_49 : decode cX4_newRemark 49 = .ok (.iastore, 1) := dk_79 (dk_at dksX4_newRemark_2 2 rfl rfl)
theorem dX4_newRemark_50 : decode cX4_newRemark 50 = .ok (.aload_n 0, 1) := dk_42 (dk_at dksX4_newRemark_2 3 rfl rfl)
theorem dX4_newRemark_51 : decode cX4_newRemark 51 = .ok (.getfield 23, 3) := dk_180 0 23 (dk_at dksX4_newRemark_2 4 rfl rfl)
theorem dX4_newRemark_54 : decode cX4_newRemark 54 = .ok (.bipush 64, 2) := dk_16 64 (dk_at dksX4_newRemark_2 7 rfl rfl)
theorem dX4_newRemark_56 : decode cX4_newRemark 56 = .ok (.aload_n 0, 1) := dk_42 (dk_at dksX4_newRemark_2 9 rfl rfl)
theorem dX4_newRemark_57 : decode cX4_newRemark 57 = .ok (.getfield 93, 3) := dk_180 0 93 (dk_at dksX4_newRemark_2 10 rfl rfl)
theorem dX4_newRemark_60 : decode cX4_newRemark 60 = .ok (.iadd, 1) := dk_96 (dk_at dksX4_newRemark_2 13 rfl rfl)
theorem dX4_newRemark_61 : decode cX4_newRemark 61 = .ok (.iload 5, 2) := dk_21 5 (dk_at dksX4_newRemark_2 14 rfl rfl)
theorem dX4_newRemark_63 : decode cX4_newRemark 63 = .ok (.iastore, 1) := dk_79 (dk_at dksX4_newRemark_2 16 rfl rfl)
theorem dX4_newRemark_64 : decode cX4_newRemark 64 = .ok (.aload_n 0, 1) := dk_42 (dk_at dksX4_newRemark_2 17 rfl rfl)
theorem dX4_newRemark_65 : decode cX4_newRemark 65 = .ok (.getfield 23, 3) := dk_180 0 23 (dk_at dksX4_newRemark_2 18 rfl rfl)
theorem dX4_newRemark_68 : decode cX4_newRemark 68 = .ok (.bipush 80, 2) := dk_16 80 (dk_at dksX4_newRemark_2 21 rfl rfl)
theorem dX4_newRemark_70 : decode cX4_newRemark 70 = .ok (.aload_n 0, 1) := dk_42 (dk_at dksX4_newRemark_2 23 rfl rfl)
theorem dX4_newRemark_71 : decode cX4_newRemark 71 = .ok (.getfield 93, 3) := dk_180 0 93 (dk_at dksX4_newRemark_3 0 rfl rfl)
theorem dX4_newRemark_74 : decode cX4_newRemark 74 = .ok (.iadd, 1) := dk_96 (dk_at dksX4_newRemark_3 3 rfl rfl)
theorem dX4_newRemark_75 : decode cX4_newRemark 75 = .ok (.iload 6, 2) := dk_21 6 (dk_at dksX4_newRemark_3 4 rfl rfl)
theorem dX4_newRemark_77 : decode cX4_newRemark 77 = .ok (.iastore, 1) := dk_79 (dk_at dksX4_newRemark_3 6 rfl rfl)
theorem dX4_newRemark_78 : decode cX4_newRemark 78 = .ok (.aload_n 0, 1) := dk_42 (dk_at dksX4_newRemark_3 7 rfl rfl)
theorem dX4_newRemark_79 : decode cX4_newRemark 79 = .ok (.getfield 23, 3) := dk_180 0 23 (dk_at dksX4_newRemark_3 8 rfl rfl)
theorem dX4_newRemark_82 : decode cX4_newRemark 82 = .ok (.bipush 96, 2) := dk_16 96 (dk_at dksX4_newRemark_3 11 rfl rfl)
theorem dX4_newRemark_84 : decode cX4_newRemark 84 = .ok (.aload_n 0, 1) := dk_42 (dk_at dksX4_newRemark_3 13 rfl rfl)
theorem dX4_newRemark_85 : decode cX4_newRemark 85 = .ok (.getfield 93, 3) := dk_180 0 93 (dk_at dksX4_newRemark_3 14 rfl rfl)
theorem dX4_newRemark_88 : decode cX4_newRemark 88 = .ok (.iadd, 1) := dk_96 (dk_at dksX4_newRemark_3 17 rfl rfl)
theorem dX4_newRemark_89 : decode cX4_newRemark 89 = .ok (.iconst 0, 1) := dk_3 (dk_at dksX4_newRemark_3 18 rfl rfl)
theorem dX4_newRemark_90 : decode cX4_newRemark 90 = .ok (.iastore, 1) := dk_79 (dk_at dksX4_newRemark_3 19 rfl rfl)
theorem dX4_newRemark_91 : decode cX4_newRemark 91 = .ok (.aload_n 0, 1) := dk_42 (dk_at dksX4_newRemark_3 20 rfl rfl)
theorem dX4_newRemark_92 : decode cX4_newRemark 92 = .ok (.dup, 1) := dk_89 (dk_at dksX4_newRemark_3 21 rfl rfl)
theorem dX4_newRemark_93 : decode cX4_newRemark 93 = .ok (.getfield 93, 3) := dk_180 0 93 (dk_at dksX4_newRemark_4 0 rfl rfl)
theorem dX4_newRemark_96 : decode cX4_newRemark 96 = .ok (.dup_x1, 1) := dk_90 (dk_at dksX4_newRemark_4 3 rfl rfl)
theorem dX4_newRemark_97 : decode cX4_newRemark 97 = .ok (.iconst 1, 1) := dk_4 (dk_at dksX4_newRemark_4 4 rfl rfl)
theorem dX4_newRemark_98 : decode cX4_newRemark 98 = .ok (.iadd, 1) := dk_96 (dk_at dksX4_newRemark_4 5 rfl rfl)
theorem dX4_newRemark_99 : decode cX4_newRemark 99 = .ok (.putfield 93, 3) := dk_181 0 93 (dk_at dksX4_newRemark_4 6 rfl rfl)
theorem dX4_newRemark_102 : decode cX4_newRemark 102 = .ok (.ireturn, 1) := dk_172 (dk_at dksX4_newRemark_4 9 rfl rfl)
abbrev cX4_remarkOf : ByteArray := prog_28_method_47_code
def yX4_remarkOf : MethodName := ⟨RX4, "remarkOf", "(II)I"⟩
def dkwX4_remarkOf_4 : List UInt8 := [3, 172, 42, 16, 251, 182, 0, 82, 172]
abbrev dktX4_remarkOf_4 : List UInt8 := dkwX4_remarkOf_4 ++ []
def dkwX4_remarkOf_3 : List UInt8 := [42, 27, 182, 0, 182, 172, 42, 27, 182, 0, 185, 172, 42, 27, 182, 0, 188, 153, 0, 7, 4, 167, 0, 4]
abbrev dktX4_remarkOf_3 : List UInt8 := dkwX4_remarkOf_3 ++ dktX4_remarkOf_4
def dkwX4_remarkOf_2 : List UInt8 := [170, 0, 0, 0, 0, 0, 53, 0, 0, 0, 7, 0, 0, 0, 9, 0, 0, 0, 27, 0, 0, 0, 33, 0, 0, 0, 39]
abbrev dktX4_remarkOf_2 : List UInt8 := dkwX4_remarkOf_2 ++ dktX4_remarkOf_3
def dkwX4_remarkOf_1 : List UInt8 := [153, 0, 10, 42, 28, 27, 182, 0, 109, 172, 28]
abbrev dktX4_remarkOf_1 : List UInt8 := dkwX4_remarkOf_1 ++ dktX4_remarkOf_2
def dkwX4_remarkOf_0 : List UInt8 := [42, 27, 182, 0, 103, 154, 0, 10, 42, 16, 251, 182, 0, 82, 172, 28, 3, 16, 6, 184, 0, 89]
abbrev dktX4_remarkOf_0 : List UInt8 := dkwX4_remarkOf_0 ++ dktX4_remarkOf_1
theorem dksX4_remarkOf_0 : cX4_remarkOf.data.toList.drop 0 = dktX4_remarkOf_0 := by decide +kernel
theorem dksX4_remarkOf_1 : cX4_remarkOf.data.toList.drop 22 = dktX4_remarkOf_1 := dk_seg dksX4_remarkOf_0 22 rfl rfl
theorem dksX4_remarkOf_2 : cX4_remarkOf.data.toList.drop 33 = dktX4_remarkOf_2 := dk_seg dksX4_remarkOf_1 11 rfl rfl
theorem dksX4_remarkOf_3 : cX4_remarkOf.data.toList.drop 60 = dktX4_remarkOf_3 := dk_seg dksX4_remarkOf_2 27 rfl rfl
theorem dksX4_remarkOf_4 : cX4_remarkOf.data.toList.drop 84 = dktX4_remarkOf_4 := dk_seg dksX4_remarkOf_3 24 rfl rfl
theorem dX4_remarkOf_0 : decode cX4_remarkOf 0 = .ok (.aload_n 0, 1) := dk_42 (dk_at dksX4_remarkOf_0 0 rfl rfl)
theorem dX4_remarkOf_1 : decode cX4_remarkOf 1 = .ok (.iload_n 1, 1) := dk_27 (dk_at dksX4_remarkOf_0 1 rfl rfl)
theorem dX4_remarkOf_2 : decode cX4_remarkOf 2 = .ok (.invokevirtual 103, 3) := dk_182 0 103 (dk_at dksX4_remarkOf_0 2 rfl rfl)
theorem dX4_remarkOf_5 : decode cX4_remarkOf 5 = .ok (.ifCond .ne 10, 3) := dk_154 0 10 (dk_at dksX4_remarkOf_0 5 rfl rfl)
theorem dX4_remarkOf_8 : decode cX4_remarkOf 8 = .ok (.aload_n 0, 1) := dk_42 (dk_at dksX4_remarkOf_0 8 rfl rfl)
theorem dX4_remarkOf_9 : decode cX4_remarkOf 9 = .ok (.bipush (-5), 2) := dk_16 251 (dk_at dksX4_remarkOf_0 9 rfl rfl)
theorem dX4_remarkOf_11 : decode cX4_remarkOf 11 = .ok (.invokevirtual 82, 3) := dk_182 0 82 (dk_at dksX4_remarkOf_0 11 rfl rfl)
theorem dX4_remarkOf_14 : decode cX4_remarkOf 14 = .ok (.ireturn, 1) := dk_172 (dk_at dksX4_remarkOf_0 14 rfl rfl)
theorem dX4_remarkOf_15 : decode cX4_remarkOf 15 = .ok (.iload_n 2, 1) := dk_28 (dk_at dksX4_remarkOf_0 15 rfl rfl)
theorem dX4_remarkOf_16 : decode cX4_remarkOf 16 = .ok (.iconst 0, 1) := dk_3 (dk_at dksX4_remarkOf_0 16 rfl rfl)
theorem dX4_remarkOf_17 : decode cX4_remarkOf 17 = .ok (.bipush 6, 2) := dk_16 6 (dk_at dksX4_remarkOf_0 17 rfl rfl)
theorem dX4_remarkOf_19 : decode cX4_remarkOf 19 = .ok (.invokestatic 89, 3) := dk_184 0 89 (dk_at dksX4_remarkOf_0 19 rfl rfl)
theorem dX4_remarkOf_22 : decode cX4_remarkOf 22 = .ok (.ifCond .eq 10, 3) := dk_153 0 10 (dk_at dksX4_remarkOf_1 0 rfl rfl)
theorem dX4_remarkOf_25 : decode cX4_remarkOf 25 = .ok (.aload_n 0, 1) := dk_42 (dk_at dksX4_remarkOf_1 3 rfl rfl)
theorem dX4_remarkOf_26 : decode cX4_remarkOf 26 = .ok (.iload_n 2, 1) := dk_28 (dk_at dksX4_remarkOf_1 4 rfl rfl)
theorem dX4_remarkOf_27 : decode cX4_remarkOf 27 = .ok (.iload_n 1, 1) := dk_27 (dk_at dksX4_remarkOf_1 5 rfl rfl)
theorem dX4_remarkOf_28 : decode cX4_remarkOf 28 = .ok (.invokevirtual 109, 3) := dk_182 0 109 (dk_at dksX4_remarkOf_1 6 rfl rfl)
theorem dX4_remarkOf_31 : decode cX4_remarkOf 31 = .ok (.ireturn, 1) := dk_172 (dk_at dksX4_remarkOf_1 9 rfl rfl)
theorem dX4_remarkOf_32 : decode cX4_remarkOf 32 = .ok (.iload_n 2, 1) := dk_28 (dk_at dksX4_remarkOf_1 10 rfl rfl)
theorem dX4_remarkOf_33 : decode cX4_remarkOf 33 = .ok (.tableswitch 53 7 9 #[27, 33, 39], 27) := by decide +kernel
theorem dX4_remarkOf_60 : decode cX4_remarkOf 60 = .ok (.aload_n 0, 1) := dk_42 (dk_at dksX4_remarkOf_3 0 rfl rfl)
theorem dX4_remarkOf_61 : decode cX4_remarkOf 61 = .ok (.iload_n 1, 1) := dk_27 (dk_at dksX4_remarkOf_3 1 rfl rfl)
theorem dX4_remarkOf_62 : decode cX4_remarkOf 62 = .ok (.invokevirtual 182, 3) := dk_182 0 182 (dk_at dksX4_remarkOf_3 2 rfl rfl)
theorem dX4_remarkOf_65 : decode cX4_remarkOf 65 = .ok (.ireturn, 1) := dk_172 (dk_at dksX4_remarkOf_3 5 rfl rfl)
theorem dX4_remarkOf_66 : decode cX4_remarkOf 66 = .ok (.aload_n 0, 1) := dk_42 (dk_at dksX4_remarkOf_3 6 rfl rfl)
theorem dX4_remarkOf_67 : decode cX4_remarkOf 67 = .ok (.iload_n 1, 1) := dk_27 (dk_at dksX4_remarkOf_3 7 rfl rfl)
theorem dX4_remarkOf_68 : decode cX4_remarkOf 68 = .ok (.invokevirtual 185, 3) := dk_182 0 185 (dk_at dksX4_remarkOf_3 8 rfl rfl)
theorem dX4_remarkOf_71 : decode cX4_remarkOf 71 = .ok (.ireturn, 1) := dk_172 (dk_at dksX4_remarkOf_3 11 rfl rfl)
theorem dX4_remarkOf_72 : decode cX4_remarkOf 72 = .ok (.aload_n 0, 1) := dk_42 (dk_at dksX4_remarkOf_3 12 rfl rfl)
theorem dX4_remarkOf_73 : decode cX4_remarkOf 73 = .ok (.iload_n 1, 1) := dk_27 (dk_at dksX4_remarkOf_3 13 rfl rfl)
theorem dX4_remarkOf_74 : decode cX4_remarkOf 74 = .ok (.invokevirtual 188, 3) := dk_182 0 188 (dk_at dksX4_remarkOf_3 14 rfl rfl)
theorem dX4_remarkOf_77 : decode cX4_remarkOf 77 = .ok (.ifCond .eq 7, 3) := dk_153 0 7 (dk_at dksX4_remarkOf_3 17 rfl rfl)
theorem dX4_remarkOf_80 : decode cX4_remarkOf 80 = .ok (.iconst 1, 1) := dk_4 (dk_at dksX4_remarkOf_3 20 rfl rfl)
theorem dX4_remarkOf_81 : decode cX4_remarkOf 81 = .ok (.goto 4, 3) := dk_167 0 4 (dk_at dksX4_remarkOf_3 21 rfl rfl)
theorem dX4_remarkOf_84 : decode cX4_remarkOf 84 = .ok (.iconst 0, 1) := dk_3 (dk_at dksX4_remarkOf_4 0 rfl rfl)
theorem dX4_remarkOf_85 : decode cX4_remarkOf 85 = .ok (.ireturn, 1) := dk_172 (dk_at dksX4_remarkOf_4 1 rfl rfl)
theorem dX4_remarkOf_86 : decode cX4_remarkOf 86 = .ok (.aload_n 0, 1) := dk_42 (dk_at dksX4_remarkOf_4 2 rfl rfl)
theorem dX4_remarkOf_87 : decode cX4_remarkOf 87 = .ok (.bipush (-5), 2) := dk_16 251 (dk_at dksX4_remarkOf_4 3 rfl rfl)
theorem dX4_remarkOf_89 : decode cX4_remarkOf 89 = .ok (.invokevirtual 82, 3) := dk_182 0 82 (dk_at dksX4_remarkOf_4 5 rfl rfl)
theorem dX4_remarkOf_92 : decode cX4_remarkOf 92 = .ok (.ireturn, 1) := dk_172 (dk_at dksX4_remarkOf_4 8 rfl rfl)
abbrev cX4_depth : ByteArray := prog_28_method_43_code
def yX4_depth : MethodName := ⟨RX4, "depth", "(I)I"⟩
def dkwX4_depth_1 : List UInt8 := [167, 255, 241, 28, 172]
abbrev dktX4_depth_1 : List UInt8 := dkwX4_depth_1 ++ []
def dkwX4_depth_0 : List UInt8 := [3, 61, 42, 8, 27, 182, 0, 109, 62, 29, 2, 159, 0, 16, 132, 2, 1, 42, 8, 29, 182, 0, 109, 62]
abbrev dktX4_depth_0 : List UInt8 := dkwX4_depth_0 ++ dktX4_depth_1
theorem dksX4_depth_0 : cX4_depth.data.toList.drop 0 = dktX4_depth_0 := by decide +kernel
theorem dksX4_depth_1 : cX4_depth.data.toList.drop 24 = dktX4_depth_1 := dk_seg dksX4_depth_0 24 rfl rfl
theorem dX4_depth_0 : decode cX4_depth 0 = .ok (.iconst 0, 1) := dk_3 (dk_at dksX4_depth_0 0 rfl rfl)
theorem dX4_depth_1 : decode cX4_depth 1 = .ok (.istore_n 2, 1) := dk_61 (dk_at dksX4_depth_0 1 rfl rfl)
theorem dX4_depth_2 : decode cX4_depth 2 = .ok (.aload_n 0, 1) := dk_42 (dk_at dksX4_depth_0 2 rfl rfl)
theorem dX4_depth_3 : decode cX4_depth 3 = .ok (.iconst 5, 1) := dk_8 (dk_at dksX4_depth_0 3 rfl rfl)
theorem dX4_depth_4 : decode cX4_depth 4 = .ok (.iload_n 1, 1) := dk_27 (dk_at dksX4_depth_0 4 rfl rfl)
theorem dX4_depth_5 : decode cX4_depth 5 = .ok (.invokevirtual 109, 3) := dk_182 0 109 (dk_at dksX4_depth_0 5 rfl rfl)
theorem dX4_depth_8 : decode cX4_depth 8 = .ok (.istore_n 3, 1) := dk_62 (dk_at dksX4_depth_0 8 rfl rfl)
theorem dX4_depth_9 : decode cX4_depth 9 = .ok (.iload_n 3, 1) := dk_29 (dk_at dksX4_depth_0 9 rfl rfl)
theorem dX4_depth_10 : decode cX4_depth 10 = .ok (.iconst (-1), 1) := dk_2 (dk_at dksX4_depth_0 10 rfl rfl)
theorem dX4_depth_11 : decode cX4_depth 11 = .ok (.if_icmp .eq 16, 3) := dk_159 0 16 (dk_at dksX4_depth_0 11 rfl rfl)
theorem dX4_depth_14 : decode cX4_depth 14 = .ok (.iinc 2 1, 3) := dk_132 2 1 (dk_at dksX4_depth_0 14 rfl rfl)
theorem dX4_depth_17 : decode cX4_depth 17 = .ok (.aload_n 0, 1) := dk_42 (dk_at dksX4_depth_0 17 rfl rfl)
theorem dX4_depth_18 : decode cX4_depth 18 = .ok (.iconst 5, 1) := dk_8 (dk_at dksX4_depth_0 18 rfl rfl)
theorem dX4_depth_19 : decode cX4_depth 19 = .ok (.iload_n 3, 1) := dk_29 (dk_at dksX4_depth_0 19 rfl rfl)
theorem dX4_depth_20 : decode cX4_depth 20 = .ok (.invokevirtual 109, 3) := dk_182 0 109 (dk_at dksX4_depth_0 20 rfl rfl)
theorem dX4_depth_23 : decode cX4_depth 23 = .ok (.istore_n 3, 1) := dk_62 (dk_at dksX4_depth_0 23 rfl rfl)
theorem dX4_depth_24 : decode cX4_depth 24 = .ok (.goto (-15), 3) := dk_167 255 241 (dk_at dksX4_depth_1 0 rfl rfl)
theorem dX4_depth_27 : decode cX4_depth 27 = .ok (.iload_n 2, 1) := dk_28 (dk_at dksX4_depth_1 3 rfl rfl)
theorem dX4_depth_28 : decode cX4_depth 28 = .ok (.ireturn, 1) := dk_172 (dk_at dksX4_depth_1 4 rfl rfl)
abbrev cX4_thread : ByteArray := prog_28_method_45_code
def yX4_thread : MethodName := ⟨RX4, "thread", "(I)I"⟩
def dkwX4_thread_1 : List UInt8 := [132, 3, 1, 167, 255, 233, 28, 172]
abbrev dktX4_thread_1 : List UInt8 := dkwX4_thread_1 ++ []
def dkwX4_thread_0 : List UInt8 := [3, 61, 3, 62, 29, 42, 180, 0, 93, 162, 0, 21, 42, 29, 27, 182, 0, 179, 153, 0, 6, 132, 2, 1]
abbrev dktX4_thread_0 : List UInt8 := dkwX4_thread_0 ++ dktX4_thread_1
theorem dksX4_thread_0 : cX4_thread.data.toList.drop 0 = dktX4_thread_0 := by decide +kernel
theorem dksX4_thread_1 : cX4_thread.data.toList.drop 24 = dktX4_thread_1 := dk_seg dksX4_thread_0 24 rfl rfl
theorem dX4_thread_0 : decode cX4_thread 0 = .ok (.iconst 0, 1) := dk_3 (dk_at dksX4_thread_0 0 rfl rfl)
theorem dX4_thread_1 : decode cX4_thread 1 = .ok (.istore_n 2, 1) := dk_61 (dk_at dksX4_thread_0 1 rfl rfl)
theorem dX4_thread_2 : decode cX4_thread 2 = .ok (.iconst 0, 1) := dk_3 (dk_at dksX4_thread_0 2 rfl rfl)
theorem dX4_thread_3 : decode cX4_thread 3 = .ok (.istore_n 3, 1) := dk_62 (dk_at dksX4_thread_0 3 rfl rfl)
theorem dX4_thread_4 : decode cX4_thread 4 = .ok (.iload_n 3, 1) := dk_29 (dk_at dksX4_thread_0 4 rfl rfl)
theorem dX4_thread_5 : decode cX4_thread 5 = .ok (.aload_n 0, 1) := dk_42 (dk_at dksX4_thread_0 5 rfl rfl)
theorem dX4_thread_6 : decode cX4_thread 6 = .ok (.getfield 93, 3) := dk_180 0 93 (dk_at dksX4_thread_0 6 rfl rfl)
theorem dX4_thread_9 : decode cX4_thread 9 = .ok (.if_icmp .ge 21, 3) := dk_162 0 21 (dk_at dksX4_thread_0 9 rfl rfl)
theorem dX4_thread_12 : decode cX4_thread 12 = .ok (.aload_n 0, 1) := dk_42 (dk_at dksX4_thread_0 12 rfl rfl)
theorem dX4_thread_13 : decode cX4_thread 13 = .ok (.iload_n 3, 1) := dk_29 (dk_at dksX4_thread_0 13 rfl rfl)
theorem dX4_thread_14 : decode cX4_thread 14 = .ok (.iload_n 1, 1) := dk_27 (dk_at dksX4_thread_0 14 rfl rfl)
theorem dX4_thread_15 : decode cX4_thread 15 = .ok (.invokevirtual 179, 3) := dk_182 0 179 (dk_at dksX4_thread_0 15 rfl rfl)
theorem dX4_thread_18 : decode cX4_thread 18 = .ok (.ifCond .eq 6, 3) := dk_153 0 6 (dk_at dksX4_thread_0 18 rfl rfl)
theorem dX4_thread_21 : decode cX4_thread 21 = .ok (.iinc 2 1, 3) := dk_132 2 1 (dk_at dksX4_thread_0 21 rfl rfl)
theorem dX4_thread_24 : decode cX4_thread 24 = .ok (.iinc 3 1, 3) := dk_132 3 1 (dk_at dksX4_thread_1 0 rfl rfl)
theorem dX4_thread_27 : decode cX4_thread 27 = .ok (.goto (-23), 3) := dk_167 255 233 (dk_at dksX4_thread_1 3 rfl rfl)
theorem dX4_thread_30 : decode cX4_thread 30 = .ok (.iload_n 2, 1) := dk_28 (dk_at dksX4_thread_1 6 rfl rfl)
theorem dX4_thread_31 : decode cX4_thread 31 = .ok (.ireturn, 1) := dk_172 (dk_at dksX4_thread_1 7 rfl rfl)
abbrev cX4_isIn : ByteArray := prog_28_method_44_code
def yX4_isIn : MethodName := ⟨RX4, "isIn", "(II)Z"⟩
def dkwX4_isIn_1 : List UInt8 := [167, 255, 239, 29, 28, 160, 0, 7, 4, 167, 0, 4, 3, 172]
abbrev dktX4_isIn_1 : List UInt8 := dkwX4_isIn_1 ++ []
def dkwX4_isIn_0 : List UInt8 := [42, 8, 27, 182, 0, 109, 62, 29, 2, 159, 0, 18, 29, 28, 159, 0, 13, 42, 8, 29, 182, 0, 109, 62]
abbrev dktX4_isIn_0 : List UInt8 := dkwX4_isIn_0 ++ dktX4_isIn_1
theorem dksX4_isIn_0 : cX4_isIn.data.toList.drop 0 = dktX4_isIn_0 := by decide +kernel
theorem dksX4_isIn_1 : cX4_isIn.data.toList.drop 24 = dktX4_isIn_1 := dk_seg dksX4_isIn_0 24 rfl rfl
theorem dX4_isIn_0 : decode cX4_isIn 0 = .ok (.aload_n 0, 1) := dk_42 (dk_at dksX4_isIn_0 0 rfl rfl)
theorem dX4_isIn_1 : decode cX4_isIn 1 = .ok (.iconst 5, 1) := dk_8 (dk_at dksX4_isIn_0 1 rfl rfl)
theorem dX4_isIn_2 : decode cX4_isIn 2 = .ok (.iload_n 1, 1) := dk_27 (dk_at dksX4_isIn_0 2 rfl rfl)
theorem dX4_isIn_3 : decode cX4_isIn 3 = .ok (.invokevirtual 109, 3) := dk_182 0 109 (dk_at dksX4_isIn_0 3 rfl rfl)
theorem dX4_isIn_6 : decode cX4_isIn 6 = .ok (.istore_n 3, 1) := dk_62 (dk_at dksX4_isIn_0 6 rfl rfl)
theorem dX4_isIn_7 : decode cX4_isIn 7 = .ok (.iload_n 3, 1) := dk_29 (dk_at dksX4_isIn_0 7 rfl rfl)
theorem dX4_isIn_8 : decode cX4_isIn 8 = .ok (.iconst (-1), 1) := dk_2 (dk_at dksX4_isIn_0 8 rfl rfl)
theorem dX4_isIn_9 : decode cX4_isIn 9 = .ok (.if_icmp .eq 18, 3) := dk_159 0 18 (dk_at dksX4_isIn_0 9 rfl rfl)
theorem dX4_isIn_12 : decode cX4_isIn 12 = .ok (.iload_n 3, 1) := dk_29 (dk_at dksX4_isIn_0 12 rfl rfl)
theorem dX4_isIn_13 : decode cX4_isIn 13 = .ok (.iload_n 2, 1) := dk_28 (dk_at dksX4_isIn_0 13 rfl rfl)
theorem dX4_isIn_14 : decode cX4_isIn 14 = .ok (.if_icmp .eq 13, 3) := dk_159 0 13 (dk_at dksX4_isIn_0 14 rfl rfl)
theorem dX4_isIn_17 : decode cX4_isIn 17 = .ok (.aload_n 0, 1) := dk_42 (dk_at dksX4_isIn_0 17 rfl rfl)
theorem dX4_isIn_18 : decode cX4_isIn 18 = .ok (.iconst 5, 1) := dk_8 (dk_at dksX4_isIn_0 18 rfl rfl)
theorem dX4_isIn_19 : decode cX4_isIn 19 = .ok (.iload_n 3, 1) := dk_29 (dk_at dksX4_isIn_0 19 rfl rfl)
theorem dX4_isIn_20 : decode cX4_isIn 20 = .ok (.invokevirtual 109, 3) := dk_182 0 109 (dk_at dksX4_isIn_0 20 rfl rfl)
theorem dX4_isIn_23 : decode cX4_isIn 23 = .ok (.istore_n 3, 1) := dk_62 (dk_at dksX4_isIn_0 23 rfl rfl)
theorem dX4_isIn_24 : decode cX4_isIn 24 = .ok (.goto (-17), 3) := dk_167 255 239 (dk_at dksX4_isIn_1 0 rfl rfl)
theorem dX4_isIn_27 : decode cX4_isIn 27 = .ok (.iload_n 3, 1) := dk_29 (dk_at dksX4_isIn_1 3 rfl rfl)
theorem dX4_isIn_28 : decode cX4_isIn 28 = .ok (.iload_n 2, 1) := dk_28 (dk_at dksX4_isIn_1 4 rfl rfl)
theorem dX4_isIn_29 : decode cX4_isIn 29 = .ok (.if_icmp .ne 7, 3) := dk_160 0 7 (dk_at dksX4_isIn_1 5 rfl rfl)
theorem dX4_isIn_32 : decode cX4_isIn 32 = .ok (.iconst 1, 1) := dk_4 (dk_at dksX4_isIn_1 8 rfl rfl)
theorem dX4_isIn_33 : decode cX4_isIn 33 = .ok (.goto 4, 3) := dk_167 0 4 (dk_at dksX4_isIn_1 9 rfl rfl)
theorem dX4_isIn_36 : decode cX4_isIn 36 = .ok (.iconst 0, 1) := dk_3 (dk_at dksX4_isIn_1 12 rfl rfl)
theorem dX4_isIn_37 : decode cX4_isIn 37 = .ok (.ireturn, 1) := dk_172 (dk_at dksX4_isIn_1 13 rfl rfl)
abbrev cX4_isOpen : ByteArray := prog_28_method_46_code
def yX4_isOpen : MethodName := ⟨RX4, "isOpen", "(I)Z"⟩
def dkwX4_isOpen_1 : List UInt8 := [42, 16, 6, 28, 182, 0, 109, 154, 0, 5, 4, 172, 132, 2, 1, 167, 255, 219, 3, 172]
abbrev dktX4_isOpen_1 : List UInt8 := dkwX4_isOpen_1 ++ []
def dkwX4_isOpen_0 : List UInt8 := [3, 61, 28, 42, 180, 0, 93, 162, 0, 35, 28, 27, 159, 0, 12, 42, 28, 27, 182, 0, 179, 153, 0, 15]
abbrev dktX4_isOpen_0 : List UInt8 := dkwX4_isOpen_0 ++ dktX4_isOpen_1
theorem dksX4_isOpen_0 : cX4_isOpen.data.toList.drop 0 = dktX4_isOpen_0 := by decide +kernel
theorem dksX4_isOpen_1 : cX4_isOpen.data.toList.drop 24 = dktX4_isOpen_1 := dk_seg dksX4_isOpen_0 24 rfl rfl
theorem dX4_isOpen_0 : decode cX4_isOpen 0 = .ok (.iconst 0, 1) := dk_3 (dk_at dksX4_isOpen_0 0 rfl rfl)
theorem dX4_isOpen_1 : decode cX4_isOpen 1 = .ok (.istore_n 2, 1) := dk_61 (dk_at dksX4_isOpen_0 1 rfl rfl)
theorem dX4_isOpen_2 : decode cX4_isOpen 2 = .ok (.iload_n 2, 1) := dk_28 (dk_at dksX4_isOpen_0 2 rfl rfl)
theorem dX4_isOpen_3 : decode cX4_isOpen 3 = .ok (.aload_n 0, 1) := dk_42 (dk_at dksX4_isOpen_0 3 rfl rfl)
theorem dX4_isOpen_4 : decode cX4_isOpen 4 = .ok (.getfield 93, 3) := dk_180 0 93 (dk_at dksX4_isOpen_0 4 rfl rfl)
theorem dX4_isOpen_7 : decode cX4_isOpen 7 = .ok (.if_icmp .ge 35, 3) := dk_162 0 35 (dk_at dksX4_isOpen_0 7 rfl rfl)
theorem dX4_isOpen_10 : decode cX4_isOpen 10 = .ok (.iload_n 2, 1) := dk_28 (dk_at dksX4_isOpen_0 10 rfl rfl)
theorem dX4_isOpen_11 : decode cX4_isOpen 11 = .ok (.iload_n 1, 1) := dk_27 (dk_at dksX4_isOpen_0 11 rfl rfl)
theorem dX4_isOpen_12 : decode cX4_isOpen 12 = .ok (.if_icmp .eq 12, 3) := dk_159 0 12 (dk_at dksX4_isOpen_0 12 rfl rfl)
theorem dX4_isOpen_15 : decode cX4_isOpen 15 = .ok (.aload_n 0, 1) := dk_42 (dk_at dksX4_isOpen_0 15 rfl rfl)
theorem dX4_isOpen_16 : decode cX4_isOpen 16 = .ok (.iload_n 2, 1) := dk_28 (dk_at dksX4_isOpen_0 16 rfl rfl)
theorem dX4_isOpen_17 : decode cX4_isOpen 17 = .ok (.iload_n 1, 1) := dk_27 (dk_at dksX4_isOpen_0 17 rfl rfl)
theorem dX4_isOpen_18 : decode cX4_isOpen 18 = .ok (.invokevirtual 179, 3) := dk_182 0 179 (dk_at dksX4_isOpen_0 18 rfl rfl)
theorem dX4_isOpen_21 : decode cX4_isOpen 21 = .ok (.ifCond .eq 15, 3) := dk_153 0 15 (dk_at dksX4_isOpen_0 21 rfl rfl)
theorem dX4_isOpen_24 : decode cX4_isOpen 24 = .ok (.aload_n 0, 1) := dk_42 (dk_at dksX4_isOpen_1 0 rfl rfl)
theorem dX4_isOpen_25 : decode cX4_isOpen 25 = .ok (.bipush 6, 2) := dk_16 6 (dk_at dksX4_isOpen_1 1 rfl rfl)
theorem dX4_isOpen_27 : decode cX4_isOpen 27 = .ok (.iload_n 2, 1) := dk_28 (dk_at dksX4_isOpen_1 3 rfl rfl)
theorem dX4_isOpen_28 : decode cX4_isOpen 28 = .ok (.invokevirtual 109, 3) := dk_182 0 109 (dk_at dksX4_isOpen_1 4 rfl rfl)
theorem dX4_isOpen_31 : decode cX4_isOpen 31 = .ok (.ifCond .ne 5, 3) := dk_154 0 5 (dk_at dksX4_isOpen_1 7 rfl rfl)
theorem dX4_isOpen_34 : decode cX4_isOpen 34 = .ok (.iconst 1, 1) := dk_4 (dk_at dksX4_isOpen_1 10 rfl rfl)
theorem dX4_isOpen_35 : decode cX4_isOpen 35 = .ok (.ireturn, 1) := dk_172 (dk_at dksX4_isOpen_1 11 rfl rfl)
theorem dX4_isOpen_36 : decode cX4_isOpen 36 = .ok (.iinc 2 1, 3) := dk_132 2 1 (dk_at dksX4_isOpen_1 12 rfl rfl)
theorem dX4_isOpen_39 : decode cX4_isOpen 39 = .ok (.goto (-37), 3) := dk_167 255 219 (dk_at dksX4_isOpen_1 15 rfl rfl)
theorem dX4_isOpen_42 : decode cX4_isOpen 42 = .ok (.iconst 0, 1) := dk_3 (dk_at dksX4_isOpen_1 18 rfl rfl)
theorem dX4_isOpen_43 : decode cX4_isOpen 43 = .ok (.ireturn, 1) := dk_172 (dk_at dksX4_isOpen_1 19 rfl rfl)
abbrev cX4_settle : ByteArray := prog_28_method_48_code
def yX4_settle : MethodName := ⟨RX4, "settle", "(IZ)I"⟩
def dkwX4_settle_1 : List UInt8 := [180, 0, 23, 16, 96, 27, 96, 28, 153, 0, 7, 4, 167, 0, 4, 3, 79, 29, 172]
abbrev dktX4_settle_1 : List UInt8 := dkwX4_settle_1 ++ []
def dkwX4_settle_0 : List UInt8 := [42, 27, 182, 0, 103, 154, 0, 9, 42, 2, 182, 0, 82, 172, 42, 16, 6, 27, 182, 0, 109, 62, 42]
abbrev dktX4_settle_0 : List UInt8 := dkwX4_settle_0 ++ dktX4_settle_1
theorem dksX4_settle_0 : cX4_settle.data.toList.drop 0 = dktX4_settle_0 := by decide +kernel
theorem dksX4_settle_1 : cX4_settle.data.toList.drop 23 = dktX4_settle_1 := dk_seg dksX4_settle_0 23 rfl rfl
theorem dX4_settle_0 : decode cX4_settle 0 = .ok (.aload_n 0, 1) := dk_42 (dk_at dksX4_settle_0 0 rfl rfl)
theorem dX4_settle_1 : decode cX4_settle 1 = .ok (.iload_n 1, 1) := dk_27 (dk_at dksX4_settle_0 1 rfl rfl)
theorem dX4_settle_2 : decode cX4_settle 2 = .ok (.invokevirtual 103, 3) := dk_182 0 103 (dk_at dksX4_settle_0 2 rfl rfl)
theorem dX4_settle_5 : decode cX4_settle 5 = .ok (.ifCond .ne 9, 3) := dk_154 0 9 (dk_at dksX4_settle_0 5 rfl rfl)
theorem dX4_settle_8 : decode cX4_settle 8 = .ok (.aload_n 0, 1) := dk_42 (dk_at dksX4_settle_0 8 rfl rfl)
theorem dX4_settle_9 : decode cX4_settle 9 = .ok (.iconst (-1), 1) := dk_2 (dk_at dksX4_settle_0 9 rfl rfl)
theorem dX4_settle_10 : decode cX4_settle 10 = .ok (.invokevirtual 82, 3) := dk_182 0 82 (dk_at dksX4_settle_0 10 rfl rfl)
theorem dX4_settle_13 : decode cX4_settle 13 = .ok (.ireturn, 1) := dk_172 (dk_at dksX4_settle_0 13 rfl rfl)
theorem dX4_settle_14 : decode cX4_settle 14 = .ok (.aload_n 0, 1) := dk_42 (dk_at dksX4_settle_0 14 rfl rfl)
theorem dX4_settle_15 : decode cX4_settle 15 = .ok (.bipush 6, 2) := dk_16 6 (dk_at dksX4_settle_0 15 rfl rfl)
theorem dX4_settle_17 : decode cX4_settle 17 = .ok (.iload_n 1, 1) := dk_27 (dk_at dksX4_settle_0 17 rfl rfl)
theorem dX4_settle_18 : decode cX4_settle 18 = .ok (.invokevirtual 109, 3) := dk_182 0 109 (dk_at dksX4_settle_0 18 rfl rfl)
theorem dX4_settle_21 : decode cX4_settle 21 = .ok (.istore_n 3, 1) := dk_62 (dk_at dksX4_settle_0 21 rfl rfl)
theorem dX4_settle_22 : decode cX4_settle 22 = .ok (.aload_n 0, 1) := dk_42 (dk_at dksX4_settle_0 22 rfl rfl)
theorem dX4_settle_23 : decode cX4_settle 23 = .ok (.getfield 23, 3) := dk_180 0 23 (dk_at dksX4_settle_1 0 rfl rfl)
theorem dX4_settle_26 : decode cX4_settle 26 = .ok (.bipush 96, 2) := dk_16 96 (dk_at dksX4_settle_1 3 rfl rfl)
theorem dX4_settle_28 : decode cX4_settle 28 = .ok (.iload_n 1, 1) := dk_27 (dk_at dksX4_settle_1 5 rfl rfl)
theorem dX4_settle_29 : decode cX4_settle 29 = .ok (.iadd, 1) := dk_96 (dk_at dksX4_settle_1 6 rfl rfl)
theorem dX4_settle_30 : decode cX4_settle 30 = .ok (.iload_n 2, 1) := dk_28 (dk_at dksX4_settle_1 7 rfl rfl)
theorem dX4_settle_31 : decode cX4_settle 31 = .ok (.ifCond .eq 7, 3) := dk_153 0 7 (dk_at dksX4_settle_1 8 rfl rfl)
theorem dX4_settle_34 : decode cX4_settle 34 = .ok (.iconst 1, 1) := dk_4 (dk_at dksX4_settle_1 11 rfl rfl)
theorem dX4_settle_35 : decode cX4_settle 35 = .ok (.goto 4, 3) := dk_167 0 4 (dk_at dksX4_settle_1 12 rfl rfl)
theorem dX4_settle_38 : decode cX4_settle 38 = .ok (.iconst 0, 1) := dk_3 (dk_at dksX4_settle_1 15 rfl rfl)
theorem dX4_settle_39 : decode cX4_settle 39 = .ok (.iastore, 1) := dk_79 (dk_at dksX4_settle_1 16 rfl rfl)
theorem dX4_settle_40 : decode cX4_settle 40 = .ok (.iload_n 3, 1) := dk_29 (dk_at dksX4_settle_1 17 rfl rfl)
theorem dX4_settle_41 : decode cX4_settle 41 = .ok (.ireturn, 1) := dk_172 (dk_at dksX4_settle_1 18 rfl rfl)
abbrev cX4_put : ByteArray := prog_28_method_57_code
def yX4_put : MethodName := ⟨RX4, "put", "(III)I"⟩
def dkwX4_put_3 : List UInt8 := [29, 4, 160, 0, 10, 42, 180, 0, 194, 167, 0, 7, 42, 180, 0, 232, 172]
abbrev dktX4_put_3 : List UInt8 := dkwX4_put_3 ++ []
def dkwX4_put_2 : List UInt8 := [182, 0, 245, 154, 0, 10, 42, 16, 250, 182, 0, 138, 172, 29, 154, 0, 10, 42, 180, 0, 191, 167, 0, 19]
abbrev dktX4_put_2 : List UInt8 := dkwX4_put_2 ++ dktX4_put_3
def dkwX4_put_1 : List UInt8 := [5, 184, 0, 89, 154, 0, 10, 42, 16, 251, 182, 0, 138, 172, 42, 27, 42, 3, 27, 182, 0, 109, 28, 3]
abbrev dktX4_put_1 : List UInt8 := dkwX4_put_1 ++ dktX4_put_2
def dkwX4_put_0 : List UInt8 := [42, 27, 182, 0, 103, 153, 0, 11, 42, 28, 182, 0, 124, 154, 0, 9, 42, 2, 182, 0, 138, 172, 29, 3]
abbrev dktX4_put_0 : List UInt8 := dkwX4_put_0 ++ dktX4_put_1
theorem dksX4_put_0 : cX4_put.data.toList.drop 0 = dktX4_put_0 := by decide +kernel
theorem dksX4_put_1 : cX4_put.data.toList.drop 24 = dktX4_put_1 := dk_seg dksX4_put_0 24 rfl rfl
theorem dksX4_put_2 : cX4_put.data.toList.drop 48 = dktX4_put_2 := dk_seg dksX4_put_1 24 rfl rfl
theorem dksX4_put_3 : cX4_put.data.toList.drop 72 = dktX4_put_3 := dk_seg dksX4_put_2 24 rfl rfl
theorem dX4_put_0 : decode cX4_put 0 = .ok (.aload_n 0, 1) := dk_42 (dk_at dksX4_put_0 0 rfl rfl)
theorem dX4_put_1 : decode cX4_put 1 = .ok (.iload_n 1, 1) := dk_27 (dk_at dksX4_put_0 1 rfl rfl)
theorem dX4_put_2 : decode cX4_put 2 = .ok (.invokevirtual 103, 3) := dk_182 0 103 (dk_at dksX4_put_0 2 rfl rfl)
theorem dX4_put_5 : decode cX4_put 5 = .ok (.ifCond .eq 11, 3) := dk_153 0 11 (dk_at dksX4_put_0 5 rfl rfl)
theorem dX4_put_8 : decode cX4_put 8 = .ok (.aload_n 0, 1) := dk_42 (dk_at dksX4_put_0 8 rfl rfl)
theorem dX4_put_9 : decode cX4_put 9 = .ok (.iload_n 2, 1) := dk_28 (dk_at dksX4_put_0 9 rfl rfl)
theorem dX4_put_10 : decode cX4_put 10 = .ok (.invokevirtual 124, 3) := dk_182 0 124 (dk_at dksX4_put_0 10 rfl rfl)
theorem dX4_put_13 : decode cX4_put 13 = .ok (.ifCond .ne 9, 3) := dk_154 0 9 (dk_at dksX4_put_0 13 rfl rfl)
theorem dX4_put_16 : decode cX4_put 16 = .ok (.aload_n 0, 1) := dk_42 (dk_at dksX4_put_0 16 rfl rfl)
theorem dX4_put_17 : decode cX4_put 17 = .ok (.iconst (-1), 1) := dk_2 (dk_at dksX4_put_0 17 rfl rfl)
theorem dX4_put_18 : decode cX4_put 18 = .ok (.invokevirtual 138, 3) := dk_182 0 138 (dk_at dksX4_put_0 18 rfl rfl)
theorem dX4_put_21 : decode cX4_put 21 = .ok (.ireturn, 1) := dk_172 (dk_at dksX4_put_0 21 rfl rfl)
theorem dX4_put_22 : decode cX4_put 22 = .ok (.iload_n 3, 1) := dk_29 (dk_at dksX4_put_0 22 rfl rfl)
theorem dX4_put_23 : decode cX4_put 23 = .ok (.iconst 0, 1) := dk_3 (dk_at dksX4_put_0 23 rfl rfl)
theorem dX4_put_24 : decode cX4_put 24 = .ok (.iconst 2, 1) := dk_5 (dk_at dksX4_put_1 0 rfl rfl)
theorem dX4_put_25 : decode cX4_put 25 = .ok (.invokestatic 89, 3) := dk_184 0 89 (dk_at dksX4_put_1 1 rfl rfl)
theorem dX4_put_28 : decode cX4_put 28 = .ok (.ifCond .ne 10, 3) := dk_154 0 10 (dk_at dksX4_put_1 4 rfl rfl)
theorem dX4_put_31 : decode cX4_put 31 = .ok (.aload_n 0, 1) := dk_42 (dk_at dksX4_put_1 7 rfl rfl)
theorem dX4_put_32 : decode cX4_put 32 = .ok (.bipush (-5), 2) := dk_16 251 (dk_at dksX4_put_1 8 rfl rfl)
theorem dX4_put_34 : decode cX4_put 34 = .ok (.invokevirtual 138, 3) := dk_182 0 138 (dk_at dksX4_put_1 10 rfl rfl)
theorem dX4_put_37 : decode cX4_put 37 = .ok (.ireturn, 1) := dk_172 (dk_at dksX4_put_1 13 rfl rfl)
theorem dX4_put_38 : decode cX4_put 38 = .ok (.aload_n 0, 1) := dk_42 (dk_at dksX4_put_1 14 rfl rfl)
theorem dX4_put_39 : decode cX4_put 39 = .ok (.iload_n 1, 1) := dk_27 (dk_at dksX4_put_1 15 rfl rfl)
theorem dX4_put_40 : decode cX4_put 40 = .ok (.aload_n 0, 1) := dk_42 (dk_at dksX4_put_1 16 rfl rfl)
theorem dX4_put_41 : decode cX4_put 41 = .ok (.iconst 0, 1) := dk_3 (dk_at dksX4_put_1 17 rfl rfl)
theorem dX4_put_42 : decode cX4_put 42 = .ok (.iload_n 1, 1) := dk_27 (dk_at dksX4_put_1 18 rfl rfl)
theorem dX4_put_43 : decode cX4_put 43 = .ok (.invokevirtual 109, 3) := dk_182 0 109 (dk_at dksX4_put_1 19 rfl rfl)
theorem dX4_put_46 : decode cX4_put 46 = .ok (.iload_n 2, 1) := dk_28 (dk_at dksX4_put_1 22 rfl rfl)
theorem dX4_put_47 : decode cX4_put 47 = .ok (.iconst 0, 1) := dk_3 (dk_at dksX4_put_1 23 rfl rfl)
theorem dX4_put_48 : decode cX4_put 48 = .ok (.invokevirtual 245, 3) := dk_182 0 245 (dk_at dksX4_put_2 0 rfl rfl)
theorem dX4_put_51 : decode cX4_put 51 = .ok (.ifCond .ne 10, 3) := dk_154 0 10 (dk_at dksX4_put_2 3 rfl rfl)
theorem dX4_put_54 : decode cX4_put 54 = .ok (.aload_n 0, 1) := dk_42 (dk_at dksX4_put_2 6 rfl rfl)
theorem dX4_put_55 : decode cX4_put 55 = .ok (.bipush (-6), 2) := dk_16 250 (dk_at dksX4_put_2 7 rfl rfl)
theorem dX4_put_57 : decode cX4_put 57 = .ok (.invokevirtual 138, 3) := dk_182 0 138 (dk_at dksX4_put_2 9 rfl rfl)
theorem dX4_put_60 : decode cX4_put 60 = .ok (.ireturn, 1) := dk_172 (dk_at dksX4_put_2 12 rfl rfl)
theorem dX4_put_61 : decode cX4_put 61 = .ok (.iload_n 3, 1) := dk_29 (dk_at dksX4_put_2 13 rfl rfl)
theorem dX4_put_62 : decode cX4_put 62 = .ok (.ifCond .ne 10, 3) := dk_154 0 10 (dk_at dksX4_put_2 14 rfl rfl)
theorem dX4_put_65 : decode cX4_put 65 = .ok (.aload_n 0, 1) := dk_42 (dk_at dksX4_put_2 17 rfl rfl)
theorem dX4_put_66 : decode cX4_put 66 = .ok (.getfield 191, 3) := dk_180 0 191 (dk_at dksX4_put_2 18 rfl rfl)
theorem dX4_put_69 : decode cX4_put 69 = .ok (.goto 19, 3) := dk_167 0 19 (dk_at dksX4_put_2 21 rfl rfl)
theorem dX4_put_72 : decode cX4_put 72 = .ok (.iload_n 3, 1) := dk_29 (dk_at dksX4_put_3 0 rfl rfl)
theorem dX4_put_73 : decode cX4_put 73 = .ok (.iconst 1, 1) := dk_4 (dk_at dksX4_put_3 1 rfl rfl)
theorem dX4_put_74 : decode cX4_put 74 = .ok (.if_icmp .ne 10, 3) := dk_160 0 10 (dk_at dksX4_put_3 2 rfl rfl)
theorem dX4_put_77 : decode cX4_put 77 = .ok (.aload_n 0, 1) := dk_42 (dk_at dksX4_put_3 5 rfl rfl)
theorem dX4_put_78 : decode cX4_put 78 = .ok (.getfield 194, 3) := dk_180 0 194 (dk_at dksX4_put_3 6 rfl rfl)
theorem dX4_put_81 : decode cX4_put 81 = .ok (.goto 7, 3) := dk_167 0 7 (dk_at dksX4_put_3 9 rfl rfl)
theorem dX4_put_84 : decode cX4_put 84 = .ok (.aload_n 0, 1) := dk_42 (dk_at dksX4_put_3 12 rfl rfl)
theorem dX4_put_85 : decode cX4_put 85 = .ok (.getfield 232, 3) := dk_180 0 232 (dk_at dksX4_put_3 13 rfl rfl)
theorem dX4_put_88 : decode cX4_put 88 = .ok (.ireturn, 1) := dk_172 (dk_at dksX4_put_3 16 rfl rfl)
abbrev cX4_puts : ByteArray := prog_28_method_56_code
def yX4_puts : MethodName := ⟨RX4, "puts", "(IIII)Z"⟩
def dkwX4_puts_4 : List UInt8 := [42, 180, 0, 69, 21, 6, 46, 182, 0, 241, 132, 6, 255, 167, 255, 228, 4, 172]
abbrev dktX4_puts_4 : List UInt8 := dkwX4_puts_4 ++ []
def dkwX4_puts_3 : List UInt8 := [181, 0, 207, 21, 5, 4, 100, 54, 6, 21, 6, 21, 4, 161, 0, 27, 42, 28, 42, 4, 27, 182, 0, 109]
abbrev dktX4_puts_3 : List UInt8 := dkwX4_puts_3 ++ dktX4_puts_4
def dkwX4_puts_2 : List UInt8 := [42, 5, 27, 182, 0, 109, 181, 0, 213, 42, 42, 180, 0, 191, 181, 0, 210, 42, 42, 180, 0, 194]
abbrev dktX4_puts_2 : List UInt8 := dkwX4_puts_2 ++ dktX4_puts_3
def dkwX4_puts_1 : List UInt8 := [181, 0, 232, 42, 42, 6, 27, 182, 0, 109, 181, 0, 191, 42, 42, 7, 27, 182, 0, 109, 181, 0, 194, 42]
abbrev dktX4_puts_1 : List UInt8 := dkwX4_puts_1 ++ dktX4_puts_2
def dkwX4_puts_0 : List UInt8 := [42, 29, 42, 5, 27, 182, 0, 109, 182, 0, 169, 54, 5, 21, 5, 2, 160, 0, 5, 3, 172, 42, 3]
abbrev dktX4_puts_0 : List UInt8 := dkwX4_puts_0 ++ dktX4_puts_1
theorem dksX4_puts_0 : cX4_puts.data.toList.drop 0 = dktX4_puts_0 := by decide +kernel
theorem dksX4_puts_1 : cX4_puts.data.toList.drop 23 = dktX4_puts_1 := dk_seg dksX4_puts_0 23 rfl rfl
theorem dksX4_puts_2 : cX4_puts.data.toList.drop 47 = dktX4_puts_2 := dk_seg dksX4_puts_1 24 rfl rfl
theorem dksX4_puts_3 : cX4_puts.data.toList.drop 69 = dktX4_puts_3 := dk_seg dksX4_puts_2 22 rfl rfl
theorem dksX4_puts_4 : cX4_puts.data.toList.drop 93 = dktX4_puts_4 := dk_seg dksX4_puts_3 24 rfl rfl
theorem dX4_puts_0 : decode cX4_puts 0 = .ok (.aload_n 0, 1) := dk_42 (dk_at dksX4_puts_0 0 rfl rfl)
theorem dX4_puts_1 : decode cX4_puts 1 = .ok (.iload_n 3, 1) := dk_29 (dk_at dksX4_puts_0 1 rfl rfl)
theorem dX4_puts_2 : decode cX4_puts 2 = .ok (.aload_n 0, 1) := dk_42 (dk_at dksX4_puts_0 2 rfl rfl)
theorem dX4_puts_3 : decode cX4_puts 3 = .ok (.iconst 2, 1) := dk_5 (dk_at dksX4_puts_0 3 rfl rfl)
theorem dX4_puts_4 : decode cX4_puts 4 = .ok (.iload_n 1, 1) := dk_27 (dk_at dksX4_puts_0 4 rfl rfl)
theorem dX4_puts_5 : decode cX4_puts 5 = .ok (.invokevirtual 109, 3) := dk_182 0 109 (dk_at dksX4_puts_0 5 rfl rfl)
theorem dX4_puts_8 : decode cX4_puts 8 = .ok (.invokevirtual 169, 3) := dk_182 0 169 (dk_at dksX4_puts_0 8 rfl rfl)
theorem dX4_puts_11 : decode cX4_puts 11 = .ok (.istore 5, 2) := dk_54 5 (dk_at dksX4_puts_0 11 rfl rfl)
theorem dX4_puts_13 : decode cX4_puts 13 = .ok (.iload 5, 2) := dk_21 5 (dk_at dksX4_puts_0 13 rfl rfl)
theorem dX4_puts_15 : decode cX4_puts 15 = .ok (.iconst (-1), 1) := dk_2 (dk_at dksX4_puts_0 15 rfl rfl)
theorem dX4_puts_16 : decode cX4_puts 16 = .ok (.if_icmp .ne 5, 3) := dk_160 0 5 (dk_at dksX4_puts_0 16 rfl rfl)
theorem dX4_puts_19 : decode cX4_puts 19 = .ok (.iconst 0, 1) := dk_3 (dk_at dksX4_puts_0 19 rfl rfl)
theorem dX4_puts_20 : decode cX4_puts 20 = .ok (.ireturn, 1) := dk_172 (dk_at dksX4_puts_0 20 rfl rfl)
theorem dX4_puts_21 : decode cX4_puts 21 = .ok (.aload_n 0, 1) := dk_42 (dk_at dksX4_puts_0 21 rfl rfl)
theorem dX4_puts_22 : decode cX4_puts 22 = .ok (.iconst 0, 1) := dk_3 (dk_at dksX4_puts_0 22 rfl rfl)
theorem dX4_puts_23 : decode cX4_puts 23 = .ok (.putfield 232, 3) := dk_181 0 232 (dk_at dksX4_puts_1 0 rfl rfl)
theorem dX4_puts_26 : decode cX4_puts 26 = .ok (.aload_n 0, 1) := dk_42 (dk_at dksX4_puts_1 3 rfl rfl)
theorem dX4_puts_27 : decode cX4_puts 27 = .ok (.aload_n 0, 1) := dk_42 (dk_at dksX4_puts_1 4 rfl rfl)
theorem dX4_puts_28 : decode cX4_puts 28 = .ok (.iconst 3, 1) := dk_6 (dk_at dksX4_puts_1 5 rfl rfl)
theorem dX4_puts_29 : decode cX4_puts 29 = .ok (.iload_n 1, 1) := dk_27 (dk_at dksX4_puts_1 6 rfl rfl)
theorem dX4_puts_30 : decode cX4_puts 30 = .ok (.invokevirtual 109, 3) := dk_182 0 109 (dk_at dksX4_puts_1 7 rfl rfl)
theorem dX4_puts_33 : decode cX4_puts 33 = .ok (.putfield 191, 3) := dk_181 0 191 (dk_at dksX4_puts_1 10 rfl rfl)
theorem dX4_puts_36 : decode cX4_puts 36 = .ok (.aload_n 0, 1) := dk_42 (dk_at dksX4_puts_1 13 rfl rfl)
theorem dX4_puts_37 : decode cX4_puts 37 = .ok (.aload_n 0, 1) := dk_42 (dk_at dksX4_puts_1 14 rfl rfl)
theorem dX4_puts_38 : decode cX4_puts 38 = .ok (.iconst 4, 1) := dk_7 (dk_at dksX4_puts_1 15 rfl rfl)
theorem dX4_puts_39 : decode cX4_puts 39 = .ok (.iload_n 1, 1) := dk_27 (dk_at dksX4_puts_1 16 rfl rfl)
theorem dX4_puts_40 : decode cX4_puts 40 = .ok (.invokevirtual 109, 3) := dk_182 0 109 (dk_at dksX4_puts_1 17 rfl rfl)
theorem dX4_puts_43 : decode cX4_puts 43 = .ok (.putfield 194, 3) := dk_181 0 194 (dk_at dksX4_puts_1 20 rfl rfl)
theorem dX4_puts_46 : decode cX4_puts 46 = .ok (.aload_n 0, 1) := dk_42 (dk_at dksX4_puts_1 23 rfl rfl)
theorem dX4_puts_47 : decode cX4_puts 47 = .ok (.aload_n 0, 1) := dk_42 (dk_at dksX4_puts_2 0 rfl rfl)
theorem dX4_puts_48 : decode cX4_puts 48 = .ok (.iconst 2, 1) := dk_5 (dk_at dksX4_puts_2 1 rfl rfl)
theorem dX4_puts_49 : decode cX4_puts 49 = .ok (.iload_n 1, 1) := dk_27 (dk_at dksX4_puts_2 2 rfl rfl)
theorem dX4_puts_50 : decode cX4_puts 50 = .ok (.invokevirtual 109, 3) := dk_182 0 109 (dk_at dksX4_puts_2 3 rfl rfl)
theorem dX4_puts_53 : decode cX4_puts 53 = .ok (.putfield 213, 3) := dk_181 0 213 (dk_at dksX4_puts_2 6 rfl rfl)
theorem dX4_puts_56 : decode cX4_puts 56 = .ok (.aload_n 0, 1) := dk_42 (dk_at dksX4_puts_2 9 rfl rfl)
theorem dX4_puts_57 : decode cX4_puts 57 = .ok (.aload_n 0, 1) := dk_42 (dk_at dksX4_puts_2 10 rfl rfl)
theorem dX4_puts_58 : decode cX4_puts 58 = .ok (.getfield 191, 3) := dk_180 0 191 (dk_at dksX4_puts_2 11 rfl rfl)
theorem dX4_puts_61 : decode cX4_puts 61 = .ok (.putfield 210, 3) := dk_181 0 210 (dk_at dksX4_puts_2 14 rfl rfl)
theorem dX4_puts_64 : decode cX4_puts 64 = .ok (.aload_n 0, 1) := dk_42 (dk_at dksX4_puts_2 17 rfl rfl)
theorem dX4_puts_65 : decode cX4_puts 65 = .ok (.aload_n 0, 1) := dk_42 (dk_at dksX4_puts_2 18 rfl rfl)
theorem dX4_puts_66 : decode cX4_puts 66 = .ok (.getfield 194, 3) := dk_180 0 194 (dk_at dksX4_puts_2 19 rfl rfl)
theorem dX4_puts_69 : decode cX4_puts 69 = .ok (.putfield 207, 3) := dk_181 0 207 (dk_at dksX4_puts_3 0 rfl rfl)
theorem dX4_puts_72 : decode cX4_puts 72 = .ok (.iload 5, 2) := dk_21 5 (dk_at dksX4_puts_3 3 rfl rfl)
theorem dX4_puts_74 : decode cX4_puts 74 = .ok (.iconst 1, 1) := dk_4 (dk_at dksX4_puts_3 5 rfl rfl)
theorem dX4_puts_75 : decode cX4_puts 75 = .ok (.isub, 1) := dk_100 (dk_at dksX4_puts_3 6 rfl rfl)
theorem dX4_puts_76 : decode cX4_puts 76 = .ok (.istore 6, 2) := dk_54 6 (dk_at dksX4_puts_3 7 rfl rfl)
theorem dX4_puts_78 : decode cX4_puts 78 = .ok (.iload 6, 2) := dk_21 6 (dk_at dksX4_puts_3 9 rfl rfl)
theorem dX4_puts_80 : decode cX4_puts 80 = .ok (.iload 4, 2) := dk_21 4 (dk_at dksX4_puts_3 11 rfl rfl)
theorem dX4_puts_82 : decode cX4_puts 82 = .ok (.if_icmp .lt 27, 3) := dk_161 0 27 (dk_at dksX4_puts_3 13 rfl rfl)
theorem dX4_puts_85 : decode cX4_puts 85 = .ok (.aload_n 0, 1) := dk_42 (dk_at dksX4_puts_3 16 rfl rfl)
theorem dX4_puts_86 : decode cX4_puts 86 = .ok (.iload_n 2, 1) := dk_28 (dk_at dksX4_puts_3 17 rfl rfl)
theorem dX4_puts_87 : decode cX4_puts 87 = .ok (.aload_n 0, 1) := dk_42 (dk_at dksX4_puts_3 18 rfl rfl)
theorem dX4_puts_88 : decode cX4_puts 88 = .ok (.iconst 1, 1) := dk_4 (dk_at dksX4_puts_3 19 rfl rfl)
theorem dX4_puts_89 : decode cX4_puts 89 = .ok (.iload_n 1, 1) := dk_27 (dk_at dksX4_puts_3 20 rfl rfl)
theorem dX4_puts_90 : decode cX4_puts 90 = .ok (.invokevirtual 109, 3) := dk_182 0 109 (dk_at dksX4_puts_3 21 rfl rfl)
theorem dX4_puts_93 : decode cX4_puts 93 = .ok (.aload_n 0, 1) := dk_42 (dk_at dksX4_puts_4 0 rfl rfl)
theorem dX4_puts_94 : decode cX4_puts 94 = .ok (.getfield 69, 3) := dk_180 0 69 (dk_at dksX4_puts_4 1 rfl rfl)
theorem dX4_puts_97 : decode cX4_puts 97 = .ok (.iload 6, 2) := dk_21 6 (dk_at dksX4_puts_4 4 rfl rfl)
theorem dX4_puts_99 : decode cX4_puts 99 = .ok (.iaload, 1) := dk_46 (dk_at dksX4_puts_4 6 rfl rfl)
theorem dX4_puts_100 : decode cX4_puts 100 = .ok (.invokevirtual 241, 3) := dk_182 0 241 (dk_at dksX4_puts_4 7 rfl rfl)
theorem dX4_puts_103 : decode cX4_puts 103 = .ok (.iinc 6 (-1), 3) := dk_132 6 255 (dk_at dksX4_puts_4 10 rfl rfl)
theorem dX4_puts_106 : decode cX4_puts 106 = .ok (.goto (-28), 3) := dk_167 255 228 (dk_at dksX4_puts_4 13 rfl rfl)
theorem dX4_puts_109 : decode cX4_puts 109 = .ok (.iconst 1, 1) := dk_4 (dk_at dksX4_puts_4 16 rfl rfl)
theorem dX4_puts_110 : decode cX4_puts 110 = .ok (.ireturn, 1) := dk_172 (dk_at dksX4_puts_4 17 rfl rfl)
abbrev cX4_steps : ByteArray := prog_28_method_55_code
def yX4_steps : MethodName := ⟨RX4, "steps", "(III)V"⟩
def dkwX4_steps_5 : List UInt8 := [180, 0, 191, 181, 0, 210, 42, 42, 180, 0, 194, 181, 0, 207, 177]
abbrev dktX4_steps_5 : List UInt8 := dkwX4_steps_5 ++ []
def dkwX4_steps_4 : List UInt8 := [6, 160, 0, 14, 42, 2, 181, 0, 191, 42, 2, 181, 0, 194, 177, 42, 29, 181, 0, 213, 42, 42]
abbrev dktX4_steps_4 : List UInt8 := dkwX4_steps_4 ++ dktX4_steps_5
def dkwX4_steps_3 : List UInt8 := [180, 0, 207, 96, 42, 180, 0, 210, 100, 181, 0, 194, 167, 0, 8, 42, 6, 181, 0, 232, 42, 180, 0, 232]
abbrev dktX4_steps_3 : List UInt8 := dkwX4_steps_3 ++ dktX4_steps_4
def dkwX4_steps_2 : List UInt8 := [46, 161, 0, 37, 42, 5, 181, 0, 232, 42, 42, 180, 0, 216, 181, 0, 191, 42, 42, 180, 0, 216, 42]
abbrev dktX4_steps_2 : List UInt8 := dkwX4_steps_2 ++ dktX4_steps_3
def dkwX4_steps_1 : List UInt8 := [167, 0, 67, 42, 29, 182, 0, 238, 42, 180, 0, 228, 153, 0, 50, 42, 180, 0, 219, 42, 180, 0, 26, 4]
abbrev dktX4_steps_1 : List UInt8 := dkwX4_steps_1 ++ dktX4_steps_2
def dkwX4_steps_0 : List UInt8 := [42, 180, 0, 232, 6, 159, 0, 21, 42, 27, 28, 29, 182, 0, 235, 153, 0, 11, 42, 4, 181, 0, 232]
abbrev dktX4_steps_0 : List UInt8 := dkwX4_steps_0 ++ dktX4_steps_1
theorem dksX4_steps_0 : cX4_steps.data.toList.drop 0 = dktX4_steps_0 := by decide +kernel
theorem dksX4_steps_1 : cX4_steps.data.toList.drop 23 = dktX4_steps_1 := dk_seg dksX4_steps_0 23 rfl rfl
theorem dksX4_steps_2 : cX4_steps.data.toList.drop 47 = dktX4_steps_2 := dk_seg dksX4_steps_1 24 rfl rfl
theorem dksX4_steps_3 : cX4_steps.data.toList.drop 70 = dktX4_steps_3 := dk_seg dksX4_steps_2 23 rfl rfl
theorem dksX4_steps_4 : cX4_steps.data.toList.drop 94 = dktX4_steps_4 := dk_seg dksX4_steps_3 24 rfl rfl
theorem dksX4_steps_5 : cX4_steps.data.toList.drop 116 = dktX4_steps_5 := dk_seg dksX4_steps_4 22 rfl rfl
theorem dX4_steps_0 : decode cX4_steps 0 = .ok (.aload_n 0, 1) := dk_42 (dk_at dksX4_steps_0 0 rfl rfl)
theorem dX4_steps_1 : decode cX4_steps 1 = .ok (.getfield 232, 3) := dk_180 0 232 (dk_at dksX4_steps_0 1 rfl rfl)
theorem dX4_steps_4 : decode cX4_steps 4 = .ok (.iconst 3, 1) := dk_6 (dk_at dksX4_steps_0 4 rfl rfl)
theorem dX4_steps_5 : decode cX4_steps 5 = .ok (.if_icmp .eq 21, 3) := dk_159 0 21 (dk_at dksX4_steps_0 5 rfl rfl)
theorem dX4_steps_8 : decode cX4_steps 8 = .ok (.aload_n 0, 1) := dk_42 (dk_at dksX4_steps_0 8 rfl rfl)
theorem dX4_steps_9 : decode cX4_steps 9 = .ok (.iload_n 1, 1) := dk_27 (dk_at dksX4_steps_0 9 rfl rfl)
theorem dX4_steps_10 : decode cX4_steps 10 = .ok (.iload_n 2, 1) := dk_28 (dk_at dksX4_steps_0 10 rfl rfl)
theorem dX4_steps_11 : decode cX4_steps 11 = .ok (.iload_n 3, 1) := dk_29 (dk_at dksX4_steps_0 11 rfl rfl)
theorem dX4_steps_12 : decode cX4_steps 12 = .ok (.invokevirtual 235, 3) := dk_182 0 235 (dk_at dksX4_steps_0 12 rfl rfl)
theorem dX4_steps_15 : decode cX4_steps 15 = .ok (.ifCond .eq 11, 3) := dk_153 0 11 (dk_at dksX4_steps_0 15 rfl rfl)
theorem dX4_steps_18 : decode cX4_steps 18 = .ok (.aload_n 0, 1) := dk_42 (dk_at dksX4_steps_0 18 rfl rfl)
theorem dX4_steps_19 : decode cX4_steps 19 = .ok (.iconst 1, 1) := dk_4 (dk_at dksX4_steps_0 19 rfl rfl)
theorem dX4_steps_20 : decode cX4_steps 20 = .ok (.putfield 232, 3) := dk_181 0 232 (dk_at dksX4_steps_0 20 rfl rfl)
theorem dX4_steps_23 : decode cX4_steps 23 = .ok (.goto 67, 3) := dk_167 0 67 (dk_at dksX4_steps_1 0 rfl rfl)
theorem dX4_steps_26 : decode cX4_steps 26 = .ok (.aload_n 0, 1) := dk_42 (dk_at dksX4_steps_1 3 rfl rfl)
theorem dX4_steps_27 : decode cX4_steps 27 = .ok (.iload_n 3, 1) := dk_29 (dk_at dksX4_steps_1 4 rfl rfl)
theorem dX4_steps_28 : decode cX4_steps 28 = .ok (.invokevirtual 238, 3) := dk_182 0 238 (dk_at dksX4_steps_1 5 rfl rfl)
theorem dX4_steps_31 : decode cX4_steps 31 = .ok (.aload_n 0, 1) := dk_42 (dk_at dksX4_steps_1 8 rfl rfl)
theorem dX4_steps_32 : decode cX4_steps 32 = .ok (.getfield 228, 3) := dk_180 0 228 (dk_at dksX4_steps_1 9 rfl rfl)
theorem dX4_steps_35 : decode cX4_steps 35 = .ok (.ifCond .eq 50, 3) := dk_153 0 50 (dk_at dksX4_steps_1 12 rfl rfl)
theorem dX4_steps_38 : decode cX4_steps 38 = .ok (.aload_n 0, 1) := dk_42 (dk_at dksX4_steps_1 15 rfl rfl)
theorem dX4_steps_39 : decode cX4_steps 39 = .ok (.getfield 219, 3) := dk_180 0 219 (dk_at dksX4_steps_1 16 rfl rfl)
theorem dX4_steps_42 : decode cX4_steps 42 = .ok (.aload_n 0, 1) := dk_42 (dk_at dksX4_steps_1 19 rfl rfl)
theorem dX4_steps_43 : decode cX4_steps 43 = .ok (.getfield 26, 3) := dk_180 0 26 (dk_at dksX4_steps_1 20 rfl rfl)
theorem dX4_steps_46 : decode cX4_steps 46 = .ok (.iconst 1, 1) := dk_4 (dk_at dksX4_steps_1 23 rfl rfl)
theorem dX4_steps_47 : decode cX4_steps 47 = .ok (.iaload, 1) := dk_46 (dk_at dksX4_steps_2 0 rfl rfl)
theorem dX4_steps_48 : decode cX4_steps 48 = .ok (.if_icmp .lt 37, 3) := dk_161 0 37 (dk_at dksX4_steps_2 1 rfl rfl)
theorem dX4_steps_51 : decode cX4_steps 51 = .ok (.aload_n 0, 1) := dk_42 (dk_at dksX4_steps_2 4 rfl rfl)
theorem dX4_steps_52 : decode cX4_steps 52 = .ok (.iconst 2, 1) := dk_5 (dk_at dksX4_steps_2 5 rfl rfl)
theorem dX4_steps_53 : decode cX4_steps 53 = .ok (.putfield 232, 3) := dk_181 0 232 (dk_at dksX4_steps_2 6 rfl rfl)
theorem dX4_steps_56 : decode cX4_steps 56 = .ok (.aload_n 0, 1) := dk_42 (dk_at dksX4_steps_2 9 rfl rfl)
theorem dX4_steps_57 : decode cX4_steps 57 = .ok (.aload_n 0, 1) := dk_42 (dk_at dksX4_steps_2 10 rfl rfl)
theorem dX4_steps_58 : decode cX4_steps 58 = .ok (.getfield 216, 3) := dk_180 0 216 (dk_at dksX4_steps_2 11 rfl rfl)
theorem dX4_steps_61 : decode cX4_steps 61 = .ok (.putfield 191, 3) := dk_181 0 191 (dk_at dksX4_steps_2 14 rfl rfl)
theorem dX4_steps_64 : decode cX4_steps 64 = .ok (.aload_n 0, 1) := dk_42 (dk_at dksX4_steps_2 17 rfl rfl)
theorem dX4_steps_65 : decode cX4_steps 65 = .ok (.aload_n 0, 1) := dk_42 (dk_at dksX4_steps_2 18 rfl rfl)
theorem dX4_steps_66 : decode cX4_steps 66 = .ok (.getfield 216, 3) := dk_180 0 216 (dk_at dksX4_steps_2 19 rfl rfl)
theorem dX4_steps_69 : decode cX4_steps 69 = .ok (.aload_n 0, 1) := dk_42 (dk_at dksX4_steps_2 22 rfl rfl)
theorem dX4_steps_70 : decode cX4_steps 70 = .ok (.getfield 207, 3) := dk_180 0 207 (dk_at dksX4_steps_3 0 rfl rfl)
theorem dX4_steps_73 : decode cX4_steps 73 = .ok (.iadd, 1) := dk_96 (dk_at dksX4_steps_3 3 rfl rfl)
theorem dX4_steps_74 : decode cX4_steps 74 = .ok (.aload_n 0, 1) := dk_42 (dk_at dksX4_steps_3 4 rfl rfl)
theorem dX4_steps_75 : decode cX4_steps 75 = .ok (.getfield 210, 3) := dk_180 0 210 (dk_at dksX4_steps_3 5 rfl rfl)
theorem dX4_steps_78 : decode cX4_steps 78 = .ok (.isub, 1) := dk_100 (dk_at dksX4_steps_3 8 rfl rfl)
theorem dX4_steps_79 : decode cX4_steps 79 = .ok (.putfield 194, 3) := dk_181 0 194 (dk_at dksX4_steps_3 9 rfl rfl)
theorem dX4_steps_82 : decode cX4_steps 82 = .ok (.goto 8, 3) := dk_167 0 8 (dk_at dksX4_steps_3 12 rfl rfl)
theorem dX4_steps_85 : decode cX4_steps 85 = .ok (.aload_n 0, 1) := dk_42 (dk_at dksX4_steps_3 15 rfl rfl)
theorem dX4_steps_86 : decode cX4_steps 86 = .ok (.iconst 3, 1) := dk_6 (dk_at dksX4_steps_3 16 rfl rfl)
theorem dX4_steps_87 : decode cX4_steps 87 = .ok (.putfield 232, 3) := dk_181 0 232 (dk_at dksX4_steps_3 17 rfl rfl)
theorem dX4_steps_90 : decode cX4_steps 90 = .ok (.aload_n 0, 1) := dk_42 (dk_at dksX4_steps_3 20 rfl rfl)
theorem dX4_steps_91 : decode cX4_steps 91 = .ok (.getfield 232, 3) := dk_180 0 232 (dk_at dksX4_steps_3 21 rfl rfl)
theorem dX4_steps_94 : decode cX4_steps 94 = .ok (.iconst 3, 1) := dk_6 (dk_at dksX4_steps_4 0 rfl rfl)
theorem dX4_steps_95 : decode cX4_steps 95 = .ok (.if_icmp .ne 14, 3) := dk_160 0 14 (dk_at dksX4_steps_4 1 rfl rfl)
theorem dX4_steps_98 : decode cX4_steps 98 = .ok (.aload_n 0, 1) := dk_42 (dk_at dksX4_steps_4 4 rfl rfl)
theorem dX4_steps_99 : decode cX4_steps 99 = .ok (.iconst (-1), 1) := dk_2 (dk_at dksX4_steps_4 5 rfl rfl)
theorem dX4_steps_100 : decode cX4_steps 100 = .ok (.putfield 191, 3) := dk_181 0 191 (dk_at dksX4_steps_4 6 rfl rfl)
theorem dX4_steps_103 : decode cX4_steps 103 = .ok (.aload_n 0, 1) := dk_42 (dk_at dksX4_steps_4 9 rfl rfl)
theorem dX4_steps_104 : decode cX4_steps 104 = .ok (.iconst (-1), 1) := dk_2 (dk_at dksX4_steps_4 10 rfl rfl)
theorem dX4_steps_105 : decode cX4_steps 105 = .ok (.putfield 194, 3) := dk_181 0 194 (dk_at dksX4_steps_4 11 rfl rfl)
theorem dX4_steps_108 : decode cX4_steps 108 = .ok (.return_, 1) := dk_177 (dk_at dksX4_steps_4 14 rfl rfl)
theorem dX4_steps_109 : decode cX4_steps 109 = .ok (.aload_n 0, 1) := dk_42 (dk_at dksX4_steps_4 15 rfl rfl)
theorem dX4_steps_110 : decode cX4_steps 110 = .ok (.iload_n 3, 1) := dk_29 (dk_at dksX4_steps_4 16 rfl rfl)
theorem dX4_steps_111 : decode cX4_steps 111 = .ok (.putfield 213, 3) := dk_181 0 213 (dk_at dksX4_steps_4 17 rfl rfl)
theorem dX4_steps_114 : decode cX4_steps 114 = .ok (.aload_n 0, 1) := dk_42 (dk_at dksX4_steps_4 20 rfl rfl)
theorem dX4_steps_115 : decode cX4_steps 115 = .ok (.aload_n 0, 1) := dk_42 (dk_at dksX4_steps_4 21 rfl rfl)
theorem dX4_steps_116 : decode cX4_steps 116 = .ok (.getfield 191, 3) := dk_180 0 191 (dk_at dksX4_steps_5 0 rfl rfl)
theorem dX4_steps_119 : decode cX4_steps 119 = .ok (.putfield 210, 3) := dk_181 0 210 (dk_at dksX4_steps_5 3 rfl rfl)
theorem dX4_steps_122 : decode cX4_steps 122 = .ok (.aload_n 0, 1) := dk_42 (dk_at dksX4_steps_5 6 rfl rfl)
theorem dX4_steps_123 : decode cX4_steps 123 = .ok (.aload_n 0, 1) := dk_42 (dk_at dksX4_steps_5 7 rfl rfl)
theorem dX4_steps_124 : decode cX4_steps 124 = .ok (.getfield 194, 3) := dk_180 0 194 (dk_at dksX4_steps_5 8 rfl rfl)
theorem dX4_steps_127 : decode cX4_steps 127 = .ok (.putfield 207, 3) := dk_181 0 207 (dk_at dksX4_steps_5 11 rfl rfl)
theorem dX4_steps_130 : decode cX4_steps 130 = .ok (.return_, 1) := dk_177 (dk_at dksX4_steps_5 14 rfl rfl)
abbrev cX4_goesTo : ByteArray := prog_28_method_51_code
def yX4_goesTo : MethodName := ⟨RX4, "goesTo", "(III)Z"⟩
def dkwX4_goesTo_7 : List UInt8 := [163, 0, 7, 4, 167, 0, 4, 3, 172, 4, 172]
abbrev dktX4_goesTo_7 : List UInt8 := dkwX4_goesTo_7 ++ []
def dkwX4_goesTo_6 : List UInt8 := [180, 0, 194, 42, 180, 0, 191, 100, 4, 96, 27, 8, 160, 0, 10, 21, 4, 28, 96, 167, 0, 5, 21, 4]
abbrev dktX4_goesTo_6 : List UInt8 := dkwX4_goesTo_6 ++ dktX4_goesTo_7
def dkwX4_goesTo_5 : List UInt8 := [167, 0, 4, 3, 172, 27, 5, 159, 0, 8, 27, 8, 160, 0, 44, 21, 5, 21, 4, 160, 0, 35, 42]
abbrev dktX4_goesTo_5 : List UInt8 := dkwX4_goesTo_5 ++ dktX4_goesTo_6
def dkwX4_goesTo_4 : List UInt8 := [154, 0, 5, 3, 172, 27, 7, 160, 0, 21, 16, 10, 21, 5, 104, 28, 21, 4, 104, 161, 0, 7, 4]
abbrev dktX4_goesTo_4 : List UInt8 := dkwX4_goesTo_4 ++ dktX4_goesTo_5
def dkwX4_goesTo_3 : List UInt8 := [172, 42, 42, 180, 0, 13, 29, 46, 4, 100, 181, 0, 194, 4, 172, 42, 29, 182, 0, 204, 54, 5, 21, 5]
abbrev dktX4_goesTo_3 : List UInt8 := dkwX4_goesTo_3 ++ dktX4_goesTo_4
def dkwX4_goesTo_2 : List UInt8 := [42, 29, 3, 182, 0, 200, 172, 42, 29, 4, 182, 0, 200, 172, 42, 29, 4, 182, 0, 200, 154, 0, 5, 3]
abbrev dktX4_goesTo_2 : List UInt8 := dkwX4_goesTo_2 ++ dktX4_goesTo_3
def dkwX4_goesTo_1 : List UInt8 := [171, 0, 0, 0, 0, 73, 0, 0, 0, 3, 0, 0, 0, 1, 0, 0, 0, 34, 0, 0, 0, 3, 0, 0, 0, 41, 0, 0, 0, 6, 0, 0, 0, 48]
abbrev dktX4_goesTo_1 : List UInt8 := dkwX4_goesTo_1 ++ dktX4_goesTo_2
def dkwX4_goesTo_0 : List UInt8 := [42, 180, 0, 194, 42, 180, 0, 191, 100, 4, 96, 54, 4, 27]
abbrev dktX4_goesTo_0 : List UInt8 := dkwX4_goesTo_0 ++ dktX4_goesTo_1
theorem dksX4_goesTo_0 : cX4_goesTo.data.toList.drop 0 = dktX4_goesTo_0 := by decide +kernel
theorem dksX4_goesTo_1 : cX4_goesTo.data.toList.drop 14 = dktX4_goesTo_1 := dk_seg dksX4_goesTo_0 14 rfl rfl
theorem dksX4_goesTo_2 : cX4_goesTo.data.toList.drop 48 = dktX4_goesTo_2 := dk_seg dksX4_goesTo_1 34 rfl rfl
theorem dksX4_goesTo_3 : cX4_goesTo.data.toList.drop 72 = dktX4_goesTo_3 := dk_seg dksX4_goesTo_2 24 rfl rfl
theorem dksX4_goesTo_4 : cX4_goesTo.data.toList.drop 96 = dktX4_goesTo_4 := dk_seg dksX4_goesTo_3 24 rfl rfl
theorem dksX4_goesTo_5 : cX4_goesTo.data.toList.drop 119 = dktX4_goesTo_5 := dk_seg dksX4_goesTo_4 23 rfl rfl
theorem dksX4_goesTo_6 : cX4_goesTo.data.toList.drop 142 = dktX4_goesTo_6 := dk_seg dksX4_goesTo_5 23 rfl rfl
theorem dksX4_goesTo_7 : cX4_goesTo.data.toList.drop 166 = dktX4_goesTo_7 := dk_seg dksX4_goesTo_6 24 rfl rfl
theorem dX4_goesTo_0 : decode cX4_goesTo 0 = .ok (.aload_n 0, 1) := dk_42 (dk_at dksX4_goesTo_0 0 rfl rfl)
theorem dX4_goesTo_1 : decode cX4_goesTo 1 = .ok (.getfield 194, 3) := dk_180 0 194 (dk_at dksX4_goesTo_0 1 rfl rfl)
theorem dX4_goesTo_4 : decode cX4_goesTo 4 = .ok (.aload_n 0, 1) := dk_42 (dk_at dksX4_goesTo_0 4 rfl rfl)
theorem dX4_goesTo_5 : decode cX4_goesTo 5 = .ok (.getfield 191, 3) := dk_180 0 191 (dk_at dksX4_goesTo_0 5 rfl rfl)
theorem dX4_goesTo_8 : decode cX4_goesTo 8 = .ok (.isub, 1) := dk_100 (dk_at dksX4_goesTo_0 8 rfl rfl)
theorem dX4_goesTo_9 : decode cX4_goesTo 9 = .ok (.iconst 1, 1) := dk_4 (dk_at dksX4_goesTo_0 9 rfl rfl)
theorem dX4_goesTo_10 : decode cX4_goesTo 10 = .ok (.iadd, 1) := dk_96 (dk_at dksX4_goesTo_0 10 rfl rfl)
theorem dX4_goesTo_11 : decode cX4_goesTo 11 = .ok (.istore 4, 2) := dk_54 4 (dk_at dksX4_goesTo_0 11 rfl rfl)
theorem dX4_goesTo_13 : decode cX4_goesTo 13 = .ok (.iload_n 1, 1) := dk_27 (dk_at dksX4_goesTo_0 13 rfl rfl)
theorem dX4_goesTo_14 : decode cX4_goesTo 14 = .ok (.lookupswitch 73 #[(1, 34), (3, 41), (6, 48)], 34) := by decide +kernel
theorem dX4_goesTo_48 : decode cX4_goesTo 48 = .ok (.aload_n 0, 1) := dk_42 (dk_at dksX4_goesTo_2 0 rfl rfl)
theorem dX4_goesTo_49 : decode cX4_goesTo 49 = .ok (.iload_n 3, 1) := dk_29 (dk_at dksX4_goesTo_2 1 rfl rfl)
theorem dX4_goesTo_50 : decode cX4_goesTo 50 = .ok (.iconst 0, 1) := dk_3 (dk_at dksX4_goesTo_2 2 rfl rfl)
theorem dX4_goesTo_51 : decode cX4_goesTo 51 = .ok (.invokevirtual 200, 3) := dk_182 0 200 (dk_at dksX4_goesTo_2 3 rfl rfl)
theorem dX4_goesTo_54 : decode cX4_goesTo 54 = .ok (.ireturn, 1) := dk_172 (dk_at dksX4_goesTo_2 6 rfl rfl)
theorem dX4_goesTo_55 : decode cX4_goesTo 55 = .ok (.aload_n 0, 1) := dk_42 (dk_at dksX4_goesTo_2 7 rfl rfl)
theorem dX4_goesTo_56 : decode cX4_goesTo 56 = .ok (.iload_n 3, 1) := dk_29 (dk_at dksX4_goesTo_2 8 rfl rfl)
theorem dX4_goesTo_57 : decode cX4_goesTo 57 = .ok (.iconst 1, 1) := dk_4 (dk_at dksX4_goesTo_2 9 rfl rfl)
theorem dX4_goesTo_58 : decode cX4_goesTo 58 = .ok (.invokevirtual 200, 3) := dk_182 0 200 (dk_at dksX4_goesTo_2 10 rfl rfl)
theorem dX4_goesTo_61 : decode cX4_goesTo 61 = .ok (.ireturn, 1) := dk_172 (dk_at dksX4_goesTo_2 13 rfl rfl)
theorem dX4_goesTo_62 : decode cX4_goesTo 62 = .ok (.aload_n 0, 1) := dk_42 (dk_at dksX4_goesTo_2 14 rfl rfl)
theorem dX4_goesTo_63 : decode cX4_goesTo 63 = .ok (.iload_n 3, 1) := dk_29 (dk_at dksX4_goesTo_2 15 rfl rfl)
theorem dX4_goesTo_64 : decode cX4_goesTo 64 = .ok (.iconst 1, 1) := dk_4 (dk_at dksX4_goesTo_2 16 rfl rfl)
theorem dX4_goesTo_65 : decode cX4_goesTo 65 = .ok (.invokevirtual 200, 3) := dk_182 0 200 (dk_at dksX4_goesTo_2 17 rfl rfl)
theorem dX4_goesTo_68 : decode cX4_goesTo 68 = .ok (.ifCond .ne 5, 3) := dk_154 0 5 (dk_at dksX4_goesTo_2 20 rfl rfl)
theorem dX4_goesTo_71 : decode cX4_goesTo 71 = .ok (.iconst 0, 1) := dk_3 (dk_at dksX4_goesTo_2 23 rfl rfl)
theorem dX4_goesTo_72 : decode cX4_goesTo 72 = .ok (.ireturn, 1) := dk_172 (dk_at dksX4_goesTo_3 0 rfl rfl)
theorem dX4_goesTo_73 : decode cX4_goesTo 73 = .ok (.aload_n 0, 1) := dk_42 (dk_at dksX4_goesTo_3 1 rfl rfl)
theorem dX4_goesTo_74 : decode cX4_goesTo 74 = .ok (.aload_n 0, 1) := dk_42 (dk_at dksX4_goesTo_3 2 rfl rfl)
theorem dX4_goesTo_75 : decode cX4_goesTo 75 = .ok (.getfield 13, 3) := dk_180 0 13 (dk_at dksX4_goesTo_3 3 rfl rfl)
theorem dX4_goesTo_78 : decode cX4_goesTo 78 = .ok (.iload_n 3, 1) := dk_29 (dk_at dksX4_goesTo_3 6 rfl rfl)
theorem dX4_goesTo_79 : decode cX4_goesTo 79 = .ok (.iaload, 1) := dk_46 (dk_at dksX4_goesTo_3 7 rfl rfl)
theorem dX4_goesTo_80 : decode cX4_goesTo 80 = .ok (.iconst 1, 1) := dk_4 (dk_at dksX4_goesTo_3 8 rfl rfl)
theorem dX4_goesTo_81 : decode cX4_goesTo 81 = .ok (.isub, 1) := dk_100 (dk_at dksX4_goesTo_3 9 rfl rfl)
theorem dX4_goesTo_82 : decode cX4_goesTo 82 = .ok (.putfield 194, 3) := dk_181 0 194 (dk_at dksX4_goesTo_3 10 rfl rfl)
theorem dX4_goesTo_85 : decode cX4_goesTo 85 = .ok (.iconst 1, 1) := dk_4 (dk_at dksX4_goesTo_3 13 rfl rfl)
theorem dX4_goesTo_86 : decode cX4_goesTo 86 = .ok (.ireturn, 1) := dk_172 (dk_at dksX4_goesTo_3 14 rfl rfl)
theorem dX4_goesTo_87 : decode cX4_goesTo 87 = .ok (.aload_n 0, 1) := dk_42 (dk_at dksX4_goesTo_3 15 rfl rfl)
theorem dX4_goesTo_88 : decode cX4_goesTo 88 = .ok (.iload_n 3, 1) := dk_29 (dk_at dksX4_goesTo_3 16 rfl rfl)
theorem dX4_goesTo_89 : decode cX4_goesTo 89 = .ok (.invokevirtual 204, 3) := dk_182 0 204 (dk_at dksX4_goesTo_3 17 rfl rfl)
theorem dX4_goesTo_92 : decode cX4_goesTo 92 = .ok (.istore 5, 2) := dk_54 5 (dk_at dksX4_goesTo_3 20 rfl rfl)
theorem dX4_goesTo_94 : decode cX4_goesTo 94 = .ok (.iload 5, 2) := dk_21 5 (dk_at dksX4_goesTo_3 22 rfl rfl)
theorem dX4_goesTo_96 : decode cX4_goesTo 96 = .ok (.ifCond .ne 5, 3) := dk_154 0 5 (dk_at dksX4_goesTo_4 0 rfl rfl)
theorem dX4_goesTo_99 : decode cX4_goesTo 99 = .ok (.iconst 0, 1) := dk_3 (dk_at dksX4_goesTo_4 3 rfl rfl)
theorem dX4_goesTo_100 : decode cX4_goesTo 100 = .ok (.ireturn, 1) := dk_172 (dk_at dksX4_goesTo_4 4 rfl rfl)
theorem dX4_goesTo_101 : decode cX4_goesTo 101 = .ok (.iload_n 1, 1) := dk_27 (dk_at dksX4_goesTo_4 5 rfl rfl)
theorem dX4_goesTo_102 : decode cX4_goesTo 102 = .ok (.iconst 4, 1) := dk_7 (dk_at dksX4_goesTo_4 6 rfl rfl)
theorem dX4_goesTo_103 : decode cX4_goesTo 103 = .ok (.if_icmp .ne 21, 3) := dk_160 0 21 (dk_at dksX4_goesTo_4 7 rfl rfl)
theorem dX4_goesTo_106 : decode cX4_goesTo 106 = .ok (.bipush 10, 2) := dk_16 10 (dk_at dksX4_goesTo_4 10 rfl rfl)
theorem dX4_goesTo_108 : decode cX4_goesTo 108 = .ok (.iload 5, 2) := dk_21 5 (dk_at dksX4_goesTo_4 12 rfl rfl)
theorem dX4_goesTo_110 : decode cX4_goesTo 110 = .ok (.imul, 1) := dk_104 (dk_at dksX4_goesTo_4 14 rfl rfl)
theorem dX4_goesTo_111 : decode cX4_goesTo 111 = .ok (.iload_n 2, 1) := dk_28 (dk_at dksX4_goesTo_4 15 rfl rfl)
theorem dX4_goesTo_112 : decode cX4_goesTo 112 = .ok (.iload 4, 2) := dk_21 4 (dk_at dksX4_goesTo_4 16 rfl rfl)
theorem dX4_goesTo_114 : decode cX4_goesTo 114 = .ok (.imul, 1) := dk_104 (dk_at dksX4_goesTo_4 18 rfl rfl)
theorem dX4_goesTo_115 : decode cX4_goesTo 115 = .ok (.if_icmp .lt 7, 3) := dk_161 0 7 (dk_at dksX4_goesTo_4 19 rfl rfl)
theorem dX4_goesTo_118 : decode cX4_goesTo 118 = .ok (.iconst 1, 1) := dk_4 (dk_at dksX4_goesTo_4 22 rfl rfl)
theorem dX4_goesTo_119 : decode cX4_goesTo 119 = .ok (.goto 4, 3) := dk_167 0 4 (dk_at dksX4_goesTo_5 0 rfl rfl)
theorem dX4_goesTo_122 : decode cX4_goesTo 122 = .ok (.iconst 0, 1) := dk_3 (dk_at dksX4_goesTo_5 3 rfl rfl)
theorem dX4_goesTo_123 : decode cX4_goesTo 123 = .ok (.ireturn, 1) := dk_172 (dk_at dksX4_goesTo_5 4 rfl rfl)
theorem dX4_goesTo_124 : decode cX4_goesTo 124 = .ok (.iload_n 1, 1) := dk_27 (dk_at dksX4_goesTo_5 5 rfl rfl)
theorem dX4_goesTo_125 : decode cX4_goesTo 125 = .ok (.iconst 2, 1) := dk_5 (dk_at dksX4_goesTo_5 6 rfl rfl)
theorem dX4_goesTo_126 : decode cX4_goesTo 126 = .ok (.if_icmp .eq 8, 3) := dk_159 0 8 (dk_at dksX4_goesTo_5 7 rfl rfl)
theorem dX4_goesTo_129 : decode cX4_goesTo 129 = .ok (.iload_n 1, 1) := dk_27 (dk_at dksX4_goesTo_5 10 rfl rfl)
theorem dX4_goesTo_130 : decode cX4_goesTo 130 = .ok (.iconst 5, 1) := dk_8 (dk_at dksX4_goesTo_5 11 rfl rfl)
theorem dX4_goesTo_131 : decode cX4_goesTo 131 = .ok (.if_icmp .ne 44, 3) := dk_160 0 44 (dk_at dksX4_goesTo_5 12 rfl rfl)
theorem dX4_goesTo_134 : decode cX4_goesTo 134 = .ok (.iload 5, 2) := dk_21 5 (dk_at dksX4_goesTo_5 15 rfl rfl)
theorem dX4_goesTo_136 : decode cX4_goesTo 136 = .ok (.iload 4, 2) := dk_21 4 (dk_at dksX4_goesTo_5 17 rfl rfl)
theorem dX4_goesTo_138 : decode cX4_goesTo 138 = .ok (.if_icmp .ne 35, 3) := dk_160 0 35 (dk_at dksX4_goesTo_5 19 rfl rfl)
theorem dX4_goesTo_141 : decode cX4_goesTo 141 = .ok (.aload_n 0, 1) := dk_42 (dk_at dksX4_goesTo_5 22 rfl rfl)
theorem dX4_goesTo_142 : decode cX4_goesTo 142 = .ok (.getfield 194, 3) := dk_180 0 194 (dk_at dksX4_goesTo_6 0 rfl rfl)
theorem dX4_goesTo_145 : decode cX4_goesTo 145 = .ok (.aload_n 0, 1) := dk_42 (dk_at dksX4_goesTo_6 3 rfl rfl)
theorem dX4_goesTo_146 : decode cX4_goesTo 146 = .ok (.getfield 191, 3) := dk_180 0 191 (dk_at dksX4_goesTo_6 4 rfl rfl)
theorem dX4_goesTo_149 : decode cX4_goesTo 149 = .ok (.isub, 1) := dk_100 (dk_at dksX4_goesTo_6 7 rfl rfl)
theorem dX4_goesTo_150 : decode cX4_goesTo 150 = .ok (.iconst 1, 1) := dk_4 (dk_at dksX4_goesTo_6 8 rfl rfl)
theorem dX4_goesTo_151 : decode cX4_goesTo 151 = .ok (.iadd, 1) := dk_96 (dk_at dksX4_goesTo_6 9 rfl rfl)
theorem dX4_goesTo_152 : decode cX4_goesTo 152 = .ok (.iload_n 1, 1) := dk_27 (dk_at dksX4_goesTo_6 10 rfl rfl)
theorem dX4_goesTo_153 : decode cX4_goesTo 153 = .ok (.iconst 5, 1) := dk_8 (dk_at dksX4_goesTo_6 11 rfl rfl)
theorem dX4_goesTo_154 : decode cX4_goesTo 154 = .ok (.if_icmp .ne 10, 3) := dk_160 0 10 (dk_at dksX4_goesTo_6 12 rfl rfl)
theorem dX4_goesTo_157 : decode cX4_goesTo 157 = .ok (.iload 4, 2) := dk_21 4 (dk_at dksX4_goesTo_6 15 rfl rfl)
theorem dX4_goesTo_159 : decode cX4_goesTo 159 = .ok (.iload_n 2, 1) := dk_28 (dk_at dksX4_goesTo_6 17 rfl rfl)
theorem dX4_goesTo_160 : decode cX4_goesTo 160 = .ok (.iadd, 1) := dk_96 (dk_at dksX4_goesTo_6 18 rfl rfl)
theorem dX4_goesTo_161 : decode cX4_goesTo 161 = .ok (.goto 5, 3) := dk_167 0 5 (dk_at dksX4_goesTo_6 19 rfl rfl)
theorem dX4_goesTo_164 : decode cX4_goesTo 164 = .ok (.iload 4, 2) := dk_21 4 (dk_at dksX4_goesTo_6 22 rfl rfl)
theorem dX4_goesTo_166 : decode cX4_goesTo 166 = .ok (.if_icmp .gt 7, 3) := dk_163 0 7 (dk_at dksX4_goesTo_7 0 rfl rfl)
theorem dX4_goesTo_169 : decode cX4_goesTo 169 = .ok (.iconst 1, 1) := dk_4 (dk_at dksX4_goesTo_7 3 rfl rfl)
theorem dX4_goesTo_170 : decode cX4_goesTo 170 = .ok (.goto 4, 3) := dk_167 0 4 (dk_at dksX4_goesTo_7 4 rfl rfl)
theorem dX4_goesTo_173 : decode cX4_goesTo 173 = .ok (.iconst 0, 1) := dk_3 (dk_at dksX4_goesTo_7 7 rfl rfl)
theorem dX4_goesTo_174 : decode cX4_goesTo 174 = .ok (.ireturn, 1) := dk_172 (dk_at dksX4_goesTo_7 8 rfl rfl)
theorem dX4_goesTo_175 : decode cX4_goesTo 175 = .ok (.iconst 1, 1) := dk_4 (dk_at dksX4_goesTo_7 9 rfl rfl)
theorem dX4_goesTo_176 : decode cX4_goesTo 176 = .ok (.ireturn, 1) := dk_172 (dk_at dksX4_goesTo_7 10 rfl rfl)
abbrev cX4_followsAsPoint : ByteArray := prog_28_method_50_code
def yX4_followsAsPoint : MethodName := ⟨RX4, "followsAsPoint", "(IZ)Z"⟩
def dkwX4_followsAsPoint_3 : List UInt8 := [172]
abbrev dktX4_followsAsPoint_3 : List UInt8 := dkwX4_followsAsPoint_3 ++ []
def dkwX4_followsAsPoint_2 : List UInt8 := [181, 0, 191, 42, 42, 180, 0, 191, 181, 0, 194, 42, 180, 0, 191, 2, 159, 0, 7, 4, 167, 0, 4, 3]
abbrev dktX4_followsAsPoint_2 : List UInt8 := dkwX4_followsAsPoint_2 ++ dktX4_followsAsPoint_3
def dkwX4_followsAsPoint_1 : List UInt8 := [2, 160, 0, 9, 132, 3, 255, 167, 255, 230, 42, 42, 180, 0, 20, 16, 24, 27, 104, 29, 96, 46]
abbrev dktX4_followsAsPoint_1 : List UInt8 := dkwX4_followsAsPoint_1 ++ dktX4_followsAsPoint_2
def dkwX4_followsAsPoint_0 : List UInt8 := [42, 180, 0, 191, 62, 28, 153, 0, 28, 29, 158, 0, 24, 42, 180, 0, 20, 16, 24, 27, 104, 29, 96, 46]
abbrev dktX4_followsAsPoint_0 : List UInt8 := dkwX4_followsAsPoint_0 ++ dktX4_followsAsPoint_1
theorem dksX4_followsAsPoint_0 : cX4_followsAsPoint.data.toList.drop 0 = dktX4_followsAsPoint_0 := by decide +kernel
theorem dksX4_followsAsPoint_1 : cX4_followsAsPoint.data.toList.drop 24 = dktX4_followsAsPoint_1 := dk_seg dksX4_followsAsPoint_0 24 rfl rfl
theorem dksX4_followsAsPoint_2 : cX4_followsAsPoint.data.toList.drop 46 = dktX4_followsAsPoint_2 := dk_seg dksX4_followsAsPoint_1 22 rfl rfl
theorem dksX4_followsAsPoint_3 : cX4_followsAsPoint.data.toList.drop 70 = dktX4_followsAsPoint_3 := dk_seg dksX4_followsAsPoint_2 24 rfl rfl
theorem dX4_followsAsPoint_0 : decode cX4_followsAsPoint 0 = .ok (.aload_n 0, 1) := dk_42 (dk_at dksX4_followsAsPoint_0 0 rfl rfl)
theorem dX4_followsAsPoint_1 : decode cX4_followsAsPoint 1 = .ok (.getfield 191, 3) := dk_180 0 191 (dk_at dksX4_followsAsPoint_0 1 rfl rfl)
theorem dX4_followsAsPoint_4 : decode cX4_followsAsPoint 4 = .ok (.istore_n 3, 1) := dk_62 (dk_at dksX4_followsAsPoint_0 4 rfl rfl)
theorem dX4_followsAsPoint_5 : decode cX4_followsAsPoint 5 = .ok (.iload_n 2, 1) := dk_28 (dk_at dksX4_followsAsPoint_0 5 rfl rfl)
theorem dX4_followsAsPoint_6 : decode cX4_followsAsPoint 6 = .ok (.ifCond .eq 28, 3) := dk_153 0 28 (dk_at dksX4_followsAsPoint_0 6 rfl rfl)
theorem dX4_followsAsPoint_9 : decode cX4_followsAsPoint 9 = .ok (.iload_n 3, 1) := dk_29 (dk_at dksX4_followsAsPoint_0 9 rfl rfl)
theorem dX4_followsAsPoint_10 : decode cX4_followsAsPoint 10 = .ok (.ifCond .le 24, 3) := dk_158 0 24 (dk_at dksX4_followsAsPoint_0 10 rfl rfl)
theorem dX4_followsAsPoint_13 : decode cX4_followsAsPoint 13 = .ok (.aload_n 0, 1) := dk_42 (dk_at dksX4_followsAsPoint_0 13 rfl rfl)
theorem dX4_followsAsPoint_14 : decode cX4_followsAsPoint 14 = .ok (.getfield 20, 3) := dk_180 0 20 (dk_at dksX4_followsAsPoint_0 14 rfl rfl)
theorem dX4_followsAsPoint_17 : decode cX4_followsAsPoint 17 = .ok (.bipush 24, 2) := dk_16 24 (dk_at dksX4_followsAsPoint_0 17 rfl rfl)
theorem dX4_followsAsPoint_19 : decode cX4_followsAsPoint 19 = .ok (.iload_n 1, 1) := dk_27 (dk_at dksX4_followsAsPoint_0 19 rfl rfl)
theorem dX4_followsAsPoint_20 : decode cX4_followsAsPoint 20 = .ok (.imul, 1) := dk_104 (dk_at dksX4_followsAsPoint_0 20 rfl rfl)
theorem dX4_followsAsPoint_21 : decode cX4_followsAsPoint 21 = .ok (.iload_n 3, 1) := dk_29 (dk_at dksX4_followsAsPoint_0 21 rfl rfl)
theorem dX4_followsAsPoint_22 : decode cX4_followsAsPoint 22 = .ok (.iadd, 1) := dk_96 (dk_at dksX4_followsAsPoint_0 22 rfl rfl)
theorem dX4_followsAsPoint_23 : decode cX4_followsAsPoint 23 = .ok (.iaload, 1) := dk_46 (dk_at dksX4_followsAsPoint_0 23 rfl rfl)
theorem dX4_followsAsPoint_24 : decode cX4_followsAsPoint 24 = .ok (.iconst (-1), 1) := dk_2 (dk_at dksX4_followsAsPoint_1 0 rfl rfl)
theorem dX4_followsAsPoint_25 : decode cX4_followsAsPoint 25 = .ok (.if_icmp .ne 9, 3) := dk_160 0 9 (dk_at dksX4_followsAsPoint_1 1 rfl rfl)
theorem dX4_followsAsPoint_28 : decode cX4_followsAsPoint 28 = .ok (.iinc 3 (-1), 3) := dk_132 3 255 (dk_at dksX4_followsAsPoint_1 4 rfl rfl)
theorem dX4_followsAsPoint_31 : decode cX4_followsAsPoint 31 = .ok (.goto (-26), 3) := dk_167 255 230 (dk_at dksX4_followsAsPoint_1 7 rfl rfl)
theorem dX4_followsAsPoint_34 : decode cX4_followsAsPoint 34 = .ok (.aload_n 0, 1) := dk_42 (dk_at dksX4_followsAsPoint_1 10 rfl rfl)
theorem dX4_followsAsPoint_35 : decode cX4_followsAsPoint 35 = .ok (.aload_n 0, 1) := dk_42 (dk_at dksX4_followsAsPoint_1 11 rfl rfl)
theorem dX4_followsAsPoint_36 : decode cX4_followsAsPoint 36 = .ok (.getfield 20, 3) := dk_180 0 20 (dk_at dksX4_followsAsPoint_1 12 rfl rfl)
theorem dX4_followsAsPoint_39 : decode cX4_followsAsPoint 39 = .ok (.bipush 24, 2) := dk_16 24 (dk_at dksX4_followsAsPoint_1 15 rfl rfl)
theorem dX4_followsAsPoint_41 : decode cX4_followsAsPoint 41 = .ok (.iload_n 1, 1) := dk_27 (dk_at dksX4_followsAsPoint_1 17 rfl rfl)
theorem dX4_followsAsPoint_42 : decode cX4_followsAsPoint 42 = .ok (.imul, 1) := dk_104 (dk_at dksX4_followsAsPoint_1 18 rfl rfl)
theorem dX4_followsAsPoint_43 : decode cX4_followsAsPoint 43 = .ok (.iload_n 3, 1) := dk_29 (dk_at dksX4_followsAsPoint_1 19 rfl rfl)
theorem dX4_followsAsPoint_44 : decode cX4_followsAsPoint 44 = .ok (.iadd, 1) := dk_96 (dk_at dksX4_followsAsPoint_1 20 rfl rfl)
theorem dX4_followsAsPoint_45 : decode cX4_followsAsPoint 45 = .ok (.iaload, 1) := dk_46 (dk_at dksX4_followsAsPoint_1 21 rfl rfl)
theorem dX4_followsAsPoint_46 : decode cX4_followsAsPoint 46 = .ok (.putfield 191, 3) := dk_181 0 191 (dk_at dksX4_followsAsPoint_2 0 rfl rfl)
theorem dX4_followsAsPoint_49 : decode cX4_followsAsPoint 49 = .ok (.aload_n 0, 1) := dk_42 (dk_at dksX4_followsAsPoint_2 3 rfl rfl)
theorem dX4_followsAsPoint_50 : decode cX4_followsAsPoint 50 = .ok (.aload_n 0, 1) := dk_42 (dk_at dksX4_followsAsPoint_2 4 rfl rfl)
theorem dX4_followsAsPoint_51 : decode cX4_followsAsPoint 51 = .ok (.getfield 191, 3) := dk_180 0 191 (dk_at dksX4_followsAsPoint_2 5 rfl rfl)
theorem dX4_followsAsPoint_54 : decode cX4_followsAsPoint 54 = .ok (.putfield 194, 3) := dk_181 0 194 (dk_at dksX4_followsAsPoint_2 8 rfl rfl)
theorem dX4_followsAsPoint_57 : decode cX4_followsAsPoint 57 = .ok (.aload_n 0, 1) := dk_42 (dk_at dksX4_followsAsPoint_2 11 rfl rfl)
theorem dX4_followsAsPoint_58 : decode cX4_followsAsPoint 58 = .ok (.getfield 191, 3) := dk_180 0 191 (dk_at dksX4_followsAsPoint_2 12 rfl rfl)
theorem dX4_followsAsPoint_61 : decode cX4_followsAsPoint 61 = .ok (.iconst (-1), 1) := dk_2 (dk_at dksX4_followsAsPoint_2 15 rfl rfl)
theorem dX4_followsAsPoint_62 : decode cX4_followsAsPoint 62 = .ok (.if_icmp .eq 7, 3) := dk_159 0 7 (dk_at dksX4_followsAsPoint_2 16 rfl rfl)
theorem dX4_followsAsPoint_65 : decode cX4_followsAsPoint 65 = .ok (.iconst 1, 1) := dk_4 (dk_at dksX4_followsAsPoint_2 19 rfl rfl)
theorem dX4_followsAsPoint_66 : decode cX4_followsAsPoint 66 = .ok (.goto 4, 3) := dk_167 0 4 (dk_at dksX4_followsAsPoint_2 20 rfl rfl)
theorem dX4_followsAsPoint_69 : decode cX4_followsAsPoint 69 = .ok (.iconst 0, 1) := dk_3 (dk_at dksX4_followsAsPoint_2 23 rfl rfl)
theorem dX4_followsAsPoint_70 : decode cX4_followsAsPoint 70 = .ok (.ireturn, 1) := dk_172 (dk_at dksX4_followsAsPoint_3 0 rfl rfl)
abbrev cX4_follows : ByteArray := prog_28_method_49_code
def yX4_follows : MethodName := ⟨RX4, "follows", "(I)I"⟩
def dkwX4_follows_3 : List UInt8 := [132, 4, 1, 132, 5, 1, 167, 255, 194, 42, 28, 181, 0, 191, 42, 29, 181, 0, 194, 21, 4, 172]
abbrev dktX4_follows_3 : List UInt8 := dkwX4_follows_3 ++ []
def dkwX4_follows_2 : List UInt8 := [154, 0, 8, 21, 6, 167, 0, 9, 28, 21, 6, 184, 0, 197, 61, 29, 21, 6, 184, 0, 145, 62]
abbrev dktX4_follows_2 : List UInt8 := dkwX4_follows_2 ++ dktX4_follows_3
def dkwX4_follows_1 : List UInt8 := [180, 0, 20, 16, 24, 27, 104, 21, 5, 96, 46, 54, 6, 21, 6, 2, 160, 0, 6, 167, 0, 30, 21, 4]
abbrev dktX4_follows_1 : List UInt8 := dkwX4_follows_1 ++ dktX4_follows_2
def dkwX4_follows_0 : List UInt8 := [2, 61, 2, 62, 3, 54, 4, 42, 180, 0, 191, 54, 5, 21, 5, 42, 180, 0, 194, 163, 0, 59, 42]
abbrev dktX4_follows_0 : List UInt8 := dkwX4_follows_0 ++ dktX4_follows_1
theorem dksX4_follows_0 : cX4_follows.data.toList.drop 0 = dktX4_follows_0 := by decide +kernel
theorem dksX4_follows_1 : cX4_follows.data.toList.drop 23 = dktX4_follows_1 := dk_seg dksX4_follows_0 23 rfl rfl
theorem dksX4_follows_2 : cX4_follows.data.toList.drop 47 = dktX4_follows_2 := dk_seg dksX4_follows_1 24 rfl rfl
theorem dksX4_follows_3 : cX4_follows.data.toList.drop 69 = dktX4_follows_3 := dk_seg dksX4_follows_2 22 rfl rfl
theorem dX4_follows_0 : decode cX4_follows 0 = .ok (.iconst (-1), 1) := dk_2 (dk_at dksX4_follows_0 0 rfl rfl)
theorem dX4_follows_1 : decode cX4_follows 1 = .ok (.istore_n 2, 1) := dk_61 (dk_at dksX4_follows_0 1 rfl rfl)
theorem dX4_follows_2 : decode cX4_follows 2 = .ok (.iconst (-1), 1) := dk_2 (dk_at dksX4_follows_0 2 rfl rfl)
theorem dX4_follows_3 : decode cX4_follows 3 = .ok (.istore_n 3, 1) := dk_62 (dk_at dksX4_follows_0 3 rfl rfl)
theorem dX4_follows_4 : decode cX4_follows 4 = .ok (.iconst 0, 1) := dk_3 (dk_at dksX4_follows_0 4 rfl rfl)
theorem dX4_follows_5 : decode cX4_follows 5 = .ok (.istore 4, 2) := dk_54 4 (dk_at dksX4_follows_0 5 rfl rfl)
theorem dX4_follows_7 : decode cX4_follows 7 = .ok (.aload_n 0, 1) := dk_42 (dk_at dksX4_follows_0 7 rfl rfl)
theorem dX4_follows_8 : decode cX4_follows 8 = .ok (.getfield 191, 3) := dk_180 0 191 (dk_at dksX4_follows_0 8 rfl rfl)
theorem dX4_follows_11 : decode cX4_follows 11 = .ok (.istore 5, 2) := dk_54 5 (dk_at dksX4_follows_0 11 rfl rfl)
theorem dX4_follows_13 : decode cX4_follows 13 = .ok (.iload 5, 2) := dk_21 5 (dk_at dksX4_follows_0 13 rfl rfl)
theorem dX4_follows_15 : decode cX4_follows 15 = .ok (.aload_n 0, 1) := dk_42 (dk_at dksX4_follows_0 15 rfl rfl)
theorem dX4_follows_16 : decode cX4_follows 16 = .ok (.getfield 194, 3) := dk_180 0 194 (dk_at dksX4_follows_0 16 rfl rfl)
theorem dX4_follows_19 : decode cX4_follows 19 = .ok (.if_icmp .gt 59, 3) := dk_163 0 59 (dk_at dksX4_follows_0 19 rfl rfl)
theorem dX4_follows_22 : decode cX4_follows 22 = .ok (.aload_n 0, 1) := dk_42 (dk_at dksX4_follows_0 22 rfl rfl)
theorem dX4_follows_23 : decode cX4_follows 23 = .ok (.getfield 20, 3) := dk_180 0 20 (dk_at dksX4_follows_1 0 rfl rfl)
theorem dX4_follows_26 : decode cX4_follows 26 = .ok (.bipush 24, 2) := dk_16 24 (dk_at dksX4_follows_1 3 rfl rfl)
theorem dX4_follows_28 : decode cX4_follows 28 = .ok (.iload_n 1, 1) := dk_27 (dk_at dksX4_follows_1 5 rfl rfl)
theorem dX4_follows_29 : decode cX4_follows 29 = .ok (.imul, 1) := dk_104 (dk_at dksX4_follows_1 6 rfl rfl)
theorem dX4_follows_30 : decode cX4_follows 30 = .ok (.iload 5, 2) := dk_21 5 (dk_at dksX4_follows_1 7 rfl rfl)
theorem dX4_follows_32 : decode cX4_follows 32 = .ok (.iadd, 1) := dk_96 (dk_at dksX4_follows_1 9 rfl rfl)
theorem dX4_follows_33 : decode cX4_follows 33 = .ok (.iaload, 1) := dk_46 (dk_at dksX4_follows_1 10 rfl rfl)
theorem dX4_follows_34 : decode cX4_follows 34 = .ok (.istore 6, 2) := dk_54 6 (dk_at dksX4_follows_1 11 rfl rfl)
theorem dX4_follows_36 : decode cX4_follows 36 = .ok (.iload 6, 2) := dk_21 6 (dk_at dksX4_follows_1 13 rfl rfl)
theorem dX4_follows_38 : decode cX4_follows 38 = .ok (.iconst (-1), 1) := dk_2 (dk_at dksX4_follows_1 15 rfl rfl)
theorem dX4_follows_39 : decode cX4_follows 39 = .ok (.if_icmp .ne 6, 3) := dk_160 0 6 (dk_at dksX4_follows_1 16 rfl rfl)
theorem dX4_follows_42 : decode cX4_follows 42 = .ok (.goto 30, 3) := dk_167 0 30 (dk_at dksX4_follows_1 19 rfl rfl)
theorem dX4_follows_45 : decode cX4_follows 45 = .ok (.iload 4, 2) := dk_21 4 (dk_at dksX4_follows_1 22 rfl rfl)
theorem dX4_follows_47 : decode cX4_follows 47 = .ok (.ifCond .ne 8, 3) := dk_154 0 8 (dk_at dksX4_follows_2 0 rfl rfl)
theorem dX4_follows_50 : decode cX4_follows 50 = .ok (.iload 6, 2) := dk_21 6 (dk_at dksX4_follows_2 3 rfl rfl)
theorem dX4_follows_52 : decode cX4_follows 52 = .ok (.goto 9, 3) := dk_167 0 9 (dk_at dksX4_follows_2 5 rfl rfl)
theorem dX4_follows_55 : decode cX4_follows 55 = .ok (.iload_n 2, 1) := dk_28 (dk_at dksX4_follows_2 8 rfl rfl)
theorem dX4_follows_56 : decode cX4_follows 56 = .ok (.iload 6, 2) := dk_21 6 (dk_at dksX4_follows_2 9 rfl rfl)
theorem dX4_follows_58 : decode cX4_follows 58 = .ok (.invokestatic 197, 3) := dk_184 0 197 (dk_at dksX4_follows_2 11 rfl rfl)
theorem dX4_follows_61 : decode cX4_follows 61 = .ok (.istore_n 2, 1) := dk_61 (dk_at dksX4_follows_2 14 rfl rfl)
theorem dX4_follows_62 : decode cX4_follows 62 = .ok (.iload_n 3, 1) := dk_29 (dk_at dksX4_follows_2 15 rfl rfl)
theorem dX4_follows_63 : decode cX4_follows 63 = .ok (.iload 6, 2) := dk_21 6 (dk_at dksX4_follows_2 16 rfl rfl)
theorem dX4_follows_65 : decode cX4_follows 65 = .ok (.invokestatic 145, 3) := dk_184 0 145 (dk_at dksX4_follows_2 18 rfl rfl)
theorem dX4_follows_68 : decode cX4_follows 68 = .ok (.istore_n 3, 1) := dk_62 (dk_at dksX4_follows_2 21 rfl rfl)
theorem dX4_follows_69 : decode cX4_follows 69 = .ok (.iinc 4 1, 3) := dk_132 4 1 (dk_at dksX4_follows_3 0 rfl rfl)
theorem dX4_follows_72 : decode cX4_follows 72 = .ok (.iinc 5 1, 3) := dk_132 5 1 (dk_at dksX4_follows_3 3 rfl rfl)
theorem dX4_follows_75 : decode cX4_follows 75 = .ok (.goto (-62), 3) := dk_167 255 194 (dk_at dksX4_follows_3 6 rfl rfl)
theorem dX4_follows_78 : decode cX4_follows 78 = .ok (.aload_n 0, 1) := dk_42 (dk_at dksX4_follows_3 9 rfl rfl)
theorem dX4_follows_79 : decode cX4_follows 79 = .ok (.iload_n 2, 1) := dk_28 (dk_at dksX4_follows_3 10 rfl rfl)
theorem dX4_follows_80 : decode cX4_follows 80 = .ok (.putfield 191, 3) := dk_181 0 191 (dk_at dksX4_follows_3 11 rfl rfl)
theorem dX4_follows_83 : decode cX4_follows 83 = .ok (.aload_n 0, 1) := dk_42 (dk_at dksX4_follows_3 14 rfl rfl)
theorem dX4_follows_84 : decode cX4_follows 84 = .ok (.iload_n 3, 1) := dk_29 (dk_at dksX4_follows_3 15 rfl rfl)
theorem dX4_follows_85 : decode cX4_follows 85 = .ok (.putfield 194, 3) := dk_181 0 194 (dk_at dksX4_follows_3 16 rfl rfl)
theorem dX4_follows_88 : decode cX4_follows 88 = .ok (.iload 4, 2) := dk_21 4 (dk_at dksX4_follows_3 19 rfl rfl)
theorem dX4_follows_90 : decode cX4_follows 90 = .ok (.ireturn, 1) := dk_172 (dk_at dksX4_follows_3 21 rfl rfl)
abbrev cX4_looks : ByteArray := prog_28_method_54_code
def yX4_looks : MethodName := ⟨RX4, "looks", "(I)V"⟩
def dkwX4_looks_5 : List UInt8 := [132, 2, 1, 167, 255, 211, 177]
abbrev dktX4_looks_5 : List UInt8 := dkwX4_looks_5 ++ []
def dkwX4_looks_4 : List UInt8 := [180, 0, 219, 42, 27, 28, 182, 0, 225, 100, 42, 180, 0, 26, 5, 46, 162, 0, 8, 42, 3, 181, 0, 228]
abbrev dktX4_looks_4 : List UInt8 := dkwX4_looks_4 ++ dktX4_looks_5
def dkwX4_looks_3 : List UInt8 := [181, 0, 228, 3, 61, 28, 42, 27, 182, 0, 222, 162, 0, 42, 28, 42, 180, 0, 216, 159, 0, 28, 42]
abbrev dktX4_looks_3 : List UInt8 := dkwX4_looks_3 ++ dktX4_looks_4
def dkwX4_looks_2 : List UInt8 := [181, 0, 216, 132, 2, 1, 167, 255, 216, 42, 42, 180, 0, 216, 2, 159, 0, 7, 4, 167, 0, 4, 3]
abbrev dktX4_looks_2 : List UInt8 := dkwX4_looks_2 ++ dktX4_looks_3
def dkwX4_looks_1 : List UInt8 := [182, 0, 225, 62, 29, 42, 180, 0, 219, 163, 0, 6, 167, 0, 13, 42, 29, 181, 0, 219, 42, 28]
abbrev dktX4_looks_1 : List UInt8 := dkwX4_looks_1 ++ dktX4_looks_2
def dkwX4_looks_0 : List UInt8 := [42, 2, 181, 0, 216, 42, 2, 181, 0, 219, 3, 61, 28, 42, 27, 182, 0, 222, 162, 0, 37, 42, 27, 28]
abbrev dktX4_looks_0 : List UInt8 := dkwX4_looks_0 ++ dktX4_looks_1
theorem dksX4_looks_0 : cX4_looks.data.toList.drop 0 = dktX4_looks_0 := by decide +kernel
theorem dksX4_looks_1 : cX4_looks.data.toList.drop 24 = dktX4_looks_1 := dk_seg dksX4_looks_0 24 rfl rfl
theorem dksX4_looks_2 : cX4_looks.data.toList.drop 46 = dktX4_looks_2 := dk_seg dksX4_looks_1 22 rfl rfl
theorem dksX4_looks_3 : cX4_looks.data.toList.drop 69 = dktX4_looks_3 := dk_seg dksX4_looks_2 23 rfl rfl
theorem dksX4_looks_4 : cX4_looks.data.toList.drop 92 = dktX4_looks_4 := dk_seg dksX4_looks_3 23 rfl rfl
theorem dksX4_looks_5 : cX4_looks.data.toList.drop 116 = dktX4_looks_5 := dk_seg dksX4_looks_4 24 rfl rfl
theorem dX4_looks_0 : decode cX4_looks 0 = .ok (.aload_n 0, 1) := dk_42 (dk_at dksX4_looks_0 0 rfl rfl)
theorem dX4_looks_1 : decode cX4_looks 1 = .ok (.iconst (-1), 1) := dk_2 (dk_at dksX4_looks_0 1 rfl rfl)
theorem dX4_looks_2 : decode cX4_looks 2 = .ok (.putfield 216, 3) := dk_181 0 216 (dk_at dksX4_looks_0 2 rfl rfl)
theorem dX4_looks_5 : decode cX4_looks 5 = .ok (.aload_n 0, 1) := dk_42 (dk_at dksX4_looks_0 5 rfl rfl)
theorem dX4_looks_6 : decode cX4_looks 6 = .ok (.iconst (-1), 1) := dk_2 (dk_at dksX4_looks_0 6 rfl rfl)
theorem dX4_looks_7 : decode cX4_looks 7 = .ok (.putfield 219, 3) := dk_181 0 219 (dk_at dksX4_looks_0 7 rfl rfl)
theorem dX4_looks_10 : decode cX4_looks 10 = .ok (.iconst 0, 1) := dk_3 (dk_at dksX4_looks_0 10 rfl rfl)
theorem dX4_looks_11 : decode cX4_looks 11 = .ok (.istore_n 2, 1) := dk_61 (dk_at dksX4_looks_0 11 rfl rfl)
theorem dX4_looks_12 : decode cX4_looks 12 = .ok (.iload_n 2, 1) := dk_28 (dk_at dksX4_looks_0 12 rfl rfl)
theorem dX4_looks_13 : decode cX4_looks 13 = .ok (.aload_n 0, 1) := dk_42 (dk_at dksX4_looks_0 13 rfl rfl)
theorem dX4_looks_14 : decode cX4_looks 14 = .ok (.iload_n 1, 1) := dk_27 (dk_at dksX4_looks_0 14 rfl rfl)
theorem dX4_looks_15 : decode cX4_looks 15 = .ok (.invokevirtual 222, 3) := dk_182 0 222 (dk_at dksX4_looks_0 15 rfl rfl)
theorem dX4_looks_18 : decode cX4_looks 18 = .ok (.if_icmp .ge 37, 3) := dk_162 0 37 (dk_at dksX4_looks_0 18 rfl rfl)
theorem dX4_looks_21 : decode cX4_looks 21 = .ok (.aload_n 0, 1) := dk_42 (dk_at dksX4_looks_0 21 rfl rfl)
theorem dX4_looks_22 : decode cX4_looks 22 = .ok (.iload_n 1, 1) := dk_27 (dk_at dksX4_looks_0 22 rfl rfl)
theorem dX4_looks_23 : decode cX4_looks 23 = .ok (.iload_n 2, 1) := dk_28 (dk_at dksX4_looks_0 23 rfl rfl)
theorem dX4_looks_24 : decode cX4_looks 24 = .ok (.invokevirtual 225, 3) := dk_182 0 225 (dk_at dksX4_looks_1 0 rfl rfl)
theorem dX4_looks_27 : decode cX4_looks 27 = .ok (.istore_n 3, 1) := dk_62 (dk_at dksX4_looks_1 3 rfl rfl)
theorem dX4_looks_28 : decode cX4_looks 28 = .ok (.iload_n 3, 1) := dk_29 (dk_at dksX4_looks_1 4 rfl rfl)
theorem dX4_looks_29 : decode cX4_looks 29 = .ok (.aload_n 0, 1) := dk_42 (dk_at dksX4_looks_1 5 rfl rfl)
theorem dX4_looks_30 : decode cX4_looks 30 = .ok (.getfield 219, 3) := dk_180 0 219 (dk_at dksX4_looks_1 6 rfl rfl)
theorem dX4_looks_33 : decode cX4_looks 33 = .ok (.if_icmp .gt 6, 3) := dk_163 0 6 (dk_at dksX4_looks_1 9 rfl rfl)
theorem dX4_looks_36 : decode cX4_looks 36 = .ok (.goto 13, 3) := dk_167 0 13 (dk_at dksX4_looks_1 12 rfl rfl)
theorem dX4_looks_39 : decode cX4_looks 39 = .ok (.aload_n 0, 1) := dk_42 (dk_at dksX4_looks_1 15 rfl rfl)
theorem dX4_looks_40 : decode cX4_looks 40 = .ok (.iload_n 3, 1) := dk_29 (dk_at dksX4_looks_1 16 rfl rfl)
theorem dX4_looks_41 : decode cX4_looks 41 = .ok (.putfield 219, 3) := dk_181 0 219 (dk_at dksX4_looks_1 17 rfl rfl)
theorem dX4_looks_44 : decode cX4_looks 44 = .ok (.aload_n 0, 1) := dk_42 (dk_at dksX4_looks_1 20 rfl rfl)
theorem dX4_looks_45 : decode cX4_looks 45 = .ok (.iload_n 2, 1) := dk_28 (dk_at dksX4_looks_1 21 rfl rfl)
theorem dX4_looks_46 : decode cX4_looks 46 = .ok (.putfield 216, 3) := dk_181 0 216 (dk_at dksX4_looks_2 0 rfl rfl)
theorem dX4_looks_49 : decode cX4_looks 49 = .ok (.iinc 2 1, 3) := dk_132 2 1 (dk_at dksX4_looks_2 3 rfl rfl)
theorem dX4_looks_52 : decode cX4_looks 52 = .ok (.goto (-40), 3) := dk_167 255 216 (dk_at dksX4_looks_2 6 rfl rfl)
theorem dX4_looks_55 : decode cX4_looks 55 = .ok (.aload_n 0, 1) := dk_42 (dk_at dksX4_looks_2 9 rfl rfl)
theorem dX4_looks_56 : decode cX4_looks 56 = .ok (.aload_n 0, 1) := dk_42 (dk_at dksX4_looks_2 10 rfl rfl)
theorem dX4_looks_57 : decode cX4_looks 57 = .ok (.getfield 216, 3) := dk_180 0 216 (dk_at dksX4_looks_2 11 rfl rfl)
theorem dX4_looks_60 : decode cX4_looks 60 = .ok (.iconst (-1), 1) := dk_2 (dk_at dksX4_looks_2 14 rfl rfl)
theorem dX4_looks_61 : decode cX4_looks 61 = .ok (.if_icmp .eq 7, 3) := dk_159 0 7 (dk_at dksX4_looks_2 15 rfl rfl)
theorem dX4_looks_64 : decode cX4_looks 64 = .ok (.iconst 1, 1) := dk_4 (dk_at dksX4_looks_2 18 rfl rfl)
theorem dX4_looks_65 : decode cX4_looks 65 = .ok (.goto 4, 3) := dk_167 0 4 (dk_at dksX4_looks_2 19 rfl rfl)
theorem dX4_looks_68 : decode cX4_looks 68 = .ok (.iconst 0, 1) := dk_3 (dk_at dksX4_looks_2 22 rfl rfl)
theorem dX4_looks_69 : decode cX4_looks 69 = .ok (.putfield 228, 3) := dk_181 0 228 (dk_at dksX4_looks_3 0 rfl rfl)
theorem dX4_looks_72 : decode cX4_looks 72 = .ok (.iconst 0, 1) := dk_3 (dk_at dksX4_looks_3 3 rfl rfl)
theorem dX4_looks_73 : decode cX4_looks 73 = .ok (.istore_n 2, 1) := dk_61 (dk_at dksX4_looks_3 4 rfl rfl)
theorem dX4_looks_74 : decode cX4_looks 74 = .ok (.iload_n 2, 1) := dk_28 (dk_at dksX4_looks_3 5 rfl rfl)
theorem dX4_looks_75 : decode cX4_looks 75 = .ok (.aload_n 0, 1) := dk_42 (dk_at dksX4_looks_3 6 rfl rfl)
theorem dX4_looks_76 : decode cX4_looks 76 = .ok (.iload_n 1, 1) := dk_27 (dk_at dksX4_looks_3 7 rfl rfl)
theorem dX4_looks_77 : decode cX4_looks 77 = .ok (.invokevirtual 222, 3) := dk_182 0 222 (dk_at dksX4_looks_3 8 rfl rfl)
theorem dX4_looks_80 : decode cX4_looks 80 = .ok (.if_icmp .ge 42, 3) := dk_162 0 42 (dk_at dksX4_looks_3 11 rfl rfl)
theorem dX4_looks_83 : decode cX4_looks 83 = .ok (.iload_n 2, 1) := dk_28 (dk_at dksX4_looks_3 14 rfl rfl)
theorem dX4_looks_84 : decode cX4_looks 84 = .ok (.aload_n 0, 1) := dk_42 (dk_at dksX4_looks_3 15 rfl rfl)
theorem dX4_looks_85 : decode cX4_looks 85 = .ok (.getfield 216, 3) := dk_180 0 216 (dk_at dksX4_looks_3 16 rfl rfl)
theorem dX4_looks_88 : decode cX4_looks 88 = .ok (.if_icmp .eq 28, 3) := dk_159 0 28 (dk_at dksX4_looks_3 19 rfl rfl)
theorem dX4_looks_91 : decode cX4_looks 91 = .ok (.aload_n 0, 1) := dk_42 (dk_at dksX4_looks_3 22 rfl rfl)
theorem dX4_looks_92 : decode cX4_looks 92 = .ok (.getfield 219, 3) := dk_180 0 219 (dk_at dksX4_looks_4 0 rfl rfl)
theorem dX4_looks_95 : decode cX4_looks 95 = .ok (.aload_n 0, 1) := dk_42 (dk_at dksX4_looks_4 3 rfl rfl)
theorem dX4_looks_96 : decode cX4_looks 96 = .ok (.iload_n 1, 1) := dk_27 (dk_at dksX4_looks_4 4 rfl rfl)
theorem dX4_looks_97 : decode cX4_looks 97 = .ok (.iload_n 2, 1) := dk_28 (dk_at dksX4_looks_4 5 rfl rfl)
theorem dX4_looks_98 : decode cX4_looks 98 = .ok (.invokevirtual 225, 3) := dk_182 0 225 (dk_at dksX4_looks_4 6 rfl rfl)
theorem dX4_looks_101 : decode cX4_looks 101 = .ok (.isub, 1) := dk_100 (dk_at dksX4_looks_4 9 rfl rfl)
theorem dX4_looks_102 : decode cX4_looks 102 = .ok (.aload_n 0, 1) := dk_42 (dk_at dksX4_looks_4 10 rfl rfl)
theorem dX4_looks_103 : decode cX4_looks 103 = .ok (.getfield 26, 3) := dk_180 0 26 (dk_at dksX4_looks_4 11 rfl rfl)
theorem dX4_looks_106 : decode cX4_looks 106 = .ok (.iconst 2, 1) := dk_5 (dk_at dksX4_looks_4 14 rfl rfl)
theorem dX4_looks_107 : decode cX4_looks 107 = .ok (.iaload, 1) := dk_46 (dk_at dksX4_looks_4 15 rfl rfl)
theorem dX4_looks_108 : decode cX4_looks 108 = .ok (.if_icmp .ge 8, 3) := dk_162 0 8 (dk_at dksX4_looks_4 16 rfl rfl)
theorem dX4_looks_111 : decode cX4_looks 111 = .ok (.aload_n 0, 1) := dk_42 (dk_at dksX4_looks_4 19 rfl rfl)
theorem dX4_looks_112 : decode cX4_looks 112 = .ok (.iconst 0, 1) := dk_3 (dk_at dksX4_looks_4 20 rfl rfl)
theorem dX4_looks_113 : decode cX4_looks 113 = .ok (.putfield 228, 3) := dk_181 0 228 (dk_at dksX4_looks_4 21 rfl rfl)
theorem dX4_looks_116 : decode cX4_looks 116 = .ok (.iinc 2 1, 3) := dk_132 2 1 (dk_at dksX4_looks_5 0 rfl rfl)
theorem dX4_looks_119 : decode cX4_looks 119 = .ok (.goto (-45), 3) := dk_167 255 211 (dk_at dksX4_looks_5 3 rfl rfl)
theorem dX4_looks_122 : decode cX4_looks 122 = .ok (.return_, 1) := dk_177 (dk_at dksX4_looks_5 6 rfl rfl)
abbrev cX4_placesOn : ByteArray := prog_28_method_53_code
def yX4_placesOn : MethodName := ⟨RX4, "placesOn", "(I)I"⟩
def dkwX4_placesOn_0 : List UInt8 := [3, 42, 180, 0, 13, 27, 46, 42, 180, 0, 207, 42, 180, 0, 210, 100, 100, 184, 0, 145, 172]
abbrev dktX4_placesOn_0 : List UInt8 := dkwX4_placesOn_0 ++ []
theorem dksX4_placesOn_0 : cX4_placesOn.data.toList.drop 0 = dktX4_placesOn_0 := by decide +kernel
theorem dX4_placesOn_0 : decode cX4_placesOn 0 = .ok (.iconst 0, 1) := dk_3 (dk_at dksX4_placesOn_0 0 rfl rfl)
theorem dX4_placesOn_1 : decode cX4_placesOn 1 = .ok (.aload_n 0, 1) := dk_42 (dk_at dksX4_placesOn_0 1 rfl rfl)
theorem dX4_placesOn_2 : decode cX4_placesOn 2 = .ok (.getfield 13, 3) := dk_180 0 13 (dk_at dksX4_placesOn_0 2 rfl rfl)
theorem dX4_placesOn_5 : decode cX4_placesOn 5 = .ok (.iload_n 1, 1) := dk_27 (dk_at dksX4_placesOn_0 5 rfl rfl)
theorem dX4_placesOn_6 : decode cX4_placesOn 6 = .ok (.iaload, 1) := dk_46 (dk_at dksX4_placesOn_0 6 rfl rfl)
theorem dX4_placesOn_7 : decode cX4_placesOn 7 = .ok (.aload_n 0, 1) := dk_42 (dk_at dksX4_placesOn_0 7 rfl rfl)
theorem dX4_placesOn_8 : decode cX4_placesOn 8 = .ok (.getfield 207, 3) := dk_180 0 207 (dk_at dksX4_placesOn_0 8 rfl rfl)
theorem dX4_placesOn_11 : decode cX4_placesOn 11 = .ok (.aload_n 0, 1) := dk_42 (dk_at dksX4_placesOn_0 11 rfl rfl)
theorem dX4_placesOn_12 : decode cX4_placesOn 12 = .ok (.getfield 210, 3) := dk_180 0 210 (dk_at dksX4_placesOn_0 12 rfl rfl)
theorem dX4_placesOn_15 : decode cX4_placesOn 15 = .ok (.isub, 1) := dk_100 (dk_at dksX4_placesOn_0 15 rfl rfl)
theorem dX4_placesOn_16 : decode cX4_placesOn 16 = .ok (.isub, 1) := dk_100 (dk_at dksX4_placesOn_0 16 rfl rfl)
theorem dX4_placesOn_17 : decode cX4_placesOn 17 = .ok (.invokestatic 145, 3) := dk_184 0 145 (dk_at dksX4_placesOn_0 17 rfl rfl)
theorem dX4_placesOn_20 : decode cX4_placesOn 20 = .ok (.ireturn, 1) := dk_172 (dk_at dksX4_placesOn_0 20 rfl rfl)
abbrev cX4_score : ByteArray := prog_28_method_52_code
def yX4_score : MethodName := ⟨RX4, "score", "(II)I"⟩
def dkwX4_score_8 : List UInt8 := [21, 4, 172]
abbrev dktX4_score_8 : List UInt8 := dkwX4_score_8 ++ []
def dkwX4_score_7 : List UInt8 := [42, 180, 0, 213, 42, 180, 0, 207, 4, 96, 27, 28, 29, 96, 182, 0, 141, 153, 0, 6, 132, 4, 2]
abbrev dktX4_score_7 : List UInt8 := dkwX4_score_7 ++ dktX4_score_8
def dkwX4_score_6 : List UInt8 := [96, 42, 180, 0, 13, 27, 46, 160, 0, 7, 4, 167, 0, 4, 3, 160, 0, 32, 21, 6, 154, 0, 24, 42]
abbrev dktX4_score_6 : List UInt8 := dkwX4_score_6 ++ dktX4_score_7
def dkwX4_score_5 : List UInt8 := [180, 0, 13, 42, 180, 0, 213, 46, 4, 100, 160, 0, 7, 4, 167, 0, 4, 3, 54, 6, 21, 6, 28, 29]
abbrev dktX4_score_5 : List UInt8 := dkwX4_score_5 ++ dktX4_score_6
def dkwX4_score_4 : List UInt8 := [42, 180, 0, 210, 4, 100, 27, 28, 4, 100, 182, 0, 141, 153, 0, 6, 132, 4, 2, 42, 180, 0, 207, 42]
abbrev dktX4_score_4 : List UInt8 := dkwX4_score_4 ++ dktX4_score_5
def dkwX4_score_3 : List UInt8 := [21, 5, 28, 154, 0, 7, 4, 167, 0, 4, 3, 160, 0, 32, 21, 5, 154, 0, 24, 42, 42, 180, 0, 213]
abbrev dktX4_score_3 : List UInt8 := dkwX4_score_3 ++ dktX4_score_4
def dkwX4_score_2 : List UInt8 := [132, 4, 3, 132, 5, 1, 167, 255, 221, 42, 180, 0, 210, 154, 0, 7, 4, 167, 0, 4, 3, 54, 5]
abbrev dktX4_score_2 : List UInt8 := dkwX4_score_2 ++ dktX4_score_3
def dkwX4_score_1 : List UInt8 := [42, 42, 180, 0, 213, 42, 180, 0, 210, 21, 5, 96, 27, 28, 21, 5, 96, 182, 0, 141, 153, 0, 6]
abbrev dktX4_score_1 : List UInt8 := dkwX4_score_1 ++ dktX4_score_2
def dkwX4_score_0 : List UInt8 := [42, 180, 0, 207, 42, 180, 0, 210, 100, 4, 96, 62, 3, 54, 4, 3, 54, 5, 21, 5, 29, 162, 0, 35]
abbrev dktX4_score_0 : List UInt8 := dkwX4_score_0 ++ dktX4_score_1
theorem dksX4_score_0 : cX4_score.data.toList.drop 0 = dktX4_score_0 := by decide +kernel
theorem dksX4_score_1 : cX4_score.data.toList.drop 24 = dktX4_score_1 := dk_seg dksX4_score_0 24 rfl rfl
theorem dksX4_score_2 : cX4_score.data.toList.drop 47 = dktX4_score_2 := dk_seg dksX4_score_1 23 rfl rfl
theorem dksX4_score_3 : cX4_score.data.toList.drop 70 = dktX4_score_3 := dk_seg dksX4_score_2 23 rfl rfl
theorem dksX4_score_4 : cX4_score.data.toList.drop 94 = dktX4_score_4 := dk_seg dksX4_score_3 24 rfl rfl
theorem dksX4_score_5 : cX4_score.data.toList.drop 118 = dktX4_score_5 := dk_seg dksX4_score_4 24 rfl rfl
theorem dksX4_score_6 : cX4_score.data.toList.drop 142 = dktX4_score_6 := dk_seg dksX4_score_5 24 rfl rfl
theorem dksX4_score_7 : cX4_score.data.toList.drop 166 = dktX4_score_7 := dk_seg dksX4_score_6 24 rfl rfl
theorem dksX4_score_8 : cX4_score.data.toList.drop 189 = dktX4_score_8 := dk_seg dksX4_score_7 23 rfl rfl
theorem dX4_score_0 : decode cX4_score 0 = .ok (.aload_n 0, 1) := dk_42 (dk_at dksX4_score_0 0 rfl rfl)
theorem dX4_score_1 : decode cX4_score 1 = .ok (.getfield 207, 3) := dk_180 0 207 (dk_at dksX4_score_0 1 rfl rfl)
theorem dX4_score_4 : decode cX4_score 4 = .ok (.aload_n 0, 1) := dk_42 (dk_at dksX4_score_0 4 rfl rfl)
theorem dX4_score_5 : decode cX4_score 5 = .ok (.getfield 210, 3) := dk_180 0 210 (dk_at dksX4_score_0 5 rfl rfl)
theorem dX4_score_8 : decode cX4_score 8 = .ok (.isub, 1) := dk_100 (dk_at dksX4_score_0 8 rfl rfl)
theorem dX4_score_9 : decode cX4_score 9 = .ok (.iconst 1, 1) := dk_4 (dk_at dksX4_score_0 9 rfl rfl)
theorem dX4_score_10 : decode cX4_score 10 = .ok (.iadd, 1) := dk_96 (dk_at dksX4_score_0 10 rfl rfl)
theorem dX4_score_11 : decode cX4_score 11 = .ok (.istore_n 3, 1) := dk_62 (dk_at dksX4_score_0 11 rfl rfl)
theorem dX4_score_12 : decode cX4_score 12 = .ok (.iconst 0, 1) := dk_3 (dk_at dksX4_score_0 12 rfl rfl)
theorem dX4_score_13 : decode cX4_score 13 = .ok (.istore 4, 2) := dk_54 4 (dk_at dksX4_score_0 13 rfl rfl)
theorem dX4_score_15 : decode cX4_score 15 = .ok (.iconst 0, 1) := dk_3 (dk_at dksX4_score_0 15 rfl rfl)
theorem dX4_score_16 : decode cX4_score 16 = .ok (.istore 5, 2) := dk_54 5 (dk_at dksX4_score_0 16 rfl rfl)
theorem dX4_score_18 : decode cX4_score 18 = .ok (.iload 5, 2) := dk_21 5 (dk_at dksX4_score_0 18 rfl rfl)
theorem dX4_score_20 : decode cX4_score 20 = .ok (.iload_n 3, 1) := dk_29 (dk_at dksX4_score_0 20 rfl rfl)
theorem dX4_score_21 : decode cX4_score 21 = .ok (.if_icmp .ge 35, 3) := dk_162 0 35 (dk_at dksX4_score_0 21 rfl rfl)
theorem dX4_score_24 : decode cX4_score 24 = .ok (.aload_n 0, 1) := dk_42 (dk_at dksX4_score_1 0 rfl rfl)
theorem dX4_score_25 : decode cX4_score 25 = .ok (.aload_n 0, 1) := dk_42 (dk_at dksX4_score_1 1 rfl rfl)
theorem dX4_score_26 : decode cX4_score 26 = .ok (.getfield 213, 3) := dk_180 0 213 (dk_at dksX4_score_1 2 rfl rfl)
theorem dX4_score_29 : decode cX4_score 29 = .ok (.aload_n 0, 1) := dk_42 (dk_at dksX4_score_1 5 rfl rfl)
theorem dX4_score_30 : decode cX4_score 30 = .ok (.getfield 210, 3) := dk_180 0 210 (dk_at dksX4_score_1 6 rfl rfl)
theorem dX4_score_33 : decode cX4_score 33 = .ok (.iload 5, 2) := dk_21 5 (dk_at dksX4_score_1 9 rfl rfl)
theorem dX4_score_35 : decode cX4_score 35 = .ok (.iadd, 1) := dk_96 (dk_at dksX4_score_1 11 rfl rfl)
theorem dX4_score_36 : decode cX4_score 36 = .ok (.iload_n 1, 1) := dk_27 (dk_at dksX4_score_1 12 rfl rfl)
theorem dX4_score_37 : decode cX4_score 37 = .ok (.iload_n 2, 1) := dk_28 (dk_at dksX4_score_1 13 rfl rfl)
theorem dX4_score_38 : decode cX4_score 38 = .ok (.iload 5, 2) := dk_21 5 (dk_at dksX4_score_1 14 rfl rfl)
theorem dX4_score_40 : decode cX4_score 40 = .ok (.iadd, 1) := dk_96 (dk_at dksX4_score_1 16 rfl rfl)
theorem dX4_score_41 : decode cX4_score 41 = .ok (.invokevirtual 141, 3) := dk_182 0 141 (dk_at dksX4_score_1 17 rfl rfl)
theorem dX4_score_44 : decode cX4_score 44 = .ok (.ifCond .eq 6, 3) := dk_153 0 6 (dk_at dksX4_score_1 20 rfl rfl)
theorem dX4_score_47 : decode cX4_score 47 = .ok (.iinc 4 3, 3) := dk_132 4 3 (dk_at dksX4_score_2 0 rfl rfl)
theorem dX4_score_50 : decode cX4_score 50 = .ok (.iinc 5 1, 3) := dk_132 5 1 (dk_at dksX4_score_2 3 rfl rfl)
theorem dX4_score_53 : decode cX4_score 53 = .ok (.goto (-35), 3) := dk_167 255 221 (dk_at dksX4_score_2 6 rfl rfl)
theorem dX4_score_56 : decode cX4_score 56 = .ok (.aload_n 0, 1) := dk_42 (dk_at dksX4_score_2 9 rfl rfl)
theorem dX4_score_57 : decode cX4_score 57 = .ok (.getfield 210, 3) := dk_180 0 210 (dk_at dksX4_score_2 10 rfl rfl)
theorem dX4_score_60 : decode cX4_score 60 = .ok (.ifCond .ne 7, 3) := dk_154 0 7 (dk_at dksX4_score_2 13 rfl rfl)
theorem dX4_score_63 : decode cX4_score 63 = .ok (.iconst 1, 1) := dk_4 (dk_at dksX4_score_2 16 rfl rfl)
theorem dX4_score_64 : decode cX4_score 64 = .ok (.goto 4, 3) := dk_167 0 4 (dk_at dksX4_score_2 17 rfl rfl)
theorem dX4_score_67 : decode cX4_score 67 = .ok (.iconst 0, 1) := dk_3 (dk_at dksX4_score_2 20 rfl rfl)
theorem dX4_score_68 : decode cX4_score 68 = .ok (.istore 5, 2) := dk_54 5 (dk_at dksX4_score_2 21 rfl rfl)
theorem dX4_score_70 : decode cX4_score 70 = .ok (.iload 5, 2) := dk_21 5 (dk_at dksX4_score_3 0 rfl rfl)
theorem dX4_score_72 : decode cX4_score 72 = .ok (.iload_n 2, 1) := dk_28 (dk_at dksX4_score_3 2 rfl rfl)
theorem dX4_score_73 : decode cX4_score 73 = .ok (.ifCond .ne 7, 3) := dk_154 0 7 (dk_at dksX4_score_3 3 rfl rfl)
theorem dX4_score_76 : decode cX4_score 76 = .ok (.iconst 1, 1) := dk_4 (dk_at dksX4_score_3 6 rfl rfl)
theorem dX4_score_77 : decode cX4_score 77 = .ok (.goto 4, 3) := dk_167 0 4 (dk_at dksX4_score_3 7 rfl rfl)
theorem dX4_score_80 : decode cX4_score 80 = .ok (.iconst 0, 1) := dk_3 (dk_at dksX4_score_3 10 rfl rfl)
theorem dX4_score_81 : decode cX4_score 81 = .ok (.if_icmp .ne 32, 3) := dk_160 0 32 (dk_at dksX4_score_3 11 rfl rfl)
theorem dX4_score_84 : decode cX4_score 84 = .ok (.iload 5, 2) := dk_21 5 (dk_at dksX4_score_3 14 rfl rfl)
theorem dX4_score_86 : decode cX4_score 86 = .ok (.ifCond .ne 24, 3) := dk_154 0 24 (dk_at dksX4_score_3 16 rfl rfl)
theorem dX4_score_89 : decode cX4_score 89 = .ok (.aload_n 0, 1) := dk_42 (dk_at dksX4_score_3 19 rfl rfl)
theorem dX4_score_90 : decode cX4_score 90 = .ok (.aload_n 0, 1) := dk_42 (dk_at dksX4_score_3 20 rfl rfl)
theorem dX4_score_91 : decode cX4_score 91 = .ok (.getfield 213, 3) := dk_180 0 213 (dk_at dksX4_score_3 21 rfl rfl)
theorem dX4_score_94 : decode cX4_score 94 = .ok (.aload_n 0, 1) := dk_42 (dk_at dksX4_score_4 0 rfl rfl)
theorem dX4_score_95 : decode cX4_score 95 = .ok (.getfield 210, 3) := dk_180 0 210 (dk_at dksX4_score_4 1 rfl rfl)
theorem dX4_score_98 : decode cX4_score 98 = .ok (.iconst 1, 1) := dk_4 (dk_at dksX4_score_4 4 rfl rfl)
theorem dX4_score_99 : decode cX4_score 99 = .ok (.isub, 1) := dk_100 (dk_at dksX4_score_4 5 rfl rfl)
theorem dX4_score_100 : decode cX4_score 100 = .ok (.iload_n 1, 1) := dk_27 (dk_at dksX4_score_4 6 rfl rfl)
theorem dX4_score_101 : decode cX4_score 101 = .ok (.iload_n 2, 1) := dk_28 (dk_at dksX4_score_4 7 rfl rfl)
theorem dX4_score_102 : decode cX4_score 102 = .ok (.iconst 1, 1) := dk_4 (dk_at dksX4_score_4 8 rfl rfl)
theorem dX4_score_103 : decode cX4_score 103 = .ok (.isub, 1) := dk_100 (dk_at dksX4_score_4 9 rfl rfl)
theorem dX4_score_104 : decode cX4_score 104 = .ok (.invokevirtual 141, 3) := dk_182 0 141 (dk_at dksX4_score_4 10 rfl rfl)
theorem dX4_score_107 : decode cX4_score 107 = .ok (.ifCond .eq 6, 3) := dk_153 0 6 (dk_at dksX4_score_4 13 rfl rfl)
theorem dX4_score_110 : decode cX4_score 110 = .ok (.iinc 4 2, 3) := dk_132 4 2 (dk_at dksX4_score_4 16 rfl rfl)
theorem dX4_score_113 : decode cX4_score 113 = .ok (.aload_n 0, 1) := dk_42 (dk_at dksX4_score_4 19 rfl rfl)
theorem dX4_score_114 : decode cX4_score 114 = .ok (.getfield 207, 3) := dk_180 0 207 (dk_at dksX4_score_4 20 rfl rfl)
theorem dX4_score_117 : decode cX4_score 117 = .ok (.aload_n 0, 1) := dk_42 (dk_at dksX4_score_4 23 rfl rfl)
theorem dX4_score_118 : decode cX4_score 118 = .ok (.getfield 13, 3) := dk_180 0 13 (dk_at dksX4_score_5 0 rfl rfl)
theorem dX4_score_121 : decode cX4_score 121 = .ok (.aload_n 0, 1) := dk_42 (dk_at dksX4_score_5 3 rfl rfl)
theorem dX4_score_122 : decode cX4_score 122 = .ok (.getfield 213, 3) := dk_180 0 213 (dk_at dksX4_score_5 4 rfl rfl)
theorem dX4_score_125 : decode cX4_score 125 = .ok (.iaload, 1) := dk_46 (dk_at dksX4_score_5 7 rfl rfl)
theorem dX4_score_126 : decode cX4_score 126 = .ok (.iconst 1, 1) := dk_4 (dk_at dksX4_score_5 8 rfl rfl)
theorem dX4_score_127 : decode cX4_score 127 = .ok (.isub, 1) := dk_100 (dk_at dksX4_score_5 9 rfl rfl)
theorem dX4_score_128 : decode cX4_score 128 = .ok (.if_icmp .ne 7, 3) := dk_160 0 7 (dk_at dksX4_score_5 10 rfl rfl)
theorem dX4_score_131 : decode cX4_score 131 = .ok (.iconst 1, 1) := dk_4 (dk_at dksX4_score_5 13 rfl rfl)
theorem dX4_score_132 : decode cX4_score 132 = .ok (.goto 4, 3) := dk_167 0 4 (dk_at dksX4_score_5 14 rfl rfl)
theorem dX4_score_135 : decode cX4_score 135 = .ok (.iconst 0, 1) := dk_3 (dk_at dksX4_score_5 17 rfl rfl)
theorem dX4_score_136 : decode cX4_score 136 = .ok (.istore 6, 2) := dk_54 6 (dk_at dksX4_score_5 18 rfl rfl)
theorem dX4_score_138 : decode cX4_score 138 = .ok (.iload 6, 2) := dk_21 6 (dk_at dksX4_score_5 20 rfl rfl)
theorem dX4_score_140 : decode cX4_score 140 = .ok (.iload_n 2, 1) := dk_28 (dk_at dksX4_score_5 22 rfl rfl)
theorem dX4_score_141 : decode cX4_score 141 = .ok (.iload_n 3, 1) := dk_29 (dk_at dksX4_score_5 23 rfl rfl)
theorem dX4_score_142 : decode cX4_score 142 = .ok (.iadd, 1) := dk_96 (dk_at dksX4_score_6 0 rfl rfl)
theorem dX4_score_143 : decode cX4_score 143 = .ok (.aload_n 0, 1) := dk_42 (dk_at dksX4_score_6 1 rfl rfl)
theorem dX4_score_144 : decode cX4_score 144 = .ok (.getfield 13, 3) := dk_180 0 13 (dk_at dksX4_score_6 2 rfl rfl)
theorem dX4_score_147 : decode cX4_score 147 = .ok (.iload_n 1, 1) := dk_27 (dk_at dksX4_score_6 5 rfl rfl)
theorem dX4_score_148 : decode cX4_score 148 = .ok (.iaload, 1) := dk_46 (dk_at dksX4_score_6 6 rfl rfl)
theorem dX4_score_149 : decode cX4_score 149 = .ok (.if_icmp .ne 7, 3) := dk_160 0 7 (dk_at dksX4_score_6 7 rfl rfl)
theorem dX4_score_152 : decode cX4_score 152 = .ok (.iconst 1, 1) := dk_4 (dk_at dksX4_score_6 10 rfl rfl)
theorem dX4_score_153 : decode cX4_score 153 = .ok (.goto 4, 3) := dk_167 0 4 (dk_at dksX4_score_6 11 rfl rfl)
theorem dX4_score_156 : decode cX4_score 156 = .ok (.iconst 0, 1) := dk_3 (dk_at dksX4_score_6 14 rfl rfl)
theorem dX4_score_157 : decode cX4_score 157 = .ok (.if_icmp .ne 32, 3) := dk_160 0 32 (dk_at dksX4_score_6 15 rfl rfl)
theorem dX4_score_160 : decode cX4_score 160 = .ok (.iload 6, 2) := dk_21 6 (dk_at dksX4_score_6 18 rfl rfl)
theorem dX4_score_162 : decode cX4_score 162 = .ok (.ifCond .ne 24, 3) := dk_154 0 24 (dk_at dksX4_score_6 20 rfl rfl)
theorem dX4_score_165 : decode cX4_score 165 = .ok (.aload_n 0, 1) := dk_42 (dk_at dksX4_score_6 23 rfl rfl)
theorem dX4_score_166 : decode cX4_score 166 = .ok (.aload_n 0, 1) := dk_42 (dk_at dksX4_score_7 0 rfl rfl)
theorem dX4_score_167 : decode cX4_score 167 = .ok (.getfield 213, 3) := dk_180 0 213 (dk_at dksX4_score_7 1 rfl rfl)
theorem dX4_score_170 : decode cX4_score 170 = .ok (.aload_n 0, 1) := dk_42 (dk_at dksX4_score_7 4 rfl rfl)
theorem dX4_score_171 : decode cX4_score 171 = .ok (.getfield 207, 3) := dk_180 0 207 (dk_at dksX4_score_7 5 rfl rfl)
theorem dX4_score_174 : decode cX4_score 174 = .ok (.iconst 1, 1) := dk_4 (dk_at dksX4_score_7 8 rfl rfl)
theorem dX4_score_175 : decode cX4_score 175 = .ok (.iadd, 1) := dk_96 (dk_at dksX4_score_7 9 rfl rfl)
theorem dX4_score_176 : decode cX4_score 176 = .ok (.iload_n 1, 1) := dk_27 (dk_at dksX4_score_7 10 rfl rfl)
theorem dX4_score_177 : decode cX4_score 177 = .ok (.iload_n 2, 1) := dk_28 (dk_at dksX4_score_7 11 rfl rfl)
theorem dX4_score_178 : decode cX4_score 178 = .ok (.iload_n 3, 1) := dk_29 (dk_at dksX4_score_7 12 rfl rfl)
theorem dX4_score_179 : decode cX4_score 179 = .ok (.iadd, 1) := dk_96 (dk_at dksX4_score_7 13 rfl rfl)
theorem dX4_score_180 : decode cX4_score 180 = .ok (.invokevirtual 141, 3) := dk_182 0 141 (dk_at dksX4_score_7 14 rfl rfl)
theorem dX4_score_183 : decode cX4_score 183 = .ok (.ifCond .eq 6, 3) := dk_153 0 6 (dk_at dksX4_score_7 17 rfl rfl)
theorem dX4_score_186 : decode cX4_score 186 = .ok (.iinc 4 2, 3) := dk_132 4 2 (dk_at dksX4_score_7 20 rfl rfl)
theorem dX4_score_189 : decode cX4_score 189 = .ok (.iload 4, 2) := dk_21 4 (dk_at dksX4_score_8 0 rfl rfl)
theorem dX4_score_191 : decode cX4_score 191 = .ok (.ireturn, 1) := dk_172 (dk_at dksX4_score_8 2 rfl rfl)
abbrev cX4_score_2 : ByteArray := prog_28_method_58_code
def yX4_score_2 : MethodName := ⟨RX4, "score", "(III)I"⟩
def dkwX4_score_2_3 : List UInt8 := [29, 182, 0, 225, 167, 0, 9, 42, 16, 251, 182, 0, 82, 172]
abbrev dktX4_score_2_3 : List UInt8 := dkwX4_score_2_3 ++ []
def dkwX4_score_2_2 : List UInt8 := [42, 16, 250, 182, 0, 82, 172, 29, 3, 42, 28, 182, 0, 222, 4, 100, 184, 0, 89, 153, 0, 12, 42, 28]
abbrev dktX4_score_2_2 : List UInt8 := dkwX4_score_2_2 ++ dktX4_score_2_3
def dkwX4_score_2_1 : List UInt8 := [5, 27, 182, 0, 109, 159, 0, 19, 42, 27, 42, 3, 27, 182, 0, 109, 28, 4, 182, 0, 245, 154, 0, 10]
abbrev dktX4_score_2_1 : List UInt8 := dkwX4_score_2_1 ++ dktX4_score_2_2
def dkwX4_score_2_0 : List UInt8 := [42, 27, 182, 0, 103, 153, 0, 11, 42, 28, 182, 0, 124, 154, 0, 9, 42, 2, 182, 0, 82, 172, 28, 42]
abbrev dktX4_score_2_0 : List UInt8 := dkwX4_score_2_0 ++ dktX4_score_2_1
theorem dksX4_score_2_0 : cX4_score_2.data.toList.drop 0 = dktX4_score_2_0 := by decide +kernel
theorem dksX4_score_2_1 : cX4_score_2.data.toList.drop 24 = dktX4_score_2_1 := dk_seg dksX4_score_2_0 24 rfl rfl
theorem dksX4_score_2_2 : cX4_score_2.data.toList.drop 48 = dktX4_score_2_2 := dk_seg dksX4_score_2_1 24 rfl rfl
theorem dksX4_score_2_3 : cX4_score_2.data.toList.drop 72 = dktX4_score_2_3 := dk_seg dksX4_score_2_2 24 rfl rfl
theorem dX4_score_2_0 : decode cX4_score_2 0 = .ok (.aload_n 0, 1) := dk_42 (dk_at dksX4_score_2_0 0 rfl rfl)
theorem dX4_score_2_1 : decode cX4_score_2 1 = .ok (.iload_n 1, 1) := dk_27 (dk_at dksX4_score_2_0 1 rfl rfl)
theorem dX4_score_2_2 : decode cX4_score_2 2 = .ok (.invokevirtual 103, 3) := dk_182 0 103 (dk_at dksX4_score_2_0 2 rfl rfl)
theorem dX4_score_2_5 : decode cX4_score_2 5 = .ok (.ifCond .eq 11, 3) := dk_153 0 11 (dk_at dksX4_score_2_0 5 rfl rfl)
theorem dX4_score_2_8 : decode cX4_score_2 8 = .ok (.aload_n 0, 1) := dk_42 (dk_at dksX4_score_2_0 8 rfl rfl)
theorem dX4_score_2_9 : decode cX4_score_2 9 = .ok (.iload_n 2, 1) := dk_28 (dk_at dksX4_score_2_0 9 rfl rfl)
theorem dX4_score_2_10 : decode cX4_score_2 10 = .ok (.invokevirtual 124, 3) := dk_182 0 124 (dk_at dksX4_score_2_0 10 rfl rfl)
theorem dX4_score_2_13 : decode cX4_score_2 13 = .ok (.ifCond .ne 9, 3) := dk_154 0 9 (dk_at dksX4_score_2_0 13 rfl rfl)
theorem dX4_score_2_16 : decode cX4_score_2 16 = .ok (.aload_n 0, 1) := dk_42 (dk_at dksX4_score_2_0 16 rfl rfl)
theorem dX4_score_2_17 : decode cX4_score_2 17 = .ok (.iconst (-1), 1) := dk_2 (dk_at dksX4_score_2_0 17 rfl rfl)
theorem dX4_score_2_18 : decode cX4_score_2 18 = .ok (.invokevirtual 82, 3) := dk_182 0 82 (dk_at dksX4_score_2_0 18 rfl rfl)
theorem dX4_score_2_21 : decode cX4_score_2 21 = .ok (.ireturn, 1) := dk_172 (dk_at dksX4_score_2_0 21 rfl rfl)
theorem dX4_score_2_22 : decode cX4_score_2 22 = .ok (.iload_n 2, 1) := dk_28 (dk_at dksX4_score_2_0 22 rfl rfl)
theorem dX4_score_2_23 : decode cX4_score_2 23 = .ok (.aload_n 0, 1) := dk_42 (dk_at dksX4_score_2_0 23 rfl rfl)
theorem dX4_score_2_24 : decode cX4_score_2 24 = .ok (.iconst 2, 1) := dk_5 (dk_at dksX4_score_2_1 0 rfl rfl)
theorem dX4_score_2_25 : decode cX4_score_2 25 = .ok (.iload_n 1, 1) := dk_27 (dk_at dksX4_score_2_1 1 rfl rfl)
theorem dX4_score_2_26 : decode cX4_score_2 26 = .ok (.invokevirtual 109, 3) := dk_182 0 109 (dk_at dksX4_score_2_1 2 rfl rfl)
theorem dX4_score_2_29 : decode cX4_score_2 29 = .ok (.if_icmp .eq 19, 3) := dk_159 0 19 (dk_at dksX4_score_2_1 5 rfl rfl)
theorem dX4_score_2_32 : decode cX4_score_2 32 = .ok (.aload_n 0, 1) := dk_42 (dk_at dksX4_score_2_1 8 rfl rfl)
theorem dX4_score_2_33 : decode cX4_score_2 33 = .ok (.iload_n 1, 1) := dk_27 (dk_at dksX4_score_2_1 9 rfl rfl)
theorem dX4_score_2_34 : decode cX4_score_2 34 = .ok (.aload_n 0, 1) := dk_42 (dk_at dksX4_score_2_1 10 rfl rfl)
theorem dX4_score_2_35 : decode cX4_score_2 35 = .ok (.iconst 0, 1) := dk_3 (dk_at dksX4_score_2_1 11 rfl rfl)
theorem dX4_score_2_36 : decode cX4_score_2 36 = .ok (.iload_n 1, 1) := dk_27 (dk_at dksX4_score_2_1 12 rfl rfl)
theorem dX4_score_2_37 : decode cX4_score_2 37 = .ok (.invokevirtual 109, 3) := dk_182 0 109 (dk_at dksX4_score_2_1 13 rfl rfl)
theorem dX4_score_2_40 : decode cX4_score_2 40 = .ok (.iload_n 2, 1) := dk_28 (dk_at dksX4_score_2_1 16 rfl rfl)
theorem dX4_score_2_41 : decode cX4_score_2 41 = .ok (.iconst 1, 1) := dk_4 (dk_at dksX4_score_2_1 17 rfl rfl)
theorem dX4_score_2_42 : decode cX4_score_2 42 = .ok (.invokevirtual 245, 3) := dk_182 0 245 (dk_at dksX4_score_2_1 18 rfl rfl)
theorem dX4_score_2_45 : decode cX4_score_2 45 = .ok (.ifCond .ne 10, 3) := dk_154 0 10 (dk_at dksX4_score_2_1 21 rfl rfl)
theorem dX4_score_2_48 : decode cX4_score_2 48 = .ok (.aload_n 0, 1) := dk_42 (dk_at dksX4_score_2_2 0 rfl rfl)
theorem dX4_score_2_49 : decode cX4_score_2 49 = .ok (.bipush (-6), 2) := dk_16 250 (dk_at dksX4_score_2_2 1 rfl rfl)
theorem dX4_score_2_51 : decode cX4_score_2 51 = .ok (.invokevirtual 82, 3) := dk_182 0 82 (dk_at dksX4_score_2_2 3 rfl rfl)
theorem dX4_score_2_54 : decode cX4_score_2 54 = .ok (.ireturn, 1) := dk_172 (dk_at dksX4_score_2_2 6 rfl rfl)
theorem dX4_score_2_55 : decode cX4_score_2 55 = .ok (.iload_n 3, 1) := dk_29 (dk_at dksX4_score_2_2 7 rfl rfl)
theorem dX4_score_2_56 : decode cX4_score_2 56 = .ok (.iconst 0, 1) := dk_3 (dk_at dksX4_score_2_2 8 rfl rfl)
theorem dX4_score_2_57 : decode cX4_score_2 57 = .ok (.aload_n 0, 1) := dk_42 (dk_at dksX4_score_2_2 9 rfl rfl)
theorem dX4_score_2_58 : decode cX4_score_2 58 = .ok (.iload_n 2, 1) := dk_28 (dk_at dksX4_score_2_2 10 rfl rfl)
theorem dX4_score_2_59 : decode cX4_score_2 59 = .ok (.invokevirtual 222, 3) := dk_182 0 222 (dk_at dksX4_score_2_2 11 rfl rfl)
theorem dX4_score_2_62 : decode cX4_score_2 62 = .ok (.iconst 1, 1) := dk_4 (dk_at dksX4_score_2_2 14 rfl rfl)
theorem dX4_score_2_63 : decode cX4_score_2 63 = .ok (.isub, 1) := dk_100 (dk_at dksX4_score_2_2 15 rfl rfl)
theorem dX4_score_2_64 : decode cX4_score_2 64 = .ok (.invokestatic 89, 3) := dk_184 0 89 (dk_at dksX4_score_2_2 16 rfl rfl)
theorem dX4_score_2_67 : decode cX4_score_2 67 = .ok (.ifCond .eq 12, 3) := dk_153 0 12 (dk_at dksX4_score_2_2 19 rfl rfl)
theorem dX4_score_2_70 : decode cX4_score_2 70 = .ok (.aload_n 0, 1) := dk_42 (dk_at dksX4_score_2_2 22 rfl rfl)
theorem dX4_score_2_71 : decode cX4_score_2 71 = .ok (.iload_n 2, 1) := dk_28 (dk_at dksX4_score_2_2 23 rfl rfl)
theorem dX4_score_2_72 : decode cX4_score_2 72 = .ok (.iload_n 3, 1) := dk_29 (dk_at dksX4_score_2_3 0 rfl rfl)
theorem dX4_score_2_73 : decode cX4_score_2 73 = .ok (.invokevirtual 225, 3) := dk_182 0 225 (dk_at dksX4_score_2_3 1 rfl rfl)
theorem dX4_score_2_76 : decode cX4_score_2 76 = .ok (.goto 9, 3) := dk_167 0 9 (dk_at dksX4_score_2_3 4 rfl rfl)
theorem dX4_score_2_79 : decode cX4_score_2 79 = .ok (.aload_n 0, 1) := dk_42 (dk_at dksX4_score_2_3 7 rfl rfl)
theorem dX4_score_2_80 : decode cX4_score_2 80 = .ok (.bipush (-5), 2) := dk_16 251 (dk_at dksX4_score_2_3 8 rfl rfl)
theorem dX4_score_2_82 : decode cX4_score_2 82 = .ok (.invokevirtual 82, 3) := dk_182 0 82 (dk_at dksX4_score_2_3 10 rfl rfl)
theorem dX4_score_2_85 : decode cX4_score_2 85 = .ok (.ireturn, 1) := dk_172 (dk_at dksX4_score_2_3 13 rfl rfl)
abbrev cX4_leastNeed : ByteArray := prog_28_method_59_code
def yX4_leastNeed : MethodName := ⟨RX4, "leastNeed", "(II)I"⟩
def dkwX4_leastNeed_3 : List UInt8 := [167, 0, 4, 2, 172]
abbrev dktX4_leastNeed_3 : List UInt8 := dkwX4_leastNeed_3 ++ []
def dkwX4_leastNeed_2 : List UInt8 := [42, 16, 250, 182, 0, 138, 172, 42, 28, 182, 0, 238, 42, 180, 0, 228, 153, 0, 10, 42, 180, 0, 219]
abbrev dktX4_leastNeed_2 : List UInt8 := dkwX4_leastNeed_2 ++ dktX4_leastNeed_3
def dkwX4_leastNeed_1 : List UInt8 := [5, 27, 182, 0, 109, 159, 0, 19, 42, 27, 42, 3, 27, 182, 0, 109, 28, 4, 182, 0, 245, 154, 0, 10]
abbrev dktX4_leastNeed_1 : List UInt8 := dkwX4_leastNeed_1 ++ dktX4_leastNeed_2
def dkwX4_leastNeed_0 : List UInt8 := [42, 27, 182, 0, 103, 153, 0, 11, 42, 28, 182, 0, 124, 154, 0, 9, 42, 2, 182, 0, 138, 172, 28, 42]
abbrev dktX4_leastNeed_0 : List UInt8 := dkwX4_leastNeed_0 ++ dktX4_leastNeed_1
theorem dksX4_leastNeed_0 : cX4_leastNeed.data.toList.drop 0 = dktX4_leastNeed_0 := by decide +kernel
theorem dksX4_leastNeed_1 : cX4_leastNeed.data.toList.drop 24 = dktX4_leastNeed_1 := dk_seg dksX4_leastNeed_0 24 rfl rfl
theorem dksX4_leastNeed_2 : cX4_leastNeed.data.toList.drop 48 = dktX4_leastNeed_2 := dk_seg dksX4_leastNeed_1 24 rfl rfl
theorem dksX4_leastNeed_3 : cX4_leastNeed.data.toList.drop 71 = dktX4_leastNeed_3 := dk_seg dksX4_leastNeed_2 23 rfl rfl
theorem dX4_leastNeed_0 : decode cX4_leastNeed 0 = .ok (.aload_n 0, 1) := dk_42 (dk_at dksX4_leastNeed_0 0 rfl rfl)
theorem dX4_leastNeed_1 : decode cX4_leastNeed 1 = .ok (.iload_n 1, 1) := dk_27 (dk_at dksX4_leastNeed_0 1 rfl rfl)
theorem dX4_leastNeed_2 : decode cX4_leastNeed 2 = .ok (.invokevirtual 103, 3) := dk_182 0 103 (dk_at dksX4_leastNeed_0 2 rfl rfl)
theorem dX4_leastNeed_5 : decode cX4_leastNeed 5 = .ok (.ifCond .eq 11, 3) := dk_153 0 11 (dk_at dksX4_leastNeed_0 5 rfl rfl)
theorem dX4_leastNeed_8 : decode cX4_leastNeed 8 = .ok (.aload_n 0, 1) := dk_42 (dk_at dksX4_leastNeed_0 8 rfl rfl)
theorem dX4_leastNeed_9 : decode cX4_leastNeed 9 = .ok (.iload_n 2, 1) := dk_28 (dk_at dksX4_leastNeed_0 9 rfl rfl)
theorem dX4_leastNeed_10 : decode cX4_leastNeed 10 = .ok (.invokevirtual 124, 3) := dk_182 0 124 (dk_at dksX4_leastNeed_0 10 rfl rfl)
theorem dX4_leastNeed_13 : decode cX4_leastNeed 13 = .ok (.ifCond .ne 9, 3) := dk_154 0 9 (dk_at dksX4_leastNeed_0 13 rfl rfl)
theorem dX4_leastNeed_16 : decode cX4_leastNeed 16 = .ok (.aload_n 0, 1) := dk_42 (dk_at dksX4_leastNeed_0 16 rfl rfl)
theorem dX4_leastNeed_17 : decode cX4_leastNeed 17 = .ok (.iconst (-1), 1) := dk_2 (dk_at dksX4_leastNeed_0 17 rfl rfl)
theorem dX4_leastNeed_18 : decode cX4_leastNeed 18 = .ok (.invokevirtual 138, 3) := dk_182 0 138 (dk_at dksX4_leastNeed_0 18 rfl rfl)
theorem dX4_leastNeed_21 : decode cX4_leastNeed 21 = .ok (.ireturn, 1) := dk_172 (dk_at dksX4_leastNeed_0 21 rfl rfl)
theorem dX4_leastNeed_22 : decode cX4_leastNeed 22 = .ok (.iload_n 2, 1) := dk_28 (dk_at dksX4_leastNeed_0 22 rfl rfl)
theorem dX4_leastNeed_23 : decode cX4_leastNeed 23 = .ok (.aload_n 0, 1) := dk_42 (dk_at dksX4_leastNeed_0 23 rfl rfl)
theorem dX4_leastNeed_24 : decode cX4_leastNeed 24 = .ok (.iconst 2, 1) := dk_5 (dk_at dksX4_leastNeed_1 0 rfl rfl)
theorem dX4_leastNeed_25 : decode cX4_leastNeed 25 = .ok (.iload_n 1, 1) := dk_27 (dk_at dksX4_leastNeed_1 1 rfl rfl)
theorem dX4_leastNeed_26 : decode cX4_leastNeed 26 = .ok (.invokevirtual 109, 3) := dk_182 0 109 (dk_at dksX4_leastNeed_1 2 rfl rfl)
theorem dX4_leastNeed_29 : decode cX4_leastNeed 29 = .ok (.if_icmp .eq 19, 3) := dk_159 0 19 (dk_at dksX4_leastNeed_1 5 rfl rfl)
theorem dX4_leastNeed_32 : decode cX4_leastNeed 32 = .ok (.aload_n 0, 1) := dk_42 (dk_at dksX4_leastNeed_1 8 rfl rfl)
theorem dX4_leastNeed_33 : decode cX4_leastNeed 33 = .ok (.iload_n 1, 1) := dk_27 (dk_at dksX4_leastNeed_1 9 rfl rfl)
theorem dX4_leastNeed_34 : decode cX4_leastNeed 34 = .ok (.aload_n 0, 1) := dk_42 (dk_at dksX4_leastNeed_1 10 rfl rfl)
theorem dX4_leastNeed_35 : decode cX4_leastNeed 35 = .ok (.iconst 0, 1) := dk_3 (dk_at dksX4_leastNeed_1 11 rfl rfl)
theorem dX4_leastNeed_36 : decode cX4_leastNeed 36 = .ok (.iload_n 1, 1) := dk_27 (dk_at dksX4_leastNeed_1 12 rfl rfl)
theorem dX4_leastNeed_37 : decode cX4_leastNeed 37 = .ok (.invokevirtual 109, 3) := dk_182 0 109 (dk_at dksX4_leastNeed_1 13 rfl rfl)
theorem dX4_leastNeed_40 : decode cX4_leastNeed 40 = .ok (.iload_n 2, 1) := dk_28 (dk_at dksX4_leastNeed_1 16 rfl rfl)
theorem dX4_leastNeed_41 : decode cX4_leastNeed 41 = .ok (.iconst 1, 1) := dk_4 (dk_at dksX4_leastNeed_1 17 rfl rfl)
theorem dX4_leastNeed_42 : decode cX4_leastNeed 42 = .ok (.invokevirtual 245, 3) := dk_182 0 245 (dk_at dksX4_leastNeed_1 18 rfl rfl)
theorem dX4_leastNeed_45 : decode cX4_leastNeed 45 = .ok (.ifCond .ne 10, 3) := dk_154 0 10 (dk_at dksX4_leastNeed_1 21 rfl rfl)
theorem dX4_leastNeed_48 : decode cX4_leastNeed 48 = .ok (.aload_n 0, 1) := dk_42 (dk_at dksX4_leastNeed_2 0 rfl rfl)
theorem dX4_leastNeed_49 : decode cX4_leastNeed 49 = .ok (.bipush (-6), 2) := dk_16 250 (dk_at dksX4_leastNeed_2 1 rfl rfl)
theorem dX4_leastNeed_51 : decode cX4_leastNeed 51 = .ok (.invokevirtual 138, 3) := dk_182 0 138 (dk_at dksX4_leastNeed_2 3 rfl rfl)
theorem dX4_leastNeed_54 : decode cX4_leastNeed 54 = .ok (.ireturn, 1) := dk_172 (dk_at dksX4_leastNeed_2 6 rfl rfl)
theorem dX4_leastNeed_55 : decode cX4_leastNeed 55 = .ok (.aload_n 0, 1) := dk_42 (dk_at dksX4_leastNeed_2 7 rfl rfl)
theorem dX4_leastNeed_56 : decode cX4_leastNeed 56 = .ok (.iload_n 2, 1) := dk_28 (dk_at dksX4_leastNeed_2 8 rfl rfl)
theorem dX4_leastNeed_57 : decode cX4_leastNeed 57 = .ok (.invokevirtual 238, 3) := dk_182 0 238 (dk_at dksX4_leastNeed_2 9 rfl rfl)
theorem dX4_leastNeed_60 : decode cX4_leastNeed 60 = .ok (.aload_n 0, 1) := dk_42 (dk_at dksX4_leastNeed_2 12 rfl rfl)
theorem dX4_leastNeed_61 : decode cX4_leastNeed 61 = .ok (.getfield 228, 3) := dk_180 0 228 (dk_at dksX4_leastNeed_2 13 rfl rfl)
theorem dX4_leastNeed_64 : decode cX4_leastNeed 64 = .ok (.ifCond .eq 10, 3) := dk_153 0 10 (dk_at dksX4_leastNeed_2 16 rfl rfl)
theorem dX4_leastNeed_67 : decode cX4_leastNeed 67 = .ok (.aload_n 0, 1) := dk_42 (dk_at dksX4_leastNeed_2 19 rfl rfl)
theorem dX4_leastNeed_68 : decode cX4_leastNeed 68 = .ok (.getfield 219, 3) := dk_180 0 219 (dk_at dksX4_leastNeed_2 20 rfl rfl)
theorem dX4_leastNeed_71 : decode cX4_leastNeed 71 = .ok (.goto 4, 3) := dk_167 0 4 (dk_at dksX4_leastNeed_3 0 rfl rfl)
theorem dX4_leastNeed_74 : decode cX4_leastNeed 74 = .ok (.iconst (-1), 1) := dk_2 (dk_at dksX4_leastNeed_3 3 rfl rfl)
theorem dX4_leastNeed_75 : decode cX4_leastNeed 75 = .ok (.ireturn, 1) := dk_172 (dk_at dksX4_leastNeed_3 4 rfl rfl)
abbrev cX4_fitting : ByteArray := prog_28_method_60_code
def yX4_fitting : MethodName := ⟨RX4, "fitting", "(II)I"⟩
def dkwX4_fitting_3 : List UInt8 := [159, 0, 10, 29, 4, 21, 4, 120, 128, 62, 132, 4, 1, 167, 255, 221, 29, 172]
abbrev dktX4_fitting_3 : List UInt8 := dkwX4_fitting_3 ++ []
def dkwX4_fitting_2 : List UInt8 := [54, 4, 21, 4, 16, 7, 162, 0, 34, 42, 27, 21, 4, 28, 3, 182, 0, 245, 87, 42, 180, 0, 232, 6]
abbrev dktX4_fitting_2 : List UInt8 := dkwX4_fitting_2 ++ dktX4_fitting_3
def dkwX4_fitting_1 : List UInt8 := [42, 5, 27, 182, 0, 109, 182, 0, 169, 2, 160, 0, 10, 42, 16, 250, 182, 0, 82, 172, 3, 62, 3]
abbrev dktX4_fitting_1 : List UInt8 := dkwX4_fitting_1 ++ dktX4_fitting_2
def dkwX4_fitting_0 : List UInt8 := [42, 27, 182, 0, 103, 153, 0, 11, 42, 28, 182, 0, 124, 154, 0, 9, 42, 2, 182, 0, 82, 172, 42, 28]
abbrev dktX4_fitting_0 : List UInt8 := dkwX4_fitting_0 ++ dktX4_fitting_1
theorem dksX4_fitting_0 : cX4_fitting.data.toList.drop 0 = dktX4_fitting_0 := by decide +kernel
theorem dksX4_fitting_1 : cX4_fitting.data.toList.drop 24 = dktX4_fitting_1 := dk_seg dksX4_fitting_0 24 rfl rfl
theorem dksX4_fitting_2 : cX4_fitting.data.toList.drop 47 = dktX4_fitting_2 := dk_seg dksX4_fitting_1 23 rfl rfl
theorem dksX4_fitting_3 : cX4_fitting.data.toList.drop 71 = dktX4_fitting_3 := dk_seg dksX4_fitting_2 24 rfl rfl
theorem dX4_fitting_0 : decode cX4_fitting 0 = .ok (.aload_n 0, 1) := dk_42 (dk_at dksX4_fitting_0 0 rfl rfl)
theorem dX4_fitting_1 : decode cX4_fitting 1 = .ok (.iload_n 1, 1) := dk_27 (dk_at dksX4_fitting_0 1 rfl rfl)
theorem dX4_fitting_2 : decode cX4_fitting 2 = .ok (.invokevirtual 103, 3) := dk_182 0 103 (dk_at dksX4_fitting_0 2 rfl rfl)
theorem dX4_fitting_5 : decode cX4_fitting 5 = .ok (.ifCond .eq 11, 3) := dk_153 0 11 (dk_at dksX4_fitting_0 5 rfl rfl)
theorem dX4_fitting_8 : decode cX4_fitting 8 = .ok (.aload_n 0, 1) := dk_42 (dk_at dksX4_fitting_0 8 rfl rfl)
theorem dX4_fitting_9 : decode cX4_fitting 9 = .ok (.iload_n 2, 1) := dk_28 (dk_at dksX4_fitting_0 9 rfl rfl)
theorem dX4_fitting_10 : decode cX4_fitting 10 = .ok (.invokevirtual 124, 3) := dk_182 0 124 (dk_at dksX4_fitting_0 10 rfl rfl)
theorem dX4_fitting_13 : decode cX4_fitting 13 = .ok (.ifCond .ne 9, 3) := dk_154 0 9 (dk_at dksX4_fitting_0 13 rfl rfl)
theorem dX4_fitting_16 : decode cX4_fitting 16 = .ok (.aload_n 0, 1) := dk_42 (dk_at dksX4_fitting_0 16 rfl rfl)
theorem dX4_fitting_17 : decode cX4_fitting 17 = .ok (.iconst (-1), 1) := dk_2 (dk_at dksX4_fitting_0 17 rfl rfl)
theorem dX4_fitting_18 : decode cX4_fitting 18 = .ok (.invokevirtual 82, 3) := dk_182 0 82 (dk_at dksX4_fitting_0 18 rfl rfl)
theorem dX4_fitting_21 : decode cX4_fitting 21 = .ok (.ireturn, 1) := dk_172 (dk_at dksX4_fitting_0 21 rfl rfl)
theorem dX4_fitting_22 : decode cX4_fitting 22 = .ok (.aload_n 0, 1) := dk_42 (dk_at dksX4_fitting_0 22 rfl rfl)
theorem dX4_fitting_23 : decode cX4_fitting 23 = .ok (.iload_n 2, 1) := dk_28 (dk_at dksX4_fitting_0 23 rfl rfl)
theorem dX4_fitting_24 : decode cX4_fitting 24 = .ok (.aload_n 0, 1) := dk_42 (dk_at dksX4_fitting_1 0 rfl rfl)
theorem dX4_fitting_25 : decode cX4_fitting 25 = .ok (.iconst 2, 1) := dk_5 (dk_at dksX4_fitting_1 1 rfl rfl)
theorem dX4_fitting_26 : decode cX4_fitting 26 = .ok (.iload_n 1, 1) := dk_27 (dk_at dksX4_fitting_1 2 rfl rfl)
theorem dX4_fitting_27 : decode cX4_fitting 27 = .ok (.invokevirtual 109, 3) := dk_182 0 109 (dk_at dksX4_fitting_1 3 rfl rfl)
theorem dX4_fitting_30 : decode cX4_fitting 30 = .ok (.invokevirtual 169, 3) := dk_182 0 169 (dk_at dksX4_fitting_1 6 rfl rfl)
theorem dX4_fitting_33 : decode cX4_fitting 33 = .ok (.iconst (-1), 1) := dk_2 (dk_at dksX4_fitting_1 9 rfl rfl)
theorem dX4_fitting_34 : decode cX4_fitting 34 = .ok (.if_icmp .ne 10, 3) := dk_160 0 10 (dk_at dksX4_fitting_1 10 rfl rfl)
theorem dX4_fitting_37 : decode cX4_fitting 37 = .ok (.aload_n 0, 1) := dk_42 (dk_at dksX4_fitting_1 13 rfl rfl)
theorem dX4_fitting_38 : decode cX4_fitting 38 = .ok (.bipush (-6), 2) := dk_16 250 (dk_at dksX4_fitting_1 14 rfl rfl)
theorem dX4_fitting_40 : decode cX4_fitting 40 = .ok (.invokevirtual 82, 3) := dk_182 0 82 (dk_at dksX4_fitting_1 16 rfl rfl)
theorem dX4_fitting_43 : decode cX4_fitting 43 = .ok (.ireturn, 1) := dk_172 (dk_at dksX4_fitting_1 19 rfl rfl)
theorem dX4_fitting_44 : decode cX4_fitting 44 = .ok (.iconst 0, 1) := dk_3 (dk_at dksX4_fitting_1 20 rfl rfl)
theorem dX4_fitting_45 : decode cX4_fitting 45 = .ok (.istore_n 3, 1) := dk_62 (dk_at dksX4_fitting_1 21 rfl rfl)
theorem dX4_fitting_46 : decode cX4_fitting 46 = .ok (.iconst 0, 1) := dk_3 (dk_at dksX4_fitting_1 22 rfl rfl)
theorem dX4_fitting_47 : decode cX4_fitting 47 = .ok (.istore 4, 2) := dk_54 4 (dk_at dksX4_fitting_2 0 rfl rfl)
theorem dX4_fitting_49 : decode cX4_fitting 49 = .ok (.iload 4, 2) := dk_21 4 (dk_at dksX4_fitting_2 2 rfl rfl)
theorem dX4_fitting_51 : decode cX4_fitting 51 = .ok (.bipush 7, 2) := dk_16 7 (dk_at dksX4_fitting_2 4 rfl rfl)
theorem dX4_fitting_53 : decode cX4_fitting 53 = .ok (.if_icmp .ge 34, 3) := dk_162 0 34 (dk_at dksX4_fitting_2 6 rfl rfl)
theorem dX4_fitting_56 : decode cX4_fitting 56 = .ok (.aload_n 0, 1) := dk_42 (dk_at dksX4_fitting_2 9 rfl rfl)
theorem dX4_fitting_57 : decode cX4_fitting 57 = .ok (.iload_n 1, 1) := dk_27 (dk_at dksX4_fitting_2 10 rfl rfl)
theorem dX4_fitting_58 : decode cX4_fitting 58 = .ok (.iload 4, 2) := dk_21 4 (dk_at dksX4_fitting_2 11 rfl rfl)
theorem dX4_fitting_60 : decode cX4_fitting 60 = .ok (.iload_n 2, 1) := dk_28 (dk_at dksX4_fitting_2 13 rfl rfl)
theorem dX4_fitting_61 : decode cX4_fitting 61 = .ok (.iconst 0, 1) := dk_3 (dk_at dksX4_fitting_2 14 rfl rfl)
theorem dX4_fitting_62 : decode cX4_fitting 62 = .ok (.invokevirtual 245, 3) := dk_182 0 245 (dk_at dksX4_fitting_2 15 rfl rfl)
theorem dX4_fitting_65 : decode cX4_fitting 65 = .ok (.pop, 1) := dk_87 (dk_at dksX4_fitting_2 18 rfl rfl)
theorem dX4_fitting_66 : decode cX4_fitting 66 = .ok (.aload_n 0, 1) := dk_42 (dk_at dksX4_fitting_2 19 rfl rfl)
theorem dX4_fitting_67 : decode cX4_fitting 67 = .ok (.getfield 232, 3) := dk_180 0 232 (dk_at dksX4_fitting_2 20 rfl rfl)
theorem dX4_fitting_70 : decode cX4_fitting 70 = .ok (.iconst 3, 1) := dk_6 (dk_at dksX4_fitting_2 23 rfl rfl)
theorem dX4_fitting_71 : decode cX4_fitting 71 = .ok (.if_icmp .eq 10, 3) := dk_159 0 10 (dk_at dksX4_fitting_3 0 rfl rfl)
theorem dX4_fitting_74 : decode cX4_fitting 74 = .ok (.iload_n 3, 1) := dk_29 (dk_at dksX4_fitting_3 3 rfl rfl)
theorem dX4_fitting_75 : decode cX4_fitting 75 = .ok (.iconst 1, 1) := dk_4 (dk_at dksX4_fitting_3 4 rfl rfl)
theorem dX4_fitting_76 : decode cX4_fitting 76 = .ok (.iload 4, 2) := dk_21 4 (dk_at dksX4_fitting_3 5 rfl rfl)
theorem dX4_fitting_78 : decode cX4_fitting 78 = .ok (.ishl, 1) := dk_120 (dk_at dksX4_fitting_3 7 rfl rfl)
theorem dX4_fitting_79 : decode cX4_fitting 79 = .ok (.ior, 1) := dk_128 (dk_at dksX4_fitting_3 8 rfl rfl)
theorem dX4_fitting_80 : decode cX4_fitting 80 = .ok (.istore_n 3, 1) := dk_62 (dk_at dksX4_fitting_3 9 rfl rfl)
theorem dX4_fitting_81 : decode cX4_fitting 81 = .ok (.iinc 4 1, 3) := dk_132 4 1 (dk_at dksX4_fitting_3 10 rfl rfl)
theorem dX4_fitting_84 : decode cX4_fitting 84 = .ok (.goto (-35), 3) := dk_167 255 221 (dk_at dksX4_fitting_3 13 rfl rfl)
theorem dX4_fitting_87 : decode cX4_fitting 87 = .ok (.iload_n 3, 1) := dk_29 (dk_at dksX4_fitting_3 16 rfl rfl)
theorem dX4_fitting_88 : decode cX4_fitting 88 = .ok (.ireturn, 1) := dk_172 (dk_at dksX4_fitting_3 17 rfl rfl)
abbrev cX4_inOrder : ByteArray := prog_28_method_62_code
def yX4_inOrder : MethodName := ⟨RX4, "inOrder", "(II)I"⟩
def dkwX4_inOrder_5 : List UInt8 := [132, 4, 1, 167, 255, 199, 2, 172]
abbrev dktX4_inOrder_5 : List UInt8 := dkwX4_inOrder_5 ++ []
def dkwX4_inOrder_4 : List UInt8 := [21, 4, 159, 0, 6, 167, 0, 13, 29, 154, 0, 6, 21, 5, 172, 132, 3, 255, 132, 5, 1, 167, 255, 219]
abbrev dktX4_inOrder_4 : List UInt8 := dkwX4_inOrder_4 ++ dktX4_inOrder_5
def dkwX4_inOrder_3 : List UInt8 := [28, 155, 0, 52, 3, 54, 5, 21, 5, 42, 180, 0, 93, 162, 0, 34, 42, 180, 0, 72, 21, 5, 46]
abbrev dktX4_inOrder_3 : List UInt8 := dkwX4_inOrder_3 ++ dktX4_inOrder_4
def dkwX4_inOrder_2 : List UInt8 := [180, 0, 191, 167, 0, 4, 2, 79, 132, 4, 1, 167, 255, 219, 3, 54, 4, 21, 4, 16, 24, 162, 0, 56]
abbrev dktX4_inOrder_2 : List UInt8 := dkwX4_inOrder_2 ++ dktX4_inOrder_3
def dkwX4_inOrder_1 : List UInt8 := [180, 0, 93, 162, 0, 34, 42, 180, 0, 72, 21, 4, 42, 21, 4, 27, 182, 0, 248, 153, 0, 10, 42]
abbrev dktX4_inOrder_1 : List UInt8 := dkwX4_inOrder_1 ++ dktX4_inOrder_2
def dkwX4_inOrder_0 : List UInt8 := [42, 27, 182, 0, 124, 154, 0, 9, 42, 2, 182, 0, 138, 172, 28, 62, 3, 54, 4, 21, 4, 42]
abbrev dktX4_inOrder_0 : List UInt8 := dkwX4_inOrder_0 ++ dktX4_inOrder_1
theorem dksX4_inOrder_0 : cX4_inOrder.data.toList.drop 0 = dktX4_inOrder_0 := by decide +kernel
theorem dksX4_inOrder_1 : cX4_inOrder.data.toList.drop 22 = dktX4_inOrder_1 := dk_seg dksX4_inOrder_0 22 rfl rfl
theorem dksX4_inOrder_2 : cX4_inOrder.data.toList.drop 45 = dktX4_inOrder_2 := dk_seg dksX4_inOrder_1 23 rfl rfl
theorem dksX4_inOrder_3 : cX4_inOrder.data.toList.drop 69 = dktX4_inOrder_3 := dk_seg dksX4_inOrder_2 24 rfl rfl
theorem dksX4_inOrder_4 : cX4_inOrder.data.toList.drop 92 = dktX4_inOrder_4 := dk_seg dksX4_inOrder_3 23 rfl rfl
theorem dksX4_inOrder_5 : cX4_inOrder.data.toList.drop 116 = dktX4_inOrder_5 := dk_seg dksX4_inOrder_4 24 rfl rfl
theorem dX4_inOrder_0 : decode cX4_inOrder 0 = .ok (.aload_n 0, 1) := dk_42 (dk_at dksX4_inOrder_0 0 rfl rfl)
theorem dX4_inOrder_1 : decode cX4_inOrder 1 = .ok (.iload_n 1, 1) := dk_27 (dk_at dksX4_inOrder_0 1 rfl rfl)
theorem dX4_inOrder_2 : decode cX4_inOrder 2 = .ok (.invokevirtual 124, 3) := dk_182 0 124 (dk_at dksX4_inOrder_0 2 rfl rfl)
theorem dX4_inOrder_5 : decode cX4_inOrder 5 = .ok (.ifCond .ne 9, 3) := dk_154 0 9 (dk_at dksX4_inOrder_0 5 rfl rfl)
theorem dX4_inOrder_8 : decode cX4_inOrder 8 = .ok (.aload_n 0, 1) := dk_42 (dk_at dksX4_inOrder_0 8 rfl rfl)
theorem dX4_inOrder_9 : decode cX4_inOrder 9 = .ok (.iconst (-1), 1) := dk_2 (dk_at dksX4_inOrder_0 9 rfl rfl)
theorem dX4_inOrder_10 : decode cX4_inOrder 10 = .ok (.invokevirtual 138, 3) := dk_182 0 138 (dk_at dksX4_inOrder_0 10 rfl rfl)
theorem dX4_inOrder_13 : decode cX4_inOrder 13 = .ok (.ireturn, 1) := dk_172 (dk_at dksX4_inOrder_0 13 rfl rfl)
theorem dX4_inOrder_14 : decode cX4_inOrder 14 = .ok (.iload_n 2, 1) := dk_28 (dk_at dksX4_inOrder_0 14 rfl rfl)
theorem dX4_inOrder_15 : decode cX4_inOrder 15 = .ok (.istore_n 3, 1) := dk_62 (dk_at dksX4_inOrder_0 15 rfl rfl)
theorem dX4_inOrder_16 : decode cX4_inOrder 16 = .ok (.iconst 0, 1) := dk_3 (dk_at dksX4_inOrder_0 16 rfl rfl)
theorem dX4_inOrder_17 : decode cX4_inOrder 17 = .ok (.istore 4, 2) := dk_54 4 (dk_at dksX4_inOrder_0 17 rfl rfl)
theorem dX4_inOrder_19 : decode cX4_inOrder 19 = .ok (.iload 4, 2) := dk_21 4 (dk_at dksX4_inOrder_0 19 rfl rfl)
theorem dX4_inOrder_21 : decode cX4_inOrder 21 = .ok (.aload_n 0, 1) := dk_42 (dk_at dksX4_inOrder_0 21 rfl rfl)
theorem dX4_inOrder_22 : decode cX4_inOrder 22 = .ok (.getfield 93, 3) := dk_180 0 93 (dk_at dksX4_inOrder_1 0 rfl rfl)
theorem dX4_inOrder_25 : decode cX4_inOrder 25 = .ok (.if_icmp .ge 34, 3) := dk_162 0 34 (dk_at dksX4_inOrder_1 3 rfl rfl)
theorem dX4_inOrder_28 : decode cX4_inOrder 28 = .ok (.aload_n 0, 1) := dk_42 (dk_at dksX4_inOrder_1 6 rfl rfl)
theorem dX4_inOrder_29 : decode cX4_inOrder 29 = .ok (.getfield 72, 3) := dk_180 0 72 (dk_at dksX4_inOrder_1 7 rfl rfl)
theorem dX4_inOrder_32 : decode cX4_inOrder 32 = .ok (.iload 4, 2) := dk_21 4 (dk_at dksX4_inOrder_1 10 rfl rfl)
theorem dX4_inOrder_34 : decode cX4_inOrder 34 = .ok (.aload_n 0, 1) := dk_42 (dk_at dksX4_inOrder_1 12 rfl rfl)
theorem dX4_inOrder_35 : decode cX4_inOrder 35 = .ok (.iload 4, 2) := dk_21 4 (dk_at dksX4_inOrder_1 13 rfl rfl)
theorem dX4_inOrder_37 : decode cX4_inOrder 37 = .ok (.iload_n 1, 1) := dk_27 (dk_at dksX4_inOrder_1 15 rfl rfl)
theorem dX4_inOrder_38 : decode cX4_inOrder 38 = .ok (.invokevirtual 248, 3) := dk_182 0 248 (dk_at dksX4_inOrder_1 16 rfl rfl)
theorem dX4_inOrder_41 : decode cX4_inOrder 41 = .ok (.ifCond .eq 10, 3) := dk_153 0 10 (dk_at dksX4_inOrder_1 19 rfl rfl)
theorem dX4_inOrder_44 : decode cX4_inOrder 44 = .ok (.aload_n 0, 1) := dk_42 (dk_at dksX4_inOrder_1 22 rfl rfl)
theorem dX4_inOrder_45 : decode cX4_inOrder 45 = .ok (.getfield 191, 3) := dk_180 0 191 (dk_at dksX4_inOrder_2 0 rfl rfl)
theorem dX4_inOrder_48 : decode cX4_inOrder 48 = .ok (.goto 4, 3) := dk_167 0 4 (dk_at dksX4_inOrder_2 3 rfl rfl)
theorem dX4_inOrder_51 : decode cX4_inOrder 51 = .ok (.iconst (-1), 1) := dk_2 (dk_at dksX4_inOrder_2 6 rfl rfl)
theorem dX4_inOrder_52 : decode cX4_inOrder 52 = .ok (.iastore, 1) := dk_79 (dk_at dksX4_inOrder_2 7 rfl rfl)
theorem dX4_inOrder_53 : decode cX4_inOrder 53 = .ok (.iinc 4 1, 3) := dk_132 4 1 (dk_at dksX4_inOrder_2 8 rfl rfl)
theorem dX4_inOrder_56 : decode cX4_inOrder 56 = .ok (.goto (-37), 3) := dk_167 255 219 (dk_at dksX4_inOrder_2 11 rfl rfl)
theorem dX4_inOrder_59 : decode cX4_inOrder 59 = .ok (.iconst 0, 1) := dk_3 (dk_at dksX4_inOrder_2 14 rfl rfl)
theorem dX4_inOrder_60 : decode cX4_inOrder 60 = .ok (.istore 4, 2) := dk_54 4 (dk_at dksX4_inOrder_2 15 rfl rfl)
theorem dX4_inOrder_62 : decode cX4_inOrder 62 = .ok (.iload 4, 2) := dk_21 4 (dk_at dksX4_inOrder_2 17 rfl rfl)
theorem dX4_inOrder_64 : decode cX4_inOrder 64 = .ok (.bipush 24, 2) := dk_16 24 (dk_at dksX4_inOrder_2 19 rfl rfl)
theorem dX4_inOrder_66 : decode cX4_inOrder 66 = .ok (.if_icmp .ge 56, 3) := dk_162 0 56 (dk_at dksX4_inOrder_2 21 rfl rfl)
theorem dX4_inOrder_69 : decode cX4_inOrder 69 = .ok (.iload_n 2, 1) := dk_28 (dk_at dksX4_inOrder_3 0 rfl rfl)
theorem dX4_inOrder_70 : decode cX4_inOrder 70 = .ok (.ifCond .lt 52, 3) := dk_155 0 52 (dk_at dksX4_inOrder_3 1 rfl rfl)
theorem dX4_inOrder_73 : decode cX4_inOrder 73 = .ok (.iconst 0, 1) := dk_3 (dk_at dksX4_inOrder_3 4 rfl rfl)
theorem dX4_inOrder_74 : decode cX4_inOrder 74 = .ok (.istore 5, 2) := dk_54 5 (dk_at dksX4_inOrder_3 5 rfl rfl)
theorem dX4_inOrder_76 : decode cX4_inOrder 76 = .ok (.iload 5, 2) := dk_21 5 (dk_at dksX4_inOrder_3 7 rfl rfl)
theorem dX4_inOrder_78 : decode cX4_inOrder 78 = .ok (.aload_n 0, 1) := dk_42 (dk_at dksX4_inOrder_3 9 rfl rfl)
theorem dX4_inOrder_79 : decode cX4_inOrder 79 = .ok (.getfield 93, 3) := dk_180 0 93 (dk_at dksX4_inOrder_3 10 rfl rfl)
theorem dX4_inOrder_82 : decode cX4_inOrder 82 = .ok (.if_icmp .ge 34, 3) := dk_162 0 34 (dk_at dksX4_inOrder_3 13 rfl rfl)
theorem dX4_inOrder_85 : decode cX4_inOrder 85 = .ok (.aload_n 0, 1) := dk_42 (dk_at dksX4_inOrder_3 16 rfl rfl)
theorem dX4_inOrder_86 : decode cX4_inOrder 86 = .ok (.getfield 72, 3) := dk_180 0 72 (dk_at dksX4_inOrder_3 17 rfl rfl)
theorem dX4_inOrder_89 : decode cX4_inOrder 89 = .ok (.iload 5, 2) := dk_21 5 (dk_at dksX4_inOrder_3 20 rfl rfl)
theorem dX4_inOrder_91 : decode cX4_inOrder 91 = .ok (.iaload, 1) := dk_46 (dk_at dksX4_inOrder_3 22 rfl rfl)
theorem dX4_inOrder_92 : decode cX4_inOrder 92 = .ok (.iload 4, 2) := dk_21 4 (dk_at dksX4_inOrder_4 0 rfl rfl)
theorem dX4_inOrder_94 : decode cX4_inOrder 94 = .ok (.if_icmp .eq 6, 3) := dk_159 0 6 (dk_at dksX4_inOrder_4 2 rfl rfl)
theorem dX4_inOrder_97 : decode cX4_inOrder 97 = .ok (.goto 13, 3) := dk_167 0 13 (dk_at dksX4_inOrder_4 5 rfl rfl)
theorem dX4_inOrder_100 : decode cX4_inOrder 100 = .ok (.iload_n 3, 1) := dk_29 (dk_at dksX4_inOrder_4 8 rfl rfl)
theorem dX4_inOrder_101 : decode cX4_inOrder 101 = .ok (.ifCond .ne 6, 3) := dk_154 0 6 (dk_at dksX4_inOrder_4 9 rfl rfl)
theorem dX4_inOrder_104 : decode cX4_inOrder 104 = .ok (.iload 5, 2) := dk_21 5 (dk_at dksX4_inOrder_4 12 rfl rfl)
theorem dX4_inOrder_106 : decode cX4_inOrder 106 = .ok (.ireturn, 1) := dk_172 (dk_at dksX4_inOrder_4 14 rfl rfl)
theorem dX4_inOrder_107 : decode cX4_inOrder 107 = .ok (.iinc 3 (-1), 3) := dk_132 3 255 (dk_at dksX4_inOrder_4 15 rfl rfl)
theorem dX4_inOrder_110 : decode cX4_inOrder 110 = .ok (.iinc 5 1, 3) := dk_132 5 1 (dk_at dksX4_inOrder_4 18 rfl rfl)
theorem dX4_inOrder_113 : decode cX4_inOrder 113 = .ok (.goto (-37), 3) := dk_167 255 219 (dk_at dksX4_inOrder_4 21 rfl rfl)
theorem dX4_inOrder_116 : decode cX4_inOrder 116 = .ok (.iinc 4 1, 3) := dk_132 4 1 (dk_at dksX4_inOrder_5 0 rfl rfl)
theorem dX4_inOrder_119 : decode cX4_inOrder 119 = .ok (.goto (-57), 3) := dk_167 255 199 (dk_at dksX4_inOrder_5 3 rfl rfl)
theorem dX4_inOrder_122 : decode cX4_inOrder 122 = .ok (.iconst (-1), 1) := dk_2 (dk_at dksX4_inOrder_5 6 rfl rfl)
theorem dX4_inOrder_123 : decode cX4_inOrder 123 = .ok (.ireturn, 1) := dk_172 (dk_at dksX4_inOrder_5 7 rfl rfl)
abbrev cX4_isPut : ByteArray := prog_28_method_61_code
def yX4_isPut : MethodName := ⟨RX4, "isPut", "(II)Z"⟩
def dkwX4_isPut_1 : List UInt8 := [4, 167, 0, 4, 3, 172]
abbrev dktX4_isPut_1 : List UInt8 := dkwX4_isPut_1 ++ []
def dkwX4_isPut_0 : List UInt8 := [42, 27, 42, 3, 27, 182, 0, 109, 28, 3, 182, 0, 245, 153, 0, 15, 42, 180, 0, 232, 6, 159, 0, 7]
abbrev dktX4_isPut_0 : List UInt8 := dkwX4_isPut_0 ++ dktX4_isPut_1
theorem dksX4_isPut_0 : cX4_isPut.data.toList.drop 0 = dktX4_isPut_0 := by decide +kernel
theorem dksX4_isPut_1 : cX4_isPut.data.toList.drop 24 = dktX4_isPut_1 := dk_seg dksX4_isPut_0 24 rfl rfl
theorem dX4_isPut_0 : decode cX4_isPut 0 = .ok (.aload_n 0, 1) := dk_42 (dk_at dksX4_isPut_0 0 rfl rfl)
theorem dX4_isPut_1 : decode cX4_isPut 1 = .ok (.iload_n 1, 1) := dk_27 (dk_at dksX4_isPut_0 1 rfl rfl)
theorem dX4_isPut_2 : decode cX4_isPut 2 = .ok (.aload_n 0, 1) := dk_42 (dk_at dksX4_isPut_0 2 rfl rfl)
theorem dX4_isPut_3 : decode cX4_isPut 3 = .ok (.iconst 0, 1) := dk_3 (dk_at dksX4_isPut_0 3 rfl rfl)
theorem dX4_isPut_4 : decode cX4_isPut 4 = .ok (.iload_n 1, 1) := dk_27 (dk_at dksX4_isPut_0 4 rfl rfl)
theorem dX4_isPut_5 : decode cX4_isPut 5 = .ok (.invokevirtual 109, 3) := dk_182 0 109 (dk_at dksX4_isPut_0 5 rfl rfl)
theorem dX4_isPut_8 : decode cX4_isPut 8 = .ok (.iload_n 2, 1) := dk_28 (dk_at dksX4_isPut_0 8 rfl rfl)
theorem dX4_isPut_9 : decode cX4_isPut 9 = .ok (.iconst 0, 1) := dk_3 (dk_at dksX4_isPut_0 9 rfl rfl)
theorem dX4_isPut_10 : decode cX4_isPut 10 = .ok (.invokevirtual 245, 3) := dk_182 0 245 (dk_at dksX4_isPut_0 10 rfl rfl)
theorem dX4_isPut_13 : decode cX4_isPut 13 = .ok (.ifCond .eq 15, 3) := dk_153 0 15 (dk_at dksX4_isPut_0 13 rfl rfl)
theorem dX4_isPut_16 : decode cX4_isPut 16 = .ok (.aload_n 0, 1) := dk_42 (dk_at dksX4_isPut_0 16 rfl rfl)
theorem dX4_isPut_17 : decode cX4_isPut 17 = .ok (.getfield 232, 3) := dk_180 0 232 (dk_at dksX4_isPut_0 17 rfl rfl)
theorem dX4_isPut_20 : decode cX4_isPut 20 = .ok (.iconst 3, 1) := dk_6 (dk_at dksX4_isPut_0 20 rfl rfl)
theorem dX4_isPut_21 : decode cX4_isPut 21 = .ok (.if_icmp .eq 7, 3) := dk_159 0 7 (dk_at dksX4_isPut_0 21 rfl rfl)
theorem dX4_isPut_24 : decode cX4_isPut 24 = .ok (.iconst 1, 1) := dk_4 (dk_at dksX4_isPut_1 0 rfl rfl)
theorem dX4_isPut_25 : decode cX4_isPut 25 = .ok (.goto 4, 3) := dk_167 0 4 (dk_at dksX4_isPut_1 1 rfl rfl)
theorem dX4_isPut_28 : decode cX4_isPut 28 = .ok (.iconst 0, 1) := dk_3 (dk_at dksX4_isPut_1 4 rfl rfl)
theorem dX4_isPut_29 : decode cX4_isPut 29 = .ok (.ireturn, 1) := dk_172 (dk_at dksX4_isPut_1 5 rfl rfl)
abbrev cX4_who : ByteArray := prog_28_method_64_code
def yX4_who : MethodName := ⟨RX4, "who", "(II)I"⟩
def dkwX4_who_4 : List UInt8 := [167, 0, 4, 3, 160, 0, 10, 29, 4, 21, 4, 120, 128, 62, 132, 4, 1, 167, 255, 193, 29, 172]
abbrev dktX4_who_4 : List UInt8 := dkwX4_who_4 ++ []
def dkwX4_who_3 : List UInt8 := [153, 0, 36, 42, 180, 0, 232, 6, 160, 0, 7, 4, 167, 0, 4, 3, 28, 4, 160, 0, 7, 4]
abbrev dktX4_who_3 : List UInt8 := dkwX4_who_3 ++ dktX4_who_4
def dkwX4_who_2 : List UInt8 := [42, 180, 0, 93, 162, 0, 60, 42, 21, 4, 42, 3, 21, 4, 182, 0, 109, 27, 3, 182, 0, 245]
abbrev dktX4_who_2 : List UInt8 := dkwX4_who_2 ++ dktX4_who_3
def dkwX4_who_1 : List UInt8 := [16, 251, 182, 0, 82, 172, 28, 5, 160, 0, 9, 42, 27, 182, 0, 251, 172, 3, 62, 3, 54, 4, 21, 4]
abbrev dktX4_who_1 : List UInt8 := dkwX4_who_1 ++ dktX4_who_2
def dkwX4_who_0 : List UInt8 := [42, 27, 182, 0, 124, 154, 0, 9, 42, 2, 182, 0, 82, 172, 28, 3, 5, 184, 0, 89, 154, 0, 10, 42]
abbrev dktX4_who_0 : List UInt8 := dkwX4_who_0 ++ dktX4_who_1
theorem dksX4_who_0 : cX4_who.data.toList.drop 0 = dktX4_who_0 := by decide +kernel
theorem dksX4_who_1 : cX4_who.data.toList.drop 24 = dktX4_who_1 := dk_seg dksX4_who_0 24 rfl rfl
theorem dksX4_who_2 : cX4_who.data.toList.drop 48 = dktX4_who_2 := dk_seg dksX4_who_1 24 rfl rfl
theorem dksX4_who_3 : cX4_who.data.toList.drop 70 = dktX4_who_3 := dk_seg dksX4_who_2 22 rfl rfl
theorem dksX4_who_4 : cX4_who.data.toList.drop 92 = dktX4_who_4 := dk_seg dksX4_who_3 22 rfl rfl
theorem dX4_who_0 : decode cX4_who 0 = .ok (.aload_n 0, 1) := dk_42 (dk_at dksX4_who_0 0 rfl rfl)
theorem dX4_who_1 : decode cX4_who 1 = .ok (.iload_n 1, 1) := dk_27 (dk_at dksX4_who_0 1 rfl rfl)
theorem dX4_who_2 : decode cX4_who 2 = .ok (.invokevirtual 124, 3) := dk_182 0 124 (dk_at dksX4_who_0 2 rfl rfl)
theorem dX4_who_5 : decode cX4_who 5 = .ok (.ifCond .ne 9, 3) := dk_154 0 9 (dk_at dksX4_who_0 5 rfl rfl)
theorem dX4_who_8 : decode cX4_who 8 = .ok (.aload_n 0, 1) := dk_42 (dk_at dksX4_who_0 8 rfl rfl)
theorem dX4_who_9 : decode cX4_who 9 = .ok (.iconst (-1), 1) := dk_2 (dk_at dksX4_who_0 9 rfl rfl)
theorem dX4_who_10 : decode cX4_who 10 = .ok (.invokevirtual 82, 3) := dk_182 0 82 (dk_at dksX4_who_0 10 rfl rfl)
theorem dX4_who_13 : decode cX4_who 13 = .ok (.ireturn, 1) := dk_172 (dk_at dksX4_who_0 13 rfl rfl)
theorem dX4_who_14 : decode cX4_who 14 = .ok (.iload_n 2, 1) := dk_28 (dk_at dksX4_who_0 14 rfl rfl)
theorem dX4_who_15 : decode cX4_who 15 = .ok (.iconst 0, 1) := dk_3 (dk_at dksX4_who_0 15 rfl rfl)
theorem dX4_who_16 : decode cX4_who 16 = .ok (.iconst 2, 1) := dk_5 (dk_at dksX4_who_0 16 rfl rfl)
theorem dX4_who_17 : decode cX4_who 17 = .ok (.invokestatic 89, 3) := dk_184 0 89 (dk_at dksX4_who_0 17 rfl rfl)
theorem dX4_who_20 : decode cX4_who 20 = .ok (.ifCond .ne 10, 3) := dk_154 0 10 (dk_at dksX4_who_0 20 rfl rfl)
theorem dX4_who_23 : decode cX4_who 23 = .ok (.aload_n 0, 1) := dk_42 (dk_at dksX4_who_0 23 rfl rfl)
theorem dX4_who_24 : decode cX4_who 24 = .ok (.bipush (-5), 2) := dk_16 251 (dk_at dksX4_who_1 0 rfl rfl)
theorem dX4_who_26 : decode cX4_who 26 = .ok (.invokevirtual 82, 3) := dk_182 0 82 (dk_at dksX4_who_1 2 rfl rfl)
theorem dX4_who_29 : decode cX4_who 29 = .ok (.ireturn, 1) := dk_172 (dk_at dksX4_who_1 5 rfl rfl)
theorem dX4_who_30 : decode cX4_who 30 = .ok (.iload_n 2, 1) := dk_28 (dk_at dksX4_who_1 6 rfl rfl)
theorem dX4_who_31 : decode cX4_who 31 = .ok (.iconst 2, 1) := dk_5 (dk_at dksX4_who_1 7 rfl rfl)
theorem dX4_who_32 : decode cX4_who 32 = .ok (.if_icmp .ne 9, 3) := dk_160 0 9 (dk_at dksX4_who_1 8 rfl rfl)
theorem dX4_who_35 : decode cX4_who 35 = .ok (.aload_n 0, 1) := dk_42 (dk_at dksX4_who_1 11 rfl rfl)
theorem dX4_who_36 : decode cX4_who 36 = .ok (.iload_n 1, 1) := dk_27 (dk_at dksX4_who_1 12 rfl rfl)
theorem dX4_who_37 : decode cX4_who 37 = .ok (.invokevirtual 251, 3) := dk_182 0 251 (dk_at dksX4_who_1 13 rfl rfl)
theorem dX4_who_40 : decode cX4_who 40 = .ok (.ireturn, 1) := dk_172 (dk_at dksX4_who_1 16 rfl rfl)
theorem dX4_who_41 : decode cX4_who 41 = .ok (.iconst 0, 1) := dk_3 (dk_at dksX4_who_1 17 rfl rfl)
theorem dX4_who_42 : decode cX4_who 42 = .ok (.istore_n 3, 1) := dk_62 (dk_at dksX4_who_1 18 rfl rfl)
theorem dX4_who_43 : decode cX4_who 43 = .ok (.iconst 0, 1) := dk_3 (dk_at dksX4_who_1 19 rfl rfl)
theorem dX4_who_44 : decode cX4_who 44 = .ok (.istore 4, 2) := dk_54 4 (dk_at dksX4_who_1 20 rfl rfl)
theorem dX4_who_46 : decode cX4_who 46 = .ok (.iload 4, 2) := dk_21 4 (dk_at dksX4_who_1 22 rfl rfl)
theorem dX4_who_48 : decode cX4_who 48 = .ok (.aload_n 0, 1) := dk_42 (dk_at dksX4_who_2 0 rfl rfl)
theorem dX4_who_49 : decode cX4_who 49 = .ok (.getfield 93, 3) := dk_180 0 93 (dk_at dksX4_who_2 1 rfl rfl)
theorem dX4_who_52 : decode cX4_who 52 = .ok (.if_icmp .ge 60, 3) := dk_162 0 60 (dk_at dksX4_who_2 4 rfl rfl)
theorem dX4_who_55 : decode cX4_who 55 = .ok (.aload_n 0, 1) := dk_42 (dk_at dksX4_who_2 7 rfl rfl)
theorem dX4_who_56 : decode cX4_who 56 = .ok (.iload 4, 2) := dk_21 4 (dk_at dksX4_who_2 8 rfl rfl)
theorem dX4_who_58 : decode cX4_who 58 = .ok (.aload_n 0, 1) := dk_42 (dk_at dksX4_who_2 10 rfl rfl)
theorem dX4_who_59 : decode cX4_who 59 = .ok (.iconst 0, 1) := dk_3 (dk_at dksX4_who_2 11 rfl rfl)
theorem dX4_who_60 : decode cX4_who 60 = .ok (.iload 4, 2) := dk_21 4 (dk_at dksX4_who_2 12 rfl rfl)
theorem dX4_who_62 : decode cX4_who 62 = .ok (.invokevirtual 109, 3) := dk_182 0 109 (dk_at dksX4_who_2 14 rfl rfl)
theorem dX4_who_65 : decode cX4_who 65 = .ok (.iload_n 1, 1) := dk_27 (dk_at dksX4_who_2 17 rfl rfl)
theorem dX4_who_66 : decode cX4_who 66 = .ok (.iconst 0, 1) := dk_3 (dk_at dksX4_who_2 18 rfl rfl)
theorem dX4_who_67 : decode cX4_who 67 = .ok (.invokevirtual 245, 3) := dk_182 0 245 (dk_at dksX4_who_2 19 rfl rfl)
theorem dX4_who_70 : decode cX4_who 70 = .ok (.ifCond .eq 36, 3) := dk_153 0 36 (dk_at dksX4_who_3 0 rfl rfl)
theorem dX4_who_73 : decode cX4_who 73 = .ok (.aload_n 0, 1) := dk_42 (dk_at dksX4_who_3 3 rfl rfl)
theorem dX4_who_74 : decode cX4_who 74 = .ok (.getfield 232, 3) := dk_180 0 232 (dk_at dksX4_who_3 4 rfl rfl)
theorem dX4_who_77 : decode cX4_who 77 = .ok (.iconst 3, 1) := dk_6 (dk_at dksX4_who_3 7 rfl rfl)
theorem dX4_who_78 : decode cX4_who 78 = .ok (.if_icmp .ne 7, 3) := dk_160 0 7 (dk_at dksX4_who_3 8 rfl rfl)
theorem dX4_who_81 : decode cX4_who 81 = .ok (.iconst 1, 1) := dk_4 (dk_at dksX4_who_3 11 rfl rfl)
theorem dX4_who_82 : decode cX4_who 82 = .ok (.goto 4, 3) := dk_167 0 4 (dk_at dksX4_who_3 12 rfl rfl)
theorem dX4_who_85 : decode cX4_who 85 = .ok (.iconst 0, 1) := dk_3 (dk_at dksX4_who_3 15 rfl rfl)
theorem dX4_who_86 : decode cX4_who 86 = .ok (.iload_n 2, 1) := dk_28 (dk_at dksX4_who_3 16 rfl rfl)
theorem dX4_who_87 : decode cX4_who 87 = .ok (.iconst 1, 1) := dk_4 (dk_at dksX4_who_3 17 rfl rfl)
theorem dX4_who_88 : decode cX4_who 88 = .ok (.if_icmp .ne 7, 3) := dk_160 0 7 (dk_at dksX4_who_3 18 rfl rfl)
theorem dX4_who_91 : decode cX4_who 91 = .ok (.iconst 1, 1) := dk_4 (dk_at dksX4_who_3 21 rfl rfl)
theorem dX4_who_92 : decode cX4_who 92 = .ok (.goto 4, 3) := dk_167 0 4 (dk_at dksX4_who_4 0 rfl rfl)
theorem dX4_who_95 : decode cX4_who 95 = .ok (.iconst 0, 1) := dk_3 (dk_at dksX4_who_4 3 rfl rfl)
theorem dX4_who_96 : decode cX4_who 96 = .ok (.if_icmp .ne 10, 3) := dk_160 0 10 (dk_at dksX4_who_4 4 rfl rfl)
theorem dX4_who_99 : decode cX4_who 99 = .ok (.iload_n 3, 1) := dk_29 (dk_at dksX4_who_4 7 rfl rfl)
theorem dX4_who_100 : decode cX4_who 100 = .ok (.iconst 1, 1) := dk_4 (dk_at dksX4_who_4 8 rfl rfl)
theorem dX4_who_101 : decode cX4_who 101 = .ok (.iload 4, 2) := dk_21 4 (dk_at dksX4_who_4 9 rfl rfl)
theorem dX4_who_103 : decode cX4_who 103 = .ok (.ishl, 1) := dk_120 (dk_at dksX4_who_4 11 rfl rfl)
theorem dX4_who_104 : decode cX4_who 104 = .ok (.ior, 1) := dk_128 (dk_at dksX4_who_4 12 rfl rfl)
theorem dX4_who_105 : decode cX4_who 105 = .ok (.istore_n 3, 1) := dk_62 (dk_at dksX4_who_4 13 rfl rfl)
theorem dX4_who_106 : decode cX4_who 106 = .ok (.iinc 4 1, 3) := dk_132 4 1 (dk_at dksX4_who_4 14 rfl rfl)
theorem dX4_who_109 : decode cX4_who 109 = .ok (.goto (-63), 3) := dk_167 255 193 (dk_at dksX4_who_4 17 rfl rfl)
theorem dX4_who_112 : decode cX4_who 112 = .ok (.iload_n 3, 1) := dk_29 (dk_at dksX4_who_4 20 rfl rfl)
theorem dX4_who_113 : decode cX4_who 113 = .ok (.ireturn, 1) := dk_172 (dk_at dksX4_who_4 21 rfl rfl)
abbrev cX4_heat : ByteArray := prog_28_method_63_code
def yX4_heat : MethodName := ⟨RX4, "heat", "(I)I"⟩
def dkwX4_heat_5 : List UInt8 := [154, 0, 8, 16, 99, 167, 0, 4, 28, 172]
abbrev dktX4_heat_5 : List UInt8 := dkwX4_heat_5 ++ []
def dkwX4_heat_4 : List UInt8 := [180, 0, 62, 28, 46, 164, 0, 5, 29, 61, 132, 3, 1, 167, 255, 230, 42, 180, 0, 62, 28, 46]
abbrev dktX4_heat_4 : List UInt8 := dkwX4_heat_4 ++ dktX4_heat_5
def dkwX4_heat_3 : List UInt8 := [132, 2, 1, 167, 255, 207, 3, 61, 4, 62, 29, 16, 24, 162, 0, 26, 42, 180, 0, 62, 29, 46, 42]
abbrev dktX4_heat_3 : List UInt8 := dkwX4_heat_3 ++ dktX4_heat_4
def dkwX4_heat_2 : List UInt8 := [180, 0, 194, 163, 0, 19, 42, 180, 0, 62, 29, 92, 46, 4, 96, 79, 132, 3, 1, 167, 255, 235]
abbrev dktX4_heat_2 : List UInt8 := dkwX4_heat_2 ++ dktX4_heat_3
def dkwX4_heat_1 : List UInt8 := [42, 180, 0, 93, 162, 0, 47, 42, 28, 27, 182, 0, 248, 153, 0, 32, 42, 180, 0, 191, 62, 29, 42]
abbrev dktX4_heat_1 : List UInt8 := dkwX4_heat_1 ++ dktX4_heat_2
def dkwX4_heat_0 : List UInt8 := [3, 61, 28, 16, 24, 162, 0, 16, 42, 180, 0, 62, 28, 3, 79, 132, 2, 1, 167, 255, 240, 3, 61, 28]
abbrev dktX4_heat_0 : List UInt8 := dkwX4_heat_0 ++ dktX4_heat_1
theorem dksX4_heat_0 : cX4_heat.data.toList.drop 0 = dktX4_heat_0 := by decide +kernel
theorem dksX4_heat_1 : cX4_heat.data.toList.drop 24 = dktX4_heat_1 := dk_seg dksX4_heat_0 24 rfl rfl
theorem dksX4_heat_2 : cX4_heat.data.toList.drop 47 = dktX4_heat_2 := dk_seg dksX4_heat_1 23 rfl rfl
theorem dksX4_heat_3 : cX4_heat.data.toList.drop 69 = dktX4_heat_3 := dk_seg dksX4_heat_2 22 rfl rfl
theorem dksX4_heat_4 : cX4_heat.data.toList.drop 92 = dktX4_heat_4 := dk_seg dksX4_heat_3 23 rfl rfl
theorem dksX4_heat_5 : cX4_heat.data.toList.drop 114 = dktX4_heat_5 := dk_seg dksX4_heat_4 22 rfl rfl
theorem dX4_heat_0 : decode cX4_heat 0 = .ok (.iconst 0, 1) := dk_3 (dk_at dksX4_heat_0 0 rfl rfl)
theorem dX4_heat_1 : decode cX4_heat 1 = .ok (.istore_n 2, 1) := dk_61 (dk_at dksX4_heat_0 1 rfl rfl)
theorem dX4_heat_2 : decode cX4_heat 2 = .ok (.iload_n 2, 1) := dk_28 (dk_at dksX4_heat_0 2 rfl rfl)
theorem dX4_heat_3 : decode cX4_heat 3 = .ok (.bipush 24, 2) := dk_16 24 (dk_at dksX4_heat_0 3 rfl rfl)
theorem dX4_heat_5 : decode cX4_heat 5 = .ok (.if_icmp .ge 16, 3) := dk_162 0 16 (dk_at dksX4_heat_0 5 rfl rfl)
theorem dX4_heat_8 : decode cX4_heat 8 = .ok (.aload_n 0, 1) := dk_42 (dk_at dksX4_heat_0 8 rfl rfl)
theorem dX4_heat_9 : decode cX4_heat 9 = .ok (.getfield 62, 3) := dk_180 0 62 (dk_at dksX4_heat_0 9 rfl rfl)
theorem dX4_heat_12 : decode cX4_heat 12 = .ok (.iload_n 2, 1) := dk_28 (dk_at dksX4_heat_0 12 rfl rfl)
theorem dX4_heat_13 : decode cX4_heat 13 = .ok (.iconst 0, 1) := dk_3 (dk_at dksX4_heat_0 13 rfl rfl)
theorem dX4_heat_14 : decode cX4_heat 14 = .ok (.iastore, 1) := dk_79 (dk_at dksX4_heat_0 14 rfl rfl)
theorem dX4_heat_15 : decode cX4_heat 15 = .ok (.iinc 2 1, 3) := dk_132 2 1 (dk_at dksX4_heat_0 15 rfl rfl)
theorem dX4_heat_18 : decode cX4_heat 18 = .ok (.goto (-16), 3) := dk_167 255 240 (dk_at dksX4_heat_0 18 rfl rfl)
theorem dX4_heat_21 : decode cX4_heat 21 = .ok (.iconst 0, 1) := dk_3 (dk_at dksX4_heat_0 21 rfl rfl)
theorem dX4_heat_22 : decode cX4_heat 22 = .ok (.istore_n 2, 1) := dk_61 (dk_at dksX4_heat_0 22 rfl rfl)
theorem dX4_heat_23 : decode cX4_heat 23 = .ok (.iload_n 2, 1) := dk_28 (dk_at dksX4_heat_0 23 rfl rfl)
theorem dX4_heat_24 : decode cX4_heat 24 = .ok (.aload_n 0, 1) := dk_42 (dk_at dksX4_heat_1 0 rfl rfl)
theorem dX4_heat_25 : decode cX4_heat 25 = .ok (.getfield 93, 3) := dk_180 0 93 (dk_at dksX4_heat_1 1 rfl rfl)
theorem dX4_heat_28 : decode cX4_heat 28 = .ok (.if_icmp .ge 47, 3) := dk_162 0 47 (dk_at dksX4_heat_1 4 rfl rfl)
theorem dX4_heat_31 : decode cX4_heat 31 = .ok (.aload_n 0, 1) := dk_42 (dk_at dksX4_heat_1 7 rfl rfl)
theorem dX4_heat_32 : decode cX4_heat 32 = .ok (.iload_n 2, 1) := dk_28 (dk_at dksX4_heat_1 8 rfl rfl)
theorem dX4_heat_33 : decode cX4_heat 33 = .ok (.iload_n 1, 1) := dk_27 (dk_at dksX4_heat_1 9 rfl rfl)
theorem dX4_heat_34 : decode cX4_heat 34 = .ok (.invokevirtual 248, 3) := dk_182 0 248 (dk_at dksX4_heat_1 10 rfl rfl)
theorem dX4_heat_37 : decode cX4_heat 37 = .ok (.ifCond .eq 32, 3) := dk_153 0 32 (dk_at dksX4_heat_1 13 rfl rfl)
theorem dX4_heat_40 : decode cX4_heat 40 = .ok (.aload_n 0, 1) := dk_42 (dk_at dksX4_heat_1 16 rfl rfl)
theorem dX4_heat_41 : decode cX4_heat 41 = .ok (.getfield 191, 3) := dk_180 0 191 (dk_at dksX4_heat_1 17 rfl rfl)
theorem dX4_heat_44 : decode cX4_heat 44 = .ok (.istore_n 3, 1) := dk_62 (dk_at dksX4_heat_1 20 rfl rfl)
theorem dX4_heat_45 : decode cX4_heat 45 = .ok (.iload_n 3, 1) := dk_29 (dk_at dksX4_heat_1 21 rfl rfl)
theorem dX4_heat_46 : decode cX4_heat 46 = .ok (.aload_n 0, 1) := dk_42 (dk_at dksX4_heat_1 22 rfl rfl)
theorem dX4_heat_47 : decode cX4_heat 47 = .ok (.getfield 194, 3) := dk_180 0 194 (dk_at dksX4_heat_2 0 rfl rfl)
theorem dX4_heat_50 : decode cX4_heat 50 = .ok (.if_icmp .gt 19, 3) := dk_163 0 19 (dk_at dksX4_heat_2 3 rfl rfl)
theorem dX4_heat_53 : decode cX4_heat 53 = .ok (.aload_n 0, 1) := dk_42 (dk_at dksX4_heat_2 6 rfl rfl)
theorem dX4_heat_54 : decode cX4_heat 54 = .ok (.getfield 62, 3) := dk_180 0 62 (dk_at dksX4_heat_2 7 rfl rfl)
theorem dX4_heat_57 : decode cX4_heat 57 = .ok (.iload_n 3, 1) := dk_29 (dk_at dksX4_heat_2 10 rfl rfl)
theorem dX4_heat_58 : decode cX4_heat 58 = .ok (.dup2, 1) := dk_92 (dk_at dksX4_heat_2 11 rfl rfl)
theorem dX4_heat_59 : decode cX4_heat 59 = .ok (.iaload, 1) := dk_46 (dk_at dksX4_heat_2 12 rfl rfl)
theorem dX4_heat_60 : decode cX4_heat 60 = .ok (.iconst 1, 1) := dk_4 (dk_at dksX4_heat_2 13 rfl rfl)
theorem dX4_heat_61 : decode cX4_heat 61 = .ok (.iadd, 1) := dk_96 (dk_at dksX4_heat_2 14 rfl rfl)
theorem dX4_heat_62 : decode cX4_heat 62 = .ok (.iastore, 1) := dk_79 (dk_at dksX4_heat_2 15 rfl rfl)
theorem dX4_heat_63 : decode cX4_heat 63 = .ok (.iinc 3 1, 3) := dk_132 3 1 (dk_at dksX4_heat_2 16 rfl rfl)
theorem dX4_heat_66 : decode cX4_heat 66 = .ok (.goto (-21), 3) := dk_167 255 235 (dk_at dksX4_heat_2 19 rfl rfl)
theorem dX4_heat_69 : decode cX4_heat 69 = .ok (.iinc 2 1, 3) := dk_132 2 1 (dk_at dksX4_heat_3 0 rfl rfl)
theorem dX4_heat_72 : decode cX4_heat 72 = .ok (.goto (-49), 3) := dk_167 255 207 (dk_at dksX4_heat_3 3 rfl rfl)
theorem dX4_heat_75 : decode cX4_heat 75 = .ok (.iconst 0, 1) := dk_3 (dk_at dksX4_heat_3 6 rfl rfl)
theorem dX4_heat_76 : decode cX4_heat 76 = .ok (.istore_n 2, 1) := dk_61 (dk_at dksX4_heat_3 7 rfl rfl)
theorem dX4_heat_77 : decode cX4_heat 77 = .ok (.iconst 1, 1) := dk_4 (dk_at dksX4_heat_3 8 rfl rfl)
theorem dX4_heat_78 : decode cX4_heat 78 = .ok (.istore_n 3, 1) := dk_62 (dk_at dksX4_heat_3 9 rfl rfl)
theorem dX4_heat_79 : decode cX4_heat 79 = .ok (.iload_n 3, 1) := dk_29 (dk_at dksX4_heat_3 10 rfl rfl)
theorem dX4_heat_80 : decode cX4_heat 80 = .ok (.bipush 24, 2) := dk_16 24 (dk_at dksX4_heat_3 11 rfl rfl)
theorem dX4_heat_82 : decode cX4_heat 82 = .ok (.if_icmp .ge 26, 3) := dk_162 0 26 (dk_at dksX4_heat_3 13 rfl rfl)
theorem dX4_heat_85 : decode cX4_heat 85 = .ok (.aload_n 0, 1) := dk_42 (dk_at dksX4_heat_3 16 rfl rfl)
theorem dX4_heat_86 : decode cX4_heat 86 = .ok (.getfield 62, 3) := dk_180 0 62 (dk_at dksX4_heat_3 17 rfl rfl)
theorem dX4_heat_89 : decode cX4_heat 89 = .ok (.iload_n 3, 1) := dk_29 (dk_at dksX4_heat_3 20 rfl rfl)
theorem dX4_heat_90 : decode cX4_heat 90 = .ok (.iaload, 1) := dk_46 (dk_at dksX4_heat_3 21 rfl rfl)
theorem dX4_heat_91 : decode cX4_heat 91 = .ok (.aload_n 0, 1) := dk_42 (dk_at dksX4_heat_3 22 rfl rfl)
theorem dX4_heat_92 : decode cX4_heat 92 = .ok (.getfield 62, 3) := dk_180 0 62 (dk_at dksX4_heat_4 0 rfl rfl)
theorem dX4_heat_95 : decode cX4_heat 95 = .ok (.iload_n 2, 1) := dk_28 (dk_at dksX4_heat_4 3 rfl rfl)
theorem dX4_heat_96 : decode cX4_heat 96 = .ok (.iaload, 1) := dk_46 (dk_at dksX4_heat_4 4 rfl rfl)
theorem dX4_heat_97 : decode cX4_heat 97 = .ok (.if_icmp .le 5, 3) := dk_164 0 5 (dk_at dksX4_heat_4 5 rfl rfl)
theorem dX4_heat_100 : decode cX4_heat 100 = .ok (.iload_n 3, 1) := dk_29 (dk_at dksX4_heat_4 8 rfl rfl)
theorem dX4_heat_101 : decode cX4_heat 101 = .ok (.istore_n 2, 1) := dk_61 (dk_at dksX4_heat_4 9 rfl rfl)
theorem dX4_heat_102 : decode cX4_heat 102 = .ok (.iinc 3 1, 3) := dk_132 3 1 (dk_at dksX4_heat_4 10 rfl rfl)
theorem dX4_heat_105 : decode cX4_heat 105 = .ok (.goto (-26), 3) := dk_167 255 230 (dk_at dksX4_heat_4 13 rfl rfl)
theorem dX4_heat_108 : decode cX4_heat 108 = .ok (.aload_n 0, 1) := dk_42 (dk_at dksX4_heat_4 16 rfl rfl)
theorem dX4_heat_109 : decode cX4_heat 109 = .ok (.getfield 62, 3) := dk_180 0 62 (dk_at dksX4_heat_4 17 rfl rfl)
theorem dX4_heat_112 : decode cX4_heat 112 = .ok (.iload_n 2, 1) := dk_28 (dk_at dksX4_heat_4 20 rfl rfl)
theorem dX4_heat_113 : decode cX4_heat 113 = .ok (.iaload, 1) := dk_46 (dk_at dksX4_heat_4 21 rfl rfl)
theorem dX4_heat_114 : decode cX4_heat 114 = .ok (.ifCond .ne 8, 3) := dk_154 0 8 (dk_at dksX4_heat_5 0 rfl rfl)
theorem dX4_heat_117 : decode cX4_heat 117 = .ok (.bipush 99, 2) := dk_16 99 (dk_at dksX4_heat_5 3 rfl rfl)
theorem dX4_heat_119 : decode cX4_heat 119 = .ok (.goto 4, 3) := dk_167 0 4 (dk_at dksX4_heat_5 5 rfl rfl)
theorem dX4_heat_122 : decode cX4_heat 122 = .ok (.iload_n 2, 1) := dk_28 (dk_at dksX4_heat_5 8 rfl rfl)
theorem dX4_heat_123 : decode cX4_heat 123 = .ok (.ireturn, 1) := dk_172 (dk_at dksX4_heat_5 9 rfl rfl)
abbrev cX4_covered : ByteArray := prog_28_method_65_code
def yX4_covered : MethodName := ⟨RX4, "covered", "(I)I"⟩
def dkwX4_covered_2 : List UInt8 := [163, 0, 16, 28, 4, 21, 4, 120, 128, 61, 132, 4, 1, 167, 255, 237, 132, 3, 1, 167, 255, 208, 28, 172]
abbrev dktX4_covered_2 : List UInt8 := dkwX4_covered_2 ++ []
def dkwX4_covered_1 : List UInt8 := [162, 0, 46, 42, 29, 27, 182, 0, 248, 153, 0, 31, 42, 180, 0, 191, 54, 4, 21, 4, 42, 180, 0, 194]
abbrev dktX4_covered_1 : List UInt8 := dkwX4_covered_1 ++ dktX4_covered_2
def dkwX4_covered_0 : List UInt8 := [42, 27, 182, 0, 124, 154, 0, 9, 42, 2, 182, 0, 82, 172, 3, 61, 3, 62, 29, 42, 180, 0, 93]
abbrev dktX4_covered_0 : List UInt8 := dkwX4_covered_0 ++ dktX4_covered_1
theorem dksX4_covered_0 : cX4_covered.data.toList.drop 0 = dktX4_covered_0 := by decide +kernel
theorem dksX4_covered_1 : cX4_covered.data.toList.drop 23 = dktX4_covered_1 := dk_seg dksX4_covered_0 23 rfl rfl
theorem dksX4_covered_2 : cX4_covered.data.toList.drop 47 = dktX4_covered_2 := dk_seg dksX4_covered_1 24 rfl rfl
theorem dX4_covered_0 : decode cX4_covered 0 = .ok (.aload_n 0, 1) := dk_42 (dk_at dksX4_covered_0 0 rfl rfl)
theorem dX4_covered_1 : decode cX4_covered 1 = .ok (.iload_n 1, 1) := dk_27 (dk_at dksX4_covered_0 1 rfl rfl)
theorem dX4_covered_2 : decode cX4_covered 2 = .ok (.invokevirtual 124, 3) := dk_182 0 124 (dk_at dksX4_covered_0 2 rfl rfl)
theorem dX4_covered_5 : decode cX4_covered 5 = .ok (.ifCond .ne 9, 3) := dk_154 0 9 (dk_at dksX4_covered_0 5 rfl rfl)
theorem dX4_covered_8 : decode cX4_covered 8 = .ok (.aload_n 0, 1) := dk_42 (dk_at dksX4_covered_0 8 rfl rfl)
theorem dX4_covered_9 : decode cX4_covered 9 = .ok (.iconst (-1), 1) := dk_2 (dk_at dksX4_covered_0 9 rfl rfl)
theorem dX4_covered_10 : decode cX4_covered 10 = .ok (.invokevirtual 82, 3) := dk_182 0 82 (dk_at dksX4_covered_0 10 rfl rfl)
theorem dX4_covered_13 : decode cX4_covered 13 = .ok (.ireturn, 1) := dk_172 (dk_at dksX4_covered_0 13 rfl rfl)
theorem dX4_covered_14 : decode cX4_covered 14 = .ok (.iconst 0, 1) := dk_3 (dk_at dksX4_covered_0 14 rfl rfl)
theorem dX4_covered_15 : decode cX4_covered 15 = .ok (.istore_n 2, 1) := dk_61 (dk_at dksX4_covered_0 15 rfl rfl)
theorem dX4_covered_16 : decode cX4_covered 16 = .ok (.iconst 0, 1) := dk_3 (dk_at dksX4_covered_0 16 rfl rfl)
theorem dX4_covered_17 : decode cX4_covered 17 = .ok (.istore_n 3, 1) := dk_62 (dk_at dksX4_covered_0 17 rfl rfl)
theorem dX4_covered_18 : decode cX4_covered 18 = .ok (.iload_n 3, 1) := dk_29 (dk_at dksX4_covered_0 18 rfl rfl)
theorem dX4_covered_19 : decode cX4_covered 19 = .ok (.aload_n 0, 1) := dk_42 (dk_at dksX4_covered_0 19 rfl rfl)
theorem dX4_covered_20 : decode cX4_covered 20 = .ok (.getfield 93, 3) := dk_180 0 93 (dk_at dksX4_covered_0 20 rfl rfl)
theorem dX4_covered_23 : decode cX4_covered 23 = .ok (.if_icmp .ge 46, 3) := dk_162 0 46 (dk_at dksX4_covered_1 0 rfl rfl)
theorem dX4_covered_26 : decode cX4_covered 26 = .ok (.aload_n 0, 1) := dk_42 (dk_at dksX4_covered_1 3 rfl rfl)
theorem dX4_covered_27 : decode cX4_covered 27 = .ok (.iload_n 3, 1) := dk_29 (dk_at dksX4_covered_1 4 rfl rfl)
theorem dX4_covered_28 : decode cX4_covered 28 = .ok (.iload_n 1, 1) := dk_27 (dk_at dksX4_covered_1 5 rfl rfl)
theorem dX4_covered_29 : decode cX4_covered 29 = .ok (.invokevirtual 248, 3) := dk_182 0 248 (dk_at dksX4_covered_1 6 rfl rfl)
theorem dX4_covered_32 : decode cX4_covered 32 = .ok (.ifCond .eq 31, 3) := dk_153 0 31 (dk_at dksX4_covered_1 9 rfl rfl)
theorem dX4_covered_35 : decode cX4_covered 35 = .ok (.aload_n 0, 1) := dk_42 (dk_at dksX4_covered_1 12 rfl rfl)
theorem dX4_covered_36 : decode cX4_covered 36 = .ok (.getfield 191, 3) := dk_180 0 191 (dk_at dksX4_covered_1 13 rfl rfl)
theorem dX4_covered_39 : decode cX4_covered 39 = .ok (.istore 4, 2) := dk_54 4 (dk_at dksX4_covered_1 16 rfl rfl)
theorem dX4_covered_41 : decode cX4_covered 41 = .ok (.iload 4, 2) := dk_21 4 (dk_at dksX4_covered_1 18 rfl rfl)
theorem dX4_covered_43 : decode cX4_covered 43 = .ok (.aload_n 0, 1) := dk_42 (dk_at dksX4_covered_1 20 rfl rfl)
theorem dX4_covered_44 : decode cX4_covered 44 = .ok (.getfield 194, 3) := dk_180 0 194 (dk_at dksX4_covered_1 21 rfl rfl)
theorem dX4_covered_47 : decode cX4_covered 47 = .ok (.if_icmp .gt 16, 3) := dk_163 0 16 (dk_at dksX4_covered_2 0 rfl rfl)
theorem dX4_covered_50 : decode cX4_covered 50 = .ok (.iload_n 2, 1) := dk_28 (dk_at dksX4_covered_2 3 rfl rfl)
theorem dX4_covered_51 : decode cX4_covered 51 = .ok (.iconst 1, 1) := dk_4 (dk_at dksX4_covered_2 4 rfl rfl)
theorem dX4_covered_52 : decode cX4_covered 52 = .ok (.iload 4, 2) := dk_21 4 (dk_at dksX4_covered_2 5 rfl rfl)
theorem dX4_covered_54 : decode cX4_covered 54 = .ok (.ishl, 1) := dk_120 (dk_at dksX4_covered_2 7 rfl rfl)
theorem dX4_covered_55 : decode cX4_covered 55 = .ok (.ior, 1) := dk_128 (dk_at dksX4_covered_2 8 rfl rfl)
theorem dX4_covered_56 : decode cX4_covered 56 = .ok (.istore_n 2, 1) := dk_61 (dk_at dksX4_covered_2 9 rfl rfl)
theorem dX4_covered_57 : decode cX4_covered 57 = .ok (.iinc 4 1, 3) := dk_132 4 1 (dk_at dksX4_covered_2 10 rfl rfl)
theorem dX4_covered_60 : decode cX4_covered 60 = .ok (.goto (-19), 3) := dk_167 255 237 (dk_at dksX4_covered_2 13 rfl rfl)
theorem dX4_covered_63 : decode cX4_covered 63 = .ok (.iinc 3 1, 3) := dk_132 3 1 (dk_at dksX4_covered_2 16 rfl rfl)
theorem dX4_covered_66 : decode cX4_covered 66 = .ok (.goto (-48), 3) := dk_167 255 208 (dk_at dksX4_covered_2 19 rfl rfl)
theorem dX4_covered_69 : decode cX4_covered 69 = .ok (.iload_n 2, 1) := dk_28 (dk_at dksX4_covered_2 22 rfl rfl)
theorem dX4_covered_70 : decode cX4_covered 70 = .ok (.ireturn, 1) := dk_172 (dk_at dksX4_covered_2 23 rfl rfl)
abbrev cX4_judge : ByteArray := prog_28_method_66_code
def yX4_judge : MethodName := ⟨RX4, "judge", "(III)I"⟩
def dkwX4_judge_6 : List UInt8 := [167, 255, 211, 2, 172]
abbrev dktX4_judge_6 : List UInt8 := dkwX4_judge_6 ++ []
def dkwX4_judge_5 : List UInt8 := [182, 0, 245, 87, 42, 27, 21, 6, 182, 0, 117, 42, 180, 0, 191, 159, 0, 6, 21, 6, 172, 132, 6, 1]
abbrev dktX4_judge_5 : List UInt8 := dkwX4_judge_5 ++ dktX4_judge_6
def dkwX4_judge_4 : List UInt8 := [54, 6, 21, 6, 21, 5, 163, 0, 44, 42, 28, 42, 3, 28, 182, 0, 109, 29, 21, 5, 21, 6, 100]
abbrev dktX4_judge_4 : List UInt8 := dkwX4_judge_4 ++ dktX4_judge_5
def dkwX4_judge_3 : List UInt8 := [182, 0, 138, 172, 42, 180, 0, 32, 27, 46, 21, 5, 163, 0, 10, 42, 16, 251, 182, 0, 138, 172, 3]
abbrev dktX4_judge_3 : List UInt8 := dkwX4_judge_3 ++ dktX4_judge_4
def dkwX4_judge_2 : List UInt8 := [42, 29, 42, 5, 28, 182, 0, 109, 182, 0, 169, 54, 5, 21, 5, 2, 160, 0, 10, 42, 16, 250]
abbrev dktX4_judge_2 : List UInt8 := dkwX4_judge_2 ++ dktX4_judge_3
def dkwX4_judge_1 : List UInt8 := [182, 0, 124, 154, 0, 9, 42, 2, 182, 0, 138, 172, 21, 4, 156, 0, 10, 42, 21, 4, 182, 0, 138, 172]
abbrev dktX4_judge_1 : List UInt8 := dkwX4_judge_1 ++ dktX4_judge_2
def dkwX4_judge_0 : List UInt8 := [42, 27, 182, 0, 100, 54, 4, 21, 4, 2, 159, 0, 19, 42, 28, 182, 0, 103, 153, 0, 11, 42, 29]
abbrev dktX4_judge_0 : List UInt8 := dkwX4_judge_0 ++ dktX4_judge_1
theorem dksX4_judge_0 : cX4_judge.data.toList.drop 0 = dktX4_judge_0 := by decide +kernel
theorem dksX4_judge_1 : cX4_judge.data.toList.drop 23 = dktX4_judge_1 := dk_seg dksX4_judge_0 23 rfl rfl
theorem dksX4_judge_2 : cX4_judge.data.toList.drop 47 = dktX4_judge_2 := dk_seg dksX4_judge_1 24 rfl rfl
theorem dksX4_judge_3 : cX4_judge.data.toList.drop 69 = dktX4_judge_3 := dk_seg dksX4_judge_2 22 rfl rfl
theorem dksX4_judge_4 : cX4_judge.data.toList.drop 92 = dktX4_judge_4 := dk_seg dksX4_judge_3 23 rfl rfl
theorem dksX4_judge_5 : cX4_judge.data.toList.drop 115 = dktX4_judge_5 := dk_seg dksX4_judge_4 23 rfl rfl
theorem dksX4_judge_6 : cX4_judge.data.toList.drop 139 = dktX4_judge_6 := dk_seg dksX4_judge_5 24 rfl rfl
theorem dX4_judge_0 : decode cX4_judge 0 = .ok (.aload_n 0, 1) := dk_42 (dk_at dksX4_judge_0 0 rfl rfl)
theorem dX4_judge_1 : decode cX4_judge 1 = .ok (.iload_n 1, 1) := dk_27 (dk_at dksX4_judge_0 1 rfl rfl)
theorem dX4_judge_2 : decode cX4_judge 2 = .ok (.invokevirtual 100, 3) := dk_182 0 100 (dk_at dksX4_judge_0 2 rfl rfl)
theorem dX4_judge_5 : decode cX4_judge 5 = .ok (.istore 4, 2) := dk_54 4 (dk_at dksX4_judge_0 5 rfl rfl)
theorem dX4_judge_7 : decode cX4_judge 7 = .ok (.iload 4, 2) := dk_21 4 (dk_at dksX4_judge_0 7 rfl rfl)
theorem dX4_judge_9 : decode cX4_judge 9 = .ok (.iconst (-1), 1) := dk_2 (dk_at dksX4_judge_0 9 rfl rfl)
theorem dX4_judge_10 : decode cX4_judge 10 = .ok (.if_icmp .eq 19, 3) := dk_159 0 19 (dk_at dksX4_judge_0 10 rfl rfl)
theorem dX4_judge_13 : decode cX4_judge 13 = .ok (.aload_n 0, 1) := dk_42 (dk_at dksX4_judge_0 13 rfl rfl)
theorem dX4_judge_14 : decode cX4_judge 14 = .ok (.iload_n 2, 1) := dk_28 (dk_at dksX4_judge_0 14 rfl rfl)
theorem dX4_judge_15 : decode cX4_judge 15 = .ok (.invokevirtual 103, 3) := dk_182 0 103 (dk_at dksX4_judge_0 15 rfl rfl)
theorem dX4_judge_18 : decode cX4_judge 18 = .ok (.ifCond .eq 11, 3) := dk_153 0 11 (dk_at dksX4_judge_0 18 rfl rfl)
theorem dX4_judge_21 : decode cX4_judge 21 = .ok (.aload_n 0, 1) := dk_42 (dk_at dksX4_judge_0 21 rfl rfl)
theorem dX4_judge_22 : decode cX4_judge 22 = .ok (.iload_n 3, 1) := dk_29 (dk_at dksX4_judge_0 22 rfl rfl)
theorem dX4_judge_23 : decode cX4_judge 23 = .ok (.invokevirtual 124, 3) := dk_182 0 124 (dk_at dksX4_judge_1 0 rfl rfl)
theorem dX4_judge_26 : decode cX4_judge 26 = .ok (.ifCond .ne 9, 3) := dk_154 0 9 (dk_at dksX4_judge_1 3 rfl rfl)
theorem dX4_judge_29 : decode cX4_judge 29 = .ok (.aload_n 0, 1) := dk_42 (dk_at dksX4_judge_1 6 rfl rfl)
theorem dX4_judge_30 : decode cX4_judge 30 = .ok (.iconst (-1), 1) := dk_2 (dk_at dksX4_judge_1 7 rfl rfl)
theorem dX4_judge_31 : decode cX4_judge 31 = .ok (.invokevirtual 138, 3) := dk_182 0 138 (dk_at dksX4_judge_1 8 rfl rfl)
theorem dX4_judge_34 : decode cX4_judge 34 = .ok (.ireturn, 1) := dk_172 (dk_at dksX4_judge_1 11 rfl rfl)
theorem dX4_judge_35 : decode cX4_judge 35 = .ok (.iload 4, 2) := dk_21 4 (dk_at dksX4_judge_1 12 rfl rfl)
theorem dX4_judge_37 : decode cX4_judge 37 = .ok (.ifCond .ge 10, 3) := dk_156 0 10 (dk_at dksX4_judge_1 14 rfl rfl)
theorem dX4_judge_40 : decode cX4_judge 40 = .ok (.aload_n 0, 1) := dk_42 (dk_at dksX4_judge_1 17 rfl rfl)
theorem dX4_judge_41 : decode cX4_judge 41 = .ok (.iload 4, 2) := dk_21 4 (dk_at dksX4_judge_1 18 rfl rfl)
theorem dX4_judge_43 : decode cX4_judge 43 = .ok (.invokevirtual 138, 3) := dk_182 0 138 (dk_at dksX4_judge_1 20 rfl rfl)
theorem dX4_judge_46 : decode cX4_judge 46 = .ok (.ireturn, 1) := dk_172 (dk_at dksX4_judge_1 23 rfl rfl)
theorem dX4_judge_47 : decode cX4_judge 47 = .ok (.aload_n 0, 1) := dk_42 (dk_at dksX4_judge_2 0 rfl rfl)
theorem dX4_judge_48 : decode cX4_judge 48 = .ok (.iload_n 3, 1) := dk_29 (dk_at dksX4_judge_2 1 rfl rfl)
theorem dX4_judge_49 : decode cX4_judge 49 = .ok (.aload_n 0, 1) := dk_42 (dk_at dksX4_judge_2 2 rfl rfl)
theorem dX4_judge_50 : decode cX4_judge 50 = .ok (.iconst 2, 1) := dk_5 (dk_at dksX4_judge_2 3 rfl rfl)
theorem dX4_judge_51 : decode cX4_judge 51 = .ok (.iload_n 2, 1) := dk_28 (dk_at dksX4_judge_2 4 rfl rfl)
theorem dX4_judge_52 : decode cX4_judge 52 = .ok (.invokevirtual 109, 3) := dk_182 0 109 (dk_at dksX4_judge_2 5 rfl rfl)
theorem dX4_judge_55 : decode cX4_judge 55 = .ok (.invokevirtual 169, 3) := dk_182 0 169 (dk_at dksX4_judge_2 8 rfl rfl)
theorem dX4_judge_58 : decode cX4_judge 58 = .ok (.istore 5, 2) := dk_54 5 (dk_at dksX4_judge_2 11 rfl rfl)
theorem dX4_judge_60 : decode cX4_judge 60 = .ok (.iload 5, 2) := dk_21 5 (dk_at dksX4_judge_2 13 rfl rfl)
theorem dX4_judge_62 : decode cX4_judge 62 = .ok (.iconst (-1), 1) := dk_2 (dk_at dksX4_judge_2 15 rfl rfl)
theorem dX4_judge_63 : decode cX4_judge 63 = .ok (.if_icmp .ne 10, 3) := dk_160 0 10 (dk_at dksX4_judge_2 16 rfl rfl)
theorem dX4_judge_66 : decode cX4_judge 66 = .ok (.aload_n 0, 1) := dk_42 (dk_at dksX4_judge_2 19 rfl rfl)
theorem dX4_judge_67 : decode cX4_judge 67 = .ok (.bipush (-6), 2) := dk_16 250 (dk_at dksX4_judge_2 20 rfl rfl)
theorem dX4_judge_69 : decode cX4_judge 69 = .ok (.invokevirtual 138, 3) := dk_182 0 138 (dk_at dksX4_judge_3 0 rfl rfl)
theorem dX4_judge_72 : decode cX4_judge 72 = .ok (.ireturn, 1) := dk_172 (dk_at dksX4_judge_3 3 rfl rfl)
theorem dX4_judge_73 : decode cX4_judge 73 = .ok (.aload_n 0, 1) := dk_42 (dk_at dksX4_judge_3 4 rfl rfl)
theorem dX4_judge_74 : decode cX4_judge 74 = .ok (.getfield 32, 3) := dk_180 0 32 (dk_at dksX4_judge_3 5 rfl rfl)
theorem dX4_judge_77 : decode cX4_judge 77 = .ok (.iload_n 1, 1) := dk_27 (dk_at dksX4_judge_3 8 rfl rfl)
theorem dX4_judge_78 : decode cX4_judge 78 = .ok (.iaload, 1) := dk_46 (dk_at dksX4_judge_3 9 rfl rfl)
theorem dX4_judge_79 : decode cX4_judge 79 = .ok (.iload 5, 2) := dk_21 5 (dk_at dksX4_judge_3 10 rfl rfl)
theorem dX4_judge_81 : decode cX4_judge 81 = .ok (.if_icmp .gt 10, 3) := dk_163 0 10 (dk_at dksX4_judge_3 12 rfl rfl)
theorem dX4_judge_84 : decode cX4_judge 84 = .ok (.aload_n 0, 1) := dk_42 (dk_at dksX4_judge_3 15 rfl rfl)
theorem dX4_judge_85 : decode cX4_judge 85 = .ok (.bipush (-5), 2) := dk_16 251 (dk_at dksX4_judge_3 16 rfl rfl)
theorem dX4_judge_87 : decode cX4_judge 87 = .ok (.invokevirtual 138, 3) := dk_182 0 138 (dk_at dksX4_judge_3 18 rfl rfl)
theorem dX4_judge_90 : decode cX4_judge 90 = .ok (.ireturn, 1) := dk_172 (dk_at dksX4_judge_3 21 rfl rfl)
theorem dX4_judge_91 : decode cX4_judge 91 = .ok (.iconst 0, 1) := dk_3 (dk_at dksX4_judge_3 22 rfl rfl)
theorem dX4_judge_92 : decode cX4_judge 92 = .ok (.istore 6, 2) := dk_54 6 (dk_at dksX4_judge_4 0 rfl rfl)
theorem dX4_judge_94 : decode cX4_judge 94 = .ok (.iload 6, 2) := dk_21 6 (dk_at dksX4_judge_4 2 rfl rfl)
theorem dX4_judge_96 : decode cX4_judge 96 = .ok (.iload 5, 2) := dk_21 5 (dk_at dksX4_judge_4 4 rfl rfl)
theorem dX4_judge_98 : decode cX4_judge 98 = .ok (.if_icmp .gt 44, 3) := dk_163 0 44 (dk_at dksX4_judge_4 6 rfl rfl)
theorem dX4_judge_101 : decode cX4_judge 101 = .ok (.aload_n 0, 1) := dk_42 (dk_at dksX4_judge_4 9 rfl rfl)
theorem dX4_judge_102 : decode cX4_judge 102 = .ok (.iload_n 2, 1) := dk_28 (dk_at dksX4_judge_4 10 rfl rfl)
theorem dX4_judge_103 : decode cX4_judge 103 = .ok (.aload_n 0, 1) := dk_42 (dk_at dksX4_judge_4 11 rfl rfl)
theorem dX4_judge_104 : decode cX4_judge 104 = .ok (.iconst 0, 1) := dk_3 (dk_at dksX4_judge_4 12 rfl rfl)
theorem dX4_judge_105 : decode cX4_judge 105 = .ok (.iload_n 2, 1) := dk_28 (dk_at dksX4_judge_4 13 rfl rfl)
theorem dX4_judge_106 : decode cX4_judge 106 = .ok (.invokevirtual 109, 3) := dk_182 0 109 (dk_at dksX4_judge_4 14 rfl rfl)
theorem dX4_judge_109 : decode cX4_judge 109 = .ok (.iload_n 3, 1) := dk_29 (dk_at dksX4_judge_4 17 rfl rfl)
theorem dX4_judge_110 : decode cX4_judge 110 = .ok (.iload 5, 2) := dk_21 5 (dk_at dksX4_judge_4 18 rfl rfl)
theorem dX4_judge_112 : decode cX4_judge 112 = .ok (.iload 6, 2) := dk_21 6 (dk_at dksX4_judge_4 20 rfl rfl)
theorem dX4_judge_114 : decode cX4_judge 114 = .ok (.isub, 1) := dk_100 (dk_at dksX4_judge_4 22 rfl rfl)
theorem dX4_judge_115 : decode cX4_judge 115 = .ok (.invokevirtual 245, 3) := dk_182 0 245 (dk_at dksX4_judge_5 0 rfl rfl)
theorem dX4_judge_118 : decode cX4_judge 118 = .ok (.pop, 1) := dk_87 (dk_at dksX4_judge_5 3 rfl rfl)
theorem dX4_judge_119 : decode cX4_judge 119 = .ok (.aload_n 0, 1) := dk_42 (dk_at dksX4_judge_5 4 rfl rfl)
theorem dX4_judge_120 : decode cX4_judge 120 = .ok (.iload_n 1, 1) := dk_27 (dk_at dksX4_judge_5 5 rfl rfl)
theorem dX4_judge_121 : decode cX4_judge 121 = .ok (.iload 6, 2) := dk_21 6 (dk_at dksX4_judge_5 6 rfl rfl)
theorem dX4_judge_123 : decode cX4_judge 123 = .ok (.invokevirtual 117, 3) := dk_182 0 117 (dk_at dksX4_judge_5 8 rfl rfl)
theorem dX4_judge_126 : decode cX4_judge 126 = .ok (.aload_n 0, 1) := dk_42 (dk_at dksX4_judge_5 11 rfl rfl)
theorem dX4_judge_127 : decode cX4_judge 127 = .ok (.getfield 191, 3) := dk_180 0 191 (dk_at dksX4_judge_5 12 rfl rfl)
theorem dX4_judge_130 : decode cX4_judge 130 = .ok (.if_icmp .eq 6, 3) := dk_159 0 6 (dk_at dksX4_judge_5 15 rfl rfl)
theorem dX4_judge_133 : decode cX4_judge 133 = .ok (.iload 6, 2) := dk_21 6 (dk_at dksX4_judge_5 18 rfl rfl)
theorem dX4_judge_135 : decode cX4_judge 135 = .ok (.ireturn, 1) := dk_172 (dk_at dksX4_judge_5 20 rfl rfl)
theorem dX4_judge_136 : decode cX4_judge 136 = .ok (.iinc 6 1, 3) := dk_132 6 1 (dk_at dksX4_judge_5 21 rfl rfl)
theorem dX4_judge_139 : decode cX4_judge 139 = .ok (.goto (-45), 3) := dk_167 255 211 (dk_at dksX4_judge_6 0 rfl rfl)
theorem dX4_judge_142 : decode cX4_judge 142 = .ok (.iconst (-1), 1) := dk_2 (dk_at dksX4_judge_6 3 rfl rfl)
theorem dX4_judge_143 : decode cX4_judge 143 = .ok (.ireturn, 1) := dk_172 (dk_at dksX4_judge_6 4 rfl rfl)
abbrev cX4_again : ByteArray := prog_28_method_68_code
def yX4_again : MethodName := ⟨RX4, "again", "(II)I"⟩
def dkwX4_again_8 : List UInt8 := [21, 6, 182, 0, 109, 42, 8, 21, 6, 182, 0, 109, 182, 0, 175, 87, 132, 6, 1, 167, 255, 182, 29, 172]
abbrev dktX4_again_8 : List UInt8 := dkwX4_again_8 ++ []
def dkwX4_again_7 : List UInt8 := [21, 6, 182, 0, 109, 42, 4, 21, 6, 182, 0, 109, 21, 4, 42, 6, 21, 6, 182, 0, 109, 42, 7]
abbrev dktX4_again_7 : List UInt8 := dkwX4_again_7 ++ dktX4_again_8
def dkwX4_again_6 : List UInt8 := [21, 6, 182, 0, 109, 27, 160, 0, 56, 42, 16, 6, 21, 6, 182, 0, 109, 154, 0, 45, 42, 42, 3]
abbrev dktX4_again_6 : List UInt8 := dkwX4_again_6 ++ dktX4_again_7
def dkwX4_again_5 : List UInt8 := [28, 182, 0, 130, 54, 4, 42, 180, 0, 93, 54, 5, 3, 54, 6, 21, 6, 21, 5, 162, 0, 73, 42, 5]
abbrev dktX4_again_5 : List UInt8 := dkwX4_again_5 ++ dktX4_again_6
def dkwX4_again_4 : List UInt8 := [42, 180, 0, 93, 29, 96, 16, 16, 164, 0, 10, 42, 16, 249, 182, 0, 82, 172, 42, 27, 182, 0, 254, 42]
abbrev dktX4_again_4 : List UInt8 := dkwX4_again_4 ++ dktX4_again_5
def dkwX4_again_3 : List UInt8 := [182, 0, 109, 154, 0, 6, 132, 3, 1, 132, 4, 1, 167, 255, 219, 42, 180, 0, 86, 16, 16, 159, 0, 14]
abbrev dktX4_again_3 : List UInt8 := dkwX4_again_3 ++ dktX4_again_4
def dkwX4_again_2 : List UInt8 := [180, 0, 93, 162, 0, 34, 42, 5, 21, 4, 182, 0, 109, 27, 160, 0, 17, 42, 16, 6, 21, 4]
abbrev dktX4_again_2 : List UInt8 := dkwX4_again_2 ++ dktX4_again_3
def dkwX4_again_1 : List UInt8 := [27, 182, 0, 169, 2, 159, 0, 10, 42, 16, 250, 182, 0, 82, 172, 3, 62, 3, 54, 4, 21, 4, 42]
abbrev dktX4_again_1 : List UInt8 := dkwX4_again_1 ++ dktX4_again_2
def dkwX4_again_0 : List UInt8 := [42, 27, 182, 0, 124, 153, 0, 11, 42, 28, 182, 0, 124, 154, 0, 9, 42, 2, 182, 0, 82, 172, 42, 28]
abbrev dktX4_again_0 : List UInt8 := dkwX4_again_0 ++ dktX4_again_1
theorem dksX4_again_0 : cX4_again.data.toList.drop 0 = dktX4_again_0 := by decide +kernel
theorem dksX4_again_1 : cX4_again.data.toList.drop 24 = dktX4_again_1 := dk_seg dksX4_again_0 24 rfl rfl
theorem dksX4_again_2 : cX4_again.data.toList.drop 47 = dktX4_again_2 := dk_seg dksX4_again_1 23 rfl rfl
theorem dksX4_again_3 : cX4_again.data.toList.drop 69 = dktX4_again_3 := dk_seg dksX4_again_2 22 rfl rfl
theorem dksX4_again_4 : cX4_again.data.toList.drop 93 = dktX4_again_4 := dk_seg dksX4_again_3 24 rfl rfl
theorem dksX4_again_5 : cX4_again.data.toList.drop 117 = dktX4_again_5 := dk_seg dksX4_again_4 24 rfl rfl
theorem dksX4_again_6 : cX4_again.data.toList.drop 141 = dktX4_again_6 := dk_seg dksX4_again_5 24 rfl rfl
theorem dksX4_again_7 : cX4_again.data.toList.drop 164 = dktX4_again_7 := dk_seg dksX4_again_6 23 rfl rfl
theorem dksX4_again_8 : cX4_again.data.toList.drop 187 = dktX4_again_8 := dk_seg dksX4_again_7 23 rfl rfl
theorem dX4_again_0 : decode cX4_again 0 = .ok (.aload_n 0, 1) := dk_42 (dk_at dksX4_again_0 0 rfl rfl)
theorem dX4_again_1 : decode cX4_again 1 = .ok (.iload_n 1, 1) := dk_27 (dk_at dksX4_again_0 1 rfl rfl)
theorem dX4_again_2 : decode cX4_again 2 = .ok (.invokevirtual 124, 3) := dk_182 0 124 (dk_at dksX4_again_0 2 rfl rfl)
theorem dX4_again_5 : decode cX4_again 5 = .ok (.ifCond .eq 11, 3) := dk_153 0 11 (dk_at dksX4_again_0 5 rfl rfl)
theorem dX4_again_8 : decode cX4_again 8 = .ok (.aload_n 0, 1) := dk_42 (dk_at dksX4_again_0 8 rfl rfl)
theorem dX4_again_9 : decode cX4_again 9 = .ok (.iload_n 2, 1) := dk_28 (dk_at dksX4_again_0 9 rfl rfl)
theorem dX4_again_10 : decode cX4_again 10 = .ok (.invokevirtual 124, 3) := dk_182 0 124 (dk_at dksX4_again_0 10 rfl rfl)
theorem dX4_again_13 : decode cX4_again 13 = .ok (.ifCond .ne 9, 3) := dk_154 0 9 (dk_at dksX4_again_0 13 rfl rfl)
theorem dX4_again_16 : decode cX4_again 16 = .ok (.aload_n 0, 1) := dk_42 (dk_at dksX4_again_0 16 rfl rfl)
theorem dX4_again_17 : decode cX4_again 17 = .ok (.iconst (-1), 1) := dk_2 (dk_at dksX4_again_0 17 rfl rfl)
theorem dX4_again_18 : decode cX4_again 18 = .ok (.invokevirtual 82, 3) := dk_182 0 82 (dk_at dksX4_again_0 18 rfl rfl)
theorem dX4_again_21 : decode cX4_again 21 = .ok (.ireturn, 1) := dk_172 (dk_at dksX4_again_0 21 rfl rfl)
theorem dX4_again_22 : decode cX4_again 22 = .ok (.aload_n 0, 1) := dk_42 (dk_at dksX4_again_0 22 rfl rfl)
theorem dX4_again_23 : decode cX4_again 23 = .ok (.iload_n 2, 1) := dk_28 (dk_at dksX4_again_0 23 rfl rfl)
theorem dX4_again_24 : decode cX4_again 24 = .ok (.iload_n 1, 1) := dk_27 (dk_at dksX4_again_1 0 rfl rfl)
theorem dX4_again_25 : decode cX4_again 25 = .ok (.invokevirtual 169, 3) := dk_182 0 169 (dk_at dksX4_again_1 1 rfl rfl)
theorem dX4_again_28 : decode cX4_again 28 = .ok (.iconst (-1), 1) := dk_2 (dk_at dksX4_again_1 4 rfl rfl)
theorem dX4_again_29 : decode cX4_again 29 = .ok (.if_icmp .eq 10, 3) := dk_159 0 10 (dk_at dksX4_again_1 5 rfl rfl)
theorem dX4_again_32 : decode cX4_again 32 = .ok (.aload_n 0, 1) := dk_42 (dk_at dksX4_again_1 8 rfl rfl)
theorem dX4_again_33 : decode cX4_again 33 = .ok (.bipush (-6), 2) := dk_16 250 (dk_at dksX4_again_1 9 rfl rfl)
theorem dX4_again_35 : decode cX4_again 35 = .ok (.invokevirtual 82, 3) := dk_182 0 82 (dk_at dksX4_again_1 11 rfl rfl)
theorem dX4_again_38 : decode cX4_again 38 = .ok (.ireturn, 1) := dk_172 (dk_at dksX4_again_1 14 rfl rfl)
theorem dX4_again_39 : decode cX4_again 39 = .ok (.iconst 0, 1) := dk_3 (dk_at dksX4_again_1 15 rfl rfl)
theorem dX4_again_40 : decode cX4_again 40 = .ok (.istore_n 3, 1) := dk_62 (dk_at dksX4_again_1 16 rfl rfl)
theorem dX4_again_41 : decode cX4_again 41 = .ok (.iconst 0, 1) := dk_3 (dk_at dksX4_again_1 17 rfl rfl)
theorem dX4_again_42 : decode cX4_again 42 = .ok (.istore 4, 2) := dk_54 4 (dk_at dksX4_again_1 18 rfl rfl)
theorem dX4_again_44 : decode cX4_again 44 = .ok (.iload 4, 2) := dk_21 4 (dk_at dksX4_again_1 20 rfl rfl)
theorem dX4_again_46 : decode cX4_again 46 = .ok (.aload_n 0, 1) := dk_42 (dk_at dksX4_again_1 22 rfl rfl)
theorem dX4_again_47 : decode cX4_again 47 = .ok (.getfield 93, 3) := dk_180 0 93 (dk_at dksX4_again_2 0 rfl rfl)
theorem dX4_again_50 : decode cX4_again 50 = .ok (.if_icmp .ge 34, 3) := dk_162 0 34 (dk_at dksX4_again_2 3 rfl rfl)
theorem dX4_again_53 : decode cX4_again 53 = .ok (.aload_n 0, 1) := dk_42 (dk_at dksX4_again_2 6 rfl rfl)
theorem dX4_again_54 : decode cX4_again 54 = .ok (.iconst 2, 1) := dk_5 (dk_at dksX4_again_2 7 rfl rfl)
theorem dX4_again_55 : decode cX4_again 55 = .ok (.iload 4, 2) := dk_21 4 (dk_at dksX4_again_2 8 rfl rfl)
theorem dX4_again_57 : decode cX4_again 57 = .ok (.invokevirtual 109, 3) := dk_182 0 109 (dk_at dksX4_again_2 10 rfl rfl)
theorem dX4_again_60 : decode cX4_again 60 = .ok (.iload_n 1, 1) := dk_27 (dk_at dksX4_again_2 13 rfl rfl)
theorem dX4_again_61 : decode cX4_again 61 = .ok (.if_icmp .ne 17, 3) := dk_160 0 17 (dk_at dksX4_again_2 14 rfl rfl)
theorem dX4_again_64 : decode cX4_again 64 = .ok (.aload_n 0, 1) := dk_42 (dk_at dksX4_again_2 17 rfl rfl)
theorem dX4_again_65 : decode cX4_again 65 = .ok (.bipush 6, 2) := dk_16 6 (dk_at dksX4_again_2 18 rfl rfl)
theorem dX4_again_67 : decode cX4_again 67 = .ok (.iload 4, 2) := dk_21 4 (dk_at dksX4_again_2 20 rfl rfl)
theorem dX4_again_69 : decode cX4_again 69 = .ok (.invokevirtual 109, 3) := dk_182 0 109 (dk_at dksX4_again_3 0 rfl rfl)
theorem dX4_again_72 : decode cX4_again 72 = .ok (.ifCond .ne 6, 3) := dk_154 0 6 (dk_at dksX4_again_3 3 rfl rfl)
theorem dX4_again_75 : decode cX4_again 75 = .ok (.iinc 3 1, 3) := dk_132 3 1 (dk_at dksX4_again_3 6 rfl rfl)
theorem dX4_again_78 : decode cX4_again 78 = .ok (.iinc 4 1, 3) := dk_132 4 1 (dk_at dksX4_again_3 9 rfl rfl)
theorem dX4_again_81 : decode cX4_again 81 = .ok (.goto (-37), 3) := dk_167 255 219 (dk_at dksX4_again_3 12 rfl rfl)
theorem dX4_again_84 : decode cX4_again 84 = .ok (.aload_n 0, 1) := dk_42 (dk_at dksX4_again_3 15 rfl rfl)
theorem dX4_again_85 : decode cX4_again 85 = .ok (.getfield 86, 3) := dk_180 0 86 (dk_at dksX4_again_3 16 rfl rfl)
theorem dX4_again_88 : decode cX4_again 88 = .ok (.bipush 16, 2) := dk_16 16 (dk_at dksX4_again_3 19 rfl rfl)
theorem dX4_again_90 : decode cX4_again 90 = .ok (.if_icmp .eq 14, 3) := dk_159 0 14 (dk_at dksX4_again_3 21 rfl rfl)
theorem dX4_again_93 : decode cX4_again 93 = .ok (.aload_n 0, 1) := dk_42 (dk_at dksX4_again_4 0 rfl rfl)
theorem dX4_again_94 : decode cX4_again 94 = .ok (.getfield 93, 3) := dk_180 0 93 (dk_at dksX4_again_4 1 rfl rfl)
theorem dX4_again_97 : decode cX4_again 97 = .ok (.iload_n 3, 1) := dk_29 (dk_at dksX4_again_4 4 rfl rfl)
theorem dX4_again_98 : decode cX4_again 98 = .ok (.iadd, 1) := dk_96 (dk_at dksX4_again_4 5 rfl rfl)
theorem dX4_again_99 : decode cX4_again 99 = .ok (.bipush 16, 2) := dk_16 16 (dk_at dksX4_again_4 6 rfl rfl)
theorem dX4_again_101 : decode cX4_again 101 = .ok (.if_icmp .le 10, 3) := dk_164 0 10 (dk_at dksX4_again_4 8 rfl rfl)
theorem dX4_again_104 : decode cX4_again 104 = .ok (.aload_n 0, 1) := dk_42 (dk_at dksX4_again_4 11 rfl rfl)
theorem dX4_again_105 : decode cX4_again 105 = .ok (.bipush (-7), 2) := dk_16 249 (dk_at dksX4_again_4 12 rfl rfl)
theorem dX4_again_107 : decode cX4_again 107 = .ok (.invokevirtual 82, 3) := dk_182 0 82 (dk_at dksX4_again_4 14 rfl rfl)
theorem dX4_again_110 : decode cX4_again 110 = .ok (.ireturn, 1) := dk_172 (dk_at dksX4_again_4 17 rfl rfl)
theorem dX4_again_111 : decode cX4_again 111 = .ok (.aload_n 0, 1) := dk_42 (dk_at dksX4_again_4 18 rfl rfl)
theorem dX4_again_112 : decode cX4_again 112 = .ok (.iload_n 1, 1) := dk_27 (dk_at dksX4_again_4 19 rfl rfl)
theorem dX4_again_113 : decode cX4_again 113 = .ok (.invokevirtual 254, 3) := dk_182 0 254 (dk_at dksX4_again_4 20 rfl rfl)
theorem dX4_again_116 : decode cX4_again 116 = .ok (.aload_n 0, 1) := dk_42 (dk_at dksX4_again_4 23 rfl rfl)
theorem dX4_again_117 : decode cX4_again 117 = .ok (.iload_n 2, 1) := dk_28 (dk_at dksX4_again_5 0 rfl rfl)
theorem dX4_again_118 : decode cX4_again 118 = .ok (.invokevirtual 130, 3) := dk_182 0 130 (dk_at dksX4_again_5 1 rfl rfl)
theorem dX4_again_121 : decode cX4_again 121 = .ok (.istore 4, 2) := dk_54 4 (dk_at dksX4_again_5 4 rfl rfl)
theorem dX4_again_123 : decode cX4_again 123 = .ok (.aload_n 0, 1) := dk_42 (dk_at dksX4_again_5 6 rfl rfl)
theorem dX4_again_124 : decode cX4_again 124 = .ok (.getfield 93, 3) := dk_180 0 93 (dk_at dksX4_again_5 7 rfl rfl)
theorem dX4_again_127 : decode cX4_again 127 = .ok (.istore 5, 2) := dk_54 5 (dk_at dksX4_again_5 10 rfl rfl)
theorem dX4_again_129 : decode cX4_again 129 = .ok (.iconst 0, 1) := dk_3 (dk_at dksX4_again_5 12 rfl rfl)
theorem dX4_again_130 : decode cX4_again 130 = .ok (.istore 6, 2) := dk_54 6 (dk_at dksX4_again_5 13 rfl rfl)
theorem dX4_again_132 : decode cX4_again 132 = .ok (.iload 6, 2) := dk_21 6 (dk_at dksX4_again_5 15 rfl rfl)
theorem dX4_again_134 : decode cX4_again 134 = .ok (.iload 5, 2) := dk_21 5 (dk_at dksX4_again_5 17 rfl rfl)
theorem dX4_again_136 : decode cX4_again 136 = .ok (.if_icmp .ge 73, 3) := dk_162 0 73 (dk_at dksX4_again_5 19 rfl rfl)
theorem dX4_again_139 : decode cX4_again 139 = .ok (.aload_n 0, 1) := dk_42 (dk_at dksX4_again_5 22 rfl rfl)
theorem dX4_again_140 : decode cX4_again 140 = .ok (.iconst 2, 1) := dk_5 (dk_at dksX4_again_5 23 rfl rfl)
theorem dX4_again_141 : decode cX4_again 141 = .ok (.iload 6, 2) := dk_21 6 (dk_at dksX4_again_6 0 rfl rfl)
theorem dX4_again_143 : decode cX4_again 143 = .ok (.invokevirtual 109, 3) := dk_182 0 109 (dk_at dksX4_again_6 2 rfl rfl)
theorem dX4_again_146 : decode cX4_again 146 = .ok (.iload_n 1, 1) := dk_27 (dk_at dksX4_again_6 5 rfl rfl)
theorem dX4_again_147 : decode cX4_again 147 = .ok (.if_icmp .ne 56, 3) := dk_160 0 56 (dk_at dksX4_again_6 6 rfl rfl)
theorem dX4_again_150 : decode cX4_again 150 = .ok (.aload_n 0, 1) := dk_42 (dk_at dksX4_again_6 9 rfl rfl)
theorem dX4_again_151 : decode cX4_again 151 = .ok (.bipush 6, 2) := dk_16 6 (dk_at dksX4_again_6 10 rfl rfl)
theorem dX4_again_153 : decode cX4_again 153 = .ok (.iload 6, 2) := dk_21 6 (dk_at dksX4_again_6 12 rfl rfl)
theorem dX4_again_155 : decode cX4_again 155 = .ok (.invokevirtual 109, 3) := dk_182 0 109 (dk_at dksX4_again_6 14 rfl rfl)
theorem dX4_again_158 : decode cX4_again 158 = .ok (.ifCond .ne 45, 3) := dk_154 0 45 (dk_at dksX4_again_6 17 rfl rfl)
theorem dX4_again_161 : decode cX4_again 161 = .ok (.aload_n 0, 1) := dk_42 (dk_at dksX4_again_6 20 rfl rfl)
theorem dX4_again_162 : decode cX4_again 162 = .ok (.aload_n 0, 1) := dk_42 (dk_at dksX4_again_6 21 rfl rfl)
theorem dX4_again_163 : decode cX4_again 163 = .ok (.iconst 0, 1) := dk_3 (dk_at dksX4_again_6 22 rfl rfl)
theorem dX4_again_164 : decode cX4_again 164 = .ok (.iload 6, 2) := dk_21 6 (dk_at dksX4_again_7 0 rfl rfl)
theorem dX4_again_166 : decode cX4_again 166 = .ok (.invokevirtual 109, 3) := dk_182 0 109 (dk_at dksX4_again_7 2 rfl rfl)
theorem dX4_again_169 : decode cX4_again 169 = .ok (.aload_n 0, 1) := dk_42 (dk_at dksX4_again_7 5 rfl rfl)
theorem dX4_again_170 : decode cX4_again 170 = .ok (.iconst 1, 1) := dk_4 (dk_at dksX4_again_7 6 rfl rfl)
theorem dX4_again_171 : decode cX4_again 171 = .ok (.iload 6, 2) := dk_21 6 (dk_at dksX4_again_7 7 rfl rfl)
theorem dX4_again_173 : decode cX4_again 173 = .ok (.invokevirtual 109, 3) := dk_182 0 109 (dk_at dksX4_again_7 9 rfl rfl)
theorem dX4_again_176 : decode cX4_again 176 = .ok (.iload 4, 2) := dk_21 4 (dk_at dksX4_again_7 12 rfl rfl)
theorem dX4_again_178 : decode cX4_again 178 = .ok (.aload_n 0, 1) := dk_42 (dk_at dksX4_again_7 14 rfl rfl)
theorem dX4_again_179 : decode cX4_again 179 = .ok (.iconst 3, 1) := dk_6 (dk_at dksX4_again_7 15 rfl rfl)
theorem dX4_again_180 : decode cX4_again 180 = .ok (.iload 6, 2) := dk_21 6 (dk_at dksX4_again_7 16 rfl rfl)
theorem dX4_again_182 : decode cX4_again 182 = .ok (.invokevirtual 109, 3) := dk_182 0 109 (dk_at dksX4_again_7 18 rfl rfl)
theorem dX4_again_185 : decode cX4_again 185 = .ok (.aload_n 0, 1) := dk_42 (dk_at dksX4_again_7 21 rfl rfl)
theorem dX4_again_186 : decode cX4_again 186 = .ok (.iconst 4, 1) := dk_7 (dk_at dksX4_again_7 22 rfl rfl)
theorem dX4_again_187 : decode cX4_again 187 = .ok (.iload 6, 2) := dk_21 6 (dk_at dksX4_again_8 0 rfl rfl)
theorem dX4_again_189 : decode cX4_again 189 = .ok (.invokevirtual 109, 3) := dk_182 0 109 (dk_at dksX4_again_8 2 rfl rfl)
theorem dX4_again_192 : decode cX4_again 192 = .ok (.aload_n 0, 1) := dk_42 (dk_at dksX4_again_8 5 rfl rfl)
theorem dX4_again_193 : decode cX4_again 193 = .ok (.iconst 5, 1) := dk_8 (dk_at dksX4_again_8 6 rfl rfl)
theorem dX4_again_194 : decode cX4_again 194 = .ok (.iload 6, 2) := dk_21 6 (dk_at dksX4_again_8 7 rfl rfl)
theorem dX4_again_196 : decode cX4_again 196 = .ok (.invokevirtual 109, 3) := dk_182 0 109 (dk_at dksX4_again_8 9 rfl rfl)
theorem dX4_again_199 : decode cX4_again 199 = .ok (.invokevirtual 175, 3) := dk_182 0 175 (dk_at dksX4_again_8 12 rfl rfl)
theorem dX4_again_202 : decode cX4_again 202 = .ok (.pop, 1) := dk_87 (dk_at dksX4_again_8 15 rfl rfl)
theorem dX4_again_203 : decode cX4_again 203 = .ok (.iinc 6 1, 3) := dk_132 6 1 (dk_at dksX4_again_8 16 rfl rfl)
theorem dX4_again_206 : decode cX4_again 206 = .ok (.goto (-74), 3) := dk_167 255 182 (dk_at dksX4_again_8 19 rfl rfl)
theorem dX4_again_209 : decode cX4_again 209 = .ok (.iload_n 3, 1) := dk_29 (dk_at dksX4_again_8 22 rfl rfl)
theorem dX4_again_210 : decode cX4_again 210 = .ok (.ireturn, 1) := dk_172 (dk_at dksX4_again_8 23 rfl rfl)
abbrev cX4_copies : ByteArray := prog_28_method_67_code
def yX4_copies : MethodName := ⟨RX4, "copies", "(I)V"⟩
def dkwX4_copies_2 : List UInt8 := [132, 2, 1, 167, 255, 222, 177]
abbrev dktX4_copies_2 : List UInt8 := dkwX4_copies_2 ++ []
def dkwX4_copies_1 : List UInt8 := [180, 0, 16, 16, 24, 42, 180, 0, 86, 104, 28, 96, 42, 180, 0, 16, 16, 24, 27, 104, 28, 96, 47, 80]
abbrev dktX4_copies_1 : List UInt8 := dkwX4_copies_1 ++ dktX4_copies_2
def dkwX4_copies_0 : List UInt8 := [42, 180, 0, 13, 42, 180, 0, 86, 42, 180, 0, 13, 27, 46, 79, 3, 61, 28, 16, 24, 162, 0, 34, 42]
abbrev dktX4_copies_0 : List UInt8 := dkwX4_copies_0 ++ dktX4_copies_1
theorem dksX4_copies_0 : cX4_copies.data.toList.drop 0 = dktX4_copies_0 := by decide +kernel
theorem dksX4_copies_1 : cX4_copies.data.toList.drop 24 = dktX4_copies_1 := dk_seg dksX4_copies_0 24 rfl rfl
theorem dksX4_copies_2 : cX4_copies.data.toList.drop 48 = dktX4_copies_2 := dk_seg dksX4_copies_1 24 rfl rfl
theorem dX4_copies_0 : decode cX4_copies 0 = .ok (.aload_n 0, 1) := dk_42 (dk_at dksX4_copies_0 0 rfl rfl)
theorem dX4_copies_1 : decode cX4_copies 1 = .ok (.getfield 13, 3) := dk_180 0 13 (dk_at dksX4_copies_0 1 rfl rfl)
theorem dX4_copies_4 : decode cX4_copies 4 = .ok (.aload_n 0, 1) := dk_42 (dk_at dksX4_copies_0 4 rfl rfl)
theorem dX4_copies_5 : decode cX4_copies 5 = .ok (.getfield 86, 3) := dk_180 0 86 (dk_at dksX4_copies_0 5 rfl rfl)
theorem dX4_copies_8 : decode cX4_copies 8 = .ok (.aload_n 0, 1) := dk_42 (dk_at dksX4_copies_0 8 rfl rfl)
theorem dX4_copies_9 : decode cX4_copies 9 = .ok (.getfield 13, 3) := dk_180 0 13 (dk_at dksX4_copies_0 9 rfl rfl)
theorem dX4_copies_12 : decode cX4_copies 12 = .ok (.iload_n 1, 1) := dk_27 (dk_at dksX4_copies_0 12 rfl rfl)
theorem dX4_copies_13 : decode cX4_copies 13 = .ok (.iaload, 1) := dk_46 (dk_at dksX4_copies_0 13 rfl rfl)
theorem dX4_copies_14 : decode cX4_copies 14 = .ok (.iastore, 1) := dk_79 (dk_at dksX4_copies_0 14 rfl rfl)
theorem dX4_copies_15 : decode cX4_copies 15 = .ok (.iconst 0, 1) := dk_3 (dk_at dksX4_copies_0 15 rfl rfl)
theorem dX4_copies_16 : decode cX4_copies 16 = .ok (.istore_n 2, 1) := dk_61 (dk_at dksX4_copies_0 16 rfl rfl)
theorem dX4_copies_17 : decode cX4_copies 17 = .ok (.iload_n 2, 1) := dk_28 (dk_at dksX4_copies_0 17 rfl rfl)
theorem dX4_copies_18 : decode cX4_copies 18 = .ok (.bipush 24, 2) := dk_16 24 (dk_at dksX4_copies_0 18 rfl rfl)
theorem dX4_copies_20 : decode cX4_copies 20 = .ok (.if_icmp .ge 34, 3) := dk_162 0 34 (dk_at dksX4_copies_0 20 rfl rfl)
theorem dX4_copies_23 : decode cX4_copies 23 = .ok (.aload_n 0, 1) := dk_42 (dk_at dksX4_copies_0 23 rfl rfl)
theorem dX4_copies_24 : decode cX4_copies 24 = .ok (.getfield 16, 3) := dk_180 0 16 (dk_at dksX4_copies_1 0 rfl rfl)
theorem dX4_copies_27 : decode cX4_copies 27 = .ok (.bipush 24, 2) := dk_16 24 (dk_at dksX4_copies_1 3 rfl rfl)
theorem dX4_copies_29 : decode cX4_copies 29 = .ok (.aload_n 0, 1) := dk_42 (dk_at dksX4_copies_1 5 rfl rfl)
theorem dX4_copies_30 : decode cX4_copies 30 = .ok (.getfield 86, 3) := dk_180 0 86 (dk_at dksX4_copies_1 6 rfl rfl)
theorem dX4_copies_33 : decode cX4_copies 33 = .ok (.imul, 1) := dk_104 (dk_at dksX4_copies_1 9 rfl rfl)
theorem dX4_copies_34 : decode cX4_copies 34 = .ok (.iload_n 2, 1) := dk_28 (dk_at dksX4_copies_1 10 rfl rfl)
theorem dX4_copies_35 : decode cX4_copies 35 = .ok (.iadd, 1) := dk_96 (dk_at dksX4_copies_1 11 rfl rfl)
theorem dX4_copies_36 : decode cX4_copies 36 = .ok (.aload_n 0, 1) := dk_42 (dk_at dksX4_copies_1 12 rfl rfl)
theorem dX4_copies_37 : decode cX4_copies 37 = .ok (.getfield 16, 3) := dk_180 0 16 (dk_at dksX4_copies_1 13 rfl rfl)
theorem dX4_copies_40 : decode cX4_copies 40 = .ok (.bipush 24, 2) := dk_16 24 (dk_at dksX4_copies_1 16 rfl rfl)
theorem dX4_copies_42 : decode cX4_copies 42 = .ok (.iload_n 1, 1) := dk_27 (dk_at dksX4_copies_1 18 rfl rfl)
theorem dX4_copies_43 : decode cX4_copies 43 = .ok (.imul, 1) := dk_104 (dk_at dksX4_copies_1 19 rfl rfl)
theorem dX4_copies_44 : decode cX4_copies 44 = .ok (.iload_n 2, 1) := dk_28 (dk_at dksX4_copies_1 20 rfl rfl)
theorem dX4_copies_45 : decode cX4_copies 45 = .ok (.iadd, 1) := dk_96 (dk_at dksX4_copies_1 21 rfl rfl)
theorem dX4_copies_46 : decode cX4_copies 46 = .ok (.laload, 1) := dk_47 (dk_at dksX4_copies_1 22 rfl rfl)
theorem dX4_copies_47 : decode cX4_copies 47 = .ok (.lastore, 1) := dk_80 (dk_at dksX4_copies_1 23 rfl rfl)
theorem dX4_copies_48 : decode cX4_copies 48 = .ok (.iinc 2 1, 3) := dk_132 2 1 (dk_at dksX4_copies_2 0 rfl rfl)
theorem dX4_copies_51 : decode cX4_copies 51 = .ok (.goto (-34), 3) := dk_167 255 222 (dk_at dksX4_copies_2 3 rfl rfl)
theorem dX4_copies_54 : decode cX4_copies 54 = .ok (.return_, 1) := dk_177 (dk_at dksX4_copies_2 6 rfl rfl)
abbrev cX4_drift : ByteArray := prog_28_method_71_code
def yX4_drift : MethodName := ⟨RX4, "drift", "(I)I"⟩
def dkwX4_drift_3 : List UInt8 := [172]
abbrev dktX4_drift_3 : List UInt8 := dkwX4_drift_3 ++ []
def dkwX4_drift_2 : List UInt8 := [172, 3, 61, 28, 27, 162, 0, 13, 42, 182, 1, 7, 132, 2, 1, 167, 255, 244, 42, 180, 0, 86, 4, 100]
abbrev dktX4_drift_2 : List UInt8 := dkwX4_drift_2 ++ dktX4_drift_3
def dkwX4_drift_1 : List UInt8 := [42, 16, 250, 182, 0, 82, 172, 42, 180, 0, 86, 27, 96, 16, 16, 164, 0, 10, 42, 16, 249, 182, 0, 82]
abbrev dktX4_drift_1 : List UInt8 := dkwX4_drift_1 ++ dktX4_drift_2
def dkwX4_drift_0 : List UInt8 := [42, 180, 0, 86, 154, 0, 10, 42, 16, 251, 182, 0, 82, 172, 27, 4, 16, 15, 184, 0, 89, 154, 0, 10]
abbrev dktX4_drift_0 : List UInt8 := dkwX4_drift_0 ++ dktX4_drift_1
theorem dksX4_drift_0 : cX4_drift.data.toList.drop 0 = dktX4_drift_0 := by decide +kernel
theorem dksX4_drift_1 : cX4_drift.data.toList.drop 24 = dktX4_drift_1 := dk_seg dksX4_drift_0 24 rfl rfl
theorem dksX4_drift_2 : cX4_drift.data.toList.drop 48 = dktX4_drift_2 := dk_seg dksX4_drift_1 24 rfl rfl
theorem dksX4_drift_3 : cX4_drift.data.toList.drop 72 = dktX4_drift_3 := dk_seg dksX4_drift_2 24 rfl rfl
theorem dX4_drift_0 : decode cX4_drift 0 = .ok (.aload_n 0, 1) := dk_42 (dk_at dksX4_drift_0 0 rfl rfl)
theorem dX4_drift_1 : decode cX4_drift 1 = .ok (.getfield 86, 3) := dk_180 0 86 (dk_at dksX4_drift_0 1 rfl rfl)
theorem dX4_drift_4 : decode cX4_drift 4 = .ok (.ifCond .ne 10, 3) := dk_154 0 10 (dk_at dksX4_drift_0 4 rfl rfl)
theorem dX4_drift_7 : decode cX4_drift 7 = .ok (.aload_n 0, 1) := dk_42 (dk_at dksX4_drift_0 7 rfl rfl)
theorem dX4_drift_8 : decode cX4_drift 8 = .ok (.bipush (-5), 2) := dk_16 251 (dk_at dksX4_drift_0 8 rfl rfl)
theorem dX4_drift_10 : decode cX4_drift 10 = .ok (.invokevirtual 82, 3) := dk_182 0 82 (dk_at dksX4_drift_0 10 rfl rfl)
theorem dX4_drift_13 : decode cX4_drift 13 = .ok (.ireturn, 1) := dk_172 (dk_at dksX4_drift_0 13 rfl rfl)
theorem dX4_drift_14 : decode cX4_drift 14 = .ok (.iload_n 1, 1) := dk_27 (dk_at dksX4_drift_0 14 rfl rfl)
theorem dX4_drift_15 : decode cX4_drift 15 = .ok (.iconst 1, 1) := dk_4 (dk_at dksX4_drift_0 15 rfl rfl)
theorem dX4_drift_16 : decode cX4_drift 16 = .ok (.bipush 15, 2) := dk_16 15 (dk_at dksX4_drift_0 16 rfl rfl)
theorem dX4_drift_18 : decode cX4_drift 18 = .ok (.invokestatic 89, 3) := dk_184 0 89 (dk_at dksX4_drift_0 18 rfl rfl)
theorem dX4_drift_21 : decode cX4_drift 21 = .ok (.ifCond .ne 10, 3) := dk_154 0 10 (dk_at dksX4_drift_0 21 rfl rfl)
theorem dX4_drift_24 : decode cX4_drift 24 = .ok (.aload_n 0, 1) := dk_42 (dk_at dksX4_drift_1 0 rfl rfl)
theorem dX4_drift_25 : decode cX4_drift 25 = .ok (.bipush (-6), 2) := dk_16 250 (dk_at dksX4_drift_1 1 rfl rfl)
theorem dX4_drift_27 : decode cX4_drift 27 = .ok (.invokevirtual 82, 3) := dk_182 0 82 (dk_at dksX4_drift_1 3 rfl rfl)
theorem dX4_drift_30 : decode cX4_drift 30 = .ok (.ireturn, 1) := dk_172 (dk_at dksX4_drift_1 6 rfl rfl)
theorem dX4_drift_31 : decode cX4_drift 31 = .ok (.aload_n 0, 1) := dk_42 (dk_at dksX4_drift_1 7 rfl rfl)
theorem dX4_drift_32 : decode cX4_drift 32 = .ok (.getfield 86, 3) := dk_180 0 86 (dk_at dksX4_drift_1 8 rfl rfl)
theorem dX4_drift_35 : decode cX4_drift 35 = .ok (.iload_n 1, 1) := dk_27 (dk_at dksX4_drift_1 11 rfl rfl)
theorem dX4_drift_36 : decode cX4_drift 36 = .ok (.iadd, 1) := dk_96 (dk_at dksX4_drift_1 12 rfl rfl)
theorem dX4_drift_37 : decode cX4_drift 37 = .ok (.bipush 16, 2) := dk_16 16 (dk_at dksX4_drift_1 13 rfl rfl)
theorem dX4_drift_39 : decode cX4_drift 39 = .ok (.if_icmp .le 10, 3) := dk_164 0 10 (dk_at dksX4_drift_1 15 rfl rfl)
theorem dX4_drift_42 : decode cX4_drift 42 = .ok (.aload_n 0, 1) := dk_42 (dk_at dksX4_drift_1 18 rfl rfl)
theorem dX4_drift_43 : decode cX4_drift 43 = .ok (.bipush (-7), 2) := dk_16 249 (dk_at dksX4_drift_1 19 rfl rfl)
theorem dX4_drift_45 : decode cX4_drift 45 = .ok (.invokevirtual 82, 3) := dk_182 0 82 (dk_at dksX4_drift_1 21 rfl rfl)
theorem dX4_drift_48 : decode cX4_drift 48 = .ok (.ireturn, 1) := dk_172 (dk_at dksX4_drift_2 0 rfl rfl)
theorem dX4_drift_49 : decode cX4_drift 49 = .ok (.iconst 0, 1) := dk_3 (dk_at dksX4_drift_2 1 rfl rfl)
theorem dX4_drift_50 : decode cX4_drift 50 = .ok (.istore_n 2, 1) := dk_61 (dk_at dksX4_drift_2 2 rfl rfl)
theorem dX4_drift_51 : decode cX4_drift 51 = .ok (.iload_n 2, 1) := dk_28 (dk_at dksX4_drift_2 3 rfl rfl)
theorem dX4_drift_52 : decode cX4_drift 52 = .ok (.iload_n 1, 1) := dk_27 (dk_at dksX4_drift_2 4 rfl rfl)
theorem dX4_drift_53 : decode cX4_drift 53 = .ok (.if_icmp .ge 13, 3) := dk_162 0 13 (dk_at dksX4_drift_2 5 rfl rfl)
theorem dX4_drift_56 : decode cX4_drift 56 = .ok (.aload_n 0, 1) := dk_42 (dk_at dksX4_drift_2 8 rfl rfl)
theorem dX4_drift_57 : decode cX4_drift 57 = .ok (.invokevirtual 263, 3) := dk_182 1 7 (dk_at dksX4_drift_2 9 rfl rfl)
theorem dX4_drift_60 : decode cX4_drift 60 = .ok (.iinc 2 1, 3) := dk_132 2 1 (dk_at dksX4_drift_2 12 rfl rfl)
theorem dX4_drift_63 : decode cX4_drift 63 = .ok (.goto (-12), 3) := dk_167 255 244 (dk_at dksX4_drift_2 15 rfl rfl)
theorem dX4_drift_66 : decode cX4_drift 66 = .ok (.aload_n 0, 1) := dk_42 (dk_at dksX4_drift_2 18 rfl rfl)
theorem dX4_drift_67 : decode cX4_drift 67 = .ok (.getfield 86, 3) := dk_180 0 86 (dk_at dksX4_drift_2 19 rfl rfl)
theorem dX4_drift_70 : decode cX4_drift 70 = .ok (.iconst 1, 1) := dk_4 (dk_at dksX4_drift_2 22 rfl rfl)
theorem dX4_drift_71 : decode cX4_drift 71 = .ok (.isub, 1) := dk_100 (dk_at dksX4_drift_2 23 rfl rfl)
theorem dX4_drift_72 : decode cX4_drift 72 = .ok (.ireturn, 1) := dk_172 (dk_at dksX4_drift_3 0 rfl rfl)
abbrev cX4_drifts : ByteArray := prog_28_method_70_code
def yX4_drifts : MethodName := ⟨RX4, "drifts", "()V"⟩
def dkwX4_drifts_11 : List UInt8 := [180, 0, 16, 28, 21, 5, 96, 20, 1, 5, 80, 42, 27, 4, 100, 182, 0, 130, 87, 177]
abbrev dktX4_drifts_11 : List UInt8 := dkwX4_drifts_11 ++ []
def dkwX4_drifts_10 : List UInt8 := [167, 255, 228, 42, 180, 0, 16, 28, 22, 6, 80, 21, 4, 6, 160, 0, 19, 29, 158, 0, 15, 42]
abbrev dktX4_drifts_10 : List UInt8 := dkwX4_drifts_10 ++ dktX4_drifts_11
def dkwX4_drifts_9 : List UInt8 := [180, 0, 16, 28, 21, 8, 96, 42, 180, 0, 16, 28, 21, 8, 96, 4, 100, 47, 80, 132, 8, 255]
abbrev dktX4_drifts_9 : List UInt8 := dkwX4_drifts_9 ++ dktX4_drifts_10
def dkwX4_drifts_8 : List UInt8 := [158, 0, 57, 42, 180, 0, 16, 28, 21, 5, 96, 47, 55, 6, 21, 5, 54, 8, 21, 8, 158, 0, 29, 42]
abbrev dktX4_drifts_8 : List UInt8 := dkwX4_drifts_8 ++ dktX4_drifts_9
def dkwX4_drifts_7 : List UInt8 := [132, 6, 1, 167, 255, 225, 42, 180, 0, 13, 27, 92, 46, 4, 100, 79, 21, 4, 5, 160, 0, 61, 29]
abbrev dktX4_drifts_7 : List UInt8 := dkwX4_drifts_7 ++ dktX4_drifts_8
def dkwX4_drifts_6 : List UInt8 := [162, 0, 29, 42, 180, 0, 16, 28, 21, 6, 96, 42, 180, 0, 16, 28, 21, 6, 96, 4, 96, 47, 80]
abbrev dktX4_drifts_6 : List UInt8 := dkwX4_drifts_6 ++ dktX4_drifts_7
def dkwX4_drifts_5 : List UInt8 := [46, 4, 96, 79, 21, 4, 4, 160, 0, 55, 29, 158, 0, 51, 21, 5, 54, 6, 21, 6, 29, 4, 100]
abbrev dktX4_drifts_5 : List UInt8 := dkwX4_drifts_5 ++ dktX4_drifts_6
def dkwX4_drifts_4 : List UInt8 := [180, 0, 16, 28, 21, 5, 96, 16, 97, 42, 16, 26, 182, 1, 2, 96, 133, 80, 42, 180, 0, 13, 27, 92]
abbrev dktX4_drifts_4 : List UInt8 := dkwX4_drifts_4 ++ dktX4_drifts_5
def dkwX4_drifts_3 : List UInt8 := [21, 6, 96, 42, 180, 0, 16, 28, 21, 6, 96, 4, 100, 47, 80, 132, 6, 255, 167, 255, 226, 42]
abbrev dktX4_drifts_3 : List UInt8 := dkwX4_drifts_3 ++ dktX4_drifts_4
def dkwX4_drifts_2 : List UInt8 := [154, 0, 74, 29, 16, 24, 162, 0, 68, 29, 54, 6, 21, 6, 21, 5, 164, 0, 29, 42, 180, 0, 16, 28]
abbrev dktX4_drifts_2 : List UInt8 := dkwX4_drifts_2 ++ dktX4_drifts_3
def dkwX4_drifts_1 : List UInt8 := [42, 7, 182, 1, 2, 54, 4, 29, 154, 0, 7, 3, 167, 0, 8, 42, 29, 182, 1, 2, 54, 5, 21, 4]
abbrev dktX4_drifts_1 : List UInt8 := dkwX4_drifts_1 ++ dktX4_drifts_2
def dkwX4_drifts_0 : List UInt8 := [42, 180, 0, 86, 60, 16, 24, 27, 104, 61, 42, 27, 4, 100, 182, 0, 254, 42, 180, 0, 13, 27, 46, 62]
abbrev dktX4_drifts_0 : List UInt8 := dkwX4_drifts_0 ++ dktX4_drifts_1
theorem dksX4_drifts_0 : cX4_drifts.data.toList.drop 0 = dktX4_drifts_0 := by decide +kernel
theorem dksX4_drifts_1 : cX4_drifts.data.toList.drop 24 = dktX4_drifts_1 := dk_seg dksX4_drifts_0 24 rfl rfl
theorem dksX4_drifts_2 : cX4_drifts.data.toList.drop 48 = dktX4_drifts_2 := dk_seg dksX4_drifts_1 24 rfl rfl
theorem dksX4_drifts_3 : cX4_drifts.data.toList.drop 72 = dktX4_drifts_3 := dk_seg dksX4_drifts_2 24 rfl rfl
theorem dksX4_drifts_4 : cX4_drifts.data.toList.drop 94 = dktX4_drifts_4 := dk_seg dksX4_drifts_3 22 rfl rfl
theorem dksX4_drifts_5 : cX4_drifts.data.toList.drop 118 = dktX4_drifts_5 := dk_seg dksX4_drifts_4 24 rfl rfl
theorem dksX4_drifts_6 : cX4_drifts.data.toList.drop 141 = dktX4_drifts_6 := dk_seg dksX4_drifts_5 23 rfl rfl
theorem dksX4_drifts_7 : cX4_drifts.data.toList.drop 164 = dktX4_drifts_7 := dk_seg dksX4_drifts_6 23 rfl rfl
theorem dksX4_drifts_8 : cX4_drifts.data.toList.drop 187 = dktX4_drifts_8 := dk_seg dksX4_drifts_7 23 rfl rfl
theorem dksX4_drifts_9 : cX4_drifts.data.toList.drop 211 = dktX4_drifts_9 := dk_seg dksX4_drifts_8 24 rfl rfl
theorem dksX4_drifts_10 : cX4_drifts.data.toList.drop 233 = dktX4_drifts_10 := dk_seg dksX4_drifts_9 22 rfl rfl
theorem dksX4_drifts_11 : cX4_drifts.data.toList.drop 255 = dktX4_drifts_11 := dk_seg dksX4_drifts_10 22 rfl rfl
theorem dX4_drifts_0 : decode cX4_drifts 0 = .ok (.aload_n 0, 1) := dk_42 (dk_at dksX4_drifts_0 0 rfl rfl)
theorem dX4_drifts_1 : decode cX4_drifts 1 = .ok (.getfield 86, 3) := dk_180 0 86 (dk_at dksX4_drifts_0 1 rfl rfl)
theorem dX4_drifts_4 : decode cX4_drifts 4 = .ok (.istore_n 1, 1) := dk_60 (dk_at dksX4_drifts_0 4 rfl rfl)
theorem dX4_drifts_5 : decode cX4_drifts 5 = .ok (.bipush 24, 2) := dk_16 24 (dk_at dksX4_drifts_0 5 rfl rfl)
theorem dX4_drifts_7 : decode cX4_drifts 7 = .ok (.iload_n 1, 1) := dk_27 (dk_at dksX4_drifts_0 7 rfl rfl)
theorem dX4_drifts_8 : decode cX4_drifts 8 = .ok (.imul, 1) := dk_104 (dk_at dksX4_drifts_0 8 rfl rfl)
theorem dX4_drifts_9 : decode cX4_drifts 9 = .ok (.istore_n 2, 1) := dk_61 (dk_at dksX4_drifts_0 9 rfl rfl)
theorem dX4_drifts_10 : decode cX4_drifts 10 = .ok (.aload_n 0, 1) := dk_42 (dk_at dksX4_drifts_0 10 rfl rfl)
theorem dX4_drifts_11 : decode cX4_drifts 11 = .ok (.iload_n 1, 1) := dk_27 (dk_at dksX4_drifts_0 11 rfl rfl)
theorem dX4_drifts_12 : decode cX4_drifts 12 = .ok (.iconst 1, 1) := dk_4 (dk_at dksX4_drifts_0 12 rfl rfl)
theorem dX4_drifts_13 : decode cX4_drifts 13 = .ok (.isub, 1) := dk_100 (dk_at dksX4_drifts_0 13 rfl rfl)
theorem dX4_drifts_14 : decode cX4_drifts 14 = .ok (.invokevirtual 254, 3) := dk_182 0 254 (dk_at dksX4_drifts_0 14 rfl rfl)
theorem dX4_drifts_17 : decode cX4_drifts 17 = .ok (.aload_n 0, 1) := dk_42 (dk_at dksX4_drifts_0 17 rfl rfl)
theorem dX4_drifts_18 : decode cX4_drifts 18 = .ok (.getfield 13, 3) := dk_180 0 13 (dk_at dksX4_drifts_0 18 rfl rfl)
theorem dX4_drifts_21 : decode cX4_drifts 21 = .ok (.iload_n 1, 1) := dk_27 (dk_at dksX4_drifts_0 21 rfl rfl)
theorem dX4_drifts_22 : decode cX4_drifts 22 = .ok (.iaload, 1) := dk_46 (dk_at dksX4_drifts_0 22 rfl rfl)
theorem dX4_drifts_23 : decode cX4_drifts 23 = .ok (.istore_n 3, 1) := dk_62 (dk_at dksX4_drifts_0 23 rfl rfl)
theorem dX4_drifts_24 : decode cX4_drifts 24 = .ok (.aload_n 0, 1) := dk_42 (dk_at dksX4_drifts_1 0 rfl rfl)
theorem dX4_drifts_25 : decode cX4_drifts 25 = .ok (.iconst 4, 1) := dk_7 (dk_at dksX4_drifts_1 1 rfl rfl)
theorem dX4_drifts_26 : decode cX4_drifts 26 = .ok (.invokevirtual 258, 3) := dk_182 1 2 (dk_at dksX4_drifts_1 2 rfl rfl)
theorem dX4_drifts_29 : decode cX4_drifts 29 = .ok (.istore 4, 2) := dk_54 4 (dk_at dksX4_drifts_1 5 rfl rfl)
theorem dX4_drifts_31 : decode cX4_drifts 31 = .ok (.iload_n 3, 1) := dk_29 (dk_at dksX4_drifts_1 7 rfl rfl)
theorem dX4_drifts_32 : decode cX4_drifts 32 = .ok (.ifCond .ne 7, 3) := dk_154 0 7 (dk_at dksX4_drifts_1 8 rfl rfl)
theorem dX4_drifts_35 : decode cX4_drifts 35 = .ok (.iconst 0, 1) := dk_3 (dk_at dksX4_drifts_1 11 rfl rfl)
theorem dX4_drifts_36 : decode cX4_drifts 36 = .ok (.goto 8, 3) := dk_167 0 8 (dk_at dksX4_drifts_1 12 rfl rfl)
theorem dX4_drifts_39 : decode cX4_drifts 39 = .ok (.aload_n 0, 1) := dk_42 (dk_at dksX4_drifts_1 15 rfl rfl)
theorem dX4_drifts_40 : decode cX4_drifts 40 = .ok (.iload_n 3, 1) := dk_29 (dk_at dksX4_drifts_1 16 rfl rfl)
theorem dX4_drifts_41 : decode cX4_drifts 41 = .ok (.invokevirtual 258, 3) := dk_182 1 2 (dk_at dksX4_drifts_1 17 rfl rfl)
theorem dX4_drifts_44 : decode cX4_drifts 44 = .ok (.istore 5, 2) := dk_54 5 (dk_at dksX4_drifts_1 20 rfl rfl)
theorem dX4_drifts_46 : decode cX4_drifts 46 = .ok (.iload 4, 2) := dk_21 4 (dk_at dksX4_drifts_1 22 rfl rfl)
theorem dX4_drifts_48 : decode cX4_drifts 48 = .ok (.ifCond .ne 74, 3) := dk_154 0 74 (dk_at dksX4_drifts_2 0 rfl rfl)
theorem dX4_drifts_51 : decode cX4_drifts 51 = .ok (.iload_n 3, 1) := dk_29 (dk_at dksX4_drifts_2 3 rfl rfl)
theorem dX4_drifts_52 : decode cX4_drifts 52 = .ok (.bipush 24, 2) := dk_16 24 (dk_at dksX4_drifts_2 4 rfl rfl)
theorem dX4_drifts_54 : decode cX4_drifts 54 = .ok (.if_icmp .ge 68, 3) := dk_162 0 68 (dk_at dksX4_drifts_2 6 rfl rfl)
theorem dX4_drifts_57 : decode cX4_drifts 57 = .ok (.iload_n 3, 1) := dk_29 (dk_at dksX4_drifts_2 9 rfl rfl)
theorem dX4_drifts_58 : decode cX4_drifts 58 = .ok (.istore 6, 2) := dk_54 6 (dk_at dksX4_drifts_2 10 rfl rfl)
theorem dX4_drifts_60 : decode cX4_drifts 60 = .ok (.iload 6, 2) := dk_21 6 (dk_at dksX4_drifts_2 12 rfl rfl)
theorem dX4_drifts_62 : decode cX4_drifts 62 = .ok (.iload 5, 2) := dk_21 5 (dk_at dksX4_drifts_2 14 rfl rfl)
theorem dX4_drifts_64 : decode cX4_drifts 64 = .ok (.if_icmp .le 29, 3) := dk_164 0 29 (dk_at dksX4_drifts_2 16 rfl rfl)
theorem dX4_drifts_67 : decode cX4_drifts 67 = .ok (.aload_n 0, 1) := dk_42 (dk_at dksX4_drifts_2 19 rfl rfl)
theorem dX4_drifts_68 : decode cX4_drifts 68 = .ok (.getfield 16, 3) := dk_180 0 16 (dk_at dksX4_drifts_2 20 rfl rfl)
theorem dX4_drifts_71 : decode cX4_drifts 71 = .ok (.iload_n 2, 1) := dk_28 (dk_at dksX4_drifts_2 23 rfl rfl)
theorem dX4_drifts_72 : decode cX4_drifts 72 = .ok (.iload 6, 2) := dk_21 6 (dk_at dksX4_drifts_3 0 rfl rfl)
theorem dX4_drifts_74 : decode cX4_drifts 74 = .ok (.iadd, 1) := dk_96 (dk_at dksX4_drifts_3 2 rfl rfl)
theorem dX4_drifts_75 : decode cX4_drifts 75 = .ok (.aload_n 0, 1) := dk_42 (dk_at dksX4_drifts_3 3 rfl rfl)
theorem dX4_drifts_76 : decode cX4_drifts 76 = .ok (.getfield 16, 3) := dk_180 0 16 (dk_at dksX4_drifts_3 4 rfl rfl)
theorem dX4_drifts_79 : decode cX4_drifts 79 = .ok (.iload_n 2, 1) := dk_28 (dk_at dksX4_drifts_3 7 rfl rfl)
theorem dX4_drifts_80 : decode cX4_drifts 80 = .ok (.iload 6, 2) := dk_21 6 (dk_at dksX4_drifts_3 8 rfl rfl)
theorem dX4_drifts_82 : decode cX4_drifts 82 = .ok (.iadd, 1) := dk_96 (dk_at dksX4_drifts_3 10 rfl rfl)
theorem dX4_drifts_83 : decode cX4_drifts 83 = .ok (.iconst 1, 1) := dk_4 (dk_at dksX4_drifts_3 11 rfl rfl)
theorem dX4_drifts_84 : decode cX4_drifts 84 = .ok (.isub, 1) := dk_100 (dk_at dksX4_drifts_3 12 rfl rfl)
theorem dX4_drifts_85 : decode cX4_drifts 85 = .ok (.laload, 1) := dk_47 (dk_at dksX4_drifts_3 13 rfl rfl)
theorem dX4_drifts_86 : decode cX4_drifts 86 = .ok (.lastore, 1) := dk_80 (dk_at dksX4_drifts_3 14 rfl rfl)
theorem dX4_drifts_87 : decode cX4_drifts 87 = .ok (.iinc 6 (-1), 3) := dk_132 6 255 (dk_at dksX4_drifts_3 15 rfl rfl)
theorem dX4_drifts_90 : decode cX4_drifts 90 = .ok (.goto (-30), 3) := dk_167 255 226 (dk_at dksX4_drifts_3 18 rfl rfl)
theorem dX4_drifts_93 : decode cX4_drifts 93 = .ok (.aload_n 0, 1) := dk_42 (dk_at dksX4_drifts_3 21 rfl rfl)
theorem dX4_drifts_94 : decode cX4_drifts 94 = .ok (.getfield 16, 3) := dk_180 0 16 (dk_at dksX4_drifts_4 0 rfl rfl)
theorem dX4_drifts_97 : decode cX4_drifts 97 = .ok (.iload_n 2, 1) := dk_28 (dk_at dksX4_drifts_4 3 rfl rfl)
theorem dX4_drifts_98 : decode cX4_drifts 98 = .ok (.iload 5, 2) := dk_21 5 (dk_at dksX4_drifts_4 4 rfl rfl)
theorem dX4_drifts_100 : decode cX4_drifts 100 = .ok (.iadd, 1) := dk_96 (dk_at dksX4_drifts_4 6 rfl rfl)
theorem dX4_drifts_101 : decode cX4_drifts 101 = .ok (.bipush 97, 2) := dk_16 97 (dk_at dksX4_drifts_4 7 rfl rfl)
theorem dX4_drifts_103 : decode cX4_drifts 103 = .ok (.aload_n 0, 1) := dk_42 (dk_at dksX4_drifts_4 9 rfl rfl)
theorem dX4_drifts_104 : decode cX4_drifts 104 = .ok (.bipush 26, 2) := dk_16 26 (dk_at dksX4_drifts_4 10 rfl rfl)
theorem dX4_drifts_106 : decode cX4_drifts 106 = .ok (.invokevirtual 258, 3) := dk_182 1 2 (dk_at dksX4_drifts_4 12 rfl rfl)
theorem dX4_drifts_109 : decode cX4_drifts 109 = .ok (.iadd, 1) := dk_96 (dk_at dksX4_drifts_4 15 rfl rfl)
theorem dX4_drifts_110 : decode cX4_drifts 110 = .ok (.i2l, 1) := dk_133 (dk_at dksX4_drifts_4 16 rfl rfl)
theorem dX4_drifts_111 : decode cX4_drifts 111 = .ok (.lastore, 1) := dk_80 (dk_at dksX4_drifts_4 17 rfl rfl)
theorem dX4_drifts_112 : decode cX4_drifts 112 = .ok (.aload_n 0, 1) := dk_42 (dk_at dksX4_drifts_4 18 rfl rfl)
theorem dX4_drifts_113 : decode cX4_drifts 113 = .ok (.getfield 13, 3) := dk_180 0 13 (dk_at dksX4_drifts_4 19 rfl rfl)
theorem dX4_drifts_116 : decode cX4_drifts 116 = .ok (.iload_n 1, 1) := dk_27 (dk_at dksX4_drifts_4 22 rfl rfl)
theorem dX4_drifts_117 : decode cX4_drifts 117 = .ok (.dup2, 1) := dk_92 (dk_at dksX4_drifts_4 23 rfl rfl)
theorem dX4_drifts_118 : decode cX4_drifts 118 = .ok (.iaload, 1) := dk_46 (dk_at dksX4_drifts_5 0 rfl rfl)
theorem dX4_drifts_119 : decode cX4_drifts 119 = .ok (.iconst 1, 1) := dk_4 (dk_at dksX4_drifts_5 1 rfl rfl)
theorem dX4_drifts_120 : decode cX4_drifts 120 = .ok (.iadd, 1) := dk_96 (dk_at dksX4_drifts_5 2 rfl rfl)
theorem dX4_drifts_121 : decode cX4_drifts 121 = .ok (.iastore, 1) := dk_79 (dk_at dksX4_drifts_5 3 rfl rfl)
theorem dX4_drifts_122 : decode cX4_drifts 122 = .ok (.iload 4, 2) := dk_21 4 (dk_at dksX4_drifts_5 4 rfl rfl)
theorem dX4_drifts_124 : decode cX4_drifts 124 = .ok (.iconst 1, 1) := dk_4 (dk_at dksX4_drifts_5 6 rfl rfl)
theorem dX4_drifts_125 : decode cX4_drifts 125 = .ok (.if_icmp .ne 55, 3) := dk_160 0 55 (dk_at dksX4_drifts_5 7 rfl rfl)
theorem dX4_drifts_128 : decode cX4_drifts 128 = .ok (.iload_n 3, 1) := dk_29 (dk_at dksX4_drifts_5 10 rfl rfl)
theorem dX4_drifts_129 : decode cX4_drifts 129 = .ok (.ifCond .le 51, 3) := dk_158 0 51 (dk_at dksX4_drifts_5 11 rfl rfl)
theorem dX4_drifts_132 : decode cX4_drifts 132 = .ok (.iload 5, 2) := dk_21 5 (dk_at dksX4_drifts_5 14 rfl rfl)
theorem dX4_drifts_134 : decode cX4_drifts 134 = .ok (.istore 6, 2) := dk_54 6 (dk_at dksX4_drifts_5 16 rfl rfl)
theorem dX4_drifts_136 : decode cX4_drifts 136 = .ok (.iload 6, 2) := dk_21 6 (dk_at dksX4_drifts_5 18 rfl rfl)
theorem dX4_drifts_138 : decode cX4_drifts 138 = .ok (.iload_n 3, 1) := dk_29 (dk_at dksX4_drifts_5 20 rfl rfl)
theorem dX4_drifts_139 : decode cX4_drifts 139 = .ok (.iconst 1, 1) := dk_4 (dk_at dksX4_drifts_5 21 rfl rfl)
theorem dX4_drifts_140 : decode cX4_drifts 140 = .ok (.isub, 1) := dk_100 (dk_at dksX4_drifts_5 22 rfl rfl)
theorem dX4_drifts_141 : decode cX4_drifts 141 = .ok (.if_icmp .ge 29, 3) := dk_162 0 29 (dk_at dksX4_drifts_6 0 rfl rfl)
theorem dX4_drifts_144 : decode cX4_drifts 144 = .ok (.aload_n 0, 1) := dk_42 (dk_at dksX4_drifts_6 3 rfl rfl)
theorem dX4_drifts_145 : decode cX4_drifts 145 = .ok (.getfield 16, 3) := dk_180 0 16 (dk_at dksX4_drifts_6 4 rfl rfl)
theorem dX4_drifts_148 : decode cX4_drifts 148 = .ok (.iload_n 2, 1) := dk_28 (dk_at dksX4_drifts_6 7 rfl rfl)
theorem dX4_drifts_149 : decode cX4_drifts 149 = .ok (.iload 6, 2) := dk_21 6 (dk_at dksX4_drifts_6 8 rfl rfl)
theorem dX4_drifts_151 : decode cX4_drifts 151 = .ok (.iadd, 1) := dk_96 (dk_at dksX4_drifts_6 10 rfl rfl)
theorem dX4_drifts_152 : decode cX4_drifts 152 = .ok (.aload_n 0, 1) := dk_42 (dk_at dksX4_drifts_6 11 rfl rfl)
theorem dX4_drifts_153 : decode cX4_drifts 153 = .ok (.getfield 16, 3) := dk_180 0 16 (dk_at dksX4_drifts_6 12 rfl rfl)
theorem dX4_drifts_156 : decode cX4_drifts 156 = .ok (.iload_n 2, 1) := dk_28 (dk_at dksX4_drifts_6 15 rfl rfl)
theorem dX4_drifts_157 : decode cX4_drifts 157 = .ok (.iload 6, 2) := dk_21 6 (dk_at dksX4_drifts_6 16 rfl rfl)
theorem dX4_drifts_159 : decode cX4_drifts 159 = .ok (.iadd, 1) := dk_96 (dk_at dksX4_drifts_6 18 rfl rfl)
theorem dX4_drifts_160 : decode cX4_drifts 160 = .ok (.iconst 1, 1) := dk_4 (dk_at dksX4_drifts_6 19 rfl rfl)
theorem dX4_drifts_161 : decode cX4_drifts 161 = .ok (.iadd, 1) := dk_96 (dk_at dksX4_drifts_6 20 rfl rfl)
theorem dX4_drifts_162 : decode cX4_drifts 162 = .ok (.laload, 1) := dk_47 (dk_at dksX4_drifts_6 21 rfl rfl)
theorem dX4_drifts_163 : decode cX4_drifts 163 = .ok (.lastore, 1) := dk_80 (dk_at dksX4_drifts_6 22 rfl rfl)
theorem dX4_drifts_164 : decode cX4_drifts 164 = .ok (.iinc 6 1, 3) := dk_132 6 1 (dk_at dksX4_drifts_7 0 rfl rfl)
theorem dX4_drifts_167 : decode cX4_drifts 167 = .ok (.goto (-31), 3) := dk_167 255 225 (dk_at dksX4_drifts_7 3 rfl rfl)
theorem dX4_drifts_170 : decode cX4_drifts 170 = .ok (.aload_n 0, 1) := dk_42 (dk_at dksX4_drifts_7 6 rfl rfl)
theorem dX4_drifts_171 : decode cX4_drifts 171 = .ok (.getfield 13, 3) := dk_180 0 13 (dk_at dksX4_drifts_7 7 rfl rfl)
theorem dX4_drifts_174 : decode cX4_drifts 174 = .ok (.iload_n 1, 1) := dk_27 (dk_at dksX4_drifts_7 10 rfl rfl)
theorem dX4_drifts_175 : decode cX4_drifts 175 = .ok (.dup2, 1) := dk_92 (dk_at dksX4_drifts_7 11 rfl rfl)
theorem dX4_drifts_176 : decode cX4_drifts 176 = .ok (.iaload, 1) := dk_46 (dk_at dksX4_drifts_7 12 rfl rfl)
theorem dX4_drifts_177 : decode cX4_drifts 177 = .ok (.iconst 1, 1) := dk_4 (dk_at dksX4_drifts_7 13 rfl rfl)
theorem dX4_drifts_178 : decode cX4_drifts 178 = .ok (.isub, 1) := dk_100 (dk_at dksX4_drifts_7 14 rfl rfl)
theorem dX4_drifts_179 : decode cX4_drifts 179 = .ok (.iastore, 1) := dk_79 (dk_at dksX4_drifts_7 15 rfl rfl)
theorem dX4_drifts_180 : decode cX4_drifts 180 = .ok (.iload 4, 2) := dk_21 4 (dk_at dksX4_drifts_7 16 rfl rfl)
theorem dX4_drifts_182 : decode cX4_drifts 182 = .ok (.iconst 2, 1) := dk_5 (dk_at dksX4_drifts_7 18 rfl rfl)
theorem dX4_drifts_183 : decode cX4_drifts 183 = .ok (.if_icmp .ne 61, 3) := dk_160 0 61 (dk_at dksX4_drifts_7 19 rfl rfl)
theorem dX4_drifts_186 : decode cX4_drifts 186 = .ok (.iload_n 3, 1) := dk_29 (dk_at dksX4_drifts_7 22 rfl rfl)
theorem dX4_drifts_187 : decode cX4_drifts 187 = .ok (.ifCond .le 57, 3) := dk_158 0 57 (dk_at dksX4_drifts_8 0 rfl rfl)
theorem dX4_drifts_190 : decode cX4_drifts 190 = .ok (.aload_n 0, 1) := dk_42 (dk_at dksX4_drifts_8 3 rfl rfl)
theorem dX4_drifts_191 : decode cX4_drifts 191 = .ok (.getfield 16, 3) := dk_180 0 16 (dk_at dksX4_drifts_8 4 rfl rfl)
theorem dX4_drifts_194 : decode cX4_drifts 194 = .ok (.iload_n 2, 1) := dk_28 (dk_at dksX4_drifts_8 7 rfl rfl)
theorem dX4_drifts_195 : decode cX4_drifts 195 = .ok (.iload 5, 2) := dk_21 5 (dk_at dksX4_drifts_8 8 rfl rfl)
theorem dX4_drifts_197 : decode cX4_drifts 197 = .ok (.iadd, 1) := dk_96 (dk_at dksX4_drifts_8 10 rfl rfl)
theorem dX4_drifts_198 : decode cX4_drifts 198 = .ok (.laload, 1) := dk_47 (dk_at dksX4_drifts_8 11 rfl rfl)
theorem dX4_drifts_199 : decode cX4_drifts 199 = .ok (.lstore 6, 2) := dk_55 6 (dk_at dksX4_drifts_8 12 rfl rfl)
theorem dX4_drifts_201 : decode cX4_drifts 201 = .ok (.iload 5, 2) := dk_21 5 (dk_at dksX4_drifts_8 14 rfl rfl)
theorem dX4_drifts_203 : decode cX4_drifts 203 = .ok (.istore 8, 2) := dk_54 8 (dk_at dksX4_drifts_8 16 rfl rfl)
theorem dX4_drifts_205 : decode cX4_drifts 205 = .ok (.iload 8, 2) := dk_21 8 (dk_at dksX4_drifts_8 18 rfl rfl)
theorem dX4_drifts_207 : decode cX4_drifts 207 = .ok (.ifCond .le 29, 3) := dk_158 0 29 (dk_at dksX4_drifts_8 20 rfl rfl)
theorem dX4_drifts_210 : decode cX4_drifts 210 = .ok (.aload_n 0, 1) := dk_42 (dk_at dksX4_drifts_8 23 rfl rfl)
theorem dX4_drifts_211 : decode cX4_drifts 211 = .ok (.getfield 16, 3) := dk_180 0 16 (dk_at dksX4_drifts_9 0 rfl rfl)
theorem dX4_drifts_214 : decode cX4_drifts 214 = .ok (.iload_n 2, 1) := dk_28 (dk_at dksX4_drifts_9 3 rfl rfl)
theorem dX4_drifts_215 : decode cX4_drifts 215 = .ok (.iload 8, 2) := dk_21 8 (dk_at dksX4_drifts_9 4 rfl rfl)
theorem dX4_drifts_217 : decode cX4_drifts 217 = .ok (.iadd, 1) := dk_96 (dk_at dksX4_drifts_9 6 rfl rfl)
theorem dX4_drifts_218 : decode cX4_drifts 218 = .ok (.aload_n 0, 1) := dk_42 (dk_at dksX4_drifts_9 7 rfl rfl)
theorem dX4_drifts_219 : decode cX4_drifts 219 = .ok (.getfield 16, 3) := dk_180 0 16 (dk_at dksX4_drifts_9 8 rfl rfl)
theorem dX4_drifts_222 : decode cX4_drifts 222 = .ok (.iload_n 2, 1) := dk_28 (dk_at dksX4_drifts_9 11 rfl rfl)
theorem dX4_drifts_223 : decode cX4_drifts 223 = .ok (.iload 8, 2) := dk_21 8 (dk_at dksX4_drifts_9 12 rfl rfl)
theorem dX4_drifts_225 : decode cX4_drifts 225 = .ok (.iadd, 1) := dk_96 (dk_at dksX4_drifts_9 14 rfl rfl)
theorem dX4_drifts_226 : decode cX4_drifts 226 = .ok (.iconst 1, 1) := dk_4 (dk_at dksX4_drifts_9 15 rfl rfl)
theorem dX4_drifts_227 : decode cX4_drifts 227 = .ok (.isub, 1) := dk_100 (dk_at dksX4_drifts_9 16 rfl rfl)
theorem dX4_drifts_228 : decode cX4_drifts 228 = .ok (.laload, 1) := dk_47 (dk_at dksX4_drifts_9 17 rfl rfl)
theorem dX4_drifts_229 : decode cX4_drifts 229 = .ok (.lastore, 1) := dk_80 (dk_at dksX4_drifts_9 18 rfl rfl)
theorem dX4_drifts_230 : decode cX4_drifts 230 = .ok (.iinc 8 (-1), 3) := dk_132 8 255 (dk_at dksX4_drifts_9 19 rfl rfl)
theorem dX4_drifts_233 : decode cX4_drifts 233 = .ok (.goto (-28), 3) := dk_167 255 228 (dk_at dksX4_drifts_10 0 rfl rfl)
theorem dX4_drifts_236 : decode cX4_drifts 236 = .ok (.aload_n 0, 1) := dk_42 (dk_at dksX4_drifts_10 3 rfl rfl)
theorem dX4_drifts_237 : decode cX4_drifts 237 = .ok (.getfield 16, 3) := dk_180 0 16 (dk_at dksX4_drifts_10 4 rfl rfl)
theorem dX4_drifts_240 : decode cX4_drifts 240 = .ok (.iload_n 2, 1) := dk_28 (dk_at dksX4_drifts_10 7 rfl rfl)
theorem dX4_drifts_241 : decode cX4_drifts 241 = .ok (.lload 6, 2) := dk_22 6 (dk_at dksX4_drifts_10 8 rfl rfl)
theorem dX4_drifts_243 : decode cX4_drifts 243 = .ok (.lastore, 1) := dk_80 (dk_at dksX4_drifts_10 10 rfl rfl)
theorem dX4_drifts_244 : decode cX4_drifts 244 = .ok (.iload 4, 2) := dk_21 4 (dk_at dksX4_drifts_10 11 rfl rfl)
theorem dX4_drifts_246 : decode cX4_drifts 246 = .ok (.iconst 3, 1) := dk_6 (dk_at dksX4_drifts_10 13 rfl rfl)
theorem dX4_drifts_247 : decode cX4_drifts 247 = .ok (.if_icmp .ne 19, 3) := dk_160 0 19 (dk_at dksX4_drifts_10 14 rfl rfl)
theorem dX4_drifts_250 : decode cX4_drifts 250 = .ok (.iload_n 3, 1) := dk_29 (dk_at dksX4_drifts_10 17 rfl rfl)
theorem dX4_drifts_251 : decode cX4_drifts 251 = .ok (.ifCond .le 15, 3) := dk_158 0 15 (dk_at dksX4_drifts_10 18 rfl rfl)
theorem dX4_drifts_254 : decode cX4_drifts 254 = .ok (.aload_n 0, 1) := dk_42 (dk_at dksX4_drifts_10 21 rfl rfl)
theorem dX4_drifts_255 : decode cX4_drifts 255 = .ok (.getfield 16, 3) := dk_180 0 16 (dk_at dksX4_drifts_11 0 rfl rfl)
theorem dX4_drifts_258 : decode cX4_drifts 258 = .ok (.iload_n 2, 1) := dk_28 (dk_at dksX4_drifts_11 3 rfl rfl)
theorem dX4_drifts_259 : decode cX4_drifts 259 = .ok (.iload 5, 2) := dk_21 5 (dk_at dksX4_drifts_11 4 rfl rfl)
theorem dX4_drifts_261 : decode cX4_drifts 261 = .ok (.iadd, 1) := dk_96 (dk_at dksX4_drifts_11 6 rfl rfl)
theorem dX4_drifts_262 : decode cX4_drifts 262 = .ok (.ldc2_w 261, 3) := dk_20 1 5 (dk_at dksX4_drifts_11 7 rfl rfl)
theorem dX4_drifts_265 : decode cX4_drifts 265 = .ok (.lastore, 1) := dk_80 (dk_at dksX4_drifts_11 10 rfl rfl)
theorem dX4_drifts_266 : decode cX4_drifts 266 = .ok (.aload_n 0, 1) := dk_42 (dk_at dksX4_drifts_11 11 rfl rfl)
theorem dX4_drifts_267 : decode cX4_drifts 267 = .ok (.iload_n 1, 1) := dk_27 (dk_at dksX4_drifts_11 12 rfl rfl)
theorem dX4_drifts_268 : decode cX4_drifts 268 = .ok (.iconst 1, 1) := dk_4 (dk_at dksX4_drifts_11 13 rfl rfl)
theorem dX4_drifts_269 : decode cX4_drifts 269 = .ok (.isub, 1) := dk_100 (dk_at dksX4_drifts_11 14 rfl rfl)
theorem dX4_drifts_270 : decode cX4_drifts 270 = .ok (.invokevirtual 130, 3) := dk_182 0 130 (dk_at dksX4_drifts_11 15 rfl rfl)
theorem dX4_drifts_273 : decode cX4_drifts 273 = .ok (.pop, 1) := dk_87 (dk_at dksX4_drifts_11 18 rfl rfl)
theorem dX4_drifts_274 : decode cX4_drifts 274 = .ok (.return_, 1) := dk_177 (dk_at dksX4_drifts_11 19 rfl rfl)
abbrev cX4_draw : ByteArray := prog_28_method_69_code
def yX4_draw : MethodName := ⟨RX4, "draw", "(I)I"⟩
def dkwX4_draw_1 : List UInt8 := [112, 172]
abbrev dktX4_draw_1 : List UInt8 := dkwX4_draw_1 ++ []
def dkwX4_draw_0 : List UInt8 := [42, 42, 180, 0, 75, 19, 1, 1, 104, 17, 48, 57, 96, 181, 0, 75, 42, 180, 0, 75, 16, 16, 124, 27]
abbrev dktX4_draw_0 : List UInt8 := dkwX4_draw_0 ++ dktX4_draw_1
theorem dksX4_draw_0 : cX4_draw.data.toList.drop 0 = dktX4_draw_0 := by decide +kernel
theorem dksX4_draw_1 : cX4_draw.data.toList.drop 24 = dktX4_draw_1 := dk_seg dksX4_draw_0 24 rfl rfl
theorem dX4_draw_0 : decode cX4_draw 0 = .ok (.aload_n 0, 1) := dk_42 (dk_at dksX4_draw_0 0 rfl rfl)
theorem dX4_draw_1 : decode cX4_draw 1 = .ok (.aload_n 0, 1) := dk_42 (dk_at dksX4_draw_0 1 rfl rfl)
theorem dX4_draw_2 : decode cX4_draw 2 = .ok (.getfield 75, 3) := dk_180 0 75 (dk_at dksX4_draw_0 2 rfl rfl)
theorem dX4_draw_5 : decode cX4_draw 5 = .ok (.ldc_w 257, 3) := dk_19 1 1 (dk_at dksX4_draw_0 5 rfl rfl)
theorem dX4_draw_8 : decode cX4_draw 8 = .ok (.imul, 1) := dk_104 (dk_at dksX4_draw_0 8 rfl rfl)
theorem dX4_draw_9 : decode cX4_draw 9 = .ok (.sipush 12345, 3) := dk_17 48 57 (dk_at dksX4_draw_0 9 rfl rfl)
theorem dX4_draw_12 : decode cX4_draw 12 = .ok (.iadd, 1) := dk_96 (dk_at dksX4_draw_0 12 rfl rfl)
theorem dX4_draw_13 : decode cX4_draw 13 = .ok (.putfield 75, 3) := dk_181 0 75 (dk_at dksX4_draw_0 13 rfl rfl)
theorem dX4_draw_16 : decode cX4_draw 16 = .ok (.aload_n 0, 1) := dk_42 (dk_at dksX4_draw_0 16 rfl rfl)
theorem dX4_draw_17 : decode cX4_draw 17 = .ok (.getfield 75, 3) := dk_180 0 75 (dk_at dksX4_draw_0 17 rfl rfl)
theorem dX4_draw_20 : decode cX4_draw 20 = .ok (.bipush 16, 2) := dk_16 16 (dk_at dksX4_draw_0 20 rfl rfl)
theorem dX4_draw_22 : decode cX4_draw 22 = .ok (.iushr, 1) := dk_124 (dk_at dksX4_draw_0 22 rfl rfl)
theorem dX4_draw_23 : decode cX4_draw 23 = .ok (.iload_n 1, 1) := dk_27 (dk_at dksX4_draw_0 23 rfl rfl)
theorem dX4_draw_24 : decode cX4_draw 24 = .ok (.irem, 1) := dk_112 (dk_at dksX4_draw_1 0 rfl rfl)
theorem dX4_draw_25 : decode cX4_draw 25 = .ok (.ireturn, 1) := dk_172 (dk_at dksX4_draw_1 1 rfl rfl)
abbrev cX4_seed : ByteArray := prog_28_method_72_code
def yX4_seed : MethodName := ⟨RX4, "seed", "(I)I"⟩
def dkwX4_seed_0 : List UInt8 := [42, 180, 0, 75, 61, 42, 27, 181, 0, 75, 28, 172]
abbrev dktX4_seed_0 : List UInt8 := dkwX4_seed_0 ++ []
theorem dksX4_seed_0 : cX4_seed.data.toList.drop 0 = dktX4_seed_0 := by decide +kernel
theorem dX4_seed_0 : decode cX4_seed 0 = .ok (.aload_n 0, 1) := dk_42 (dk_at dksX4_seed_0 0 rfl rfl)
theorem dX4_seed_1 : decode cX4_seed 1 = .ok (.getfield 75, 3) := dk_180 0 75 (dk_at dksX4_seed_0 1 rfl rfl)
theorem dX4_seed_4 : decode cX4_seed 4 = .ok (.istore_n 2, 1) := dk_61 (dk_at dksX4_seed_0 4 rfl rfl)
theorem dX4_seed_5 : decode cX4_seed 5 = .ok (.aload_n 0, 1) := dk_42 (dk_at dksX4_seed_0 5 rfl rfl)
theorem dX4_seed_6 : decode cX4_seed 6 = .ok (.iload_n 1, 1) := dk_27 (dk_at dksX4_seed_0 6 rfl rfl)
theorem dX4_seed_7 : decode cX4_seed 7 = .ok (.putfield 75, 3) := dk_181 0 75 (dk_at dksX4_seed_0 7 rfl rfl)
theorem dX4_seed_10 : decode cX4_seed 10 = .ok (.iload_n 2, 1) := dk_28 (dk_at dksX4_seed_0 10 rfl rfl)
theorem dX4_seed_11 : decode cX4_seed 11 = .ok (.ireturn, 1) := dk_172 (dk_at dksX4_seed_0 11 rfl rfl)
abbrev cX4_act : ByteArray := prog_28_method_77_code
def yX4_act : MethodName := ⟨RX4, "act", "(III)I"⟩
def dkwX4_act_2 : List UInt8 := [4, 160, 0, 14, 42, 27, 21, 4, 29, 182, 1, 20, 167, 0, 11, 42, 27, 21, 4, 29, 182, 1, 23, 172]
abbrev dktX4_act_2 : List UInt8 := dkwX4_act_2 ++ []
def dkwX4_act_1 : List UInt8 := [42, 3, 27, 182, 0, 109, 54, 4, 28, 154, 0, 14, 42, 27, 21, 4, 29, 182, 1, 16, 167, 0, 27, 28]
abbrev dktX4_act_1 : List UInt8 := dkwX4_act_1 ++ dktX4_act_2
def dkwX4_act_0 : List UInt8 := [42, 3, 181, 1, 10, 42, 27, 182, 0, 103, 153, 0, 12, 28, 3, 5, 184, 0, 89, 154, 0, 5, 3, 172]
abbrev dktX4_act_0 : List UInt8 := dkwX4_act_0 ++ dktX4_act_1
theorem dksX4_act_0 : cX4_act.data.toList.drop 0 = dktX4_act_0 := by decide +kernel
theorem dksX4_act_1 : cX4_act.data.toList.drop 24 = dktX4_act_1 := dk_seg dksX4_act_0 24 rfl rfl
theorem dksX4_act_2 : cX4_act.data.toList.drop 48 = dktX4_act_2 := dk_seg dksX4_act_1 24 rfl rfl
theorem dX4_act_0 : decode cX4_act 0 = .ok (.aload_n 0, 1) := dk_42 (dk_at dksX4_act_0 0 rfl rfl)
theorem dX4_act_1 : decode cX4_act 1 = .ok (.iconst 0, 1) := dk_3 (dk_at dksX4_act_0 1 rfl rfl)
theorem dX4_act_2 : decode cX4_act 2 = .ok (.putfield 266, 3) := dk_181 1 10 (dk_at dksX4_act_0 2 rfl rfl)
theorem dX4_act_5 : decode cX4_act 5 = .ok (.aload_n 0, 1) := dk_42 (dk_at dksX4_act_0 5 rfl rfl)
theorem dX4_act_6 : decode cX4_act 6 = .ok (.iload_n 1, 1) := dk_27 (dk_at dksX4_act_0 6 rfl rfl)
theorem dX4_act_7 : decode cX4_act 7 = .ok (.invokevirtual 103, 3) := dk_182 0 103 (dk_at dksX4_act_0 7 rfl rfl)
theorem dX4_act_10 : decode cX4_act 10 = .ok (.ifCond .eq 12, 3) := dk_153 0 12 (dk_at dksX4_act_0 10 rfl rfl)
theorem dX4_act_13 : decode cX4_act 13 = .ok (.iload_n 2, 1) := dk_28 (dk_at dksX4_act_0 13 rfl rfl)
theorem dX4_act_14 : decode cX4_act 14 = .ok (.iconst 0, 1) := dk_3 (dk_at dksX4_act_0 14 rfl rfl)
theorem dX4_act_15 : decode cX4_act 15 = .ok (.iconst 2, 1) := dk_5 (dk_at dksX4_act_0 15 rfl rfl)
theorem dX4_act_16 : decode cX4_act 16 = .ok (.invokestatic 89, 3) := dk_184 0 89 (dk_at dksX4_act_0 16 rfl rfl)
theorem dX4_act_19 : decode cX4_act 19 = .ok (.ifCond .ne 5, 3) := dk_154 0 5 (dk_at dksX4_act_0 19 rfl rfl)
theorem dX4_act_22 : decode cX4_act 22 = .ok (.iconst 0, 1) := dk_3 (dk_at dksX4_act_0 22 rfl rfl)
theorem dX4_act_23 : decode cX4_act 23 = .ok (.ireturn, 1) := dk_172 (dk_at dksX4_act_0 23 rfl rfl)
theorem dX4_act_24 : decode cX4_act 24 = .ok (.aload_n 0, 1) := dk_42 (dk_at dksX4_act_1 0 rfl rfl)
theorem dX4_act_25 : decode cX4_act 25 = .ok (.iconst 0, 1) := dk_3 (dk_at dksX4_act_1 1 rfl rfl)
theorem dX4_act_26 : decode cX4_act 26 = .ok (.iload_n 1, 1) := dk_27 (dk_at dksX4_act_1 2 rfl rfl)
theorem dX4_act_27 : decode cX4_act 27 = .ok (.invokevirtual 109, 3) := dk_182 0 109 (dk_at dksX4_act_1 3 rfl rfl)
theorem dX4_act_30 : decode cX4_act 30 = .ok (.istore 4, 2) := dk_54 4 (dk_at dksX4_act_1 6 rfl rfl)
theorem dX4_act_32 : decode cX4_act 32 = .ok (.iload_n 2, 1) := dk_28 (dk_at dksX4_act_1 8 rfl rfl)
theorem dX4_act_33 : decode cX4_act 33 = .ok (.ifCond .ne 14, 3) := dk_154 0 14 (dk_at dksX4_act_1 9 rfl rfl)
theorem dX4_act_36 : decode cX4_act 36 = .ok (.aload_n 0, 1) := dk_42 (dk_at dksX4_act_1 12 rfl rfl)
theorem dX4_act_37 : decode cX4_act 37 = .ok (.iload_n 1, 1) := dk_27 (dk_at dksX4_act_1 13 rfl rfl)
theorem dX4_act_38 : decode cX4_act 38 = .ok (.iload 4, 2) := dk_21 4 (dk_at dksX4_act_1 14 rfl rfl)
theorem dX4_act_40 : decode cX4_act 40 = .ok (.iload_n 3, 1) := dk_29 (dk_at dksX4_act_1 16 rfl rfl)
theorem dX4_act_41 : decode cX4_act 41 = .ok (.invokevirtual 272, 3) := dk_182 1 16 (dk_at dksX4_act_1 17 rfl rfl)
theorem dX4_act_44 : decode cX4_act 44 = .ok (.goto 27, 3) := dk_167 0 27 (dk_at dksX4_act_1 20 rfl rfl)
theorem dX4_act_47 : decode cX4_act 47 = .ok (.iload_n 2, 1) := dk_28 (dk_at dksX4_act_1 23 rfl rfl)
theorem dX4_act_48 : decode cX4_act 48 = .ok (.iconst 1, 1) := dk_4 (dk_at dksX4_act_2 0 rfl rfl)
theorem dX4_act_49 : decode cX4_act 49 = .ok (.if_icmp .ne 14, 3) := dk_160 0 14 (dk_at dksX4_act_2 1 rfl rfl)
theorem dX4_act_52 : decode cX4_act 52 = .ok (.aload_n 0, 1) := dk_42 (dk_at dksX4_act_2 4 rfl rfl)
theorem dX4_act_53 : decode cX4_act 53 = .ok (.iload_n 1, 1) := dk_27 (dk_at dksX4_act_2 5 rfl rfl)
theorem dX4_act_54 : decode cX4_act 54 = .ok (.iload 4, 2) := dk_21 4 (dk_at dksX4_act_2 6 rfl rfl)
theorem dX4_act_56 : decode cX4_act 56 = .ok (.iload_n 3, 1) := dk_29 (dk_at dksX4_act_2 8 rfl rfl)
theorem dX4_act_57 : decode cX4_act 57 = .ok (.invokevirtual 276, 3) := dk_182 1 20 (dk_at dksX4_act_2 9 rfl rfl)
theorem dX4_act_60 : decode cX4_act 60 = .ok (.goto 11, 3) := dk_167 0 11 (dk_at dksX4_act_2 12 rfl rfl)
theorem dX4_act_63 : decode cX4_act 63 = .ok (.aload_n 0, 1) := dk_42 (dk_at dksX4_act_2 15 rfl rfl)
theorem dX4_act_64 : decode cX4_act 64 = .ok (.iload_n 1, 1) := dk_27 (dk_at dksX4_act_2 16 rfl rfl)
theorem dX4_act_65 : decode cX4_act 65 = .ok (.iload 4, 2) := dk_21 4 (dk_at dksX4_act_2 17 rfl rfl)
theorem dX4_act_67 : decode cX4_act 67 = .ok (.iload_n 3, 1) := dk_29 (dk_at dksX4_act_2 19 rfl rfl)
theorem dX4_act_68 : decode cX4_act 68 = .ok (.invokevirtual 279, 3) := dk_182 1 23 (dk_at dksX4_act_2 20 rfl rfl)
theorem dX4_act_71 : decode cX4_act 71 = .ok (.ireturn, 1) := dk_172 (dk_at dksX4_act_2 23 rfl rfl)
abbrev cX4_points : ByteArray := prog_28_method_74_code
def yX4_points : MethodName := ⟨RX4, "points", "(III)I"⟩
def dkwX4_points_5 : List UInt8 := [29, 182, 1, 16, 5, 104, 172, 42, 27, 28, 184, 0, 106, 29, 182, 1, 16, 172]
abbrev dktX4_points_5 : List UInt8 := dkwX4_points_5 ++ []
def dkwX4_points_4 : List UInt8 := [16, 51, 182, 1, 13, 42, 27, 3, 29, 182, 1, 16, 27, 100, 172, 42, 16, 70, 182, 1, 13, 42, 27, 6]
abbrev dktX4_points_4 : List UInt8 := dkwX4_points_4 ++ dktX4_points_5
def dkwX4_points_3 : List UInt8 := [4, 27, 182, 0, 109, 96, 172, 42, 16, 40, 182, 1, 13, 42, 27, 4, 29, 4, 96, 182, 1, 16, 172, 42]
abbrev dktX4_points_3 : List UInt8 := dkwX4_points_3 ++ dktX4_points_4
def dkwX4_points_2 : List UInt8 := [42, 16, 10, 182, 1, 13, 29, 27, 96, 172, 42, 16, 20, 182, 1, 13, 42, 27, 3, 29, 182, 1, 16, 42]
abbrev dktX4_points_2 : List UInt8 := dkwX4_points_2 ++ dktX4_points_3
def dkwX4_points_1 : List UInt8 := [170, 0, 0, 0, 0, 0, 122, 0, 0, 0, 0, 0, 0, 0, 6, 0, 0, 0, 43, 0, 0, 0, 53, 0, 0, 0, 122, 0, 0, 0, 74, 0, 0, 0, 90, 0, 0, 0, 122, 0, 0, 0, 106]
abbrev dktX4_points_1 : List UInt8 := dkwX4_points_1 ++ dktX4_points_2
def dkwX4_points_0 : List UInt8 := [28]
abbrev dktX4_points_0 : List UInt8 := dkwX4_points_0 ++ dktX4_points_1
theorem dksX4_points_0 : cX4_points.data.toList.drop 0 = dktX4_points_0 := by decide +kernel
theorem dksX4_points_1 : cX4_points.data.toList.drop 1 = dktX4_points_1 := dk_seg dksX4_points_0 1 rfl rfl
theorem dksX4_points_2 : cX4_points.data.toList.drop 44 = dktX4_points_2 := dk_seg dksX4_points_1 43 rfl rfl
theorem dksX4_points_3 : cX4_points.data.toList.drop 68 = dktX4_points_3 := dk_seg dksX4_points_2 24 rfl rfl
theorem dksX4_points_4 : cX4_points.data.toList.drop 92 = dktX4_points_4 := dk_seg dksX4_points_3 24 rfl rfl
theorem dksX4_points_5 : cX4_points.data.toList.drop 116 = dktX4_points_5 := dk_seg dksX4_points_4 24 rfl rfl
theorem dX4_points_0 : decode cX4_points 0 = .ok (.iload_n 2, 1) := dk_28 (dk_at dksX4_points_0 0 rfl rfl)
theorem dX4_points_1 : decode cX4_points 1 = .ok (.tableswitch 122 0 6 #[43, 53, 122, 74, 90, 122, 106], 43) := by decide +kernel
theorem dX4_points_44 : decode cX4_points 44 = .ok (.aload_n 0, 1) := dk_42 (dk_at dksX4_points_2 0 rfl rfl)
theorem dX4_points_45 : decode cX4_points 45 = .ok (.bipush 10, 2) := dk_16 10 (dk_at dksX4_points_2 1 rfl rfl)
theorem dX4_points_47 : decode cX4_points 47 = .ok (.invokevirtual 269, 3) := dk_182 1 13 (dk_at dksX4_points_2 3 rfl rfl)
theorem dX4_points_50 : decode cX4_points 50 = .ok (.iload_n 3, 1) := dk_29 (dk_at dksX4_points_2 6 rfl rfl)
theorem dX4_points_51 : decode cX4_points 51 = .ok (.iload_n 1, 1) := dk_27 (dk_at dksX4_points_2 7 rfl rfl)
theorem dX4_points_52 : decode cX4_points 52 = .ok (.iadd, 1) := dk_96 (dk_at dksX4_points_2 8 rfl rfl)
theorem dX4_points_53 : decode cX4_points 53 = .ok (.ireturn, 1) := dk_172 (dk_at dksX4_points_2 9 rfl rfl)
theorem dX4_points_54 : decode cX4_points 54 = .ok (.aload_n 0, 1) := dk_42 (dk_at dksX4_points_2 10 rfl rfl)
theorem dX4_points_55 : decode cX4_points 55 = .ok (.bipush 20, 2) := dk_16 20 (dk_at dksX4_points_2 11 rfl rfl)
theorem dX4_points_57 : decode cX4_points 57 = .ok (.invokevirtual 269, 3) := dk_182 1 13 (dk_at dksX4_points_2 13 rfl rfl)
theorem dX4_points_60 : decode cX4_points 60 = .ok (.aload_n 0, 1) := dk_42 (dk_at dksX4_points_2 16 rfl rfl)
theorem dX4_points_61 : decode cX4_points 61 = .ok (.iload_n 1, 1) := dk_27 (dk_at dksX4_points_2 17 rfl rfl)
theorem dX4_points_62 : decode cX4_points 62 = .ok (.iconst 0, 1) := dk_3 (dk_at dksX4_points_2 18 rfl rfl)
theorem dX4_points_63 : decode cX4_points 63 = .ok (.iload_n 3, 1) := dk_29 (dk_at dksX4_points_2 19 rfl rfl)
theorem dX4_points_64 : decode cX4_points 64 = .ok (.invokevirtual 272, 3) := dk_182 1 16 (dk_at dksX4_points_2 20 rfl rfl)
theorem dX4_points_67 : decode cX4_points 67 = .ok (.aload_n 0, 1) := dk_42 (dk_at dksX4_points_2 23 rfl rfl)
theorem dX4_points_68 : decode cX4_points 68 = .ok (.iconst 1, 1) := dk_4 (dk_at dksX4_points_3 0 rfl rfl)
theorem dX4_points_69 : decode cX4_points 69 = .ok (.iload_n 1, 1) := dk_27 (dk_at dksX4_points_3 1 rfl rfl)
theorem dX4_points_70 : decode cX4_points 70 = .ok (.invokevirtual 109, 3) := dk_182 0 109 (dk_at dksX4_points_3 2 rfl rfl)
theorem dX4_points_73 : decode cX4_points 73 = .ok (.iadd, 1) := dk_96 (dk_at dksX4_points_3 5 rfl rfl)
theorem dX4_points_74 : decode cX4_points 74 = .ok (.ireturn, 1) := dk_172 (dk_at dksX4_points_3 6 rfl rfl)
theorem dX4_points_75 : decode cX4_points 75 = .ok (.aload_n 0, 1) := dk_42 (dk_at dksX4_points_3 7 rfl rfl)
theorem dX4_points_76 : decode cX4_points 76 = .ok (.bipush 40, 2) := dk_16 40 (dk_at dksX4_points_3 8 rfl rfl)
theorem dX4_points_78 : decode cX4_points 78 = .ok (.invokevirtual 269, 3) := dk_182 1 13 (dk_at dksX4_points_3 10 rfl rfl)
theorem dX4_points_81 : decode cX4_points 81 = .ok (.aload_n 0, 1) := dk_42 (dk_at dksX4_points_3 13 rfl rfl)
theorem dX4_points_82 : decode cX4_points 82 = .ok (.iload_n 1, 1) := dk_27 (dk_at dksX4_points_3 14 rfl rfl)
theorem dX4_points_83 : decode cX4_points 83 = .ok (.iconst 1, 1) := dk_4 (dk_at dksX4_points_3 15 rfl rfl)
theorem dX4_points_84 : decode cX4_points 84 = .ok (.iload_n 3, 1) := dk_29 (dk_at dksX4_points_3 16 rfl rfl)
theorem dX4_points_85 : decode cX4_points 85 = .ok (.iconst 1, 1) := dk_4 (dk_at dksX4_points_3 17 rfl rfl)
theorem dX4_points_86 : decode cX4_points 86 = .ok (.iadd, 1) := dk_96 (dk_at dksX4_points_3 18 rfl rfl)
theorem dX4_points_87 : decode cX4_points 87 = .ok (.invokevirtual 272, 3) := dk_182 1 16 (dk_at dksX4_points_3 19 rfl rfl)
theorem dX4_points_90 : decode cX4_points 90 = .ok (.ireturn, 1) := dk_172 (dk_at dksX4_points_3 22 rfl rfl)
theorem dX4_points_91 : decode cX4_points 91 = .ok (.aload_n 0, 1) := dk_42 (dk_at dksX4_points_3 23 rfl rfl)
theorem dX4_points_92 : decode cX4_points 92 = .ok (.bipush 51, 2) := dk_16 51 (dk_at dksX4_points_4 0 rfl rfl)
theorem dX4_points_94 : decode cX4_points 94 = .ok (.invokevirtual 269, 3) := dk_182 1 13 (dk_at dksX4_points_4 2 rfl rfl)
theorem dX4_points_97 : decode cX4_points 97 = .ok (.aload_n 0, 1) := dk_42 (dk_at dksX4_points_4 5 rfl rfl)
theorem dX4_points_98 : decode cX4_points 98 = .ok (.iload_n 1, 1) := dk_27 (dk_at dksX4_points_4 6 rfl rfl)
theorem dX4_points_99 : decode cX4_points 99 = .ok (.iconst 0, 1) := dk_3 (dk_at dksX4_points_4 7 rfl rfl)
theorem dX4_points_100 : decode cX4_points 100 = .ok (.iload_n 3, 1) := dk_29 (dk_at dksX4_points_4 8 rfl rfl)
theorem dX4_points_101 : decode cX4_points 101 = .ok (.invokevirtual 272, 3) := dk_182 1 16 (dk_at dksX4_points_4 9 rfl rfl)
theorem dX4_points_104 : decode cX4_points 104 = .ok (.iload_n 1, 1) := dk_27 (dk_at dksX4_points_4 12 rfl rfl)
theorem dX4_points_105 : decode cX4_points 105 = .ok (.isub, 1) := dk_100 (dk_at dksX4_points_4 13 rfl rfl)
theorem dX4_points_106 : decode cX4_points 106 = .ok (.ireturn, 1) := dk_172 (dk_at dksX4_points_4 14 rfl rfl)
theorem dX4_points_107 : decode cX4_points 107 = .ok (.aload_n 0, 1) := dk_42 (dk_at dksX4_points_4 15 rfl rfl)
theorem dX4_points_108 : decode cX4_points 108 = .ok (.bipush 70, 2) := dk_16 70 (dk_at dksX4_points_4 16 rfl rfl)
theorem dX4_points_110 : decode cX4_points 110 = .ok (.invokevirtual 269, 3) := dk_182 1 13 (dk_at dksX4_points_4 18 rfl rfl)
theorem dX4_points_113 : decode cX4_points 113 = .ok (.aload_n 0, 1) := dk_42 (dk_at dksX4_points_4 21 rfl rfl)
theorem dX4_points_114 : decode cX4_points 114 = .ok (.iload_n 1, 1) := dk_27 (dk_at dksX4_points_4 22 rfl rfl)
theorem dX4_points_115 : decode cX4_points 115 = .ok (.iconst 3, 1) := dk_6 (dk_at dksX4_points_4 23 rfl rfl)
theorem dX4_points_116 : decode cX4_points 116 = .ok (.iload_n 3, 1) := dk_29 (dk_at dksX4_points_5 0 rfl rfl)
theorem dX4_points_117 : decode cX4_points 117 = .ok (.invokevirtual 272, 3) := dk_182 1 16 (dk_at dksX4_points_5 1 rfl rfl)
theorem dX4_points_120 : decode cX4_points 120 = .ok (.iconst 2, 1) := dk_5 (dk_at dksX4_points_5 4 rfl rfl)
theorem dX4_points_121 : decode cX4_points 121 = .ok (.imul, 1) := dk_104 (dk_at dksX4_points_5 5 rfl rfl)
theorem dX4_points_122 : decode cX4_points 122 = .ok (.ireturn, 1) := dk_172 (dk_at dksX4_points_5 6 rfl rfl)
theorem dX4_points_123 : decode cX4_points 123 = .ok (.aload_n 0, 1) := dk_42 (dk_at dksX4_points_5 7 rfl rfl)
theorem dX4_points_124 : decode cX4_points 124 = .ok (.iload_n 1, 1) := dk_27 (dk_at dksX4_points_5 8 rfl rfl)
theorem dX4_points_125 : decode cX4_points 125 = .ok (.iload_n 2, 1) := dk_28 (dk_at dksX4_points_5 9 rfl rfl)
theorem dX4_points_126 : decode cX4_points 126 = .ok (.invokestatic 106, 3) := dk_184 0 106 (dk_at dksX4_points_5 10 rfl rfl)
theorem dX4_points_129 : decode cX4_points 129 = .ok (.iload_n 3, 1) := dk_29 (dk_at dksX4_points_5 13 rfl rfl)
theorem dX4_points_130 : decode cX4_points 130 = .ok (.invokevirtual 272, 3) := dk_182 1 16 (dk_at dksX4_points_5 14 rfl rfl)
theorem dX4_points_133 : decode cX4_points 133 = .ok (.ireturn, 1) := dk_172 (dk_at dksX4_points_5 17 rfl rfl)
abbrev cX4_ran : ByteArray := prog_28_method_73_code
def yX4_ran : MethodName := ⟨RX4, "ran", "(I)V"⟩
def dkwX4_ran_1 : List UInt8 := [4, 96, 181, 1, 10, 177]
abbrev dktX4_ran_1 : List UInt8 := dkwX4_ran_1 ++ []
def dkwX4_ran_0 : List UInt8 := [42, 180, 1, 10, 16, 20, 162, 0, 13, 42, 180, 0, 38, 42, 180, 1, 10, 27, 79, 42, 89, 180, 1, 10]
abbrev dktX4_ran_0 : List UInt8 := dkwX4_ran_0 ++ dktX4_ran_1
theorem dksX4_ran_0 : cX4_ran.data.toList.drop 0 = dktX4_ran_0 := by decide +kernel
theorem dksX4_ran_1 : cX4_ran.data.toList.drop 24 = dktX4_ran_1 := dk_seg dksX4_ran_0 24 rfl rfl
theorem dX4_ran_0 : decode cX4_ran 0 = .ok (.aload_n 0, 1) := dk_42 (dk_at dksX4_ran_0 0 rfl rfl)
theorem dX4_ran_1 : decode cX4_ran 1 = .ok (.getfield 266, 3) := dk_180 1 10 (dk_at dksX4_ran_0 1 rfl rfl)
theorem dX4_ran_4 : decode cX4_ran 4 = .ok (.bipush 20, 2) := dk_16 20 (dk_at dksX4_ran_0 4 rfl rfl)
theorem dX4_ran_6 : decode cX4_ran 6 = .ok (.if_icmp .ge 13, 3) := dk_162 0 13 (dk_at dksX4_ran_0 6 rfl rfl)
theorem dX4_ran_9 : decode cX4_ran 9 = .ok (.aload_n 0, 1) := dk_42 (dk_at dksX4_ran_0 9 rfl rfl)
theorem dX4_ran_10 : decode cX4_ran 10 = .ok (.getfield 38, 3) := dk_180 0 38 (dk_at dksX4_ran_0 10 rfl rfl)
theorem dX4_ran_13 : decode cX4_ran 13 = .ok (.aload_n 0, 1) := dk_42 (dk_at dksX4_ran_0 13 rfl rfl)
theorem dX4_ran_14 : decode cX4_ran 14 = .ok (.getfield 266, 3) := dk_180 1 10 (dk_at dksX4_ran_0 14 rfl rfl)
theorem dX4_ran_17 : decode cX4_ran 17 = .ok (.iload_n 1, 1) := dk_27 (dk_at dksX4_ran_0 17 rfl rfl)
theorem dX4_ran_18 : decode cX4_ran 18 = .ok (.iastore, 1) := dk_79 (dk_at dksX4_ran_0 18 rfl rfl)
theorem dX4_ran_19 : decode cX4_ran 19 = .ok (.aload_n 0, 1) := dk_42 (dk_at dksX4_ran_0 19 rfl rfl)
theorem dX4_ran_20 : decode cX4_ran 20 = .ok (.dup, 1) := dk_89 (dk_at dksX4_ran_0 20 rfl rfl)
theorem dX4_ran_21 : decode cX4_ran 21 = .ok (.getfield 266, 3) := dk_180 1 10 (dk_at dksX4_ran_0 21 rfl rfl)
theorem dX4_ran_24 : decode cX4_ran 24 = .ok (.iconst 1, 1) := dk_4 (dk_at dksX4_ran_1 0 rfl rfl)
theorem dX4_ran_25 : decode cX4_ran 25 = .ok (.iadd, 1) := dk_96 (dk_at dksX4_ran_1 1 rfl rfl)
theorem dX4_ran_26 : decode cX4_ran 26 = .ok (.putfield 266, 3) := dk_181 1 10 (dk_at dksX4_ran_1 2 rfl rfl)
theorem dX4_ran_29 : decode cX4_ran 29 = .ok (.return_, 1) := dk_177 (dk_at dksX4_ran_1 5 rfl rfl)
abbrev cX4_weighs : ByteArray := prog_28_method_75_code
def yX4_weighs : MethodName := ⟨RX4, "weighs", "(III)I"⟩
def dkwX4_weighs_4 : List UInt8 := [4, 27, 182, 0, 109, 100, 182, 1, 20, 172, 42, 27, 28, 184, 0, 106, 29, 182, 1, 20, 172]
abbrev dktX4_weighs_4 : List UInt8 := dkwX4_weighs_4 ++ []
def dkwX4_weighs_3 : List UInt8 := [182, 1, 13, 42, 27, 3, 29, 182, 1, 20, 6, 104, 172, 42, 16, 71, 182, 1, 13, 42, 27, 6, 29, 42]
abbrev dktX4_weighs_3 : List UInt8 := dkwX4_weighs_3 ++ dktX4_weighs_4
def dkwX4_weighs_2 : List UInt8 := [42, 16, 11, 182, 1, 13, 42, 27, 42, 3, 27, 182, 0, 109, 29, 182, 1, 16, 5, 104, 172, 42, 16, 30]
abbrev dktX4_weighs_2 : List UInt8 := dkwX4_weighs_2 ++ dktX4_weighs_3
def dkwX4_weighs_1 : List UInt8 := [171, 0, 0, 0, 0, 0, 93, 0, 0, 0, 3, 0, 0, 0, 0, 0, 0, 0, 35, 0, 0, 0, 2, 0, 0, 0, 56, 0, 0, 0, 6, 0, 0, 0, 72]
abbrev dktX4_weighs_1 : List UInt8 := dkwX4_weighs_1 ++ dktX4_weighs_2
def dkwX4_weighs_0 : List UInt8 := [28]
abbrev dktX4_weighs_0 : List UInt8 := dkwX4_weighs_0 ++ dktX4_weighs_1
theorem dksX4_weighs_0 : cX4_weighs.data.toList.drop 0 = dktX4_weighs_0 := by decide +kernel
theorem dksX4_weighs_1 : cX4_weighs.data.toList.drop 1 = dktX4_weighs_1 := dk_seg dksX4_weighs_0 1 rfl rfl
theorem dksX4_weighs_2 : cX4_weighs.data.toList.drop 36 = dktX4_weighs_2 := dk_seg dksX4_weighs_1 35 rfl rfl
theorem dksX4_weighs_3 : cX4_weighs.data.toList.drop 60 = dktX4_weighs_3 := dk_seg dksX4_weighs_2 24 rfl rfl
theorem dksX4_weighs_4 : cX4_weighs.data.toList.drop 84 = dktX4_weighs_4 := dk_seg dksX4_weighs_3 24 rfl rfl
theorem dX4_weighs_0 : decode cX4_weighs 0 = .ok (.iload_n 2, 1) := dk_28 (dk_at dksX4_weighs_0 0 rfl rfl)
theorem dX4_weighs_1 : decode cX4_weighs 1 = .ok (.lookupswitch 93 #[(0, 35), (2, 56), (6, 72)], 35) := by decide +kernel
theorem dX4_weighs_36 : decode cX4_weighs 36 = .ok (.aload_n 0, 1) := dk_42 (dk_at dksX4_weighs_2 0 rfl rfl)
theorem dX4_weighs_37 : decode cX4_weighs 37 = .ok (.bipush 11, 2) := dk_16 11 (dk_at dksX4_weighs_2 1 rfl rfl)
theorem dX4_weighs_39 : decode cX4_weighs 39 = .ok (.invokevirtual 269, 3) := dk_182 1 13 (dk_at dksX4_weighs_2 3 rfl rfl)
theorem dX4_weighs_42 : decode cX4_weighs 42 = .ok (.aload_n 0, 1) := dk_42 (dk_at dksX4_weighs_2 6 rfl rfl)
theorem dX4_weighs_43 : decode cX4_weighs 43 = .ok (.iload_n 1, 1) := dk_27 (dk_at dksX4_weighs_2 7 rfl rfl)
theorem dX4_weighs_44 : decode cX4_weighs 44 = .ok (.aload_n 0, 1) := dk_42 (dk_at dksX4_weighs_2 8 rfl rfl)
theorem dX4_weighs_45 : decode cX4_weighs 45 = .ok (.iconst 0, 1) := dk_3 (dk_at dksX4_weighs_2 9 rfl rfl)
theorem dX4_weighs_46 : decode cX4_weighs 46 = .ok (.iload_n 1, 1) := dk_27 (dk_at dksX4_weighs_2 10 rfl rfl)
theorem dX4_weighs_47 : decode cX4_weighs 47 = .ok (.invokevirtual 109, 3) := dk_182 0 109 (dk_at dksX4_weighs_2 11 rfl rfl)
theorem dX4_weighs_50 : decode cX4_weighs 50 = .ok (.iload_n 3, 1) := dk_29 (dk_at dksX4_weighs_2 14 rfl rfl)
theorem dX4_weighs_51 : decode cX4_weighs 51 = .ok (.invokevirtual 272, 3) := dk_182 1 16 (dk_at dksX4_weighs_2 15 rfl rfl)
theorem dX4_weighs_54 : decode cX4_weighs 54 = .ok (.iconst 2, 1) := dk_5 (dk_at dksX4_weighs_2 18 rfl rfl)
theorem dX4_weighs_55 : decode cX4_weighs 55 = .ok (.imul, 1) := dk_104 (dk_at dksX4_weighs_2 19 rfl rfl)
theorem dX4_weighs_56 : decode cX4_weighs 56 = .ok (.ireturn, 1) := dk_172 (dk_at dksX4_weighs_2 20 rfl rfl)
theorem dX4_weighs_57 : decode cX4_weighs 57 = .ok (.aload_n 0, 1) := dk_42 (dk_at dksX4_weighs_2 21 rfl rfl)
theorem dX4_weighs_58 : decode cX4_weighs 58 = .ok (.bipush 30, 2) := dk_16 30 (dk_at dksX4_weighs_2 22 rfl rfl)
theorem dX4_weighs_60 : decode cX4_weighs 60 = .ok (.invokevirtual 269, 3) := dk_182 1 13 (dk_at dksX4_weighs_3 0 rfl rfl)
theorem dX4_weighs_63 : decode cX4_weighs 63 = .ok (.aload_n 0, 1) := dk_42 (dk_at dksX4_weighs_3 3 rfl rfl)
theorem dX4_weighs_64 : decode cX4_weighs 64 = .ok (.iload_n 1, 1) := dk_27 (dk_at dksX4_weighs_3 4 rfl rfl)
theorem dX4_weighs_65 : decode cX4_weighs 65 = .ok (.iconst 0, 1) := dk_3 (dk_at dksX4_weighs_3 5 rfl rfl)
theorem dX4_weighs_66 : decode cX4_weighs 66 = .ok (.iload_n 3, 1) := dk_29 (dk_at dksX4_weighs_3 6 rfl rfl)
theorem dX4_weighs_67 : decode cX4_weighs 67 = .ok (.invokevirtual 276, 3) := dk_182 1 20 (dk_at dksX4_weighs_3 7 rfl rfl)
theorem dX4_weighs_70 : decode cX4_weighs 70 = .ok (.iconst 3, 1) := dk_6 (dk_at dksX4_weighs_3 10 rfl rfl)
theorem dX4_weighs_71 : decode cX4_weighs 71 = .ok (.imul, 1) := dk_104 (dk_at dksX4_weighs_3 11 rfl rfl)
theorem dX4_weighs_72 : decode cX4_weighs 72 = .ok (.ireturn, 1) := dk_172 (dk_at dksX4_weighs_3 12 rfl rfl)
theorem dX4_weighs_73 : decode cX4_weighs 73 = .ok (.aload_n 0, 1) := dk_42 (dk_at dksX4_weighs_3 13 rfl rfl)
theorem dX4_weighs_74 : decode cX4_weighs 74 = .ok (.bipush 71, 2) := dk_16 71 (dk_at dksX4_weighs_3 14 rfl rfl)
theorem dX4_weighs_76 : decode cX4_weighs 76 = .ok (.invokevirtual 269, 3) := dk_182 1 13 (dk_at dksX4_weighs_3 16 rfl rfl)
theorem dX4_weighs_79 : decode cX4_weighs 79 = .ok (.aload_n 0, 1) := dk_42 (dk_at dksX4_weighs_3 19 rfl rfl)
theorem dX4_weighs_80 : decode cX4_weighs 80 = .ok (.iload_n 1, 1) := dk_27 (dk_at dksX4_weighs_3 20 rfl rfl)
theorem dX4_weighs_81 : decode cX4_weighs 81 = .ok (.iconst 3, 1) := dk_6 (dk_at dksX4_weighs_3 21 rfl rfl)
theorem dX4_weighs_82 : decode cX4_weighs 82 = .ok (.iload_n 3, 1) := dk_29 (dk_at dksX4_weighs_3 22 rfl rfl)
theorem dX4_weighs_83 : decode cX4_weighs 83 = .ok (.aload_n 0, 1) := dk_42 (dk_at dksX4_weighs_3 23 rfl rfl)
theorem dX4_weighs_84 : decode cX4_weighs 84 = .ok (.iconst 1, 1) := dk_4 (dk_at dksX4_weighs_4 0 rfl rfl)
theorem dX4_weighs_85 : decode cX4_weighs 85 = .ok (.iload_n 1, 1) := dk_27 (dk_at dksX4_weighs_4 1 rfl rfl)
theorem dX4_weighs_86 : decode cX4_weighs 86 = .ok (.invokevirtual 109, 3) := dk_182 0 109 (dk_at dksX4_weighs_4 2 rfl rfl)
theorem dX4_weighs_89 : decode cX4_weighs 89 = .ok (.isub, 1) := dk_100 (dk_at dksX4_weighs_4 5 rfl rfl)
theorem dX4_weighs_90 : decode cX4_weighs 90 = .ok (.invokevirtual 276, 3) := dk_182 1 20 (dk_at dksX4_weighs_4 6 rfl rfl)
theorem dX4_weighs_93 : decode cX4_weighs 93 = .ok (.ireturn, 1) := dk_172 (dk_at dksX4_weighs_4 9 rfl rfl)
theorem dX4_weighs_94 : decode cX4_weighs 94 = .ok (.aload_n 0, 1) := dk_42 (dk_at dksX4_weighs_4 10 rfl rfl)
theorem dX4_weighs_95 : decode cX4_weighs 95 = .ok (.iload_n 1, 1) := dk_27 (dk_at dksX4_weighs_4 11 rfl rfl)
theorem dX4_weighs_96 : decode cX4_weighs 96 = .ok (.iload_n 2, 1) := dk_28 (dk_at dksX4_weighs_4 12 rfl rfl)
theorem dX4_weighs_97 : decode cX4_weighs 97 = .ok (.invokestatic 106, 3) := dk_184 0 106 (dk_at dksX4_weighs_4 13 rfl rfl)
theorem dX4_weighs_100 : decode cX4_weighs 100 = .ok (.iload_n 3, 1) := dk_29 (dk_at dksX4_weighs_4 16 rfl rfl)
theorem dX4_weighs_101 : decode cX4_weighs 101 = .ok (.invokevirtual 276, 3) := dk_182 1 20 (dk_at dksX4_weighs_4 17 rfl rfl)
theorem dX4_weighs_104 : decode cX4_weighs 104 = .ok (.ireturn, 1) := dk_172 (dk_at dksX4_weighs_4 20 rfl rfl)
abbrev cX4_clings : ByteArray := prog_28_method_76_code
def yX4_clings : MethodName := ⟨RX4, "clings", "(III)I"⟩
def dkwX4_clings_5 : List UInt8 := [182, 1, 23, 8, 130, 172, 42, 27, 28, 184, 0, 106, 29, 182, 1, 23, 172]
abbrev dktX4_clings_5 : List UInt8 := dkwX4_clings_5 ++ []
def dkwX4_clings_4 : List UInt8 := [182, 1, 13, 42, 27, 3, 29, 182, 1, 23, 116, 172, 42, 16, 60, 182, 1, 13, 42, 27, 5, 29]
abbrev dktX4_clings_4 : List UInt8 := dkwX4_clings_4 ++ dktX4_clings_5
def dkwX4_clings_3 : List UInt8 := [42, 3, 27, 182, 0, 109, 29, 42, 4, 27, 182, 0, 109, 100, 182, 1, 16, 130, 172, 42, 16, 50]
abbrev dktX4_clings_3 : List UInt8 := dkwX4_clings_3 ++ dktX4_clings_4
def dkwX4_clings_2 : List UInt8 := [42, 16, 12, 182, 1, 13, 42, 27, 42, 3, 27, 182, 0, 109, 29, 182, 1, 20, 54, 4, 21, 4, 42, 27]
abbrev dktX4_clings_2 : List UInt8 := dkwX4_clings_2 ++ dktX4_clings_3
def dkwX4_clings_1 : List UInt8 := [171, 0, 0, 0, 0, 0, 109, 0, 0, 0, 3, 0, 0, 0, 0, 0, 0, 0, 35, 0, 0, 0, 4, 0, 0, 0, 78, 0, 0, 0, 5, 0, 0, 0, 93]
abbrev dktX4_clings_1 : List UInt8 := dkwX4_clings_1 ++ dktX4_clings_2
def dkwX4_clings_0 : List UInt8 := [28]
abbrev dktX4_clings_0 : List UInt8 := dkwX4_clings_0 ++ dktX4_clings_1
theorem dksX4_clings_0 : cX4_clings.data.toList.drop 0 = dktX4_clings_0 := by decide +kernel
theorem dksX4_clings_1 : cX4_clings.data.toList.drop 1 = dktX4_clings_1 := dk_seg dksX4_clings_0 1 rfl rfl
theorem dksX4_clings_2 : cX4_clings.data.toList.drop 36 = dktX4_clings_2 := dk_seg dksX4_clings_1 35 rfl rfl
theorem dksX4_clings_3 : cX4_clings.data.toList.drop 60 = dktX4_clings_3 := dk_seg dksX4_clings_2 24 rfl rfl
theorem dksX4_clings_4 : cX4_clings.data.toList.drop 82 = dktX4_clings_4 := dk_seg dksX4_clings_3 22 rfl rfl
theorem dksX4_clings_5 : cX4_clings.data.toList.drop 104 = dktX4_clings_5 := dk_seg dksX4_clings_4 22 rfl rfl
theorem dX4_clings_0 : decode cX4_clings 0 = .ok (.iload_n 2, 1) := dk_28 (dk_at dksX4_clings_0 0 rfl rfl)
theorem dX4_clings_1 : decode cX4_clings 1 = .ok (.lookupswitch 109 #[(0, 35), (4, 78), (5, 93)], 35) := by decide +kernel
theorem dX4_clings_36 : decode cX4_clings 36 = .ok (.aload_n 0, 1) := dk_42 (dk_at dksX4_clings_2 0 rfl rfl)
theorem dX4_clings_37 : decode cX4_clings 37 = .ok (.bipush 12, 2) := dk_16 12 (dk_at dksX4_clings_2 1 rfl rfl)
theorem dX4_clings_39 : decode cX4_clings 39 = .ok (.invokevirtual 269, 3) := dk_182 1 13 (dk_at dksX4_clings_2 3 rfl rfl)
theorem dX4_clings_42 : decode cX4_clings 42 = .ok (.aload_n 0, 1) := dk_42 (dk_at dksX4_clings_2 6 rfl rfl)
theorem dX4_clings_43 : decode cX4_clings 43 = .ok (.iload_n 1, 1) := dk_27 (dk_at dksX4_clings_2 7 rfl rfl)
theorem dX4_clings_44 : decode cX4_clings 44 = .ok (.aload_n 0, 1) := dk_42 (dk_at dksX4_clings_2 8 rfl rfl)
theorem dX4_clings_45 : decode cX4_clings 45 = .ok (.iconst 0, 1) := dk_3 (dk_at dksX4_clings_2 9 rfl rfl)
theorem dX4_clings_46 : decode cX4_clings 46 = .ok (.iload_n 1, 1) := dk_27 (dk_at dksX4_clings_2 10 rfl rfl)
theorem dX4_clings_47 : decode cX4_clings 47 = .ok (.invokevirtual 109, 3) := dk_182 0 109 (dk_at dksX4_clings_2 11 rfl rfl)
theorem dX4_clings_50 : decode cX4_clings 50 = .ok (.iload_n 3, 1) := dk_29 (dk_at dksX4_clings_2 14 rfl rfl)
theorem dX4_clings_51 : decode cX4_clings 51 = .ok (.invokevirtual 276, 3) := dk_182 1 20 (dk_at dksX4_clings_2 15 rfl rfl)
theorem dX4_clings_54 : decode cX4_clings 54 = .ok (.istore 4, 2) := dk_54 4 (dk_at dksX4_clings_2 18 rfl rfl)
theorem dX4_clings_56 : decode cX4_clings 56 = .ok (.iload 4, 2) := dk_21 4 (dk_at dksX4_clings_2 20 rfl rfl)
theorem dX4_clings_58 : decode cX4_clings 58 = .ok (.aload_n 0, 1) := dk_42 (dk_at dksX4_clings_2 22 rfl rfl)
theorem dX4_clings_59 : decode cX4_clings 59 = .ok (.iload_n 1, 1) := dk_27 (dk_at dksX4_clings_2 23 rfl rfl)
theorem dX4_clings_60 : decode cX4_clings 60 = .ok (.aload_n 0, 1) := dk_42 (dk_at dksX4_clings_3 0 rfl rfl)
theorem dX4_clings_61 : decode cX4_clings 61 = .ok (.iconst 0, 1) := dk_3 (dk_at dksX4_clings_3 1 rfl rfl)
theorem dX4_clings_62 : decode cX4_clings 62 = .ok (.iload_n 1, 1) := dk_27 (dk_at dksX4_clings_3 2 rfl rfl)
theorem dX4_clings_63 : decode cX4_clings 63 = .ok (.invokevirtual 109, 3) := dk_182 0 109 (dk_at dksX4_clings_3 3 rfl rfl)
theorem dX4_clings_66 : decode cX4_clings 66 = .ok (.iload_n 3, 1) := dk_29 (dk_at dksX4_clings_3 6 rfl rfl)
theorem dX4_clings_67 : decode cX4_clings 67 = .ok (.aload_n 0, 1) := dk_42 (dk_at dksX4_clings_3 7 rfl rfl)
theorem dX4_clings_68 : decode cX4_clings 68 = .ok (.iconst 1, 1) := dk_4 (dk_at dksX4_clings_3 8 rfl rfl)
theorem dX4_clings_69 : decode cX4_clings 69 = .ok (.iload_n 1, 1) := dk_27 (dk_at dksX4_clings_3 9 rfl rfl)
theorem dX4_clings_70 : decode cX4_clings 70 = .ok (.invokevirtual 109, 3) := dk_182 0 109 (dk_at dksX4_clings_3 10 rfl rfl)
theorem dX4_clings_73 : decode cX4_clings 73 = .ok (.isub, 1) := dk_100 (dk_at dksX4_clings_3 13 rfl rfl)
theorem dX4_clings_74 : decode cX4_clings 74 = .ok (.invokevirtual 272, 3) := dk_182 1 16 (dk_at dksX4_clings_3 14 rfl rfl)
theorem dX4_clings_77 : decode cX4_clings 77 = .ok (.ixor, 1) := dk_130 (dk_at dksX4_clings_3 17 rfl rfl)
theorem dX4_clings_78 : decode cX4_clings 78 = .ok (.ireturn, 1) := dk_172 (dk_at dksX4_clings_3 18 rfl rfl)
theorem dX4_clings_79 : decode cX4_clings 79 = .ok (.aload_n 0, 1) := dk_42 (dk_at dksX4_clings_3 19 rfl rfl)
theorem dX4_clings_80 : decode cX4_clings 80 = .ok (.bipush 50, 2) := dk_16 50 (dk_at dksX4_clings_3 20 rfl rfl)
theorem dX4_clings_82 : decode cX4_clings 82 = .ok (.invokevirtual 269, 3) := dk_182 1 13 (dk_at dksX4_clings_4 0 rfl rfl)
theorem dX4_clings_85 : decode cX4_clings 85 = .ok (.aload_n 0, 1) := dk_42 (dk_at dksX4_clings_4 3 rfl rfl)
theorem dX4_clings_86 : decode cX4_clings 86 = .ok (.iload_n 1, 1) := dk_27 (dk_at dksX4_clings_4 4 rfl rfl)
theorem dX4_clings_87 : decode cX4_clings 87 = .ok (.iconst 0, 1) := dk_3 (dk_at dksX4_clings_4 5 rfl rfl)
theorem dX4_clings_88 : decode cX4_clings 88 = .ok (.iload_n 3, 1) := dk_29 (dk_at dksX4_clings_4 6 rfl rfl)
theorem dX4_clings_89 : decode cX4_clings 89 = .ok (.invokevirtual 279, 3) := dk_182 1 23 (dk_at dksX4_clings_4 7 rfl rfl)
theorem dX4_clings_92 : decode cX4_clings 92 = .ok (.ineg, 1) := dk_116 (dk_at dksX4_clings_4 10 rfl rfl)
theorem dX4_clings_93 : decode cX4_clings 93 = .ok (.ireturn, 1) := dk_172 (dk_at dksX4_clings_4 11 rfl rfl)
theorem dX4_clings_94 : decode cX4_clings 94 = .ok (.aload_n 0, 1) := dk_42 (dk_at dksX4_clings_4 12 rfl rfl)
theorem dX4_clings_95 : decode cX4_clings 95 = .ok (.bipush 60, 2) := dk_16 60 (dk_at dksX4_clings_4 13 rfl rfl)
theorem dX4_clings_97 : decode cX4_clings 97 = .ok (.invokevirtual 269, 3) := dk_182 1 13 (dk_at dksX4_clings_4 15 rfl rfl)
theorem dX4_clings_100 : decode cX4_clings 100 = .ok (.aload_n 0, 1) := dk_42 (dk_at dksX4_clings_4 18 rfl rfl)
theorem dX4_clings_101 : decode cX4_clings 101 = .ok (.iload_n 1, 1) := dk_27 (dk_at dksX4_clings_4 19 rfl rfl)
theorem dX4_clings_102 : decode cX4_clings 102 = .ok (.iconst 2, 1) := dk_5 (dk_at dksX4_clings_4 20 rfl rfl)
theorem dX4_clings_103 : decode cX4_clings 103 = .ok (.iload_n 3, 1) := dk_29 (dk_at dksX4_clings_4 21 rfl rfl)
theorem dX4_clings_104 : decode cX4_clings 104 = .ok (.invokevirtual 279, 3) := dk_182 1 23 (dk_at dksX4_clings_5 0 rfl rfl)
theorem dX4_clings_107 : decode cX4_clings 107 = .ok (.iconst 5, 1) := dk_8 (dk_at dksX4_clings_5 3 rfl rfl)
theorem dX4_clings_108 : decode cX4_clings 108 = .ok (.ixor, 1) := dk_130 (dk_at dksX4_clings_5 4 rfl rfl)
theorem dX4_clings_109 : decode cX4_clings 109 = .ok (.ireturn, 1) := dk_172 (dk_at dksX4_clings_5 5 rfl rfl)
theorem dX4_clings_110 : decode cX4_clings 110 = .ok (.aload_n 0, 1) := dk_42 (dk_at dksX4_clings_5 6 rfl rfl)
theorem dX4_clings_111 : decode cX4_clings 111 = .ok (.iload_n 1, 1) := dk_27 (dk_at dksX4_clings_5 7 rfl rfl)
theorem dX4_clings_112 : decode cX4_clings 112 = .ok (.iload_n 2, 1) := dk_28 (dk_at dksX4_clings_5 8 rfl rfl)
theorem dX4_clings_113 : decode cX4_clings 113 = .ok (.invokestatic 106, 3) := dk_184 0 106 (dk_at dksX4_clings_5 9 rfl rfl)
theorem dX4_clings_116 : decode cX4_clings 116 = .ok (.iload_n 3, 1) := dk_29 (dk_at dksX4_clings_5 12 rfl rfl)
theorem dX4_clings_117 : decode cX4_clings 117 = .ok (.invokevirtual 279, 3) := dk_182 1 23 (dk_at dksX4_clings_5 13 rfl rfl)
theorem dX4_clings_120 : decode cX4_clings 120 = .ok (.ireturn, 1) := dk_172 (dk_at dksX4_clings_5 16 rfl rfl)
abbrev cX4_trace : ByteArray := prog_28_method_78_code
def yX4_trace : MethodName := ⟨RX4, "trace", "(I)I"⟩
def dkwX4_trace_1 : List UInt8 := [46, 167, 0, 4, 2, 172]
abbrev dktX4_trace_1 : List UInt8 := dkwX4_trace_1 ++ []
def dkwX4_trace_0 : List UInt8 := [27, 3, 16, 20, 42, 180, 1, 10, 184, 0, 197, 4, 100, 184, 0, 89, 153, 0, 12, 42, 180, 0, 38, 27]
abbrev dktX4_trace_0 : List UInt8 := dkwX4_trace_0 ++ dktX4_trace_1
theorem dksX4_trace_0 : cX4_trace.data.toList.drop 0 = dktX4_trace_0 := by decide +kernel
theorem dksX4_trace_1 : cX4_trace.data.toList.drop 24 = dktX4_trace_1 := dk_seg dksX4_trace_0 24 rfl rfl
theorem dX4_trace_0 : decode cX4_trace 0 = .ok (.iload_n 1, 1) := dk_27 (dk_at dksX4_trace_0 0 rfl rfl)
theorem dX4_trace_1 : decode cX4_trace 1 = .ok (.iconst 0, 1) := dk_3 (dk_at dksX4_trace_0 1 rfl rfl)
theorem dX4_trace_2 : decode cX4_trace 2 = .ok (.bipush 20, 2) := dk_16 20 (dk_at dksX4_trace_0 2 rfl rfl)
theorem dX4_trace_4 : decode cX4_trace 4 = .ok (.aload_n 0, 1) := dk_42 (dk_at dksX4_trace_0 4 rfl rfl)
theorem dX4_trace_5 : decode cX4_trace 5 = .ok (.getfield 266, 3) := dk_180 1 10 (dk_at dksX4_trace_0 5 rfl rfl)
theorem dX4_trace_8 : decode cX4_trace 8 = .ok (.invokestatic 197, 3) := dk_184 0 197 (dk_at dksX4_trace_0 8 rfl rfl)
theorem dX4_trace_11 : decode cX4_trace 11 = .ok (.iconst 1, 1) := dk_4 (dk_at dksX4_trace_0 11 rfl rfl)
theorem dX4_trace_12 : decode cX4_trace 12 = .ok (.isub, 1) := dk_100 (dk_at dksX4_trace_0 12 rfl rfl)
theorem dX4_trace_13 : decode cX4_trace 13 = .ok (.invokestatic 89, 3) := dk_184 0 89 (dk_at dksX4_trace_0 13 rfl rfl)
theorem dX4_trace_16 : decode cX4_trace 16 = .ok (.ifCond .eq 12, 3) := dk_153 0 12 (dk_at dksX4_trace_0 16 rfl rfl)
theorem dX4_trace_19 : decode cX4_trace 19 = .ok (.aload_n 0, 1) := dk_42 (dk_at dksX4_trace_0 19 rfl rfl)
theorem dX4_trace_20 : decode cX4_trace 20 = .ok (.getfield 38, 3) := dk_180 0 38 (dk_at dksX4_trace_0 20 rfl rfl)
theorem dX4_trace_23 : decode cX4_trace 23 = .ok (.iload_n 1, 1) := dk_27 (dk_at dksX4_trace_0 23 rfl rfl)
theorem dX4_trace_24 : decode cX4_trace 24 = .ok (.iaload, 1) := dk_46 (dk_at dksX4_trace_1 0 rfl rfl)
theorem dX4_trace_25 : decode cX4_trace 25 = .ok (.goto 4, 3) := dk_167 0 4 (dk_at dksX4_trace_1 1 rfl rfl)
theorem dX4_trace_28 : decode cX4_trace 28 = .ok (.iconst (-1), 1) := dk_2 (dk_at dksX4_trace_1 4 rfl rfl)
theorem dX4_trace_29 : decode cX4_trace 29 = .ok (.ireturn, 1) := dk_172 (dk_at dksX4_trace_1 5 rfl rfl)
abbrev cX4_image : ByteArray := prog_28_method_79_code
def yX4_image : MethodName := ⟨RX4, "image", "()I"⟩
def dkwX4_image_6 : List UInt8 := [132, 1, 1, 167, 255, 236, 42, 180, 0, 93, 172]
abbrev dktX4_image_6 : List UInt8 := dkwX4_image_6 ++ []
def dkwX4_image_5 : List UInt8 := [167, 255, 235, 3, 60, 27, 6, 162, 0, 21, 42, 180, 0, 56, 27, 42, 180, 0, 26, 27, 46, 79]
abbrev dktX4_image_5 : List UInt8 := dkwX4_image_5 ++ dktX4_image_6
def dkwX4_image_4 : List UInt8 := [3, 60, 27, 16, 112, 162, 0, 21, 42, 180, 0, 53, 27, 42, 180, 0, 23, 27, 46, 79, 132, 1, 1]
abbrev dktX4_image_4 : List UInt8 := dkwX4_image_4 ++ dktX4_image_5
def dkwX4_image_3 : List UInt8 := [17, 1, 128, 162, 0, 21, 42, 180, 0, 50, 27, 42, 180, 0, 16, 27, 47, 80, 132, 1, 1, 167, 255, 234]
abbrev dktX4_image_3 : List UInt8 := dkwX4_image_3 ++ dktX4_image_4
def dkwX4_image_2 : List UInt8 := [46, 79, 42, 180, 0, 47, 27, 42, 180, 0, 13, 27, 46, 79, 132, 1, 1, 167, 255, 223, 3, 60, 27]
abbrev dktX4_image_2 : List UInt8 := dkwX4_image_2 ++ dktX4_image_3
def dkwX4_image_1 : List UInt8 := [180, 0, 75, 181, 1, 35, 3, 60, 27, 16, 16, 162, 0, 33, 42, 180, 0, 44, 27, 42, 180, 0, 7, 27]
abbrev dktX4_image_1 : List UInt8 := dkwX4_image_1 ++ dktX4_image_2
def dkwX4_image_0 : List UInt8 := [42, 4, 181, 1, 26, 42, 42, 180, 0, 86, 181, 1, 29, 42, 42, 180, 0, 93, 181, 1, 32, 42, 42]
abbrev dktX4_image_0 : List UInt8 := dkwX4_image_0 ++ dktX4_image_1
theorem dksX4_image_0 : cX4_image.data.toList.drop 0 = dktX4_image_0 := by decide +kernel
theorem dksX4_image_1 : cX4_image.data.toList.drop 23 = dktX4_image_1 := dk_seg dksX4_image_0 23 rfl rfl
theorem dksX4_image_2 : cX4_image.data.toList.drop 47 = dktX4_image_2 := dk_seg dksX4_image_1 24 rfl rfl
theorem dksX4_image_3 : cX4_image.data.toList.drop 70 = dktX4_image_3 := dk_seg dksX4_image_2 23 rfl rfl
theorem dksX4_image_4 : cX4_image.data.toList.drop 94 = dktX4_image_4 := dk_seg dksX4_image_3 24 rfl rfl
theorem dksX4_image_5 : cX4_image.data.toList.drop 117 = dktX4_image_5 := dk_seg dksX4_image_4 23 rfl rfl
theorem dksX4_image_6 : cX4_image.data.toList.drop 139 = dktX4_image_6 := dk_seg dksX4_image_5 22 rfl rfl
theorem dX4_image_0 : decode cX4_image 0 = .ok (.aload_n 0, 1) := dk_42 (dk_at dksX4_image_0 0 rfl rfl)
theorem dX4_image_1 : decode cX4_image 1 = .ok (.iconst 1, 1) := dk_4 (dk_at dksX4_image_0 1 rfl rfl)
theorem dX4_image_2 : decode cX4_image 2 = .ok (.putfield 282, 3) := dk_181 1 26 (dk_at dksX4_image_0 2 rfl rfl)
theorem dX4_image_5 : decode cX4_image 5 = .ok (.aload_n 0, 1) := dk_42 (dk_at dksX4_image_0 5 rfl rfl)
theorem dX4_image_6 : decode cX4_image 6 = .ok (.aload_n 0, 1) := dk_42 (dk_at dksX4_image_0 6 rfl rfl)
theorem dX4_image_7 : decode cX4_image 7 = .ok (.getfield 86, 3) := dk_180 0 86 (dk_at dksX4_image_0 7 rfl rfl)
theorem dX4_image_10 : decode cX4_image 10 = .ok (.putfield 285, 3) := dk_181 1 29 (dk_at dksX4_image_0 10 rfl rfl)
theorem dX4_image_13 : decode cX4_image 13 = .ok (.aload_n 0, 1) := dk_42 (dk_at dksX4_image_0 13 rfl rfl)
theorem dX4_image_14 : decode cX4_image 14 = .ok (.aload_n 0, 1) := dk_42 (dk_at dksX4_image_0 14 rfl rfl)
theorem dX4_image_15 : decode cX4_image 15 = .ok (.getfield 93, 3) := dk_180 0 93 (dk_at dksX4_image_0 15 rfl rfl)
theorem dX4_image_18 : decode cX4_image 18 = .ok (.putfield 288, 3) := dk_181 1 32 (dk_at dksX4_image_0 18 rfl rfl)
theorem dX4_image_21 : decode cX4_image 21 = .ok (.aload_n 0, 1) := dk_42 (dk_at dksX4_image_0 21 rfl rfl)
theorem dX4_image_22 : decode cX4_image 22 = .ok (.aload_n 0, 1) := dk_42 (dk_at dksX4_image_0 22 rfl rfl)
theorem dX4_image_23 : decode cX4_image 23 = .ok (.getfield 75, 3) := dk_180 0 75 (dk_at dksX4_image_1 0 rfl rfl)
theorem dX4_image_26 : decode cX4_image 26 = .ok (.putfield 291, 3) := dk_181 1 35 (dk_at dksX4_image_1 3 rfl rfl)
theorem dX4_image_29 : decode cX4_image 29 = .ok (.iconst 0, 1) := dk_3 (dk_at dksX4_image_1 6 rfl rfl)
theorem dX4_image_30 : decode cX4_image 30 = .ok (.istore_n 1, 1) := dk_60 (dk_at dksX4_image_1 7 rfl rfl)
theorem dX4_image_31 : decode cX4_image 31 = .ok (.iload_n 1, 1) := dk_27 (dk_at dksX4_image_1 8 rfl rfl)
theorem dX4_image_32 : decode cX4_image 32 = .ok (.bipush 16, 2) := dk_16 16 (dk_at dksX4_image_1 9 rfl rfl)
theorem dX4_image_34 : decode cX4_image 34 = .ok (.if_icmp .ge 33, 3) := dk_162 0 33 (dk_at dksX4_image_1 11 rfl rfl)
theorem dX4_image_37 : decode cX4_image 37 = .ok (.aload_n 0, 1) := dk_42 (dk_at dksX4_image_1 14 rfl rfl)
theorem dX4_image_38 : decode cX4_image 38 = .ok (.getfield 44, 3) := dk_180 0 44 (dk_at dksX4_image_1 15 rfl rfl)
theorem dX4_image_41 : decode cX4_image 41 = .ok (.iload_n 1, 1) := dk_27 (dk_at dksX4_image_1 18 rfl rfl)
theorem dX4_image_42 : decode cX4_image 42 = .ok (.aload_n 0, 1) := dk_42 (dk_at dksX4_image_1 19 rfl rfl)
theorem dX4_image_43 : decode cX4_image 43 = .ok (.getfield 7, 3) := dk_180 0 7 (dk_at dksX4_image_1 20 rfl rfl)
theorem dX4_image_46 : decode cX4_image 46 = .ok (.iload_n 1, 1) := dk_27 (dk_at dksX4_image_1 23 rfl rfl)
theorem dX4_image_47 : decode cX4_image 47 = .ok (.iaload, 1) := dk_46 (dk_at dksX4_image_2 0 rfl rfl)
theorem dX4_image_48 : decode cX4_image 48 = .ok (.iastore, 1) := dk_79 (dk_at dksX4_image_2 1 rfl rfl)
theorem dX4_image_49 : decode cX4_image 49 = .ok (.aload_n 0, 1) := dk_42 (dk_at dksX4_image_2 2 rfl rfl)
theorem dX4_image_50 : decode cX4_image 50 = .ok (.getfield 47, 3) := dk_180 0 47 (dk_at dksX4_image_2 3 rfl rfl)
theorem dX4_image_53 : decode cX4_image 53 = .ok (.iload_n 1, 1) := dk_27 (dk_at dksX4_image_2 6 rfl rfl)
theorem dX4_image_54 : decode cX4_image 54 = .ok (.aload_n 0, 1) := dk_42 (dk_at dksX4_image_2 7 rfl rfl)
theorem dX4_image_55 : decode cX4_image 55 = .ok (.getfield 13, 3) := dk_180 0 13 (dk_at dksX4_image_2 8 rfl rfl)
theorem dX4_image_58 : decode cX4_image 58 = .ok (.iload_n 1, 1) := dk_27 (dk_at dksX4_image_2 11 rfl rfl)
theorem dX4_image_59 : decode cX4_image 59 = .ok (.iaload, 1) := dk_46 (dk_at dksX4_image_2 12 rfl rfl)
theorem dX4_image_60 : decode cX4_image 60 = .ok (.iastore, 1) := dk_79 (dk_at dksX4_image_2 13 rfl rfl)
theorem dX4_image_61 : decode cX4_image 61 = .ok (.iinc 1 1, 3) := dk_132 1 1 (dk_at dksX4_image_2 14 rfl rfl)
theorem dX4_image_64 : decode cX4_image 64 = .ok (.goto (-33), 3) := dk_167 255 223 (dk_at dksX4_image_2 17 rfl rfl)
theorem dX4_image_67 : decode cX4_image 67 = .ok (.iconst 0, 1) := dk_3 (dk_at dksX4_image_2 20 rfl rfl)
theorem dX4_image_68 : decode cX4_image 68 = .ok (.istore_n 1, 1) := dk_60 (dk_at dksX4_image_2 21 rfl rfl)
theorem dX4_image_69 : decode cX4_image 69 = .ok (.iload_n 1, 1) := dk_27 (dk_at dksX4_image_2 22 rfl rfl)
theorem dX4_image_70 : decode cX4_image 70 = .ok (.sipush 384, 3) := dk_17 1 128 (dk_at dksX4_image_3 0 rfl rfl)
theorem dX4_image_73 : decode cX4_image 73 = .ok (.if_icmp .ge 21, 3) := dk_162 0 21 (dk_at dksX4_image_3 3 rfl rfl)
theorem dX4_image_76 : decode cX4_image 76 = .ok (.aload_n 0, 1) := dk_42 (dk_at dksX4_image_3 6 rfl rfl)
theorem dX4_image_77 : decode cX4_image 77 = .ok (.getfield 50, 3) := dk_180 0 50 (dk_at dksX4_image_3 7 rfl rfl)
theorem dX4_image_80 : decode cX4_image 80 = .ok (.iload_n 1, 1) := dk_27 (dk_at dksX4_image_3 10 rfl rfl)
theorem dX4_image_81 : decode cX4_image 81 = .ok (.aload_n 0, 1) := dk_42 (dk_at dksX4_image_3 11 rfl rfl)
theorem dX4_image_82 : decode cX4_image 82 = .ok (.getfield 16, 3) := dk_180 0 16 (dk_at dksX4_image_3 12 rfl rfl)
theorem dX4_image_85 : decode cX4_image 85 = .ok (.iload_n 1, 1) := dk_27 (dk_at dksX4_image_3 15 rfl rfl)
theorem dX4_image_86 : decode cX4_image 86 = .ok (.laload, 1) := dk_47 (dk_at dksX4_image_3 16 rfl rfl)
theorem dX4_image_87 : decode cX4_image 87 = .ok (.lastore, 1) := dk_80 (dk_at dksX4_image_3 17 rfl rfl)
theorem dX4_image_88 : decode cX4_image 88 = .ok (.iinc 1 1, 3) := dk_132 1 1 (dk_at dksX4_image_3 18 rfl rfl)
theorem dX4_image_91 : decode cX4_image 91 = .ok (.goto (-22), 3) := dk_167 255 234 (dk_at dksX4_image_3 21 rfl rfl)
theorem dX4_image_94 : decode cX4_image 94 = .ok (.iconst 0, 1) := dk_3 (dk_at dksX4_image_4 0 rfl rfl)
theorem dX4_image_95 : decode cX4_image 95 = .ok (.istore_n 1, 1) := dk_60 (dk_at dksX4_image_4 1 rfl rfl)
theorem dX4_image_96 : decode cX4_image 96 = .ok (.iload_n 1, 1) := dk_27 (dk_at dksX4_image_4 2 rfl rfl)
theorem dX4_image_97 : decode cX4_image 97 = .ok (.bipush 112, 2) := dk_16 112 (dk_at dksX4_image_4 3 rfl rfl)
theorem dX4_image_99 : decode cX4_image 99 = .ok (.if_icmp .ge 21, 3) := dk_162 0 21 (dk_at dksX4_image_4 5 rfl rfl)
theorem dX4_image_102 : decode cX4_image 102 = .ok (.aload_n 0, 1) := dk_42 (dk_at dksX4_image_4 8 rfl rfl)
theorem dX4_image_103 : decode cX4_image 103 = .ok (.getfield 53, 3) := dk_180 0 53 (dk_at dksX4_image_4 9 rfl rfl)
theorem dX4_image_106 : decode cX4_image 106 = .ok (.iload_n 1, 1) := dk_27 (dk_at dksX4_image_4 12 rfl rfl)
theorem dX4_image_107 : decode cX4_image 107 = .ok (.aload_n 0, 1) := dk_42 (dk_at dksX4_image_4 13 rfl rfl)
theorem dX4_image_108 : decode cX4_image 108 = .ok (.getfield 23, 3) := dk_180 0 23 (dk_at dksX4_image_4 14 rfl rfl)
theorem dX4_image_111 : decode cX4_image 111 = .ok (.iload_n 1, 1) := dk_27 (dk_at dksX4_image_4 17 rfl rfl)
theorem dX4_image_112 : decode cX4_image 112 = .ok (.iaload, 1) := dk_46 (dk_at dksX4_image_4 18 rfl rfl)
theorem dX4_image_113 : decode cX4_image 113 = .ok (.iastore, 1) := dk_79 (dk_at dksX4_image_4 19 rfl rfl)
theorem dX4_image_114 : decode cX4_image 114 = .ok (.iinc 1 1, 3) := dk_132 1 1 (dk_at dksX4_image_4 20 rfl rfl)
theorem dX4_image_117 : decode cX4_image 117 = .ok (.goto (-21), 3) := dk_167 255 235 (dk_at dksX4_image_5 0 rfl rfl)
theorem dX4_image_120 : decode cX4_image 120 = .ok (.iconst 0, 1) := dk_3 (dk_at dksX4_image_5 3 rfl rfl)
theorem dX4_image_121 : decode cX4_image 121 = .ok (.istore_n 1, 1) := dk_60 (dk_at dksX4_image_5 4 rfl rfl)
theorem dX4_image_122 : decode cX4_image 122 = .ok (.iload_n 1, 1) := dk_27 (dk_at dksX4_image_5 5 rfl rfl)
theorem dX4_image_123 : decode cX4_image 123 = .ok (.iconst 3, 1) := dk_6 (dk_at dksX4_image_5 6 rfl rfl)
theorem dX4_image_124 : decode cX4_image 124 = .ok (.if_icmp .ge 21, 3) := dk_162 0 21 (dk_at dksX4_image_5 7 rfl rfl)
theorem dX4_image_127 : decode cX4_image 127 = .ok (.aload_n 0, 1) := dk_42 (dk_at dksX4_image_5 10 rfl rfl)
theorem dX4_image_128 : decode cX4_image 128 = .ok (.getfield 56, 3) := dk_180 0 56 (dk_at dksX4_image_5 11 rfl rfl)
theorem dX4_image_131 : decode cX4_image 131 = .ok (.iload_n 1, 1) := dk_27 (dk_at dksX4_image_5 14 rfl rfl)
theorem dX4_image_132 : decode cX4_image 132 = .ok (.aload_n 0, 1) := dk_42 (dk_at dksX4_image_5 15 rfl rfl)
theorem dX4_image_133 : decode cX4_image 133 = .ok (.getfield 26, 3) := dk_180 0 26 (dk_at dksX4_image_5 16 rfl rfl)
theorem dX4_image_136 : decode cX4_image 136 = .ok (.iload_n 1, 1) := dk_27 (dk_at dksX4_image_5 19 rfl rfl)
theorem dX4_image_137 : decode cX4_image 137 = .ok (.iaload, 1) := dk_46 (dk_at dksX4_image_5 20 rfl rfl)
theorem dX4_image_138 : decode cX4_image 138 = .ok (.iastore, 1) := dk_79 (dk_at dksX4_image_5 21 rfl rfl)
theorem dX4_image_139 : decode cX4_image 139 = .ok (.iinc 1 1, 3) := dk_132 1 1 (dk_at dksX4_image_6 0 rfl rfl)
theorem dX4_image_142 : decode cX4_image 142 = .ok (.goto (-20), 3) := dk_167 255 236 (dk_at dksX4_image_6 3 rfl rfl)
theorem dX4_image_145 : decode cX4_image 145 = .ok (.aload_n 0, 1) := dk_42 (dk_at dksX4_image_6 6 rfl rfl)
theorem dX4_image_146 : decode cX4_image 146 = .ok (.getfield 93, 3) := dk_180 0 93 (dk_at dksX4_image_6 7 rfl rfl)
theorem dX4_image_149 : decode cX4_image 149 = .ok (.ireturn, 1) := dk_172 (dk_at dksX4_image_6 10 rfl rfl)
abbrev cX4_restore : ByteArray := prog_28_method_80_code
def yX4_restore : MethodName := ⟨RX4, "restore", "()I"⟩
def dkwX4_restore_9 : List UInt8 := [132, 1, 1, 167, 255, 219, 42, 180, 0, 93, 172]
abbrev dktX4_restore_9 : List UInt8 := dkwX4_restore_9 ++ []
def dkwX4_restore_8 : List UInt8 := [154, 0, 23, 42, 180, 0, 29, 27, 46, 42, 180, 0, 93, 161, 0, 10, 42, 180, 0, 29, 27, 2, 79]
abbrev dktX4_restore_8 : List UInt8 := dkwX4_restore_8 ++ dktX4_restore_9
def dkwX4_restore_7 : List UInt8 := [27, 182, 0, 120, 132, 1, 1, 167, 255, 240, 3, 60, 27, 16, 8, 162, 0, 37, 42, 27, 182, 0, 96]
abbrev dktX4_restore_7 : List UInt8 := dkwX4_restore_7 ++ dktX4_restore_8
def dkwX4_restore_6 : List UInt8 := [42, 180, 0, 56, 27, 46, 79, 132, 1, 1, 167, 255, 236, 3, 60, 27, 42, 180, 0, 86, 162, 0, 14, 42]
abbrev dktX4_restore_6 : List UInt8 := dkwX4_restore_6 ++ dktX4_restore_7
def dkwX4_restore_5 : List UInt8 := [180, 0, 53, 27, 46, 79, 132, 1, 1, 167, 255, 235, 3, 60, 27, 6, 162, 0, 21, 42, 180, 0, 26, 27]
abbrev dktX4_restore_5 : List UInt8 := dkwX4_restore_5 ++ dktX4_restore_6
def dkwX4_restore_4 : List UInt8 := [27, 47, 80, 132, 1, 1, 167, 255, 234, 3, 60, 27, 16, 112, 162, 0, 21, 42, 180, 0, 23, 27, 42]
abbrev dktX4_restore_4 : List UInt8 := dkwX4_restore_4 ++ dktX4_restore_5
def dkwX4_restore_3 : List UInt8 := [132, 1, 1, 167, 255, 223, 3, 60, 27, 17, 1, 128, 162, 0, 21, 42, 180, 0, 16, 27, 42, 180, 0, 50]
abbrev dktX4_restore_3 : List UInt8 := dkwX4_restore_3 ++ dktX4_restore_4
def dkwX4_restore_2 : List UInt8 := [180, 0, 7, 27, 42, 180, 0, 44, 27, 46, 79, 42, 180, 0, 13, 27, 42, 180, 0, 47, 27, 46, 79]
abbrev dktX4_restore_2 : List UInt8 := dkwX4_restore_2 ++ dktX4_restore_3
def dkwX4_restore_1 : List UInt8 := [180, 1, 32, 181, 0, 93, 42, 42, 180, 1, 35, 181, 0, 75, 3, 60, 27, 16, 16, 162, 0, 33, 42]
abbrev dktX4_restore_1 : List UInt8 := dkwX4_restore_1 ++ dktX4_restore_2
def dkwX4_restore_0 : List UInt8 := [42, 180, 1, 26, 154, 0, 10, 42, 16, 250, 182, 0, 82, 172, 42, 42, 180, 1, 29, 181, 0, 86, 42, 42]
abbrev dktX4_restore_0 : List UInt8 := dkwX4_restore_0 ++ dktX4_restore_1
theorem dksX4_restore_0 : cX4_restore.data.toList.drop 0 = dktX4_restore_0 := by decide +kernel
theorem dksX4_restore_1 : cX4_restore.data.toList.drop 24 = dktX4_restore_1 := dk_seg dksX4_restore_0 24 rfl rfl
theorem dksX4_restore_2 : cX4_restore.data.toList.drop 47 = dktX4_restore_2 := dk_seg dksX4_restore_1 23 rfl rfl
theorem dksX4_restore_3 : cX4_restore.data.toList.drop 70 = dktX4_restore_3 := dk_seg dksX4_restore_2 23 rfl rfl
theorem dksX4_restore_4 : cX4_restore.data.toList.drop 94 = dktX4_restore_4 := dk_seg dksX4_restore_3 24 rfl rfl
theorem dksX4_restore_5 : cX4_restore.data.toList.drop 117 = dktX4_restore_5 := dk_seg dksX4_restore_4 23 rfl rfl
theorem dksX4_restore_6 : cX4_restore.data.toList.drop 141 = dktX4_restore_6 := dk_seg dksX4_restore_5 24 rfl rfl
theorem dksX4_restore_7 : cX4_restore.data.toList.drop 165 = dktX4_restore_7 := dk_seg dksX4_restore_6 24 rfl rfl
theorem dksX4_restore_8 : cX4_restore.data.toList.drop 188 = dktX4_restore_8 := dk_seg dksX4_restore_7 23 rfl rfl
theorem dksX4_restore_9 : cX4_restore.data.toList.drop 211 = dktX4_restore_9 := dk_seg dksX4_restore_8 23 rfl rfl
theorem dX4_restore_0 : decode cX4_restore 0 = .ok (.aload_n 0, 1) := dk_42 (dk_at dksX4_restore_0 0 rfl rfl)
theorem dX4_restore_1 : decode cX4_restore 1 = .ok (.getfield 282, 3) := dk_180 1 26 (dk_at dksX4_restore_0 1 rfl rfl)
theorem dX4_restore_4 : decode cX4_restore 4 = .ok (.ifCond .ne 10, 3) := dk_154 0 10 (dk_at dksX4_restore_0 4 rfl rfl)
theorem dX4_restore_7 : decode cX4_restore 7 = .ok (.aload_n 0, 1) := dk_42 (dk_at dksX4_restore_0 7 rfl rfl)
theorem dX4_restore_8 : decode cX4_restore 8 = .ok (.bipush (-6), 2) := dk_16 250 (dk_at dksX4_restore_0 8 rfl rfl)
theorem dX4_restore_10 : decode cX4_restore 10 = .ok (.invokevirtual 82, 3) := dk_182 0 82 (dk_at dksX4_restore_0 10 rfl rfl)
theorem dX4_restore_13 : decode cX4_restore 13 = .ok (.ireturn, 1) := dk_172 (dk_at dksX4_restore_0 13 rfl rfl)
theorem dX4_restore_14 : decode cX4_restore 14 = .ok (.aload_n 0, 1) := dk_42 (dk_at dksX4_restore_0 14 rfl rfl)
theorem dX4_restore_15 : decode cX4_restore 15 = .ok (.aload_n 0, 1) := dk_42 (dk_at dksX4_restore_0 15 rfl rfl)
theorem dX4_restore_16 : decode cX4_restore 16 = .ok (.getfield 285, 3) := dk_180 1 29 (dk_at dksX4_restore_0 16 rfl rfl)
theorem dX4_restore_19 : decode cX4_restore 19 = .ok (.putfield 86, 3) := dk_181 0 86 (dk_at dksX4_restore_0 19 rfl rfl)
theorem dX4_restore_22 : decode cX4_restore 22 = .ok (.aload_n 0, 1) := dk_42 (dk_at dksX4_restore_0 22 rfl rfl)
theorem dX4_restore_23 : decode cX4_restore 23 = .ok (.aload_n 0, 1) := dk_42 (dk_at dksX4_restore_0 23 rfl rfl)
theorem dX4_restore_24 : decode cX4_restore 24 = .ok (.getfield 288, 3) := dk_180 1 32 (dk_at dksX4_restore_1 0 rfl rfl)
theorem dX4_restore_27 : decode cX4_restore 27 = .ok (.putfield 93, 3) := dk_181 0 93 (dk_at dksX4_restore_1 3 rfl rfl)
theorem dX4_restore_30 : decode cX4_restore 30 = .ok (.aload_n 0, 1) := dk_42 (dk_at dksX4_restore_1 6 rfl rfl)
theorem dX4_restore_31 : decode cX4_restore 31 = .ok (.aload_n 0, 1) := dk_42 (dk_at dksX4_restore_1 7 rfl rfl)
theorem dX4_restore_32 : decode cX4_restore 32 = .ok (.getfield 291, 3) := dk_180 1 35 (dk_at dksX4_restore_1 8 rfl rfl)
theorem dX4_restore_35 : decode cX4_restore 35 = .ok (.putfield 75, 3) := dk_181 0 75 (dk_at dksX4_restore_1 11 rfl rfl)
theorem dX4_restore_38 : decode cX4_restore 38 = .ok (.iconst 0, 1) := dk_3 (dk_at dksX4_restore_1 14 rfl rfl)
theorem dX4_restore_39 : decode cX4_restore 39 = .ok (.istore_n 1, 1) := dk_60 (dk_at dksX4_restore_1 15 rfl rfl)
theorem dX4_restore_40 : decode cX4_restore 40 = .ok (.iload_n 1, 1) := dk_27 (dk_at dksX4_restore_1 16 rfl rfl)
theorem dX4_restore_41 : decode cX4_restore 41 = .ok (.bipush 16, 2) := dk_16 16 (dk_at dksX4_restore_1 17 rfl rfl)
theorem dX4_restore_43 : decode cX4_restore 43 = .ok (.if_icmp .ge 33, 3) := dk_162 0 33 (dk_at dksX4_restore_1 19 rfl rfl)
theorem dX4_restore_46 : decode cX4_restore 46 = .ok (.aload_n 0, 1) := dk_42 (dk_at dksX4_restore_1 22 rfl rfl)
theorem dX4_restore_47 : decode cX4_restore 47 = .ok (.getfield 7, 3) := dk_180 0 7 (dk_at dksX4_restore_2 0 rfl rfl)
theorem dX4_restore_50 : decode cX4_restore 50 = .ok (.iload_n 1, 1) := dk_27 (dk_at dksX4_restore_2 3 rfl rfl)
theorem dX4_restore_51 : decode cX4_restore 51 = .ok (.aload_n 0, 1) := dk_42 (dk_at dksX4_restore_2 4 rfl rfl)
theorem dX4_restore_52 : decode cX4_restore 52 = .ok (.getfield 44, 3) := dk_180 0 44 (dk_at dksX4_restore_2 5 rfl rfl)
theorem dX4_restore_55 : decode cX4_restore 55 = .ok (.iload_n 1, 1) := dk_27 (dk_at dksX4_restore_2 8 rfl rfl)
theorem dX4_restore_56 : decode cX4_restore 56 = .ok (.iaload, 1) := dk_46 (dk_at dksX4_restore_2 9 rfl rfl)
theorem dX4_restore_57 : decode cX4_restore 57 = .ok (.iastore, 1) := dk_79 (dk_at dksX4_restore_2 10 rfl rfl)
theorem dX4_restore_58 : decode cX4_restore 58 = .ok (.aload_n 0, 1) := dk_42 (dk_at dksX4_restore_2 11 rfl rfl)
theorem dX4_restore_59 : decode cX4_restore 59 = .ok (.getfield 13, 3) := dk_180 0 13 (dk_at dksX4_restore_2 12 rfl rfl)
theorem dX4_restore_62 : decode cX4_restore 62 = .ok (.iload_n 1, 1) := dk_27 (dk_at dksX4_restore_2 15 rfl rfl)
theorem dX4_restore_63 : decode cX4_restore 63 = .ok (.aload_n 0, 1) := dk_42 (dk_at dksX4_restore_2 16 rfl rfl)
theorem dX4_restore_64 : decode cX4_restore 64 = .ok (.getfield 47, 3) := dk_180 0 47 (dk_at dksX4_restore_2 17 rfl rfl)
theorem dX4_restore_67 : decode cX4_restore 67 = .ok (.iload_n 1, 1) := dk_27 (dk_at dksX4_restore_2 20 rfl rfl)
theorem dX4_restore_68 : decode cX4_restore 68 = .ok (.iaload, 1) := dk_46 (dk_at dksX4_restore_2 21 rfl rfl)
theorem dX4_restore_69 : decode cX4_restore 69 = .ok (.iastore, 1) := dk_79 (dk_at dksX4_restore_2 22 rfl rfl)
theorem dX4_restore_70 : decode cX4_restore 70 = .ok (.iinc 1 1, 3) := dk_132 1 1 (dk_at dksX4_restore_3 0 rfl rfl)
theorem dX4_restore_73 : decode cX4_restore 73 = .ok (.goto (-33), 3) := dk_167 255 223 (dk_at dksX4_restore_3 3 rfl rfl)
theorem dX4_restore_76 : decode cX4_restore 76 = .ok (.iconst 0, 1) := dk_3 (dk_at dksX4_restore_3 6 rfl rfl)
theorem dX4_restore_77 : decode cX4_restore 77 = .ok (.istore_n 1, 1) := dk_60 (dk_at dksX4_restore_3 7 rfl rfl)
theorem dX4_restore_78 : decode cX4_restore 78 = .ok (.iload_n 1, 1) := dk_27 (dk_at dksX4_restore_3 8 rfl rfl)
theorem dX4_restore_79 : decode cX4_restore 79 = .ok (.sipush 384, 3) := dk_17 1 128 (dk_at dksX4_restore_3 9 rfl rfl)
theorem dX4_restore_82 : decode cX4_restore 82 = .ok (.if_icmp .ge 21, 3) := dk_162 0 21 (dk_at dksX4_restore_3 12 rfl rfl)
theorem dX4_restore_85 : decode cX4_restore 85 = .ok (.aload_n 0, 1) := dk_42 (dk_at dksX4_restore_3 15 rfl rfl)
theorem dX4_restore_86 : decode cX4_restore 86 = .ok (.getfield 16, 3) := dk_180 0 16 (dk_at dksX4_restore_3 16 rfl rfl)
theorem dX4_restore_89 : decode cX4_restore 89 = .ok (.iload_n 1, 1) := dk_27 (dk_at dksX4_restore_3 19 rfl rfl)
theorem dX4_restore_90 : decode cX4_restore 90 = .ok (.aload_n 0, 1) := dk_42 (dk_at dksX4_restore_3 20 rfl rfl)
theorem dX4_restore_91 : decode cX4_restore 91 = .ok (.getfield 50, 3) := dk_180 0 50 (dk_at dksX4_restore_3 21 rfl rfl)
theorem dX4_restore_94 : decode cX4_restore 94 = .ok (.iload_n 1, 1) := dk_27 (dk_at dksX4_restore_4 0 rfl rfl)
theorem dX4_restore_95 : decode cX4_restore 95 = .ok (.laload, 1) := dk_47 (dk_at dksX4_restore_4 1 rfl rfl)
theorem dX4_restore_96 : decode cX4_restore 96 = .ok (.lastore, 1) := dk_80 (dk_at dksX4_restore_4 2 rfl rfl)
theorem dX4_restore_97 : decode cX4_restore 97 = .ok (.iinc 1 1, 3) := dk_132 1 1 (dk_at dksX4_restore_4 3 rfl rfl)
theorem dX4_restore_100 : decode cX4_restore 100 = .ok (.goto (-22), 3) := dk_167 255 234 (dk_at dksX4_restore_4 6 rfl rfl)
theorem dX4_restore_103 : decode cX4_restore 103 = .ok (.iconst 0, 1) := dk_3 (dk_at dksX4_restore_4 9 rfl rfl)
theorem dX4_restore_104 : decode cX4_restore 104 = .ok (.istore_n 1, 1) := dk_60 (dk_at dksX4_restore_4 10 rfl rfl)
theorem dX4_restore_105 : decode cX4_restore 105 = .ok (.iload_n 1, 1) := dk_27 (dk_at dksX4_restore_4 11 rfl rfl)
theorem dX4_restore_106 : decode cX4_restore 106 = .ok (.bipush 112, 2) := dk_16 112 (dk_at dksX4_restore_4 12 rfl rfl)
theorem dX4_restore_108 : decode cX4_restore 108 = .ok (.if_icmp .ge 21, 3) := dk_162 0 21 (dk_at dksX4_restore_4 14 rfl rfl)
theorem dX4_restore_111 : decode cX4_restore 111 = .ok (.aload_n 0, 1) := dk_42 (dk_at dksX4_restore_4 17 rfl rfl)
theorem dX4_restore_112 : decode cX4_restore 112 = .ok (.getfield 23, 3) := dk_180 0 23 (dk_at dksX4_restore_4 18 rfl rfl)
theorem dX4_restore_115 : decode cX4_restore 115 = .ok (.iload_n 1, 1) := dk_27 (dk_at dksX4_restore_4 21 rfl rfl)
theorem dX4_restore_116 : decode cX4_restore 116 = .ok (.aload_n 0, 1) := dk_42 (dk_at dksX4_restore_4 22 rfl rfl)
theorem dX4_restore_117 : decode cX4_restore 117 = .ok (.getfield 53, 3) := dk_180 0 53 (dk_at dksX4_restore_5 0 rfl rfl)
theorem dX4_restore_120 : decode cX4_restore 120 = .ok (.iload_n 1, 1) := dk_27 (dk_at dksX4_restore_5 3 rfl rfl)
theorem dX4_restore_121 : decode cX4_restore 121 = .ok (.iaload, 1) := dk_46 (dk_at dksX4_restore_5 4 rfl rfl)
theorem dX4_restore_122 : decode cX4_restore 122 = .ok (.iastore, 1) := dk_79 (dk_at dksX4_restore_5 5 rfl rfl)
theorem dX4_restore_123 : decode cX4_restore 123 = .ok (.iinc 1 1, 3) := dk_132 1 1 (dk_at dksX4_restore_5 6 rfl rfl)
theorem dX4_restore_126 : decode cX4_restore 126 = .ok (.goto (-21), 3) := dk_167 255 235 (dk_at dksX4_restore_5 9 rfl rfl)
theorem dX4_restore_129 : decode cX4_restore 129 = .ok (.iconst 0, 1) := dk_3 (dk_at dksX4_restore_5 12 rfl rfl)
theorem dX4_restore_130 : decode cX4_restore 130 = .ok (.istore_n 1, 1) := dk_60 (dk_at dksX4_restore_5 13 rfl rfl)
theorem dX4_restore_131 : decode cX4_restore 131 = .ok (.iload_n 1, 1) := dk_27 (dk_at dksX4_restore_5 14 rfl rfl)
theorem dX4_restore_132 : decode cX4_restore 132 = .ok (.iconst 3, 1) := dk_6 (dk_at dksX4_restore_5 15 rfl rfl)
theorem dX4_restore_133 : decode cX4_restore 133 = .ok (.if_icmp .ge 21, 3) := dk_162 0 21 (dk_at dksX4_restore_5 16 rfl rfl)
theorem dX4_restore_136 : decode cX4_restore 136 = .ok (.aload_n 0, 1) := dk_42 (dk_at dksX4_restore_5 19 rfl rfl)
theorem dX4_restore_137 : decode cX4_restore 137 = .ok (.getfield 26, 3) := dk_180 0 26 (dk_at dksX4_restore_5 20 rfl rfl)
theorem dX4_restore_140 : decode cX4_restore 140 = .ok (.iload_n 1, 1) := dk_27 (dk_at dksX4_restore_5 23 rfl rfl)
theorem dX4_restore_141 : decode cX4_restore 141 = .ok (.aload_n 0, 1) := dk_42 (dk_at dksX4_restore_6 0 rfl rfl)
theorem dX4_restore_142 : decode cX4_restore 142 = .ok (.getfield 56, 3) := dk_180 0 56 (dk_at dksX4_restore_6 1 rfl rfl)
theorem dX4_restore_145 : decode cX4_restore 145 = .ok (.iload_n 1, 1) := dk_27 (dk_at dksX4_restore_6 4 rfl rfl)
theorem dX4_restore_146 : decode cX4_restore 146 = .ok (.iaload, 1) := dk_46 (dk_at dksX4_restore_6 5 rfl rfl)
theorem dX4_restore_147 : decode cX4_restore 147 = .ok (.iastore, 1) := dk_79 (dk_at dksX4_restore_6 6 rfl rfl)
theorem dX4_restore_148 : decode cX4_restore 148 = .ok (.iinc 1 1, 3) := dk_132 1 1 (dk_at dksX4_restore_6 7 rfl rfl)
theorem dX4_restore_151 : decode cX4_restore 151 = .ok (.goto (-20), 3) := dk_167 255 236 (dk_at dksX4_restore_6 10 rfl rfl)
theorem dX4_restore_154 : decode cX4_restore 154 = .ok (.iconst 0, 1) := dk_3 (dk_at dksX4_restore_6 13 rfl rfl)
theorem dX4_restore_155 : decode cX4_restore 155 = .ok (.istore_n 1, 1) := dk_60 (dk_at dksX4_restore_6 14 rfl rfl)
theorem dX4_restore_156 : decode cX4_restore 156 = .ok (.iload_n 1, 1) := dk_27 (dk_at dksX4_restore_6 15 rfl rfl)
theorem dX4_restore_157 : decode cX4_restore 157 = .ok (.aload_n 0, 1) := dk_42 (dk_at dksX4_restore_6 16 rfl rfl)
theorem dX4_restore_158 : decode cX4_restore 158 = .ok (.getfield 86, 3) := dk_180 0 86 (dk_at dksX4_restore_6 17 rfl rfl)
theorem dX4_restore_161 : decode cX4_restore 161 = .ok (.if_icmp .ge 14, 3) := dk_162 0 14 (dk_at dksX4_restore_6 20 rfl rfl)
theorem dX4_restore_164 : decode cX4_restore 164 = .ok (.aload_n 0, 1) := dk_42 (dk_at dksX4_restore_6 23 rfl rfl)
theorem dX4_restore_165 : decode cX4_restore 165 = .ok (.iload_n 1, 1) := dk_27 (dk_at dksX4_restore_7 0 rfl rfl)
theorem dX4_restore_166 : decode cX4_restore 166 = .ok (.invokevirtual 120, 3) := dk_182 0 120 (dk_at dksX4_restore_7 1 rfl rfl)
theorem dX4_restore_169 : decode cX4_restore 169 = .ok (.iinc 1 1, 3) := dk_132 1 1 (dk_at dksX4_restore_7 4 rfl rfl)
theorem dX4_restore_172 : decode cX4_restore 172 = .ok (.goto (-16), 3) := dk_167 255 240 (dk_at dksX4_restore_7 7 rfl rfl)
theorem dX4_restore_175 : decode cX4_restore 175 = .ok (.iconst 0, 1) := dk_3 (dk_at dksX4_restore_7 10 rfl rfl)
theorem dX4_restore_176 : decode cX4_restore 176 = .ok (.istore_n 1, 1) := dk_60 (dk_at dksX4_restore_7 11 rfl rfl)
theorem dX4_restore_177 : decode cX4_restore 177 = .ok (.iload_n 1, 1) := dk_27 (dk_at dksX4_restore_7 12 rfl rfl)
theorem dX4_restore_178 : decode cX4_restore 178 = .ok (.bipush 8, 2) := dk_16 8 (dk_at dksX4_restore_7 13 rfl rfl)
theorem dX4_restore_180 : decode cX4_restore 180 = .ok (.if_icmp .ge 37, 3) := dk_162 0 37 (dk_at dksX4_restore_7 15 rfl rfl)
theorem dX4_restore_183 : decode cX4_restore 183 = .ok (.aload_n 0, 1) := dk_42 (dk_at dksX4_restore_7 18 rfl rfl)
theorem dX4_restore_184 : decode cX4_restore 184 = .ok (.iload_n 1, 1) := dk_27 (dk_at dksX4_restore_7 19 rfl rfl)
theorem dX4_restore_185 : decode cX4_restore 185 = .ok (.invokevirtual 96, 3) := dk_182 0 96 (dk_at dksX4_restore_7 20 rfl rfl)
theorem dX4_restore_188 : decode cX4_restore 188 = .ok (.ifCond .ne 23, 3) := dk_154 0 23 (dk_at dksX4_restore_8 0 rfl rfl)
theorem dX4_restore_191 : decode cX4_restore 191 = .ok (.aload_n 0, 1) := dk_42 (dk_at dksX4_restore_8 3 rfl rfl)
theorem dX4_restore_192 : decode cX4_restore 192 = .ok (.getfield 29, 3) := dk_180 0 29 (dk_at dksX4_restore_8 4 rfl rfl)
theorem dX4_restore_195 : decode cX4_restore 195 = .ok (.iload_n 1, 1) := dk_27 (dk_at dksX4_restore_8 7 rfl rfl)
theorem dX4_restore_196 : decode cX4_restore 196 = .ok (.iaload, 1) := dk_46 (dk_at dksX4_restore_8 8 rfl rfl)
theorem dX4_restore_197 : decode cX4_restore 197 = .ok (.aload_n 0, 1) := dk_42 (dk_at dksX4_restore_8 9 rfl rfl)
theorem dX4_restore_198 : decode cX4_restore 198 = .ok (.getfield 93, 3) := dk_180 0 93 (dk_at dksX4_restore_8 10 rfl rfl)
theorem dX4_restore_201 : decode cX4_restore 201 = .ok (.if_icmp .lt 10, 3) := dk_161 0 10 (dk_at dksX4_restore_8 13 rfl rfl)
theorem dX4_restore_204 : decode cX4_restore 204 = .ok (.aload_n 0, 1) := dk_42 (dk_at dksX4_restore_8 16 rfl rfl)
theorem dX4_restore_205 : decode cX4_restore 205 = .ok (.getfield 29, 3) := dk_180 0 29 (dk_at dksX4_restore_8 17 rfl rfl)
theorem dX4_restore_208 : decode cX4_restore 208 = .ok (.iload_n 1, 1) := dk_27 (dk_at dksX4_restore_8 20 rfl rfl)
theorem dX4_restore_209 : decode cX4_restore 209 = .ok (.iconst (-1), 1) := dk_2 (dk_at dksX4_restore_8 21 rfl rfl)
theorem dX4_restore_210 : decode cX4_restore 210 = .ok (.iastore, 1) := dk_79 (dk_at dksX4_restore_8 22 rfl rfl)
theorem dX4_restore_211 : decode cX4_restore 211 = .ok (.iinc 1 1, 3) := dk_132 1 1 (dk_at dksX4_restore_9 0 rfl rfl)
theorem dX4_restore_214 : decode cX4_restore 214 = .ok (.goto (-37), 3) := dk_167 255 219 (dk_at dksX4_restore_9 3 rfl rfl)
theorem dX4_restore_217 : decode cX4_restore 217 = .ok (.aload_n 0, 1) := dk_42 (dk_at dksX4_restore_9 6 rfl rfl)
theorem dX4_restore_218 : decode cX4_restore 218 = .ok (.getfield 93, 3) := dk_180 0 93 (dk_at dksX4_restore_9 7 rfl rfl)
theorem dX4_restore_221 : decode cX4_restore 221 = .ok (.ireturn, 1) := dk_172 (dk_at dksX4_restore_9 10 rfl rfl)
abbrev cX4_status : ByteArray := prog_28_method_83_code
def yX4_status : MethodName := ⟨RX4, "status", "(I)I"⟩
def dkwX4_status_5 : List UInt8 := [180, 1, 10, 172, 2, 172]
abbrev dktX4_status_5 : List UInt8 := dkwX4_status_5 ++ []
def dkwX4_status_4 : List UInt8 := [180, 0, 86, 154, 0, 7, 3, 167, 0, 14, 42, 180, 0, 13, 42, 180, 0, 86, 4, 100, 46, 172, 42]
abbrev dktX4_status_4 : List UInt8 := dkwX4_status_4 ++ dktX4_status_5
def dkwX4_status_3 : List UInt8 := [3, 46, 172, 42, 180, 0, 26, 4, 46, 172, 42, 180, 0, 26, 5, 46, 172, 42, 180, 0, 75, 172, 42]
abbrev dktX4_status_3 : List UInt8 := dkwX4_status_3 ++ dktX4_status_4
def dkwX4_status_2 : List UInt8 := [42, 180, 0, 86, 172, 42, 180, 0, 93, 172, 42, 182, 1, 38, 172, 42, 182, 1, 42, 172, 42, 180, 0, 26]
abbrev dktX4_status_2 : List UInt8 := dkwX4_status_2 ++ dktX4_status_3
def dkwX4_status_1 : List UInt8 := [170, 0, 0, 0, 0, 128, 0, 0, 0, 0, 0, 0, 0, 9, 0, 0, 0, 54, 0, 0, 0, 59, 0, 0, 0, 64, 0, 0, 0, 69, 0, 0, 0, 74, 0, 0, 0, 81, 0, 0, 0, 88, 0, 0, 0, 95, 0, 0, 0, 100, 0, 0, 0, 123]
abbrev dktX4_status_1 : List UInt8 := dkwX4_status_1 ++ dktX4_status_2
def dkwX4_status_0 : List UInt8 := [27, 16, 11, 16, 17, 184, 0, 89, 153, 0, 13, 42, 180, 0, 41, 27, 16, 10, 100, 46, 172, 27]
abbrev dktX4_status_0 : List UInt8 := dkwX4_status_0 ++ dktX4_status_1
theorem dksX4_status_0 : cX4_status.data.toList.drop 0 = dktX4_status_0 := by decide +kernel
theorem dksX4_status_1 : cX4_status.data.toList.drop 22 = dktX4_status_1 := dk_seg dksX4_status_0 22 rfl rfl
theorem dksX4_status_2 : cX4_status.data.toList.drop 76 = dktX4_status_2 := dk_seg dksX4_status_1 54 rfl rfl
theorem dksX4_status_3 : cX4_status.data.toList.drop 100 = dktX4_status_3 := dk_seg dksX4_status_2 24 rfl rfl
theorem dksX4_status_4 : cX4_status.data.toList.drop 123 = dktX4_status_4 := dk_seg dksX4_status_3 23 rfl rfl
theorem dksX4_status_5 : cX4_status.data.toList.drop 146 = dktX4_status_5 := dk_seg dksX4_status_4 23 rfl rfl
theorem dX4_status_0 : decode cX4_status 0 = .ok (.iload_n 1, 1) := dk_27 (dk_at dksX4_status_0 0 rfl rfl)
theorem dX4_status_1 : decode cX4_status 1 = .ok (.bipush 11, 2) := dk_16 11 (dk_at dksX4_status_0 1 rfl rfl)
theorem dX4_status_3 : decode cX4_status 3 = .ok (.bipush 17, 2) := dk_16 17 (dk_at dksX4_status_0 3 rfl rfl)
theorem dX4_status_5 : decode cX4_status 5 = .ok (.invokestatic 89, 3) := dk_184 0 89 (dk_at dksX4_status_0 5 rfl rfl)
theorem dX4_status_8 : decode cX4_status 8 = .ok (.ifCond .eq 13, 3) := dk_153 0 13 (dk_at dksX4_status_0 8 rfl rfl)
theorem dX4_status_11 : decode cX4_status 11 = .ok (.aload_n 0, 1) := dk_42 (dk_at dksX4_status_0 11 rfl rfl)
theorem dX4_status_12 : decode cX4_status 12 = .ok (.getfield 41, 3) := dk_180 0 41 (dk_at dksX4_status_0 12 rfl rfl)
theorem dX4_status_15 : decode cX4_status 15 = .ok (.iload_n 1, 1) := dk_27 (dk_at dksX4_status_0 15 rfl rfl)
theorem dX4_status_16 : decode cX4_status 16 = .ok (.bipush 10, 2) := dk_16 10 (dk_at dksX4_status_0 16 rfl rfl)
theorem dX4_status_18 : decode cX4_status 18 = .ok (.isub, 1) := dk_100 (dk_at dksX4_status_0 18 rfl rfl)
theorem dX4_status_19 : decode cX4_status 19 = .ok (.iaload, 1) := dk_46 (dk_at dksX4_status_0 19 rfl rfl)
theorem dX4_status_20 : decode cX4_status 20 = .ok (.ireturn, 1) := dk_172 (dk_at dksX4_status_0 20 rfl rfl)
theorem dX4_status_21 : decode cX4_status 21 = .ok (.iload_n 1, 1) := dk_27 (dk_at dksX4_status_0 21 rfl rfl)
theorem dX4_status_22 : decode cX4_status 22 = .ok (.tableswitch 128 0 9 #[54, 59, 64, 69, 74, 81, 88, 95, 100, 123], 54) := by decide +kernel
theorem dX4_status_76 : decode cX4_status 76 = .ok (.aload_n 0, 1) := dk_42 (dk_at dksX4_status_2 0 rfl rfl)
theorem dX4_status_77 : decode cX4_status 77 = .ok (.getfield 86, 3) := dk_180 0 86 (dk_at dksX4_status_2 1 rfl rfl)
theorem dX4_status_80 : decode cX4_status 80 = .ok (.ireturn, 1) := dk_172 (dk_at dksX4_status_2 4 rfl rfl)
theorem dX4_status_81 : decode cX4_status 81 = .ok (.aload_n 0, 1) := dk_42 (dk_at dksX4_status_2 5 rfl rfl)
theorem dX4_status_82 : decode cX4_status 82 = .ok (.getfield 93, 3) := dk_180 0 93 (dk_at dksX4_status_2 6 rfl rfl)
theorem dX4_status_85 : decode cX4_status 85 = .ok (.ireturn, 1) := dk_172 (dk_at dksX4_status_2 9 rfl rfl)
theorem dX4_status_86 : decode cX4_status 86 = .ok (.aload_n 0, 1) := dk_42 (dk_at dksX4_status_2 10 rfl rfl)
theorem dX4_status_87 : decode cX4_status 87 = .ok (.invokevirtual 294, 3) := dk_182 1 38 (dk_at dksX4_status_2 11 rfl rfl)
theorem dX4_status_90 : decode cX4_status 90 = .ok (.ireturn, 1) := dk_172 (dk_at dksX4_status_2 14 rfl rfl)
theorem dX4_status_91 : decode cX4_status 91 = .ok (.aload_n 0, 1) := dk_42 (dk_at dksX4_status_2 15 rfl rfl)
theorem dX4_status_92 : decode cX4_status 92 = .ok (.invokevirtual 298, 3) := dk_182 1 42 (dk_at dksX4_status_2 16 rfl rfl)
theorem dX4_status_95 : decode cX4_status 95 = .ok (.ireturn, 1) := dk_172 (dk_at dksX4_status_2 19 rfl rfl)
theorem dX4_status_96 : decode cX4_status 96 = .ok (.aload_n 0, 1) := dk_42 (dk_at dksX4_status_2 20 rfl rfl)
theorem dX4_status_97 : decode cX4_status 97 = .ok (.getfield 26, 3) := dk_180 0 26 (dk_at dksX4_status_2 21 rfl rfl)
theorem dX4_status_100 : decode cX4_status 100 = .ok (.iconst 0, 1) := dk_3 (dk_at dksX4_status_3 0 rfl rfl)
theorem dX4_status_101 : decode cX4_status 101 = .ok (.iaload, 1) := dk_46 (dk_at dksX4_status_3 1 rfl rfl)
theorem dX4_status_102 : decode cX4_status 102 = .ok (.ireturn, 1) := dk_172 (dk_at dksX4_status_3 2 rfl rfl)
theorem dX4_status_103 : decode cX4_status 103 = .ok (.aload_n 0, 1) := dk_42 (dk_at dksX4_status_3 3 rfl rfl)
theorem dX4_status_104 : decode cX4_status 104 = .ok (.getfield 26, 3) := dk_180 0 26 (dk_at dksX4_status_3 4 rfl rfl)
theorem dX4_status_107 : decode cX4_status 107 = .ok (.iconst 1, 1) := dk_4 (dk_at dksX4_status_3 7 rfl rfl)
theorem dX4_status_108 : decode cX4_status 108 = .ok (.iaload, 1) := dk_46 (dk_at dksX4_status_3 8 rfl rfl)
theorem dX4_status_109 : decode cX4_status 109 = .ok (.ireturn, 1) := dk_172 (dk_at dksX4_status_3 9 rfl rfl)
theorem dX4_status_110 : decode cX4_status 110 = .ok (.aload_n 0, 1) := dk_42 (dk_at dksX4_status_3 10 rfl rfl)
theorem dX4_status_111 : decode cX4_status 111 = .ok (.getfield 26, 3) := dk_180 0 26 (dk_at dksX4_status_3 11 rfl rfl)
theorem dX4_status_114 : decode cX4_status 114 = .ok (.iconst 2, 1) := dk_5 (dk_at dksX4_status_3 14 rfl rfl)
theorem dX4_status_115 : decode cX4_status 115 = .ok (.iaload, 1) := dk_46 (dk_at dksX4_status_3 15 rfl rfl)
theorem dX4_status_116 : decode cX4_status 116 = .ok (.ireturn, 1) := dk_172 (dk_at dksX4_status_3 16 rfl rfl)
theorem dX4_status_117 : decode cX4_status 117 = .ok (.aload_n 0, 1) := dk_42 (dk_at dksX4_status_3 17 rfl rfl)
theorem dX4_status_118 : decode cX4_status 118 = .ok (.getfield 75, 3) := dk_180 0 75 (dk_at dksX4_status_3 18 rfl rfl)
theorem dX4_status_121 : decode cX4_status 121 = .ok (.ireturn, 1) := dk_172 (dk_at dksX4_status_3 21 rfl rfl)
theorem dX4_status_122 : decode cX4_status 122 = .ok (.aload_n 0, 1) := dk_42 (dk_at dksX4_status_3 22 rfl rfl)
theorem dX4_status_123 : decode cX4_status 123 = .ok (.getfield 86, 3) := dk_180 0 86 (dk_at dksX4_status_4 0 rfl rfl)
theorem dX4_status_126 : decode cX4_status 126 = .ok (.ifCond .ne 7, 3) := dk_154 0 7 (dk_at dksX4_status_4 3 rfl rfl)
theorem dX4_status_129 : decode cX4_status 129 = .ok (.iconst 0, 1) := dk_3 (dk_at dksX4_status_4 6 rfl rfl)
theorem dX4_status_130 : decode cX4_status 130 = .ok (.goto 14, 3) := dk_167 0 14 (dk_at dksX4_status_4 7 rfl rfl)
theorem dX4_status_133 : decode cX4_status 133 = .ok (.aload_n 0, 1) := dk_42 (dk_at dksX4_status_4 10 rfl rfl)
theorem dX4_status_134 : decode cX4_status 134 = .ok (.getfield 13, 3) := dk_180 0 13 (dk_at dksX4_status_4 11 rfl rfl)
theorem dX4_status_137 : decode cX4_status 137 = .ok (.aload_n 0, 1) := dk_42 (dk_at dksX4_status_4 14 rfl rfl)
theorem dX4_status_138 : decode cX4_status 138 = .ok (.getfield 86, 3) := dk_180 0 86 (dk_at dksX4_status_4 15 rfl rfl)
theorem dX4_status_141 : decode cX4_status 141 = .ok (.iconst 1, 1) := dk_4 (dk_at dksX4_status_4 18 rfl rfl)
theorem dX4_status_142 : decode cX4_status 142 = .ok (.isub, 1) := dk_100 (dk_at dksX4_status_4 19 rfl rfl)
theorem dX4_status_143 : decode cX4_status 143 = .ok (.iaload, 1) := dk_46 (dk_at dksX4_status_4 20 rfl rfl)
theorem dX4_status_144 : decode cX4_status 144 = .ok (.ireturn, 1) := dk_172 (dk_at dksX4_status_4 21 rfl rfl)
theorem dX4_status_145 : decode cX4_status 145 = .ok (.aload_n 0, 1) := dk_42 (dk_at dksX4_status_4 22 rfl rfl)
theorem dX4_status_146 : decode cX4_status 146 = .ok (.getfield 266, 3) := dk_180 1 10 (dk_at dksX4_status_5 0 rfl rfl)
theorem dX4_status_149 : decode cX4_status 149 = .ok (.ireturn, 1) := dk_172 (dk_at dksX4_status_5 3 rfl rfl)
theorem dX4_status_150 : decode cX4_status 150 = .ok (.iconst (-1), 1) := dk_2 (dk_at dksX4_status_5 4 rfl rfl)
theorem dX4_status_151 : decode cX4_status 151 = .ok (.ireturn, 1) := dk_172 (dk_at dksX4_status_5 5 rfl rfl)
abbrev cX4_settled : ByteArray := prog_28_method_81_code
def yX4_settled : MethodName := ⟨RX4, "settled", "()I"⟩
def dkwX4_settled_1 : List UInt8 := [132, 2, 1, 167, 255, 235, 27, 172]
abbrev dktX4_settled_1 : List UInt8 := dkwX4_settled_1 ++ []
def dkwX4_settled_0 : List UInt8 := [3, 60, 3, 61, 28, 42, 180, 0, 93, 162, 0, 19, 27, 42, 16, 6, 28, 182, 0, 109, 96, 60]
abbrev dktX4_settled_0 : List UInt8 := dkwX4_settled_0 ++ dktX4_settled_1
theorem dksX4_settled_0 : cX4_settled.data.toList.drop 0 = dktX4_settled_0 := by decide +kernel
theorem dksX4_settled_1 : cX4_settled.data.toList.drop 22 = dktX4_settled_1 := dk_seg dksX4_settled_0 22 rfl rfl
theorem dX4_settled_0 : decode cX4_settled 0 = .ok (.iconst 0, 1) := dk_3 (dk_at dksX4_settled_0 0 rfl rfl)
theorem dX4_settled_1 : decode cX4_settled 1 = .ok (.istore_n 1, 1) := dk_60 (dk_at dksX4_settled_0 1 rfl rfl)
theorem dX4_settled_2 : decode cX4_settled 2 = .ok (.iconst 0, 1) := dk_3 (dk_at dksX4_settled_0 2 rfl rfl)
theorem dX4_settled_3 : decode cX4_settled 3 = .ok (.istore_n 2, 1) := dk_61 (dk_at dksX4_settled_0 3 rfl rfl)
theorem dX4_settled_4 : decode cX4_settled 4 = .ok (.iload_n 2, 1) := dk_28 (dk_at dksX4_settled_0 4 rfl rfl)
theorem dX4_settled_5 : decode cX4_settled 5 = .ok (.aload_n 0, 1) := dk_42 (dk_at dksX4_settled_0 5 rfl rfl)
theorem dX4_settled_6 : decode cX4_settled 6 = .ok (.getfield 93, 3) := dk_180 0 93 (dk_at dksX4_settled_0 6 rfl rfl)
theorem dX4_settled_9 : decode cX4_settled 9 = .ok (.if_icmp .ge 19, 3) := dk_162 0 19 (dk_at dksX4_settled_0 9 rfl rfl)
theorem dX4_settled_12 : decode cX4_settled 12 = .ok (.iload_n 1, 1) := dk_27 (dk_at dksX4_settled_0 12 rfl rfl)
theorem dX4_settled_13 : decode cX4_settled 13 = .ok (.aload_n 0, 1) := dk_42 (dk_at dksX4_settled_0 13 rfl rfl)
theorem dX4_settled_14 : decode cX4_settled 14 = .ok (.bipush 6, 2) := dk_16 6 (dk_at dksX4_settled_0 14 rfl rfl)
theorem dX4_settled_16 : decode cX4_settled 16 = .ok (.iload_n 2, 1) := dk_28 (dk_at dksX4_settled_0 16 rfl rfl)
theorem dX4_settled_17 : decode cX4_settled 17 = .ok (.invokevirtual 109, 3) := dk_182 0 109 (dk_at dksX4_settled_0 17 rfl rfl)
theorem dX4_settled_20 : decode cX4_settled 20 = .ok (.iadd, 1) := dk_96 (dk_at dksX4_settled_0 20 rfl rfl)
theorem dX4_settled_21 : decode cX4_settled 21 = .ok (.istore_n 1, 1) := dk_60 (dk_at dksX4_settled_0 21 rfl rfl)
theorem dX4_settled_22 : decode cX4_settled 22 = .ok (.iinc 2 1, 3) := dk_132 2 1 (dk_at dksX4_settled_1 0 rfl rfl)
theorem dX4_settled_25 : decode cX4_settled 25 = .ok (.goto (-21), 3) := dk_167 255 235 (dk_at dksX4_settled_1 3 rfl rfl)
theorem dX4_settled_28 : decode cX4_settled 28 = .ok (.iload_n 1, 1) := dk_27 (dk_at dksX4_settled_1 6 rfl rfl)
theorem dX4_settled_29 : decode cX4_settled 29 = .ok (.ireturn, 1) := dk_172 (dk_at dksX4_settled_1 7 rfl rfl)
abbrev cX4_openOnes : ByteArray := prog_28_method_82_code
def yX4_openOnes : MethodName := ⟨RX4, "openOnes", "()I"⟩
def dkwX4_openOnes_1 : List UInt8 := [182, 0, 188, 153, 0, 6, 132, 1, 1, 132, 2, 1, 167, 255, 224, 27, 172]
abbrev dktX4_openOnes_1 : List UInt8 := dkwX4_openOnes_1 ++ []
def dkwX4_openOnes_0 : List UInt8 := [3, 60, 3, 61, 28, 42, 180, 0, 93, 162, 0, 30, 42, 8, 28, 182, 0, 109, 2, 160, 0, 14, 42, 28]
abbrev dktX4_openOnes_0 : List UInt8 := dkwX4_openOnes_0 ++ dktX4_openOnes_1
theorem dksX4_openOnes_0 : cX4_openOnes.data.toList.drop 0 = dktX4_openOnes_0 := by decide +kernel
theorem dksX4_openOnes_1 : cX4_openOnes.data.toList.drop 24 = dktX4_openOnes_1 := dk_seg dksX4_openOnes_0 24 rfl rfl
theorem dX4_openOnes_0 : decode cX4_openOnes 0 = .ok (.iconst 0, 1) := dk_3 (dk_at dksX4_openOnes_0 0 rfl rfl)
theorem dX4_openOnes_1 : decode cX4_openOnes 1 = .ok (.istore_n 1, 1) := dk_60 (dk_at dksX4_openOnes_0 1 rfl rfl)
theorem dX4_openOnes_2 : decode cX4_openOnes 2 = .ok (.iconst 0, 1) := dk_3 (dk_at dksX4_openOnes_0 2 rfl rfl)
theorem dX4_openOnes_3 : decode cX4_openOnes 3 = .ok (.istore_n 2, 1) := dk_61 (dk_at dksX4_openOnes_0 3 rfl rfl)
theorem dX4_openOnes_4 : decode cX4_openOnes 4 = .ok (.iload_n 2, 1) := dk_28 (dk_at dksX4_openOnes_0 4 rfl rfl)
theorem dX4_openOnes_5 : decode cX4_openOnes 5 = .ok (.aload_n 0, 1) := dk_42 (dk_at dksX4_openOnes_0 5 rfl rfl)
theorem dX4_openOnes_6 : decode cX4_openOnes 6 = .ok (.getfield 93, 3) := dk_180 0 93 (dk_at dksX4_openOnes_0 6 rfl rfl)
theorem dX4_openOnes_9 : decode cX4_openOnes 9 = .ok (.if_icmp .ge 30, 3) := dk_162 0 30 (dk_at dksX4_openOnes_0 9 rfl rfl)
theorem dX4_openOnes_12 : decode cX4_openOnes 12 = .ok (.aload_n 0, 1) := dk_42 (dk_at dksX4_openOnes_0 12 rfl rfl)
theorem dX4_openOnes_13 : decode cX4_openOnes 13 = .ok (.iconst 5, 1) := dk_8 (dk_at dksX4_openOnes_0 13 rfl rfl)
theorem dX4_openOnes_14 : decode cX4_openOnes 14 = .ok (.iload_n 2, 1) := dk_28 (dk_at dksX4_openOnes_0 14 rfl rfl)
theorem dX4_openOnes_15 : decode cX4_openOnes 15 = .ok (.invokevirtual 109, 3) := dk_182 0 109 (dk_at dksX4_openOnes_0 15 rfl rfl)
theorem dX4_openOnes_18 : decode cX4_openOnes 18 = .ok (.iconst (-1), 1) := dk_2 (dk_at dksX4_openOnes_0 18 rfl rfl)
theorem dX4_openOnes_19 : decode cX4_openOnes 19 = .ok (.if_icmp .ne 14, 3) := dk_160 0 14 (dk_at dksX4_openOnes_0 19 rfl rfl)
theorem dX4_openOnes_22 : decode cX4_openOnes 22 = .ok (.aload_n 0, 1) := dk_42 (dk_at dksX4_openOnes_0 22 rfl rfl)
theorem dX4_openOnes_23 : decode cX4_openOnes 23 = .ok (.iload_n 2, 1) := dk_28 (dk_at dksX4_openOnes_0 23 rfl rfl)
theorem dX4_openOnes_24 : decode cX4_openOnes 24 = .ok (.invokevirtual 188, 3) := dk_182 0 188 (dk_at dksX4_openOnes_1 0 rfl rfl)
theorem dX4_openOnes_27 : decode cX4_openOnes 27 = .ok (.ifCond .eq 6, 3) := dk_153 0 6 (dk_at dksX4_openOnes_1 3 rfl rfl)
theorem dX4_openOnes_30 : decode cX4_openOnes 30 = .ok (.iinc 1 1, 3) := dk_132 1 1 (dk_at dksX4_openOnes_1 6 rfl rfl)
theorem dX4_openOnes_33 : decode cX4_openOnes 33 = .ok (.iinc 2 1, 3) := dk_132 2 1 (dk_at dksX4_openOnes_1 9 rfl rfl)
theorem dX4_openOnes_36 : decode cX4_openOnes 36 = .ok (.goto (-32), 3) := dk_167 255 224 (dk_at dksX4_openOnes_1 12 rfl rfl)
theorem dX4_openOnes_39 : decode cX4_openOnes 39 = .ok (.iload_n 1, 1) := dk_27 (dk_at dksX4_openOnes_1 15 rfl rfl)
theorem dX4_openOnes_40 : decode cX4_openOnes 40 = .ok (.ireturn, 1) := dk_172 (dk_at dksX4_openOnes_1 16 rfl rfl)
theorem q102 : (Jvm.Cond.initialized "LineRemarksModel") ∈ lw_all := lw_g (lw_at lw_m1 16 rfl) rfl
theorem q248 : (Jvm.Cond.selects "LineRemarksModel" ({ cls := "java/lang/Object", name := "getClass", desc := "()Ljava/lang/Class;" } : Jvm.MethodName) ({ cls := "java/lang/Object", name := "getClass", desc := "()Ljava/lang/Class;" } : Jvm.MethodName)) ∈ lw_all := lw_g (lw_at lw_m1 162 rfl) rfl
theorem q3038 : (Jvm.Cond.selects "LineRemarksModel" ({ cls := "java/lang/Object", name := "equals", desc := "(Ljava/lang/Object;)Z" } : Jvm.MethodName) ({ cls := "java/lang/Object", name := "equals", desc := "(Ljava/lang/Object;)Z" } : Jvm.MethodName)) ∈ lw_all := lw_g (lw_at lw_m13 72 rfl) rfl
theorem q3291 : (Jvm.Cond.instantiable "LineRemarksModel" (41 : Nat)) ∈ lw_all := lw_g (lw_at lw_m14 85 rfl) rfl
theorem q3293 : (Jvm.Cond.instanceMethod ({ cls := "LineRemarksModel", name := "<init>", desc := "()V" } : Jvm.MethodName)) ∈ lw_all := lw_g (lw_at lw_m14 87 rfl) rfl
theorem q3294 : (Jvm.Cond.code ({ cls := "LineRemarksModel", name := "<init>", desc := "()V" } : Jvm.MethodName) prog_28_method_1_code (2 : Nat) (Option.none : Option Jvm.ClassFile.FieldType)) ∈ lw_all := lw_g (lw_at lw_m14 88 rfl) rfl
theorem q3295 : (Jvm.Cond.methodLink "LineRemarksModel" (1 : Nat) ({ cls := "java/lang/Object", name := "<init>", desc := "()V" } : Jvm.MethodName)) ∈ lw_all := lw_g (lw_at lw_m14 89 rfl) rfl
theorem q3296 : (Jvm.Cond.fieldLink "LineRemarksModel" (86 : Nat) "LineRemarksModel" "revisions" "I") ∈ lw_all := lw_g (lw_at lw_m14 90 rfl) rfl
theorem q3297 : (Jvm.Cond.fieldLink "LineRemarksModel" (7 : Nat) "LineRemarksModel" "former" "[I") ∈ lw_all := lw_g (lw_at lw_m14 91 rfl) rfl
theorem q3298 : (Jvm.Cond.fieldLink "LineRemarksModel" (13 : Nat) "LineRemarksModel" "many" "[I") ∈ lw_all := lw_g (lw_at lw_m14 92 rfl) rfl
theorem q3299 : (Jvm.Cond.fieldLink "LineRemarksModel" (16 : Nat) "LineRemarksModel" "lines" "[J") ∈ lw_all := lw_g (lw_at lw_m14 93 rfl) rfl
theorem q3300 : (Jvm.Cond.fieldLink "LineRemarksModel" (20 : Nat) "LineRemarksModel" "comes" "[I") ∈ lw_all := lw_g (lw_at lw_m14 94 rfl) rfl
theorem q3301 : (Jvm.Cond.fieldLink "LineRemarksModel" (93 : Nat) "LineRemarksModel" "remarks" "I") ∈ lw_all := lw_g (lw_at lw_m14 95 rfl) rfl
theorem q3302 : (Jvm.Cond.fieldLink "LineRemarksModel" (23 : Nat) "LineRemarksModel" "told" "[I") ∈ lw_all := lw_g (lw_at lw_m14 96 rfl) rfl
theorem q3303 : (Jvm.Cond.fieldLink "LineRemarksModel" (26 : Nat) "LineRemarksModel" "rules" "[I") ∈ lw_all := lw_g (lw_at lw_m14 97 rfl) rfl
theorem q3304 : (Jvm.Cond.fieldLink "LineRemarksModel" (75 : Nat) "LineRemarksModel" "seed" "I") ∈ lw_all := lw_g (lw_at lw_m14 98 rfl) rfl
theorem q3305 : (Jvm.Cond.fieldLink "LineRemarksModel" (29 : Nat) "LineRemarksModel" "holding" "[I") ∈ lw_all := lw_g (lw_at lw_m14 99 rfl) rfl
theorem q3306 : (Jvm.Cond.fieldLink "LineRemarksModel" (32 : Nat) "LineRemarksModel" "rowLength" "[I") ∈ lw_all := lw_g (lw_at lw_m14 100 rfl) rfl
theorem q3307 : (Jvm.Cond.fieldLink "LineRemarksModel" (35 : Nat) "LineRemarksModel" "rowOf" "[J") ∈ lw_all := lw_g (lw_at lw_m14 101 rfl) rfl
theorem q3308 : (Jvm.Cond.fieldLink "LineRemarksModel" (79 : Nat) "LineRemarksModel" "fault" "I") ∈ lw_all := lw_g (lw_at lw_m14 102 rfl) rfl
theorem q3309 : (Jvm.Cond.fieldLink "LineRemarksModel" (266 : Nat) "LineRemarksModel" "traced" "I") ∈ lw_all := lw_g (lw_at lw_m14 103 rfl) rfl
theorem q3310 : (Jvm.Cond.fieldLink "LineRemarksModel" (38 : Nat) "LineRemarksModel" "traces" "[I") ∈ lw_all := lw_g (lw_at lw_m14 104 rfl) rfl
theorem q3311 : (Jvm.Cond.fieldLink "LineRemarksModel" (41 : Nat) "LineRemarksModel" "refusals" "[I") ∈ lw_all := lw_g (lw_at lw_m14 105 rfl) rfl
theorem q3312 : (Jvm.Cond.fieldLink "LineRemarksModel" (282 : Nat) "LineRemarksModel" "imaged" "Z") ∈ lw_all := lw_g (lw_at lw_m14 106 rfl) rfl
theorem q3313 : (Jvm.Cond.fieldLink "LineRemarksModel" (285 : Nat) "LineRemarksModel" "oldRevisions" "I") ∈ lw_all := lw_g (lw_at lw_m14 107 rfl) rfl
theorem q3314 : (Jvm.Cond.fieldLink "LineRemarksModel" (44 : Nat) "LineRemarksModel" "oldFormer" "[I") ∈ lw_all := lw_g (lw_at lw_m14 108 rfl) rfl
theorem q3315 : (Jvm.Cond.fieldLink "LineRemarksModel" (47 : Nat) "LineRemarksModel" "oldMany" "[I") ∈ lw_all := lw_g (lw_at lw_m14 109 rfl) rfl
theorem q3316 : (Jvm.Cond.fieldLink "LineRemarksModel" (50 : Nat) "LineRemarksModel" "oldLines" "[J") ∈ lw_all := lw_g (lw_at lw_m14 110 rfl) rfl
theorem q3317 : (Jvm.Cond.fieldLink "LineRemarksModel" (288 : Nat) "LineRemarksModel" "oldRemarks" "I") ∈ lw_all := lw_g (lw_at lw_m14 111 rfl) rfl
theorem q3318 : (Jvm.Cond.fieldLink "LineRemarksModel" (53 : Nat) "LineRemarksModel" "oldTold" "[I") ∈ lw_all := lw_g (lw_at lw_m14 112 rfl) rfl
theorem q3319 : (Jvm.Cond.fieldLink "LineRemarksModel" (56 : Nat) "LineRemarksModel" "oldRules" "[I") ∈ lw_all := lw_g (lw_at lw_m14 113 rfl) rfl
theorem q3320 : (Jvm.Cond.fieldLink "LineRemarksModel" (291 : Nat) "LineRemarksModel" "oldSeed" "I") ∈ lw_all := lw_g (lw_at lw_m14 114 rfl) rfl
theorem q3321 : (Jvm.Cond.fieldLink "LineRemarksModel" (59 : Nat) "LineRemarksModel" "common" "[I") ∈ lw_all := lw_g (lw_at lw_m14 115 rfl) rfl
theorem q3322 : (Jvm.Cond.fieldLink "LineRemarksModel" (62 : Nat) "LineRemarksModel" "place" "[I") ∈ lw_all := lw_g (lw_at lw_m14 116 rfl) rfl
theorem q3323 : (Jvm.Cond.fieldLink "LineRemarksModel" (65 : Nat) "LineRemarksModel" "used" "[Z") ∈ lw_all := lw_g (lw_at lw_m14 117 rfl) rfl
theorem q3324 : (Jvm.Cond.fieldLink "LineRemarksModel" (150 : Nat) "LineRemarksModel" "pairs" "I") ∈ lw_all := lw_g (lw_at lw_m14 118 rfl) rfl
theorem q3325 : (Jvm.Cond.fieldLink "LineRemarksModel" (157 : Nat) "LineRemarksModel" "moved" "I") ∈ lw_all := lw_g (lw_at lw_m14 119 rfl) rfl
theorem q3326 : (Jvm.Cond.fieldLink "LineRemarksModel" (69 : Nat) "LineRemarksModel" "chain" "[I") ∈ lw_all := lw_g (lw_at lw_m14 120 rfl) rfl
theorem q3327 : (Jvm.Cond.fieldLink "LineRemarksModel" (191 : Nat) "LineRemarksModel" "p" "I") ∈ lw_all := lw_g (lw_at lw_m14 121 rfl) rfl
theorem q3328 : (Jvm.Cond.fieldLink "LineRemarksModel" (194 : Nat) "LineRemarksModel" "q" "I") ∈ lw_all := lw_g (lw_at lw_m14 122 rfl) rfl
theorem q3329 : (Jvm.Cond.fieldLink "LineRemarksModel" (232 : Nat) "LineRemarksModel" "how" "I") ∈ lw_all := lw_g (lw_at lw_m14 123 rfl) rfl
theorem q3330 : (Jvm.Cond.fieldLink "LineRemarksModel" (213 : Nat) "LineRemarksModel" "last" "I") ∈ lw_all := lw_g (lw_at lw_m14 124 rfl) rfl
theorem q3331 : (Jvm.Cond.fieldLink "LineRemarksModel" (210 : Nat) "LineRemarksModel" "lastP" "I") ∈ lw_all := lw_g (lw_at lw_m14 125 rfl) rfl
theorem q3332 : (Jvm.Cond.fieldLink "LineRemarksModel" (207 : Nat) "LineRemarksModel" "lastQ" "I") ∈ lw_all := lw_g (lw_at lw_m14 126 rfl) rfl
theorem q3333 : (Jvm.Cond.fieldLink "LineRemarksModel" (72 : Nat) "LineRemarksModel" "spots" "[I") ∈ lw_all := lw_g (lw_at lw_m14 127 rfl) rfl
theorem q3334 : (Jvm.Cond.fieldLink "LineRemarksModel" (216 : Nat) "LineRemarksModel" "bestAt" "I") ∈ lw_all := lw_g (lw_at lw_m14 128 rfl) rfl
theorem q3335 : (Jvm.Cond.fieldLink "LineRemarksModel" (219 : Nat) "LineRemarksModel" "bestScore" "I") ∈ lw_all := lw_g (lw_at lw_m14 129 rfl) rfl
theorem q3336 : (Jvm.Cond.fieldLink "LineRemarksModel" (228 : Nat) "LineRemarksModel" "isClear" "Z") ∈ lw_all := lw_g (lw_at lw_m14 130 rfl) rfl
theorem q3337 : (Jvm.Cond.lays "LineRemarksModel" "LineRemarksModel" "revisions" "I") ∈ lw_all := lw_g (lw_at lw_m14 131 rfl) rfl
theorem q3338 : (Jvm.Cond.soleField "LineRemarksModel" "revisions") ∈ lw_all := lw_g (lw_at lw_m14 132 rfl) rfl
theorem q3339 : (Jvm.Cond.laysFinal "LineRemarksModel" "LineRemarksModel" "former" "[I") ∈ lw_all := lw_g (lw_at lw_m14 133 rfl) rfl
theorem q3340 : (Jvm.Cond.soleField "LineRemarksModel" "former") ∈ lw_all := lw_g (lw_at lw_m14 134 rfl) rfl
theorem q3341 : (Jvm.Cond.laysFinal "LineRemarksModel" "LineRemarksModel" "many" "[I") ∈ lw_all := lw_g (lw_at lw_m14 135 rfl) rfl
theorem q3342 : (Jvm.Cond.soleField "LineRemarksModel" "many") ∈ lw_all := lw_g (lw_at lw_m14 136 rfl) rfl
theorem q3343 : (Jvm.Cond.laysFinal "LineRemarksModel" "LineRemarksModel" "lines" "[J") ∈ lw_all := lw_g (lw_at lw_m14 137 rfl) rfl
theorem q3344 : (Jvm.Cond.soleField "LineRemarksModel" "lines") ∈ lw_all := lw_g (lw_at lw_m14 138 rfl) rfl
theorem q3345 : (Jvm.Cond.laysFinal "LineRemarksModel" "LineRemarksModel" "comes" "[I") ∈ lw_all := lw_g (lw_at lw_m14 139 rfl) rfl
theorem q3346 : (Jvm.Cond.soleField "LineRemarksModel" "comes") ∈ lw_all := lw_g (lw_at lw_m14 140 rfl) rfl
theorem q3347 : (Jvm.Cond.lays "LineRemarksModel" "LineRemarksModel" "remarks" "I") ∈ lw_all := lw_g (lw_at lw_m14 141 rfl) rfl
theorem q3348 : (Jvm.Cond.soleField "LineRemarksModel" "remarks") ∈ lw_all := lw_g (lw_at lw_m14 142 rfl) rfl
theorem q3349 : (Jvm.Cond.laysFinal "LineRemarksModel" "LineRemarksModel" "told" "[I") ∈ lw_all := lw_g (lw_at lw_m14 143 rfl) rfl
theorem q3350 : (Jvm.Cond.soleField "LineRemarksModel" "told") ∈ lw_all := lw_g (lw_at lw_m14 144 rfl) rfl
theorem q3351 : (Jvm.Cond.laysFinal "LineRemarksModel" "LineRemarksModel" "rules" "[I") ∈ lw_all := lw_g (lw_at lw_m14 145 rfl) rfl
theorem q3352 : (Jvm.Cond.soleField "LineRemarksModel" "rules") ∈ lw_all := lw_g (lw_at lw_m14 146 rfl) rfl
theorem q3353 : (Jvm.Cond.lays "LineRemarksModel" "LineRemarksModel" "seed" "I") ∈ lw_all := lw_g (lw_at lw_m14 147 rfl) rfl
theorem q3354 : (Jvm.Cond.soleField "LineRemarksModel" "seed") ∈ lw_all := lw_g (lw_at lw_m14 148 rfl) rfl
theorem q3355 : (Jvm.Cond.laysFinal "LineRemarksModel" "LineRemarksModel" "holding" "[I") ∈ lw_all := lw_g (lw_at lw_m14 149 rfl) rfl
theorem q3356 : (Jvm.Cond.soleField "LineRemarksModel" "holding") ∈ lw_all := lw_g (lw_at lw_m14 150 rfl) rfl
theorem q3357 : (Jvm.Cond.laysFinal "LineRemarksModel" "LineRemarksModel" "rowLength" "[I") ∈ lw_all := lw_g (lw_at lw_m14 151 rfl) rfl
theorem q3358 : (Jvm.Cond.soleField "LineRemarksModel" "rowLength") ∈ lw_all := lw_g (lw_at lw_m14 152 rfl) rfl
theorem q3359 : (Jvm.Cond.laysFinal "LineRemarksModel" "LineRemarksModel" "rowOf" "[J") ∈ lw_all := lw_g (lw_at lw_m14 153 rfl) rfl
theorem q3360 : (Jvm.Cond.soleField "LineRemarksModel" "rowOf") ∈ lw_all := lw_g (lw_at lw_m14 154 rfl) rfl
theorem q3361 : (Jvm.Cond.lays "LineRemarksModel" "LineRemarksModel" "fault" "I") ∈ lw_all := lw_g (lw_at lw_m14 155 rfl) rfl
theorem q3362 : (Jvm.Cond.soleField "LineRemarksModel" "fault") ∈ lw_all := lw_g (lw_at lw_m14 156 rfl) rfl
theorem q3363 : (Jvm.Cond.lays "LineRemarksModel" "LineRemarksModel" "traced" "I") ∈ lw_all := lw_g (lw_at lw_m14 157 rfl) rfl
theorem q3364 : (Jvm.Cond.soleField "LineRemarksModel" "traced") ∈ lw_all := lw_g (lw_at lw_m14 158 rfl) rfl
theorem q3365 : (Jvm.Cond.laysFinal "LineRemarksModel" "LineRemarksModel" "traces" "[I") ∈ lw_all := lw_g (lw_at lw_m14 159 rfl) rfl
theorem q3366 : (Jvm.Cond.soleField "LineRemarksModel" "traces") ∈ lw_all := lw_g (lw_at lw_m14 160 rfl) rfl
theorem q3367 : (Jvm.Cond.laysFinal "LineRemarksModel" "LineRemarksModel" "refusals" "[I") ∈ lw_all := lw_g (lw_at lw_m14 161 rfl) rfl
theorem q3368 : (Jvm.Cond.soleField "LineRemarksModel" "refusals") ∈ lw_all := lw_g (lw_at lw_m14 162 rfl) rfl
theorem q3369 : (Jvm.Cond.lays "LineRemarksModel" "LineRemarksModel" "imaged" "Z") ∈ lw_all := lw_g (lw_at lw_m14 163 rfl) rfl
theorem q3370 : (Jvm.Cond.soleField "LineRemarksModel" "imaged") ∈ lw_all := lw_g (lw_at lw_m14 164 rfl) rfl
theorem q3371 : (Jvm.Cond.lays "LineRemarksModel" "LineRemarksModel" "oldRevisions" "I") ∈ lw_all := lw_g (lw_at lw_m14 165 rfl) rfl
theorem q3372 : (Jvm.Cond.soleField "LineRemarksModel" "oldRevisions") ∈ lw_all := lw_g (lw_at lw_m14 166 rfl) rfl
theorem q3373 : (Jvm.Cond.laysFinal "LineRemarksModel" "LineRemarksModel" "oldFormer" "[I") ∈ lw_all := lw_g (lw_at lw_m14 167 rfl) rfl
theorem q3374 : (Jvm.Cond.soleField "LineRemarksModel" "oldFormer") ∈ lw_all := lw_g (lw_at lw_m14 168 rfl) rfl
theorem q3375 : (Jvm.Cond.laysFinal "LineRemarksModel" "LineRemarksModel" "oldMany" "[I") ∈ lw_all := lw_g (lw_at lw_m14 169 rfl) rfl
theorem q3376 : (Jvm.Cond.soleField "LineRemarksModel" "oldMany") ∈ lw_all := lw_g (lw_at lw_m14 170 rfl) rfl
theorem q3377 : (Jvm.Cond.laysFinal "LineRemarksModel" "LineRemarksModel" "oldLines" "[J") ∈ lw_all := lw_g (lw_at lw_m14 171 rfl) rfl
theorem q3378 : (Jvm.Cond.soleField "LineRemarksModel" "oldLines") ∈ lw_all := lw_g (lw_at lw_m14 172 rfl) rfl
theorem q3379 : (Jvm.Cond.lays "LineRemarksModel" "LineRemarksModel" "oldRemarks" "I") ∈ lw_all := lw_g (lw_at lw_m14 173 rfl) rfl
theorem q3380 : (Jvm.Cond.soleField "LineRemarksModel" "oldRemarks") ∈ lw_all := lw_g (lw_at lw_m14 174 rfl) rfl
theorem q3381 : (Jvm.Cond.laysFinal "LineRemarksModel" "LineRemarksModel" "oldTold" "[I") ∈ lw_all := lw_g (lw_at lw_m14 175 rfl) rfl
theorem q3382 : (Jvm.Cond.soleField "LineRemarksModel" "oldTold") ∈ lw_all := lw_g (lw_at lw_m14 176 rfl) rfl
theorem q3383 : (Jvm.Cond.laysFinal "LineRemarksModel" "LineRemarksModel" "oldRules" "[I") ∈ lw_all := lw_g (lw_at lw_m14 177 rfl) rfl
theorem q3384 : (Jvm.Cond.soleField "LineRemarksModel" "oldRules") ∈ lw_all := lw_g (lw_at lw_m14 178 rfl) rfl
theorem q3385 : (Jvm.Cond.lays "LineRemarksModel" "LineRemarksModel" "oldSeed" "I") ∈ lw_all := lw_g (lw_at lw_m14 179 rfl) rfl
theorem q3386 : (Jvm.Cond.soleField "LineRemarksModel" "oldSeed") ∈ lw_all := lw_g (lw_at lw_m14 180 rfl) rfl
theorem q3387 : (Jvm.Cond.laysFinal "LineRemarksModel" "LineRemarksModel" "common" "[I") ∈ lw_all := lw_g (lw_at lw_m14 181 rfl) rfl
theorem q3388 : (Jvm.Cond.soleField "LineRemarksModel" "common") ∈ lw_all := lw_g (lw_at lw_m14 182 rfl) rfl
theorem q3389 : (Jvm.Cond.laysFinal "LineRemarksModel" "LineRemarksModel" "place" "[I") ∈ lw_all := lw_g (lw_at lw_m14 183 rfl) rfl
theorem q3390 : (Jvm.Cond.soleField "LineRemarksModel" "place") ∈ lw_all := lw_g (lw_at lw_m14 184 rfl) rfl
theorem q3391 : (Jvm.Cond.laysFinal "LineRemarksModel" "LineRemarksModel" "used" "[Z") ∈ lw_all := lw_g (lw_at lw_m14 185 rfl) rfl
theorem q3392 : (Jvm.Cond.soleField "LineRemarksModel" "used") ∈ lw_all := lw_g (lw_at lw_m14 186 rfl) rfl
theorem q3393 : (Jvm.Cond.lays "LineRemarksModel" "LineRemarksModel" "pairs" "I") ∈ lw_all := lw_g (lw_at lw_m14 187 rfl) rfl
theorem q3394 : (Jvm.Cond.soleField "LineRemarksModel" "pairs") ∈ lw_all := lw_g (lw_at lw_m14 188 rfl) rfl
theorem q3395 : (Jvm.Cond.lays "LineRemarksModel" "LineRemarksModel" "moved" "I") ∈ lw_all := lw_g (lw_at lw_m14 189 rfl) rfl
theorem q3396 : (Jvm.Cond.soleField "LineRemarksModel" "moved") ∈ lw_all := lw_g (lw_at lw_m14 190 rfl) rfl
theorem q3397 : (Jvm.Cond.laysFinal "LineRemarksModel" "LineRemarksModel" "chain" "[I") ∈ lw_all := lw_g (lw_at lw_m14 191 rfl) rfl
theorem q3398 : (Jvm.Cond.soleField "LineRemarksModel" "chain") ∈ lw_all := lw_g (lw_at lw_m14 192 rfl) rfl
theorem q3399 : (Jvm.Cond.lays "LineRemarksModel" "LineRemarksModel" "p" "I") ∈ lw_all := lw_g (lw_at lw_m14 193 rfl) rfl
theorem q3400 : (Jvm.Cond.soleField "LineRemarksModel" "p") ∈ lw_all := lw_g (lw_at lw_m14 194 rfl) rfl
theorem q3401 : (Jvm.Cond.lays "LineRemarksModel" "LineRemarksModel" "q" "I") ∈ lw_all := lw_g (lw_at lw_m14 195 rfl) rfl
theorem q3402 : (Jvm.Cond.soleField "LineRemarksModel" "q") ∈ lw_all := lw_g (lw_at lw_m14 196 rfl) rfl
theorem q3403 : (Jvm.Cond.lays "LineRemarksModel" "LineRemarksModel" "how" "I") ∈ lw_all := lw_g (lw_at lw_m14 197 rfl) rfl
theorem q3404 : (Jvm.Cond.soleField "LineRemarksModel" "how") ∈ lw_all := lw_g (lw_at lw_m14 198 rfl) rfl
theorem q3405 : (Jvm.Cond.lays "LineRemarksModel" "LineRemarksModel" "last" "I") ∈ lw_all := lw_g (lw_at lw_m14 199 rfl) rfl
theorem q3406 : (Jvm.Cond.soleField "LineRemarksModel" "last") ∈ lw_all := lw_g (lw_at lw_m14 200 rfl) rfl
theorem q3407 : (Jvm.Cond.lays "LineRemarksModel" "LineRemarksModel" "lastP" "I") ∈ lw_all := lw_g (lw_at lw_m14 201 rfl) rfl
theorem q3408 : (Jvm.Cond.soleField "LineRemarksModel" "lastP") ∈ lw_all := lw_g (lw_at lw_m14 202 rfl) rfl
theorem q3409 : (Jvm.Cond.lays "LineRemarksModel" "LineRemarksModel" "lastQ" "I") ∈ lw_all := lw_g (lw_at lw_m14 203 rfl) rfl
theorem q3410 : (Jvm.Cond.soleField "LineRemarksModel" "lastQ") ∈ lw_all := lw_g (lw_at lw_m14 204 rfl) rfl
theorem q3411 : (Jvm.Cond.laysFinal "LineRemarksModel" "LineRemarksModel" "spots" "[I") ∈ lw_all := lw_g (lw_at lw_m14 205 rfl) rfl
theorem q3412 : (Jvm.Cond.soleField "LineRemarksModel" "spots") ∈ lw_all := lw_g (lw_at lw_m14 206 rfl) rfl
theorem q3413 : (Jvm.Cond.lays "LineRemarksModel" "LineRemarksModel" "bestAt" "I") ∈ lw_all := lw_g (lw_at lw_m14 207 rfl) rfl
theorem q3414 : (Jvm.Cond.soleField "LineRemarksModel" "bestAt") ∈ lw_all := lw_g (lw_at lw_m14 208 rfl) rfl
theorem q3415 : (Jvm.Cond.lays "LineRemarksModel" "LineRemarksModel" "bestScore" "I") ∈ lw_all := lw_g (lw_at lw_m14 209 rfl) rfl
theorem q3416 : (Jvm.Cond.soleField "LineRemarksModel" "bestScore") ∈ lw_all := lw_g (lw_at lw_m14 210 rfl) rfl
theorem q3417 : (Jvm.Cond.lays "LineRemarksModel" "LineRemarksModel" "isClear" "Z") ∈ lw_all := lw_g (lw_at lw_m14 211 rfl) rfl
theorem q3418 : (Jvm.Cond.soleField "LineRemarksModel" "isClear") ∈ lw_all := lw_g (lw_at lw_m14 212 rfl) rfl
theorem q3419 : (Jvm.Cond.superclass "LineRemarksModel" "java/lang/Object") ∈ lw_all := lw_g (lw_at lw_m14 213 rfl) rfl
theorem q3421 : (Jvm.Cond.instanceMethod ({ cls := "LineRemarksModel", name := "row", desc := "(III)I" } : Jvm.MethodName)) ∈ lw_all := lw_g (lw_at lw_m14 215 rfl) rfl
theorem q3422 : (Jvm.Cond.selects "LineRemarksModel" ({ cls := "LineRemarksModel", name := "row", desc := "(III)I" } : Jvm.MethodName) ({ cls := "LineRemarksModel", name := "row", desc := "(III)I" } : Jvm.MethodName)) ∈ lw_all := lw_g (lw_at lw_m14 216 rfl) rfl
theorem q3423 : (Jvm.Cond.code ({ cls := "LineRemarksModel", name := "row", desc := "(III)I" } : Jvm.MethodName) prog_28_method_9_code (5 : Nat) (Option.some Jvm.ClassFile.FieldType.int)) ∈ lw_all := lw_g (lw_at lw_m14 217 rfl) rfl
theorem q3424 : (Jvm.Cond.methodLink "LineRemarksModel" (89 : Nat) ({ cls := "LineRemarksModel", name := "within", desc := "(III)Z" } : Jvm.MethodName)) ∈ lw_all := lw_g (lw_at lw_m14 218 rfl) rfl
theorem q3425 : (Jvm.Cond.static ({ cls := "LineRemarksModel", name := "within", desc := "(III)Z" } : Jvm.MethodName)) ∈ lw_all := lw_g (lw_at lw_m14 219 rfl) rfl
theorem q3426 : (Jvm.Cond.code ({ cls := "LineRemarksModel", name := "within", desc := "(III)Z" } : Jvm.MethodName) prog_28_method_4_code (3 : Nat) (Option.some Jvm.ClassFile.FieldType.boolean)) ∈ lw_all := lw_g (lw_at lw_m14 220 rfl) rfl
theorem q3427 : (Jvm.Cond.methodLink "LineRemarksModel" (82 : Nat) ({ cls := "LineRemarksModel", name := "no", desc := "(I)I" } : Jvm.MethodName)) ∈ lw_all := lw_g (lw_at lw_m14 221 rfl) rfl
theorem q3428 : (Jvm.Cond.privateMethod ({ cls := "LineRemarksModel", name := "no", desc := "(I)I" } : Jvm.MethodName)) ∈ lw_tbl := lw_at lw_m14 222 rfl
theorem q3429 : (Jvm.Cond.instanceMethod ({ cls := "LineRemarksModel", name := "no", desc := "(I)I" } : Jvm.MethodName)) ∈ lw_all := lw_g (lw_at lw_m14 223 rfl) rfl
theorem q3430 : (Jvm.Cond.code ({ cls := "LineRemarksModel", name := "no", desc := "(I)I" } : Jvm.MethodName) prog_28_method_2_code (2 : Nat) (Option.some Jvm.ClassFile.FieldType.int)) ∈ lw_all := lw_g (lw_at lw_m14 224 rfl) rfl
theorem q3432 : (Jvm.Cond.instanceMethod ({ cls := "LineRemarksModel", name := "set", desc := "(IIJ)I" } : Jvm.MethodName)) ∈ lw_all := lw_g (lw_at lw_m14 226 rfl) rfl
theorem q3433 : (Jvm.Cond.selects "LineRemarksModel" ({ cls := "LineRemarksModel", name := "set", desc := "(IIJ)I" } : Jvm.MethodName) ({ cls := "LineRemarksModel", name := "set", desc := "(IIJ)I" } : Jvm.MethodName)) ∈ lw_all := lw_g (lw_at lw_m14 227 rfl) rfl
theorem q3434 : (Jvm.Cond.code ({ cls := "LineRemarksModel", name := "set", desc := "(IIJ)I" } : Jvm.MethodName) prog_28_method_11_code (7 : Nat) (Option.some Jvm.ClassFile.FieldType.int)) ∈ lw_all := lw_g (lw_at lw_m14 228 rfl) rfl
theorem q3435 : (Jvm.Cond.methodLink "LineRemarksModel" (100 : Nat) ({ cls := "LineRemarksModel", name := "noRow", desc := "(I)I" } : Jvm.MethodName)) ∈ lw_all := lw_g (lw_at lw_m14 229 rfl) rfl
theorem q3436 : (Jvm.Cond.privateMethod ({ cls := "LineRemarksModel", name := "noRow", desc := "(I)I" } : Jvm.MethodName)) ∈ lw_tbl := lw_at lw_m14 230 rfl
theorem q3437 : (Jvm.Cond.instanceMethod ({ cls := "LineRemarksModel", name := "noRow", desc := "(I)I" } : Jvm.MethodName)) ∈ lw_all := lw_g (lw_at lw_m14 231 rfl) rfl
theorem q3438 : (Jvm.Cond.code ({ cls := "LineRemarksModel", name := "noRow", desc := "(I)I" } : Jvm.MethodName) prog_28_method_10_code (2 : Nat) (Option.some Jvm.ClassFile.FieldType.int)) ∈ lw_all := lw_g (lw_at lw_m14 232 rfl) rfl
theorem q3439 : (Jvm.Cond.methodLink "LineRemarksModel" (96 : Nat) ({ cls := "LineRemarksModel", name := "isRow", desc := "(I)Z" } : Jvm.MethodName)) ∈ lw_all := lw_g (lw_at lw_m14 233 rfl) rfl
theorem q3440 : (Jvm.Cond.privateMethod ({ cls := "LineRemarksModel", name := "isRow", desc := "(I)Z" } : Jvm.MethodName)) ∈ lw_tbl := lw_at lw_m14 234 rfl
theorem q3441 : (Jvm.Cond.instanceMethod ({ cls := "LineRemarksModel", name := "isRow", desc := "(I)Z" } : Jvm.MethodName)) ∈ lw_all := lw_g (lw_at lw_m14 235 rfl) rfl
theorem q3442 : (Jvm.Cond.code ({ cls := "LineRemarksModel", name := "isRow", desc := "(I)Z" } : Jvm.MethodName) prog_28_method_8_code (2 : Nat) (Option.some Jvm.ClassFile.FieldType.boolean)) ∈ lw_all := lw_g (lw_at lw_m14 236 rfl) rfl
theorem q3444 : (Jvm.Cond.instanceMethod ({ cls := "LineRemarksModel", name := "copy", desc := "(IIIII)I" } : Jvm.MethodName)) ∈ lw_all := lw_g (lw_at lw_m14 238 rfl) rfl
theorem q3445 : (Jvm.Cond.selects "LineRemarksModel" ({ cls := "LineRemarksModel", name := "copy", desc := "(IIIII)I" } : Jvm.MethodName) ({ cls := "LineRemarksModel", name := "copy", desc := "(IIIII)I" } : Jvm.MethodName)) ∈ lw_all := lw_g (lw_at lw_m14 239 rfl) rfl
theorem q3446 : (Jvm.Cond.code ({ cls := "LineRemarksModel", name := "copy", desc := "(IIIII)I" } : Jvm.MethodName) prog_28_method_12_code (7 : Nat) (Option.some Jvm.ClassFile.FieldType.int)) ∈ lw_all := lw_g (lw_at lw_m15 0 rfl) rfl
theorem q3448 : (Jvm.Cond.instanceMethod ({ cls := "LineRemarksModel", name := "element", desc := "(II)J" } : Jvm.MethodName)) ∈ lw_all := lw_g (lw_at lw_m15 2 rfl) rfl
theorem q3449 : (Jvm.Cond.selects "LineRemarksModel" ({ cls := "LineRemarksModel", name := "element", desc := "(II)J" } : Jvm.MethodName) ({ cls := "LineRemarksModel", name := "element", desc := "(II)J" } : Jvm.MethodName)) ∈ lw_all := lw_g (lw_at lw_m15 3 rfl) rfl
theorem q3450 : (Jvm.Cond.code ({ cls := "LineRemarksModel", name := "element", desc := "(II)J" } : Jvm.MethodName) prog_28_method_13_code (3 : Nat) (Option.some Jvm.ClassFile.FieldType.long)) ∈ lw_all := lw_g (lw_at lw_m15 4 rfl) rfl
theorem q3452 : (Jvm.Cond.instanceMethod ({ cls := "LineRemarksModel", name := "show", desc := "(II)I" } : Jvm.MethodName)) ∈ lw_all := lw_g (lw_at lw_m15 6 rfl) rfl
theorem q3453 : (Jvm.Cond.selects "LineRemarksModel" ({ cls := "LineRemarksModel", name := "show", desc := "(II)I" } : Jvm.MethodName) ({ cls := "LineRemarksModel", name := "show", desc := "(II)I" } : Jvm.MethodName)) ∈ lw_all := lw_g (lw_at lw_m15 7 rfl) rfl
theorem q3454 : (Jvm.Cond.code ({ cls := "LineRemarksModel", name := "show", desc := "(II)I" } : Jvm.MethodName) prog_28_method_14_code (3 : Nat) (Option.some Jvm.ClassFile.FieldType.int)) ∈ lw_all := lw_g (lw_at lw_m15 8 rfl) rfl
theorem q3455 : (Jvm.Cond.methodLink "LineRemarksModel" (103 : Nat) ({ cls := "LineRemarksModel", name := "isRemark", desc := "(I)Z" } : Jvm.MethodName)) ∈ lw_all := lw_g (lw_at lw_m15 9 rfl) rfl
theorem q3456 : (Jvm.Cond.privateMethod ({ cls := "LineRemarksModel", name := "isRemark", desc := "(I)Z" } : Jvm.MethodName)) ∈ lw_tbl := lw_at lw_m15 10 rfl
theorem q3457 : (Jvm.Cond.instanceMethod ({ cls := "LineRemarksModel", name := "isRemark", desc := "(I)Z" } : Jvm.MethodName)) ∈ lw_all := lw_g (lw_at lw_m15 11 rfl) rfl
theorem q3458 : (Jvm.Cond.code ({ cls := "LineRemarksModel", name := "isRemark", desc := "(I)Z" } : Jvm.MethodName) prog_28_method_6_code (2 : Nat) (Option.some Jvm.ClassFile.FieldType.boolean)) ∈ lw_all := lw_g (lw_at lw_m15 12 rfl) rfl
theorem q3460 : (Jvm.Cond.instanceMethod ({ cls := "LineRemarksModel", name := "holds", desc := "(I)I" } : Jvm.MethodName)) ∈ lw_all := lw_g (lw_at lw_m15 14 rfl) rfl
theorem q3461 : (Jvm.Cond.selects "LineRemarksModel" ({ cls := "LineRemarksModel", name := "holds", desc := "(I)I" } : Jvm.MethodName) ({ cls := "LineRemarksModel", name := "holds", desc := "(I)I" } : Jvm.MethodName)) ∈ lw_all := lw_g (lw_at lw_m15 15 rfl) rfl
theorem q3462 : (Jvm.Cond.code ({ cls := "LineRemarksModel", name := "holds", desc := "(I)I" } : Jvm.MethodName) prog_28_method_15_code (2 : Nat) (Option.some Jvm.ClassFile.FieldType.int)) ∈ lw_all := lw_g (lw_at lw_m15 16 rfl) rfl
theorem q3464 : (Jvm.Cond.instanceMethod ({ cls := "LineRemarksModel", name := "says", desc := "(II)I" } : Jvm.MethodName)) ∈ lw_all := lw_g (lw_at lw_m15 18 rfl) rfl
theorem q3465 : (Jvm.Cond.selects "LineRemarksModel" ({ cls := "LineRemarksModel", name := "says", desc := "(II)I" } : Jvm.MethodName) ({ cls := "LineRemarksModel", name := "says", desc := "(II)I" } : Jvm.MethodName)) ∈ lw_all := lw_g (lw_at lw_m15 19 rfl) rfl
theorem q3466 : (Jvm.Cond.code ({ cls := "LineRemarksModel", name := "says", desc := "(II)I" } : Jvm.MethodName) prog_28_method_19_code (4 : Nat) (Option.some Jvm.ClassFile.FieldType.int)) ∈ lw_all := lw_g (lw_at lw_m15 20 rfl) rfl
theorem q3467 : (Jvm.Cond.methodLink "LineRemarksModel" (109 : Nat) ({ cls := "LineRemarksModel", name := "of", desc := "(II)I" } : Jvm.MethodName)) ∈ lw_all := lw_g (lw_at lw_m15 21 rfl) rfl
theorem q3468 : (Jvm.Cond.privateMethod ({ cls := "LineRemarksModel", name := "of", desc := "(II)I" } : Jvm.MethodName)) ∈ lw_tbl := lw_at lw_m15 22 rfl
theorem q3469 : (Jvm.Cond.instanceMethod ({ cls := "LineRemarksModel", name := "of", desc := "(II)I" } : Jvm.MethodName)) ∈ lw_all := lw_g (lw_at lw_m15 23 rfl) rfl
theorem q3470 : (Jvm.Cond.code ({ cls := "LineRemarksModel", name := "of", desc := "(II)I" } : Jvm.MethodName) prog_28_method_18_code (3 : Nat) (Option.some Jvm.ClassFile.FieldType.int)) ∈ lw_all := lw_g (lw_at lw_m15 24 rfl) rfl
theorem q3471 : (Jvm.Cond.methodLink "LineRemarksModel" (113 : Nat) ({ cls := "LineRemarksModel", name := "isUnder", desc := "(II)Z" } : Jvm.MethodName)) ∈ lw_all := lw_g (lw_at lw_m15 25 rfl) rfl
theorem q3472 : (Jvm.Cond.static ({ cls := "LineRemarksModel", name := "isUnder", desc := "(II)Z" } : Jvm.MethodName)) ∈ lw_all := lw_g (lw_at lw_m15 26 rfl) rfl
theorem q3473 : (Jvm.Cond.code ({ cls := "LineRemarksModel", name := "isUnder", desc := "(II)Z" } : Jvm.MethodName) prog_28_method_17_code (3 : Nat) (Option.some Jvm.ClassFile.FieldType.boolean)) ∈ lw_all := lw_g (lw_at lw_m15 27 rfl) rfl
theorem q3474 : (Jvm.Cond.methodLink "LineRemarksModel" (106 : Nat) ({ cls := "LineRemarksModel", name := "above", desc := "(I)I" } : Jvm.MethodName)) ∈ lw_all := lw_g (lw_at lw_m15 28 rfl) rfl
theorem q3475 : (Jvm.Cond.static ({ cls := "LineRemarksModel", name := "above", desc := "(I)I" } : Jvm.MethodName)) ∈ lw_all := lw_g (lw_at lw_m15 29 rfl) rfl
theorem q3476 : (Jvm.Cond.code ({ cls := "LineRemarksModel", name := "above", desc := "(I)I" } : Jvm.MethodName) prog_28_method_16_code (1 : Nat) (Option.some Jvm.ClassFile.FieldType.int)) ∈ lw_all := lw_g (lw_at lw_m15 30 rfl) rfl
theorem q3478 : (Jvm.Cond.instanceMethod ({ cls := "LineRemarksModel", name := "revise", desc := "(II)I" } : Jvm.MethodName)) ∈ lw_all := lw_g (lw_at lw_m15 32 rfl) rfl
theorem q3479 : (Jvm.Cond.selects "LineRemarksModel" ({ cls := "LineRemarksModel", name := "revise", desc := "(II)I" } : Jvm.MethodName) ({ cls := "LineRemarksModel", name := "revise", desc := "(II)I" } : Jvm.MethodName)) ∈ lw_all := lw_g (lw_at lw_m15 33 rfl) rfl
theorem q3480 : (Jvm.Cond.code ({ cls := "LineRemarksModel", name := "revise", desc := "(II)I" } : Jvm.MethodName) prog_28_method_23_code (4 : Nat) (Option.some Jvm.ClassFile.FieldType.int)) ∈ lw_all := lw_g (lw_at lw_m15 34 rfl) rfl
theorem q3481 : (Jvm.Cond.methodLink "LineRemarksModel" (124 : Nat) ({ cls := "LineRemarksModel", name := "isRevision", desc := "(I)Z" } : Jvm.MethodName)) ∈ lw_all := lw_g (lw_at lw_m15 35 rfl) rfl
theorem q3482 : (Jvm.Cond.privateMethod ({ cls := "LineRemarksModel", name := "isRevision", desc := "(I)Z" } : Jvm.MethodName)) ∈ lw_tbl := lw_at lw_m15 36 rfl
theorem q3483 : (Jvm.Cond.instanceMethod ({ cls := "LineRemarksModel", name := "isRevision", desc := "(I)Z" } : Jvm.MethodName)) ∈ lw_all := lw_g (lw_at lw_m15 37 rfl) rfl
theorem q3484 : (Jvm.Cond.code ({ cls := "LineRemarksModel", name := "isRevision", desc := "(I)Z" } : Jvm.MethodName) prog_28_method_5_code (2 : Nat) (Option.some Jvm.ClassFile.FieldType.boolean)) ∈ lw_all := lw_g (lw_at lw_m15 38 rfl) rfl
theorem q3485 : (Jvm.Cond.methodLink "LineRemarksModel" (127 : Nat) ({ cls := "LineRemarksModel", name := "reads", desc := "(I)I" } : Jvm.MethodName)) ∈ lw_all := lw_g (lw_at lw_m15 39 rfl) rfl
theorem q3486 : (Jvm.Cond.privateMethod ({ cls := "LineRemarksModel", name := "reads", desc := "(I)I" } : Jvm.MethodName)) ∈ lw_tbl := lw_at lw_m15 40 rfl
theorem q3487 : (Jvm.Cond.instanceMethod ({ cls := "LineRemarksModel", name := "reads", desc := "(I)I" } : Jvm.MethodName)) ∈ lw_all := lw_g (lw_at lw_m15 41 rfl) rfl
theorem q3488 : (Jvm.Cond.code ({ cls := "LineRemarksModel", name := "reads", desc := "(I)I" } : Jvm.MethodName) prog_28_method_21_code (10 : Nat) (Option.some Jvm.ClassFile.FieldType.int)) ∈ lw_all := lw_g (lw_at lw_m15 42 rfl) rfl
theorem q3489 : (Jvm.Cond.methodLink "LineRemarksModel" (117 : Nat) ({ cls := "LineRemarksModel", name := "read", desc := "(II)I" } : Jvm.MethodName)) ∈ lw_all := lw_g (lw_at lw_m15 43 rfl) rfl
theorem q3490 : (Jvm.Cond.privateMethod ({ cls := "LineRemarksModel", name := "read", desc := "(II)I" } : Jvm.MethodName)) ∈ lw_tbl := lw_at lw_m15 44 rfl
theorem q3491 : (Jvm.Cond.instanceMethod ({ cls := "LineRemarksModel", name := "read", desc := "(II)I" } : Jvm.MethodName)) ∈ lw_all := lw_g (lw_at lw_m15 45 rfl) rfl
theorem q3492 : (Jvm.Cond.code ({ cls := "LineRemarksModel", name := "read", desc := "(II)I" } : Jvm.MethodName) prog_28_method_20_code (3 : Nat) (Option.some Jvm.ClassFile.FieldType.int)) ∈ lw_all := lw_g (lw_at lw_m15 46 rfl) rfl
theorem q3493 : (Jvm.Cond.methodLink "LineRemarksModel" (130 : Nat) ({ cls := "LineRemarksModel", name := "comesTo", desc := "(I)I" } : Jvm.MethodName)) ∈ lw_all := lw_g (lw_at lw_m15 47 rfl) rfl
theorem q3494 : (Jvm.Cond.privateMethod ({ cls := "LineRemarksModel", name := "comesTo", desc := "(I)I" } : Jvm.MethodName)) ∈ lw_tbl := lw_at lw_m15 48 rfl
theorem q3495 : (Jvm.Cond.instanceMethod ({ cls := "LineRemarksModel", name := "comesTo", desc := "(I)I" } : Jvm.MethodName)) ∈ lw_all := lw_g (lw_at lw_m15 49 rfl) rfl
theorem q3496 : (Jvm.Cond.code ({ cls := "LineRemarksModel", name := "comesTo", desc := "(I)I" } : Jvm.MethodName) prog_28_method_22_code (2 : Nat) (Option.some Jvm.ClassFile.FieldType.int)) ∈ lw_all := lw_g (lw_at lw_m15 50 rfl) rfl
theorem q3497 : (Jvm.Cond.methodLink "LineRemarksModel" (120 : Nat) ({ cls := "LineRemarksModel", name := "learns", desc := "(I)V" } : Jvm.MethodName)) ∈ lw_all := lw_g (lw_at lw_m15 51 rfl) rfl
theorem q3498 : (Jvm.Cond.privateMethod ({ cls := "LineRemarksModel", name := "learns", desc := "(I)V" } : Jvm.MethodName)) ∈ lw_tbl := lw_at lw_m15 52 rfl
theorem q3499 : (Jvm.Cond.instanceMethod ({ cls := "LineRemarksModel", name := "learns", desc := "(I)V" } : Jvm.MethodName)) ∈ lw_all := lw_g (lw_at lw_m15 53 rfl) rfl
theorem q3500 : (Jvm.Cond.code ({ cls := "LineRemarksModel", name := "learns", desc := "(I)V" } : Jvm.MethodName) prog_28_method_34_code (3 : Nat) (Option.none : Option Jvm.ClassFile.FieldType)) ∈ lw_all := lw_g (lw_at lw_m15 54 rfl) rfl
theorem q3501 : (Jvm.Cond.methodLink "LineRemarksModel" (166 : Nat) ({ cls := "LineRemarksModel", name := "places", desc := "(II)V" } : Jvm.MethodName)) ∈ lw_all := lw_g (lw_at lw_m15 55 rfl) rfl
theorem q3502 : (Jvm.Cond.privateMethod ({ cls := "LineRemarksModel", name := "places", desc := "(II)V" } : Jvm.MethodName)) ∈ lw_tbl := lw_at lw_m15 56 rfl
theorem q3503 : (Jvm.Cond.instanceMethod ({ cls := "LineRemarksModel", name := "places", desc := "(II)V" } : Jvm.MethodName)) ∈ lw_all := lw_g (lw_at lw_m15 57 rfl) rfl
theorem q3504 : (Jvm.Cond.code ({ cls := "LineRemarksModel", name := "places", desc := "(II)V" } : Jvm.MethodName) prog_28_method_33_code (4 : Nat) (Option.none : Option Jvm.ClassFile.FieldType)) ∈ lw_all := lw_g (lw_at lw_m15 58 rfl) rfl
theorem q3505 : (Jvm.Cond.methodLink "LineRemarksModel" (160 : Nat) ({ cls := "LineRemarksModel", name := "pairs", desc := "(II)V" } : Jvm.MethodName)) ∈ lw_all := lw_g (lw_at lw_m15 59 rfl) rfl
theorem q3506 : (Jvm.Cond.privateMethod ({ cls := "LineRemarksModel", name := "pairs", desc := "(II)V" } : Jvm.MethodName)) ∈ lw_tbl := lw_at lw_m15 60 rfl
theorem q3507 : (Jvm.Cond.instanceMethod ({ cls := "LineRemarksModel", name := "pairs", desc := "(II)V" } : Jvm.MethodName)) ∈ lw_all := lw_g (lw_at lw_m15 61 rfl) rfl
theorem q3508 : (Jvm.Cond.code ({ cls := "LineRemarksModel", name := "pairs", desc := "(II)V" } : Jvm.MethodName) prog_28_method_30_code (7 : Nat) (Option.none : Option Jvm.ClassFile.FieldType)) ∈ lw_all := lw_g (lw_at lw_m15 62 rfl) rfl
theorem q3509 : (Jvm.Cond.methodLink "LineRemarksModel" (141 : Nat) ({ cls := "LineRemarksModel", name := "isAlike", desc := "(IIII)Z" } : Jvm.MethodName)) ∈ lw_all := lw_g (lw_at lw_m15 63 rfl) rfl
theorem q3510 : (Jvm.Cond.privateMethod ({ cls := "LineRemarksModel", name := "isAlike", desc := "(IIII)Z" } : Jvm.MethodName)) ∈ lw_tbl := lw_at lw_m15 64 rfl
theorem q3511 : (Jvm.Cond.instanceMethod ({ cls := "LineRemarksModel", name := "isAlike", desc := "(IIII)Z" } : Jvm.MethodName)) ∈ lw_all := lw_g (lw_at lw_m15 65 rfl) rfl
theorem q3512 : (Jvm.Cond.code ({ cls := "LineRemarksModel", name := "isAlike", desc := "(IIII)Z" } : Jvm.MethodName) prog_28_method_29_code (5 : Nat) (Option.some Jvm.ClassFile.FieldType.boolean)) ∈ lw_all := lw_g (lw_at lw_m15 66 rfl) rfl
theorem q3513 : (Jvm.Cond.methodLink "LineRemarksModel" (145 : Nat) ({ cls := "java/lang/Math", name := "max", desc := "(II)I" } : Jvm.MethodName)) ∈ lw_all := lw_g (lw_at lw_m15 67 rfl) rfl
theorem q3514 : (Jvm.Cond.methodLink "LineRemarksModel" (163 : Nat) ({ cls := "LineRemarksModel", name := "moves", desc := "(II)Z" } : Jvm.MethodName)) ∈ lw_all := lw_g (lw_at lw_m15 68 rfl) rfl
theorem q3515 : (Jvm.Cond.privateMethod ({ cls := "LineRemarksModel", name := "moves", desc := "(II)Z" } : Jvm.MethodName)) ∈ lw_tbl := lw_at lw_m15 69 rfl
theorem q3516 : (Jvm.Cond.instanceMethod ({ cls := "LineRemarksModel", name := "moves", desc := "(II)Z" } : Jvm.MethodName)) ∈ lw_all := lw_g (lw_at lw_m15 70 rfl) rfl
theorem q3517 : (Jvm.Cond.code ({ cls := "LineRemarksModel", name := "moves", desc := "(II)Z" } : Jvm.MethodName) prog_28_method_32_code (9 : Nat) (Option.some Jvm.ClassFile.FieldType.boolean)) ∈ lw_all := lw_g (lw_at lw_m15 71 rfl) rfl
theorem q3518 : (Jvm.Cond.methodLink "LineRemarksModel" (153 : Nat) ({ cls := "LineRemarksModel", name := "run", desc := "(IIII)I" } : Jvm.MethodName)) ∈ lw_all := lw_g (lw_at lw_m15 72 rfl) rfl
theorem q3519 : (Jvm.Cond.privateMethod ({ cls := "LineRemarksModel", name := "run", desc := "(IIII)I" } : Jvm.MethodName)) ∈ lw_tbl := lw_at lw_m15 73 rfl
theorem q3520 : (Jvm.Cond.instanceMethod ({ cls := "LineRemarksModel", name := "run", desc := "(IIII)I" } : Jvm.MethodName)) ∈ lw_all := lw_g (lw_at lw_m15 74 rfl) rfl
theorem q3521 : (Jvm.Cond.code ({ cls := "LineRemarksModel", name := "run", desc := "(IIII)I" } : Jvm.MethodName) prog_28_method_31_code (6 : Nat) (Option.some Jvm.ClassFile.FieldType.int)) ∈ lw_all := lw_g (lw_at lw_m15 75 rfl) rfl
theorem q3523 : (Jvm.Cond.instanceMethod ({ cls := "LineRemarksModel", name := "fault", desc := "()I" } : Jvm.MethodName)) ∈ lw_all := lw_g (lw_at lw_m15 77 rfl) rfl
theorem q3524 : (Jvm.Cond.selects "LineRemarksModel" ({ cls := "LineRemarksModel", name := "fault", desc := "()I" } : Jvm.MethodName) ({ cls := "LineRemarksModel", name := "fault", desc := "()I" } : Jvm.MethodName)) ∈ lw_all := lw_g (lw_at lw_m15 78 rfl) rfl
theorem q3525 : (Jvm.Cond.code ({ cls := "LineRemarksModel", name := "fault", desc := "()I" } : Jvm.MethodName) prog_28_method_24_code (1 : Nat) (Option.some Jvm.ClassFile.FieldType.int)) ∈ lw_all := lw_g (lw_at lw_m15 79 rfl) rfl
theorem q3527 : (Jvm.Cond.instanceMethod ({ cls := "LineRemarksModel", name := "lines", desc := "(I)I" } : Jvm.MethodName)) ∈ lw_all := lw_g (lw_at lw_m15 81 rfl) rfl
theorem q3528 : (Jvm.Cond.selects "LineRemarksModel" ({ cls := "LineRemarksModel", name := "lines", desc := "(I)I" } : Jvm.MethodName) ({ cls := "LineRemarksModel", name := "lines", desc := "(I)I" } : Jvm.MethodName)) ∈ lw_all := lw_g (lw_at lw_m15 82 rfl) rfl
theorem q3529 : (Jvm.Cond.code ({ cls := "LineRemarksModel", name := "lines", desc := "(I)I" } : Jvm.MethodName) prog_28_method_25_code (2 : Nat) (Option.some Jvm.ClassFile.FieldType.int)) ∈ lw_all := lw_g (lw_at lw_m15 83 rfl) rfl
theorem q3531 : (Jvm.Cond.instanceMethod ({ cls := "LineRemarksModel", name := "letter", desc := "(III)I" } : Jvm.MethodName)) ∈ lw_all := lw_g (lw_at lw_m15 85 rfl) rfl
theorem q3532 : (Jvm.Cond.selects "LineRemarksModel" ({ cls := "LineRemarksModel", name := "letter", desc := "(III)I" } : Jvm.MethodName) ({ cls := "LineRemarksModel", name := "letter", desc := "(III)I" } : Jvm.MethodName)) ∈ lw_all := lw_g (lw_at lw_m15 86 rfl) rfl
theorem q3533 : (Jvm.Cond.code ({ cls := "LineRemarksModel", name := "letter", desc := "(III)I" } : Jvm.MethodName) prog_28_method_26_code (4 : Nat) (Option.some Jvm.ClassFile.FieldType.int)) ∈ lw_all := lw_g (lw_at lw_m15 87 rfl) rfl
theorem q3534 : (Jvm.Cond.methodLink "LineRemarksModel" (133 : Nat) ({ cls := "LineRemarksModel", name := "isLine", desc := "(II)Z" } : Jvm.MethodName)) ∈ lw_all := lw_g (lw_at lw_m15 88 rfl) rfl
theorem q3535 : (Jvm.Cond.privateMethod ({ cls := "LineRemarksModel", name := "isLine", desc := "(II)Z" } : Jvm.MethodName)) ∈ lw_tbl := lw_at lw_m15 89 rfl
theorem q3536 : (Jvm.Cond.instanceMethod ({ cls := "LineRemarksModel", name := "isLine", desc := "(II)Z" } : Jvm.MethodName)) ∈ lw_all := lw_g (lw_at lw_m15 90 rfl) rfl
theorem q3537 : (Jvm.Cond.code ({ cls := "LineRemarksModel", name := "isLine", desc := "(II)Z" } : Jvm.MethodName) prog_28_method_7_code (3 : Nat) (Option.some Jvm.ClassFile.FieldType.boolean)) ∈ lw_all := lw_g (lw_at lw_m15 91 rfl) rfl
theorem q3538 : (Jvm.Cond.constantLong "LineRemarksModel" (136 : Nat) (255 : Int64)) ∈ lw_all := lw_g (lw_at lw_m15 92 rfl) rfl
theorem q3540 : (Jvm.Cond.instanceMethod ({ cls := "LineRemarksModel", name := "former", desc := "(I)I" } : Jvm.MethodName)) ∈ lw_all := lw_g (lw_at lw_m15 94 rfl) rfl
theorem q3541 : (Jvm.Cond.selects "LineRemarksModel" ({ cls := "LineRemarksModel", name := "former", desc := "(I)I" } : Jvm.MethodName) ({ cls := "LineRemarksModel", name := "former", desc := "(I)I" } : Jvm.MethodName)) ∈ lw_all := lw_g (lw_at lw_m15 95 rfl) rfl
theorem q3542 : (Jvm.Cond.code ({ cls := "LineRemarksModel", name := "former", desc := "(I)I" } : Jvm.MethodName) prog_28_method_27_code (2 : Nat) (Option.some Jvm.ClassFile.FieldType.int)) ∈ lw_all := lw_g (lw_at lw_m15 96 rfl) rfl
theorem q3543 : (Jvm.Cond.methodLink "LineRemarksModel" (138 : Nat) ({ cls := "LineRemarksModel", name := "no10", desc := "(I)I" } : Jvm.MethodName)) ∈ lw_all := lw_g (lw_at lw_m15 97 rfl) rfl
theorem q3544 : (Jvm.Cond.privateMethod ({ cls := "LineRemarksModel", name := "no10", desc := "(I)I" } : Jvm.MethodName)) ∈ lw_tbl := lw_at lw_m15 98 rfl
theorem q3545 : (Jvm.Cond.instanceMethod ({ cls := "LineRemarksModel", name := "no10", desc := "(I)I" } : Jvm.MethodName)) ∈ lw_all := lw_g (lw_at lw_m15 99 rfl) rfl
theorem q3546 : (Jvm.Cond.code ({ cls := "LineRemarksModel", name := "no10", desc := "(I)I" } : Jvm.MethodName) prog_28_method_3_code (2 : Nat) (Option.some Jvm.ClassFile.FieldType.int)) ∈ lw_all := lw_g (lw_at lw_m15 100 rfl) rfl
theorem q3548 : (Jvm.Cond.instanceMethod ({ cls := "LineRemarksModel", name := "rule", desc := "(II)I" } : Jvm.MethodName)) ∈ lw_all := lw_g (lw_at lw_m15 102 rfl) rfl
theorem q3549 : (Jvm.Cond.selects "LineRemarksModel" ({ cls := "LineRemarksModel", name := "rule", desc := "(II)I" } : Jvm.MethodName) ({ cls := "LineRemarksModel", name := "rule", desc := "(II)I" } : Jvm.MethodName)) ∈ lw_all := lw_g (lw_at lw_m15 103 rfl) rfl
theorem q3550 : (Jvm.Cond.code ({ cls := "LineRemarksModel", name := "rule", desc := "(II)I" } : Jvm.MethodName) prog_28_method_28_code (5 : Nat) (Option.some Jvm.ClassFile.FieldType.int)) ∈ lw_all := lw_g (lw_at lw_m15 104 rfl) rfl
theorem q3552 : (Jvm.Cond.instanceMethod ({ cls := "LineRemarksModel", name := "place", desc := "(III)I" } : Jvm.MethodName)) ∈ lw_all := lw_g (lw_at lw_m15 106 rfl) rfl
theorem q3553 : (Jvm.Cond.selects "LineRemarksModel" ({ cls := "LineRemarksModel", name := "place", desc := "(III)I" } : Jvm.MethodName) ({ cls := "LineRemarksModel", name := "place", desc := "(III)I" } : Jvm.MethodName)) ∈ lw_all := lw_g (lw_at lw_m15 107 rfl) rfl
theorem q3554 : (Jvm.Cond.code ({ cls := "LineRemarksModel", name := "place", desc := "(III)I" } : Jvm.MethodName) prog_28_method_35_code (4 : Nat) (Option.some Jvm.ClassFile.FieldType.int)) ∈ lw_all := lw_g (lw_at lw_m15 108 rfl) rfl
theorem q3556 : (Jvm.Cond.instanceMethod ({ cls := "LineRemarksModel", name := "matched", desc := "(III)I" } : Jvm.MethodName)) ∈ lw_all := lw_g (lw_at lw_m15 110 rfl) rfl
theorem q3557 : (Jvm.Cond.selects "LineRemarksModel" ({ cls := "LineRemarksModel", name := "matched", desc := "(III)I" } : Jvm.MethodName) ({ cls := "LineRemarksModel", name := "matched", desc := "(III)I" } : Jvm.MethodName)) ∈ lw_all := lw_g (lw_at lw_m15 111 rfl) rfl
theorem q3558 : (Jvm.Cond.code ({ cls := "LineRemarksModel", name := "matched", desc := "(III)I" } : Jvm.MethodName) prog_28_method_36_code (4 : Nat) (Option.some Jvm.ClassFile.FieldType.int)) ∈ lw_all := lw_g (lw_at lw_m15 112 rfl) rfl
theorem q3560 : (Jvm.Cond.instanceMethod ({ cls := "LineRemarksModel", name := "through", desc := "(III)I" } : Jvm.MethodName)) ∈ lw_all := lw_g (lw_at lw_m15 114 rfl) rfl
theorem q3561 : (Jvm.Cond.selects "LineRemarksModel" ({ cls := "LineRemarksModel", name := "through", desc := "(III)I" } : Jvm.MethodName) ({ cls := "LineRemarksModel", name := "through", desc := "(III)I" } : Jvm.MethodName)) ∈ lw_all := lw_g (lw_at lw_m15 115 rfl) rfl
theorem q3562 : (Jvm.Cond.code ({ cls := "LineRemarksModel", name := "through", desc := "(III)I" } : Jvm.MethodName) prog_28_method_38_code (7 : Nat) (Option.some Jvm.ClassFile.FieldType.int)) ∈ lw_all := lw_g (lw_at lw_m15 116 rfl) rfl
theorem q3563 : (Jvm.Cond.methodLink "LineRemarksModel" (169 : Nat) ({ cls := "LineRemarksModel", name := "behind", desc := "(II)I" } : Jvm.MethodName)) ∈ lw_all := lw_g (lw_at lw_m15 117 rfl) rfl
theorem q3564 : (Jvm.Cond.privateMethod ({ cls := "LineRemarksModel", name := "behind", desc := "(II)I" } : Jvm.MethodName)) ∈ lw_tbl := lw_at lw_m15 118 rfl
theorem q3565 : (Jvm.Cond.instanceMethod ({ cls := "LineRemarksModel", name := "behind", desc := "(II)I" } : Jvm.MethodName)) ∈ lw_all := lw_g (lw_at lw_m15 119 rfl) rfl
theorem q3566 : (Jvm.Cond.code ({ cls := "LineRemarksModel", name := "behind", desc := "(II)I" } : Jvm.MethodName) prog_28_method_37_code (5 : Nat) (Option.some Jvm.ClassFile.FieldType.int)) ∈ lw_all := lw_g (lw_at lw_m15 120 rfl) rfl
theorem q3568 : (Jvm.Cond.instanceMethod ({ cls := "LineRemarksModel", name := "origin", desc := "(III)I" } : Jvm.MethodName)) ∈ lw_all := lw_g (lw_at lw_m15 122 rfl) rfl
theorem q3569 : (Jvm.Cond.selects "LineRemarksModel" ({ cls := "LineRemarksModel", name := "origin", desc := "(III)I" } : Jvm.MethodName) ({ cls := "LineRemarksModel", name := "origin", desc := "(III)I" } : Jvm.MethodName)) ∈ lw_all := lw_g (lw_at lw_m15 123 rfl) rfl
theorem q3570 : (Jvm.Cond.code ({ cls := "LineRemarksModel", name := "origin", desc := "(III)I" } : Jvm.MethodName) prog_28_method_40_code (7 : Nat) (Option.some Jvm.ClassFile.FieldType.int)) ∈ lw_all := lw_g (lw_at lw_m15 124 rfl) rfl
theorem q3571 : (Jvm.Cond.methodLink "LineRemarksModel" (172 : Nat) ({ cls := "LineRemarksModel", name := "comesFrom", desc := "(II)I" } : Jvm.MethodName)) ∈ lw_all := lw_g (lw_at lw_m15 125 rfl) rfl
theorem q3572 : (Jvm.Cond.privateMethod ({ cls := "LineRemarksModel", name := "comesFrom", desc := "(II)I" } : Jvm.MethodName)) ∈ lw_tbl := lw_at lw_m15 126 rfl
theorem q3573 : (Jvm.Cond.instanceMethod ({ cls := "LineRemarksModel", name := "comesFrom", desc := "(II)I" } : Jvm.MethodName)) ∈ lw_all := lw_g (lw_at lw_m15 127 rfl) rfl
theorem q3574 : (Jvm.Cond.code ({ cls := "LineRemarksModel", name := "comesFrom", desc := "(II)I" } : Jvm.MethodName) prog_28_method_39_code (4 : Nat) (Option.some Jvm.ClassFile.FieldType.int)) ∈ lw_all := lw_g (lw_at lw_m15 128 rfl) rfl
theorem q3576 : (Jvm.Cond.instanceMethod ({ cls := "LineRemarksModel", name := "remark", desc := "(IIIIII)I" } : Jvm.MethodName)) ∈ lw_all := lw_g (lw_at lw_m15 130 rfl) rfl
theorem q3577 : (Jvm.Cond.selects "LineRemarksModel" ({ cls := "LineRemarksModel", name := "remark", desc := "(IIIIII)I" } : Jvm.MethodName) ({ cls := "LineRemarksModel", name := "remark", desc := "(IIIIII)I" } : Jvm.MethodName)) ∈ lw_all := lw_g (lw_at lw_m15 131 rfl) rfl
theorem q3578 : (Jvm.Cond.code ({ cls := "LineRemarksModel", name := "remark", desc := "(IIIIII)I" } : Jvm.MethodName) prog_28_method_42_code (7 : Nat) (Option.some Jvm.ClassFile.FieldType.int)) ∈ lw_all := lw_g (lw_at lw_m15 132 rfl) rfl
theorem q3579 : (Jvm.Cond.methodLink "LineRemarksModel" (175 : Nat) ({ cls := "LineRemarksModel", name := "newRemark", desc := "(IIIIII)I" } : Jvm.MethodName)) ∈ lw_all := lw_g (lw_at lw_m15 133 rfl) rfl
theorem q3580 : (Jvm.Cond.privateMethod ({ cls := "LineRemarksModel", name := "newRemark", desc := "(IIIIII)I" } : Jvm.MethodName)) ∈ lw_tbl := lw_at lw_m15 134 rfl
theorem q3581 : (Jvm.Cond.instanceMethod ({ cls := "LineRemarksModel", name := "newRemark", desc := "(IIIIII)I" } : Jvm.MethodName)) ∈ lw_all := lw_g (lw_at lw_m15 135 rfl) rfl
theorem q3582 : (Jvm.Cond.code ({ cls := "LineRemarksModel", name := "newRemark", desc := "(IIIIII)I" } : Jvm.MethodName) prog_28_method_41_code (7 : Nat) (Option.some Jvm.ClassFile.FieldType.int)) ∈ lw_all := lw_g (lw_at lw_m15 136 rfl) rfl
theorem q3584 : (Jvm.Cond.instanceMethod ({ cls := "LineRemarksModel", name := "remarkOf", desc := "(II)I" } : Jvm.MethodName)) ∈ lw_all := lw_g (lw_at lw_m15 138 rfl) rfl
theorem q3585 : (Jvm.Cond.selects "LineRemarksModel" ({ cls := "LineRemarksModel", name := "remarkOf", desc := "(II)I" } : Jvm.MethodName) ({ cls := "LineRemarksModel", name := "remarkOf", desc := "(II)I" } : Jvm.MethodName)) ∈ lw_all := lw_g (lw_at lw_m15 139 rfl) rfl
theorem q3586 : (Jvm.Cond.code ({ cls := "LineRemarksModel", name := "remarkOf", desc := "(II)I" } : Jvm.MethodName) prog_28_method_47_code (3 : Nat) (Option.some Jvm.ClassFile.FieldType.int)) ∈ lw_all := lw_g (lw_at lw_m15 140 rfl) rfl
theorem q3587 : (Jvm.Cond.methodLink "LineRemarksModel" (182 : Nat) ({ cls := "LineRemarksModel", name := "depth", desc := "(I)I" } : Jvm.MethodName)) ∈ lw_all := lw_g (lw_at lw_m15 141 rfl) rfl
theorem q3588 : (Jvm.Cond.privateMethod ({ cls := "LineRemarksModel", name := "depth", desc := "(I)I" } : Jvm.MethodName)) ∈ lw_tbl := lw_at lw_m15 142 rfl
theorem q3589 : (Jvm.Cond.instanceMethod ({ cls := "LineRemarksModel", name := "depth", desc := "(I)I" } : Jvm.MethodName)) ∈ lw_all := lw_g (lw_at lw_m15 143 rfl) rfl
theorem q3590 : (Jvm.Cond.code ({ cls := "LineRemarksModel", name := "depth", desc := "(I)I" } : Jvm.MethodName) prog_28_method_43_code (4 : Nat) (Option.some Jvm.ClassFile.FieldType.int)) ∈ lw_all := lw_g (lw_at lw_m15 144 rfl) rfl
theorem q3591 : (Jvm.Cond.methodLink "LineRemarksModel" (185 : Nat) ({ cls := "LineRemarksModel", name := "thread", desc := "(I)I" } : Jvm.MethodName)) ∈ lw_all := lw_g (lw_at lw_m15 145 rfl) rfl
theorem q3592 : (Jvm.Cond.privateMethod ({ cls := "LineRemarksModel", name := "thread", desc := "(I)I" } : Jvm.MethodName)) ∈ lw_tbl := lw_at lw_m15 146 rfl
theorem q3593 : (Jvm.Cond.instanceMethod ({ cls := "LineRemarksModel", name := "thread", desc := "(I)I" } : Jvm.MethodName)) ∈ lw_all := lw_g (lw_at lw_m15 147 rfl) rfl
theorem q3594 : (Jvm.Cond.code ({ cls := "LineRemarksModel", name := "thread", desc := "(I)I" } : Jvm.MethodName) prog_28_method_45_code (4 : Nat) (Option.some Jvm.ClassFile.FieldType.int)) ∈ lw_all := lw_g (lw_at lw_m15 148 rfl) rfl
theorem q3595 : (Jvm.Cond.methodLink "LineRemarksModel" (179 : Nat) ({ cls := "LineRemarksModel", name := "isIn", desc := "(II)Z" } : Jvm.MethodName)) ∈ lw_all := lw_g (lw_at lw_m15 149 rfl) rfl
theorem q3596 : (Jvm.Cond.privateMethod ({ cls := "LineRemarksModel", name := "isIn", desc := "(II)Z" } : Jvm.MethodName)) ∈ lw_tbl := lw_at lw_m15 150 rfl
theorem q3597 : (Jvm.Cond.instanceMethod ({ cls := "LineRemarksModel", name := "isIn", desc := "(II)Z" } : Jvm.MethodName)) ∈ lw_all := lw_g (lw_at lw_m15 151 rfl) rfl
theorem q3598 : (Jvm.Cond.code ({ cls := "LineRemarksModel", name := "isIn", desc := "(II)Z" } : Jvm.MethodName) prog_28_method_44_code (4 : Nat) (Option.some Jvm.ClassFile.FieldType.boolean)) ∈ lw_all := lw_g (lw_at lw_m15 152 rfl) rfl
theorem q3599 : (Jvm.Cond.methodLink "LineRemarksModel" (188 : Nat) ({ cls := "LineRemarksModel", name := "isOpen", desc := "(I)Z" } : Jvm.MethodName)) ∈ lw_all := lw_g (lw_at lw_m15 153 rfl) rfl
theorem q3600 : (Jvm.Cond.privateMethod ({ cls := "LineRemarksModel", name := "isOpen", desc := "(I)Z" } : Jvm.MethodName)) ∈ lw_tbl := lw_at lw_m15 154 rfl
theorem q3601 : (Jvm.Cond.instanceMethod ({ cls := "LineRemarksModel", name := "isOpen", desc := "(I)Z" } : Jvm.MethodName)) ∈ lw_all := lw_g (lw_at lw_m15 155 rfl) rfl
theorem q3602 : (Jvm.Cond.code ({ cls := "LineRemarksModel", name := "isOpen", desc := "(I)Z" } : Jvm.MethodName) prog_28_method_46_code (3 : Nat) (Option.some Jvm.ClassFile.FieldType.boolean)) ∈ lw_all := lw_g (lw_at lw_m15 156 rfl) rfl
theorem q3604 : (Jvm.Cond.instanceMethod ({ cls := "LineRemarksModel", name := "settle", desc := "(IZ)I" } : Jvm.MethodName)) ∈ lw_all := lw_g (lw_at lw_m15 158 rfl) rfl
theorem q3605 : (Jvm.Cond.selects "LineRemarksModel" ({ cls := "LineRemarksModel", name := "settle", desc := "(IZ)I" } : Jvm.MethodName) ({ cls := "LineRemarksModel", name := "settle", desc := "(IZ)I" } : Jvm.MethodName)) ∈ lw_all := lw_g (lw_at lw_m15 159 rfl) rfl
theorem q3606 : (Jvm.Cond.code ({ cls := "LineRemarksModel", name := "settle", desc := "(IZ)I" } : Jvm.MethodName) prog_28_method_48_code (4 : Nat) (Option.some Jvm.ClassFile.FieldType.int)) ∈ lw_all := lw_g (lw_at lw_m15 160 rfl) rfl
theorem q3608 : (Jvm.Cond.instanceMethod ({ cls := "LineRemarksModel", name := "put", desc := "(III)I" } : Jvm.MethodName)) ∈ lw_all := lw_g (lw_at lw_m15 162 rfl) rfl
theorem q3609 : (Jvm.Cond.selects "LineRemarksModel" ({ cls := "LineRemarksModel", name := "put", desc := "(III)I" } : Jvm.MethodName) ({ cls := "LineRemarksModel", name := "put", desc := "(III)I" } : Jvm.MethodName)) ∈ lw_all := lw_g (lw_at lw_m15 163 rfl) rfl
theorem q3610 : (Jvm.Cond.code ({ cls := "LineRemarksModel", name := "put", desc := "(III)I" } : Jvm.MethodName) prog_28_method_57_code (4 : Nat) (Option.some Jvm.ClassFile.FieldType.int)) ∈ lw_all := lw_g (lw_at lw_m15 164 rfl) rfl
theorem q3611 : (Jvm.Cond.methodLink "LineRemarksModel" (245 : Nat) ({ cls := "LineRemarksModel", name := "puts", desc := "(IIII)Z" } : Jvm.MethodName)) ∈ lw_all := lw_g (lw_at lw_m15 165 rfl) rfl
theorem q3612 : (Jvm.Cond.privateMethod ({ cls := "LineRemarksModel", name := "puts", desc := "(IIII)Z" } : Jvm.MethodName)) ∈ lw_tbl := lw_at lw_m15 166 rfl
theorem q3613 : (Jvm.Cond.instanceMethod ({ cls := "LineRemarksModel", name := "puts", desc := "(IIII)Z" } : Jvm.MethodName)) ∈ lw_all := lw_g (lw_at lw_m15 167 rfl) rfl
theorem q3614 : (Jvm.Cond.code ({ cls := "LineRemarksModel", name := "puts", desc := "(IIII)Z" } : Jvm.MethodName) prog_28_method_56_code (7 : Nat) (Option.some Jvm.ClassFile.FieldType.boolean)) ∈ lw_all := lw_g (lw_at lw_m15 168 rfl) rfl
theorem q3615 : (Jvm.Cond.methodLink "LineRemarksModel" (241 : Nat) ({ cls := "LineRemarksModel", name := "steps", desc := "(III)V" } : Jvm.MethodName)) ∈ lw_all := lw_g (lw_at lw_m15 169 rfl) rfl
theorem q3616 : (Jvm.Cond.privateMethod ({ cls := "LineRemarksModel", name := "steps", desc := "(III)V" } : Jvm.MethodName)) ∈ lw_tbl := lw_at lw_m15 170 rfl
theorem q3617 : (Jvm.Cond.instanceMethod ({ cls := "LineRemarksModel", name := "steps", desc := "(III)V" } : Jvm.MethodName)) ∈ lw_all := lw_g (lw_at lw_m15 171 rfl) rfl
theorem q3618 : (Jvm.Cond.code ({ cls := "LineRemarksModel", name := "steps", desc := "(III)V" } : Jvm.MethodName) prog_28_method_55_code (4 : Nat) (Option.none : Option Jvm.ClassFile.FieldType)) ∈ lw_all := lw_g (lw_at lw_m15 172 rfl) rfl
theorem q3619 : (Jvm.Cond.methodLink "LineRemarksModel" (235 : Nat) ({ cls := "LineRemarksModel", name := "goesTo", desc := "(III)Z" } : Jvm.MethodName)) ∈ lw_all := lw_g (lw_at lw_m15 173 rfl) rfl
theorem q3620 : (Jvm.Cond.privateMethod ({ cls := "LineRemarksModel", name := "goesTo", desc := "(III)Z" } : Jvm.MethodName)) ∈ lw_tbl := lw_at lw_m15 174 rfl
theorem q3621 : (Jvm.Cond.instanceMethod ({ cls := "LineRemarksModel", name := "goesTo", desc := "(III)Z" } : Jvm.MethodName)) ∈ lw_all := lw_g (lw_at lw_m15 175 rfl) rfl
theorem q3622 : (Jvm.Cond.code ({ cls := "LineRemarksModel", name := "goesTo", desc := "(III)Z" } : Jvm.MethodName) prog_28_method_51_code (6 : Nat) (Option.some Jvm.ClassFile.FieldType.boolean)) ∈ lw_all := lw_g (lw_at lw_m15 176 rfl) rfl
theorem q3623 : (Jvm.Cond.methodLink "LineRemarksModel" (200 : Nat) ({ cls := "LineRemarksModel", name := "followsAsPoint", desc := "(IZ)Z" } : Jvm.MethodName)) ∈ lw_all := lw_g (lw_at lw_m15 177 rfl) rfl
theorem q3624 : (Jvm.Cond.privateMethod ({ cls := "LineRemarksModel", name := "followsAsPoint", desc := "(IZ)Z" } : Jvm.MethodName)) ∈ lw_tbl := lw_at lw_m15 178 rfl
theorem q3625 : (Jvm.Cond.instanceMethod ({ cls := "LineRemarksModel", name := "followsAsPoint", desc := "(IZ)Z" } : Jvm.MethodName)) ∈ lw_all := lw_g (lw_at lw_m15 179 rfl) rfl
theorem q3626 : (Jvm.Cond.code ({ cls := "LineRemarksModel", name := "followsAsPoint", desc := "(IZ)Z" } : Jvm.MethodName) prog_28_method_50_code (4 : Nat) (Option.some Jvm.ClassFile.FieldType.boolean)) ∈ lw_all := lw_g (lw_at lw_m15 180 rfl) rfl
theorem q3627 : (Jvm.Cond.methodLink "LineRemarksModel" (204 : Nat) ({ cls := "LineRemarksModel", name := "follows", desc := "(I)I" } : Jvm.MethodName)) ∈ lw_all := lw_g (lw_at lw_m15 181 rfl) rfl
theorem q3628 : (Jvm.Cond.privateMethod ({ cls := "LineRemarksModel", name := "follows", desc := "(I)I" } : Jvm.MethodName)) ∈ lw_tbl := lw_at lw_m15 182 rfl
theorem q3629 : (Jvm.Cond.instanceMethod ({ cls := "LineRemarksModel", name := "follows", desc := "(I)I" } : Jvm.MethodName)) ∈ lw_all := lw_g (lw_at lw_m15 183 rfl) rfl
theorem q3630 : (Jvm.Cond.code ({ cls := "LineRemarksModel", name := "follows", desc := "(I)I" } : Jvm.MethodName) prog_28_method_49_code (7 : Nat) (Option.some Jvm.ClassFile.FieldType.int)) ∈ lw_all := lw_g (lw_at lw_m15 184 rfl) rfl
theorem q3631 : (Jvm.Cond.methodLink "LineRemarksModel" (197 : Nat) ({ cls := "java/lang/Math", name := "min", desc := "(II)I" } : Jvm.MethodName)) ∈ lw_all := lw_g (lw_at lw_m15 185 rfl) rfl
theorem q3632 : (Jvm.Cond.methodLink "LineRemarksModel" (238 : Nat) ({ cls := "LineRemarksModel", name := "looks", desc := "(I)V" } : Jvm.MethodName)) ∈ lw_all := lw_g (lw_at lw_m15 186 rfl) rfl
theorem q3633 : (Jvm.Cond.privateMethod ({ cls := "LineRemarksModel", name := "looks", desc := "(I)V" } : Jvm.MethodName)) ∈ lw_tbl := lw_at lw_m15 187 rfl
theorem q3634 : (Jvm.Cond.instanceMethod ({ cls := "LineRemarksModel", name := "looks", desc := "(I)V" } : Jvm.MethodName)) ∈ lw_all := lw_g (lw_at lw_m15 188 rfl) rfl
theorem q3635 : (Jvm.Cond.code ({ cls := "LineRemarksModel", name := "looks", desc := "(I)V" } : Jvm.MethodName) prog_28_method_54_code (4 : Nat) (Option.none : Option Jvm.ClassFile.FieldType)) ∈ lw_all := lw_g (lw_at lw_m15 189 rfl) rfl
theorem q3636 : (Jvm.Cond.methodLink "LineRemarksModel" (222 : Nat) ({ cls := "LineRemarksModel", name := "placesOn", desc := "(I)I" } : Jvm.MethodName)) ∈ lw_all := lw_g (lw_at lw_m15 190 rfl) rfl
theorem q3637 : (Jvm.Cond.privateMethod ({ cls := "LineRemarksModel", name := "placesOn", desc := "(I)I" } : Jvm.MethodName)) ∈ lw_tbl := lw_at lw_m15 191 rfl
theorem q3638 : (Jvm.Cond.instanceMethod ({ cls := "LineRemarksModel", name := "placesOn", desc := "(I)I" } : Jvm.MethodName)) ∈ lw_all := lw_g (lw_at lw_m15 192 rfl) rfl
theorem q3639 : (Jvm.Cond.code ({ cls := "LineRemarksModel", name := "placesOn", desc := "(I)I" } : Jvm.MethodName) prog_28_method_53_code (2 : Nat) (Option.some Jvm.ClassFile.FieldType.int)) ∈ lw_all := lw_g (lw_at lw_m15 193 rfl) rfl
theorem q3640 : (Jvm.Cond.methodLink "LineRemarksModel" (225 : Nat) ({ cls := "LineRemarksModel", name := "score", desc := "(II)I" } : Jvm.MethodName)) ∈ lw_all := lw_g (lw_at lw_m15 194 rfl) rfl
theorem q3641 : (Jvm.Cond.privateMethod ({ cls := "LineRemarksModel", name := "score", desc := "(II)I" } : Jvm.MethodName)) ∈ lw_tbl := lw_at lw_m15 195 rfl
theorem q3642 : (Jvm.Cond.instanceMethod ({ cls := "LineRemarksModel", name := "score", desc := "(II)I" } : Jvm.MethodName)) ∈ lw_all := lw_g (lw_at lw_m15 196 rfl) rfl
theorem q3643 : (Jvm.Cond.code ({ cls := "LineRemarksModel", name := "score", desc := "(II)I" } : Jvm.MethodName) prog_28_method_52_code (7 : Nat) (Option.some Jvm.ClassFile.FieldType.int)) ∈ lw_all := lw_g (lw_at lw_m15 197 rfl) rfl
theorem q3645 : (Jvm.Cond.instanceMethod ({ cls := "LineRemarksModel", name := "score", desc := "(III)I" } : Jvm.MethodName)) ∈ lw_all := lw_g (lw_at lw_m15 199 rfl) rfl
theorem q3646 : (Jvm.Cond.selects "LineRemarksModel" ({ cls := "LineRemarksModel", name := "score", desc := "(III)I" } : Jvm.MethodName) ({ cls := "LineRemarksModel", name := "score", desc := "(III)I" } : Jvm.MethodName)) ∈ lw_all := lw_g (lw_at lw_m15 200 rfl) rfl
theorem q3647 : (Jvm.Cond.code ({ cls := "LineRemarksModel", name := "score", desc := "(III)I" } : Jvm.MethodName) prog_28_method_58_code (4 : Nat) (Option.some Jvm.ClassFile.FieldType.int)) ∈ lw_all := lw_g (lw_at lw_m15 201 rfl) rfl
theorem q3649 : (Jvm.Cond.instanceMethod ({ cls := "LineRemarksModel", name := "leastNeed", desc := "(II)I" } : Jvm.MethodName)) ∈ lw_all := lw_g (lw_at lw_m15 203 rfl) rfl
theorem q3650 : (Jvm.Cond.selects "LineRemarksModel" ({ cls := "LineRemarksModel", name := "leastNeed", desc := "(II)I" } : Jvm.MethodName) ({ cls := "LineRemarksModel", name := "leastNeed", desc := "(II)I" } : Jvm.MethodName)) ∈ lw_all := lw_g (lw_at lw_m15 204 rfl) rfl
theorem q3651 : (Jvm.Cond.code ({ cls := "LineRemarksModel", name := "leastNeed", desc := "(II)I" } : Jvm.MethodName) prog_28_method_59_code (3 : Nat) (Option.some Jvm.ClassFile.FieldType.int)) ∈ lw_all := lw_g (lw_at lw_m15 205 rfl) rfl
theorem q3653 : (Jvm.Cond.instanceMethod ({ cls := "LineRemarksModel", name := "fitting", desc := "(II)I" } : Jvm.MethodName)) ∈ lw_all := lw_g (lw_at lw_m15 207 rfl) rfl
theorem q3654 : (Jvm.Cond.selects "LineRemarksModel" ({ cls := "LineRemarksModel", name := "fitting", desc := "(II)I" } : Jvm.MethodName) ({ cls := "LineRemarksModel", name := "fitting", desc := "(II)I" } : Jvm.MethodName)) ∈ lw_all := lw_g (lw_at lw_m15 208 rfl) rfl
theorem q3655 : (Jvm.Cond.code ({ cls := "LineRemarksModel", name := "fitting", desc := "(II)I" } : Jvm.MethodName) prog_28_method_60_code (5 : Nat) (Option.some Jvm.ClassFile.FieldType.int)) ∈ lw_all := lw_g (lw_at lw_m15 209 rfl) rfl
theorem q3657 : (Jvm.Cond.instanceMethod ({ cls := "LineRemarksModel", name := "inOrder", desc := "(II)I" } : Jvm.MethodName)) ∈ lw_all := lw_g (lw_at lw_m15 211 rfl) rfl
theorem q3658 : (Jvm.Cond.selects "LineRemarksModel" ({ cls := "LineRemarksModel", name := "inOrder", desc := "(II)I" } : Jvm.MethodName) ({ cls := "LineRemarksModel", name := "inOrder", desc := "(II)I" } : Jvm.MethodName)) ∈ lw_all := lw_g (lw_at lw_m15 212 rfl) rfl
theorem q3659 : (Jvm.Cond.code ({ cls := "LineRemarksModel", name := "inOrder", desc := "(II)I" } : Jvm.MethodName) prog_28_method_62_code (6 : Nat) (Option.some Jvm.ClassFile.FieldType.int)) ∈ lw_all := lw_g (lw_at lw_m15 213 rfl) rfl
theorem q3660 : (Jvm.Cond.methodLink "LineRemarksModel" (248 : Nat) ({ cls := "LineRemarksModel", name := "isPut", desc := "(II)Z" } : Jvm.MethodName)) ∈ lw_all := lw_g (lw_at lw_m15 214 rfl) rfl
theorem q3661 : (Jvm.Cond.privateMethod ({ cls := "LineRemarksModel", name := "isPut", desc := "(II)Z" } : Jvm.MethodName)) ∈ lw_tbl := lw_at lw_m15 215 rfl
theorem q3662 : (Jvm.Cond.instanceMethod ({ cls := "LineRemarksModel", name := "isPut", desc := "(II)Z" } : Jvm.MethodName)) ∈ lw_all := lw_g (lw_at lw_m15 216 rfl) rfl
theorem q3663 : (Jvm.Cond.code ({ cls := "LineRemarksModel", name := "isPut", desc := "(II)Z" } : Jvm.MethodName) prog_28_method_61_code (3 : Nat) (Option.some Jvm.ClassFile.FieldType.boolean)) ∈ lw_all := lw_g (lw_at lw_m15 217 rfl) rfl
theorem q3665 : (Jvm.Cond.instanceMethod ({ cls := "LineRemarksModel", name := "who", desc := "(II)I" } : Jvm.MethodName)) ∈ lw_all := lw_g (lw_at lw_m15 219 rfl) rfl
theorem q3666 : (Jvm.Cond.selects "LineRemarksModel" ({ cls := "LineRemarksModel", name := "who", desc := "(II)I" } : Jvm.MethodName) ({ cls := "LineRemarksModel", name := "who", desc := "(II)I" } : Jvm.MethodName)) ∈ lw_all := lw_g (lw_at lw_m15 220 rfl) rfl
theorem q3667 : (Jvm.Cond.code ({ cls := "LineRemarksModel", name := "who", desc := "(II)I" } : Jvm.MethodName) prog_28_method_64_code (5 : Nat) (Option.some Jvm.ClassFile.FieldType.int)) ∈ lw_all := lw_g (lw_at lw_m15 221 rfl) rfl
theorem q3668 : (Jvm.Cond.methodLink "LineRemarksModel" (251 : Nat) ({ cls := "LineRemarksModel", name := "heat", desc := "(I)I" } : Jvm.MethodName)) ∈ lw_all := lw_g (lw_at lw_m15 222 rfl) rfl
theorem q3669 : (Jvm.Cond.privateMethod ({ cls := "LineRemarksModel", name := "heat", desc := "(I)I" } : Jvm.MethodName)) ∈ lw_tbl := lw_at lw_m15 223 rfl
theorem q3670 : (Jvm.Cond.instanceMethod ({ cls := "LineRemarksModel", name := "heat", desc := "(I)I" } : Jvm.MethodName)) ∈ lw_all := lw_g (lw_at lw_m15 224 rfl) rfl
theorem q3671 : (Jvm.Cond.code ({ cls := "LineRemarksModel", name := "heat", desc := "(I)I" } : Jvm.MethodName) prog_28_method_63_code (4 : Nat) (Option.some Jvm.ClassFile.FieldType.int)) ∈ lw_all := lw_g (lw_at lw_m15 225 rfl) rfl
theorem q3673 : (Jvm.Cond.instanceMethod ({ cls := "LineRemarksModel", name := "covered", desc := "(I)I" } : Jvm.MethodName)) ∈ lw_all := lw_g (lw_at lw_m15 227 rfl) rfl
theorem q3674 : (Jvm.Cond.selects "LineRemarksModel" ({ cls := "LineRemarksModel", name := "covered", desc := "(I)I" } : Jvm.MethodName) ({ cls := "LineRemarksModel", name := "covered", desc := "(I)I" } : Jvm.MethodName)) ∈ lw_all := lw_g (lw_at lw_m15 228 rfl) rfl
theorem q3675 : (Jvm.Cond.code ({ cls := "LineRemarksModel", name := "covered", desc := "(I)I" } : Jvm.MethodName) prog_28_method_65_code (5 : Nat) (Option.some Jvm.ClassFile.FieldType.int)) ∈ lw_all := lw_g (lw_at lw_m15 229 rfl) rfl
theorem q3677 : (Jvm.Cond.instanceMethod ({ cls := "LineRemarksModel", name := "judge", desc := "(III)I" } : Jvm.MethodName)) ∈ lw_all := lw_g (lw_at lw_m15 231 rfl) rfl
theorem q3678 : (Jvm.Cond.selects "LineRemarksModel" ({ cls := "LineRemarksModel", name := "judge", desc := "(III)I" } : Jvm.MethodName) ({ cls := "LineRemarksModel", name := "judge", desc := "(III)I" } : Jvm.MethodName)) ∈ lw_all := lw_g (lw_at lw_m15 232 rfl) rfl
theorem q3679 : (Jvm.Cond.code ({ cls := "LineRemarksModel", name := "judge", desc := "(III)I" } : Jvm.MethodName) prog_28_method_66_code (7 : Nat) (Option.some Jvm.ClassFile.FieldType.int)) ∈ lw_all := lw_g (lw_at lw_m15 233 rfl) rfl
theorem q3681 : (Jvm.Cond.instanceMethod ({ cls := "LineRemarksModel", name := "again", desc := "(II)I" } : Jvm.MethodName)) ∈ lw_all := lw_g (lw_at lw_m15 235 rfl) rfl
theorem q3682 : (Jvm.Cond.selects "LineRemarksModel" ({ cls := "LineRemarksModel", name := "again", desc := "(II)I" } : Jvm.MethodName) ({ cls := "LineRemarksModel", name := "again", desc := "(II)I" } : Jvm.MethodName)) ∈ lw_all := lw_g (lw_at lw_m15 236 rfl) rfl
theorem q3683 : (Jvm.Cond.code ({ cls := "LineRemarksModel", name := "again", desc := "(II)I" } : Jvm.MethodName) prog_28_method_68_code (7 : Nat) (Option.some Jvm.ClassFile.FieldType.int)) ∈ lw_all := lw_g (lw_at lw_m15 237 rfl) rfl
theorem q3684 : (Jvm.Cond.methodLink "LineRemarksModel" (254 : Nat) ({ cls := "LineRemarksModel", name := "copies", desc := "(I)V" } : Jvm.MethodName)) ∈ lw_all := lw_g (lw_at lw_m15 238 rfl) rfl
theorem q3685 : (Jvm.Cond.privateMethod ({ cls := "LineRemarksModel", name := "copies", desc := "(I)V" } : Jvm.MethodName)) ∈ lw_tbl := lw_at lw_m15 239 rfl
theorem q3686 : (Jvm.Cond.instanceMethod ({ cls := "LineRemarksModel", name := "copies", desc := "(I)V" } : Jvm.MethodName)) ∈ lw_all := lw_g (lw_at lw_m16 0 rfl) rfl
theorem q3687 : (Jvm.Cond.code ({ cls := "LineRemarksModel", name := "copies", desc := "(I)V" } : Jvm.MethodName) prog_28_method_67_code (3 : Nat) (Option.none : Option Jvm.ClassFile.FieldType)) ∈ lw_all := lw_g (lw_at lw_m16 1 rfl) rfl
theorem q3689 : (Jvm.Cond.instanceMethod ({ cls := "LineRemarksModel", name := "drift", desc := "(I)I" } : Jvm.MethodName)) ∈ lw_all := lw_g (lw_at lw_m16 3 rfl) rfl
theorem q3690 : (Jvm.Cond.selects "LineRemarksModel" ({ cls := "LineRemarksModel", name := "drift", desc := "(I)I" } : Jvm.MethodName) ({ cls := "LineRemarksModel", name := "drift", desc := "(I)I" } : Jvm.MethodName)) ∈ lw_all := lw_g (lw_at lw_m16 4 rfl) rfl
theorem q3691 : (Jvm.Cond.code ({ cls := "LineRemarksModel", name := "drift", desc := "(I)I" } : Jvm.MethodName) prog_28_method_71_code (3 : Nat) (Option.some Jvm.ClassFile.FieldType.int)) ∈ lw_all := lw_g (lw_at lw_m16 5 rfl) rfl
theorem q3692 : (Jvm.Cond.methodLink "LineRemarksModel" (263 : Nat) ({ cls := "LineRemarksModel", name := "drifts", desc := "()V" } : Jvm.MethodName)) ∈ lw_all := lw_g (lw_at lw_m16 6 rfl) rfl
theorem q3693 : (Jvm.Cond.privateMethod ({ cls := "LineRemarksModel", name := "drifts", desc := "()V" } : Jvm.MethodName)) ∈ lw_tbl := lw_at lw_m16 7 rfl
theorem q3694 : (Jvm.Cond.instanceMethod ({ cls := "LineRemarksModel", name := "drifts", desc := "()V" } : Jvm.MethodName)) ∈ lw_all := lw_g (lw_at lw_m16 8 rfl) rfl
theorem q3695 : (Jvm.Cond.code ({ cls := "LineRemarksModel", name := "drifts", desc := "()V" } : Jvm.MethodName) prog_28_method_70_code (9 : Nat) (Option.none : Option Jvm.ClassFile.FieldType)) ∈ lw_all := lw_g (lw_at lw_m16 9 rfl) rfl
theorem q3696 : (Jvm.Cond.methodLink "LineRemarksModel" (258 : Nat) ({ cls := "LineRemarksModel", name := "draw", desc := "(I)I" } : Jvm.MethodName)) ∈ lw_all := lw_g (lw_at lw_m16 10 rfl) rfl
theorem q3697 : (Jvm.Cond.privateMethod ({ cls := "LineRemarksModel", name := "draw", desc := "(I)I" } : Jvm.MethodName)) ∈ lw_tbl := lw_at lw_m16 11 rfl
theorem q3698 : (Jvm.Cond.instanceMethod ({ cls := "LineRemarksModel", name := "draw", desc := "(I)I" } : Jvm.MethodName)) ∈ lw_all := lw_g (lw_at lw_m16 12 rfl) rfl
theorem q3699 : (Jvm.Cond.code ({ cls := "LineRemarksModel", name := "draw", desc := "(I)I" } : Jvm.MethodName) prog_28_method_69_code (2 : Nat) (Option.some Jvm.ClassFile.FieldType.int)) ∈ lw_all := lw_g (lw_at lw_m16 13 rfl) rfl
theorem q3700 : (Jvm.Cond.constant "LineRemarksModel" (257 : Nat) (1103515245 : Int32)) ∈ lw_all := lw_g (lw_at lw_m16 14 rfl) rfl
theorem q3701 : (Jvm.Cond.constantLong "LineRemarksModel" (261 : Nat) (122 : Int64)) ∈ lw_all := lw_g (lw_at lw_m16 15 rfl) rfl
theorem q3703 : (Jvm.Cond.instanceMethod ({ cls := "LineRemarksModel", name := "seed", desc := "(I)I" } : Jvm.MethodName)) ∈ lw_all := lw_g (lw_at lw_m16 17 rfl) rfl
theorem q3704 : (Jvm.Cond.selects "LineRemarksModel" ({ cls := "LineRemarksModel", name := "seed", desc := "(I)I" } : Jvm.MethodName) ({ cls := "LineRemarksModel", name := "seed", desc := "(I)I" } : Jvm.MethodName)) ∈ lw_all := lw_g (lw_at lw_m16 18 rfl) rfl
theorem q3705 : (Jvm.Cond.code ({ cls := "LineRemarksModel", name := "seed", desc := "(I)I" } : Jvm.MethodName) prog_28_method_72_code (3 : Nat) (Option.some Jvm.ClassFile.FieldType.int)) ∈ lw_all := lw_g (lw_at lw_m16 19 rfl) rfl
theorem q3707 : (Jvm.Cond.instanceMethod ({ cls := "LineRemarksModel", name := "act", desc := "(III)I" } : Jvm.MethodName)) ∈ lw_all := lw_g (lw_at lw_m16 21 rfl) rfl
theorem q3708 : (Jvm.Cond.selects "LineRemarksModel" ({ cls := "LineRemarksModel", name := "act", desc := "(III)I" } : Jvm.MethodName) ({ cls := "LineRemarksModel", name := "act", desc := "(III)I" } : Jvm.MethodName)) ∈ lw_all := lw_g (lw_at lw_m16 22 rfl) rfl
theorem q3709 : (Jvm.Cond.code ({ cls := "LineRemarksModel", name := "act", desc := "(III)I" } : Jvm.MethodName) prog_28_method_77_code (5 : Nat) (Option.some Jvm.ClassFile.FieldType.int)) ∈ lw_all := lw_g (lw_at lw_m16 23 rfl) rfl
theorem q3710 : (Jvm.Cond.methodLink "LineRemarksModel" (272 : Nat) ({ cls := "LineRemarksModel", name := "points", desc := "(III)I" } : Jvm.MethodName)) ∈ lw_all := lw_g (lw_at lw_m16 24 rfl) rfl
theorem q3711 : (Jvm.Cond.privateMethod ({ cls := "LineRemarksModel", name := "points", desc := "(III)I" } : Jvm.MethodName)) ∈ lw_tbl := lw_at lw_m16 25 rfl
theorem q3712 : (Jvm.Cond.instanceMethod ({ cls := "LineRemarksModel", name := "points", desc := "(III)I" } : Jvm.MethodName)) ∈ lw_all := lw_g (lw_at lw_m16 26 rfl) rfl
theorem q3713 : (Jvm.Cond.code ({ cls := "LineRemarksModel", name := "points", desc := "(III)I" } : Jvm.MethodName) prog_28_method_74_code (4 : Nat) (Option.some Jvm.ClassFile.FieldType.int)) ∈ lw_all := lw_g (lw_at lw_m16 27 rfl) rfl
theorem q3714 : (Jvm.Cond.methodLink "LineRemarksModel" (269 : Nat) ({ cls := "LineRemarksModel", name := "ran", desc := "(I)V" } : Jvm.MethodName)) ∈ lw_all := lw_g (lw_at lw_m16 28 rfl) rfl
theorem q3715 : (Jvm.Cond.privateMethod ({ cls := "LineRemarksModel", name := "ran", desc := "(I)V" } : Jvm.MethodName)) ∈ lw_tbl := lw_at lw_m16 29 rfl
theorem q3716 : (Jvm.Cond.instanceMethod ({ cls := "LineRemarksModel", name := "ran", desc := "(I)V" } : Jvm.MethodName)) ∈ lw_all := lw_g (lw_at lw_m16 30 rfl) rfl
theorem q3717 : (Jvm.Cond.code ({ cls := "LineRemarksModel", name := "ran", desc := "(I)V" } : Jvm.MethodName) prog_28_method_73_code (2 : Nat) (Option.none : Option Jvm.ClassFile.FieldType)) ∈ lw_all := lw_g (lw_at lw_m16 31 rfl) rfl
theorem q3718 : (Jvm.Cond.methodLink "LineRemarksModel" (276 : Nat) ({ cls := "LineRemarksModel", name := "weighs", desc := "(III)I" } : Jvm.MethodName)) ∈ lw_all := lw_g (lw_at lw_m16 32 rfl) rfl
theorem q3719 : (Jvm.Cond.privateMethod ({ cls := "LineRemarksModel", name := "weighs", desc := "(III)I" } : Jvm.MethodName)) ∈ lw_tbl := lw_at lw_m16 33 rfl
theorem q3720 : (Jvm.Cond.instanceMethod ({ cls := "LineRemarksModel", name := "weighs", desc := "(III)I" } : Jvm.MethodName)) ∈ lw_all := lw_g (lw_at lw_m16 34 rfl) rfl
theorem q3721 : (Jvm.Cond.code ({ cls := "LineRemarksModel", name := "weighs", desc := "(III)I" } : Jvm.MethodName) prog_28_method_75_code (4 : Nat) (Option.some Jvm.ClassFile.FieldType.int)) ∈ lw_all := lw_g (lw_at lw_m16 35 rfl) rfl
theorem q3722 : (Jvm.Cond.methodLink "LineRemarksModel" (279 : Nat) ({ cls := "LineRemarksModel", name := "clings", desc := "(III)I" } : Jvm.MethodName)) ∈ lw_all := lw_g (lw_at lw_m16 36 rfl) rfl
theorem q3723 : (Jvm.Cond.privateMethod ({ cls := "LineRemarksModel", name := "clings", desc := "(III)I" } : Jvm.MethodName)) ∈ lw_tbl := lw_at lw_m16 37 rfl
theorem q3724 : (Jvm.Cond.instanceMethod ({ cls := "LineRemarksModel", name := "clings", desc := "(III)I" } : Jvm.MethodName)) ∈ lw_all := lw_g (lw_at lw_m16 38 rfl) rfl
theorem q3725 : (Jvm.Cond.code ({ cls := "LineRemarksModel", name := "clings", desc := "(III)I" } : Jvm.MethodName) prog_28_method_76_code (5 : Nat) (Option.some Jvm.ClassFile.FieldType.int)) ∈ lw_all := lw_g (lw_at lw_m16 39 rfl) rfl
theorem q3727 : (Jvm.Cond.instanceMethod ({ cls := "LineRemarksModel", name := "trace", desc := "(I)I" } : Jvm.MethodName)) ∈ lw_all := lw_g (lw_at lw_m16 41 rfl) rfl
theorem q3728 : (Jvm.Cond.selects "LineRemarksModel" ({ cls := "LineRemarksModel", name := "trace", desc := "(I)I" } : Jvm.MethodName) ({ cls := "LineRemarksModel", name := "trace", desc := "(I)I" } : Jvm.MethodName)) ∈ lw_all := lw_g (lw_at lw_m16 42 rfl) rfl
theorem q3729 : (Jvm.Cond.code ({ cls := "LineRemarksModel", name := "trace", desc := "(I)I" } : Jvm.MethodName) prog_28_method_78_code (2 : Nat) (Option.some Jvm.ClassFile.FieldType.int)) ∈ lw_all := lw_g (lw_at lw_m16 43 rfl) rfl
theorem q3731 : (Jvm.Cond.instanceMethod ({ cls := "LineRemarksModel", name := "image", desc := "()I" } : Jvm.MethodName)) ∈ lw_all := lw_g (lw_at lw_m16 45 rfl) rfl
theorem q3732 : (Jvm.Cond.selects "LineRemarksModel" ({ cls := "LineRemarksModel", name := "image", desc := "()I" } : Jvm.MethodName) ({ cls := "LineRemarksModel", name := "image", desc := "()I" } : Jvm.MethodName)) ∈ lw_all := lw_g (lw_at lw_m16 46 rfl) rfl
theorem q3733 : (Jvm.Cond.code ({ cls := "LineRemarksModel", name := "image", desc := "()I" } : Jvm.MethodName) prog_28_method_79_code (2 : Nat) (Option.some Jvm.ClassFile.FieldType.int)) ∈ lw_all := lw_g (lw_at lw_m16 47 rfl) rfl
theorem q3735 : (Jvm.Cond.instanceMethod ({ cls := "LineRemarksModel", name := "restore", desc := "()I" } : Jvm.MethodName)) ∈ lw_all := lw_g (lw_at lw_m16 49 rfl) rfl
theorem q3736 : (Jvm.Cond.selects "LineRemarksModel" ({ cls := "LineRemarksModel", name := "restore", desc := "()I" } : Jvm.MethodName) ({ cls := "LineRemarksModel", name := "restore", desc := "()I" } : Jvm.MethodName)) ∈ lw_all := lw_g (lw_at lw_m16 50 rfl) rfl
theorem q3737 : (Jvm.Cond.code ({ cls := "LineRemarksModel", name := "restore", desc := "()I" } : Jvm.MethodName) prog_28_method_80_code (2 : Nat) (Option.some Jvm.ClassFile.FieldType.int)) ∈ lw_all := lw_g (lw_at lw_m16 51 rfl) rfl
theorem q3739 : (Jvm.Cond.instanceMethod ({ cls := "LineRemarksModel", name := "status", desc := "(I)I" } : Jvm.MethodName)) ∈ lw_all := lw_g (lw_at lw_m16 53 rfl) rfl
theorem q3740 : (Jvm.Cond.selects "LineRemarksModel" ({ cls := "LineRemarksModel", name := "status", desc := "(I)I" } : Jvm.MethodName) ({ cls := "LineRemarksModel", name := "status", desc := "(I)I" } : Jvm.MethodName)) ∈ lw_all := lw_g (lw_at lw_m16 54 rfl) rfl
theorem q3741 : (Jvm.Cond.code ({ cls := "LineRemarksModel", name := "status", desc := "(I)I" } : Jvm.MethodName) prog_28_method_83_code (2 : Nat) (Option.some Jvm.ClassFile.FieldType.int)) ∈ lw_all := lw_g (lw_at lw_m16 55 rfl) rfl
theorem q3742 : (Jvm.Cond.methodLink "LineRemarksModel" (294 : Nat) ({ cls := "LineRemarksModel", name := "settled", desc := "()I" } : Jvm.MethodName)) ∈ lw_all := lw_g (lw_at lw_m16 56 rfl) rfl
theorem q3743 : (Jvm.Cond.privateMethod ({ cls := "LineRemarksModel", name := "settled", desc := "()I" } : Jvm.MethodName)) ∈ lw_tbl := lw_at lw_m16 57 rfl
theorem q3744 : (Jvm.Cond.instanceMethod ({ cls := "LineRemarksModel", name := "settled", desc := "()I" } : Jvm.MethodName)) ∈ lw_all := lw_g (lw_at lw_m16 58 rfl) rfl
theorem q3745 : (Jvm.Cond.code ({ cls := "LineRemarksModel", name := "settled", desc := "()I" } : Jvm.MethodName) prog_28_method_81_code (3 : Nat) (Option.some Jvm.ClassFile.FieldType.int)) ∈ lw_all := lw_g (lw_at lw_m16 59 rfl) rfl
theorem q3746 : (Jvm.Cond.methodLink "LineRemarksModel" (298 : Nat) ({ cls := "LineRemarksModel", name := "openOnes", desc := "()I" } : Jvm.MethodName)) ∈ lw_all := lw_g (lw_at lw_m16 60 rfl) rfl
theorem q3747 : (Jvm.Cond.privateMethod ({ cls := "LineRemarksModel", name := "openOnes", desc := "()I" } : Jvm.MethodName)) ∈ lw_tbl := lw_at lw_m16 61 rfl
theorem q3748 : (Jvm.Cond.instanceMethod ({ cls := "LineRemarksModel", name := "openOnes", desc := "()I" } : Jvm.MethodName)) ∈ lw_all := lw_g (lw_at lw_m16 62 rfl) rfl
theorem q3749 : (Jvm.Cond.code ({ cls := "LineRemarksModel", name := "openOnes", desc := "()I" } : Jvm.MethodName) prog_28_method_82_code (3 : Nat) (Option.some Jvm.ClassFile.FieldType.int)) ∈ lw_all := lw_g (lw_at lw_m16 63 rfl) rfl
theorem q3806 : (Jvm.Cond.castable "LineRemarksModel" "java/lang/Object") ∈ lw_tbl := lw_at lw_m16 120 rfl
theorem in_X4 : ∀ w ∈ wsX40, w ∈ lw_all := lw_in wsX40 [3337, 3339, 3341, 3343, 3345, 3347, 3349, 3351, 3353, 3355, 3357, 3359, 3361, 3363, 3365, 3367, 3369, 3371, 3373, 3375, 3377, 3379, 3381, 3383, 3385, 3387, 3389, 3391, 3393, 3395, 3397, 3399, 3401, 3403, 3405, 3407, 3409, 3411, 3413, 3415, 3417] (by decide +kernel) (by decide +kernel)
