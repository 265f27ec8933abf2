/-! InflatedRowsModel -/
set_option maxRecDepth 100000
def RX3 : String := "InflatedRowsModel"
def TX3 : u_T := fun k => match k with
  | 0 => ("InflatedRowsModel", "status", "I", false)
  | 1 => ("InflatedRowsModel", "lane", "[I", true)
  | 2 => ("InflatedRowsModel", "many", "[I", true)
  | 3 => ("InflatedRowsModel", "item", "[I", true)
  | 4 => ("InflatedRowsModel", "book", "[I", true)
  | 5 => ("InflatedRowsModel", "fresh", "[I", true)
  | 6 => ("InflatedRowsModel", "then", "[I", true)
  | 7 => ("InflatedRowsModel", "was", "[I", true)
  | 8 => ("InflatedRowsModel", "acts", "I", false)
  | 9 => ("InflatedRowsModel", "line", "[I", true)
  | 10 => ("InflatedRowsModel", "spare", "[I", true)
  | 11 => ("InflatedRowsModel", "tape", "[I", true)
  | 12 => ("InflatedRowsModel", "taped", "I", false)
  | 13 => ("InflatedRowsModel", "cursor", "I", false)
  | 14 => ("InflatedRowsModel", "start", "I", false)
  | 15 => ("InflatedRowsModel", "token", "I", false)
  | 16 => ("InflatedRowsModel", "value", "I", false)
  | 17 => ("InflatedRowsModel", "fault", "I", false)
  | 18 => ("InflatedRowsModel", "faultAt", "I", false)
  | 19 => ("InflatedRowsModel", "latest", "I", false)
  | 20 => ("InflatedRowsModel", "told", "I", false)
  | 21 => ("InflatedRowsModel", "number", "[J", true)
  | 22 => ("InflatedRowsModel", "next", "[J", true)
  | 23 => ("InflatedRowsModel", "isBeyond", "Z", false)
  | 24 => ("InflatedRowsModel", "ways", "[I", true)
  | 25 => ("InflatedRowsModel", "ends", "[Z", true)
  | 26 => ("InflatedRowsModel", "isKept", "[Z", true)
  | 27 => ("InflatedRowsModel", "kept", "[I", true)
  | 28 => ("InflatedRowsModel", "trace", "[I", true)
  | _ => ("InflatedRowsModel", "traced", "I", false)
def tyX3 : Nat → FieldType := fun k => match k with
  | 0 => .int
  | 1 => .array .int
  | 2 => .array .int
  | 3 => .array .int
  | 4 => .array .int
  | 5 => .array .int
  | 6 => .array .int
  | 7 => .array .int
  | 8 => .int
  | 9 => .array .int
  | 10 => .array .int
  | 11 => .array .int
  | 12 => .int
  | 13 => .int
  | 14 => .int
  | 15 => .int
  | 16 => .int
  | 17 => .int
  | 18 => .int
  | 19 => .int
  | 20 => .int
  | 21 => .array .long
  | 22 => .array .long
  | 23 => .boolean
  | 24 => .array .int
  | 25 => .array .boolean
  | 26 => .array .boolean
  | 27 => .array .int
  | 28 => .array .int
  | _ => .int
abbrev wsX30 : List Cond := u_ws RX3 TX3 30
set_option maxRecDepth 100000 in
theorem nmX3 : ∀ a, a < 30 → ∀ b, b < 30 → a ≠ b → (TX3 a).2.1 ≠ (TX3 b).2.1 := by decide +kernel
set_option maxRecDepth 100000 in
theorem tyX3_ok : ∀ k, k < 30 → parseFieldDescriptor (TX3 k).2.2.1 = some (tyX3 k) := by decide +kernel
abbrev cX3_init : ByteArray := prog_16_method_1_code
def yX3_init : MethodName := ⟨RX3, "<init>", "()V"⟩
def dkwX3_init_7 : List UInt8 := [181, 0, 57, 42, 16, 16, 188, 10, 181, 0, 60, 177]
abbrev dktX3_init_7 : List UInt8 := dkwX3_init_7 ++ []
def dkwX3_init_6 : List UInt8 := [181, 0, 47, 42, 16, 41, 188, 4, 181, 0, 50, 42, 5, 188, 4, 181, 0, 54, 42, 16, 88, 188, 10]
abbrev dktX3_init_6 : List UInt8 := dkwX3_init_6 ++ dktX3_init_7
def dkwX3_init_5 : List UInt8 := [188, 10, 181, 0, 37, 42, 7, 188, 11, 181, 0, 40, 42, 7, 188, 11, 181, 0, 44, 42, 16, 41, 188, 10]
abbrev dktX3_init_5 : List UInt8 := dkwX3_init_5 ++ dktX3_init_6
def dkwX3_init_4 : List UInt8 := [181, 0, 28, 42, 17, 1, 44, 188, 10, 181, 0, 31, 42, 17, 1, 44, 188, 10, 181, 0, 34, 42, 16, 120]
abbrev dktX3_init_4 : List UInt8 := dkwX3_init_4 ++ dktX3_init_5
def dkwX3_init_3 : List UInt8 := [42, 16, 44, 188, 10, 181, 0, 22, 42, 16, 44, 188, 10, 181, 0, 25, 42, 17, 4, 32, 188, 10]
abbrev dktX3_init_3 : List UInt8 := dkwX3_init_3 ++ dktX3_init_4
def dkwX3_init_2 : List UInt8 := [16, 8, 188, 10, 181, 0, 13, 42, 17, 1, 64, 188, 10, 181, 0, 16, 42, 16, 44, 188, 10, 181, 0, 19]
abbrev dktX3_init_2 : List UInt8 := dkwX3_init_2 ++ dktX3_init_3
def dkwX3_init_1 : List UInt8 := [79, 89, 7, 2, 79, 89, 8, 2, 79, 89, 16, 6, 2, 79, 89, 16, 7, 2, 79, 181, 0, 7, 42]
abbrev dktX3_init_1 : List UInt8 := dkwX3_init_1 ++ dktX3_init_2
def dkwX3_init_0 : List UInt8 := [42, 183, 0, 1, 42, 16, 8, 188, 10, 89, 3, 2, 79, 89, 4, 2, 79, 89, 5, 2, 79, 89, 6, 2]
abbrev dktX3_init_0 : List UInt8 := dkwX3_init_0 ++ dktX3_init_1
theorem dksX3_init_0 : cX3_init.data.toList.drop 0 = dktX3_init_0 := by decide +kernel
theorem dksX3_init_1 : cX3_init.data.toList.drop 24 = dktX3_init_1 := dk_seg dksX3_init_0 24 rfl rfl
theorem dksX3_init_2 : cX3_init.data.toList.drop 47 = dktX3_init_2 := dk_seg dksX3_init_1 23 rfl rfl
theorem dksX3_init_3 : cX3_init.data.toList.drop 71 = dktX3_init_3 := dk_seg dksX3_init_2 24 rfl rfl
theorem dksX3_init_4 : cX3_init.data.toList.drop 93 = dktX3_init_4 := dk_seg dksX3_init_3 22 rfl rfl
theorem dksX3_init_5 : cX3_init.data.toList.drop 117 = dktX3_init_5 := dk_seg dksX3_init_4 24 rfl rfl
theorem dksX3_init_6 : cX3_init.data.toList.drop 141 = dktX3_init_6 := dk_seg dksX3_init_5 24 rfl rfl
theorem dksX3_init_7 : cX3_init.data.toList.drop 164 = dktX3_init_7 := dk_seg dksX3_init_6 23 rfl rfl
theorem dX3_init_0 : decode cX3_init 0 = .ok (.aload_n 0, 1) := dk_42 (dk_at dksX3_init_0 0 rfl rfl)
theorem dX3_init_1 : decode cX3_init 1 = .ok (.invokespecial 1, 3) := dk_183 0 1 (dk_at dksX3_init_0 1 rfl rfl)
theorem dX3_init_4 : decode cX3_init 4 = .ok (.aload_n 0, 1) := dk_42 (dk_at dksX3_init_0 4 rfl rfl)
theorem dX3_init_5 : decode cX3_init 5 = .ok (.bipush 8, 2) := dk_16 8 (dk_at dksX3_init_0 5 rfl rfl)
theorem dX3_init_7 : decode cX3_init 7 = .ok (.newarray .int, 2) := dk_188_10 (dk_at dksX3_init_0 7 rfl rfl)
theorem dX3_init_9 : decode cX3_init 9 = .ok (.dup, 1) := dk_89 (dk_at dksX3_init_0 9 rfl rfl)
theorem dX3_init_10 : decode cX3_init 10 = .ok (.iconst 0, 1) := dk_3 (dk_at dksX3_init_0 10 rfl rfl)
theorem dX3_init_11 : decode cX3_init 11 = .ok (.iconst (-1), 1) := dk_2 (dk_at dksX3_init_0 11 rfl rfl)
theorem dX3_init_12 : decode cX3_init 12 = .ok (.iastore, 1) := dk_79 (dk_at dksX3_init_0 12 rfl rfl)
theorem dX3_init_13 : decode cX3_init 13 = .ok (.dup, 1) := dk_89 (dk_at dksX3_init_0 13 rfl rfl)
theorem dX3_init_14 : decode cX3_init 14 = .ok (.iconst 1, 1) := dk_4 (dk_at dksX3_init_0 14 rfl rfl)
theorem dX3_init_15 : decode cX3_init 15 = .ok (.iconst (-1), 1) := dk_2 (dk_at dksX3_init_0 15 rfl rfl)
theorem dX3_init_16 : decode cX3_init 16 = .ok (.iastore, 1) := dk_79 (dk_at dksX3_init_0 16 rfl rfl)
theorem dX3_init_17 : decode cX3_init 17 = .ok (.dup, 1) := dk_89 (dk_at dksX3_init_0 17 rfl rfl)
theorem dX3_init_18 : decode cX3_init 18 = .ok (.iconst 2, 1) := dk_5 (dk_at dksX3_init_0 18 rfl rfl)
theorem dX3_init_19 : decode cX3_init 19 = .ok (.iconst (-1), 1) := dk_2 (dk_at dksX3_init_0 19 rfl rfl)
theorem dX3_init_20 : decode cX3_init 20 = .ok (.iastore, 1) := dk_79 (dk_at dksX3_init_0 20 rfl rfl)
theorem dX3_init_21 : decode cX3_init 21 = .ok (.dup, 1) := dk_89 (dk_at dksX3_init_0 21 rfl rfl)
theorem dX3_init_22 : decode cX3_init 22 = .ok (.iconst 3, 1) := dk_6 (dk_at dksX3_init_0 22 rfl rfl)
theorem dX3_init_23 : decode cX3_init 23 = .ok (.iconst (-1), 1) := dk_2 (dk_at dksX3_init_0 23 rfl rfl)
theorem dX3_init_24 : decode cX3_init 24 = .ok (.iastore, 1) := dk_79 (dk_at dksX3_init_1 0 rfl rfl)
theorem dX3_init_25 : decode cX3_init 25 = .ok (.dup, 1) := dk_89 (dk_at dksX3_init_1 1 rfl rfl)
theorem dX3_init_26 : decode cX3_init 26 = .ok (.iconst 4, 1) := dk_7 (dk_at dksX3_init_1 2 rfl rfl)
theorem dX3_init_27 : decode cX3_init 27 = .ok (.iconst (-1), 1) := dk_2 (dk_at dksX3_init_1 3 rfl rfl)
theorem dX3_init_28 : decode cX3_init 28 = .ok (.iastore, 1) := dk_79 (dk_at dksX3_init_1 4 rfl rfl)
theorem dX3_init_29 : decode cX3_init 29 = .ok (.dup, 1) := dk_89 (dk_at dksX3_init_1 5 rfl rfl)
theorem dX3_init_30 : decode cX3_init 30 = .ok (.iconst 5, 1) := dk_8 (dk_at dksX3_init_1 6 rfl rfl)
theorem dX3_init_31 : decode cX3_init 31 = .ok (.iconst (-1), 1) := dk_2 (dk_at dksX3_init_1 7 rfl rfl)
theorem dX3_init_32 : decode cX3_init 32 = .ok (.iastore, 1) := dk_79 (dk_at dksX3_init_1 8 rfl rfl)
theorem dX3_init_33 : decode cX3_init 33 = .ok (.dup, 1) := dk_89 (dk_at dksX3_init_1 9 rfl rfl)
theorem dX3_init_34 : decode cX3_init 34 = .ok (.bipush 6, 2) := dk_16 6 (dk_at dksX3_init_1 10 rfl rfl)
theorem dX3_init_36 : decode cX3_init 36 = .ok (.iconst (-1), 1) := dk_2 (dk_at dksX3_init_1 12 rfl rfl)
theorem dX3_init_37 : decode cX3_init 37 = .ok (.iastore, 1) := dk_79 (dk_at dksX3_init_1 13 rfl rfl)
theorem dX3_init_38 : decode cX3_init 38 = .ok (.dup, 1) := dk_89 (dk_at dksX3_init_1 14 rfl rfl)
theorem dX3_init_39 : decode cX3_init 39 = .ok (.bipush 7, 2) := dk_16 7 (dk_at dksX3_init_1 15 rfl rfl)
theorem dX3_init_41 : decode cX3_init 41 = .ok (.iconst (-1), 1) := dk_2 (dk_at dksX3_init_1 17 rfl rfl)
theorem dX3_init_42 : decode cX3_init 42 = .ok (.iastore, 1) := dk_79 (dk_at dksX3_init_1 18 rfl rfl)
theorem dX3_init_43 : decode cX3_init 43 = .ok (.putfield 7, 3) := dk_181 0 7 (dk_at dksX3_init_1 19 rfl rfl)
theorem dX3_init_46 : decode cX3_init 46 = .ok (.aload_n 0, 1) := dk_42 (dk_at dksX3_init_1 22 rfl rfl)
theorem dX3_init_47 : decode cX3_init 47 = .ok (.bipush 8, 2) := dk_16 8 (dk_at dksX3_init_2 0 rfl rfl)
theorem dX3_init_49 : decode cX3_init 49 = .ok (.newarray .int, 2) := dk_188_10 (dk_at dksX3_init_2 2 rfl rfl)
theorem dX3_init_51 : decode cX3_init 51 = .ok (.putfield 13, 3) := dk_181 0 13 (dk_at dksX3_init_2 4 rfl rfl)
theorem dX3_init_54 : decode cX3_init 54 = .ok (.aload_n 0, 1) := dk_42 (dk_at dksX3_init_2 7 rfl rfl)
theorem dX3_init_55 : decode cX3_init 55 = .ok (.sipush 320, 3) := dk_17 1 64 (dk_at dksX3_init_2 8 rfl rfl)
theorem dX3_init_58 : decode cX3_init 58 = .ok (.newarray .int, 2) := dk_188_10 (dk_at dksX3_init_2 11 rfl rfl)
theorem dX3_init_60 : decode cX3_init 60 = .ok (.putfield 16, 3) := dk_181 0 16 (dk_at dksX3_init_2 13 rfl rfl)
theorem dX3_init_63 : decode cX3_init 63 = .ok (.aload_n 0, 1) := dk_42 (dk_at dksX3_init_2 16 rfl rfl)
theorem dX3_init_64 : decode cX3_init 64 = .ok (.bipush 44, 2) := dk_16 44 (dk_at dksX3_init_2 17 rfl rfl)
theorem dX3_init_66 : decode cX3_init 66 = .ok (.newarray .int, 2) := dk_188_10 (dk_at dksX3_init_2 19 rfl rfl)
theorem dX3_init_68 : decode cX3_init 68 = .ok (.putfield 19, 3) := dk_181 0 19 (dk_at dksX3_init_2 21 rfl rfl)
theorem dX3_init_71 : decode cX3_init 71 = .ok (.aload_n 0, 1) := dk_42 (dk_at dksX3_init_3 0 rfl rfl)
theorem dX3_init_72 : decode cX3_init 72 = .ok (.bipush 44, 2) := dk_16 44 (dk_at dksX3_init_3 1 rfl rfl)
theorem dX3_init_74 : decode cX3_init 74 = .ok (.newarray .int, 2) := dk_188_10 (dk_at dksX3_init_3 3 rfl rfl)
theorem dX3_init_76 : decode cX3_init 76 = .ok (.putfield 22, 3) := dk_181 0 22 (dk_at dksX3_init_3 5 rfl rfl)
theorem dX3_init_79 : decode cX3_init 79 = .ok (.aload_n 0, 1) := dk_42 (dk_at dksX3_init_3 8 rfl rfl)
theorem dX3_init_80 : decode cX3_init 80 = .ok (.bipush 44, 2) := dk_16 44 (dk_at dksX3_init_3 9 rfl rfl)
theorem dX3_init_82 : decode cX3_init 82 = .ok (.newarray .int, 2) := dk_188_10 (dk_at dksX3_init_3 11 rfl rfl)
theorem dX3_init_84 : decode cX3_init 84 = .ok (.putfield 25, 3) := dk_181 0 25 (dk_at dksX3_init_3 13 rfl rfl)
theorem dX3_init_87 : decode cX3_init 87 = .ok (.aload_n 0, 1) := dk_42 (dk_at dksX3_init_3 16 rfl rfl)
theorem dX3_init_88 : decode cX3_init 88 = .ok (.sipush 1056, 3) := dk_17 4 32 (dk_at dksX3_init_3 17 rfl rfl)
theorem dX3_init_91 : decode cX3_init 91 = .ok (.newarray .int, 2) := dk_188_10 (dk_at dksX3_init_3 20 rfl rfl)
theorem dX3_init_93 : decode cX3_init 93 = .ok (.putfield 28, 3) := dk_181 0 28 (dk_at dksX3_init_4 0 rfl rfl)
theorem dX3_init_96 : decode cX3_init 96 = .ok (.aload_n 0, 1) := dk_42 (dk_at dksX3_init_4 3 rfl rfl)
theorem dX3_init_97 : decode cX3_init 97 = .ok (.sipush 300, 3) := dk_17 1 44 (dk_at dksX3_init_4 4 rfl rfl)
theorem dX3_init_100 : decode cX3_init 100 = .ok (.newarray .int, 2) := dk_188_10 (dk_at dksX3_init_4 7 rfl rfl)
theorem dX3_init_102 : decode cX3_init 102 = .ok (.putfield 31, 3) := dk_181 0 31 (dk_at dksX3_init_4 9 rfl rfl)
theorem dX3_init_105 : decode cX3_init 105 = .ok (.aload_n 0, 1) := dk_42 (dk_at dksX3_init_4 12 rfl rfl)
theorem dX3_init_106 : decode cX3_init 106 = .ok (.sipush 300, 3) := dk_17 1 44 (dk_at dksX3_init_4 13 rfl rfl)
theorem dX3_init_109 : decode cX3_init 109 = .ok (.newarray .int, 2) := dk_188_10 (dk_at dksX3_init_4 16 rfl rfl)
theorem dX3_init_111 : decode cX3_init 111 = .ok (.putfield 34, 3) := dk_181 0 34 (dk_at dksX3_init_4 18 rfl rfl)
theorem dX3_init_114 : decode cX3_init 114 = .ok (.aload_n 0, 1) := dk_42 (dk_at dksX3_init_4 21 rfl rfl)
theorem dX3_init_115 : decode cX3_init 115 = .ok (.bipush 120, 2) := dk_16 120 (dk_at dksX3_init_4 22 rfl rfl)
theorem dX3_init_117 : decode cX3_init 117 = .ok (.newarray .int, 2) := dk_188_10 (dk_at dksX3_init_5 0 rfl rfl)
theorem dX3_init_119 : decode cX3_init 119 = .ok (.putfield 37, 3) := dk_181 0 37 (dk_at dksX3_init_5 2 rfl rfl)
theorem dX3_init_122 : decode cX3_init 122 = .ok (.aload_n 0, 1) := dk_42 (dk_at dksX3_init_5 5 rfl rfl)
theorem dX3_init_123 : decode cX3_init 123 = .ok (.iconst 4, 1) := dk_7 (dk_at dksX3_init_5 6 rfl rfl)
theorem dX3_init_124 : decode cX3_init 124 = .ok (.newarray .long, 2) := dk_188_11 (dk_at dksX3_init_5 7 rfl rfl)
theorem dX3_init_126 : decode cX3_init 126 = .ok (.putfield 40, 3) := dk_181 0 40 (dk_at dksX3_init_5 9 rfl rfl)
theorem dX3_init_129 : decode cX3_init 129 = .ok (.aload_n 0, 1) := dk_42 (dk_at dksX3_init_5 12 rfl rfl)
theorem dX3_init_130 : decode cX3_init 130 = .ok (.iconst 4, 1) := dk_7 (dk_at dksX3_init_5 13 rfl rfl)
theorem dX3_init_131 : decode cX3_init 131 = .ok (.newarray .long, 2) := dk_188_11 (dk_at dksX3_init_5 14 rfl rfl)
theorem dX3_init_133 : decode cX3_init 133 = .ok (.putfield 44, 3) := dk_181 0 44 (dk_at dksX3_init_5 16 rfl rfl)
theorem dX3_init_136 : decode cX3_init 136 = .ok (.aload_n 0, 1) := dk_42 (dk_at dksX3_init_5 19 rfl rfl)
theorem dX3_init_137 : decode cX3_init 137 = .ok (.bipush 41, 2) := dk_16 41 (dk_at dksX3_init_5 20 rfl rfl)
theorem dX3_init_139 : decode cX3_init 139 = .ok (.newarray .int, 2) := dk_188_10 (dk_at dksX3_init_5 22 rfl rfl)
theorem dX3_init_141 : decode cX3_init 141 = .ok (.putfield 47, 3) := dk_181 0 47 (dk_at dksX3_init_6 0 rfl rfl)
theorem dX3_init_144 : decode cX3_init 144 = .ok (.aload_n 0, 1) := dk_42 (dk_at dksX3_init_6 3 rfl rfl)
theorem dX3_init_145 : decode cX3_init 145 = .ok (.bipush 41, 2) := dk_16 41 (dk_at dksX3_init_6 4 rfl rfl)
theorem dX3_init_147 : decode cX3_init 147 = .ok (.newarray .boolean, 2) := dk_188_4 (dk_at dksX3_init_6 6 rfl rfl)
theorem dX3_init_149 : decode cX3_init 149 = .ok (.putfield 50, 3) := dk_181 0 50 (dk_at dksX3_init_6 8 rfl rfl)
theorem dX3_init_152 : decode cX3_init 152 = .ok (.aload_n 0, 1) := dk_42 (dk_at dksX3_init_6 11 rfl rfl)
theorem dX3_init_153 : decode cX3_init 153 = .ok (.iconst 2, 1) := dk_5 (dk_at dksX3_init_6 12 rfl rfl)
theorem dX3_init_154 : decode cX3_init 154 = .ok (.newarray .boolean, 2) := dk_188_4 (dk_at dksX3_init_6 13 rfl rfl)
theorem dX3_init_156 : decode cX3_init 156 = .ok (.putfield 54, 3) := dk_181 0 54 (dk_at dksX3_init_6 15 rfl rfl)
theorem dX3_init_159 : decode cX3_init 159 = .ok (.aload_n 0, 1) := dk_42 (dk_at dksX3_init_6 18 rfl rfl)
theorem dX3_init_160 : decode cX3_init 160 = .ok (.bipush 88, 2) := dk_16 88 (dk_at dksX3_init_6 19 rfl rfl)
theorem dX3_init_162 : decode cX3_init 162 = .ok (.newarray .int, 2) := dk_188_10 (dk_at dksX3_init_6 21 rfl rfl)
theorem dX3_init_164 : decode cX3_init 164 = .ok (.putfield 57, 3) := dk_181 0 57 (dk_at dksX3_init_7 0 rfl rfl)
theorem dX3_init_167 : decode cX3_init 167 = .ok (.aload_n 0, 1) := dk_42 (dk_at dksX3_init_7 3 rfl rfl)
theorem dX3_init_168 : decode cX3_init 168 = .ok (.bipush 16, 2) := dk_16 16 (dk_at dksX3_init_7 4 rfl rfl)
theorem dX3_init_170 : decode cX3_init 170 = .ok (.newarray .int, 2) := dk_188_10 (dk_at dksX3_init_7 6 rfl rfl)
theorem dX3_init_172 : decode cX3_init 172 = .ok (.putfield 60, 3) := dk_181 0 60 (dk_at dksX3_init_7 8 rfl rfl)
theorem dX3_init_175 : decode cX3_init 175 = .ok (.return_, 1) := dk_177 (dk_at dksX3_init_7 11 rfl rfl)
abbrev cX3_row : ByteArray := prog_16_method_5_code
def yX3_row : MethodName := ⟨RX3, "row", "(III)I"⟩
def dkwX3_row_3 : List UInt8 := [180, 0, 16, 16, 40, 27, 104, 21, 4, 96, 3, 79, 132, 4, 1, 167, 255, 233, 29, 172]
abbrev dktX3_row_3 : List UInt8 := dkwX3_row_3 ++ []
def dkwX3_row_2 : List UInt8 := [180, 0, 7, 27, 28, 79, 42, 180, 0, 13, 27, 29, 79, 3, 54, 4, 21, 4, 16, 40, 162, 0, 22, 42]
abbrev dktX3_row_2 : List UInt8 := dkwX3_row_2 ++ dktX3_row_3
def dkwX3_row_1 : List UInt8 := [164, 0, 6, 18, 80, 172, 42, 3, 181, 0, 63, 29, 156, 0, 9, 42, 7, 182, 0, 81, 172, 42]
abbrev dktX3_row_1 : List UInt8 := dkwX3_row_1 ++ dktX3_row_2
def dkwX3_row_0 : List UInt8 := [27, 184, 0, 74, 153, 0, 21, 28, 133, 9, 20, 0, 78, 184, 0, 70, 153, 0, 9, 29, 16, 40]
abbrev dktX3_row_0 : List UInt8 := dkwX3_row_0 ++ dktX3_row_1
theorem dksX3_row_0 : cX3_row.data.toList.drop 0 = dktX3_row_0 := by decide +kernel
theorem dksX3_row_1 : cX3_row.data.toList.drop 22 = dktX3_row_1 := dk_seg dksX3_row_0 22 rfl rfl
theorem dksX3_row_2 : cX3_row.data.toList.drop 44 = dktX3_row_2 := dk_seg dksX3_row_1 22 rfl rfl
theorem dksX3_row_3 : cX3_row.data.toList.drop 68 = dktX3_row_3 := dk_seg dksX3_row_2 24 rfl rfl
theorem dX3_row_0 : decode cX3_row 0 = .ok (.iload_n 1, 1) := dk_27 (dk_at dksX3_row_0 0 rfl rfl)
theorem dX3_row_1 : decode cX3_row 1 = .ok (.invokestatic 74, 3) := dk_184 0 74 (dk_at dksX3_row_0 1 rfl rfl)
theorem dX3_row_4 : decode cX3_row 4 = .ok (.ifCond .eq 21, 3) := dk_153 0 21 (dk_at dksX3_row_0 4 rfl rfl)
theorem dX3_row_7 : decode cX3_row 7 = .ok (.iload_n 2, 1) := dk_28 (dk_at dksX3_row_0 7 rfl rfl)
theorem dX3_row_8 : decode cX3_row 8 = .ok (.i2l, 1) := dk_133 (dk_at dksX3_row_0 8 rfl rfl)
theorem dX3_row_9 : decode cX3_row 9 = .ok (.lconst 0, 1) := dk_9 (dk_at dksX3_row_0 9 rfl rfl)
theorem dX3_row_10 : decode cX3_row 10 = .ok (.ldc2_w 78, 3) := dk_20 0 78 (dk_at dksX3_row_0 10 rfl rfl)
theorem dX3_row_13 : decode cX3_row 13 = .ok (.invokestatic 70, 3) := dk_184 0 70 (dk_at dksX3_row_0 13 rfl rfl)
theorem dX3_row_16 : decode cX3_row 16 = .ok (.ifCond .eq 9, 3) := dk_153 0 9 (dk_at dksX3_row_0 16 rfl rfl)
theorem dX3_row_19 : decode cX3_row 19 = .ok (.iload_n 3, 1) := dk_29 (dk_at dksX3_row_0 19 rfl rfl)
theorem dX3_row_20 : decode cX3_row 20 = .ok (.bipush 40, 2) := dk_16 40 (dk_at dksX3_row_0 20 rfl rfl)
theorem dX3_row_22 : decode cX3_row 22 = .ok (.if_icmp .le 6, 3) := dk_164 0 6 (dk_at dksX3_row_1 0 rfl rfl)
theorem dX3_row_25 : decode cX3_row 25 = .ok (.ldc 80, 2) := dk_18 80 (dk_at dksX3_row_1 3 rfl rfl)
theorem dX3_row_27 : decode cX3_row 27 = .ok (.ireturn, 1) := dk_172 (dk_at dksX3_row_1 5 rfl rfl)
theorem dX3_row_28 : decode cX3_row 28 = .ok (.aload_n 0, 1) := dk_42 (dk_at dksX3_row_1 6 rfl rfl)
theorem dX3_row_29 : decode cX3_row 29 = .ok (.iconst 0, 1) := dk_3 (dk_at dksX3_row_1 7 rfl rfl)
theorem dX3_row_30 : decode cX3_row 30 = .ok (.putfield 63, 3) := dk_181 0 63 (dk_at dksX3_row_1 8 rfl rfl)
theorem dX3_row_33 : decode cX3_row 33 = .ok (.iload_n 3, 1) := dk_29 (dk_at dksX3_row_1 11 rfl rfl)
theorem dX3_row_34 : decode cX3_row 34 = .ok (.ifCond .ge 9, 3) := dk_156 0 9 (dk_at dksX3_row_1 12 rfl rfl)
theorem dX3_row_37 : decode cX3_row 37 = .ok (.aload_n 0, 1) := dk_42 (dk_at dksX3_row_1 15 rfl rfl)
theorem dX3_row_38 : decode cX3_row 38 = .ok (.iconst 4, 1) := dk_7 (dk_at dksX3_row_1 16 rfl rfl)
theorem dX3_row_39 : decode cX3_row 39 = .ok (.invokevirtual 81, 3) := dk_182 0 81 (dk_at dksX3_row_1 17 rfl rfl)
theorem dX3_row_42 : decode cX3_row 42 = .ok (.ireturn, 1) := dk_172 (dk_at dksX3_row_1 20 rfl rfl)
theorem dX3_row_43 : decode cX3_row 43 = .ok (.aload_n 0, 1) := dk_42 (dk_at dksX3_row_1 21 rfl rfl)
theorem dX3_row_44 : decode cX3_row 44 = .ok (.getfield 7, 3) := dk_180 0 7 (dk_at dksX3_row_2 0 rfl rfl)
theorem dX3_row_47 : decode cX3_row 47 = .ok (.iload_n 1, 1) := dk_27 (dk_at dksX3_row_2 3 rfl rfl)
theorem dX3_row_48 : decode cX3_row 48 = .ok (.iload_n 2, 1) := dk_28 (dk_at dksX3_row_2 4 rfl rfl)
theorem dX3_row_49 : decode cX3_row 49 = .ok (.iastore, 1) := dk_79 (dk_at dksX3_row_2 5 rfl rfl)
theorem dX3_row_50 : decode cX3_row 50 = .ok (.aload_n 0, 1) := dk_42 (dk_at dksX3_row_2 6 rfl rfl)
theorem dX3_row_51 : decode cX3_row 51 = .ok (.getfield 13, 3) := dk_180 0 13 (dk_at dksX3_row_2 7 rfl rfl)
theorem dX3_row_54 : decode cX3_row 54 = .ok (.iload_n 1, 1) := dk_27 (dk_at dksX3_row_2 10 rfl rfl)
theorem dX3_row_55 : decode cX3_row 55 = .ok (.iload_n 3, 1) := dk_29 (dk_at dksX3_row_2 11 rfl rfl)
theorem dX3_row_56 : decode cX3_row 56 = .ok (.iastore, 1) := dk_79 (dk_at dksX3_row_2 12 rfl rfl)
theorem dX3_row_57 : decode cX3_row 57 = .ok (.iconst 0, 1) := dk_3 (dk_at dksX3_row_2 13 rfl rfl)
theorem dX3_row_58 : decode cX3_row 58 = .ok (.istore 4, 2) := dk_54 4 (dk_at dksX3_row_2 14 rfl rfl)
theorem dX3_row_60 : decode cX3_row 60 = .ok (.iload 4, 2) := dk_21 4 (dk_at dksX3_row_2 16 rfl rfl)
theorem dX3_row_62 : decode cX3_row 62 = .ok (.bipush 40, 2) := dk_16 40 (dk_at dksX3_row_2 18 rfl rfl)
theorem dX3_row_64 : decode cX3_row 64 = .ok (.if_icmp .ge 22, 3) := dk_162 0 22 (dk_at dksX3_row_2 20 rfl rfl)
theorem dX3_row_67 : decode cX3_row 67 = .ok (.aload_n 0, 1) := dk_42 (dk_at dksX3_row_2 23 rfl rfl)
theorem dX3_row_68 : decode cX3_row 68 = .ok (.getfield 16, 3) := dk_180 0 16 (dk_at dksX3_row_3 0 rfl rfl)
theorem dX3_row_71 : decode cX3_row 71 = .ok (.bipush 40, 2) := dk_16 40 (dk_at dksX3_row_3 3 rfl rfl)
theorem dX3_row_73 : decode cX3_row 73 = .ok (.iload_n 1, 1) := dk_27 (dk_at dksX3_row_3 5 rfl rfl)
theorem dX3_row_74 : decode cX3_row 74 = .ok (.imul, 1) := dk_104 (dk_at dksX3_row_3 6 rfl rfl)
theorem dX3_row_75 : decode cX3_row 75 = .ok (.iload 4, 2) := dk_21 4 (dk_at dksX3_row_3 7 rfl rfl)
theorem dX3_row_77 : decode cX3_row 77 = .ok (.iadd, 1) := dk_96 (dk_at dksX3_row_3 9 rfl rfl)
theorem dX3_row_78 : decode cX3_row 78 = .ok (.iconst 0, 1) := dk_3 (dk_at dksX3_row_3 10 rfl rfl)
theorem dX3_row_79 : decode cX3_row 79 = .ok (.iastore, 1) := dk_79 (dk_at dksX3_row_3 11 rfl rfl)
theorem dX3_row_80 : decode cX3_row 80 = .ok (.iinc 4 1, 3) := dk_132 4 1 (dk_at dksX3_row_3 12 rfl rfl)
theorem dX3_row_83 : decode cX3_row 83 = .ok (.goto (-23), 3) := dk_167 255 233 (dk_at dksX3_row_3 15 rfl rfl)
theorem dX3_row_86 : decode cX3_row 86 = .ok (.iload_n 3, 1) := dk_29 (dk_at dksX3_row_3 18 rfl rfl)
theorem dX3_row_87 : decode cX3_row 87 = .ok (.ireturn, 1) := dk_172 (dk_at dksX3_row_3 19 rfl rfl)
abbrev cX3_isRow : ByteArray := prog_16_method_4_code
def yX3_isRow : MethodName := ⟨RX3, "isRow", "(I)Z"⟩
def dkwX3_isRow_0 : List UInt8 := [26, 133, 9, 20, 0, 68, 184, 0, 70, 172]
abbrev dktX3_isRow_0 : List UInt8 := dkwX3_isRow_0 ++ []
theorem dksX3_isRow_0 : cX3_isRow.data.toList.drop 0 = dktX3_isRow_0 := by decide +kernel
theorem dX3_isRow_0 : decode cX3_isRow 0 = .ok (.iload_n 0, 1) := dk_26 (dk_at dksX3_isRow_0 0 rfl rfl)
theorem dX3_isRow_1 : decode cX3_isRow 1 = .ok (.i2l, 1) := dk_133 (dk_at dksX3_isRow_0 1 rfl rfl)
theorem dX3_isRow_2 : decode cX3_isRow 2 = .ok (.lconst 0, 1) := dk_9 (dk_at dksX3_isRow_0 2 rfl rfl)
theorem dX3_isRow_3 : decode cX3_isRow 3 = .ok (.ldc2_w 68, 3) := dk_20 0 68 (dk_at dksX3_isRow_0 3 rfl rfl)
theorem dX3_isRow_6 : decode cX3_isRow 6 = .ok (.invokestatic 70, 3) := dk_184 0 70 (dk_at dksX3_isRow_0 6 rfl rfl)
theorem dX3_isRow_9 : decode cX3_isRow 9 = .ok (.ireturn, 1) := dk_172 (dk_at dksX3_isRow_0 9 rfl rfl)
abbrev cX3_in : ByteArray := prog_16_method_2_code
def yX3_in : MethodName := ⟨RX3, "in", "(JJJ)Z"⟩
def dkwX3_in_0 : List UInt8 := [30, 32, 148, 155, 0, 14, 30, 22, 4, 148, 157, 0, 7, 4, 167, 0, 4, 3, 172]
abbrev dktX3_in_0 : List UInt8 := dkwX3_in_0 ++ []
theorem dksX3_in_0 : cX3_in.data.toList.drop 0 = dktX3_in_0 := by decide +kernel
theorem dX3_in_0 : decode cX3_in 0 = .ok (.lload_n 0, 1) := dk_30 (dk_at dksX3_in_0 0 rfl rfl)
theorem dX3_in_1 : decode cX3_in 1 = .ok (.lload_n 2, 1) := dk_32 (dk_at dksX3_in_0 1 rfl rfl)
theorem dX3_in_2 : decode cX3_in 2 = .ok (.lcmp, 1) := dk_148 (dk_at dksX3_in_0 2 rfl rfl)
theorem dX3_in_3 : decode cX3_in 3 = .ok (.ifCond .lt 14, 3) := dk_155 0 14 (dk_at dksX3_in_0 3 rfl rfl)
theorem dX3_in_6 : decode cX3_in 6 = .ok (.lload_n 0, 1) := dk_30 (dk_at dksX3_in_0 6 rfl rfl)
theorem dX3_in_7 : decode cX3_in 7 = .ok (.lload 4, 2) := dk_22 4 (dk_at dksX3_in_0 7 rfl rfl)
theorem dX3_in_9 : decode cX3_in 9 = .ok (.lcmp, 1) := dk_148 (dk_at dksX3_in_0 9 rfl rfl)
theorem dX3_in_10 : decode cX3_in 10 = .ok (.ifCond .gt 7, 3) := dk_157 0 7 (dk_at dksX3_in_0 10 rfl rfl)
theorem dX3_in_13 : decode cX3_in 13 = .ok (.iconst 1, 1) := dk_4 (dk_at dksX3_in_0 13 rfl rfl)
theorem dX3_in_14 : decode cX3_in 14 = .ok (.goto 4, 3) := dk_167 0 4 (dk_at dksX3_in_0 14 rfl rfl)
theorem dX3_in_17 : decode cX3_in 17 = .ok (.iconst 0, 1) := dk_3 (dk_at dksX3_in_0 17 rfl rfl)
theorem dX3_in_18 : decode cX3_in 18 = .ok (.ireturn, 1) := dk_172 (dk_at dksX3_in_0 18 rfl rfl)
abbrev cX3_finding : ByteArray := prog_16_method_3_code
def yX3_finding : MethodName := ⟨RX3, "finding", "(I)I"⟩
def dkwX3_finding_0 : List UInt8 := [42, 27, 181, 0, 63, 18, 67, 27, 100, 172]
abbrev dktX3_finding_0 : List UInt8 := dkwX3_finding_0 ++ []
theorem dksX3_finding_0 : cX3_finding.data.toList.drop 0 = dktX3_finding_0 := by decide +kernel
theorem dX3_finding_0 : decode cX3_finding 0 = .ok (.aload_n 0, 1) := dk_42 (dk_at dksX3_finding_0 0 rfl rfl)
theorem dX3_finding_1 : decode cX3_finding 1 = .ok (.iload_n 1, 1) := dk_27 (dk_at dksX3_finding_0 1 rfl rfl)
theorem dX3_finding_2 : decode cX3_finding 2 = .ok (.putfield 63, 3) := dk_181 0 63 (dk_at dksX3_finding_0 2 rfl rfl)
theorem dX3_finding_5 : decode cX3_finding 5 = .ok (.ldc 67, 2) := dk_18 67 (dk_at dksX3_finding_0 5 rfl rfl)
theorem dX3_finding_7 : decode cX3_finding 7 = .ok (.iload_n 1, 1) := dk_27 (dk_at dksX3_finding_0 7 rfl rfl)
theorem dX3_finding_8 : decode cX3_finding 8 = .ok (.isub, 1) := dk_100 (dk_at dksX3_finding_0 8 rfl rfl)
theorem dX3_finding_9 : decode cX3_finding 9 = .ok (.ireturn, 1) := dk_172 (dk_at dksX3_finding_0 9 rfl rfl)
abbrev cX3_set : ByteArray := prog_16_method_6_code
def yX3_set : MethodName := ⟨RX3, "set", "(III)I"⟩
def dkwX3_set_4 : List UInt8 := [79, 42, 180, 0, 16, 16, 40, 27, 104, 28, 96, 46, 172]
abbrev dktX3_set_4 : List UInt8 := dkwX3_set_4 ++ []
def dkwX3_set_3 : List UInt8 := [154, 0, 8, 29, 145, 167, 0, 19, 42, 180, 0, 7, 27, 46, 4, 160, 0, 8, 29, 147, 167, 0, 4, 29]
abbrev dktX3_set_3 : List UInt8 := dkwX3_set_3 ++ dktX3_set_4
def dkwX3_set_2 : List UInt8 := [42, 5, 182, 0, 81, 172, 42, 180, 0, 16, 16, 40, 27, 104, 28, 96, 42, 180, 0, 7, 27, 46]
abbrev dktX3_set_2 : List UInt8 := dkwX3_set_2 ++ dktX3_set_3
def dkwX3_set_1 : List UInt8 := [42, 4, 182, 0, 81, 172, 28, 133, 9, 42, 180, 0, 13, 27, 46, 4, 100, 133, 184, 0, 70, 154, 0, 9]
abbrev dktX3_set_1 : List UInt8 := dkwX3_set_1 ++ dktX3_set_2
def dkwX3_set_0 : List UInt8 := [27, 184, 0, 74, 154, 0, 6, 18, 80, 172, 42, 3, 181, 0, 63, 42, 180, 0, 7, 27, 46, 156, 0, 9]
abbrev dktX3_set_0 : List UInt8 := dkwX3_set_0 ++ dktX3_set_1
theorem dksX3_set_0 : cX3_set.data.toList.drop 0 = dktX3_set_0 := by decide +kernel
theorem dksX3_set_1 : cX3_set.data.toList.drop 24 = dktX3_set_1 := dk_seg dksX3_set_0 24 rfl rfl
theorem dksX3_set_2 : cX3_set.data.toList.drop 48 = dktX3_set_2 := dk_seg dksX3_set_1 24 rfl rfl
theorem dksX3_set_3 : cX3_set.data.toList.drop 70 = dktX3_set_3 := dk_seg dksX3_set_2 22 rfl rfl
theorem dksX3_set_4 : cX3_set.data.toList.drop 94 = dktX3_set_4 := dk_seg dksX3_set_3 24 rfl rfl
theorem dX3_set_0 : decode cX3_set 0 = .ok (.iload_n 1, 1) := dk_27 (dk_at dksX3_set_0 0 rfl rfl)
theorem dX3_set_1 : decode cX3_set 1 = .ok (.invokestatic 74, 3) := dk_184 0 74 (dk_at dksX3_set_0 1 rfl rfl)
theorem dX3_set_4 : decode cX3_set 4 = .ok (.ifCond .ne 6, 3) := dk_154 0 6 (dk_at dksX3_set_0 4 rfl rfl)
theorem dX3_set_7 : decode cX3_set 7 = .ok (.ldc 80, 2) := dk_18 80 (dk_at dksX3_set_0 7 rfl rfl)
theorem dX3_set_9 : decode cX3_set 9 = .ok (.ireturn, 1) := dk_172 (dk_at dksX3_set_0 9 rfl rfl)
theorem dX3_set_10 : decode cX3_set 10 = .ok (.aload_n 0, 1) := dk_42 (dk_at dksX3_set_0 10 rfl rfl)
theorem dX3_set_11 : decode cX3_set 11 = .ok (.iconst 0, 1) := dk_3 (dk_at dksX3_set_0 11 rfl rfl)
theorem dX3_set_12 : decode cX3_set 12 = .ok (.putfield 63, 3) := dk_181 0 63 (dk_at dksX3_set_0 12 rfl rfl)
theorem dX3_set_15 : decode cX3_set 15 = .ok (.aload_n 0, 1) := dk_42 (dk_at dksX3_set_0 15 rfl rfl)
theorem dX3_set_16 : decode cX3_set 16 = .ok (.getfield 7, 3) := dk_180 0 7 (dk_at dksX3_set_0 16 rfl rfl)
theorem dX3_set_19 : decode cX3_set 19 = .ok (.iload_n 1, 1) := dk_27 (dk_at dksX3_set_0 19 rfl rfl)
theorem dX3_set_20 : decode cX3_set 20 = .ok (.iaload, 1) := dk_46 (dk_at dksX3_set_0 20 rfl rfl)
theorem dX3_set_21 : decode cX3_set 21 = .ok (.ifCond .ge 9, 3) := dk_156 0 9 (dk_at dksX3_set_0 21 rfl rfl)
theorem dX3_set_24 : decode cX3_set 24 = .ok (.aload_n 0, 1) := dk_42 (dk_at dksX3_set_1 0 rfl rfl)
theorem dX3_set_25 : decode cX3_set 25 = .ok (.iconst 1, 1) := dk_4 (dk_at dksX3_set_1 1 rfl rfl)
theorem dX3_set_26 : decode cX3_set 26 = .ok (.invokevirtual 81, 3) := dk_182 0 81 (dk_at dksX3_set_1 2 rfl rfl)
theorem dX3_set_29 : decode cX3_set 29 = .ok (.ireturn, 1) := dk_172 (dk_at dksX3_set_1 5 rfl rfl)
theorem dX3_set_30 : decode cX3_set 30 = .ok (.iload_n 2, 1) := dk_28 (dk_at dksX3_set_1 6 rfl rfl)
theorem dX3_set_31 : decode cX3_set 31 = .ok (.i2l, 1) := dk_133 (dk_at dksX3_set_1 7 rfl rfl)
theorem dX3_set_32 : decode cX3_set 32 = .ok (.lconst 0, 1) := dk_9 (dk_at dksX3_set_1 8 rfl rfl)
theorem dX3_set_33 : decode cX3_set 33 = .ok (.aload_n 0, 1) := dk_42 (dk_at dksX3_set_1 9 rfl rfl)
theorem dX3_set_34 : decode cX3_set 34 = .ok (.getfield 13, 3) := dk_180 0 13 (dk_at dksX3_set_1 10 rfl rfl)
theorem dX3_set_37 : decode cX3_set 37 = .ok (.iload_n 1, 1) := dk_27 (dk_at dksX3_set_1 13 rfl rfl)
theorem dX3_set_38 : decode cX3_set 38 = .ok (.iaload, 1) := dk_46 (dk_at dksX3_set_1 14 rfl rfl)
theorem dX3_set_39 : decode cX3_set 39 = .ok (.iconst 1, 1) := dk_4 (dk_at dksX3_set_1 15 rfl rfl)
theorem dX3_set_40 : decode cX3_set 40 = .ok (.isub, 1) := dk_100 (dk_at dksX3_set_1 16 rfl rfl)
theorem dX3_set_41 : decode cX3_set 41 = .ok (.i2l, 1) := dk_133 (dk_at dksX3_set_1 17 rfl rfl)
theorem dX3_set_42 : decode cX3_set 42 = .ok (.invokestatic 70, 3) := dk_184 0 70 (dk_at dksX3_set_1 18 rfl rfl)
theorem dX3_set_45 : decode cX3_set 45 = .ok (.ifCond .ne 9, 3) := dk_154 0 9 (dk_at dksX3_set_1 21 rfl rfl)
theorem dX3_set_48 : decode cX3_set 48 = .ok (.aload_n 0, 1) := dk_42 (dk_at dksX3_set_2 0 rfl rfl)
theorem dX3_set_49 : decode cX3_set 49 = .ok (.iconst 2, 1) := dk_5 (dk_at dksX3_set_2 1 rfl rfl)
theorem dX3_set_50 : decode cX3_set 50 = .ok (.invokevirtual 81, 3) := dk_182 0 81 (dk_at dksX3_set_2 2 rfl rfl)
theorem dX3_set_53 : decode cX3_set 53 = .ok (.ireturn, 1) := dk_172 (dk_at dksX3_set_2 5 rfl rfl)
theorem dX3_set_54 : decode cX3_set 54 = .ok (.aload_n 0, 1) := dk_42 (dk_at dksX3_set_2 6 rfl rfl)
theorem dX3_set_55 : decode cX3_set 55 = .ok (.getfield 16, 3) := dk_180 0 16 (dk_at dksX3_set_2 7 rfl rfl)
theorem dX3_set_58 : decode cX3_set 58 = .ok (.bipush 40, 2) := dk_16 40 (dk_at dksX3_set_2 10 rfl rfl)
theorem dX3_set_60 : decode cX3_set 60 = .ok (.iload_n 1, 1) := dk_27 (dk_at dksX3_set_2 12 rfl rfl)
theorem dX3_set_61 : decode cX3_set 61 = .ok (.imul, 1) := dk_104 (dk_at dksX3_set_2 13 rfl rfl)
theorem dX3_set_62 : decode cX3_set 62 = .ok (.iload_n 2, 1) := dk_28 (dk_at dksX3_set_2 14 rfl rfl)
theorem dX3_set_63 : decode cX3_set 63 = .ok (.iadd, 1) := dk_96 (dk_at dksX3_set_2 15 rfl rfl)
theorem dX3_set_64 : decode cX3_set 64 = .ok (.aload_n 0, 1) := dk_42 (dk_at dksX3_set_2 16 rfl rfl)
theorem dX3_set_65 : decode cX3_set 65 = .ok (.getfield 7, 3) := dk_180 0 7 (dk_at dksX3_set_2 17 rfl rfl)
theorem dX3_set_68 : decode cX3_set 68 = .ok (.iload_n 1, 1) := dk_27 (dk_at dksX3_set_2 20 rfl rfl)
theorem dX3_set_69 : decode cX3_set 69 = .ok (.iaload, 1) := dk_46 (dk_at dksX3_set_2 21 rfl rfl)
theorem dX3_set_70 : decode cX3_set 70 = .ok (.ifCond .ne 8, 3) := dk_154 0 8 (dk_at dksX3_set_3 0 rfl rfl)
theorem dX3_set_73 : decode cX3_set 73 = .ok (.iload_n 3, 1) := dk_29 (dk_at dksX3_set_3 3 rfl rfl)
theorem dX3_set_74 : decode cX3_set 74 = .ok (.i2b, 1) := dk_145 (dk_at dksX3_set_3 4 rfl rfl)
theorem dX3_set_75 : decode cX3_set 75 = .ok (.goto 19, 3) := dk_167 0 19 (dk_at dksX3_set_3 5 rfl rfl)
theorem dX3_set_78 : decode cX3_set 78 = .ok (.aload_n 0, 1) := dk_42 (dk_at dksX3_set_3 8 rfl rfl)
theorem dX3_set_79 : decode cX3_set 79 = .ok (.getfield 7, 3) := dk_180 0 7 (dk_at dksX3_set_3 9 rfl rfl)
theorem dX3_set_82 : decode cX3_set 82 = .ok (.iload_n 1, 1) := dk_27 (dk_at dksX3_set_3 12 rfl rfl)
theorem dX3_set_83 : decode cX3_set 83 = .ok (.iaload, 1) := dk_46 (dk_at dksX3_set_3 13 rfl rfl)
theorem dX3_set_84 : decode cX3_set 84 = .ok (.iconst 1, 1) := dk_4 (dk_at dksX3_set_3 14 rfl rfl)
theorem dX3_set_85 : decode cX3_set 85 = .ok (.if_icmp .ne 8, 3) := dk_160 0 8 (dk_at dksX3_set_3 15 rfl rfl)
theorem dX3_set_88 : decode cX3_set 88 = .ok (.iload_n 3, 1) := dk_29 (dk_at dksX3_set_3 18 rfl rfl)
theorem dX3_set_89 : decode cX3_set 89 = .ok (.i2s, 1) := dk_147 (dk_at dksX3_set_3 19 rfl rfl)
theorem dX3_set_90 : decode cX3_set 90 = .ok (.goto 4, 3) := dk_167 0 4 (dk_at dksX3_set_3 20 rfl rfl)
theorem dX3_set_93 : decode cX3_set 93 = .ok (.iload_n 3, 1) := dk_29 (dk_at dksX3_set_3 23 rfl rfl)
theorem dX3_set_94 : decode cX3_set 94 = .ok (.iastore, 1) := dk_79 (dk_at dksX3_set_4 0 rfl rfl)
theorem dX3_set_95 : decode cX3_set 95 = .ok (.aload_n 0, 1) := dk_42 (dk_at dksX3_set_4 1 rfl rfl)
theorem dX3_set_96 : decode cX3_set 96 = .ok (.getfield 16, 3) := dk_180 0 16 (dk_at dksX3_set_4 2 rfl rfl)
theorem dX3_set_99 : decode cX3_set 99 = .ok (.bipush 40, 2) := dk_16 40 (dk_at dksX3_set_4 5 rfl rfl)
theorem dX3_set_101 : decode cX3_set 101 = .ok (.iload_n 1, 1) := dk_27 (dk_at dksX3_set_4 7 rfl rfl)
theorem dX3_set_102 : decode cX3_set 102 = .ok (.imul, 1) := dk_104 (dk_at dksX3_set_4 8 rfl rfl)
theorem dX3_set_103 : decode cX3_set 103 = .ok (.iload_n 2, 1) := dk_28 (dk_at dksX3_set_4 9 rfl rfl)
theorem dX3_set_104 : decode cX3_set 104 = .ok (.iadd, 1) := dk_96 (dk_at dksX3_set_4 10 rfl rfl)
theorem dX3_set_105 : decode cX3_set 105 = .ok (.iaload, 1) := dk_46 (dk_at dksX3_set_4 11 rfl rfl)
theorem dX3_set_106 : decode cX3_set 106 = .ok (.ireturn, 1) := dk_172 (dk_at dksX3_set_4 12 rfl rfl)
abbrev cX3_copy : ByteArray := prog_16_method_7_code
def yX3_copy : MethodName := ⟨RX3, "copy", "(IIIII)I"⟩
def dkwX3_copy_8 : List UInt8 := [21, 8, 96, 46, 79, 132, 7, 1, 167, 255, 198, 21, 5, 172]
abbrev dktX3_copy_8 : List UInt8 := dkwX3_copy_8 ++ []
def dkwX3_copy_7 : List UInt8 := [180, 0, 16, 16, 40, 29, 104, 21, 4, 96, 21, 8, 96, 42, 180, 0, 16, 16, 40, 27, 104, 28, 96]
abbrev dktX3_copy_7 : List UInt8 := dkwX3_copy_7 ++ dktX3_copy_8
def dkwX3_copy_6 : List UInt8 := [162, 0, 57, 21, 6, 153, 0, 8, 21, 7, 167, 0, 10, 21, 5, 4, 100, 21, 7, 100, 54, 8, 42]
abbrev dktX3_copy_6 : List UInt8 := dkwX3_copy_6 ++ dktX3_copy_7
def dkwX3_copy_5 : List UInt8 := [182, 0, 81, 172, 28, 21, 4, 161, 0, 7, 4, 167, 0, 4, 3, 54, 6, 3, 54, 7, 21, 7, 21, 5]
abbrev dktX3_copy_5 : List UInt8 := dkwX3_copy_5 ++ dktX3_copy_6
def dkwX3_copy_4 : List UInt8 := [157, 0, 21, 21, 4, 133, 21, 5, 133, 97, 42, 180, 0, 13, 29, 46, 133, 148, 158, 0, 9, 42, 5]
abbrev dktX3_copy_4 : List UInt8 := dkwX3_copy_4 ++ dktX3_copy_5
def dkwX3_copy_3 : List UInt8 := [21, 4, 155, 0, 43, 21, 5, 155, 0, 38, 28, 133, 21, 5, 133, 97, 42, 180, 0, 13, 27, 46, 133, 148]
abbrev dktX3_copy_3 : List UInt8 := dkwX3_copy_3 ++ dktX3_copy_4
def dkwX3_copy_2 : List UInt8 := [180, 0, 7, 27, 46, 42, 180, 0, 7, 29, 46, 159, 0, 9, 42, 8, 182, 0, 81, 172, 28, 155, 0, 48]
abbrev dktX3_copy_2 : List UInt8 := dkwX3_copy_2 ++ dktX3_copy_3
def dkwX3_copy_1 : List UInt8 := [180, 0, 7, 27, 46, 155, 0, 12, 42, 180, 0, 7, 29, 46, 156, 0, 9, 42, 4, 182, 0, 81, 172, 42]
abbrev dktX3_copy_1 : List UInt8 := dkwX3_copy_1 ++ dktX3_copy_2
def dkwX3_copy_0 : List UInt8 := [27, 184, 0, 74, 153, 0, 10, 29, 184, 0, 74, 154, 0, 6, 18, 80, 172, 42, 3, 181, 0, 63, 42]
abbrev dktX3_copy_0 : List UInt8 := dkwX3_copy_0 ++ dktX3_copy_1
theorem dksX3_copy_0 : cX3_copy.data.toList.drop 0 = dktX3_copy_0 := by decide +kernel
theorem dksX3_copy_1 : cX3_copy.data.toList.drop 23 = dktX3_copy_1 := dk_seg dksX3_copy_0 23 rfl rfl
theorem dksX3_copy_2 : cX3_copy.data.toList.drop 47 = dktX3_copy_2 := dk_seg dksX3_copy_1 24 rfl rfl
theorem dksX3_copy_3 : cX3_copy.data.toList.drop 71 = dktX3_copy_3 := dk_seg dksX3_copy_2 24 rfl rfl
theorem dksX3_copy_4 : cX3_copy.data.toList.drop 95 = dktX3_copy_4 := dk_seg dksX3_copy_3 24 rfl rfl
theorem dksX3_copy_5 : cX3_copy.data.toList.drop 118 = dktX3_copy_5 := dk_seg dksX3_copy_4 23 rfl rfl
theorem dksX3_copy_6 : cX3_copy.data.toList.drop 142 = dktX3_copy_6 := dk_seg dksX3_copy_5 24 rfl rfl
theorem dksX3_copy_7 : cX3_copy.data.toList.drop 165 = dktX3_copy_7 := dk_seg dksX3_copy_6 23 rfl rfl
theorem dksX3_copy_8 : cX3_copy.data.toList.drop 188 = dktX3_copy_8 := dk_seg dksX3_copy_7 23 rfl rfl
theorem dX3_copy_0 : decode cX3_copy 0 = .ok (.iload_n 1, 1) := dk_27 (dk_at dksX3_copy_0 0 rfl rfl)
theorem dX3_copy_1 : decode cX3_copy 1 = .ok (.invokestatic 74, 3) := dk_184 0 74 (dk_at dksX3_copy_0 1 rfl rfl)
theorem dX3_copy_4 : decode cX3_copy 4 = .ok (.ifCond .eq 10, 3) := dk_153 0 10 (dk_at dksX3_copy_0 4 rfl rfl)
theorem dX3_copy_7 : decode cX3_copy 7 = .ok (.iload_n 3, 1) := dk_29 (dk_at dksX3_copy_0 7 rfl rfl)
theorem dX3_copy_8 : decode cX3_copy 8 = .ok (.invokestatic 74, 3) := dk_184 0 74 (dk_at dksX3_copy_0 8 rfl rfl)
theorem dX3_copy_11 : decode cX3_copy 11 = .ok (.ifCond .ne 6, 3) := dk_154 0 6 (dk_at dksX3_copy_0 11 rfl rfl)
theorem dX3_copy_14 : decode cX3_copy 14 = .ok (.ldc 80, 2) := dk_18 80 (dk_at dksX3_copy_0 14 rfl rfl)
theorem dX3_copy_16 : decode cX3_copy 16 = .ok (.ireturn, 1) := dk_172 (dk_at dksX3_copy_0 16 rfl rfl)
theorem dX3_copy_17 : decode cX3_copy 17 = .ok (.aload_n 0, 1) := dk_42 (dk_at dksX3_copy_0 17 rfl rfl)
theorem dX3_copy_18 : decode cX3_copy 18 = .ok (.iconst 0, 1) := dk_3 (dk_at dksX3_copy_0 18 rfl rfl)
theorem dX3_copy_19 : decode cX3_copy 19 = .ok (.putfield 63, 3) := dk_181 0 63 (dk_at dksX3_copy_0 19 rfl rfl)
theorem dX3_copy_22 : decode cX3_copy 22 = .ok (.aload_n 0, 1) := dk_42 (dk_at dksX3_copy_0 22 rfl rfl)
theorem dX3_copy_23 : decode cX3_copy 23 = .ok (.getfield 7, 3) := dk_180 0 7 (dk_at dksX3_copy_1 0 rfl rfl)
theorem dX3_copy_26 : decode cX3_copy 26 = .ok (.iload_n 1, 1) := dk_27 (dk_at dksX3_copy_1 3 rfl rfl)
theorem dX3_copy_27 : decode cX3_copy 27 = .ok (.iaload, 1) := dk_46 (dk_at dksX3_copy_1 4 rfl rfl)
theorem dX3_copy_28 : decode cX3_copy 28 = .ok (.ifCond .lt 12, 3) := dk_155 0 12 (dk_at dksX3_copy_1 5 rfl rfl)
theorem dX3_copy_31 : decode cX3_copy 31 = .ok (.aload_n 0, 1) := dk_42 (dk_at dksX3_copy_1 8 rfl rfl)
theorem dX3_copy_32 : decode cX3_copy 32 = .ok (.getfield 7, 3) := dk_180 0 7 (dk_at dksX3_copy_1 9 rfl rfl)
theorem dX3_copy_35 : decode cX3_copy 35 = .ok (.iload_n 3, 1) := dk_29 (dk_at dksX3_copy_1 12 rfl rfl)
theorem dX3_copy_36 : decode cX3_copy 36 = .ok (.iaload, 1) := dk_46 (dk_at dksX3_copy_1 13 rfl rfl)
theorem dX3_copy_37 : decode cX3_copy 37 = .ok (.ifCond .ge 9, 3) := dk_156 0 9 (dk_at dksX3_copy_1 14 rfl rfl)
theorem dX3_copy_40 : decode cX3_copy 40 = .ok (.aload_n 0, 1) := dk_42 (dk_at dksX3_copy_1 17 rfl rfl)
theorem dX3_copy_41 : decode cX3_copy 41 = .ok (.iconst 1, 1) := dk_4 (dk_at dksX3_copy_1 18 rfl rfl)
theorem dX3_copy_42 : decode cX3_copy 42 = .ok (.invokevirtual 81, 3) := dk_182 0 81 (dk_at dksX3_copy_1 19 rfl rfl)
theorem dX3_copy_45 : decode cX3_copy 45 = .ok (.ireturn, 1) := dk_172 (dk_at dksX3_copy_1 22 rfl rfl)
theorem dX3_copy_46 : decode cX3_copy 46 = .ok (.aload_n 0, 1) := dk_42 (dk_at dksX3_copy_1 23 rfl rfl)
theorem dX3_copy_47 : decode cX3_copy 47 = .ok (.getfield 7, 3) := dk_180 0 7 (dk_at dksX3_copy_2 0 rfl rfl)
theorem dX3_copy_50 : decode cX3_copy 50 = .ok (.iload_n 1, 1) := dk_27 (dk_at dksX3_copy_2 3 rfl rfl)
theorem dX3_copy_51 : decode cX3_copy 51 = .ok (.iaload, 1) := dk_46 (dk_at dksX3_copy_2 4 rfl rfl)
theorem dX3_copy_52 : decode cX3_copy 52 = .ok (.aload_n 0, 1) := dk_42 (dk_at dksX3_copy_2 5 rfl rfl)
theorem dX3_copy_53 : decode cX3_copy 53 = .ok (.getfield 7, 3) := dk_180 0 7 (dk_at dksX3_copy_2 6 rfl rfl)
theorem dX3_copy_56 : decode cX3_copy 56 = .ok (.iload_n 3, 1) := dk_29 (dk_at dksX3_copy_2 9 rfl rfl)
theorem dX3_copy_57 : decode cX3_copy 57 = .ok (.iaload, 1) := dk_46 (dk_at dksX3_copy_2 10 rfl rfl)
theorem dX3_copy_58 : decode cX3_copy 58 = .ok (.if_icmp .eq 9, 3) := dk_159 0 9 (dk_at dksX3_copy_2 11 rfl rfl)
theorem dX3_copy_61 : decode cX3_copy 61 = .ok (.aload_n 0, 1) := dk_42 (dk_at dksX3_copy_2 14 rfl rfl)
theorem dX3_copy_62 : decode cX3_copy 62 = .ok (.iconst 5, 1) := dk_8 (dk_at dksX3_copy_2 15 rfl rfl)
theorem dX3_copy_63 : decode cX3_copy 63 = .ok (.invokevirtual 81, 3) := dk_182 0 81 (dk_at dksX3_copy_2 16 rfl rfl)
theorem dX3_copy_66 : decode cX3_copy 66 = .ok (.ireturn, 1) := dk_172 (dk_at dksX3_copy_2 19 rfl rfl)
theorem dX3_copy_67 : decode cX3_copy 67 = .ok (.iload_n 2, 1) := dk_28 (dk_at dksX3_copy_2 20 rfl rfl)
theorem dX3_copy_68 : decode cX3_copy 68 = .ok (.ifCond .lt 48, 3) := dk_155 0 48 (dk_at dksX3_copy_2 21 rfl rfl)
theorem dX3_copy_71 : decode cX3_copy 71 = .ok (.iload 4, 2) := dk_21 4 (dk_at dksX3_copy_3 0 rfl rfl)
theorem dX3_copy_73 : decode cX3_copy 73 = .ok (.ifCond .lt 43, 3) := dk_155 0 43 (dk_at dksX3_copy_3 2 rfl rfl)
theorem dX3_copy_76 : decode cX3_copy 76 = .ok (.iload 5, 2) := dk_21 5 (dk_at dksX3_copy_3 5 rfl rfl)
theorem dX3_copy_78 : decode cX3_copy 78 = .ok (.ifCond .lt 38, 3) := dk_155 0 38 (dk_at dksX3_copy_3 7 rfl rfl)
theorem dX3_copy_81 : decode cX3_copy 81 = .ok (.iload_n 2, 1) := dk_28 (dk_at dksX3_copy_3 10 rfl rfl)
theorem dX3_copy_82 : decode cX3_copy 82 = .ok (.i2l, 1) := dk_133 (dk_at dksX3_copy_3 11 rfl rfl)
theorem dX3_copy_83 : decode cX3_copy 83 = .ok (.iload 5, 2) := dk_21 5 (dk_at dksX3_copy_3 12 rfl rfl)
theorem dX3_copy_85 : decode cX3_copy 85 = .ok (.i2l, 1) := dk_133 (dk_at dksX3_copy_3 14 rfl rfl)
theorem dX3_copy_86 : decode cX3_copy 86 = .ok (.ladd, 1) := dk_97 (dk_at dksX3_copy_3 15 rfl rfl)
theorem dX3_copy_87 : decode cX3_copy 87 = .ok (.aload_n 0, 1) := dk_42 (dk_at dksX3_copy_3 16 rfl rfl)
theorem dX3_copy_88 : decode cX3_copy 88 = .ok (.getfield 13, 3) := dk_180 0 13 (dk_at dksX3_copy_3 17 rfl rfl)
theorem dX3_copy_91 : decode cX3_copy 91 = .ok (.iload_n 1, 1) := dk_27 (dk_at dksX3_copy_3 20 rfl rfl)
theorem dX3_copy_92 : decode cX3_copy 92 = .ok (.iaload, 1) := dk_46 (dk_at dksX3_copy_3 21 rfl rfl)
theorem dX3_copy_93 : decode cX3_copy 93 = .ok (.i2l, 1) := dk_133 (dk_at dksX3_copy_3 22 rfl rfl)
theorem dX3_copy_94 : decode cX3_copy 94 = .ok (.lcmp, 1) := dk_148 (dk_at dksX3_copy_3 23 rfl rfl)
theorem dX3_copy_95 : decode cX3_copy 95 = .ok (.ifCond .gt 21, 3) := dk_157 0 21 (dk_at dksX3_copy_4 0 rfl rfl)
theorem dX3_copy_98 : decode cX3_copy 98 = .ok (.iload 4, 2) := dk_21 4 (dk_at dksX3_copy_4 3 rfl rfl)
theorem dX3_copy_100 : decode cX3_copy 100 = .ok (.i2l, 1) := dk_133 (dk_at dksX3_copy_4 5 rfl rfl)
theorem dX3_copy_101 : decode cX3_copy 101 = .ok (.iload 5, 2) := dk_21 5 (dk_at dksX3_copy_4 6 rfl rfl)
theorem dX3_copy_103 : decode cX3_copy 103 = .ok (.i2l, 1) := dk_133 (dk_at dksX3_copy_4 8 rfl rfl)
theorem dX3_copy_104 : decode cX3_copy 104 = .ok (.ladd, 1) := dk_97 (dk_at dksX3_copy_4 9 rfl rfl)
theorem dX3_copy_105 : decode cX3_copy 105 = .ok (.aload_n 0, 1) := dk_42 (dk_at dksX3_copy_4 10 rfl rfl)
theorem dX3_copy_106 : decode cX3_copy 106 = .ok (.getfield 13, 3) := dk_180 0 13 (dk_at dksX3_copy_4 11 rfl rfl)
theorem dX3_copy_109 : decode cX3_copy 109 = .ok (.iload_n 3, 1) := dk_29 (dk_at dksX3_copy_4 14 rfl rfl)
theorem dX3_copy_110 : decode cX3_copy 110 = .ok (.iaload, 1) := dk_46 (dk_at dksX3_copy_4 15 rfl rfl)
theorem dX3_copy_111 : decode cX3_copy 111 = .ok (.i2l, 1) := dk_133 (dk_at dksX3_copy_4 16 rfl rfl)
theorem dX3_copy_112 : decode cX3_copy 112 = .ok (.lcmp, 1) := dk_148 (dk_at dksX3_copy_4 17 rfl rfl)
theorem dX3_copy_113 : decode cX3_copy 113 = .ok (.ifCond .le 9, 3) := dk_158 0 9 (dk_at dksX3_copy_4 18 rfl rfl)
theorem dX3_copy_116 : decode cX3_copy 116 = .ok (.aload_n 0, 1) := dk_42 (dk_at dksX3_copy_4 21 rfl rfl)
theorem dX3_copy_117 : decode cX3_copy 117 = .ok (.iconst 2, 1) := dk_5 (dk_at dksX3_copy_4 22 rfl rfl)
theorem dX3_copy_118 : decode cX3_copy 118 = .ok (.invokevirtual 81, 3) := dk_182 0 81 (dk_at dksX3_copy_5 0 rfl rfl)
theorem dX3_copy_121 : decode cX3_copy 121 = .ok (.ireturn, 1) := dk_172 (dk_at dksX3_copy_5 3 rfl rfl)
theorem dX3_copy_122 : decode cX3_copy 122 = .ok (.iload_n 2, 1) := dk_28 (dk_at dksX3_copy_5 4 rfl rfl)
theorem dX3_copy_123 : decode cX3_copy 123 = .ok (.iload 4, 2) := dk_21 4 (dk_at dksX3_copy_5 5 rfl rfl)
theorem dX3_copy_125 : decode cX3_copy 125 = .ok (.if_icmp .lt 7, 3) := dk_161 0 7 (dk_at dksX3_copy_5 7 rfl rfl)
theorem dX3_copy_128 : decode cX3_copy 128 = .ok (.iconst 1, 1) := dk_4 (dk_at dksX3_copy_5 10 rfl rfl)
theorem dX3_copy_129 : decode cX3_copy 129 = .ok (.goto 4, 3) := dk_167 0 4 (dk_at dksX3_copy_5 11 rfl rfl)
theorem dX3_copy_132 : decode cX3_copy 132 = .ok (.iconst 0, 1) := dk_3 (dk_at dksX3_copy_5 14 rfl rfl)
theorem dX3_copy_133 : decode cX3_copy 133 = .ok (.istore 6, 2) := dk_54 6 (dk_at dksX3_copy_5 15 rfl rfl)
theorem dX3_copy_135 : decode cX3_copy 135 = .ok (.iconst 0, 1) := dk_3 (dk_at dksX3_copy_5 17 rfl rfl)
theorem dX3_copy_136 : decode cX3_copy 136 = .ok (.istore 7, 2) := dk_54 7 (dk_at dksX3_copy_5 18 rfl rfl)
theorem dX3_copy_138 : decode cX3_copy 138 = .ok (.iload 7, 2) := dk_21 7 (dk_at dksX3_copy_5 20 rfl rfl)
theorem dX3_copy_140 : decode cX3_copy 140 = .ok (.iload 5, 2) := dk_21 5 (dk_at dksX3_copy_5 22 rfl rfl)
theorem dX3_copy_142 : decode cX3_copy 142 = .ok (.if_icmp .ge 57, 3) := dk_162 0 57 (dk_at dksX3_copy_6 0 rfl rfl)
theorem dX3_copy_145 : decode cX3_copy 145 = .ok (.iload 6, 2) := dk_21 6 (dk_at dksX3_copy_6 3 rfl rfl)
theorem dX3_copy_147 : decode cX3_copy 147 = .ok (.ifCond .eq 8, 3) := dk_153 0 8 (dk_at dksX3_copy_6 5 rfl rfl)
theorem dX3_copy_150 : decode cX3_copy 150 = .ok (.iload 7, 2) := dk_21 7 (dk_at dksX3_copy_6 8 rfl rfl)
theorem dX3_copy_152 : decode cX3_copy 152 = .ok (.goto 10, 3) := dk_167 0 10 (dk_at dksX3_copy_6 10 rfl rfl)
theorem dX3_copy_155 : decode cX3_copy 155 = .ok (.iload 5, 2) := dk_21 5 (dk_at dksX3_copy_6 13 rfl rfl)
theorem dX3_copy_157 : decode cX3_copy 157 = .ok (.iconst 1, 1) := dk_4 (dk_at dksX3_copy_6 15 rfl rfl)
theorem dX3_copy_158 : decode cX3_copy 158 = .ok (.isub, 1) := dk_100 (dk_at dksX3_copy_6 16 rfl rfl)
theorem dX3_copy_159 : decode cX3_copy 159 = .ok (.iload 7, 2) := dk_21 7 (dk_at dksX3_copy_6 17 rfl rfl)
theorem dX3_copy_161 : decode cX3_copy 161 = .ok (.isub, 1) := dk_100 (dk_at dksX3_copy_6 19 rfl rfl)
theorem dX3_copy_162 : decode cX3_copy 162 = .ok (.istore 8, 2) := dk_54 8 (dk_at dksX3_copy_6 20 rfl rfl)
theorem dX3_copy_164 : decode cX3_copy 164 = .ok (.aload_n 0, 1) := dk_42 (dk_at dksX3_copy_6 22 rfl rfl)
theorem dX3_copy_165 : decode cX3_copy 165 = .ok (.getfield 16, 3) := dk_180 0 16 (dk_at dksX3_copy_7 0 rfl rfl)
theorem dX3_copy_168 : decode cX3_copy 168 = .ok (.bipush 40, 2) := dk_16 40 (dk_at dksX3_copy_7 3 rfl rfl)
theorem dX3_copy_170 : decode cX3_copy 170 = .ok (.iload_n 3, 1) := dk_29 (dk_at dksX3_copy_7 5 rfl rfl)
theorem dX3_copy_171 : decode cX3_copy 171 = .ok (.imul, 1) := dk_104 (dk_at dksX3_copy_7 6 rfl rfl)
theorem dX3_copy_172 : decode cX3_copy 172 = .ok (.iload 4, 2) := dk_21 4 (dk_at dksX3_copy_7 7 rfl rfl)
theorem dX3_copy_174 : decode cX3_copy 174 = .ok (.iadd, 1) := dk_96 (dk_at dksX3_copy_7 9 rfl rfl)
theorem dX3_copy_175 : decode cX3_copy 175 = .ok (.iload 8, 2) := dk_21 8 (dk_at dksX3_copy_7 10 rfl rfl)
theorem dX3_copy_177 : decode cX3_copy 177 = .ok (.iadd, 1) := dk_96 (dk_at dksX3_copy_7 12 rfl rfl)
theorem dX3_copy_178 : decode cX3_copy 178 = .ok (.aload_n 0, 1) := dk_42 (dk_at dksX3_copy_7 13 rfl rfl)
theorem dX3_copy_179 : decode cX3_copy 179 = .ok (.getfield 16, 3) := dk_180 0 16 (dk_at dksX3_copy_7 14 rfl rfl)
theorem dX3_copy_182 : decode cX3_copy 182 = .ok (.bipush 40, 2) := dk_16 40 (dk_at dksX3_copy_7 17 rfl rfl)
theorem dX3_copy_184 : decode cX3_copy 184 = .ok (.iload_n 1, 1) := dk_27 (dk_at dksX3_copy_7 19 rfl rfl)
theorem dX3_copy_185 : decode cX3_copy 185 = .ok (.imul, 1) := dk_104 (dk_at dksX3_copy_7 20 rfl rfl)
theorem dX3_copy_186 : decode cX3_copy 186 = .ok (.iload_n 2, 1) := dk_28 (dk_at dksX3_copy_7 21 rfl rfl)
theorem dX3_copy_187 : decode cX3_copy 187 = .ok (.iadd, 1) := dk_96 (dk_at dksX3_copy_7 22 rfl rfl)
theorem dX3_copy_188 : decode cX3_copy 188 = .ok (.iload 8, 2) := dk_21 8 (dk_at dksX3_copy_8 0 rfl rfl)
theorem dX3_copy_190 : decode cX3_copy 190 = .ok (.iadd, 1) := dk_96 (dk_at dksX3_copy_8 2 rfl rfl)
theorem dX3_copy_191 : decode cX3_copy 191 = .ok (.iaload, 1) := dk_46 (dk_at dksX3_copy_8 3 rfl rfl)
theorem dX3_copy_192 : decode cX3_copy 192 = .ok (.iastore, 1) := dk_79 (dk_at dksX3_copy_8 4 rfl rfl)
theorem dX3_copy_193 : decode cX3_copy 193 = .ok (.iinc 7 1, 3) := dk_132 7 1 (dk_at dksX3_copy_8 5 rfl rfl)
theorem dX3_copy_196 : decode cX3_copy 196 = .ok (.goto (-58), 3) := dk_167 255 198 (dk_at dksX3_copy_8 8 rfl rfl)
theorem dX3_copy_199 : decode cX3_copy 199 = .ok (.iload 5, 2) := dk_21 5 (dk_at dksX3_copy_8 11 rfl rfl)
theorem dX3_copy_201 : decode cX3_copy 201 = .ok (.ireturn, 1) := dk_172 (dk_at dksX3_copy_8 13 rfl rfl)
abbrev cX3_drop : ByteArray := prog_16_method_8_code
def yX3_drop : MethodName := ⟨RX3, "drop", "(I)I"⟩
def dkwX3_drop_1 : List UInt8 := [42, 4, 182, 0, 81, 172, 42, 180, 0, 7, 27, 2, 79, 42, 180, 0, 13, 27, 46, 172]
abbrev dktX3_drop_1 : List UInt8 := dkwX3_drop_1 ++ []
def dkwX3_drop_0 : List UInt8 := [27, 184, 0, 74, 154, 0, 6, 18, 80, 172, 42, 3, 181, 0, 63, 42, 180, 0, 7, 27, 46, 156, 0, 9]
abbrev dktX3_drop_0 : List UInt8 := dkwX3_drop_0 ++ dktX3_drop_1
theorem dksX3_drop_0 : cX3_drop.data.toList.drop 0 = dktX3_drop_0 := by decide +kernel
theorem dksX3_drop_1 : cX3_drop.data.toList.drop 24 = dktX3_drop_1 := dk_seg dksX3_drop_0 24 rfl rfl
theorem dX3_drop_0 : decode cX3_drop 0 = .ok (.iload_n 1, 1) := dk_27 (dk_at dksX3_drop_0 0 rfl rfl)
theorem dX3_drop_1 : decode cX3_drop 1 = .ok (.invokestatic 74, 3) := dk_184 0 74 (dk_at dksX3_drop_0 1 rfl rfl)
theorem dX3_drop_4 : decode cX3_drop 4 = .ok (.ifCond .ne 6, 3) := dk_154 0 6 (dk_at dksX3_drop_0 4 rfl rfl)
theorem dX3_drop_7 : decode cX3_drop 7 = .ok (.ldc 80, 2) := dk_18 80 (dk_at dksX3_drop_0 7 rfl rfl)
theorem dX3_drop_9 : decode cX3_drop 9 = .ok (.ireturn, 1) := dk_172 (dk_at dksX3_drop_0 9 rfl rfl)
theorem dX3_drop_10 : decode cX3_drop 10 = .ok (.aload_n 0, 1) := dk_42 (dk_at dksX3_drop_0 10 rfl rfl)
theorem dX3_drop_11 : decode cX3_drop 11 = .ok (.iconst 0, 1) := dk_3 (dk_at dksX3_drop_0 11 rfl rfl)
theorem dX3_drop_12 : decode cX3_drop 12 = .ok (.putfield 63, 3) := dk_181 0 63 (dk_at dksX3_drop_0 12 rfl rfl)
theorem dX3_drop_15 : decode cX3_drop 15 = .ok (.aload_n 0, 1) := dk_42 (dk_at dksX3_drop_0 15 rfl rfl)
theorem dX3_drop_16 : decode cX3_drop 16 = .ok (.getfield 7, 3) := dk_180 0 7 (dk_at dksX3_drop_0 16 rfl rfl)
theorem dX3_drop_19 : decode cX3_drop 19 = .ok (.iload_n 1, 1) := dk_27 (dk_at dksX3_drop_0 19 rfl rfl)
theorem dX3_drop_20 : decode cX3_drop 20 = .ok (.iaload, 1) := dk_46 (dk_at dksX3_drop_0 20 rfl rfl)
theorem dX3_drop_21 : decode cX3_drop 21 = .ok (.ifCond .ge 9, 3) := dk_156 0 9 (dk_at dksX3_drop_0 21 rfl rfl)
theorem dX3_drop_24 : decode cX3_drop 24 = .ok (.aload_n 0, 1) := dk_42 (dk_at dksX3_drop_1 0 rfl rfl)
theorem dX3_drop_25 : decode cX3_drop 25 = .ok (.iconst 1, 1) := dk_4 (dk_at dksX3_drop_1 1 rfl rfl)
theorem dX3_drop_26 : decode cX3_drop 26 = .ok (.invokevirtual 81, 3) := dk_182 0 81 (dk_at dksX3_drop_1 2 rfl rfl)
theorem dX3_drop_29 : decode cX3_drop 29 = .ok (.ireturn, 1) := dk_172 (dk_at dksX3_drop_1 5 rfl rfl)
theorem dX3_drop_30 : decode cX3_drop 30 = .ok (.aload_n 0, 1) := dk_42 (dk_at dksX3_drop_1 6 rfl rfl)
theorem dX3_drop_31 : decode cX3_drop 31 = .ok (.getfield 7, 3) := dk_180 0 7 (dk_at dksX3_drop_1 7 rfl rfl)
theorem dX3_drop_34 : decode cX3_drop 34 = .ok (.iload_n 1, 1) := dk_27 (dk_at dksX3_drop_1 10 rfl rfl)
theorem dX3_drop_35 : decode cX3_drop 35 = .ok (.iconst (-1), 1) := dk_2 (dk_at dksX3_drop_1 11 rfl rfl)
theorem dX3_drop_36 : decode cX3_drop 36 = .ok (.iastore, 1) := dk_79 (dk_at dksX3_drop_1 12 rfl rfl)
theorem dX3_drop_37 : decode cX3_drop 37 = .ok (.aload_n 0, 1) := dk_42 (dk_at dksX3_drop_1 13 rfl rfl)
theorem dX3_drop_38 : decode cX3_drop 38 = .ok (.getfield 13, 3) := dk_180 0 13 (dk_at dksX3_drop_1 14 rfl rfl)
theorem dX3_drop_41 : decode cX3_drop 41 = .ok (.iload_n 1, 1) := dk_27 (dk_at dksX3_drop_1 17 rfl rfl)
theorem dX3_drop_42 : decode cX3_drop 42 = .ok (.iaload, 1) := dk_46 (dk_at dksX3_drop_1 18 rfl rfl)
theorem dX3_drop_43 : decode cX3_drop 43 = .ok (.ireturn, 1) := dk_172 (dk_at dksX3_drop_1 19 rfl rfl)
abbrev cX3_feed : ByteArray := prog_16_method_22_code
def yX3_feed : MethodName := ⟨RX3, "feed", "(I)I"⟩
def dkwX3_feed_2 : List UInt8 := [180, 0, 109, 172]
abbrev dktX3_feed_2 : List UInt8 := dkwX3_feed_2 ++ []
def dkwX3_feed_1 : List UInt8 := [18, 96, 172, 42, 180, 0, 37, 42, 180, 0, 109, 27, 79, 42, 89, 180, 0, 109, 4, 96, 181, 0, 109, 42]
abbrev dktX3_feed_1 : List UInt8 := dkwX3_feed_1 ++ dktX3_feed_2
def dkwX3_feed_0 : List UInt8 := [27, 133, 9, 20, 0, 107, 184, 0, 70, 154, 0, 6, 18, 80, 172, 42, 180, 0, 109, 16, 120, 160, 0, 6]
abbrev dktX3_feed_0 : List UInt8 := dkwX3_feed_0 ++ dktX3_feed_1
theorem dksX3_feed_0 : cX3_feed.data.toList.drop 0 = dktX3_feed_0 := by decide +kernel
theorem dksX3_feed_1 : cX3_feed.data.toList.drop 24 = dktX3_feed_1 := dk_seg dksX3_feed_0 24 rfl rfl
theorem dksX3_feed_2 : cX3_feed.data.toList.drop 48 = dktX3_feed_2 := dk_seg dksX3_feed_1 24 rfl rfl
theorem dX3_feed_0 : decode cX3_feed 0 = .ok (.iload_n 1, 1) := dk_27 (dk_at dksX3_feed_0 0 rfl rfl)
theorem dX3_feed_1 : decode cX3_feed 1 = .ok (.i2l, 1) := dk_133 (dk_at dksX3_feed_0 1 rfl rfl)
theorem dX3_feed_2 : decode cX3_feed 2 = .ok (.lconst 0, 1) := dk_9 (dk_at dksX3_feed_0 2 rfl rfl)
theorem dX3_feed_3 : decode cX3_feed 3 = .ok (.ldc2_w 107, 3) := dk_20 0 107 (dk_at dksX3_feed_0 3 rfl rfl)
theorem dX3_feed_6 : decode cX3_feed 6 = .ok (.invokestatic 70, 3) := dk_184 0 70 (dk_at dksX3_feed_0 6 rfl rfl)
theorem dX3_feed_9 : decode cX3_feed 9 = .ok (.ifCond .ne 6, 3) := dk_154 0 6 (dk_at dksX3_feed_0 9 rfl rfl)
theorem dX3_feed_12 : decode cX3_feed 12 = .ok (.ldc 80, 2) := dk_18 80 (dk_at dksX3_feed_0 12 rfl rfl)
theorem dX3_feed_14 : decode cX3_feed 14 = .ok (.ireturn, 1) := dk_172 (dk_at dksX3_feed_0 14 rfl rfl)
theorem dX3_feed_15 : decode cX3_feed 15 = .ok (.aload_n 0, 1) := dk_42 (dk_at dksX3_feed_0 15 rfl rfl)
theorem dX3_feed_16 : decode cX3_feed 16 = .ok (.getfield 109, 3) := dk_180 0 109 (dk_at dksX3_feed_0 16 rfl rfl)
theorem dX3_feed_19 : decode cX3_feed 19 = .ok (.bipush 120, 2) := dk_16 120 (dk_at dksX3_feed_0 19 rfl rfl)
theorem dX3_feed_21 : decode cX3_feed 21 = .ok (.if_icmp .ne 6, 3) := dk_160 0 6 (dk_at dksX3_feed_0 21 rfl rfl)
theorem dX3_feed_24 : decode cX3_feed 24 = .ok (.ldc 96, 2) := dk_18 96 (dk_at dksX3_feed_1 0 rfl rfl)
theorem dX3_feed_26 : decode cX3_feed 26 = .ok (.ireturn, 1) := dk_172 (dk_at dksX3_feed_1 2 rfl rfl)
theorem dX3_feed_27 : decode cX3_feed 27 = .ok (.aload_n 0, 1) := dk_42 (dk_at dksX3_feed_1 3 rfl rfl)
theorem dX3_feed_28 : decode cX3_feed 28 = .ok (.getfield 37, 3) := dk_180 0 37 (dk_at dksX3_feed_1 4 rfl rfl)
theorem dX3_feed_31 : decode cX3_feed 31 = .ok (.aload_n 0, 1) := dk_42 (dk_at dksX3_feed_1 7 rfl rfl)
theorem dX3_feed_32 : decode cX3_feed 32 = .ok (.getfield 109, 3) := dk_180 0 109 (dk_at dksX3_feed_1 8 rfl rfl)
theorem dX3_feed_35 : decode cX3_feed 35 = .ok (.iload_n 1, 1) := dk_27 (dk_at dksX3_feed_1 11 rfl rfl)
theorem dX3_feed_36 : decode cX3_feed 36 = .ok (.iastore, 1) := dk_79 (dk_at dksX3_feed_1 12 rfl rfl)
theorem dX3_feed_37 : decode cX3_feed 37 = .ok (.aload_n 0, 1) := dk_42 (dk_at dksX3_feed_1 13 rfl rfl)
theorem dX3_feed_38 : decode cX3_feed 38 = .ok (.dup, 1) := dk_89 (dk_at dksX3_feed_1 14 rfl rfl)
theorem dX3_feed_39 : decode cX3_feed 39 = .ok (.getfield 109, 3) := dk_180 0 109 (dk_at dksX3_feed_1 15 rfl rfl)
theorem dX3_feed_42 : decode cX3_feed 42 = .ok (.iconst 1, 1) := dk_4 (dk_at dksX3_feed_1 18 rfl rfl)
theorem dX3_feed_43 : decode cX3_feed 43 = .ok (.iadd, 1) := dk_96 (dk_at dksX3_feed_1 19 rfl rfl)
theorem dX3_feed_44 : decode cX3_feed 44 = .ok (.putfield 109, 3) := dk_181 0 109 (dk_at dksX3_feed_1 20 rfl rfl)
theorem dX3_feed_47 : decode cX3_feed 47 = .ok (.aload_n 0, 1) := dk_42 (dk_at dksX3_feed_1 23 rfl rfl)
theorem dX3_feed_48 : decode cX3_feed 48 = .ok (.getfield 109, 3) := dk_180 0 109 (dk_at dksX3_feed_2 0 rfl rfl)
theorem dX3_feed_51 : decode cX3_feed 51 = .ok (.ireturn, 1) := dk_172 (dk_at dksX3_feed_2 3 rfl rfl)
abbrev cX3_book : ByteArray := prog_16_method_31_code
def yX3_book : MethodName := ⟨RX3, "book", "()I"⟩
def dkwX3_book_13 : List UInt8 := [172]
abbrev dktX3_book_13 : List UInt8 := dkwX3_book_13 ++ []
def dkwX3_book_12 : List UInt8 := [42, 180, 0, 19, 27, 42, 180, 0, 22, 27, 46, 79, 132, 1, 1, 167, 255, 235, 42, 180, 0, 19, 3, 46]
abbrev dktX3_book_12 : List UInt8 := dkwX3_book_12 ++ dktX3_book_13
def dkwX3_book_11 : List UInt8 := [181, 0, 171, 18, 174, 42, 180, 0, 118, 100, 172, 42, 3, 181, 0, 175, 3, 60, 27, 16, 44, 162, 0, 21]
abbrev dktX3_book_11 : List UInt8 := dkwX3_book_11 ++ dktX3_book_12
def dkwX3_book_10 : List UInt8 := [42, 7, 182, 0, 139, 42, 3, 181, 0, 109, 42, 180, 0, 112, 158, 0, 19, 42, 42, 180, 0, 112]
abbrev dktX3_book_10 : List UInt8 := dkwX3_book_10 ++ dktX3_book_11
def dkwX3_book_9 : List UInt8 := [182, 0, 139, 42, 180, 0, 112, 154, 0, 22, 42, 180, 0, 152, 42, 180, 0, 22, 3, 46, 122, 153, 0, 8]
abbrev dktX3_book_9 : List UInt8 := dkwX3_book_9 ++ dktX3_book_10
def dkwX3_book_8 : List UInt8 := [42, 16, 59, 182, 0, 162, 42, 180, 0, 112, 154, 0, 16, 42, 180, 0, 136, 4, 159, 0, 8, 42, 4]
abbrev dktX3_book_8 : List UInt8 := dkwX3_book_8 ++ dktX3_book_9
def dkwX3_book_7 : List UInt8 := [160, 0, 7, 4, 167, 0, 4, 3, 182, 0, 146, 42, 180, 0, 22, 6, 42, 7, 16, 8, 182, 0, 165, 79]
abbrev dktX3_book_7 : List UInt8 := dkwX3_book_7 ++ dktX3_book_8
def dkwX3_book_6 : List UInt8 := [182, 0, 168, 132, 1, 1, 167, 255, 216, 42, 42, 180, 0, 136, 5, 160, 0, 16, 42, 180, 0, 125, 16, 120]
abbrev dktX3_book_6 : List UInt8 := dkwX3_book_6 ++ dktX3_book_7
def dkwX3_book_5 : List UInt8 := [27, 153, 0, 20, 42, 180, 0, 136, 5, 160, 0, 12, 42, 180, 0, 125, 16, 120, 159, 0, 13, 42]
abbrev dktX3_book_5 : List UInt8 := dkwX3_book_5 ++ dktX3_book_6
def dkwX3_book_4 : List UInt8 := [182, 0, 158, 79, 42, 16, 59, 182, 0, 162, 3, 60, 27, 7, 163, 0, 41, 42, 180, 0, 112, 154, 0, 34]
abbrev dktX3_book_4 : List UInt8 := dkwX3_book_4 ++ dktX3_book_5
def dkwX3_book_3 : List UInt8 := [4, 42, 3, 6, 182, 0, 158, 79, 42, 16, 44, 182, 0, 162, 42, 180, 0, 22, 5, 42, 4, 16, 9]
abbrev dktX3_book_3 : List UInt8 := dkwX3_book_3 ++ dktX3_book_4
def dkwX3_book_2 : List UInt8 := [160, 0, 16, 42, 180, 0, 125, 16, 114, 160, 0, 7, 4, 167, 0, 4, 3, 182, 0, 146, 42, 180, 0, 22]
abbrev dktX3_book_2 : List UInt8 := dkwX3_book_2 ++ dktX3_book_3
def dkwX3_book_1 : List UInt8 := [162, 0, 16, 42, 180, 0, 22, 27, 3, 79, 132, 1, 1, 167, 255, 240, 42, 42, 180, 0, 136, 5]
abbrev dktX3_book_1 : List UInt8 := dkwX3_book_1 ++ dktX3_book_2
def dkwX3_book_0 : List UInt8 := [42, 3, 181, 0, 121, 42, 3, 181, 0, 112, 42, 3, 181, 0, 152, 42, 182, 0, 143, 3, 60, 27, 16, 44]
abbrev dktX3_book_0 : List UInt8 := dkwX3_book_0 ++ dktX3_book_1
theorem dksX3_book_0 : cX3_book.data.toList.drop 0 = dktX3_book_0 := by decide +kernel
theorem dksX3_book_1 : cX3_book.data.toList.drop 24 = dktX3_book_1 := dk_seg dksX3_book_0 24 rfl rfl
theorem dksX3_book_2 : cX3_book.data.toList.drop 46 = dktX3_book_2 := dk_seg dksX3_book_1 22 rfl rfl
theorem dksX3_book_3 : cX3_book.data.toList.drop 70 = dktX3_book_3 := dk_seg dksX3_book_2 24 rfl rfl
theorem dksX3_book_4 : cX3_book.data.toList.drop 93 = dktX3_book_4 := dk_seg dksX3_book_3 23 rfl rfl
theorem dksX3_book_5 : cX3_book.data.toList.drop 117 = dktX3_book_5 := dk_seg dksX3_book_4 24 rfl rfl
theorem dksX3_book_6 : cX3_book.data.toList.drop 139 = dktX3_book_6 := dk_seg dksX3_book_5 22 rfl rfl
theorem dksX3_book_7 : cX3_book.data.toList.drop 163 = dktX3_book_7 := dk_seg dksX3_book_6 24 rfl rfl
theorem dksX3_book_8 : cX3_book.data.toList.drop 187 = dktX3_book_8 := dk_seg dksX3_book_7 24 rfl rfl
theorem dksX3_book_9 : cX3_book.data.toList.drop 210 = dktX3_book_9 := dk_seg dksX3_book_8 23 rfl rfl
theorem dksX3_book_10 : cX3_book.data.toList.drop 234 = dktX3_book_10 := dk_seg dksX3_book_9 24 rfl rfl
theorem dksX3_book_11 : cX3_book.data.toList.drop 256 = dktX3_book_11 := dk_seg dksX3_book_10 22 rfl rfl
theorem dksX3_book_12 : cX3_book.data.toList.drop 280 = dktX3_book_12 := dk_seg dksX3_book_11 24 rfl rfl
theorem dksX3_book_13 : cX3_book.data.toList.drop 304 = dktX3_book_13 := dk_seg dksX3_book_12 24 rfl rfl
theorem dX3_book_0 : decode cX3_book 0 = .ok (.aload_n 0, 1) := dk_42 (dk_at dksX3_book_0 0 rfl rfl)
theorem dX3_book_1 : decode cX3_book 1 = .ok (.iconst 0, 1) := dk_3 (dk_at dksX3_book_0 1 rfl rfl)
theorem dX3_book_2 : decode cX3_book 2 = .ok (.putfield 121, 3) := dk_181 0 121 (dk_at dksX3_book_0 2 rfl rfl)
theorem dX3_book_5 : decode cX3_book 5 = .ok (.aload_n 0, 1) := dk_42 (dk_at dksX3_book_0 5 rfl rfl)
theorem dX3_book_6 : decode cX3_book 6 = .ok (.iconst 0, 1) := dk_3 (dk_at dksX3_book_0 6 rfl rfl)
theorem dX3_book_7 : decode cX3_book 7 = .ok (.putfield 112, 3) := dk_181 0 112 (dk_at dksX3_book_0 7 rfl rfl)
theorem dX3_book_10 : decode cX3_book 10 = .ok (.aload_n 0, 1) := dk_42 (dk_at dksX3_book_0 10 rfl rfl)
theorem dX3_book_11 : decode cX3_book 11 = .ok (.iconst 0, 1) := dk_3 (dk_at dksX3_book_0 11 rfl rfl)
theorem dX3_book_12 : decode cX3_book 12 = .ok (.putfield 152, 3) := dk_181 0 152 (dk_at dksX3_book_0 12 rfl rfl)
theorem dX3_book_15 : decode cX3_book 15 = .ok (.aload_n 0, 1) := dk_42 (dk_at dksX3_book_0 15 rfl rfl)
theorem dX3_book_16 : decode cX3_book 16 = .ok (.invokevirtual 143, 3) := dk_182 0 143 (dk_at dksX3_book_0 16 rfl rfl)
theorem dX3_book_19 : decode cX3_book 19 = .ok (.iconst 0, 1) := dk_3 (dk_at dksX3_book_0 19 rfl rfl)
theorem dX3_book_20 : decode cX3_book 20 = .ok (.istore_n 1, 1) := dk_60 (dk_at dksX3_book_0 20 rfl rfl)
theorem dX3_book_21 : decode cX3_book 21 = .ok (.iload_n 1, 1) := dk_27 (dk_at dksX3_book_0 21 rfl rfl)
theorem dX3_book_22 : decode cX3_book 22 = .ok (.bipush 44, 2) := dk_16 44 (dk_at dksX3_book_0 22 rfl rfl)
theorem dX3_book_24 : decode cX3_book 24 = .ok (.if_icmp .ge 16, 3) := dk_162 0 16 (dk_at dksX3_book_1 0 rfl rfl)
theorem dX3_book_27 : decode cX3_book 27 = .ok (.aload_n 0, 1) := dk_42 (dk_at dksX3_book_1 3 rfl rfl)
theorem dX3_book_28 : decode cX3_book 28 = .ok (.getfield 22, 3) := dk_180 0 22 (dk_at dksX3_book_1 4 rfl rfl)
theorem dX3_book_31 : decode cX3_book 31 = .ok (.iload_n 1, 1) := dk_27 (dk_at dksX3_book_1 7 rfl rfl)
theorem dX3_book_32 : decode cX3_book 32 = .ok (.iconst 0, 1) := dk_3 (dk_at dksX3_book_1 8 rfl rfl)
theorem dX3_book_33 : decode cX3_book 33 = .ok (.iastore, 1) := dk_79 (dk_at dksX3_book_1 9 rfl rfl)
theorem dX3_book_34 : decode cX3_book 34 = .ok (.iinc 1 1, 3) := dk_132 1 1 (dk_at dksX3_book_1 10 rfl rfl)
theorem dX3_book_37 : decode cX3_book 37 = .ok (.goto (-16), 3) := dk_167 255 240 (dk_at dksX3_book_1 13 rfl rfl)
theorem dX3_book_40 : decode cX3_book 40 = .ok (.aload_n 0, 1) := dk_42 (dk_at dksX3_book_1 16 rfl rfl)
theorem dX3_book_41 : decode cX3_book 41 = .ok (.aload_n 0, 1) := dk_42 (dk_at dksX3_book_1 17 rfl rfl)
theorem dX3_book_42 : decode cX3_book 42 = .ok (.getfield 136, 3) := dk_180 0 136 (dk_at dksX3_book_1 18 rfl rfl)
theorem dX3_book_45 : decode cX3_book 45 = .ok (.iconst 2, 1) := dk_5 (dk_at dksX3_book_1 21 rfl rfl)
theorem dX3_book_46 : decode cX3_book 46 = .ok (.if_icmp .ne 16, 3) := dk_160 0 16 (dk_at dksX3_book_2 0 rfl rfl)
theorem dX3_book_49 : decode cX3_book 49 = .ok (.aload_n 0, 1) := dk_42 (dk_at dksX3_book_2 3 rfl rfl)
theorem dX3_book_50 : decode cX3_book 50 = .ok (.getfield 125, 3) := dk_180 0 125 (dk_at dksX3_book_2 4 rfl rfl)
theorem dX3_book_53 : decode cX3_book 53 = .ok (.bipush 114, 2) := dk_16 114 (dk_at dksX3_book_2 7 rfl rfl)
theorem dX3_book_55 : decode cX3_book 55 = .ok (.if_icmp .ne 7, 3) := dk_160 0 7 (dk_at dksX3_book_2 9 rfl rfl)
theorem dX3_book_58 : decode cX3_book 58 = .ok (.iconst 1, 1) := dk_4 (dk_at dksX3_book_2 12 rfl rfl)
theorem dX3_book_59 : decode cX3_book 59 = .ok (.goto 4, 3) := dk_167 0 4 (dk_at dksX3_book_2 13 rfl rfl)
theorem dX3_book_62 : decode cX3_book 62 = .ok (.iconst 0, 1) := dk_3 (dk_at dksX3_book_2 16 rfl rfl)
theorem dX3_book_63 : decode cX3_book 63 = .ok (.invokevirtual 146, 3) := dk_182 0 146 (dk_at dksX3_book_2 17 rfl rfl)
theorem dX3_book_66 : decode cX3_book 66 = .ok (.aload_n 0, 1) := dk_42 (dk_at dksX3_book_2 20 rfl rfl)
theorem dX3_book_67 : decode cX3_book 67 = .ok (.getfield 22, 3) := dk_180 0 22 (dk_at dksX3_book_2 21 rfl rfl)
theorem dX3_book_70 : decode cX3_book 70 = .ok (.iconst 1, 1) := dk_4 (dk_at dksX3_book_3 0 rfl rfl)
theorem dX3_book_71 : decode cX3_book 71 = .ok (.aload_n 0, 1) := dk_42 (dk_at dksX3_book_3 1 rfl rfl)
theorem dX3_book_72 : decode cX3_book 72 = .ok (.iconst 0, 1) := dk_3 (dk_at dksX3_book_3 2 rfl rfl)
theorem dX3_book_73 : decode cX3_book 73 = .ok (.iconst 3, 1) := dk_6 (dk_at dksX3_book_3 3 rfl rfl)
theorem dX3_book_74 : decode cX3_book 74 = .ok (.invokevirtual 158, 3) := dk_182 0 158 (dk_at dksX3_book_3 4 rfl rfl)
theorem dX3_book_77 : decode cX3_book 77 = .ok (.iastore, 1) := dk_79 (dk_at dksX3_book_3 7 rfl rfl)
theorem dX3_book_78 : decode cX3_book 78 = .ok (.aload_n 0, 1) := dk_42 (dk_at dksX3_book_3 8 rfl rfl)
theorem dX3_book_79 : decode cX3_book 79 = .ok (.bipush 44, 2) := dk_16 44 (dk_at dksX3_book_3 9 rfl rfl)
theorem dX3_book_81 : decode cX3_book 81 = .ok (.invokevirtual 162, 3) := dk_182 0 162 (dk_at dksX3_book_3 11 rfl rfl)
theorem dX3_book_84 : decode cX3_book 84 = .ok (.aload_n 0, 1) := dk_42 (dk_at dksX3_book_3 14 rfl rfl)
theorem dX3_book_85 : decode cX3_book 85 = .ok (.getfield 22, 3) := dk_180 0 22 (dk_at dksX3_book_3 15 rfl rfl)
theorem dX3_book_88 : decode cX3_book 88 = .ok (.iconst 2, 1) := dk_5 (dk_at dksX3_book_3 18 rfl rfl)
theorem dX3_book_89 : decode cX3_book 89 = .ok (.aload_n 0, 1) := dk_42 (dk_at dksX3_book_3 19 rfl rfl)
theorem dX3_book_90 : decode cX3_book 90 = .ok (.iconst 1, 1) := dk_4 (dk_at dksX3_book_3 20 rfl rfl)
theorem dX3_book_91 : decode cX3_book 91 = .ok (.bipush 9, 2) := dk_16 9 (dk_at dksX3_book_3 21 rfl rfl)
theorem dX3_book_93 : decode cX3_book 93 = .ok (.invokevirtual 158, 3) := dk_182 0 158 (dk_at dksX3_book_4 0 rfl rfl)
theorem dX3_book_96 : decode cX3_book 96 = .ok (.iastore, 1) := dk_79 (dk_at dksX3_book_4 3 rfl rfl)
theorem dX3_book_97 : decode cX3_book 97 = .ok (.aload_n 0, 1) := dk_42 (dk_at dksX3_book_4 4 rfl rfl)
theorem dX3_book_98 : decode cX3_book 98 = .ok (.bipush 59, 2) := dk_16 59 (dk_at dksX3_book_4 5 rfl rfl)
theorem dX3_book_100 : decode cX3_book 100 = .ok (.invokevirtual 162, 3) := dk_182 0 162 (dk_at dksX3_book_4 7 rfl rfl)
theorem dX3_book_103 : decode cX3_book 103 = .ok (.iconst 0, 1) := dk_3 (dk_at dksX3_book_4 10 rfl rfl)
theorem dX3_book_104 : decode cX3_book 104 = .ok (.istore_n 1, 1) := dk_60 (dk_at dksX3_book_4 11 rfl rfl)
theorem dX3_book_105 : decode cX3_book 105 = .ok (.iload_n 1, 1) := dk_27 (dk_at dksX3_book_4 12 rfl rfl)
theorem dX3_book_106 : decode cX3_book 106 = .ok (.iconst 4, 1) := dk_7 (dk_at dksX3_book_4 13 rfl rfl)
theorem dX3_book_107 : decode cX3_book 107 = .ok (.if_icmp .gt 41, 3) := dk_163 0 41 (dk_at dksX3_book_4 14 rfl rfl)
theorem dX3_book_110 : decode cX3_book 110 = .ok (.aload_n 0, 1) := dk_42 (dk_at dksX3_book_4 17 rfl rfl)
theorem dX3_book_111 : decode cX3_book 111 = .ok (.getfield 112, 3) := dk_180 0 112 (dk_at dksX3_book_4 18 rfl rfl)
theorem dX3_book_114 : decode cX3_book 114 = .ok (.ifCond .ne 34, 3) := dk_154 0 34 (dk_at dksX3_book_4 21 rfl rfl)
theorem dX3_book_117 : decode cX3_book 117 = .ok (.iload_n 1, 1) := dk_27 (dk_at dksX3_book_5 0 rfl rfl)
theorem dX3_book_118 : decode cX3_book 118 = .ok (.ifCond .eq 20, 3) := dk_153 0 20 (dk_at dksX3_book_5 1 rfl rfl)
theorem dX3_book_121 : decode cX3_book 121 = .ok (.aload_n 0, 1) := dk_42 (dk_at dksX3_book_5 4 rfl rfl)
theorem dX3_book_122 : decode cX3_book 122 = .ok (.getfield 136, 3) := dk_180 0 136 (dk_at dksX3_book_5 5 rfl rfl)
theorem dX3_book_125 : decode cX3_book 125 = .ok (.iconst 2, 1) := dk_5 (dk_at dksX3_book_5 8 rfl rfl)
theorem dX3_book_126 : decode cX3_book 126 = .ok (.if_icmp .ne 12, 3) := dk_160 0 12 (dk_at dksX3_book_5 9 rfl rfl)
theorem dX3_book_129 : decode cX3_book 129 = .ok (.aload_n 0, 1) := dk_42 (dk_at dksX3_book_5 12 rfl rfl)
theorem dX3_book_130 : decode cX3_book 130 = .ok (.getfield 125, 3) := dk_180 0 125 (dk_at dksX3_book_5 13 rfl rfl)
theorem dX3_book_133 : decode cX3_book 133 = .ok (.bipush 120, 2) := dk_16 120 (dk_at dksX3_book_5 16 rfl rfl)
theorem dX3_book_135 : decode cX3_book 135 = .ok (.if_icmp .eq 13, 3) := dk_159 0 13 (dk_at dksX3_book_5 18 rfl rfl)
theorem dX3_book_138 : decode cX3_book 138 = .ok (.aload_n 0, 1) := dk_42 (dk_at dksX3_book_5 21 rfl rfl)
theorem dX3_book_139 : decode cX3_book 139 = .ok (.invokevirtual 168, 3) := dk_182 0 168 (dk_at dksX3_book_6 0 rfl rfl)
theorem dX3_book_142 : decode cX3_book 142 = .ok (.iinc 1 1, 3) := dk_132 1 1 (dk_at dksX3_book_6 3 rfl rfl)
theorem dX3_book_145 : decode cX3_book 145 = .ok (.goto (-40), 3) := dk_167 255 216 (dk_at dksX3_book_6 6 rfl rfl)
theorem dX3_book_148 : decode cX3_book 148 = .ok (.aload_n 0, 1) := dk_42 (dk_at dksX3_book_6 9 rfl rfl)
theorem dX3_book_149 : decode cX3_book 149 = .ok (.aload_n 0, 1) := dk_42 (dk_at dksX3_book_6 10 rfl rfl)
theorem dX3_book_150 : decode cX3_book 150 = .ok (.getfield 136, 3) := dk_180 0 136 (dk_at dksX3_book_6 11 rfl rfl)
theorem dX3_book_153 : decode cX3_book 153 = .ok (.iconst 2, 1) := dk_5 (dk_at dksX3_book_6 14 rfl rfl)
theorem dX3_book_154 : decode cX3_book 154 = .ok (.if_icmp .ne 16, 3) := dk_160 0 16 (dk_at dksX3_book_6 15 rfl rfl)
theorem dX3_book_157 : decode cX3_book 157 = .ok (.aload_n 0, 1) := dk_42 (dk_at dksX3_book_6 18 rfl rfl)
theorem dX3_book_158 : decode cX3_book 158 = .ok (.getfield 125, 3) := dk_180 0 125 (dk_at dksX3_book_6 19 rfl rfl)
theorem dX3_book_161 : decode cX3_book 161 = .ok (.bipush 120, 2) := dk_16 120 (dk_at dksX3_book_6 22 rfl rfl)
theorem dX3_book_163 : decode cX3_book 163 = .ok (.if_icmp .ne 7, 3) := dk_160 0 7 (dk_at dksX3_book_7 0 rfl rfl)
theorem dX3_book_166 : decode cX3_book 166 = .ok (.iconst 1, 1) := dk_4 (dk_at dksX3_book_7 3 rfl rfl)
theorem dX3_book_167 : decode cX3_book 167 = .ok (.goto 4, 3) := dk_167 0 4 (dk_at dksX3_book_7 4 rfl rfl)
theorem dX3_book_170 : decode cX3_book 170 = .ok (.iconst 0, 1) := dk_3 (dk_at dksX3_book_7 7 rfl rfl)
theorem dX3_book_171 : decode cX3_book 171 = .ok (.invokevirtual 146, 3) := dk_182 0 146 (dk_at dksX3_book_7 8 rfl rfl)
theorem dX3_book_174 : decode cX3_book 174 = .ok (.aload_n 0, 1) := dk_42 (dk_at dksX3_book_7 11 rfl rfl)
theorem dX3_book_175 : decode cX3_book 175 = .ok (.getfield 22, 3) := dk_180 0 22 (dk_at dksX3_book_7 12 rfl rfl)
theorem dX3_book_178 : decode cX3_book 178 = .ok (.iconst 3, 1) := dk_6 (dk_at dksX3_book_7 15 rfl rfl)
theorem dX3_book_179 : decode cX3_book 179 = .ok (.aload_n 0, 1) := dk_42 (dk_at dksX3_book_7 16 rfl rfl)
theorem dX3_book_180 : decode cX3_book 180 = .ok (.iconst 4, 1) := dk_7 (dk_at dksX3_book_7 17 rfl rfl)
theorem dX3_book_181 : decode cX3_book 181 = .ok (.bipush 8, 2) := dk_16 8 (dk_at dksX3_book_7 18 rfl rfl)
theorem dX3_book_183 : decode cX3_book 183 = .ok (.invokevirtual 165, 3) := dk_182 0 165 (dk_at dksX3_book_7 20 rfl rfl)
theorem dX3_book_186 : decode cX3_book 186 = .ok (.iastore, 1) := dk_79 (dk_at dksX3_book_7 23 rfl rfl)
theorem dX3_book_187 : decode cX3_book 187 = .ok (.aload_n 0, 1) := dk_42 (dk_at dksX3_book_8 0 rfl rfl)
theorem dX3_book_188 : decode cX3_book 188 = .ok (.bipush 59, 2) := dk_16 59 (dk_at dksX3_book_8 1 rfl rfl)
theorem dX3_book_190 : decode cX3_book 190 = .ok (.invokevirtual 162, 3) := dk_182 0 162 (dk_at dksX3_book_8 3 rfl rfl)
theorem dX3_book_193 : decode cX3_book 193 = .ok (.aload_n 0, 1) := dk_42 (dk_at dksX3_book_8 6 rfl rfl)
theorem dX3_book_194 : decode cX3_book 194 = .ok (.getfield 112, 3) := dk_180 0 112 (dk_at dksX3_book_8 7 rfl rfl)
theorem dX3_book_197 : decode cX3_book 197 = .ok (.ifCond .ne 16, 3) := dk_154 0 16 (dk_at dksX3_book_8 10 rfl rfl)
theorem dX3_book_200 : decode cX3_book 200 = .ok (.aload_n 0, 1) := dk_42 (dk_at dksX3_book_8 13 rfl rfl)
theorem dX3_book_201 : decode cX3_book 201 = .ok (.getfield 136, 3) := dk_180 0 136 (dk_at dksX3_book_8 14 rfl rfl)
theorem dX3_book_204 : decode cX3_book 204 = .ok (.iconst 1, 1) := dk_4 (dk_at dksX3_book_8 17 rfl rfl)
theorem dX3_book_205 : decode cX3_book 205 = .ok (.if_icmp .eq 8, 3) := dk_159 0 8 (dk_at dksX3_book_8 18 rfl rfl)
theorem dX3_book_208 : decode cX3_book 208 = .ok (.aload_n 0, 1) := dk_42 (dk_at dksX3_book_8 21 rfl rfl)
theorem dX3_book_209 : decode cX3_book 209 = .ok (.iconst 1, 1) := dk_4 (dk_at dksX3_book_8 22 rfl rfl)
theorem dX3_book_210 : decode cX3_book 210 = .ok (.invokevirtual 139, 3) := dk_182 0 139 (dk_at dksX3_book_9 0 rfl rfl)
theorem dX3_book_213 : decode cX3_book 213 = .ok (.aload_n 0, 1) := dk_42 (dk_at dksX3_book_9 3 rfl rfl)
theorem dX3_book_214 : decode cX3_book 214 = .ok (.getfield 112, 3) := dk_180 0 112 (dk_at dksX3_book_9 4 rfl rfl)
theorem dX3_book_217 : decode cX3_book 217 = .ok (.ifCond .ne 22, 3) := dk_154 0 22 (dk_at dksX3_book_9 7 rfl rfl)
theorem dX3_book_220 : decode cX3_book 220 = .ok (.aload_n 0, 1) := dk_42 (dk_at dksX3_book_9 10 rfl rfl)
theorem dX3_book_221 : decode cX3_book 221 = .ok (.getfield 152, 3) := dk_180 0 152 (dk_at dksX3_book_9 11 rfl rfl)
theorem dX3_book_224 : decode cX3_book 224 = .ok (.aload_n 0, 1) := dk_42 (dk_at dksX3_book_9 14 rfl rfl)
theorem dX3_book_225 : decode cX3_book 225 = .ok (.getfield 22, 3) := dk_180 0 22 (dk_at dksX3_book_9 15 rfl rfl)
theorem dX3_book_228 : decode cX3_book 228 = .ok (.iconst 0, 1) := dk_3 (dk_at dksX3_book_9 18 rfl rfl)
theorem dX3_book_229 : decode cX3_book 229 = .ok (.iaload, 1) := dk_46 (dk_at dksX3_book_9 19 rfl rfl)
theorem dX3_book_230 : decode cX3_book 230 = .ok (.ishr, 1) := dk_122 (dk_at dksX3_book_9 20 rfl rfl)
theorem dX3_book_231 : decode cX3_book 231 = .ok (.ifCond .eq 8, 3) := dk_153 0 8 (dk_at dksX3_book_9 21 rfl rfl)
theorem dX3_book_234 : decode cX3_book 234 = .ok (.aload_n 0, 1) := dk_42 (dk_at dksX3_book_10 0 rfl rfl)
theorem dX3_book_235 : decode cX3_book 235 = .ok (.iconst 4, 1) := dk_7 (dk_at dksX3_book_10 1 rfl rfl)
theorem dX3_book_236 : decode cX3_book 236 = .ok (.invokevirtual 139, 3) := dk_182 0 139 (dk_at dksX3_book_10 2 rfl rfl)
theorem dX3_book_239 : decode cX3_book 239 = .ok (.aload_n 0, 1) := dk_42 (dk_at dksX3_book_10 5 rfl rfl)
theorem dX3_book_240 : decode cX3_book 240 = .ok (.iconst 0, 1) := dk_3 (dk_at dksX3_book_10 6 rfl rfl)
theorem dX3_book_241 : decode cX3_book 241 = .ok (.putfield 109, 3) := dk_181 0 109 (dk_at dksX3_book_10 7 rfl rfl)
theorem dX3_book_244 : decode cX3_book 244 = .ok (.aload_n 0, 1) := dk_42 (dk_at dksX3_book_10 10 rfl rfl)
theorem dX3_book_245 : decode cX3_book 245 = .ok (.getfield 112, 3) := dk_180 0 112 (dk_at dksX3_book_10 11 rfl rfl)
theorem dX3_book_248 : decode cX3_book 248 = .ok (.ifCond .le 19, 3) := dk_158 0 19 (dk_at dksX3_book_10 14 rfl rfl)
theorem dX3_book_251 : decode cX3_book 251 = .ok (.aload_n 0, 1) := dk_42 (dk_at dksX3_book_10 17 rfl rfl)
theorem dX3_book_252 : decode cX3_book 252 = .ok (.aload_n 0, 1) := dk_42 (dk_at dksX3_book_10 18 rfl rfl)
theorem dX3_book_253 : decode cX3_book 253 = .ok (.getfield 112, 3) := dk_180 0 112 (dk_at dksX3_book_10 19 rfl rfl)
theorem dX3_book_256 : decode cX3_book 256 = .ok (.putfield 171, 3) := dk_181 0 171 (dk_at dksX3_book_11 0 rfl rfl)
theorem dX3_book_259 : decode cX3_book 259 = .ok (.ldc 174, 2) := dk_18 174 (dk_at dksX3_book_11 3 rfl rfl)
theorem dX3_book_261 : decode cX3_book 261 = .ok (.aload_n 0, 1) := dk_42 (dk_at dksX3_book_11 5 rfl rfl)
theorem dX3_book_262 : decode cX3_book 262 = .ok (.getfield 118, 3) := dk_180 0 118 (dk_at dksX3_book_11 6 rfl rfl)
theorem dX3_book_265 : decode cX3_book 265 = .ok (.isub, 1) := dk_100 (dk_at dksX3_book_11 9 rfl rfl)
theorem dX3_book_266 : decode cX3_book 266 = .ok (.ireturn, 1) := dk_172 (dk_at dksX3_book_11 10 rfl rfl)
theorem dX3_book_267 : decode cX3_book 267 = .ok (.aload_n 0, 1) := dk_42 (dk_at dksX3_book_11 11 rfl rfl)
theorem dX3_book_268 : decode cX3_book 268 = .ok (.iconst 0, 1) := dk_3 (dk_at dksX3_book_11 12 rfl rfl)
theorem dX3_book_269 : decode cX3_book 269 = .ok (.putfield 175, 3) := dk_181 0 175 (dk_at dksX3_book_11 13 rfl rfl)
theorem dX3_book_272 : decode cX3_book 272 = .ok (.iconst 0, 1) := dk_3 (dk_at dksX3_book_11 16 rfl rfl)
theorem dX3_book_273 : decode cX3_book 273 = .ok (.istore_n 1, 1) := dk_60 (dk_at dksX3_book_11 17 rfl rfl)
theorem dX3_book_274 : decode cX3_book 274 = .ok (.iload_n 1, 1) := dk_27 (dk_at dksX3_book_11 18 rfl rfl)
theorem dX3_book_275 : decode cX3_book 275 = .ok (.bipush 44, 2) := dk_16 44 (dk_at dksX3_book_11 19 rfl rfl)
theorem dX3_book_277 : decode cX3_book 277 = .ok (.if_icmp .ge 21, 3) := dk_162 0 21 (dk_at dksX3_book_11 21 rfl rfl)
theorem dX3_book_280 : decode cX3_book 280 = .ok (.aload_n 0, 1) := dk_42 (dk_at dksX3_book_12 0 rfl rfl)
theorem dX3_book_281 : decode cX3_book 281 = .ok (.getfield 19, 3) := dk_180 0 19 (dk_at dksX3_book_12 1 rfl rfl)
theorem dX3_book_284 : decode cX3_book 284 = .ok (.iload_n 1, 1) := dk_27 (dk_at dksX3_book_12 4 rfl rfl)
theorem dX3_book_285 : decode cX3_book 285 = .ok (.aload_n 0, 1) := dk_42 (dk_at dksX3_book_12 5 rfl rfl)
theorem dX3_book_286 : decode cX3_book 286 = .ok (.getfield 22, 3) := dk_180 0 22 (dk_at dksX3_book_12 6 rfl rfl)
theorem dX3_book_289 : decode cX3_book 289 = .ok (.iload_n 1, 1) := dk_27 (dk_at dksX3_book_12 9 rfl rfl)
theorem dX3_book_290 : decode cX3_book 290 = .ok (.iaload, 1) := dk_46 (dk_at dksX3_book_12 10 rfl rfl)
theorem dX3_book_291 : decode cX3_book 291 = .ok (.iastore, 1) := dk_79 (dk_at dksX3_book_12 11 rfl rfl)
theorem dX3_book_292 : decode cX3_book 292 = .ok (.iinc 1 1, 3) := dk_132 1 1 (dk_at dksX3_book_12 12 rfl rfl)
theorem dX3_book_295 : decode cX3_book 295 = .ok (.goto (-21), 3) := dk_167 255 235 (dk_at dksX3_book_12 15 rfl rfl)
theorem dX3_book_298 : decode cX3_book 298 = .ok (.aload_n 0, 1) := dk_42 (dk_at dksX3_book_12 18 rfl rfl)
theorem dX3_book_299 : decode cX3_book 299 = .ok (.getfield 19, 3) := dk_180 0 19 (dk_at dksX3_book_12 19 rfl rfl)
theorem dX3_book_302 : decode cX3_book 302 = .ok (.iconst 0, 1) := dk_3 (dk_at dksX3_book_12 22 rfl rfl)
theorem dX3_book_303 : decode cX3_book 303 = .ok (.iaload, 1) := dk_46 (dk_at dksX3_book_12 23 rfl rfl)
theorem dX3_book_304 : decode cX3_book 304 = .ok (.ireturn, 1) := dk_172 (dk_at dksX3_book_13 0 rfl rfl)
abbrev cX3_nextToken : ByteArray := prog_16_method_24_code
def yX3_nextToken : MethodName := ⟨RX3, "nextToken", "()V"⟩
def dkwX3_nextToken_11 : List UInt8 := [42, 180, 0, 121, 42, 180, 0, 115, 100, 5, 164, 0, 7, 3, 167, 0, 4, 6, 181, 0, 136, 177]
abbrev dktX3_nextToken_11 : List UInt8 := dkwX3_nextToken_11 ++ []
def dkwX3_nextToken_10 : List UInt8 := [167, 0, 7, 42, 180, 0, 125, 181, 0, 125, 42, 89, 180, 0, 121, 4, 96, 181, 0, 121, 167, 255, 169, 42]
abbrev dktX3_nextToken_10 : List UInt8 := dkwX3_nextToken_10 ++ dktX3_nextToken_11
def dkwX3_nextToken_9 : List UInt8 := [162, 0, 26, 16, 10, 42, 180, 0, 125, 104, 42, 180, 0, 37, 42, 180, 0, 121, 46, 96, 16, 48, 100]
abbrev dktX3_nextToken_9 : List UInt8 := dkwX3_nextToken_9 ++ dktX3_nextToken_10
def dkwX3_nextToken_8 : List UInt8 := [20, 0, 132, 20, 0, 134, 184, 0, 70, 153, 0, 60, 42, 42, 180, 0, 121, 42, 180, 0, 115, 100, 5]
abbrev dktX3_nextToken_8 : List UInt8 := dkwX3_nextToken_8 ++ dktX3_nextToken_9
def dkwX3_nextToken_7 : List UInt8 := [181, 0, 125, 42, 180, 0, 121, 42, 180, 0, 109, 162, 0, 82, 42, 180, 0, 37, 42, 180, 0, 121, 46, 133]
abbrev dktX3_nextToken_7 : List UInt8 := dkwX3_nextToken_7 ++ dktX3_nextToken_8
def dkwX3_nextToken_6 : List UInt8 := [167, 0, 4, 3, 96, 181, 0, 121, 42, 180, 0, 136, 6, 160, 0, 126, 42, 89, 180, 0, 125, 16, 48, 100]
abbrev dktX3_nextToken_6 : List UInt8 := dkwX3_nextToken_6 ++ dktX3_nextToken_7
def dkwX3_nextToken_5 : List UInt8 := [167, 0, 4, 3, 181, 0, 136, 42, 89, 180, 0, 121, 42, 180, 0, 121, 42, 180, 0, 109, 162, 0, 7, 4]
abbrev dktX3_nextToken_5 : List UInt8 := dkwX3_nextToken_5 ++ dktX3_nextToken_6
def dkwX3_nextToken_4 : List UInt8 := [167, 0, 26, 42, 180, 0, 125, 16, 44, 159, 0, 12, 42, 180, 0, 125, 16, 59, 160, 0, 7, 7]
abbrev dktX3_nextToken_4 : List UInt8 := dkwX3_nextToken_4 ++ dktX3_nextToken_5
def dkwX3_nextToken_3 : List UInt8 := [5, 167, 0, 47, 42, 180, 0, 125, 133, 20, 0, 132, 20, 0, 134, 184, 0, 70, 153, 0, 7, 6]
abbrev dktX3_nextToken_3 : List UInt8 := dkwX3_nextToken_3 ++ dktX3_nextToken_4
def dkwX3_nextToken_2 : List UInt8 := [160, 0, 7, 4, 167, 0, 68, 42, 180, 0, 125, 133, 20, 0, 128, 20, 0, 130, 184, 0, 70, 153, 0, 7]
abbrev dktX3_nextToken_2 : List UInt8 := dkwX3_nextToken_2 ++ dktX3_nextToken_3
def dkwX3_nextToken_1 : List UInt8 := [42, 180, 0, 121, 46, 167, 0, 5, 18, 124, 181, 0, 125, 42, 42, 180, 0, 121, 42, 180, 0, 109]
abbrev dktX3_nextToken_1 : List UInt8 := dkwX3_nextToken_1 ++ dktX3_nextToken_2
def dkwX3_nextToken_0 : List UInt8 := [42, 42, 180, 0, 121, 181, 0, 115, 42, 42, 180, 0, 121, 42, 180, 0, 109, 162, 0, 15, 42, 180, 0, 37]
abbrev dktX3_nextToken_0 : List UInt8 := dkwX3_nextToken_0 ++ dktX3_nextToken_1
theorem dksX3_nextToken_0 : cX3_nextToken.data.toList.drop 0 = dktX3_nextToken_0 := by decide +kernel
theorem dksX3_nextToken_1 : cX3_nextToken.data.toList.drop 24 = dktX3_nextToken_1 := dk_seg dksX3_nextToken_0 24 rfl rfl
theorem dksX3_nextToken_2 : cX3_nextToken.data.toList.drop 46 = dktX3_nextToken_2 := dk_seg dksX3_nextToken_1 22 rfl rfl
theorem dksX3_nextToken_3 : cX3_nextToken.data.toList.drop 70 = dktX3_nextToken_3 := dk_seg dksX3_nextToken_2 24 rfl rfl
theorem dksX3_nextToken_4 : cX3_nextToken.data.toList.drop 92 = dktX3_nextToken_4 := dk_seg dksX3_nextToken_3 22 rfl rfl
theorem dksX3_nextToken_5 : cX3_nextToken.data.toList.drop 114 = dktX3_nextToken_5 := dk_seg dksX3_nextToken_4 22 rfl rfl
theorem dksX3_nextToken_6 : cX3_nextToken.data.toList.drop 138 = dktX3_nextToken_6 := dk_seg dksX3_nextToken_5 24 rfl rfl
theorem dksX3_nextToken_7 : cX3_nextToken.data.toList.drop 162 = dktX3_nextToken_7 := dk_seg dksX3_nextToken_6 24 rfl rfl
theorem dksX3_nextToken_8 : cX3_nextToken.data.toList.drop 186 = dktX3_nextToken_8 := dk_seg dksX3_nextToken_7 24 rfl rfl
theorem dksX3_nextToken_9 : cX3_nextToken.data.toList.drop 209 = dktX3_nextToken_9 := dk_seg dksX3_nextToken_8 23 rfl rfl
theorem dksX3_nextToken_10 : cX3_nextToken.data.toList.drop 232 = dktX3_nextToken_10 := dk_seg dksX3_nextToken_9 23 rfl rfl
theorem dksX3_nextToken_11 : cX3_nextToken.data.toList.drop 256 = dktX3_nextToken_11 := dk_seg dksX3_nextToken_10 24 rfl rfl
theorem dX3_nextToken_0 : decode cX3_nextToken 0 = .ok (.aload_n 0, 1) := dk_42 (dk_at dksX3_nextToken_0 0 rfl rfl)
theorem dX3_nextToken_1 : decode cX3_nextToken 1 = .ok (.aload_n 0, 1) := dk_42 (dk_at dksX3_nextToken_0 1 rfl rfl)
theorem dX3_nextToken_2 : decode cX3_nextToken 2 = .ok (.getfield 121, 3) := dk_180 0 121 (dk_at dksX3_nextToken_0 2 rfl rfl)
theorem dX3_nextToken_5 : decode cX3_nextToken 5 = .ok (.putfield 115, 3) := dk_181 0 115 (dk_at dksX3_nextToken_0 5 rfl rfl)
theorem dX3_nextToken_8 : decode cX3_nextToken 8 = .ok (.aload_n 0, 1) := dk_42 (dk_at dksX3_nextToken_0 8 rfl rfl)
theorem dX3_nextToken_9 : decode cX3_nextToken 9 = .ok (.aload_n 0, 1) := dk_42 (dk_at dksX3_nextToken_0 9 rfl rfl)
theorem dX3_nextToken_10 : decode cX3_nextToken 10 = .ok (.getfield 121, 3) := dk_180 0 121 (dk_at dksX3_nextToken_0 10 rfl rfl)
theorem dX3_nextToken_13 : decode cX3_nextToken 13 = .ok (.aload_n 0, 1) := dk_42 (dk_at dksX3_nextToken_0 13 rfl rfl)
theorem dX3_nextToken_14 : decode cX3_nextToken 14 = .ok (.getfield 109, 3) := dk_180 0 109 (dk_at dksX3_nextToken_0 14 rfl rfl)
theorem dX3_nextToken_17 : decode cX3_nextToken 17 = .ok (.if_icmp .ge 15, 3) := dk_162 0 15 (dk_at dksX3_nextToken_0 17 rfl rfl)
theorem dX3_nextToken_20 : decode cX3_nextToken 20 = .ok (.aload_n 0, 1) := dk_42 (dk_at dksX3_nextToken_0 20 rfl rfl)
theorem dX3_nextToken_21 : decode cX3_nextToken 21 = .ok (.getfield 37, 3) := dk_180 0 37 (dk_at dksX3_nextToken_0 21 rfl rfl)
theorem dX3_nextToken_24 : decode cX3_nextToken 24 = .ok (.aload_n 0, 1) := dk_42 (dk_at dksX3_nextToken_1 0 rfl rfl)
theorem dX3_nextToken_25 : decode cX3_nextToken 25 = .ok (.getfield 121, 3) := dk_180 0 121 (dk_at dksX3_nextToken_1 1 rfl rfl)
theorem dX3_nextToken_28 : decode cX3_nextToken 28 = .ok (.iaload, 1) := dk_46 (dk_at dksX3_nextToken_1 4 rfl rfl)
theorem dX3_nextToken_29 : decode cX3_nextToken 29 = .ok (.goto 5, 3) := dk_167 0 5 (dk_at dksX3_nextToken_1 5 rfl rfl)
theorem dX3_nextToken_32 : decode cX3_nextToken 32 = .ok (.ldc 124, 2) := dk_18 124 (dk_at dksX3_nextToken_1 8 rfl rfl)
theorem dX3_nextToken_34 : decode cX3_nextToken 34 = .ok (.putfield 125, 3) := dk_181 0 125 (dk_at dksX3_nextToken_1 10 rfl rfl)
theorem dX3_nextToken_37 : decode cX3_nextToken 37 = .ok (.aload_n 0, 1) := dk_42 (dk_at dksX3_nextToken_1 13 rfl rfl)
theorem dX3_nextToken_38 : decode cX3_nextToken 38 = .ok (.aload_n 0, 1) := dk_42 (dk_at dksX3_nextToken_1 14 rfl rfl)
theorem dX3_nextToken_39 : decode cX3_nextToken 39 = .ok (.getfield 121, 3) := dk_180 0 121 (dk_at dksX3_nextToken_1 15 rfl rfl)
theorem dX3_nextToken_42 : decode cX3_nextToken 42 = .ok (.aload_n 0, 1) := dk_42 (dk_at dksX3_nextToken_1 18 rfl rfl)
theorem dX3_nextToken_43 : decode cX3_nextToken 43 = .ok (.getfield 109, 3) := dk_180 0 109 (dk_at dksX3_nextToken_1 19 rfl rfl)
theorem dX3_nextToken_46 : decode cX3_nextToken 46 = .ok (.if_icmp .ne 7, 3) := dk_160 0 7 (dk_at dksX3_nextToken_2 0 rfl rfl)
theorem dX3_nextToken_49 : decode cX3_nextToken 49 = .ok (.iconst 1, 1) := dk_4 (dk_at dksX3_nextToken_2 3 rfl rfl)
theorem dX3_nextToken_50 : decode cX3_nextToken 50 = .ok (.goto 68, 3) := dk_167 0 68 (dk_at dksX3_nextToken_2 4 rfl rfl)
theorem dX3_nextToken_53 : decode cX3_nextToken 53 = .ok (.aload_n 0, 1) := dk_42 (dk_at dksX3_nextToken_2 7 rfl rfl)
theorem dX3_nextToken_54 : decode cX3_nextToken 54 = .ok (.getfield 125, 3) := dk_180 0 125 (dk_at dksX3_nextToken_2 8 rfl rfl)
theorem dX3_nextToken_57 : decode cX3_nextToken 57 = .ok (.i2l, 1) := dk_133 (dk_at dksX3_nextToken_2 11 rfl rfl)
theorem dX3_nextToken_58 : decode cX3_nextToken 58 = .ok (.ldc2_w 128, 3) := dk_20 0 128 (dk_at dksX3_nextToken_2 12 rfl rfl)
theorem dX3_nextToken_61 : decode cX3_nextToken 61 = .ok (.ldc2_w 130, 3) := dk_20 0 130 (dk_at dksX3_nextToken_2 15 rfl rfl)
theorem dX3_nextToken_64 : decode cX3_nextToken 64 = .ok (.invokestatic 70, 3) := dk_184 0 70 (dk_at dksX3_nextToken_2 18 rfl rfl)
theorem dX3_nextToken_67 : decode cX3_nextToken 67 = .ok (.ifCond .eq 7, 3) := dk_153 0 7 (dk_at dksX3_nextToken_2 21 rfl rfl)
theorem dX3_nextToken_70 : decode cX3_nextToken 70 = .ok (.iconst 2, 1) := dk_5 (dk_at dksX3_nextToken_3 0 rfl rfl)
theorem dX3_nextToken_71 : decode cX3_nextToken 71 = .ok (.goto 47, 3) := dk_167 0 47 (dk_at dksX3_nextToken_3 1 rfl rfl)
theorem dX3_nextToken_74 : decode cX3_nextToken 74 = .ok (.aload_n 0, 1) := dk_42 (dk_at dksX3_nextToken_3 4 rfl rfl)
theorem dX3_nextToken_75 : decode cX3_nextToken 75 = .ok (.getfield 125, 3) := dk_180 0 125 (dk_at dksX3_nextToken_3 5 rfl rfl)
theorem dX3_nextToken_78 : decode cX3_nextToken 78 = .ok (.i2l, 1) := dk_133 (dk_at dksX3_nextToken_3 8 rfl rfl)
theorem dX3_nextToken_79 : decode cX3_nextToken 79 = .ok (.ldc2_w 132, 3) := dk_20 0 132 (dk_at dksX3_nextToken_3 9 rfl rfl)
theorem dX3_nextToken_82 : decode cX3_nextToken 82 = .ok (.ldc2_w 134, 3) := dk_20 0 134 (dk_at dksX3_nextToken_3 12 rfl rfl)
theorem dX3_nextToken_85 : decode cX3_nextToken 85 = .ok (.invokestatic 70, 3) := dk_184 0 70 (dk_at dksX3_nextToken_3 15 rfl rfl)
theorem dX3_nextToken_88 : decode cX3_nextToken 88 = .ok (.ifCond .eq 7, 3) := dk_153 0 7 (dk_at dksX3_nextToken_3 18 rfl rfl)
theorem dX3_nextToken_91 : decode cX3_nextToken 91 = .ok (.iconst 3, 1) := dk_6 (dk_at dksX3_nextToken_3 21 rfl rfl)
theorem dX3_nextToken_92 : decode cX3_nextToken 92 = .ok (.goto 26, 3) := dk_167 0 26 (dk_at dksX3_nextToken_4 0 rfl rfl)
theorem dX3_nextToken_95 : decode cX3_nextToken 95 = .ok (.aload_n 0, 1) := dk_42 (dk_at dksX3_nextToken_4 3 rfl rfl)
theorem dX3_nextToken_96 : decode cX3_nextToken 96 = .ok (.getfield 125, 3) := dk_180 0 125 (dk_at dksX3_nextToken_4 4 rfl rfl)
theorem dX3_nextToken_99 : decode cX3_nextToken 99 = .ok (.bipush 44, 2) := dk_16 44 (dk_at dksX3_nextToken_4 7 rfl rfl)
theorem dX3_nextToken_101 : decode cX3_nextToken 101 = .ok (.if_icmp .eq 12, 3) := dk_159 0 12 (dk_at dksX3_nextToken_4 9 rfl rfl)
theorem dX3_nextToken_104 : decode cX3_nextToken 104 = .ok (.aload_n 0, 1) := dk_42 (dk_at dksX3_nextToken_4 12 rfl rfl)
theorem dX3_nextToken_105 : decode cX3_nextToken 105 = .ok (.getfield 125, 3) := dk_180 0 125 (dk_at dksX3_nextToken_4 13 rfl rfl)
theorem dX3_nextToken_108 : decode cX3_nextToken 108 = .ok (.bipush 59, 2) := dk_16 59 (dk_at dksX3_nextToken_4 16 rfl rfl)
theorem dX3_nextToken_110 : decode cX3_nextToken 110 = .ok (.if_icmp .ne 7, 3) := dk_160 0 7 (dk_at dksX3_nextToken_4 18 rfl rfl)
theorem dX3_nextToken_113 : decode cX3_nextToken 113 = .ok (.iconst 4, 1) := dk_7 (dk_at dksX3_nextToken_4 21 rfl rfl)
theorem dX3_nextToken_114 : decode cX3_nextToken 114 = .ok (.goto 4, 3) := dk_167 0 4 (dk_at dksX3_nextToken_5 0 rfl rfl)
theorem dX3_nextToken_117 : decode cX3_nextToken 117 = .ok (.iconst 0, 1) := dk_3 (dk_at dksX3_nextToken_5 3 rfl rfl)
theorem dX3_nextToken_118 : decode cX3_nextToken 118 = .ok (.putfield 136, 3) := dk_181 0 136 (dk_at dksX3_nextToken_5 4 rfl rfl)
theorem dX3_nextToken_121 : decode cX3_nextToken 121 = .ok (.aload_n 0, 1) := dk_42 (dk_at dksX3_nextToken_5 7 rfl rfl)
theorem dX3_nextToken_122 : decode cX3_nextToken 122 = .ok (.dup, 1) := dk_89 (dk_at dksX3_nextToken_5 8 rfl rfl)
theorem dX3_nextToken_123 : decode cX3_nextToken 123 = .ok (.getfield 121, 3) := dk_180 0 121 (dk_at dksX3_nextToken_5 9 rfl rfl)
theorem dX3_nextToken_126 : decode cX3_nextToken 126 = .ok (.aload_n 0, 1) := dk_42 (dk_at dksX3_nextToken_5 12 rfl rfl)
theorem dX3_nextToken_127 : decode cX3_nextToken 127 = .ok (.getfield 121, 3) := dk_180 0 121 (dk_at dksX3_nextToken_5 13 rfl rfl)
theorem dX3_nextToken_130 : decode cX3_nextToken 130 = .ok (.aload_n 0, 1) := dk_42 (dk_at dksX3_nextToken_5 16 rfl rfl)
theorem dX3_nextToken_131 : decode cX3_nextToken 131 = .ok (.getfield 109, 3) := dk_180 0 109 (dk_at dksX3_nextToken_5 17 rfl rfl)
theorem dX3_nextToken_134 : decode cX3_nextToken 134 = .ok (.if_icmp .ge 7, 3) := dk_162 0 7 (dk_at dksX3_nextToken_5 20 rfl rfl)
theorem dX3_nextToken_137 : decode cX3_nextToken 137 = .ok (.iconst 1, 1) := dk_4 (dk_at dksX3_nextToken_5 23 rfl rfl)
theorem dX3_nextToken_138 : decode cX3_nextToken 138 = .ok (.goto 4, 3) := dk_167 0 4 (dk_at dksX3_nextToken_6 0 rfl rfl)
theorem dX3_nextToken_141 : decode cX3_nextToken 141 = .ok (.iconst 0, 1) := dk_3 (dk_at dksX3_nextToken_6 3 rfl rfl)
theorem dX3_nextToken_142 : decode cX3_nextToken 142 = .ok (.iadd, 1) := dk_96 (dk_at dksX3_nextToken_6 4 rfl rfl)
theorem dX3_nextToken_143 : decode cX3_nextToken 143 = .ok (.putfield 121, 3) := dk_181 0 121 (dk_at dksX3_nextToken_6 5 rfl rfl)
theorem dX3_nextToken_146 : decode cX3_nextToken 146 = .ok (.aload_n 0, 1) := dk_42 (dk_at dksX3_nextToken_6 8 rfl rfl)
theorem dX3_nextToken_147 : decode cX3_nextToken 147 = .ok (.getfield 136, 3) := dk_180 0 136 (dk_at dksX3_nextToken_6 9 rfl rfl)
theorem dX3_nextToken_150 : decode cX3_nextToken 150 = .ok (.iconst 3, 1) := dk_6 (dk_at dksX3_nextToken_6 12 rfl rfl)
theorem dX3_nextToken_151 : decode cX3_nextToken 151 = .ok (.if_icmp .ne 126, 3) := dk_160 0 126 (dk_at dksX3_nextToken_6 13 rfl rfl)
theorem dX3_nextToken_154 : decode cX3_nextToken 154 = .ok (.aload_n 0, 1) := dk_42 (dk_at dksX3_nextToken_6 16 rfl rfl)
theorem dX3_nextToken_155 : decode cX3_nextToken 155 = .ok (.dup, 1) := dk_89 (dk_at dksX3_nextToken_6 17 rfl rfl)
theorem dX3_nextToken_156 : decode cX3_nextToken 156 = .ok (.getfield 125, 3) := dk_180 0 125 (dk_at dksX3_nextToken_6 18 rfl rfl)
theorem dX3_nextToken_159 : decode cX3_nextToken 159 = .ok (.bipush 48, 2) := dk_16 48 (dk_at dksX3_nextToken_6 21 rfl rfl)
theorem dX3_nextToken_161 : decode cX3_nextToken 161 = .ok (.isub, 1) := dk_100 (dk_at dksX3_nextToken_6 23 rfl rfl)
theorem dX3_nextToken_162 : decode cX3_nextToken 162 = .ok (.putfield 125, 3) := dk_181 0 125 (dk_at dksX3_nextToken_7 0 rfl rfl)
theorem dX3_nextToken_165 : decode cX3_nextToken 165 = .ok (.aload_n 0, 1) := dk_42 (dk_at dksX3_nextToken_7 3 rfl rfl)
theorem dX3_nextToken_166 : decode cX3_nextToken 166 = .ok (.getfield 121, 3) := dk_180 0 121 (dk_at dksX3_nextToken_7 4 rfl rfl)
theorem dX3_nextToken_169 : decode cX3_nextToken 169 = .ok (.aload_n 0, 1) := dk_42 (dk_at dksX3_nextToken_7 7 rfl rfl)
theorem dX3_nextToken_170 : decode cX3_nextToken 170 = .ok (.getfield 109, 3) := dk_180 0 109 (dk_at dksX3_nextToken_7 8 rfl rfl)
theorem dX3_nextToken_173 : decode cX3_nextToken 173 = .ok (.if_icmp .ge 82, 3) := dk_162 0 82 (dk_at dksX3_nextToken_7 11 rfl rfl)
theorem dX3_nextToken_176 : decode cX3_nextToken 176 = .ok (.aload_n 0, 1) := dk_42 (dk_at dksX3_nextToken_7 14 rfl rfl)
theorem dX3_nextToken_177 : decode cX3_nextToken 177 = .ok (.getfield 37, 3) := dk_180 0 37 (dk_at dksX3_nextToken_7 15 rfl rfl)
theorem dX3_nextToken_180 : decode cX3_nextToken 180 = .ok (.aload_n 0, 1) := dk_42 (dk_at dksX3_nextToken_7 18 rfl rfl)
theorem dX3_nextToken_181 : decode cX3_nextToken 181 = .ok (.getfield 121, 3) := dk_180 0 121 (dk_at dksX3_nextToken_7 19 rfl rfl)
theorem dX3_nextToken_184 : decode cX3_nextToken 184 = .ok (.iaload, 1) := dk_46 (dk_at dksX3_nextToken_7 22 rfl rfl)
theorem dX3_nextToken_185 : decode cX3_nextToken 185 = .ok (.i2l, 1) := dk_133 (dk_at dksX3_nextToken_7 23 rfl rfl)
theorem dX3_nextToken_186 : decode cX3_nextToken 186 = .ok (.ldc2_w 132, 3) := dk_20 0 132 (dk_at dksX3_nextToken_8 0 rfl rfl)
theorem dX3_nextToken_189 : decode cX3_nextToken 189 = .ok (.ldc2_w 134, 3) := dk_20 0 134 (dk_at dksX3_nextToken_8 3 rfl rfl)
theorem dX3_nextToken_192 : decode cX3_nextToken 192 = .ok (.invokestatic 70, 3) := dk_184 0 70 (dk_at dksX3_nextToken_8 6 rfl rfl)
theorem dX3_nextToken_195 : decode cX3_nextToken 195 = .ok (.ifCond .eq 60, 3) := dk_153 0 60 (dk_at dksX3_nextToken_8 9 rfl rfl)
theorem dX3_nextToken_198 : decode cX3_nextToken 198 = .ok (.aload_n 0, 1) := dk_42 (dk_at dksX3_nextToken_8 12 rfl rfl)
theorem dX3_nextToken_199 : decode cX3_nextToken 199 = .ok (.aload_n 0, 1) := dk_42 (dk_at dksX3_nextToken_8 13 rfl rfl)
theorem dX3_nextToken_200 : decode cX3_nextToken 200 = .ok (.getfield 121, 3) := dk_180 0 121 (dk_at dksX3_nextToken_8 14 rfl rfl)
theorem dX3_nextToken_203 : decode cX3_nextToken 203 = .ok (.aload_n 0, 1) := dk_42 (dk_at dksX3_nextToken_8 17 rfl rfl)
theorem dX3_nextToken_204 : decode cX3_nextToken 204 = .ok (.getfield 115, 3) := dk_180 0 115 (dk_at dksX3_nextToken_8 18 rfl rfl)
theorem dX3_nextToken_207 : decode cX3_nextToken 207 = .ok (.isub, 1) := dk_100 (dk_at dksX3_nextToken_8 21 rfl rfl)
theorem dX3_nextToken_208 : decode cX3_nextToken 208 = .ok (.iconst 2, 1) := dk_5 (dk_at dksX3_nextToken_8 22 rfl rfl)
theorem dX3_nextToken_209 : decode cX3_nextToken 209 = .ok (.if_icmp .ge 26, 3) := dk_162 0 26 (dk_at dksX3_nextToken_9 0 rfl rfl)
theorem dX3_nextToken_212 : decode cX3_nextToken 212 = .ok (.bipush 10, 2) := dk_16 10 (dk_at dksX3_nextToken_9 3 rfl rfl)
theorem dX3_nextToken_214 : decode cX3_nextToken 214 = .ok (.aload_n 0, 1) := dk_42 (dk_at dksX3_nextToken_9 5 rfl rfl)
theorem dX3_nextToken_215 : decode cX3_nextToken 215 = .ok (.getfield 125, 3) := dk_180 0 125 (dk_at dksX3_nextToken_9 6 rfl rfl)
theorem dX3_nextToken_218 : decode cX3_nextToken 218 = .ok (.imul, 1) := dk_104 (dk_at dksX3_nextToken_9 9 rfl rfl)
theorem dX3_nextToken_219 : decode cX3_nextToken 219 = .ok (.aload_n 0, 1) := dk_42 (dk_at dksX3_nextToken_9 10 rfl rfl)
theorem dX3_nextToken_220 : decode cX3_nextToken 220 = .ok (.getfield 37, 3) := dk_180 0 37 (dk_at dksX3_nextToken_9 11 rfl rfl)
theorem dX3_nextToken_223 : decode cX3_nextToken 223 = .ok (.aload_n 0, 1) := dk_42 (dk_at dksX3_nextToken_9 14 rfl rfl)
theorem dX3_nextToken_224 : decode cX3_nextToken 224 = .ok (.getfield 121, 3) := dk_180 0 121 (dk_at dksX3_nextToken_9 15 rfl rfl)
theorem dX3_nextToken_227 : decode cX3_nextToken 227 = .ok (.iaload, 1) := dk_46 (dk_at dksX3_nextToken_9 18 rfl rfl)
theorem dX3_nextToken_228 : decode cX3_nextToken 228 = .ok (.iadd, 1) := dk_96 (dk_at dksX3_nextToken_9 19 rfl rfl)
theorem dX3_nextToken_229 : decode cX3_nextToken 229 = .ok (.bipush 48, 2) := dk_16 48 (dk_at dksX3_nextToken_9 20 rfl rfl)
theorem dX3_nextToken_231 : decode cX3_nextToken 231 = .ok (.isub, 1) := dk_100 (dk_at dksX3_nextToken_9 22 rfl rfl)
theorem dX3_nextToken_232 : decode cX3_nextToken 232 = .ok (.goto 7, 3) := dk_167 0 7 (dk_at dksX3_nextToken_10 0 rfl rfl)
theorem dX3_nextToken_235 : decode cX3_nextToken 235 = .ok (.aload_n 0, 1) := dk_42 (dk_at dksX3_nextToken_10 3 rfl rfl)
theorem dX3_nextToken_236 : decode cX3_nextToken 236 = .ok (.getfield 125, 3) := dk_180 0 125 (dk_at dksX3_nextToken_10 4 rfl rfl)
theorem dX3_nextToken_239 : decode cX3_nextToken 239 = .ok (.putfield 125, 3) := dk_181 0 125 (dk_at dksX3_nextToken_10 7 rfl rfl)
theorem dX3_nextToken_242 : decode cX3_nextToken 242 = .ok (.aload_n 0, 1) := dk_42 (dk_at dksX3_nextToken_10 10 rfl rfl)
theorem dX3_nextToken_243 : decode cX3_nextToken 243 = .ok (.dup, 1) := dk_89 (dk_at dksX3_nextToken_10 11 rfl rfl)
theorem dX3_nextToken_244 : decode cX3_nextToken 244 = .ok (.getfield 121, 3) := dk_180 0 121 (dk_at dksX3_nextToken_10 12 rfl rfl)
theorem dX3_nextToken_247 : decode cX3_nextToken 247 = .ok (.iconst 1, 1) := dk_4 (dk_at dksX3_nextToken_10 15 rfl rfl)
theorem dX3_nextToken_248 : decode cX3_nextToken 248 = .ok (.iadd, 1) := dk_96 (dk_at dksX3_nextToken_10 16 rfl rfl)
theorem dX3_nextToken_249 : decode cX3_nextToken 249 = .ok (.putfield 121, 3) := dk_181 0 121 (dk_at dksX3_nextToken_10 17 rfl rfl)
theorem dX3_nextToken_252 : decode cX3_nextToken 252 = .ok (.goto (-87), 3) := dk_167 255 169 (dk_at dksX3_nextToken_10 20 rfl rfl)
theorem dX3_nextToken_255 : decode cX3_nextToken 255 = .ok (.aload_n 0, 1) := dk_42 (dk_at dksX3_nextToken_10 23 rfl rfl)
theorem dX3_nextToken_256 : decode cX3_nextToken 256 = .ok (.aload_n 0, 1) := dk_42 (dk_at dksX3_nextToken_11 0 rfl rfl)
theorem dX3_nextToken_257 : decode cX3_nextToken 257 = .ok (.getfield 121, 3) := dk_180 0 121 (dk_at dksX3_nextToken_11 1 rfl rfl)
theorem dX3_nextToken_260 : decode cX3_nextToken 260 = .ok (.aload_n 0, 1) := dk_42 (dk_at dksX3_nextToken_11 4 rfl rfl)
theorem dX3_nextToken_261 : decode cX3_nextToken 261 = .ok (.getfield 115, 3) := dk_180 0 115 (dk_at dksX3_nextToken_11 5 rfl rfl)
theorem dX3_nextToken_264 : decode cX3_nextToken 264 = .ok (.isub, 1) := dk_100 (dk_at dksX3_nextToken_11 8 rfl rfl)
theorem dX3_nextToken_265 : decode cX3_nextToken 265 = .ok (.iconst 2, 1) := dk_5 (dk_at dksX3_nextToken_11 9 rfl rfl)
theorem dX3_nextToken_266 : decode cX3_nextToken 266 = .ok (.if_icmp .le 7, 3) := dk_164 0 7 (dk_at dksX3_nextToken_11 10 rfl rfl)
theorem dX3_nextToken_269 : decode cX3_nextToken 269 = .ok (.iconst 0, 1) := dk_3 (dk_at dksX3_nextToken_11 13 rfl rfl)
theorem dX3_nextToken_270 : decode cX3_nextToken 270 = .ok (.goto 4, 3) := dk_167 0 4 (dk_at dksX3_nextToken_11 14 rfl rfl)
theorem dX3_nextToken_273 : decode cX3_nextToken 273 = .ok (.iconst 3, 1) := dk_6 (dk_at dksX3_nextToken_11 17 rfl rfl)
theorem dX3_nextToken_274 : decode cX3_nextToken 274 = .ok (.putfield 136, 3) := dk_181 0 136 (dk_at dksX3_nextToken_11 18 rfl rfl)
theorem dX3_nextToken_277 : decode cX3_nextToken 277 = .ok (.return_, 1) := dk_177 (dk_at dksX3_nextToken_11 21 rfl rfl)
abbrev cX3_must : ByteArray := prog_16_method_25_code
def yX3_must : MethodName := ⟨RX3, "must", "(Z)V"⟩
def dkwX3_must_0 : List UInt8 := [27, 154, 0, 8, 42, 4, 182, 0, 139, 42, 180, 0, 112, 154, 0, 7, 42, 182, 0, 143, 177]
abbrev dktX3_must_0 : List UInt8 := dkwX3_must_0 ++ []
theorem dksX3_must_0 : cX3_must.data.toList.drop 0 = dktX3_must_0 := by decide +kernel
theorem dX3_must_0 : decode cX3_must 0 = .ok (.iload_n 1, 1) := dk_27 (dk_at dksX3_must_0 0 rfl rfl)
theorem dX3_must_1 : decode cX3_must 1 = .ok (.ifCond .ne 8, 3) := dk_154 0 8 (dk_at dksX3_must_0 1 rfl rfl)
theorem dX3_must_4 : decode cX3_must 4 = .ok (.aload_n 0, 1) := dk_42 (dk_at dksX3_must_0 4 rfl rfl)
theorem dX3_must_5 : decode cX3_must 5 = .ok (.iconst 1, 1) := dk_4 (dk_at dksX3_must_0 5 rfl rfl)
theorem dX3_must_6 : decode cX3_must 6 = .ok (.invokevirtual 139, 3) := dk_182 0 139 (dk_at dksX3_must_0 6 rfl rfl)
theorem dX3_must_9 : decode cX3_must 9 = .ok (.aload_n 0, 1) := dk_42 (dk_at dksX3_must_0 9 rfl rfl)
theorem dX3_must_10 : decode cX3_must 10 = .ok (.getfield 112, 3) := dk_180 0 112 (dk_at dksX3_must_0 10 rfl rfl)
theorem dX3_must_13 : decode cX3_must 13 = .ok (.ifCond .ne 7, 3) := dk_154 0 7 (dk_at dksX3_must_0 13 rfl rfl)
theorem dX3_must_16 : decode cX3_must 16 = .ok (.aload_n 0, 1) := dk_42 (dk_at dksX3_must_0 16 rfl rfl)
theorem dX3_must_17 : decode cX3_must 17 = .ok (.invokevirtual 143, 3) := dk_182 0 143 (dk_at dksX3_must_0 17 rfl rfl)
theorem dX3_must_20 : decode cX3_must 20 = .ok (.return_, 1) := dk_177 (dk_at dksX3_must_0 20 rfl rfl)
abbrev cX3_bad : ByteArray := prog_16_method_23_code
def yX3_bad : MethodName := ⟨RX3, "bad", "(I)V"⟩
def dkwX3_bad_0 : List UInt8 := [42, 180, 0, 112, 154, 0, 16, 42, 27, 181, 0, 112, 42, 42, 180, 0, 115, 181, 0, 118, 177]
abbrev dktX3_bad_0 : List UInt8 := dkwX3_bad_0 ++ []
theorem dksX3_bad_0 : cX3_bad.data.toList.drop 0 = dktX3_bad_0 := by decide +kernel
theorem dX3_bad_0 : decode cX3_bad 0 = .ok (.aload_n 0, 1) := dk_42 (dk_at dksX3_bad_0 0 rfl rfl)
theorem dX3_bad_1 : decode cX3_bad 1 = .ok (.getfield 112, 3) := dk_180 0 112 (dk_at dksX3_bad_0 1 rfl rfl)
theorem dX3_bad_4 : decode cX3_bad 4 = .ok (.ifCond .ne 16, 3) := dk_154 0 16 (dk_at dksX3_bad_0 4 rfl rfl)
theorem dX3_bad_7 : decode cX3_bad 7 = .ok (.aload_n 0, 1) := dk_42 (dk_at dksX3_bad_0 7 rfl rfl)
theorem dX3_bad_8 : decode cX3_bad 8 = .ok (.iload_n 1, 1) := dk_27 (dk_at dksX3_bad_0 8 rfl rfl)
theorem dX3_bad_9 : decode cX3_bad 9 = .ok (.putfield 112, 3) := dk_181 0 112 (dk_at dksX3_bad_0 9 rfl rfl)
theorem dX3_bad_12 : decode cX3_bad 12 = .ok (.aload_n 0, 1) := dk_42 (dk_at dksX3_bad_0 12 rfl rfl)
theorem dX3_bad_13 : decode cX3_bad 13 = .ok (.aload_n 0, 1) := dk_42 (dk_at dksX3_bad_0 13 rfl rfl)
theorem dX3_bad_14 : decode cX3_bad 14 = .ok (.getfield 115, 3) := dk_180 0 115 (dk_at dksX3_bad_0 14 rfl rfl)
theorem dX3_bad_17 : decode cX3_bad 17 = .ok (.putfield 118, 3) := dk_181 0 118 (dk_at dksX3_bad_0 17 rfl rfl)
theorem dX3_bad_20 : decode cX3_bad 20 = .ok (.return_, 1) := dk_177 (dk_at dksX3_bad_0 20 rfl rfl)
abbrev cX3_figure : ByteArray := prog_16_method_26_code
def yX3_figure : MethodName := ⟨RX3, "figure", "(II)I"⟩
def dkwX3_figure_2 : List UInt8 := [180, 0, 112, 154, 0, 10, 42, 180, 0, 125, 167, 0, 4, 27, 62, 42, 4, 182, 0, 146, 29, 172]
abbrev dktX3_figure_2 : List UInt8 := dkwX3_figure_2 ++ []
def dkwX3_figure_1 : List UInt8 := [154, 0, 23, 42, 180, 0, 125, 133, 27, 133, 28, 133, 184, 0, 70, 154, 0, 8, 42, 5, 182, 0, 139, 42]
abbrev dktX3_figure_1 : List UInt8 := dkwX3_figure_1 ++ dktX3_figure_2
def dkwX3_figure_0 : List UInt8 := [42, 180, 0, 112, 154, 0, 16, 42, 180, 0, 136, 6, 159, 0, 8, 42, 4, 182, 0, 139, 42, 180, 0, 112]
abbrev dktX3_figure_0 : List UInt8 := dkwX3_figure_0 ++ dktX3_figure_1
theorem dksX3_figure_0 : cX3_figure.data.toList.drop 0 = dktX3_figure_0 := by decide +kernel
theorem dksX3_figure_1 : cX3_figure.data.toList.drop 24 = dktX3_figure_1 := dk_seg dksX3_figure_0 24 rfl rfl
theorem dksX3_figure_2 : cX3_figure.data.toList.drop 48 = dktX3_figure_2 := dk_seg dksX3_figure_1 24 rfl rfl
theorem dX3_figure_0 : decode cX3_figure 0 = .ok (.aload_n 0, 1) := dk_42 (dk_at dksX3_figure_0 0 rfl rfl)
theorem dX3_figure_1 : decode cX3_figure 1 = .ok (.getfield 112, 3) := dk_180 0 112 (dk_at dksX3_figure_0 1 rfl rfl)
theorem dX3_figure_4 : decode cX3_figure 4 = .ok (.ifCond .ne 16, 3) := dk_154 0 16 (dk_at dksX3_figure_0 4 rfl rfl)
theorem dX3_figure_7 : decode cX3_figure 7 = .ok (.aload_n 0, 1) := dk_42 (dk_at dksX3_figure_0 7 rfl rfl)
theorem dX3_figure_8 : decode cX3_figure 8 = .ok (.getfield 136, 3) := dk_180 0 136 (dk_at dksX3_figure_0 8 rfl rfl)
theorem dX3_figure_11 : decode cX3_figure 11 = .ok (.iconst 3, 1) := dk_6 (dk_at dksX3_figure_0 11 rfl rfl)
theorem dX3_figure_12 : decode cX3_figure 12 = .ok (.if_icmp .eq 8, 3) := dk_159 0 8 (dk_at dksX3_figure_0 12 rfl rfl)
theorem dX3_figure_15 : decode cX3_figure 15 = .ok (.aload_n 0, 1) := dk_42 (dk_at dksX3_figure_0 15 rfl rfl)
theorem dX3_figure_16 : decode cX3_figure 16 = .ok (.iconst 1, 1) := dk_4 (dk_at dksX3_figure_0 16 rfl rfl)
theorem dX3_figure_17 : decode cX3_figure 17 = .ok (.invokevirtual 139, 3) := dk_182 0 139 (dk_at dksX3_figure_0 17 rfl rfl)
theorem dX3_figure_20 : decode cX3_figure 20 = .ok (.aload_n 0, 1) := dk_42 (dk_at dksX3_figure_0 20 rfl rfl)
theorem dX3_figure_21 : decode cX3_figure 21 = .ok (.getfield 112, 3) := dk_180 0 112 (dk_at dksX3_figure_0 21 rfl rfl)
theorem dX3_figure_24 : decode cX3_figure 24 = .ok (.ifCond .ne 23, 3) := dk_154 0 23 (dk_at dksX3_figure_1 0 rfl rfl)
theorem dX3_figure_27 : decode cX3_figure 27 = .ok (.aload_n 0, 1) := dk_42 (dk_at dksX3_figure_1 3 rfl rfl)
theorem dX3_figure_28 : decode cX3_figure 28 = .ok (.getfield 125, 3) := dk_180 0 125 (dk_at dksX3_figure_1 4 rfl rfl)
theorem dX3_figure_31 : decode cX3_figure 31 = .ok (.i2l, 1) := dk_133 (dk_at dksX3_figure_1 7 rfl rfl)
theorem dX3_figure_32 : decode cX3_figure 32 = .ok (.iload_n 1, 1) := dk_27 (dk_at dksX3_figure_1 8 rfl rfl)
theorem dX3_figure_33 : decode cX3_figure 33 = .ok (.i2l, 1) := dk_133 (dk_at dksX3_figure_1 9 rfl rfl)
theorem dX3_figure_34 : decode cX3_figure 34 = .ok (.iload_n 2, 1) := dk_28 (dk_at dksX3_figure_1 10 rfl rfl)
theorem dX3_figure_35 : decode cX3_figure 35 = .ok (.i2l, 1) := dk_133 (dk_at dksX3_figure_1 11 rfl rfl)
theorem dX3_figure_36 : decode cX3_figure 36 = .ok (.invokestatic 70, 3) := dk_184 0 70 (dk_at dksX3_figure_1 12 rfl rfl)
theorem dX3_figure_39 : decode cX3_figure 39 = .ok (.ifCond .ne 8, 3) := dk_154 0 8 (dk_at dksX3_figure_1 15 rfl rfl)
theorem dX3_figure_42 : decode cX3_figure 42 = .ok (.aload_n 0, 1) := dk_42 (dk_at dksX3_figure_1 18 rfl rfl)
theorem dX3_figure_43 : decode cX3_figure 43 = .ok (.iconst 2, 1) := dk_5 (dk_at dksX3_figure_1 19 rfl rfl)
theorem dX3_figure_44 : decode cX3_figure 44 = .ok (.invokevirtual 139, 3) := dk_182 0 139 (dk_at dksX3_figure_1 20 rfl rfl)
theorem dX3_figure_47 : decode cX3_figure 47 = .ok (.aload_n 0, 1) := dk_42 (dk_at dksX3_figure_1 23 rfl rfl)
theorem dX3_figure_48 : decode cX3_figure 48 = .ok (.getfield 112, 3) := dk_180 0 112 (dk_at dksX3_figure_2 0 rfl rfl)
theorem dX3_figure_51 : decode cX3_figure 51 = .ok (.ifCond .ne 10, 3) := dk_154 0 10 (dk_at dksX3_figure_2 3 rfl rfl)
theorem dX3_figure_54 : decode cX3_figure 54 = .ok (.aload_n 0, 1) := dk_42 (dk_at dksX3_figure_2 6 rfl rfl)
theorem dX3_figure_55 : decode cX3_figure 55 = .ok (.getfield 125, 3) := dk_180 0 125 (dk_at dksX3_figure_2 7 rfl rfl)
theorem dX3_figure_58 : decode cX3_figure 58 = .ok (.goto 4, 3) := dk_167 0 4 (dk_at dksX3_figure_2 10 rfl rfl)
theorem dX3_figure_61 : decode cX3_figure 61 = .ok (.iload_n 1, 1) := dk_27 (dk_at dksX3_figure_2 13 rfl rfl)
theorem dX3_figure_62 : decode cX3_figure 62 = .ok (.istore_n 3, 1) := dk_62 (dk_at dksX3_figure_2 14 rfl rfl)
theorem dX3_figure_63 : decode cX3_figure 63 = .ok (.aload_n 0, 1) := dk_42 (dk_at dksX3_figure_2 15 rfl rfl)
theorem dX3_figure_64 : decode cX3_figure 64 = .ok (.iconst 1, 1) := dk_4 (dk_at dksX3_figure_2 16 rfl rfl)
theorem dX3_figure_65 : decode cX3_figure 65 = .ok (.invokevirtual 146, 3) := dk_182 0 146 (dk_at dksX3_figure_2 17 rfl rfl)
theorem dX3_figure_68 : decode cX3_figure 68 = .ok (.iload_n 3, 1) := dk_29 (dk_at dksX3_figure_2 20 rfl rfl)
theorem dX3_figure_69 : decode cX3_figure 69 = .ok (.ireturn, 1) := dk_172 (dk_at dksX3_figure_2 21 rfl rfl)
abbrev cX3_mustSign : ByteArray := prog_16_method_27_code
def yX3_mustSign : MethodName := ⟨RX3, "mustSign", "(I)V"⟩
def dkwX3_mustSign_1 : List UInt8 := [182, 0, 146, 177]
abbrev dktX3_mustSign_1 : List UInt8 := dkwX3_mustSign_1 ++ []
def dkwX3_mustSign_0 : List UInt8 := [42, 42, 180, 0, 136, 7, 160, 0, 15, 42, 180, 0, 125, 27, 160, 0, 7, 4, 167, 0, 4, 3]
abbrev dktX3_mustSign_0 : List UInt8 := dkwX3_mustSign_0 ++ dktX3_mustSign_1
theorem dksX3_mustSign_0 : cX3_mustSign.data.toList.drop 0 = dktX3_mustSign_0 := by decide +kernel
theorem dksX3_mustSign_1 : cX3_mustSign.data.toList.drop 22 = dktX3_mustSign_1 := dk_seg dksX3_mustSign_0 22 rfl rfl
theorem dX3_mustSign_0 : decode cX3_mustSign 0 = .ok (.aload_n 0, 1) := dk_42 (dk_at dksX3_mustSign_0 0 rfl rfl)
theorem dX3_mustSign_1 : decode cX3_mustSign 1 = .ok (.aload_n 0, 1) := dk_42 (dk_at dksX3_mustSign_0 1 rfl rfl)
theorem dX3_mustSign_2 : decode cX3_mustSign 2 = .ok (.getfield 136, 3) := dk_180 0 136 (dk_at dksX3_mustSign_0 2 rfl rfl)
theorem dX3_mustSign_5 : decode cX3_mustSign 5 = .ok (.iconst 4, 1) := dk_7 (dk_at dksX3_mustSign_0 5 rfl rfl)
theorem dX3_mustSign_6 : decode cX3_mustSign 6 = .ok (.if_icmp .ne 15, 3) := dk_160 0 15 (dk_at dksX3_mustSign_0 6 rfl rfl)
theorem dX3_mustSign_9 : decode cX3_mustSign 9 = .ok (.aload_n 0, 1) := dk_42 (dk_at dksX3_mustSign_0 9 rfl rfl)
theorem dX3_mustSign_10 : decode cX3_mustSign 10 = .ok (.getfield 125, 3) := dk_180 0 125 (dk_at dksX3_mustSign_0 10 rfl rfl)
theorem dX3_mustSign_13 : decode cX3_mustSign 13 = .ok (.iload_n 1, 1) := dk_27 (dk_at dksX3_mustSign_0 13 rfl rfl)
theorem dX3_mustSign_14 : decode cX3_mustSign 14 = .ok (.if_icmp .ne 7, 3) := dk_160 0 7 (dk_at dksX3_mustSign_0 14 rfl rfl)
theorem dX3_mustSign_17 : decode cX3_mustSign 17 = .ok (.iconst 1, 1) := dk_4 (dk_at dksX3_mustSign_0 17 rfl rfl)
theorem dX3_mustSign_18 : decode cX3_mustSign 18 = .ok (.goto 4, 3) := dk_167 0 4 (dk_at dksX3_mustSign_0 18 rfl rfl)
theorem dX3_mustSign_21 : decode cX3_mustSign 21 = .ok (.iconst 0, 1) := dk_3 (dk_at dksX3_mustSign_0 21 rfl rfl)
theorem dX3_mustSign_22 : decode cX3_mustSign 22 = .ok (.invokevirtual 146, 3) := dk_182 0 146 (dk_at dksX3_mustSign_1 0 rfl rfl)
theorem dX3_mustSign_25 : decode cX3_mustSign 25 = .ok (.return_, 1) := dk_177 (dk_at dksX3_mustSign_1 3 rfl rfl)
abbrev cX3_readSort : ByteArray := prog_16_method_30_code
def yX3_readSort : MethodName := ⟨RX3, "readSort", "()V"⟩
def dkwX3_readSort_6 : List UInt8 := [182, 0, 162, 42, 180, 0, 22, 3, 92, 46, 4, 96, 79, 177]
abbrev dktX3_readSort_6 : List UInt8 := dkwX3_readSort_6 ++ []
def dkwX3_readSort_5 : List UInt8 := [182, 0, 162, 42, 180, 0, 22, 28, 6, 96, 42, 28, 7, 96, 7, 182, 0, 165, 79, 42, 16, 59]
abbrev dktX3_readSort_5 : List UInt8 := dkwX3_readSort_5 ++ dktX3_readSort_6
def dkwX3_readSort_4 : List UInt8 := [16, 44, 182, 0, 162, 42, 180, 0, 22, 28, 5, 96, 42, 3, 16, 9, 182, 0, 158, 79, 42, 16, 44]
abbrev dktX3_readSort_4 : List UInt8 := dkwX3_readSort_4 ++ dktX3_readSort_5
def dkwX3_readSort_3 : List UInt8 := [42, 180, 0, 22, 28, 27, 79, 42, 180, 0, 22, 28, 4, 96, 42, 3, 16, 9, 182, 0, 158, 79, 42]
abbrev dktX3_readSort_3 : List UInt8 := dkwX3_readSort_3 ++ dktX3_readSort_4
def dkwX3_readSort_2 : List UInt8 := [180, 0, 112, 158, 0, 4, 177, 16, 12, 16, 8, 42, 180, 0, 22, 3, 46, 104, 96, 61, 42, 182, 0, 143]
abbrev dktX3_readSort_2 : List UInt8 := dkwX3_readSort_2 ++ dktX3_readSort_3
def dkwX3_readSort_1 : List UInt8 := [42, 4, 182, 0, 139, 167, 0, 18, 42, 180, 0, 22, 3, 46, 7, 160, 0, 8, 42, 6, 182, 0, 139, 42]
abbrev dktX3_readSort_1 : List UInt8 := dkwX3_readSort_1 ++ dktX3_readSort_2
def dkwX3_readSort_0 : List UInt8 := [42, 180, 0, 136, 5, 160, 0, 13, 42, 180, 0, 125, 184, 0, 155, 167, 0, 4, 3, 60, 27, 154, 0, 11]
abbrev dktX3_readSort_0 : List UInt8 := dkwX3_readSort_0 ++ dktX3_readSort_1
theorem dksX3_readSort_0 : cX3_readSort.data.toList.drop 0 = dktX3_readSort_0 := by decide +kernel
theorem dksX3_readSort_1 : cX3_readSort.data.toList.drop 24 = dktX3_readSort_1 := dk_seg dksX3_readSort_0 24 rfl rfl
theorem dksX3_readSort_2 : cX3_readSort.data.toList.drop 48 = dktX3_readSort_2 := dk_seg dksX3_readSort_1 24 rfl rfl
theorem dksX3_readSort_3 : cX3_readSort.data.toList.drop 72 = dktX3_readSort_3 := dk_seg dksX3_readSort_2 24 rfl rfl
theorem dksX3_readSort_4 : cX3_readSort.data.toList.drop 95 = dktX3_readSort_4 := dk_seg dksX3_readSort_3 23 rfl rfl
theorem dksX3_readSort_5 : cX3_readSort.data.toList.drop 118 = dktX3_readSort_5 := dk_seg dksX3_readSort_4 23 rfl rfl
theorem dksX3_readSort_6 : cX3_readSort.data.toList.drop 140 = dktX3_readSort_6 := dk_seg dksX3_readSort_5 22 rfl rfl
theorem dX3_readSort_0 : decode cX3_readSort 0 = .ok (.aload_n 0, 1) := dk_42 (dk_at dksX3_readSort_0 0 rfl rfl)
theorem dX3_readSort_1 : decode cX3_readSort 1 = .ok (.getfield 136, 3) := dk_180 0 136 (dk_at dksX3_readSort_0 1 rfl rfl)
theorem dX3_readSort_4 : decode cX3_readSort 4 = .ok (.iconst 2, 1) := dk_5 (dk_at dksX3_readSort_0 4 rfl rfl)
theorem dX3_readSort_5 : decode cX3_readSort 5 = .ok (.if_icmp .ne 13, 3) := dk_160 0 13 (dk_at dksX3_readSort_0 5 rfl rfl)
theorem dX3_readSort_8 : decode cX3_readSort 8 = .ok (.aload_n 0, 1) := dk_42 (dk_at dksX3_readSort_0 8 rfl rfl)
theorem dX3_readSort_9 : decode cX3_readSort 9 = .ok (.getfield 125, 3) := dk_180 0 125 (dk_at dksX3_readSort_0 9 rfl rfl)
theorem dX3_readSort_12 : decode cX3_readSort 12 = .ok (.invokestatic 155, 3) := dk_184 0 155 (dk_at dksX3_readSort_0 12 rfl rfl)
theorem dX3_readSort_15 : decode cX3_readSort 15 = .ok (.goto 4, 3) := dk_167 0 4 (dk_at dksX3_readSort_0 15 rfl rfl)
theorem dX3_readSort_18 : decode cX3_readSort 18 = .ok (.iconst 0, 1) := dk_3 (dk_at dksX3_readSort_0 18 rfl rfl)
theorem dX3_readSort_19 : decode cX3_readSort 19 = .ok (.istore_n 1, 1) := dk_60 (dk_at dksX3_readSort_0 19 rfl rfl)
theorem dX3_readSort_20 : decode cX3_readSort 20 = .ok (.iload_n 1, 1) := dk_27 (dk_at dksX3_readSort_0 20 rfl rfl)
theorem dX3_readSort_21 : decode cX3_readSort 21 = .ok (.ifCond .ne 11, 3) := dk_154 0 11 (dk_at dksX3_readSort_0 21 rfl rfl)
theorem dX3_readSort_24 : decode cX3_readSort 24 = .ok (.aload_n 0, 1) := dk_42 (dk_at dksX3_readSort_1 0 rfl rfl)
theorem dX3_readSort_25 : decode cX3_readSort 25 = .ok (.iconst 1, 1) := dk_4 (dk_at dksX3_readSort_1 1 rfl rfl)
theorem dX3_readSort_26 : decode cX3_readSort 26 = .ok (.invokevirtual 139, 3) := dk_182 0 139 (dk_at dksX3_readSort_1 2 rfl rfl)
theorem dX3_readSort_29 : decode cX3_readSort 29 = .ok (.goto 18, 3) := dk_167 0 18 (dk_at dksX3_readSort_1 5 rfl rfl)
theorem dX3_readSort_32 : decode cX3_readSort 32 = .ok (.aload_n 0, 1) := dk_42 (dk_at dksX3_readSort_1 8 rfl rfl)
theorem dX3_readSort_33 : decode cX3_readSort 33 = .ok (.getfield 22, 3) := dk_180 0 22 (dk_at dksX3_readSort_1 9 rfl rfl)
theorem dX3_readSort_36 : decode cX3_readSort 36 = .ok (.iconst 0, 1) := dk_3 (dk_at dksX3_readSort_1 12 rfl rfl)
theorem dX3_readSort_37 : decode cX3_readSort 37 = .ok (.iaload, 1) := dk_46 (dk_at dksX3_readSort_1 13 rfl rfl)
theorem dX3_readSort_38 : decode cX3_readSort 38 = .ok (.iconst 4, 1) := dk_7 (dk_at dksX3_readSort_1 14 rfl rfl)
theorem dX3_readSort_39 : decode cX3_readSort 39 = .ok (.if_icmp .ne 8, 3) := dk_160 0 8 (dk_at dksX3_readSort_1 15 rfl rfl)
theorem dX3_readSort_42 : decode cX3_readSort 42 = .ok (.aload_n 0, 1) := dk_42 (dk_at dksX3_readSort_1 18 rfl rfl)
theorem dX3_readSort_43 : decode cX3_readSort 43 = .ok (.iconst 3, 1) := dk_6 (dk_at dksX3_readSort_1 19 rfl rfl)
theorem dX3_readSort_44 : decode cX3_readSort 44 = .ok (.invokevirtual 139, 3) := dk_182 0 139 (dk_at dksX3_readSort_1 20 rfl rfl)
theorem dX3_readSort_47 : decode cX3_readSort 47 = .ok (.aload_n 0, 1) := dk_42 (dk_at dksX3_readSort_1 23 rfl rfl)
theorem dX3_readSort_48 : decode cX3_readSort 48 = .ok (.getfield 112, 3) := dk_180 0 112 (dk_at dksX3_readSort_2 0 rfl rfl)
theorem dX3_readSort_51 : decode cX3_readSort 51 = .ok (.ifCond .le 4, 3) := dk_158 0 4 (dk_at dksX3_readSort_2 3 rfl rfl)
theorem dX3_readSort_54 : decode cX3_readSort 54 = .ok (.return_, 1) := dk_177 (dk_at dksX3_readSort_2 6 rfl rfl)
theorem dX3_readSort_55 : decode cX3_readSort 55 = .ok (.bipush 12, 2) := dk_16 12 (dk_at dksX3_readSort_2 7 rfl rfl)
theorem dX3_readSort_57 : decode cX3_readSort 57 = .ok (.bipush 8, 2) := dk_16 8 (dk_at dksX3_readSort_2 9 rfl rfl)
theorem dX3_readSort_59 : decode cX3_readSort 59 = .ok (.aload_n 0, 1) := dk_42 (dk_at dksX3_readSort_2 11 rfl rfl)
theorem dX3_readSort_60 : decode cX3_readSort 60 = .ok (.getfield 22, 3) := dk_180 0 22 (dk_at dksX3_readSort_2 12 rfl rfl)
theorem dX3_readSort_63 : decode cX3_readSort 63 = .ok (.iconst 0, 1) := dk_3 (dk_at dksX3_readSort_2 15 rfl rfl)
theorem dX3_readSort_64 : decode cX3_readSort 64 = .ok (.iaload, 1) := dk_46 (dk_at dksX3_readSort_2 16 rfl rfl)
theorem dX3_readSort_65 : decode cX3_readSort 65 = .ok (.imul, 1) := dk_104 (dk_at dksX3_readSort_2 17 rfl rfl)
theorem dX3_readSort_66 : decode cX3_readSort 66 = .ok (.iadd, 1) := dk_96 (dk_at dksX3_readSort_2 18 rfl rfl)
theorem dX3_readSort_67 : decode cX3_readSort 67 = .ok (.istore_n 2, 1) := dk_61 (dk_at dksX3_readSort_2 19 rfl rfl)
theorem dX3_readSort_68 : decode cX3_readSort 68 = .ok (.aload_n 0, 1) := dk_42 (dk_at dksX3_readSort_2 20 rfl rfl)
theorem dX3_readSort_69 : decode cX3_readSort 69 = .ok (.invokevirtual 143, 3) := dk_182 0 143 (dk_at dksX3_readSort_2 21 rfl rfl)
theorem dX3_readSort_72 : decode cX3_readSort 72 = .ok (.aload_n 0, 1) := dk_42 (dk_at dksX3_readSort_3 0 rfl rfl)
theorem dX3_readSort_73 : decode cX3_readSort 73 = .ok (.getfield 22, 3) := dk_180 0 22 (dk_at dksX3_readSort_3 1 rfl rfl)
theorem dX3_readSort_76 : decode cX3_readSort 76 = .ok (.iload_n 2, 1) := dk_28 (dk_at dksX3_readSort_3 4 rfl rfl)
theorem dX3_readSort_77 : decode cX3_readSort 77 = .ok (.iload_n 1, 1) := dk_27 (dk_at dksX3_readSort_3 5 rfl rfl)
theorem dX3_readSort_78 : decode cX3_readSort 78 = .ok (.iastore, 1) := dk_79 (dk_at dksX3_readSort_3 6 rfl rfl)
theorem dX3_readSort_79 : decode cX3_readSort 79 = .ok (.aload_n 0, 1) := dk_42 (dk_at dksX3_readSort_3 7 rfl rfl)
theorem dX3_readSort_80 : decode cX3_readSort 80 = .ok (.getfield 22, 3) := dk_180 0 22 (dk_at dksX3_readSort_3 8 rfl rfl)
theorem dX3_readSort_83 : decode cX3_readSort 83 = .ok (.iload_n 2, 1) := dk_28 (dk_at dksX3_readSort_3 11 rfl rfl)
theorem dX3_readSort_84 : decode cX3_readSort 84 = .ok (.iconst 1, 1) := dk_4 (dk_at dksX3_readSort_3 12 rfl rfl)
theorem dX3_readSort_85 : decode cX3_readSort 85 = .ok (.iadd, 1) := dk_96 (dk_at dksX3_readSort_3 13 rfl rfl)
theorem dX3_readSort_86 : decode cX3_readSort 86 = .ok (.aload_n 0, 1) := dk_42 (dk_at dksX3_readSort_3 14 rfl rfl)
theorem dX3_readSort_87 : decode cX3_readSort 87 = .ok (.iconst 0, 1) := dk_3 (dk_at dksX3_readSort_3 15 rfl rfl)
theorem dX3_readSort_88 : decode cX3_readSort 88 = .ok (.bipush 9, 2) := dk_16 9 (dk_at dksX3_readSort_3 16 rfl rfl)
theorem dX3_readSort_90 : decode cX3_readSort 90 = .ok (.invokevirtual 158, 3) := dk_182 0 158 (dk_at dksX3_readSort_3 18 rfl rfl)
theorem dX3_readSort_93 : decode cX3_readSort 93 = .ok (.iastore, 1) := dk_79 (dk_at dksX3_readSort_3 21 rfl rfl)
theorem dX3_readSort_94 : decode cX3_readSort 94 = .ok (.aload_n 0, 1) := dk_42 (dk_at dksX3_readSort_3 22 rfl rfl)
theorem dX3_readSort_95 : decode cX3_readSort 95 = .ok (.bipush 44, 2) := dk_16 44 (dk_at dksX3_readSort_4 0 rfl rfl)
theorem dX3_readSort_97 : decode cX3_readSort 97 = .ok (.invokevirtual 162, 3) := dk_182 0 162 (dk_at dksX3_readSort_4 2 rfl rfl)
theorem dX3_readSort_100 : decode cX3_readSort 100 = .ok (.aload_n 0, 1) := dk_42 (dk_at dksX3_readSort_4 5 rfl rfl)
theorem dX3_readSort_101 : decode cX3_readSort 101 = .ok (.getfield 22, 3) := dk_180 0 22 (dk_at dksX3_readSort_4 6 rfl rfl)
theorem dX3_readSort_104 : decode cX3_readSort 104 = .ok (.iload_n 2, 1) := dk_28 (dk_at dksX3_readSort_4 9 rfl rfl)
theorem dX3_readSort_105 : decode cX3_readSort 105 = .ok (.iconst 2, 1) := dk_5 (dk_at dksX3_readSort_4 10 rfl rfl)
theorem dX3_readSort_106 : decode cX3_readSort 106 = .ok (.iadd, 1) := dk_96 (dk_at dksX3_readSort_4 11 rfl rfl)
theorem dX3_readSort_107 : decode cX3_readSort 107 = .ok (.aload_n 0, 1) := dk_42 (dk_at dksX3_readSort_4 12 rfl rfl)
theorem dX3_readSort_108 : decode cX3_readSort 108 = .ok (.iconst 0, 1) := dk_3 (dk_at dksX3_readSort_4 13 rfl rfl)
theorem dX3_readSort_109 : decode cX3_readSort 109 = .ok (.bipush 9, 2) := dk_16 9 (dk_at dksX3_readSort_4 14 rfl rfl)
theorem dX3_readSort_111 : decode cX3_readSort 111 = .ok (.invokevirtual 158, 3) := dk_182 0 158 (dk_at dksX3_readSort_4 16 rfl rfl)
theorem dX3_readSort_114 : decode cX3_readSort 114 = .ok (.iastore, 1) := dk_79 (dk_at dksX3_readSort_4 19 rfl rfl)
theorem dX3_readSort_115 : decode cX3_readSort 115 = .ok (.aload_n 0, 1) := dk_42 (dk_at dksX3_readSort_4 20 rfl rfl)
theorem dX3_readSort_116 : decode cX3_readSort 116 = .ok (.bipush 44, 2) := dk_16 44 (dk_at dksX3_readSort_4 21 rfl rfl)
theorem dX3_readSort_118 : decode cX3_readSort 118 = .ok (.invokevirtual 162, 3) := dk_182 0 162 (dk_at dksX3_readSort_5 0 rfl rfl)
theorem dX3_readSort_121 : decode cX3_readSort 121 = .ok (.aload_n 0, 1) := dk_42 (dk_at dksX3_readSort_5 3 rfl rfl)
theorem dX3_readSort_122 : decode cX3_readSort 122 = .ok (.getfield 22, 3) := dk_180 0 22 (dk_at dksX3_readSort_5 4 rfl rfl)
theorem dX3_readSort_125 : decode cX3_readSort 125 = .ok (.iload_n 2, 1) := dk_28 (dk_at dksX3_readSort_5 7 rfl rfl)
theorem dX3_readSort_126 : decode cX3_readSort 126 = .ok (.iconst 3, 1) := dk_6 (dk_at dksX3_readSort_5 8 rfl rfl)
theorem dX3_readSort_127 : decode cX3_readSort 127 = .ok (.iadd, 1) := dk_96 (dk_at dksX3_readSort_5 9 rfl rfl)
theorem dX3_readSort_128 : decode cX3_readSort 128 = .ok (.aload_n 0, 1) := dk_42 (dk_at dksX3_readSort_5 10 rfl rfl)
theorem dX3_readSort_129 : decode cX3_readSort 129 = .ok (.iload_n 2, 1) := dk_28 (dk_at dksX3_readSort_5 11 rfl rfl)
theorem dX3_readSort_130 : decode cX3_readSort 130 = .ok (.iconst 4, 1) := dk_7 (dk_at dksX3_readSort_5 12 rfl rfl)
theorem dX3_readSort_131 : decode cX3_readSort 131 = .ok (.iadd, 1) := dk_96 (dk_at dksX3_readSort_5 13 rfl rfl)
theorem dX3_readSort_132 : decode cX3_readSort 132 = .ok (.iconst 4, 1) := dk_7 (dk_at dksX3_readSort_5 14 rfl rfl)
theorem dX3_readSort_133 : decode cX3_readSort 133 = .ok (.invokevirtual 165, 3) := dk_182 0 165 (dk_at dksX3_readSort_5 15 rfl rfl)
theorem dX3_readSort_136 : decode cX3_readSort 136 = .ok (.iastore, 1) := dk_79 (dk_at dksX3_readSort_5 18 rfl rfl)
theorem dX3_readSort_137 : decode cX3_readSort 137 = .ok (.aload_n 0, 1) := dk_42 (dk_at dksX3_readSort_5 19 rfl rfl)
theorem dX3_readSort_138 : decode cX3_readSort 138 = .ok (.bipush 59, 2) := dk_16 59 (dk_at dksX3_readSort_5 20 rfl rfl)
theorem dX3_readSort_140 : decode cX3_readSort 140 = .ok (.invokevirtual 162, 3) := dk_182 0 162 (dk_at dksX3_readSort_6 0 rfl rfl)
theorem dX3_readSort_143 : decode cX3_readSort 143 = .ok (.aload_n 0, 1) := dk_42 (dk_at dksX3_readSort_6 3 rfl rfl)
theorem dX3_readSort_144 : decode cX3_readSort 144 = .ok (.getfield 22, 3) := dk_180 0 22 (dk_at dksX3_readSort_6 4 rfl rfl)
theorem dX3_readSort_147 : decode cX3_readSort 147 = .ok (.iconst 0, 1) := dk_3 (dk_at dksX3_readSort_6 7 rfl rfl)
theorem dX3_readSort_148 : decode cX3_readSort 148 = .ok (.dup2, 1) := dk_92 (dk_at dksX3_readSort_6 8 rfl rfl)
theorem dX3_readSort_149 : decode cX3_readSort 149 = .ok (.iaload, 1) := dk_46 (dk_at dksX3_readSort_6 9 rfl rfl)
theorem dX3_readSort_150 : decode cX3_readSort 150 = .ok (.iconst 1, 1) := dk_4 (dk_at dksX3_readSort_6 10 rfl rfl)
theorem dX3_readSort_151 : decode cX3_readSort 151 = .ok (.iadd, 1) := dk_96 (dk_at dksX3_readSort_6 11 rfl rfl)
theorem dX3_readSort_152 : decode cX3_readSort 152 = .ok (.iastore, 1) := dk_79 (dk_at dksX3_readSort_6 12 rfl rfl)
theorem dX3_readSort_153 : decode cX3_readSort 153 = .ok (.return_, 1) := dk_177 (dk_at dksX3_readSort_6 13 rfl rfl)
abbrev cX3_sortOf : ByteArray := prog_16_method_28_code
def yX3_sortOf : MethodName := ⟨RX3, "sortOf", "(I)I"⟩
def dkwX3_sortOf_2 : List UInt8 := [167, 0, 4, 3, 172]
abbrev dktX3_sortOf_2 : List UInt8 := dkwX3_sortOf_2 ++ []
def dkwX3_sortOf_1 : List UInt8 := [160, 0, 7, 6, 167, 0, 24, 26, 16, 102, 160, 0, 7, 7, 167, 0, 14, 26, 16, 115, 160, 0, 7, 8]
abbrev dktX3_sortOf_1 : List UInt8 := dkwX3_sortOf_1 ++ dktX3_sortOf_2
def dkwX3_sortOf_0 : List UInt8 := [26, 16, 112, 160, 0, 7, 4, 167, 0, 44, 26, 16, 109, 160, 0, 7, 5, 167, 0, 34, 26, 16, 108]
abbrev dktX3_sortOf_0 : List UInt8 := dkwX3_sortOf_0 ++ dktX3_sortOf_1
theorem dksX3_sortOf_0 : cX3_sortOf.data.toList.drop 0 = dktX3_sortOf_0 := by decide +kernel
theorem dksX3_sortOf_1 : cX3_sortOf.data.toList.drop 23 = dktX3_sortOf_1 := dk_seg dksX3_sortOf_0 23 rfl rfl
theorem dksX3_sortOf_2 : cX3_sortOf.data.toList.drop 47 = dktX3_sortOf_2 := dk_seg dksX3_sortOf_1 24 rfl rfl
theorem dX3_sortOf_0 : decode cX3_sortOf 0 = .ok (.iload_n 0, 1) := dk_26 (dk_at dksX3_sortOf_0 0 rfl rfl)
theorem dX3_sortOf_1 : decode cX3_sortOf 1 = .ok (.bipush 112, 2) := dk_16 112 (dk_at dksX3_sortOf_0 1 rfl rfl)
theorem dX3_sortOf_3 : decode cX3_sortOf 3 = .ok (.if_icmp .ne 7, 3) := dk_160 0 7 (dk_at dksX3_sortOf_0 3 rfl rfl)
theorem dX3_sortOf_6 : decode cX3_sortOf 6 = .ok (.iconst 1, 1) := dk_4 (dk_at dksX3_sortOf_0 6 rfl rfl)
theorem dX3_sortOf_7 : decode cX3_sortOf 7 = .ok (.goto 44, 3) := dk_167 0 44 (dk_at dksX3_sortOf_0 7 rfl rfl)
theorem dX3_sortOf_10 : decode cX3_sortOf 10 = .ok (.iload_n 0, 1) := dk_26 (dk_at dksX3_sortOf_0 10 rfl rfl)
theorem dX3_sortOf_11 : decode cX3_sortOf 11 = .ok (.bipush 109, 2) := dk_16 109 (dk_at dksX3_sortOf_0 11 rfl rfl)
theorem dX3_sortOf_13 : decode cX3_sortOf 13 = .ok (.if_icmp .ne 7, 3) := dk_160 0 7 (dk_at dksX3_sortOf_0 13 rfl rfl)
theorem dX3_sortOf_16 : decode cX3_sortOf 16 = .ok (.iconst 2, 1) := dk_5 (dk_at dksX3_sortOf_0 16 rfl rfl)
theorem dX3_sortOf_17 : decode cX3_sortOf 17 = .ok (.goto 34, 3) := dk_167 0 34 (dk_at dksX3_sortOf_0 17 rfl rfl)
theorem dX3_sortOf_20 : decode cX3_sortOf 20 = .ok (.iload_n 0, 1) := dk_26 (dk_at dksX3_sortOf_0 20 rfl rfl)
theorem dX3_sortOf_21 : decode cX3_sortOf 21 = .ok (.bipush 108, 2) := dk_16 108 (dk_at dksX3_sortOf_0 21 rfl rfl)
theorem dX3_sortOf_23 : decode cX3_sortOf 23 = .ok (.if_icmp .ne 7, 3) := dk_160 0 7 (dk_at dksX3_sortOf_1 0 rfl rfl)
theorem dX3_sortOf_26 : decode cX3_sortOf 26 = .ok (.iconst 3, 1) := dk_6 (dk_at dksX3_sortOf_1 3 rfl rfl)
theorem dX3_sortOf_27 : decode cX3_sortOf 27 = .ok (.goto 24, 3) := dk_167 0 24 (dk_at dksX3_sortOf_1 4 rfl rfl)
theorem dX3_sortOf_30 : decode cX3_sortOf 30 = .ok (.iload_n 0, 1) := dk_26 (dk_at dksX3_sortOf_1 7 rfl rfl)
theorem dX3_sortOf_31 : decode cX3_sortOf 31 = .ok (.bipush 102, 2) := dk_16 102 (dk_at dksX3_sortOf_1 8 rfl rfl)
theorem dX3_sortOf_33 : decode cX3_sortOf 33 = .ok (.if_icmp .ne 7, 3) := dk_160 0 7 (dk_at dksX3_sortOf_1 10 rfl rfl)
theorem dX3_sortOf_36 : decode cX3_sortOf 36 = .ok (.iconst 4, 1) := dk_7 (dk_at dksX3_sortOf_1 13 rfl rfl)
theorem dX3_sortOf_37 : decode cX3_sortOf 37 = .ok (.goto 14, 3) := dk_167 0 14 (dk_at dksX3_sortOf_1 14 rfl rfl)
theorem dX3_sortOf_40 : decode cX3_sortOf 40 = .ok (.iload_n 0, 1) := dk_26 (dk_at dksX3_sortOf_1 17 rfl rfl)
theorem dX3_sortOf_41 : decode cX3_sortOf 41 = .ok (.bipush 115, 2) := dk_16 115 (dk_at dksX3_sortOf_1 18 rfl rfl)
theorem dX3_sortOf_43 : decode cX3_sortOf 43 = .ok (.if_icmp .ne 7, 3) := dk_160 0 7 (dk_at dksX3_sortOf_1 20 rfl rfl)
theorem dX3_sortOf_46 : decode cX3_sortOf 46 = .ok (.iconst 5, 1) := dk_8 (dk_at dksX3_sortOf_1 23 rfl rfl)
theorem dX3_sortOf_47 : decode cX3_sortOf 47 = .ok (.goto 4, 3) := dk_167 0 4 (dk_at dksX3_sortOf_2 0 rfl rfl)
theorem dX3_sortOf_50 : decode cX3_sortOf 50 = .ok (.iconst 0, 1) := dk_3 (dk_at dksX3_sortOf_2 3 rfl rfl)
theorem dX3_sortOf_51 : decode cX3_sortOf 51 = .ok (.ireturn, 1) := dk_172 (dk_at dksX3_sortOf_2 4 rfl rfl)
abbrev cX3_readWord : ByteArray := prog_16_method_29_code
def yX3_readWord : MethodName := ⟨RX3, "readWord", "(II)I"⟩
def dkwX3_readWord_5 : List UInt8 := [167, 255, 179, 29, 172]
abbrev dktX3_readWord_5 : List UInt8 := dkwX3_readWord_5 ++ []
def dkwX3_readWord_4 : List UInt8 := [180, 0, 152, 4, 42, 180, 0, 125, 16, 97, 100, 120, 128, 181, 0, 152, 132, 3, 1, 42, 182, 0, 143]
abbrev dktX3_readWord_4 : List UInt8 := dkwX3_readWord_4 ++ dktX3_readWord_5
def dkwX3_readWord_3 : List UInt8 := [184, 0, 70, 153, 0, 46, 42, 180, 0, 22, 27, 29, 96, 42, 180, 0, 125, 16, 97, 100, 79, 42, 89]
abbrev dktX3_readWord_3 : List UInt8 := dkwX3_readWord_3 ++ dktX3_readWord_4
def dkwX3_readWord_2 : List UInt8 := [29, 28, 162, 0, 71, 42, 180, 0, 136, 5, 160, 0, 63, 42, 180, 0, 125, 133, 20, 0, 128, 20, 0, 150]
abbrev dktX3_readWord_2 : List UInt8 := dkwX3_readWord_2 ++ dktX3_readWord_3
def dkwX3_readWord_1 : List UInt8 := [20, 0, 128, 20, 0, 150, 184, 0, 70, 154, 0, 8, 42, 4, 182, 0, 139, 42, 180, 0, 112, 154, 0, 76]
abbrev dktX3_readWord_1 : List UInt8 := dkwX3_readWord_1 ++ dktX3_readWord_2
def dkwX3_readWord_0 : List UInt8 := [3, 62, 42, 180, 0, 112, 154, 0, 33, 42, 180, 0, 136, 5, 160, 0, 20, 42, 180, 0, 125, 133]
abbrev dktX3_readWord_0 : List UInt8 := dkwX3_readWord_0 ++ dktX3_readWord_1
theorem dksX3_readWord_0 : cX3_readWord.data.toList.drop 0 = dktX3_readWord_0 := by decide +kernel
theorem dksX3_readWord_1 : cX3_readWord.data.toList.drop 22 = dktX3_readWord_1 := dk_seg dksX3_readWord_0 22 rfl rfl
theorem dksX3_readWord_2 : cX3_readWord.data.toList.drop 46 = dktX3_readWord_2 := dk_seg dksX3_readWord_1 24 rfl rfl
theorem dksX3_readWord_3 : cX3_readWord.data.toList.drop 70 = dktX3_readWord_3 := dk_seg dksX3_readWord_2 24 rfl rfl
theorem dksX3_readWord_4 : cX3_readWord.data.toList.drop 93 = dktX3_readWord_4 := dk_seg dksX3_readWord_3 23 rfl rfl
theorem dksX3_readWord_5 : cX3_readWord.data.toList.drop 116 = dktX3_readWord_5 := dk_seg dksX3_readWord_4 23 rfl rfl
theorem dX3_readWord_0 : decode cX3_readWord 0 = .ok (.iconst 0, 1) := dk_3 (dk_at dksX3_readWord_0 0 rfl rfl)
theorem dX3_readWord_1 : decode cX3_readWord 1 = .ok (.istore_n 3, 1) := dk_62 (dk_at dksX3_readWord_0 1 rfl rfl)
theorem dX3_readWord_2 : decode cX3_readWord 2 = .ok (.aload_n 0, 1) := dk_42 (dk_at dksX3_readWord_0 2 rfl rfl)
theorem dX3_readWord_3 : decode cX3_readWord 3 = .ok (.getfield 112, 3) := dk_180 0 112 (dk_at dksX3_readWord_0 3 rfl rfl)
theorem dX3_readWord_6 : decode cX3_readWord 6 = .ok (.ifCond .ne 33, 3) := dk_154 0 33 (dk_at dksX3_readWord_0 6 rfl rfl)
theorem dX3_readWord_9 : decode cX3_readWord 9 = .ok (.aload_n 0, 1) := dk_42 (dk_at dksX3_readWord_0 9 rfl rfl)
theorem dX3_readWord_10 : decode cX3_readWord 10 = .ok (.getfield 136, 3) := dk_180 0 136 (dk_at dksX3_readWord_0 10 rfl rfl)
theorem dX3_readWord_13 : decode cX3_readWord 13 = .ok (.iconst 2, 1) := dk_5 (dk_at dksX3_readWord_0 13 rfl rfl)
theorem dX3_readWord_14 : decode cX3_readWord 14 = .ok (.if_icmp .ne 20, 3) := dk_160 0 20 (dk_at dksX3_readWord_0 14 rfl rfl)
theorem dX3_readWord_17 : decode cX3_readWord 17 = .ok (.aload_n 0, 1) := dk_42 (dk_at dksX3_readWord_0 17 rfl rfl)
theorem dX3_readWord_18 : decode cX3_readWord 18 = .ok (.getfield 125, 3) := dk_180 0 125 (dk_at dksX3_readWord_0 18 rfl rfl)
theorem dX3_readWord_21 : decode cX3_readWord 21 = .ok (.i2l, 1) := dk_133 (dk_at dksX3_readWord_0 21 rfl rfl)
theorem dX3_readWord_22 : decode cX3_readWord 22 = .ok (.ldc2_w 128, 3) := dk_20 0 128 (dk_at dksX3_readWord_1 0 rfl rfl)
theorem dX3_readWord_25 : decode cX3_readWord 25 = .ok (.ldc2_w 150, 3) := dk_20 0 150 (dk_at dksX3_readWord_1 3 rfl rfl)
theorem dX3_readWord_28 : decode cX3_readWord 28 = .ok (.invokestatic 70, 3) := dk_184 0 70 (dk_at dksX3_readWord_1 6 rfl rfl)
theorem dX3_readWord_31 : decode cX3_readWord 31 = .ok (.ifCond .ne 8, 3) := dk_154 0 8 (dk_at dksX3_readWord_1 9 rfl rfl)
theorem dX3_readWord_34 : decode cX3_readWord 34 = .ok (.aload_n 0, 1) := dk_42 (dk_at dksX3_readWord_1 12 rfl rfl)
theorem dX3_readWord_35 : decode cX3_readWord 35 = .ok (.iconst 1, 1) := dk_4 (dk_at dksX3_readWord_1 13 rfl rfl)
theorem dX3_readWord_36 : decode cX3_readWord 36 = .ok (.invokevirtual 139, 3) := dk_182 0 139 (dk_at dksX3_readWord_1 14 rfl rfl)
theorem dX3_readWord_39 : decode cX3_readWord 39 = .ok (.aload_n 0, 1) := dk_42 (dk_at dksX3_readWord_1 17 rfl rfl)
theorem dX3_readWord_40 : decode cX3_readWord 40 = .ok (.getfield 112, 3) := dk_180 0 112 (dk_at dksX3_readWord_1 18 rfl rfl)
theorem dX3_readWord_43 : decode cX3_readWord 43 = .ok (.ifCond .ne 76, 3) := dk_154 0 76 (dk_at dksX3_readWord_1 21 rfl rfl)
theorem dX3_readWord_46 : decode cX3_readWord 46 = .ok (.iload_n 3, 1) := dk_29 (dk_at dksX3_readWord_2 0 rfl rfl)
theorem dX3_readWord_47 : decode cX3_readWord 47 = .ok (.iload_n 2, 1) := dk_28 (dk_at dksX3_readWord_2 1 rfl rfl)
theorem dX3_readWord_48 : decode cX3_readWord 48 = .ok (.if_icmp .ge 71, 3) := dk_162 0 71 (dk_at dksX3_readWord_2 2 rfl rfl)
theorem dX3_readWord_51 : decode cX3_readWord 51 = .ok (.aload_n 0, 1) := dk_42 (dk_at dksX3_readWord_2 5 rfl rfl)
theorem dX3_readWord_52 : decode cX3_readWord 52 = .ok (.getfield 136, 3) := dk_180 0 136 (dk_at dksX3_readWord_2 6 rfl rfl)
theorem dX3_readWord_55 : decode cX3_readWord 55 = .ok (.iconst 2, 1) := dk_5 (dk_at dksX3_readWord_2 9 rfl rfl)
theorem dX3_readWord_56 : decode cX3_readWord 56 = .ok (.if_icmp .ne 63, 3) := dk_160 0 63 (dk_at dksX3_readWord_2 10 rfl rfl)
theorem dX3_readWord_59 : decode cX3_readWord 59 = .ok (.aload_n 0, 1) := dk_42 (dk_at dksX3_readWord_2 13 rfl rfl)
theorem dX3_readWord_60 : decode cX3_readWord 60 = .ok (.getfield 125, 3) := dk_180 0 125 (dk_at dksX3_readWord_2 14 rfl rfl)
theorem dX3_readWord_63 : decode cX3_readWord 63 = .ok (.i2l, 1) := dk_133 (dk_at dksX3_readWord_2 17 rfl rfl)
theorem dX3_readWord_64 : decode cX3_readWord 64 = .ok (.ldc2_w 128, 3) := dk_20 0 128 (dk_at dksX3_readWord_2 18 rfl rfl)
theorem dX3_readWord_67 : decode cX3_readWord 67 = .ok (.ldc2_w 150, 3) := dk_20 0 150 (dk_at dksX3_readWord_2 21 rfl rfl)
theorem dX3_readWord_70 : decode cX3_readWord 70 = .ok (.invokestatic 70, 3) := dk_184 0 70 (dk_at dksX3_readWord_3 0 rfl rfl)
theorem dX3_readWord_73 : decode cX3_readWord 73 = .ok (.ifCond .eq 46, 3) := dk_153 0 46 (dk_at dksX3_readWord_3 3 rfl rfl)
theorem dX3_readWord_76 : decode cX3_readWord 76 = .ok (.aload_n 0, 1) := dk_42 (dk_at dksX3_readWord_3 6 rfl rfl)
theorem dX3_readWord_77 : decode cX3_readWord 77 = .ok (.getfield 22, 3) := dk_180 0 22 (dk_at dksX3_readWord_3 7 rfl rfl)
theorem dX3_readWord_80 : decode cX3_readWord 80 = .ok (.iload_n 1, 1) := dk_27 (dk_at dksX3_readWord_3 10 rfl rfl)
theorem dX3_readWord_81 : decode cX3_readWord 81 = .ok (.iload_n 3, 1) := dk_29 (dk_at dksX3_readWord_3 11 rfl rfl)
theorem dX3_readWord_82 : decode cX3_readWord 82 = .ok (.iadd, 1) := dk_96 (dk_at dksX3_readWord_3 12 rfl rfl)
theorem dX3_readWord_83 : decode cX3_readWord 83 = .ok (.aload_n 0, 1) := dk_42 (dk_at dksX3_readWord_3 13 rfl rfl)
theorem dX3_readWord_84 : decode cX3_readWord 84 = .ok (.getfield 125, 3) := dk_180 0 125 (dk_at dksX3_readWord_3 14 rfl rfl)
theorem dX3_readWord_87 : decode cX3_readWord 87 = .ok (.bipush 97, 2) := dk_16 97 (dk_at dksX3_readWord_3 17 rfl rfl)
theorem dX3_readWord_89 : decode cX3_readWord 89 = .ok (.isub, 1) := dk_100 (dk_at dksX3_readWord_3 19 rfl rfl)
theorem dX3_readWord_90 : decode cX3_readWord 90 = .ok (.iastore, 1) := dk_79 (dk_at dksX3_readWord_3 20 rfl rfl)
theorem dX3_readWord_91 : decode cX3_readWord 91 = .ok (.aload_n 0, 1) := dk_42 (dk_at dksX3_readWord_3 21 rfl rfl)
theorem dX3_readWord_92 : decode cX3_readWord 92 = .ok (.dup, 1) := dk_89 (dk_at dksX3_readWord_3 22 rfl rfl)
theorem dX3_readWord_93 : decode cX3_readWord 93 = .ok (.getfield 152, 3) := dk_180 0 152 (dk_at dksX3_readWord_4 0 rfl rfl)
theorem dX3_readWord_96 : decode cX3_readWord 96 = .ok (.iconst 1, 1) := dk_4 (dk_at dksX3_readWord_4 3 rfl rfl)
theorem dX3_readWord_97 : decode cX3_readWord 97 = .ok (.aload_n 0, 1) := dk_42 (dk_at dksX3_readWord_4 4 rfl rfl)
theorem dX3_readWord_98 : decode cX3_readWord 98 = .ok (.getfield 125, 3) := dk_180 0 125 (dk_at dksX3_readWord_4 5 rfl rfl)
theorem dX3_readWord_101 : decode cX3_readWord 101 = .ok (.bipush 97, 2) := dk_16 97 (dk_at dksX3_readWord_4 8 rfl rfl)
theorem dX3_readWord_103 : decode cX3_readWord 103 = .ok (.isub, 1) := dk_100 (dk_at dksX3_readWord_4 10 rfl rfl)
theorem dX3_readWord_104 : decode cX3_readWord 104 = .ok (.ishl, 1) := dk_120 (dk_at dksX3_readWord_4 11 rfl rfl)
theorem dX3_readWord_105 : decode cX3_readWord 105 = .ok (.ior, 1) := dk_128 (dk_at dksX3_readWord_4 12 rfl rfl)
theorem dX3_readWord_106 : decode cX3_readWord 106 = .ok (.putfield 152, 3) := dk_181 0 152 (dk_at dksX3_readWord_4 13 rfl rfl)
theorem dX3_readWord_109 : decode cX3_readWord 109 = .ok (.iinc 3 1, 3) := dk_132 3 1 (dk_at dksX3_readWord_4 16 rfl rfl)
theorem dX3_readWord_112 : decode cX3_readWord 112 = .ok (.aload_n 0, 1) := dk_42 (dk_at dksX3_readWord_4 19 rfl rfl)
theorem dX3_readWord_113 : decode cX3_readWord 113 = .ok (.invokevirtual 143, 3) := dk_182 0 143 (dk_at dksX3_readWord_4 20 rfl rfl)
theorem dX3_readWord_116 : decode cX3_readWord 116 = .ok (.goto (-77), 3) := dk_167 255 179 (dk_at dksX3_readWord_5 0 rfl rfl)
theorem dX3_readWord_119 : decode cX3_readWord 119 = .ok (.iload_n 3, 1) := dk_29 (dk_at dksX3_readWord_5 3 rfl rfl)
theorem dX3_readWord_120 : decode cX3_readWord 120 = .ok (.ireturn, 1) := dk_172 (dk_at dksX3_readWord_5 4 rfl rfl)
abbrev cX3_fault : ByteArray := prog_16_method_32_code
def yX3_fault : MethodName := ⟨RX3, "fault", "()I"⟩
theorem dX3_fault_0 : decode cX3_fault 0 = .ok (.aload_n 0, 1) := by decide +kernel
theorem dX3_fault_1 : decode cX3_fault 1 = .ok (.getfield 171, 3) := by decide +kernel
theorem dX3_fault_4 : decode cX3_fault 4 = .ok (.ireturn, 1) := by decide +kernel
abbrev cX3_undo : ByteArray := prog_16_method_34_code
def yX3_undo : MethodName := ⟨RX3, "undo", "()I"⟩
def dkwX3_undo_2 : List UInt8 := [79, 132, 1, 1, 167, 255, 227, 42, 180, 0, 175, 172]
abbrev dktX3_undo_2 : List UInt8 := dkwX3_undo_2 ++ []
def dkwX3_undo_1 : List UInt8 := [16, 44, 162, 0, 29, 42, 180, 0, 19, 27, 42, 180, 0, 28, 16, 44, 42, 180, 0, 175, 104, 27, 96, 46]
abbrev dktX3_undo_1 : List UInt8 := dkwX3_undo_1 ++ dktX3_undo_2
def dkwX3_undo_0 : List UInt8 := [42, 180, 0, 175, 154, 0, 6, 18, 178, 172, 42, 89, 180, 0, 175, 4, 100, 181, 0, 175, 3, 60, 27]
abbrev dktX3_undo_0 : List UInt8 := dkwX3_undo_0 ++ dktX3_undo_1
theorem dksX3_undo_0 : cX3_undo.data.toList.drop 0 = dktX3_undo_0 := by decide +kernel
theorem dksX3_undo_1 : cX3_undo.data.toList.drop 23 = dktX3_undo_1 := dk_seg dksX3_undo_0 23 rfl rfl
theorem dksX3_undo_2 : cX3_undo.data.toList.drop 47 = dktX3_undo_2 := dk_seg dksX3_undo_1 24 rfl rfl
theorem dX3_undo_0 : decode cX3_undo 0 = .ok (.aload_n 0, 1) := dk_42 (dk_at dksX3_undo_0 0 rfl rfl)
theorem dX3_undo_1 : decode cX3_undo 1 = .ok (.getfield 175, 3) := dk_180 0 175 (dk_at dksX3_undo_0 1 rfl rfl)
theorem dX3_undo_4 : decode cX3_undo 4 = .ok (.ifCond .ne 6, 3) := dk_154 0 6 (dk_at dksX3_undo_0 4 rfl rfl)
theorem dX3_undo_7 : decode cX3_undo 7 = .ok (.ldc 178, 2) := dk_18 178 (dk_at dksX3_undo_0 7 rfl rfl)
theorem dX3_undo_9 : decode cX3_undo 9 = .ok (.ireturn, 1) := dk_172 (dk_at dksX3_undo_0 9 rfl rfl)
theorem dX3_undo_10 : decode cX3_undo 10 = .ok (.aload_n 0, 1) := dk_42 (dk_at dksX3_undo_0 10 rfl rfl)
theorem dX3_undo_11 : decode cX3_undo 11 = .ok (.dup, 1) := dk_89 (dk_at dksX3_undo_0 11 rfl rfl)
theorem dX3_undo_12 : decode cX3_undo 12 = .ok (.getfield 175, 3) := dk_180 0 175 (dk_at dksX3_undo_0 12 rfl rfl)
theorem dX3_undo_15 : decode cX3_undo 15 = .ok (.iconst 1, 1) := dk_4 (dk_at dksX3_undo_0 15 rfl rfl)
theorem dX3_undo_16 : decode cX3_undo 16 = .ok (.isub, 1) := dk_100 (dk_at dksX3_undo_0 16 rfl rfl)
theorem dX3_undo_17 : decode cX3_undo 17 = .ok (.putfield 175, 3) := dk_181 0 175 (dk_at dksX3_undo_0 17 rfl rfl)
theorem dX3_undo_20 : decode cX3_undo 20 = .ok (.iconst 0, 1) := dk_3 (dk_at dksX3_undo_0 20 rfl rfl)
theorem dX3_undo_21 : decode cX3_undo 21 = .ok (.istore_n 1, 1) := dk_60 (dk_at dksX3_undo_0 21 rfl rfl)
theorem dX3_undo_22 : decode cX3_undo 22 = .ok (.iload_n 1, 1) := dk_27 (dk_at dksX3_undo_0 22 rfl rfl)
theorem dX3_undo_23 : decode cX3_undo 23 = .ok (.bipush 44, 2) := dk_16 44 (dk_at dksX3_undo_1 0 rfl rfl)
theorem dX3_undo_25 : decode cX3_undo 25 = .ok (.if_icmp .ge 29, 3) := dk_162 0 29 (dk_at dksX3_undo_1 2 rfl rfl)
theorem dX3_undo_28 : decode cX3_undo 28 = .ok (.aload_n 0, 1) := dk_42 (dk_at dksX3_undo_1 5 rfl rfl)
theorem dX3_undo_29 : decode cX3_undo 29 = .ok (.getfield 19, 3) := dk_180 0 19 (dk_at dksX3_undo_1 6 rfl rfl)
theorem dX3_undo_32 : decode cX3_undo 32 = .ok (.iload_n 1, 1) := dk_27 (dk_at dksX3_undo_1 9 rfl rfl)
theorem dX3_undo_33 : decode cX3_undo 33 = .ok (.aload_n 0, 1) := dk_42 (dk_at dksX3_undo_1 10 rfl rfl)
theorem dX3_undo_34 : decode cX3_undo 34 = .ok (.getfield 28, 3) := dk_180 0 28 (dk_at dksX3_undo_1 11 rfl rfl)
theorem dX3_undo_37 : decode cX3_undo 37 = .ok (.bipush 44, 2) := dk_16 44 (dk_at dksX3_undo_1 14 rfl rfl)
theorem dX3_undo_39 : decode cX3_undo 39 = .ok (.aload_n 0, 1) := dk_42 (dk_at dksX3_undo_1 16 rfl rfl)
theorem dX3_undo_40 : decode cX3_undo 40 = .ok (.getfield 175, 3) := dk_180 0 175 (dk_at dksX3_undo_1 17 rfl rfl)
theorem dX3_undo_43 : decode cX3_undo 43 = .ok (.imul, 1) := dk_104 (dk_at dksX3_undo_1 20 rfl rfl)
theorem dX3_undo_44 : decode cX3_undo 44 = .ok (.iload_n 1, 1) := dk_27 (dk_at dksX3_undo_1 21 rfl rfl)
theorem dX3_undo_45 : decode cX3_undo 45 = .ok (.iadd, 1) := dk_96 (dk_at dksX3_undo_1 22 rfl rfl)
theorem dX3_undo_46 : decode cX3_undo 46 = .ok (.iaload, 1) := dk_46 (dk_at dksX3_undo_1 23 rfl rfl)
theorem dX3_undo_47 : decode cX3_undo 47 = .ok (.iastore, 1) := dk_79 (dk_at dksX3_undo_2 0 rfl rfl)
theorem dX3_undo_48 : decode cX3_undo 48 = .ok (.iinc 1 1, 3) := dk_132 1 1 (dk_at dksX3_undo_2 1 rfl rfl)
theorem dX3_undo_51 : decode cX3_undo 51 = .ok (.goto (-29), 3) := dk_167 255 227 (dk_at dksX3_undo_2 4 rfl rfl)
theorem dX3_undo_54 : decode cX3_undo 54 = .ok (.aload_n 0, 1) := dk_42 (dk_at dksX3_undo_2 7 rfl rfl)
theorem dX3_undo_55 : decode cX3_undo 55 = .ok (.getfield 175, 3) := dk_180 0 175 (dk_at dksX3_undo_2 8 rfl rfl)
theorem dX3_undo_58 : decode cX3_undo 58 = .ok (.ireturn, 1) := dk_172 (dk_at dksX3_undo_2 11 rfl rfl)
abbrev cX3_word : ByteArray := prog_16_method_37_code
def yX3_word : MethodName := ⟨RX3, "word", "(III)I"⟩
def dkwX3_word_5 : List UInt8 := [29, 79, 21, 5, 172]
abbrev dktX3_word_5 : List UInt8 := dkwX3_word_5 ++ []
def dkwX3_word_4 : List UInt8 := [21, 6, 96, 46, 79, 132, 6, 1, 167, 255, 218, 42, 180, 0, 19, 16, 12, 16, 8, 27, 104, 96, 6, 96]
abbrev dktX3_word_4 : List UInt8 := dkwX3_word_4 ++ dktX3_word_5
def dkwX3_word_3 : List UInt8 := [180, 0, 19, 16, 12, 16, 8, 27, 104, 96, 7, 96, 21, 6, 96, 42, 180, 0, 16, 16, 40, 28, 104]
abbrev dktX3_word_3 : List UInt8 := dkwX3_word_3 ++ dktX3_word_4
def dkwX3_word_2 : List UInt8 := [182, 0, 190, 42, 180, 0, 19, 27, 184, 0, 93, 54, 5, 3, 54, 6, 21, 6, 29, 162, 0, 38, 42]
abbrev dktX3_word_2 : List UInt8 := dkwX3_word_2 ++ dktX3_word_3
def dkwX3_word_1 : List UInt8 := [154, 0, 6, 18, 80, 172, 42, 28, 29, 182, 0, 187, 54, 4, 21, 4, 153, 0, 6, 21, 4, 172, 42]
abbrev dktX3_word_1 : List UInt8 := dkwX3_word_1 ++ dktX3_word_2
def dkwX3_word_0 : List UInt8 := [42, 27, 182, 0, 182, 153, 0, 22, 28, 184, 0, 74, 153, 0, 15, 29, 133, 10, 20, 0, 185, 184, 0, 70]
abbrev dktX3_word_0 : List UInt8 := dkwX3_word_0 ++ dktX3_word_1
theorem dksX3_word_0 : cX3_word.data.toList.drop 0 = dktX3_word_0 := by decide +kernel
theorem dksX3_word_1 : cX3_word.data.toList.drop 24 = dktX3_word_1 := dk_seg dksX3_word_0 24 rfl rfl
theorem dksX3_word_2 : cX3_word.data.toList.drop 47 = dktX3_word_2 := dk_seg dksX3_word_1 23 rfl rfl
theorem dksX3_word_3 : cX3_word.data.toList.drop 70 = dktX3_word_3 := dk_seg dksX3_word_2 23 rfl rfl
theorem dksX3_word_4 : cX3_word.data.toList.drop 93 = dktX3_word_4 := dk_seg dksX3_word_3 23 rfl rfl
theorem dksX3_word_5 : cX3_word.data.toList.drop 117 = dktX3_word_5 := dk_seg dksX3_word_4 24 rfl rfl
theorem dX3_word_0 : decode cX3_word 0 = .ok (.aload_n 0, 1) := dk_42 (dk_at dksX3_word_0 0 rfl rfl)
theorem dX3_word_1 : decode cX3_word 1 = .ok (.iload_n 1, 1) := dk_27 (dk_at dksX3_word_0 1 rfl rfl)
theorem dX3_word_2 : decode cX3_word 2 = .ok (.invokevirtual 182, 3) := dk_182 0 182 (dk_at dksX3_word_0 2 rfl rfl)
theorem dX3_word_5 : decode cX3_word 5 = .ok (.ifCond .eq 22, 3) := dk_153 0 22 (dk_at dksX3_word_0 5 rfl rfl)
theorem dX3_word_8 : decode cX3_word 8 = .ok (.iload_n 2, 1) := dk_28 (dk_at dksX3_word_0 8 rfl rfl)
theorem dX3_word_9 : decode cX3_word 9 = .ok (.invokestatic 74, 3) := dk_184 0 74 (dk_at dksX3_word_0 9 rfl rfl)
theorem dX3_word_12 : decode cX3_word 12 = .ok (.ifCond .eq 15, 3) := dk_153 0 15 (dk_at dksX3_word_0 12 rfl rfl)
theorem dX3_word_15 : decode cX3_word 15 = .ok (.iload_n 3, 1) := dk_29 (dk_at dksX3_word_0 15 rfl rfl)
theorem dX3_word_16 : decode cX3_word 16 = .ok (.i2l, 1) := dk_133 (dk_at dksX3_word_0 16 rfl rfl)
theorem dX3_word_17 : decode cX3_word 17 = .ok (.lconst 1, 1) := dk_10 (dk_at dksX3_word_0 17 rfl rfl)
theorem dX3_word_18 : decode cX3_word 18 = .ok (.ldc2_w 185, 3) := dk_20 0 185 (dk_at dksX3_word_0 18 rfl rfl)
theorem dX3_word_21 : decode cX3_word 21 = .ok (.invokestatic 70, 3) := dk_184 0 70 (dk_at dksX3_word_0 21 rfl rfl)
theorem dX3_word_24 : decode cX3_word 24 = .ok (.ifCond .ne 6, 3) := dk_154 0 6 (dk_at dksX3_word_1 0 rfl rfl)
theorem dX3_word_27 : decode cX3_word 27 = .ok (.ldc 80, 2) := dk_18 80 (dk_at dksX3_word_1 3 rfl rfl)
theorem dX3_word_29 : decode cX3_word 29 = .ok (.ireturn, 1) := dk_172 (dk_at dksX3_word_1 5 rfl rfl)
theorem dX3_word_30 : decode cX3_word 30 = .ok (.aload_n 0, 1) := dk_42 (dk_at dksX3_word_1 6 rfl rfl)
theorem dX3_word_31 : decode cX3_word 31 = .ok (.iload_n 2, 1) := dk_28 (dk_at dksX3_word_1 7 rfl rfl)
theorem dX3_word_32 : decode cX3_word 32 = .ok (.iload_n 3, 1) := dk_29 (dk_at dksX3_word_1 8 rfl rfl)
theorem dX3_word_33 : decode cX3_word 33 = .ok (.invokevirtual 187, 3) := dk_182 0 187 (dk_at dksX3_word_1 9 rfl rfl)
theorem dX3_word_36 : decode cX3_word 36 = .ok (.istore 4, 2) := dk_54 4 (dk_at dksX3_word_1 12 rfl rfl)
theorem dX3_word_38 : decode cX3_word 38 = .ok (.iload 4, 2) := dk_21 4 (dk_at dksX3_word_1 14 rfl rfl)
theorem dX3_word_40 : decode cX3_word 40 = .ok (.ifCond .eq 6, 3) := dk_153 0 6 (dk_at dksX3_word_1 16 rfl rfl)
theorem dX3_word_43 : decode cX3_word 43 = .ok (.iload 4, 2) := dk_21 4 (dk_at dksX3_word_1 19 rfl rfl)
theorem dX3_word_45 : decode cX3_word 45 = .ok (.ireturn, 1) := dk_172 (dk_at dksX3_word_1 21 rfl rfl)
theorem dX3_word_46 : decode cX3_word 46 = .ok (.aload_n 0, 1) := dk_42 (dk_at dksX3_word_1 22 rfl rfl)
theorem dX3_word_47 : decode cX3_word 47 = .ok (.invokevirtual 190, 3) := dk_182 0 190 (dk_at dksX3_word_2 0 rfl rfl)
theorem dX3_word_50 : decode cX3_word 50 = .ok (.aload_n 0, 1) := dk_42 (dk_at dksX3_word_2 3 rfl rfl)
theorem dX3_word_51 : decode cX3_word 51 = .ok (.getfield 19, 3) := dk_180 0 19 (dk_at dksX3_word_2 4 rfl rfl)
theorem dX3_word_54 : decode cX3_word 54 = .ok (.iload_n 1, 1) := dk_27 (dk_at dksX3_word_2 7 rfl rfl)
theorem dX3_word_55 : decode cX3_word 55 = .ok (.invokestatic 93, 3) := dk_184 0 93 (dk_at dksX3_word_2 8 rfl rfl)
theorem dX3_word_58 : decode cX3_word 58 = .ok (.istore 5, 2) := dk_54 5 (dk_at dksX3_word_2 11 rfl rfl)
theorem dX3_word_60 : decode cX3_word 60 = .ok (.iconst 0, 1) := dk_3 (dk_at dksX3_word_2 13 rfl rfl)
theorem dX3_word_61 : decode cX3_word 61 = .ok (.istore 6, 2) := dk_54 6 (dk_at dksX3_word_2 14 rfl rfl)
theorem dX3_word_63 : decode cX3_word 63 = .ok (.iload 6, 2) := dk_21 6 (dk_at dksX3_word_2 16 rfl rfl)
theorem dX3_word_65 : decode cX3_word 65 = .ok (.iload_n 3, 1) := dk_29 (dk_at dksX3_word_2 18 rfl rfl)
theorem dX3_word_66 : decode cX3_word 66 = .ok (.if_icmp .ge 38, 3) := dk_162 0 38 (dk_at dksX3_word_2 19 rfl rfl)
theorem dX3_word_69 : decode cX3_word 69 = .ok (.aload_n 0, 1) := dk_42 (dk_at dksX3_word_2 22 rfl rfl)
theorem dX3_word_70 : decode cX3_word 70 = .ok (.getfield 19, 3) := dk_180 0 19 (dk_at dksX3_word_3 0 rfl rfl)
theorem dX3_word_73 : decode cX3_word 73 = .ok (.bipush 12, 2) := dk_16 12 (dk_at dksX3_word_3 3 rfl rfl)
theorem dX3_word_75 : decode cX3_word 75 = .ok (.bipush 8, 2) := dk_16 8 (dk_at dksX3_word_3 5 rfl rfl)
theorem dX3_word_77 : decode cX3_word 77 = .ok (.iload_n 1, 1) := dk_27 (dk_at dksX3_word_3 7 rfl rfl)
theorem dX3_word_78 : decode cX3_word 78 = .ok (.imul, 1) := dk_104 (dk_at dksX3_word_3 8 rfl rfl)
theorem dX3_word_79 : decode cX3_word 79 = .ok (.iadd, 1) := dk_96 (dk_at dksX3_word_3 9 rfl rfl)
theorem dX3_word_80 : decode cX3_word 80 = .ok (.iconst 4, 1) := dk_7 (dk_at dksX3_word_3 10 rfl rfl)
theorem dX3_word_81 : decode cX3_word 81 = .ok (.iadd, 1) := dk_96 (dk_at dksX3_word_3 11 rfl rfl)
theorem dX3_word_82 : decode cX3_word 82 = .ok (.iload 6, 2) := dk_21 6 (dk_at dksX3_word_3 12 rfl rfl)
theorem dX3_word_84 : decode cX3_word 84 = .ok (.iadd, 1) := dk_96 (dk_at dksX3_word_3 14 rfl rfl)
theorem dX3_word_85 : decode cX3_word 85 = .ok (.aload_n 0, 1) := dk_42 (dk_at dksX3_word_3 15 rfl rfl)
theorem dX3_word_86 : decode cX3_word 86 = .ok (.getfield 16, 3) := dk_180 0 16 (dk_at dksX3_word_3 16 rfl rfl)
theorem dX3_word_89 : decode cX3_word 89 = .ok (.bipush 40, 2) := dk_16 40 (dk_at dksX3_word_3 19 rfl rfl)
theorem dX3_word_91 : decode cX3_word 91 = .ok (.iload_n 2, 1) := dk_28 (dk_at dksX3_word_3 21 rfl rfl)
theorem dX3_word_92 : decode cX3_word 92 = .ok (.imul, 1) := dk_104 (dk_at dksX3_word_3 22 rfl rfl)
theorem dX3_word_93 : decode cX3_word 93 = .ok (.iload 6, 2) := dk_21 6 (dk_at dksX3_word_4 0 rfl rfl)
theorem dX3_word_95 : decode cX3_word 95 = .ok (.iadd, 1) := dk_96 (dk_at dksX3_word_4 2 rfl rfl)
theorem dX3_word_96 : decode cX3_word 96 = .ok (.iaload, 1) := dk_46 (dk_at dksX3_word_4 3 rfl rfl)
theorem dX3_word_97 : decode cX3_word 97 = .ok (.iastore, 1) := dk_79 (dk_at dksX3_word_4 4 rfl rfl)
theorem dX3_word_98 : decode cX3_word 98 = .ok (.iinc 6 1, 3) := dk_132 6 1 (dk_at dksX3_word_4 5 rfl rfl)
theorem dX3_word_101 : decode cX3_word 101 = .ok (.goto (-38), 3) := dk_167 255 218 (dk_at dksX3_word_4 8 rfl rfl)
theorem dX3_word_104 : decode cX3_word 104 = .ok (.aload_n 0, 1) := dk_42 (dk_at dksX3_word_4 11 rfl rfl)
theorem dX3_word_105 : decode cX3_word 105 = .ok (.getfield 19, 3) := dk_180 0 19 (dk_at dksX3_word_4 12 rfl rfl)
theorem dX3_word_108 : decode cX3_word 108 = .ok (.bipush 12, 2) := dk_16 12 (dk_at dksX3_word_4 15 rfl rfl)
theorem dX3_word_110 : decode cX3_word 110 = .ok (.bipush 8, 2) := dk_16 8 (dk_at dksX3_word_4 17 rfl rfl)
theorem dX3_word_112 : decode cX3_word 112 = .ok (.iload_n 1, 1) := dk_27 (dk_at dksX3_word_4 19 rfl rfl)
theorem dX3_word_113 : decode cX3_word 113 = .ok (.imul, 1) := dk_104 (dk_at dksX3_word_4 20 rfl rfl)
theorem dX3_word_114 : decode cX3_word 114 = .ok (.iadd, 1) := dk_96 (dk_at dksX3_word_4 21 rfl rfl)
theorem dX3_word_115 : decode cX3_word 115 = .ok (.iconst 3, 1) := dk_6 (dk_at dksX3_word_4 22 rfl rfl)
theorem dX3_word_116 : decode cX3_word 116 = .ok (.iadd, 1) := dk_96 (dk_at dksX3_word_4 23 rfl rfl)
theorem dX3_word_117 : decode cX3_word 117 = .ok (.iload_n 3, 1) := dk_29 (dk_at dksX3_word_5 0 rfl rfl)
theorem dX3_word_118 : decode cX3_word 118 = .ok (.iastore, 1) := dk_79 (dk_at dksX3_word_5 1 rfl rfl)
theorem dX3_word_119 : decode cX3_word 119 = .ok (.iload 5, 2) := dk_21 5 (dk_at dksX3_word_5 2 rfl rfl)
theorem dX3_word_121 : decode cX3_word 121 = .ok (.ireturn, 1) := dk_172 (dk_at dksX3_word_5 4 rfl rfl)
abbrev cX3_isSort : ByteArray := prog_16_method_10_code
def yX3_isSort : MethodName := ⟨RX3, "isSort", "(I)Z"⟩
def dkwX3_isSort_0 : List UInt8 := [27, 133, 9, 42, 180, 0, 19, 3, 46, 4, 100, 133, 184, 0, 70, 172]
abbrev dktX3_isSort_0 : List UInt8 := dkwX3_isSort_0 ++ []
theorem dksX3_isSort_0 : cX3_isSort.data.toList.drop 0 = dktX3_isSort_0 := by decide +kernel
theorem dX3_isSort_0 : decode cX3_isSort 0 = .ok (.iload_n 1, 1) := dk_27 (dk_at dksX3_isSort_0 0 rfl rfl)
theorem dX3_isSort_1 : decode cX3_isSort 1 = .ok (.i2l, 1) := dk_133 (dk_at dksX3_isSort_0 1 rfl rfl)
theorem dX3_isSort_2 : decode cX3_isSort 2 = .ok (.lconst 0, 1) := dk_9 (dk_at dksX3_isSort_0 2 rfl rfl)
theorem dX3_isSort_3 : decode cX3_isSort 3 = .ok (.aload_n 0, 1) := dk_42 (dk_at dksX3_isSort_0 3 rfl rfl)
theorem dX3_isSort_4 : decode cX3_isSort 4 = .ok (.getfield 19, 3) := dk_180 0 19 (dk_at dksX3_isSort_0 4 rfl rfl)
theorem dX3_isSort_7 : decode cX3_isSort 7 = .ok (.iconst 0, 1) := dk_3 (dk_at dksX3_isSort_0 7 rfl rfl)
theorem dX3_isSort_8 : decode cX3_isSort 8 = .ok (.iaload, 1) := dk_46 (dk_at dksX3_isSort_0 8 rfl rfl)
theorem dX3_isSort_9 : decode cX3_isSort 9 = .ok (.iconst 1, 1) := dk_4 (dk_at dksX3_isSort_0 9 rfl rfl)
theorem dX3_isSort_10 : decode cX3_isSort 10 = .ok (.isub, 1) := dk_100 (dk_at dksX3_isSort_0 10 rfl rfl)
theorem dX3_isSort_11 : decode cX3_isSort 11 = .ok (.i2l, 1) := dk_133 (dk_at dksX3_isSort_0 11 rfl rfl)
theorem dX3_isSort_12 : decode cX3_isSort 12 = .ok (.invokestatic 70, 3) := dk_184 0 70 (dk_at dksX3_isSort_0 12 rfl rfl)
theorem dX3_isSort_15 : decode cX3_isSort 15 = .ok (.ireturn, 1) := dk_172 (dk_at dksX3_isSort_0 15 rfl rfl)
abbrev cX3_lacksLetters : ByteArray := prog_16_method_36_code
def yX3_lacksLetters : MethodName := ⟨RX3, "lacksLetters", "(II)I"⟩
def dkwX3_lacksLetters_3 : List UInt8 := [182, 0, 81, 172]
abbrev dktX3_lacksLetters_3 : List UInt8 := dkwX3_lacksLetters_3 ++ []
def dkwX3_lacksLetters_2 : List UInt8 := [4, 167, 0, 4, 3, 54, 4, 132, 5, 1, 167, 255, 212, 21, 4, 153, 0, 7, 29, 167, 0, 8, 42, 5]
abbrev dktX3_lacksLetters_2 : List UInt8 := dkwX3_lacksLetters_2 ++ dktX3_lacksLetters_3
def dkwX3_lacksLetters_1 : List UInt8 := [21, 4, 153, 0, 26, 42, 42, 180, 0, 16, 16, 40, 27, 104, 21, 5, 96, 46, 182, 0, 182, 153, 0, 7]
abbrev dktX3_lacksLetters_1 : List UInt8 := dkwX3_lacksLetters_1 ++ dktX3_lacksLetters_2
def dkwX3_lacksLetters_0 : List UInt8 := [42, 27, 28, 182, 0, 179, 62, 4, 54, 4, 3, 54, 5, 21, 5, 28, 162, 0, 44, 29, 154, 0, 40]
abbrev dktX3_lacksLetters_0 : List UInt8 := dkwX3_lacksLetters_0 ++ dktX3_lacksLetters_1
theorem dksX3_lacksLetters_0 : cX3_lacksLetters.data.toList.drop 0 = dktX3_lacksLetters_0 := by decide +kernel
theorem dksX3_lacksLetters_1 : cX3_lacksLetters.data.toList.drop 23 = dktX3_lacksLetters_1 := dk_seg dksX3_lacksLetters_0 23 rfl rfl
theorem dksX3_lacksLetters_2 : cX3_lacksLetters.data.toList.drop 47 = dktX3_lacksLetters_2 := dk_seg dksX3_lacksLetters_1 24 rfl rfl
theorem dksX3_lacksLetters_3 : cX3_lacksLetters.data.toList.drop 71 = dktX3_lacksLetters_3 := dk_seg dksX3_lacksLetters_2 24 rfl rfl
theorem dX3_lacksLetters_0 : decode cX3_lacksLetters 0 = .ok (.aload_n 0, 1) := dk_42 (dk_at dksX3_lacksLetters_0 0 rfl rfl)
theorem dX3_lacksLetters_1 : decode cX3_lacksLetters 1 = .ok (.iload_n 1, 1) := dk_27 (dk_at dksX3_lacksLetters_0 1 rfl rfl)
theorem dX3_lacksLetters_2 : decode cX3_lacksLetters 2 = .ok (.iload_n 2, 1) := dk_28 (dk_at dksX3_lacksLetters_0 2 rfl rfl)
theorem dX3_lacksLetters_3 : decode cX3_lacksLetters 3 = .ok (.invokevirtual 179, 3) := dk_182 0 179 (dk_at dksX3_lacksLetters_0 3 rfl rfl)
theorem dX3_lacksLetters_6 : decode cX3_lacksLetters 6 = .ok (.istore_n 3, 1) := dk_62 (dk_at dksX3_lacksLetters_0 6 rfl rfl)
theorem dX3_lacksLetters_7 : decode cX3_lacksLetters 7 = .ok (.iconst 1, 1) := dk_4 (dk_at dksX3_lacksLetters_0 7 rfl rfl)
theorem dX3_lacksLetters_8 : decode cX3_lacksLetters 8 = .ok (.istore 4, 2) := dk_54 4 (dk_at dksX3_lacksLetters_0 8 rfl rfl)
theorem dX3_lacksLetters_10 : decode cX3_lacksLetters 10 = .ok (.iconst 0, 1) := dk_3 (dk_at dksX3_lacksLetters_0 10 rfl rfl)
theorem dX3_lacksLetters_11 : decode cX3_lacksLetters 11 = .ok (.istore 5, 2) := dk_54 5 (dk_at dksX3_lacksLetters_0 11 rfl rfl)
theorem dX3_lacksLetters_13 : decode cX3_lacksLetters 13 = .ok (.iload 5, 2) := dk_21 5 (dk_at dksX3_lacksLetters_0 13 rfl rfl)
theorem dX3_lacksLetters_15 : decode cX3_lacksLetters 15 = .ok (.iload_n 2, 1) := dk_28 (dk_at dksX3_lacksLetters_0 15 rfl rfl)
theorem dX3_lacksLetters_16 : decode cX3_lacksLetters 16 = .ok (.if_icmp .ge 44, 3) := dk_162 0 44 (dk_at dksX3_lacksLetters_0 16 rfl rfl)
theorem dX3_lacksLetters_19 : decode cX3_lacksLetters 19 = .ok (.iload_n 3, 1) := dk_29 (dk_at dksX3_lacksLetters_0 19 rfl rfl)
theorem dX3_lacksLetters_20 : decode cX3_lacksLetters 20 = .ok (.ifCond .ne 40, 3) := dk_154 0 40 (dk_at dksX3_lacksLetters_0 20 rfl rfl)
theorem dX3_lacksLetters_23 : decode cX3_lacksLetters 23 = .ok (.iload 4, 2) := dk_21 4 (dk_at dksX3_lacksLetters_1 0 rfl rfl)
theorem dX3_lacksLetters_25 : decode cX3_lacksLetters 25 = .ok (.ifCond .eq 26, 3) := dk_153 0 26 (dk_at dksX3_lacksLetters_1 2 rfl rfl)
theorem dX3_lacksLetters_28 : decode cX3_lacksLetters 28 = .ok (.aload_n 0, 1) := dk_42 (dk_at dksX3_lacksLetters_1 5 rfl rfl)
theorem dX3_lacksLetters_29 : decode cX3_lacksLetters 29 = .ok (.aload_n 0, 1) := dk_42 (dk_at dksX3_lacksLetters_1 6 rfl rfl)
theorem dX3_lacksLetters_30 : decode cX3_lacksLetters 30 = .ok (.getfield 16, 3) := dk_180 0 16 (dk_at dksX3_lacksLetters_1 7 rfl rfl)
theorem dX3_lacksLetters_33 : decode cX3_lacksLetters 33 = .ok (.bipush 40, 2) := dk_16 40 (dk_at dksX3_lacksLetters_1 10 rfl rfl)
theorem dX3_lacksLetters_35 : decode cX3_lacksLetters 35 = .ok (.iload_n 1, 1) := dk_27 (dk_at dksX3_lacksLetters_1 12 rfl rfl)
theorem dX3_lacksLetters_36 : decode cX3_lacksLetters 36 = .ok (.imul, 1) := dk_104 (dk_at dksX3_lacksLetters_1 13 rfl rfl)
theorem dX3_lacksLetters_37 : decode cX3_lacksLetters 37 = .ok (.iload 5, 2) := dk_21 5 (dk_at dksX3_lacksLetters_1 14 rfl rfl)
theorem dX3_lacksLetters_39 : decode cX3_lacksLetters 39 = .ok (.iadd, 1) := dk_96 (dk_at dksX3_lacksLetters_1 16 rfl rfl)
theorem dX3_lacksLetters_40 : decode cX3_lacksLetters 40 = .ok (.iaload, 1) := dk_46 (dk_at dksX3_lacksLetters_1 17 rfl rfl)
theorem dX3_lacksLetters_41 : decode cX3_lacksLetters 41 = .ok (.invokevirtual 182, 3) := dk_182 0 182 (dk_at dksX3_lacksLetters_1 18 rfl rfl)
theorem dX3_lacksLetters_44 : decode cX3_lacksLetters 44 = .ok (.ifCond .eq 7, 3) := dk_153 0 7 (dk_at dksX3_lacksLetters_1 21 rfl rfl)
theorem dX3_lacksLetters_47 : decode cX3_lacksLetters 47 = .ok (.iconst 1, 1) := dk_4 (dk_at dksX3_lacksLetters_2 0 rfl rfl)
theorem dX3_lacksLetters_48 : decode cX3_lacksLetters 48 = .ok (.goto 4, 3) := dk_167 0 4 (dk_at dksX3_lacksLetters_2 1 rfl rfl)
theorem dX3_lacksLetters_51 : decode cX3_lacksLetters 51 = .ok (.iconst 0, 1) := dk_3 (dk_at dksX3_lacksLetters_2 4 rfl rfl)
theorem dX3_lacksLetters_52 : decode cX3_lacksLetters 52 = .ok (.istore 4, 2) := dk_54 4 (dk_at dksX3_lacksLetters_2 5 rfl rfl)
theorem dX3_lacksLetters_54 : decode cX3_lacksLetters 54 = .ok (.iinc 5 1, 3) := dk_132 5 1 (dk_at dksX3_lacksLetters_2 7 rfl rfl)
theorem dX3_lacksLetters_57 : decode cX3_lacksLetters 57 = .ok (.goto (-44), 3) := dk_167 255 212 (dk_at dksX3_lacksLetters_2 10 rfl rfl)
theorem dX3_lacksLetters_60 : decode cX3_lacksLetters 60 = .ok (.iload 4, 2) := dk_21 4 (dk_at dksX3_lacksLetters_2 13 rfl rfl)
theorem dX3_lacksLetters_62 : decode cX3_lacksLetters 62 = .ok (.ifCond .eq 7, 3) := dk_153 0 7 (dk_at dksX3_lacksLetters_2 15 rfl rfl)
theorem dX3_lacksLetters_65 : decode cX3_lacksLetters 65 = .ok (.iload_n 3, 1) := dk_29 (dk_at dksX3_lacksLetters_2 18 rfl rfl)
theorem dX3_lacksLetters_66 : decode cX3_lacksLetters 66 = .ok (.goto 8, 3) := dk_167 0 8 (dk_at dksX3_lacksLetters_2 19 rfl rfl)
theorem dX3_lacksLetters_69 : decode cX3_lacksLetters 69 = .ok (.aload_n 0, 1) := dk_42 (dk_at dksX3_lacksLetters_2 22 rfl rfl)
theorem dX3_lacksLetters_70 : decode cX3_lacksLetters 70 = .ok (.iconst 2, 1) := dk_5 (dk_at dksX3_lacksLetters_2 23 rfl rfl)
theorem dX3_lacksLetters_71 : decode cX3_lacksLetters 71 = .ok (.invokevirtual 81, 3) := dk_182 0 81 (dk_at dksX3_lacksLetters_3 0 rfl rfl)
theorem dX3_lacksLetters_74 : decode cX3_lacksLetters 74 = .ok (.ireturn, 1) := dk_172 (dk_at dksX3_lacksLetters_3 3 rfl rfl)
abbrev cX3_lacks : ByteArray := prog_16_method_35_code
def yX3_lacks : MethodName := ⟨RX3, "lacks", "(II)I"⟩
def dkwX3_lacks_1 : List UInt8 := [180, 0, 13, 27, 46, 164, 0, 11, 42, 5, 182, 0, 81, 167, 0, 4, 3, 172]
abbrev dktX3_lacks_1 : List UInt8 := dkwX3_lacks_1 ++ []
def dkwX3_lacks_0 : List UInt8 := [42, 3, 181, 0, 63, 42, 180, 0, 7, 27, 46, 156, 0, 9, 42, 4, 182, 0, 81, 172, 28, 42]
abbrev dktX3_lacks_0 : List UInt8 := dkwX3_lacks_0 ++ dktX3_lacks_1
theorem dksX3_lacks_0 : cX3_lacks.data.toList.drop 0 = dktX3_lacks_0 := by decide +kernel
theorem dksX3_lacks_1 : cX3_lacks.data.toList.drop 22 = dktX3_lacks_1 := dk_seg dksX3_lacks_0 22 rfl rfl
theorem dX3_lacks_0 : decode cX3_lacks 0 = .ok (.aload_n 0, 1) := dk_42 (dk_at dksX3_lacks_0 0 rfl rfl)
theorem dX3_lacks_1 : decode cX3_lacks 1 = .ok (.iconst 0, 1) := dk_3 (dk_at dksX3_lacks_0 1 rfl rfl)
theorem dX3_lacks_2 : decode cX3_lacks 2 = .ok (.putfield 63, 3) := dk_181 0 63 (dk_at dksX3_lacks_0 2 rfl rfl)
theorem dX3_lacks_5 : decode cX3_lacks 5 = .ok (.aload_n 0, 1) := dk_42 (dk_at dksX3_lacks_0 5 rfl rfl)
theorem dX3_lacks_6 : decode cX3_lacks 6 = .ok (.getfield 7, 3) := dk_180 0 7 (dk_at dksX3_lacks_0 6 rfl rfl)
theorem dX3_lacks_9 : decode cX3_lacks 9 = .ok (.iload_n 1, 1) := dk_27 (dk_at dksX3_lacks_0 9 rfl rfl)
theorem dX3_lacks_10 : decode cX3_lacks 10 = .ok (.iaload, 1) := dk_46 (dk_at dksX3_lacks_0 10 rfl rfl)
theorem dX3_lacks_11 : decode cX3_lacks 11 = .ok (.ifCond .ge 9, 3) := dk_156 0 9 (dk_at dksX3_lacks_0 11 rfl rfl)
theorem dX3_lacks_14 : decode cX3_lacks 14 = .ok (.aload_n 0, 1) := dk_42 (dk_at dksX3_lacks_0 14 rfl rfl)
theorem dX3_lacks_15 : decode cX3_lacks 15 = .ok (.iconst 1, 1) := dk_4 (dk_at dksX3_lacks_0 15 rfl rfl)
theorem dX3_lacks_16 : decode cX3_lacks 16 = .ok (.invokevirtual 81, 3) := dk_182 0 81 (dk_at dksX3_lacks_0 16 rfl rfl)
theorem dX3_lacks_19 : decode cX3_lacks 19 = .ok (.ireturn, 1) := dk_172 (dk_at dksX3_lacks_0 19 rfl rfl)
theorem dX3_lacks_20 : decode cX3_lacks 20 = .ok (.iload_n 2, 1) := dk_28 (dk_at dksX3_lacks_0 20 rfl rfl)
theorem dX3_lacks_21 : decode cX3_lacks 21 = .ok (.aload_n 0, 1) := dk_42 (dk_at dksX3_lacks_0 21 rfl rfl)
theorem dX3_lacks_22 : decode cX3_lacks 22 = .ok (.getfield 13, 3) := dk_180 0 13 (dk_at dksX3_lacks_1 0 rfl rfl)
theorem dX3_lacks_25 : decode cX3_lacks 25 = .ok (.iload_n 1, 1) := dk_27 (dk_at dksX3_lacks_1 3 rfl rfl)
theorem dX3_lacks_26 : decode cX3_lacks 26 = .ok (.iaload, 1) := dk_46 (dk_at dksX3_lacks_1 4 rfl rfl)
theorem dX3_lacks_27 : decode cX3_lacks 27 = .ok (.if_icmp .le 11, 3) := dk_164 0 11 (dk_at dksX3_lacks_1 5 rfl rfl)
theorem dX3_lacks_30 : decode cX3_lacks 30 = .ok (.aload_n 0, 1) := dk_42 (dk_at dksX3_lacks_1 8 rfl rfl)
theorem dX3_lacks_31 : decode cX3_lacks 31 = .ok (.iconst 2, 1) := dk_5 (dk_at dksX3_lacks_1 9 rfl rfl)
theorem dX3_lacks_32 : decode cX3_lacks 32 = .ok (.invokevirtual 81, 3) := dk_182 0 81 (dk_at dksX3_lacks_1 10 rfl rfl)
theorem dX3_lacks_35 : decode cX3_lacks 35 = .ok (.goto 4, 3) := dk_167 0 4 (dk_at dksX3_lacks_1 13 rfl rfl)
theorem dX3_lacks_38 : decode cX3_lacks 38 = .ok (.iconst 0, 1) := dk_3 (dk_at dksX3_lacks_1 16 rfl rfl)
theorem dX3_lacks_39 : decode cX3_lacks 39 = .ok (.ireturn, 1) := dk_172 (dk_at dksX3_lacks_1 17 rfl rfl)
abbrev cX3_keeps : ByteArray := prog_16_method_33_code
def yX3_keeps : MethodName := ⟨RX3, "keeps", "()V"⟩
def dkwX3_keeps_3 : List UInt8 := [42, 180, 0, 19, 27, 46, 79, 132, 1, 1, 167, 255, 227, 42, 89, 180, 0, 175, 4, 96, 181, 0, 175, 177]
abbrev dktX3_keeps_3 : List UInt8 := dkwX3_keeps_3 ++ []
def dkwX3_keeps_2 : List UInt8 := [181, 0, 175, 3, 60, 27, 16, 44, 162, 0, 29, 42, 180, 0, 28, 16, 44, 42, 180, 0, 175, 104, 27, 96]
abbrev dktX3_keeps_2 : List UInt8 := dkwX3_keeps_2 ++ dktX3_keeps_3
def dkwX3_keeps_1 : List UInt8 := [180, 0, 28, 27, 16, 44, 96, 46, 79, 132, 1, 1, 167, 255, 231, 42, 89, 180, 0, 175, 4, 100]
abbrev dktX3_keeps_1 : List UInt8 := dkwX3_keeps_1 ++ dktX3_keeps_2
def dkwX3_keeps_0 : List UInt8 := [42, 180, 0, 175, 16, 24, 160, 0, 43, 3, 60, 27, 17, 3, 244, 162, 0, 24, 42, 180, 0, 28, 27, 42]
abbrev dktX3_keeps_0 : List UInt8 := dkwX3_keeps_0 ++ dktX3_keeps_1
theorem dksX3_keeps_0 : cX3_keeps.data.toList.drop 0 = dktX3_keeps_0 := by decide +kernel
theorem dksX3_keeps_1 : cX3_keeps.data.toList.drop 24 = dktX3_keeps_1 := dk_seg dksX3_keeps_0 24 rfl rfl
theorem dksX3_keeps_2 : cX3_keeps.data.toList.drop 46 = dktX3_keeps_2 := dk_seg dksX3_keeps_1 22 rfl rfl
theorem dksX3_keeps_3 : cX3_keeps.data.toList.drop 70 = dktX3_keeps_3 := dk_seg dksX3_keeps_2 24 rfl rfl
theorem dX3_keeps_0 : decode cX3_keeps 0 = .ok (.aload_n 0, 1) := dk_42 (dk_at dksX3_keeps_0 0 rfl rfl)
theorem dX3_keeps_1 : decode cX3_keeps 1 = .ok (.getfield 175, 3) := dk_180 0 175 (dk_at dksX3_keeps_0 1 rfl rfl)
theorem dX3_keeps_4 : decode cX3_keeps 4 = .ok (.bipush 24, 2) := dk_16 24 (dk_at dksX3_keeps_0 4 rfl rfl)
theorem dX3_keeps_6 : decode cX3_keeps 6 = .ok (.if_icmp .ne 43, 3) := dk_160 0 43 (dk_at dksX3_keeps_0 6 rfl rfl)
theorem dX3_keeps_9 : decode cX3_keeps 9 = .ok (.iconst 0, 1) := dk_3 (dk_at dksX3_keeps_0 9 rfl rfl)
theorem dX3_keeps_10 : decode cX3_keeps 10 = .ok (.istore_n 1, 1) := dk_60 (dk_at dksX3_keeps_0 10 rfl rfl)
theorem dX3_keeps_11 : decode cX3_keeps 11 = .ok (.iload_n 1, 1) := dk_27 (dk_at dksX3_keeps_0 11 rfl rfl)
theorem dX3_keeps_12 : decode cX3_keeps 12 = .ok (.sipush 1012, 3) := dk_17 3 244 (dk_at dksX3_keeps_0 12 rfl rfl)
theorem dX3_keeps_15 : decode cX3_keeps 15 = .ok (.if_icmp .ge 24, 3) := dk_162 0 24 (dk_at dksX3_keeps_0 15 rfl rfl)
theorem dX3_keeps_18 : decode cX3_keeps 18 = .ok (.aload_n 0, 1) := dk_42 (dk_at dksX3_keeps_0 18 rfl rfl)
theorem dX3_keeps_19 : decode cX3_keeps 19 = .ok (.getfield 28, 3) := dk_180 0 28 (dk_at dksX3_keeps_0 19 rfl rfl)
theorem dX3_keeps_22 : decode cX3_keeps 22 = .ok (.iload_n 1, 1) := dk_27 (dk_at dksX3_keeps_0 22 rfl rfl)
theorem dX3_keeps_23 : decode cX3_keeps 23 = .ok (.aload_n 0, 1) := dk_42 (dk_at dksX3_keeps_0 23 rfl rfl)
theorem dX3_keeps_24 : decode cX3_keeps 24 = .ok (.getfield 28, 3) := dk_180 0 28 (dk_at dksX3_keeps_1 0 rfl rfl)
theorem dX3_keeps_27 : decode cX3_keeps 27 = .ok (.iload_n 1, 1) := dk_27 (dk_at dksX3_keeps_1 3 rfl rfl)
theorem dX3_keeps_28 : decode cX3_keeps 28 = .ok (.bipush 44, 2) := dk_16 44 (dk_at dksX3_keeps_1 4 rfl rfl)
theorem dX3_keeps_30 : decode cX3_keeps 30 = .ok (.iadd, 1) := dk_96 (dk_at dksX3_keeps_1 6 rfl rfl)
theorem dX3_keeps_31 : decode cX3_keeps 31 = .ok (.iaload, 1) := dk_46 (dk_at dksX3_keeps_1 7 rfl rfl)
theorem dX3_keeps_32 : decode cX3_keeps 32 = .ok (.iastore, 1) := dk_79 (dk_at dksX3_keeps_1 8 rfl rfl)
theorem dX3_keeps_33 : decode cX3_keeps 33 = .ok (.iinc 1 1, 3) := dk_132 1 1 (dk_at dksX3_keeps_1 9 rfl rfl)
theorem dX3_keeps_36 : decode cX3_keeps 36 = .ok (.goto (-25), 3) := dk_167 255 231 (dk_at dksX3_keeps_1 12 rfl rfl)
theorem dX3_keeps_39 : decode cX3_keeps 39 = .ok (.aload_n 0, 1) := dk_42 (dk_at dksX3_keeps_1 15 rfl rfl)
theorem dX3_keeps_40 : decode cX3_keeps 40 = .ok (.dup, 1) := dk_89 (dk_at dksX3_keeps_1 16 rfl rfl)
theorem dX3_keeps_41 : decode cX3_keeps 41 = .ok (.getfield 175, 3) := dk_180 0 175 (dk_at dksX3_keeps_1 17 rfl rfl)
theorem dX3_keeps_44 : decode cX3_keeps 44 = .ok (.iconst 1, 1) := dk_4 (dk_at dksX3_keeps_1 20 rfl rfl)
theorem dX3_keeps_45 : decode cX3_keeps 45 = .ok (.isub, 1) := dk_100 (dk_at dksX3_keeps_1 21 rfl rfl)
theorem dX3_keeps_46 : decode cX3_keeps 46 = .ok (.putfield 175, 3) := dk_181 0 175 (dk_at dksX3_keeps_2 0 rfl rfl)
theorem dX3_keeps_49 : decode cX3_keeps 49 = .ok (.iconst 0, 1) := dk_3 (dk_at dksX3_keeps_2 3 rfl rfl)
theorem dX3_keeps_50 : decode cX3_keeps 50 = .ok (.istore_n 1, 1) := dk_60 (dk_at dksX3_keeps_2 4 rfl rfl)
theorem dX3_keeps_51 : decode cX3_keeps 51 = .ok (.iload_n 1, 1) := dk_27 (dk_at dksX3_keeps_2 5 rfl rfl)
theorem dX3_keeps_52 : decode cX3_keeps 52 = .ok (.bipush 44, 2) := dk_16 44 (dk_at dksX3_keeps_2 6 rfl rfl)
theorem dX3_keeps_54 : decode cX3_keeps 54 = .ok (.if_icmp .ge 29, 3) := dk_162 0 29 (dk_at dksX3_keeps_2 8 rfl rfl)
theorem dX3_keeps_57 : decode cX3_keeps 57 = .ok (.aload_n 0, 1) := dk_42 (dk_at dksX3_keeps_2 11 rfl rfl)
theorem dX3_keeps_58 : decode cX3_keeps 58 = .ok (.getfield 28, 3) := dk_180 0 28 (dk_at dksX3_keeps_2 12 rfl rfl)
theorem dX3_keeps_61 : decode cX3_keeps 61 = .ok (.bipush 44, 2) := dk_16 44 (dk_at dksX3_keeps_2 15 rfl rfl)
theorem dX3_keeps_63 : decode cX3_keeps 63 = .ok (.aload_n 0, 1) := dk_42 (dk_at dksX3_keeps_2 17 rfl rfl)
theorem dX3_keeps_64 : decode cX3_keeps 64 = .ok (.getfield 175, 3) := dk_180 0 175 (dk_at dksX3_keeps_2 18 rfl rfl)
theorem dX3_keeps_67 : decode cX3_keeps 67 = .ok (.imul, 1) := dk_104 (dk_at dksX3_keeps_2 21 rfl rfl)
theorem dX3_keeps_68 : decode cX3_keeps 68 = .ok (.iload_n 1, 1) := dk_27 (dk_at dksX3_keeps_2 22 rfl rfl)
theorem dX3_keeps_69 : decode cX3_keeps 69 = .ok (.iadd, 1) := dk_96 (dk_at dksX3_keeps_2 23 rfl rfl)
theorem dX3_keeps_70 : decode cX3_keeps 70 = .ok (.aload_n 0, 1) := dk_42 (dk_at dksX3_keeps_3 0 rfl rfl)
theorem dX3_keeps_71 : decode cX3_keeps 71 = .ok (.getfield 19, 3) := dk_180 0 19 (dk_at dksX3_keeps_3 1 rfl rfl)
theorem dX3_keeps_74 : decode cX3_keeps 74 = .ok (.iload_n 1, 1) := dk_27 (dk_at dksX3_keeps_3 4 rfl rfl)
theorem dX3_keeps_75 : decode cX3_keeps 75 = .ok (.iaload, 1) := dk_46 (dk_at dksX3_keeps_3 5 rfl rfl)
theorem dX3_keeps_76 : decode cX3_keeps 76 = .ok (.iastore, 1) := dk_79 (dk_at dksX3_keeps_3 6 rfl rfl)
theorem dX3_keeps_77 : decode cX3_keeps 77 = .ok (.iinc 1 1, 3) := dk_132 1 1 (dk_at dksX3_keeps_3 7 rfl rfl)
theorem dX3_keeps_80 : decode cX3_keeps 80 = .ok (.goto (-29), 3) := dk_167 255 227 (dk_at dksX3_keeps_3 10 rfl rfl)
theorem dX3_keeps_83 : decode cX3_keeps 83 = .ok (.aload_n 0, 1) := dk_42 (dk_at dksX3_keeps_3 13 rfl rfl)
theorem dX3_keeps_84 : decode cX3_keeps 84 = .ok (.dup, 1) := dk_89 (dk_at dksX3_keeps_3 14 rfl rfl)
theorem dX3_keeps_85 : decode cX3_keeps 85 = .ok (.getfield 175, 3) := dk_180 0 175 (dk_at dksX3_keeps_3 15 rfl rfl)
theorem dX3_keeps_88 : decode cX3_keeps 88 = .ok (.iconst 1, 1) := dk_4 (dk_at dksX3_keeps_3 18 rfl rfl)
theorem dX3_keeps_89 : decode cX3_keeps 89 = .ok (.iadd, 1) := dk_96 (dk_at dksX3_keeps_3 19 rfl rfl)
theorem dX3_keeps_90 : decode cX3_keeps 90 = .ok (.putfield 175, 3) := dk_181 0 175 (dk_at dksX3_keeps_3 20 rfl rfl)
theorem dX3_keeps_93 : decode cX3_keeps 93 = .ok (.return_, 1) := dk_177 (dk_at dksX3_keeps_3 23 rfl rfl)
abbrev cX3_wordSize : ByteArray := prog_16_method_16_code
def yX3_wordSize : MethodName := ⟨RX3, "wordSize", "([II)I"⟩
def dkwX3_wordSize_0 : List UInt8 := [42, 16, 12, 16, 8, 27, 104, 96, 6, 96, 46, 172]
abbrev dktX3_wordSize_0 : List UInt8 := dkwX3_wordSize_0 ++ []
theorem dksX3_wordSize_0 : cX3_wordSize.data.toList.drop 0 = dktX3_wordSize_0 := by decide +kernel
theorem dX3_wordSize_0 : decode cX3_wordSize 0 = .ok (.aload_n 0, 1) := dk_42 (dk_at dksX3_wordSize_0 0 rfl rfl)
theorem dX3_wordSize_1 : decode cX3_wordSize 1 = .ok (.bipush 12, 2) := dk_16 12 (dk_at dksX3_wordSize_0 1 rfl rfl)
theorem dX3_wordSize_3 : decode cX3_wordSize 3 = .ok (.bipush 8, 2) := dk_16 8 (dk_at dksX3_wordSize_0 3 rfl rfl)
theorem dX3_wordSize_5 : decode cX3_wordSize 5 = .ok (.iload_n 1, 1) := dk_27 (dk_at dksX3_wordSize_0 5 rfl rfl)
theorem dX3_wordSize_6 : decode cX3_wordSize 6 = .ok (.imul, 1) := dk_104 (dk_at dksX3_wordSize_0 6 rfl rfl)
theorem dX3_wordSize_7 : decode cX3_wordSize 7 = .ok (.iadd, 1) := dk_96 (dk_at dksX3_wordSize_0 7 rfl rfl)
theorem dX3_wordSize_8 : decode cX3_wordSize 8 = .ok (.iconst 3, 1) := dk_6 (dk_at dksX3_wordSize_0 8 rfl rfl)
theorem dX3_wordSize_9 : decode cX3_wordSize 9 = .ok (.iadd, 1) := dk_96 (dk_at dksX3_wordSize_0 9 rfl rfl)
theorem dX3_wordSize_10 : decode cX3_wordSize 10 = .ok (.iaload, 1) := dk_46 (dk_at dksX3_wordSize_0 10 rfl rfl)
theorem dX3_wordSize_11 : decode cX3_wordSize 11 = .ok (.ireturn, 1) := dk_172 (dk_at dksX3_wordSize_0 11 rfl rfl)
abbrev cX3_length : ByteArray := prog_16_method_38_code
def yX3_length : MethodName := ⟨RX3, "length", "(III)I"⟩
def dkwX3_length_3 : List UInt8 := [21, 4, 172]
abbrev dktX3_length_3 : List UInt8 := dkwX3_length_3 ++ []
def dkwX3_length_2 : List UInt8 := [4, 96, 28, 96, 46, 54, 4, 42, 180, 0, 19, 16, 12, 16, 8, 27, 104, 96, 4, 96, 28, 96, 29, 79]
abbrev dktX3_length_2 : List UInt8 := dkwX3_length_2 ++ dktX3_length_3
def dkwX3_length_1 : List UInt8 := [184, 0, 70, 154, 0, 6, 18, 80, 172, 42, 182, 0, 190, 42, 180, 0, 19, 16, 12, 16, 8, 27, 104, 96]
abbrev dktX3_length_1 : List UInt8 := dkwX3_length_1 ++ dktX3_length_2
def dkwX3_length_0 : List UInt8 := [42, 27, 182, 0, 182, 153, 0, 25, 28, 133, 9, 10, 184, 0, 70, 153, 0, 15, 29, 133, 9, 20, 0, 193]
abbrev dktX3_length_0 : List UInt8 := dkwX3_length_0 ++ dktX3_length_1
theorem dksX3_length_0 : cX3_length.data.toList.drop 0 = dktX3_length_0 := by decide +kernel
theorem dksX3_length_1 : cX3_length.data.toList.drop 24 = dktX3_length_1 := dk_seg dksX3_length_0 24 rfl rfl
theorem dksX3_length_2 : cX3_length.data.toList.drop 48 = dktX3_length_2 := dk_seg dksX3_length_1 24 rfl rfl
theorem dksX3_length_3 : cX3_length.data.toList.drop 72 = dktX3_length_3 := dk_seg dksX3_length_2 24 rfl rfl
theorem dX3_length_0 : decode cX3_length 0 = .ok (.aload_n 0, 1) := dk_42 (dk_at dksX3_length_0 0 rfl rfl)
theorem dX3_length_1 : decode cX3_length 1 = .ok (.iload_n 1, 1) := dk_27 (dk_at dksX3_length_0 1 rfl rfl)
theorem dX3_length_2 : decode cX3_length 2 = .ok (.invokevirtual 182, 3) := dk_182 0 182 (dk_at dksX3_length_0 2 rfl rfl)
theorem dX3_length_5 : decode cX3_length 5 = .ok (.ifCond .eq 25, 3) := dk_153 0 25 (dk_at dksX3_length_0 5 rfl rfl)
theorem dX3_length_8 : decode cX3_length 8 = .ok (.iload_n 2, 1) := dk_28 (dk_at dksX3_length_0 8 rfl rfl)
theorem dX3_length_9 : decode cX3_length 9 = .ok (.i2l, 1) := dk_133 (dk_at dksX3_length_0 9 rfl rfl)
theorem dX3_length_10 : decode cX3_length 10 = .ok (.lconst 0, 1) := dk_9 (dk_at dksX3_length_0 10 rfl rfl)
theorem dX3_length_11 : decode cX3_length 11 = .ok (.lconst 1, 1) := dk_10 (dk_at dksX3_length_0 11 rfl rfl)
theorem dX3_length_12 : decode cX3_length 12 = .ok (.invokestatic 70, 3) := dk_184 0 70 (dk_at dksX3_length_0 12 rfl rfl)
theorem dX3_length_15 : decode cX3_length 15 = .ok (.ifCond .eq 15, 3) := dk_153 0 15 (dk_at dksX3_length_0 15 rfl rfl)
theorem dX3_length_18 : decode cX3_length 18 = .ok (.iload_n 3, 1) := dk_29 (dk_at dksX3_length_0 18 rfl rfl)
theorem dX3_length_19 : decode cX3_length 19 = .ok (.i2l, 1) := dk_133 (dk_at dksX3_length_0 19 rfl rfl)
theorem dX3_length_20 : decode cX3_length 20 = .ok (.lconst 0, 1) := dk_9 (dk_at dksX3_length_0 20 rfl rfl)
theorem dX3_length_21 : decode cX3_length 21 = .ok (.ldc2_w 193, 3) := dk_20 0 193 (dk_at dksX3_length_0 21 rfl rfl)
theorem dX3_length_24 : decode cX3_length 24 = .ok (.invokestatic 70, 3) := dk_184 0 70 (dk_at dksX3_length_1 0 rfl rfl)
theorem dX3_length_27 : decode cX3_length 27 = .ok (.ifCond .ne 6, 3) := dk_154 0 6 (dk_at dksX3_length_1 3 rfl rfl)
theorem dX3_length_30 : decode cX3_length 30 = .ok (.ldc 80, 2) := dk_18 80 (dk_at dksX3_length_1 6 rfl rfl)
theorem dX3_length_32 : decode cX3_length 32 = .ok (.ireturn, 1) := dk_172 (dk_at dksX3_length_1 8 rfl rfl)
theorem dX3_length_33 : decode cX3_length 33 = .ok (.aload_n 0, 1) := dk_42 (dk_at dksX3_length_1 9 rfl rfl)
theorem dX3_length_34 : decode cX3_length 34 = .ok (.invokevirtual 190, 3) := dk_182 0 190 (dk_at dksX3_length_1 10 rfl rfl)
theorem dX3_length_37 : decode cX3_length 37 = .ok (.aload_n 0, 1) := dk_42 (dk_at dksX3_length_1 13 rfl rfl)
theorem dX3_length_38 : decode cX3_length 38 = .ok (.getfield 19, 3) := dk_180 0 19 (dk_at dksX3_length_1 14 rfl rfl)
theorem dX3_length_41 : decode cX3_length 41 = .ok (.bipush 12, 2) := dk_16 12 (dk_at dksX3_length_1 17 rfl rfl)
theorem dX3_length_43 : decode cX3_length 43 = .ok (.bipush 8, 2) := dk_16 8 (dk_at dksX3_length_1 19 rfl rfl)
theorem dX3_length_45 : decode cX3_length 45 = .ok (.iload_n 1, 1) := dk_27 (dk_at dksX3_length_1 21 rfl rfl)
theorem dX3_length_46 : decode cX3_length 46 = .ok (.imul, 1) := dk_104 (dk_at dksX3_length_1 22 rfl rfl)
theorem dX3_length_47 : decode cX3_length 47 = .ok (.iadd, 1) := dk_96 (dk_at dksX3_length_1 23 rfl rfl)
theorem dX3_length_48 : decode cX3_length 48 = .ok (.iconst 1, 1) := dk_4 (dk_at dksX3_length_2 0 rfl rfl)
theorem dX3_length_49 : decode cX3_length 49 = .ok (.iadd, 1) := dk_96 (dk_at dksX3_length_2 1 rfl rfl)
theorem dX3_length_50 : decode cX3_length 50 = .ok (.iload_n 2, 1) := dk_28 (dk_at dksX3_length_2 2 rfl rfl)
theorem dX3_length_51 : decode cX3_length 51 = .ok (.iadd, 1) := dk_96 (dk_at dksX3_length_2 3 rfl rfl)
theorem dX3_length_52 : decode cX3_length 52 = .ok (.iaload, 1) := dk_46 (dk_at dksX3_length_2 4 rfl rfl)
theorem dX3_length_53 : decode cX3_length 53 = .ok (.istore 4, 2) := dk_54 4 (dk_at dksX3_length_2 5 rfl rfl)
theorem dX3_length_55 : decode cX3_length 55 = .ok (.aload_n 0, 1) := dk_42 (dk_at dksX3_length_2 7 rfl rfl)
theorem dX3_length_56 : decode cX3_length 56 = .ok (.getfield 19, 3) := dk_180 0 19 (dk_at dksX3_length_2 8 rfl rfl)
theorem dX3_length_59 : decode cX3_length 59 = .ok (.bipush 12, 2) := dk_16 12 (dk_at dksX3_length_2 11 rfl rfl)
theorem dX3_length_61 : decode cX3_length 61 = .ok (.bipush 8, 2) := dk_16 8 (dk_at dksX3_length_2 13 rfl rfl)
theorem dX3_length_63 : decode cX3_length 63 = .ok (.iload_n 1, 1) := dk_27 (dk_at dksX3_length_2 15 rfl rfl)
theorem dX3_length_64 : decode cX3_length 64 = .ok (.imul, 1) := dk_104 (dk_at dksX3_length_2 16 rfl rfl)
theorem dX3_length_65 : decode cX3_length 65 = .ok (.iadd, 1) := dk_96 (dk_at dksX3_length_2 17 rfl rfl)
theorem dX3_length_66 : decode cX3_length 66 = .ok (.iconst 1, 1) := dk_4 (dk_at dksX3_length_2 18 rfl rfl)
theorem dX3_length_67 : decode cX3_length 67 = .ok (.iadd, 1) := dk_96 (dk_at dksX3_length_2 19 rfl rfl)
theorem dX3_length_68 : decode cX3_length 68 = .ok (.iload_n 2, 1) := dk_28 (dk_at dksX3_length_2 20 rfl rfl)
theorem dX3_length_69 : decode cX3_length 69 = .ok (.iadd, 1) := dk_96 (dk_at dksX3_length_2 21 rfl rfl)
theorem dX3_length_70 : decode cX3_length 70 = .ok (.iload_n 3, 1) := dk_29 (dk_at dksX3_length_2 22 rfl rfl)
theorem dX3_length_71 : decode cX3_length 71 = .ok (.iastore, 1) := dk_79 (dk_at dksX3_length_2 23 rfl rfl)
theorem dX3_length_72 : decode cX3_length 72 = .ok (.iload 4, 2) := dk_21 4 (dk_at dksX3_length_3 0 rfl rfl)
theorem dX3_length_74 : decode cX3_length 74 = .ok (.ireturn, 1) := dk_172 (dk_at dksX3_length_3 2 rfl rfl)
abbrev cX3_become : ByteArray := prog_16_method_39_code
def yX3_become : MethodName := ⟨RX3, "become", "(II)I"⟩
def dkwX3_become_2 : List UInt8 := [16, 12, 16, 8, 27, 104, 96, 28, 79, 29, 172]
abbrev dktX3_become_2 : List UInt8 := dkwX3_become_2 ++ []
def dkwX3_become_1 : List UInt8 := [180, 0, 19, 27, 184, 0, 89, 62, 29, 28, 160, 0, 6, 18, 178, 172, 42, 182, 0, 190, 42, 180, 0, 19]
abbrev dktX3_become_1 : List UInt8 := dkwX3_become_1 ++ dktX3_become_2
def dkwX3_become_0 : List UInt8 := [42, 27, 182, 0, 182, 153, 0, 15, 28, 133, 10, 20, 0, 195, 184, 0, 70, 154, 0, 6, 18, 80, 172, 42]
abbrev dktX3_become_0 : List UInt8 := dkwX3_become_0 ++ dktX3_become_1
theorem dksX3_become_0 : cX3_become.data.toList.drop 0 = dktX3_become_0 := by decide +kernel
theorem dksX3_become_1 : cX3_become.data.toList.drop 24 = dktX3_become_1 := dk_seg dksX3_become_0 24 rfl rfl
theorem dksX3_become_2 : cX3_become.data.toList.drop 48 = dktX3_become_2 := dk_seg dksX3_become_1 24 rfl rfl
theorem dX3_become_0 : decode cX3_become 0 = .ok (.aload_n 0, 1) := dk_42 (dk_at dksX3_become_0 0 rfl rfl)
theorem dX3_become_1 : decode cX3_become 1 = .ok (.iload_n 1, 1) := dk_27 (dk_at dksX3_become_0 1 rfl rfl)
theorem dX3_become_2 : decode cX3_become 2 = .ok (.invokevirtual 182, 3) := dk_182 0 182 (dk_at dksX3_become_0 2 rfl rfl)
theorem dX3_become_5 : decode cX3_become 5 = .ok (.ifCond .eq 15, 3) := dk_153 0 15 (dk_at dksX3_become_0 5 rfl rfl)
theorem dX3_become_8 : decode cX3_become 8 = .ok (.iload_n 2, 1) := dk_28 (dk_at dksX3_become_0 8 rfl rfl)
theorem dX3_become_9 : decode cX3_become 9 = .ok (.i2l, 1) := dk_133 (dk_at dksX3_become_0 9 rfl rfl)
theorem dX3_become_10 : decode cX3_become 10 = .ok (.lconst 1, 1) := dk_10 (dk_at dksX3_become_0 10 rfl rfl)
theorem dX3_become_11 : decode cX3_become 11 = .ok (.ldc2_w 195, 3) := dk_20 0 195 (dk_at dksX3_become_0 11 rfl rfl)
theorem dX3_become_14 : decode cX3_become 14 = .ok (.invokestatic 70, 3) := dk_184 0 70 (dk_at dksX3_become_0 14 rfl rfl)
theorem dX3_become_17 : decode cX3_become 17 = .ok (.ifCond .ne 6, 3) := dk_154 0 6 (dk_at dksX3_become_0 17 rfl rfl)
theorem dX3_become_20 : decode cX3_become 20 = .ok (.ldc 80, 2) := dk_18 80 (dk_at dksX3_become_0 20 rfl rfl)
theorem dX3_become_22 : decode cX3_become 22 = .ok (.ireturn, 1) := dk_172 (dk_at dksX3_become_0 22 rfl rfl)
theorem dX3_become_23 : decode cX3_become 23 = .ok (.aload_n 0, 1) := dk_42 (dk_at dksX3_become_0 23 rfl rfl)
theorem dX3_become_24 : decode cX3_become 24 = .ok (.getfield 19, 3) := dk_180 0 19 (dk_at dksX3_become_1 0 rfl rfl)
theorem dX3_become_27 : decode cX3_become 27 = .ok (.iload_n 1, 1) := dk_27 (dk_at dksX3_become_1 3 rfl rfl)
theorem dX3_become_28 : decode cX3_become 28 = .ok (.invokestatic 89, 3) := dk_184 0 89 (dk_at dksX3_become_1 4 rfl rfl)
theorem dX3_become_31 : decode cX3_become 31 = .ok (.istore_n 3, 1) := dk_62 (dk_at dksX3_become_1 7 rfl rfl)
theorem dX3_become_32 : decode cX3_become 32 = .ok (.iload_n 3, 1) := dk_29 (dk_at dksX3_become_1 8 rfl rfl)
theorem dX3_become_33 : decode cX3_become 33 = .ok (.iload_n 2, 1) := dk_28 (dk_at dksX3_become_1 9 rfl rfl)
theorem dX3_become_34 : decode cX3_become 34 = .ok (.if_icmp .ne 6, 3) := dk_160 0 6 (dk_at dksX3_become_1 10 rfl rfl)
theorem dX3_become_37 : decode cX3_become 37 = .ok (.ldc 178, 2) := dk_18 178 (dk_at dksX3_become_1 13 rfl rfl)
theorem dX3_become_39 : decode cX3_become 39 = .ok (.ireturn, 1) := dk_172 (dk_at dksX3_become_1 15 rfl rfl)
theorem dX3_become_40 : decode cX3_become 40 = .ok (.aload_n 0, 1) := dk_42 (dk_at dksX3_become_1 16 rfl rfl)
theorem dX3_become_41 : decode cX3_become 41 = .ok (.invokevirtual 190, 3) := dk_182 0 190 (dk_at dksX3_become_1 17 rfl rfl)
theorem dX3_become_44 : decode cX3_become 44 = .ok (.aload_n 0, 1) := dk_42 (dk_at dksX3_become_1 20 rfl rfl)
theorem dX3_become_45 : decode cX3_become 45 = .ok (.getfield 19, 3) := dk_180 0 19 (dk_at dksX3_become_1 21 rfl rfl)
theorem dX3_become_48 : decode cX3_become 48 = .ok (.bipush 12, 2) := dk_16 12 (dk_at dksX3_become_2 0 rfl rfl)
theorem dX3_become_50 : decode cX3_become 50 = .ok (.bipush 8, 2) := dk_16 8 (dk_at dksX3_become_2 2 rfl rfl)
theorem dX3_become_52 : decode cX3_become 52 = .ok (.iload_n 1, 1) := dk_27 (dk_at dksX3_become_2 4 rfl rfl)
theorem dX3_become_53 : decode cX3_become 53 = .ok (.imul, 1) := dk_104 (dk_at dksX3_become_2 5 rfl rfl)
theorem dX3_become_54 : decode cX3_become 54 = .ok (.iadd, 1) := dk_96 (dk_at dksX3_become_2 6 rfl rfl)
theorem dX3_become_55 : decode cX3_become 55 = .ok (.iload_n 2, 1) := dk_28 (dk_at dksX3_become_2 7 rfl rfl)
theorem dX3_become_56 : decode cX3_become 56 = .ok (.iastore, 1) := dk_79 (dk_at dksX3_become_2 8 rfl rfl)
theorem dX3_become_57 : decode cX3_become 57 = .ok (.iload_n 3, 1) := dk_29 (dk_at dksX3_become_2 9 rfl rfl)
theorem dX3_become_58 : decode cX3_become 58 = .ok (.ireturn, 1) := dk_172 (dk_at dksX3_become_2 10 rfl rfl)
abbrev cX3_kindOf : ByteArray := prog_16_method_14_code
def yX3_kindOf : MethodName := ⟨RX3, "kindOf", "([II)I"⟩
def dkwX3_kindOf_0 : List UInt8 := [42, 16, 12, 16, 8, 27, 104, 96, 46, 172]
abbrev dktX3_kindOf_0 : List UInt8 := dkwX3_kindOf_0 ++ []
theorem dksX3_kindOf_0 : cX3_kindOf.data.toList.drop 0 = dktX3_kindOf_0 := by decide +kernel
theorem dX3_kindOf_0 : decode cX3_kindOf 0 = .ok (.aload_n 0, 1) := dk_42 (dk_at dksX3_kindOf_0 0 rfl rfl)
theorem dX3_kindOf_1 : decode cX3_kindOf 1 = .ok (.bipush 12, 2) := dk_16 12 (dk_at dksX3_kindOf_0 1 rfl rfl)
theorem dX3_kindOf_3 : decode cX3_kindOf 3 = .ok (.bipush 8, 2) := dk_16 8 (dk_at dksX3_kindOf_0 3 rfl rfl)
theorem dX3_kindOf_5 : decode cX3_kindOf 5 = .ok (.iload_n 1, 1) := dk_27 (dk_at dksX3_kindOf_0 5 rfl rfl)
theorem dX3_kindOf_6 : decode cX3_kindOf 6 = .ok (.imul, 1) := dk_104 (dk_at dksX3_kindOf_0 6 rfl rfl)
theorem dX3_kindOf_7 : decode cX3_kindOf 7 = .ok (.iadd, 1) := dk_96 (dk_at dksX3_kindOf_0 7 rfl rfl)
theorem dX3_kindOf_8 : decode cX3_kindOf 8 = .ok (.iaload, 1) := dk_46 (dk_at dksX3_kindOf_0 8 rfl rfl)
theorem dX3_kindOf_9 : decode cX3_kindOf 9 = .ok (.ireturn, 1) := dk_172 (dk_at dksX3_kindOf_0 9 rfl rfl)
abbrev cX3_root : ByteArray := prog_16_method_40_code
def yX3_root : MethodName := ⟨RX3, "root", "(II)I"⟩
def dkwX3_root_2 : List UInt8 := [182, 0, 190, 42, 180, 0, 19, 4, 27, 96, 46, 62, 42, 180, 0, 19, 4, 27, 96, 28, 79, 29, 172]
abbrev dktX3_root_2 : List UInt8 := dkwX3_root_2 ++ []
def dkwX3_root_1 : List UInt8 := [27, 154, 0, 9, 20, 0, 201, 167, 0, 6, 20, 0, 193, 184, 0, 70, 154, 0, 6, 18, 80, 172, 42]
abbrev dktX3_root_1 : List UInt8 := dkwX3_root_1 ++ dktX3_root_2
def dkwX3_root_0 : List UInt8 := [42, 182, 0, 197, 154, 0, 6, 18, 178, 172, 27, 133, 9, 10, 184, 0, 70, 153, 0, 26, 28, 133, 27, 133]
abbrev dktX3_root_0 : List UInt8 := dkwX3_root_0 ++ dktX3_root_1
theorem dksX3_root_0 : cX3_root.data.toList.drop 0 = dktX3_root_0 := by decide +kernel
theorem dksX3_root_1 : cX3_root.data.toList.drop 24 = dktX3_root_1 := dk_seg dksX3_root_0 24 rfl rfl
theorem dksX3_root_2 : cX3_root.data.toList.drop 47 = dktX3_root_2 := dk_seg dksX3_root_1 23 rfl rfl
theorem dX3_root_0 : decode cX3_root 0 = .ok (.aload_n 0, 1) := dk_42 (dk_at dksX3_root_0 0 rfl rfl)
theorem dX3_root_1 : decode cX3_root 1 = .ok (.invokevirtual 197, 3) := dk_182 0 197 (dk_at dksX3_root_0 1 rfl rfl)
theorem dX3_root_4 : decode cX3_root 4 = .ok (.ifCond .ne 6, 3) := dk_154 0 6 (dk_at dksX3_root_0 4 rfl rfl)
theorem dX3_root_7 : decode cX3_root 7 = .ok (.ldc 178, 2) := dk_18 178 (dk_at dksX3_root_0 7 rfl rfl)
theorem dX3_root_9 : decode cX3_root 9 = .ok (.ireturn, 1) := dk_172 (dk_at dksX3_root_0 9 rfl rfl)
theorem dX3_root_10 : decode cX3_root 10 = .ok (.iload_n 1, 1) := dk_27 (dk_at dksX3_root_0 10 rfl rfl)
theorem dX3_root_11 : decode cX3_root 11 = .ok (.i2l, 1) := dk_133 (dk_at dksX3_root_0 11 rfl rfl)
theorem dX3_root_12 : decode cX3_root 12 = .ok (.lconst 0, 1) := dk_9 (dk_at dksX3_root_0 12 rfl rfl)
theorem dX3_root_13 : decode cX3_root 13 = .ok (.lconst 1, 1) := dk_10 (dk_at dksX3_root_0 13 rfl rfl)
theorem dX3_root_14 : decode cX3_root 14 = .ok (.invokestatic 70, 3) := dk_184 0 70 (dk_at dksX3_root_0 14 rfl rfl)
theorem dX3_root_17 : decode cX3_root 17 = .ok (.ifCond .eq 26, 3) := dk_153 0 26 (dk_at dksX3_root_0 17 rfl rfl)
theorem dX3_root_20 : decode cX3_root 20 = .ok (.iload_n 2, 1) := dk_28 (dk_at dksX3_root_0 20 rfl rfl)
theorem dX3_root_21 : decode cX3_root 21 = .ok (.i2l, 1) := dk_133 (dk_at dksX3_root_0 21 rfl rfl)
theorem dX3_root_22 : decode cX3_root 22 = .ok (.iload_n 1, 1) := dk_27 (dk_at dksX3_root_0 22 rfl rfl)
theorem dX3_root_23 : decode cX3_root 23 = .ok (.i2l, 1) := dk_133 (dk_at dksX3_root_0 23 rfl rfl)
theorem dX3_root_24 : decode cX3_root 24 = .ok (.iload_n 1, 1) := dk_27 (dk_at dksX3_root_1 0 rfl rfl)
theorem dX3_root_25 : decode cX3_root 25 = .ok (.ifCond .ne 9, 3) := dk_154 0 9 (dk_at dksX3_root_1 1 rfl rfl)
theorem dX3_root_28 : decode cX3_root 28 = .ok (.ldc2_w 201, 3) := dk_20 0 201 (dk_at dksX3_root_1 4 rfl rfl)
theorem dX3_root_31 : decode cX3_root 31 = .ok (.goto 6, 3) := dk_167 0 6 (dk_at dksX3_root_1 7 rfl rfl)
theorem dX3_root_34 : decode cX3_root 34 = .ok (.ldc2_w 193, 3) := dk_20 0 193 (dk_at dksX3_root_1 10 rfl rfl)
theorem dX3_root_37 : decode cX3_root 37 = .ok (.invokestatic 70, 3) := dk_184 0 70 (dk_at dksX3_root_1 13 rfl rfl)
theorem dX3_root_40 : decode cX3_root 40 = .ok (.ifCond .ne 6, 3) := dk_154 0 6 (dk_at dksX3_root_1 16 rfl rfl)
theorem dX3_root_43 : decode cX3_root 43 = .ok (.ldc 80, 2) := dk_18 80 (dk_at dksX3_root_1 19 rfl rfl)
theorem dX3_root_45 : decode cX3_root 45 = .ok (.ireturn, 1) := dk_172 (dk_at dksX3_root_1 21 rfl rfl)
theorem dX3_root_46 : decode cX3_root 46 = .ok (.aload_n 0, 1) := dk_42 (dk_at dksX3_root_1 22 rfl rfl)
theorem dX3_root_47 : decode cX3_root 47 = .ok (.invokevirtual 190, 3) := dk_182 0 190 (dk_at dksX3_root_2 0 rfl rfl)
theorem dX3_root_50 : decode cX3_root 50 = .ok (.aload_n 0, 1) := dk_42 (dk_at dksX3_root_2 3 rfl rfl)
theorem dX3_root_51 : decode cX3_root 51 = .ok (.getfield 19, 3) := dk_180 0 19 (dk_at dksX3_root_2 4 rfl rfl)
theorem dX3_root_54 : decode cX3_root 54 = .ok (.iconst 1, 1) := dk_4 (dk_at dksX3_root_2 7 rfl rfl)
theorem dX3_root_55 : decode cX3_root 55 = .ok (.iload_n 1, 1) := dk_27 (dk_at dksX3_root_2 8 rfl rfl)
theorem dX3_root_56 : decode cX3_root 56 = .ok (.iadd, 1) := dk_96 (dk_at dksX3_root_2 9 rfl rfl)
theorem dX3_root_57 : decode cX3_root 57 = .ok (.iaload, 1) := dk_46 (dk_at dksX3_root_2 10 rfl rfl)
theorem dX3_root_58 : decode cX3_root 58 = .ok (.istore_n 3, 1) := dk_62 (dk_at dksX3_root_2 11 rfl rfl)
theorem dX3_root_59 : decode cX3_root 59 = .ok (.aload_n 0, 1) := dk_42 (dk_at dksX3_root_2 12 rfl rfl)
theorem dX3_root_60 : decode cX3_root 60 = .ok (.getfield 19, 3) := dk_180 0 19 (dk_at dksX3_root_2 13 rfl rfl)
theorem dX3_root_63 : decode cX3_root 63 = .ok (.iconst 1, 1) := dk_4 (dk_at dksX3_root_2 16 rfl rfl)
theorem dX3_root_64 : decode cX3_root 64 = .ok (.iload_n 1, 1) := dk_27 (dk_at dksX3_root_2 17 rfl rfl)
theorem dX3_root_65 : decode cX3_root 65 = .ok (.iadd, 1) := dk_96 (dk_at dksX3_root_2 18 rfl rfl)
theorem dX3_root_66 : decode cX3_root 66 = .ok (.iload_n 2, 1) := dk_28 (dk_at dksX3_root_2 19 rfl rfl)
theorem dX3_root_67 : decode cX3_root 67 = .ok (.iastore, 1) := dk_79 (dk_at dksX3_root_2 20 rfl rfl)
theorem dX3_root_68 : decode cX3_root 68 = .ok (.iload_n 3, 1) := dk_29 (dk_at dksX3_root_2 21 rfl rfl)
theorem dX3_root_69 : decode cX3_root 69 = .ok (.ireturn, 1) := dk_172 (dk_at dksX3_root_2 22 rfl rfl)
abbrev cX3_isThere : ByteArray := prog_16_method_9_code
def yX3_isThere : MethodName := ⟨RX3, "isThere", "()Z"⟩
def dkwX3_isThere_0 : List UInt8 := [42, 180, 0, 19, 3, 46, 158, 0, 7, 4, 167, 0, 4, 3, 172]
abbrev dktX3_isThere_0 : List UInt8 := dkwX3_isThere_0 ++ []
theorem dksX3_isThere_0 : cX3_isThere.data.toList.drop 0 = dktX3_isThere_0 := by decide +kernel
theorem dX3_isThere_0 : decode cX3_isThere 0 = .ok (.aload_n 0, 1) := dk_42 (dk_at dksX3_isThere_0 0 rfl rfl)
theorem dX3_isThere_1 : decode cX3_isThere 1 = .ok (.getfield 19, 3) := dk_180 0 19 (dk_at dksX3_isThere_0 1 rfl rfl)
theorem dX3_isThere_4 : decode cX3_isThere 4 = .ok (.iconst 0, 1) := dk_3 (dk_at dksX3_isThere_0 4 rfl rfl)
theorem dX3_isThere_5 : decode cX3_isThere 5 = .ok (.iaload, 1) := dk_46 (dk_at dksX3_isThere_0 5 rfl rfl)
theorem dX3_isThere_6 : decode cX3_isThere 6 = .ok (.ifCond .le 7, 3) := dk_158 0 7 (dk_at dksX3_isThere_0 6 rfl rfl)
theorem dX3_isThere_9 : decode cX3_isThere 9 = .ok (.iconst 1, 1) := dk_4 (dk_at dksX3_isThere_0 9 rfl rfl)
theorem dX3_isThere_10 : decode cX3_isThere 10 = .ok (.goto 4, 3) := dk_167 0 4 (dk_at dksX3_isThere_0 10 rfl rfl)
theorem dX3_isThere_13 : decode cX3_isThere 13 = .ok (.iconst 0, 1) := dk_3 (dk_at dksX3_isThere_0 13 rfl rfl)
theorem dX3_isThere_14 : decode cX3_isThere 14 = .ok (.ireturn, 1) := dk_172 (dk_at dksX3_isThere_0 14 rfl rfl)
abbrev cX3_begin : ByteArray := prog_16_method_41_code
def yX3_begin : MethodName := ⟨RX3, "begin", "(II)I"⟩
def dkwX3_begin_4 : List UInt8 := [180, 0, 19, 6, 28, 79, 21, 4, 172]
abbrev dktX3_begin_4 : List UInt8 := dkwX3_begin_4 ++ []
def dkwX3_begin_3 : List UInt8 := [7, 21, 5, 96, 42, 180, 0, 16, 16, 40, 27, 104, 21, 5, 96, 46, 79, 132, 5, 1, 167, 255, 226, 42]
abbrev dktX3_begin_3 : List UInt8 := dkwX3_begin_3 ++ dktX3_begin_4
def dkwX3_begin_2 : List UInt8 := [182, 0, 190, 42, 180, 0, 19, 6, 46, 54, 4, 3, 54, 5, 21, 5, 28, 162, 0, 30, 42, 180, 0, 19]
abbrev dktX3_begin_2 : List UInt8 := dkwX3_begin_2 ++ dktX3_begin_3
def dkwX3_begin_1 : List UInt8 := [184, 0, 70, 154, 0, 6, 18, 80, 172, 42, 27, 28, 182, 0, 187, 62, 29, 153, 0, 5, 29, 172, 42]
abbrev dktX3_begin_1 : List UInt8 := dkwX3_begin_1 ++ dktX3_begin_2
def dkwX3_begin_0 : List UInt8 := [42, 182, 0, 197, 154, 0, 6, 18, 178, 172, 27, 184, 0, 74, 153, 0, 15, 28, 133, 10, 20, 0, 203]
abbrev dktX3_begin_0 : List UInt8 := dkwX3_begin_0 ++ dktX3_begin_1
theorem dksX3_begin_0 : cX3_begin.data.toList.drop 0 = dktX3_begin_0 := by decide +kernel
theorem dksX3_begin_1 : cX3_begin.data.toList.drop 23 = dktX3_begin_1 := dk_seg dksX3_begin_0 23 rfl rfl
theorem dksX3_begin_2 : cX3_begin.data.toList.drop 46 = dktX3_begin_2 := dk_seg dksX3_begin_1 23 rfl rfl
theorem dksX3_begin_3 : cX3_begin.data.toList.drop 70 = dktX3_begin_3 := dk_seg dksX3_begin_2 24 rfl rfl
theorem dksX3_begin_4 : cX3_begin.data.toList.drop 94 = dktX3_begin_4 := dk_seg dksX3_begin_3 24 rfl rfl
theorem dX3_begin_0 : decode cX3_begin 0 = .ok (.aload_n 0, 1) := dk_42 (dk_at dksX3_begin_0 0 rfl rfl)
theorem dX3_begin_1 : decode cX3_begin 1 = .ok (.invokevirtual 197, 3) := dk_182 0 197 (dk_at dksX3_begin_0 1 rfl rfl)
theorem dX3_begin_4 : decode cX3_begin 4 = .ok (.ifCond .ne 6, 3) := dk_154 0 6 (dk_at dksX3_begin_0 4 rfl rfl)
theorem dX3_begin_7 : decode cX3_begin 7 = .ok (.ldc 178, 2) := dk_18 178 (dk_at dksX3_begin_0 7 rfl rfl)
theorem dX3_begin_9 : decode cX3_begin 9 = .ok (.ireturn, 1) := dk_172 (dk_at dksX3_begin_0 9 rfl rfl)
theorem dX3_begin_10 : decode cX3_begin 10 = .ok (.iload_n 1, 1) := dk_27 (dk_at dksX3_begin_0 10 rfl rfl)
theorem dX3_begin_11 : decode cX3_begin 11 = .ok (.invokestatic 74, 3) := dk_184 0 74 (dk_at dksX3_begin_0 11 rfl rfl)
theorem dX3_begin_14 : decode cX3_begin 14 = .ok (.ifCond .eq 15, 3) := dk_153 0 15 (dk_at dksX3_begin_0 14 rfl rfl)
theorem dX3_begin_17 : decode cX3_begin 17 = .ok (.iload_n 2, 1) := dk_28 (dk_at dksX3_begin_0 17 rfl rfl)
theorem dX3_begin_18 : decode cX3_begin 18 = .ok (.i2l, 1) := dk_133 (dk_at dksX3_begin_0 18 rfl rfl)
theorem dX3_begin_19 : decode cX3_begin 19 = .ok (.lconst 1, 1) := dk_10 (dk_at dksX3_begin_0 19 rfl rfl)
theorem dX3_begin_20 : decode cX3_begin 20 = .ok (.ldc2_w 203, 3) := dk_20 0 203 (dk_at dksX3_begin_0 20 rfl rfl)
theorem dX3_begin_23 : decode cX3_begin 23 = .ok (.invokestatic 70, 3) := dk_184 0 70 (dk_at dksX3_begin_1 0 rfl rfl)
theorem dX3_begin_26 : decode cX3_begin 26 = .ok (.ifCond .ne 6, 3) := dk_154 0 6 (dk_at dksX3_begin_1 3 rfl rfl)
theorem dX3_begin_29 : decode cX3_begin 29 = .ok (.ldc 80, 2) := dk_18 80 (dk_at dksX3_begin_1 6 rfl rfl)
theorem dX3_begin_31 : decode cX3_begin 31 = .ok (.ireturn, 1) := dk_172 (dk_at dksX3_begin_1 8 rfl rfl)
theorem dX3_begin_32 : decode cX3_begin 32 = .ok (.aload_n 0, 1) := dk_42 (dk_at dksX3_begin_1 9 rfl rfl)
theorem dX3_begin_33 : decode cX3_begin 33 = .ok (.iload_n 1, 1) := dk_27 (dk_at dksX3_begin_1 10 rfl rfl)
theorem dX3_begin_34 : decode cX3_begin 34 = .ok (.iload_n 2, 1) := dk_28 (dk_at dksX3_begin_1 11 rfl rfl)
theorem dX3_begin_35 : decode cX3_begin 35 = .ok (.invokevirtual 187, 3) := dk_182 0 187 (dk_at dksX3_begin_1 12 rfl rfl)
theorem dX3_begin_38 : decode cX3_begin 38 = .ok (.istore_n 3, 1) := dk_62 (dk_at dksX3_begin_1 15 rfl rfl)
theorem dX3_begin_39 : decode cX3_begin 39 = .ok (.iload_n 3, 1) := dk_29 (dk_at dksX3_begin_1 16 rfl rfl)
theorem dX3_begin_40 : decode cX3_begin 40 = .ok (.ifCond .eq 5, 3) := dk_153 0 5 (dk_at dksX3_begin_1 17 rfl rfl)
theorem dX3_begin_43 : decode cX3_begin 43 = .ok (.iload_n 3, 1) := dk_29 (dk_at dksX3_begin_1 20 rfl rfl)
theorem dX3_begin_44 : decode cX3_begin 44 = .ok (.ireturn, 1) := dk_172 (dk_at dksX3_begin_1 21 rfl rfl)
theorem dX3_begin_45 : decode cX3_begin 45 = .ok (.aload_n 0, 1) := dk_42 (dk_at dksX3_begin_1 22 rfl rfl)
theorem dX3_begin_46 : decode cX3_begin 46 = .ok (.invokevirtual 190, 3) := dk_182 0 190 (dk_at dksX3_begin_2 0 rfl rfl)
theorem dX3_begin_49 : decode cX3_begin 49 = .ok (.aload_n 0, 1) := dk_42 (dk_at dksX3_begin_2 3 rfl rfl)
theorem dX3_begin_50 : decode cX3_begin 50 = .ok (.getfield 19, 3) := dk_180 0 19 (dk_at dksX3_begin_2 4 rfl rfl)
theorem dX3_begin_53 : decode cX3_begin 53 = .ok (.iconst 3, 1) := dk_6 (dk_at dksX3_begin_2 7 rfl rfl)
theorem dX3_begin_54 : decode cX3_begin 54 = .ok (.iaload, 1) := dk_46 (dk_at dksX3_begin_2 8 rfl rfl)
theorem dX3_begin_55 : decode cX3_begin 55 = .ok (.istore 4, 2) := dk_54 4 (dk_at dksX3_begin_2 9 rfl rfl)
theorem dX3_begin_57 : decode cX3_begin 57 = .ok (.iconst 0, 1) := dk_3 (dk_at dksX3_begin_2 11 rfl rfl)
theorem dX3_begin_58 : decode cX3_begin 58 = .ok (.istore 5, 2) := dk_54 5 (dk_at dksX3_begin_2 12 rfl rfl)
theorem dX3_begin_60 : decode cX3_begin 60 = .ok (.iload 5, 2) := dk_21 5 (dk_at dksX3_begin_2 14 rfl rfl)
theorem dX3_begin_62 : decode cX3_begin 62 = .ok (.iload_n 2, 1) := dk_28 (dk_at dksX3_begin_2 16 rfl rfl)
theorem dX3_begin_63 : decode cX3_begin 63 = .ok (.if_icmp .ge 30, 3) := dk_162 0 30 (dk_at dksX3_begin_2 17 rfl rfl)
theorem dX3_begin_66 : decode cX3_begin 66 = .ok (.aload_n 0, 1) := dk_42 (dk_at dksX3_begin_2 20 rfl rfl)
theorem dX3_begin_67 : decode cX3_begin 67 = .ok (.getfield 19, 3) := dk_180 0 19 (dk_at dksX3_begin_2 21 rfl rfl)
theorem dX3_begin_70 : decode cX3_begin 70 = .ok (.iconst 4, 1) := dk_7 (dk_at dksX3_begin_3 0 rfl rfl)
theorem dX3_begin_71 : decode cX3_begin 71 = .ok (.iload 5, 2) := dk_21 5 (dk_at dksX3_begin_3 1 rfl rfl)
theorem dX3_begin_73 : decode cX3_begin 73 = .ok (.iadd, 1) := dk_96 (dk_at dksX3_begin_3 3 rfl rfl)
theorem dX3_begin_74 : decode cX3_begin 74 = .ok (.aload_n 0, 1) := dk_42 (dk_at dksX3_begin_3 4 rfl rfl)
theorem dX3_begin_75 : decode cX3_begin 75 = .ok (.getfield 16, 3) := dk_180 0 16 (dk_at dksX3_begin_3 5 rfl rfl)
theorem dX3_begin_78 : decode cX3_begin 78 = .ok (.bipush 40, 2) := dk_16 40 (dk_at dksX3_begin_3 8 rfl rfl)
theorem dX3_begin_80 : decode cX3_begin 80 = .ok (.iload_n 1, 1) := dk_27 (dk_at dksX3_begin_3 10 rfl rfl)
theorem dX3_begin_81 : decode cX3_begin 81 = .ok (.imul, 1) := dk_104 (dk_at dksX3_begin_3 11 rfl rfl)
theorem dX3_begin_82 : decode cX3_begin 82 = .ok (.iload 5, 2) := dk_21 5 (dk_at dksX3_begin_3 12 rfl rfl)
theorem dX3_begin_84 : decode cX3_begin 84 = .ok (.iadd, 1) := dk_96 (dk_at dksX3_begin_3 14 rfl rfl)
theorem dX3_begin_85 : decode cX3_begin 85 = .ok (.iaload, 1) := dk_46 (dk_at dksX3_begin_3 15 rfl rfl)
theorem dX3_begin_86 : decode cX3_begin 86 = .ok (.iastore, 1) := dk_79 (dk_at dksX3_begin_3 16 rfl rfl)
theorem dX3_begin_87 : decode cX3_begin 87 = .ok (.iinc 5 1, 3) := dk_132 5 1 (dk_at dksX3_begin_3 17 rfl rfl)
theorem dX3_begin_90 : decode cX3_begin 90 = .ok (.goto (-30), 3) := dk_167 255 226 (dk_at dksX3_begin_3 20 rfl rfl)
theorem dX3_begin_93 : decode cX3_begin 93 = .ok (.aload_n 0, 1) := dk_42 (dk_at dksX3_begin_3 23 rfl rfl)
theorem dX3_begin_94 : decode cX3_begin 94 = .ok (.getfield 19, 3) := dk_180 0 19 (dk_at dksX3_begin_4 0 rfl rfl)
theorem dX3_begin_97 : decode cX3_begin 97 = .ok (.iconst 3, 1) := dk_6 (dk_at dksX3_begin_4 3 rfl rfl)
theorem dX3_begin_98 : decode cX3_begin 98 = .ok (.iload_n 2, 1) := dk_28 (dk_at dksX3_begin_4 4 rfl rfl)
theorem dX3_begin_99 : decode cX3_begin 99 = .ok (.iastore, 1) := dk_79 (dk_at dksX3_begin_4 5 rfl rfl)
theorem dX3_begin_100 : decode cX3_begin 100 = .ok (.iload 4, 2) := dk_21 4 (dk_at dksX3_begin_4 6 rfl rfl)
theorem dX3_begin_102 : decode cX3_begin 102 = .ok (.ireturn, 1) := dk_172 (dk_at dksX3_begin_4 8 rfl rfl)
abbrev cX3_inflate : ByteArray := prog_16_method_42_code
def yX3_inflate : MethodName := ⟨RX3, "inflate", "()I"⟩
def dkwX3_inflate_2 : List UInt8 := [42, 180, 0, 31, 28, 46, 79, 132, 2, 1, 167, 255, 234, 42, 180, 0, 19, 6, 27, 79, 27, 172]
abbrev dktX3_inflate_2 : List UInt8 := dkwX3_inflate_2 ++ []
def dkwX3_inflate_1 : List UInt8 := [164, 0, 6, 18, 96, 172, 42, 182, 0, 190, 3, 61, 28, 27, 162, 0, 23, 42, 180, 0, 19, 7, 28, 96]
abbrev dktX3_inflate_1 : List UInt8 := dkwX3_inflate_1 ++ dktX3_inflate_2
def dkwX3_inflate_0 : List UInt8 := [42, 182, 0, 197, 154, 0, 6, 18, 178, 172, 42, 42, 180, 0, 19, 4, 182, 0, 205, 60, 27, 16, 8]
abbrev dktX3_inflate_0 : List UInt8 := dkwX3_inflate_0 ++ dktX3_inflate_1
theorem dksX3_inflate_0 : cX3_inflate.data.toList.drop 0 = dktX3_inflate_0 := by decide +kernel
theorem dksX3_inflate_1 : cX3_inflate.data.toList.drop 23 = dktX3_inflate_1 := dk_seg dksX3_inflate_0 23 rfl rfl
theorem dksX3_inflate_2 : cX3_inflate.data.toList.drop 47 = dktX3_inflate_2 := dk_seg dksX3_inflate_1 24 rfl rfl
theorem dX3_inflate_0 : decode cX3_inflate 0 = .ok (.aload_n 0, 1) := dk_42 (dk_at dksX3_inflate_0 0 rfl rfl)
theorem dX3_inflate_1 : decode cX3_inflate 1 = .ok (.invokevirtual 197, 3) := dk_182 0 197 (dk_at dksX3_inflate_0 1 rfl rfl)
theorem dX3_inflate_4 : decode cX3_inflate 4 = .ok (.ifCond .ne 6, 3) := dk_154 0 6 (dk_at dksX3_inflate_0 4 rfl rfl)
theorem dX3_inflate_7 : decode cX3_inflate 7 = .ok (.ldc 178, 2) := dk_18 178 (dk_at dksX3_inflate_0 7 rfl rfl)
theorem dX3_inflate_9 : decode cX3_inflate 9 = .ok (.ireturn, 1) := dk_172 (dk_at dksX3_inflate_0 9 rfl rfl)
theorem dX3_inflate_10 : decode cX3_inflate 10 = .ok (.aload_n 0, 1) := dk_42 (dk_at dksX3_inflate_0 10 rfl rfl)
theorem dX3_inflate_11 : decode cX3_inflate 11 = .ok (.aload_n 0, 1) := dk_42 (dk_at dksX3_inflate_0 11 rfl rfl)
theorem dX3_inflate_12 : decode cX3_inflate 12 = .ok (.getfield 19, 3) := dk_180 0 19 (dk_at dksX3_inflate_0 12 rfl rfl)
theorem dX3_inflate_15 : decode cX3_inflate 15 = .ok (.iconst 1, 1) := dk_4 (dk_at dksX3_inflate_0 15 rfl rfl)
theorem dX3_inflate_16 : decode cX3_inflate 16 = .ok (.invokevirtual 205, 3) := dk_182 0 205 (dk_at dksX3_inflate_0 16 rfl rfl)
theorem dX3_inflate_19 : decode cX3_inflate 19 = .ok (.istore_n 1, 1) := dk_60 (dk_at dksX3_inflate_0 19 rfl rfl)
theorem dX3_inflate_20 : decode cX3_inflate 20 = .ok (.iload_n 1, 1) := dk_27 (dk_at dksX3_inflate_0 20 rfl rfl)
theorem dX3_inflate_21 : decode cX3_inflate 21 = .ok (.bipush 8, 2) := dk_16 8 (dk_at dksX3_inflate_0 21 rfl rfl)
theorem dX3_inflate_23 : decode cX3_inflate 23 = .ok (.if_icmp .le 6, 3) := dk_164 0 6 (dk_at dksX3_inflate_1 0 rfl rfl)
theorem dX3_inflate_26 : decode cX3_inflate 26 = .ok (.ldc 96, 2) := dk_18 96 (dk_at dksX3_inflate_1 3 rfl rfl)
theorem dX3_inflate_28 : decode cX3_inflate 28 = .ok (.ireturn, 1) := dk_172 (dk_at dksX3_inflate_1 5 rfl rfl)
theorem dX3_inflate_29 : decode cX3_inflate 29 = .ok (.aload_n 0, 1) := dk_42 (dk_at dksX3_inflate_1 6 rfl rfl)
theorem dX3_inflate_30 : decode cX3_inflate 30 = .ok (.invokevirtual 190, 3) := dk_182 0 190 (dk_at dksX3_inflate_1 7 rfl rfl)
theorem dX3_inflate_33 : decode cX3_inflate 33 = .ok (.iconst 0, 1) := dk_3 (dk_at dksX3_inflate_1 10 rfl rfl)
theorem dX3_inflate_34 : decode cX3_inflate 34 = .ok (.istore_n 2, 1) := dk_61 (dk_at dksX3_inflate_1 11 rfl rfl)
theorem dX3_inflate_35 : decode cX3_inflate 35 = .ok (.iload_n 2, 1) := dk_28 (dk_at dksX3_inflate_1 12 rfl rfl)
theorem dX3_inflate_36 : decode cX3_inflate 36 = .ok (.iload_n 1, 1) := dk_27 (dk_at dksX3_inflate_1 13 rfl rfl)
theorem dX3_inflate_37 : decode cX3_inflate 37 = .ok (.if_icmp .ge 23, 3) := dk_162 0 23 (dk_at dksX3_inflate_1 14 rfl rfl)
theorem dX3_inflate_40 : decode cX3_inflate 40 = .ok (.aload_n 0, 1) := dk_42 (dk_at dksX3_inflate_1 17 rfl rfl)
theorem dX3_inflate_41 : decode cX3_inflate 41 = .ok (.getfield 19, 3) := dk_180 0 19 (dk_at dksX3_inflate_1 18 rfl rfl)
theorem dX3_inflate_44 : decode cX3_inflate 44 = .ok (.iconst 4, 1) := dk_7 (dk_at dksX3_inflate_1 21 rfl rfl)
theorem dX3_inflate_45 : decode cX3_inflate 45 = .ok (.iload_n 2, 1) := dk_28 (dk_at dksX3_inflate_1 22 rfl rfl)
theorem dX3_inflate_46 : decode cX3_inflate 46 = .ok (.iadd, 1) := dk_96 (dk_at dksX3_inflate_1 23 rfl rfl)
theorem dX3_inflate_47 : decode cX3_inflate 47 = .ok (.aload_n 0, 1) := dk_42 (dk_at dksX3_inflate_2 0 rfl rfl)
theorem dX3_inflate_48 : decode cX3_inflate 48 = .ok (.getfield 31, 3) := dk_180 0 31 (dk_at dksX3_inflate_2 1 rfl rfl)
theorem dX3_inflate_51 : decode cX3_inflate 51 = .ok (.iload_n 2, 1) := dk_28 (dk_at dksX3_inflate_2 4 rfl rfl)
theorem dX3_inflate_52 : decode cX3_inflate 52 = .ok (.iaload, 1) := dk_46 (dk_at dksX3_inflate_2 5 rfl rfl)
theorem dX3_inflate_53 : decode cX3_inflate 53 = .ok (.iastore, 1) := dk_79 (dk_at dksX3_inflate_2 6 rfl rfl)
theorem dX3_inflate_54 : decode cX3_inflate 54 = .ok (.iinc 2 1, 3) := dk_132 2 1 (dk_at dksX3_inflate_2 7 rfl rfl)
theorem dX3_inflate_57 : decode cX3_inflate 57 = .ok (.goto (-22), 3) := dk_167 255 234 (dk_at dksX3_inflate_2 10 rfl rfl)
theorem dX3_inflate_60 : decode cX3_inflate 60 = .ok (.aload_n 0, 1) := dk_42 (dk_at dksX3_inflate_2 13 rfl rfl)
theorem dX3_inflate_61 : decode cX3_inflate 61 = .ok (.getfield 19, 3) := dk_180 0 19 (dk_at dksX3_inflate_2 14 rfl rfl)
theorem dX3_inflate_64 : decode cX3_inflate 64 = .ok (.iconst 3, 1) := dk_6 (dk_at dksX3_inflate_2 17 rfl rfl)
theorem dX3_inflate_65 : decode cX3_inflate 65 = .ok (.iload_n 1, 1) := dk_27 (dk_at dksX3_inflate_2 18 rfl rfl)
theorem dX3_inflate_66 : decode cX3_inflate 66 = .ok (.iastore, 1) := dk_79 (dk_at dksX3_inflate_2 19 rfl rfl)
theorem dX3_inflate_67 : decode cX3_inflate 67 = .ok (.iload_n 1, 1) := dk_27 (dk_at dksX3_inflate_2 20 rfl rfl)
theorem dX3_inflate_68 : decode cX3_inflate 68 = .ok (.ireturn, 1) := dk_172 (dk_at dksX3_inflate_2 21 rfl rfl)
abbrev cX3_layGrown : ByteArray := prog_16_method_19_code
def yX3_layGrown : MethodName := ⟨RX3, "layGrown", "([II)I"⟩
def dkwX3_layGrown_2 : List UInt8 := [43, 29, 182, 0, 97, 62, 132, 4, 1, 167, 255, 234, 29, 172]
abbrev dktX3_layGrown_2 : List UInt8 := dkwX3_layGrown_2 ++ []
def dkwX3_layGrown_1 : List UInt8 := [46, 79, 132, 4, 1, 167, 255, 234, 3, 54, 4, 21, 4, 28, 162, 0, 22, 29, 18, 96, 159, 0, 16, 42]
abbrev dktX3_layGrown_1 : List UInt8 := dkwX3_layGrown_1 ++ dktX3_layGrown_2
def dkwX3_layGrown_0 : List UInt8 := [43, 6, 46, 62, 3, 54, 4, 21, 4, 29, 162, 0, 22, 42, 180, 0, 31, 21, 4, 43, 7, 21, 4, 96]
abbrev dktX3_layGrown_0 : List UInt8 := dkwX3_layGrown_0 ++ dktX3_layGrown_1
theorem dksX3_layGrown_0 : cX3_layGrown.data.toList.drop 0 = dktX3_layGrown_0 := by decide +kernel
theorem dksX3_layGrown_1 : cX3_layGrown.data.toList.drop 24 = dktX3_layGrown_1 := dk_seg dksX3_layGrown_0 24 rfl rfl
theorem dksX3_layGrown_2 : cX3_layGrown.data.toList.drop 48 = dktX3_layGrown_2 := dk_seg dksX3_layGrown_1 24 rfl rfl
theorem dX3_layGrown_0 : decode cX3_layGrown 0 = .ok (.aload_n 1, 1) := dk_43 (dk_at dksX3_layGrown_0 0 rfl rfl)
theorem dX3_layGrown_1 : decode cX3_layGrown 1 = .ok (.iconst 3, 1) := dk_6 (dk_at dksX3_layGrown_0 1 rfl rfl)
theorem dX3_layGrown_2 : decode cX3_layGrown 2 = .ok (.iaload, 1) := dk_46 (dk_at dksX3_layGrown_0 2 rfl rfl)
theorem dX3_layGrown_3 : decode cX3_layGrown 3 = .ok (.istore_n 3, 1) := dk_62 (dk_at dksX3_layGrown_0 3 rfl rfl)
theorem dX3_layGrown_4 : decode cX3_layGrown 4 = .ok (.iconst 0, 1) := dk_3 (dk_at dksX3_layGrown_0 4 rfl rfl)
theorem dX3_layGrown_5 : decode cX3_layGrown 5 = .ok (.istore 4, 2) := dk_54 4 (dk_at dksX3_layGrown_0 5 rfl rfl)
theorem dX3_layGrown_7 : decode cX3_layGrown 7 = .ok (.iload 4, 2) := dk_21 4 (dk_at dksX3_layGrown_0 7 rfl rfl)
theorem dX3_layGrown_9 : decode cX3_layGrown 9 = .ok (.iload_n 3, 1) := dk_29 (dk_at dksX3_layGrown_0 9 rfl rfl)
theorem dX3_layGrown_10 : decode cX3_layGrown 10 = .ok (.if_icmp .ge 22, 3) := dk_162 0 22 (dk_at dksX3_layGrown_0 10 rfl rfl)
theorem dX3_layGrown_13 : decode cX3_layGrown 13 = .ok (.aload_n 0, 1) := dk_42 (dk_at dksX3_layGrown_0 13 rfl rfl)
theorem dX3_layGrown_14 : decode cX3_layGrown 14 = .ok (.getfield 31, 3) := dk_180 0 31 (dk_at dksX3_layGrown_0 14 rfl rfl)
theorem dX3_layGrown_17 : decode cX3_layGrown 17 = .ok (.iload 4, 2) := dk_21 4 (dk_at dksX3_layGrown_0 17 rfl rfl)
theorem dX3_layGrown_19 : decode cX3_layGrown 19 = .ok (.aload_n 1, 1) := dk_43 (dk_at dksX3_layGrown_0 19 rfl rfl)
theorem dX3_layGrown_20 : decode cX3_layGrown 20 = .ok (.iconst 4, 1) := dk_7 (dk_at dksX3_layGrown_0 20 rfl rfl)
theorem dX3_layGrown_21 : decode cX3_layGrown 21 = .ok (.iload 4, 2) := dk_21 4 (dk_at dksX3_layGrown_0 21 rfl rfl)
theorem dX3_layGrown_23 : decode cX3_layGrown 23 = .ok (.iadd, 1) := dk_96 (dk_at dksX3_layGrown_0 23 rfl rfl)
theorem dX3_layGrown_24 : decode cX3_layGrown 24 = .ok (.iaload, 1) := dk_46 (dk_at dksX3_layGrown_1 0 rfl rfl)
theorem dX3_layGrown_25 : decode cX3_layGrown 25 = .ok (.iastore, 1) := dk_79 (dk_at dksX3_layGrown_1 1 rfl rfl)
theorem dX3_layGrown_26 : decode cX3_layGrown 26 = .ok (.iinc 4 1, 3) := dk_132 4 1 (dk_at dksX3_layGrown_1 2 rfl rfl)
theorem dX3_layGrown_29 : decode cX3_layGrown 29 = .ok (.goto (-22), 3) := dk_167 255 234 (dk_at dksX3_layGrown_1 5 rfl rfl)
theorem dX3_layGrown_32 : decode cX3_layGrown 32 = .ok (.iconst 0, 1) := dk_3 (dk_at dksX3_layGrown_1 8 rfl rfl)
theorem dX3_layGrown_33 : decode cX3_layGrown 33 = .ok (.istore 4, 2) := dk_54 4 (dk_at dksX3_layGrown_1 9 rfl rfl)
theorem dX3_layGrown_35 : decode cX3_layGrown 35 = .ok (.iload 4, 2) := dk_21 4 (dk_at dksX3_layGrown_1 11 rfl rfl)
theorem dX3_layGrown_37 : decode cX3_layGrown 37 = .ok (.iload_n 2, 1) := dk_28 (dk_at dksX3_layGrown_1 13 rfl rfl)
theorem dX3_layGrown_38 : decode cX3_layGrown 38 = .ok (.if_icmp .ge 22, 3) := dk_162 0 22 (dk_at dksX3_layGrown_1 14 rfl rfl)
theorem dX3_layGrown_41 : decode cX3_layGrown 41 = .ok (.iload_n 3, 1) := dk_29 (dk_at dksX3_layGrown_1 17 rfl rfl)
theorem dX3_layGrown_42 : decode cX3_layGrown 42 = .ok (.ldc 96, 2) := dk_18 96 (dk_at dksX3_layGrown_1 18 rfl rfl)
theorem dX3_layGrown_44 : decode cX3_layGrown 44 = .ok (.if_icmp .eq 16, 3) := dk_159 0 16 (dk_at dksX3_layGrown_1 20 rfl rfl)
theorem dX3_layGrown_47 : decode cX3_layGrown 47 = .ok (.aload_n 0, 1) := dk_42 (dk_at dksX3_layGrown_1 23 rfl rfl)
theorem dX3_layGrown_48 : decode cX3_layGrown 48 = .ok (.aload_n 1, 1) := dk_43 (dk_at dksX3_layGrown_2 0 rfl rfl)
theorem dX3_layGrown_49 : decode cX3_layGrown 49 = .ok (.iload_n 3, 1) := dk_29 (dk_at dksX3_layGrown_2 1 rfl rfl)
theorem dX3_layGrown_50 : decode cX3_layGrown 50 = .ok (.invokevirtual 97, 3) := dk_182 0 97 (dk_at dksX3_layGrown_2 2 rfl rfl)
theorem dX3_layGrown_53 : decode cX3_layGrown 53 = .ok (.istore_n 3, 1) := dk_62 (dk_at dksX3_layGrown_2 5 rfl rfl)
theorem dX3_layGrown_54 : decode cX3_layGrown 54 = .ok (.iinc 4 1, 3) := dk_132 4 1 (dk_at dksX3_layGrown_2 6 rfl rfl)
theorem dX3_layGrown_57 : decode cX3_layGrown 57 = .ok (.goto (-22), 3) := dk_167 255 234 (dk_at dksX3_layGrown_2 9 rfl rfl)
theorem dX3_layGrown_60 : decode cX3_layGrown 60 = .ok (.iload_n 3, 1) := dk_29 (dk_at dksX3_layGrown_2 12 rfl rfl)
theorem dX3_layGrown_61 : decode cX3_layGrown 61 = .ok (.ireturn, 1) := dk_172 (dk_at dksX3_layGrown_2 13 rfl rfl)
abbrev cX3_inflated : ByteArray := prog_16_method_20_code
def yX3_inflated : MethodName := ⟨RX3, "inflated", "([II)I"⟩
def dkwX3_inflated_5 : List UInt8 := [42, 180, 0, 31, 21, 5, 42, 180, 0, 34, 21, 5, 46, 79, 132, 5, 1, 167, 255, 233, 29, 172]
abbrev dktX3_inflated_5 : List UInt8 := dkwX3_inflated_5 ++ []
def dkwX3_inflated_4 : List UInt8 := [132, 4, 1, 132, 6, 1, 167, 255, 214, 132, 5, 1, 167, 255, 199, 3, 54, 5, 21, 5, 29, 162, 0, 23]
abbrev dktX3_inflated_4 : List UInt8 := dkwX3_inflated_4 ++ dktX3_inflated_5
def dkwX3_inflated_3 : List UInt8 := [162, 0, 32, 42, 180, 0, 34, 21, 4, 43, 42, 180, 0, 31, 21, 5, 46, 21, 6, 184, 0, 103, 79]
abbrev dktX3_inflated_3 : List UInt8 := dkwX3_inflated_3 ++ dktX3_inflated_4
def dkwX3_inflated_2 : List UInt8 := [21, 5, 28, 162, 0, 57, 3, 54, 6, 21, 6, 43, 42, 180, 0, 31, 21, 5, 46, 184, 0, 100]
abbrev dktX3_inflated_2 : List UInt8 := dkwX3_inflated_2 ++ dktX3_inflated_3
def dkwX3_inflated_1 : List UInt8 := [62, 132, 4, 1, 167, 255, 233, 29, 17, 1, 44, 164, 0, 6, 18, 96, 172, 3, 54, 4, 3, 54, 5]
abbrev dktX3_inflated_1 : List UInt8 := dkwX3_inflated_1 ++ dktX3_inflated_2
def dkwX3_inflated_0 : List UInt8 := [3, 62, 3, 54, 4, 21, 4, 28, 162, 0, 23, 29, 43, 42, 180, 0, 31, 21, 4, 46, 184, 0, 100, 96]
abbrev dktX3_inflated_0 : List UInt8 := dkwX3_inflated_0 ++ dktX3_inflated_1
theorem dksX3_inflated_0 : cX3_inflated.data.toList.drop 0 = dktX3_inflated_0 := by decide +kernel
theorem dksX3_inflated_1 : cX3_inflated.data.toList.drop 24 = dktX3_inflated_1 := dk_seg dksX3_inflated_0 24 rfl rfl
theorem dksX3_inflated_2 : cX3_inflated.data.toList.drop 47 = dktX3_inflated_2 := dk_seg dksX3_inflated_1 23 rfl rfl
theorem dksX3_inflated_3 : cX3_inflated.data.toList.drop 69 = dktX3_inflated_3 := dk_seg dksX3_inflated_2 22 rfl rfl
theorem dksX3_inflated_4 : cX3_inflated.data.toList.drop 92 = dktX3_inflated_4 := dk_seg dksX3_inflated_3 23 rfl rfl
theorem dksX3_inflated_5 : cX3_inflated.data.toList.drop 116 = dktX3_inflated_5 := dk_seg dksX3_inflated_4 24 rfl rfl
theorem dX3_inflated_0 : decode cX3_inflated 0 = .ok (.iconst 0, 1) := dk_3 (dk_at dksX3_inflated_0 0 rfl rfl)
theorem dX3_inflated_1 : decode cX3_inflated 1 = .ok (.istore_n 3, 1) := dk_62 (dk_at dksX3_inflated_0 1 rfl rfl)
theorem dX3_inflated_2 : decode cX3_inflated 2 = .ok (.iconst 0, 1) := dk_3 (dk_at dksX3_inflated_0 2 rfl rfl)
theorem dX3_inflated_3 : decode cX3_inflated 3 = .ok (.istore 4, 2) := dk_54 4 (dk_at dksX3_inflated_0 3 rfl rfl)
theorem dX3_inflated_5 : decode cX3_inflated 5 = .ok (.iload 4, 2) := dk_21 4 (dk_at dksX3_inflated_0 5 rfl rfl)
theorem dX3_inflated_7 : decode cX3_inflated 7 = .ok (.iload_n 2, 1) := dk_28 (dk_at dksX3_inflated_0 7 rfl rfl)
theorem dX3_inflated_8 : decode cX3_inflated 8 = .ok (.if_icmp .ge 23, 3) := dk_162 0 23 (dk_at dksX3_inflated_0 8 rfl rfl)
theorem dX3_inflated_11 : decode cX3_inflated 11 = .ok (.iload_n 3, 1) := dk_29 (dk_at dksX3_inflated_0 11 rfl rfl)
theorem dX3_inflated_12 : decode cX3_inflated 12 = .ok (.aload_n 1, 1) := dk_43 (dk_at dksX3_inflated_0 12 rfl rfl)
theorem dX3_inflated_13 : decode cX3_inflated 13 = .ok (.aload_n 0, 1) := dk_42 (dk_at dksX3_inflated_0 13 rfl rfl)
theorem dX3_inflated_14 : decode cX3_inflated 14 = .ok (.getfield 31, 3) := dk_180 0 31 (dk_at dksX3_inflated_0 14 rfl rfl)
theorem dX3_inflated_17 : decode cX3_inflated 17 = .ok (.iload 4, 2) := dk_21 4 (dk_at dksX3_inflated_0 17 rfl rfl)
theorem dX3_inflated_19 : decode cX3_inflated 19 = .ok (.iaload, 1) := dk_46 (dk_at dksX3_inflated_0 19 rfl rfl)
theorem dX3_inflated_20 : decode cX3_inflated 20 = .ok (.invokestatic 100, 3) := dk_184 0 100 (dk_at dksX3_inflated_0 20 rfl rfl)
theorem dX3_inflated_23 : decode cX3_inflated 23 = .ok (.iadd, 1) := dk_96 (dk_at dksX3_inflated_0 23 rfl rfl)
theorem dX3_inflated_24 : decode cX3_inflated 24 = .ok (.istore_n 3, 1) := dk_62 (dk_at dksX3_inflated_1 0 rfl rfl)
theorem dX3_inflated_25 : decode cX3_inflated 25 = .ok (.iinc 4 1, 3) := dk_132 4 1 (dk_at dksX3_inflated_1 1 rfl rfl)
theorem dX3_inflated_28 : decode cX3_inflated 28 = .ok (.goto (-23), 3) := dk_167 255 233 (dk_at dksX3_inflated_1 4 rfl rfl)
theorem dX3_inflated_31 : decode cX3_inflated 31 = .ok (.iload_n 3, 1) := dk_29 (dk_at dksX3_inflated_1 7 rfl rfl)
theorem dX3_inflated_32 : decode cX3_inflated 32 = .ok (.sipush 300, 3) := dk_17 1 44 (dk_at dksX3_inflated_1 8 rfl rfl)
theorem dX3_inflated_35 : decode cX3_inflated 35 = .ok (.if_icmp .le 6, 3) := dk_164 0 6 (dk_at dksX3_inflated_1 11 rfl rfl)
theorem dX3_inflated_38 : decode cX3_inflated 38 = .ok (.ldc 96, 2) := dk_18 96 (dk_at dksX3_inflated_1 14 rfl rfl)
theorem dX3_inflated_40 : decode cX3_inflated 40 = .ok (.ireturn, 1) := dk_172 (dk_at dksX3_inflated_1 16 rfl rfl)
theorem dX3_inflated_41 : decode cX3_inflated 41 = .ok (.iconst 0, 1) := dk_3 (dk_at dksX3_inflated_1 17 rfl rfl)
theorem dX3_inflated_42 : decode cX3_inflated 42 = .ok (.istore 4, 2) := dk_54 4 (dk_at dksX3_inflated_1 18 rfl rfl)
theorem dX3_inflated_44 : decode cX3_inflated 44 = .ok (.iconst 0, 1) := dk_3 (dk_at dksX3_inflated_1 20 rfl rfl)
theorem dX3_inflated_45 : decode cX3_inflated 45 = .ok (.istore 5, 2) := dk_54 5 (dk_at dksX3_inflated_1 21 rfl rfl)
theorem dX3_inflated_47 : decode cX3_inflated 47 = .ok (.iload 5, 2) := dk_21 5 (dk_at dksX3_inflated_2 0 rfl rfl)
theorem dX3_inflated_49 : decode cX3_inflated 49 = .ok (.iload_n 2, 1) := dk_28 (dk_at dksX3_inflated_2 2 rfl rfl)
theorem dX3_inflated_50 : decode cX3_inflated 50 = .ok (.if_icmp .ge 57, 3) := dk_162 0 57 (dk_at dksX3_inflated_2 3 rfl rfl)
theorem dX3_inflated_53 : decode cX3_inflated 53 = .ok (.iconst 0, 1) := dk_3 (dk_at dksX3_inflated_2 6 rfl rfl)
theorem dX3_inflated_54 : decode cX3_inflated 54 = .ok (.istore 6, 2) := dk_54 6 (dk_at dksX3_inflated_2 7 rfl rfl)
theorem dX3_inflated_56 : decode cX3_inflated 56 = .ok (.iload 6, 2) := dk_21 6 (dk_at dksX3_inflated_2 9 rfl rfl)
theorem dX3_inflated_58 : decode cX3_inflated 58 = .ok (.aload_n 1, 1) := dk_43 (dk_at dksX3_inflated_2 11 rfl rfl)
theorem dX3_inflated_59 : decode cX3_inflated 59 = .ok (.aload_n 0, 1) := dk_42 (dk_at dksX3_inflated_2 12 rfl rfl)
theorem dX3_inflated_60 : decode cX3_inflated 60 = .ok (.getfield 31, 3) := dk_180 0 31 (dk_at dksX3_inflated_2 13 rfl rfl)
theorem dX3_inflated_63 : decode cX3_inflated 63 = .ok (.iload 5, 2) := dk_21 5 (dk_at dksX3_inflated_2 16 rfl rfl)
theorem dX3_inflated_65 : decode cX3_inflated 65 = .ok (.iaload, 1) := dk_46 (dk_at dksX3_inflated_2 18 rfl rfl)
theorem dX3_inflated_66 : decode cX3_inflated 66 = .ok (.invokestatic 100, 3) := dk_184 0 100 (dk_at dksX3_inflated_2 19 rfl rfl)
theorem dX3_inflated_69 : decode cX3_inflated 69 = .ok (.if_icmp .ge 32, 3) := dk_162 0 32 (dk_at dksX3_inflated_3 0 rfl rfl)
theorem dX3_inflated_72 : decode cX3_inflated 72 = .ok (.aload_n 0, 1) := dk_42 (dk_at dksX3_inflated_3 3 rfl rfl)
theorem dX3_inflated_73 : decode cX3_inflated 73 = .ok (.getfield 34, 3) := dk_180 0 34 (dk_at dksX3_inflated_3 4 rfl rfl)
theorem dX3_inflated_76 : decode cX3_inflated 76 = .ok (.iload 4, 2) := dk_21 4 (dk_at dksX3_inflated_3 7 rfl rfl)
theorem dX3_inflated_78 : decode cX3_inflated 78 = .ok (.aload_n 1, 1) := dk_43 (dk_at dksX3_inflated_3 9 rfl rfl)
theorem dX3_inflated_79 : decode cX3_inflated 79 = .ok (.aload_n 0, 1) := dk_42 (dk_at dksX3_inflated_3 10 rfl rfl)
theorem dX3_inflated_80 : decode cX3_inflated 80 = .ok (.getfield 31, 3) := dk_180 0 31 (dk_at dksX3_inflated_3 11 rfl rfl)
theorem dX3_inflated_83 : decode cX3_inflated 83 = .ok (.iload 5, 2) := dk_21 5 (dk_at dksX3_inflated_3 14 rfl rfl)
theorem dX3_inflated_85 : decode cX3_inflated 85 = .ok (.iaload, 1) := dk_46 (dk_at dksX3_inflated_3 16 rfl rfl)
theorem dX3_inflated_86 : decode cX3_inflated 86 = .ok (.iload 6, 2) := dk_21 6 (dk_at dksX3_inflated_3 17 rfl rfl)
theorem dX3_inflated_88 : decode cX3_inflated 88 = .ok (.invokestatic 103, 3) := dk_184 0 103 (dk_at dksX3_inflated_3 19 rfl rfl)
theorem dX3_inflated_91 : decode cX3_inflated 91 = .ok (.iastore, 1) := dk_79 (dk_at dksX3_inflated_3 22 rfl rfl)
theorem dX3_inflated_92 : decode cX3_inflated 92 = .ok (.iinc 4 1, 3) := dk_132 4 1 (dk_at dksX3_inflated_4 0 rfl rfl)
theorem dX3_inflated_95 : decode cX3_inflated 95 = .ok (.iinc 6 1, 3) := dk_132 6 1 (dk_at dksX3_inflated_4 3 rfl rfl)
theorem dX3_inflated_98 : decode cX3_inflated 98 = .ok (.goto (-42), 3) := dk_167 255 214 (dk_at dksX3_inflated_4 6 rfl rfl)
theorem dX3_inflated_101 : decode cX3_inflated 101 = .ok (.iinc 5 1, 3) := dk_132 5 1 (dk_at dksX3_inflated_4 9 rfl rfl)
theorem dX3_inflated_104 : decode cX3_inflated 104 = .ok (.goto (-57), 3) := dk_167 255 199 (dk_at dksX3_inflated_4 12 rfl rfl)
theorem dX3_inflated_107 : decode cX3_inflated 107 = .ok (.iconst 0, 1) := dk_3 (dk_at dksX3_inflated_4 15 rfl rfl)
theorem dX3_inflated_108 : decode cX3_inflated 108 = .ok (.istore 5, 2) := dk_54 5 (dk_at dksX3_inflated_4 16 rfl rfl)
theorem dX3_inflated_110 : decode cX3_inflated 110 = .ok (.iload 5, 2) := dk_21 5 (dk_at dksX3_inflated_4 18 rfl rfl)
theorem dX3_inflated_112 : decode cX3_inflated 112 = .ok (.iload_n 3, 1) := dk_29 (dk_at dksX3_inflated_4 20 rfl rfl)
theorem dX3_inflated_113 : decode cX3_inflated 113 = .ok (.if_icmp .ge 23, 3) := dk_162 0 23 (dk_at dksX3_inflated_4 21 rfl rfl)
theorem dX3_inflated_116 : decode cX3_inflated 116 = .ok (.aload_n 0, 1) := dk_42 (dk_at dksX3_inflated_5 0 rfl rfl)
theorem dX3_inflated_117 : decode cX3_inflated 117 = .ok (.getfield 31, 3) := dk_180 0 31 (dk_at dksX3_inflated_5 1 rfl rfl)
theorem dX3_inflated_120 : decode cX3_inflated 120 = .ok (.iload 5, 2) := dk_21 5 (dk_at dksX3_inflated_5 4 rfl rfl)
theorem dX3_inflated_122 : decode cX3_inflated 122 = .ok (.aload_n 0, 1) := dk_42 (dk_at dksX3_inflated_5 6 rfl rfl)
theorem dX3_inflated_123 : decode cX3_inflated 123 = .ok (.getfield 34, 3) := dk_180 0 34 (dk_at dksX3_inflated_5 7 rfl rfl)
theorem dX3_inflated_126 : decode cX3_inflated 126 = .ok (.iload 5, 2) := dk_21 5 (dk_at dksX3_inflated_5 10 rfl rfl)
theorem dX3_inflated_128 : decode cX3_inflated 128 = .ok (.iaload, 1) := dk_46 (dk_at dksX3_inflated_5 12 rfl rfl)
theorem dX3_inflated_129 : decode cX3_inflated 129 = .ok (.iastore, 1) := dk_79 (dk_at dksX3_inflated_5 13 rfl rfl)
theorem dX3_inflated_130 : decode cX3_inflated 130 = .ok (.iinc 5 1, 3) := dk_132 5 1 (dk_at dksX3_inflated_5 14 rfl rfl)
theorem dX3_inflated_133 : decode cX3_inflated 133 = .ok (.goto (-23), 3) := dk_167 255 233 (dk_at dksX3_inflated_5 17 rfl rfl)
theorem dX3_inflated_136 : decode cX3_inflated 136 = .ok (.iload_n 3, 1) := dk_29 (dk_at dksX3_inflated_5 20 rfl rfl)
theorem dX3_inflated_137 : decode cX3_inflated 137 = .ok (.ireturn, 1) := dk_172 (dk_at dksX3_inflated_5 21 rfl rfl)
abbrev cX3_imageSize : ByteArray := prog_16_method_17_code
def yX3_imageSize : MethodName := ⟨RX3, "imageSize", "([II)I"⟩
def dkwX3_imageSize_1 : List UInt8 := [42, 27, 184, 0, 93, 172]
abbrev dktX3_imageSize_1 : List UInt8 := dkwX3_imageSize_1 ++ []
def dkwX3_imageSize_0 : List UInt8 := [42, 27, 184, 0, 89, 61, 28, 7, 160, 0, 7, 4, 167, 0, 17, 28, 8, 160, 0, 7, 5, 167, 0, 8]
abbrev dktX3_imageSize_0 : List UInt8 := dkwX3_imageSize_0 ++ dktX3_imageSize_1
theorem dksX3_imageSize_0 : cX3_imageSize.data.toList.drop 0 = dktX3_imageSize_0 := by decide +kernel
theorem dksX3_imageSize_1 : cX3_imageSize.data.toList.drop 24 = dktX3_imageSize_1 := dk_seg dksX3_imageSize_0 24 rfl rfl
theorem dX3_imageSize_0 : decode cX3_imageSize 0 = .ok (.aload_n 0, 1) := dk_42 (dk_at dksX3_imageSize_0 0 rfl rfl)
theorem dX3_imageSize_1 : decode cX3_imageSize 1 = .ok (.iload_n 1, 1) := dk_27 (dk_at dksX3_imageSize_0 1 rfl rfl)
theorem dX3_imageSize_2 : decode cX3_imageSize 2 = .ok (.invokestatic 89, 3) := dk_184 0 89 (dk_at dksX3_imageSize_0 2 rfl rfl)
theorem dX3_imageSize_5 : decode cX3_imageSize 5 = .ok (.istore_n 2, 1) := dk_61 (dk_at dksX3_imageSize_0 5 rfl rfl)
theorem dX3_imageSize_6 : decode cX3_imageSize 6 = .ok (.iload_n 2, 1) := dk_28 (dk_at dksX3_imageSize_0 6 rfl rfl)
theorem dX3_imageSize_7 : decode cX3_imageSize 7 = .ok (.iconst 4, 1) := dk_7 (dk_at dksX3_imageSize_0 7 rfl rfl)
theorem dX3_imageSize_8 : decode cX3_imageSize 8 = .ok (.if_icmp .ne 7, 3) := dk_160 0 7 (dk_at dksX3_imageSize_0 8 rfl rfl)
theorem dX3_imageSize_11 : decode cX3_imageSize 11 = .ok (.iconst 1, 1) := dk_4 (dk_at dksX3_imageSize_0 11 rfl rfl)
theorem dX3_imageSize_12 : decode cX3_imageSize 12 = .ok (.goto 17, 3) := dk_167 0 17 (dk_at dksX3_imageSize_0 12 rfl rfl)
theorem dX3_imageSize_15 : decode cX3_imageSize 15 = .ok (.iload_n 2, 1) := dk_28 (dk_at dksX3_imageSize_0 15 rfl rfl)
theorem dX3_imageSize_16 : decode cX3_imageSize 16 = .ok (.iconst 5, 1) := dk_8 (dk_at dksX3_imageSize_0 16 rfl rfl)
theorem dX3_imageSize_17 : decode cX3_imageSize 17 = .ok (.if_icmp .ne 7, 3) := dk_160 0 7 (dk_at dksX3_imageSize_0 17 rfl rfl)
theorem dX3_imageSize_20 : decode cX3_imageSize 20 = .ok (.iconst 2, 1) := dk_5 (dk_at dksX3_imageSize_0 20 rfl rfl)
theorem dX3_imageSize_21 : decode cX3_imageSize 21 = .ok (.goto 8, 3) := dk_167 0 8 (dk_at dksX3_imageSize_0 21 rfl rfl)
theorem dX3_imageSize_24 : decode cX3_imageSize 24 = .ok (.aload_n 0, 1) := dk_42 (dk_at dksX3_imageSize_1 0 rfl rfl)
theorem dX3_imageSize_25 : decode cX3_imageSize 25 = .ok (.iload_n 1, 1) := dk_27 (dk_at dksX3_imageSize_1 1 rfl rfl)
theorem dX3_imageSize_26 : decode cX3_imageSize 26 = .ok (.invokestatic 93, 3) := dk_184 0 93 (dk_at dksX3_imageSize_1 2 rfl rfl)
theorem dX3_imageSize_29 : decode cX3_imageSize 29 = .ok (.ireturn, 1) := dk_172 (dk_at dksX3_imageSize_1 5 rfl rfl)
abbrev cX3_imageAt : ByteArray := prog_16_method_18_code
def yX3_imageAt : MethodName := ⟨RX3, "imageAt", "([III)I"⟩
def dkwX3_imageAt_2 : List UInt8 := [167, 0, 9, 42, 21, 4, 28, 96, 46, 172]
abbrev dktX3_imageAt_2 : List UInt8 := dkwX3_imageAt_2 ++ []
def dkwX3_imageAt_1 : List UInt8 := [167, 0, 31, 29, 5, 160, 0, 20, 42, 21, 4, 42, 27, 184, 0, 93, 96, 4, 100, 28, 100, 46]
abbrev dktX3_imageAt_1 : List UInt8 := dkwX3_imageAt_1 ++ dktX3_imageAt_2
def dkwX3_imageAt_0 : List UInt8 := [42, 27, 184, 0, 89, 62, 16, 12, 16, 8, 27, 104, 96, 7, 96, 54, 4, 29, 7, 161, 0, 7, 27]
abbrev dktX3_imageAt_0 : List UInt8 := dkwX3_imageAt_0 ++ dktX3_imageAt_1
theorem dksX3_imageAt_0 : cX3_imageAt.data.toList.drop 0 = dktX3_imageAt_0 := by decide +kernel
theorem dksX3_imageAt_1 : cX3_imageAt.data.toList.drop 23 = dktX3_imageAt_1 := dk_seg dksX3_imageAt_0 23 rfl rfl
theorem dksX3_imageAt_2 : cX3_imageAt.data.toList.drop 45 = dktX3_imageAt_2 := dk_seg dksX3_imageAt_1 22 rfl rfl
theorem dX3_imageAt_0 : decode cX3_imageAt 0 = .ok (.aload_n 0, 1) := dk_42 (dk_at dksX3_imageAt_0 0 rfl rfl)
theorem dX3_imageAt_1 : decode cX3_imageAt 1 = .ok (.iload_n 1, 1) := dk_27 (dk_at dksX3_imageAt_0 1 rfl rfl)
theorem dX3_imageAt_2 : decode cX3_imageAt 2 = .ok (.invokestatic 89, 3) := dk_184 0 89 (dk_at dksX3_imageAt_0 2 rfl rfl)
theorem dX3_imageAt_5 : decode cX3_imageAt 5 = .ok (.istore_n 3, 1) := dk_62 (dk_at dksX3_imageAt_0 5 rfl rfl)
theorem dX3_imageAt_6 : decode cX3_imageAt 6 = .ok (.bipush 12, 2) := dk_16 12 (dk_at dksX3_imageAt_0 6 rfl rfl)
theorem dX3_imageAt_8 : decode cX3_imageAt 8 = .ok (.bipush 8, 2) := dk_16 8 (dk_at dksX3_imageAt_0 8 rfl rfl)
theorem dX3_imageAt_10 : decode cX3_imageAt 10 = .ok (.iload_n 1, 1) := dk_27 (dk_at dksX3_imageAt_0 10 rfl rfl)
theorem dX3_imageAt_11 : decode cX3_imageAt 11 = .ok (.imul, 1) := dk_104 (dk_at dksX3_imageAt_0 11 rfl rfl)
theorem dX3_imageAt_12 : decode cX3_imageAt 12 = .ok (.iadd, 1) := dk_96 (dk_at dksX3_imageAt_0 12 rfl rfl)
theorem dX3_imageAt_13 : decode cX3_imageAt 13 = .ok (.iconst 4, 1) := dk_7 (dk_at dksX3_imageAt_0 13 rfl rfl)
theorem dX3_imageAt_14 : decode cX3_imageAt 14 = .ok (.iadd, 1) := dk_96 (dk_at dksX3_imageAt_0 14 rfl rfl)
theorem dX3_imageAt_15 : decode cX3_imageAt 15 = .ok (.istore 4, 2) := dk_54 4 (dk_at dksX3_imageAt_0 15 rfl rfl)
theorem dX3_imageAt_17 : decode cX3_imageAt 17 = .ok (.iload_n 3, 1) := dk_29 (dk_at dksX3_imageAt_0 17 rfl rfl)
theorem dX3_imageAt_18 : decode cX3_imageAt 18 = .ok (.iconst 4, 1) := dk_7 (dk_at dksX3_imageAt_0 18 rfl rfl)
theorem dX3_imageAt_19 : decode cX3_imageAt 19 = .ok (.if_icmp .lt 7, 3) := dk_161 0 7 (dk_at dksX3_imageAt_0 19 rfl rfl)
theorem dX3_imageAt_22 : decode cX3_imageAt 22 = .ok (.iload_n 1, 1) := dk_27 (dk_at dksX3_imageAt_0 22 rfl rfl)
theorem dX3_imageAt_23 : decode cX3_imageAt 23 = .ok (.goto 31, 3) := dk_167 0 31 (dk_at dksX3_imageAt_1 0 rfl rfl)
theorem dX3_imageAt_26 : decode cX3_imageAt 26 = .ok (.iload_n 3, 1) := dk_29 (dk_at dksX3_imageAt_1 3 rfl rfl)
theorem dX3_imageAt_27 : decode cX3_imageAt 27 = .ok (.iconst 2, 1) := dk_5 (dk_at dksX3_imageAt_1 4 rfl rfl)
theorem dX3_imageAt_28 : decode cX3_imageAt 28 = .ok (.if_icmp .ne 20, 3) := dk_160 0 20 (dk_at dksX3_imageAt_1 5 rfl rfl)
theorem dX3_imageAt_31 : decode cX3_imageAt 31 = .ok (.aload_n 0, 1) := dk_42 (dk_at dksX3_imageAt_1 8 rfl rfl)
theorem dX3_imageAt_32 : decode cX3_imageAt 32 = .ok (.iload 4, 2) := dk_21 4 (dk_at dksX3_imageAt_1 9 rfl rfl)
theorem dX3_imageAt_34 : decode cX3_imageAt 34 = .ok (.aload_n 0, 1) := dk_42 (dk_at dksX3_imageAt_1 11 rfl rfl)
theorem dX3_imageAt_35 : decode cX3_imageAt 35 = .ok (.iload_n 1, 1) := dk_27 (dk_at dksX3_imageAt_1 12 rfl rfl)
theorem dX3_imageAt_36 : decode cX3_imageAt 36 = .ok (.invokestatic 93, 3) := dk_184 0 93 (dk_at dksX3_imageAt_1 13 rfl rfl)
theorem dX3_imageAt_39 : decode cX3_imageAt 39 = .ok (.iadd, 1) := dk_96 (dk_at dksX3_imageAt_1 16 rfl rfl)
theorem dX3_imageAt_40 : decode cX3_imageAt 40 = .ok (.iconst 1, 1) := dk_4 (dk_at dksX3_imageAt_1 17 rfl rfl)
theorem dX3_imageAt_41 : decode cX3_imageAt 41 = .ok (.isub, 1) := dk_100 (dk_at dksX3_imageAt_1 18 rfl rfl)
theorem dX3_imageAt_42 : decode cX3_imageAt 42 = .ok (.iload_n 2, 1) := dk_28 (dk_at dksX3_imageAt_1 19 rfl rfl)
theorem dX3_imageAt_43 : decode cX3_imageAt 43 = .ok (.isub, 1) := dk_100 (dk_at dksX3_imageAt_1 20 rfl rfl)
theorem dX3_imageAt_44 : decode cX3_imageAt 44 = .ok (.iaload, 1) := dk_46 (dk_at dksX3_imageAt_1 21 rfl rfl)
theorem dX3_imageAt_45 : decode cX3_imageAt 45 = .ok (.goto 9, 3) := dk_167 0 9 (dk_at dksX3_imageAt_2 0 rfl rfl)
theorem dX3_imageAt_48 : decode cX3_imageAt 48 = .ok (.aload_n 0, 1) := dk_42 (dk_at dksX3_imageAt_2 3 rfl rfl)
theorem dX3_imageAt_49 : decode cX3_imageAt 49 = .ok (.iload 4, 2) := dk_21 4 (dk_at dksX3_imageAt_2 4 rfl rfl)
theorem dX3_imageAt_51 : decode cX3_imageAt 51 = .ok (.iload_n 2, 1) := dk_28 (dk_at dksX3_imageAt_2 6 rfl rfl)
theorem dX3_imageAt_52 : decode cX3_imageAt 52 = .ok (.iadd, 1) := dk_96 (dk_at dksX3_imageAt_2 7 rfl rfl)
theorem dX3_imageAt_53 : decode cX3_imageAt 53 = .ok (.iaload, 1) := dk_46 (dk_at dksX3_imageAt_2 8 rfl rfl)
theorem dX3_imageAt_54 : decode cX3_imageAt 54 = .ok (.ireturn, 1) := dk_172 (dk_at dksX3_imageAt_2 9 rfl rfl)
abbrev cX3_sort : ByteArray := prog_16_method_43_code
def yX3_sort : MethodName := ⟨RX3, "sort", "(II)I"⟩
def dkwX3_sort_7 : List UInt8 := [184, 0, 93, 172, 42, 180, 0, 19, 27, 184, 0, 100, 172, 18, 80, 172]
abbrev dktX3_sort_7 : List UInt8 := dkwX3_sort_7 ++ []
def dkwX3_sort_6 : List UInt8 := [42, 180, 0, 19, 16, 12, 16, 8, 27, 104, 96, 4, 96, 28, 96, 46, 172, 42, 180, 0, 19, 27]
abbrev dktX3_sort_6 : List UInt8 := dkwX3_sort_6 ++ dktX3_sort_7
def dkwX3_sort_5 : List UInt8 := [170, 0, 0, 0, 0, 0, 66, 0, 0, 0, 0, 0, 0, 0, 3, 0, 0, 0, 31, 0, 0, 0, 31, 0, 0, 0, 48, 0, 0, 0, 57]
abbrev dktX3_sort_5 : List UInt8 := dkwX3_sort_5 ++ dktX3_sort_6
def dkwX3_sort_4 : List UInt8 := [42, 180, 0, 19, 27, 28, 16, 20, 100, 184, 0, 103, 167, 0, 5, 18, 124, 172, 28]
abbrev dktX3_sort_4 : List UInt8 := dkwX3_sort_4 ++ dktX3_sort_5
def dkwX3_sort_3 : List UInt8 := [20, 0, 214, 184, 0, 70, 153, 0, 36, 28, 16, 20, 100, 42, 180, 0, 19, 27, 184, 0, 100, 162, 0, 18]
abbrev dktX3_sort_3 : List UInt8 := dkwX3_sort_3 ++ dktX3_sort_4
def dkwX3_sort_2 : List UInt8 := [16, 8, 27, 104, 96, 7, 96, 28, 96, 16, 10, 100, 46, 167, 0, 5, 18, 124, 172, 28, 133, 20, 0, 212]
abbrev dktX3_sort_2 : List UInt8 := dkwX3_sort_2 ++ dktX3_sort_3
def dkwX3_sort_1 : List UInt8 := [153, 0, 43, 28, 16, 10, 100, 42, 180, 0, 19, 27, 184, 0, 93, 162, 0, 25, 42, 180, 0, 19, 16, 12]
abbrev dktX3_sort_1 : List UInt8 := dkwX3_sort_1 ++ dktX3_sort_2
def dkwX3_sort_0 : List UInt8 := [42, 27, 182, 0, 182, 154, 0, 6, 18, 80, 172, 28, 133, 20, 0, 208, 20, 0, 210, 184, 0, 70]
abbrev dktX3_sort_0 : List UInt8 := dkwX3_sort_0 ++ dktX3_sort_1
theorem dksX3_sort_0 : cX3_sort.data.toList.drop 0 = dktX3_sort_0 := by decide +kernel
theorem dksX3_sort_1 : cX3_sort.data.toList.drop 22 = dktX3_sort_1 := dk_seg dksX3_sort_0 22 rfl rfl
theorem dksX3_sort_2 : cX3_sort.data.toList.drop 46 = dktX3_sort_2 := dk_seg dksX3_sort_1 24 rfl rfl
theorem dksX3_sort_3 : cX3_sort.data.toList.drop 70 = dktX3_sort_3 := dk_seg dksX3_sort_2 24 rfl rfl
theorem dksX3_sort_4 : cX3_sort.data.toList.drop 94 = dktX3_sort_4 := dk_seg dksX3_sort_3 24 rfl rfl
theorem dksX3_sort_5 : cX3_sort.data.toList.drop 113 = dktX3_sort_5 := dk_seg dksX3_sort_4 19 rfl rfl
theorem dksX3_sort_6 : cX3_sort.data.toList.drop 144 = dktX3_sort_6 := dk_seg dksX3_sort_5 31 rfl rfl
theorem dksX3_sort_7 : cX3_sort.data.toList.drop 166 = dktX3_sort_7 := dk_seg dksX3_sort_6 22 rfl rfl
theorem dX3_sort_0 : decode cX3_sort 0 = .ok (.aload_n 0, 1) := dk_42 (dk_at dksX3_sort_0 0 rfl rfl)
theorem dX3_sort_1 : decode cX3_sort 1 = .ok (.iload_n 1, 1) := dk_27 (dk_at dksX3_sort_0 1 rfl rfl)
theorem dX3_sort_2 : decode cX3_sort 2 = .ok (.invokevirtual 182, 3) := dk_182 0 182 (dk_at dksX3_sort_0 2 rfl rfl)
theorem dX3_sort_5 : decode cX3_sort 5 = .ok (.ifCond .ne 6, 3) := dk_154 0 6 (dk_at dksX3_sort_0 5 rfl rfl)
theorem dX3_sort_8 : decode cX3_sort 8 = .ok (.ldc 80, 2) := dk_18 80 (dk_at dksX3_sort_0 8 rfl rfl)
theorem dX3_sort_10 : decode cX3_sort 10 = .ok (.ireturn, 1) := dk_172 (dk_at dksX3_sort_0 10 rfl rfl)
theorem dX3_sort_11 : decode cX3_sort 11 = .ok (.iload_n 2, 1) := dk_28 (dk_at dksX3_sort_0 11 rfl rfl)
theorem dX3_sort_12 : decode cX3_sort 12 = .ok (.i2l, 1) := dk_133 (dk_at dksX3_sort_0 12 rfl rfl)
theorem dX3_sort_13 : decode cX3_sort 13 = .ok (.ldc2_w 208, 3) := dk_20 0 208 (dk_at dksX3_sort_0 13 rfl rfl)
theorem dX3_sort_16 : decode cX3_sort 16 = .ok (.ldc2_w 210, 3) := dk_20 0 210 (dk_at dksX3_sort_0 16 rfl rfl)
theorem dX3_sort_19 : decode cX3_sort 19 = .ok (.invokestatic 70, 3) := dk_184 0 70 (dk_at dksX3_sort_0 19 rfl rfl)
theorem dX3_sort_22 : decode cX3_sort 22 = .ok (.ifCond .eq 43, 3) := dk_153 0 43 (dk_at dksX3_sort_1 0 rfl rfl)
theorem dX3_sort_25 : decode cX3_sort 25 = .ok (.iload_n 2, 1) := dk_28 (dk_at dksX3_sort_1 3 rfl rfl)
theorem dX3_sort_26 : decode cX3_sort 26 = .ok (.bipush 10, 2) := dk_16 10 (dk_at dksX3_sort_1 4 rfl rfl)
theorem dX3_sort_28 : decode cX3_sort 28 = .ok (.isub, 1) := dk_100 (dk_at dksX3_sort_1 6 rfl rfl)
theorem dX3_sort_29 : decode cX3_sort 29 = .ok (.aload_n 0, 1) := dk_42 (dk_at dksX3_sort_1 7 rfl rfl)
theorem dX3_sort_30 : decode cX3_sort 30 = .ok (.getfield 19, 3) := dk_180 0 19 (dk_at dksX3_sort_1 8 rfl rfl)
theorem dX3_sort_33 : decode cX3_sort 33 = .ok (.iload_n 1, 1) := dk_27 (dk_at dksX3_sort_1 11 rfl rfl)
theorem dX3_sort_34 : decode cX3_sort 34 = .ok (.invokestatic 93, 3) := dk_184 0 93 (dk_at dksX3_sort_1 12 rfl rfl)
theorem dX3_sort_37 : decode cX3_sort 37 = .ok (.if_icmp .ge 25, 3) := dk_162 0 25 (dk_at dksX3_sort_1 15 rfl rfl)
theorem dX3_sort_40 : decode cX3_sort 40 = .ok (.aload_n 0, 1) := dk_42 (dk_at dksX3_sort_1 18 rfl rfl)
theorem dX3_sort_41 : decode cX3_sort 41 = .ok (.getfield 19, 3) := dk_180 0 19 (dk_at dksX3_sort_1 19 rfl rfl)
theorem dX3_sort_44 : decode cX3_sort 44 = .ok (.bipush 12, 2) := dk_16 12 (dk_at dksX3_sort_1 22 rfl rfl)
theorem dX3_sort_46 : decode cX3_sort 46 = .ok (.bipush 8, 2) := dk_16 8 (dk_at dksX3_sort_2 0 rfl rfl)
theorem dX3_sort_48 : decode cX3_sort 48 = .ok (.iload_n 1, 1) := dk_27 (dk_at dksX3_sort_2 2 rfl rfl)
theorem dX3_sort_49 : decode cX3_sort 49 = .ok (.imul, 1) := dk_104 (dk_at dksX3_sort_2 3 rfl rfl)
theorem dX3_sort_50 : decode cX3_sort 50 = .ok (.iadd, 1) := dk_96 (dk_at dksX3_sort_2 4 rfl rfl)
theorem dX3_sort_51 : decode cX3_sort 51 = .ok (.iconst 4, 1) := dk_7 (dk_at dksX3_sort_2 5 rfl rfl)
theorem dX3_sort_52 : decode cX3_sort 52 = .ok (.iadd, 1) := dk_96 (dk_at dksX3_sort_2 6 rfl rfl)
theorem dX3_sort_53 : decode cX3_sort 53 = .ok (.iload_n 2, 1) := dk_28 (dk_at dksX3_sort_2 7 rfl rfl)
theorem dX3_sort_54 : decode cX3_sort 54 = .ok (.iadd, 1) := dk_96 (dk_at dksX3_sort_2 8 rfl rfl)
theorem dX3_sort_55 : decode cX3_sort 55 = .ok (.bipush 10, 2) := dk_16 10 (dk_at dksX3_sort_2 9 rfl rfl)
theorem dX3_sort_57 : decode cX3_sort 57 = .ok (.isub, 1) := dk_100 (dk_at dksX3_sort_2 11 rfl rfl)
theorem dX3_sort_58 : decode cX3_sort 58 = .ok (.iaload, 1) := dk_46 (dk_at dksX3_sort_2 12 rfl rfl)
theorem dX3_sort_59 : decode cX3_sort 59 = .ok (.goto 5, 3) := dk_167 0 5 (dk_at dksX3_sort_2 13 rfl rfl)
theorem dX3_sort_62 : decode cX3_sort 62 = .ok (.ldc 124, 2) := dk_18 124 (dk_at dksX3_sort_2 16 rfl rfl)
theorem dX3_sort_64 : decode cX3_sort 64 = .ok (.ireturn, 1) := dk_172 (dk_at dksX3_sort_2 18 rfl rfl)
theorem dX3_sort_65 : decode cX3_sort 65 = .ok (.iload_n 2, 1) := dk_28 (dk_at dksX3_sort_2 19 rfl rfl)
theorem dX3_sort_66 : decode cX3_sort 66 = .ok (.i2l, 1) := dk_133 (dk_at dksX3_sort_2 20 rfl rfl)
theorem dX3_sort_67 : decode cX3_sort 67 = .ok (.ldc2_w 212, 3) := dk_20 0 212 (dk_at dksX3_sort_2 21 rfl rfl)
theorem dX3_sort_70 : decode cX3_sort 70 = .ok (.ldc2_w 214, 3) := dk_20 0 214 (dk_at dksX3_sort_3 0 rfl rfl)
theorem dX3_sort_73 : decode cX3_sort 73 = .ok (.invokestatic 70, 3) := dk_184 0 70 (dk_at dksX3_sort_3 3 rfl rfl)
theorem dX3_sort_76 : decode cX3_sort 76 = .ok (.ifCond .eq 36, 3) := dk_153 0 36 (dk_at dksX3_sort_3 6 rfl rfl)
theorem dX3_sort_79 : decode cX3_sort 79 = .ok (.iload_n 2, 1) := dk_28 (dk_at dksX3_sort_3 9 rfl rfl)
theorem dX3_sort_80 : decode cX3_sort 80 = .ok (.bipush 20, 2) := dk_16 20 (dk_at dksX3_sort_3 10 rfl rfl)
theorem dX3_sort_82 : decode cX3_sort 82 = .ok (.isub, 1) := dk_100 (dk_at dksX3_sort_3 12 rfl rfl)
theorem dX3_sort_83 : decode cX3_sort 83 = .ok (.aload_n 0, 1) := dk_42 (dk_at dksX3_sort_3 13 rfl rfl)
theorem dX3_sort_84 : decode cX3_sort 84 = .ok (.getfield 19, 3) := dk_180 0 19 (dk_at dksX3_sort_3 14 rfl rfl)
theorem dX3_sort_87 : decode cX3_sort 87 = .ok (.iload_n 1, 1) := dk_27 (dk_at dksX3_sort_3 17 rfl rfl)
theorem dX3_sort_88 : decode cX3_sort 88 = .ok (.invokestatic 100, 3) := dk_184 0 100 (dk_at dksX3_sort_3 18 rfl rfl)
theorem dX3_sort_91 : decode cX3_sort 91 = .ok (.if_icmp .ge 18, 3) := dk_162 0 18 (dk_at dksX3_sort_3 21 rfl rfl)
theorem dX3_sort_94 : decode cX3_sort 94 = .ok (.aload_n 0, 1) := dk_42 (dk_at dksX3_sort_4 0 rfl rfl)
theorem dX3_sort_95 : decode cX3_sort 95 = .ok (.getfield 19, 3) := dk_180 0 19 (dk_at dksX3_sort_4 1 rfl rfl)
theorem dX3_sort_98 : decode cX3_sort 98 = .ok (.iload_n 1, 1) := dk_27 (dk_at dksX3_sort_4 4 rfl rfl)
theorem dX3_sort_99 : decode cX3_sort 99 = .ok (.iload_n 2, 1) := dk_28 (dk_at dksX3_sort_4 5 rfl rfl)
theorem dX3_sort_100 : decode cX3_sort 100 = .ok (.bipush 20, 2) := dk_16 20 (dk_at dksX3_sort_4 6 rfl rfl)
theorem dX3_sort_102 : decode cX3_sort 102 = .ok (.isub, 1) := dk_100 (dk_at dksX3_sort_4 8 rfl rfl)
theorem dX3_sort_103 : decode cX3_sort 103 = .ok (.invokestatic 103, 3) := dk_184 0 103 (dk_at dksX3_sort_4 9 rfl rfl)
theorem dX3_sort_106 : decode cX3_sort 106 = .ok (.goto 5, 3) := dk_167 0 5 (dk_at dksX3_sort_4 12 rfl rfl)
theorem dX3_sort_109 : decode cX3_sort 109 = .ok (.ldc 124, 2) := dk_18 124 (dk_at dksX3_sort_4 15 rfl rfl)
theorem dX3_sort_111 : decode cX3_sort 111 = .ok (.ireturn, 1) := dk_172 (dk_at dksX3_sort_4 17 rfl rfl)
theorem dX3_sort_112 : decode cX3_sort 112 = .ok (.iload_n 2, 1) := dk_28 (dk_at dksX3_sort_4 18 rfl rfl)
theorem dX3_sort_113 : decode cX3_sort 113 = .ok (.tableswitch 66 0 3 #[31, 31, 48, 57], 31) := by decide +kernel
theorem dX3_sort_144 : decode cX3_sort 144 = .ok (.aload_n 0, 1) := dk_42 (dk_at dksX3_sort_6 0 rfl rfl)
theorem dX3_sort_145 : decode cX3_sort 145 = .ok (.getfield 19, 3) := dk_180 0 19 (dk_at dksX3_sort_6 1 rfl rfl)
theorem dX3_sort_148 : decode cX3_sort 148 = .ok (.bipush 12, 2) := dk_16 12 (dk_at dksX3_sort_6 4 rfl rfl)
theorem dX3_sort_150 : decode cX3_sort 150 = .ok (.bipush 8, 2) := dk_16 8 (dk_at dksX3_sort_6 6 rfl rfl)
theorem dX3_sort_152 : decode cX3_sort 152 = .ok (.iload_n 1, 1) := dk_27 (dk_at dksX3_sort_6 8 rfl rfl)
theorem dX3_sort_153 : decode cX3_sort 153 = .ok (.imul, 1) := dk_104 (dk_at dksX3_sort_6 9 rfl rfl)
theorem dX3_sort_154 : decode cX3_sort 154 = .ok (.iadd, 1) := dk_96 (dk_at dksX3_sort_6 10 rfl rfl)
theorem dX3_sort_155 : decode cX3_sort 155 = .ok (.iconst 1, 1) := dk_4 (dk_at dksX3_sort_6 11 rfl rfl)
theorem dX3_sort_156 : decode cX3_sort 156 = .ok (.iadd, 1) := dk_96 (dk_at dksX3_sort_6 12 rfl rfl)
theorem dX3_sort_157 : decode cX3_sort 157 = .ok (.iload_n 2, 1) := dk_28 (dk_at dksX3_sort_6 13 rfl rfl)
theorem dX3_sort_158 : decode cX3_sort 158 = .ok (.iadd, 1) := dk_96 (dk_at dksX3_sort_6 14 rfl rfl)
theorem dX3_sort_159 : decode cX3_sort 159 = .ok (.iaload, 1) := dk_46 (dk_at dksX3_sort_6 15 rfl rfl)
theorem dX3_sort_160 : decode cX3_sort 160 = .ok (.ireturn, 1) := dk_172 (dk_at dksX3_sort_6 16 rfl rfl)
theorem dX3_sort_161 : decode cX3_sort 161 = .ok (.aload_n 0, 1) := dk_42 (dk_at dksX3_sort_6 17 rfl rfl)
theorem dX3_sort_162 : decode cX3_sort 162 = .ok (.getfield 19, 3) := dk_180 0 19 (dk_at dksX3_sort_6 18 rfl rfl)
theorem dX3_sort_165 : decode cX3_sort 165 = .ok (.iload_n 1, 1) := dk_27 (dk_at dksX3_sort_6 21 rfl rfl)
theorem dX3_sort_166 : decode cX3_sort 166 = .ok (.invokestatic 93, 3) := dk_184 0 93 (dk_at dksX3_sort_7 0 rfl rfl)
theorem dX3_sort_169 : decode cX3_sort 169 = .ok (.ireturn, 1) := dk_172 (dk_at dksX3_sort_7 3 rfl rfl)
theorem dX3_sort_170 : decode cX3_sort 170 = .ok (.aload_n 0, 1) := dk_42 (dk_at dksX3_sort_7 4 rfl rfl)
theorem dX3_sort_171 : decode cX3_sort 171 = .ok (.getfield 19, 3) := dk_180 0 19 (dk_at dksX3_sort_7 5 rfl rfl)
theorem dX3_sort_174 : decode cX3_sort 174 = .ok (.iload_n 1, 1) := dk_27 (dk_at dksX3_sort_7 8 rfl rfl)
theorem dX3_sort_175 : decode cX3_sort 175 = .ok (.invokestatic 100, 3) := dk_184 0 100 (dk_at dksX3_sort_7 9 rfl rfl)
theorem dX3_sort_178 : decode cX3_sort 178 = .ok (.ireturn, 1) := dk_172 (dk_at dksX3_sort_7 12 rfl rfl)
theorem dX3_sort_179 : decode cX3_sort 179 = .ok (.ldc 80, 2) := dk_18 80 (dk_at dksX3_sort_7 13 rfl rfl)
theorem dX3_sort_181 : decode cX3_sort 181 = .ok (.ireturn, 1) := dk_172 (dk_at dksX3_sort_7 15 rfl rfl)
abbrev cX3_letter : ByteArray := prog_16_method_44_code
def yX3_letter : MethodName := ⟨RX3, "letter", "(I)I"⟩
def dkwX3_letter_1 : List UInt8 := [6, 46, 162, 0, 14, 42, 180, 0, 19, 7, 27, 96, 46, 167, 0, 5, 18, 124, 172]
abbrev dktX3_letter_1 : List UInt8 := dkwX3_letter_1 ++ []
def dkwX3_letter_0 : List UInt8 := [42, 182, 0, 197, 154, 0, 6, 18, 178, 172, 27, 156, 0, 8, 18, 80, 167, 0, 26, 27, 42, 180, 0, 19]
abbrev dktX3_letter_0 : List UInt8 := dkwX3_letter_0 ++ dktX3_letter_1
theorem dksX3_letter_0 : cX3_letter.data.toList.drop 0 = dktX3_letter_0 := by decide +kernel
theorem dksX3_letter_1 : cX3_letter.data.toList.drop 24 = dktX3_letter_1 := dk_seg dksX3_letter_0 24 rfl rfl
theorem dX3_letter_0 : decode cX3_letter 0 = .ok (.aload_n 0, 1) := dk_42 (dk_at dksX3_letter_0 0 rfl rfl)
theorem dX3_letter_1 : decode cX3_letter 1 = .ok (.invokevirtual 197, 3) := dk_182 0 197 (dk_at dksX3_letter_0 1 rfl rfl)
theorem dX3_letter_4 : decode cX3_letter 4 = .ok (.ifCond .ne 6, 3) := dk_154 0 6 (dk_at dksX3_letter_0 4 rfl rfl)
theorem dX3_letter_7 : decode cX3_letter 7 = .ok (.ldc 178, 2) := dk_18 178 (dk_at dksX3_letter_0 7 rfl rfl)
theorem dX3_letter_9 : decode cX3_letter 9 = .ok (.ireturn, 1) := dk_172 (dk_at dksX3_letter_0 9 rfl rfl)
theorem dX3_letter_10 : decode cX3_letter 10 = .ok (.iload_n 1, 1) := dk_27 (dk_at dksX3_letter_0 10 rfl rfl)
theorem dX3_letter_11 : decode cX3_letter 11 = .ok (.ifCond .ge 8, 3) := dk_156 0 8 (dk_at dksX3_letter_0 11 rfl rfl)
theorem dX3_letter_14 : decode cX3_letter 14 = .ok (.ldc 80, 2) := dk_18 80 (dk_at dksX3_letter_0 14 rfl rfl)
theorem dX3_letter_16 : decode cX3_letter 16 = .ok (.goto 26, 3) := dk_167 0 26 (dk_at dksX3_letter_0 16 rfl rfl)
theorem dX3_letter_19 : decode cX3_letter 19 = .ok (.iload_n 1, 1) := dk_27 (dk_at dksX3_letter_0 19 rfl rfl)
theorem dX3_letter_20 : decode cX3_letter 20 = .ok (.aload_n 0, 1) := dk_42 (dk_at dksX3_letter_0 20 rfl rfl)
theorem dX3_letter_21 : decode cX3_letter 21 = .ok (.getfield 19, 3) := dk_180 0 19 (dk_at dksX3_letter_0 21 rfl rfl)
theorem dX3_letter_24 : decode cX3_letter 24 = .ok (.iconst 3, 1) := dk_6 (dk_at dksX3_letter_1 0 rfl rfl)
theorem dX3_letter_25 : decode cX3_letter 25 = .ok (.iaload, 1) := dk_46 (dk_at dksX3_letter_1 1 rfl rfl)
theorem dX3_letter_26 : decode cX3_letter 26 = .ok (.if_icmp .ge 14, 3) := dk_162 0 14 (dk_at dksX3_letter_1 2 rfl rfl)
theorem dX3_letter_29 : decode cX3_letter 29 = .ok (.aload_n 0, 1) := dk_42 (dk_at dksX3_letter_1 5 rfl rfl)
theorem dX3_letter_30 : decode cX3_letter 30 = .ok (.getfield 19, 3) := dk_180 0 19 (dk_at dksX3_letter_1 6 rfl rfl)
theorem dX3_letter_33 : decode cX3_letter 33 = .ok (.iconst 4, 1) := dk_7 (dk_at dksX3_letter_1 9 rfl rfl)
theorem dX3_letter_34 : decode cX3_letter 34 = .ok (.iload_n 1, 1) := dk_27 (dk_at dksX3_letter_1 10 rfl rfl)
theorem dX3_letter_35 : decode cX3_letter 35 = .ok (.iadd, 1) := dk_96 (dk_at dksX3_letter_1 11 rfl rfl)
theorem dX3_letter_36 : decode cX3_letter 36 = .ok (.iaload, 1) := dk_46 (dk_at dksX3_letter_1 12 rfl rfl)
theorem dX3_letter_37 : decode cX3_letter 37 = .ok (.goto 5, 3) := dk_167 0 5 (dk_at dksX3_letter_1 13 rfl rfl)
theorem dX3_letter_40 : decode cX3_letter 40 = .ok (.ldc 124, 2) := dk_18 124 (dk_at dksX3_letter_1 16 rfl rfl)
theorem dX3_letter_42 : decode cX3_letter 42 = .ok (.ireturn, 1) := dk_172 (dk_at dksX3_letter_1 18 rfl rfl)
abbrev cX3_grown : ByteArray := prog_16_method_45_code
def yX3_grown : MethodName := ⟨RX3, "grown", "(II)I"⟩
def dkwX3_grown_2 : List UInt8 := [160, 0, 7, 29, 167, 0, 19, 28, 29, 162, 0, 12, 42, 180, 0, 31, 28, 46, 167, 0, 5, 18, 124, 172]
abbrev dktX3_grown_2 : List UInt8 := dkwX3_grown_2 ++ []
def dkwX3_grown_1 : List UInt8 := [162, 0, 6, 18, 80, 172, 42, 42, 180, 0, 19, 27, 182, 0, 205, 62, 29, 18, 96, 159, 0, 8, 28, 2]
abbrev dktX3_grown_1 : List UInt8 := dkwX3_grown_1 ++ dktX3_grown_2
def dkwX3_grown_0 : List UInt8 := [42, 182, 0, 197, 154, 0, 6, 18, 178, 172, 27, 133, 9, 20, 0, 216, 184, 0, 70, 153, 0, 8, 28, 2]
abbrev dktX3_grown_0 : List UInt8 := dkwX3_grown_0 ++ dktX3_grown_1
theorem dksX3_grown_0 : cX3_grown.data.toList.drop 0 = dktX3_grown_0 := by decide +kernel
theorem dksX3_grown_1 : cX3_grown.data.toList.drop 24 = dktX3_grown_1 := dk_seg dksX3_grown_0 24 rfl rfl
theorem dksX3_grown_2 : cX3_grown.data.toList.drop 48 = dktX3_grown_2 := dk_seg dksX3_grown_1 24 rfl rfl
theorem dX3_grown_0 : decode cX3_grown 0 = .ok (.aload_n 0, 1) := dk_42 (dk_at dksX3_grown_0 0 rfl rfl)
theorem dX3_grown_1 : decode cX3_grown 1 = .ok (.invokevirtual 197, 3) := dk_182 0 197 (dk_at dksX3_grown_0 1 rfl rfl)
theorem dX3_grown_4 : decode cX3_grown 4 = .ok (.ifCond .ne 6, 3) := dk_154 0 6 (dk_at dksX3_grown_0 4 rfl rfl)
theorem dX3_grown_7 : decode cX3_grown 7 = .ok (.ldc 178, 2) := dk_18 178 (dk_at dksX3_grown_0 7 rfl rfl)
theorem dX3_grown_9 : decode cX3_grown 9 = .ok (.ireturn, 1) := dk_172 (dk_at dksX3_grown_0 9 rfl rfl)
theorem dX3_grown_10 : decode cX3_grown 10 = .ok (.iload_n 1, 1) := dk_27 (dk_at dksX3_grown_0 10 rfl rfl)
theorem dX3_grown_11 : decode cX3_grown 11 = .ok (.i2l, 1) := dk_133 (dk_at dksX3_grown_0 11 rfl rfl)
theorem dX3_grown_12 : decode cX3_grown 12 = .ok (.lconst 0, 1) := dk_9 (dk_at dksX3_grown_0 12 rfl rfl)
theorem dX3_grown_13 : decode cX3_grown 13 = .ok (.ldc2_w 216, 3) := dk_20 0 216 (dk_at dksX3_grown_0 13 rfl rfl)
theorem dX3_grown_16 : decode cX3_grown 16 = .ok (.invokestatic 70, 3) := dk_184 0 70 (dk_at dksX3_grown_0 16 rfl rfl)
theorem dX3_grown_19 : decode cX3_grown 19 = .ok (.ifCond .eq 8, 3) := dk_153 0 8 (dk_at dksX3_grown_0 19 rfl rfl)
theorem dX3_grown_22 : decode cX3_grown 22 = .ok (.iload_n 2, 1) := dk_28 (dk_at dksX3_grown_0 22 rfl rfl)
theorem dX3_grown_23 : decode cX3_grown 23 = .ok (.iconst (-1), 1) := dk_2 (dk_at dksX3_grown_0 23 rfl rfl)
theorem dX3_grown_24 : decode cX3_grown 24 = .ok (.if_icmp .ge 6, 3) := dk_162 0 6 (dk_at dksX3_grown_1 0 rfl rfl)
theorem dX3_grown_27 : decode cX3_grown 27 = .ok (.ldc 80, 2) := dk_18 80 (dk_at dksX3_grown_1 3 rfl rfl)
theorem dX3_grown_29 : decode cX3_grown 29 = .ok (.ireturn, 1) := dk_172 (dk_at dksX3_grown_1 5 rfl rfl)
theorem dX3_grown_30 : decode cX3_grown 30 = .ok (.aload_n 0, 1) := dk_42 (dk_at dksX3_grown_1 6 rfl rfl)
theorem dX3_grown_31 : decode cX3_grown 31 = .ok (.aload_n 0, 1) := dk_42 (dk_at dksX3_grown_1 7 rfl rfl)
theorem dX3_grown_32 : decode cX3_grown 32 = .ok (.getfield 19, 3) := dk_180 0 19 (dk_at dksX3_grown_1 8 rfl rfl)
theorem dX3_grown_35 : decode cX3_grown 35 = .ok (.iload_n 1, 1) := dk_27 (dk_at dksX3_grown_1 11 rfl rfl)
theorem dX3_grown_36 : decode cX3_grown 36 = .ok (.invokevirtual 205, 3) := dk_182 0 205 (dk_at dksX3_grown_1 12 rfl rfl)
theorem dX3_grown_39 : decode cX3_grown 39 = .ok (.istore_n 3, 1) := dk_62 (dk_at dksX3_grown_1 15 rfl rfl)
theorem dX3_grown_40 : decode cX3_grown 40 = .ok (.iload_n 3, 1) := dk_29 (dk_at dksX3_grown_1 16 rfl rfl)
theorem dX3_grown_41 : decode cX3_grown 41 = .ok (.ldc 96, 2) := dk_18 96 (dk_at dksX3_grown_1 17 rfl rfl)
theorem dX3_grown_43 : decode cX3_grown 43 = .ok (.if_icmp .eq 8, 3) := dk_159 0 8 (dk_at dksX3_grown_1 19 rfl rfl)
theorem dX3_grown_46 : decode cX3_grown 46 = .ok (.iload_n 2, 1) := dk_28 (dk_at dksX3_grown_1 22 rfl rfl)
theorem dX3_grown_47 : decode cX3_grown 47 = .ok (.iconst (-1), 1) := dk_2 (dk_at dksX3_grown_1 23 rfl rfl)
theorem dX3_grown_48 : decode cX3_grown 48 = .ok (.if_icmp .ne 7, 3) := dk_160 0 7 (dk_at dksX3_grown_2 0 rfl rfl)
theorem dX3_grown_51 : decode cX3_grown 51 = .ok (.iload_n 3, 1) := dk_29 (dk_at dksX3_grown_2 3 rfl rfl)
theorem dX3_grown_52 : decode cX3_grown 52 = .ok (.goto 19, 3) := dk_167 0 19 (dk_at dksX3_grown_2 4 rfl rfl)
theorem dX3_grown_55 : decode cX3_grown 55 = .ok (.iload_n 2, 1) := dk_28 (dk_at dksX3_grown_2 7 rfl rfl)
theorem dX3_grown_56 : decode cX3_grown 56 = .ok (.iload_n 3, 1) := dk_29 (dk_at dksX3_grown_2 8 rfl rfl)
theorem dX3_grown_57 : decode cX3_grown 57 = .ok (.if_icmp .ge 12, 3) := dk_162 0 12 (dk_at dksX3_grown_2 9 rfl rfl)
theorem dX3_grown_60 : decode cX3_grown 60 = .ok (.aload_n 0, 1) := dk_42 (dk_at dksX3_grown_2 12 rfl rfl)
theorem dX3_grown_61 : decode cX3_grown 61 = .ok (.getfield 31, 3) := dk_180 0 31 (dk_at dksX3_grown_2 13 rfl rfl)
theorem dX3_grown_64 : decode cX3_grown 64 = .ok (.iload_n 2, 1) := dk_28 (dk_at dksX3_grown_2 16 rfl rfl)
theorem dX3_grown_65 : decode cX3_grown 65 = .ok (.iaload, 1) := dk_46 (dk_at dksX3_grown_2 17 rfl rfl)
theorem dX3_grown_66 : decode cX3_grown 66 = .ok (.goto 5, 3) := dk_167 0 5 (dk_at dksX3_grown_2 18 rfl rfl)
theorem dX3_grown_69 : decode cX3_grown 69 = .ok (.ldc 124, 2) := dk_18 124 (dk_at dksX3_grown_2 21 rfl rfl)
theorem dX3_grown_71 : decode cX3_grown 71 = .ok (.ireturn, 1) := dk_172 (dk_at dksX3_grown_2 23 rfl rfl)
abbrev cX3_origin : ByteArray := prog_16_method_46_code
def yX3_origin : MethodName := ⟨RX3, "origin", "(III)I"⟩
def dkwX3_origin_7 : List UInt8 := [21, 5, 172]
abbrev dktX3_origin_7 : List UInt8 := dkwX3_origin_7 ++ []
def dkwX3_origin_6 : List UInt8 := [180, 0, 31, 21, 5, 46, 184, 0, 100, 100, 54, 7, 132, 5, 1, 167, 255, 208, 132, 6, 1, 167, 255, 175]
abbrev dktX3_origin_6 : List UInt8 := dkwX3_origin_6 ++ dktX3_origin_7
def dkwX3_origin_5 : List UInt8 := [180, 0, 19, 42, 180, 0, 31, 21, 5, 46, 184, 0, 100, 161, 0, 28, 21, 7, 42, 180, 0, 19, 42]
abbrev dktX3_origin_5 : List UInt8 := dkwX3_origin_5 ++ dktX3_origin_6
def dkwX3_origin_4 : List UInt8 := [182, 0, 205, 54, 4, 21, 5, 54, 7, 3, 54, 5, 21, 5, 21, 4, 162, 0, 47, 21, 7, 42]
abbrev dktX3_origin_4 : List UInt8 := dkwX3_origin_4 ++ dktX3_origin_5
def dkwX3_origin_3 : List UInt8 := [18, 80, 172, 28, 54, 5, 4, 54, 6, 21, 6, 29, 163, 0, 81, 42, 42, 180, 0, 19, 27, 21, 6, 100]
abbrev dktX3_origin_3 : List UInt8 := dkwX3_origin_3 ++ dktX3_origin_4
def dkwX3_origin_2 : List UInt8 := [9, 21, 4, 4, 100, 133, 184, 0, 70, 153, 0, 14, 29, 133, 9, 27, 133, 184, 0, 70, 154, 0, 6]
abbrev dktX3_origin_2 : List UInt8 := dkwX3_origin_2 ++ dktX3_origin_3
def dkwX3_origin_1 : List UInt8 := [172, 42, 42, 180, 0, 19, 27, 182, 0, 205, 54, 4, 21, 4, 18, 96, 160, 0, 6, 18, 96, 172, 28, 133]
abbrev dktX3_origin_1 : List UInt8 := dkwX3_origin_1 ++ dktX3_origin_2
def dkwX3_origin_0 : List UInt8 := [42, 182, 0, 197, 154, 0, 6, 18, 178, 172, 27, 133, 9, 20, 0, 216, 184, 0, 70, 154, 0, 6, 18, 80]
abbrev dktX3_origin_0 : List UInt8 := dkwX3_origin_0 ++ dktX3_origin_1
theorem dksX3_origin_0 : cX3_origin.data.toList.drop 0 = dktX3_origin_0 := by decide +kernel
theorem dksX3_origin_1 : cX3_origin.data.toList.drop 24 = dktX3_origin_1 := dk_seg dksX3_origin_0 24 rfl rfl
theorem dksX3_origin_2 : cX3_origin.data.toList.drop 48 = dktX3_origin_2 := dk_seg dksX3_origin_1 24 rfl rfl
theorem dksX3_origin_3 : cX3_origin.data.toList.drop 71 = dktX3_origin_3 := dk_seg dksX3_origin_2 23 rfl rfl
theorem dksX3_origin_4 : cX3_origin.data.toList.drop 95 = dktX3_origin_4 := dk_seg dksX3_origin_3 24 rfl rfl
theorem dksX3_origin_5 : cX3_origin.data.toList.drop 117 = dktX3_origin_5 := dk_seg dksX3_origin_4 22 rfl rfl
theorem dksX3_origin_6 : cX3_origin.data.toList.drop 140 = dktX3_origin_6 := dk_seg dksX3_origin_5 23 rfl rfl
theorem dksX3_origin_7 : cX3_origin.data.toList.drop 164 = dktX3_origin_7 := dk_seg dksX3_origin_6 24 rfl rfl
theorem dX3_origin_0 : decode cX3_origin 0 = .ok (.aload_n 0, 1) := dk_42 (dk_at dksX3_origin_0 0 rfl rfl)
theorem dX3_origin_1 : decode cX3_origin 1 = .ok (.invokevirtual 197, 3) := dk_182 0 197 (dk_at dksX3_origin_0 1 rfl rfl)
theorem dX3_origin_4 : decode cX3_origin 4 = .ok (.ifCond .ne 6, 3) := dk_154 0 6 (dk_at dksX3_origin_0 4 rfl rfl)
theorem dX3_origin_7 : decode cX3_origin 7 = .ok (.ldc 178, 2) := dk_18 178 (dk_at dksX3_origin_0 7 rfl rfl)
theorem dX3_origin_9 : decode cX3_origin 9 = .ok (.ireturn, 1) := dk_172 (dk_at dksX3_origin_0 9 rfl rfl)
theorem dX3_origin_10 : decode cX3_origin 10 = .ok (.iload_n 1, 1) := dk_27 (dk_at dksX3_origin_0 10 rfl rfl)
theorem dX3_origin_11 : decode cX3_origin 11 = .ok (.i2l, 1) := dk_133 (dk_at dksX3_origin_0 11 rfl rfl)
theorem dX3_origin_12 : decode cX3_origin 12 = .ok (.lconst 0, 1) := dk_9 (dk_at dksX3_origin_0 12 rfl rfl)
theorem dX3_origin_13 : decode cX3_origin 13 = .ok (.ldc2_w 216, 3) := dk_20 0 216 (dk_at dksX3_origin_0 13 rfl rfl)
theorem dX3_origin_16 : decode cX3_origin 16 = .ok (.invokestatic 70, 3) := dk_184 0 70 (dk_at dksX3_origin_0 16 rfl rfl)
theorem dX3_origin_19 : decode cX3_origin 19 = .ok (.ifCond .ne 6, 3) := dk_154 0 6 (dk_at dksX3_origin_0 19 rfl rfl)
theorem dX3_origin_22 : decode cX3_origin 22 = .ok (.ldc 80, 2) := dk_18 80 (dk_at dksX3_origin_0 22 rfl rfl)
theorem dX3_origin_24 : decode cX3_origin 24 = .ok (.ireturn, 1) := dk_172 (dk_at dksX3_origin_1 0 rfl rfl)
theorem dX3_origin_25 : decode cX3_origin 25 = .ok (.aload_n 0, 1) := dk_42 (dk_at dksX3_origin_1 1 rfl rfl)
theorem dX3_origin_26 : decode cX3_origin 26 = .ok (.aload_n 0, 1) := dk_42 (dk_at dksX3_origin_1 2 rfl rfl)
theorem dX3_origin_27 : decode cX3_origin 27 = .ok (.getfield 19, 3) := dk_180 0 19 (dk_at dksX3_origin_1 3 rfl rfl)
theorem dX3_origin_30 : decode cX3_origin 30 = .ok (.iload_n 1, 1) := dk_27 (dk_at dksX3_origin_1 6 rfl rfl)
theorem dX3_origin_31 : decode cX3_origin 31 = .ok (.invokevirtual 205, 3) := dk_182 0 205 (dk_at dksX3_origin_1 7 rfl rfl)
theorem dX3_origin_34 : decode cX3_origin 34 = .ok (.istore 4, 2) := dk_54 4 (dk_at dksX3_origin_1 10 rfl rfl)
theorem dX3_origin_36 : decode cX3_origin 36 = .ok (.iload 4, 2) := dk_21 4 (dk_at dksX3_origin_1 12 rfl rfl)
theorem dX3_origin_38 : decode cX3_origin 38 = .ok (.ldc 96, 2) := dk_18 96 (dk_at dksX3_origin_1 14 rfl rfl)
theorem dX3_origin_40 : decode cX3_origin 40 = .ok (.if_icmp .ne 6, 3) := dk_160 0 6 (dk_at dksX3_origin_1 16 rfl rfl)
theorem dX3_origin_43 : decode cX3_origin 43 = .ok (.ldc 96, 2) := dk_18 96 (dk_at dksX3_origin_1 19 rfl rfl)
theorem dX3_origin_45 : decode cX3_origin 45 = .ok (.ireturn, 1) := dk_172 (dk_at dksX3_origin_1 21 rfl rfl)
theorem dX3_origin_46 : decode cX3_origin 46 = .ok (.iload_n 2, 1) := dk_28 (dk_at dksX3_origin_1 22 rfl rfl)
theorem dX3_origin_47 : decode cX3_origin 47 = .ok (.i2l, 1) := dk_133 (dk_at dksX3_origin_1 23 rfl rfl)
theorem dX3_origin_48 : decode cX3_origin 48 = .ok (.lconst 0, 1) := dk_9 (dk_at dksX3_origin_2 0 rfl rfl)
theorem dX3_origin_49 : decode cX3_origin 49 = .ok (.iload 4, 2) := dk_21 4 (dk_at dksX3_origin_2 1 rfl rfl)
theorem dX3_origin_51 : decode cX3_origin 51 = .ok (.iconst 1, 1) := dk_4 (dk_at dksX3_origin_2 3 rfl rfl)
theorem dX3_origin_52 : decode cX3_origin 52 = .ok (.isub, 1) := dk_100 (dk_at dksX3_origin_2 4 rfl rfl)
theorem dX3_origin_53 : decode cX3_origin 53 = .ok (.i2l, 1) := dk_133 (dk_at dksX3_origin_2 5 rfl rfl)
theorem dX3_origin_54 : decode cX3_origin 54 = .ok (.invokestatic 70, 3) := dk_184 0 70 (dk_at dksX3_origin_2 6 rfl rfl)
theorem dX3_origin_57 : decode cX3_origin 57 = .ok (.ifCond .eq 14, 3) := dk_153 0 14 (dk_at dksX3_origin_2 9 rfl rfl)
theorem dX3_origin_60 : decode cX3_origin 60 = .ok (.iload_n 3, 1) := dk_29 (dk_at dksX3_origin_2 12 rfl rfl)
theorem dX3_origin_61 : decode cX3_origin 61 = .ok (.i2l, 1) := dk_133 (dk_at dksX3_origin_2 13 rfl rfl)
theorem dX3_origin_62 : decode cX3_origin 62 = .ok (.lconst 0, 1) := dk_9 (dk_at dksX3_origin_2 14 rfl rfl)
theorem dX3_origin_63 : decode cX3_origin 63 = .ok (.iload_n 1, 1) := dk_27 (dk_at dksX3_origin_2 15 rfl rfl)
theorem dX3_origin_64 : decode cX3_origin 64 = .ok (.i2l, 1) := dk_133 (dk_at dksX3_origin_2 16 rfl rfl)
theorem dX3_origin_65 : decode cX3_origin 65 = .ok (.invokestatic 70, 3) := dk_184 0 70 (dk_at dksX3_origin_2 17 rfl rfl)
theorem dX3_origin_68 : decode cX3_origin 68 = .ok (.ifCond .ne 6, 3) := dk_154 0 6 (dk_at dksX3_origin_2 20 rfl rfl)
theorem dX3_origin_71 : decode cX3_origin 71 = .ok (.ldc 80, 2) := dk_18 80 (dk_at dksX3_origin_3 0 rfl rfl)
theorem dX3_origin_73 : decode cX3_origin 73 = .ok (.ireturn, 1) := dk_172 (dk_at dksX3_origin_3 2 rfl rfl)
theorem dX3_origin_74 : decode cX3_origin 74 = .ok (.iload_n 2, 1) := dk_28 (dk_at dksX3_origin_3 3 rfl rfl)
theorem dX3_origin_75 : decode cX3_origin 75 = .ok (.istore 5, 2) := dk_54 5 (dk_at dksX3_origin_3 4 rfl rfl)
theorem dX3_origin_77 : decode cX3_origin 77 = .ok (.iconst 1, 1) := dk_4 (dk_at dksX3_origin_3 6 rfl rfl)
theorem dX3_origin_78 : decode cX3_origin 78 = .ok (.istore 6, 2) := dk_54 6 (dk_at dksX3_origin_3 7 rfl rfl)
theorem dX3_origin_80 : decode cX3_origin 80 = .ok (.iload 6, 2) := dk_21 6 (dk_at dksX3_origin_3 9 rfl rfl)
theorem dX3_origin_82 : decode cX3_origin 82 = .ok (.iload_n 3, 1) := dk_29 (dk_at dksX3_origin_3 11 rfl rfl)
theorem dX3_origin_83 : decode cX3_origin 83 = .ok (.if_icmp .gt 81, 3) := dk_163 0 81 (dk_at dksX3_origin_3 12 rfl rfl)
theorem dX3_origin_86 : decode cX3_origin 86 = .ok (.aload_n 0, 1) := dk_42 (dk_at dksX3_origin_3 15 rfl rfl)
theorem dX3_origin_87 : decode cX3_origin 87 = .ok (.aload_n 0, 1) := dk_42 (dk_at dksX3_origin_3 16 rfl rfl)
theorem dX3_origin_88 : decode cX3_origin 88 = .ok (.getfield 19, 3) := dk_180 0 19 (dk_at dksX3_origin_3 17 rfl rfl)
theorem dX3_origin_91 : decode cX3_origin 91 = .ok (.iload_n 1, 1) := dk_27 (dk_at dksX3_origin_3 20 rfl rfl)
theorem dX3_origin_92 : decode cX3_origin 92 = .ok (.iload 6, 2) := dk_21 6 (dk_at dksX3_origin_3 21 rfl rfl)
theorem dX3_origin_94 : decode cX3_origin 94 = .ok (.isub, 1) := dk_100 (dk_at dksX3_origin_3 23 rfl rfl)
theorem dX3_origin_95 : decode cX3_origin 95 = .ok (.invokevirtual 205, 3) := dk_182 0 205 (dk_at dksX3_origin_4 0 rfl rfl)
theorem dX3_origin_98 : decode cX3_origin 98 = .ok (.istore 4, 2) := dk_54 4 (dk_at dksX3_origin_4 3 rfl rfl)
theorem dX3_origin_100 : decode cX3_origin 100 = .ok (.iload 5, 2) := dk_21 5 (dk_at dksX3_origin_4 5 rfl rfl)
theorem dX3_origin_102 : decode cX3_origin 102 = .ok (.istore 7, 2) := dk_54 7 (dk_at dksX3_origin_4 7 rfl rfl)
theorem dX3_origin_104 : decode cX3_origin 104 = .ok (.iconst 0, 1) := dk_3 (dk_at dksX3_origin_4 9 rfl rfl)
theorem dX3_origin_105 : decode cX3_origin 105 = .ok (.istore 5, 2) := dk_54 5 (dk_at dksX3_origin_4 10 rfl rfl)
theorem dX3_origin_107 : decode cX3_origin 107 = .ok (.iload 5, 2) := dk_21 5 (dk_at dksX3_origin_4 12 rfl rfl)
theorem dX3_origin_109 : decode cX3_origin 109 = .ok (.iload 4, 2) := dk_21 4 (dk_at dksX3_origin_4 14 rfl rfl)
theorem dX3_origin_111 : decode cX3_origin 111 = .ok (.if_icmp .ge 47, 3) := dk_162 0 47 (dk_at dksX3_origin_4 16 rfl rfl)
theorem dX3_origin_114 : decode cX3_origin 114 = .ok (.iload 7, 2) := dk_21 7 (dk_at dksX3_origin_4 19 rfl rfl)
theorem dX3_origin_116 : decode cX3_origin 116 = .ok (.aload_n 0, 1) := dk_42 (dk_at dksX3_origin_4 21 rfl rfl)
theorem dX3_origin_117 : decode cX3_origin 117 = .ok (.getfield 19, 3) := dk_180 0 19 (dk_at dksX3_origin_5 0 rfl rfl)
theorem dX3_origin_120 : decode cX3_origin 120 = .ok (.aload_n 0, 1) := dk_42 (dk_at dksX3_origin_5 3 rfl rfl)
theorem dX3_origin_121 : decode cX3_origin 121 = .ok (.getfield 31, 3) := dk_180 0 31 (dk_at dksX3_origin_5 4 rfl rfl)
theorem dX3_origin_124 : decode cX3_origin 124 = .ok (.iload 5, 2) := dk_21 5 (dk_at dksX3_origin_5 7 rfl rfl)
theorem dX3_origin_126 : decode cX3_origin 126 = .ok (.iaload, 1) := dk_46 (dk_at dksX3_origin_5 9 rfl rfl)
theorem dX3_origin_127 : decode cX3_origin 127 = .ok (.invokestatic 100, 3) := dk_184 0 100 (dk_at dksX3_origin_5 10 rfl rfl)
theorem dX3_origin_130 : decode cX3_origin 130 = .ok (.if_icmp .lt 28, 3) := dk_161 0 28 (dk_at dksX3_origin_5 13 rfl rfl)
theorem dX3_origin_133 : decode cX3_origin 133 = .ok (.iload 7, 2) := dk_21 7 (dk_at dksX3_origin_5 16 rfl rfl)
theorem dX3_origin_135 : decode cX3_origin 135 = .ok (.aload_n 0, 1) := dk_42 (dk_at dksX3_origin_5 18 rfl rfl)
theorem dX3_origin_136 : decode cX3_origin 136 = .ok (.getfield 19, 3) := dk_180 0 19 (dk_at dksX3_origin_5 19 rfl rfl)
theorem dX3_origin_139 : decode cX3_origin 139 = .ok (.aload_n 0, 1) := dk_42 (dk_at dksX3_origin_5 22 rfl rfl)
theorem dX3_origin_140 : decode cX3_origin 140 = .ok (.getfield 31, 3) := dk_180 0 31 (dk_at dksX3_origin_6 0 rfl rfl)
theorem dX3_origin_143 : decode cX3_origin 143 = .ok (.iload 5, 2) := dk_21 5 (dk_at dksX3_origin_6 3 rfl rfl)
theorem dX3_origin_145 : decode cX3_origin 145 = .ok (.iaload, 1) := dk_46 (dk_at dksX3_origin_6 5 rfl rfl)
theorem dX3_origin_146 : decode cX3_origin 146 = .ok (.invokestatic 100, 3) := dk_184 0 100 (dk_at dksX3_origin_6 6 rfl rfl)
theorem dX3_origin_149 : decode cX3_origin 149 = .ok (.isub, 1) := dk_100 (dk_at dksX3_origin_6 9 rfl rfl)
theorem dX3_origin_150 : decode cX3_origin 150 = .ok (.istore 7, 2) := dk_54 7 (dk_at dksX3_origin_6 10 rfl rfl)
theorem dX3_origin_152 : decode cX3_origin 152 = .ok (.iinc 5 1, 3) := dk_132 5 1 (dk_at dksX3_origin_6 12 rfl rfl)
theorem dX3_origin_155 : decode cX3_origin 155 = .ok (.goto (-48), 3) := dk_167 255 208 (dk_at dksX3_origin_6 15 rfl rfl)
theorem dX3_origin_158 : decode cX3_origin 158 = .ok (.iinc 6 1, 3) := dk_132 6 1 (dk_at dksX3_origin_6 18 rfl rfl)
theorem dX3_origin_161 : decode cX3_origin 161 = .ok (.goto (-81), 3) := dk_167 255 175 (dk_at dksX3_origin_6 21 rfl rfl)
theorem dX3_origin_164 : decode cX3_origin 164 = .ok (.iload 5, 2) := dk_21 5 (dk_at dksX3_origin_7 0 rfl rfl)
theorem dX3_origin_166 : decode cX3_origin 166 = .ok (.ireturn, 1) := dk_172 (dk_at dksX3_origin_7 2 rfl rfl)
abbrev cX3_place : ByteArray := prog_16_method_47_code
def yX3_place : MethodName := ⟨RX3, "place", "(III)J"⟩
def dkwX3_place_5 : List UInt8 := [132, 7, 1, 167, 255, 226, 22, 5, 173]
abbrev dktX3_place_5 : List UInt8 := dkwX3_place_5 ++ []
def dkwX3_place_4 : List UInt8 := [162, 0, 30, 22, 5, 42, 180, 0, 19, 42, 180, 0, 31, 21, 7, 46, 29, 184, 0, 226, 133, 97, 55, 5]
abbrev dktX3_place_4 : List UInt8 := dkwX3_place_4 ++ dktX3_place_5
def dkwX3_place_3 : List UInt8 := [160, 0, 9, 20, 0, 222, 167, 0, 6, 20, 0, 224, 173, 9, 55, 5, 3, 54, 7, 21, 7, 28]
abbrev dktX3_place_3 : List UInt8 := dkwX3_place_3 ++ dktX3_place_4
def dkwX3_place_2 : List UInt8 := [182, 0, 205, 54, 4, 21, 4, 18, 96, 159, 0, 9, 28, 21, 4, 161, 0, 20, 21, 4, 18, 96]
abbrev dktX3_place_2 : List UInt8 := dkwX3_place_2 ++ dktX3_place_3
def dkwX3_place_1 : List UInt8 := [155, 0, 13, 29, 133, 9, 10, 184, 0, 70, 154, 0, 7, 20, 0, 220, 173, 42, 42, 180, 0, 19, 27]
abbrev dktX3_place_1 : List UInt8 := dkwX3_place_1 ++ dktX3_place_2
def dkwX3_place_0 : List UInt8 := [42, 182, 0, 197, 154, 0, 7, 20, 0, 218, 173, 27, 133, 9, 20, 0, 216, 184, 0, 70, 153, 0, 17, 28]
abbrev dktX3_place_0 : List UInt8 := dkwX3_place_0 ++ dktX3_place_1
theorem dksX3_place_0 : cX3_place.data.toList.drop 0 = dktX3_place_0 := by decide +kernel
theorem dksX3_place_1 : cX3_place.data.toList.drop 24 = dktX3_place_1 := dk_seg dksX3_place_0 24 rfl rfl
theorem dksX3_place_2 : cX3_place.data.toList.drop 47 = dktX3_place_2 := dk_seg dksX3_place_1 23 rfl rfl
theorem dksX3_place_3 : cX3_place.data.toList.drop 69 = dktX3_place_3 := dk_seg dksX3_place_2 22 rfl rfl
theorem dksX3_place_4 : cX3_place.data.toList.drop 91 = dktX3_place_4 := dk_seg dksX3_place_3 22 rfl rfl
theorem dksX3_place_5 : cX3_place.data.toList.drop 115 = dktX3_place_5 := dk_seg dksX3_place_4 24 rfl rfl
theorem dX3_place_0 : decode cX3_place 0 = .ok (.aload_n 0, 1) := dk_42 (dk_at dksX3_place_0 0 rfl rfl)
theorem dX3_place_1 : decode cX3_place 1 = .ok (.invokevirtual 197, 3) := dk_182 0 197 (dk_at dksX3_place_0 1 rfl rfl)
theorem dX3_place_4 : decode cX3_place 4 = .ok (.ifCond .ne 7, 3) := dk_154 0 7 (dk_at dksX3_place_0 4 rfl rfl)
theorem dX3_place_7 : decode cX3_place 7 = .ok (.ldc2_w 218, 3) := dk_20 0 218 (dk_at dksX3_place_0 7 rfl rfl)
theorem dX3_place_10 : decode cX3_place 10 = .ok (.lreturn, 1) := dk_173 (dk_at dksX3_place_0 10 rfl rfl)
theorem dX3_place_11 : decode cX3_place 11 = .ok (.iload_n 1, 1) := dk_27 (dk_at dksX3_place_0 11 rfl rfl)
theorem dX3_place_12 : decode cX3_place 12 = .ok (.i2l, 1) := dk_133 (dk_at dksX3_place_0 12 rfl rfl)
theorem dX3_place_13 : decode cX3_place 13 = .ok (.lconst 0, 1) := dk_9 (dk_at dksX3_place_0 13 rfl rfl)
theorem dX3_place_14 : decode cX3_place 14 = .ok (.ldc2_w 216, 3) := dk_20 0 216 (dk_at dksX3_place_0 14 rfl rfl)
theorem dX3_place_17 : decode cX3_place 17 = .ok (.invokestatic 70, 3) := dk_184 0 70 (dk_at dksX3_place_0 17 rfl rfl)
theorem dX3_place_20 : decode cX3_place 20 = .ok (.ifCond .eq 17, 3) := dk_153 0 17 (dk_at dksX3_place_0 20 rfl rfl)
theorem dX3_place_23 : decode cX3_place 23 = .ok (.iload_n 2, 1) := dk_28 (dk_at dksX3_place_0 23 rfl rfl)
theorem dX3_place_24 : decode cX3_place 24 = .ok (.ifCond .lt 13, 3) := dk_155 0 13 (dk_at dksX3_place_1 0 rfl rfl)
theorem dX3_place_27 : decode cX3_place 27 = .ok (.iload_n 3, 1) := dk_29 (dk_at dksX3_place_1 3 rfl rfl)
theorem dX3_place_28 : decode cX3_place 28 = .ok (.i2l, 1) := dk_133 (dk_at dksX3_place_1 4 rfl rfl)
theorem dX3_place_29 : decode cX3_place 29 = .ok (.lconst 0, 1) := dk_9 (dk_at dksX3_place_1 5 rfl rfl)
theorem dX3_place_30 : decode cX3_place 30 = .ok (.lconst 1, 1) := dk_10 (dk_at dksX3_place_1 6 rfl rfl)
theorem dX3_place_31 : decode cX3_place 31 = .ok (.invokestatic 70, 3) := dk_184 0 70 (dk_at dksX3_place_1 7 rfl rfl)
theorem dX3_place_34 : decode cX3_place 34 = .ok (.ifCond .ne 7, 3) := dk_154 0 7 (dk_at dksX3_place_1 10 rfl rfl)
theorem dX3_place_37 : decode cX3_place 37 = .ok (.ldc2_w 220, 3) := dk_20 0 220 (dk_at dksX3_place_1 13 rfl rfl)
theorem dX3_place_40 : decode cX3_place 40 = .ok (.lreturn, 1) := dk_173 (dk_at dksX3_place_1 16 rfl rfl)
theorem dX3_place_41 : decode cX3_place 41 = .ok (.aload_n 0, 1) := dk_42 (dk_at dksX3_place_1 17 rfl rfl)
theorem dX3_place_42 : decode cX3_place 42 = .ok (.aload_n 0, 1) := dk_42 (dk_at dksX3_place_1 18 rfl rfl)
theorem dX3_place_43 : decode cX3_place 43 = .ok (.getfield 19, 3) := dk_180 0 19 (dk_at dksX3_place_1 19 rfl rfl)
theorem dX3_place_46 : decode cX3_place 46 = .ok (.iload_n 1, 1) := dk_27 (dk_at dksX3_place_1 22 rfl rfl)
theorem dX3_place_47 : decode cX3_place 47 = .ok (.invokevirtual 205, 3) := dk_182 0 205 (dk_at dksX3_place_2 0 rfl rfl)
theorem dX3_place_50 : decode cX3_place 50 = .ok (.istore 4, 2) := dk_54 4 (dk_at dksX3_place_2 3 rfl rfl)
theorem dX3_place_52 : decode cX3_place 52 = .ok (.iload 4, 2) := dk_21 4 (dk_at dksX3_place_2 5 rfl rfl)
theorem dX3_place_54 : decode cX3_place 54 = .ok (.ldc 96, 2) := dk_18 96 (dk_at dksX3_place_2 7 rfl rfl)
theorem dX3_place_56 : decode cX3_place 56 = .ok (.if_icmp .eq 9, 3) := dk_159 0 9 (dk_at dksX3_place_2 9 rfl rfl)
theorem dX3_place_59 : decode cX3_place 59 = .ok (.iload_n 2, 1) := dk_28 (dk_at dksX3_place_2 12 rfl rfl)
theorem dX3_place_60 : decode cX3_place 60 = .ok (.iload 4, 2) := dk_21 4 (dk_at dksX3_place_2 13 rfl rfl)
theorem dX3_place_62 : decode cX3_place 62 = .ok (.if_icmp .lt 20, 3) := dk_161 0 20 (dk_at dksX3_place_2 15 rfl rfl)
theorem dX3_place_65 : decode cX3_place 65 = .ok (.iload 4, 2) := dk_21 4 (dk_at dksX3_place_2 18 rfl rfl)
theorem dX3_place_67 : decode cX3_place 67 = .ok (.ldc 96, 2) := dk_18 96 (dk_at dksX3_place_2 20 rfl rfl)
theorem dX3_place_69 : decode cX3_place 69 = .ok (.if_icmp .ne 9, 3) := dk_160 0 9 (dk_at dksX3_place_3 0 rfl rfl)
theorem dX3_place_72 : decode cX3_place 72 = .ok (.ldc2_w 222, 3) := dk_20 0 222 (dk_at dksX3_place_3 3 rfl rfl)
theorem dX3_place_75 : decode cX3_place 75 = .ok (.goto 6, 3) := dk_167 0 6 (dk_at dksX3_place_3 6 rfl rfl)
theorem dX3_place_78 : decode cX3_place 78 = .ok (.ldc2_w 224, 3) := dk_20 0 224 (dk_at dksX3_place_3 9 rfl rfl)
theorem dX3_place_81 : decode cX3_place 81 = .ok (.lreturn, 1) := dk_173 (dk_at dksX3_place_3 12 rfl rfl)
theorem dX3_place_82 : decode cX3_place 82 = .ok (.lconst 0, 1) := dk_9 (dk_at dksX3_place_3 13 rfl rfl)
theorem dX3_place_83 : decode cX3_place 83 = .ok (.lstore 5, 2) := dk_55 5 (dk_at dksX3_place_3 14 rfl rfl)
theorem dX3_place_85 : decode cX3_place 85 = .ok (.iconst 0, 1) := dk_3 (dk_at dksX3_place_3 16 rfl rfl)
theorem dX3_place_86 : decode cX3_place 86 = .ok (.istore 7, 2) := dk_54 7 (dk_at dksX3_place_3 17 rfl rfl)
theorem dX3_place_88 : decode cX3_place 88 = .ok (.iload 7, 2) := dk_21 7 (dk_at dksX3_place_3 19 rfl rfl)
theorem dX3_place_90 : decode cX3_place 90 = .ok (.iload_n 2, 1) := dk_28 (dk_at dksX3_place_3 21 rfl rfl)
theorem dX3_place_91 : decode cX3_place 91 = .ok (.if_icmp .ge 30, 3) := dk_162 0 30 (dk_at dksX3_place_4 0 rfl rfl)
theorem dX3_place_94 : decode cX3_place 94 = .ok (.lload 5, 2) := dk_22 5 (dk_at dksX3_place_4 3 rfl rfl)
theorem dX3_place_96 : decode cX3_place 96 = .ok (.aload_n 0, 1) := dk_42 (dk_at dksX3_place_4 5 rfl rfl)
theorem dX3_place_97 : decode cX3_place 97 = .ok (.getfield 19, 3) := dk_180 0 19 (dk_at dksX3_place_4 6 rfl rfl)
theorem dX3_place_100 : decode cX3_place 100 = .ok (.aload_n 0, 1) := dk_42 (dk_at dksX3_place_4 9 rfl rfl)
theorem dX3_place_101 : decode cX3_place 101 = .ok (.getfield 31, 3) := dk_180 0 31 (dk_at dksX3_place_4 10 rfl rfl)
theorem dX3_place_104 : decode cX3_place 104 = .ok (.iload 7, 2) := dk_21 7 (dk_at dksX3_place_4 13 rfl rfl)
theorem dX3_place_106 : decode cX3_place 106 = .ok (.iaload, 1) := dk_46 (dk_at dksX3_place_4 15 rfl rfl)
theorem dX3_place_107 : decode cX3_place 107 = .ok (.iload_n 3, 1) := dk_29 (dk_at dksX3_place_4 16 rfl rfl)
theorem dX3_place_108 : decode cX3_place 108 = .ok (.invokestatic 226, 3) := dk_184 0 226 (dk_at dksX3_place_4 17 rfl rfl)
theorem dX3_place_111 : decode cX3_place 111 = .ok (.i2l, 1) := dk_133 (dk_at dksX3_place_4 20 rfl rfl)
theorem dX3_place_112 : decode cX3_place 112 = .ok (.ladd, 1) := dk_97 (dk_at dksX3_place_4 21 rfl rfl)
theorem dX3_place_113 : decode cX3_place 113 = .ok (.lstore 5, 2) := dk_55 5 (dk_at dksX3_place_4 22 rfl rfl)
theorem dX3_place_115 : decode cX3_place 115 = .ok (.iinc 7 1, 3) := dk_132 7 1 (dk_at dksX3_place_5 0 rfl rfl)
theorem dX3_place_118 : decode cX3_place 118 = .ok (.goto (-30), 3) := dk_167 255 226 (dk_at dksX3_place_5 3 rfl rfl)
theorem dX3_place_121 : decode cX3_place 121 = .ok (.lload 5, 2) := dk_22 5 (dk_at dksX3_place_5 6 rfl rfl)
theorem dX3_place_123 : decode cX3_place 123 = .ok (.lreturn, 1) := dk_173 (dk_at dksX3_place_5 8 rfl rfl)
abbrev cX3_lengthOf : ByteArray := prog_16_method_15_code
def yX3_lengthOf : MethodName := ⟨RX3, "lengthOf", "([III)I"⟩
def dkwX3_lengthOf_1 : List UInt8 := [167, 0, 4, 4, 104, 172]
abbrev dktX3_lengthOf_1 : List UInt8 := dkwX3_lengthOf_1 ++ []
def dkwX3_lengthOf_0 : List UInt8 := [42, 16, 12, 16, 8, 27, 104, 96, 4, 96, 28, 96, 46, 42, 27, 184, 0, 89, 6, 160, 0, 7, 5]
abbrev dktX3_lengthOf_0 : List UInt8 := dkwX3_lengthOf_0 ++ dktX3_lengthOf_1
theorem dksX3_lengthOf_0 : cX3_lengthOf.data.toList.drop 0 = dktX3_lengthOf_0 := by decide +kernel
theorem dksX3_lengthOf_1 : cX3_lengthOf.data.toList.drop 23 = dktX3_lengthOf_1 := dk_seg dksX3_lengthOf_0 23 rfl rfl
theorem dX3_lengthOf_0 : decode cX3_lengthOf 0 = .ok (.aload_n 0, 1) := dk_42 (dk_at dksX3_lengthOf_0 0 rfl rfl)
theorem dX3_lengthOf_1 : decode cX3_lengthOf 1 = .ok (.bipush 12, 2) := dk_16 12 (dk_at dksX3_lengthOf_0 1 rfl rfl)
theorem dX3_lengthOf_3 : decode cX3_lengthOf 3 = .ok (.bipush 8, 2) := dk_16 8 (dk_at dksX3_lengthOf_0 3 rfl rfl)
theorem dX3_lengthOf_5 : decode cX3_lengthOf 5 = .ok (.iload_n 1, 1) := dk_27 (dk_at dksX3_lengthOf_0 5 rfl rfl)
theorem dX3_lengthOf_6 : decode cX3_lengthOf 6 = .ok (.imul, 1) := dk_104 (dk_at dksX3_lengthOf_0 6 rfl rfl)
theorem dX3_lengthOf_7 : decode cX3_lengthOf 7 = .ok (.iadd, 1) := dk_96 (dk_at dksX3_lengthOf_0 7 rfl rfl)
theorem dX3_lengthOf_8 : decode cX3_lengthOf 8 = .ok (.iconst 1, 1) := dk_4 (dk_at dksX3_lengthOf_0 8 rfl rfl)
theorem dX3_lengthOf_9 : decode cX3_lengthOf 9 = .ok (.iadd, 1) := dk_96 (dk_at dksX3_lengthOf_0 9 rfl rfl)
theorem dX3_lengthOf_10 : decode cX3_lengthOf 10 = .ok (.iload_n 2, 1) := dk_28 (dk_at dksX3_lengthOf_0 10 rfl rfl)
theorem dX3_lengthOf_11 : decode cX3_lengthOf 11 = .ok (.iadd, 1) := dk_96 (dk_at dksX3_lengthOf_0 11 rfl rfl)
theorem dX3_lengthOf_12 : decode cX3_lengthOf 12 = .ok (.iaload, 1) := dk_46 (dk_at dksX3_lengthOf_0 12 rfl rfl)
theorem dX3_lengthOf_13 : decode cX3_lengthOf 13 = .ok (.aload_n 0, 1) := dk_42 (dk_at dksX3_lengthOf_0 13 rfl rfl)
theorem dX3_lengthOf_14 : decode cX3_lengthOf 14 = .ok (.iload_n 1, 1) := dk_27 (dk_at dksX3_lengthOf_0 14 rfl rfl)
theorem dX3_lengthOf_15 : decode cX3_lengthOf 15 = .ok (.invokestatic 89, 3) := dk_184 0 89 (dk_at dksX3_lengthOf_0 15 rfl rfl)
theorem dX3_lengthOf_18 : decode cX3_lengthOf 18 = .ok (.iconst 3, 1) := dk_6 (dk_at dksX3_lengthOf_0 18 rfl rfl)
theorem dX3_lengthOf_19 : decode cX3_lengthOf 19 = .ok (.if_icmp .ne 7, 3) := dk_160 0 7 (dk_at dksX3_lengthOf_0 19 rfl rfl)
theorem dX3_lengthOf_22 : decode cX3_lengthOf 22 = .ok (.iconst 2, 1) := dk_5 (dk_at dksX3_lengthOf_0 22 rfl rfl)
theorem dX3_lengthOf_23 : decode cX3_lengthOf 23 = .ok (.goto 4, 3) := dk_167 0 4 (dk_at dksX3_lengthOf_1 0 rfl rfl)
theorem dX3_lengthOf_26 : decode cX3_lengthOf 26 = .ok (.iconst 1, 1) := dk_4 (dk_at dksX3_lengthOf_1 3 rfl rfl)
theorem dX3_lengthOf_27 : decode cX3_lengthOf 27 = .ok (.imul, 1) := dk_104 (dk_at dksX3_lengthOf_1 4 rfl rfl)
theorem dX3_lengthOf_28 : decode cX3_lengthOf 28 = .ok (.ireturn, 1) := dk_172 (dk_at dksX3_lengthOf_1 5 rfl rfl)
abbrev cX3_numbers : ByteArray := prog_16_method_50_code
def yX3_numbers : MethodName := ⟨RX3, "numbers", "(II)J"⟩
def dkwX3_numbers_2 : List UInt8 := [167, 0, 9, 42, 180, 0, 40, 27, 47, 173]
abbrev dktX3_numbers_2 : List UInt8 := dkwX3_numbers_2 ++ []
def dkwX3_numbers_1 : List UInt8 := [42, 3, 181, 0, 63, 42, 28, 182, 0, 241, 42, 180, 0, 229, 153, 0, 13, 42, 16, 6, 182, 0, 81, 133]
abbrev dktX3_numbers_1 : List UInt8 := dkwX3_numbers_1 ++ dktX3_numbers_2
def dkwX3_numbers_0 : List UInt8 := [42, 27, 182, 0, 182, 153, 0, 15, 28, 133, 9, 20, 0, 239, 184, 0, 70, 154, 0, 7, 20, 0, 220, 173]
abbrev dktX3_numbers_0 : List UInt8 := dkwX3_numbers_0 ++ dktX3_numbers_1
theorem dksX3_numbers_0 : cX3_numbers.data.toList.drop 0 = dktX3_numbers_0 := by decide +kernel
theorem dksX3_numbers_1 : cX3_numbers.data.toList.drop 24 = dktX3_numbers_1 := dk_seg dksX3_numbers_0 24 rfl rfl
theorem dksX3_numbers_2 : cX3_numbers.data.toList.drop 48 = dktX3_numbers_2 := dk_seg dksX3_numbers_1 24 rfl rfl
theorem dX3_numbers_0 : decode cX3_numbers 0 = .ok (.aload_n 0, 1) := dk_42 (dk_at dksX3_numbers_0 0 rfl rfl)
theorem dX3_numbers_1 : decode cX3_numbers 1 = .ok (.iload_n 1, 1) := dk_27 (dk_at dksX3_numbers_0 1 rfl rfl)
theorem dX3_numbers_2 : decode cX3_numbers 2 = .ok (.invokevirtual 182, 3) := dk_182 0 182 (dk_at dksX3_numbers_0 2 rfl rfl)
theorem dX3_numbers_5 : decode cX3_numbers 5 = .ok (.ifCond .eq 15, 3) := dk_153 0 15 (dk_at dksX3_numbers_0 5 rfl rfl)
theorem dX3_numbers_8 : decode cX3_numbers 8 = .ok (.iload_n 2, 1) := dk_28 (dk_at dksX3_numbers_0 8 rfl rfl)
theorem dX3_numbers_9 : decode cX3_numbers 9 = .ok (.i2l, 1) := dk_133 (dk_at dksX3_numbers_0 9 rfl rfl)
theorem dX3_numbers_10 : decode cX3_numbers 10 = .ok (.lconst 0, 1) := dk_9 (dk_at dksX3_numbers_0 10 rfl rfl)
theorem dX3_numbers_11 : decode cX3_numbers 11 = .ok (.ldc2_w 239, 3) := dk_20 0 239 (dk_at dksX3_numbers_0 11 rfl rfl)
theorem dX3_numbers_14 : decode cX3_numbers 14 = .ok (.invokestatic 70, 3) := dk_184 0 70 (dk_at dksX3_numbers_0 14 rfl rfl)
theorem dX3_numbers_17 : decode cX3_numbers 17 = .ok (.ifCond .ne 7, 3) := dk_154 0 7 (dk_at dksX3_numbers_0 17 rfl rfl)
theorem dX3_numbers_20 : decode cX3_numbers 20 = .ok (.ldc2_w 220, 3) := dk_20 0 220 (dk_at dksX3_numbers_0 20 rfl rfl)
theorem dX3_numbers_23 : decode cX3_numbers 23 = .ok (.lreturn, 1) := dk_173 (dk_at dksX3_numbers_0 23 rfl rfl)
theorem dX3_numbers_24 : decode cX3_numbers 24 = .ok (.aload_n 0, 1) := dk_42 (dk_at dksX3_numbers_1 0 rfl rfl)
theorem dX3_numbers_25 : decode cX3_numbers 25 = .ok (.iconst 0, 1) := dk_3 (dk_at dksX3_numbers_1 1 rfl rfl)
theorem dX3_numbers_26 : decode cX3_numbers 26 = .ok (.putfield 63, 3) := dk_181 0 63 (dk_at dksX3_numbers_1 2 rfl rfl)
theorem dX3_numbers_29 : decode cX3_numbers 29 = .ok (.aload_n 0, 1) := dk_42 (dk_at dksX3_numbers_1 5 rfl rfl)
theorem dX3_numbers_30 : decode cX3_numbers 30 = .ok (.iload_n 2, 1) := dk_28 (dk_at dksX3_numbers_1 6 rfl rfl)
theorem dX3_numbers_31 : decode cX3_numbers 31 = .ok (.invokevirtual 241, 3) := dk_182 0 241 (dk_at dksX3_numbers_1 7 rfl rfl)
theorem dX3_numbers_34 : decode cX3_numbers 34 = .ok (.aload_n 0, 1) := dk_42 (dk_at dksX3_numbers_1 10 rfl rfl)
theorem dX3_numbers_35 : decode cX3_numbers 35 = .ok (.getfield 229, 3) := dk_180 0 229 (dk_at dksX3_numbers_1 11 rfl rfl)
theorem dX3_numbers_38 : decode cX3_numbers 38 = .ok (.ifCond .eq 13, 3) := dk_153 0 13 (dk_at dksX3_numbers_1 14 rfl rfl)
theorem dX3_numbers_41 : decode cX3_numbers 41 = .ok (.aload_n 0, 1) := dk_42 (dk_at dksX3_numbers_1 17 rfl rfl)
theorem dX3_numbers_42 : decode cX3_numbers 42 = .ok (.bipush 6, 2) := dk_16 6 (dk_at dksX3_numbers_1 18 rfl rfl)
theorem dX3_numbers_44 : decode cX3_numbers 44 = .ok (.invokevirtual 81, 3) := dk_182 0 81 (dk_at dksX3_numbers_1 20 rfl rfl)
theorem dX3_numbers_47 : decode cX3_numbers 47 = .ok (.i2l, 1) := dk_133 (dk_at dksX3_numbers_1 23 rfl rfl)
theorem dX3_numbers_48 : decode cX3_numbers 48 = .ok (.goto 9, 3) := dk_167 0 9 (dk_at dksX3_numbers_2 0 rfl rfl)
theorem dX3_numbers_51 : decode cX3_numbers 51 = .ok (.aload_n 0, 1) := dk_42 (dk_at dksX3_numbers_2 3 rfl rfl)
theorem dX3_numbers_52 : decode cX3_numbers 52 = .ok (.getfield 40, 3) := dk_180 0 40 (dk_at dksX3_numbers_2 4 rfl rfl)
theorem dX3_numbers_55 : decode cX3_numbers 55 = .ok (.iload_n 1, 1) := dk_27 (dk_at dksX3_numbers_2 7 rfl rfl)
theorem dX3_numbers_56 : decode cX3_numbers 56 = .ok (.laload, 1) := dk_47 (dk_at dksX3_numbers_2 8 rfl rfl)
theorem dX3_numbers_57 : decode cX3_numbers 57 = .ok (.lreturn, 1) := dk_173 (dk_at dksX3_numbers_2 9 rfl rfl)
abbrev cX3_layNumbers : ByteArray := prog_16_method_49_code
def yX3_layNumbers : MethodName := ⟨RX3, "layNumbers", "(I)V"⟩
def dkwX3_layNumbers_8 : List UInt8 := [180, 0, 44, 29, 47, 80, 132, 3, 1, 167, 255, 236, 132, 2, 1, 167, 255, 120, 177]
abbrev dktX3_layNumbers_8 : List UInt8 := dkwX3_layNumbers_8 ++ []
def dkwX3_layNumbers_7 : List UInt8 := [167, 255, 204, 132, 3, 1, 167, 255, 185, 3, 62, 29, 7, 162, 0, 21, 42, 180, 0, 40, 29, 42]
abbrev dktX3_layNumbers_7 : List UInt8 := dkwX3_layNumbers_7 ++ dktX3_layNumbers_8
def dkwX3_layNumbers_6 : List UInt8 := [21, 5, 42, 42, 180, 0, 44, 21, 5, 47, 42, 180, 0, 40, 29, 47, 182, 0, 235, 80, 132, 4, 1]
abbrev dktX3_layNumbers_6 : List UInt8 := dkwX3_layNumbers_6 ++ dktX3_layNumbers_7
def dkwX3_layNumbers_5 : List UInt8 := [29, 184, 0, 100, 162, 0, 45, 42, 180, 0, 19, 29, 21, 4, 184, 0, 103, 54, 5, 42, 180, 0, 44]
abbrev dktX3_layNumbers_5 : List UInt8 := dkwX3_layNumbers_5 ++ dktX3_layNumbers_6
def dkwX3_layNumbers_4 : List UInt8 := [167, 255, 241, 3, 62, 29, 42, 180, 0, 19, 3, 46, 162, 0, 67, 3, 54, 4, 21, 4, 42, 180, 0, 19]
abbrev dktX3_layNumbers_4 : List UInt8 := dkwX3_layNumbers_4 ++ dktX3_layNumbers_5
def dkwX3_layNumbers_3 : List UInt8 := [180, 0, 229, 154, 0, 130, 3, 62, 29, 7, 162, 0, 16, 42, 180, 0, 44, 29, 9, 80, 132, 3, 1]
abbrev dktX3_layNumbers_3 : List UInt8 := dkwX3_layNumbers_3 ++ dktX3_layNumbers_4
def dkwX3_layNumbers_2 : List UInt8 := [28, 96, 46, 92, 47, 10, 97, 80, 132, 2, 1, 167, 255, 226, 3, 61, 28, 27, 162, 0, 137, 42]
abbrev dktX3_layNumbers_2 : List UInt8 := dkwX3_layNumbers_2 ++ dktX3_layNumbers_3
def dkwX3_layNumbers_1 : List UInt8 := [167, 255, 241, 3, 61, 28, 42, 180, 0, 19, 6, 46, 162, 0, 26, 42, 180, 0, 40, 42, 180, 0, 19, 7]
abbrev dktX3_layNumbers_1 : List UInt8 := dkwX3_layNumbers_1 ++ dktX3_layNumbers_2
def dkwX3_layNumbers_0 : List UInt8 := [42, 3, 181, 0, 229, 3, 61, 28, 7, 162, 0, 16, 42, 180, 0, 40, 28, 9, 80, 132, 2, 1]
abbrev dktX3_layNumbers_0 : List UInt8 := dkwX3_layNumbers_0 ++ dktX3_layNumbers_1
theorem dksX3_layNumbers_0 : cX3_layNumbers.data.toList.drop 0 = dktX3_layNumbers_0 := by decide +kernel
theorem dksX3_layNumbers_1 : cX3_layNumbers.data.toList.drop 22 = dktX3_layNumbers_1 := dk_seg dksX3_layNumbers_0 22 rfl rfl
theorem dksX3_layNumbers_2 : cX3_layNumbers.data.toList.drop 46 = dktX3_layNumbers_2 := dk_seg dksX3_layNumbers_1 24 rfl rfl
theorem dksX3_layNumbers_3 : cX3_layNumbers.data.toList.drop 68 = dktX3_layNumbers_3 := dk_seg dksX3_layNumbers_2 22 rfl rfl
theorem dksX3_layNumbers_4 : cX3_layNumbers.data.toList.drop 91 = dktX3_layNumbers_4 := dk_seg dksX3_layNumbers_3 23 rfl rfl
theorem dksX3_layNumbers_5 : cX3_layNumbers.data.toList.drop 115 = dktX3_layNumbers_5 := dk_seg dksX3_layNumbers_4 24 rfl rfl
theorem dksX3_layNumbers_6 : cX3_layNumbers.data.toList.drop 138 = dktX3_layNumbers_6 := dk_seg dksX3_layNumbers_5 23 rfl rfl
theorem dksX3_layNumbers_7 : cX3_layNumbers.data.toList.drop 161 = dktX3_layNumbers_7 := dk_seg dksX3_layNumbers_6 23 rfl rfl
theorem dksX3_layNumbers_8 : cX3_layNumbers.data.toList.drop 183 = dktX3_layNumbers_8 := dk_seg dksX3_layNumbers_7 22 rfl rfl
theorem dX3_layNumbers_0 : decode cX3_layNumbers 0 = .ok (.aload_n 0, 1) := dk_42 (dk_at dksX3_layNumbers_0 0 rfl rfl)
theorem dX3_layNumbers_1 : decode cX3_layNumbers 1 = .ok (.iconst 0, 1) := dk_3 (dk_at dksX3_layNumbers_0 1 rfl rfl)
theorem dX3_layNumbers_2 : decode cX3_layNumbers 2 = .ok (.putfield 229, 3) := dk_181 0 229 (dk_at dksX3_layNumbers_0 2 rfl rfl)
theorem dX3_layNumbers_5 : decode cX3_layNumbers 5 = .ok (.iconst 0, 1) := dk_3 (dk_at dksX3_layNumbers_0 5 rfl rfl)
theorem dX3_layNumbers_6 : decode cX3_layNumbers 6 = .ok (.istore_n 2, 1) := dk_61 (dk_at dksX3_layNumbers_0 6 rfl rfl)
theorem dX3_layNumbers_7 : decode cX3_layNumbers 7 = .ok (.iload_n 2, 1) := dk_28 (dk_at dksX3_layNumbers_0 7 rfl rfl)
theorem dX3_layNumbers_8 : decode cX3_layNumbers 8 = .ok (.iconst 4, 1) := dk_7 (dk_at dksX3_layNumbers_0 8 rfl rfl)
theorem dX3_layNumbers_9 : decode cX3_layNumbers 9 = .ok (.if_icmp .ge 16, 3) := dk_162 0 16 (dk_at dksX3_layNumbers_0 9 rfl rfl)
theorem dX3_layNumbers_12 : decode cX3_layNumbers 12 = .ok (.aload_n 0, 1) := dk_42 (dk_at dksX3_layNumbers_0 12 rfl rfl)
theorem dX3_layNumbers_13 : decode cX3_layNumbers 13 = .ok (.getfield 40, 3) := dk_180 0 40 (dk_at dksX3_layNumbers_0 13 rfl rfl)
theorem dX3_layNumbers_16 : decode cX3_layNumbers 16 = .ok (.iload_n 2, 1) := dk_28 (dk_at dksX3_layNumbers_0 16 rfl rfl)
theorem dX3_layNumbers_17 : decode cX3_layNumbers 17 = .ok (.lconst 0, 1) := dk_9 (dk_at dksX3_layNumbers_0 17 rfl rfl)
theorem dX3_layNumbers_18 : decode cX3_layNumbers 18 = .ok (.lastore, 1) := dk_80 (dk_at dksX3_layNumbers_0 18 rfl rfl)
theorem dX3_layNumbers_19 : decode cX3_layNumbers 19 = .ok (.iinc 2 1, 3) := dk_132 2 1 (dk_at dksX3_layNumbers_0 19 rfl rfl)
theorem dX3_layNumbers_22 : decode cX3_layNumbers 22 = .ok (.goto (-15), 3) := dk_167 255 241 (dk_at dksX3_layNumbers_1 0 rfl rfl)
theorem dX3_layNumbers_25 : decode cX3_layNumbers 25 = .ok (.iconst 0, 1) := dk_3 (dk_at dksX3_layNumbers_1 3 rfl rfl)
theorem dX3_layNumbers_26 : decode cX3_layNumbers 26 = .ok (.istore_n 2, 1) := dk_61 (dk_at dksX3_layNumbers_1 4 rfl rfl)
theorem dX3_layNumbers_27 : decode cX3_layNumbers 27 = .ok (.iload_n 2, 1) := dk_28 (dk_at dksX3_layNumbers_1 5 rfl rfl)
theorem dX3_layNumbers_28 : decode cX3_layNumbers 28 = .ok (.aload_n 0, 1) := dk_42 (dk_at dksX3_layNumbers_1 6 rfl rfl)
theorem dX3_layNumbers_29 : decode cX3_layNumbers 29 = .ok (.getfield 19, 3) := dk_180 0 19 (dk_at dksX3_layNumbers_1 7 rfl rfl)
theorem dX3_layNumbers_32 : decode cX3_layNumbers 32 = .ok (.iconst 3, 1) := dk_6 (dk_at dksX3_layNumbers_1 10 rfl rfl)
theorem dX3_layNumbers_33 : decode cX3_layNumbers 33 = .ok (.iaload, 1) := dk_46 (dk_at dksX3_layNumbers_1 11 rfl rfl)
theorem dX3_layNumbers_34 : decode cX3_layNumbers 34 = .ok (.if_icmp .ge 26, 3) := dk_162 0 26 (dk_at dksX3_layNumbers_1 12 rfl rfl)
theorem dX3_layNumbers_37 : decode cX3_layNumbers 37 = .ok (.aload_n 0, 1) := dk_42 (dk_at dksX3_layNumbers_1 15 rfl rfl)
theorem dX3_layNumbers_38 : decode cX3_layNumbers 38 = .ok (.getfield 40, 3) := dk_180 0 40 (dk_at dksX3_layNumbers_1 16 rfl rfl)
theorem dX3_layNumbers_41 : decode cX3_layNumbers 41 = .ok (.aload_n 0, 1) := dk_42 (dk_at dksX3_layNumbers_1 19 rfl rfl)
theorem dX3_layNumbers_42 : decode cX3_layNumbers 42 = .ok (.getfield 19, 3) := dk_180 0 19 (dk_at dksX3_layNumbers_1 20 rfl rfl)
theorem dX3_layNumbers_45 : decode cX3_layNumbers 45 = .ok (.iconst 4, 1) := dk_7 (dk_at dksX3_layNumbers_1 23 rfl rfl)
theorem dX3_layNumbers_46 : decode cX3_layNumbers 46 = .ok (.iload_n 2, 1) := dk_28 (dk_at dksX3_layNumbers_2 0 rfl rfl)
theorem dX3_layNumbers_47 : decode cX3_layNumbers 47 = .ok (.iadd, 1) := dk_96 (dk_at dksX3_layNumbers_2 1 rfl rfl)
theorem dX3_layNumbers_48 : decode cX3_layNumbers 48 = .ok (.iaload, 1) := dk_46 (dk_at dksX3_layNumbers_2 2 rfl rfl)
theorem dX3_layNumbers_49 : decode cX3_layNumbers 49 = .ok (.dup2, 1) := dk_92 (dk_at dksX3_layNumbers_2 3 rfl rfl)
theorem dX3_layNumbers_50 : decode cX3_layNumbers 50 = .ok (.laload, 1) := dk_47 (dk_at dksX3_layNumbers_2 4 rfl rfl)
theorem dX3_layNumbers_51 : decode cX3_layNumbers 51 = .ok (.lconst 1, 1) := dk_10 (dk_at dksX3_layNumbers_2 5 rfl rfl)
theorem dX3_layNumbers_52 : decode cX3_layNumbers 52 = .ok (.ladd, 1) := dk_97 (dk_at dksX3_layNumbers_2 6 rfl rfl)
theorem dX3_layNumbers_53 : decode cX3_layNumbers 53 = .ok (.lastore, 1) := dk_80 (dk_at dksX3_layNumbers_2 7 rfl rfl)
theorem dX3_layNumbers_54 : decode cX3_layNumbers 54 = .ok (.iinc 2 1, 3) := dk_132 2 1 (dk_at dksX3_layNumbers_2 8 rfl rfl)
theorem dX3_layNumbers_57 : decode cX3_layNumbers 57 = .ok (.goto (-30), 3) := dk_167 255 226 (dk_at dksX3_layNumbers_2 11 rfl rfl)
theorem dX3_layNumbers_60 : decode cX3_layNumbers 60 = .ok (.iconst 0, 1) := dk_3 (dk_at dksX3_layNumbers_2 14 rfl rfl)
theorem dX3_layNumbers_61 : decode cX3_layNumbers 61 = .ok (.istore_n 2, 1) := dk_61 (dk_at dksX3_layNumbers_2 15 rfl rfl)
theorem dX3_layNumbers_62 : decode cX3_layNumbers 62 = .ok (.iload_n 2, 1) := dk_28 (dk_at dksX3_layNumbers_2 16 rfl rfl)
theorem dX3_layNumbers_63 : decode cX3_layNumbers 63 = .ok (.iload_n 1, 1) := dk_27 (dk_at dksX3_layNumbers_2 17 rfl rfl)
theorem dX3_layNumbers_64 : decode cX3_layNumbers 64 = .ok (.if_icmp .ge 137, 3) := dk_162 0 137 (dk_at dksX3_layNumbers_2 18 rfl rfl)
theorem dX3_layNumbers_67 : decode cX3_layNumbers 67 = .ok (.aload_n 0, 1) := dk_42 (dk_at dksX3_layNumbers_2 21 rfl rfl)
theorem dX3_layNumbers_68 : decode cX3_layNumbers 68 = .ok (.getfield 229, 3) := dk_180 0 229 (dk_at dksX3_layNumbers_3 0 rfl rfl)
theorem dX3_layNumbers_71 : decode cX3_layNumbers 71 = .ok (.ifCond .ne 130, 3) := dk_154 0 130 (dk_at dksX3_layNumbers_3 3 rfl rfl)
theorem dX3_layNumbers_74 : decode cX3_layNumbers 74 = .ok (.iconst 0, 1) := dk_3 (dk_at dksX3_layNumbers_3 6 rfl rfl)
theorem dX3_layNumbers_75 : decode cX3_layNumbers 75 = .ok (.istore_n 3, 1) := dk_62 (dk_at dksX3_layNumbers_3 7 rfl rfl)
theorem dX3_layNumbers_76 : decode cX3_layNumbers 76 = .ok (.iload_n 3, 1) := dk_29 (dk_at dksX3_layNumbers_3 8 rfl rfl)
theorem dX3_layNumbers_77 : decode cX3_layNumbers 77 = .ok (.iconst 4, 1) := dk_7 (dk_at dksX3_layNumbers_3 9 rfl rfl)
theorem dX3_layNumbers_78 : decode cX3_layNumbers 78 = .ok (.if_icmp .ge 16, 3) := dk_162 0 16 (dk_at dksX3_layNumbers_3 10 rfl rfl)
theorem dX3_layNumbers_81 : decode cX3_layNumbers 81 = .ok (.aload_n 0, 1) := dk_42 (dk_at dksX3_layNumbers_3 13 rfl rfl)
theorem dX3_layNumbers_82 : decode cX3_layNumbers 82 = .ok (.getfield 44, 3) := dk_180 0 44 (dk_at dksX3_layNumbers_3 14 rfl rfl)
theorem dX3_layNumbers_85 : decode cX3_layNumbers 85 = .ok (.iload_n 3, 1) := dk_29 (dk_at dksX3_layNumbers_3 17 rfl rfl)
theorem dX3_layNumbers_86 : decode cX3_layNumbers 86 = .ok (.lconst 0, 1) := dk_9 (dk_at dksX3_layNumbers_3 18 rfl rfl)
theorem dX3_layNumbers_87 : decode cX3_layNumbers 87 = .ok (.lastore, 1) := dk_80 (dk_at dksX3_layNumbers_3 19 rfl rfl)
theorem dX3_layNumbers_88 : decode cX3_layNumbers 88 = .ok (.iinc 3 1, 3) := dk_132 3 1 (dk_at dksX3_layNumbers_3 20 rfl rfl)
theorem dX3_layNumbers_91 : decode cX3_layNumbers 91 = .ok (.goto (-15), 3) := dk_167 255 241 (dk_at dksX3_layNumbers_4 0 rfl rfl)
theorem dX3_layNumbers_94 : decode cX3_layNumbers 94 = .ok (.iconst 0, 1) := dk_3 (dk_at dksX3_layNumbers_4 3 rfl rfl)
theorem dX3_layNumbers_95 : decode cX3_layNumbers 95 = .ok (.istore_n 3, 1) := dk_62 (dk_at dksX3_layNumbers_4 4 rfl rfl)
theorem dX3_layNumbers_96 : decode cX3_layNumbers 96 = .ok (.iload_n 3, 1) := dk_29 (dk_at dksX3_layNumbers_4 5 rfl rfl)
theorem dX3_layNumbers_97 : decode cX3_layNumbers 97 = .ok (.aload_n 0, 1) := dk_42 (dk_at dksX3_layNumbers_4 6 rfl rfl)
theorem dX3_layNumbers_98 : decode cX3_layNumbers 98 = .ok (.getfield 19, 3) := dk_180 0 19 (dk_at dksX3_layNumbers_4 7 rfl rfl)
theorem dX3_layNumbers_101 : decode cX3_layNumbers 101 = .ok (.iconst 0, 1) := dk_3 (dk_at dksX3_layNumbers_4 10 rfl rfl)
theorem dX3_layNumbers_102 : decode cX3_layNumbers 102 = .ok (.iaload, 1) := dk_46 (dk_at dksX3_layNumbers_4 11 rfl rfl)
theorem dX3_layNumbers_103 : decode cX3_layNumbers 103 = .ok (.if_icmp .ge 67, 3) := dk_162 0 67 (dk_at dksX3_layNumbers_4 12 rfl rfl)
theorem dX3_layNumbers_106 : decode cX3_layNumbers 106 = .ok (.iconst 0, 1) := dk_3 (dk_at dksX3_layNumbers_4 15 rfl rfl)
theorem dX3_layNumbers_107 : decode cX3_layNumbers 107 = .ok (.istore 4, 2) := dk_54 4 (dk_at dksX3_layNumbers_4 16 rfl rfl)
theorem dX3_layNumbers_109 : decode cX3_layNumbers 109 = .ok (.iload 4, 2) := dk_21 4 (dk_at dksX3_layNumbers_4 18 rfl rfl)
theorem dX3_layNumbers_111 : decode cX3_layNumbers 111 = .ok (.aload_n 0, 1) := dk_42 (dk_at dksX3_layNumbers_4 20 rfl rfl)
theorem dX3_layNumbers_112 : decode cX3_layNumbers 112 = .ok (.getfield 19, 3) := dk_180 0 19 (dk_at dksX3_layNumbers_4 21 rfl rfl)
theorem dX3_layNumbers_115 : decode cX3_layNumbers 115 = .ok (.iload_n 3, 1) := dk_29 (dk_at dksX3_layNumbers_5 0 rfl rfl)
theorem dX3_layNumbers_116 : decode cX3_layNumbers 116 = .ok (.invokestatic 100, 3) := dk_184 0 100 (dk_at dksX3_layNumbers_5 1 rfl rfl)
theorem dX3_layNumbers_119 : decode cX3_layNumbers 119 = .ok (.if_icmp .ge 45, 3) := dk_162 0 45 (dk_at dksX3_layNumbers_5 4 rfl rfl)
theorem dX3_layNumbers_122 : decode cX3_layNumbers 122 = .ok (.aload_n 0, 1) := dk_42 (dk_at dksX3_layNumbers_5 7 rfl rfl)
theorem dX3_layNumbers_123 : decode cX3_layNumbers 123 = .ok (.getfield 19, 3) := dk_180 0 19 (dk_at dksX3_layNumbers_5 8 rfl rfl)
theorem dX3_layNumbers_126 : decode cX3_layNumbers 126 = .ok (.iload_n 3, 1) := dk_29 (dk_at dksX3_layNumbers_5 11 rfl rfl)
theorem dX3_layNumbers_127 : decode cX3_layNumbers 127 = .ok (.iload 4, 2) := dk_21 4 (dk_at dksX3_layNumbers_5 12 rfl rfl)
theorem dX3_layNumbers_129 : decode cX3_layNumbers 129 = .ok (.invokestatic 103, 3) := dk_184 0 103 (dk_at dksX3_layNumbers_5 14 rfl rfl)
theorem dX3_layNumbers_132 : decode cX3_layNumbers 132 = .ok (.istore 5, 2) := dk_54 5 (dk_at dksX3_layNumbers_5 17 rfl rfl)
theorem dX3_layNumbers_134 : decode cX3_layNumbers 134 = .ok (.aload_n 0, 1) := dk_42 (dk_at dksX3_layNumbers_5 19 rfl rfl)
theorem dX3_layNumbers_135 : decode cX3_layNumbers 135 = .ok (.getfield 44, 3) := dk_180 0 44 (dk_at dksX3_layNumbers_5 20 rfl rfl)
theorem dX3_layNumbers_138 : decode cX3_layNumbers 138 = .ok (.iload 5, 2) := dk_21 5 (dk_at dksX3_layNumbers_6 0 rfl rfl)
theorem dX3_layNumbers_140 : decode cX3_layNumbers 140 = .ok (.aload_n 0, 1) := dk_42 (dk_at dksX3_layNumbers_6 2 rfl rfl)
theorem dX3_layNumbers_141 : decode cX3_layNumbers 141 = .ok (.aload_n 0, 1) := dk_42 (dk_at dksX3_layNumbers_6 3 rfl rfl)
theorem dX3_layNumbers_142 : decode cX3_layNumbers 142 = .ok (.getfield 44, 3) := dk_180 0 44 (dk_at dksX3_layNumbers_6 4 rfl rfl)
theorem dX3_layNumbers_145 : decode cX3_layNumbers 145 = .ok (.iload 5, 2) := dk_21 5 (dk_at dksX3_layNumbers_6 7 rfl rfl)
theorem dX3_layNumbers_147 : decode cX3_layNumbers 147 = .ok (.laload, 1) := dk_47 (dk_at dksX3_layNumbers_6 9 rfl rfl)
theorem dX3_layNumbers_148 : decode cX3_layNumbers 148 = .ok (.aload_n 0, 1) := dk_42 (dk_at dksX3_layNumbers_6 10 rfl rfl)
theorem dX3_layNumbers_149 : decode cX3_layNumbers 149 = .ok (.getfield 40, 3) := dk_180 0 40 (dk_at dksX3_layNumbers_6 11 rfl rfl)
theorem dX3_layNumbers_152 : decode cX3_layNumbers 152 = .ok (.iload_n 3, 1) := dk_29 (dk_at dksX3_layNumbers_6 14 rfl rfl)
theorem dX3_layNumbers_153 : decode cX3_layNumbers 153 = .ok (.laload, 1) := dk_47 (dk_at dksX3_layNumbers_6 15 rfl rfl)
theorem dX3_layNumbers_154 : decode cX3_layNumbers 154 = .ok (.invokevirtual 235, 3) := dk_182 0 235 (dk_at dksX3_layNumbers_6 16 rfl rfl)
theorem dX3_layNumbers_157 : decode cX3_layNumbers 157 = .ok (.lastore, 1) := dk_80 (dk_at dksX3_layNumbers_6 19 rfl rfl)
theorem dX3_layNumbers_158 : decode cX3_layNumbers 158 = .ok (.iinc 4 1, 3) := dk_132 4 1 (dk_at dksX3_layNumbers_6 20 rfl rfl)
theorem dX3_layNumbers_161 : decode cX3_layNumbers 161 = .ok (.goto (-52), 3) := dk_167 255 204 (dk_at dksX3_layNumbers_7 0 rfl rfl)
theorem dX3_layNumbers_164 : decode cX3_layNumbers 164 = .ok (.iinc 3 1, 3) := dk_132 3 1 (dk_at dksX3_layNumbers_7 3 rfl rfl)
theorem dX3_layNumbers_167 : decode cX3_layNumbers 167 = .ok (.goto (-71), 3) := dk_167 255 185 (dk_at dksX3_layNumbers_7 6 rfl rfl)
theorem dX3_layNumbers_170 : decode cX3_layNumbers 170 = .ok (.iconst 0, 1) := dk_3 (dk_at dksX3_layNumbers_7 9 rfl rfl)
theorem dX3_layNumbers_171 : decode cX3_layNumbers 171 = .ok (.istore_n 3, 1) := dk_62 (dk_at dksX3_layNumbers_7 10 rfl rfl)
theorem dX3_layNumbers_172 : decode cX3_layNumbers 172 = .ok (.iload_n 3, 1) := dk_29 (dk_at dksX3_layNumbers_7 11 rfl rfl)
theorem dX3_layNumbers_173 : decode cX3_layNumbers 173 = .ok (.iconst 4, 1) := dk_7 (dk_at dksX3_layNumbers_7 12 rfl rfl)
theorem dX3_layNumbers_174 : decode cX3_layNumbers 174 = .ok (.if_icmp .ge 21, 3) := dk_162 0 21 (dk_at dksX3_layNumbers_7 13 rfl rfl)
theorem dX3_layNumbers_177 : decode cX3_layNumbers 177 = .ok (.aload_n 0, 1) := dk_42 (dk_at dksX3_layNumbers_7 16 rfl rfl)
theorem dX3_layNumbers_178 : decode cX3_layNumbers 178 = .ok (.getfield 40, 3) := dk_180 0 40 (dk_at dksX3_layNumbers_7 17 rfl rfl)
theorem dX3_layNumbers_181 : decode cX3_layNumbers 181 = .ok (.iload_n 3, 1) := dk_29 (dk_at dksX3_layNumbers_7 20 rfl rfl)
theorem dX3_layNumbers_182 : decode cX3_layNumbers 182 = .ok (.aload_n 0, 1) := dk_42 (dk_at dksX3_layNumbers_7 21 rfl rfl)
theorem dX3_layNumbers_183 : decode cX3_layNumbers 183 = .ok (.getfield 44, 3) := dk_180 0 44 (dk_at dksX3_layNumbers_8 0 rfl rfl)
theorem dX3_layNumbers_186 : decode cX3_layNumbers 186 = .ok (.iload_n 3, 1) := dk_29 (dk_at dksX3_layNumbers_8 3 rfl rfl)
theorem dX3_layNumbers_187 : decode cX3_layNumbers 187 = .ok (.laload, 1) := dk_47 (dk_at dksX3_layNumbers_8 4 rfl rfl)
theorem dX3_layNumbers_188 : decode cX3_layNumbers 188 = .ok (.lastore, 1) := dk_80 (dk_at dksX3_layNumbers_8 5 rfl rfl)
theorem dX3_layNumbers_189 : decode cX3_layNumbers 189 = .ok (.iinc 3 1, 3) := dk_132 3 1 (dk_at dksX3_layNumbers_8 6 rfl rfl)
theorem dX3_layNumbers_192 : decode cX3_layNumbers 192 = .ok (.goto (-20), 3) := dk_167 255 236 (dk_at dksX3_layNumbers_8 9 rfl rfl)
theorem dX3_layNumbers_195 : decode cX3_layNumbers 195 = .ok (.iinc 2 1, 3) := dk_132 2 1 (dk_at dksX3_layNumbers_8 12 rfl rfl)
theorem dX3_layNumbers_198 : decode cX3_layNumbers 198 = .ok (.goto (-136), 3) := dk_167 255 120 (dk_at dksX3_layNumbers_8 15 rfl rfl)
theorem dX3_layNumbers_201 : decode cX3_layNumbers 201 = .ok (.return_, 1) := dk_177 (dk_at dksX3_layNumbers_8 18 rfl rfl)
abbrev cX3_plus : ByteArray := prog_16_method_48_code
def yX3_plus : MethodName := ⟨RX3, "plus", "(JJ)J"⟩
def dkwX3_plus_1 : List UInt8 := [181, 0, 229, 42, 180, 0, 229, 153, 0, 7, 9, 167, 0, 6, 31, 33, 97, 173]
abbrev dktX3_plus_1 : List UInt8 := dkwX3_plus_1 ++ []
def dkwX3_plus_0 : List UInt8 := [42, 42, 180, 0, 229, 154, 0, 13, 31, 20, 0, 233, 33, 101, 148, 158, 0, 7, 4, 167, 0, 4, 3]
abbrev dktX3_plus_0 : List UInt8 := dkwX3_plus_0 ++ dktX3_plus_1
theorem dksX3_plus_0 : cX3_plus.data.toList.drop 0 = dktX3_plus_0 := by decide +kernel
theorem dksX3_plus_1 : cX3_plus.data.toList.drop 23 = dktX3_plus_1 := dk_seg dksX3_plus_0 23 rfl rfl
theorem dX3_plus_0 : decode cX3_plus 0 = .ok (.aload_n 0, 1) := dk_42 (dk_at dksX3_plus_0 0 rfl rfl)
theorem dX3_plus_1 : decode cX3_plus 1 = .ok (.aload_n 0, 1) := dk_42 (dk_at dksX3_plus_0 1 rfl rfl)
theorem dX3_plus_2 : decode cX3_plus 2 = .ok (.getfield 229, 3) := dk_180 0 229 (dk_at dksX3_plus_0 2 rfl rfl)
theorem dX3_plus_5 : decode cX3_plus 5 = .ok (.ifCond .ne 13, 3) := dk_154 0 13 (dk_at dksX3_plus_0 5 rfl rfl)
theorem dX3_plus_8 : decode cX3_plus 8 = .ok (.lload_n 1, 1) := dk_31 (dk_at dksX3_plus_0 8 rfl rfl)
theorem dX3_plus_9 : decode cX3_plus 9 = .ok (.ldc2_w 233, 3) := dk_20 0 233 (dk_at dksX3_plus_0 9 rfl rfl)
theorem dX3_plus_12 : decode cX3_plus 12 = .ok (.lload_n 3, 1) := dk_33 (dk_at dksX3_plus_0 12 rfl rfl)
theorem dX3_plus_13 : decode cX3_plus 13 = .ok (.lsub, 1) := dk_101 (dk_at dksX3_plus_0 13 rfl rfl)
theorem dX3_plus_14 : decode cX3_plus 14 = .ok (.lcmp, 1) := dk_148 (dk_at dksX3_plus_0 14 rfl rfl)
theorem dX3_plus_15 : decode cX3_plus 15 = .ok (.ifCond .le 7, 3) := dk_158 0 7 (dk_at dksX3_plus_0 15 rfl rfl)
theorem dX3_plus_18 : decode cX3_plus 18 = .ok (.iconst 1, 1) := dk_4 (dk_at dksX3_plus_0 18 rfl rfl)
theorem dX3_plus_19 : decode cX3_plus 19 = .ok (.goto 4, 3) := dk_167 0 4 (dk_at dksX3_plus_0 19 rfl rfl)
theorem dX3_plus_22 : decode cX3_plus 22 = .ok (.iconst 0, 1) := dk_3 (dk_at dksX3_plus_0 22 rfl rfl)
theorem dX3_plus_23 : decode cX3_plus 23 = .ok (.putfield 229, 3) := dk_181 0 229 (dk_at dksX3_plus_1 0 rfl rfl)
theorem dX3_plus_26 : decode cX3_plus 26 = .ok (.aload_n 0, 1) := dk_42 (dk_at dksX3_plus_1 3 rfl rfl)
theorem dX3_plus_27 : decode cX3_plus 27 = .ok (.getfield 229, 3) := dk_180 0 229 (dk_at dksX3_plus_1 4 rfl rfl)
theorem dX3_plus_30 : decode cX3_plus 30 = .ok (.ifCond .eq 7, 3) := dk_153 0 7 (dk_at dksX3_plus_1 7 rfl rfl)
theorem dX3_plus_33 : decode cX3_plus 33 = .ok (.lconst 0, 1) := dk_9 (dk_at dksX3_plus_1 10 rfl rfl)
theorem dX3_plus_34 : decode cX3_plus 34 = .ok (.goto 6, 3) := dk_167 0 6 (dk_at dksX3_plus_1 11 rfl rfl)
theorem dX3_plus_37 : decode cX3_plus 37 = .ok (.lload_n 1, 1) := dk_31 (dk_at dksX3_plus_1 14 rfl rfl)
theorem dX3_plus_38 : decode cX3_plus 38 = .ok (.lload_n 3, 1) := dk_33 (dk_at dksX3_plus_1 15 rfl rfl)
theorem dX3_plus_39 : decode cX3_plus 39 = .ok (.ladd, 1) := dk_97 (dk_at dksX3_plus_1 16 rfl rfl)
theorem dX3_plus_40 : decode cX3_plus 40 = .ok (.lreturn, 1) := dk_173 (dk_at dksX3_plus_1 17 rfl rfl)
abbrev cX3_share : ByteArray := prog_16_method_52_code
def yX3_share : MethodName := ⟨RX3, "share", "(III)J"⟩
def dkwX3_share_4 : List UInt8 := [180, 0, 40, 27, 47, 22, 4, 29, 184, 0, 244, 173]
abbrev dktX3_share_4 : List UInt8 := dkwX3_share_4 ++ []
def dkwX3_share_3 : List UInt8 := [132, 6, 1, 167, 255, 232, 42, 180, 0, 229, 153, 0, 13, 42, 16, 6, 182, 0, 81, 133, 167, 0, 15, 42]
abbrev dktX3_share_3 : List UInt8 := dkwX3_share_3 ++ dktX3_share_4
def dkwX3_share_2 : List UInt8 := [54, 6, 21, 6, 7, 162, 0, 24, 42, 22, 4, 42, 180, 0, 40, 21, 6, 47, 182, 0, 235, 55, 4]
abbrev dktX3_share_2 : List UInt8 := dkwX3_share_2 ++ dktX3_share_3
def dkwX3_share_1 : List UInt8 := [184, 0, 70, 154, 0, 7, 20, 0, 220, 173, 42, 3, 181, 0, 63, 42, 28, 182, 0, 241, 9, 55, 4, 3]
abbrev dktX3_share_1 : List UInt8 := dkwX3_share_1 ++ dktX3_share_2
def dkwX3_share_0 : List UInt8 := [42, 27, 182, 0, 182, 153, 0, 25, 28, 133, 9, 20, 0, 239, 184, 0, 70, 153, 0, 13, 29, 133, 9, 10]
abbrev dktX3_share_0 : List UInt8 := dkwX3_share_0 ++ dktX3_share_1
theorem dksX3_share_0 : cX3_share.data.toList.drop 0 = dktX3_share_0 := by decide +kernel
theorem dksX3_share_1 : cX3_share.data.toList.drop 24 = dktX3_share_1 := dk_seg dksX3_share_0 24 rfl rfl
theorem dksX3_share_2 : cX3_share.data.toList.drop 48 = dktX3_share_2 := dk_seg dksX3_share_1 24 rfl rfl
theorem dksX3_share_3 : cX3_share.data.toList.drop 71 = dktX3_share_3 := dk_seg dksX3_share_2 23 rfl rfl
theorem dksX3_share_4 : cX3_share.data.toList.drop 95 = dktX3_share_4 := dk_seg dksX3_share_3 24 rfl rfl
theorem dX3_share_0 : decode cX3_share 0 = .ok (.aload_n 0, 1) := dk_42 (dk_at dksX3_share_0 0 rfl rfl)
theorem dX3_share_1 : decode cX3_share 1 = .ok (.iload_n 1, 1) := dk_27 (dk_at dksX3_share_0 1 rfl rfl)
theorem dX3_share_2 : decode cX3_share 2 = .ok (.invokevirtual 182, 3) := dk_182 0 182 (dk_at dksX3_share_0 2 rfl rfl)
theorem dX3_share_5 : decode cX3_share 5 = .ok (.ifCond .eq 25, 3) := dk_153 0 25 (dk_at dksX3_share_0 5 rfl rfl)
theorem dX3_share_8 : decode cX3_share 8 = .ok (.iload_n 2, 1) := dk_28 (dk_at dksX3_share_0 8 rfl rfl)
theorem dX3_share_9 : decode cX3_share 9 = .ok (.i2l, 1) := dk_133 (dk_at dksX3_share_0 9 rfl rfl)
theorem dX3_share_10 : decode cX3_share 10 = .ok (.lconst 0, 1) := dk_9 (dk_at dksX3_share_0 10 rfl rfl)
theorem dX3_share_11 : decode cX3_share 11 = .ok (.ldc2_w 239, 3) := dk_20 0 239 (dk_at dksX3_share_0 11 rfl rfl)
theorem dX3_share_14 : decode cX3_share 14 = .ok (.invokestatic 70, 3) := dk_184 0 70 (dk_at dksX3_share_0 14 rfl rfl)
theorem dX3_share_17 : decode cX3_share 17 = .ok (.ifCond .eq 13, 3) := dk_153 0 13 (dk_at dksX3_share_0 17 rfl rfl)
theorem dX3_share_20 : decode cX3_share 20 = .ok (.iload_n 3, 1) := dk_29 (dk_at dksX3_share_0 20 rfl rfl)
theorem dX3_share_21 : decode cX3_share 21 = .ok (.i2l, 1) := dk_133 (dk_at dksX3_share_0 21 rfl rfl)
theorem dX3_share_22 : decode cX3_share 22 = .ok (.lconst 0, 1) := dk_9 (dk_at dksX3_share_0 22 rfl rfl)
theorem dX3_share_23 : decode cX3_share 23 = .ok (.lconst 1, 1) := dk_10 (dk_at dksX3_share_0 23 rfl rfl)
theorem dX3_share_24 : decode cX3_share 24 = .ok (.invokestatic 70, 3) := dk_184 0 70 (dk_at dksX3_share_1 0 rfl rfl)
theorem dX3_share_27 : decode cX3_share 27 = .ok (.ifCond .ne 7, 3) := dk_154 0 7 (dk_at dksX3_share_1 3 rfl rfl)
theorem dX3_share_30 : decode cX3_share 30 = .ok (.ldc2_w 220, 3) := dk_20 0 220 (dk_at dksX3_share_1 6 rfl rfl)
theorem dX3_share_33 : decode cX3_share 33 = .ok (.lreturn, 1) := dk_173 (dk_at dksX3_share_1 9 rfl rfl)
theorem dX3_share_34 : decode cX3_share 34 = .ok (.aload_n 0, 1) := dk_42 (dk_at dksX3_share_1 10 rfl rfl)
theorem dX3_share_35 : decode cX3_share 35 = .ok (.iconst 0, 1) := dk_3 (dk_at dksX3_share_1 11 rfl rfl)
theorem dX3_share_36 : decode cX3_share 36 = .ok (.putfield 63, 3) := dk_181 0 63 (dk_at dksX3_share_1 12 rfl rfl)
theorem dX3_share_39 : decode cX3_share 39 = .ok (.aload_n 0, 1) := dk_42 (dk_at dksX3_share_1 15 rfl rfl)
theorem dX3_share_40 : decode cX3_share 40 = .ok (.iload_n 2, 1) := dk_28 (dk_at dksX3_share_1 16 rfl rfl)
theorem dX3_share_41 : decode cX3_share 41 = .ok (.invokevirtual 241, 3) := dk_182 0 241 (dk_at dksX3_share_1 17 rfl rfl)
theorem dX3_share_44 : decode cX3_share 44 = .ok (.lconst 0, 1) := dk_9 (dk_at dksX3_share_1 20 rfl rfl)
theorem dX3_share_45 : decode cX3_share 45 = .ok (.lstore 4, 2) := dk_55 4 (dk_at dksX3_share_1 21 rfl rfl)
theorem dX3_share_47 : decode cX3_share 47 = .ok (.iconst 0, 1) := dk_3 (dk_at dksX3_share_1 23 rfl rfl)
theorem dX3_share_48 : decode cX3_share 48 = .ok (.istore 6, 2) := dk_54 6 (dk_at dksX3_share_2 0 rfl rfl)
theorem dX3_share_50 : decode cX3_share 50 = .ok (.iload 6, 2) := dk_21 6 (dk_at dksX3_share_2 2 rfl rfl)
theorem dX3_share_52 : decode cX3_share 52 = .ok (.iconst 4, 1) := dk_7 (dk_at dksX3_share_2 4 rfl rfl)
theorem dX3_share_53 : decode cX3_share 53 = .ok (.if_icmp .ge 24, 3) := dk_162 0 24 (dk_at dksX3_share_2 5 rfl rfl)
theorem dX3_share_56 : decode cX3_share 56 = .ok (.aload_n 0, 1) := dk_42 (dk_at dksX3_share_2 8 rfl rfl)
theorem dX3_share_57 : decode cX3_share 57 = .ok (.lload 4, 2) := dk_22 4 (dk_at dksX3_share_2 9 rfl rfl)
theorem dX3_share_59 : decode cX3_share 59 = .ok (.aload_n 0, 1) := dk_42 (dk_at dksX3_share_2 11 rfl rfl)
theorem dX3_share_60 : decode cX3_share 60 = .ok (.getfield 40, 3) := dk_180 0 40 (dk_at dksX3_share_2 12 rfl rfl)
theorem dX3_share_63 : decode cX3_share 63 = .ok (.iload 6, 2) := dk_21 6 (dk_at dksX3_share_2 15 rfl rfl)
theorem dX3_share_65 : decode cX3_share 65 = .ok (.laload, 1) := dk_47 (dk_at dksX3_share_2 17 rfl rfl)
theorem dX3_share_66 : decode cX3_share 66 = .ok (.invokevirtual 235, 3) := dk_182 0 235 (dk_at dksX3_share_2 18 rfl rfl)
theorem dX3_share_69 : decode cX3_share 69 = .ok (.lstore 4, 2) := dk_55 4 (dk_at dksX3_share_2 21 rfl rfl)
theorem dX3_share_71 : decode cX3_share 71 = .ok (.iinc 6 1, 3) := dk_132 6 1 (dk_at dksX3_share_3 0 rfl rfl)
theorem dX3_share_74 : decode cX3_share 74 = .ok (.goto (-24), 3) := dk_167 255 232 (dk_at dksX3_share_3 3 rfl rfl)
theorem dX3_share_77 : decode cX3_share 77 = .ok (.aload_n 0, 1) := dk_42 (dk_at dksX3_share_3 6 rfl rfl)
theorem dX3_share_78 : decode cX3_share 78 = .ok (.getfield 229, 3) := dk_180 0 229 (dk_at dksX3_share_3 7 rfl rfl)
theorem dX3_share_81 : decode cX3_share 81 = .ok (.ifCond .eq 13, 3) := dk_153 0 13 (dk_at dksX3_share_3 10 rfl rfl)
theorem dX3_share_84 : decode cX3_share 84 = .ok (.aload_n 0, 1) := dk_42 (dk_at dksX3_share_3 13 rfl rfl)
theorem dX3_share_85 : decode cX3_share 85 = .ok (.bipush 6, 2) := dk_16 6 (dk_at dksX3_share_3 14 rfl rfl)
theorem dX3_share_87 : decode cX3_share 87 = .ok (.invokevirtual 81, 3) := dk_182 0 81 (dk_at dksX3_share_3 16 rfl rfl)
theorem dX3_share_90 : decode cX3_share 90 = .ok (.i2l, 1) := dk_133 (dk_at dksX3_share_3 19 rfl rfl)
theorem dX3_share_91 : decode cX3_share 91 = .ok (.goto 15, 3) := dk_167 0 15 (dk_at dksX3_share_3 20 rfl rfl)
theorem dX3_share_94 : decode cX3_share 94 = .ok (.aload_n 0, 1) := dk_42 (dk_at dksX3_share_3 23 rfl rfl)
theorem dX3_share_95 : decode cX3_share 95 = .ok (.getfield 40, 3) := dk_180 0 40 (dk_at dksX3_share_4 0 rfl rfl)
theorem dX3_share_98 : decode cX3_share 98 = .ok (.iload_n 1, 1) := dk_27 (dk_at dksX3_share_4 3 rfl rfl)
theorem dX3_share_99 : decode cX3_share 99 = .ok (.laload, 1) := dk_47 (dk_at dksX3_share_4 4 rfl rfl)
theorem dX3_share_100 : decode cX3_share 100 = .ok (.lload 4, 2) := dk_22 4 (dk_at dksX3_share_4 5 rfl rfl)
theorem dX3_share_102 : decode cX3_share 102 = .ok (.iload_n 3, 1) := dk_29 (dk_at dksX3_share_4 7 rfl rfl)
theorem dX3_share_103 : decode cX3_share 103 = .ok (.invokestatic 244, 3) := dk_184 0 244 (dk_at dksX3_share_4 8 rfl rfl)
theorem dX3_share_106 : decode cX3_share 106 = .ok (.lreturn, 1) := dk_173 (dk_at dksX3_share_4 11 rfl rfl)
abbrev cX3_lowest : ByteArray := prog_16_method_51_code
def yX3_lowest : MethodName := ⟨RX3, "lowest", "(JJI)J"⟩
def dkwX3_lowest_1 : List UInt8 := [22, 9, 55, 7, 167, 255, 234, 21, 4, 154, 0, 7, 30, 167, 0, 4, 32, 22, 5, 109, 173]
abbrev dktX3_lowest_1 : List UInt8 := dkwX3_lowest_1 ++ []
def dkwX3_lowest_0 : List UInt8 := [30, 55, 5, 32, 55, 7, 22, 7, 9, 148, 153, 0, 21, 22, 5, 22, 7, 113, 55, 9, 22, 7, 55, 5]
abbrev dktX3_lowest_0 : List UInt8 := dkwX3_lowest_0 ++ dktX3_lowest_1
theorem dksX3_lowest_0 : cX3_lowest.data.toList.drop 0 = dktX3_lowest_0 := by decide +kernel
theorem dksX3_lowest_1 : cX3_lowest.data.toList.drop 24 = dktX3_lowest_1 := dk_seg dksX3_lowest_0 24 rfl rfl
theorem dX3_lowest_0 : decode cX3_lowest 0 = .ok (.lload_n 0, 1) := dk_30 (dk_at dksX3_lowest_0 0 rfl rfl)
theorem dX3_lowest_1 : decode cX3_lowest 1 = .ok (.lstore 5, 2) := dk_55 5 (dk_at dksX3_lowest_0 1 rfl rfl)
theorem dX3_lowest_3 : decode cX3_lowest 3 = .ok (.lload_n 2, 1) := dk_32 (dk_at dksX3_lowest_0 3 rfl rfl)
theorem dX3_lowest_4 : decode cX3_lowest 4 = .ok (.lstore 7, 2) := dk_55 7 (dk_at dksX3_lowest_0 4 rfl rfl)
theorem dX3_lowest_6 : decode cX3_lowest 6 = .ok (.lload 7, 2) := dk_22 7 (dk_at dksX3_lowest_0 6 rfl rfl)
theorem dX3_lowest_8 : decode cX3_lowest 8 = .ok (.lconst 0, 1) := dk_9 (dk_at dksX3_lowest_0 8 rfl rfl)
theorem dX3_lowest_9 : decode cX3_lowest 9 = .ok (.lcmp, 1) := dk_148 (dk_at dksX3_lowest_0 9 rfl rfl)
theorem dX3_lowest_10 : decode cX3_lowest 10 = .ok (.ifCond .eq 21, 3) := dk_153 0 21 (dk_at dksX3_lowest_0 10 rfl rfl)
theorem dX3_lowest_13 : decode cX3_lowest 13 = .ok (.lload 5, 2) := dk_22 5 (dk_at dksX3_lowest_0 13 rfl rfl)
theorem dX3_lowest_15 : decode cX3_lowest 15 = .ok (.lload 7, 2) := dk_22 7 (dk_at dksX3_lowest_0 15 rfl rfl)
theorem dX3_lowest_17 : decode cX3_lowest 17 = .ok (.lrem, 1) := dk_113 (dk_at dksX3_lowest_0 17 rfl rfl)
theorem dX3_lowest_18 : decode cX3_lowest 18 = .ok (.lstore 9, 2) := dk_55 9 (dk_at dksX3_lowest_0 18 rfl rfl)
theorem dX3_lowest_20 : decode cX3_lowest 20 = .ok (.lload 7, 2) := dk_22 7 (dk_at dksX3_lowest_0 20 rfl rfl)
theorem dX3_lowest_22 : decode cX3_lowest 22 = .ok (.lstore 5, 2) := dk_55 5 (dk_at dksX3_lowest_0 22 rfl rfl)
theorem dX3_lowest_24 : decode cX3_lowest 24 = .ok (.lload 9, 2) := dk_22 9 (dk_at dksX3_lowest_1 0 rfl rfl)
theorem dX3_lowest_26 : decode cX3_lowest 26 = .ok (.lstore 7, 2) := dk_55 7 (dk_at dksX3_lowest_1 2 rfl rfl)
theorem dX3_lowest_28 : decode cX3_lowest 28 = .ok (.goto (-22), 3) := dk_167 255 234 (dk_at dksX3_lowest_1 4 rfl rfl)
theorem dX3_lowest_31 : decode cX3_lowest 31 = .ok (.iload 4, 2) := dk_21 4 (dk_at dksX3_lowest_1 7 rfl rfl)
theorem dX3_lowest_33 : decode cX3_lowest 33 = .ok (.ifCond .ne 7, 3) := dk_154 0 7 (dk_at dksX3_lowest_1 9 rfl rfl)
theorem dX3_lowest_36 : decode cX3_lowest 36 = .ok (.lload_n 0, 1) := dk_30 (dk_at dksX3_lowest_1 12 rfl rfl)
theorem dX3_lowest_37 : decode cX3_lowest 37 = .ok (.goto 4, 3) := dk_167 0 4 (dk_at dksX3_lowest_1 13 rfl rfl)
theorem dX3_lowest_40 : decode cX3_lowest 40 = .ok (.lload_n 2, 1) := dk_32 (dk_at dksX3_lowest_1 16 rfl rfl)
theorem dX3_lowest_41 : decode cX3_lowest 41 = .ok (.lload 5, 2) := dk_22 5 (dk_at dksX3_lowest_1 17 rfl rfl)
theorem dX3_lowest_43 : decode cX3_lowest 43 = .ok (.ldiv, 1) := dk_109 (dk_at dksX3_lowest_1 19 rfl rfl)
theorem dX3_lowest_44 : decode cX3_lowest 44 = .ok (.lreturn, 1) := dk_173 (dk_at dksX3_lowest_1 20 rfl rfl)
abbrev cX3_all : ByteArray := prog_16_method_53_code
def yX3_all : MethodName := ⟨RX3, "all", "(II)J"⟩
def dkwX3_all_5 : List UInt8 := [182, 0, 81, 133, 167, 0, 4, 33, 173]
abbrev dktX3_all_5 : List UInt8 := dkwX3_all_5 ++ []
def dkwX3_all_4 : List UInt8 := [132, 6, 1, 167, 255, 225, 132, 5, 1, 167, 255, 205, 42, 180, 0, 229, 153, 0, 13, 42, 16, 6]
abbrev dktX3_all_4 : List UInt8 := dkwX3_all_4 ++ dktX3_all_5
def dkwX3_all_3 : List UInt8 := [21, 5, 28, 184, 0, 226, 162, 0, 22, 42, 33, 42, 180, 0, 40, 21, 5, 47, 182, 0, 235, 66]
abbrev dktX3_all_3 : List UInt8 := dkwX3_all_3 ++ dktX3_all_4
def dkwX3_all_2 : List UInt8 := [66, 3, 54, 5, 21, 5, 42, 180, 0, 19, 3, 46, 162, 0, 46, 3, 54, 6, 21, 6, 42, 180, 0, 19]
abbrev dktX3_all_2 : List UInt8 := dkwX3_all_2 ++ dktX3_all_3
def dkwX3_all_1 : List UInt8 := [133, 9, 10, 184, 0, 70, 154, 0, 7, 20, 0, 220, 173, 42, 3, 181, 0, 63, 42, 27, 182, 0, 241, 9]
abbrev dktX3_all_1 : List UInt8 := dkwX3_all_1 ++ dktX3_all_2
def dkwX3_all_0 : List UInt8 := [42, 182, 0, 197, 154, 0, 7, 20, 0, 218, 173, 27, 133, 9, 20, 0, 239, 184, 0, 70, 153, 0, 13, 28]
abbrev dktX3_all_0 : List UInt8 := dkwX3_all_0 ++ dktX3_all_1
theorem dksX3_all_0 : cX3_all.data.toList.drop 0 = dktX3_all_0 := by decide +kernel
theorem dksX3_all_1 : cX3_all.data.toList.drop 24 = dktX3_all_1 := dk_seg dksX3_all_0 24 rfl rfl
theorem dksX3_all_2 : cX3_all.data.toList.drop 48 = dktX3_all_2 := dk_seg dksX3_all_1 24 rfl rfl
theorem dksX3_all_3 : cX3_all.data.toList.drop 72 = dktX3_all_3 := dk_seg dksX3_all_2 24 rfl rfl
theorem dksX3_all_4 : cX3_all.data.toList.drop 94 = dktX3_all_4 := dk_seg dksX3_all_3 22 rfl rfl
theorem dksX3_all_5 : cX3_all.data.toList.drop 116 = dktX3_all_5 := dk_seg dksX3_all_4 22 rfl rfl
theorem dX3_all_0 : decode cX3_all 0 = .ok (.aload_n 0, 1) := dk_42 (dk_at dksX3_all_0 0 rfl rfl)
theorem dX3_all_1 : decode cX3_all 1 = .ok (.invokevirtual 197, 3) := dk_182 0 197 (dk_at dksX3_all_0 1 rfl rfl)
theorem dX3_all_4 : decode cX3_all 4 = .ok (.ifCond .ne 7, 3) := dk_154 0 7 (dk_at dksX3_all_0 4 rfl rfl)
theorem dX3_all_7 : decode cX3_all 7 = .ok (.ldc2_w 218, 3) := dk_20 0 218 (dk_at dksX3_all_0 7 rfl rfl)
theorem dX3_all_10 : decode cX3_all 10 = .ok (.lreturn, 1) := dk_173 (dk_at dksX3_all_0 10 rfl rfl)
theorem dX3_all_11 : decode cX3_all 11 = .ok (.iload_n 1, 1) := dk_27 (dk_at dksX3_all_0 11 rfl rfl)
theorem dX3_all_12 : decode cX3_all 12 = .ok (.i2l, 1) := dk_133 (dk_at dksX3_all_0 12 rfl rfl)
theorem dX3_all_13 : decode cX3_all 13 = .ok (.lconst 0, 1) := dk_9 (dk_at dksX3_all_0 13 rfl rfl)
theorem dX3_all_14 : decode cX3_all 14 = .ok (.ldc2_w 239, 3) := dk_20 0 239 (dk_at dksX3_all_0 14 rfl rfl)
theorem dX3_all_17 : decode cX3_all 17 = .ok (.invokestatic 70, 3) := dk_184 0 70 (dk_at dksX3_all_0 17 rfl rfl)
theorem dX3_all_20 : decode cX3_all 20 = .ok (.ifCond .eq 13, 3) := dk_153 0 13 (dk_at dksX3_all_0 20 rfl rfl)
theorem dX3_all_23 : decode cX3_all 23 = .ok (.iload_n 2, 1) := dk_28 (dk_at dksX3_all_0 23 rfl rfl)
theorem dX3_all_24 : decode cX3_all 24 = .ok (.i2l, 1) := dk_133 (dk_at dksX3_all_1 0 rfl rfl)
theorem dX3_all_25 : decode cX3_all 25 = .ok (.lconst 0, 1) := dk_9 (dk_at dksX3_all_1 1 rfl rfl)
theorem dX3_all_26 : decode cX3_all 26 = .ok (.lconst 1, 1) := dk_10 (dk_at dksX3_all_1 2 rfl rfl)
theorem dX3_all_27 : decode cX3_all 27 = .ok (.invokestatic 70, 3) := dk_184 0 70 (dk_at dksX3_all_1 3 rfl rfl)
theorem dX3_all_30 : decode cX3_all 30 = .ok (.ifCond .ne 7, 3) := dk_154 0 7 (dk_at dksX3_all_1 6 rfl rfl)
theorem dX3_all_33 : decode cX3_all 33 = .ok (.ldc2_w 220, 3) := dk_20 0 220 (dk_at dksX3_all_1 9 rfl rfl)
theorem dX3_all_36 : decode cX3_all 36 = .ok (.lreturn, 1) := dk_173 (dk_at dksX3_all_1 12 rfl rfl)
theorem dX3_all_37 : decode cX3_all 37 = .ok (.aload_n 0, 1) := dk_42 (dk_at dksX3_all_1 13 rfl rfl)
theorem dX3_all_38 : decode cX3_all 38 = .ok (.iconst 0, 1) := dk_3 (dk_at dksX3_all_1 14 rfl rfl)
theorem dX3_all_39 : decode cX3_all 39 = .ok (.putfield 63, 3) := dk_181 0 63 (dk_at dksX3_all_1 15 rfl rfl)
theorem dX3_all_42 : decode cX3_all 42 = .ok (.aload_n 0, 1) := dk_42 (dk_at dksX3_all_1 18 rfl rfl)
theorem dX3_all_43 : decode cX3_all 43 = .ok (.iload_n 1, 1) := dk_27 (dk_at dksX3_all_1 19 rfl rfl)
theorem dX3_all_44 : decode cX3_all 44 = .ok (.invokevirtual 241, 3) := dk_182 0 241 (dk_at dksX3_all_1 20 rfl rfl)
theorem dX3_all_47 : decode cX3_all 47 = .ok (.lconst 0, 1) := dk_9 (dk_at dksX3_all_1 23 rfl rfl)
theorem dX3_all_48 : decode cX3_all 48 = .ok (.lstore_n 3, 1) := dk_66 (dk_at dksX3_all_2 0 rfl rfl)
theorem dX3_all_49 : decode cX3_all 49 = .ok (.iconst 0, 1) := dk_3 (dk_at dksX3_all_2 1 rfl rfl)
theorem dX3_all_50 : decode cX3_all 50 = .ok (.istore 5, 2) := dk_54 5 (dk_at dksX3_all_2 2 rfl rfl)
theorem dX3_all_52 : decode cX3_all 52 = .ok (.iload 5, 2) := dk_21 5 (dk_at dksX3_all_2 4 rfl rfl)
theorem dX3_all_54 : decode cX3_all 54 = .ok (.aload_n 0, 1) := dk_42 (dk_at dksX3_all_2 6 rfl rfl)
theorem dX3_all_55 : decode cX3_all 55 = .ok (.getfield 19, 3) := dk_180 0 19 (dk_at dksX3_all_2 7 rfl rfl)
theorem dX3_all_58 : decode cX3_all 58 = .ok (.iconst 0, 1) := dk_3 (dk_at dksX3_all_2 10 rfl rfl)
theorem dX3_all_59 : decode cX3_all 59 = .ok (.iaload, 1) := dk_46 (dk_at dksX3_all_2 11 rfl rfl)
theorem dX3_all_60 : decode cX3_all 60 = .ok (.if_icmp .ge 46, 3) := dk_162 0 46 (dk_at dksX3_all_2 12 rfl rfl)
theorem dX3_all_63 : decode cX3_all 63 = .ok (.iconst 0, 1) := dk_3 (dk_at dksX3_all_2 15 rfl rfl)
theorem dX3_all_64 : decode cX3_all 64 = .ok (.istore 6, 2) := dk_54 6 (dk_at dksX3_all_2 16 rfl rfl)
theorem dX3_all_66 : decode cX3_all 66 = .ok (.iload 6, 2) := dk_21 6 (dk_at dksX3_all_2 18 rfl rfl)
theorem dX3_all_68 : decode cX3_all 68 = .ok (.aload_n 0, 1) := dk_42 (dk_at dksX3_all_2 20 rfl rfl)
theorem dX3_all_69 : decode cX3_all 69 = .ok (.getfield 19, 3) := dk_180 0 19 (dk_at dksX3_all_2 21 rfl rfl)
theorem dX3_all_72 : decode cX3_all 72 = .ok (.iload 5, 2) := dk_21 5 (dk_at dksX3_all_3 0 rfl rfl)
theorem dX3_all_74 : decode cX3_all 74 = .ok (.iload_n 2, 1) := dk_28 (dk_at dksX3_all_3 2 rfl rfl)
theorem dX3_all_75 : decode cX3_all 75 = .ok (.invokestatic 226, 3) := dk_184 0 226 (dk_at dksX3_all_3 3 rfl rfl)
theorem dX3_all_78 : decode cX3_all 78 = .ok (.if_icmp .ge 22, 3) := dk_162 0 22 (dk_at dksX3_all_3 6 rfl rfl)
theorem dX3_all_81 : decode cX3_all 81 = .ok (.aload_n 0, 1) := dk_42 (dk_at dksX3_all_3 9 rfl rfl)
theorem dX3_all_82 : decode cX3_all 82 = .ok (.lload_n 3, 1) := dk_33 (dk_at dksX3_all_3 10 rfl rfl)
theorem dX3_all_83 : decode cX3_all 83 = .ok (.aload_n 0, 1) := dk_42 (dk_at dksX3_all_3 11 rfl rfl)
theorem dX3_all_84 : decode cX3_all 84 = .ok (.getfield 40, 3) := dk_180 0 40 (dk_at dksX3_all_3 12 rfl rfl)
theorem dX3_all_87 : decode cX3_all 87 = .ok (.iload 5, 2) := dk_21 5 (dk_at dksX3_all_3 15 rfl rfl)
theorem dX3_all_89 : decode cX3_all 89 = .ok (.laload, 1) := dk_47 (dk_at dksX3_all_3 17 rfl rfl)
theorem dX3_all_90 : decode cX3_all 90 = .ok (.invokevirtual 235, 3) := dk_182 0 235 (dk_at dksX3_all_3 18 rfl rfl)
theorem dX3_all_93 : decode cX3_all 93 = .ok (.lstore_n 3, 1) := dk_66 (dk_at dksX3_all_3 21 rfl rfl)
theorem dX3_all_94 : decode cX3_all 94 = .ok (.iinc 6 1, 3) := dk_132 6 1 (dk_at dksX3_all_4 0 rfl rfl)
theorem dX3_all_97 : decode cX3_all 97 = .ok (.goto (-31), 3) := dk_167 255 225 (dk_at dksX3_all_4 3 rfl rfl)
theorem dX3_all_100 : decode cX3_all 100 = .ok (.iinc 5 1, 3) := dk_132 5 1 (dk_at dksX3_all_4 6 rfl rfl)
theorem dX3_all_103 : decode cX3_all 103 = .ok (.goto (-51), 3) := dk_167 255 205 (dk_at dksX3_all_4 9 rfl rfl)
theorem dX3_all_106 : decode cX3_all 106 = .ok (.aload_n 0, 1) := dk_42 (dk_at dksX3_all_4 12 rfl rfl)
theorem dX3_all_107 : decode cX3_all 107 = .ok (.getfield 229, 3) := dk_180 0 229 (dk_at dksX3_all_4 13 rfl rfl)
theorem dX3_all_110 : decode cX3_all 110 = .ok (.ifCond .eq 13, 3) := dk_153 0 13 (dk_at dksX3_all_4 16 rfl rfl)
theorem dX3_all_113 : decode cX3_all 113 = .ok (.aload_n 0, 1) := dk_42 (dk_at dksX3_all_4 19 rfl rfl)
theorem dX3_all_114 : decode cX3_all 114 = .ok (.bipush 6, 2) := dk_16 6 (dk_at dksX3_all_4 20 rfl rfl)
theorem dX3_all_116 : decode cX3_all 116 = .ok (.invokevirtual 81, 3) := dk_182 0 81 (dk_at dksX3_all_5 0 rfl rfl)
theorem dX3_all_119 : decode cX3_all 119 = .ok (.i2l, 1) := dk_133 (dk_at dksX3_all_5 3 rfl rfl)
theorem dX3_all_120 : decode cX3_all 120 = .ok (.goto 4, 3) := dk_167 0 4 (dk_at dksX3_all_5 4 rfl rfl)
theorem dX3_all_123 : decode cX3_all 123 = .ok (.lload_n 3, 1) := dk_33 (dk_at dksX3_all_5 7 rfl rfl)
theorem dX3_all_124 : decode cX3_all 124 = .ok (.lreturn, 1) := dk_173 (dk_at dksX3_all_5 8 rfl rfl)
abbrev cX3_whole : ByteArray := prog_16_method_56_code
def yX3_whole : MethodName := ⟨RX3, "whole", "(I)I"⟩
def dkwX3_whole_4 : List UInt8 := [160, 0, 8, 18, 124, 167, 0, 7, 28, 16, 10, 112, 172, 18, 80, 172]
abbrev dktX3_whole_4 : List UInt8 := dkwX3_whole_4 ++ []
def dkwX3_whole_3 : List UInt8 := [184, 1, 3, 172, 28, 18, 124, 160, 0, 8, 18, 124, 167, 0, 7, 28, 16, 10, 108, 172, 28, 18, 124]
abbrev dktX3_whole_3 : List UInt8 := dkwX3_whole_3 ++ dktX3_whole_4
def dkwX3_whole_2 : List UInt8 := [42, 180, 0, 19, 4, 27, 96, 46, 172, 42, 180, 0, 19, 184, 0, 255, 172, 42, 180, 0, 19, 184, 0, 255]
abbrev dktX3_whole_2 : List UInt8 := dkwX3_whole_2 ++ dktX3_whole_3
def dkwX3_whole_1 : List UInt8 := [170, 0, 0, 0, 0, 0, 0, 104, 0, 0, 0, 0, 0, 0, 0, 6, 0, 0, 0, 44, 0, 0, 0, 44, 0, 0, 0, 44, 0, 0, 0, 53, 0, 0, 0, 61, 0, 0, 0, 72, 0, 0, 0, 88]
abbrev dktX3_whole_1 : List UInt8 := dkwX3_whole_1 ++ dktX3_whole_2
def dkwX3_whole_0 : List UInt8 := [42, 182, 0, 197, 154, 0, 6, 18, 178, 172, 42, 182, 0, 251, 61, 27]
abbrev dktX3_whole_0 : List UInt8 := dkwX3_whole_0 ++ dktX3_whole_1
theorem dksX3_whole_0 : cX3_whole.data.toList.drop 0 = dktX3_whole_0 := by decide +kernel
theorem dksX3_whole_1 : cX3_whole.data.toList.drop 16 = dktX3_whole_1 := dk_seg dksX3_whole_0 16 rfl rfl
theorem dksX3_whole_2 : cX3_whole.data.toList.drop 60 = dktX3_whole_2 := dk_seg dksX3_whole_1 44 rfl rfl
theorem dksX3_whole_3 : cX3_whole.data.toList.drop 84 = dktX3_whole_3 := dk_seg dksX3_whole_2 24 rfl rfl
theorem dksX3_whole_4 : cX3_whole.data.toList.drop 107 = dktX3_whole_4 := dk_seg dksX3_whole_3 23 rfl rfl
theorem dX3_whole_0 : decode cX3_whole 0 = .ok (.aload_n 0, 1) := dk_42 (dk_at dksX3_whole_0 0 rfl rfl)
theorem dX3_whole_1 : decode cX3_whole 1 = .ok (.invokevirtual 197, 3) := dk_182 0 197 (dk_at dksX3_whole_0 1 rfl rfl)
theorem dX3_whole_4 : decode cX3_whole 4 = .ok (.ifCond .ne 6, 3) := dk_154 0 6 (dk_at dksX3_whole_0 4 rfl rfl)
theorem dX3_whole_7 : decode cX3_whole 7 = .ok (.ldc 178, 2) := dk_18 178 (dk_at dksX3_whole_0 7 rfl rfl)
theorem dX3_whole_9 : decode cX3_whole 9 = .ok (.ireturn, 1) := dk_172 (dk_at dksX3_whole_0 9 rfl rfl)
theorem dX3_whole_10 : decode cX3_whole 10 = .ok (.aload_n 0, 1) := dk_42 (dk_at dksX3_whole_0 10 rfl rfl)
theorem dX3_whole_11 : decode cX3_whole 11 = .ok (.invokevirtual 251, 3) := dk_182 0 251 (dk_at dksX3_whole_0 11 rfl rfl)
theorem dX3_whole_14 : decode cX3_whole 14 = .ok (.istore_n 2, 1) := dk_61 (dk_at dksX3_whole_0 14 rfl rfl)
theorem dX3_whole_15 : decode cX3_whole 15 = .ok (.iload_n 1, 1) := dk_27 (dk_at dksX3_whole_0 15 rfl rfl)
theorem dX3_whole_16 : decode cX3_whole 16 = .ok (.tableswitch 104 0 6 #[44, 44, 44, 53, 61, 72, 88], 44) := by decide +kernel
theorem dX3_whole_60 : decode cX3_whole 60 = .ok (.aload_n 0, 1) := dk_42 (dk_at dksX3_whole_2 0 rfl rfl)
theorem dX3_whole_61 : decode cX3_whole 61 = .ok (.getfield 19, 3) := dk_180 0 19 (dk_at dksX3_whole_2 1 rfl rfl)
theorem dX3_whole_64 : decode cX3_whole 64 = .ok (.iconst 1, 1) := dk_4 (dk_at dksX3_whole_2 4 rfl rfl)
theorem dX3_whole_65 : decode cX3_whole 65 = .ok (.iload_n 1, 1) := dk_27 (dk_at dksX3_whole_2 5 rfl rfl)
theorem dX3_whole_66 : decode cX3_whole 66 = .ok (.iadd, 1) := dk_96 (dk_at dksX3_whole_2 6 rfl rfl)
theorem dX3_whole_67 : decode cX3_whole 67 = .ok (.iaload, 1) := dk_46 (dk_at dksX3_whole_2 7 rfl rfl)
theorem dX3_whole_68 : decode cX3_whole 68 = .ok (.ireturn, 1) := dk_172 (dk_at dksX3_whole_2 8 rfl rfl)
theorem dX3_whole_69 : decode cX3_whole 69 = .ok (.aload_n 0, 1) := dk_42 (dk_at dksX3_whole_2 9 rfl rfl)
theorem dX3_whole_70 : decode cX3_whole 70 = .ok (.getfield 19, 3) := dk_180 0 19 (dk_at dksX3_whole_2 10 rfl rfl)
theorem dX3_whole_73 : decode cX3_whole 73 = .ok (.invokestatic 255, 3) := dk_184 0 255 (dk_at dksX3_whole_2 13 rfl rfl)
theorem dX3_whole_76 : decode cX3_whole 76 = .ok (.ireturn, 1) := dk_172 (dk_at dksX3_whole_2 16 rfl rfl)
theorem dX3_whole_77 : decode cX3_whole 77 = .ok (.aload_n 0, 1) := dk_42 (dk_at dksX3_whole_2 17 rfl rfl)
theorem dX3_whole_78 : decode cX3_whole 78 = .ok (.getfield 19, 3) := dk_180 0 19 (dk_at dksX3_whole_2 18 rfl rfl)
theorem dX3_whole_81 : decode cX3_whole 81 = .ok (.invokestatic 255, 3) := dk_184 0 255 (dk_at dksX3_whole_2 21 rfl rfl)
theorem dX3_whole_84 : decode cX3_whole 84 = .ok (.invokestatic 259, 3) := dk_184 1 3 (dk_at dksX3_whole_3 0 rfl rfl)
theorem dX3_whole_87 : decode cX3_whole 87 = .ok (.ireturn, 1) := dk_172 (dk_at dksX3_whole_3 3 rfl rfl)
theorem dX3_whole_88 : decode cX3_whole 88 = .ok (.iload_n 2, 1) := dk_28 (dk_at dksX3_whole_3 4 rfl rfl)
theorem dX3_whole_89 : decode cX3_whole 89 = .ok (.ldc 124, 2) := dk_18 124 (dk_at dksX3_whole_3 5 rfl rfl)
theorem dX3_whole_91 : decode cX3_whole 91 = .ok (.if_icmp .ne 8, 3) := dk_160 0 8 (dk_at dksX3_whole_3 7 rfl rfl)
theorem dX3_whole_94 : decode cX3_whole 94 = .ok (.ldc 124, 2) := dk_18 124 (dk_at dksX3_whole_3 10 rfl rfl)
theorem dX3_whole_96 : decode cX3_whole 96 = .ok (.goto 7, 3) := dk_167 0 7 (dk_at dksX3_whole_3 12 rfl rfl)
theorem dX3_whole_99 : decode cX3_whole 99 = .ok (.iload_n 2, 1) := dk_28 (dk_at dksX3_whole_3 15 rfl rfl)
theorem dX3_whole_100 : decode cX3_whole 100 = .ok (.bipush 10, 2) := dk_16 10 (dk_at dksX3_whole_3 16 rfl rfl)
theorem dX3_whole_102 : decode cX3_whole 102 = .ok (.idiv, 1) := dk_108 (dk_at dksX3_whole_3 18 rfl rfl)
theorem dX3_whole_103 : decode cX3_whole 103 = .ok (.ireturn, 1) := dk_172 (dk_at dksX3_whole_3 19 rfl rfl)
theorem dX3_whole_104 : decode cX3_whole 104 = .ok (.iload_n 2, 1) := dk_28 (dk_at dksX3_whole_3 20 rfl rfl)
theorem dX3_whole_105 : decode cX3_whole 105 = .ok (.ldc 124, 2) := dk_18 124 (dk_at dksX3_whole_3 21 rfl rfl)
theorem dX3_whole_107 : decode cX3_whole 107 = .ok (.if_icmp .ne 8, 3) := dk_160 0 8 (dk_at dksX3_whole_4 0 rfl rfl)
theorem dX3_whole_110 : decode cX3_whole 110 = .ok (.ldc 124, 2) := dk_18 124 (dk_at dksX3_whole_4 3 rfl rfl)
theorem dX3_whole_112 : decode cX3_whole 112 = .ok (.goto 7, 3) := dk_167 0 7 (dk_at dksX3_whole_4 5 rfl rfl)
theorem dX3_whole_115 : decode cX3_whole 115 = .ok (.iload_n 2, 1) := dk_28 (dk_at dksX3_whole_4 8 rfl rfl)
theorem dX3_whole_116 : decode cX3_whole 116 = .ok (.bipush 10, 2) := dk_16 10 (dk_at dksX3_whole_4 9 rfl rfl)
theorem dX3_whole_118 : decode cX3_whole 118 = .ok (.irem, 1) := dk_112 (dk_at dksX3_whole_4 11 rfl rfl)
theorem dX3_whole_119 : decode cX3_whole 119 = .ok (.ireturn, 1) := dk_172 (dk_at dksX3_whole_4 12 rfl rfl)
theorem dX3_whole_120 : decode cX3_whole 120 = .ok (.ldc 80, 2) := dk_18 80 (dk_at dksX3_whole_4 13 rfl rfl)
theorem dX3_whole_122 : decode cX3_whole 122 = .ok (.ireturn, 1) := dk_172 (dk_at dksX3_whole_4 15 rfl rfl)
abbrev cX3_scale : ByteArray := prog_16_method_55_code
def yX3_scale : MethodName := ⟨RX3, "scale", "()I"⟩
def dkwX3_scale_1 : List UInt8 := [153, 0, 7, 28, 167, 0, 4, 27, 60, 132, 2, 255, 167, 255, 228, 27, 172]
abbrev dktX3_scale_1 : List UInt8 := dkwX3_scale_1 ++ []
def dkwX3_scale_0 : List UInt8 := [18, 124, 60, 16, 99, 61, 28, 155, 0, 30, 42, 28, 16, 10, 108, 28, 16, 10, 112, 182, 0, 248]
abbrev dktX3_scale_0 : List UInt8 := dkwX3_scale_0 ++ dktX3_scale_1
theorem dksX3_scale_0 : cX3_scale.data.toList.drop 0 = dktX3_scale_0 := by decide +kernel
theorem dksX3_scale_1 : cX3_scale.data.toList.drop 22 = dktX3_scale_1 := dk_seg dksX3_scale_0 22 rfl rfl
theorem dX3_scale_0 : decode cX3_scale 0 = .ok (.ldc 124, 2) := dk_18 124 (dk_at dksX3_scale_0 0 rfl rfl)
theorem dX3_scale_2 : decode cX3_scale 2 = .ok (.istore_n 1, 1) := dk_60 (dk_at dksX3_scale_0 2 rfl rfl)
theorem dX3_scale_3 : decode cX3_scale 3 = .ok (.bipush 99, 2) := dk_16 99 (dk_at dksX3_scale_0 3 rfl rfl)
theorem dX3_scale_5 : decode cX3_scale 5 = .ok (.istore_n 2, 1) := dk_61 (dk_at dksX3_scale_0 5 rfl rfl)
theorem dX3_scale_6 : decode cX3_scale 6 = .ok (.iload_n 2, 1) := dk_28 (dk_at dksX3_scale_0 6 rfl rfl)
theorem dX3_scale_7 : decode cX3_scale 7 = .ok (.ifCond .lt 30, 3) := dk_155 0 30 (dk_at dksX3_scale_0 7 rfl rfl)
theorem dX3_scale_10 : decode cX3_scale 10 = .ok (.aload_n 0, 1) := dk_42 (dk_at dksX3_scale_0 10 rfl rfl)
theorem dX3_scale_11 : decode cX3_scale 11 = .ok (.iload_n 2, 1) := dk_28 (dk_at dksX3_scale_0 11 rfl rfl)
theorem dX3_scale_12 : decode cX3_scale 12 = .ok (.bipush 10, 2) := dk_16 10 (dk_at dksX3_scale_0 12 rfl rfl)
theorem dX3_scale_14 : decode cX3_scale 14 = .ok (.idiv, 1) := dk_108 (dk_at dksX3_scale_0 14 rfl rfl)
theorem dX3_scale_15 : decode cX3_scale 15 = .ok (.iload_n 2, 1) := dk_28 (dk_at dksX3_scale_0 15 rfl rfl)
theorem dX3_scale_16 : decode cX3_scale 16 = .ok (.bipush 10, 2) := dk_16 10 (dk_at dksX3_scale_0 16 rfl rfl)
theorem dX3_scale_18 : decode cX3_scale 18 = .ok (.irem, 1) := dk_112 (dk_at dksX3_scale_0 18 rfl rfl)
theorem dX3_scale_19 : decode cX3_scale 19 = .ok (.invokevirtual 248, 3) := dk_182 0 248 (dk_at dksX3_scale_0 19 rfl rfl)
theorem dX3_scale_22 : decode cX3_scale 22 = .ok (.ifCond .eq 7, 3) := dk_153 0 7 (dk_at dksX3_scale_1 0 rfl rfl)
theorem dX3_scale_25 : decode cX3_scale 25 = .ok (.iload_n 2, 1) := dk_28 (dk_at dksX3_scale_1 3 rfl rfl)
theorem dX3_scale_26 : decode cX3_scale 26 = .ok (.goto 4, 3) := dk_167 0 4 (dk_at dksX3_scale_1 4 rfl rfl)
theorem dX3_scale_29 : decode cX3_scale 29 = .ok (.iload_n 1, 1) := dk_27 (dk_at dksX3_scale_1 7 rfl rfl)
theorem dX3_scale_30 : decode cX3_scale 30 = .ok (.istore_n 1, 1) := dk_60 (dk_at dksX3_scale_1 8 rfl rfl)
theorem dX3_scale_31 : decode cX3_scale 31 = .ok (.iinc 2 (-1), 3) := dk_132 2 255 (dk_at dksX3_scale_1 9 rfl rfl)
theorem dX3_scale_34 : decode cX3_scale 34 = .ok (.goto (-28), 3) := dk_167 255 228 (dk_at dksX3_scale_1 12 rfl rfl)
theorem dX3_scale_37 : decode cX3_scale 37 = .ok (.iload_n 1, 1) := dk_27 (dk_at dksX3_scale_1 15 rfl rfl)
theorem dX3_scale_38 : decode cX3_scale 38 = .ok (.ireturn, 1) := dk_172 (dk_at dksX3_scale_1 16 rfl rfl)
abbrev cX3_isScale : ByteArray := prog_16_method_54_code
def yX3_isScale : MethodName := ⟨RX3, "isScale", "(II)Z"⟩
def dkwX3_isScale_7 : List UInt8 := [160, 0, 7, 4, 167, 0, 4, 3, 62, 132, 4, 1, 167, 255, 84, 29, 172]
abbrev dktX3_isScale_7 : List UInt8 := dkwX3_isScale_7 ++ []
def dkwX3_isScale_6 : List UInt8 := [21, 8, 21, 5, 28, 104, 21, 6, 27, 104, 96, 21, 6, 28, 104, 42, 180, 0, 19, 4, 46, 104, 96]
abbrev dktX3_isScale_6 : List UInt8 := dkwX3_isScale_6 ++ dktX3_isScale_7
def dkwX3_isScale_5 : List UInt8 := [153, 0, 54, 21, 7, 21, 5, 27, 104, 21, 6, 28, 104, 42, 180, 0, 19, 5, 46, 104, 96, 160, 0, 33]
abbrev dktX3_isScale_5 : List UInt8 := dkwX3_isScale_5 ++ dktX3_isScale_6
def dkwX3_isScale_4 : List UInt8 := [180, 0, 19, 21, 4, 21, 9, 184, 0, 103, 4, 184, 0, 226, 96, 54, 8, 132, 9, 1, 167, 255, 191, 29]
abbrev dktX3_isScale_4 : List UInt8 := dkwX3_isScale_4 ++ dktX3_isScale_5
def dkwX3_isScale_3 : List UInt8 := [180, 0, 19, 21, 4, 21, 9, 184, 0, 103, 3, 184, 0, 226, 96, 54, 7, 21, 8, 42, 180, 0, 19, 42]
abbrev dktX3_isScale_3 : List UInt8 := dkwX3_isScale_3 ++ dktX3_isScale_4
def dkwX3_isScale_2 : List UInt8 := [54, 9, 21, 9, 42, 180, 0, 19, 21, 4, 184, 0, 100, 162, 0, 57, 21, 7, 42, 180, 0, 19, 42]
abbrev dktX3_isScale_2 : List UInt8 := dkwX3_isScale_2 ++ dktX3_isScale_3
def dkwX3_isScale_1 : List UInt8 := [184, 0, 226, 54, 5, 42, 180, 0, 19, 21, 4, 4, 184, 0, 226, 54, 6, 3, 54, 7, 3, 54, 8, 3]
abbrev dktX3_isScale_1 : List UInt8 := dkwX3_isScale_1 ++ dktX3_isScale_2
def dkwX3_isScale_0 : List UInt8 := [4, 62, 3, 54, 4, 21, 4, 42, 180, 0, 19, 3, 46, 162, 0, 167, 42, 180, 0, 19, 21, 4, 3]
abbrev dktX3_isScale_0 : List UInt8 := dkwX3_isScale_0 ++ dktX3_isScale_1
theorem dksX3_isScale_0 : cX3_isScale.data.toList.drop 0 = dktX3_isScale_0 := by decide +kernel
theorem dksX3_isScale_1 : cX3_isScale.data.toList.drop 23 = dktX3_isScale_1 := dk_seg dksX3_isScale_0 23 rfl rfl
theorem dksX3_isScale_2 : cX3_isScale.data.toList.drop 47 = dktX3_isScale_2 := dk_seg dksX3_isScale_1 24 rfl rfl
theorem dksX3_isScale_3 : cX3_isScale.data.toList.drop 70 = dktX3_isScale_3 := dk_seg dksX3_isScale_2 23 rfl rfl
theorem dksX3_isScale_4 : cX3_isScale.data.toList.drop 94 = dktX3_isScale_4 := dk_seg dksX3_isScale_3 24 rfl rfl
theorem dksX3_isScale_5 : cX3_isScale.data.toList.drop 118 = dktX3_isScale_5 := dk_seg dksX3_isScale_4 24 rfl rfl
theorem dksX3_isScale_6 : cX3_isScale.data.toList.drop 142 = dktX3_isScale_6 := dk_seg dksX3_isScale_5 24 rfl rfl
theorem dksX3_isScale_7 : cX3_isScale.data.toList.drop 165 = dktX3_isScale_7 := dk_seg dksX3_isScale_6 23 rfl rfl
theorem dX3_isScale_0 : decode cX3_isScale 0 = .ok (.iconst 1, 1) := dk_4 (dk_at dksX3_isScale_0 0 rfl rfl)
theorem dX3_isScale_1 : decode cX3_isScale 1 = .ok (.istore_n 3, 1) := dk_62 (dk_at dksX3_isScale_0 1 rfl rfl)
theorem dX3_isScale_2 : decode cX3_isScale 2 = .ok (.iconst 0, 1) := dk_3 (dk_at dksX3_isScale_0 2 rfl rfl)
theorem dX3_isScale_3 : decode cX3_isScale 3 = .ok (.istore 4, 2) := dk_54 4 (dk_at dksX3_isScale_0 3 rfl rfl)
theorem dX3_isScale_5 : decode cX3_isScale 5 = .ok (.iload 4, 2) := dk_21 4 (dk_at dksX3_isScale_0 5 rfl rfl)
theorem dX3_isScale_7 : decode cX3_isScale 7 = .ok (.aload_n 0, 1) := dk_42 (dk_at dksX3_isScale_0 7 rfl rfl)
theorem dX3_isScale_8 : decode cX3_isScale 8 = .ok (.getfield 19, 3) := dk_180 0 19 (dk_at dksX3_isScale_0 8 rfl rfl)
theorem dX3_isScale_11 : decode cX3_isScale 11 = .ok (.iconst 0, 1) := dk_3 (dk_at dksX3_isScale_0 11 rfl rfl)
theorem dX3_isScale_12 : decode cX3_isScale 12 = .ok (.iaload, 1) := dk_46 (dk_at dksX3_isScale_0 12 rfl rfl)
theorem dX3_isScale_13 : decode cX3_isScale 13 = .ok (.if_icmp .ge 167, 3) := dk_162 0 167 (dk_at dksX3_isScale_0 13 rfl rfl)
theorem dX3_isScale_16 : decode cX3_isScale 16 = .ok (.aload_n 0, 1) := dk_42 (dk_at dksX3_isScale_0 16 rfl rfl)
theorem dX3_isScale_17 : decode cX3_isScale 17 = .ok (.getfield 19, 3) := dk_180 0 19 (dk_at dksX3_isScale_0 17 rfl rfl)
theorem dX3_isScale_20 : decode cX3_isScale 20 = .ok (.iload 4, 2) := dk_21 4 (dk_at dksX3_isScale_0 20 rfl rfl)
theorem dX3_isScale_22 : decode cX3_isScale 22 = .ok (.iconst 0, 1) := dk_3 (dk_at dksX3_isScale_0 22 rfl rfl)
theorem dX3_isScale_23 : decode cX3_isScale 23 = .ok (.invokestatic 226, 3) := dk_184 0 226 (dk_at dksX3_isScale_1 0 rfl rfl)
theorem dX3_isScale_26 : decode cX3_isScale 26 = .ok (.istore 5, 2) := dk_54 5 (dk_at dksX3_isScale_1 3 rfl rfl)
theorem dX3_isScale_28 : decode cX3_isScale 28 = .ok (.aload_n 0, 1) := dk_42 (dk_at dksX3_isScale_1 5 rfl rfl)
theorem dX3_isScale_29 : decode cX3_isScale 29 = .ok (.getfield 19, 3) := dk_180 0 19 (dk_at dksX3_isScale_1 6 rfl rfl)
theorem dX3_isScale_32 : decode cX3_isScale 32 = .ok (.iload 4, 2) := dk_21 4 (dk_at dksX3_isScale_1 9 rfl rfl)
theorem dX3_isScale_34 : decode cX3_isScale 34 = .ok (.iconst 1, 1) := dk_4 (dk_at dksX3_isScale_1 11 rfl rfl)
theorem dX3_isScale_35 : decode cX3_isScale 35 = .ok (.invokestatic 226, 3) := dk_184 0 226 (dk_at dksX3_isScale_1 12 rfl rfl)
theorem dX3_isScale_38 : decode cX3_isScale 38 = .ok (.istore 6, 2) := dk_54 6 (dk_at dksX3_isScale_1 15 rfl rfl)
theorem dX3_isScale_40 : decode cX3_isScale 40 = .ok (.iconst 0, 1) := dk_3 (dk_at dksX3_isScale_1 17 rfl rfl)
theorem dX3_isScale_41 : decode cX3_isScale 41 = .ok (.istore 7, 2) := dk_54 7 (dk_at dksX3_isScale_1 18 rfl rfl)
theorem dX3_isScale_43 : decode cX3_isScale 43 = .ok (.iconst 0, 1) := dk_3 (dk_at dksX3_isScale_1 20 rfl rfl)
theorem dX3_isScale_44 : decode cX3_isScale 44 = .ok (.istore 8, 2) := dk_54 8 (dk_at dksX3_isScale_1 21 rfl rfl)
theorem dX3_isScale_46 : decode cX3_isScale 46 = .ok (.iconst 0, 1) := dk_3 (dk_at dksX3_isScale_1 23 rfl rfl)
theorem dX3_isScale_47 : decode cX3_isScale 47 = .ok (.istore 9, 2) := dk_54 9 (dk_at dksX3_isScale_2 0 rfl rfl)
theorem dX3_isScale_49 : decode cX3_isScale 49 = .ok (.iload 9, 2) := dk_21 9 (dk_at dksX3_isScale_2 2 rfl rfl)
theorem dX3_isScale_51 : decode cX3_isScale 51 = .ok (.aload_n 0, 1) := dk_42 (dk_at dksX3_isScale_2 4 rfl rfl)
theorem dX3_isScale_52 : decode cX3_isScale 52 = .ok (.getfield 19, 3) := dk_180 0 19 (dk_at dksX3_isScale_2 5 rfl rfl)
theorem dX3_isScale_55 : decode cX3_isScale 55 = .ok (.iload 4, 2) := dk_21 4 (dk_at dksX3_isScale_2 8 rfl rfl)
theorem dX3_isScale_57 : decode cX3_isScale 57 = .ok (.invokestatic 100, 3) := dk_184 0 100 (dk_at dksX3_isScale_2 10 rfl rfl)
theorem dX3_isScale_60 : decode cX3_isScale 60 = .ok (.if_icmp .ge 57, 3) := dk_162 0 57 (dk_at dksX3_isScale_2 13 rfl rfl)
theorem dX3_isScale_63 : decode cX3_isScale 63 = .ok (.iload 7, 2) := dk_21 7 (dk_at dksX3_isScale_2 16 rfl rfl)
theorem dX3_isScale_65 : decode cX3_isScale 65 = .ok (.aload_n 0, 1) := dk_42 (dk_at dksX3_isScale_2 18 rfl rfl)
theorem dX3_isScale_66 : decode cX3_isScale 66 = .ok (.getfield 19, 3) := dk_180 0 19 (dk_at dksX3_isScale_2 19 rfl rfl)
theorem dX3_isScale_69 : decode cX3_isScale 69 = .ok (.aload_n 0, 1) := dk_42 (dk_at dksX3_isScale_2 22 rfl rfl)
theorem dX3_isScale_70 : decode cX3_isScale 70 = .ok (.getfield 19, 3) := dk_180 0 19 (dk_at dksX3_isScale_3 0 rfl rfl)
theorem dX3_isScale_73 : decode cX3_isScale 73 = .ok (.iload 4, 2) := dk_21 4 (dk_at dksX3_isScale_3 3 rfl rfl)
theorem dX3_isScale_75 : decode cX3_isScale 75 = .ok (.iload 9, 2) := dk_21 9 (dk_at dksX3_isScale_3 5 rfl rfl)
theorem dX3_isScale_77 : decode cX3_isScale 77 = .ok (.invokestatic 103, 3) := dk_184 0 103 (dk_at dksX3_isScale_3 7 rfl rfl)
theorem dX3_isScale_80 : decode cX3_isScale 80 = .ok (.iconst 0, 1) := dk_3 (dk_at dksX3_isScale_3 10 rfl rfl)
theorem dX3_isScale_81 : decode cX3_isScale 81 = .ok (.invokestatic 226, 3) := dk_184 0 226 (dk_at dksX3_isScale_3 11 rfl rfl)
theorem dX3_isScale_84 : decode cX3_isScale 84 = .ok (.iadd, 1) := dk_96 (dk_at dksX3_isScale_3 14 rfl rfl)
theorem dX3_isScale_85 : decode cX3_isScale 85 = .ok (.istore 7, 2) := dk_54 7 (dk_at dksX3_isScale_3 15 rfl rfl)
theorem dX3_isScale_87 : decode cX3_isScale 87 = .ok (.iload 8, 2) := dk_21 8 (dk_at dksX3_isScale_3 17 rfl rfl)
theorem dX3_isScale_89 : decode cX3_isScale 89 = .ok (.aload_n 0, 1) := dk_42 (dk_at dksX3_isScale_3 19 rfl rfl)
theorem dX3_isScale_90 : decode cX3_isScale 90 = .ok (.getfield 19, 3) := dk_180 0 19 (dk_at dksX3_isScale_3 20 rfl rfl)
theorem dX3_isScale_93 : decode cX3_isScale 93 = .ok (.aload_n 0, 1) := dk_42 (dk_at dksX3_isScale_3 23 rfl rfl)
theorem dX3_isScale_94 : decode cX3_isScale 94 = .ok (.getfield 19, 3) := dk_180 0 19 (dk_at dksX3_isScale_4 0 rfl rfl)
theorem dX3_isScale_97 : decode cX3_isScale 97 = .ok (.iload 4, 2) := dk_21 4 (dk_at dksX3_isScale_4 3 rfl rfl)
theorem dX3_isScale_99 : decode cX3_isScale 99 = .ok (.iload 9, 2) := dk_21 9 (dk_at dksX3_isScale_4 5 rfl rfl)
theorem dX3_isScale_101 : decode cX3_isScale 101 = .ok (.invokestatic 103, 3) := dk_184 0 103 (dk_at dksX3_isScale_4 7 rfl rfl)
theorem dX3_isScale_104 : decode cX3_isScale 104 = .ok (.iconst 1, 1) := dk_4 (dk_at dksX3_isScale_4 10 rfl rfl)
theorem dX3_isScale_105 : decode cX3_isScale 105 = .ok (.invokestatic 226, 3) := dk_184 0 226 (dk_at dksX3_isScale_4 11 rfl rfl)
theorem dX3_isScale_108 : decode cX3_isScale 108 = .ok (.iadd, 1) := dk_96 (dk_at dksX3_isScale_4 14 rfl rfl)
theorem dX3_isScale_109 : decode cX3_isScale 109 = .ok (.istore 8, 2) := dk_54 8 (dk_at dksX3_isScale_4 15 rfl rfl)
theorem dX3_isScale_111 : decode cX3_isScale 111 = .ok (.iinc 9 1, 3) := dk_132 9 1 (dk_at dksX3_isScale_4 17 rfl rfl)
theorem dX3_isScale_114 : decode cX3_isScale 114 = .ok (.goto (-65), 3) := dk_167 255 191 (dk_at dksX3_isScale_4 20 rfl rfl)
theorem dX3_isScale_117 : decode cX3_isScale 117 = .ok (.iload_n 3, 1) := dk_29 (dk_at dksX3_isScale_4 23 rfl rfl)
theorem dX3_isScale_118 : decode cX3_isScale 118 = .ok (.ifCond .eq 54, 3) := dk_153 0 54 (dk_at dksX3_isScale_5 0 rfl rfl)
theorem dX3_isScale_121 : decode cX3_isScale 121 = .ok (.iload 7, 2) := dk_21 7 (dk_at dksX3_isScale_5 3 rfl rfl)
theorem dX3_isScale_123 : decode cX3_isScale 123 = .ok (.iload 5, 2) := dk_21 5 (dk_at dksX3_isScale_5 5 rfl rfl)
theorem dX3_isScale_125 : decode cX3_isScale 125 = .ok (.iload_n 1, 1) := dk_27 (dk_at dksX3_isScale_5 7 rfl rfl)
theorem dX3_isScale_126 : decode cX3_isScale 126 = .ok (.imul, 1) := dk_104 (dk_at dksX3_isScale_5 8 rfl rfl)
theorem dX3_isScale_127 : decode cX3_isScale 127 = .ok (.iload 6, 2) := dk_21 6 (dk_at dksX3_isScale_5 9 rfl rfl)
theorem dX3_isScale_129 : decode cX3_isScale 129 = .ok (.iload_n 2, 1) := dk_28 (dk_at dksX3_isScale_5 11 rfl rfl)
theorem dX3_isScale_130 : decode cX3_isScale 130 = .ok (.imul, 1) := dk_104 (dk_at dksX3_isScale_5 12 rfl rfl)
theorem dX3_isScale_131 : decode cX3_isScale 131 = .ok (.aload_n 0, 1) := dk_42 (dk_at dksX3_isScale_5 13 rfl rfl)
theorem dX3_isScale_132 : decode cX3_isScale 132 = .ok (.getfield 19, 3) := dk_180 0 19 (dk_at dksX3_isScale_5 14 rfl rfl)
theorem dX3_isScale_135 : decode cX3_isScale 135 = .ok (.iconst 2, 1) := dk_5 (dk_at dksX3_isScale_5 17 rfl rfl)
theorem dX3_isScale_136 : decode cX3_isScale 136 = .ok (.iaload, 1) := dk_46 (dk_at dksX3_isScale_5 18 rfl rfl)
theorem dX3_isScale_137 : decode cX3_isScale 137 = .ok (.imul, 1) := dk_104 (dk_at dksX3_isScale_5 19 rfl rfl)
theorem dX3_isScale_138 : decode cX3_isScale 138 = .ok (.iadd, 1) := dk_96 (dk_at dksX3_isScale_5 20 rfl rfl)
theorem dX3_isScale_139 : decode cX3_isScale 139 = .ok (.if_icmp .ne 33, 3) := dk_160 0 33 (dk_at dksX3_isScale_5 21 rfl rfl)
theorem dX3_isScale_142 : decode cX3_isScale 142 = .ok (.iload 8, 2) := dk_21 8 (dk_at dksX3_isScale_6 0 rfl rfl)
theorem dX3_isScale_144 : decode cX3_isScale 144 = .ok (.iload 5, 2) := dk_21 5 (dk_at dksX3_isScale_6 2 rfl rfl)
theorem dX3_isScale_146 : decode cX3_isScale 146 = .ok (.iload_n 2, 1) := dk_28 (dk_at dksX3_isScale_6 4 rfl rfl)
theorem dX3_isScale_147 : decode cX3_isScale 147 = .ok (.imul, 1) := dk_104 (dk_at dksX3_isScale_6 5 rfl rfl)
theorem dX3_isScale_148 : decode cX3_isScale 148 = .ok (.iload 6, 2) := dk_21 6 (dk_at dksX3_isScale_6 6 rfl rfl)
theorem dX3_isScale_150 : decode cX3_isScale 150 = .ok (.iload_n 1, 1) := dk_27 (dk_at dksX3_isScale_6 8 rfl rfl)
theorem dX3_isScale_151 : decode cX3_isScale 151 = .ok (.imul, 1) := dk_104 (dk_at dksX3_isScale_6 9 rfl rfl)
theorem dX3_isScale_152 : decode cX3_isScale 152 = .ok (.iadd, 1) := dk_96 (dk_at dksX3_isScale_6 10 rfl rfl)
theorem dX3_isScale_153 : decode cX3_isScale 153 = .ok (.iload 6, 2) := dk_21 6 (dk_at dksX3_isScale_6 11 rfl rfl)
theorem dX3_isScale_155 : decode cX3_isScale 155 = .ok (.iload_n 2, 1) := dk_28 (dk_at dksX3_isScale_6 13 rfl rfl)
theorem dX3_isScale_156 : decode cX3_isScale 156 = .ok (.imul, 1) := dk_104 (dk_at dksX3_isScale_6 14 rfl rfl)
theorem dX3_isScale_157 : decode cX3_isScale 157 = .ok (.aload_n 0, 1) := dk_42 (dk_at dksX3_isScale_6 15 rfl rfl)
theorem dX3_isScale_158 : decode cX3_isScale 158 = .ok (.getfield 19, 3) := dk_180 0 19 (dk_at dksX3_isScale_6 16 rfl rfl)
theorem dX3_isScale_161 : decode cX3_isScale 161 = .ok (.iconst 1, 1) := dk_4 (dk_at dksX3_isScale_6 19 rfl rfl)
theorem dX3_isScale_162 : decode cX3_isScale 162 = .ok (.iaload, 1) := dk_46 (dk_at dksX3_isScale_6 20 rfl rfl)
theorem dX3_isScale_163 : decode cX3_isScale 163 = .ok (.imul, 1) := dk_104 (dk_at dksX3_isScale_6 21 rfl rfl)
theorem dX3_isScale_164 : decode cX3_isScale 164 = .ok (.iadd, 1) := dk_96 (dk_at dksX3_isScale_6 22 rfl rfl)
theorem dX3_isScale_165 : decode cX3_isScale 165 = .ok (.if_icmp .ne 7, 3) := dk_160 0 7 (dk_at dksX3_isScale_7 0 rfl rfl)
theorem dX3_isScale_168 : decode cX3_isScale 168 = .ok (.iconst 1, 1) := dk_4 (dk_at dksX3_isScale_7 3 rfl rfl)
theorem dX3_isScale_169 : decode cX3_isScale 169 = .ok (.goto 4, 3) := dk_167 0 4 (dk_at dksX3_isScale_7 4 rfl rfl)
theorem dX3_isScale_172 : decode cX3_isScale 172 = .ok (.iconst 0, 1) := dk_3 (dk_at dksX3_isScale_7 7 rfl rfl)
theorem dX3_isScale_173 : decode cX3_isScale 173 = .ok (.istore_n 3, 1) := dk_62 (dk_at dksX3_isScale_7 8 rfl rfl)
theorem dX3_isScale_174 : decode cX3_isScale 174 = .ok (.iinc 4 1, 3) := dk_132 4 1 (dk_at dksX3_isScale_7 9 rfl rfl)
theorem dX3_isScale_177 : decode cX3_isScale 177 = .ok (.goto (-172), 3) := dk_167 255 84 (dk_at dksX3_isScale_7 12 rfl rfl)
theorem dX3_isScale_180 : decode cX3_isScale 180 = .ok (.iload_n 3, 1) := dk_29 (dk_at dksX3_isScale_7 15 rfl rfl)
theorem dX3_isScale_181 : decode cX3_isScale 181 = .ok (.ireturn, 1) := dk_172 (dk_at dksX3_isScale_7 16 rfl rfl)
abbrev cX3_pairsOf : ByteArray := prog_16_method_21_code
def yX3_pairsOf : MethodName := ⟨RX3, "pairsOf", "([I)I"⟩
def dkwX3_pairsOf_9 : List UInt8 := [184, 0, 103, 96, 120, 128, 61, 132, 4, 1, 167, 255, 198, 132, 3, 1, 167, 255, 89, 28, 172]
abbrev dktX3_pairsOf_9 : List UInt8 := dkwX3_pairsOf_9 ++ []
def dkwX3_pairsOf_8 : List UInt8 := [184, 0, 100, 4, 100, 184, 0, 103, 54, 5, 28, 4, 7, 21, 5, 104, 42, 21, 4, 7, 112, 3]
abbrev dktX3_pairsOf_8 : List UInt8 := dkwX3_pairsOf_8 ++ dktX3_pairsOf_9
def dkwX3_pairsOf_7 : List UInt8 := [162, 0, 57, 28, 21, 4, 184, 0, 85, 153, 0, 42, 42, 21, 4, 7, 108, 42, 21, 4, 7, 108]
abbrev dktX3_pairsOf_7 : List UInt8 := dkwX3_pairsOf_7 ++ dktX3_pairsOf_8
def dkwX3_pairsOf_6 : List UInt8 := [3, 128, 61, 132, 5, 1, 167, 255, 185, 132, 4, 1, 167, 255, 168, 3, 54, 4, 21, 4, 16, 16]
abbrev dktX3_pairsOf_6 : List UInt8 := dkwX3_pairsOf_6 ++ dktX3_pairsOf_7
def dkwX3_pairsOf_5 : List UInt8 := [42, 21, 4, 21, 5, 4, 100, 184, 0, 103, 104, 42, 21, 4, 21, 5, 184, 0, 103, 96, 120, 167, 0, 4]
abbrev dktX3_pairsOf_5 : List UInt8 := dkwX3_pairsOf_5 ++ dktX3_pairsOf_6
def dkwX3_pairsOf_4 : List UInt8 := [153, 0, 57, 27, 4, 42, 21, 4, 21, 5, 184, 0, 103, 120, 128, 60, 28, 21, 5, 158, 0, 29, 4, 7]
abbrev dktX3_pairsOf_4 : List UInt8 := dkwX3_pairsOf_4 ++ dktX3_pairsOf_5
def dkwX3_pairsOf_3 : List UInt8 := [46, 162, 0, 86, 3, 54, 5, 21, 5, 42, 21, 4, 184, 0, 100, 162, 0, 66, 27, 21, 4, 184, 0, 85]
abbrev dktX3_pairsOf_3 : List UInt8 := dkwX3_pairsOf_3 ++ dktX3_pairsOf_4
def dkwX3_pairsOf_2 : List UInt8 := [3, 128, 61, 132, 3, 1, 167, 255, 208, 3, 62, 29, 16, 21, 162, 0, 167, 3, 54, 4, 21, 4, 42, 3]
abbrev dktX3_pairsOf_2 : List UInt8 := dkwX3_pairsOf_2 ++ dktX3_pairsOf_3
def dkwX3_pairsOf_1 : List UInt8 := [29, 158, 0, 23, 4, 7, 42, 7, 29, 96, 4, 100, 46, 104, 42, 7, 29, 96, 46, 96, 120, 167, 0, 4]
abbrev dktX3_pairsOf_1 : List UInt8 := dkwX3_pairsOf_1 ++ dktX3_pairsOf_2
def dkwX3_pairsOf_0 : List UInt8 := [3, 60, 3, 61, 3, 62, 29, 42, 6, 46, 162, 0, 47, 27, 4, 42, 7, 29, 96, 46, 120, 128, 60, 28]
abbrev dktX3_pairsOf_0 : List UInt8 := dkwX3_pairsOf_0 ++ dktX3_pairsOf_1
theorem dksX3_pairsOf_0 : cX3_pairsOf.data.toList.drop 0 = dktX3_pairsOf_0 := by decide +kernel
theorem dksX3_pairsOf_1 : cX3_pairsOf.data.toList.drop 24 = dktX3_pairsOf_1 := dk_seg dksX3_pairsOf_0 24 rfl rfl
theorem dksX3_pairsOf_2 : cX3_pairsOf.data.toList.drop 48 = dktX3_pairsOf_2 := dk_seg dksX3_pairsOf_1 24 rfl rfl
theorem dksX3_pairsOf_3 : cX3_pairsOf.data.toList.drop 72 = dktX3_pairsOf_3 := dk_seg dksX3_pairsOf_2 24 rfl rfl
theorem dksX3_pairsOf_4 : cX3_pairsOf.data.toList.drop 96 = dktX3_pairsOf_4 := dk_seg dksX3_pairsOf_3 24 rfl rfl
theorem dksX3_pairsOf_5 : cX3_pairsOf.data.toList.drop 120 = dktX3_pairsOf_5 := dk_seg dksX3_pairsOf_4 24 rfl rfl
theorem dksX3_pairsOf_6 : cX3_pairsOf.data.toList.drop 144 = dktX3_pairsOf_6 := dk_seg dksX3_pairsOf_5 24 rfl rfl
theorem dksX3_pairsOf_7 : cX3_pairsOf.data.toList.drop 166 = dktX3_pairsOf_7 := dk_seg dksX3_pairsOf_6 22 rfl rfl
theorem dksX3_pairsOf_8 : cX3_pairsOf.data.toList.drop 188 = dktX3_pairsOf_8 := dk_seg dksX3_pairsOf_7 22 rfl rfl
theorem dksX3_pairsOf_9 : cX3_pairsOf.data.toList.drop 210 = dktX3_pairsOf_9 := dk_seg dksX3_pairsOf_8 22 rfl rfl
theorem dX3_pairsOf_0 : decode cX3_pairsOf 0 = .ok (.iconst 0, 1) := dk_3 (dk_at dksX3_pairsOf_0 0 rfl rfl)
theorem dX3_pairsOf_1 : decode cX3_pairsOf 1 = .ok (.istore_n 1, 1) := dk_60 (dk_at dksX3_pairsOf_0 1 rfl rfl)
theorem dX3_pairsOf_2 : decode cX3_pairsOf 2 = .ok (.iconst 0, 1) := dk_3 (dk_at dksX3_pairsOf_0 2 rfl rfl)
theorem dX3_pairsOf_3 : decode cX3_pairsOf 3 = .ok (.istore_n 2, 1) := dk_61 (dk_at dksX3_pairsOf_0 3 rfl rfl)
theorem dX3_pairsOf_4 : decode cX3_pairsOf 4 = .ok (.iconst 0, 1) := dk_3 (dk_at dksX3_pairsOf_0 4 rfl rfl)
theorem dX3_pairsOf_5 : decode cX3_pairsOf 5 = .ok (.istore_n 3, 1) := dk_62 (dk_at dksX3_pairsOf_0 5 rfl rfl)
theorem dX3_pairsOf_6 : decode cX3_pairsOf 6 = .ok (.iload_n 3, 1) := dk_29 (dk_at dksX3_pairsOf_0 6 rfl rfl)
theorem dX3_pairsOf_7 : decode cX3_pairsOf 7 = .ok (.aload_n 0, 1) := dk_42 (dk_at dksX3_pairsOf_0 7 rfl rfl)
theorem dX3_pairsOf_8 : decode cX3_pairsOf 8 = .ok (.iconst 3, 1) := dk_6 (dk_at dksX3_pairsOf_0 8 rfl rfl)
theorem dX3_pairsOf_9 : decode cX3_pairsOf 9 = .ok (.iaload, 1) := dk_46 (dk_at dksX3_pairsOf_0 9 rfl rfl)
theorem dX3_pairsOf_10 : decode cX3_pairsOf 10 = .ok (.if_icmp .ge 47, 3) := dk_162 0 47 (dk_at dksX3_pairsOf_0 10 rfl rfl)
theorem dX3_pairsOf_13 : decode cX3_pairsOf 13 = .ok (.iload_n 1, 1) := dk_27 (dk_at dksX3_pairsOf_0 13 rfl rfl)
theorem dX3_pairsOf_14 : decode cX3_pairsOf 14 = .ok (.iconst 1, 1) := dk_4 (dk_at dksX3_pairsOf_0 14 rfl rfl)
theorem dX3_pairsOf_15 : decode cX3_pairsOf 15 = .ok (.aload_n 0, 1) := dk_42 (dk_at dksX3_pairsOf_0 15 rfl rfl)
theorem dX3_pairsOf_16 : decode cX3_pairsOf 16 = .ok (.iconst 4, 1) := dk_7 (dk_at dksX3_pairsOf_0 16 rfl rfl)
theorem dX3_pairsOf_17 : decode cX3_pairsOf 17 = .ok (.iload_n 3, 1) := dk_29 (dk_at dksX3_pairsOf_0 17 rfl rfl)
theorem dX3_pairsOf_18 : decode cX3_pairsOf 18 = .ok (.iadd, 1) := dk_96 (dk_at dksX3_pairsOf_0 18 rfl rfl)
theorem dX3_pairsOf_19 : decode cX3_pairsOf 19 = .ok (.iaload, 1) := dk_46 (dk_at dksX3_pairsOf_0 19 rfl rfl)
theorem dX3_pairsOf_20 : decode cX3_pairsOf 20 = .ok (.ishl, 1) := dk_120 (dk_at dksX3_pairsOf_0 20 rfl rfl)
theorem dX3_pairsOf_21 : decode cX3_pairsOf 21 = .ok (.ior, 1) := dk_128 (dk_at dksX3_pairsOf_0 21 rfl rfl)
theorem dX3_pairsOf_22 : decode cX3_pairsOf 22 = .ok (.istore_n 1, 1) := dk_60 (dk_at dksX3_pairsOf_0 22 rfl rfl)
theorem dX3_pairsOf_23 : decode cX3_pairsOf 23 = .ok (.iload_n 2, 1) := dk_28 (dk_at dksX3_pairsOf_0 23 rfl rfl)
theorem dX3_pairsOf_24 : decode cX3_pairsOf 24 = .ok (.iload_n 3, 1) := dk_29 (dk_at dksX3_pairsOf_1 0 rfl rfl)
theorem dX3_pairsOf_25 : decode cX3_pairsOf 25 = .ok (.ifCond .le 23, 3) := dk_158 0 23 (dk_at dksX3_pairsOf_1 1 rfl rfl)
theorem dX3_pairsOf_28 : decode cX3_pairsOf 28 = .ok (.iconst 1, 1) := dk_4 (dk_at dksX3_pairsOf_1 4 rfl rfl)
theorem dX3_pairsOf_29 : decode cX3_pairsOf 29 = .ok (.iconst 4, 1) := dk_7 (dk_at dksX3_pairsOf_1 5 rfl rfl)
theorem dX3_pairsOf_30 : decode cX3_pairsOf 30 = .ok (.aload_n 0, 1) := dk_42 (dk_at dksX3_pairsOf_1 6 rfl rfl)
theorem dX3_pairsOf_31 : decode cX3_pairsOf 31 = .ok (.iconst 4, 1) := dk_7 (dk_at dksX3_pairsOf_1 7 rfl rfl)
theorem dX3_pairsOf_32 : decode cX3_pairsOf 32 = .ok (.iload_n 3, 1) := dk_29 (dk_at dksX3_pairsOf_1 8 rfl rfl)
theorem dX3_pairsOf_33 : decode cX3_pairsOf 33 = .ok (.iadd, 1) := dk_96 (dk_at dksX3_pairsOf_1 9 rfl rfl)
theorem dX3_pairsOf_34 : decode cX3_pairsOf 34 = .ok (.iconst 1, 1) := dk_4 (dk_at dksX3_pairsOf_1 10 rfl rfl)
theorem dX3_pairsOf_35 : decode cX3_pairsOf 35 = .ok (.isub, 1) := dk_100 (dk_at dksX3_pairsOf_1 11 rfl rfl)
theorem dX3_pairsOf_36 : decode cX3_pairsOf 36 = .ok (.iaload, 1) := dk_46 (dk_at dksX3_pairsOf_1 12 rfl rfl)
theorem dX3_pairsOf_37 : decode cX3_pairsOf 37 = .ok (.imul, 1) := dk_104 (dk_at dksX3_pairsOf_1 13 rfl rfl)
theorem dX3_pairsOf_38 : decode cX3_pairsOf 38 = .ok (.aload_n 0, 1) := dk_42 (dk_at dksX3_pairsOf_1 14 rfl rfl)
theorem dX3_pairsOf_39 : decode cX3_pairsOf 39 = .ok (.iconst 4, 1) := dk_7 (dk_at dksX3_pairsOf_1 15 rfl rfl)
theorem dX3_pairsOf_40 : decode cX3_pairsOf 40 = .ok (.iload_n 3, 1) := dk_29 (dk_at dksX3_pairsOf_1 16 rfl rfl)
theorem dX3_pairsOf_41 : decode cX3_pairsOf 41 = .ok (.iadd, 1) := dk_96 (dk_at dksX3_pairsOf_1 17 rfl rfl)
theorem dX3_pairsOf_42 : decode cX3_pairsOf 42 = .ok (.iaload, 1) := dk_46 (dk_at dksX3_pairsOf_1 18 rfl rfl)
theorem dX3_pairsOf_43 : decode cX3_pairsOf 43 = .ok (.iadd, 1) := dk_96 (dk_at dksX3_pairsOf_1 19 rfl rfl)
theorem dX3_pairsOf_44 : decode cX3_pairsOf 44 = .ok (.ishl, 1) := dk_120 (dk_at dksX3_pairsOf_1 20 rfl rfl)
theorem dX3_pairsOf_45 : decode cX3_pairsOf 45 = .ok (.goto 4, 3) := dk_167 0 4 (dk_at dksX3_pairsOf_1 21 rfl rfl)
theorem dX3_pairsOf_48 : decode cX3_pairsOf 48 = .ok (.iconst 0, 1) := dk_3 (dk_at dksX3_pairsOf_2 0 rfl rfl)
theorem dX3_pairsOf_49 : decode cX3_pairsOf 49 = .ok (.ior, 1) := dk_128 (dk_at dksX3_pairsOf_2 1 rfl rfl)
theorem dX3_pairsOf_50 : decode cX3_pairsOf 50 = .ok (.istore_n 2, 1) := dk_61 (dk_at dksX3_pairsOf_2 2 rfl rfl)
theorem dX3_pairsOf_51 : decode cX3_pairsOf 51 = .ok (.iinc 3 1, 3) := dk_132 3 1 (dk_at dksX3_pairsOf_2 3 rfl rfl)
theorem dX3_pairsOf_54 : decode cX3_pairsOf 54 = .ok (.goto (-48), 3) := dk_167 255 208 (dk_at dksX3_pairsOf_2 6 rfl rfl)
theorem dX3_pairsOf_57 : decode cX3_pairsOf 57 = .ok (.iconst 0, 1) := dk_3 (dk_at dksX3_pairsOf_2 9 rfl rfl)
theorem dX3_pairsOf_58 : decode cX3_pairsOf 58 = .ok (.istore_n 3, 1) := dk_62 (dk_at dksX3_pairsOf_2 10 rfl rfl)
theorem dX3_pairsOf_59 : decode cX3_pairsOf 59 = .ok (.iload_n 3, 1) := dk_29 (dk_at dksX3_pairsOf_2 11 rfl rfl)
theorem dX3_pairsOf_60 : decode cX3_pairsOf 60 = .ok (.bipush 21, 2) := dk_16 21 (dk_at dksX3_pairsOf_2 12 rfl rfl)
theorem dX3_pairsOf_62 : decode cX3_pairsOf 62 = .ok (.if_icmp .ge 167, 3) := dk_162 0 167 (dk_at dksX3_pairsOf_2 14 rfl rfl)
theorem dX3_pairsOf_65 : decode cX3_pairsOf 65 = .ok (.iconst 0, 1) := dk_3 (dk_at dksX3_pairsOf_2 17 rfl rfl)
theorem dX3_pairsOf_66 : decode cX3_pairsOf 66 = .ok (.istore 4, 2) := dk_54 4 (dk_at dksX3_pairsOf_2 18 rfl rfl)
theorem dX3_pairsOf_68 : decode cX3_pairsOf 68 = .ok (.iload 4, 2) := dk_21 4 (dk_at dksX3_pairsOf_2 20 rfl rfl)
theorem dX3_pairsOf_70 : decode cX3_pairsOf 70 = .ok (.aload_n 0, 1) := dk_42 (dk_at dksX3_pairsOf_2 22 rfl rfl)
theorem dX3_pairsOf_71 : decode cX3_pairsOf 71 = .ok (.iconst 0, 1) := dk_3 (dk_at dksX3_pairsOf_2 23 rfl rfl)
theorem dX3_pairsOf_72 : decode cX3_pairsOf 72 = .ok (.iaload, 1) := dk_46 (dk_at dksX3_pairsOf_3 0 rfl rfl)
theorem dX3_pairsOf_73 : decode cX3_pairsOf 73 = .ok (.if_icmp .ge 86, 3) := dk_162 0 86 (dk_at dksX3_pairsOf_3 1 rfl rfl)
theorem dX3_pairsOf_76 : decode cX3_pairsOf 76 = .ok (.iconst 0, 1) := dk_3 (dk_at dksX3_pairsOf_3 4 rfl rfl)
theorem dX3_pairsOf_77 : decode cX3_pairsOf 77 = .ok (.istore 5, 2) := dk_54 5 (dk_at dksX3_pairsOf_3 5 rfl rfl)
theorem dX3_pairsOf_79 : decode cX3_pairsOf 79 = .ok (.iload 5, 2) := dk_21 5 (dk_at dksX3_pairsOf_3 7 rfl rfl)
theorem dX3_pairsOf_81 : decode cX3_pairsOf 81 = .ok (.aload_n 0, 1) := dk_42 (dk_at dksX3_pairsOf_3 9 rfl rfl)
theorem dX3_pairsOf_82 : decode cX3_pairsOf 82 = .ok (.iload 4, 2) := dk_21 4 (dk_at dksX3_pairsOf_3 10 rfl rfl)
theorem dX3_pairsOf_84 : decode cX3_pairsOf 84 = .ok (.invokestatic 100, 3) := dk_184 0 100 (dk_at dksX3_pairsOf_3 12 rfl rfl)
theorem dX3_pairsOf_87 : decode cX3_pairsOf 87 = .ok (.if_icmp .ge 66, 3) := dk_162 0 66 (dk_at dksX3_pairsOf_3 15 rfl rfl)
theorem dX3_pairsOf_90 : decode cX3_pairsOf 90 = .ok (.iload_n 1, 1) := dk_27 (dk_at dksX3_pairsOf_3 18 rfl rfl)
theorem dX3_pairsOf_91 : decode cX3_pairsOf 91 = .ok (.iload 4, 2) := dk_21 4 (dk_at dksX3_pairsOf_3 19 rfl rfl)
theorem dX3_pairsOf_93 : decode cX3_pairsOf 93 = .ok (.invokestatic 85, 3) := dk_184 0 85 (dk_at dksX3_pairsOf_3 21 rfl rfl)
theorem dX3_pairsOf_96 : decode cX3_pairsOf 96 = .ok (.ifCond .eq 57, 3) := dk_153 0 57 (dk_at dksX3_pairsOf_4 0 rfl rfl)
theorem dX3_pairsOf_99 : decode cX3_pairsOf 99 = .ok (.iload_n 1, 1) := dk_27 (dk_at dksX3_pairsOf_4 3 rfl rfl)
theorem dX3_pairsOf_100 : decode cX3_pairsOf 100 = .ok (.iconst 1, 1) := dk_4 (dk_at dksX3_pairsOf_4 4 rfl rfl)
theorem dX3_pairsOf_101 : decode cX3_pairsOf 101 = .ok (.aload_n 0, 1) := dk_42 (dk_at dksX3_pairsOf_4 5 rfl rfl)
theorem dX3_pairsOf_102 : decode cX3_pairsOf 102 = .ok (.iload 4, 2) := dk_21 4 (dk_at dksX3_pairsOf_4 6 rfl rfl)
theorem dX3_pairsOf_104 : decode cX3_pairsOf 104 = .ok (.iload 5, 2) := dk_21 5 (dk_at dksX3_pairsOf_4 8 rfl rfl)
theorem dX3_pairsOf_106 : decode cX3_pairsOf 106 = .ok (.invokestatic 103, 3) := dk_184 0 103 (dk_at dksX3_pairsOf_4 10 rfl rfl)
theorem dX3_pairsOf_109 : decode cX3_pairsOf 109 = .ok (.ishl, 1) := dk_120 (dk_at dksX3_pairsOf_4 13 rfl rfl)
theorem dX3_pairsOf_110 : decode cX3_pairsOf 110 = .ok (.ior, 1) := dk_128 (dk_at dksX3_pairsOf_4 14 rfl rfl)
theorem dX3_pairsOf_111 : decode cX3_pairsOf 111 = .ok (.istore_n 1, 1) := dk_60 (dk_at dksX3_pairsOf_4 15 rfl rfl)
theorem dX3_pairsOf_112 : decode cX3_pairsOf 112 = .ok (.iload_n 2, 1) := dk_28 (dk_at dksX3_pairsOf_4 16 rfl rfl)
theorem dX3_pairsOf_113 : decode cX3_pairsOf 113 = .ok (.iload 5, 2) := dk_21 5 (dk_at dksX3_pairsOf_4 17 rfl rfl)
theorem dX3_pairsOf_115 : decode cX3_pairsOf 115 = .ok (.ifCond .le 29, 3) := dk_158 0 29 (dk_at dksX3_pairsOf_4 19 rfl rfl)
theorem dX3_pairsOf_118 : decode cX3_pairsOf 118 = .ok (.iconst 1, 1) := dk_4 (dk_at dksX3_pairsOf_4 22 rfl rfl)
theorem dX3_pairsOf_119 : decode cX3_pairsOf 119 = .ok (.iconst 4, 1) := dk_7 (dk_at dksX3_pairsOf_4 23 rfl rfl)
theorem dX3_pairsOf_120 : decode cX3_pairsOf 120 = .ok (.aload_n 0, 1) := dk_42 (dk_at dksX3_pairsOf_5 0 rfl rfl)
theorem dX3_pairsOf_121 : decode cX3_pairsOf 121 = .ok (.iload 4, 2) := dk_21 4 (dk_at dksX3_pairsOf_5 1 rfl rfl)
theorem dX3_pairsOf_123 : decode cX3_pairsOf 123 = .ok (.iload 5, 2) := dk_21 5 (dk_at dksX3_pairsOf_5 3 rfl rfl)
theorem dX3_pairsOf_125 : decode cX3_pairsOf 125 = .ok (.iconst 1, 1) := dk_4 (dk_at dksX3_pairsOf_5 5 rfl rfl)
theorem dX3_pairsOf_126 : decode cX3_pairsOf 126 = .ok (.isub, 1) := dk_100 (dk_at dksX3_pairsOf_5 6 rfl rfl)
theorem dX3_pairsOf_127 : decode cX3_pairsOf 127 = .ok (.invokestatic 103, 3) := dk_184 0 103 (dk_at dksX3_pairsOf_5 7 rfl rfl)
theorem dX3_pairsOf_130 : decode cX3_pairsOf 130 = .ok (.imul, 1) := dk_104 (dk_at dksX3_pairsOf_5 10 rfl rfl)
theorem dX3_pairsOf_131 : decode cX3_pairsOf 131 = .ok (.aload_n 0, 1) := dk_42 (dk_at dksX3_pairsOf_5 11 rfl rfl)
theorem dX3_pairsOf_132 : decode cX3_pairsOf 132 = .ok (.iload 4, 2) := dk_21 4 (dk_at dksX3_pairsOf_5 12 rfl rfl)
theorem dX3_pairsOf_134 : decode cX3_pairsOf 134 = .ok (.iload 5, 2) := dk_21 5 (dk_at dksX3_pairsOf_5 14 rfl rfl)
theorem dX3_pairsOf_136 : decode cX3_pairsOf 136 = .ok (.invokestatic 103, 3) := dk_184 0 103 (dk_at dksX3_pairsOf_5 16 rfl rfl)
theorem dX3_pairsOf_139 : decode cX3_pairsOf 139 = .ok (.iadd, 1) := dk_96 (dk_at dksX3_pairsOf_5 19 rfl rfl)
theorem dX3_pairsOf_140 : decode cX3_pairsOf 140 = .ok (.ishl, 1) := dk_120 (dk_at dksX3_pairsOf_5 20 rfl rfl)
theorem dX3_pairsOf_141 : decode cX3_pairsOf 141 = .ok (.goto 4, 3) := dk_167 0 4 (dk_at dksX3_pairsOf_5 21 rfl rfl)
theorem dX3_pairsOf_144 : decode cX3_pairsOf 144 = .ok (.iconst 0, 1) := dk_3 (dk_at dksX3_pairsOf_6 0 rfl rfl)
theorem dX3_pairsOf_145 : decode cX3_pairsOf 145 = .ok (.ior, 1) := dk_128 (dk_at dksX3_pairsOf_6 1 rfl rfl)
theorem dX3_pairsOf_146 : decode cX3_pairsOf 146 = .ok (.istore_n 2, 1) := dk_61 (dk_at dksX3_pairsOf_6 2 rfl rfl)
theorem dX3_pairsOf_147 : decode cX3_pairsOf 147 = .ok (.iinc 5 1, 3) := dk_132 5 1 (dk_at dksX3_pairsOf_6 3 rfl rfl)
theorem dX3_pairsOf_150 : decode cX3_pairsOf 150 = .ok (.goto (-71), 3) := dk_167 255 185 (dk_at dksX3_pairsOf_6 6 rfl rfl)
theorem dX3_pairsOf_153 : decode cX3_pairsOf 153 = .ok (.iinc 4 1, 3) := dk_132 4 1 (dk_at dksX3_pairsOf_6 9 rfl rfl)
theorem dX3_pairsOf_156 : decode cX3_pairsOf 156 = .ok (.goto (-88), 3) := dk_167 255 168 (dk_at dksX3_pairsOf_6 12 rfl rfl)
theorem dX3_pairsOf_159 : decode cX3_pairsOf 159 = .ok (.iconst 0, 1) := dk_3 (dk_at dksX3_pairsOf_6 15 rfl rfl)
theorem dX3_pairsOf_160 : decode cX3_pairsOf 160 = .ok (.istore 4, 2) := dk_54 4 (dk_at dksX3_pairsOf_6 16 rfl rfl)
theorem dX3_pairsOf_162 : decode cX3_pairsOf 162 = .ok (.iload 4, 2) := dk_21 4 (dk_at dksX3_pairsOf_6 18 rfl rfl)
theorem dX3_pairsOf_164 : decode cX3_pairsOf 164 = .ok (.bipush 16, 2) := dk_16 16 (dk_at dksX3_pairsOf_6 20 rfl rfl)
theorem dX3_pairsOf_166 : decode cX3_pairsOf 166 = .ok (.if_icmp .ge 57, 3) := dk_162 0 57 (dk_at dksX3_pairsOf_7 0 rfl rfl)
theorem dX3_pairsOf_169 : decode cX3_pairsOf 169 = .ok (.iload_n 2, 1) := dk_28 (dk_at dksX3_pairsOf_7 3 rfl rfl)
theorem dX3_pairsOf_170 : decode cX3_pairsOf 170 = .ok (.iload 4, 2) := dk_21 4 (dk_at dksX3_pairsOf_7 4 rfl rfl)
theorem dX3_pairsOf_172 : decode cX3_pairsOf 172 = .ok (.invokestatic 85, 3) := dk_184 0 85 (dk_at dksX3_pairsOf_7 6 rfl rfl)
theorem dX3_pairsOf_175 : decode cX3_pairsOf 175 = .ok (.ifCond .eq 42, 3) := dk_153 0 42 (dk_at dksX3_pairsOf_7 9 rfl rfl)
theorem dX3_pairsOf_178 : decode cX3_pairsOf 178 = .ok (.aload_n 0, 1) := dk_42 (dk_at dksX3_pairsOf_7 12 rfl rfl)
theorem dX3_pairsOf_179 : decode cX3_pairsOf 179 = .ok (.iload 4, 2) := dk_21 4 (dk_at dksX3_pairsOf_7 13 rfl rfl)
theorem dX3_pairsOf_181 : decode cX3_pairsOf 181 = .ok (.iconst 4, 1) := dk_7 (dk_at dksX3_pairsOf_7 15 rfl rfl)
theorem dX3_pairsOf_182 : decode cX3_pairsOf 182 = .ok (.idiv, 1) := dk_108 (dk_at dksX3_pairsOf_7 16 rfl rfl)
theorem dX3_pairsOf_183 : decode cX3_pairsOf 183 = .ok (.aload_n 0, 1) := dk_42 (dk_at dksX3_pairsOf_7 17 rfl rfl)
theorem dX3_pairsOf_184 : decode cX3_pairsOf 184 = .ok (.iload 4, 2) := dk_21 4 (dk_at dksX3_pairsOf_7 18 rfl rfl)
theorem dX3_pairsOf_186 : decode cX3_pairsOf 186 = .ok (.iconst 4, 1) := dk_7 (dk_at dksX3_pairsOf_7 20 rfl rfl)
theorem dX3_pairsOf_187 : decode cX3_pairsOf 187 = .ok (.idiv, 1) := dk_108 (dk_at dksX3_pairsOf_7 21 rfl rfl)
theorem dX3_pairsOf_188 : decode cX3_pairsOf 188 = .ok (.invokestatic 100, 3) := dk_184 0 100 (dk_at dksX3_pairsOf_8 0 rfl rfl)
theorem dX3_pairsOf_191 : decode cX3_pairsOf 191 = .ok (.iconst 1, 1) := dk_4 (dk_at dksX3_pairsOf_8 3 rfl rfl)
theorem dX3_pairsOf_192 : decode cX3_pairsOf 192 = .ok (.isub, 1) := dk_100 (dk_at dksX3_pairsOf_8 4 rfl rfl)
theorem dX3_pairsOf_193 : decode cX3_pairsOf 193 = .ok (.invokestatic 103, 3) := dk_184 0 103 (dk_at dksX3_pairsOf_8 5 rfl rfl)
theorem dX3_pairsOf_196 : decode cX3_pairsOf 196 = .ok (.istore 5, 2) := dk_54 5 (dk_at dksX3_pairsOf_8 8 rfl rfl)
theorem dX3_pairsOf_198 : decode cX3_pairsOf 198 = .ok (.iload_n 2, 1) := dk_28 (dk_at dksX3_pairsOf_8 10 rfl rfl)
theorem dX3_pairsOf_199 : decode cX3_pairsOf 199 = .ok (.iconst 1, 1) := dk_4 (dk_at dksX3_pairsOf_8 11 rfl rfl)
theorem dX3_pairsOf_200 : decode cX3_pairsOf 200 = .ok (.iconst 4, 1) := dk_7 (dk_at dksX3_pairsOf_8 12 rfl rfl)
theorem dX3_pairsOf_201 : decode cX3_pairsOf 201 = .ok (.iload 5, 2) := dk_21 5 (dk_at dksX3_pairsOf_8 13 rfl rfl)
theorem dX3_pairsOf_203 : decode cX3_pairsOf 203 = .ok (.imul, 1) := dk_104 (dk_at dksX3_pairsOf_8 15 rfl rfl)
theorem dX3_pairsOf_204 : decode cX3_pairsOf 204 = .ok (.aload_n 0, 1) := dk_42 (dk_at dksX3_pairsOf_8 16 rfl rfl)
theorem dX3_pairsOf_205 : decode cX3_pairsOf 205 = .ok (.iload 4, 2) := dk_21 4 (dk_at dksX3_pairsOf_8 17 rfl rfl)
theorem dX3_pairsOf_207 : decode cX3_pairsOf 207 = .ok (.iconst 4, 1) := dk_7 (dk_at dksX3_pairsOf_8 19 rfl rfl)
theorem dX3_pairsOf_208 : decode cX3_pairsOf 208 = .ok (.irem, 1) := dk_112 (dk_at dksX3_pairsOf_8 20 rfl rfl)
theorem dX3_pairsOf_209 : decode cX3_pairsOf 209 = .ok (.iconst 0, 1) := dk_3 (dk_at dksX3_pairsOf_8 21 rfl rfl)
theorem dX3_pairsOf_210 : decode cX3_pairsOf 210 = .ok (.invokestatic 103, 3) := dk_184 0 103 (dk_at dksX3_pairsOf_9 0 rfl rfl)
theorem dX3_pairsOf_213 : decode cX3_pairsOf 213 = .ok (.iadd, 1) := dk_96 (dk_at dksX3_pairsOf_9 3 rfl rfl)
theorem dX3_pairsOf_214 : decode cX3_pairsOf 214 = .ok (.ishl, 1) := dk_120 (dk_at dksX3_pairsOf_9 4 rfl rfl)
theorem dX3_pairsOf_215 : decode cX3_pairsOf 215 = .ok (.ior, 1) := dk_128 (dk_at dksX3_pairsOf_9 5 rfl rfl)
theorem dX3_pairsOf_216 : decode cX3_pairsOf 216 = .ok (.istore_n 2, 1) := dk_61 (dk_at dksX3_pairsOf_9 6 rfl rfl)
theorem dX3_pairsOf_217 : decode cX3_pairsOf 217 = .ok (.iinc 4 1, 3) := dk_132 4 1 (dk_at dksX3_pairsOf_9 7 rfl rfl)
theorem dX3_pairsOf_220 : decode cX3_pairsOf 220 = .ok (.goto (-58), 3) := dk_167 255 198 (dk_at dksX3_pairsOf_9 10 rfl rfl)
theorem dX3_pairsOf_223 : decode cX3_pairsOf 223 = .ok (.iinc 3 1, 3) := dk_132 3 1 (dk_at dksX3_pairsOf_9 13 rfl rfl)
theorem dX3_pairsOf_226 : decode cX3_pairsOf 226 = .ok (.goto (-167), 3) := dk_167 255 89 (dk_at dksX3_pairsOf_9 16 rfl rfl)
theorem dX3_pairsOf_229 : decode cX3_pairsOf 229 = .ok (.iload_n 2, 1) := dk_28 (dk_at dksX3_pairsOf_9 19 rfl rfl)
theorem dX3_pairsOf_230 : decode cX3_pairsOf 230 = .ok (.ireturn, 1) := dk_172 (dk_at dksX3_pairsOf_9 20 rfl rfl)
abbrev cX3_has : ByteArray := prog_16_method_12_code
def yX3_has : MethodName := ⟨RX3, "has", "(II)Z"⟩
def dkwX3_has_0 : List UInt8 := [26, 27, 122, 4, 126, 4, 160, 0, 7, 4, 167, 0, 4, 3, 172]
abbrev dktX3_has_0 : List UInt8 := dkwX3_has_0 ++ []
theorem dksX3_has_0 : cX3_has.data.toList.drop 0 = dktX3_has_0 := by decide +kernel
theorem dX3_has_0 : decode cX3_has 0 = .ok (.iload_n 0, 1) := dk_26 (dk_at dksX3_has_0 0 rfl rfl)
theorem dX3_has_1 : decode cX3_has 1 = .ok (.iload_n 1, 1) := dk_27 (dk_at dksX3_has_0 1 rfl rfl)
theorem dX3_has_2 : decode cX3_has 2 = .ok (.ishr, 1) := dk_122 (dk_at dksX3_has_0 2 rfl rfl)
theorem dX3_has_3 : decode cX3_has 3 = .ok (.iconst 1, 1) := dk_4 (dk_at dksX3_has_0 3 rfl rfl)
theorem dX3_has_4 : decode cX3_has 4 = .ok (.iand, 1) := dk_126 (dk_at dksX3_has_0 4 rfl rfl)
theorem dX3_has_5 : decode cX3_has 5 = .ok (.iconst 1, 1) := dk_4 (dk_at dksX3_has_0 5 rfl rfl)
theorem dX3_has_6 : decode cX3_has 6 = .ok (.if_icmp .ne 7, 3) := dk_160 0 7 (dk_at dksX3_has_0 6 rfl rfl)
theorem dX3_has_9 : decode cX3_has 9 = .ok (.iconst 1, 1) := dk_4 (dk_at dksX3_has_0 9 rfl rfl)
theorem dX3_has_10 : decode cX3_has 10 = .ok (.goto 4, 3) := dk_167 0 4 (dk_at dksX3_has_0 10 rfl rfl)
theorem dX3_has_13 : decode cX3_has 13 = .ok (.iconst 0, 1) := dk_3 (dk_at dksX3_has_0 13 rfl rfl)
theorem dX3_has_14 : decode cX3_has 14 = .ok (.ireturn, 1) := dk_172 (dk_at dksX3_has_0 14 rfl rfl)
abbrev cX3_sizeOf : ByteArray := prog_16_method_13_code
def yX3_sizeOf : MethodName := ⟨RX3, "sizeOf", "(I)I"⟩
def dkwX3_sizeOf_1 : List UInt8 := [96, 60, 132, 2, 1, 167, 255, 231, 27, 172]
abbrev dktX3_sizeOf_1 : List UInt8 := dkwX3_sizeOf_1 ++ []
def dkwX3_sizeOf_0 : List UInt8 := [3, 60, 3, 61, 28, 16, 16, 162, 0, 25, 27, 26, 28, 184, 0, 85, 153, 0, 7, 4, 167, 0, 4, 3]
abbrev dktX3_sizeOf_0 : List UInt8 := dkwX3_sizeOf_0 ++ dktX3_sizeOf_1
theorem dksX3_sizeOf_0 : cX3_sizeOf.data.toList.drop 0 = dktX3_sizeOf_0 := by decide +kernel
theorem dksX3_sizeOf_1 : cX3_sizeOf.data.toList.drop 24 = dktX3_sizeOf_1 := dk_seg dksX3_sizeOf_0 24 rfl rfl
theorem dX3_sizeOf_0 : decode cX3_sizeOf 0 = .ok (.iconst 0, 1) := dk_3 (dk_at dksX3_sizeOf_0 0 rfl rfl)
theorem dX3_sizeOf_1 : decode cX3_sizeOf 1 = .ok (.istore_n 1, 1) := dk_60 (dk_at dksX3_sizeOf_0 1 rfl rfl)
theorem dX3_sizeOf_2 : decode cX3_sizeOf 2 = .ok (.iconst 0, 1) := dk_3 (dk_at dksX3_sizeOf_0 2 rfl rfl)
theorem dX3_sizeOf_3 : decode cX3_sizeOf 3 = .ok (.istore_n 2, 1) := dk_61 (dk_at dksX3_sizeOf_0 3 rfl rfl)
theorem dX3_sizeOf_4 : decode cX3_sizeOf 4 = .ok (.iload_n 2, 1) := dk_28 (dk_at dksX3_sizeOf_0 4 rfl rfl)
theorem dX3_sizeOf_5 : decode cX3_sizeOf 5 = .ok (.bipush 16, 2) := dk_16 16 (dk_at dksX3_sizeOf_0 5 rfl rfl)
theorem dX3_sizeOf_7 : decode cX3_sizeOf 7 = .ok (.if_icmp .ge 25, 3) := dk_162 0 25 (dk_at dksX3_sizeOf_0 7 rfl rfl)
theorem dX3_sizeOf_10 : decode cX3_sizeOf 10 = .ok (.iload_n 1, 1) := dk_27 (dk_at dksX3_sizeOf_0 10 rfl rfl)
theorem dX3_sizeOf_11 : decode cX3_sizeOf 11 = .ok (.iload_n 0, 1) := dk_26 (dk_at dksX3_sizeOf_0 11 rfl rfl)
theorem dX3_sizeOf_12 : decode cX3_sizeOf 12 = .ok (.iload_n 2, 1) := dk_28 (dk_at dksX3_sizeOf_0 12 rfl rfl)
theorem dX3_sizeOf_13 : decode cX3_sizeOf 13 = .ok (.invokestatic 85, 3) := dk_184 0 85 (dk_at dksX3_sizeOf_0 13 rfl rfl)
theorem dX3_sizeOf_16 : decode cX3_sizeOf 16 = .ok (.ifCond .eq 7, 3) := dk_153 0 7 (dk_at dksX3_sizeOf_0 16 rfl rfl)
theorem dX3_sizeOf_19 : decode cX3_sizeOf 19 = .ok (.iconst 1, 1) := dk_4 (dk_at dksX3_sizeOf_0 19 rfl rfl)
theorem dX3_sizeOf_20 : decode cX3_sizeOf 20 = .ok (.goto 4, 3) := dk_167 0 4 (dk_at dksX3_sizeOf_0 20 rfl rfl)
theorem dX3_sizeOf_23 : decode cX3_sizeOf 23 = .ok (.iconst 0, 1) := dk_3 (dk_at dksX3_sizeOf_0 23 rfl rfl)
theorem dX3_sizeOf_24 : decode cX3_sizeOf 24 = .ok (.iadd, 1) := dk_96 (dk_at dksX3_sizeOf_1 0 rfl rfl)
theorem dX3_sizeOf_25 : decode cX3_sizeOf 25 = .ok (.istore_n 1, 1) := dk_60 (dk_at dksX3_sizeOf_1 1 rfl rfl)
theorem dX3_sizeOf_26 : decode cX3_sizeOf 26 = .ok (.iinc 2 1, 3) := dk_132 2 1 (dk_at dksX3_sizeOf_1 2 rfl rfl)
theorem dX3_sizeOf_29 : decode cX3_sizeOf 29 = .ok (.goto (-25), 3) := dk_167 255 231 (dk_at dksX3_sizeOf_1 5 rfl rfl)
theorem dX3_sizeOf_32 : decode cX3_sizeOf 32 = .ok (.iload_n 1, 1) := dk_27 (dk_at dksX3_sizeOf_1 8 rfl rfl)
theorem dX3_sizeOf_33 : decode cX3_sizeOf 33 = .ok (.ireturn, 1) := dk_172 (dk_at dksX3_sizeOf_1 9 rfl rfl)
abbrev cX3_back : ByteArray := prog_16_method_60_code
def yX3_back : MethodName := ⟨RX3, "back", "(III)I"⟩
def dkwX3_back_6 : List UInt8 := [21, 5, 28, 182, 1, 17, 167, 0, 5, 18, 124, 172]
abbrev dktX3_back_6 : List UInt8 := dkwX3_back_6 ++ []
def dkwX3_back_5 : List UInt8 := [28, 182, 1, 17, 184, 0, 100, 96, 54, 5, 132, 6, 1, 167, 255, 221, 21, 5, 28, 162, 0, 14, 42, 27]
abbrev dktX3_back_5 : List UInt8 := dkwX3_back_5 ++ dktX3_back_6
def dkwX3_back_4 : List UInt8 := [54, 6, 21, 6, 29, 162, 0, 35, 21, 5, 28, 162, 0, 29, 21, 5, 42, 180, 0, 19, 42, 27, 21, 5]
abbrev dktX3_back_4 : List UInt8 := dkwX3_back_4 ++ dktX3_back_5
def dkwX3_back_3 : List UInt8 := [154, 0, 20, 29, 2, 160, 0, 12, 42, 180, 0, 47, 28, 46, 167, 0, 5, 18, 124, 172, 3, 54, 5, 3]
abbrev dktX3_back_3 : List UInt8 := dkwX3_back_3 ++ dktX3_back_4
def dkwX3_back_2 : List UInt8 := [153, 0, 6, 21, 4, 172, 42, 27, 28, 182, 1, 13, 29, 2, 159, 0, 12, 42, 180, 0, 50, 3, 51]
abbrev dktX3_back_2 : List UInt8 := dkwX3_back_2 ++ dktX3_back_3
def dkwX3_back_1 : List UInt8 := [184, 0, 70, 153, 0, 8, 29, 2, 162, 0, 6, 18, 80, 172, 42, 27, 28, 182, 0, 187, 54, 4, 21, 4]
abbrev dktX3_back_1 : List UInt8 := dkwX3_back_1 ++ dktX3_back_2
def dkwX3_back_0 : List UInt8 := [42, 182, 0, 197, 154, 0, 6, 18, 178, 172, 27, 184, 0, 74, 153, 0, 20, 28, 133, 10, 20, 1, 11]
abbrev dktX3_back_0 : List UInt8 := dkwX3_back_0 ++ dktX3_back_1
theorem dksX3_back_0 : cX3_back.data.toList.drop 0 = dktX3_back_0 := by decide +kernel
theorem dksX3_back_1 : cX3_back.data.toList.drop 23 = dktX3_back_1 := dk_seg dksX3_back_0 23 rfl rfl
theorem dksX3_back_2 : cX3_back.data.toList.drop 47 = dktX3_back_2 := dk_seg dksX3_back_1 24 rfl rfl
theorem dksX3_back_3 : cX3_back.data.toList.drop 70 = dktX3_back_3 := dk_seg dksX3_back_2 23 rfl rfl
theorem dksX3_back_4 : cX3_back.data.toList.drop 94 = dktX3_back_4 := dk_seg dksX3_back_3 24 rfl rfl
theorem dksX3_back_5 : cX3_back.data.toList.drop 118 = dktX3_back_5 := dk_seg dksX3_back_4 24 rfl rfl
theorem dksX3_back_6 : cX3_back.data.toList.drop 142 = dktX3_back_6 := dk_seg dksX3_back_5 24 rfl rfl
theorem dX3_back_0 : decode cX3_back 0 = .ok (.aload_n 0, 1) := dk_42 (dk_at dksX3_back_0 0 rfl rfl)
theorem dX3_back_1 : decode cX3_back 1 = .ok (.invokevirtual 197, 3) := dk_182 0 197 (dk_at dksX3_back_0 1 rfl rfl)
theorem dX3_back_4 : decode cX3_back 4 = .ok (.ifCond .ne 6, 3) := dk_154 0 6 (dk_at dksX3_back_0 4 rfl rfl)
theorem dX3_back_7 : decode cX3_back 7 = .ok (.ldc 178, 2) := dk_18 178 (dk_at dksX3_back_0 7 rfl rfl)
theorem dX3_back_9 : decode cX3_back 9 = .ok (.ireturn, 1) := dk_172 (dk_at dksX3_back_0 9 rfl rfl)
theorem dX3_back_10 : decode cX3_back 10 = .ok (.iload_n 1, 1) := dk_27 (dk_at dksX3_back_0 10 rfl rfl)
theorem dX3_back_11 : decode cX3_back 11 = .ok (.invokestatic 74, 3) := dk_184 0 74 (dk_at dksX3_back_0 11 rfl rfl)
theorem dX3_back_14 : decode cX3_back 14 = .ok (.ifCond .eq 20, 3) := dk_153 0 20 (dk_at dksX3_back_0 14 rfl rfl)
theorem dX3_back_17 : decode cX3_back 17 = .ok (.iload_n 2, 1) := dk_28 (dk_at dksX3_back_0 17 rfl rfl)
theorem dX3_back_18 : decode cX3_back 18 = .ok (.i2l, 1) := dk_133 (dk_at dksX3_back_0 18 rfl rfl)
theorem dX3_back_19 : decode cX3_back 19 = .ok (.lconst 1, 1) := dk_10 (dk_at dksX3_back_0 19 rfl rfl)
theorem dX3_back_20 : decode cX3_back 20 = .ok (.ldc2_w 267, 3) := dk_20 1 11 (dk_at dksX3_back_0 20 rfl rfl)
theorem dX3_back_23 : decode cX3_back 23 = .ok (.invokestatic 70, 3) := dk_184 0 70 (dk_at dksX3_back_1 0 rfl rfl)
theorem dX3_back_26 : decode cX3_back 26 = .ok (.ifCond .eq 8, 3) := dk_153 0 8 (dk_at dksX3_back_1 3 rfl rfl)
theorem dX3_back_29 : decode cX3_back 29 = .ok (.iload_n 3, 1) := dk_29 (dk_at dksX3_back_1 6 rfl rfl)
theorem dX3_back_30 : decode cX3_back 30 = .ok (.iconst (-1), 1) := dk_2 (dk_at dksX3_back_1 7 rfl rfl)
theorem dX3_back_31 : decode cX3_back 31 = .ok (.if_icmp .ge 6, 3) := dk_162 0 6 (dk_at dksX3_back_1 8 rfl rfl)
theorem dX3_back_34 : decode cX3_back 34 = .ok (.ldc 80, 2) := dk_18 80 (dk_at dksX3_back_1 11 rfl rfl)
theorem dX3_back_36 : decode cX3_back 36 = .ok (.ireturn, 1) := dk_172 (dk_at dksX3_back_1 13 rfl rfl)
theorem dX3_back_37 : decode cX3_back 37 = .ok (.aload_n 0, 1) := dk_42 (dk_at dksX3_back_1 14 rfl rfl)
theorem dX3_back_38 : decode cX3_back 38 = .ok (.iload_n 1, 1) := dk_27 (dk_at dksX3_back_1 15 rfl rfl)
theorem dX3_back_39 : decode cX3_back 39 = .ok (.iload_n 2, 1) := dk_28 (dk_at dksX3_back_1 16 rfl rfl)
theorem dX3_back_40 : decode cX3_back 40 = .ok (.invokevirtual 187, 3) := dk_182 0 187 (dk_at dksX3_back_1 17 rfl rfl)
theorem dX3_back_43 : decode cX3_back 43 = .ok (.istore 4, 2) := dk_54 4 (dk_at dksX3_back_1 20 rfl rfl)
theorem dX3_back_45 : decode cX3_back 45 = .ok (.iload 4, 2) := dk_21 4 (dk_at dksX3_back_1 22 rfl rfl)
theorem dX3_back_47 : decode cX3_back 47 = .ok (.ifCond .eq 6, 3) := dk_153 0 6 (dk_at dksX3_back_2 0 rfl rfl)
theorem dX3_back_50 : decode cX3_back 50 = .ok (.iload 4, 2) := dk_21 4 (dk_at dksX3_back_2 3 rfl rfl)
theorem dX3_back_52 : decode cX3_back 52 = .ok (.ireturn, 1) := dk_172 (dk_at dksX3_back_2 5 rfl rfl)
theorem dX3_back_53 : decode cX3_back 53 = .ok (.aload_n 0, 1) := dk_42 (dk_at dksX3_back_2 6 rfl rfl)
theorem dX3_back_54 : decode cX3_back 54 = .ok (.iload_n 1, 1) := dk_27 (dk_at dksX3_back_2 7 rfl rfl)
theorem dX3_back_55 : decode cX3_back 55 = .ok (.iload_n 2, 1) := dk_28 (dk_at dksX3_back_2 8 rfl rfl)
theorem dX3_back_56 : decode cX3_back 56 = .ok (.invokevirtual 269, 3) := dk_182 1 13 (dk_at dksX3_back_2 9 rfl rfl)
theorem dX3_back_59 : decode cX3_back 59 = .ok (.iload_n 3, 1) := dk_29 (dk_at dksX3_back_2 12 rfl rfl)
theorem dX3_back_60 : decode cX3_back 60 = .ok (.iconst (-1), 1) := dk_2 (dk_at dksX3_back_2 13 rfl rfl)
theorem dX3_back_61 : decode cX3_back 61 = .ok (.if_icmp .eq 12, 3) := dk_159 0 12 (dk_at dksX3_back_2 14 rfl rfl)
theorem dX3_back_64 : decode cX3_back 64 = .ok (.aload_n 0, 1) := dk_42 (dk_at dksX3_back_2 17 rfl rfl)
theorem dX3_back_65 : decode cX3_back 65 = .ok (.getfield 50, 3) := dk_180 0 50 (dk_at dksX3_back_2 18 rfl rfl)
theorem dX3_back_68 : decode cX3_back 68 = .ok (.iconst 0, 1) := dk_3 (dk_at dksX3_back_2 21 rfl rfl)
theorem dX3_back_69 : decode cX3_back 69 = .ok (.baload, 1) := dk_51 (dk_at dksX3_back_2 22 rfl rfl)
theorem dX3_back_70 : decode cX3_back 70 = .ok (.ifCond .ne 20, 3) := dk_154 0 20 (dk_at dksX3_back_3 0 rfl rfl)
theorem dX3_back_73 : decode cX3_back 73 = .ok (.iload_n 3, 1) := dk_29 (dk_at dksX3_back_3 3 rfl rfl)
theorem dX3_back_74 : decode cX3_back 74 = .ok (.iconst (-1), 1) := dk_2 (dk_at dksX3_back_3 4 rfl rfl)
theorem dX3_back_75 : decode cX3_back 75 = .ok (.if_icmp .ne 12, 3) := dk_160 0 12 (dk_at dksX3_back_3 5 rfl rfl)
theorem dX3_back_78 : decode cX3_back 78 = .ok (.aload_n 0, 1) := dk_42 (dk_at dksX3_back_3 8 rfl rfl)
theorem dX3_back_79 : decode cX3_back 79 = .ok (.getfield 47, 3) := dk_180 0 47 (dk_at dksX3_back_3 9 rfl rfl)
theorem dX3_back_82 : decode cX3_back 82 = .ok (.iload_n 2, 1) := dk_28 (dk_at dksX3_back_3 12 rfl rfl)
theorem dX3_back_83 : decode cX3_back 83 = .ok (.iaload, 1) := dk_46 (dk_at dksX3_back_3 13 rfl rfl)
theorem dX3_back_84 : decode cX3_back 84 = .ok (.goto 5, 3) := dk_167 0 5 (dk_at dksX3_back_3 14 rfl rfl)
theorem dX3_back_87 : decode cX3_back 87 = .ok (.ldc 124, 2) := dk_18 124 (dk_at dksX3_back_3 17 rfl rfl)
theorem dX3_back_89 : decode cX3_back 89 = .ok (.ireturn, 1) := dk_172 (dk_at dksX3_back_3 19 rfl rfl)
theorem dX3_back_90 : decode cX3_back 90 = .ok (.iconst 0, 1) := dk_3 (dk_at dksX3_back_3 20 rfl rfl)
theorem dX3_back_91 : decode cX3_back 91 = .ok (.istore 5, 2) := dk_54 5 (dk_at dksX3_back_3 21 rfl rfl)
theorem dX3_back_93 : decode cX3_back 93 = .ok (.iconst 0, 1) := dk_3 (dk_at dksX3_back_3 23 rfl rfl)
theorem dX3_back_94 : decode cX3_back 94 = .ok (.istore 6, 2) := dk_54 6 (dk_at dksX3_back_4 0 rfl rfl)
theorem dX3_back_96 : decode cX3_back 96 = .ok (.iload 6, 2) := dk_21 6 (dk_at dksX3_back_4 2 rfl rfl)
theorem dX3_back_98 : decode cX3_back 98 = .ok (.iload_n 3, 1) := dk_29 (dk_at dksX3_back_4 4 rfl rfl)
theorem dX3_back_99 : decode cX3_back 99 = .ok (.if_icmp .ge 35, 3) := dk_162 0 35 (dk_at dksX3_back_4 5 rfl rfl)
theorem dX3_back_102 : decode cX3_back 102 = .ok (.iload 5, 2) := dk_21 5 (dk_at dksX3_back_4 8 rfl rfl)
theorem dX3_back_104 : decode cX3_back 104 = .ok (.iload_n 2, 1) := dk_28 (dk_at dksX3_back_4 10 rfl rfl)
theorem dX3_back_105 : decode cX3_back 105 = .ok (.if_icmp .ge 29, 3) := dk_162 0 29 (dk_at dksX3_back_4 11 rfl rfl)
theorem dX3_back_108 : decode cX3_back 108 = .ok (.iload 5, 2) := dk_21 5 (dk_at dksX3_back_4 14 rfl rfl)
theorem dX3_back_110 : decode cX3_back 110 = .ok (.aload_n 0, 1) := dk_42 (dk_at dksX3_back_4 16 rfl rfl)
theorem dX3_back_111 : decode cX3_back 111 = .ok (.getfield 19, 3) := dk_180 0 19 (dk_at dksX3_back_4 17 rfl rfl)
theorem dX3_back_114 : decode cX3_back 114 = .ok (.aload_n 0, 1) := dk_42 (dk_at dksX3_back_4 20 rfl rfl)
theorem dX3_back_115 : decode cX3_back 115 = .ok (.iload_n 1, 1) := dk_27 (dk_at dksX3_back_4 21 rfl rfl)
theorem dX3_back_116 : decode cX3_back 116 = .ok (.iload 5, 2) := dk_21 5 (dk_at dksX3_back_4 22 rfl rfl)
theorem dX3_back_118 : decode cX3_back 118 = .ok (.iload_n 2, 1) := dk_28 (dk_at dksX3_back_5 0 rfl rfl)
theorem dX3_back_119 : decode cX3_back 119 = .ok (.invokevirtual 273, 3) := dk_182 1 17 (dk_at dksX3_back_5 1 rfl rfl)
theorem dX3_back_122 : decode cX3_back 122 = .ok (.invokestatic 100, 3) := dk_184 0 100 (dk_at dksX3_back_5 4 rfl rfl)
theorem dX3_back_125 : decode cX3_back 125 = .ok (.iadd, 1) := dk_96 (dk_at dksX3_back_5 7 rfl rfl)
theorem dX3_back_126 : decode cX3_back 126 = .ok (.istore 5, 2) := dk_54 5 (dk_at dksX3_back_5 8 rfl rfl)
theorem dX3_back_128 : decode cX3_back 128 = .ok (.iinc 6 1, 3) := dk_132 6 1 (dk_at dksX3_back_5 10 rfl rfl)
theorem dX3_back_131 : decode cX3_back 131 = .ok (.goto (-35), 3) := dk_167 255 221 (dk_at dksX3_back_5 13 rfl rfl)
theorem dX3_back_134 : decode cX3_back 134 = .ok (.iload 5, 2) := dk_21 5 (dk_at dksX3_back_5 16 rfl rfl)
theorem dX3_back_136 : decode cX3_back 136 = .ok (.iload_n 2, 1) := dk_28 (dk_at dksX3_back_5 18 rfl rfl)
theorem dX3_back_137 : decode cX3_back 137 = .ok (.if_icmp .ge 14, 3) := dk_162 0 14 (dk_at dksX3_back_5 19 rfl rfl)
theorem dX3_back_140 : decode cX3_back 140 = .ok (.aload_n 0, 1) := dk_42 (dk_at dksX3_back_5 22 rfl rfl)
theorem dX3_back_141 : decode cX3_back 141 = .ok (.iload_n 1, 1) := dk_27 (dk_at dksX3_back_5 23 rfl rfl)
theorem dX3_back_142 : decode cX3_back 142 = .ok (.iload 5, 2) := dk_21 5 (dk_at dksX3_back_6 0 rfl rfl)
theorem dX3_back_144 : decode cX3_back 144 = .ok (.iload_n 2, 1) := dk_28 (dk_at dksX3_back_6 2 rfl rfl)
theorem dX3_back_145 : decode cX3_back 145 = .ok (.invokevirtual 273, 3) := dk_182 1 17 (dk_at dksX3_back_6 3 rfl rfl)
theorem dX3_back_148 : decode cX3_back 148 = .ok (.goto 5, 3) := dk_167 0 5 (dk_at dksX3_back_6 6 rfl rfl)
theorem dX3_back_151 : decode cX3_back 151 = .ok (.ldc 124, 2) := dk_18 124 (dk_at dksX3_back_6 9 rfl rfl)
theorem dX3_back_153 : decode cX3_back 153 = .ok (.ireturn, 1) := dk_172 (dk_at dksX3_back_6 11 rfl rfl)
abbrev cX3_layWays : ByteArray := prog_16_method_58_code
def yX3_layWays : MethodName := ⟨RX3, "layWays", "(II)V"⟩
def dkwX3_layWays_10 : List UInt8 := [167, 255, 178, 177]
abbrev dktX3_layWays_10 : List UInt8 := dkwX3_layWays_10 ++ []
def dkwX3_layWays_9 : List UInt8 := [184, 0, 100, 96, 51, 153, 0, 7, 4, 167, 0, 4, 3, 84, 132, 4, 1, 167, 255, 191, 132, 3, 255]
abbrev dktX3_layWays_9 : List UInt8 := dkwX3_layWays_9 ++ dktX3_layWays_10
def dkwX3_layWays_8 : List UInt8 := [21, 4, 27, 29, 28, 182, 1, 6, 153, 0, 26, 42, 180, 0, 50, 29, 42, 180, 0, 19, 21, 4]
abbrev dktX3_layWays_8 : List UInt8 := dkwX3_layWays_8 ++ dktX3_layWays_9
def dkwX3_layWays_7 : List UInt8 := [180, 0, 19, 3, 46, 162, 0, 60, 42, 180, 0, 50, 29, 42, 180, 0, 50, 29, 51, 154, 0, 34, 42]
abbrev dktX3_layWays_7 : List UInt8 := dkwX3_layWays_7 ++ dktX3_layWays_8
def dkwX3_layWays_6 : List UInt8 := [167, 255, 170, 132, 3, 1, 167, 255, 156, 28, 4, 100, 62, 29, 155, 0, 80, 3, 54, 4, 21, 4, 42]
abbrev dktX3_layWays_6 : List UInt8 := dkwX3_layWays_6 ++ dktX3_layWays_7
def dkwX3_layWays_5 : List UInt8 := [19, 1, 10, 167, 0, 17, 42, 180, 0, 47, 21, 5, 46, 42, 180, 0, 47, 29, 46, 96, 79, 132, 4, 1]
abbrev dktX3_layWays_5 : List UInt8 := dkwX3_layWays_5 ++ dktX3_layWays_6
def dkwX3_layWays_4 : List UInt8 := [21, 5, 42, 180, 0, 47, 21, 5, 46, 42, 180, 0, 47, 29, 46, 96, 19, 1, 10, 164, 0, 9]
abbrev dktX3_layWays_4 : List UInt8 := dkwX3_layWays_4 ++ dktX3_layWays_5
def dkwX3_layWays_3 : List UInt8 := [21, 4, 184, 0, 100, 96, 54, 5, 42, 21, 4, 27, 29, 28, 182, 1, 6, 153, 0, 50, 42, 180, 0, 47]
abbrev dktX3_layWays_3 : List UInt8 := dkwX3_layWays_3 ++ dktX3_layWays_4
def dkwX3_layWays_2 : List UInt8 := [28, 162, 0, 101, 3, 54, 4, 21, 4, 42, 180, 0, 19, 3, 46, 162, 0, 81, 29, 42, 180, 0, 19]
abbrev dktX3_layWays_2 : List UInt8 := dkwX3_layWays_2 ++ dktX3_layWays_3
def dkwX3_layWays_1 : List UInt8 := [180, 0, 50, 29, 29, 28, 160, 0, 7, 4, 167, 0, 4, 3, 84, 132, 3, 1, 167, 255, 217, 3, 62, 29]
abbrev dktX3_layWays_1 : List UInt8 := dkwX3_layWays_1 ++ dktX3_layWays_2
def dkwX3_layWays_0 : List UInt8 := [3, 62, 29, 28, 163, 0, 40, 42, 180, 0, 47, 29, 29, 154, 0, 7, 4, 167, 0, 4, 3, 79, 42]
abbrev dktX3_layWays_0 : List UInt8 := dkwX3_layWays_0 ++ dktX3_layWays_1
theorem dksX3_layWays_0 : cX3_layWays.data.toList.drop 0 = dktX3_layWays_0 := by decide +kernel
theorem dksX3_layWays_1 : cX3_layWays.data.toList.drop 23 = dktX3_layWays_1 := dk_seg dksX3_layWays_0 23 rfl rfl
theorem dksX3_layWays_2 : cX3_layWays.data.toList.drop 47 = dktX3_layWays_2 := dk_seg dksX3_layWays_1 24 rfl rfl
theorem dksX3_layWays_3 : cX3_layWays.data.toList.drop 70 = dktX3_layWays_3 := dk_seg dksX3_layWays_2 23 rfl rfl
theorem dksX3_layWays_4 : cX3_layWays.data.toList.drop 94 = dktX3_layWays_4 := dk_seg dksX3_layWays_3 24 rfl rfl
theorem dksX3_layWays_5 : cX3_layWays.data.toList.drop 116 = dktX3_layWays_5 := dk_seg dksX3_layWays_4 22 rfl rfl
theorem dksX3_layWays_6 : cX3_layWays.data.toList.drop 140 = dktX3_layWays_6 := dk_seg dksX3_layWays_5 24 rfl rfl
theorem dksX3_layWays_7 : cX3_layWays.data.toList.drop 163 = dktX3_layWays_7 := dk_seg dksX3_layWays_6 23 rfl rfl
theorem dksX3_layWays_8 : cX3_layWays.data.toList.drop 186 = dktX3_layWays_8 := dk_seg dksX3_layWays_7 23 rfl rfl
theorem dksX3_layWays_9 : cX3_layWays.data.toList.drop 208 = dktX3_layWays_9 := dk_seg dksX3_layWays_8 22 rfl rfl
theorem dksX3_layWays_10 : cX3_layWays.data.toList.drop 231 = dktX3_layWays_10 := dk_seg dksX3_layWays_9 23 rfl rfl
theorem dX3_layWays_0 : decode cX3_layWays 0 = .ok (.iconst 0, 1) := dk_3 (dk_at dksX3_layWays_0 0 rfl rfl)
theorem dX3_layWays_1 : decode cX3_layWays 1 = .ok (.istore_n 3, 1) := dk_62 (dk_at dksX3_layWays_0 1 rfl rfl)
theorem dX3_layWays_2 : decode cX3_layWays 2 = .ok (.iload_n 3, 1) := dk_29 (dk_at dksX3_layWays_0 2 rfl rfl)
theorem dX3_layWays_3 : decode cX3_layWays 3 = .ok (.iload_n 2, 1) := dk_28 (dk_at dksX3_layWays_0 3 rfl rfl)
theorem dX3_layWays_4 : decode cX3_layWays 4 = .ok (.if_icmp .gt 40, 3) := dk_163 0 40 (dk_at dksX3_layWays_0 4 rfl rfl)
theorem dX3_layWays_7 : decode cX3_layWays 7 = .ok (.aload_n 0, 1) := dk_42 (dk_at dksX3_layWays_0 7 rfl rfl)
theorem dX3_layWays_8 : decode cX3_layWays 8 = .ok (.getfield 47, 3) := dk_180 0 47 (dk_at dksX3_layWays_0 8 rfl rfl)
theorem dX3_layWays_11 : decode cX3_layWays 11 = .ok (.iload_n 3, 1) := dk_29 (dk_at dksX3_layWays_0 11 rfl rfl)
theorem dX3_layWays_12 : decode cX3_layWays 12 = .ok (.iload_n 3, 1) := dk_29 (dk_at dksX3_layWays_0 12 rfl rfl)
theorem dX3_layWays_13 : decode cX3_layWays 13 = .ok (.ifCond .ne 7, 3) := dk_154 0 7 (dk_at dksX3_layWays_0 13 rfl rfl)
theorem dX3_layWays_16 : decode cX3_layWays 16 = .ok (.iconst 1, 1) := dk_4 (dk_at dksX3_layWays_0 16 rfl rfl)
theorem dX3_layWays_17 : decode cX3_layWays 17 = .ok (.goto 4, 3) := dk_167 0 4 (dk_at dksX3_layWays_0 17 rfl rfl)
theorem dX3_layWays_20 : decode cX3_layWays 20 = .ok (.iconst 0, 1) := dk_3 (dk_at dksX3_layWays_0 20 rfl rfl)
theorem dX3_layWays_21 : decode cX3_layWays 21 = .ok (.iastore, 1) := dk_79 (dk_at dksX3_layWays_0 21 rfl rfl)
theorem dX3_layWays_22 : decode cX3_layWays 22 = .ok (.aload_n 0, 1) := dk_42 (dk_at dksX3_layWays_0 22 rfl rfl)
theorem dX3_layWays_23 : decode cX3_layWays 23 = .ok (.getfield 50, 3) := dk_180 0 50 (dk_at dksX3_layWays_1 0 rfl rfl)
theorem dX3_layWays_26 : decode cX3_layWays 26 = .ok (.iload_n 3, 1) := dk_29 (dk_at dksX3_layWays_1 3 rfl rfl)
theorem dX3_layWays_27 : decode cX3_layWays 27 = .ok (.iload_n 3, 1) := dk_29 (dk_at dksX3_layWays_1 4 rfl rfl)
theorem dX3_layWays_28 : decode cX3_layWays 28 = .ok (.iload_n 2, 1) := dk_28 (dk_at dksX3_layWays_1 5 rfl rfl)
theorem dX3_layWays_29 : decode cX3_layWays 29 = .ok (.if_icmp .ne 7, 3) := dk_160 0 7 (dk_at dksX3_layWays_1 6 rfl rfl)
theorem dX3_layWays_32 : decode cX3_layWays 32 = .ok (.iconst 1, 1) := dk_4 (dk_at dksX3_layWays_1 9 rfl rfl)
theorem dX3_layWays_33 : decode cX3_layWays 33 = .ok (.goto 4, 3) := dk_167 0 4 (dk_at dksX3_layWays_1 10 rfl rfl)
theorem dX3_layWays_36 : decode cX3_layWays 36 = .ok (.iconst 0, 1) := dk_3 (dk_at dksX3_layWays_1 13 rfl rfl)
theorem dX3_layWays_37 : decode cX3_layWays 37 = .ok (.bastore, 1) := dk_84 (dk_at dksX3_layWays_1 14 rfl rfl)
theorem dX3_layWays_38 : decode cX3_layWays 38 = .ok (.iinc 3 1, 3) := dk_132 3 1 (dk_at dksX3_layWays_1 15 rfl rfl)
theorem dX3_layWays_41 : decode cX3_layWays 41 = .ok (.goto (-39), 3) := dk_167 255 217 (dk_at dksX3_layWays_1 18 rfl rfl)
theorem dX3_layWays_44 : decode cX3_layWays 44 = .ok (.iconst 0, 1) := dk_3 (dk_at dksX3_layWays_1 21 rfl rfl)
theorem dX3_layWays_45 : decode cX3_layWays 45 = .ok (.istore_n 3, 1) := dk_62 (dk_at dksX3_layWays_1 22 rfl rfl)
theorem dX3_layWays_46 : decode cX3_layWays 46 = .ok (.iload_n 3, 1) := dk_29 (dk_at dksX3_layWays_1 23 rfl rfl)
theorem dX3_layWays_47 : decode cX3_layWays 47 = .ok (.iload_n 2, 1) := dk_28 (dk_at dksX3_layWays_2 0 rfl rfl)
theorem dX3_layWays_48 : decode cX3_layWays 48 = .ok (.if_icmp .ge 101, 3) := dk_162 0 101 (dk_at dksX3_layWays_2 1 rfl rfl)
theorem dX3_layWays_51 : decode cX3_layWays 51 = .ok (.iconst 0, 1) := dk_3 (dk_at dksX3_layWays_2 4 rfl rfl)
theorem dX3_layWays_52 : decode cX3_layWays 52 = .ok (.istore 4, 2) := dk_54 4 (dk_at dksX3_layWays_2 5 rfl rfl)
theorem dX3_layWays_54 : decode cX3_layWays 54 = .ok (.iload 4, 2) := dk_21 4 (dk_at dksX3_layWays_2 7 rfl rfl)
theorem dX3_layWays_56 : decode cX3_layWays 56 = .ok (.aload_n 0, 1) := dk_42 (dk_at dksX3_layWays_2 9 rfl rfl)
theorem dX3_layWays_57 : decode cX3_layWays 57 = .ok (.getfield 19, 3) := dk_180 0 19 (dk_at dksX3_layWays_2 10 rfl rfl)
theorem dX3_layWays_60 : decode cX3_layWays 60 = .ok (.iconst 0, 1) := dk_3 (dk_at dksX3_layWays_2 13 rfl rfl)
theorem dX3_layWays_61 : decode cX3_layWays 61 = .ok (.iaload, 1) := dk_46 (dk_at dksX3_layWays_2 14 rfl rfl)
theorem dX3_layWays_62 : decode cX3_layWays 62 = .ok (.if_icmp .ge 81, 3) := dk_162 0 81 (dk_at dksX3_layWays_2 15 rfl rfl)
theorem dX3_layWays_65 : decode cX3_layWays 65 = .ok (.iload_n 3, 1) := dk_29 (dk_at dksX3_layWays_2 18 rfl rfl)
theorem dX3_layWays_66 : decode cX3_layWays 66 = .ok (.aload_n 0, 1) := dk_42 (dk_at dksX3_layWays_2 19 rfl rfl)
theorem dX3_layWays_67 : decode cX3_layWays 67 = .ok (.getfield 19, 3) := dk_180 0 19 (dk_at dksX3_layWays_2 20 rfl rfl)
theorem dX3_layWays_70 : decode cX3_layWays 70 = .ok (.iload 4, 2) := dk_21 4 (dk_at dksX3_layWays_3 0 rfl rfl)
theorem dX3_layWays_72 : decode cX3_layWays 72 = .ok (.invokestatic 100, 3) := dk_184 0 100 (dk_at dksX3_layWays_3 2 rfl rfl)
theorem dX3_layWays_75 : decode cX3_layWays 75 = .ok (.iadd, 1) := dk_96 (dk_at dksX3_layWays_3 5 rfl rfl)
theorem dX3_layWays_76 : decode cX3_layWays 76 = .ok (.istore 5, 2) := dk_54 5 (dk_at dksX3_layWays_3 6 rfl rfl)
theorem dX3_layWays_78 : decode cX3_layWays 78 = .ok (.aload_n 0, 1) := dk_42 (dk_at dksX3_layWays_3 8 rfl rfl)
theorem dX3_layWays_79 : decode cX3_layWays 79 = .ok (.iload 4, 2) := dk_21 4 (dk_at dksX3_layWays_3 9 rfl rfl)
theorem dX3_layWays_81 : decode cX3_layWays 81 = .ok (.iload_n 1, 1) := dk_27 (dk_at dksX3_layWays_3 11 rfl rfl)
theorem dX3_layWays_82 : decode cX3_layWays 82 = .ok (.iload_n 3, 1) := dk_29 (dk_at dksX3_layWays_3 12 rfl rfl)
theorem dX3_layWays_83 : decode cX3_layWays 83 = .ok (.iload_n 2, 1) := dk_28 (dk_at dksX3_layWays_3 13 rfl rfl)
theorem dX3_layWays_84 : decode cX3_layWays 84 = .ok (.invokevirtual 262, 3) := dk_182 1 6 (dk_at dksX3_layWays_3 14 rfl rfl)
theorem dX3_layWays_87 : decode cX3_layWays 87 = .ok (.ifCond .eq 50, 3) := dk_153 0 50 (dk_at dksX3_layWays_3 17 rfl rfl)
theorem dX3_layWays_90 : decode cX3_layWays 90 = .ok (.aload_n 0, 1) := dk_42 (dk_at dksX3_layWays_3 20 rfl rfl)
theorem dX3_layWays_91 : decode cX3_layWays 91 = .ok (.getfield 47, 3) := dk_180 0 47 (dk_at dksX3_layWays_3 21 rfl rfl)
theorem dX3_layWays_94 : decode cX3_layWays 94 = .ok (.iload 5, 2) := dk_21 5 (dk_at dksX3_layWays_4 0 rfl rfl)
theorem dX3_layWays_96 : decode cX3_layWays 96 = .ok (.aload_n 0, 1) := dk_42 (dk_at dksX3_layWays_4 2 rfl rfl)
theorem dX3_layWays_97 : decode cX3_layWays 97 = .ok (.getfield 47, 3) := dk_180 0 47 (dk_at dksX3_layWays_4 3 rfl rfl)
theorem dX3_layWays_100 : decode cX3_layWays 100 = .ok (.iload 5, 2) := dk_21 5 (dk_at dksX3_layWays_4 6 rfl rfl)
theorem dX3_layWays_102 : decode cX3_layWays 102 = .ok (.iaload, 1) := dk_46 (dk_at dksX3_layWays_4 8 rfl rfl)
theorem dX3_layWays_103 : decode cX3_layWays 103 = .ok (.aload_n 0, 1) := dk_42 (dk_at dksX3_layWays_4 9 rfl rfl)
theorem dX3_layWays_104 : decode cX3_layWays 104 = .ok (.getfield 47, 3) := dk_180 0 47 (dk_at dksX3_layWays_4 10 rfl rfl)
theorem dX3_layWays_107 : decode cX3_layWays 107 = .ok (.iload_n 3, 1) := dk_29 (dk_at dksX3_layWays_4 13 rfl rfl)
theorem dX3_layWays_108 : decode cX3_layWays 108 = .ok (.iaload, 1) := dk_46 (dk_at dksX3_layWays_4 14 rfl rfl)
theorem dX3_layWays_109 : decode cX3_layWays 109 = .ok (.iadd, 1) := dk_96 (dk_at dksX3_layWays_4 15 rfl rfl)
theorem dX3_layWays_110 : decode cX3_layWays 110 = .ok (.ldc_w 266, 3) := dk_19 1 10 (dk_at dksX3_layWays_4 16 rfl rfl)
theorem dX3_layWays_113 : decode cX3_layWays 113 = .ok (.if_icmp .le 9, 3) := dk_164 0 9 (dk_at dksX3_layWays_4 19 rfl rfl)
theorem dX3_layWays_116 : decode cX3_layWays 116 = .ok (.ldc_w 266, 3) := dk_19 1 10 (dk_at dksX3_layWays_5 0 rfl rfl)
theorem dX3_layWays_119 : decode cX3_layWays 119 = .ok (.goto 17, 3) := dk_167 0 17 (dk_at dksX3_layWays_5 3 rfl rfl)
theorem dX3_layWays_122 : decode cX3_layWays 122 = .ok (.aload_n 0, 1) := dk_42 (dk_at dksX3_layWays_5 6 rfl rfl)
theorem dX3_layWays_123 : decode cX3_layWays 123 = .ok (.getfield 47, 3) := dk_180 0 47 (dk_at dksX3_layWays_5 7 rfl rfl)
theorem dX3_layWays_126 : decode cX3_layWays 126 = .ok (.iload 5, 2) := dk_21 5 (dk_at dksX3_layWays_5 10 rfl rfl)
theorem dX3_layWays_128 : decode cX3_layWays 128 = .ok (.iaload, 1) := dk_46 (dk_at dksX3_layWays_5 12 rfl rfl)
theorem dX3_layWays_129 : decode cX3_layWays 129 = .ok (.aload_n 0, 1) := dk_42 (dk_at dksX3_layWays_5 13 rfl rfl)
theorem dX3_layWays_130 : decode cX3_layWays 130 = .ok (.getfield 47, 3) := dk_180 0 47 (dk_at dksX3_layWays_5 14 rfl rfl)
theorem dX3_layWays_133 : decode cX3_layWays 133 = .ok (.iload_n 3, 1) := dk_29 (dk_at dksX3_layWays_5 17 rfl rfl)
theorem dX3_layWays_134 : decode cX3_layWays 134 = .ok (.iaload, 1) := dk_46 (dk_at dksX3_layWays_5 18 rfl rfl)
theorem dX3_layWays_135 : decode cX3_layWays 135 = .ok (.iadd, 1) := dk_96 (dk_at dksX3_layWays_5 19 rfl rfl)
theorem dX3_layWays_136 : decode cX3_layWays 136 = .ok (.iastore, 1) := dk_79 (dk_at dksX3_layWays_5 20 rfl rfl)
theorem dX3_layWays_137 : decode cX3_layWays 137 = .ok (.iinc 4 1, 3) := dk_132 4 1 (dk_at dksX3_layWays_5 21 rfl rfl)
theorem dX3_layWays_140 : decode cX3_layWays 140 = .ok (.goto (-86), 3) := dk_167 255 170 (dk_at dksX3_layWays_6 0 rfl rfl)
theorem dX3_layWays_143 : decode cX3_layWays 143 = .ok (.iinc 3 1, 3) := dk_132 3 1 (dk_at dksX3_layWays_6 3 rfl rfl)
theorem dX3_layWays_146 : decode cX3_layWays 146 = .ok (.goto (-100), 3) := dk_167 255 156 (dk_at dksX3_layWays_6 6 rfl rfl)
theorem dX3_layWays_149 : decode cX3_layWays 149 = .ok (.iload_n 2, 1) := dk_28 (dk_at dksX3_layWays_6 9 rfl rfl)
theorem dX3_layWays_150 : decode cX3_layWays 150 = .ok (.iconst 1, 1) := dk_4 (dk_at dksX3_layWays_6 10 rfl rfl)
theorem dX3_layWays_151 : decode cX3_layWays 151 = .ok (.isub, 1) := dk_100 (dk_at dksX3_layWays_6 11 rfl rfl)
theorem dX3_layWays_152 : decode cX3_layWays 152 = .ok (.istore_n 3, 1) := dk_62 (dk_at dksX3_layWays_6 12 rfl rfl)
theorem dX3_layWays_153 : decode cX3_layWays 153 = .ok (.iload_n 3, 1) := dk_29 (dk_at dksX3_layWays_6 13 rfl rfl)
theorem dX3_layWays_154 : decode cX3_layWays 154 = .ok (.ifCond .lt 80, 3) := dk_155 0 80 (dk_at dksX3_layWays_6 14 rfl rfl)
theorem dX3_layWays_157 : decode cX3_layWays 157 = .ok (.iconst 0, 1) := dk_3 (dk_at dksX3_layWays_6 17 rfl rfl)
theorem dX3_layWays_158 : decode cX3_layWays 158 = .ok (.istore 4, 2) := dk_54 4 (dk_at dksX3_layWays_6 18 rfl rfl)
theorem dX3_layWays_160 : decode cX3_layWays 160 = .ok (.iload 4, 2) := dk_21 4 (dk_at dksX3_layWays_6 20 rfl rfl)
theorem dX3_layWays_162 : decode cX3_layWays 162 = .ok (.aload_n 0, 1) := dk_42 (dk_at dksX3_layWays_6 22 rfl rfl)
theorem dX3_layWays_163 : decode cX3_layWays 163 = .ok (.getfield 19, 3) := dk_180 0 19 (dk_at dksX3_layWays_7 0 rfl rfl)
theorem dX3_layWays_166 : decode cX3_layWays 166 = .ok (.iconst 0, 1) := dk_3 (dk_at dksX3_layWays_7 3 rfl rfl)
theorem dX3_layWays_167 : decode cX3_layWays 167 = .ok (.iaload, 1) := dk_46 (dk_at dksX3_layWays_7 4 rfl rfl)
theorem dX3_layWays_168 : decode cX3_layWays 168 = .ok (.if_icmp .ge 60, 3) := dk_162 0 60 (dk_at dksX3_layWays_7 5 rfl rfl)
theorem dX3_layWays_171 : decode cX3_layWays 171 = .ok (.aload_n 0, 1) := dk_42 (dk_at dksX3_layWays_7 8 rfl rfl)
theorem dX3_layWays_172 : decode cX3_layWays 172 = .ok (.getfield 50, 3) := dk_180 0 50 (dk_at dksX3_layWays_7 9 rfl rfl)
theorem dX3_layWays_175 : decode cX3_layWays 175 = .ok (.iload_n 3, 1) := dk_29 (dk_at dksX3_layWays_7 12 rfl rfl)
theorem dX3_layWays_176 : decode cX3_layWays 176 = .ok (.aload_n 0, 1) := dk_42 (dk_at dksX3_layWays_7 13 rfl rfl)
theorem dX3_layWays_177 : decode cX3_layWays 177 = .ok (.getfield 50, 3) := dk_180 0 50 (dk_at dksX3_layWays_7 14 rfl rfl)
theorem dX3_layWays_180 : decode cX3_layWays 180 = .ok (.iload_n 3, 1) := dk_29 (dk_at dksX3_layWays_7 17 rfl rfl)
theorem dX3_layWays_181 : decode cX3_layWays 181 = .ok (.baload, 1) := dk_51 (dk_at dksX3_layWays_7 18 rfl rfl)
theorem dX3_layWays_182 : decode cX3_layWays 182 = .ok (.ifCond .ne 34, 3) := dk_154 0 34 (dk_at dksX3_layWays_7 19 rfl rfl)
theorem dX3_layWays_185 : decode cX3_layWays 185 = .ok (.aload_n 0, 1) := dk_42 (dk_at dksX3_layWays_7 22 rfl rfl)
theorem dX3_layWays_186 : decode cX3_layWays 186 = .ok (.iload 4, 2) := dk_21 4 (dk_at dksX3_layWays_8 0 rfl rfl)
theorem dX3_layWays_188 : decode cX3_layWays 188 = .ok (.iload_n 1, 1) := dk_27 (dk_at dksX3_layWays_8 2 rfl rfl)
theorem dX3_layWays_189 : decode cX3_layWays 189 = .ok (.iload_n 3, 1) := dk_29 (dk_at dksX3_layWays_8 3 rfl rfl)
theorem dX3_layWays_190 : decode cX3_layWays 190 = .ok (.iload_n 2, 1) := dk_28 (dk_at dksX3_layWays_8 4 rfl rfl)
theorem dX3_layWays_191 : decode cX3_layWays 191 = .ok (.invokevirtual 262, 3) := dk_182 1 6 (dk_at dksX3_layWays_8 5 rfl rfl)
theorem dX3_layWays_194 : decode cX3_layWays 194 = .ok (.ifCond .eq 26, 3) := dk_153 0 26 (dk_at dksX3_layWays_8 8 rfl rfl)
theorem dX3_layWays_197 : decode cX3_layWays 197 = .ok (.aload_n 0, 1) := dk_42 (dk_at dksX3_layWays_8 11 rfl rfl)
theorem dX3_layWays_198 : decode cX3_layWays 198 = .ok (.getfield 50, 3) := dk_180 0 50 (dk_at dksX3_layWays_8 12 rfl rfl)
theorem dX3_layWays_201 : decode cX3_layWays 201 = .ok (.iload_n 3, 1) := dk_29 (dk_at dksX3_layWays_8 15 rfl rfl)
theorem dX3_layWays_202 : decode cX3_layWays 202 = .ok (.aload_n 0, 1) := dk_42 (dk_at dksX3_layWays_8 16 rfl rfl)
theorem dX3_layWays_203 : decode cX3_layWays 203 = .ok (.getfield 19, 3) := dk_180 0 19 (dk_at dksX3_layWays_8 17 rfl rfl)
theorem dX3_layWays_206 : decode cX3_layWays 206 = .ok (.iload 4, 2) := dk_21 4 (dk_at dksX3_layWays_8 20 rfl rfl)
theorem dX3_layWays_208 : decode cX3_layWays 208 = .ok (.invokestatic 100, 3) := dk_184 0 100 (dk_at dksX3_layWays_9 0 rfl rfl)
theorem dX3_layWays_211 : decode cX3_layWays 211 = .ok (.iadd, 1) := dk_96 (dk_at dksX3_layWays_9 3 rfl rfl)
theorem dX3_layWays_212 : decode cX3_layWays 212 = .ok (.baload, 1) := dk_51 (dk_at dksX3_layWays_9 4 rfl rfl)
theorem dX3_layWays_213 : decode cX3_layWays 213 = .ok (.ifCond .eq 7, 3) := dk_153 0 7 (dk_at dksX3_layWays_9 5 rfl rfl)
theorem dX3_layWays_216 : decode cX3_layWays 216 = .ok (.iconst 1, 1) := dk_4 (dk_at dksX3_layWays_9 8 rfl rfl)
theorem dX3_layWays_217 : decode cX3_layWays 217 = .ok (.goto 4, 3) := dk_167 0 4 (dk_at dksX3_layWays_9 9 rfl rfl)
theorem dX3_layWays_220 : decode cX3_layWays 220 = .ok (.iconst 0, 1) := dk_3 (dk_at dksX3_layWays_9 12 rfl rfl)
theorem dX3_layWays_221 : decode cX3_layWays 221 = .ok (.bastore, 1) := dk_84 (dk_at dksX3_layWays_9 13 rfl rfl)
theorem dX3_layWays_222 : decode cX3_layWays 222 = .ok (.iinc 4 1, 3) := dk_132 4 1 (dk_at dksX3_layWays_9 14 rfl rfl)
theorem dX3_layWays_225 : decode cX3_layWays 225 = .ok (.goto (-65), 3) := dk_167 255 191 (dk_at dksX3_layWays_9 17 rfl rfl)
theorem dX3_layWays_228 : decode cX3_layWays 228 = .ok (.iinc 3 (-1), 3) := dk_132 3 255 (dk_at dksX3_layWays_9 20 rfl rfl)
theorem dX3_layWays_231 : decode cX3_layWays 231 = .ok (.goto (-78), 3) := dk_167 255 178 (dk_at dksX3_layWays_10 0 rfl rfl)
theorem dX3_layWays_234 : decode cX3_layWays 234 = .ok (.return_, 1) := dk_177 (dk_at dksX3_layWays_10 3 rfl rfl)
abbrev cX3_isImageAt : ByteArray := prog_16_method_57_code
def yX3_isImageAt : MethodName := ⟨RX3, "isImageAt", "(IIII)Z"⟩
def dkwX3_isImageAt_3 : List UInt8 := [167, 0, 4, 3, 54, 5, 132, 6, 1, 167, 255, 201, 21, 5, 172]
abbrev dktX3_isImageAt_3 : List UInt8 := dkwX3_isImageAt_3 ++ []
def dkwX3_isImageAt_2 : List UInt8 := [16, 40, 28, 104, 29, 96, 21, 6, 96, 46, 42, 180, 0, 19, 27, 21, 6, 184, 0, 103, 160, 0, 7, 4]
abbrev dktX3_isImageAt_2 : List UInt8 := dkwX3_isImageAt_2 ++ dktX3_isImageAt_3
def dkwX3_isImageAt_1 : List UInt8 := [54, 6, 21, 6, 42, 180, 0, 19, 27, 184, 0, 100, 162, 0, 48, 21, 5, 153, 0, 43, 42, 180, 0, 16]
abbrev dktX3_isImageAt_1 : List UInt8 := dkwX3_isImageAt_1 ++ dktX3_isImageAt_2
def dkwX3_isImageAt_0 : List UInt8 := [29, 42, 180, 0, 19, 27, 184, 0, 100, 96, 21, 4, 163, 0, 7, 4, 167, 0, 4, 3, 54, 5, 3]
abbrev dktX3_isImageAt_0 : List UInt8 := dkwX3_isImageAt_0 ++ dktX3_isImageAt_1
theorem dksX3_isImageAt_0 : cX3_isImageAt.data.toList.drop 0 = dktX3_isImageAt_0 := by decide +kernel
theorem dksX3_isImageAt_1 : cX3_isImageAt.data.toList.drop 23 = dktX3_isImageAt_1 := dk_seg dksX3_isImageAt_0 23 rfl rfl
theorem dksX3_isImageAt_2 : cX3_isImageAt.data.toList.drop 47 = dktX3_isImageAt_2 := dk_seg dksX3_isImageAt_1 24 rfl rfl
theorem dksX3_isImageAt_3 : cX3_isImageAt.data.toList.drop 71 = dktX3_isImageAt_3 := dk_seg dksX3_isImageAt_2 24 rfl rfl
theorem dX3_isImageAt_0 : decode cX3_isImageAt 0 = .ok (.iload_n 3, 1) := dk_29 (dk_at dksX3_isImageAt_0 0 rfl rfl)
theorem dX3_isImageAt_1 : decode cX3_isImageAt 1 = .ok (.aload_n 0, 1) := dk_42 (dk_at dksX3_isImageAt_0 1 rfl rfl)
theorem dX3_isImageAt_2 : decode cX3_isImageAt 2 = .ok (.getfield 19, 3) := dk_180 0 19 (dk_at dksX3_isImageAt_0 2 rfl rfl)
theorem dX3_isImageAt_5 : decode cX3_isImageAt 5 = .ok (.iload_n 1, 1) := dk_27 (dk_at dksX3_isImageAt_0 5 rfl rfl)
theorem dX3_isImageAt_6 : decode cX3_isImageAt 6 = .ok (.invokestatic 100, 3) := dk_184 0 100 (dk_at dksX3_isImageAt_0 6 rfl rfl)
theorem dX3_isImageAt_9 : decode cX3_isImageAt 9 = .ok (.iadd, 1) := dk_96 (dk_at dksX3_isImageAt_0 9 rfl rfl)
theorem dX3_isImageAt_10 : decode cX3_isImageAt 10 = .ok (.iload 4, 2) := dk_21 4 (dk_at dksX3_isImageAt_0 10 rfl rfl)
theorem dX3_isImageAt_12 : decode cX3_isImageAt 12 = .ok (.if_icmp .gt 7, 3) := dk_163 0 7 (dk_at dksX3_isImageAt_0 12 rfl rfl)
theorem dX3_isImageAt_15 : decode cX3_isImageAt 15 = .ok (.iconst 1, 1) := dk_4 (dk_at dksX3_isImageAt_0 15 rfl rfl)
theorem dX3_isImageAt_16 : decode cX3_isImageAt 16 = .ok (.goto 4, 3) := dk_167 0 4 (dk_at dksX3_isImageAt_0 16 rfl rfl)
theorem dX3_isImageAt_19 : decode cX3_isImageAt 19 = .ok (.iconst 0, 1) := dk_3 (dk_at dksX3_isImageAt_0 19 rfl rfl)
theorem dX3_isImageAt_20 : decode cX3_isImageAt 20 = .ok (.istore 5, 2) := dk_54 5 (dk_at dksX3_isImageAt_0 20 rfl rfl)
theorem dX3_isImageAt_22 : decode cX3_isImageAt 22 = .ok (.iconst 0, 1) := dk_3 (dk_at dksX3_isImageAt_0 22 rfl rfl)
theorem dX3_isImageAt_23 : decode cX3_isImageAt 23 = .ok (.istore 6, 2) := dk_54 6 (dk_at dksX3_isImageAt_1 0 rfl rfl)
theorem dX3_isImageAt_25 : decode cX3_isImageAt 25 = .ok (.iload 6, 2) := dk_21 6 (dk_at dksX3_isImageAt_1 2 rfl rfl)
theorem dX3_isImageAt_27 : decode cX3_isImageAt 27 = .ok (.aload_n 0, 1) := dk_42 (dk_at dksX3_isImageAt_1 4 rfl rfl)
theorem dX3_isImageAt_28 : decode cX3_isImageAt 28 = .ok (.getfield 19, 3) := dk_180 0 19 (dk_at dksX3_isImageAt_1 5 rfl rfl)
theorem dX3_isImageAt_31 : decode cX3_isImageAt 31 = .ok (.iload_n 1, 1) := dk_27 (dk_at dksX3_isImageAt_1 8 rfl rfl)
theorem dX3_isImageAt_32 : decode cX3_isImageAt 32 = .ok (.invokestatic 100, 3) := dk_184 0 100 (dk_at dksX3_isImageAt_1 9 rfl rfl)
theorem dX3_isImageAt_35 : decode cX3_isImageAt 35 = .ok (.if_icmp .ge 48, 3) := dk_162 0 48 (dk_at dksX3_isImageAt_1 12 rfl rfl)
theorem dX3_isImageAt_38 : decode cX3_isImageAt 38 = .ok (.iload 5, 2) := dk_21 5 (dk_at dksX3_isImageAt_1 15 rfl rfl)
theorem dX3_isImageAt_40 : decode cX3_isImageAt 40 = .ok (.ifCond .eq 43, 3) := dk_153 0 43 (dk_at dksX3_isImageAt_1 17 rfl rfl)
theorem dX3_isImageAt_43 : decode cX3_isImageAt 43 = .ok (.aload_n 0, 1) := dk_42 (dk_at dksX3_isImageAt_1 20 rfl rfl)
theorem dX3_isImageAt_44 : decode cX3_isImageAt 44 = .ok (.getfield 16, 3) := dk_180 0 16 (dk_at dksX3_isImageAt_1 21 rfl rfl)
theorem dX3_isImageAt_47 : decode cX3_isImageAt 47 = .ok (.bipush 40, 2) := dk_16 40 (dk_at dksX3_isImageAt_2 0 rfl rfl)
theorem dX3_isImageAt_49 : decode cX3_isImageAt 49 = .ok (.iload_n 2, 1) := dk_28 (dk_at dksX3_isImageAt_2 2 rfl rfl)
theorem dX3_isImageAt_50 : decode cX3_isImageAt 50 = .ok (.imul, 1) := dk_104 (dk_at dksX3_isImageAt_2 3 rfl rfl)
theorem dX3_isImageAt_51 : decode cX3_isImageAt 51 = .ok (.iload_n 3, 1) := dk_29 (dk_at dksX3_isImageAt_2 4 rfl rfl)
theorem dX3_isImageAt_52 : decode cX3_isImageAt 52 = .ok (.iadd, 1) := dk_96 (dk_at dksX3_isImageAt_2 5 rfl rfl)
theorem dX3_isImageAt_53 : decode cX3_isImageAt 53 = .ok (.iload 6, 2) := dk_21 6 (dk_at dksX3_isImageAt_2 6 rfl rfl)
theorem dX3_isImageAt_55 : decode cX3_isImageAt 55 = .ok (.iadd, 1) := dk_96 (dk_at dksX3_isImageAt_2 8 rfl rfl)
theorem dX3_isImageAt_56 : decode cX3_isImageAt 56 = .ok (.iaload, 1) := dk_46 (dk_at dksX3_isImageAt_2 9 rfl rfl)
theorem dX3_isImageAt_57 : decode cX3_isImageAt 57 = .ok (.aload_n 0, 1) := dk_42 (dk_at dksX3_isImageAt_2 10 rfl rfl)
theorem dX3_isImageAt_58 : decode cX3_isImageAt 58 = .ok (.getfield 19, 3) := dk_180 0 19 (dk_at dksX3_isImageAt_2 11 rfl rfl)
theorem dX3_isImageAt_61 : decode cX3_isImageAt 61 = .ok (.iload_n 1, 1) := dk_27 (dk_at dksX3_isImageAt_2 14 rfl rfl)
theorem dX3_isImageAt_62 : decode cX3_isImageAt 62 = .ok (.iload 6, 2) := dk_21 6 (dk_at dksX3_isImageAt_2 15 rfl rfl)
theorem dX3_isImageAt_64 : decode cX3_isImageAt 64 = .ok (.invokestatic 103, 3) := dk_184 0 103 (dk_at dksX3_isImageAt_2 17 rfl rfl)
theorem dX3_isImageAt_67 : decode cX3_isImageAt 67 = .ok (.if_icmp .ne 7, 3) := dk_160 0 7 (dk_at dksX3_isImageAt_2 20 rfl rfl)
theorem dX3_isImageAt_70 : decode cX3_isImageAt 70 = .ok (.iconst 1, 1) := dk_4 (dk_at dksX3_isImageAt_2 23 rfl rfl)
theorem dX3_isImageAt_71 : decode cX3_isImageAt 71 = .ok (.goto 4, 3) := dk_167 0 4 (dk_at dksX3_isImageAt_3 0 rfl rfl)
theorem dX3_isImageAt_74 : decode cX3_isImageAt 74 = .ok (.iconst 0, 1) := dk_3 (dk_at dksX3_isImageAt_3 3 rfl rfl)
theorem dX3_isImageAt_75 : decode cX3_isImageAt 75 = .ok (.istore 5, 2) := dk_54 5 (dk_at dksX3_isImageAt_3 4 rfl rfl)
theorem dX3_isImageAt_77 : decode cX3_isImageAt 77 = .ok (.iinc 6 1, 3) := dk_132 6 1 (dk_at dksX3_isImageAt_3 6 rfl rfl)
theorem dX3_isImageAt_80 : decode cX3_isImageAt 80 = .ok (.goto (-55), 3) := dk_167 255 201 (dk_at dksX3_isImageAt_3 9 rfl rfl)
theorem dX3_isImageAt_83 : decode cX3_isImageAt 83 = .ok (.iload 5, 2) := dk_21 5 (dk_at dksX3_isImageAt_3 12 rfl rfl)
theorem dX3_isImageAt_85 : decode cX3_isImageAt 85 = .ok (.ireturn, 1) := dk_172 (dk_at dksX3_isImageAt_3 14 rfl rfl)
abbrev cX3_firstAt : ByteArray := prog_16_method_59_code
def yX3_firstAt : MethodName := ⟨RX3, "firstAt", "(III)I"⟩
def dkwX3_firstAt_2 : List UInt8 := [153, 0, 8, 21, 5, 167, 0, 5, 21, 4, 54, 4, 132, 5, 255, 167, 255, 208, 21, 4, 172]
abbrev dktX3_firstAt_2 : List UInt8 := dkwX3_firstAt_2 ++ []
def dkwX3_firstAt_1 : List UInt8 := [29, 182, 1, 6, 153, 0, 27, 42, 180, 0, 50, 28, 42, 180, 0, 19, 21, 5, 184, 0, 100, 96, 51]
abbrev dktX3_firstAt_1 : List UInt8 := dkwX3_firstAt_1 ++ dktX3_firstAt_2
def dkwX3_firstAt_0 : List UInt8 := [18, 124, 54, 4, 42, 180, 0, 19, 3, 46, 4, 100, 54, 5, 21, 5, 155, 0, 49, 42, 21, 5, 27, 28]
abbrev dktX3_firstAt_0 : List UInt8 := dkwX3_firstAt_0 ++ dktX3_firstAt_1
theorem dksX3_firstAt_0 : cX3_firstAt.data.toList.drop 0 = dktX3_firstAt_0 := by decide +kernel
theorem dksX3_firstAt_1 : cX3_firstAt.data.toList.drop 24 = dktX3_firstAt_1 := dk_seg dksX3_firstAt_0 24 rfl rfl
theorem dksX3_firstAt_2 : cX3_firstAt.data.toList.drop 47 = dktX3_firstAt_2 := dk_seg dksX3_firstAt_1 23 rfl rfl
theorem dX3_firstAt_0 : decode cX3_firstAt 0 = .ok (.ldc 124, 2) := dk_18 124 (dk_at dksX3_firstAt_0 0 rfl rfl)
theorem dX3_firstAt_2 : decode cX3_firstAt 2 = .ok (.istore 4, 2) := dk_54 4 (dk_at dksX3_firstAt_0 2 rfl rfl)
theorem dX3_firstAt_4 : decode cX3_firstAt 4 = .ok (.aload_n 0, 1) := dk_42 (dk_at dksX3_firstAt_0 4 rfl rfl)
theorem dX3_firstAt_5 : decode cX3_firstAt 5 = .ok (.getfield 19, 3) := dk_180 0 19 (dk_at dksX3_firstAt_0 5 rfl rfl)
theorem dX3_firstAt_8 : decode cX3_firstAt 8 = .ok (.iconst 0, 1) := dk_3 (dk_at dksX3_firstAt_0 8 rfl rfl)
theorem dX3_firstAt_9 : decode cX3_firstAt 9 = .ok (.iaload, 1) := dk_46 (dk_at dksX3_firstAt_0 9 rfl rfl)
theorem dX3_firstAt_10 : decode cX3_firstAt 10 = .ok (.iconst 1, 1) := dk_4 (dk_at dksX3_firstAt_0 10 rfl rfl)
theorem dX3_firstAt_11 : decode cX3_firstAt 11 = .ok (.isub, 1) := dk_100 (dk_at dksX3_firstAt_0 11 rfl rfl)
theorem dX3_firstAt_12 : decode cX3_firstAt 12 = .ok (.istore 5, 2) := dk_54 5 (dk_at dksX3_firstAt_0 12 rfl rfl)
theorem dX3_firstAt_14 : decode cX3_firstAt 14 = .ok (.iload 5, 2) := dk_21 5 (dk_at dksX3_firstAt_0 14 rfl rfl)
theorem dX3_firstAt_16 : decode cX3_firstAt 16 = .ok (.ifCond .lt 49, 3) := dk_155 0 49 (dk_at dksX3_firstAt_0 16 rfl rfl)
theorem dX3_firstAt_19 : decode cX3_firstAt 19 = .ok (.aload_n 0, 1) := dk_42 (dk_at dksX3_firstAt_0 19 rfl rfl)
theorem dX3_firstAt_20 : decode cX3_firstAt 20 = .ok (.iload 5, 2) := dk_21 5 (dk_at dksX3_firstAt_0 20 rfl rfl)
theorem dX3_firstAt_22 : decode cX3_firstAt 22 = .ok (.iload_n 1, 1) := dk_27 (dk_at dksX3_firstAt_0 22 rfl rfl)
theorem dX3_firstAt_23 : decode cX3_firstAt 23 = .ok (.iload_n 2, 1) := dk_28 (dk_at dksX3_firstAt_0 23 rfl rfl)
theorem dX3_firstAt_24 : decode cX3_firstAt 24 = .ok (.iload_n 3, 1) := dk_29 (dk_at dksX3_firstAt_1 0 rfl rfl)
theorem dX3_firstAt_25 : decode cX3_firstAt 25 = .ok (.invokevirtual 262, 3) := dk_182 1 6 (dk_at dksX3_firstAt_1 1 rfl rfl)
theorem dX3_firstAt_28 : decode cX3_firstAt 28 = .ok (.ifCond .eq 27, 3) := dk_153 0 27 (dk_at dksX3_firstAt_1 4 rfl rfl)
theorem dX3_firstAt_31 : decode cX3_firstAt 31 = .ok (.aload_n 0, 1) := dk_42 (dk_at dksX3_firstAt_1 7 rfl rfl)
theorem dX3_firstAt_32 : decode cX3_firstAt 32 = .ok (.getfield 50, 3) := dk_180 0 50 (dk_at dksX3_firstAt_1 8 rfl rfl)
theorem dX3_firstAt_35 : decode cX3_firstAt 35 = .ok (.iload_n 2, 1) := dk_28 (dk_at dksX3_firstAt_1 11 rfl rfl)
theorem dX3_firstAt_36 : decode cX3_firstAt 36 = .ok (.aload_n 0, 1) := dk_42 (dk_at dksX3_firstAt_1 12 rfl rfl)
theorem dX3_firstAt_37 : decode cX3_firstAt 37 = .ok (.getfield 19, 3) := dk_180 0 19 (dk_at dksX3_firstAt_1 13 rfl rfl)
theorem dX3_firstAt_40 : decode cX3_firstAt 40 = .ok (.iload 5, 2) := dk_21 5 (dk_at dksX3_firstAt_1 16 rfl rfl)
theorem dX3_firstAt_42 : decode cX3_firstAt 42 = .ok (.invokestatic 100, 3) := dk_184 0 100 (dk_at dksX3_firstAt_1 18 rfl rfl)
theorem dX3_firstAt_45 : decode cX3_firstAt 45 = .ok (.iadd, 1) := dk_96 (dk_at dksX3_firstAt_1 21 rfl rfl)
theorem dX3_firstAt_46 : decode cX3_firstAt 46 = .ok (.baload, 1) := dk_51 (dk_at dksX3_firstAt_1 22 rfl rfl)
theorem dX3_firstAt_47 : decode cX3_firstAt 47 = .ok (.ifCond .eq 8, 3) := dk_153 0 8 (dk_at dksX3_firstAt_2 0 rfl rfl)
theorem dX3_firstAt_50 : decode cX3_firstAt 50 = .ok (.iload 5, 2) := dk_21 5 (dk_at dksX3_firstAt_2 3 rfl rfl)
theorem dX3_firstAt_52 : decode cX3_firstAt 52 = .ok (.goto 5, 3) := dk_167 0 5 (dk_at dksX3_firstAt_2 5 rfl rfl)
theorem dX3_firstAt_55 : decode cX3_firstAt 55 = .ok (.iload 4, 2) := dk_21 4 (dk_at dksX3_firstAt_2 8 rfl rfl)
theorem dX3_firstAt_57 : decode cX3_firstAt 57 = .ok (.istore 4, 2) := dk_54 4 (dk_at dksX3_firstAt_2 10 rfl rfl)
theorem dX3_firstAt_59 : decode cX3_firstAt 59 = .ok (.iinc 5 (-1), 3) := dk_132 5 255 (dk_at dksX3_firstAt_2 12 rfl rfl)
theorem dX3_firstAt_62 : decode cX3_firstAt 62 = .ok (.goto (-48), 3) := dk_167 255 208 (dk_at dksX3_firstAt_2 15 rfl rfl)
theorem dX3_firstAt_65 : decode cX3_firstAt 65 = .ok (.iload 4, 2) := dk_21 4 (dk_at dksX3_firstAt_2 18 rfl rfl)
theorem dX3_firstAt_67 : decode cX3_firstAt 67 = .ok (.ireturn, 1) := dk_172 (dk_at dksX3_firstAt_2 20 rfl rfl)
abbrev cX3_who : ByteArray := prog_16_method_62_code
def yX3_who : MethodName := ⟨RX3, "who", "(IIIIII)I"⟩
def dkwX3_who_9 : List UInt8 := [153, 0, 10, 4, 21, 9, 120, 167, 0, 4, 3, 128, 54, 8, 132, 9, 1, 167, 255, 160, 21, 8, 172]
abbrev dktX3_who_9 : List UInt8 := dkwX3_who_9 ++ []
def dkwX3_who_8 : List UInt8 := [16, 8, 27, 104, 96, 7, 96, 28, 96, 21, 9, 79, 21, 8, 42, 21, 4, 21, 5, 21, 6, 182, 1, 24]
abbrev dktX3_who_8 : List UInt8 := dkwX3_who_8 ++ dktX3_who_9
def dkwX3_who_7 : List UInt8 := [16, 12, 16, 8, 27, 104, 96, 167, 0, 25, 29, 4, 160, 0, 9, 7, 28, 96, 167, 0, 14, 16, 12]
abbrev dktX3_who_7 : List UInt8 := dkwX3_who_7 ++ dktX3_who_8
def dkwX3_who_6 : List UInt8 := [167, 0, 9, 42, 180, 0, 19, 3, 46, 162, 0, 82, 42, 182, 1, 21, 42, 180, 0, 25, 29, 154, 0, 13]
abbrev dktX3_who_6 : List UInt8 := dkwX3_who_6 ++ dktX3_who_7
def dkwX3_who_5 : List UInt8 := [3, 54, 8, 29, 154, 0, 7, 4, 167, 0, 4, 3, 54, 9, 21, 9, 29, 154, 0, 8, 16, 6]
abbrev dktX3_who_5 : List UInt8 := dkwX3_who_5 ++ dktX3_who_6
def dkwX3_who_4 : List UInt8 := [154, 0, 6, 18, 80, 172, 42, 21, 5, 21, 6, 182, 0, 179, 54, 7, 21, 7, 153, 0, 6, 21, 7, 172]
abbrev dktX3_who_4 : List UInt8 := dkwX3_who_4 ++ dktX3_who_5
def dkwX3_who_3 : List UInt8 := [180, 0, 19, 6, 46, 167, 0, 11, 42, 180, 0, 19, 27, 184, 0, 93, 4, 100, 133, 184, 0, 70]
abbrev dktX3_who_3 : List UInt8 := dkwX3_who_3 ++ dktX3_who_4
def dkwX3_who_2 : List UInt8 := [184, 0, 70, 154, 0, 6, 18, 80, 172, 29, 158, 0, 40, 28, 133, 9, 29, 4, 160, 0, 12, 42]
abbrev dktX3_who_2 : List UInt8 := dkwX3_who_2 ++ dktX3_who_3
def dkwX3_who_1 : List UInt8 := [20, 0, 216, 184, 0, 70, 153, 0, 24, 21, 5, 184, 0, 74, 153, 0, 16, 21, 6, 133, 10, 20, 1, 11]
abbrev dktX3_who_1 : List UInt8 := dkwX3_who_1 ++ dktX3_who_2
def dkwX3_who_0 : List UInt8 := [42, 27, 182, 0, 182, 153, 0, 49, 29, 133, 9, 20, 0, 78, 184, 0, 70, 153, 0, 37, 21, 4, 133, 9]
abbrev dktX3_who_0 : List UInt8 := dkwX3_who_0 ++ dktX3_who_1
theorem dksX3_who_0 : cX3_who.data.toList.drop 0 = dktX3_who_0 := by decide +kernel
theorem dksX3_who_1 : cX3_who.data.toList.drop 24 = dktX3_who_1 := dk_seg dksX3_who_0 24 rfl rfl
theorem dksX3_who_2 : cX3_who.data.toList.drop 48 = dktX3_who_2 := dk_seg dksX3_who_1 24 rfl rfl
theorem dksX3_who_3 : cX3_who.data.toList.drop 70 = dktX3_who_3 := dk_seg dksX3_who_2 22 rfl rfl
theorem dksX3_who_4 : cX3_who.data.toList.drop 92 = dktX3_who_4 := dk_seg dksX3_who_3 22 rfl rfl
theorem dksX3_who_5 : cX3_who.data.toList.drop 116 = dktX3_who_5 := dk_seg dksX3_who_4 24 rfl rfl
theorem dksX3_who_6 : cX3_who.data.toList.drop 138 = dktX3_who_6 := dk_seg dksX3_who_5 22 rfl rfl
theorem dksX3_who_7 : cX3_who.data.toList.drop 162 = dktX3_who_7 := dk_seg dksX3_who_6 24 rfl rfl
theorem dksX3_who_8 : cX3_who.data.toList.drop 185 = dktX3_who_8 := dk_seg dksX3_who_7 23 rfl rfl
theorem dksX3_who_9 : cX3_who.data.toList.drop 209 = dktX3_who_9 := dk_seg dksX3_who_8 24 rfl rfl
theorem dX3_who_0 : decode cX3_who 0 = .ok (.aload_n 0, 1) := dk_42 (dk_at dksX3_who_0 0 rfl rfl)
theorem dX3_who_1 : decode cX3_who 1 = .ok (.iload_n 1, 1) := dk_27 (dk_at dksX3_who_0 1 rfl rfl)
theorem dX3_who_2 : decode cX3_who 2 = .ok (.invokevirtual 182, 3) := dk_182 0 182 (dk_at dksX3_who_0 2 rfl rfl)
theorem dX3_who_5 : decode cX3_who 5 = .ok (.ifCond .eq 49, 3) := dk_153 0 49 (dk_at dksX3_who_0 5 rfl rfl)
theorem dX3_who_8 : decode cX3_who 8 = .ok (.iload_n 3, 1) := dk_29 (dk_at dksX3_who_0 8 rfl rfl)
theorem dX3_who_9 : decode cX3_who 9 = .ok (.i2l, 1) := dk_133 (dk_at dksX3_who_0 9 rfl rfl)
theorem dX3_who_10 : decode cX3_who 10 = .ok (.lconst 0, 1) := dk_9 (dk_at dksX3_who_0 10 rfl rfl)
theorem dX3_who_11 : decode cX3_who 11 = .ok (.ldc2_w 78, 3) := dk_20 0 78 (dk_at dksX3_who_0 11 rfl rfl)
theorem dX3_who_14 : decode cX3_who 14 = .ok (.invokestatic 70, 3) := dk_184 0 70 (dk_at dksX3_who_0 14 rfl rfl)
theorem dX3_who_17 : decode cX3_who 17 = .ok (.ifCond .eq 37, 3) := dk_153 0 37 (dk_at dksX3_who_0 17 rfl rfl)
theorem dX3_who_20 : decode cX3_who 20 = .ok (.iload 4, 2) := dk_21 4 (dk_at dksX3_who_0 20 rfl rfl)
theorem dX3_who_22 : decode cX3_who 22 = .ok (.i2l, 1) := dk_133 (dk_at dksX3_who_0 22 rfl rfl)
theorem dX3_who_23 : decode cX3_who 23 = .ok (.lconst 0, 1) := dk_9 (dk_at dksX3_who_0 23 rfl rfl)
theorem dX3_who_24 : decode cX3_who 24 = .ok (.ldc2_w 216, 3) := dk_20 0 216 (dk_at dksX3_who_1 0 rfl rfl)
theorem dX3_who_27 : decode cX3_who 27 = .ok (.invokestatic 70, 3) := dk_184 0 70 (dk_at dksX3_who_1 3 rfl rfl)
theorem dX3_who_30 : decode cX3_who 30 = .ok (.ifCond .eq 24, 3) := dk_153 0 24 (dk_at dksX3_who_1 6 rfl rfl)
theorem dX3_who_33 : decode cX3_who 33 = .ok (.iload 5, 2) := dk_21 5 (dk_at dksX3_who_1 9 rfl rfl)
theorem dX3_who_35 : decode cX3_who 35 = .ok (.invokestatic 74, 3) := dk_184 0 74 (dk_at dksX3_who_1 11 rfl rfl)
theorem dX3_who_38 : decode cX3_who 38 = .ok (.ifCond .eq 16, 3) := dk_153 0 16 (dk_at dksX3_who_1 14 rfl rfl)
theorem dX3_who_41 : decode cX3_who 41 = .ok (.iload 6, 2) := dk_21 6 (dk_at dksX3_who_1 17 rfl rfl)
theorem dX3_who_43 : decode cX3_who 43 = .ok (.i2l, 1) := dk_133 (dk_at dksX3_who_1 19 rfl rfl)
theorem dX3_who_44 : decode cX3_who 44 = .ok (.lconst 1, 1) := dk_10 (dk_at dksX3_who_1 20 rfl rfl)
theorem dX3_who_45 : decode cX3_who 45 = .ok (.ldc2_w 267, 3) := dk_20 1 11 (dk_at dksX3_who_1 21 rfl rfl)
theorem dX3_who_48 : decode cX3_who 48 = .ok (.invokestatic 70, 3) := dk_184 0 70 (dk_at dksX3_who_2 0 rfl rfl)
theorem dX3_who_51 : decode cX3_who 51 = .ok (.ifCond .ne 6, 3) := dk_154 0 6 (dk_at dksX3_who_2 3 rfl rfl)
theorem dX3_who_54 : decode cX3_who 54 = .ok (.ldc 80, 2) := dk_18 80 (dk_at dksX3_who_2 6 rfl rfl)
theorem dX3_who_56 : decode cX3_who 56 = .ok (.ireturn, 1) := dk_172 (dk_at dksX3_who_2 8 rfl rfl)
theorem dX3_who_57 : decode cX3_who 57 = .ok (.iload_n 3, 1) := dk_29 (dk_at dksX3_who_2 9 rfl rfl)
theorem dX3_who_58 : decode cX3_who 58 = .ok (.ifCond .le 40, 3) := dk_158 0 40 (dk_at dksX3_who_2 10 rfl rfl)
theorem dX3_who_61 : decode cX3_who 61 = .ok (.iload_n 2, 1) := dk_28 (dk_at dksX3_who_2 13 rfl rfl)
theorem dX3_who_62 : decode cX3_who 62 = .ok (.i2l, 1) := dk_133 (dk_at dksX3_who_2 14 rfl rfl)
theorem dX3_who_63 : decode cX3_who 63 = .ok (.lconst 0, 1) := dk_9 (dk_at dksX3_who_2 15 rfl rfl)
theorem dX3_who_64 : decode cX3_who 64 = .ok (.iload_n 3, 1) := dk_29 (dk_at dksX3_who_2 16 rfl rfl)
theorem dX3_who_65 : decode cX3_who 65 = .ok (.iconst 1, 1) := dk_4 (dk_at dksX3_who_2 17 rfl rfl)
theorem dX3_who_66 : decode cX3_who 66 = .ok (.if_icmp .ne 12, 3) := dk_160 0 12 (dk_at dksX3_who_2 18 rfl rfl)
theorem dX3_who_69 : decode cX3_who 69 = .ok (.aload_n 0, 1) := dk_42 (dk_at dksX3_who_2 21 rfl rfl)
theorem dX3_who_70 : decode cX3_who 70 = .ok (.getfield 19, 3) := dk_180 0 19 (dk_at dksX3_who_3 0 rfl rfl)
theorem dX3_who_73 : decode cX3_who 73 = .ok (.iconst 3, 1) := dk_6 (dk_at dksX3_who_3 3 rfl rfl)
theorem dX3_who_74 : decode cX3_who 74 = .ok (.iaload, 1) := dk_46 (dk_at dksX3_who_3 4 rfl rfl)
theorem dX3_who_75 : decode cX3_who 75 = .ok (.goto 11, 3) := dk_167 0 11 (dk_at dksX3_who_3 5 rfl rfl)
theorem dX3_who_78 : decode cX3_who 78 = .ok (.aload_n 0, 1) := dk_42 (dk_at dksX3_who_3 8 rfl rfl)
theorem dX3_who_79 : decode cX3_who 79 = .ok (.getfield 19, 3) := dk_180 0 19 (dk_at dksX3_who_3 9 rfl rfl)
theorem dX3_who_82 : decode cX3_who 82 = .ok (.iload_n 1, 1) := dk_27 (dk_at dksX3_who_3 12 rfl rfl)
theorem dX3_who_83 : decode cX3_who 83 = .ok (.invokestatic 93, 3) := dk_184 0 93 (dk_at dksX3_who_3 13 rfl rfl)
theorem dX3_who_86 : decode cX3_who 86 = .ok (.iconst 1, 1) := dk_4 (dk_at dksX3_who_3 16 rfl rfl)
theorem dX3_who_87 : decode cX3_who 87 = .ok (.isub, 1) := dk_100 (dk_at dksX3_who_3 17 rfl rfl)
theorem dX3_who_88 : decode cX3_who 88 = .ok (.i2l, 1) := dk_133 (dk_at dksX3_who_3 18 rfl rfl)
theorem dX3_who_89 : decode cX3_who 89 = .ok (.invokestatic 70, 3) := dk_184 0 70 (dk_at dksX3_who_3 19 rfl rfl)
theorem dX3_who_92 : decode cX3_who 92 = .ok (.ifCond .ne 6, 3) := dk_154 0 6 (dk_at dksX3_who_4 0 rfl rfl)
theorem dX3_who_95 : decode cX3_who 95 = .ok (.ldc 80, 2) := dk_18 80 (dk_at dksX3_who_4 3 rfl rfl)
theorem dX3_who_97 : decode cX3_who 97 = .ok (.ireturn, 1) := dk_172 (dk_at dksX3_who_4 5 rfl rfl)
theorem dX3_who_98 : decode cX3_who 98 = .ok (.aload_n 0, 1) := dk_42 (dk_at dksX3_who_4 6 rfl rfl)
theorem dX3_who_99 : decode cX3_who 99 = .ok (.iload 5, 2) := dk_21 5 (dk_at dksX3_who_4 7 rfl rfl)
theorem dX3_who_101 : decode cX3_who 101 = .ok (.iload 6, 2) := dk_21 6 (dk_at dksX3_who_4 9 rfl rfl)
theorem dX3_who_103 : decode cX3_who 103 = .ok (.invokevirtual 179, 3) := dk_182 0 179 (dk_at dksX3_who_4 11 rfl rfl)
theorem dX3_who_106 : decode cX3_who 106 = .ok (.istore 7, 2) := dk_54 7 (dk_at dksX3_who_4 14 rfl rfl)
theorem dX3_who_108 : decode cX3_who 108 = .ok (.iload 7, 2) := dk_21 7 (dk_at dksX3_who_4 16 rfl rfl)
theorem dX3_who_110 : decode cX3_who 110 = .ok (.ifCond .eq 6, 3) := dk_153 0 6 (dk_at dksX3_who_4 18 rfl rfl)
theorem dX3_who_113 : decode cX3_who 113 = .ok (.iload 7, 2) := dk_21 7 (dk_at dksX3_who_4 21 rfl rfl)
theorem dX3_who_115 : decode cX3_who 115 = .ok (.ireturn, 1) := dk_172 (dk_at dksX3_who_4 23 rfl rfl)
theorem dX3_who_116 : decode cX3_who 116 = .ok (.iconst 0, 1) := dk_3 (dk_at dksX3_who_5 0 rfl rfl)
theorem dX3_who_117 : decode cX3_who 117 = .ok (.istore 8, 2) := dk_54 8 (dk_at dksX3_who_5 1 rfl rfl)
theorem dX3_who_119 : decode cX3_who 119 = .ok (.iload_n 3, 1) := dk_29 (dk_at dksX3_who_5 3 rfl rfl)
theorem dX3_who_120 : decode cX3_who 120 = .ok (.ifCond .ne 7, 3) := dk_154 0 7 (dk_at dksX3_who_5 4 rfl rfl)
theorem dX3_who_123 : decode cX3_who 123 = .ok (.iconst 1, 1) := dk_4 (dk_at dksX3_who_5 7 rfl rfl)
theorem dX3_who_124 : decode cX3_who 124 = .ok (.goto 4, 3) := dk_167 0 4 (dk_at dksX3_who_5 8 rfl rfl)
theorem dX3_who_127 : decode cX3_who 127 = .ok (.iconst 0, 1) := dk_3 (dk_at dksX3_who_5 11 rfl rfl)
theorem dX3_who_128 : decode cX3_who 128 = .ok (.istore 9, 2) := dk_54 9 (dk_at dksX3_who_5 12 rfl rfl)
theorem dX3_who_130 : decode cX3_who 130 = .ok (.iload 9, 2) := dk_21 9 (dk_at dksX3_who_5 14 rfl rfl)
theorem dX3_who_132 : decode cX3_who 132 = .ok (.iload_n 3, 1) := dk_29 (dk_at dksX3_who_5 16 rfl rfl)
theorem dX3_who_133 : decode cX3_who 133 = .ok (.ifCond .ne 8, 3) := dk_154 0 8 (dk_at dksX3_who_5 17 rfl rfl)
theorem dX3_who_136 : decode cX3_who 136 = .ok (.bipush 6, 2) := dk_16 6 (dk_at dksX3_who_5 20 rfl rfl)
theorem dX3_who_138 : decode cX3_who 138 = .ok (.goto 9, 3) := dk_167 0 9 (dk_at dksX3_who_6 0 rfl rfl)
theorem dX3_who_141 : decode cX3_who 141 = .ok (.aload_n 0, 1) := dk_42 (dk_at dksX3_who_6 3 rfl rfl)
theorem dX3_who_142 : decode cX3_who 142 = .ok (.getfield 19, 3) := dk_180 0 19 (dk_at dksX3_who_6 4 rfl rfl)
theorem dX3_who_145 : decode cX3_who 145 = .ok (.iconst 0, 1) := dk_3 (dk_at dksX3_who_6 7 rfl rfl)
theorem dX3_who_146 : decode cX3_who 146 = .ok (.iaload, 1) := dk_46 (dk_at dksX3_who_6 8 rfl rfl)
theorem dX3_who_147 : decode cX3_who 147 = .ok (.if_icmp .ge 82, 3) := dk_162 0 82 (dk_at dksX3_who_6 9 rfl rfl)
theorem dX3_who_150 : decode cX3_who 150 = .ok (.aload_n 0, 1) := dk_42 (dk_at dksX3_who_6 12 rfl rfl)
theorem dX3_who_151 : decode cX3_who 151 = .ok (.invokevirtual 277, 3) := dk_182 1 21 (dk_at dksX3_who_6 13 rfl rfl)
theorem dX3_who_154 : decode cX3_who 154 = .ok (.aload_n 0, 1) := dk_42 (dk_at dksX3_who_6 16 rfl rfl)
theorem dX3_who_155 : decode cX3_who 155 = .ok (.getfield 25, 3) := dk_180 0 25 (dk_at dksX3_who_6 17 rfl rfl)
theorem dX3_who_158 : decode cX3_who 158 = .ok (.iload_n 3, 1) := dk_29 (dk_at dksX3_who_6 20 rfl rfl)
theorem dX3_who_159 : decode cX3_who 159 = .ok (.ifCond .ne 13, 3) := dk_154 0 13 (dk_at dksX3_who_6 21 rfl rfl)
theorem dX3_who_162 : decode cX3_who 162 = .ok (.bipush 12, 2) := dk_16 12 (dk_at dksX3_who_7 0 rfl rfl)
theorem dX3_who_164 : decode cX3_who 164 = .ok (.bipush 8, 2) := dk_16 8 (dk_at dksX3_who_7 2 rfl rfl)
theorem dX3_who_166 : decode cX3_who 166 = .ok (.iload_n 1, 1) := dk_27 (dk_at dksX3_who_7 4 rfl rfl)
theorem dX3_who_167 : decode cX3_who 167 = .ok (.imul, 1) := dk_104 (dk_at dksX3_who_7 5 rfl rfl)
theorem dX3_who_168 : decode cX3_who 168 = .ok (.iadd, 1) := dk_96 (dk_at dksX3_who_7 6 rfl rfl)
theorem dX3_who_169 : decode cX3_who 169 = .ok (.goto 25, 3) := dk_167 0 25 (dk_at dksX3_who_7 7 rfl rfl)
theorem dX3_who_172 : decode cX3_who 172 = .ok (.iload_n 3, 1) := dk_29 (dk_at dksX3_who_7 10 rfl rfl)
theorem dX3_who_173 : decode cX3_who 173 = .ok (.iconst 1, 1) := dk_4 (dk_at dksX3_who_7 11 rfl rfl)
theorem dX3_who_174 : decode cX3_who 174 = .ok (.if_icmp .ne 9, 3) := dk_160 0 9 (dk_at dksX3_who_7 12 rfl rfl)
theorem dX3_who_177 : decode cX3_who 177 = .ok (.iconst 4, 1) := dk_7 (dk_at dksX3_who_7 15 rfl rfl)
theorem dX3_who_178 : decode cX3_who 178 = .ok (.iload_n 2, 1) := dk_28 (dk_at dksX3_who_7 16 rfl rfl)
theorem dX3_who_179 : decode cX3_who 179 = .ok (.iadd, 1) := dk_96 (dk_at dksX3_who_7 17 rfl rfl)
theorem dX3_who_180 : decode cX3_who 180 = .ok (.goto 14, 3) := dk_167 0 14 (dk_at dksX3_who_7 18 rfl rfl)
theorem dX3_who_183 : decode cX3_who 183 = .ok (.bipush 12, 2) := dk_16 12 (dk_at dksX3_who_7 21 rfl rfl)
theorem dX3_who_185 : decode cX3_who 185 = .ok (.bipush 8, 2) := dk_16 8 (dk_at dksX3_who_8 0 rfl rfl)
theorem dX3_who_187 : decode cX3_who 187 = .ok (.iload_n 1, 1) := dk_27 (dk_at dksX3_who_8 2 rfl rfl)
theorem dX3_who_188 : decode cX3_who 188 = .ok (.imul, 1) := dk_104 (dk_at dksX3_who_8 3 rfl rfl)
theorem dX3_who_189 : decode cX3_who 189 = .ok (.iadd, 1) := dk_96 (dk_at dksX3_who_8 4 rfl rfl)
theorem dX3_who_190 : decode cX3_who 190 = .ok (.iconst 4, 1) := dk_7 (dk_at dksX3_who_8 5 rfl rfl)
theorem dX3_who_191 : decode cX3_who 191 = .ok (.iadd, 1) := dk_96 (dk_at dksX3_who_8 6 rfl rfl)
theorem dX3_who_192 : decode cX3_who 192 = .ok (.iload_n 2, 1) := dk_28 (dk_at dksX3_who_8 7 rfl rfl)
theorem dX3_who_193 : decode cX3_who 193 = .ok (.iadd, 1) := dk_96 (dk_at dksX3_who_8 8 rfl rfl)
theorem dX3_who_194 : decode cX3_who 194 = .ok (.iload 9, 2) := dk_21 9 (dk_at dksX3_who_8 9 rfl rfl)
theorem dX3_who_196 : decode cX3_who 196 = .ok (.iastore, 1) := dk_79 (dk_at dksX3_who_8 11 rfl rfl)
theorem dX3_who_197 : decode cX3_who 197 = .ok (.iload 8, 2) := dk_21 8 (dk_at dksX3_who_8 12 rfl rfl)
theorem dX3_who_199 : decode cX3_who 199 = .ok (.aload_n 0, 1) := dk_42 (dk_at dksX3_who_8 14 rfl rfl)
theorem dX3_who_200 : decode cX3_who 200 = .ok (.iload 4, 2) := dk_21 4 (dk_at dksX3_who_8 15 rfl rfl)
theorem dX3_who_202 : decode cX3_who 202 = .ok (.iload 5, 2) := dk_21 5 (dk_at dksX3_who_8 17 rfl rfl)
theorem dX3_who_204 : decode cX3_who 204 = .ok (.iload 6, 2) := dk_21 6 (dk_at dksX3_who_8 19 rfl rfl)
theorem dX3_who_206 : decode cX3_who 206 = .ok (.invokevirtual 280, 3) := dk_182 1 24 (dk_at dksX3_who_8 21 rfl rfl)
theorem dX3_who_209 : decode cX3_who 209 = .ok (.ifCond .eq 10, 3) := dk_153 0 10 (dk_at dksX3_who_9 0 rfl rfl)
theorem dX3_who_212 : decode cX3_who 212 = .ok (.iconst 1, 1) := dk_4 (dk_at dksX3_who_9 3 rfl rfl)
theorem dX3_who_213 : decode cX3_who 213 = .ok (.iload 9, 2) := dk_21 9 (dk_at dksX3_who_9 4 rfl rfl)
theorem dX3_who_215 : decode cX3_who 215 = .ok (.ishl, 1) := dk_120 (dk_at dksX3_who_9 6 rfl rfl)
theorem dX3_who_216 : decode cX3_who 216 = .ok (.goto 4, 3) := dk_167 0 4 (dk_at dksX3_who_9 7 rfl rfl)
theorem dX3_who_219 : decode cX3_who 219 = .ok (.iconst 0, 1) := dk_3 (dk_at dksX3_who_9 10 rfl rfl)
theorem dX3_who_220 : decode cX3_who 220 = .ok (.ior, 1) := dk_128 (dk_at dksX3_who_9 11 rfl rfl)
theorem dX3_who_221 : decode cX3_who 221 = .ok (.istore 8, 2) := dk_54 8 (dk_at dksX3_who_9 12 rfl rfl)
theorem dX3_who_223 : decode cX3_who 223 = .ok (.iinc 9 1, 3) := dk_132 9 1 (dk_at dksX3_who_9 14 rfl rfl)
theorem dX3_who_226 : decode cX3_who 226 = .ok (.goto (-96), 3) := dk_167 255 160 (dk_at dksX3_who_9 17 rfl rfl)
theorem dX3_who_229 : decode cX3_who 229 = .ok (.iload 8, 2) := dk_21 8 (dk_at dksX3_who_9 20 rfl rfl)
theorem dX3_who_231 : decode cX3_who 231 = .ok (.ireturn, 1) := dk_172 (dk_at dksX3_who_9 22 rfl rfl)
abbrev cX3_layThen : ByteArray := prog_16_method_11_code
def yX3_layThen : MethodName := ⟨RX3, "layThen", "()V"⟩
def dkwX3_layThen_1 : List UInt8 := [167, 255, 235, 177]
abbrev dktX3_layThen_1 : List UInt8 := dkwX3_layThen_1 ++ []
def dkwX3_layThen_0 : List UInt8 := [3, 60, 27, 16, 44, 162, 0, 21, 42, 180, 0, 25, 27, 42, 180, 0, 19, 27, 46, 79, 132, 1, 1]
abbrev dktX3_layThen_0 : List UInt8 := dkwX3_layThen_0 ++ dktX3_layThen_1
theorem dksX3_layThen_0 : cX3_layThen.data.toList.drop 0 = dktX3_layThen_0 := by decide +kernel
theorem dksX3_layThen_1 : cX3_layThen.data.toList.drop 23 = dktX3_layThen_1 := dk_seg dksX3_layThen_0 23 rfl rfl
theorem dX3_layThen_0 : decode cX3_layThen 0 = .ok (.iconst 0, 1) := dk_3 (dk_at dksX3_layThen_0 0 rfl rfl)
theorem dX3_layThen_1 : decode cX3_layThen 1 = .ok (.istore_n 1, 1) := dk_60 (dk_at dksX3_layThen_0 1 rfl rfl)
theorem dX3_layThen_2 : decode cX3_layThen 2 = .ok (.iload_n 1, 1) := dk_27 (dk_at dksX3_layThen_0 2 rfl rfl)
theorem dX3_layThen_3 : decode cX3_layThen 3 = .ok (.bipush 44, 2) := dk_16 44 (dk_at dksX3_layThen_0 3 rfl rfl)
theorem dX3_layThen_5 : decode cX3_layThen 5 = .ok (.if_icmp .ge 21, 3) := dk_162 0 21 (dk_at dksX3_layThen_0 5 rfl rfl)
theorem dX3_layThen_8 : decode cX3_layThen 8 = .ok (.aload_n 0, 1) := dk_42 (dk_at dksX3_layThen_0 8 rfl rfl)
theorem dX3_layThen_9 : decode cX3_layThen 9 = .ok (.getfield 25, 3) := dk_180 0 25 (dk_at dksX3_layThen_0 9 rfl rfl)
theorem dX3_layThen_12 : decode cX3_layThen 12 = .ok (.iload_n 1, 1) := dk_27 (dk_at dksX3_layThen_0 12 rfl rfl)
theorem dX3_layThen_13 : decode cX3_layThen 13 = .ok (.aload_n 0, 1) := dk_42 (dk_at dksX3_layThen_0 13 rfl rfl)
theorem dX3_layThen_14 : decode cX3_layThen 14 = .ok (.getfield 19, 3) := dk_180 0 19 (dk_at dksX3_layThen_0 14 rfl rfl)
theorem dX3_layThen_17 : decode cX3_layThen 17 = .ok (.iload_n 1, 1) := dk_27 (dk_at dksX3_layThen_0 17 rfl rfl)
theorem dX3_layThen_18 : decode cX3_layThen 18 = .ok (.iaload, 1) := dk_46 (dk_at dksX3_layThen_0 18 rfl rfl)
theorem dX3_layThen_19 : decode cX3_layThen 19 = .ok (.iastore, 1) := dk_79 (dk_at dksX3_layThen_0 19 rfl rfl)
theorem dX3_layThen_20 : decode cX3_layThen 20 = .ok (.iinc 1 1, 3) := dk_132 1 1 (dk_at dksX3_layThen_0 20 rfl rfl)
theorem dX3_layThen_23 : decode cX3_layThen 23 = .ok (.goto (-21), 3) := dk_167 255 235 (dk_at dksX3_layThen_1 0 rfl rfl)
theorem dX3_layThen_26 : decode cX3_layThen 26 = .ok (.return_, 1) := dk_177 (dk_at dksX3_layThen_1 3 rfl rfl)
abbrev cX3_isSo : ByteArray := prog_16_method_61_code
def yX3_isSo : MethodName := ⟨RX3, "isSo", "(III)Z"⟩
def dkwX3_isSo_3 : List UInt8 := [167, 255, 213, 21, 5, 172]
abbrev dktX3_isSo_3 : List UInt8 := dkwX3_isSo_3 ++ []
def dkwX3_isSo_2 : List UInt8 := [180, 0, 16, 16, 40, 28, 104, 21, 6, 96, 46, 160, 0, 7, 4, 167, 0, 4, 3, 54, 5, 132, 6, 1]
abbrev dktX3_isSo_2 : List UInt8 := dkwX3_isSo_2 ++ dktX3_isSo_3
def dkwX3_isSo_1 : List UInt8 := [3, 54, 6, 21, 6, 29, 162, 0, 43, 21, 5, 153, 0, 38, 42, 180, 0, 31, 21, 6, 46, 42]
abbrev dktX3_isSo_1 : List UInt8 := dkwX3_isSo_1 ++ dktX3_isSo_2
def dkwX3_isSo_0 : List UInt8 := [42, 42, 180, 0, 25, 27, 182, 0, 205, 54, 4, 21, 4, 29, 161, 0, 7, 4, 167, 0, 4, 3, 54, 5]
abbrev dktX3_isSo_0 : List UInt8 := dkwX3_isSo_0 ++ dktX3_isSo_1
theorem dksX3_isSo_0 : cX3_isSo.data.toList.drop 0 = dktX3_isSo_0 := by decide +kernel
theorem dksX3_isSo_1 : cX3_isSo.data.toList.drop 24 = dktX3_isSo_1 := dk_seg dksX3_isSo_0 24 rfl rfl
theorem dksX3_isSo_2 : cX3_isSo.data.toList.drop 46 = dktX3_isSo_2 := dk_seg dksX3_isSo_1 22 rfl rfl
theorem dksX3_isSo_3 : cX3_isSo.data.toList.drop 70 = dktX3_isSo_3 := dk_seg dksX3_isSo_2 24 rfl rfl
theorem dX3_isSo_0 : decode cX3_isSo 0 = .ok (.aload_n 0, 1) := dk_42 (dk_at dksX3_isSo_0 0 rfl rfl)
theorem dX3_isSo_1 : decode cX3_isSo 1 = .ok (.aload_n 0, 1) := dk_42 (dk_at dksX3_isSo_0 1 rfl rfl)
theorem dX3_isSo_2 : decode cX3_isSo 2 = .ok (.getfield 25, 3) := dk_180 0 25 (dk_at dksX3_isSo_0 2 rfl rfl)
theorem dX3_isSo_5 : decode cX3_isSo 5 = .ok (.iload_n 1, 1) := dk_27 (dk_at dksX3_isSo_0 5 rfl rfl)
theorem dX3_isSo_6 : decode cX3_isSo 6 = .ok (.invokevirtual 205, 3) := dk_182 0 205 (dk_at dksX3_isSo_0 6 rfl rfl)
theorem dX3_isSo_9 : decode cX3_isSo 9 = .ok (.istore 4, 2) := dk_54 4 (dk_at dksX3_isSo_0 9 rfl rfl)
theorem dX3_isSo_11 : decode cX3_isSo 11 = .ok (.iload 4, 2) := dk_21 4 (dk_at dksX3_isSo_0 11 rfl rfl)
theorem dX3_isSo_13 : decode cX3_isSo 13 = .ok (.iload_n 3, 1) := dk_29 (dk_at dksX3_isSo_0 13 rfl rfl)
theorem dX3_isSo_14 : decode cX3_isSo 14 = .ok (.if_icmp .lt 7, 3) := dk_161 0 7 (dk_at dksX3_isSo_0 14 rfl rfl)
theorem dX3_isSo_17 : decode cX3_isSo 17 = .ok (.iconst 1, 1) := dk_4 (dk_at dksX3_isSo_0 17 rfl rfl)
theorem dX3_isSo_18 : decode cX3_isSo 18 = .ok (.goto 4, 3) := dk_167 0 4 (dk_at dksX3_isSo_0 18 rfl rfl)
theorem dX3_isSo_21 : decode cX3_isSo 21 = .ok (.iconst 0, 1) := dk_3 (dk_at dksX3_isSo_0 21 rfl rfl)
theorem dX3_isSo_22 : decode cX3_isSo 22 = .ok (.istore 5, 2) := dk_54 5 (dk_at dksX3_isSo_0 22 rfl rfl)
theorem dX3_isSo_24 : decode cX3_isSo 24 = .ok (.iconst 0, 1) := dk_3 (dk_at dksX3_isSo_1 0 rfl rfl)
theorem dX3_isSo_25 : decode cX3_isSo 25 = .ok (.istore 6, 2) := dk_54 6 (dk_at dksX3_isSo_1 1 rfl rfl)
theorem dX3_isSo_27 : decode cX3_isSo 27 = .ok (.iload 6, 2) := dk_21 6 (dk_at dksX3_isSo_1 3 rfl rfl)
theorem dX3_isSo_29 : decode cX3_isSo 29 = .ok (.iload_n 3, 1) := dk_29 (dk_at dksX3_isSo_1 5 rfl rfl)
theorem dX3_isSo_30 : decode cX3_isSo 30 = .ok (.if_icmp .ge 43, 3) := dk_162 0 43 (dk_at dksX3_isSo_1 6 rfl rfl)
theorem dX3_isSo_33 : decode cX3_isSo 33 = .ok (.iload 5, 2) := dk_21 5 (dk_at dksX3_isSo_1 9 rfl rfl)
theorem dX3_isSo_35 : decode cX3_isSo 35 = .ok (.ifCond .eq 38, 3) := dk_153 0 38 (dk_at dksX3_isSo_1 11 rfl rfl)
theorem dX3_isSo_38 : decode cX3_isSo 38 = .ok (.aload_n 0, 1) := dk_42 (dk_at dksX3_isSo_1 14 rfl rfl)
theorem dX3_isSo_39 : decode cX3_isSo 39 = .ok (.getfield 31, 3) := dk_180 0 31 (dk_at dksX3_isSo_1 15 rfl rfl)
theorem dX3_isSo_42 : decode cX3_isSo 42 = .ok (.iload 6, 2) := dk_21 6 (dk_at dksX3_isSo_1 18 rfl rfl)
theorem dX3_isSo_44 : decode cX3_isSo 44 = .ok (.iaload, 1) := dk_46 (dk_at dksX3_isSo_1 20 rfl rfl)
theorem dX3_isSo_45 : decode cX3_isSo 45 = .ok (.aload_n 0, 1) := dk_42 (dk_at dksX3_isSo_1 21 rfl rfl)
theorem dX3_isSo_46 : decode cX3_isSo 46 = .ok (.getfield 16, 3) := dk_180 0 16 (dk_at dksX3_isSo_2 0 rfl rfl)
theorem dX3_isSo_49 : decode cX3_isSo 49 = .ok (.bipush 40, 2) := dk_16 40 (dk_at dksX3_isSo_2 3 rfl rfl)
theorem dX3_isSo_51 : decode cX3_isSo 51 = .ok (.iload_n 2, 1) := dk_28 (dk_at dksX3_isSo_2 5 rfl rfl)
theorem dX3_isSo_52 : decode cX3_isSo 52 = .ok (.imul, 1) := dk_104 (dk_at dksX3_isSo_2 6 rfl rfl)
theorem dX3_isSo_53 : decode cX3_isSo 53 = .ok (.iload 6, 2) := dk_21 6 (dk_at dksX3_isSo_2 7 rfl rfl)
theorem dX3_isSo_55 : decode cX3_isSo 55 = .ok (.iadd, 1) := dk_96 (dk_at dksX3_isSo_2 9 rfl rfl)
theorem dX3_isSo_56 : decode cX3_isSo 56 = .ok (.iaload, 1) := dk_46 (dk_at dksX3_isSo_2 10 rfl rfl)
theorem dX3_isSo_57 : decode cX3_isSo 57 = .ok (.if_icmp .ne 7, 3) := dk_160 0 7 (dk_at dksX3_isSo_2 11 rfl rfl)
theorem dX3_isSo_60 : decode cX3_isSo 60 = .ok (.iconst 1, 1) := dk_4 (dk_at dksX3_isSo_2 14 rfl rfl)
theorem dX3_isSo_61 : decode cX3_isSo 61 = .ok (.goto 4, 3) := dk_167 0 4 (dk_at dksX3_isSo_2 15 rfl rfl)
theorem dX3_isSo_64 : decode cX3_isSo 64 = .ok (.iconst 0, 1) := dk_3 (dk_at dksX3_isSo_2 18 rfl rfl)
theorem dX3_isSo_65 : decode cX3_isSo 65 = .ok (.istore 5, 2) := dk_54 5 (dk_at dksX3_isSo_2 19 rfl rfl)
theorem dX3_isSo_67 : decode cX3_isSo 67 = .ok (.iinc 6 1, 3) := dk_132 6 1 (dk_at dksX3_isSo_2 21 rfl rfl)
theorem dX3_isSo_70 : decode cX3_isSo 70 = .ok (.goto (-43), 3) := dk_167 255 213 (dk_at dksX3_isSo_3 0 rfl rfl)
theorem dX3_isSo_73 : decode cX3_isSo 73 = .ok (.iload 5, 2) := dk_21 5 (dk_at dksX3_isSo_3 3 rfl rfl)
theorem dX3_isSo_75 : decode cX3_isSo 75 = .ok (.ireturn, 1) := dk_172 (dk_at dksX3_isSo_3 5 rfl rfl)
abbrev cX3_quiet : ByteArray := prog_16_method_63_code
def yX3_quiet : MethodName := ⟨RX3, "quiet", "()I"⟩
def dkwX3_quiet_4 : List UInt8 := [132, 2, 1, 167, 255, 173, 27, 172]
abbrev dktX3_quiet_4 : List UInt8 := dkwX3_quiet_4 ++ []
def dkwX3_quiet_3 : List UInt8 := [180, 0, 19, 184, 0, 255, 160, 0, 9, 4, 28, 120, 167, 0, 4, 3, 128, 60, 132, 3, 1, 167, 255, 191]
abbrev dktX3_quiet_3 : List UInt8 := dkwX3_quiet_3 ++ dktX3_quiet_4
def dkwX3_quiet_2 : List UInt8 := [79, 27, 29, 42, 180, 0, 19, 7, 28, 96, 46, 159, 0, 26, 42, 180, 0, 25, 184, 0, 255, 42]
abbrev dktX3_quiet_2 : List UInt8 := dkwX3_quiet_2 ++ dktX3_quiet_3
def dkwX3_quiet_1 : List UInt8 := [3, 62, 29, 42, 180, 0, 19, 3, 46, 162, 0, 61, 42, 182, 1, 21, 42, 180, 0, 25, 7, 28, 96, 29]
abbrev dktX3_quiet_1 : List UInt8 := dkwX3_quiet_1 ++ dktX3_quiet_2
def dkwX3_quiet_0 : List UInt8 := [42, 182, 0, 197, 154, 0, 6, 18, 178, 172, 3, 60, 3, 61, 28, 42, 180, 0, 19, 6, 46, 162, 0, 79]
abbrev dktX3_quiet_0 : List UInt8 := dkwX3_quiet_0 ++ dktX3_quiet_1
theorem dksX3_quiet_0 : cX3_quiet.data.toList.drop 0 = dktX3_quiet_0 := by decide +kernel
theorem dksX3_quiet_1 : cX3_quiet.data.toList.drop 24 = dktX3_quiet_1 := dk_seg dksX3_quiet_0 24 rfl rfl
theorem dksX3_quiet_2 : cX3_quiet.data.toList.drop 48 = dktX3_quiet_2 := dk_seg dksX3_quiet_1 24 rfl rfl
theorem dksX3_quiet_3 : cX3_quiet.data.toList.drop 70 = dktX3_quiet_3 := dk_seg dksX3_quiet_2 22 rfl rfl
theorem dksX3_quiet_4 : cX3_quiet.data.toList.drop 94 = dktX3_quiet_4 := dk_seg dksX3_quiet_3 24 rfl rfl
theorem dX3_quiet_0 : decode cX3_quiet 0 = .ok (.aload_n 0, 1) := dk_42 (dk_at dksX3_quiet_0 0 rfl rfl)
theorem dX3_quiet_1 : decode cX3_quiet 1 = .ok (.invokevirtual 197, 3) := dk_182 0 197 (dk_at dksX3_quiet_0 1 rfl rfl)
theorem dX3_quiet_4 : decode cX3_quiet 4 = .ok (.ifCond .ne 6, 3) := dk_154 0 6 (dk_at dksX3_quiet_0 4 rfl rfl)
theorem dX3_quiet_7 : decode cX3_quiet 7 = .ok (.ldc 178, 2) := dk_18 178 (dk_at dksX3_quiet_0 7 rfl rfl)
theorem dX3_quiet_9 : decode cX3_quiet 9 = .ok (.ireturn, 1) := dk_172 (dk_at dksX3_quiet_0 9 rfl rfl)
theorem dX3_quiet_10 : decode cX3_quiet 10 = .ok (.iconst 0, 1) := dk_3 (dk_at dksX3_quiet_0 10 rfl rfl)
theorem dX3_quiet_11 : decode cX3_quiet 11 = .ok (.istore_n 1, 1) := dk_60 (dk_at dksX3_quiet_0 11 rfl rfl)
theorem dX3_quiet_12 : decode cX3_quiet 12 = .ok (.iconst 0, 1) := dk_3 (dk_at dksX3_quiet_0 12 rfl rfl)
theorem dX3_quiet_13 : decode cX3_quiet 13 = .ok (.istore_n 2, 1) := dk_61 (dk_at dksX3_quiet_0 13 rfl rfl)
theorem dX3_quiet_14 : decode cX3_quiet 14 = .ok (.iload_n 2, 1) := dk_28 (dk_at dksX3_quiet_0 14 rfl rfl)
theorem dX3_quiet_15 : decode cX3_quiet 15 = .ok (.aload_n 0, 1) := dk_42 (dk_at dksX3_quiet_0 15 rfl rfl)
theorem dX3_quiet_16 : decode cX3_quiet 16 = .ok (.getfield 19, 3) := dk_180 0 19 (dk_at dksX3_quiet_0 16 rfl rfl)
theorem dX3_quiet_19 : decode cX3_quiet 19 = .ok (.iconst 3, 1) := dk_6 (dk_at dksX3_quiet_0 19 rfl rfl)
theorem dX3_quiet_20 : decode cX3_quiet 20 = .ok (.iaload, 1) := dk_46 (dk_at dksX3_quiet_0 20 rfl rfl)
theorem dX3_quiet_21 : decode cX3_quiet 21 = .ok (.if_icmp .ge 79, 3) := dk_162 0 79 (dk_at dksX3_quiet_0 21 rfl rfl)
theorem dX3_quiet_24 : decode cX3_quiet 24 = .ok (.iconst 0, 1) := dk_3 (dk_at dksX3_quiet_1 0 rfl rfl)
theorem dX3_quiet_25 : decode cX3_quiet 25 = .ok (.istore_n 3, 1) := dk_62 (dk_at dksX3_quiet_1 1 rfl rfl)
theorem dX3_quiet_26 : decode cX3_quiet 26 = .ok (.iload_n 3, 1) := dk_29 (dk_at dksX3_quiet_1 2 rfl rfl)
theorem dX3_quiet_27 : decode cX3_quiet 27 = .ok (.aload_n 0, 1) := dk_42 (dk_at dksX3_quiet_1 3 rfl rfl)
theorem dX3_quiet_28 : decode cX3_quiet 28 = .ok (.getfield 19, 3) := dk_180 0 19 (dk_at dksX3_quiet_1 4 rfl rfl)
theorem dX3_quiet_31 : decode cX3_quiet 31 = .ok (.iconst 0, 1) := dk_3 (dk_at dksX3_quiet_1 7 rfl rfl)
theorem dX3_quiet_32 : decode cX3_quiet 32 = .ok (.iaload, 1) := dk_46 (dk_at dksX3_quiet_1 8 rfl rfl)
theorem dX3_quiet_33 : decode cX3_quiet 33 = .ok (.if_icmp .ge 61, 3) := dk_162 0 61 (dk_at dksX3_quiet_1 9 rfl rfl)
theorem dX3_quiet_36 : decode cX3_quiet 36 = .ok (.aload_n 0, 1) := dk_42 (dk_at dksX3_quiet_1 12 rfl rfl)
theorem dX3_quiet_37 : decode cX3_quiet 37 = .ok (.invokevirtual 277, 3) := dk_182 1 21 (dk_at dksX3_quiet_1 13 rfl rfl)
theorem dX3_quiet_40 : decode cX3_quiet 40 = .ok (.aload_n 0, 1) := dk_42 (dk_at dksX3_quiet_1 16 rfl rfl)
theorem dX3_quiet_41 : decode cX3_quiet 41 = .ok (.getfield 25, 3) := dk_180 0 25 (dk_at dksX3_quiet_1 17 rfl rfl)
theorem dX3_quiet_44 : decode cX3_quiet 44 = .ok (.iconst 4, 1) := dk_7 (dk_at dksX3_quiet_1 20 rfl rfl)
theorem dX3_quiet_45 : decode cX3_quiet 45 = .ok (.iload_n 2, 1) := dk_28 (dk_at dksX3_quiet_1 21 rfl rfl)
theorem dX3_quiet_46 : decode cX3_quiet 46 = .ok (.iadd, 1) := dk_96 (dk_at dksX3_quiet_1 22 rfl rfl)
theorem dX3_quiet_47 : decode cX3_quiet 47 = .ok (.iload_n 3, 1) := dk_29 (dk_at dksX3_quiet_1 23 rfl rfl)
theorem dX3_quiet_48 : decode cX3_quiet 48 = .ok (.iastore, 1) := dk_79 (dk_at dksX3_quiet_2 0 rfl rfl)
theorem dX3_quiet_49 : decode cX3_quiet 49 = .ok (.iload_n 1, 1) := dk_27 (dk_at dksX3_quiet_2 1 rfl rfl)
theorem dX3_quiet_50 : decode cX3_quiet 50 = .ok (.iload_n 3, 1) := dk_29 (dk_at dksX3_quiet_2 2 rfl rfl)
theorem dX3_quiet_51 : decode cX3_quiet 51 = .ok (.aload_n 0, 1) := dk_42 (dk_at dksX3_quiet_2 3 rfl rfl)
theorem dX3_quiet_52 : decode cX3_quiet 52 = .ok (.getfield 19, 3) := dk_180 0 19 (dk_at dksX3_quiet_2 4 rfl rfl)
theorem dX3_quiet_55 : decode cX3_quiet 55 = .ok (.iconst 4, 1) := dk_7 (dk_at dksX3_quiet_2 7 rfl rfl)
theorem dX3_quiet_56 : decode cX3_quiet 56 = .ok (.iload_n 2, 1) := dk_28 (dk_at dksX3_quiet_2 8 rfl rfl)
theorem dX3_quiet_57 : decode cX3_quiet 57 = .ok (.iadd, 1) := dk_96 (dk_at dksX3_quiet_2 9 rfl rfl)
theorem dX3_quiet_58 : decode cX3_quiet 58 = .ok (.iaload, 1) := dk_46 (dk_at dksX3_quiet_2 10 rfl rfl)
theorem dX3_quiet_59 : decode cX3_quiet 59 = .ok (.if_icmp .eq 26, 3) := dk_159 0 26 (dk_at dksX3_quiet_2 11 rfl rfl)
theorem dX3_quiet_62 : decode cX3_quiet 62 = .ok (.aload_n 0, 1) := dk_42 (dk_at dksX3_quiet_2 14 rfl rfl)
theorem dX3_quiet_63 : decode cX3_quiet 63 = .ok (.getfield 25, 3) := dk_180 0 25 (dk_at dksX3_quiet_2 15 rfl rfl)
theorem dX3_quiet_66 : decode cX3_quiet 66 = .ok (.invokestatic 255, 3) := dk_184 0 255 (dk_at dksX3_quiet_2 18 rfl rfl)
theorem dX3_quiet_69 : decode cX3_quiet 69 = .ok (.aload_n 0, 1) := dk_42 (dk_at dksX3_quiet_2 21 rfl rfl)
theorem dX3_quiet_70 : decode cX3_quiet 70 = .ok (.getfield 19, 3) := dk_180 0 19 (dk_at dksX3_quiet_3 0 rfl rfl)
theorem dX3_quiet_73 : decode cX3_quiet 73 = .ok (.invokestatic 255, 3) := dk_184 0 255 (dk_at dksX3_quiet_3 3 rfl rfl)
theorem dX3_quiet_76 : decode cX3_quiet 76 = .ok (.if_icmp .ne 9, 3) := dk_160 0 9 (dk_at dksX3_quiet_3 6 rfl rfl)
theorem dX3_quiet_79 : decode cX3_quiet 79 = .ok (.iconst 1, 1) := dk_4 (dk_at dksX3_quiet_3 9 rfl rfl)
theorem dX3_quiet_80 : decode cX3_quiet 80 = .ok (.iload_n 2, 1) := dk_28 (dk_at dksX3_quiet_3 10 rfl rfl)
theorem dX3_quiet_81 : decode cX3_quiet 81 = .ok (.ishl, 1) := dk_120 (dk_at dksX3_quiet_3 11 rfl rfl)
theorem dX3_quiet_82 : decode cX3_quiet 82 = .ok (.goto 4, 3) := dk_167 0 4 (dk_at dksX3_quiet_3 12 rfl rfl)
theorem dX3_quiet_85 : decode cX3_quiet 85 = .ok (.iconst 0, 1) := dk_3 (dk_at dksX3_quiet_3 15 rfl rfl)
theorem dX3_quiet_86 : decode cX3_quiet 86 = .ok (.ior, 1) := dk_128 (dk_at dksX3_quiet_3 16 rfl rfl)
theorem dX3_quiet_87 : decode cX3_quiet 87 = .ok (.istore_n 1, 1) := dk_60 (dk_at dksX3_quiet_3 17 rfl rfl)
theorem dX3_quiet_88 : decode cX3_quiet 88 = .ok (.iinc 3 1, 3) := dk_132 3 1 (dk_at dksX3_quiet_3 18 rfl rfl)
theorem dX3_quiet_91 : decode cX3_quiet 91 = .ok (.goto (-65), 3) := dk_167 255 191 (dk_at dksX3_quiet_3 21 rfl rfl)
theorem dX3_quiet_94 : decode cX3_quiet 94 = .ok (.iinc 2 1, 3) := dk_132 2 1 (dk_at dksX3_quiet_4 0 rfl rfl)
theorem dX3_quiet_97 : decode cX3_quiet 97 = .ok (.goto (-83), 3) := dk_167 255 173 (dk_at dksX3_quiet_4 3 rfl rfl)
theorem dX3_quiet_100 : decode cX3_quiet 100 = .ok (.iload_n 1, 1) := dk_27 (dk_at dksX3_quiet_4 6 rfl rfl)
theorem dX3_quiet_101 : decode cX3_quiet 101 = .ok (.ireturn, 1) := dk_172 (dk_at dksX3_quiet_4 7 rfl rfl)
abbrev cX3_sets : ByteArray := prog_16_method_64_code
def yX3_sets : MethodName := ⟨RX3, "sets", "(II)I"⟩
def dkwX3_sets_7 : List UInt8 := [167, 0, 14, 21, 4, 158, 0, 8, 21, 5, 167, 0, 4, 3, 172]
abbrev dktX3_sets_7 : List UInt8 := dkwX3_sets_7 ++ []
def dkwX3_sets_6 : List UInt8 := [54, 6, 132, 7, 1, 167, 255, 168, 28, 154, 0, 8, 21, 4, 167, 0, 24, 28, 5, 160, 0, 8, 21, 6]
abbrev dktX3_sets_6 : List UInt8 := dkwX3_sets_6 ++ dktX3_sets_7
def dkwX3_sets_5 : List UInt8 := [167, 255, 211, 21, 8, 27, 160, 0, 20, 132, 4, 1, 21, 5, 21, 7, 126, 54, 5, 21, 6, 21, 7, 128]
abbrev dktX3_sets_5 : List UInt8 := dkwX3_sets_5 ++ dktX3_sets_6
def dkwX3_sets_4 : List UInt8 := [42, 180, 0, 19, 7, 21, 9, 96, 46, 3, 184, 0, 226, 167, 0, 4, 3, 96, 54, 8, 132, 9, 1]
abbrev dktX3_sets_4 : List UInt8 := dkwX3_sets_4 ++ dktX3_sets_5
def dkwX3_sets_3 : List UInt8 := [54, 9, 21, 9, 29, 162, 0, 45, 21, 8, 21, 7, 21, 9, 184, 0, 85, 153, 0, 23, 42, 180, 0, 19]
abbrev dktX3_sets_3 : List UInt8 := dkwX3_sets_3 ++ dktX3_sets_4
def dkwX3_sets_2 : List UInt8 := [29, 120, 4, 100, 54, 5, 3, 54, 6, 3, 54, 7, 21, 7, 4, 29, 120, 162, 0, 86, 3, 54, 8, 3]
abbrev dktX3_sets_2 : List UInt8 := dkwX3_sets_2 ++ dktX3_sets_3
def dkwX3_sets_1 : List UInt8 := [9, 20, 0, 78, 184, 0, 70, 154, 0, 6, 18, 80, 172, 42, 180, 0, 19, 6, 46, 62, 3, 54, 4, 4]
abbrev dktX3_sets_1 : List UInt8 := dkwX3_sets_1 ++ dktX3_sets_2
def dkwX3_sets_0 : List UInt8 := [42, 182, 0, 197, 154, 0, 6, 18, 178, 172, 27, 133, 9, 20, 1, 28, 184, 0, 70, 153, 0, 15, 28, 133]
abbrev dktX3_sets_0 : List UInt8 := dkwX3_sets_0 ++ dktX3_sets_1
theorem dksX3_sets_0 : cX3_sets.data.toList.drop 0 = dktX3_sets_0 := by decide +kernel
theorem dksX3_sets_1 : cX3_sets.data.toList.drop 24 = dktX3_sets_1 := dk_seg dksX3_sets_0 24 rfl rfl
theorem dksX3_sets_2 : cX3_sets.data.toList.drop 48 = dktX3_sets_2 := dk_seg dksX3_sets_1 24 rfl rfl
theorem dksX3_sets_3 : cX3_sets.data.toList.drop 72 = dktX3_sets_3 := dk_seg dksX3_sets_2 24 rfl rfl
theorem dksX3_sets_4 : cX3_sets.data.toList.drop 96 = dktX3_sets_4 := dk_seg dksX3_sets_3 24 rfl rfl
theorem dksX3_sets_5 : cX3_sets.data.toList.drop 119 = dktX3_sets_5 := dk_seg dksX3_sets_4 23 rfl rfl
theorem dksX3_sets_6 : cX3_sets.data.toList.drop 143 = dktX3_sets_6 := dk_seg dksX3_sets_5 24 rfl rfl
theorem dksX3_sets_7 : cX3_sets.data.toList.drop 167 = dktX3_sets_7 := dk_seg dksX3_sets_6 24 rfl rfl
theorem dX3_sets_0 : decode cX3_sets 0 = .ok (.aload_n 0, 1) := dk_42 (dk_at dksX3_sets_0 0 rfl rfl)
theorem dX3_sets_1 : decode cX3_sets 1 = .ok (.invokevirtual 197, 3) := dk_182 0 197 (dk_at dksX3_sets_0 1 rfl rfl)
theorem dX3_sets_4 : decode cX3_sets 4 = .ok (.ifCond .ne 6, 3) := dk_154 0 6 (dk_at dksX3_sets_0 4 rfl rfl)
theorem dX3_sets_7 : decode cX3_sets 7 = .ok (.ldc 178, 2) := dk_18 178 (dk_at dksX3_sets_0 7 rfl rfl)
theorem dX3_sets_9 : decode cX3_sets 9 = .ok (.ireturn, 1) := dk_172 (dk_at dksX3_sets_0 9 rfl rfl)
theorem dX3_sets_10 : decode cX3_sets 10 = .ok (.iload_n 1, 1) := dk_27 (dk_at dksX3_sets_0 10 rfl rfl)
theorem dX3_sets_11 : decode cX3_sets 11 = .ok (.i2l, 1) := dk_133 (dk_at dksX3_sets_0 11 rfl rfl)
theorem dX3_sets_12 : decode cX3_sets 12 = .ok (.lconst 0, 1) := dk_9 (dk_at dksX3_sets_0 12 rfl rfl)
theorem dX3_sets_13 : decode cX3_sets 13 = .ok (.ldc2_w 284, 3) := dk_20 1 28 (dk_at dksX3_sets_0 13 rfl rfl)
theorem dX3_sets_16 : decode cX3_sets 16 = .ok (.invokestatic 70, 3) := dk_184 0 70 (dk_at dksX3_sets_0 16 rfl rfl)
theorem dX3_sets_19 : decode cX3_sets 19 = .ok (.ifCond .eq 15, 3) := dk_153 0 15 (dk_at dksX3_sets_0 19 rfl rfl)
theorem dX3_sets_22 : decode cX3_sets 22 = .ok (.iload_n 2, 1) := dk_28 (dk_at dksX3_sets_0 22 rfl rfl)
theorem dX3_sets_23 : decode cX3_sets 23 = .ok (.i2l, 1) := dk_133 (dk_at dksX3_sets_0 23 rfl rfl)
theorem dX3_sets_24 : decode cX3_sets 24 = .ok (.lconst 0, 1) := dk_9 (dk_at dksX3_sets_1 0 rfl rfl)
theorem dX3_sets_25 : decode cX3_sets 25 = .ok (.ldc2_w 78, 3) := dk_20 0 78 (dk_at dksX3_sets_1 1 rfl rfl)
theorem dX3_sets_28 : decode cX3_sets 28 = .ok (.invokestatic 70, 3) := dk_184 0 70 (dk_at dksX3_sets_1 4 rfl rfl)
theorem dX3_sets_31 : decode cX3_sets 31 = .ok (.ifCond .ne 6, 3) := dk_154 0 6 (dk_at dksX3_sets_1 7 rfl rfl)
theorem dX3_sets_34 : decode cX3_sets 34 = .ok (.ldc 80, 2) := dk_18 80 (dk_at dksX3_sets_1 10 rfl rfl)
theorem dX3_sets_36 : decode cX3_sets 36 = .ok (.ireturn, 1) := dk_172 (dk_at dksX3_sets_1 12 rfl rfl)
theorem dX3_sets_37 : decode cX3_sets 37 = .ok (.aload_n 0, 1) := dk_42 (dk_at dksX3_sets_1 13 rfl rfl)
theorem dX3_sets_38 : decode cX3_sets 38 = .ok (.getfield 19, 3) := dk_180 0 19 (dk_at dksX3_sets_1 14 rfl rfl)
theorem dX3_sets_41 : decode cX3_sets 41 = .ok (.iconst 3, 1) := dk_6 (dk_at dksX3_sets_1 17 rfl rfl)
theorem dX3_sets_42 : decode cX3_sets 42 = .ok (.iaload, 1) := dk_46 (dk_at dksX3_sets_1 18 rfl rfl)
theorem dX3_sets_43 : decode cX3_sets 43 = .ok (.istore_n 3, 1) := dk_62 (dk_at dksX3_sets_1 19 rfl rfl)
theorem dX3_sets_44 : decode cX3_sets 44 = .ok (.iconst 0, 1) := dk_3 (dk_at dksX3_sets_1 20 rfl rfl)
theorem dX3_sets_45 : decode cX3_sets 45 = .ok (.istore 4, 2) := dk_54 4 (dk_at dksX3_sets_1 21 rfl rfl)
theorem dX3_sets_47 : decode cX3_sets 47 = .ok (.iconst 1, 1) := dk_4 (dk_at dksX3_sets_1 23 rfl rfl)
theorem dX3_sets_48 : decode cX3_sets 48 = .ok (.iload_n 3, 1) := dk_29 (dk_at dksX3_sets_2 0 rfl rfl)
theorem dX3_sets_49 : decode cX3_sets 49 = .ok (.ishl, 1) := dk_120 (dk_at dksX3_sets_2 1 rfl rfl)
theorem dX3_sets_50 : decode cX3_sets 50 = .ok (.iconst 1, 1) := dk_4 (dk_at dksX3_sets_2 2 rfl rfl)
theorem dX3_sets_51 : decode cX3_sets 51 = .ok (.isub, 1) := dk_100 (dk_at dksX3_sets_2 3 rfl rfl)
theorem dX3_sets_52 : decode cX3_sets 52 = .ok (.istore 5, 2) := dk_54 5 (dk_at dksX3_sets_2 4 rfl rfl)
theorem dX3_sets_54 : decode cX3_sets 54 = .ok (.iconst 0, 1) := dk_3 (dk_at dksX3_sets_2 6 rfl rfl)
theorem dX3_sets_55 : decode cX3_sets 55 = .ok (.istore 6, 2) := dk_54 6 (dk_at dksX3_sets_2 7 rfl rfl)
theorem dX3_sets_57 : decode cX3_sets 57 = .ok (.iconst 0, 1) := dk_3 (dk_at dksX3_sets_2 9 rfl rfl)
theorem dX3_sets_58 : decode cX3_sets 58 = .ok (.istore 7, 2) := dk_54 7 (dk_at dksX3_sets_2 10 rfl rfl)
theorem dX3_sets_60 : decode cX3_sets 60 = .ok (.iload 7, 2) := dk_21 7 (dk_at dksX3_sets_2 12 rfl rfl)
theorem dX3_sets_62 : decode cX3_sets 62 = .ok (.iconst 1, 1) := dk_4 (dk_at dksX3_sets_2 14 rfl rfl)
theorem dX3_sets_63 : decode cX3_sets 63 = .ok (.iload_n 3, 1) := dk_29 (dk_at dksX3_sets_2 15 rfl rfl)
theorem dX3_sets_64 : decode cX3_sets 64 = .ok (.ishl, 1) := dk_120 (dk_at dksX3_sets_2 16 rfl rfl)
theorem dX3_sets_65 : decode cX3_sets 65 = .ok (.if_icmp .ge 86, 3) := dk_162 0 86 (dk_at dksX3_sets_2 17 rfl rfl)
theorem dX3_sets_68 : decode cX3_sets 68 = .ok (.iconst 0, 1) := dk_3 (dk_at dksX3_sets_2 20 rfl rfl)
theorem dX3_sets_69 : decode cX3_sets 69 = .ok (.istore 8, 2) := dk_54 8 (dk_at dksX3_sets_2 21 rfl rfl)
theorem dX3_sets_71 : decode cX3_sets 71 = .ok (.iconst 0, 1) := dk_3 (dk_at dksX3_sets_2 23 rfl rfl)
theorem dX3_sets_72 : decode cX3_sets 72 = .ok (.istore 9, 2) := dk_54 9 (dk_at dksX3_sets_3 0 rfl rfl)
theorem dX3_sets_74 : decode cX3_sets 74 = .ok (.iload 9, 2) := dk_21 9 (dk_at dksX3_sets_3 2 rfl rfl)
theorem dX3_sets_76 : decode cX3_sets 76 = .ok (.iload_n 3, 1) := dk_29 (dk_at dksX3_sets_3 4 rfl rfl)
theorem dX3_sets_77 : decode cX3_sets 77 = .ok (.if_icmp .ge 45, 3) := dk_162 0 45 (dk_at dksX3_sets_3 5 rfl rfl)
theorem dX3_sets_80 : decode cX3_sets 80 = .ok (.iload 8, 2) := dk_21 8 (dk_at dksX3_sets_3 8 rfl rfl)
theorem dX3_sets_82 : decode cX3_sets 82 = .ok (.iload 7, 2) := dk_21 7 (dk_at dksX3_sets_3 10 rfl rfl)
theorem dX3_sets_84 : decode cX3_sets 84 = .ok (.iload 9, 2) := dk_21 9 (dk_at dksX3_sets_3 12 rfl rfl)
theorem dX3_sets_86 : decode cX3_sets 86 = .ok (.invokestatic 85, 3) := dk_184 0 85 (dk_at dksX3_sets_3 14 rfl rfl)
theorem dX3_sets_89 : decode cX3_sets 89 = .ok (.ifCond .eq 23, 3) := dk_153 0 23 (dk_at dksX3_sets_3 17 rfl rfl)
theorem dX3_sets_92 : decode cX3_sets 92 = .ok (.aload_n 0, 1) := dk_42 (dk_at dksX3_sets_3 20 rfl rfl)
theorem dX3_sets_93 : decode cX3_sets 93 = .ok (.getfield 19, 3) := dk_180 0 19 (dk_at dksX3_sets_3 21 rfl rfl)
theorem dX3_sets_96 : decode cX3_sets 96 = .ok (.aload_n 0, 1) := dk_42 (dk_at dksX3_sets_4 0 rfl rfl)
theorem dX3_sets_97 : decode cX3_sets 97 = .ok (.getfield 19, 3) := dk_180 0 19 (dk_at dksX3_sets_4 1 rfl rfl)
theorem dX3_sets_100 : decode cX3_sets 100 = .ok (.iconst 4, 1) := dk_7 (dk_at dksX3_sets_4 4 rfl rfl)
theorem dX3_sets_101 : decode cX3_sets 101 = .ok (.iload 9, 2) := dk_21 9 (dk_at dksX3_sets_4 5 rfl rfl)
theorem dX3_sets_103 : decode cX3_sets 103 = .ok (.iadd, 1) := dk_96 (dk_at dksX3_sets_4 7 rfl rfl)
theorem dX3_sets_104 : decode cX3_sets 104 = .ok (.iaload, 1) := dk_46 (dk_at dksX3_sets_4 8 rfl rfl)
theorem dX3_sets_105 : decode cX3_sets 105 = .ok (.iconst 0, 1) := dk_3 (dk_at dksX3_sets_4 9 rfl rfl)
theorem dX3_sets_106 : decode cX3_sets 106 = .ok (.invokestatic 226, 3) := dk_184 0 226 (dk_at dksX3_sets_4 10 rfl rfl)
theorem dX3_sets_109 : decode cX3_sets 109 = .ok (.goto 4, 3) := dk_167 0 4 (dk_at dksX3_sets_4 13 rfl rfl)
theorem dX3_sets_112 : decode cX3_sets 112 = .ok (.iconst 0, 1) := dk_3 (dk_at dksX3_sets_4 16 rfl rfl)
theorem dX3_sets_113 : decode cX3_sets 113 = .ok (.iadd, 1) := dk_96 (dk_at dksX3_sets_4 17 rfl rfl)
theorem dX3_sets_114 : decode cX3_sets 114 = .ok (.istore 8, 2) := dk_54 8 (dk_at dksX3_sets_4 18 rfl rfl)
theorem dX3_sets_116 : decode cX3_sets 116 = .ok (.iinc 9 1, 3) := dk_132 9 1 (dk_at dksX3_sets_4 20 rfl rfl)
theorem dX3_sets_119 : decode cX3_sets 119 = .ok (.goto (-45), 3) := dk_167 255 211 (dk_at dksX3_sets_5 0 rfl rfl)
theorem dX3_sets_122 : decode cX3_sets 122 = .ok (.iload 8, 2) := dk_21 8 (dk_at dksX3_sets_5 3 rfl rfl)
theorem dX3_sets_124 : decode cX3_sets 124 = .ok (.iload_n 1, 1) := dk_27 (dk_at dksX3_sets_5 5 rfl rfl)
theorem dX3_sets_125 : decode cX3_sets 125 = .ok (.if_icmp .ne 20, 3) := dk_160 0 20 (dk_at dksX3_sets_5 6 rfl rfl)
theorem dX3_sets_128 : decode cX3_sets 128 = .ok (.iinc 4 1, 3) := dk_132 4 1 (dk_at dksX3_sets_5 9 rfl rfl)
theorem dX3_sets_131 : decode cX3_sets 131 = .ok (.iload 5, 2) := dk_21 5 (dk_at dksX3_sets_5 12 rfl rfl)
theorem dX3_sets_133 : decode cX3_sets 133 = .ok (.iload 7, 2) := dk_21 7 (dk_at dksX3_sets_5 14 rfl rfl)
theorem dX3_sets_135 : decode cX3_sets 135 = .ok (.iand, 1) := dk_126 (dk_at dksX3_sets_5 16 rfl rfl)
theorem dX3_sets_136 : decode cX3_sets 136 = .ok (.istore 5, 2) := dk_54 5 (dk_at dksX3_sets_5 17 rfl rfl)
theorem dX3_sets_138 : decode cX3_sets 138 = .ok (.iload 6, 2) := dk_21 6 (dk_at dksX3_sets_5 19 rfl rfl)
theorem dX3_sets_140 : decode cX3_sets 140 = .ok (.iload 7, 2) := dk_21 7 (dk_at dksX3_sets_5 21 rfl rfl)
theorem dX3_sets_142 : decode cX3_sets 142 = .ok (.ior, 1) := dk_128 (dk_at dksX3_sets_5 23 rfl rfl)
theorem dX3_sets_143 : decode cX3_sets 143 = .ok (.istore 6, 2) := dk_54 6 (dk_at dksX3_sets_6 0 rfl rfl)
theorem dX3_sets_145 : decode cX3_sets 145 = .ok (.iinc 7 1, 3) := dk_132 7 1 (dk_at dksX3_sets_6 2 rfl rfl)
theorem dX3_sets_148 : decode cX3_sets 148 = .ok (.goto (-88), 3) := dk_167 255 168 (dk_at dksX3_sets_6 5 rfl rfl)
theorem dX3_sets_151 : decode cX3_sets 151 = .ok (.iload_n 2, 1) := dk_28 (dk_at dksX3_sets_6 8 rfl rfl)
theorem dX3_sets_152 : decode cX3_sets 152 = .ok (.ifCond .ne 8, 3) := dk_154 0 8 (dk_at dksX3_sets_6 9 rfl rfl)
theorem dX3_sets_155 : decode cX3_sets 155 = .ok (.iload 4, 2) := dk_21 4 (dk_at dksX3_sets_6 12 rfl rfl)
theorem dX3_sets_157 : decode cX3_sets 157 = .ok (.goto 24, 3) := dk_167 0 24 (dk_at dksX3_sets_6 14 rfl rfl)
theorem dX3_sets_160 : decode cX3_sets 160 = .ok (.iload_n 2, 1) := dk_28 (dk_at dksX3_sets_6 17 rfl rfl)
theorem dX3_sets_161 : decode cX3_sets 161 = .ok (.iconst 2, 1) := dk_5 (dk_at dksX3_sets_6 18 rfl rfl)
theorem dX3_sets_162 : decode cX3_sets 162 = .ok (.if_icmp .ne 8, 3) := dk_160 0 8 (dk_at dksX3_sets_6 19 rfl rfl)
theorem dX3_sets_165 : decode cX3_sets 165 = .ok (.iload 6, 2) := dk_21 6 (dk_at dksX3_sets_6 22 rfl rfl)
theorem dX3_sets_167 : decode cX3_sets 167 = .ok (.goto 14, 3) := dk_167 0 14 (dk_at dksX3_sets_7 0 rfl rfl)
theorem dX3_sets_170 : decode cX3_sets 170 = .ok (.iload 4, 2) := dk_21 4 (dk_at dksX3_sets_7 3 rfl rfl)
theorem dX3_sets_172 : decode cX3_sets 172 = .ok (.ifCond .le 8, 3) := dk_158 0 8 (dk_at dksX3_sets_7 5 rfl rfl)
theorem dX3_sets_175 : decode cX3_sets 175 = .ok (.iload 5, 2) := dk_21 5 (dk_at dksX3_sets_7 8 rfl rfl)
theorem dX3_sets_177 : decode cX3_sets 177 = .ok (.goto 4, 3) := dk_167 0 4 (dk_at dksX3_sets_7 10 rfl rfl)
theorem dX3_sets_180 : decode cX3_sets 180 = .ok (.iconst 0, 1) := dk_3 (dk_at dksX3_sets_7 13 rfl rfl)
theorem dX3_sets_181 : decode cX3_sets 181 = .ok (.ireturn, 1) := dk_172 (dk_at dksX3_sets_7 14 rfl rfl)
abbrev cX3_lost : ByteArray := prog_16_method_66_code
def yX3_lost : MethodName := ⟨RX3, "lost", "(IIII)J"⟩
def dkwX3_lost_8 : List UInt8 := [21, 4, 184, 0, 244, 173]
abbrev dktX3_lost_8 : List UInt8 := dkwX3_lost_8 ++ []
def dkwX3_lost_7 : List UInt8 := [28, 163, 0, 8, 22, 10, 167, 0, 4, 9, 97, 55, 5, 132, 9, 1, 167, 255, 132, 22, 5, 22, 7]
abbrev dktX3_lost_7 : List UInt8 := dkwX3_lost_7 ++ dktX3_lost_8
def dkwX3_lost_6 : List UInt8 := [167, 0, 4, 3, 96, 54, 12, 132, 13, 1, 167, 255, 184, 22, 7, 22, 10, 97, 55, 7, 22, 5, 21, 12]
abbrev dktX3_lost_6 : List UInt8 := dkwX3_lost_6 ++ dktX3_lost_7
def dkwX3_lost_5 : List UInt8 := [21, 9, 21, 13, 184, 0, 85, 153, 0, 20, 42, 27, 42, 180, 0, 19, 7, 21, 13, 96, 46, 182, 1, 30]
abbrev dktX3_lost_5 : List UInt8 := dkwX3_lost_5 ++ dktX3_lost_6
def dkwX3_lost_4 : List UInt8 := [21, 13, 184, 0, 85, 153, 0, 11, 16, 10, 29, 100, 133, 167, 0, 5, 29, 133, 105, 55, 10, 21, 12]
abbrev dktX3_lost_4 : List UInt8 := dkwX3_lost_4 ++ dktX3_lost_5
def dkwX3_lost_3 : List UInt8 := [55, 10, 3, 54, 12, 3, 54, 13, 21, 13, 42, 180, 0, 19, 6, 46, 162, 0, 67, 22, 10, 21, 9]
abbrev dktX3_lost_3 : List UInt8 := dkwX3_lost_3 ++ dktX3_lost_4
def dkwX3_lost_2 : List UInt8 := [9, 55, 5, 9, 55, 7, 3, 54, 9, 21, 9, 4, 42, 180, 0, 19, 6, 46, 120, 162, 0, 117, 10]
abbrev dktX3_lost_2 : List UInt8 := dkwX3_lost_2 ++ dktX3_lost_3
def dkwX3_lost_1 : List UInt8 := [20, 0, 208, 184, 0, 70, 153, 0, 14, 21, 4, 133, 9, 10, 184, 0, 70, 154, 0, 7, 20, 0, 220, 173]
abbrev dktX3_lost_1 : List UInt8 := dkwX3_lost_1 ++ dktX3_lost_2
def dkwX3_lost_0 : List UInt8 := [42, 27, 182, 0, 182, 153, 0, 38, 28, 133, 9, 20, 1, 11, 184, 0, 70, 153, 0, 26, 29, 133, 9]
abbrev dktX3_lost_0 : List UInt8 := dkwX3_lost_0 ++ dktX3_lost_1
theorem dksX3_lost_0 : cX3_lost.data.toList.drop 0 = dktX3_lost_0 := by decide +kernel
theorem dksX3_lost_1 : cX3_lost.data.toList.drop 23 = dktX3_lost_1 := dk_seg dksX3_lost_0 23 rfl rfl
theorem dksX3_lost_2 : cX3_lost.data.toList.drop 47 = dktX3_lost_2 := dk_seg dksX3_lost_1 24 rfl rfl
theorem dksX3_lost_3 : cX3_lost.data.toList.drop 70 = dktX3_lost_3 := dk_seg dksX3_lost_2 23 rfl rfl
theorem dksX3_lost_4 : cX3_lost.data.toList.drop 93 = dktX3_lost_4 := dk_seg dksX3_lost_3 23 rfl rfl
theorem dksX3_lost_5 : cX3_lost.data.toList.drop 116 = dktX3_lost_5 := dk_seg dksX3_lost_4 23 rfl rfl
theorem dksX3_lost_6 : cX3_lost.data.toList.drop 140 = dktX3_lost_6 := dk_seg dksX3_lost_5 24 rfl rfl
theorem dksX3_lost_7 : cX3_lost.data.toList.drop 164 = dktX3_lost_7 := dk_seg dksX3_lost_6 24 rfl rfl
theorem dksX3_lost_8 : cX3_lost.data.toList.drop 187 = dktX3_lost_8 := dk_seg dksX3_lost_7 23 rfl rfl
theorem dX3_lost_0 : decode cX3_lost 0 = .ok (.aload_n 0, 1) := dk_42 (dk_at dksX3_lost_0 0 rfl rfl)
theorem dX3_lost_1 : decode cX3_lost 1 = .ok (.iload_n 1, 1) := dk_27 (dk_at dksX3_lost_0 1 rfl rfl)
theorem dX3_lost_2 : decode cX3_lost 2 = .ok (.invokevirtual 182, 3) := dk_182 0 182 (dk_at dksX3_lost_0 2 rfl rfl)
theorem dX3_lost_5 : decode cX3_lost 5 = .ok (.ifCond .eq 38, 3) := dk_153 0 38 (dk_at dksX3_lost_0 5 rfl rfl)
theorem dX3_lost_8 : decode cX3_lost 8 = .ok (.iload_n 2, 1) := dk_28 (dk_at dksX3_lost_0 8 rfl rfl)
theorem dX3_lost_9 : decode cX3_lost 9 = .ok (.i2l, 1) := dk_133 (dk_at dksX3_lost_0 9 rfl rfl)
theorem dX3_lost_10 : decode cX3_lost 10 = .ok (.lconst 0, 1) := dk_9 (dk_at dksX3_lost_0 10 rfl rfl)
theorem dX3_lost_11 : decode cX3_lost 11 = .ok (.ldc2_w 267, 3) := dk_20 1 11 (dk_at dksX3_lost_0 11 rfl rfl)
theorem dX3_lost_14 : decode cX3_lost 14 = .ok (.invokestatic 70, 3) := dk_184 0 70 (dk_at dksX3_lost_0 14 rfl rfl)
theorem dX3_lost_17 : decode cX3_lost 17 = .ok (.ifCond .eq 26, 3) := dk_153 0 26 (dk_at dksX3_lost_0 17 rfl rfl)
theorem dX3_lost_20 : decode cX3_lost 20 = .ok (.iload_n 3, 1) := dk_29 (dk_at dksX3_lost_0 20 rfl rfl)
theorem dX3_lost_21 : decode cX3_lost 21 = .ok (.i2l, 1) := dk_133 (dk_at dksX3_lost_0 21 rfl rfl)
theorem dX3_lost_22 : decode cX3_lost 22 = .ok (.lconst 0, 1) := dk_9 (dk_at dksX3_lost_0 22 rfl rfl)
theorem dX3_lost_23 : decode cX3_lost 23 = .ok (.ldc2_w 208, 3) := dk_20 0 208 (dk_at dksX3_lost_1 0 rfl rfl)
theorem dX3_lost_26 : decode cX3_lost 26 = .ok (.invokestatic 70, 3) := dk_184 0 70 (dk_at dksX3_lost_1 3 rfl rfl)
theorem dX3_lost_29 : decode cX3_lost 29 = .ok (.ifCond .eq 14, 3) := dk_153 0 14 (dk_at dksX3_lost_1 6 rfl rfl)
theorem dX3_lost_32 : decode cX3_lost 32 = .ok (.iload 4, 2) := dk_21 4 (dk_at dksX3_lost_1 9 rfl rfl)
theorem dX3_lost_34 : decode cX3_lost 34 = .ok (.i2l, 1) := dk_133 (dk_at dksX3_lost_1 11 rfl rfl)
theorem dX3_lost_35 : decode cX3_lost 35 = .ok (.lconst 0, 1) := dk_9 (dk_at dksX3_lost_1 12 rfl rfl)
theorem dX3_lost_36 : decode cX3_lost 36 = .ok (.lconst 1, 1) := dk_10 (dk_at dksX3_lost_1 13 rfl rfl)
theorem dX3_lost_37 : decode cX3_lost 37 = .ok (.invokestatic 70, 3) := dk_184 0 70 (dk_at dksX3_lost_1 14 rfl rfl)
theorem dX3_lost_40 : decode cX3_lost 40 = .ok (.ifCond .ne 7, 3) := dk_154 0 7 (dk_at dksX3_lost_1 17 rfl rfl)
theorem dX3_lost_43 : decode cX3_lost 43 = .ok (.ldc2_w 220, 3) := dk_20 0 220 (dk_at dksX3_lost_1 20 rfl rfl)
theorem dX3_lost_46 : decode cX3_lost 46 = .ok (.lreturn, 1) := dk_173 (dk_at dksX3_lost_1 23 rfl rfl)
theorem dX3_lost_47 : decode cX3_lost 47 = .ok (.lconst 0, 1) := dk_9 (dk_at dksX3_lost_2 0 rfl rfl)
theorem dX3_lost_48 : decode cX3_lost 48 = .ok (.lstore 5, 2) := dk_55 5 (dk_at dksX3_lost_2 1 rfl rfl)
theorem dX3_lost_50 : decode cX3_lost 50 = .ok (.lconst 0, 1) := dk_9 (dk_at dksX3_lost_2 3 rfl rfl)
theorem dX3_lost_51 : decode cX3_lost 51 = .ok (.lstore 7, 2) := dk_55 7 (dk_at dksX3_lost_2 4 rfl rfl)
theorem dX3_lost_53 : decode cX3_lost 53 = .ok (.iconst 0, 1) := dk_3 (dk_at dksX3_lost_2 6 rfl rfl)
theorem dX3_lost_54 : decode cX3_lost 54 = .ok (.istore 9, 2) := dk_54 9 (dk_at dksX3_lost_2 7 rfl rfl)
theorem dX3_lost_56 : decode cX3_lost 56 = .ok (.iload 9, 2) := dk_21 9 (dk_at dksX3_lost_2 9 rfl rfl)
theorem dX3_lost_58 : decode cX3_lost 58 = .ok (.iconst 1, 1) := dk_4 (dk_at dksX3_lost_2 11 rfl rfl)
theorem dX3_lost_59 : decode cX3_lost 59 = .ok (.aload_n 0, 1) := dk_42 (dk_at dksX3_lost_2 12 rfl rfl)
theorem dX3_lost_60 : decode cX3_lost 60 = .ok (.getfield 19, 3) := dk_180 0 19 (dk_at dksX3_lost_2 13 rfl rfl)
theorem dX3_lost_63 : decode cX3_lost 63 = .ok (.iconst 3, 1) := dk_6 (dk_at dksX3_lost_2 16 rfl rfl)
theorem dX3_lost_64 : decode cX3_lost 64 = .ok (.iaload, 1) := dk_46 (dk_at dksX3_lost_2 17 rfl rfl)
theorem dX3_lost_65 : decode cX3_lost 65 = .ok (.ishl, 1) := dk_120 (dk_at dksX3_lost_2 18 rfl rfl)
theorem dX3_lost_66 : decode cX3_lost 66 = .ok (.if_icmp .ge 117, 3) := dk_162 0 117 (dk_at dksX3_lost_2 19 rfl rfl)
theorem dX3_lost_69 : decode cX3_lost 69 = .ok (.lconst 1, 1) := dk_10 (dk_at dksX3_lost_2 22 rfl rfl)
theorem dX3_lost_70 : decode cX3_lost 70 = .ok (.lstore 10, 2) := dk_55 10 (dk_at dksX3_lost_3 0 rfl rfl)
theorem dX3_lost_72 : decode cX3_lost 72 = .ok (.iconst 0, 1) := dk_3 (dk_at dksX3_lost_3 2 rfl rfl)
theorem dX3_lost_73 : decode cX3_lost 73 = .ok (.istore 12, 2) := dk_54 12 (dk_at dksX3_lost_3 3 rfl rfl)
theorem dX3_lost_75 : decode cX3_lost 75 = .ok (.iconst 0, 1) := dk_3 (dk_at dksX3_lost_3 5 rfl rfl)
theorem dX3_lost_76 : decode cX3_lost 76 = .ok (.istore 13, 2) := dk_54 13 (dk_at dksX3_lost_3 6 rfl rfl)
theorem dX3_lost_78 : decode cX3_lost 78 = .ok (.iload 13, 2) := dk_21 13 (dk_at dksX3_lost_3 8 rfl rfl)
theorem dX3_lost_80 : decode cX3_lost 80 = .ok (.aload_n 0, 1) := dk_42 (dk_at dksX3_lost_3 10 rfl rfl)
theorem dX3_lost_81 : decode cX3_lost 81 = .ok (.getfield 19, 3) := dk_180 0 19 (dk_at dksX3_lost_3 11 rfl rfl)
theorem dX3_lost_84 : decode cX3_lost 84 = .ok (.iconst 3, 1) := dk_6 (dk_at dksX3_lost_3 14 rfl rfl)
theorem dX3_lost_85 : decode cX3_lost 85 = .ok (.iaload, 1) := dk_46 (dk_at dksX3_lost_3 15 rfl rfl)
theorem dX3_lost_86 : decode cX3_lost 86 = .ok (.if_icmp .ge 67, 3) := dk_162 0 67 (dk_at dksX3_lost_3 16 rfl rfl)
theorem dX3_lost_89 : decode cX3_lost 89 = .ok (.lload 10, 2) := dk_22 10 (dk_at dksX3_lost_3 19 rfl rfl)
theorem dX3_lost_91 : decode cX3_lost 91 = .ok (.iload 9, 2) := dk_21 9 (dk_at dksX3_lost_3 21 rfl rfl)
theorem dX3_lost_93 : decode cX3_lost 93 = .ok (.iload 13, 2) := dk_21 13 (dk_at dksX3_lost_4 0 rfl rfl)
theorem dX3_lost_95 : decode cX3_lost 95 = .ok (.invokestatic 85, 3) := dk_184 0 85 (dk_at dksX3_lost_4 2 rfl rfl)
theorem dX3_lost_98 : decode cX3_lost 98 = .ok (.ifCond .eq 11, 3) := dk_153 0 11 (dk_at dksX3_lost_4 5 rfl rfl)
theorem dX3_lost_101 : decode cX3_lost 101 = .ok (.bipush 10, 2) := dk_16 10 (dk_at dksX3_lost_4 8 rfl rfl)
theorem dX3_lost_103 : decode cX3_lost 103 = .ok (.iload_n 3, 1) := dk_29 (dk_at dksX3_lost_4 10 rfl rfl)
theorem dX3_lost_104 : decode cX3_lost 104 = .ok (.isub, 1) := dk_100 (dk_at dksX3_lost_4 11 rfl rfl)
theorem dX3_lost_105 : decode cX3_lost 105 = .ok (.i2l, 1) := dk_133 (dk_at dksX3_lost_4 12 rfl rfl)
theorem dX3_lost_106 : decode cX3_lost 106 = .ok (.goto 5, 3) := dk_167 0 5 (dk_at dksX3_lost_4 13 rfl rfl)
theorem dX3_lost_109 : decode cX3_lost 109 = .ok (.iload_n 3, 1) := dk_29 (dk_at dksX3_lost_4 16 rfl rfl)
theorem dX3_lost_110 : decode cX3_lost 110 = .ok (.i2l, 1) := dk_133 (dk_at dksX3_lost_4 17 rfl rfl)
theorem dX3_lost_111 : decode cX3_lost 111 = .ok (.lmul, 1) := dk_105 (dk_at dksX3_lost_4 18 rfl rfl)
theorem dX3_lost_112 : decode cX3_lost 112 = .ok (.lstore 10, 2) := dk_55 10 (dk_at dksX3_lost_4 19 rfl rfl)
theorem dX3_lost_114 : decode cX3_lost 114 = .ok (.iload 12, 2) := dk_21 12 (dk_at dksX3_lost_4 21 rfl rfl)
theorem dX3_lost_116 : decode cX3_lost 116 = .ok (.iload 9, 2) := dk_21 9 (dk_at dksX3_lost_5 0 rfl rfl)
theorem dX3_lost_118 : decode cX3_lost 118 = .ok (.iload 13, 2) := dk_21 13 (dk_at dksX3_lost_5 2 rfl rfl)
theorem dX3_lost_120 : decode cX3_lost 120 = .ok (.invokestatic 85, 3) := dk_184 0 85 (dk_at dksX3_lost_5 4 rfl rfl)
theorem dX3_lost_123 : decode cX3_lost 123 = .ok (.ifCond .eq 20, 3) := dk_153 0 20 (dk_at dksX3_lost_5 7 rfl rfl)
theorem dX3_lost_126 : decode cX3_lost 126 = .ok (.aload_n 0, 1) := dk_42 (dk_at dksX3_lost_5 10 rfl rfl)
theorem dX3_lost_127 : decode cX3_lost 127 = .ok (.iload_n 1, 1) := dk_27 (dk_at dksX3_lost_5 11 rfl rfl)
theorem dX3_lost_128 : decode cX3_lost 128 = .ok (.aload_n 0, 1) := dk_42 (dk_at dksX3_lost_5 12 rfl rfl)
theorem dX3_lost_129 : decode cX3_lost 129 = .ok (.getfield 19, 3) := dk_180 0 19 (dk_at dksX3_lost_5 13 rfl rfl)
theorem dX3_lost_132 : decode cX3_lost 132 = .ok (.iconst 4, 1) := dk_7 (dk_at dksX3_lost_5 16 rfl rfl)
theorem dX3_lost_133 : decode cX3_lost 133 = .ok (.iload 13, 2) := dk_21 13 (dk_at dksX3_lost_5 17 rfl rfl)
theorem dX3_lost_135 : decode cX3_lost 135 = .ok (.iadd, 1) := dk_96 (dk_at dksX3_lost_5 19 rfl rfl)
theorem dX3_lost_136 : decode cX3_lost 136 = .ok (.iaload, 1) := dk_46 (dk_at dksX3_lost_5 20 rfl rfl)
theorem dX3_lost_137 : decode cX3_lost 137 = .ok (.invokevirtual 286, 3) := dk_182 1 30 (dk_at dksX3_lost_5 21 rfl rfl)
theorem dX3_lost_140 : decode cX3_lost 140 = .ok (.goto 4, 3) := dk_167 0 4 (dk_at dksX3_lost_6 0 rfl rfl)
theorem dX3_lost_143 : decode cX3_lost 143 = .ok (.iconst 0, 1) := dk_3 (dk_at dksX3_lost_6 3 rfl rfl)
theorem dX3_lost_144 : decode cX3_lost 144 = .ok (.iadd, 1) := dk_96 (dk_at dksX3_lost_6 4 rfl rfl)
theorem dX3_lost_145 : decode cX3_lost 145 = .ok (.istore 12, 2) := dk_54 12 (dk_at dksX3_lost_6 5 rfl rfl)
theorem dX3_lost_147 : decode cX3_lost 147 = .ok (.iinc 13 1, 3) := dk_132 13 1 (dk_at dksX3_lost_6 7 rfl rfl)
theorem dX3_lost_150 : decode cX3_lost 150 = .ok (.goto (-72), 3) := dk_167 255 184 (dk_at dksX3_lost_6 10 rfl rfl)
theorem dX3_lost_153 : decode cX3_lost 153 = .ok (.lload 7, 2) := dk_22 7 (dk_at dksX3_lost_6 13 rfl rfl)
theorem dX3_lost_155 : decode cX3_lost 155 = .ok (.lload 10, 2) := dk_22 10 (dk_at dksX3_lost_6 15 rfl rfl)
theorem dX3_lost_157 : decode cX3_lost 157 = .ok (.ladd, 1) := dk_97 (dk_at dksX3_lost_6 17 rfl rfl)
theorem dX3_lost_158 : decode cX3_lost 158 = .ok (.lstore 7, 2) := dk_55 7 (dk_at dksX3_lost_6 18 rfl rfl)
theorem dX3_lost_160 : decode cX3_lost 160 = .ok (.lload 5, 2) := dk_22 5 (dk_at dksX3_lost_6 20 rfl rfl)
theorem dX3_lost_162 : decode cX3_lost 162 = .ok (.iload 12, 2) := dk_21 12 (dk_at dksX3_lost_6 22 rfl rfl)
theorem dX3_lost_164 : decode cX3_lost 164 = .ok (.iload_n 2, 1) := dk_28 (dk_at dksX3_lost_7 0 rfl rfl)
theorem dX3_lost_165 : decode cX3_lost 165 = .ok (.if_icmp .gt 8, 3) := dk_163 0 8 (dk_at dksX3_lost_7 1 rfl rfl)
theorem dX3_lost_168 : decode cX3_lost 168 = .ok (.lload 10, 2) := dk_22 10 (dk_at dksX3_lost_7 4 rfl rfl)
theorem dX3_lost_170 : decode cX3_lost 170 = .ok (.goto 4, 3) := dk_167 0 4 (dk_at dksX3_lost_7 6 rfl rfl)
theorem dX3_lost_173 : decode cX3_lost 173 = .ok (.lconst 0, 1) := dk_9 (dk_at dksX3_lost_7 9 rfl rfl)
theorem dX3_lost_174 : decode cX3_lost 174 = .ok (.ladd, 1) := dk_97 (dk_at dksX3_lost_7 10 rfl rfl)
theorem dX3_lost_175 : decode cX3_lost 175 = .ok (.lstore 5, 2) := dk_55 5 (dk_at dksX3_lost_7 11 rfl rfl)
theorem dX3_lost_177 : decode cX3_lost 177 = .ok (.iinc 9 1, 3) := dk_132 9 1 (dk_at dksX3_lost_7 13 rfl rfl)
theorem dX3_lost_180 : decode cX3_lost 180 = .ok (.goto (-124), 3) := dk_167 255 132 (dk_at dksX3_lost_7 16 rfl rfl)
theorem dX3_lost_183 : decode cX3_lost 183 = .ok (.lload 5, 2) := dk_22 5 (dk_at dksX3_lost_7 19 rfl rfl)
theorem dX3_lost_185 : decode cX3_lost 185 = .ok (.lload 7, 2) := dk_22 7 (dk_at dksX3_lost_7 21 rfl rfl)
theorem dX3_lost_187 : decode cX3_lost 187 = .ok (.iload 4, 2) := dk_21 4 (dk_at dksX3_lost_8 0 rfl rfl)
theorem dX3_lost_189 : decode cX3_lost 189 = .ok (.invokestatic 244, 3) := dk_184 0 244 (dk_at dksX3_lost_8 2 rfl rfl)
theorem dX3_lost_192 : decode cX3_lost 192 = .ok (.lreturn, 1) := dk_173 (dk_at dksX3_lost_8 5 rfl rfl)
abbrev cX3_oftenIn : ByteArray := prog_16_method_65_code
def yX3_oftenIn : MethodName := ⟨RX3, "oftenIn", "(II)I"⟩
def dkwX3_oftenIn_1 : List UInt8 := [21, 4, 184, 0, 103, 27, 160, 0, 7, 4, 167, 0, 4, 3, 96, 62, 132, 4, 1, 167, 255, 218, 29, 172]
abbrev dktX3_oftenIn_1 : List UInt8 := dkwX3_oftenIn_1 ++ []
def dkwX3_oftenIn_0 : List UInt8 := [3, 62, 3, 54, 4, 21, 4, 42, 180, 0, 19, 28, 184, 0, 100, 162, 0, 31, 29, 42, 180, 0, 19, 28]
abbrev dktX3_oftenIn_0 : List UInt8 := dkwX3_oftenIn_0 ++ dktX3_oftenIn_1
theorem dksX3_oftenIn_0 : cX3_oftenIn.data.toList.drop 0 = dktX3_oftenIn_0 := by decide +kernel
theorem dksX3_oftenIn_1 : cX3_oftenIn.data.toList.drop 24 = dktX3_oftenIn_1 := dk_seg dksX3_oftenIn_0 24 rfl rfl
theorem dX3_oftenIn_0 : decode cX3_oftenIn 0 = .ok (.iconst 0, 1) := dk_3 (dk_at dksX3_oftenIn_0 0 rfl rfl)
theorem dX3_oftenIn_1 : decode cX3_oftenIn 1 = .ok (.istore_n 3, 1) := dk_62 (dk_at dksX3_oftenIn_0 1 rfl rfl)
theorem dX3_oftenIn_2 : decode cX3_oftenIn 2 = .ok (.iconst 0, 1) := dk_3 (dk_at dksX3_oftenIn_0 2 rfl rfl)
theorem dX3_oftenIn_3 : decode cX3_oftenIn 3 = .ok (.istore 4, 2) := dk_54 4 (dk_at dksX3_oftenIn_0 3 rfl rfl)
theorem dX3_oftenIn_5 : decode cX3_oftenIn 5 = .ok (.iload 4, 2) := dk_21 4 (dk_at dksX3_oftenIn_0 5 rfl rfl)
theorem dX3_oftenIn_7 : decode cX3_oftenIn 7 = .ok (.aload_n 0, 1) := dk_42 (dk_at dksX3_oftenIn_0 7 rfl rfl)
theorem dX3_oftenIn_8 : decode cX3_oftenIn 8 = .ok (.getfield 19, 3) := dk_180 0 19 (dk_at dksX3_oftenIn_0 8 rfl rfl)
theorem dX3_oftenIn_11 : decode cX3_oftenIn 11 = .ok (.iload_n 2, 1) := dk_28 (dk_at dksX3_oftenIn_0 11 rfl rfl)
theorem dX3_oftenIn_12 : decode cX3_oftenIn 12 = .ok (.invokestatic 100, 3) := dk_184 0 100 (dk_at dksX3_oftenIn_0 12 rfl rfl)
theorem dX3_oftenIn_15 : decode cX3_oftenIn 15 = .ok (.if_icmp .ge 31, 3) := dk_162 0 31 (dk_at dksX3_oftenIn_0 15 rfl rfl)
theorem dX3_oftenIn_18 : decode cX3_oftenIn 18 = .ok (.iload_n 3, 1) := dk_29 (dk_at dksX3_oftenIn_0 18 rfl rfl)
theorem dX3_oftenIn_19 : decode cX3_oftenIn 19 = .ok (.aload_n 0, 1) := dk_42 (dk_at dksX3_oftenIn_0 19 rfl rfl)
theorem dX3_oftenIn_20 : decode cX3_oftenIn 20 = .ok (.getfield 19, 3) := dk_180 0 19 (dk_at dksX3_oftenIn_0 20 rfl rfl)
theorem dX3_oftenIn_23 : decode cX3_oftenIn 23 = .ok (.iload_n 2, 1) := dk_28 (dk_at dksX3_oftenIn_0 23 rfl rfl)
theorem dX3_oftenIn_24 : decode cX3_oftenIn 24 = .ok (.iload 4, 2) := dk_21 4 (dk_at dksX3_oftenIn_1 0 rfl rfl)
theorem dX3_oftenIn_26 : decode cX3_oftenIn 26 = .ok (.invokestatic 103, 3) := dk_184 0 103 (dk_at dksX3_oftenIn_1 2 rfl rfl)
theorem dX3_oftenIn_29 : decode cX3_oftenIn 29 = .ok (.iload_n 1, 1) := dk_27 (dk_at dksX3_oftenIn_1 5 rfl rfl)
theorem dX3_oftenIn_30 : decode cX3_oftenIn 30 = .ok (.if_icmp .ne 7, 3) := dk_160 0 7 (dk_at dksX3_oftenIn_1 6 rfl rfl)
theorem dX3_oftenIn_33 : decode cX3_oftenIn 33 = .ok (.iconst 1, 1) := dk_4 (dk_at dksX3_oftenIn_1 9 rfl rfl)
theorem dX3_oftenIn_34 : decode cX3_oftenIn 34 = .ok (.goto 4, 3) := dk_167 0 4 (dk_at dksX3_oftenIn_1 10 rfl rfl)
theorem dX3_oftenIn_37 : decode cX3_oftenIn 37 = .ok (.iconst 0, 1) := dk_3 (dk_at dksX3_oftenIn_1 13 rfl rfl)
theorem dX3_oftenIn_38 : decode cX3_oftenIn 38 = .ok (.iadd, 1) := dk_96 (dk_at dksX3_oftenIn_1 14 rfl rfl)
theorem dX3_oftenIn_39 : decode cX3_oftenIn 39 = .ok (.istore_n 3, 1) := dk_62 (dk_at dksX3_oftenIn_1 15 rfl rfl)
theorem dX3_oftenIn_40 : decode cX3_oftenIn 40 = .ok (.iinc 4 1, 3) := dk_132 4 1 (dk_at dksX3_oftenIn_1 16 rfl rfl)
theorem dX3_oftenIn_43 : decode cX3_oftenIn 43 = .ok (.goto (-38), 3) := dk_167 255 218 (dk_at dksX3_oftenIn_1 19 rfl rfl)
theorem dX3_oftenIn_46 : decode cX3_oftenIn 46 = .ok (.iload_n 3, 1) := dk_29 (dk_at dksX3_oftenIn_1 22 rfl rfl)
theorem dX3_oftenIn_47 : decode cX3_oftenIn 47 = .ok (.ireturn, 1) := dk_172 (dk_at dksX3_oftenIn_1 23 rfl rfl)
abbrev cX3_drawn : ByteArray := prog_16_method_67_code
def yX3_drawn : MethodName := ⟨RX3, "drawn", "(III)I"⟩
def dkwX3_drawn_6 : List UInt8 := [184, 0, 255, 126, 54, 7, 132, 8, 1, 167, 255, 171, 29, 154, 0, 8, 21, 6, 167, 0, 5, 21, 7, 172]
abbrev dktX3_drawn_6 : List UInt8 := dkwX3_drawn_6 ++ []
def dkwX3_drawn_5 : List UInt8 := [136, 79, 21, 6, 42, 180, 0, 25, 184, 0, 255, 184, 1, 3, 96, 54, 6, 21, 7, 42, 180, 0, 25]
abbrev dktX3_drawn_5 : List UInt8 := dkwX3_drawn_5 ++ dktX3_drawn_6
def dkwX3_drawn_4 : List UInt8 := [54, 9, 42, 180, 0, 25, 7, 21, 9, 96, 22, 4, 20, 1, 42, 109, 42, 180, 0, 25, 3, 46, 133, 113]
abbrev dktX3_drawn_4 : List UInt8 := dkwX3_drawn_4 ++ dktX3_drawn_5
def dkwX3_drawn_3 : List UInt8 := [22, 4, 20, 1, 38, 105, 20, 1, 40, 113, 55, 4, 22, 4, 42, 180, 0, 25, 6, 46, 133, 113, 136]
abbrev dktX3_drawn_3 : List UInt8 := dkwX3_drawn_3 ++ dktX3_drawn_4
def dkwX3_drawn_2 : List UInt8 := [182, 1, 21, 28, 133, 55, 4, 3, 54, 6, 19, 1, 37, 54, 7, 3, 54, 8, 21, 8, 27, 162, 0, 85]
abbrev dktX3_drawn_2 : List UInt8 := dkwX3_drawn_2 ++ dktX3_drawn_3
def dkwX3_drawn_1 : List UInt8 := [10, 20, 1, 35, 184, 0, 70, 153, 0, 13, 29, 133, 9, 10, 184, 0, 70, 154, 0, 6, 18, 80, 172, 42]
abbrev dktX3_drawn_1 : List UInt8 := dkwX3_drawn_1 ++ dktX3_drawn_2
def dkwX3_drawn_0 : List UInt8 := [42, 182, 0, 197, 154, 0, 6, 18, 178, 172, 27, 133, 9, 20, 1, 33, 184, 0, 70, 153, 0, 25, 28, 133]
abbrev dktX3_drawn_0 : List UInt8 := dkwX3_drawn_0 ++ dktX3_drawn_1
theorem dksX3_drawn_0 : cX3_drawn.data.toList.drop 0 = dktX3_drawn_0 := by decide +kernel
theorem dksX3_drawn_1 : cX3_drawn.data.toList.drop 24 = dktX3_drawn_1 := dk_seg dksX3_drawn_0 24 rfl rfl
theorem dksX3_drawn_2 : cX3_drawn.data.toList.drop 48 = dktX3_drawn_2 := dk_seg dksX3_drawn_1 24 rfl rfl
theorem dksX3_drawn_3 : cX3_drawn.data.toList.drop 72 = dktX3_drawn_3 := dk_seg dksX3_drawn_2 24 rfl rfl
theorem dksX3_drawn_4 : cX3_drawn.data.toList.drop 95 = dktX3_drawn_4 := dk_seg dksX3_drawn_3 23 rfl rfl
theorem dksX3_drawn_5 : cX3_drawn.data.toList.drop 119 = dktX3_drawn_5 := dk_seg dksX3_drawn_4 24 rfl rfl
theorem dksX3_drawn_6 : cX3_drawn.data.toList.drop 142 = dktX3_drawn_6 := dk_seg dksX3_drawn_5 23 rfl rfl
theorem dX3_drawn_0 : decode cX3_drawn 0 = .ok (.aload_n 0, 1) := dk_42 (dk_at dksX3_drawn_0 0 rfl rfl)
theorem dX3_drawn_1 : decode cX3_drawn 1 = .ok (.invokevirtual 197, 3) := dk_182 0 197 (dk_at dksX3_drawn_0 1 rfl rfl)
theorem dX3_drawn_4 : decode cX3_drawn 4 = .ok (.ifCond .ne 6, 3) := dk_154 0 6 (dk_at dksX3_drawn_0 4 rfl rfl)
theorem dX3_drawn_7 : decode cX3_drawn 7 = .ok (.ldc 178, 2) := dk_18 178 (dk_at dksX3_drawn_0 7 rfl rfl)
theorem dX3_drawn_9 : decode cX3_drawn 9 = .ok (.ireturn, 1) := dk_172 (dk_at dksX3_drawn_0 9 rfl rfl)
theorem dX3_drawn_10 : decode cX3_drawn 10 = .ok (.iload_n 1, 1) := dk_27 (dk_at dksX3_drawn_0 10 rfl rfl)
theorem dX3_drawn_11 : decode cX3_drawn 11 = .ok (.i2l, 1) := dk_133 (dk_at dksX3_drawn_0 11 rfl rfl)
theorem dX3_drawn_12 : decode cX3_drawn 12 = .ok (.lconst 0, 1) := dk_9 (dk_at dksX3_drawn_0 12 rfl rfl)
theorem dX3_drawn_13 : decode cX3_drawn 13 = .ok (.ldc2_w 289, 3) := dk_20 1 33 (dk_at dksX3_drawn_0 13 rfl rfl)
theorem dX3_drawn_16 : decode cX3_drawn 16 = .ok (.invokestatic 70, 3) := dk_184 0 70 (dk_at dksX3_drawn_0 16 rfl rfl)
theorem dX3_drawn_19 : decode cX3_drawn 19 = .ok (.ifCond .eq 25, 3) := dk_153 0 25 (dk_at dksX3_drawn_0 19 rfl rfl)
theorem dX3_drawn_22 : decode cX3_drawn 22 = .ok (.iload_n 2, 1) := dk_28 (dk_at dksX3_drawn_0 22 rfl rfl)
theorem dX3_drawn_23 : decode cX3_drawn 23 = .ok (.i2l, 1) := dk_133 (dk_at dksX3_drawn_0 23 rfl rfl)
theorem dX3_drawn_24 : decode cX3_drawn 24 = .ok (.lconst 1, 1) := dk_10 (dk_at dksX3_drawn_1 0 rfl rfl)
theorem dX3_drawn_25 : decode cX3_drawn 25 = .ok (.ldc2_w 291, 3) := dk_20 1 35 (dk_at dksX3_drawn_1 1 rfl rfl)
theorem dX3_drawn_28 : decode cX3_drawn 28 = .ok (.invokestatic 70, 3) := dk_184 0 70 (dk_at dksX3_drawn_1 4 rfl rfl)
theorem dX3_drawn_31 : decode cX3_drawn 31 = .ok (.ifCond .eq 13, 3) := dk_153 0 13 (dk_at dksX3_drawn_1 7 rfl rfl)
theorem dX3_drawn_34 : decode cX3_drawn 34 = .ok (.iload_n 3, 1) := dk_29 (dk_at dksX3_drawn_1 10 rfl rfl)
theorem dX3_drawn_35 : decode cX3_drawn 35 = .ok (.i2l, 1) := dk_133 (dk_at dksX3_drawn_1 11 rfl rfl)
theorem dX3_drawn_36 : decode cX3_drawn 36 = .ok (.lconst 0, 1) := dk_9 (dk_at dksX3_drawn_1 12 rfl rfl)
theorem dX3_drawn_37 : decode cX3_drawn 37 = .ok (.lconst 1, 1) := dk_10 (dk_at dksX3_drawn_1 13 rfl rfl)
theorem dX3_drawn_38 : decode cX3_drawn 38 = .ok (.invokestatic 70, 3) := dk_184 0 70 (dk_at dksX3_drawn_1 14 rfl rfl)
theorem dX3_drawn_41 : decode cX3_drawn 41 = .ok (.ifCond .ne 6, 3) := dk_154 0 6 (dk_at dksX3_drawn_1 17 rfl rfl)
theorem dX3_drawn_44 : decode cX3_drawn 44 = .ok (.ldc 80, 2) := dk_18 80 (dk_at dksX3_drawn_1 20 rfl rfl)
theorem dX3_drawn_46 : decode cX3_drawn 46 = .ok (.ireturn, 1) := dk_172 (dk_at dksX3_drawn_1 22 rfl rfl)
theorem dX3_drawn_47 : decode cX3_drawn 47 = .ok (.aload_n 0, 1) := dk_42 (dk_at dksX3_drawn_1 23 rfl rfl)
theorem dX3_drawn_48 : decode cX3_drawn 48 = .ok (.invokevirtual 277, 3) := dk_182 1 21 (dk_at dksX3_drawn_2 0 rfl rfl)
theorem dX3_drawn_51 : decode cX3_drawn 51 = .ok (.iload_n 2, 1) := dk_28 (dk_at dksX3_drawn_2 3 rfl rfl)
theorem dX3_drawn_52 : decode cX3_drawn 52 = .ok (.i2l, 1) := dk_133 (dk_at dksX3_drawn_2 4 rfl rfl)
theorem dX3_drawn_53 : decode cX3_drawn 53 = .ok (.lstore 4, 2) := dk_55 4 (dk_at dksX3_drawn_2 5 rfl rfl)
theorem dX3_drawn_55 : decode cX3_drawn 55 = .ok (.iconst 0, 1) := dk_3 (dk_at dksX3_drawn_2 7 rfl rfl)
theorem dX3_drawn_56 : decode cX3_drawn 56 = .ok (.istore 6, 2) := dk_54 6 (dk_at dksX3_drawn_2 8 rfl rfl)
theorem dX3_drawn_58 : decode cX3_drawn 58 = .ok (.ldc_w 293, 3) := dk_19 1 37 (dk_at dksX3_drawn_2 10 rfl rfl)
theorem dX3_drawn_61 : decode cX3_drawn 61 = .ok (.istore 7, 2) := dk_54 7 (dk_at dksX3_drawn_2 13 rfl rfl)
theorem dX3_drawn_63 : decode cX3_drawn 63 = .ok (.iconst 0, 1) := dk_3 (dk_at dksX3_drawn_2 15 rfl rfl)
theorem dX3_drawn_64 : decode cX3_drawn 64 = .ok (.istore 8, 2) := dk_54 8 (dk_at dksX3_drawn_2 16 rfl rfl)
theorem dX3_drawn_66 : decode cX3_drawn 66 = .ok (.iload 8, 2) := dk_21 8 (dk_at dksX3_drawn_2 18 rfl rfl)
theorem dX3_drawn_68 : decode cX3_drawn 68 = .ok (.iload_n 1, 1) := dk_27 (dk_at dksX3_drawn_2 20 rfl rfl)
theorem dX3_drawn_69 : decode cX3_drawn 69 = .ok (.if_icmp .ge 85, 3) := dk_162 0 85 (dk_at dksX3_drawn_2 21 rfl rfl)
theorem dX3_drawn_72 : decode cX3_drawn 72 = .ok (.lload 4, 2) := dk_22 4 (dk_at dksX3_drawn_3 0 rfl rfl)
theorem dX3_drawn_74 : decode cX3_drawn 74 = .ok (.ldc2_w 294, 3) := dk_20 1 38 (dk_at dksX3_drawn_3 2 rfl rfl)
theorem dX3_drawn_77 : decode cX3_drawn 77 = .ok (.lmul, 1) := dk_105 (dk_at dksX3_drawn_3 5 rfl rfl)
theorem dX3_drawn_78 : decode cX3_drawn 78 = .ok (.ldc2_w 296, 3) := dk_20 1 40 (dk_at dksX3_drawn_3 6 rfl rfl)
theorem dX3_drawn_81 : decode cX3_drawn 81 = .ok (.lrem, 1) := dk_113 (dk_at dksX3_drawn_3 9 rfl rfl)
theorem dX3_drawn_82 : decode cX3_drawn 82 = .ok (.lstore 4, 2) := dk_55 4 (dk_at dksX3_drawn_3 10 rfl rfl)
theorem dX3_drawn_84 : decode cX3_drawn 84 = .ok (.lload 4, 2) := dk_22 4 (dk_at dksX3_drawn_3 12 rfl rfl)
theorem dX3_drawn_86 : decode cX3_drawn 86 = .ok (.aload_n 0, 1) := dk_42 (dk_at dksX3_drawn_3 14 rfl rfl)
theorem dX3_drawn_87 : decode cX3_drawn 87 = .ok (.getfield 25, 3) := dk_180 0 25 (dk_at dksX3_drawn_3 15 rfl rfl)
theorem dX3_drawn_90 : decode cX3_drawn 90 = .ok (.iconst 3, 1) := dk_6 (dk_at dksX3_drawn_3 18 rfl rfl)
theorem dX3_drawn_91 : decode cX3_drawn 91 = .ok (.iaload, 1) := dk_46 (dk_at dksX3_drawn_3 19 rfl rfl)
theorem dX3_drawn_92 : decode cX3_drawn 92 = .ok (.i2l, 1) := dk_133 (dk_at dksX3_drawn_3 20 rfl rfl)
theorem dX3_drawn_93 : decode cX3_drawn 93 = .ok (.lrem, 1) := dk_113 (dk_at dksX3_drawn_3 21 rfl rfl)
theorem dX3_drawn_94 : decode cX3_drawn 94 = .ok (.l2i, 1) := dk_136 (dk_at dksX3_drawn_3 22 rfl rfl)
theorem dX3_drawn_95 : decode cX3_drawn 95 = .ok (.istore 9, 2) := dk_54 9 (dk_at dksX3_drawn_4 0 rfl rfl)
theorem dX3_drawn_97 : decode cX3_drawn 97 = .ok (.aload_n 0, 1) := dk_42 (dk_at dksX3_drawn_4 2 rfl rfl)
theorem dX3_drawn_98 : decode cX3_drawn 98 = .ok (.getfield 25, 3) := dk_180 0 25 (dk_at dksX3_drawn_4 3 rfl rfl)
theorem dX3_drawn_101 : decode cX3_drawn 101 = .ok (.iconst 4, 1) := dk_7 (dk_at dksX3_drawn_4 6 rfl rfl)
theorem dX3_drawn_102 : decode cX3_drawn 102 = .ok (.iload 9, 2) := dk_21 9 (dk_at dksX3_drawn_4 7 rfl rfl)
theorem dX3_drawn_104 : decode cX3_drawn 104 = .ok (.iadd, 1) := dk_96 (dk_at dksX3_drawn_4 9 rfl rfl)
theorem dX3_drawn_105 : decode cX3_drawn 105 = .ok (.lload 4, 2) := dk_22 4 (dk_at dksX3_drawn_4 10 rfl rfl)
theorem dX3_drawn_107 : decode cX3_drawn 107 = .ok (.ldc2_w 298, 3) := dk_20 1 42 (dk_at dksX3_drawn_4 12 rfl rfl)
theorem dX3_drawn_110 : decode cX3_drawn 110 = .ok (.ldiv, 1) := dk_109 (dk_at dksX3_drawn_4 15 rfl rfl)
theorem dX3_drawn_111 : decode cX3_drawn 111 = .ok (.aload_n 0, 1) := dk_42 (dk_at dksX3_drawn_4 16 rfl rfl)
theorem dX3_drawn_112 : decode cX3_drawn 112 = .ok (.getfield 25, 3) := dk_180 0 25 (dk_at dksX3_drawn_4 17 rfl rfl)
theorem dX3_drawn_115 : decode cX3_drawn 115 = .ok (.iconst 0, 1) := dk_3 (dk_at dksX3_drawn_4 20 rfl rfl)
theorem dX3_drawn_116 : decode cX3_drawn 116 = .ok (.iaload, 1) := dk_46 (dk_at dksX3_drawn_4 21 rfl rfl)
theorem dX3_drawn_117 : decode cX3_drawn 117 = .ok (.i2l, 1) := dk_133 (dk_at dksX3_drawn_4 22 rfl rfl)
theorem dX3_drawn_118 : decode cX3_drawn 118 = .ok (.lrem, 1) := dk_113 (dk_at dksX3_drawn_4 23 rfl rfl)
theorem dX3_drawn_119 : decode cX3_drawn 119 = .ok (.l2i, 1) := dk_136 (dk_at dksX3_drawn_5 0 rfl rfl)
theorem dX3_drawn_120 : decode cX3_drawn 120 = .ok (.iastore, 1) := dk_79 (dk_at dksX3_drawn_5 1 rfl rfl)
theorem dX3_drawn_121 : decode cX3_drawn 121 = .ok (.iload 6, 2) := dk_21 6 (dk_at dksX3_drawn_5 2 rfl rfl)
theorem dX3_drawn_123 : decode cX3_drawn 123 = .ok (.aload_n 0, 1) := dk_42 (dk_at dksX3_drawn_5 4 rfl rfl)
theorem dX3_drawn_124 : decode cX3_drawn 124 = .ok (.getfield 25, 3) := dk_180 0 25 (dk_at dksX3_drawn_5 5 rfl rfl)
theorem dX3_drawn_127 : decode cX3_drawn 127 = .ok (.invokestatic 255, 3) := dk_184 0 255 (dk_at dksX3_drawn_5 8 rfl rfl)
theorem dX3_drawn_130 : decode cX3_drawn 130 = .ok (.invokestatic 259, 3) := dk_184 1 3 (dk_at dksX3_drawn_5 11 rfl rfl)
theorem dX3_drawn_133 : decode cX3_drawn 133 = .ok (.iadd, 1) := dk_96 (dk_at dksX3_drawn_5 14 rfl rfl)
theorem dX3_drawn_134 : decode cX3_drawn 134 = .ok (.istore 6, 2) := dk_54 6 (dk_at dksX3_drawn_5 15 rfl rfl)
theorem dX3_drawn_136 : decode cX3_drawn 136 = .ok (.iload 7, 2) := dk_21 7 (dk_at dksX3_drawn_5 17 rfl rfl)
theorem dX3_drawn_138 : decode cX3_drawn 138 = .ok (.aload_n 0, 1) := dk_42 (dk_at dksX3_drawn_5 19 rfl rfl)
theorem dX3_drawn_139 : decode cX3_drawn 139 = .ok (.getfield 25, 3) := dk_180 0 25 (dk_at dksX3_drawn_5 20 rfl rfl)
theorem dX3_drawn_142 : decode cX3_drawn 142 = .ok (.invokestatic 255, 3) := dk_184 0 255 (dk_at dksX3_drawn_6 0 rfl rfl)
theorem dX3_drawn_145 : decode cX3_drawn 145 = .ok (.iand, 1) := dk_126 (dk_at dksX3_drawn_6 3 rfl rfl)
theorem dX3_drawn_146 : decode cX3_drawn 146 = .ok (.istore 7, 2) := dk_54 7 (dk_at dksX3_drawn_6 4 rfl rfl)
theorem dX3_drawn_148 : decode cX3_drawn 148 = .ok (.iinc 8 1, 3) := dk_132 8 1 (dk_at dksX3_drawn_6 6 rfl rfl)
theorem dX3_drawn_151 : decode cX3_drawn 151 = .ok (.goto (-85), 3) := dk_167 255 171 (dk_at dksX3_drawn_6 9 rfl rfl)
theorem dX3_drawn_154 : decode cX3_drawn 154 = .ok (.iload_n 3, 1) := dk_29 (dk_at dksX3_drawn_6 12 rfl rfl)
theorem dX3_drawn_155 : decode cX3_drawn 155 = .ok (.ifCond .ne 8, 3) := dk_154 0 8 (dk_at dksX3_drawn_6 13 rfl rfl)
theorem dX3_drawn_158 : decode cX3_drawn 158 = .ok (.iload 6, 2) := dk_21 6 (dk_at dksX3_drawn_6 16 rfl rfl)
theorem dX3_drawn_160 : decode cX3_drawn 160 = .ok (.goto 5, 3) := dk_167 0 5 (dk_at dksX3_drawn_6 18 rfl rfl)
theorem dX3_drawn_163 : decode cX3_drawn 163 = .ok (.iload 7, 2) := dk_21 7 (dk_at dksX3_drawn_6 21 rfl rfl)
theorem dX3_drawn_165 : decode cX3_drawn 165 = .ok (.ireturn, 1) := dk_172 (dk_at dksX3_drawn_6 23 rfl rfl)
abbrev cX3_image : ByteArray := prog_16_method_68_code
def yX3_image : MethodName := ⟨RX3, "image", "(I)I"⟩
def dkwX3_image_2 : List UInt8 := [132, 2, 1, 167, 255, 230, 42, 180, 0, 54, 27, 4, 84, 4, 172]
abbrev dktX3_image_2 : List UInt8 := dkwX3_image_2 ++ []
def dkwX3_image_1 : List UInt8 := [61, 28, 16, 44, 162, 0, 26, 42, 180, 0, 57, 16, 44, 27, 104, 28, 96, 42, 180, 0, 19, 28, 46, 79]
abbrev dktX3_image_1 : List UInt8 := dkwX3_image_1 ++ dktX3_image_2
def dkwX3_image_0 : List UInt8 := [27, 133, 9, 10, 184, 0, 70, 154, 0, 6, 18, 80, 172, 42, 182, 0, 197, 154, 0, 6, 18, 178, 172, 3]
abbrev dktX3_image_0 : List UInt8 := dkwX3_image_0 ++ dktX3_image_1
theorem dksX3_image_0 : cX3_image.data.toList.drop 0 = dktX3_image_0 := by decide +kernel
theorem dksX3_image_1 : cX3_image.data.toList.drop 24 = dktX3_image_1 := dk_seg dksX3_image_0 24 rfl rfl
theorem dksX3_image_2 : cX3_image.data.toList.drop 48 = dktX3_image_2 := dk_seg dksX3_image_1 24 rfl rfl
theorem dX3_image_0 : decode cX3_image 0 = .ok (.iload_n 1, 1) := dk_27 (dk_at dksX3_image_0 0 rfl rfl)
theorem dX3_image_1 : decode cX3_image 1 = .ok (.i2l, 1) := dk_133 (dk_at dksX3_image_0 1 rfl rfl)
theorem dX3_image_2 : decode cX3_image 2 = .ok (.lconst 0, 1) := dk_9 (dk_at dksX3_image_0 2 rfl rfl)
theorem dX3_image_3 : decode cX3_image 3 = .ok (.lconst 1, 1) := dk_10 (dk_at dksX3_image_0 3 rfl rfl)
theorem dX3_image_4 : decode cX3_image 4 = .ok (.invokestatic 70, 3) := dk_184 0 70 (dk_at dksX3_image_0 4 rfl rfl)
theorem dX3_image_7 : decode cX3_image 7 = .ok (.ifCond .ne 6, 3) := dk_154 0 6 (dk_at dksX3_image_0 7 rfl rfl)
theorem dX3_image_10 : decode cX3_image 10 = .ok (.ldc 80, 2) := dk_18 80 (dk_at dksX3_image_0 10 rfl rfl)
theorem dX3_image_12 : decode cX3_image 12 = .ok (.ireturn, 1) := dk_172 (dk_at dksX3_image_0 12 rfl rfl)
theorem dX3_image_13 : decode cX3_image 13 = .ok (.aload_n 0, 1) := dk_42 (dk_at dksX3_image_0 13 rfl rfl)
theorem dX3_image_14 : decode cX3_image 14 = .ok (.invokevirtual 197, 3) := dk_182 0 197 (dk_at dksX3_image_0 14 rfl rfl)
theorem dX3_image_17 : decode cX3_image 17 = .ok (.ifCond .ne 6, 3) := dk_154 0 6 (dk_at dksX3_image_0 17 rfl rfl)
theorem dX3_image_20 : decode cX3_image 20 = .ok (.ldc 178, 2) := dk_18 178 (dk_at dksX3_image_0 20 rfl rfl)
theorem dX3_image_22 : decode cX3_image 22 = .ok (.ireturn, 1) := dk_172 (dk_at dksX3_image_0 22 rfl rfl)
theorem dX3_image_23 : decode cX3_image 23 = .ok (.iconst 0, 1) := dk_3 (dk_at dksX3_image_0 23 rfl rfl)
theorem dX3_image_24 : decode cX3_image 24 = .ok (.istore_n 2, 1) := dk_61 (dk_at dksX3_image_1 0 rfl rfl)
theorem dX3_image_25 : decode cX3_image 25 = .ok (.iload_n 2, 1) := dk_28 (dk_at dksX3_image_1 1 rfl rfl)
theorem dX3_image_26 : decode cX3_image 26 = .ok (.bipush 44, 2) := dk_16 44 (dk_at dksX3_image_1 2 rfl rfl)
theorem dX3_image_28 : decode cX3_image 28 = .ok (.if_icmp .ge 26, 3) := dk_162 0 26 (dk_at dksX3_image_1 4 rfl rfl)
theorem dX3_image_31 : decode cX3_image 31 = .ok (.aload_n 0, 1) := dk_42 (dk_at dksX3_image_1 7 rfl rfl)
theorem dX3_image_32 : decode cX3_image 32 = .ok (.getfield 57, 3) := dk_180 0 57 (dk_at dksX3_image_1 8 rfl rfl)
theorem dX3_image_35 : decode cX3_image 35 = .ok (.bipush 44, 2) := dk_16 44 (dk_at dksX3_image_1 11 rfl rfl)
theorem dX3_image_37 : decode cX3_image 37 = .ok (.iload_n 1, 1) := dk_27 (dk_at dksX3_image_1 13 rfl rfl)
theorem dX3_image_38 : decode cX3_image 38 = .ok (.imul, 1) := dk_104 (dk_at dksX3_image_1 14 rfl rfl)
theorem dX3_image_39 : decode cX3_image 39 = .ok (.iload_n 2, 1) := dk_28 (dk_at dksX3_image_1 15 rfl rfl)
theorem dX3_image_40 : decode cX3_image 40 = .ok (.iadd, 1) := dk_96 (dk_at dksX3_image_1 16 rfl rfl)
theorem dX3_image_41 : decode cX3_image 41 = .ok (.aload_n 0, 1) := dk_42 (dk_at dksX3_image_1 17 rfl rfl)
theorem dX3_image_42 : decode cX3_image 42 = .ok (.getfield 19, 3) := dk_180 0 19 (dk_at dksX3_image_1 18 rfl rfl)
theorem dX3_image_45 : decode cX3_image 45 = .ok (.iload_n 2, 1) := dk_28 (dk_at dksX3_image_1 21 rfl rfl)
theorem dX3_image_46 : decode cX3_image 46 = .ok (.iaload, 1) := dk_46 (dk_at dksX3_image_1 22 rfl rfl)
theorem dX3_image_47 : decode cX3_image 47 = .ok (.iastore, 1) := dk_79 (dk_at dksX3_image_1 23 rfl rfl)
theorem dX3_image_48 : decode cX3_image 48 = .ok (.iinc 2 1, 3) := dk_132 2 1 (dk_at dksX3_image_2 0 rfl rfl)
theorem dX3_image_51 : decode cX3_image 51 = .ok (.goto (-26), 3) := dk_167 255 230 (dk_at dksX3_image_2 3 rfl rfl)
theorem dX3_image_54 : decode cX3_image 54 = .ok (.aload_n 0, 1) := dk_42 (dk_at dksX3_image_2 6 rfl rfl)
theorem dX3_image_55 : decode cX3_image 55 = .ok (.getfield 54, 3) := dk_180 0 54 (dk_at dksX3_image_2 7 rfl rfl)
theorem dX3_image_58 : decode cX3_image 58 = .ok (.iload_n 1, 1) := dk_27 (dk_at dksX3_image_2 10 rfl rfl)
theorem dX3_image_59 : decode cX3_image 59 = .ok (.iconst 1, 1) := dk_4 (dk_at dksX3_image_2 11 rfl rfl)
theorem dX3_image_60 : decode cX3_image 60 = .ok (.bastore, 1) := dk_84 (dk_at dksX3_image_2 12 rfl rfl)
theorem dX3_image_61 : decode cX3_image 61 = .ok (.iconst 1, 1) := dk_4 (dk_at dksX3_image_2 13 rfl rfl)
theorem dX3_image_62 : decode cX3_image 62 = .ok (.ireturn, 1) := dk_172 (dk_at dksX3_image_2 14 rfl rfl)
abbrev cX3_restore : ByteArray := prog_16_method_69_code
def yX3_restore : MethodName := ⟨RX3, "restore", "(I)I"⟩
def dkwX3_restore_2 : List UInt8 := [46, 79, 132, 2, 1, 167, 255, 230, 42, 3, 181, 0, 175, 4, 172]
abbrev dktX3_restore_2 : List UInt8 := dkwX3_restore_2 ++ []
def dkwX3_restore_1 : List UInt8 := [172, 3, 61, 28, 16, 44, 162, 0, 26, 42, 180, 0, 19, 28, 42, 180, 0, 57, 16, 44, 27, 104, 28, 96]
abbrev dktX3_restore_1 : List UInt8 := dkwX3_restore_1 ++ dktX3_restore_2
def dkwX3_restore_0 : List UInt8 := [27, 133, 9, 10, 184, 0, 70, 154, 0, 6, 18, 80, 172, 42, 180, 0, 54, 27, 51, 154, 0, 6, 18, 178]
abbrev dktX3_restore_0 : List UInt8 := dkwX3_restore_0 ++ dktX3_restore_1
theorem dksX3_restore_0 : cX3_restore.data.toList.drop 0 = dktX3_restore_0 := by decide +kernel
theorem dksX3_restore_1 : cX3_restore.data.toList.drop 24 = dktX3_restore_1 := dk_seg dksX3_restore_0 24 rfl rfl
theorem dksX3_restore_2 : cX3_restore.data.toList.drop 48 = dktX3_restore_2 := dk_seg dksX3_restore_1 24 rfl rfl
theorem dX3_restore_0 : decode cX3_restore 0 = .ok (.iload_n 1, 1) := dk_27 (dk_at dksX3_restore_0 0 rfl rfl)
theorem dX3_restore_1 : decode cX3_restore 1 = .ok (.i2l, 1) := dk_133 (dk_at dksX3_restore_0 1 rfl rfl)
theorem dX3_restore_2 : decode cX3_restore 2 = .ok (.lconst 0, 1) := dk_9 (dk_at dksX3_restore_0 2 rfl rfl)
theorem dX3_restore_3 : decode cX3_restore 3 = .ok (.lconst 1, 1) := dk_10 (dk_at dksX3_restore_0 3 rfl rfl)
theorem dX3_restore_4 : decode cX3_restore 4 = .ok (.invokestatic 70, 3) := dk_184 0 70 (dk_at dksX3_restore_0 4 rfl rfl)
theorem dX3_restore_7 : decode cX3_restore 7 = .ok (.ifCond .ne 6, 3) := dk_154 0 6 (dk_at dksX3_restore_0 7 rfl rfl)
theorem dX3_restore_10 : decode cX3_restore 10 = .ok (.ldc 80, 2) := dk_18 80 (dk_at dksX3_restore_0 10 rfl rfl)
theorem dX3_restore_12 : decode cX3_restore 12 = .ok (.ireturn, 1) := dk_172 (dk_at dksX3_restore_0 12 rfl rfl)
theorem dX3_restore_13 : decode cX3_restore 13 = .ok (.aload_n 0, 1) := dk_42 (dk_at dksX3_restore_0 13 rfl rfl)
theorem dX3_restore_14 : decode cX3_restore 14 = .ok (.getfield 54, 3) := dk_180 0 54 (dk_at dksX3_restore_0 14 rfl rfl)
theorem dX3_restore_17 : decode cX3_restore 17 = .ok (.iload_n 1, 1) := dk_27 (dk_at dksX3_restore_0 17 rfl rfl)
theorem dX3_restore_18 : decode cX3_restore 18 = .ok (.baload, 1) := dk_51 (dk_at dksX3_restore_0 18 rfl rfl)
theorem dX3_restore_19 : decode cX3_restore 19 = .ok (.ifCond .ne 6, 3) := dk_154 0 6 (dk_at dksX3_restore_0 19 rfl rfl)
theorem dX3_restore_22 : decode cX3_restore 22 = .ok (.ldc 178, 2) := dk_18 178 (dk_at dksX3_restore_0 22 rfl rfl)
theorem dX3_restore_24 : decode cX3_restore 24 = .ok (.ireturn, 1) := dk_172 (dk_at dksX3_restore_1 0 rfl rfl)
theorem dX3_restore_25 : decode cX3_restore 25 = .ok (.iconst 0, 1) := dk_3 (dk_at dksX3_restore_1 1 rfl rfl)
theorem dX3_restore_26 : decode cX3_restore 26 = .ok (.istore_n 2, 1) := dk_61 (dk_at dksX3_restore_1 2 rfl rfl)
theorem dX3_restore_27 : decode cX3_restore 27 = .ok (.iload_n 2, 1) := dk_28 (dk_at dksX3_restore_1 3 rfl rfl)
theorem dX3_restore_28 : decode cX3_restore 28 = .ok (.bipush 44, 2) := dk_16 44 (dk_at dksX3_restore_1 4 rfl rfl)
theorem dX3_restore_30 : decode cX3_restore 30 = .ok (.if_icmp .ge 26, 3) := dk_162 0 26 (dk_at dksX3_restore_1 6 rfl rfl)
theorem dX3_restore_33 : decode cX3_restore 33 = .ok (.aload_n 0, 1) := dk_42 (dk_at dksX3_restore_1 9 rfl rfl)
theorem dX3_restore_34 : decode cX3_restore 34 = .ok (.getfield 19, 3) := dk_180 0 19 (dk_at dksX3_restore_1 10 rfl rfl)
theorem dX3_restore_37 : decode cX3_restore 37 = .ok (.iload_n 2, 1) := dk_28 (dk_at dksX3_restore_1 13 rfl rfl)
theorem dX3_restore_38 : decode cX3_restore 38 = .ok (.aload_n 0, 1) := dk_42 (dk_at dksX3_restore_1 14 rfl rfl)
theorem dX3_restore_39 : decode cX3_restore 39 = .ok (.getfield 57, 3) := dk_180 0 57 (dk_at dksX3_restore_1 15 rfl rfl)
theorem dX3_restore_42 : decode cX3_restore 42 = .ok (.bipush 44, 2) := dk_16 44 (dk_at dksX3_restore_1 18 rfl rfl)
theorem dX3_restore_44 : decode cX3_restore 44 = .ok (.iload_n 1, 1) := dk_27 (dk_at dksX3_restore_1 20 rfl rfl)
theorem dX3_restore_45 : decode cX3_restore 45 = .ok (.imul, 1) := dk_104 (dk_at dksX3_restore_1 21 rfl rfl)
theorem dX3_restore_46 : decode cX3_restore 46 = .ok (.iload_n 2, 1) := dk_28 (dk_at dksX3_restore_1 22 rfl rfl)
theorem dX3_restore_47 : decode cX3_restore 47 = .ok (.iadd, 1) := dk_96 (dk_at dksX3_restore_1 23 rfl rfl)
theorem dX3_restore_48 : decode cX3_restore 48 = .ok (.iaload, 1) := dk_46 (dk_at dksX3_restore_2 0 rfl rfl)
theorem dX3_restore_49 : decode cX3_restore 49 = .ok (.iastore, 1) := dk_79 (dk_at dksX3_restore_2 1 rfl rfl)
theorem dX3_restore_50 : decode cX3_restore 50 = .ok (.iinc 2 1, 3) := dk_132 2 1 (dk_at dksX3_restore_2 2 rfl rfl)
theorem dX3_restore_53 : decode cX3_restore 53 = .ok (.goto (-26), 3) := dk_167 255 230 (dk_at dksX3_restore_2 5 rfl rfl)
theorem dX3_restore_56 : decode cX3_restore 56 = .ok (.aload_n 0, 1) := dk_42 (dk_at dksX3_restore_2 8 rfl rfl)
theorem dX3_restore_57 : decode cX3_restore 57 = .ok (.iconst 0, 1) := dk_3 (dk_at dksX3_restore_2 9 rfl rfl)
theorem dX3_restore_58 : decode cX3_restore 58 = .ok (.putfield 175, 3) := dk_181 0 175 (dk_at dksX3_restore_2 10 rfl rfl)
theorem dX3_restore_61 : decode cX3_restore 61 = .ok (.iconst 1, 1) := dk_4 (dk_at dksX3_restore_2 13 rfl rfl)
theorem dX3_restore_62 : decode cX3_restore 62 = .ok (.ireturn, 1) := dk_172 (dk_at dksX3_restore_2 14 rfl rfl)
abbrev cX3_kind : ByteArray := prog_16_method_71_code
def yX3_kind : MethodName := ⟨RX3, "kind", "(I)I"⟩
def dkwX3_kind_0 : List UInt8 := [42, 27, 182, 0, 182, 153, 0, 14, 42, 180, 0, 19, 27, 184, 0, 89, 167, 0, 5, 18, 80, 172]
abbrev dktX3_kind_0 : List UInt8 := dkwX3_kind_0 ++ []
theorem dksX3_kind_0 : cX3_kind.data.toList.drop 0 = dktX3_kind_0 := by decide +kernel
theorem dX3_kind_0 : decode cX3_kind 0 = .ok (.aload_n 0, 1) := dk_42 (dk_at dksX3_kind_0 0 rfl rfl)
theorem dX3_kind_1 : decode cX3_kind 1 = .ok (.iload_n 1, 1) := dk_27 (dk_at dksX3_kind_0 1 rfl rfl)
theorem dX3_kind_2 : decode cX3_kind 2 = .ok (.invokevirtual 182, 3) := dk_182 0 182 (dk_at dksX3_kind_0 2 rfl rfl)
theorem dX3_kind_5 : decode cX3_kind 5 = .ok (.ifCond .eq 14, 3) := dk_153 0 14 (dk_at dksX3_kind_0 5 rfl rfl)
theorem dX3_kind_8 : decode cX3_kind 8 = .ok (.aload_n 0, 1) := dk_42 (dk_at dksX3_kind_0 8 rfl rfl)
theorem dX3_kind_9 : decode cX3_kind 9 = .ok (.getfield 19, 3) := dk_180 0 19 (dk_at dksX3_kind_0 9 rfl rfl)
theorem dX3_kind_12 : decode cX3_kind 12 = .ok (.iload_n 1, 1) := dk_27 (dk_at dksX3_kind_0 12 rfl rfl)
theorem dX3_kind_13 : decode cX3_kind 13 = .ok (.invokestatic 89, 3) := dk_184 0 89 (dk_at dksX3_kind_0 13 rfl rfl)
theorem dX3_kind_16 : decode cX3_kind 16 = .ok (.goto 5, 3) := dk_167 0 5 (dk_at dksX3_kind_0 16 rfl rfl)
theorem dX3_kind_19 : decode cX3_kind 19 = .ok (.ldc 80, 2) := dk_18 80 (dk_at dksX3_kind_0 19 rfl rfl)
theorem dX3_kind_21 : decode cX3_kind 21 = .ok (.ireturn, 1) := dk_172 (dk_at dksX3_kind_0 21 rfl rfl)
abbrev cX3_as : ByteArray := prog_16_method_72_code
def yX3_as : MethodName := ⟨RX3, "as", "(II)I"⟩
def dkwX3_as_2 : List UInt8 := [6, 182, 0, 81, 172]
abbrev dktX3_as_2 : List UInt8 := dkwX3_as_2 ++ []
def dkwX3_as_1 : List UInt8 := [3, 181, 0, 63, 42, 180, 0, 19, 27, 184, 0, 89, 28, 184, 1, 44, 153, 0, 7, 27, 167, 0, 8, 42]
abbrev dktX3_as_1 : List UInt8 := dkwX3_as_1 ++ dktX3_as_2
def dkwX3_as_0 : List UInt8 := [42, 27, 182, 0, 182, 153, 0, 15, 28, 133, 9, 20, 0, 195, 184, 0, 70, 154, 0, 6, 18, 80, 172, 42]
abbrev dktX3_as_0 : List UInt8 := dkwX3_as_0 ++ dktX3_as_1
theorem dksX3_as_0 : cX3_as.data.toList.drop 0 = dktX3_as_0 := by decide +kernel
theorem dksX3_as_1 : cX3_as.data.toList.drop 24 = dktX3_as_1 := dk_seg dksX3_as_0 24 rfl rfl
theorem dksX3_as_2 : cX3_as.data.toList.drop 48 = dktX3_as_2 := dk_seg dksX3_as_1 24 rfl rfl
theorem dX3_as_0 : decode cX3_as 0 = .ok (.aload_n 0, 1) := dk_42 (dk_at dksX3_as_0 0 rfl rfl)
theorem dX3_as_1 : decode cX3_as 1 = .ok (.iload_n 1, 1) := dk_27 (dk_at dksX3_as_0 1 rfl rfl)
theorem dX3_as_2 : decode cX3_as 2 = .ok (.invokevirtual 182, 3) := dk_182 0 182 (dk_at dksX3_as_0 2 rfl rfl)
theorem dX3_as_5 : decode cX3_as 5 = .ok (.ifCond .eq 15, 3) := dk_153 0 15 (dk_at dksX3_as_0 5 rfl rfl)
theorem dX3_as_8 : decode cX3_as 8 = .ok (.iload_n 2, 1) := dk_28 (dk_at dksX3_as_0 8 rfl rfl)
theorem dX3_as_9 : decode cX3_as 9 = .ok (.i2l, 1) := dk_133 (dk_at dksX3_as_0 9 rfl rfl)
theorem dX3_as_10 : decode cX3_as 10 = .ok (.lconst 0, 1) := dk_9 (dk_at dksX3_as_0 10 rfl rfl)
theorem dX3_as_11 : decode cX3_as 11 = .ok (.ldc2_w 195, 3) := dk_20 0 195 (dk_at dksX3_as_0 11 rfl rfl)
theorem dX3_as_14 : decode cX3_as 14 = .ok (.invokestatic 70, 3) := dk_184 0 70 (dk_at dksX3_as_0 14 rfl rfl)
theorem dX3_as_17 : decode cX3_as 17 = .ok (.ifCond .ne 6, 3) := dk_154 0 6 (dk_at dksX3_as_0 17 rfl rfl)
theorem dX3_as_20 : decode cX3_as 20 = .ok (.ldc 80, 2) := dk_18 80 (dk_at dksX3_as_0 20 rfl rfl)
theorem dX3_as_22 : decode cX3_as 22 = .ok (.ireturn, 1) := dk_172 (dk_at dksX3_as_0 22 rfl rfl)
theorem dX3_as_23 : decode cX3_as 23 = .ok (.aload_n 0, 1) := dk_42 (dk_at dksX3_as_0 23 rfl rfl)
theorem dX3_as_24 : decode cX3_as 24 = .ok (.iconst 0, 1) := dk_3 (dk_at dksX3_as_1 0 rfl rfl)
theorem dX3_as_25 : decode cX3_as 25 = .ok (.putfield 63, 3) := dk_181 0 63 (dk_at dksX3_as_1 1 rfl rfl)
theorem dX3_as_28 : decode cX3_as 28 = .ok (.aload_n 0, 1) := dk_42 (dk_at dksX3_as_1 4 rfl rfl)
theorem dX3_as_29 : decode cX3_as 29 = .ok (.getfield 19, 3) := dk_180 0 19 (dk_at dksX3_as_1 5 rfl rfl)
theorem dX3_as_32 : decode cX3_as 32 = .ok (.iload_n 1, 1) := dk_27 (dk_at dksX3_as_1 8 rfl rfl)
theorem dX3_as_33 : decode cX3_as 33 = .ok (.invokestatic 89, 3) := dk_184 0 89 (dk_at dksX3_as_1 9 rfl rfl)
theorem dX3_as_36 : decode cX3_as 36 = .ok (.iload_n 2, 1) := dk_28 (dk_at dksX3_as_1 12 rfl rfl)
theorem dX3_as_37 : decode cX3_as 37 = .ok (.invokestatic 300, 3) := dk_184 1 44 (dk_at dksX3_as_1 13 rfl rfl)
theorem dX3_as_40 : decode cX3_as 40 = .ok (.ifCond .eq 7, 3) := dk_153 0 7 (dk_at dksX3_as_1 16 rfl rfl)
theorem dX3_as_43 : decode cX3_as 43 = .ok (.iload_n 1, 1) := dk_27 (dk_at dksX3_as_1 19 rfl rfl)
theorem dX3_as_44 : decode cX3_as 44 = .ok (.goto 8, 3) := dk_167 0 8 (dk_at dksX3_as_1 20 rfl rfl)
theorem dX3_as_47 : decode cX3_as 47 = .ok (.aload_n 0, 1) := dk_42 (dk_at dksX3_as_1 23 rfl rfl)
theorem dX3_as_48 : decode cX3_as 48 = .ok (.iconst 3, 1) := dk_6 (dk_at dksX3_as_2 0 rfl rfl)
theorem dX3_as_49 : decode cX3_as 49 = .ok (.invokevirtual 81, 3) := dk_182 0 81 (dk_at dksX3_as_2 1 rfl rfl)
theorem dX3_as_52 : decode cX3_as 52 = .ok (.ireturn, 1) := dk_172 (dk_at dksX3_as_2 4 rfl rfl)
abbrev cX3_isOf : ByteArray := prog_16_method_70_code
def yX3_isOf : MethodName := ⟨RX3, "isOf", "(II)Z"⟩
def dkwX3_isOf_1 : List UInt8 := [26, 8, 160, 0, 7, 4, 167, 0, 4, 3, 172]
abbrev dktX3_isOf_1 : List UInt8 := dkwX3_isOf_1 ++ []
def dkwX3_isOf_0 : List UInt8 := [27, 153, 0, 28, 26, 27, 159, 0, 23, 27, 4, 160, 0, 8, 26, 7, 161, 0, 13, 27, 7, 160, 0, 12]
abbrev dktX3_isOf_0 : List UInt8 := dkwX3_isOf_0 ++ dktX3_isOf_1
theorem dksX3_isOf_0 : cX3_isOf.data.toList.drop 0 = dktX3_isOf_0 := by decide +kernel
theorem dksX3_isOf_1 : cX3_isOf.data.toList.drop 24 = dktX3_isOf_1 := dk_seg dksX3_isOf_0 24 rfl rfl
theorem dX3_isOf_0 : decode cX3_isOf 0 = .ok (.iload_n 1, 1) := dk_27 (dk_at dksX3_isOf_0 0 rfl rfl)
theorem dX3_isOf_1 : decode cX3_isOf 1 = .ok (.ifCond .eq 28, 3) := dk_153 0 28 (dk_at dksX3_isOf_0 1 rfl rfl)
theorem dX3_isOf_4 : decode cX3_isOf 4 = .ok (.iload_n 0, 1) := dk_26 (dk_at dksX3_isOf_0 4 rfl rfl)
theorem dX3_isOf_5 : decode cX3_isOf 5 = .ok (.iload_n 1, 1) := dk_27 (dk_at dksX3_isOf_0 5 rfl rfl)
theorem dX3_isOf_6 : decode cX3_isOf 6 = .ok (.if_icmp .eq 23, 3) := dk_159 0 23 (dk_at dksX3_isOf_0 6 rfl rfl)
theorem dX3_isOf_9 : decode cX3_isOf 9 = .ok (.iload_n 1, 1) := dk_27 (dk_at dksX3_isOf_0 9 rfl rfl)
theorem dX3_isOf_10 : decode cX3_isOf 10 = .ok (.iconst 1, 1) := dk_4 (dk_at dksX3_isOf_0 10 rfl rfl)
theorem dX3_isOf_11 : decode cX3_isOf 11 = .ok (.if_icmp .ne 8, 3) := dk_160 0 8 (dk_at dksX3_isOf_0 11 rfl rfl)
theorem dX3_isOf_14 : decode cX3_isOf 14 = .ok (.iload_n 0, 1) := dk_26 (dk_at dksX3_isOf_0 14 rfl rfl)
theorem dX3_isOf_15 : decode cX3_isOf 15 = .ok (.iconst 4, 1) := dk_7 (dk_at dksX3_isOf_0 15 rfl rfl)
theorem dX3_isOf_16 : decode cX3_isOf 16 = .ok (.if_icmp .lt 13, 3) := dk_161 0 13 (dk_at dksX3_isOf_0 16 rfl rfl)
theorem dX3_isOf_19 : decode cX3_isOf 19 = .ok (.iload_n 1, 1) := dk_27 (dk_at dksX3_isOf_0 19 rfl rfl)
theorem dX3_isOf_20 : decode cX3_isOf 20 = .ok (.iconst 4, 1) := dk_7 (dk_at dksX3_isOf_0 20 rfl rfl)
theorem dX3_isOf_21 : decode cX3_isOf 21 = .ok (.if_icmp .ne 12, 3) := dk_160 0 12 (dk_at dksX3_isOf_0 21 rfl rfl)
theorem dX3_isOf_24 : decode cX3_isOf 24 = .ok (.iload_n 0, 1) := dk_26 (dk_at dksX3_isOf_1 0 rfl rfl)
theorem dX3_isOf_25 : decode cX3_isOf 25 = .ok (.iconst 5, 1) := dk_8 (dk_at dksX3_isOf_1 1 rfl rfl)
theorem dX3_isOf_26 : decode cX3_isOf 26 = .ok (.if_icmp .ne 7, 3) := dk_160 0 7 (dk_at dksX3_isOf_1 2 rfl rfl)
theorem dX3_isOf_29 : decode cX3_isOf 29 = .ok (.iconst 1, 1) := dk_4 (dk_at dksX3_isOf_1 5 rfl rfl)
theorem dX3_isOf_30 : decode cX3_isOf 30 = .ok (.goto 4, 3) := dk_167 0 4 (dk_at dksX3_isOf_1 6 rfl rfl)
theorem dX3_isOf_33 : decode cX3_isOf 33 = .ok (.iconst 0, 1) := dk_3 (dk_at dksX3_isOf_1 9 rfl rfl)
theorem dX3_isOf_34 : decode cX3_isOf 34 = .ok (.ireturn, 1) := dk_172 (dk_at dksX3_isOf_1 10 rfl rfl)
abbrev cX3_ask : ByteArray := prog_16_method_78_code
def yX3_ask : MethodName := ⟨RX3, "ask", "(II)I"⟩
def dkwX3_ask_1 : List UInt8 := [181, 1, 47, 28, 154, 0, 11, 42, 27, 182, 1, 62, 167, 0, 8, 42, 27, 182, 1, 59, 172]
abbrev dktX3_ask_1 : List UInt8 := dkwX3_ask_1 ++ []
def dkwX3_ask_0 : List UInt8 := [42, 27, 182, 0, 182, 153, 0, 13, 28, 133, 9, 10, 184, 0, 70, 154, 0, 6, 18, 80, 172, 42, 3]
abbrev dktX3_ask_0 : List UInt8 := dkwX3_ask_0 ++ dktX3_ask_1
theorem dksX3_ask_0 : cX3_ask.data.toList.drop 0 = dktX3_ask_0 := by decide +kernel
theorem dksX3_ask_1 : cX3_ask.data.toList.drop 23 = dktX3_ask_1 := dk_seg dksX3_ask_0 23 rfl rfl
theorem dX3_ask_0 : decode cX3_ask 0 = .ok (.aload_n 0, 1) := dk_42 (dk_at dksX3_ask_0 0 rfl rfl)
theorem dX3_ask_1 : decode cX3_ask 1 = .ok (.iload_n 1, 1) := dk_27 (dk_at dksX3_ask_0 1 rfl rfl)
theorem dX3_ask_2 : decode cX3_ask 2 = .ok (.invokevirtual 182, 3) := dk_182 0 182 (dk_at dksX3_ask_0 2 rfl rfl)
theorem dX3_ask_5 : decode cX3_ask 5 = .ok (.ifCond .eq 13, 3) := dk_153 0 13 (dk_at dksX3_ask_0 5 rfl rfl)
theorem dX3_ask_8 : decode cX3_ask 8 = .ok (.iload_n 2, 1) := dk_28 (dk_at dksX3_ask_0 8 rfl rfl)
theorem dX3_ask_9 : decode cX3_ask 9 = .ok (.i2l, 1) := dk_133 (dk_at dksX3_ask_0 9 rfl rfl)
theorem dX3_ask_10 : decode cX3_ask 10 = .ok (.lconst 0, 1) := dk_9 (dk_at dksX3_ask_0 10 rfl rfl)
theorem dX3_ask_11 : decode cX3_ask 11 = .ok (.lconst 1, 1) := dk_10 (dk_at dksX3_ask_0 11 rfl rfl)
theorem dX3_ask_12 : decode cX3_ask 12 = .ok (.invokestatic 70, 3) := dk_184 0 70 (dk_at dksX3_ask_0 12 rfl rfl)
theorem dX3_ask_15 : decode cX3_ask 15 = .ok (.ifCond .ne 6, 3) := dk_154 0 6 (dk_at dksX3_ask_0 15 rfl rfl)
theorem dX3_ask_18 : decode cX3_ask 18 = .ok (.ldc 80, 2) := dk_18 80 (dk_at dksX3_ask_0 18 rfl rfl)
theorem dX3_ask_20 : decode cX3_ask 20 = .ok (.ireturn, 1) := dk_172 (dk_at dksX3_ask_0 20 rfl rfl)
theorem dX3_ask_21 : decode cX3_ask 21 = .ok (.aload_n 0, 1) := dk_42 (dk_at dksX3_ask_0 21 rfl rfl)
theorem dX3_ask_22 : decode cX3_ask 22 = .ok (.iconst 0, 1) := dk_3 (dk_at dksX3_ask_0 22 rfl rfl)
theorem dX3_ask_23 : decode cX3_ask 23 = .ok (.putfield 303, 3) := dk_181 1 47 (dk_at dksX3_ask_1 0 rfl rfl)
theorem dX3_ask_26 : decode cX3_ask 26 = .ok (.iload_n 2, 1) := dk_28 (dk_at dksX3_ask_1 3 rfl rfl)
theorem dX3_ask_27 : decode cX3_ask 27 = .ok (.ifCond .ne 11, 3) := dk_154 0 11 (dk_at dksX3_ask_1 4 rfl rfl)
theorem dX3_ask_30 : decode cX3_ask 30 = .ok (.aload_n 0, 1) := dk_42 (dk_at dksX3_ask_1 7 rfl rfl)
theorem dX3_ask_31 : decode cX3_ask 31 = .ok (.iload_n 1, 1) := dk_27 (dk_at dksX3_ask_1 8 rfl rfl)
theorem dX3_ask_32 : decode cX3_ask 32 = .ok (.invokevirtual 318, 3) := dk_182 1 62 (dk_at dksX3_ask_1 9 rfl rfl)
theorem dX3_ask_35 : decode cX3_ask 35 = .ok (.goto 8, 3) := dk_167 0 8 (dk_at dksX3_ask_1 12 rfl rfl)
theorem dX3_ask_38 : decode cX3_ask 38 = .ok (.aload_n 0, 1) := dk_42 (dk_at dksX3_ask_1 15 rfl rfl)
theorem dX3_ask_39 : decode cX3_ask 39 = .ok (.iload_n 1, 1) := dk_27 (dk_at dksX3_ask_1 16 rfl rfl)
theorem dX3_ask_40 : decode cX3_ask 40 = .ok (.invokevirtual 315, 3) := dk_182 1 59 (dk_at dksX3_ask_1 17 rfl rfl)
theorem dX3_ask_43 : decode cX3_ask 43 = .ok (.ireturn, 1) := dk_172 (dk_at dksX3_ask_1 20 rfl rfl)
abbrev cX3_askedSize : ByteArray := prog_16_method_77_code
def yX3_askedSize : MethodName := ⟨RX3, "askedSize", "(I)I"⟩
def dkwX3_askedSize_2 : List UInt8 := [182, 1, 59, 96, 62, 28, 5, 160, 0, 8, 29, 116, 167, 0, 4, 29, 172]
abbrev dktX3_askedSize_2 : List UInt8 := dkwX3_askedSize_2 ++ []
def dkwX3_askedSize_1 : List UInt8 := [160, 0, 9, 42, 16, 12, 182, 1, 50, 42, 16, 11, 182, 1, 50, 42, 27, 182, 1, 53, 62, 29, 42, 27]
abbrev dktX3_askedSize_1 : List UInt8 := dkwX3_askedSize_1 ++ dktX3_askedSize_2
def dkwX3_askedSize_0 : List UInt8 := [42, 180, 0, 19, 27, 184, 0, 89, 61, 28, 7, 161, 0, 9, 42, 27, 182, 1, 56, 172, 28, 5]
abbrev dktX3_askedSize_0 : List UInt8 := dkwX3_askedSize_0 ++ dktX3_askedSize_1
theorem dksX3_askedSize_0 : cX3_askedSize.data.toList.drop 0 = dktX3_askedSize_0 := by decide +kernel
theorem dksX3_askedSize_1 : cX3_askedSize.data.toList.drop 22 = dktX3_askedSize_1 := dk_seg dksX3_askedSize_0 22 rfl rfl
theorem dksX3_askedSize_2 : cX3_askedSize.data.toList.drop 46 = dktX3_askedSize_2 := dk_seg dksX3_askedSize_1 24 rfl rfl
theorem dX3_askedSize_0 : decode cX3_askedSize 0 = .ok (.aload_n 0, 1) := dk_42 (dk_at dksX3_askedSize_0 0 rfl rfl)
theorem dX3_askedSize_1 : decode cX3_askedSize 1 = .ok (.getfield 19, 3) := dk_180 0 19 (dk_at dksX3_askedSize_0 1 rfl rfl)
theorem dX3_askedSize_4 : decode cX3_askedSize 4 = .ok (.iload_n 1, 1) := dk_27 (dk_at dksX3_askedSize_0 4 rfl rfl)
theorem dX3_askedSize_5 : decode cX3_askedSize 5 = .ok (.invokestatic 89, 3) := dk_184 0 89 (dk_at dksX3_askedSize_0 5 rfl rfl)
theorem dX3_askedSize_8 : decode cX3_askedSize 8 = .ok (.istore_n 2, 1) := dk_61 (dk_at dksX3_askedSize_0 8 rfl rfl)
theorem dX3_askedSize_9 : decode cX3_askedSize 9 = .ok (.iload_n 2, 1) := dk_28 (dk_at dksX3_askedSize_0 9 rfl rfl)
theorem dX3_askedSize_10 : decode cX3_askedSize 10 = .ok (.iconst 4, 1) := dk_7 (dk_at dksX3_askedSize_0 10 rfl rfl)
theorem dX3_askedSize_11 : decode cX3_askedSize 11 = .ok (.if_icmp .lt 9, 3) := dk_161 0 9 (dk_at dksX3_askedSize_0 11 rfl rfl)
theorem dX3_askedSize_14 : decode cX3_askedSize 14 = .ok (.aload_n 0, 1) := dk_42 (dk_at dksX3_askedSize_0 14 rfl rfl)
theorem dX3_askedSize_15 : decode cX3_askedSize 15 = .ok (.iload_n 1, 1) := dk_27 (dk_at dksX3_askedSize_0 15 rfl rfl)
theorem dX3_askedSize_16 : decode cX3_askedSize 16 = .ok (.invokevirtual 312, 3) := dk_182 1 56 (dk_at dksX3_askedSize_0 16 rfl rfl)
theorem dX3_askedSize_19 : decode cX3_askedSize 19 = .ok (.ireturn, 1) := dk_172 (dk_at dksX3_askedSize_0 19 rfl rfl)
theorem dX3_askedSize_20 : decode cX3_askedSize 20 = .ok (.iload_n 2, 1) := dk_28 (dk_at dksX3_askedSize_0 20 rfl rfl)
theorem dX3_askedSize_21 : decode cX3_askedSize 21 = .ok (.iconst 2, 1) := dk_5 (dk_at dksX3_askedSize_0 21 rfl rfl)
theorem dX3_askedSize_22 : decode cX3_askedSize 22 = .ok (.if_icmp .ne 9, 3) := dk_160 0 9 (dk_at dksX3_askedSize_1 0 rfl rfl)
theorem dX3_askedSize_25 : decode cX3_askedSize 25 = .ok (.aload_n 0, 1) := dk_42 (dk_at dksX3_askedSize_1 3 rfl rfl)
theorem dX3_askedSize_26 : decode cX3_askedSize 26 = .ok (.bipush 12, 2) := dk_16 12 (dk_at dksX3_askedSize_1 4 rfl rfl)
theorem dX3_askedSize_28 : decode cX3_askedSize 28 = .ok (.invokevirtual 306, 3) := dk_182 1 50 (dk_at dksX3_askedSize_1 6 rfl rfl)
theorem dX3_askedSize_31 : decode cX3_askedSize 31 = .ok (.aload_n 0, 1) := dk_42 (dk_at dksX3_askedSize_1 9 rfl rfl)
theorem dX3_askedSize_32 : decode cX3_askedSize 32 = .ok (.bipush 11, 2) := dk_16 11 (dk_at dksX3_askedSize_1 10 rfl rfl)
theorem dX3_askedSize_34 : decode cX3_askedSize 34 = .ok (.invokevirtual 306, 3) := dk_182 1 50 (dk_at dksX3_askedSize_1 12 rfl rfl)
theorem dX3_askedSize_37 : decode cX3_askedSize 37 = .ok (.aload_n 0, 1) := dk_42 (dk_at dksX3_askedSize_1 15 rfl rfl)
theorem dX3_askedSize_38 : decode cX3_askedSize 38 = .ok (.iload_n 1, 1) := dk_27 (dk_at dksX3_askedSize_1 16 rfl rfl)
theorem dX3_askedSize_39 : decode cX3_askedSize 39 = .ok (.invokevirtual 309, 3) := dk_182 1 53 (dk_at dksX3_askedSize_1 17 rfl rfl)
theorem dX3_askedSize_42 : decode cX3_askedSize 42 = .ok (.istore_n 3, 1) := dk_62 (dk_at dksX3_askedSize_1 20 rfl rfl)
theorem dX3_askedSize_43 : decode cX3_askedSize 43 = .ok (.iload_n 3, 1) := dk_29 (dk_at dksX3_askedSize_1 21 rfl rfl)
theorem dX3_askedSize_44 : decode cX3_askedSize 44 = .ok (.aload_n 0, 1) := dk_42 (dk_at dksX3_askedSize_1 22 rfl rfl)
theorem dX3_askedSize_45 : decode cX3_askedSize 45 = .ok (.iload_n 1, 1) := dk_27 (dk_at dksX3_askedSize_1 23 rfl rfl)
theorem dX3_askedSize_46 : decode cX3_askedSize 46 = .ok (.invokevirtual 315, 3) := dk_182 1 59 (dk_at dksX3_askedSize_2 0 rfl rfl)
theorem dX3_askedSize_49 : decode cX3_askedSize 49 = .ok (.iadd, 1) := dk_96 (dk_at dksX3_askedSize_2 3 rfl rfl)
theorem dX3_askedSize_50 : decode cX3_askedSize 50 = .ok (.istore_n 3, 1) := dk_62 (dk_at dksX3_askedSize_2 4 rfl rfl)
theorem dX3_askedSize_51 : decode cX3_askedSize 51 = .ok (.iload_n 2, 1) := dk_28 (dk_at dksX3_askedSize_2 5 rfl rfl)
theorem dX3_askedSize_52 : decode cX3_askedSize 52 = .ok (.iconst 2, 1) := dk_5 (dk_at dksX3_askedSize_2 6 rfl rfl)
theorem dX3_askedSize_53 : decode cX3_askedSize 53 = .ok (.if_icmp .ne 8, 3) := dk_160 0 8 (dk_at dksX3_askedSize_2 7 rfl rfl)
theorem dX3_askedSize_56 : decode cX3_askedSize 56 = .ok (.iload_n 3, 1) := dk_29 (dk_at dksX3_askedSize_2 10 rfl rfl)
theorem dX3_askedSize_57 : decode cX3_askedSize 57 = .ok (.ineg, 1) := dk_116 (dk_at dksX3_askedSize_2 11 rfl rfl)
theorem dX3_askedSize_58 : decode cX3_askedSize 58 = .ok (.goto 4, 3) := dk_167 0 4 (dk_at dksX3_askedSize_2 12 rfl rfl)
theorem dX3_askedSize_61 : decode cX3_askedSize 61 = .ok (.iload_n 3, 1) := dk_29 (dk_at dksX3_askedSize_2 15 rfl rfl)
theorem dX3_askedSize_62 : decode cX3_askedSize 62 = .ok (.ireturn, 1) := dk_172 (dk_at dksX3_askedSize_2 16 rfl rfl)
abbrev cX3_fixedSize : ByteArray := prog_16_method_75_code
def yX3_fixedSize : MethodName := ⟨RX3, "fixedSize", "(I)I"⟩
def dkwX3_fixedSize_2 : List UInt8 := [5, 29, 104, 167, 0, 4, 29, 172]
abbrev dktX3_fixedSize_2 : List UInt8 := dkwX3_fixedSize_2 ++ []
def dkwX3_fixedSize_1 : List UInt8 := [16, 14, 182, 1, 50, 42, 16, 13, 182, 1, 50, 42, 27, 182, 1, 53, 16, 100, 100, 62, 28, 153, 0, 9]
abbrev dktX3_fixedSize_1 : List UInt8 := dkwX3_fixedSize_1 ++ dktX3_fixedSize_2
def dkwX3_fixedSize_0 : List UInt8 := [42, 180, 0, 19, 27, 184, 0, 89, 8, 160, 0, 7, 4, 167, 0, 4, 3, 61, 28, 153, 0, 9, 42]
abbrev dktX3_fixedSize_0 : List UInt8 := dkwX3_fixedSize_0 ++ dktX3_fixedSize_1
theorem dksX3_fixedSize_0 : cX3_fixedSize.data.toList.drop 0 = dktX3_fixedSize_0 := by decide +kernel
theorem dksX3_fixedSize_1 : cX3_fixedSize.data.toList.drop 23 = dktX3_fixedSize_1 := dk_seg dksX3_fixedSize_0 23 rfl rfl
theorem dksX3_fixedSize_2 : cX3_fixedSize.data.toList.drop 47 = dktX3_fixedSize_2 := dk_seg dksX3_fixedSize_1 24 rfl rfl
theorem dX3_fixedSize_0 : decode cX3_fixedSize 0 = .ok (.aload_n 0, 1) := dk_42 (dk_at dksX3_fixedSize_0 0 rfl rfl)
theorem dX3_fixedSize_1 : decode cX3_fixedSize 1 = .ok (.getfield 19, 3) := dk_180 0 19 (dk_at dksX3_fixedSize_0 1 rfl rfl)
theorem dX3_fixedSize_4 : decode cX3_fixedSize 4 = .ok (.iload_n 1, 1) := dk_27 (dk_at dksX3_fixedSize_0 4 rfl rfl)
theorem dX3_fixedSize_5 : decode cX3_fixedSize 5 = .ok (.invokestatic 89, 3) := dk_184 0 89 (dk_at dksX3_fixedSize_0 5 rfl rfl)
theorem dX3_fixedSize_8 : decode cX3_fixedSize 8 = .ok (.iconst 5, 1) := dk_8 (dk_at dksX3_fixedSize_0 8 rfl rfl)
theorem dX3_fixedSize_9 : decode cX3_fixedSize 9 = .ok (.if_icmp .ne 7, 3) := dk_160 0 7 (dk_at dksX3_fixedSize_0 9 rfl rfl)
theorem dX3_fixedSize_12 : decode cX3_fixedSize 12 = .ok (.iconst 1, 1) := dk_4 (dk_at dksX3_fixedSize_0 12 rfl rfl)
theorem dX3_fixedSize_13 : decode cX3_fixedSize 13 = .ok (.goto 4, 3) := dk_167 0 4 (dk_at dksX3_fixedSize_0 13 rfl rfl)
theorem dX3_fixedSize_16 : decode cX3_fixedSize 16 = .ok (.iconst 0, 1) := dk_3 (dk_at dksX3_fixedSize_0 16 rfl rfl)
theorem dX3_fixedSize_17 : decode cX3_fixedSize 17 = .ok (.istore_n 2, 1) := dk_61 (dk_at dksX3_fixedSize_0 17 rfl rfl)
theorem dX3_fixedSize_18 : decode cX3_fixedSize 18 = .ok (.iload_n 2, 1) := dk_28 (dk_at dksX3_fixedSize_0 18 rfl rfl)
theorem dX3_fixedSize_19 : decode cX3_fixedSize 19 = .ok (.ifCond .eq 9, 3) := dk_153 0 9 (dk_at dksX3_fixedSize_0 19 rfl rfl)
theorem dX3_fixedSize_22 : decode cX3_fixedSize 22 = .ok (.aload_n 0, 1) := dk_42 (dk_at dksX3_fixedSize_0 22 rfl rfl)
theorem dX3_fixedSize_23 : decode cX3_fixedSize 23 = .ok (.bipush 14, 2) := dk_16 14 (dk_at dksX3_fixedSize_1 0 rfl rfl)
theorem dX3_fixedSize_25 : decode cX3_fixedSize 25 = .ok (.invokevirtual 306, 3) := dk_182 1 50 (dk_at dksX3_fixedSize_1 2 rfl rfl)
theorem dX3_fixedSize_28 : decode cX3_fixedSize 28 = .ok (.aload_n 0, 1) := dk_42 (dk_at dksX3_fixedSize_1 5 rfl rfl)
theorem dX3_fixedSize_29 : decode cX3_fixedSize 29 = .ok (.bipush 13, 2) := dk_16 13 (dk_at dksX3_fixedSize_1 6 rfl rfl)
theorem dX3_fixedSize_31 : decode cX3_fixedSize 31 = .ok (.invokevirtual 306, 3) := dk_182 1 50 (dk_at dksX3_fixedSize_1 8 rfl rfl)
theorem dX3_fixedSize_34 : decode cX3_fixedSize 34 = .ok (.aload_n 0, 1) := dk_42 (dk_at dksX3_fixedSize_1 11 rfl rfl)
theorem dX3_fixedSize_35 : decode cX3_fixedSize 35 = .ok (.iload_n 1, 1) := dk_27 (dk_at dksX3_fixedSize_1 12 rfl rfl)
theorem dX3_fixedSize_36 : decode cX3_fixedSize 36 = .ok (.invokevirtual 309, 3) := dk_182 1 53 (dk_at dksX3_fixedSize_1 13 rfl rfl)
theorem dX3_fixedSize_39 : decode cX3_fixedSize 39 = .ok (.bipush 100, 2) := dk_16 100 (dk_at dksX3_fixedSize_1 16 rfl rfl)
theorem dX3_fixedSize_41 : decode cX3_fixedSize 41 = .ok (.isub, 1) := dk_100 (dk_at dksX3_fixedSize_1 18 rfl rfl)
theorem dX3_fixedSize_42 : decode cX3_fixedSize 42 = .ok (.istore_n 3, 1) := dk_62 (dk_at dksX3_fixedSize_1 19 rfl rfl)
theorem dX3_fixedSize_43 : decode cX3_fixedSize 43 = .ok (.iload_n 2, 1) := dk_28 (dk_at dksX3_fixedSize_1 20 rfl rfl)
theorem dX3_fixedSize_44 : decode cX3_fixedSize 44 = .ok (.ifCond .eq 9, 3) := dk_153 0 9 (dk_at dksX3_fixedSize_1 21 rfl rfl)
theorem dX3_fixedSize_47 : decode cX3_fixedSize 47 = .ok (.iconst 2, 1) := dk_5 (dk_at dksX3_fixedSize_2 0 rfl rfl)
theorem dX3_fixedSize_48 : decode cX3_fixedSize 48 = .ok (.iload_n 3, 1) := dk_29 (dk_at dksX3_fixedSize_2 1 rfl rfl)
theorem dX3_fixedSize_49 : decode cX3_fixedSize 49 = .ok (.imul, 1) := dk_104 (dk_at dksX3_fixedSize_2 2 rfl rfl)
theorem dX3_fixedSize_50 : decode cX3_fixedSize 50 = .ok (.goto 4, 3) := dk_167 0 4 (dk_at dksX3_fixedSize_2 3 rfl rfl)
theorem dX3_fixedSize_53 : decode cX3_fixedSize 53 = .ok (.iload_n 3, 1) := dk_29 (dk_at dksX3_fixedSize_2 6 rfl rfl)
theorem dX3_fixedSize_54 : decode cX3_fixedSize 54 = .ok (.ireturn, 1) := dk_172 (dk_at dksX3_fixedSize_2 7 rfl rfl)
abbrev cX3_began : ByteArray := prog_16_method_73_code
def yX3_began : MethodName := ⟨RX3, "began", "(I)V"⟩
def dkwX3_began_1 : List UInt8 := [4, 96, 181, 1, 47, 177]
abbrev dktX3_began_1 : List UInt8 := dkwX3_began_1 ++ []
def dkwX3_began_0 : List UInt8 := [42, 180, 1, 47, 16, 16, 162, 0, 23, 42, 180, 0, 60, 42, 180, 1, 47, 27, 79, 42, 89, 180, 1, 47]
abbrev dktX3_began_0 : List UInt8 := dkwX3_began_0 ++ dktX3_began_1
theorem dksX3_began_0 : cX3_began.data.toList.drop 0 = dktX3_began_0 := by decide +kernel
theorem dksX3_began_1 : cX3_began.data.toList.drop 24 = dktX3_began_1 := dk_seg dksX3_began_0 24 rfl rfl
theorem dX3_began_0 : decode cX3_began 0 = .ok (.aload_n 0, 1) := dk_42 (dk_at dksX3_began_0 0 rfl rfl)
theorem dX3_began_1 : decode cX3_began 1 = .ok (.getfield 303, 3) := dk_180 1 47 (dk_at dksX3_began_0 1 rfl rfl)
theorem dX3_began_4 : decode cX3_began 4 = .ok (.bipush 16, 2) := dk_16 16 (dk_at dksX3_began_0 4 rfl rfl)
theorem dX3_began_6 : decode cX3_began 6 = .ok (.if_icmp .ge 23, 3) := dk_162 0 23 (dk_at dksX3_began_0 6 rfl rfl)
theorem dX3_began_9 : decode cX3_began 9 = .ok (.aload_n 0, 1) := dk_42 (dk_at dksX3_began_0 9 rfl rfl)
theorem dX3_began_10 : decode cX3_began 10 = .ok (.getfield 60, 3) := dk_180 0 60 (dk_at dksX3_began_0 10 rfl rfl)
theorem dX3_began_13 : decode cX3_began 13 = .ok (.aload_n 0, 1) := dk_42 (dk_at dksX3_began_0 13 rfl rfl)
theorem dX3_began_14 : decode cX3_began 14 = .ok (.getfield 303, 3) := dk_180 1 47 (dk_at dksX3_began_0 14 rfl rfl)
theorem dX3_began_17 : decode cX3_began 17 = .ok (.iload_n 1, 1) := dk_27 (dk_at dksX3_began_0 17 rfl rfl)
theorem dX3_began_18 : decode cX3_began 18 = .ok (.iastore, 1) := dk_79 (dk_at dksX3_began_0 18 rfl rfl)
theorem dX3_began_19 : decode cX3_began 19 = .ok (.aload_n 0, 1) := dk_42 (dk_at dksX3_began_0 19 rfl rfl)
theorem dX3_began_20 : decode cX3_began 20 = .ok (.dup, 1) := dk_89 (dk_at dksX3_began_0 20 rfl rfl)
theorem dX3_began_21 : decode cX3_began 21 = .ok (.getfield 303, 3) := dk_180 1 47 (dk_at dksX3_began_0 21 rfl rfl)
theorem dX3_began_24 : decode cX3_began 24 = .ok (.iconst 1, 1) := dk_4 (dk_at dksX3_began_1 0 rfl rfl)
theorem dX3_began_25 : decode cX3_began 25 = .ok (.iadd, 1) := dk_96 (dk_at dksX3_began_1 1 rfl rfl)
theorem dX3_began_26 : decode cX3_began 26 = .ok (.putfield 303, 3) := dk_181 1 47 (dk_at dksX3_began_1 2 rfl rfl)
theorem dX3_began_29 : decode cX3_began 29 = .ok (.return_, 1) := dk_177 (dk_at dksX3_began_1 5 rfl rfl)
abbrev cX3_lentSize : ByteArray := prog_16_method_74_code
def yX3_lentSize : MethodName := ⟨RX3, "lentSize", "(I)I"⟩
def dkwX3_lentSize_0 : List UInt8 := [42, 16, 10, 182, 1, 50, 42, 180, 0, 19, 16, 12, 16, 8, 27, 104, 96, 4, 96, 46, 172]
abbrev dktX3_lentSize_0 : List UInt8 := dkwX3_lentSize_0 ++ []
theorem dksX3_lentSize_0 : cX3_lentSize.data.toList.drop 0 = dktX3_lentSize_0 := by decide +kernel
theorem dX3_lentSize_0 : decode cX3_lentSize 0 = .ok (.aload_n 0, 1) := dk_42 (dk_at dksX3_lentSize_0 0 rfl rfl)
theorem dX3_lentSize_1 : decode cX3_lentSize 1 = .ok (.bipush 10, 2) := dk_16 10 (dk_at dksX3_lentSize_0 1 rfl rfl)
theorem dX3_lentSize_3 : decode cX3_lentSize 3 = .ok (.invokevirtual 306, 3) := dk_182 1 50 (dk_at dksX3_lentSize_0 3 rfl rfl)
theorem dX3_lentSize_6 : decode cX3_lentSize 6 = .ok (.aload_n 0, 1) := dk_42 (dk_at dksX3_lentSize_0 6 rfl rfl)
theorem dX3_lentSize_7 : decode cX3_lentSize 7 = .ok (.getfield 19, 3) := dk_180 0 19 (dk_at dksX3_lentSize_0 7 rfl rfl)
theorem dX3_lentSize_10 : decode cX3_lentSize 10 = .ok (.bipush 12, 2) := dk_16 12 (dk_at dksX3_lentSize_0 10 rfl rfl)
theorem dX3_lentSize_12 : decode cX3_lentSize 12 = .ok (.bipush 8, 2) := dk_16 8 (dk_at dksX3_lentSize_0 12 rfl rfl)
theorem dX3_lentSize_14 : decode cX3_lentSize 14 = .ok (.iload_n 1, 1) := dk_27 (dk_at dksX3_lentSize_0 14 rfl rfl)
theorem dX3_lentSize_15 : decode cX3_lentSize 15 = .ok (.imul, 1) := dk_104 (dk_at dksX3_lentSize_0 15 rfl rfl)
theorem dX3_lentSize_16 : decode cX3_lentSize 16 = .ok (.iadd, 1) := dk_96 (dk_at dksX3_lentSize_0 16 rfl rfl)
theorem dX3_lentSize_17 : decode cX3_lentSize 17 = .ok (.iconst 1, 1) := dk_4 (dk_at dksX3_lentSize_0 17 rfl rfl)
theorem dX3_lentSize_18 : decode cX3_lentSize 18 = .ok (.iadd, 1) := dk_96 (dk_at dksX3_lentSize_0 18 rfl rfl)
theorem dX3_lentSize_19 : decode cX3_lentSize 19 = .ok (.iaload, 1) := dk_46 (dk_at dksX3_lentSize_0 19 rfl rfl)
theorem dX3_lentSize_20 : decode cX3_lentSize 20 = .ok (.ireturn, 1) := dk_172 (dk_at dksX3_lentSize_0 20 rfl rfl)
abbrev cX3_markOf : ByteArray := prog_16_method_76_code
def yX3_markOf : MethodName := ⟨RX3, "markOf", "(I)I"⟩
def dkwX3_markOf_4 : List UInt8 := [17, 3, 232, 100, 167, 0, 6, 5, 29, 104, 172]
abbrev dktX3_markOf_4 : List UInt8 := dkwX3_markOf_4 ++ []
def dkwX3_markOf_3 : List UInt8 := [180, 0, 19, 27, 184, 0, 93, 96, 62, 28, 4, 160, 0, 7, 29, 167, 0, 19, 28, 6, 160, 0, 11, 29]
abbrev dktX3_markOf_3 : List UInt8 := dkwX3_markOf_3 ++ dktX3_markOf_4
def dkwX3_markOf_2 : List UInt8 := [167, 0, 5, 16, 24, 182, 1, 50, 42, 16, 21, 182, 1, 50, 42, 16, 20, 182, 1, 50, 27, 42]
abbrev dktX3_markOf_2 : List UInt8 := dkwX3_markOf_2 ++ dktX3_markOf_3
def dkwX3_markOf_1 : List UInt8 := [182, 1, 50, 27, 42, 27, 182, 1, 56, 100, 172, 28, 4, 159, 0, 19, 42, 28, 6, 160, 0, 8, 16, 22]
abbrev dktX3_markOf_1 : List UInt8 := dkwX3_markOf_1 ++ dktX3_markOf_2
def dkwX3_markOf_0 : List UInt8 := [42, 180, 0, 19, 27, 184, 0, 89, 61, 28, 7, 161, 0, 23, 42, 16, 23, 182, 1, 50, 42, 16, 20]
abbrev dktX3_markOf_0 : List UInt8 := dkwX3_markOf_0 ++ dktX3_markOf_1
theorem dksX3_markOf_0 : cX3_markOf.data.toList.drop 0 = dktX3_markOf_0 := by decide +kernel
theorem dksX3_markOf_1 : cX3_markOf.data.toList.drop 23 = dktX3_markOf_1 := dk_seg dksX3_markOf_0 23 rfl rfl
theorem dksX3_markOf_2 : cX3_markOf.data.toList.drop 47 = dktX3_markOf_2 := dk_seg dksX3_markOf_1 24 rfl rfl
theorem dksX3_markOf_3 : cX3_markOf.data.toList.drop 69 = dktX3_markOf_3 := dk_seg dksX3_markOf_2 22 rfl rfl
theorem dksX3_markOf_4 : cX3_markOf.data.toList.drop 93 = dktX3_markOf_4 := dk_seg dksX3_markOf_3 24 rfl rfl
theorem dX3_markOf_0 : decode cX3_markOf 0 = .ok (.aload_n 0, 1) := dk_42 (dk_at dksX3_markOf_0 0 rfl rfl)
theorem dX3_markOf_1 : decode cX3_markOf 1 = .ok (.getfield 19, 3) := dk_180 0 19 (dk_at dksX3_markOf_0 1 rfl rfl)
theorem dX3_markOf_4 : decode cX3_markOf 4 = .ok (.iload_n 1, 1) := dk_27 (dk_at dksX3_markOf_0 4 rfl rfl)
theorem dX3_markOf_5 : decode cX3_markOf 5 = .ok (.invokestatic 89, 3) := dk_184 0 89 (dk_at dksX3_markOf_0 5 rfl rfl)
theorem dX3_markOf_8 : decode cX3_markOf 8 = .ok (.istore_n 2, 1) := dk_61 (dk_at dksX3_markOf_0 8 rfl rfl)
theorem dX3_markOf_9 : decode cX3_markOf 9 = .ok (.iload_n 2, 1) := dk_28 (dk_at dksX3_markOf_0 9 rfl rfl)
theorem dX3_markOf_10 : decode cX3_markOf 10 = .ok (.iconst 4, 1) := dk_7 (dk_at dksX3_markOf_0 10 rfl rfl)
theorem dX3_markOf_11 : decode cX3_markOf 11 = .ok (.if_icmp .lt 23, 3) := dk_161 0 23 (dk_at dksX3_markOf_0 11 rfl rfl)
theorem dX3_markOf_14 : decode cX3_markOf 14 = .ok (.aload_n 0, 1) := dk_42 (dk_at dksX3_markOf_0 14 rfl rfl)
theorem dX3_markOf_15 : decode cX3_markOf 15 = .ok (.bipush 23, 2) := dk_16 23 (dk_at dksX3_markOf_0 15 rfl rfl)
theorem dX3_markOf_17 : decode cX3_markOf 17 = .ok (.invokevirtual 306, 3) := dk_182 1 50 (dk_at dksX3_markOf_0 17 rfl rfl)
theorem dX3_markOf_20 : decode cX3_markOf 20 = .ok (.aload_n 0, 1) := dk_42 (dk_at dksX3_markOf_0 20 rfl rfl)
theorem dX3_markOf_21 : decode cX3_markOf 21 = .ok (.bipush 20, 2) := dk_16 20 (dk_at dksX3_markOf_0 21 rfl rfl)
theorem dX3_markOf_23 : decode cX3_markOf 23 = .ok (.invokevirtual 306, 3) := dk_182 1 50 (dk_at dksX3_markOf_1 0 rfl rfl)
theorem dX3_markOf_26 : decode cX3_markOf 26 = .ok (.iload_n 1, 1) := dk_27 (dk_at dksX3_markOf_1 3 rfl rfl)
theorem dX3_markOf_27 : decode cX3_markOf 27 = .ok (.aload_n 0, 1) := dk_42 (dk_at dksX3_markOf_1 4 rfl rfl)
theorem dX3_markOf_28 : decode cX3_markOf 28 = .ok (.iload_n 1, 1) := dk_27 (dk_at dksX3_markOf_1 5 rfl rfl)
theorem dX3_markOf_29 : decode cX3_markOf 29 = .ok (.invokevirtual 312, 3) := dk_182 1 56 (dk_at dksX3_markOf_1 6 rfl rfl)
theorem dX3_markOf_32 : decode cX3_markOf 32 = .ok (.isub, 1) := dk_100 (dk_at dksX3_markOf_1 9 rfl rfl)
theorem dX3_markOf_33 : decode cX3_markOf 33 = .ok (.ireturn, 1) := dk_172 (dk_at dksX3_markOf_1 10 rfl rfl)
theorem dX3_markOf_34 : decode cX3_markOf 34 = .ok (.iload_n 2, 1) := dk_28 (dk_at dksX3_markOf_1 11 rfl rfl)
theorem dX3_markOf_35 : decode cX3_markOf 35 = .ok (.iconst 1, 1) := dk_4 (dk_at dksX3_markOf_1 12 rfl rfl)
theorem dX3_markOf_36 : decode cX3_markOf 36 = .ok (.if_icmp .eq 19, 3) := dk_159 0 19 (dk_at dksX3_markOf_1 13 rfl rfl)
theorem dX3_markOf_39 : decode cX3_markOf 39 = .ok (.aload_n 0, 1) := dk_42 (dk_at dksX3_markOf_1 16 rfl rfl)
theorem dX3_markOf_40 : decode cX3_markOf 40 = .ok (.iload_n 2, 1) := dk_28 (dk_at dksX3_markOf_1 17 rfl rfl)
theorem dX3_markOf_41 : decode cX3_markOf 41 = .ok (.iconst 3, 1) := dk_6 (dk_at dksX3_markOf_1 18 rfl rfl)
theorem dX3_markOf_42 : decode cX3_markOf 42 = .ok (.if_icmp .ne 8, 3) := dk_160 0 8 (dk_at dksX3_markOf_1 19 rfl rfl)
theorem dX3_markOf_45 : decode cX3_markOf 45 = .ok (.bipush 22, 2) := dk_16 22 (dk_at dksX3_markOf_1 22 rfl rfl)
theorem dX3_markOf_47 : decode cX3_markOf 47 = .ok (.goto 5, 3) := dk_167 0 5 (dk_at dksX3_markOf_2 0 rfl rfl)
theorem dX3_markOf_50 : decode cX3_markOf 50 = .ok (.bipush 24, 2) := dk_16 24 (dk_at dksX3_markOf_2 3 rfl rfl)
theorem dX3_markOf_52 : decode cX3_markOf 52 = .ok (.invokevirtual 306, 3) := dk_182 1 50 (dk_at dksX3_markOf_2 5 rfl rfl)
theorem dX3_markOf_55 : decode cX3_markOf 55 = .ok (.aload_n 0, 1) := dk_42 (dk_at dksX3_markOf_2 8 rfl rfl)
theorem dX3_markOf_56 : decode cX3_markOf 56 = .ok (.bipush 21, 2) := dk_16 21 (dk_at dksX3_markOf_2 9 rfl rfl)
theorem dX3_markOf_58 : decode cX3_markOf 58 = .ok (.invokevirtual 306, 3) := dk_182 1 50 (dk_at dksX3_markOf_2 11 rfl rfl)
theorem dX3_markOf_61 : decode cX3_markOf 61 = .ok (.aload_n 0, 1) := dk_42 (dk_at dksX3_markOf_2 14 rfl rfl)
theorem dX3_markOf_62 : decode cX3_markOf 62 = .ok (.bipush 20, 2) := dk_16 20 (dk_at dksX3_markOf_2 15 rfl rfl)
theorem dX3_markOf_64 : decode cX3_markOf 64 = .ok (.invokevirtual 306, 3) := dk_182 1 50 (dk_at dksX3_markOf_2 17 rfl rfl)
theorem dX3_markOf_67 : decode cX3_markOf 67 = .ok (.iload_n 1, 1) := dk_27 (dk_at dksX3_markOf_2 20 rfl rfl)
theorem dX3_markOf_68 : decode cX3_markOf 68 = .ok (.aload_n 0, 1) := dk_42 (dk_at dksX3_markOf_2 21 rfl rfl)
theorem dX3_markOf_69 : decode cX3_markOf 69 = .ok (.getfield 19, 3) := dk_180 0 19 (dk_at dksX3_markOf_3 0 rfl rfl)
theorem dX3_markOf_72 : decode cX3_markOf 72 = .ok (.iload_n 1, 1) := dk_27 (dk_at dksX3_markOf_3 3 rfl rfl)
theorem dX3_markOf_73 : decode cX3_markOf 73 = .ok (.invokestatic 93, 3) := dk_184 0 93 (dk_at dksX3_markOf_3 4 rfl rfl)
theorem dX3_markOf_76 : decode cX3_markOf 76 = .ok (.iadd, 1) := dk_96 (dk_at dksX3_markOf_3 7 rfl rfl)
theorem dX3_markOf_77 : decode cX3_markOf 77 = .ok (.istore_n 3, 1) := dk_62 (dk_at dksX3_markOf_3 8 rfl rfl)
theorem dX3_markOf_78 : decode cX3_markOf 78 = .ok (.iload_n 2, 1) := dk_28 (dk_at dksX3_markOf_3 9 rfl rfl)
theorem dX3_markOf_79 : decode cX3_markOf 79 = .ok (.iconst 1, 1) := dk_4 (dk_at dksX3_markOf_3 10 rfl rfl)
theorem dX3_markOf_80 : decode cX3_markOf 80 = .ok (.if_icmp .ne 7, 3) := dk_160 0 7 (dk_at dksX3_markOf_3 11 rfl rfl)
theorem dX3_markOf_83 : decode cX3_markOf 83 = .ok (.iload_n 3, 1) := dk_29 (dk_at dksX3_markOf_3 14 rfl rfl)
theorem dX3_markOf_84 : decode cX3_markOf 84 = .ok (.goto 19, 3) := dk_167 0 19 (dk_at dksX3_markOf_3 15 rfl rfl)
theorem dX3_markOf_87 : decode cX3_markOf 87 = .ok (.iload_n 2, 1) := dk_28 (dk_at dksX3_markOf_3 18 rfl rfl)
theorem dX3_markOf_88 : decode cX3_markOf 88 = .ok (.iconst 3, 1) := dk_6 (dk_at dksX3_markOf_3 19 rfl rfl)
theorem dX3_markOf_89 : decode cX3_markOf 89 = .ok (.if_icmp .ne 11, 3) := dk_160 0 11 (dk_at dksX3_markOf_3 20 rfl rfl)
theorem dX3_markOf_92 : decode cX3_markOf 92 = .ok (.iload_n 3, 1) := dk_29 (dk_at dksX3_markOf_3 23 rfl rfl)
theorem dX3_markOf_93 : decode cX3_markOf 93 = .ok (.sipush 1000, 3) := dk_17 3 232 (dk_at dksX3_markOf_4 0 rfl rfl)
theorem dX3_markOf_96 : decode cX3_markOf 96 = .ok (.isub, 1) := dk_100 (dk_at dksX3_markOf_4 3 rfl rfl)
theorem dX3_markOf_97 : decode cX3_markOf 97 = .ok (.goto 6, 3) := dk_167 0 6 (dk_at dksX3_markOf_4 4 rfl rfl)
theorem dX3_markOf_100 : decode cX3_markOf 100 = .ok (.iconst 2, 1) := dk_5 (dk_at dksX3_markOf_4 7 rfl rfl)
theorem dX3_markOf_101 : decode cX3_markOf 101 = .ok (.iload_n 3, 1) := dk_29 (dk_at dksX3_markOf_4 8 rfl rfl)
theorem dX3_markOf_102 : decode cX3_markOf 102 = .ok (.imul, 1) := dk_104 (dk_at dksX3_markOf_4 9 rfl rfl)
theorem dX3_markOf_103 : decode cX3_markOf 103 = .ok (.ireturn, 1) := dk_172 (dk_at dksX3_markOf_4 10 rfl rfl)
abbrev cX3_trace : ByteArray := prog_16_method_79_code
def yX3_trace : MethodName := ⟨RX3, "trace", "(I)I"⟩
def dkwX3_trace_1 : List UInt8 := [167, 0, 5, 18, 124, 172]
abbrev dktX3_trace_1 : List UInt8 := dkwX3_trace_1 ++ []
def dkwX3_trace_0 : List UInt8 := [27, 133, 9, 42, 180, 1, 47, 4, 100, 133, 184, 0, 70, 153, 0, 12, 42, 180, 0, 60, 27, 46]
abbrev dktX3_trace_0 : List UInt8 := dkwX3_trace_0 ++ dktX3_trace_1
theorem dksX3_trace_0 : cX3_trace.data.toList.drop 0 = dktX3_trace_0 := by decide +kernel
theorem dksX3_trace_1 : cX3_trace.data.toList.drop 22 = dktX3_trace_1 := dk_seg dksX3_trace_0 22 rfl rfl
theorem dX3_trace_0 : decode cX3_trace 0 = .ok (.iload_n 1, 1) := dk_27 (dk_at dksX3_trace_0 0 rfl rfl)
theorem dX3_trace_1 : decode cX3_trace 1 = .ok (.i2l, 1) := dk_133 (dk_at dksX3_trace_0 1 rfl rfl)
theorem dX3_trace_2 : decode cX3_trace 2 = .ok (.lconst 0, 1) := dk_9 (dk_at dksX3_trace_0 2 rfl rfl)
theorem dX3_trace_3 : decode cX3_trace 3 = .ok (.aload_n 0, 1) := dk_42 (dk_at dksX3_trace_0 3 rfl rfl)
theorem dX3_trace_4 : decode cX3_trace 4 = .ok (.getfield 303, 3) := dk_180 1 47 (dk_at dksX3_trace_0 4 rfl rfl)
theorem dX3_trace_7 : decode cX3_trace 7 = .ok (.iconst 1, 1) := dk_4 (dk_at dksX3_trace_0 7 rfl rfl)
theorem dX3_trace_8 : decode cX3_trace 8 = .ok (.isub, 1) := dk_100 (dk_at dksX3_trace_0 8 rfl rfl)
theorem dX3_trace_9 : decode cX3_trace 9 = .ok (.i2l, 1) := dk_133 (dk_at dksX3_trace_0 9 rfl rfl)
theorem dX3_trace_10 : decode cX3_trace 10 = .ok (.invokestatic 70, 3) := dk_184 0 70 (dk_at dksX3_trace_0 10 rfl rfl)
theorem dX3_trace_13 : decode cX3_trace 13 = .ok (.ifCond .eq 12, 3) := dk_153 0 12 (dk_at dksX3_trace_0 13 rfl rfl)
theorem dX3_trace_16 : decode cX3_trace 16 = .ok (.aload_n 0, 1) := dk_42 (dk_at dksX3_trace_0 16 rfl rfl)
theorem dX3_trace_17 : decode cX3_trace 17 = .ok (.getfield 60, 3) := dk_180 0 60 (dk_at dksX3_trace_0 17 rfl rfl)
theorem dX3_trace_20 : decode cX3_trace 20 = .ok (.iload_n 1, 1) := dk_27 (dk_at dksX3_trace_0 20 rfl rfl)
theorem dX3_trace_21 : decode cX3_trace 21 = .ok (.iaload, 1) := dk_46 (dk_at dksX3_trace_0 21 rfl rfl)
theorem dX3_trace_22 : decode cX3_trace 22 = .ok (.goto 5, 3) := dk_167 0 5 (dk_at dksX3_trace_1 0 rfl rfl)
theorem dX3_trace_25 : decode cX3_trace 25 = .ok (.ldc 124, 2) := dk_18 124 (dk_at dksX3_trace_1 3 rfl rfl)
theorem dX3_trace_27 : decode cX3_trace 27 = .ok (.ireturn, 1) := dk_172 (dk_at dksX3_trace_1 5 rfl rfl)
abbrev cX3_count : ByteArray := prog_16_method_81_code
def yX3_count : MethodName := ⟨RX3, "count", "(I)I"⟩
def dkwX3_count_4 : List UInt8 := [182, 1, 65, 172, 42, 180, 0, 175, 172, 42, 180, 0, 109, 172, 18, 80, 172]
abbrev dktX3_count_4 : List UInt8 := dkwX3_count_4 ++ []
def dkwX3_count_3 : List UInt8 := [61, 132, 3, 1, 167, 255, 230, 28, 172, 42, 180, 0, 19, 3, 46, 172, 42, 180, 0, 19, 6, 46, 172, 42]
abbrev dktX3_count_3 : List UInt8 := dkwX3_count_3 ++ dktX3_count_4
def dkwX3_count_2 : List UInt8 := [3, 62, 29, 16, 8, 162, 0, 26, 28, 42, 180, 0, 7, 29, 46, 155, 0, 7, 4, 167, 0, 4, 3, 96]
abbrev dktX3_count_2 : List UInt8 := dkwX3_count_2 ++ dktX3_count_3
def dkwX3_count_1 : List UInt8 := [170, 0, 0, 0, 99, 0, 0, 0, 0, 0, 0, 0, 5, 0, 0, 0, 37, 0, 0, 0, 70, 0, 0, 0, 77, 0, 0, 0, 84, 0, 0, 0, 89, 0, 0, 0, 94]
abbrev dktX3_count_1 : List UInt8 := dkwX3_count_1 ++ dktX3_count_2
def dkwX3_count_0 : List UInt8 := [3, 61, 27]
abbrev dktX3_count_0 : List UInt8 := dkwX3_count_0 ++ dktX3_count_1
theorem dksX3_count_0 : cX3_count.data.toList.drop 0 = dktX3_count_0 := by decide +kernel
theorem dksX3_count_1 : cX3_count.data.toList.drop 3 = dktX3_count_1 := dk_seg dksX3_count_0 3 rfl rfl
theorem dksX3_count_2 : cX3_count.data.toList.drop 40 = dktX3_count_2 := dk_seg dksX3_count_1 37 rfl rfl
theorem dksX3_count_3 : cX3_count.data.toList.drop 64 = dktX3_count_3 := dk_seg dksX3_count_2 24 rfl rfl
theorem dksX3_count_4 : cX3_count.data.toList.drop 88 = dktX3_count_4 := dk_seg dksX3_count_3 24 rfl rfl
theorem dX3_count_0 : decode cX3_count 0 = .ok (.iconst 0, 1) := dk_3 (dk_at dksX3_count_0 0 rfl rfl)
theorem dX3_count_1 : decode cX3_count 1 = .ok (.istore_n 2, 1) := dk_61 (dk_at dksX3_count_0 1 rfl rfl)
theorem dX3_count_2 : decode cX3_count 2 = .ok (.iload_n 1, 1) := dk_27 (dk_at dksX3_count_0 2 rfl rfl)
theorem dX3_count_3 : decode cX3_count 3 = .ok (.tableswitch 99 0 5 #[37, 70, 77, 84, 89, 94], 37) := by decide +kernel
theorem dX3_count_40 : decode cX3_count 40 = .ok (.iconst 0, 1) := dk_3 (dk_at dksX3_count_2 0 rfl rfl)
theorem dX3_count_41 : decode cX3_count 41 = .ok (.istore_n 3, 1) := dk_62 (dk_at dksX3_count_2 1 rfl rfl)
theorem dX3_count_42 : decode cX3_count 42 = .ok (.iload_n 3, 1) := dk_29 (dk_at dksX3_count_2 2 rfl rfl)
theorem dX3_count_43 : decode cX3_count 43 = .ok (.bipush 8, 2) := dk_16 8 (dk_at dksX3_count_2 3 rfl rfl)
theorem dX3_count_45 : decode cX3_count 45 = .ok (.if_icmp .ge 26, 3) := dk_162 0 26 (dk_at dksX3_count_2 5 rfl rfl)
theorem dX3_count_48 : decode cX3_count 48 = .ok (.iload_n 2, 1) := dk_28 (dk_at dksX3_count_2 8 rfl rfl)
theorem dX3_count_49 : decode cX3_count 49 = .ok (.aload_n 0, 1) := dk_42 (dk_at dksX3_count_2 9 rfl rfl)
theorem dX3_count_50 : decode cX3_count 50 = .ok (.getfield 7, 3) := dk_180 0 7 (dk_at dksX3_count_2 10 rfl rfl)
theorem dX3_count_53 : decode cX3_count 53 = .ok (.iload_n 3, 1) := dk_29 (dk_at dksX3_count_2 13 rfl rfl)
theorem dX3_count_54 : decode cX3_count 54 = .ok (.iaload, 1) := dk_46 (dk_at dksX3_count_2 14 rfl rfl)
theorem dX3_count_55 : decode cX3_count 55 = .ok (.ifCond .lt 7, 3) := dk_155 0 7 (dk_at dksX3_count_2 15 rfl rfl)
theorem dX3_count_58 : decode cX3_count 58 = .ok (.iconst 1, 1) := dk_4 (dk_at dksX3_count_2 18 rfl rfl)
theorem dX3_count_59 : decode cX3_count 59 = .ok (.goto 4, 3) := dk_167 0 4 (dk_at dksX3_count_2 19 rfl rfl)
theorem dX3_count_62 : decode cX3_count 62 = .ok (.iconst 0, 1) := dk_3 (dk_at dksX3_count_2 22 rfl rfl)
theorem dX3_count_63 : decode cX3_count 63 = .ok (.iadd, 1) := dk_96 (dk_at dksX3_count_2 23 rfl rfl)
theorem dX3_count_64 : decode cX3_count 64 = .ok (.istore_n 2, 1) := dk_61 (dk_at dksX3_count_3 0 rfl rfl)
theorem dX3_count_65 : decode cX3_count 65 = .ok (.iinc 3 1, 3) := dk_132 3 1 (dk_at dksX3_count_3 1 rfl rfl)
theorem dX3_count_68 : decode cX3_count 68 = .ok (.goto (-26), 3) := dk_167 255 230 (dk_at dksX3_count_3 4 rfl rfl)
theorem dX3_count_71 : decode cX3_count 71 = .ok (.iload_n 2, 1) := dk_28 (dk_at dksX3_count_3 7 rfl rfl)
theorem dX3_count_72 : decode cX3_count 72 = .ok (.ireturn, 1) := dk_172 (dk_at dksX3_count_3 8 rfl rfl)
theorem dX3_count_73 : decode cX3_count 73 = .ok (.aload_n 0, 1) := dk_42 (dk_at dksX3_count_3 9 rfl rfl)
theorem dX3_count_74 : decode cX3_count 74 = .ok (.getfield 19, 3) := dk_180 0 19 (dk_at dksX3_count_3 10 rfl rfl)
theorem dX3_count_77 : decode cX3_count 77 = .ok (.iconst 0, 1) := dk_3 (dk_at dksX3_count_3 13 rfl rfl)
theorem dX3_count_78 : decode cX3_count 78 = .ok (.iaload, 1) := dk_46 (dk_at dksX3_count_3 14 rfl rfl)
theorem dX3_count_79 : decode cX3_count 79 = .ok (.ireturn, 1) := dk_172 (dk_at dksX3_count_3 15 rfl rfl)
theorem dX3_count_80 : decode cX3_count 80 = .ok (.aload_n 0, 1) := dk_42 (dk_at dksX3_count_3 16 rfl rfl)
theorem dX3_count_81 : decode cX3_count 81 = .ok (.getfield 19, 3) := dk_180 0 19 (dk_at dksX3_count_3 17 rfl rfl)
theorem dX3_count_84 : decode cX3_count 84 = .ok (.iconst 3, 1) := dk_6 (dk_at dksX3_count_3 20 rfl rfl)
theorem dX3_count_85 : decode cX3_count 85 = .ok (.iaload, 1) := dk_46 (dk_at dksX3_count_3 21 rfl rfl)
theorem dX3_count_86 : decode cX3_count 86 = .ok (.ireturn, 1) := dk_172 (dk_at dksX3_count_3 22 rfl rfl)
theorem dX3_count_87 : decode cX3_count 87 = .ok (.aload_n 0, 1) := dk_42 (dk_at dksX3_count_3 23 rfl rfl)
theorem dX3_count_88 : decode cX3_count 88 = .ok (.invokevirtual 321, 3) := dk_182 1 65 (dk_at dksX3_count_4 0 rfl rfl)
theorem dX3_count_91 : decode cX3_count 91 = .ok (.ireturn, 1) := dk_172 (dk_at dksX3_count_4 3 rfl rfl)
theorem dX3_count_92 : decode cX3_count 92 = .ok (.aload_n 0, 1) := dk_42 (dk_at dksX3_count_4 4 rfl rfl)
theorem dX3_count_93 : decode cX3_count 93 = .ok (.getfield 175, 3) := dk_180 0 175 (dk_at dksX3_count_4 5 rfl rfl)
theorem dX3_count_96 : decode cX3_count 96 = .ok (.ireturn, 1) := dk_172 (dk_at dksX3_count_4 8 rfl rfl)
theorem dX3_count_97 : decode cX3_count 97 = .ok (.aload_n 0, 1) := dk_42 (dk_at dksX3_count_4 9 rfl rfl)
theorem dX3_count_98 : decode cX3_count 98 = .ok (.getfield 109, 3) := dk_180 0 109 (dk_at dksX3_count_4 10 rfl rfl)
theorem dX3_count_101 : decode cX3_count 101 = .ok (.ireturn, 1) := dk_172 (dk_at dksX3_count_4 13 rfl rfl)
theorem dX3_count_102 : decode cX3_count 102 = .ok (.ldc 80, 2) := dk_18 80 (dk_at dksX3_count_4 14 rfl rfl)
theorem dX3_count_104 : decode cX3_count 104 = .ok (.ireturn, 1) := dk_172 (dk_at dksX3_count_4 16 rfl rfl)
abbrev cX3_lettersOfAll : ByteArray := prog_16_method_80_code
def yX3_lettersOfAll : MethodName := ⟨RX3, "lettersOfAll", "()I"⟩
def dkwX3_lettersOfAll_1 : List UInt8 := [60, 132, 2, 1, 167, 255, 232, 27, 172]
abbrev dktX3_lettersOfAll_1 : List UInt8 := dkwX3_lettersOfAll_1 ++ []
def dkwX3_lettersOfAll_0 : List UInt8 := [3, 60, 3, 61, 28, 42, 180, 0, 19, 3, 46, 162, 0, 20, 27, 42, 180, 0, 19, 28, 184, 0, 93, 96]
abbrev dktX3_lettersOfAll_0 : List UInt8 := dkwX3_lettersOfAll_0 ++ dktX3_lettersOfAll_1
theorem dksX3_lettersOfAll_0 : cX3_lettersOfAll.data.toList.drop 0 = dktX3_lettersOfAll_0 := by decide +kernel
theorem dksX3_lettersOfAll_1 : cX3_lettersOfAll.data.toList.drop 24 = dktX3_lettersOfAll_1 := dk_seg dksX3_lettersOfAll_0 24 rfl rfl
theorem dX3_lettersOfAll_0 : decode cX3_lettersOfAll 0 = .ok (.iconst 0, 1) := dk_3 (dk_at dksX3_lettersOfAll_0 0 rfl rfl)
theorem dX3_lettersOfAll_1 : decode cX3_lettersOfAll 1 = .ok (.istore_n 1, 1) := dk_60 (dk_at dksX3_lettersOfAll_0 1 rfl rfl)
theorem dX3_lettersOfAll_2 : decode cX3_lettersOfAll 2 = .ok (.iconst 0, 1) := dk_3 (dk_at dksX3_lettersOfAll_0 2 rfl rfl)
theorem dX3_lettersOfAll_3 : decode cX3_lettersOfAll 3 = .ok (.istore_n 2, 1) := dk_61 (dk_at dksX3_lettersOfAll_0 3 rfl rfl)
theorem dX3_lettersOfAll_4 : decode cX3_lettersOfAll 4 = .ok (.iload_n 2, 1) := dk_28 (dk_at dksX3_lettersOfAll_0 4 rfl rfl)
theorem dX3_lettersOfAll_5 : decode cX3_lettersOfAll 5 = .ok (.aload_n 0, 1) := dk_42 (dk_at dksX3_lettersOfAll_0 5 rfl rfl)
theorem dX3_lettersOfAll_6 : decode cX3_lettersOfAll 6 = .ok (.getfield 19, 3) := dk_180 0 19 (dk_at dksX3_lettersOfAll_0 6 rfl rfl)
theorem dX3_lettersOfAll_9 : decode cX3_lettersOfAll 9 = .ok (.iconst 0, 1) := dk_3 (dk_at dksX3_lettersOfAll_0 9 rfl rfl)
theorem dX3_lettersOfAll_10 : decode cX3_lettersOfAll 10 = .ok (.iaload, 1) := dk_46 (dk_at dksX3_lettersOfAll_0 10 rfl rfl)
theorem dX3_lettersOfAll_11 : decode cX3_lettersOfAll 11 = .ok (.if_icmp .ge 20, 3) := dk_162 0 20 (dk_at dksX3_lettersOfAll_0 11 rfl rfl)
theorem dX3_lettersOfAll_14 : decode cX3_lettersOfAll 14 = .ok (.iload_n 1, 1) := dk_27 (dk_at dksX3_lettersOfAll_0 14 rfl rfl)
theorem dX3_lettersOfAll_15 : decode cX3_lettersOfAll 15 = .ok (.aload_n 0, 1) := dk_42 (dk_at dksX3_lettersOfAll_0 15 rfl rfl)
theorem dX3_lettersOfAll_16 : decode cX3_lettersOfAll 16 = .ok (.getfield 19, 3) := dk_180 0 19 (dk_at dksX3_lettersOfAll_0 16 rfl rfl)
theorem dX3_lettersOfAll_19 : decode cX3_lettersOfAll 19 = .ok (.iload_n 2, 1) := dk_28 (dk_at dksX3_lettersOfAll_0 19 rfl rfl)
theorem dX3_lettersOfAll_20 : decode cX3_lettersOfAll 20 = .ok (.invokestatic 93, 3) := dk_184 0 93 (dk_at dksX3_lettersOfAll_0 20 rfl rfl)
theorem dX3_lettersOfAll_23 : decode cX3_lettersOfAll 23 = .ok (.iadd, 1) := dk_96 (dk_at dksX3_lettersOfAll_0 23 rfl rfl)
theorem dX3_lettersOfAll_24 : decode cX3_lettersOfAll 24 = .ok (.istore_n 1, 1) := dk_60 (dk_at dksX3_lettersOfAll_1 0 rfl rfl)
theorem dX3_lettersOfAll_25 : decode cX3_lettersOfAll 25 = .ok (.iinc 2 1, 3) := dk_132 2 1 (dk_at dksX3_lettersOfAll_1 1 rfl rfl)
theorem dX3_lettersOfAll_28 : decode cX3_lettersOfAll 28 = .ok (.goto (-24), 3) := dk_167 255 232 (dk_at dksX3_lettersOfAll_1 4 rfl rfl)
theorem dX3_lettersOfAll_31 : decode cX3_lettersOfAll 31 = .ok (.iload_n 1, 1) := dk_27 (dk_at dksX3_lettersOfAll_1 7 rfl rfl)
theorem dX3_lettersOfAll_32 : decode cX3_lettersOfAll 32 = .ok (.ireturn, 1) := dk_172 (dk_at dksX3_lettersOfAll_1 8 rfl rfl)
abbrev cX3_status : ByteArray := prog_16_method_82_code
def yX3_status : MethodName := ⟨RX3, "status", "()I"⟩
theorem dX3_status_0 : decode cX3_status 0 = .ok (.aload_n 0, 1) := by decide +kernel
theorem dX3_status_1 : decode cX3_status 1 = .ok (.getfield 63, 3) := by decide +kernel
theorem dX3_status_4 : decode cX3_status 4 = .ok (.ireturn, 1) := by decide +kernel
theorem q69 : (Jvm.Cond.initialized "InflatedRowsModel") ∈ lw_all := lw_g (lw_at lw_m1 7 rfl) rfl
theorem q707 : (Jvm.Cond.selects "InflatedRowsModel" ({ cls := "java/lang/Object", name := "getClass", desc := "()Ljava/lang/Class;" } : Jvm.MethodName) ({ cls := "java/lang/Object", name := "getClass", desc := "()Ljava/lang/Class;" } : Jvm.MethodName)) ∈ lw_all := lw_g (lw_at lw_m3 165 rfl) rfl
theorem q1292 : (Jvm.Cond.instantiable "InflatedRowsModel" (30 : Nat)) ∈ lw_all := lw_g (lw_at lw_m6 30 rfl) rfl
theorem q1294 : (Jvm.Cond.instanceMethod ({ cls := "InflatedRowsModel", name := "<init>", desc := "()V" } : Jvm.MethodName)) ∈ lw_all := lw_g (lw_at lw_m6 32 rfl) rfl
theorem q1295 : (Jvm.Cond.code ({ cls := "InflatedRowsModel", name := "<init>", desc := "()V" } : Jvm.MethodName) prog_16_method_1_code (1 : Nat) (Option.none : Option Jvm.ClassFile.FieldType)) ∈ lw_all := lw_g (lw_at lw_m6 33 rfl) rfl
theorem q1296 : (Jvm.Cond.methodLink "InflatedRowsModel" (1 : Nat) ({ cls := "java/lang/Object", name := "<init>", desc := "()V" } : Jvm.MethodName)) ∈ lw_all := lw_g (lw_at lw_m6 34 rfl) rfl
theorem q1297 : (Jvm.Cond.fieldLink "InflatedRowsModel" (63 : Nat) "InflatedRowsModel" "status" "I") ∈ lw_all := lw_g (lw_at lw_m6 35 rfl) rfl
theorem q1298 : (Jvm.Cond.fieldLink "InflatedRowsModel" (7 : Nat) "InflatedRowsModel" "lane" "[I") ∈ lw_all := lw_g (lw_at lw_m6 36 rfl) rfl
theorem q1299 : (Jvm.Cond.fieldLink "InflatedRowsModel" (13 : Nat) "InflatedRowsModel" "many" "[I") ∈ lw_all := lw_g (lw_at lw_m6 37 rfl) rfl
theorem q1300 : (Jvm.Cond.fieldLink "InflatedRowsModel" (16 : Nat) "InflatedRowsModel" "item" "[I") ∈ lw_all := lw_g (lw_at lw_m6 38 rfl) rfl
theorem q1301 : (Jvm.Cond.fieldLink "InflatedRowsModel" (19 : Nat) "InflatedRowsModel" "book" "[I") ∈ lw_all := lw_g (lw_at lw_m6 39 rfl) rfl
theorem q1302 : (Jvm.Cond.fieldLink "InflatedRowsModel" (22 : Nat) "InflatedRowsModel" "fresh" "[I") ∈ lw_all := lw_g (lw_at lw_m6 40 rfl) rfl
theorem q1303 : (Jvm.Cond.fieldLink "InflatedRowsModel" (25 : Nat) "InflatedRowsModel" "then" "[I") ∈ lw_all := lw_g (lw_at lw_m6 41 rfl) rfl
theorem q1304 : (Jvm.Cond.fieldLink "InflatedRowsModel" (28 : Nat) "InflatedRowsModel" "was" "[I") ∈ lw_all := lw_g (lw_at lw_m6 42 rfl) rfl
theorem q1305 : (Jvm.Cond.fieldLink "InflatedRowsModel" (175 : Nat) "InflatedRowsModel" "acts" "I") ∈ lw_all := lw_g (lw_at lw_m6 43 rfl) rfl
theorem q1306 : (Jvm.Cond.fieldLink "InflatedRowsModel" (31 : Nat) "InflatedRowsModel" "line" "[I") ∈ lw_all := lw_g (lw_at lw_m6 44 rfl) rfl
theorem q1307 : (Jvm.Cond.fieldLink "InflatedRowsModel" (34 : Nat) "InflatedRowsModel" "spare" "[I") ∈ lw_all := lw_g (lw_at lw_m6 45 rfl) rfl
theorem q1308 : (Jvm.Cond.fieldLink "InflatedRowsModel" (37 : Nat) "InflatedRowsModel" "tape" "[I") ∈ lw_all := lw_g (lw_at lw_m6 46 rfl) rfl
theorem q1309 : (Jvm.Cond.fieldLink "InflatedRowsModel" (109 : Nat) "InflatedRowsModel" "taped" "I") ∈ lw_all := lw_g (lw_at lw_m6 47 rfl) rfl
theorem q1310 : (Jvm.Cond.fieldLink "InflatedRowsModel" (121 : Nat) "InflatedRowsModel" "cursor" "I") ∈ lw_all := lw_g (lw_at lw_m6 48 rfl) rfl
theorem q1311 : (Jvm.Cond.fieldLink "InflatedRowsModel" (115 : Nat) "InflatedRowsModel" "start" "I") ∈ lw_all := lw_g (lw_at lw_m6 49 rfl) rfl
theorem q1312 : (Jvm.Cond.fieldLink "InflatedRowsModel" (136 : Nat) "InflatedRowsModel" "token" "I") ∈ lw_all := lw_g (lw_at lw_m6 50 rfl) rfl
theorem q1313 : (Jvm.Cond.fieldLink "InflatedRowsModel" (125 : Nat) "InflatedRowsModel" "value" "I") ∈ lw_all := lw_g (lw_at lw_m6 51 rfl) rfl
theorem q1314 : (Jvm.Cond.fieldLink "InflatedRowsModel" (112 : Nat) "InflatedRowsModel" "fault" "I") ∈ lw_all := lw_g (lw_at lw_m6 52 rfl) rfl
theorem q1315 : (Jvm.Cond.fieldLink "InflatedRowsModel" (118 : Nat) "InflatedRowsModel" "faultAt" "I") ∈ lw_all := lw_g (lw_at lw_m6 53 rfl) rfl
theorem q1316 : (Jvm.Cond.fieldLink "InflatedRowsModel" (171 : Nat) "InflatedRowsModel" "latest" "I") ∈ lw_all := lw_g (lw_at lw_m6 54 rfl) rfl
theorem q1317 : (Jvm.Cond.fieldLink "InflatedRowsModel" (152 : Nat) "InflatedRowsModel" "told" "I") ∈ lw_all := lw_g (lw_at lw_m6 55 rfl) rfl
theorem q1318 : (Jvm.Cond.fieldLink "InflatedRowsModel" (40 : Nat) "InflatedRowsModel" "number" "[J") ∈ lw_all := lw_g (lw_at lw_m6 56 rfl) rfl
theorem q1319 : (Jvm.Cond.fieldLink "InflatedRowsModel" (44 : Nat) "InflatedRowsModel" "next" "[J") ∈ lw_all := lw_g (lw_at lw_m6 57 rfl) rfl
theorem q1320 : (Jvm.Cond.fieldLink "InflatedRowsModel" (229 : Nat) "InflatedRowsModel" "isBeyond" "Z") ∈ lw_all := lw_g (lw_at lw_m6 58 rfl) rfl
theorem q1321 : (Jvm.Cond.fieldLink "InflatedRowsModel" (47 : Nat) "InflatedRowsModel" "ways" "[I") ∈ lw_all := lw_g (lw_at lw_m6 59 rfl) rfl
theorem q1322 : (Jvm.Cond.fieldLink "InflatedRowsModel" (50 : Nat) "InflatedRowsModel" "ends" "[Z") ∈ lw_all := lw_g (lw_at lw_m6 60 rfl) rfl
theorem q1323 : (Jvm.Cond.fieldLink "InflatedRowsModel" (54 : Nat) "InflatedRowsModel" "isKept" "[Z") ∈ lw_all := lw_g (lw_at lw_m6 61 rfl) rfl
theorem q1324 : (Jvm.Cond.fieldLink "InflatedRowsModel" (57 : Nat) "InflatedRowsModel" "kept" "[I") ∈ lw_all := lw_g (lw_at lw_m6 62 rfl) rfl
theorem q1325 : (Jvm.Cond.fieldLink "InflatedRowsModel" (60 : Nat) "InflatedRowsModel" "trace" "[I") ∈ lw_all := lw_g (lw_at lw_m6 63 rfl) rfl
theorem q1326 : (Jvm.Cond.fieldLink "InflatedRowsModel" (303 : Nat) "InflatedRowsModel" "traced" "I") ∈ lw_all := lw_g (lw_at lw_m6 64 rfl) rfl
theorem q1327 : (Jvm.Cond.lays "InflatedRowsModel" "InflatedRowsModel" "status" "I") ∈ lw_all := lw_g (lw_at lw_m6 65 rfl) rfl
theorem q1328 : (Jvm.Cond.soleField "InflatedRowsModel" "status") ∈ lw_all := lw_g (lw_at lw_m6 66 rfl) rfl
theorem q1329 : (Jvm.Cond.laysFinal "InflatedRowsModel" "InflatedRowsModel" "lane" "[I") ∈ lw_all := lw_g (lw_at lw_m6 67 rfl) rfl
theorem q1330 : (Jvm.Cond.soleField "InflatedRowsModel" "lane") ∈ lw_all := lw_g (lw_at lw_m6 68 rfl) rfl
theorem q1331 : (Jvm.Cond.laysFinal "InflatedRowsModel" "InflatedRowsModel" "many" "[I") ∈ lw_all := lw_g (lw_at lw_m6 69 rfl) rfl
theorem q1332 : (Jvm.Cond.soleField "InflatedRowsModel" "many") ∈ lw_all := lw_g (lw_at lw_m6 70 rfl) rfl
theorem q1333 : (Jvm.Cond.laysFinal "InflatedRowsModel" "InflatedRowsModel" "item" "[I") ∈ lw_all := lw_g (lw_at lw_m6 71 rfl) rfl
theorem q1334 : (Jvm.Cond.soleField "InflatedRowsModel" "item") ∈ lw_all := lw_g (lw_at lw_m6 72 rfl) rfl
theorem q1335 : (Jvm.Cond.laysFinal "InflatedRowsModel" "InflatedRowsModel" "book" "[I") ∈ lw_all := lw_g (lw_at lw_m6 73 rfl) rfl
theorem q1336 : (Jvm.Cond.soleField "InflatedRowsModel" "book") ∈ lw_all := lw_g (lw_at lw_m6 74 rfl) rfl
theorem q1337 : (Jvm.Cond.laysFinal "InflatedRowsModel" "InflatedRowsModel" "fresh" "[I") ∈ lw_all := lw_g (lw_at lw_m6 75 rfl) rfl
theorem q1338 : (Jvm.Cond.soleField "InflatedRowsModel" "fresh") ∈ lw_all := lw_g (lw_at lw_m6 76 rfl) rfl
theorem q1339 : (Jvm.Cond.laysFinal "InflatedRowsModel" "InflatedRowsModel" "then" "[I") ∈ lw_all := lw_g (lw_at lw_m6 77 rfl) rfl
theorem q1340 : (Jvm.Cond.soleField "InflatedRowsModel" "then") ∈ lw_all := lw_g (lw_at lw_m6 78 rfl) rfl
theorem q1341 : (Jvm.Cond.laysFinal "InflatedRowsModel" "InflatedRowsModel" "was" "[I") ∈ lw_all := lw_g (lw_at lw_m6 79 rfl) rfl
theorem q1342 : (Jvm.Cond.soleField "InflatedRowsModel" "was") ∈ lw_all := lw_g (lw_at lw_m6 80 rfl) rfl
theorem q1343 : (Jvm.Cond.lays "InflatedRowsModel" "InflatedRowsModel" "acts" "I") ∈ lw_all := lw_g (lw_at lw_m6 81 rfl) rfl
theorem q1344 : (Jvm.Cond.soleField "InflatedRowsModel" "acts") ∈ lw_all := lw_g (lw_at lw_m6 82 rfl) rfl
theorem q1345 : (Jvm.Cond.laysFinal "InflatedRowsModel" "InflatedRowsModel" "line" "[I") ∈ lw_all := lw_g (lw_at lw_m6 83 rfl) rfl
theorem q1346 : (Jvm.Cond.soleField "InflatedRowsModel" "line") ∈ lw_all := lw_g (lw_at lw_m6 84 rfl) rfl
theorem q1347 : (Jvm.Cond.laysFinal "InflatedRowsModel" "InflatedRowsModel" "spare" "[I") ∈ lw_all := lw_g (lw_at lw_m6 85 rfl) rfl
theorem q1348 : (Jvm.Cond.soleField "InflatedRowsModel" "spare") ∈ lw_all := lw_g (lw_at lw_m6 86 rfl) rfl
theorem q1349 : (Jvm.Cond.laysFinal "InflatedRowsModel" "InflatedRowsModel" "tape" "[I") ∈ lw_all := lw_g (lw_at lw_m6 87 rfl) rfl
theorem q1350 : (Jvm.Cond.soleField "InflatedRowsModel" "tape") ∈ lw_all := lw_g (lw_at lw_m6 88 rfl) rfl
theorem q1351 : (Jvm.Cond.lays "InflatedRowsModel" "InflatedRowsModel" "taped" "I") ∈ lw_all := lw_g (lw_at lw_m6 89 rfl) rfl
theorem q1352 : (Jvm.Cond.soleField "InflatedRowsModel" "taped") ∈ lw_all := lw_g (lw_at lw_m6 90 rfl) rfl
theorem q1353 : (Jvm.Cond.lays "InflatedRowsModel" "InflatedRowsModel" "cursor" "I") ∈ lw_all := lw_g (lw_at lw_m6 91 rfl) rfl
theorem q1354 : (Jvm.Cond.soleField "InflatedRowsModel" "cursor") ∈ lw_all := lw_g (lw_at lw_m6 92 rfl) rfl
theorem q1355 : (Jvm.Cond.lays "InflatedRowsModel" "InflatedRowsModel" "start" "I") ∈ lw_all := lw_g (lw_at lw_m6 93 rfl) rfl
theorem q1356 : (Jvm.Cond.soleField "InflatedRowsModel" "start") ∈ lw_all := lw_g (lw_at lw_m6 94 rfl) rfl
theorem q1357 : (Jvm.Cond.lays "InflatedRowsModel" "InflatedRowsModel" "token" "I") ∈ lw_all := lw_g (lw_at lw_m6 95 rfl) rfl
theorem q1358 : (Jvm.Cond.soleField "InflatedRowsModel" "token") ∈ lw_all := lw_g (lw_at lw_m6 96 rfl) rfl
theorem q1359 : (Jvm.Cond.lays "InflatedRowsModel" "InflatedRowsModel" "value" "I") ∈ lw_all := lw_g (lw_at lw_m6 97 rfl) rfl
theorem q1360 : (Jvm.Cond.soleField "InflatedRowsModel" "value") ∈ lw_all := lw_g (lw_at lw_m6 98 rfl) rfl
theorem q1361 : (Jvm.Cond.lays "InflatedRowsModel" "InflatedRowsModel" "fault" "I") ∈ lw_all := lw_g (lw_at lw_m6 99 rfl) rfl
theorem q1362 : (Jvm.Cond.soleField "InflatedRowsModel" "fault") ∈ lw_all := lw_g (lw_at lw_m6 100 rfl) rfl
theorem q1363 : (Jvm.Cond.lays "InflatedRowsModel" "InflatedRowsModel" "faultAt" "I") ∈ lw_all := lw_g (lw_at lw_m6 101 rfl) rfl
theorem q1364 : (Jvm.Cond.soleField "InflatedRowsModel" "faultAt") ∈ lw_all := lw_g (lw_at lw_m6 102 rfl) rfl
theorem q1365 : (Jvm.Cond.lays "InflatedRowsModel" "InflatedRowsModel" "latest" "I") ∈ lw_all := lw_g (lw_at lw_m6 103 rfl) rfl
theorem q1366 : (Jvm.Cond.soleField "InflatedRowsModel" "latest") ∈ lw_all := lw_g (lw_at lw_m6 104 rfl) rfl
theorem q1367 : (Jvm.Cond.lays "InflatedRowsModel" "InflatedRowsModel" "told" "I") ∈ lw_all := lw_g (lw_at lw_m6 105 rfl) rfl
theorem q1368 : (Jvm.Cond.soleField "InflatedRowsModel" "told") ∈ lw_all := lw_g (lw_at lw_m6 106 rfl) rfl
theorem q1369 : (Jvm.Cond.laysFinal "InflatedRowsModel" "InflatedRowsModel" "number" "[J") ∈ lw_all := lw_g (lw_at lw_m6 107 rfl) rfl
theorem q1370 : (Jvm.Cond.soleField "InflatedRowsModel" "number") ∈ lw_all := lw_g (lw_at lw_m6 108 rfl) rfl
theorem q1371 : (Jvm.Cond.laysFinal "InflatedRowsModel" "InflatedRowsModel" "next" "[J") ∈ lw_all := lw_g (lw_at lw_m6 109 rfl) rfl
theorem q1372 : (Jvm.Cond.soleField "InflatedRowsModel" "next") ∈ lw_all := lw_g (lw_at lw_m6 110 rfl) rfl
theorem q1373 : (Jvm.Cond.lays "InflatedRowsModel" "InflatedRowsModel" "isBeyond" "Z") ∈ lw_all := lw_g (lw_at lw_m6 111 rfl) rfl
theorem q1374 : (Jvm.Cond.soleField "InflatedRowsModel" "isBeyond") ∈ lw_all := lw_g (lw_at lw_m6 112 rfl) rfl
theorem q1375 : (Jvm.Cond.laysFinal "InflatedRowsModel" "InflatedRowsModel" "ways" "[I") ∈ lw_all := lw_g (lw_at lw_m6 113 rfl) rfl
theorem q1376 : (Jvm.Cond.soleField "InflatedRowsModel" "ways") ∈ lw_all := lw_g (lw_at lw_m6 114 rfl) rfl
theorem q1377 : (Jvm.Cond.laysFinal "InflatedRowsModel" "InflatedRowsModel" "ends" "[Z") ∈ lw_all := lw_g (lw_at lw_m6 115 rfl) rfl
theorem q1378 : (Jvm.Cond.soleField "InflatedRowsModel" "ends") ∈ lw_all := lw_g (lw_at lw_m6 116 rfl) rfl
theorem q1379 : (Jvm.Cond.laysFinal "InflatedRowsModel" "InflatedRowsModel" "isKept" "[Z") ∈ lw_all := lw_g (lw_at lw_m6 117 rfl) rfl
theorem q1380 : (Jvm.Cond.soleField "InflatedRowsModel" "isKept") ∈ lw_all := lw_g (lw_at lw_m6 118 rfl) rfl
theorem q1381 : (Jvm.Cond.laysFinal "InflatedRowsModel" "InflatedRowsModel" "kept" "[I") ∈ lw_all := lw_g (lw_at lw_m6 119 rfl) rfl
theorem q1382 : (Jvm.Cond.soleField "InflatedRowsModel" "kept") ∈ lw_all := lw_g (lw_at lw_m6 120 rfl) rfl
theorem q1383 : (Jvm.Cond.laysFinal "InflatedRowsModel" "InflatedRowsModel" "trace" "[I") ∈ lw_all := lw_g (lw_at lw_m6 121 rfl) rfl
theorem q1384 : (Jvm.Cond.soleField "InflatedRowsModel" "trace") ∈ lw_all := lw_g (lw_at lw_m6 122 rfl) rfl
theorem q1385 : (Jvm.Cond.lays "InflatedRowsModel" "InflatedRowsModel" "traced" "I") ∈ lw_all := lw_g (lw_at lw_m6 123 rfl) rfl
theorem q1386 : (Jvm.Cond.soleField "InflatedRowsModel" "traced") ∈ lw_all := lw_g (lw_at lw_m6 124 rfl) rfl
theorem q1387 : (Jvm.Cond.superclass "InflatedRowsModel" "java/lang/Object") ∈ lw_all := lw_g (lw_at lw_m6 125 rfl) rfl
theorem q1390 : (Jvm.Cond.instanceMethod ({ cls := "InflatedRowsModel", name := "row", desc := "(III)I" } : Jvm.MethodName)) ∈ lw_all := lw_g (lw_at lw_m6 128 rfl) rfl
theorem q1391 : (Jvm.Cond.selects "InflatedRowsModel" ({ cls := "InflatedRowsModel", name := "row", desc := "(III)I" } : Jvm.MethodName) ({ cls := "InflatedRowsModel", name := "row", desc := "(III)I" } : Jvm.MethodName)) ∈ lw_all := lw_g (lw_at lw_m6 129 rfl) rfl
theorem q1392 : (Jvm.Cond.code ({ cls := "InflatedRowsModel", name := "row", desc := "(III)I" } : Jvm.MethodName) prog_16_method_5_code (5 : Nat) (Option.some Jvm.ClassFile.FieldType.int)) ∈ lw_all := lw_g (lw_at lw_m6 130 rfl) rfl
theorem q1393 : (Jvm.Cond.methodLink "InflatedRowsModel" (74 : Nat) ({ cls := "InflatedRowsModel", name := "isRow", desc := "(I)Z" } : Jvm.MethodName)) ∈ lw_all := lw_g (lw_at lw_m6 131 rfl) rfl
theorem q1394 : (Jvm.Cond.static ({ cls := "InflatedRowsModel", name := "isRow", desc := "(I)Z" } : Jvm.MethodName)) ∈ lw_all := lw_g (lw_at lw_m6 132 rfl) rfl
theorem q1395 : (Jvm.Cond.code ({ cls := "InflatedRowsModel", name := "isRow", desc := "(I)Z" } : Jvm.MethodName) prog_16_method_4_code (1 : Nat) (Option.some Jvm.ClassFile.FieldType.boolean)) ∈ lw_all := lw_g (lw_at lw_m6 133 rfl) rfl
theorem q1396 : (Jvm.Cond.constantLong "InflatedRowsModel" (68 : Nat) (7 : Int64)) ∈ lw_all := lw_g (lw_at lw_m6 134 rfl) rfl
theorem q1397 : (Jvm.Cond.methodLink "InflatedRowsModel" (70 : Nat) ({ cls := "InflatedRowsModel", name := "in", desc := "(JJJ)Z" } : Jvm.MethodName)) ∈ lw_all := lw_g (lw_at lw_m6 135 rfl) rfl
theorem q1398 : (Jvm.Cond.static ({ cls := "InflatedRowsModel", name := "in", desc := "(JJJ)Z" } : Jvm.MethodName)) ∈ lw_all := lw_g (lw_at lw_m6 136 rfl) rfl
theorem q1399 : (Jvm.Cond.code ({ cls := "InflatedRowsModel", name := "in", desc := "(JJJ)Z" } : Jvm.MethodName) prog_16_method_2_code (6 : Nat) (Option.some Jvm.ClassFile.FieldType.boolean)) ∈ lw_all := lw_g (lw_at lw_m6 137 rfl) rfl
theorem q1400 : (Jvm.Cond.constantLong "InflatedRowsModel" (78 : Nat) (2 : Int64)) ∈ lw_all := lw_g (lw_at lw_m6 138 rfl) rfl
theorem q1401 : (Jvm.Cond.constant "InflatedRowsModel" (80 : Nat) (-1000001 : Int32)) ∈ lw_all := lw_g (lw_at lw_m6 139 rfl) rfl
theorem q1402 : (Jvm.Cond.methodLink "InflatedRowsModel" (81 : Nat) ({ cls := "InflatedRowsModel", name := "finding", desc := "(I)I" } : Jvm.MethodName)) ∈ lw_all := lw_g (lw_at lw_m6 140 rfl) rfl
theorem q1403 : (Jvm.Cond.privateMethod ({ cls := "InflatedRowsModel", name := "finding", desc := "(I)I" } : Jvm.MethodName)) ∈ lw_tbl := lw_at lw_m6 141 rfl
theorem q1404 : (Jvm.Cond.instanceMethod ({ cls := "InflatedRowsModel", name := "finding", desc := "(I)I" } : Jvm.MethodName)) ∈ lw_all := lw_g (lw_at lw_m6 142 rfl) rfl
theorem q1405 : (Jvm.Cond.code ({ cls := "InflatedRowsModel", name := "finding", desc := "(I)I" } : Jvm.MethodName) prog_16_method_3_code (2 : Nat) (Option.some Jvm.ClassFile.FieldType.int)) ∈ lw_all := lw_g (lw_at lw_m6 143 rfl) rfl
theorem q1406 : (Jvm.Cond.constant "InflatedRowsModel" (67 : Nat) (-1000010 : Int32)) ∈ lw_all := lw_g (lw_at lw_m6 144 rfl) rfl
theorem q1408 : (Jvm.Cond.instanceMethod ({ cls := "InflatedRowsModel", name := "set", desc := "(III)I" } : Jvm.MethodName)) ∈ lw_all := lw_g (lw_at lw_m6 146 rfl) rfl
theorem q1409 : (Jvm.Cond.selects "InflatedRowsModel" ({ cls := "InflatedRowsModel", name := "set", desc := "(III)I" } : Jvm.MethodName) ({ cls := "InflatedRowsModel", name := "set", desc := "(III)I" } : Jvm.MethodName)) ∈ lw_all := lw_g (lw_at lw_m6 147 rfl) rfl
theorem q1410 : (Jvm.Cond.code ({ cls := "InflatedRowsModel", name := "set", desc := "(III)I" } : Jvm.MethodName) prog_16_method_6_code (4 : Nat) (Option.some Jvm.ClassFile.FieldType.int)) ∈ lw_all := lw_g (lw_at lw_m6 148 rfl) rfl
theorem q1412 : (Jvm.Cond.instanceMethod ({ cls := "InflatedRowsModel", name := "copy", desc := "(IIIII)I" } : Jvm.MethodName)) ∈ lw_all := lw_g (lw_at lw_m6 150 rfl) rfl
theorem q1413 : (Jvm.Cond.selects "InflatedRowsModel" ({ cls := "InflatedRowsModel", name := "copy", desc := "(IIIII)I" } : Jvm.MethodName) ({ cls := "InflatedRowsModel", name := "copy", desc := "(IIIII)I" } : Jvm.MethodName)) ∈ lw_all := lw_g (lw_at lw_m6 151 rfl) rfl
theorem q1414 : (Jvm.Cond.code ({ cls := "InflatedRowsModel", name := "copy", desc := "(IIIII)I" } : Jvm.MethodName) prog_16_method_7_code (9 : Nat) (Option.some Jvm.ClassFile.FieldType.int)) ∈ lw_all := lw_g (lw_at lw_m6 152 rfl) rfl
theorem q1416 : (Jvm.Cond.instanceMethod ({ cls := "InflatedRowsModel", name := "drop", desc := "(I)I" } : Jvm.MethodName)) ∈ lw_all := lw_g (lw_at lw_m6 154 rfl) rfl
theorem q1417 : (Jvm.Cond.selects "InflatedRowsModel" ({ cls := "InflatedRowsModel", name := "drop", desc := "(I)I" } : Jvm.MethodName) ({ cls := "InflatedRowsModel", name := "drop", desc := "(I)I" } : Jvm.MethodName)) ∈ lw_all := lw_g (lw_at lw_m6 155 rfl) rfl
theorem q1418 : (Jvm.Cond.code ({ cls := "InflatedRowsModel", name := "drop", desc := "(I)I" } : Jvm.MethodName) prog_16_method_8_code (2 : Nat) (Option.some Jvm.ClassFile.FieldType.int)) ∈ lw_all := lw_g (lw_at lw_m6 156 rfl) rfl
theorem q1420 : (Jvm.Cond.instanceMethod ({ cls := "InflatedRowsModel", name := "feed", desc := "(I)I" } : Jvm.MethodName)) ∈ lw_all := lw_g (lw_at lw_m6 158 rfl) rfl
theorem q1421 : (Jvm.Cond.selects "InflatedRowsModel" ({ cls := "InflatedRowsModel", name := "feed", desc := "(I)I" } : Jvm.MethodName) ({ cls := "InflatedRowsModel", name := "feed", desc := "(I)I" } : Jvm.MethodName)) ∈ lw_all := lw_g (lw_at lw_m6 159 rfl) rfl
theorem q1422 : (Jvm.Cond.code ({ cls := "InflatedRowsModel", name := "feed", desc := "(I)I" } : Jvm.MethodName) prog_16_method_22_code (2 : Nat) (Option.some Jvm.ClassFile.FieldType.int)) ∈ lw_all := lw_g (lw_at lw_m6 160 rfl) rfl
theorem q1423 : (Jvm.Cond.constantLong "InflatedRowsModel" (107 : Nat) (255 : Int64)) ∈ lw_all := lw_g (lw_at lw_m6 161 rfl) rfl
theorem q1424 : (Jvm.Cond.constant "InflatedRowsModel" (96 : Nat) (-1000003 : Int32)) ∈ lw_all := lw_g (lw_at lw_m6 162 rfl) rfl
theorem q1426 : (Jvm.Cond.instanceMethod ({ cls := "InflatedRowsModel", name := "book", desc := "()I" } : Jvm.MethodName)) ∈ lw_all := lw_g (lw_at lw_m6 164 rfl) rfl
theorem q1427 : (Jvm.Cond.selects "InflatedRowsModel" ({ cls := "InflatedRowsModel", name := "book", desc := "()I" } : Jvm.MethodName) ({ cls := "InflatedRowsModel", name := "book", desc := "()I" } : Jvm.MethodName)) ∈ lw_all := lw_g (lw_at lw_m6 165 rfl) rfl
theorem q1428 : (Jvm.Cond.code ({ cls := "InflatedRowsModel", name := "book", desc := "()I" } : Jvm.MethodName) prog_16_method_31_code (2 : Nat) (Option.some Jvm.ClassFile.FieldType.int)) ∈ lw_all := lw_g (lw_at lw_m6 166 rfl) rfl
theorem q1429 : (Jvm.Cond.methodLink "InflatedRowsModel" (143 : Nat) ({ cls := "InflatedRowsModel", name := "nextToken", desc := "()V" } : Jvm.MethodName)) ∈ lw_all := lw_g (lw_at lw_m6 167 rfl) rfl
theorem q1430 : (Jvm.Cond.privateMethod ({ cls := "InflatedRowsModel", name := "nextToken", desc := "()V" } : Jvm.MethodName)) ∈ lw_tbl := lw_at lw_m6 168 rfl
theorem q1431 : (Jvm.Cond.instanceMethod ({ cls := "InflatedRowsModel", name := "nextToken", desc := "()V" } : Jvm.MethodName)) ∈ lw_all := lw_g (lw_at lw_m6 169 rfl) rfl
theorem q1432 : (Jvm.Cond.code ({ cls := "InflatedRowsModel", name := "nextToken", desc := "()V" } : Jvm.MethodName) prog_16_method_24_code (1 : Nat) (Option.none : Option Jvm.ClassFile.FieldType)) ∈ lw_all := lw_g (lw_at lw_m6 170 rfl) rfl
theorem q1433 : (Jvm.Cond.constant "InflatedRowsModel" (124 : Nat) (-1000000 : Int32)) ∈ lw_all := lw_g (lw_at lw_m6 171 rfl) rfl
theorem q1434 : (Jvm.Cond.constantLong "InflatedRowsModel" (128 : Nat) (97 : Int64)) ∈ lw_all := lw_g (lw_at lw_m6 172 rfl) rfl
theorem q1435 : (Jvm.Cond.constantLong "InflatedRowsModel" (130 : Nat) (122 : Int64)) ∈ lw_all := lw_g (lw_at lw_m6 173 rfl) rfl
theorem q1436 : (Jvm.Cond.constantLong "InflatedRowsModel" (132 : Nat) (48 : Int64)) ∈ lw_all := lw_g (lw_at lw_m6 174 rfl) rfl
theorem q1437 : (Jvm.Cond.constantLong "InflatedRowsModel" (134 : Nat) (57 : Int64)) ∈ lw_all := lw_g (lw_at lw_m6 175 rfl) rfl
theorem q1438 : (Jvm.Cond.methodLink "InflatedRowsModel" (146 : Nat) ({ cls := "InflatedRowsModel", name := "must", desc := "(Z)V" } : Jvm.MethodName)) ∈ lw_all := lw_g (lw_at lw_m6 176 rfl) rfl
theorem q1439 : (Jvm.Cond.privateMethod ({ cls := "InflatedRowsModel", name := "must", desc := "(Z)V" } : Jvm.MethodName)) ∈ lw_tbl := lw_at lw_m6 177 rfl
theorem q1440 : (Jvm.Cond.instanceMethod ({ cls := "InflatedRowsModel", name := "must", desc := "(Z)V" } : Jvm.MethodName)) ∈ lw_all := lw_g (lw_at lw_m6 178 rfl) rfl
theorem q1441 : (Jvm.Cond.code ({ cls := "InflatedRowsModel", name := "must", desc := "(Z)V" } : Jvm.MethodName) prog_16_method_25_code (2 : Nat) (Option.none : Option Jvm.ClassFile.FieldType)) ∈ lw_all := lw_g (lw_at lw_m6 179 rfl) rfl
theorem q1442 : (Jvm.Cond.methodLink "InflatedRowsModel" (139 : Nat) ({ cls := "InflatedRowsModel", name := "bad", desc := "(I)V" } : Jvm.MethodName)) ∈ lw_all := lw_g (lw_at lw_m6 180 rfl) rfl
theorem q1443 : (Jvm.Cond.privateMethod ({ cls := "InflatedRowsModel", name := "bad", desc := "(I)V" } : Jvm.MethodName)) ∈ lw_tbl := lw_at lw_m6 181 rfl
theorem q1444 : (Jvm.Cond.instanceMethod ({ cls := "InflatedRowsModel", name := "bad", desc := "(I)V" } : Jvm.MethodName)) ∈ lw_all := lw_g (lw_at lw_m6 182 rfl) rfl
theorem q1445 : (Jvm.Cond.code ({ cls := "InflatedRowsModel", name := "bad", desc := "(I)V" } : Jvm.MethodName) prog_16_method_23_code (2 : Nat) (Option.none : Option Jvm.ClassFile.FieldType)) ∈ lw_all := lw_g (lw_at lw_m6 183 rfl) rfl
theorem q1446 : (Jvm.Cond.methodLink "InflatedRowsModel" (158 : Nat) ({ cls := "InflatedRowsModel", name := "figure", desc := "(II)I" } : Jvm.MethodName)) ∈ lw_all := lw_g (lw_at lw_m6 184 rfl) rfl
theorem q1447 : (Jvm.Cond.privateMethod ({ cls := "InflatedRowsModel", name := "figure", desc := "(II)I" } : Jvm.MethodName)) ∈ lw_tbl := lw_at lw_m6 185 rfl
theorem q1448 : (Jvm.Cond.instanceMethod ({ cls := "InflatedRowsModel", name := "figure", desc := "(II)I" } : Jvm.MethodName)) ∈ lw_all := lw_g (lw_at lw_m6 186 rfl) rfl
theorem q1449 : (Jvm.Cond.code ({ cls := "InflatedRowsModel", name := "figure", desc := "(II)I" } : Jvm.MethodName) prog_16_method_26_code (4 : Nat) (Option.some Jvm.ClassFile.FieldType.int)) ∈ lw_all := lw_g (lw_at lw_m6 187 rfl) rfl
theorem q1450 : (Jvm.Cond.methodLink "InflatedRowsModel" (162 : Nat) ({ cls := "InflatedRowsModel", name := "mustSign", desc := "(I)V" } : Jvm.MethodName)) ∈ lw_all := lw_g (lw_at lw_m6 188 rfl) rfl
theorem q1451 : (Jvm.Cond.privateMethod ({ cls := "InflatedRowsModel", name := "mustSign", desc := "(I)V" } : Jvm.MethodName)) ∈ lw_tbl := lw_at lw_m6 189 rfl
theorem q1452 : (Jvm.Cond.instanceMethod ({ cls := "InflatedRowsModel", name := "mustSign", desc := "(I)V" } : Jvm.MethodName)) ∈ lw_all := lw_g (lw_at lw_m6 190 rfl) rfl
theorem q1453 : (Jvm.Cond.code ({ cls := "InflatedRowsModel", name := "mustSign", desc := "(I)V" } : Jvm.MethodName) prog_16_method_27_code (2 : Nat) (Option.none : Option Jvm.ClassFile.FieldType)) ∈ lw_all := lw_g (lw_at lw_m6 191 rfl) rfl
theorem q1454 : (Jvm.Cond.methodLink "InflatedRowsModel" (168 : Nat) ({ cls := "InflatedRowsModel", name := "readSort", desc := "()V" } : Jvm.MethodName)) ∈ lw_all := lw_g (lw_at lw_m6 192 rfl) rfl
theorem q1455 : (Jvm.Cond.privateMethod ({ cls := "InflatedRowsModel", name := "readSort", desc := "()V" } : Jvm.MethodName)) ∈ lw_tbl := lw_at lw_m6 193 rfl
theorem q1456 : (Jvm.Cond.instanceMethod ({ cls := "InflatedRowsModel", name := "readSort", desc := "()V" } : Jvm.MethodName)) ∈ lw_all := lw_g (lw_at lw_m6 194 rfl) rfl
theorem q1457 : (Jvm.Cond.code ({ cls := "InflatedRowsModel", name := "readSort", desc := "()V" } : Jvm.MethodName) prog_16_method_30_code (3 : Nat) (Option.none : Option Jvm.ClassFile.FieldType)) ∈ lw_all := lw_g (lw_at lw_m6 195 rfl) rfl
theorem q1458 : (Jvm.Cond.methodLink "InflatedRowsModel" (155 : Nat) ({ cls := "InflatedRowsModel", name := "sortOf", desc := "(I)I" } : Jvm.MethodName)) ∈ lw_all := lw_g (lw_at lw_m6 196 rfl) rfl
theorem q1459 : (Jvm.Cond.static ({ cls := "InflatedRowsModel", name := "sortOf", desc := "(I)I" } : Jvm.MethodName)) ∈ lw_all := lw_g (lw_at lw_m6 197 rfl) rfl
theorem q1460 : (Jvm.Cond.code ({ cls := "InflatedRowsModel", name := "sortOf", desc := "(I)I" } : Jvm.MethodName) prog_16_method_28_code (1 : Nat) (Option.some Jvm.ClassFile.FieldType.int)) ∈ lw_all := lw_g (lw_at lw_m6 198 rfl) rfl
theorem q1461 : (Jvm.Cond.methodLink "InflatedRowsModel" (165 : Nat) ({ cls := "InflatedRowsModel", name := "readWord", desc := "(II)I" } : Jvm.MethodName)) ∈ lw_all := lw_g (lw_at lw_m6 199 rfl) rfl
theorem q1462 : (Jvm.Cond.privateMethod ({ cls := "InflatedRowsModel", name := "readWord", desc := "(II)I" } : Jvm.MethodName)) ∈ lw_tbl := lw_at lw_m6 200 rfl
theorem q1463 : (Jvm.Cond.instanceMethod ({ cls := "InflatedRowsModel", name := "readWord", desc := "(II)I" } : Jvm.MethodName)) ∈ lw_all := lw_g (lw_at lw_m6 201 rfl) rfl
theorem q1464 : (Jvm.Cond.code ({ cls := "InflatedRowsModel", name := "readWord", desc := "(II)I" } : Jvm.MethodName) prog_16_method_29_code (4 : Nat) (Option.some Jvm.ClassFile.FieldType.int)) ∈ lw_all := lw_g (lw_at lw_m6 202 rfl) rfl
theorem q1465 : (Jvm.Cond.constantLong "InflatedRowsModel" (150 : Nat) (100 : Int64)) ∈ lw_all := lw_g (lw_at lw_m6 203 rfl) rfl
theorem q1466 : (Jvm.Cond.constant "InflatedRowsModel" (174 : Nat) (-1000100 : Int32)) ∈ lw_all := lw_g (lw_at lw_m6 204 rfl) rfl
theorem q1468 : (Jvm.Cond.instanceMethod ({ cls := "InflatedRowsModel", name := "fault", desc := "()I" } : Jvm.MethodName)) ∈ lw_all := lw_g (lw_at lw_m6 206 rfl) rfl
theorem q1469 : (Jvm.Cond.selects "InflatedRowsModel" ({ cls := "InflatedRowsModel", name := "fault", desc := "()I" } : Jvm.MethodName) ({ cls := "InflatedRowsModel", name := "fault", desc := "()I" } : Jvm.MethodName)) ∈ lw_all := lw_g (lw_at lw_m6 207 rfl) rfl
theorem q1470 : (Jvm.Cond.code ({ cls := "InflatedRowsModel", name := "fault", desc := "()I" } : Jvm.MethodName) prog_16_method_32_code (1 : Nat) (Option.some Jvm.ClassFile.FieldType.int)) ∈ lw_all := lw_g (lw_at lw_m6 208 rfl) rfl
theorem q1472 : (Jvm.Cond.instanceMethod ({ cls := "InflatedRowsModel", name := "undo", desc := "()I" } : Jvm.MethodName)) ∈ lw_all := lw_g (lw_at lw_m6 210 rfl) rfl
theorem q1473 : (Jvm.Cond.selects "InflatedRowsModel" ({ cls := "InflatedRowsModel", name := "undo", desc := "()I" } : Jvm.MethodName) ({ cls := "InflatedRowsModel", name := "undo", desc := "()I" } : Jvm.MethodName)) ∈ lw_all := lw_g (lw_at lw_m6 211 rfl) rfl
theorem q1474 : (Jvm.Cond.code ({ cls := "InflatedRowsModel", name := "undo", desc := "()I" } : Jvm.MethodName) prog_16_method_34_code (2 : Nat) (Option.some Jvm.ClassFile.FieldType.int)) ∈ lw_all := lw_g (lw_at lw_m6 212 rfl) rfl
theorem q1475 : (Jvm.Cond.constant "InflatedRowsModel" (178 : Nat) (-1000002 : Int32)) ∈ lw_all := lw_g (lw_at lw_m6 213 rfl) rfl
theorem q1477 : (Jvm.Cond.instanceMethod ({ cls := "InflatedRowsModel", name := "word", desc := "(III)I" } : Jvm.MethodName)) ∈ lw_all := lw_g (lw_at lw_m6 215 rfl) rfl
theorem q1478 : (Jvm.Cond.selects "InflatedRowsModel" ({ cls := "InflatedRowsModel", name := "word", desc := "(III)I" } : Jvm.MethodName) ({ cls := "InflatedRowsModel", name := "word", desc := "(III)I" } : Jvm.MethodName)) ∈ lw_all := lw_g (lw_at lw_m6 216 rfl) rfl
theorem q1479 : (Jvm.Cond.code ({ cls := "InflatedRowsModel", name := "word", desc := "(III)I" } : Jvm.MethodName) prog_16_method_37_code (7 : Nat) (Option.some Jvm.ClassFile.FieldType.int)) ∈ lw_all := lw_g (lw_at lw_m6 217 rfl) rfl
theorem q1480 : (Jvm.Cond.methodLink "InflatedRowsModel" (182 : Nat) ({ cls := "InflatedRowsModel", name := "isSort", desc := "(I)Z" } : Jvm.MethodName)) ∈ lw_all := lw_g (lw_at lw_m6 218 rfl) rfl
theorem q1481 : (Jvm.Cond.privateMethod ({ cls := "InflatedRowsModel", name := "isSort", desc := "(I)Z" } : Jvm.MethodName)) ∈ lw_tbl := lw_at lw_m6 219 rfl
theorem q1482 : (Jvm.Cond.instanceMethod ({ cls := "InflatedRowsModel", name := "isSort", desc := "(I)Z" } : Jvm.MethodName)) ∈ lw_all := lw_g (lw_at lw_m6 220 rfl) rfl
theorem q1483 : (Jvm.Cond.code ({ cls := "InflatedRowsModel", name := "isSort", desc := "(I)Z" } : Jvm.MethodName) prog_16_method_10_code (2 : Nat) (Option.some Jvm.ClassFile.FieldType.boolean)) ∈ lw_all := lw_g (lw_at lw_m6 221 rfl) rfl
theorem q1484 : (Jvm.Cond.constantLong "InflatedRowsModel" (185 : Nat) (4 : Int64)) ∈ lw_all := lw_g (lw_at lw_m6 222 rfl) rfl
theorem q1485 : (Jvm.Cond.methodLink "InflatedRowsModel" (187 : Nat) ({ cls := "InflatedRowsModel", name := "lacksLetters", desc := "(II)I" } : Jvm.MethodName)) ∈ lw_all := lw_g (lw_at lw_m6 223 rfl) rfl
theorem q1486 : (Jvm.Cond.privateMethod ({ cls := "InflatedRowsModel", name := "lacksLetters", desc := "(II)I" } : Jvm.MethodName)) ∈ lw_tbl := lw_at lw_m6 224 rfl
theorem q1487 : (Jvm.Cond.instanceMethod ({ cls := "InflatedRowsModel", name := "lacksLetters", desc := "(II)I" } : Jvm.MethodName)) ∈ lw_all := lw_g (lw_at lw_m6 225 rfl) rfl
theorem q1488 : (Jvm.Cond.code ({ cls := "InflatedRowsModel", name := "lacksLetters", desc := "(II)I" } : Jvm.MethodName) prog_16_method_36_code (6 : Nat) (Option.some Jvm.ClassFile.FieldType.int)) ∈ lw_all := lw_g (lw_at lw_m6 226 rfl) rfl
theorem q1489 : (Jvm.Cond.methodLink "InflatedRowsModel" (179 : Nat) ({ cls := "InflatedRowsModel", name := "lacks", desc := "(II)I" } : Jvm.MethodName)) ∈ lw_all := lw_g (lw_at lw_m6 227 rfl) rfl
theorem q1490 : (Jvm.Cond.privateMethod ({ cls := "InflatedRowsModel", name := "lacks", desc := "(II)I" } : Jvm.MethodName)) ∈ lw_tbl := lw_at lw_m6 228 rfl
theorem q1491 : (Jvm.Cond.instanceMethod ({ cls := "InflatedRowsModel", name := "lacks", desc := "(II)I" } : Jvm.MethodName)) ∈ lw_all := lw_g (lw_at lw_m6 229 rfl) rfl
theorem q1492 : (Jvm.Cond.code ({ cls := "InflatedRowsModel", name := "lacks", desc := "(II)I" } : Jvm.MethodName) prog_16_method_35_code (3 : Nat) (Option.some Jvm.ClassFile.FieldType.int)) ∈ lw_all := lw_g (lw_at lw_m6 230 rfl) rfl
theorem q1493 : (Jvm.Cond.methodLink "InflatedRowsModel" (190 : Nat) ({ cls := "InflatedRowsModel", name := "keeps", desc := "()V" } : Jvm.MethodName)) ∈ lw_all := lw_g (lw_at lw_m6 231 rfl) rfl
theorem q1494 : (Jvm.Cond.privateMethod ({ cls := "InflatedRowsModel", name := "keeps", desc := "()V" } : Jvm.MethodName)) ∈ lw_tbl := lw_at lw_m6 232 rfl
theorem q1495 : (Jvm.Cond.instanceMethod ({ cls := "InflatedRowsModel", name := "keeps", desc := "()V" } : Jvm.MethodName)) ∈ lw_all := lw_g (lw_at lw_m6 233 rfl) rfl
theorem q1496 : (Jvm.Cond.code ({ cls := "InflatedRowsModel", name := "keeps", desc := "()V" } : Jvm.MethodName) prog_16_method_33_code (2 : Nat) (Option.none : Option Jvm.ClassFile.FieldType)) ∈ lw_all := lw_g (lw_at lw_m6 234 rfl) rfl
theorem q1497 : (Jvm.Cond.methodLink "InflatedRowsModel" (93 : Nat) ({ cls := "InflatedRowsModel", name := "wordSize", desc := "([II)I" } : Jvm.MethodName)) ∈ lw_all := lw_g (lw_at lw_m6 235 rfl) rfl
theorem q1498 : (Jvm.Cond.static ({ cls := "InflatedRowsModel", name := "wordSize", desc := "([II)I" } : Jvm.MethodName)) ∈ lw_all := lw_g (lw_at lw_m6 236 rfl) rfl
theorem q1499 : (Jvm.Cond.code ({ cls := "InflatedRowsModel", name := "wordSize", desc := "([II)I" } : Jvm.MethodName) prog_16_method_16_code (2 : Nat) (Option.some Jvm.ClassFile.FieldType.int)) ∈ lw_all := lw_g (lw_at lw_m6 237 rfl) rfl
theorem q1501 : (Jvm.Cond.instanceMethod ({ cls := "InflatedRowsModel", name := "length", desc := "(III)I" } : Jvm.MethodName)) ∈ lw_all := lw_g (lw_at lw_m6 239 rfl) rfl
theorem q1502 : (Jvm.Cond.selects "InflatedRowsModel" ({ cls := "InflatedRowsModel", name := "length", desc := "(III)I" } : Jvm.MethodName) ({ cls := "InflatedRowsModel", name := "length", desc := "(III)I" } : Jvm.MethodName)) ∈ lw_all := lw_g (lw_at lw_m7 0 rfl) rfl
theorem q1503 : (Jvm.Cond.code ({ cls := "InflatedRowsModel", name := "length", desc := "(III)I" } : Jvm.MethodName) prog_16_method_38_code (5 : Nat) (Option.some Jvm.ClassFile.FieldType.int)) ∈ lw_all := lw_g (lw_at lw_m7 1 rfl) rfl
theorem q1504 : (Jvm.Cond.constantLong "InflatedRowsModel" (193 : Nat) (9 : Int64)) ∈ lw_all := lw_g (lw_at lw_m7 2 rfl) rfl
theorem q1506 : (Jvm.Cond.instanceMethod ({ cls := "InflatedRowsModel", name := "become", desc := "(II)I" } : Jvm.MethodName)) ∈ lw_all := lw_g (lw_at lw_m7 4 rfl) rfl
theorem q1507 : (Jvm.Cond.selects "InflatedRowsModel" ({ cls := "InflatedRowsModel", name := "become", desc := "(II)I" } : Jvm.MethodName) ({ cls := "InflatedRowsModel", name := "become", desc := "(II)I" } : Jvm.MethodName)) ∈ lw_all := lw_g (lw_at lw_m7 5 rfl) rfl
theorem q1508 : (Jvm.Cond.code ({ cls := "InflatedRowsModel", name := "become", desc := "(II)I" } : Jvm.MethodName) prog_16_method_39_code (4 : Nat) (Option.some Jvm.ClassFile.FieldType.int)) ∈ lw_all := lw_g (lw_at lw_m7 6 rfl) rfl
theorem q1509 : (Jvm.Cond.constantLong "InflatedRowsModel" (195 : Nat) (5 : Int64)) ∈ lw_all := lw_g (lw_at lw_m7 7 rfl) rfl
theorem q1510 : (Jvm.Cond.methodLink "InflatedRowsModel" (89 : Nat) ({ cls := "InflatedRowsModel", name := "kindOf", desc := "([II)I" } : Jvm.MethodName)) ∈ lw_all := lw_g (lw_at lw_m7 8 rfl) rfl
theorem q1511 : (Jvm.Cond.static ({ cls := "InflatedRowsModel", name := "kindOf", desc := "([II)I" } : Jvm.MethodName)) ∈ lw_all := lw_g (lw_at lw_m7 9 rfl) rfl
theorem q1512 : (Jvm.Cond.code ({ cls := "InflatedRowsModel", name := "kindOf", desc := "([II)I" } : Jvm.MethodName) prog_16_method_14_code (2 : Nat) (Option.some Jvm.ClassFile.FieldType.int)) ∈ lw_all := lw_g (lw_at lw_m7 10 rfl) rfl
theorem q1514 : (Jvm.Cond.instanceMethod ({ cls := "InflatedRowsModel", name := "root", desc := "(II)I" } : Jvm.MethodName)) ∈ lw_all := lw_g (lw_at lw_m7 12 rfl) rfl
theorem q1515 : (Jvm.Cond.selects "InflatedRowsModel" ({ cls := "InflatedRowsModel", name := "root", desc := "(II)I" } : Jvm.MethodName) ({ cls := "InflatedRowsModel", name := "root", desc := "(II)I" } : Jvm.MethodName)) ∈ lw_all := lw_g (lw_at lw_m7 13 rfl) rfl
theorem q1516 : (Jvm.Cond.code ({ cls := "InflatedRowsModel", name := "root", desc := "(II)I" } : Jvm.MethodName) prog_16_method_40_code (4 : Nat) (Option.some Jvm.ClassFile.FieldType.int)) ∈ lw_all := lw_g (lw_at lw_m7 14 rfl) rfl
theorem q1517 : (Jvm.Cond.methodLink "InflatedRowsModel" (197 : Nat) ({ cls := "InflatedRowsModel", name := "isThere", desc := "()Z" } : Jvm.MethodName)) ∈ lw_all := lw_g (lw_at lw_m7 15 rfl) rfl
theorem q1518 : (Jvm.Cond.privateMethod ({ cls := "InflatedRowsModel", name := "isThere", desc := "()Z" } : Jvm.MethodName)) ∈ lw_tbl := lw_at lw_m7 16 rfl
theorem q1519 : (Jvm.Cond.instanceMethod ({ cls := "InflatedRowsModel", name := "isThere", desc := "()Z" } : Jvm.MethodName)) ∈ lw_all := lw_g (lw_at lw_m7 17 rfl) rfl
theorem q1520 : (Jvm.Cond.code ({ cls := "InflatedRowsModel", name := "isThere", desc := "()Z" } : Jvm.MethodName) prog_16_method_9_code (1 : Nat) (Option.some Jvm.ClassFile.FieldType.boolean)) ∈ lw_all := lw_g (lw_at lw_m7 18 rfl) rfl
theorem q1521 : (Jvm.Cond.constantLong "InflatedRowsModel" (201 : Nat) (3 : Int64)) ∈ lw_all := lw_g (lw_at lw_m7 19 rfl) rfl
theorem q1523 : (Jvm.Cond.instanceMethod ({ cls := "InflatedRowsModel", name := "begin", desc := "(II)I" } : Jvm.MethodName)) ∈ lw_all := lw_g (lw_at lw_m7 21 rfl) rfl
theorem q1524 : (Jvm.Cond.selects "InflatedRowsModel" ({ cls := "InflatedRowsModel", name := "begin", desc := "(II)I" } : Jvm.MethodName) ({ cls := "InflatedRowsModel", name := "begin", desc := "(II)I" } : Jvm.MethodName)) ∈ lw_all := lw_g (lw_at lw_m7 22 rfl) rfl
theorem q1525 : (Jvm.Cond.code ({ cls := "InflatedRowsModel", name := "begin", desc := "(II)I" } : Jvm.MethodName) prog_16_method_41_code (6 : Nat) (Option.some Jvm.ClassFile.FieldType.int)) ∈ lw_all := lw_g (lw_at lw_m7 23 rfl) rfl
theorem q1526 : (Jvm.Cond.constantLong "InflatedRowsModel" (203 : Nat) (8 : Int64)) ∈ lw_all := lw_g (lw_at lw_m7 24 rfl) rfl
theorem q1528 : (Jvm.Cond.instanceMethod ({ cls := "InflatedRowsModel", name := "inflate", desc := "()I" } : Jvm.MethodName)) ∈ lw_all := lw_g (lw_at lw_m7 26 rfl) rfl
theorem q1529 : (Jvm.Cond.selects "InflatedRowsModel" ({ cls := "InflatedRowsModel", name := "inflate", desc := "()I" } : Jvm.MethodName) ({ cls := "InflatedRowsModel", name := "inflate", desc := "()I" } : Jvm.MethodName)) ∈ lw_all := lw_g (lw_at lw_m7 27 rfl) rfl
theorem q1530 : (Jvm.Cond.code ({ cls := "InflatedRowsModel", name := "inflate", desc := "()I" } : Jvm.MethodName) prog_16_method_42_code (3 : Nat) (Option.some Jvm.ClassFile.FieldType.int)) ∈ lw_all := lw_g (lw_at lw_m7 28 rfl) rfl
theorem q1531 : (Jvm.Cond.methodLink "InflatedRowsModel" (205 : Nat) ({ cls := "InflatedRowsModel", name := "layGrown", desc := "([II)I" } : Jvm.MethodName)) ∈ lw_all := lw_g (lw_at lw_m7 29 rfl) rfl
theorem q1532 : (Jvm.Cond.privateMethod ({ cls := "InflatedRowsModel", name := "layGrown", desc := "([II)I" } : Jvm.MethodName)) ∈ lw_tbl := lw_at lw_m7 30 rfl
theorem q1533 : (Jvm.Cond.instanceMethod ({ cls := "InflatedRowsModel", name := "layGrown", desc := "([II)I" } : Jvm.MethodName)) ∈ lw_all := lw_g (lw_at lw_m7 31 rfl) rfl
theorem q1534 : (Jvm.Cond.code ({ cls := "InflatedRowsModel", name := "layGrown", desc := "([II)I" } : Jvm.MethodName) prog_16_method_19_code (5 : Nat) (Option.some Jvm.ClassFile.FieldType.int)) ∈ lw_all := lw_g (lw_at lw_m7 32 rfl) rfl
theorem q1535 : (Jvm.Cond.methodLink "InflatedRowsModel" (97 : Nat) ({ cls := "InflatedRowsModel", name := "inflated", desc := "([II)I" } : Jvm.MethodName)) ∈ lw_all := lw_g (lw_at lw_m7 33 rfl) rfl
theorem q1536 : (Jvm.Cond.privateMethod ({ cls := "InflatedRowsModel", name := "inflated", desc := "([II)I" } : Jvm.MethodName)) ∈ lw_tbl := lw_at lw_m7 34 rfl
theorem q1537 : (Jvm.Cond.instanceMethod ({ cls := "InflatedRowsModel", name := "inflated", desc := "([II)I" } : Jvm.MethodName)) ∈ lw_all := lw_g (lw_at lw_m7 35 rfl) rfl
theorem q1538 : (Jvm.Cond.code ({ cls := "InflatedRowsModel", name := "inflated", desc := "([II)I" } : Jvm.MethodName) prog_16_method_20_code (7 : Nat) (Option.some Jvm.ClassFile.FieldType.int)) ∈ lw_all := lw_g (lw_at lw_m7 36 rfl) rfl
theorem q1539 : (Jvm.Cond.methodLink "InflatedRowsModel" (100 : Nat) ({ cls := "InflatedRowsModel", name := "imageSize", desc := "([II)I" } : Jvm.MethodName)) ∈ lw_all := lw_g (lw_at lw_m7 37 rfl) rfl
theorem q1540 : (Jvm.Cond.static ({ cls := "InflatedRowsModel", name := "imageSize", desc := "([II)I" } : Jvm.MethodName)) ∈ lw_all := lw_g (lw_at lw_m7 38 rfl) rfl
theorem q1541 : (Jvm.Cond.code ({ cls := "InflatedRowsModel", name := "imageSize", desc := "([II)I" } : Jvm.MethodName) prog_16_method_17_code (3 : Nat) (Option.some Jvm.ClassFile.FieldType.int)) ∈ lw_all := lw_g (lw_at lw_m7 39 rfl) rfl
theorem q1542 : (Jvm.Cond.methodLink "InflatedRowsModel" (103 : Nat) ({ cls := "InflatedRowsModel", name := "imageAt", desc := "([III)I" } : Jvm.MethodName)) ∈ lw_all := lw_g (lw_at lw_m7 40 rfl) rfl
theorem q1543 : (Jvm.Cond.static ({ cls := "InflatedRowsModel", name := "imageAt", desc := "([III)I" } : Jvm.MethodName)) ∈ lw_all := lw_g (lw_at lw_m7 41 rfl) rfl
theorem q1544 : (Jvm.Cond.code ({ cls := "InflatedRowsModel", name := "imageAt", desc := "([III)I" } : Jvm.MethodName) prog_16_method_18_code (5 : Nat) (Option.some Jvm.ClassFile.FieldType.int)) ∈ lw_all := lw_g (lw_at lw_m7 42 rfl) rfl
theorem q1546 : (Jvm.Cond.instanceMethod ({ cls := "InflatedRowsModel", name := "sort", desc := "(II)I" } : Jvm.MethodName)) ∈ lw_all := lw_g (lw_at lw_m7 44 rfl) rfl
theorem q1547 : (Jvm.Cond.selects "InflatedRowsModel" ({ cls := "InflatedRowsModel", name := "sort", desc := "(II)I" } : Jvm.MethodName) ({ cls := "InflatedRowsModel", name := "sort", desc := "(II)I" } : Jvm.MethodName)) ∈ lw_all := lw_g (lw_at lw_m7 45 rfl) rfl
theorem q1548 : (Jvm.Cond.code ({ cls := "InflatedRowsModel", name := "sort", desc := "(II)I" } : Jvm.MethodName) prog_16_method_43_code (3 : Nat) (Option.some Jvm.ClassFile.FieldType.int)) ∈ lw_all := lw_g (lw_at lw_m7 46 rfl) rfl
theorem q1549 : (Jvm.Cond.constantLong "InflatedRowsModel" (208 : Nat) (10 : Int64)) ∈ lw_all := lw_g (lw_at lw_m7 47 rfl) rfl
theorem q1550 : (Jvm.Cond.constantLong "InflatedRowsModel" (210 : Nat) (13 : Int64)) ∈ lw_all := lw_g (lw_at lw_m7 48 rfl) rfl
theorem q1551 : (Jvm.Cond.constantLong "InflatedRowsModel" (212 : Nat) (20 : Int64)) ∈ lw_all := lw_g (lw_at lw_m7 49 rfl) rfl
theorem q1552 : (Jvm.Cond.constantLong "InflatedRowsModel" (214 : Nat) (23 : Int64)) ∈ lw_all := lw_g (lw_at lw_m7 50 rfl) rfl
theorem q1554 : (Jvm.Cond.instanceMethod ({ cls := "InflatedRowsModel", name := "letter", desc := "(I)I" } : Jvm.MethodName)) ∈ lw_all := lw_g (lw_at lw_m7 52 rfl) rfl
theorem q1555 : (Jvm.Cond.selects "InflatedRowsModel" ({ cls := "InflatedRowsModel", name := "letter", desc := "(I)I" } : Jvm.MethodName) ({ cls := "InflatedRowsModel", name := "letter", desc := "(I)I" } : Jvm.MethodName)) ∈ lw_all := lw_g (lw_at lw_m7 53 rfl) rfl
theorem q1556 : (Jvm.Cond.code ({ cls := "InflatedRowsModel", name := "letter", desc := "(I)I" } : Jvm.MethodName) prog_16_method_44_code (2 : Nat) (Option.some Jvm.ClassFile.FieldType.int)) ∈ lw_all := lw_g (lw_at lw_m7 54 rfl) rfl
theorem q1558 : (Jvm.Cond.instanceMethod ({ cls := "InflatedRowsModel", name := "grown", desc := "(II)I" } : Jvm.MethodName)) ∈ lw_all := lw_g (lw_at lw_m7 56 rfl) rfl
theorem q1559 : (Jvm.Cond.selects "InflatedRowsModel" ({ cls := "InflatedRowsModel", name := "grown", desc := "(II)I" } : Jvm.MethodName) ({ cls := "InflatedRowsModel", name := "grown", desc := "(II)I" } : Jvm.MethodName)) ∈ lw_all := lw_g (lw_at lw_m7 57 rfl) rfl
theorem q1560 : (Jvm.Cond.code ({ cls := "InflatedRowsModel", name := "grown", desc := "(II)I" } : Jvm.MethodName) prog_16_method_45_code (4 : Nat) (Option.some Jvm.ClassFile.FieldType.int)) ∈ lw_all := lw_g (lw_at lw_m7 58 rfl) rfl
theorem q1561 : (Jvm.Cond.constantLong "InflatedRowsModel" (216 : Nat) (6 : Int64)) ∈ lw_all := lw_g (lw_at lw_m7 59 rfl) rfl
theorem q1563 : (Jvm.Cond.instanceMethod ({ cls := "InflatedRowsModel", name := "origin", desc := "(III)I" } : Jvm.MethodName)) ∈ lw_all := lw_g (lw_at lw_m7 61 rfl) rfl
theorem q1564 : (Jvm.Cond.selects "InflatedRowsModel" ({ cls := "InflatedRowsModel", name := "origin", desc := "(III)I" } : Jvm.MethodName) ({ cls := "InflatedRowsModel", name := "origin", desc := "(III)I" } : Jvm.MethodName)) ∈ lw_all := lw_g (lw_at lw_m7 62 rfl) rfl
theorem q1565 : (Jvm.Cond.code ({ cls := "InflatedRowsModel", name := "origin", desc := "(III)I" } : Jvm.MethodName) prog_16_method_46_code (8 : Nat) (Option.some Jvm.ClassFile.FieldType.int)) ∈ lw_all := lw_g (lw_at lw_m7 63 rfl) rfl
theorem q1567 : (Jvm.Cond.instanceMethod ({ cls := "InflatedRowsModel", name := "place", desc := "(III)J" } : Jvm.MethodName)) ∈ lw_all := lw_g (lw_at lw_m7 65 rfl) rfl
theorem q1568 : (Jvm.Cond.selects "InflatedRowsModel" ({ cls := "InflatedRowsModel", name := "place", desc := "(III)J" } : Jvm.MethodName) ({ cls := "InflatedRowsModel", name := "place", desc := "(III)J" } : Jvm.MethodName)) ∈ lw_all := lw_g (lw_at lw_m7 66 rfl) rfl
theorem q1569 : (Jvm.Cond.code ({ cls := "InflatedRowsModel", name := "place", desc := "(III)J" } : Jvm.MethodName) prog_16_method_47_code (8 : Nat) (Option.some Jvm.ClassFile.FieldType.long)) ∈ lw_all := lw_g (lw_at lw_m7 67 rfl) rfl
theorem q1570 : (Jvm.Cond.constantLong "InflatedRowsModel" (218 : Nat) (-1000002 : Int64)) ∈ lw_all := lw_g (lw_at lw_m7 68 rfl) rfl
theorem q1571 : (Jvm.Cond.constantLong "InflatedRowsModel" (220 : Nat) (-1000001 : Int64)) ∈ lw_all := lw_g (lw_at lw_m7 69 rfl) rfl
theorem q1572 : (Jvm.Cond.constantLong "InflatedRowsModel" (222 : Nat) (-1000003 : Int64)) ∈ lw_all := lw_g (lw_at lw_m7 70 rfl) rfl
theorem q1573 : (Jvm.Cond.constantLong "InflatedRowsModel" (224 : Nat) (-1000000 : Int64)) ∈ lw_all := lw_g (lw_at lw_m7 71 rfl) rfl
theorem q1574 : (Jvm.Cond.methodLink "InflatedRowsModel" (226 : Nat) ({ cls := "InflatedRowsModel", name := "lengthOf", desc := "([III)I" } : Jvm.MethodName)) ∈ lw_all := lw_g (lw_at lw_m7 72 rfl) rfl
theorem q1575 : (Jvm.Cond.static ({ cls := "InflatedRowsModel", name := "lengthOf", desc := "([III)I" } : Jvm.MethodName)) ∈ lw_all := lw_g (lw_at lw_m7 73 rfl) rfl
theorem q1576 : (Jvm.Cond.code ({ cls := "InflatedRowsModel", name := "lengthOf", desc := "([III)I" } : Jvm.MethodName) prog_16_method_15_code (3 : Nat) (Option.some Jvm.ClassFile.FieldType.int)) ∈ lw_all := lw_g (lw_at lw_m7 74 rfl) rfl
theorem q1578 : (Jvm.Cond.instanceMethod ({ cls := "InflatedRowsModel", name := "numbers", desc := "(II)J" } : Jvm.MethodName)) ∈ lw_all := lw_g (lw_at lw_m7 76 rfl) rfl
theorem q1579 : (Jvm.Cond.selects "InflatedRowsModel" ({ cls := "InflatedRowsModel", name := "numbers", desc := "(II)J" } : Jvm.MethodName) ({ cls := "InflatedRowsModel", name := "numbers", desc := "(II)J" } : Jvm.MethodName)) ∈ lw_all := lw_g (lw_at lw_m7 77 rfl) rfl
theorem q1580 : (Jvm.Cond.code ({ cls := "InflatedRowsModel", name := "numbers", desc := "(II)J" } : Jvm.MethodName) prog_16_method_50_code (3 : Nat) (Option.some Jvm.ClassFile.FieldType.long)) ∈ lw_all := lw_g (lw_at lw_m7 78 rfl) rfl
theorem q1581 : (Jvm.Cond.constantLong "InflatedRowsModel" (239 : Nat) (60 : Int64)) ∈ lw_all := lw_g (lw_at lw_m7 79 rfl) rfl
theorem q1582 : (Jvm.Cond.methodLink "InflatedRowsModel" (241 : Nat) ({ cls := "InflatedRowsModel", name := "layNumbers", desc := "(I)V" } : Jvm.MethodName)) ∈ lw_all := lw_g (lw_at lw_m7 80 rfl) rfl
theorem q1583 : (Jvm.Cond.privateMethod ({ cls := "InflatedRowsModel", name := "layNumbers", desc := "(I)V" } : Jvm.MethodName)) ∈ lw_tbl := lw_at lw_m7 81 rfl
theorem q1584 : (Jvm.Cond.instanceMethod ({ cls := "InflatedRowsModel", name := "layNumbers", desc := "(I)V" } : Jvm.MethodName)) ∈ lw_all := lw_g (lw_at lw_m7 82 rfl) rfl
theorem q1585 : (Jvm.Cond.code ({ cls := "InflatedRowsModel", name := "layNumbers", desc := "(I)V" } : Jvm.MethodName) prog_16_method_49_code (6 : Nat) (Option.none : Option Jvm.ClassFile.FieldType)) ∈ lw_all := lw_g (lw_at lw_m7 83 rfl) rfl
theorem q1586 : (Jvm.Cond.methodLink "InflatedRowsModel" (235 : Nat) ({ cls := "InflatedRowsModel", name := "plus", desc := "(JJ)J" } : Jvm.MethodName)) ∈ lw_all := lw_g (lw_at lw_m7 84 rfl) rfl
theorem q1587 : (Jvm.Cond.privateMethod ({ cls := "InflatedRowsModel", name := "plus", desc := "(JJ)J" } : Jvm.MethodName)) ∈ lw_tbl := lw_at lw_m7 85 rfl
theorem q1588 : (Jvm.Cond.instanceMethod ({ cls := "InflatedRowsModel", name := "plus", desc := "(JJ)J" } : Jvm.MethodName)) ∈ lw_all := lw_g (lw_at lw_m7 86 rfl) rfl
theorem q1589 : (Jvm.Cond.code ({ cls := "InflatedRowsModel", name := "plus", desc := "(JJ)J" } : Jvm.MethodName) prog_16_method_48_code (5 : Nat) (Option.some Jvm.ClassFile.FieldType.long)) ∈ lw_all := lw_g (lw_at lw_m7 87 rfl) rfl
theorem q1590 : (Jvm.Cond.constantLong "InflatedRowsModel" (233 : Nat) (9223372036854775807 : Int64)) ∈ lw_all := lw_g (lw_at lw_m7 88 rfl) rfl
theorem q1592 : (Jvm.Cond.instanceMethod ({ cls := "InflatedRowsModel", name := "share", desc := "(III)J" } : Jvm.MethodName)) ∈ lw_all := lw_g (lw_at lw_m7 90 rfl) rfl
theorem q1593 : (Jvm.Cond.selects "InflatedRowsModel" ({ cls := "InflatedRowsModel", name := "share", desc := "(III)J" } : Jvm.MethodName) ({ cls := "InflatedRowsModel", name := "share", desc := "(III)J" } : Jvm.MethodName)) ∈ lw_all := lw_g (lw_at lw_m7 91 rfl) rfl
theorem q1594 : (Jvm.Cond.code ({ cls := "InflatedRowsModel", name := "share", desc := "(III)J" } : Jvm.MethodName) prog_16_method_52_code (7 : Nat) (Option.some Jvm.ClassFile.FieldType.long)) ∈ lw_all := lw_g (lw_at lw_m7 92 rfl) rfl
theorem q1595 : (Jvm.Cond.methodLink "InflatedRowsModel" (244 : Nat) ({ cls := "InflatedRowsModel", name := "lowest", desc := "(JJI)J" } : Jvm.MethodName)) ∈ lw_all := lw_g (lw_at lw_m7 93 rfl) rfl
theorem q1596 : (Jvm.Cond.static ({ cls := "InflatedRowsModel", name := "lowest", desc := "(JJI)J" } : Jvm.MethodName)) ∈ lw_all := lw_g (lw_at lw_m7 94 rfl) rfl
theorem q1597 : (Jvm.Cond.code ({ cls := "InflatedRowsModel", name := "lowest", desc := "(JJI)J" } : Jvm.MethodName) prog_16_method_51_code (11 : Nat) (Option.some Jvm.ClassFile.FieldType.long)) ∈ lw_all := lw_g (lw_at lw_m7 95 rfl) rfl
theorem q1599 : (Jvm.Cond.instanceMethod ({ cls := "InflatedRowsModel", name := "all", desc := "(II)J" } : Jvm.MethodName)) ∈ lw_all := lw_g (lw_at lw_m7 97 rfl) rfl
theorem q1600 : (Jvm.Cond.selects "InflatedRowsModel" ({ cls := "InflatedRowsModel", name := "all", desc := "(II)J" } : Jvm.MethodName) ({ cls := "InflatedRowsModel", name := "all", desc := "(II)J" } : Jvm.MethodName)) ∈ lw_all := lw_g (lw_at lw_m7 98 rfl) rfl
theorem q1601 : (Jvm.Cond.code ({ cls := "InflatedRowsModel", name := "all", desc := "(II)J" } : Jvm.MethodName) prog_16_method_53_code (7 : Nat) (Option.some Jvm.ClassFile.FieldType.long)) ∈ lw_all := lw_g (lw_at lw_m7 99 rfl) rfl
theorem q1603 : (Jvm.Cond.instanceMethod ({ cls := "InflatedRowsModel", name := "whole", desc := "(I)I" } : Jvm.MethodName)) ∈ lw_all := lw_g (lw_at lw_m7 101 rfl) rfl
theorem q1604 : (Jvm.Cond.selects "InflatedRowsModel" ({ cls := "InflatedRowsModel", name := "whole", desc := "(I)I" } : Jvm.MethodName) ({ cls := "InflatedRowsModel", name := "whole", desc := "(I)I" } : Jvm.MethodName)) ∈ lw_all := lw_g (lw_at lw_m7 102 rfl) rfl
theorem q1605 : (Jvm.Cond.code ({ cls := "InflatedRowsModel", name := "whole", desc := "(I)I" } : Jvm.MethodName) prog_16_method_56_code (3 : Nat) (Option.some Jvm.ClassFile.FieldType.int)) ∈ lw_all := lw_g (lw_at lw_m7 103 rfl) rfl
theorem q1606 : (Jvm.Cond.methodLink "InflatedRowsModel" (251 : Nat) ({ cls := "InflatedRowsModel", name := "scale", desc := "()I" } : Jvm.MethodName)) ∈ lw_all := lw_g (lw_at lw_m7 104 rfl) rfl
theorem q1607 : (Jvm.Cond.privateMethod ({ cls := "InflatedRowsModel", name := "scale", desc := "()I" } : Jvm.MethodName)) ∈ lw_tbl := lw_at lw_m7 105 rfl
theorem q1608 : (Jvm.Cond.instanceMethod ({ cls := "InflatedRowsModel", name := "scale", desc := "()I" } : Jvm.MethodName)) ∈ lw_all := lw_g (lw_at lw_m7 106 rfl) rfl
theorem q1609 : (Jvm.Cond.code ({ cls := "InflatedRowsModel", name := "scale", desc := "()I" } : Jvm.MethodName) prog_16_method_55_code (3 : Nat) (Option.some Jvm.ClassFile.FieldType.int)) ∈ lw_all := lw_g (lw_at lw_m7 107 rfl) rfl
theorem q1610 : (Jvm.Cond.methodLink "InflatedRowsModel" (248 : Nat) ({ cls := "InflatedRowsModel", name := "isScale", desc := "(II)Z" } : Jvm.MethodName)) ∈ lw_all := lw_g (lw_at lw_m7 108 rfl) rfl
theorem q1611 : (Jvm.Cond.privateMethod ({ cls := "InflatedRowsModel", name := "isScale", desc := "(II)Z" } : Jvm.MethodName)) ∈ lw_tbl := lw_at lw_m7 109 rfl
theorem q1612 : (Jvm.Cond.instanceMethod ({ cls := "InflatedRowsModel", name := "isScale", desc := "(II)Z" } : Jvm.MethodName)) ∈ lw_all := lw_g (lw_at lw_m7 110 rfl) rfl
theorem q1613 : (Jvm.Cond.code ({ cls := "InflatedRowsModel", name := "isScale", desc := "(II)Z" } : Jvm.MethodName) prog_16_method_54_code (10 : Nat) (Option.some Jvm.ClassFile.FieldType.boolean)) ∈ lw_all := lw_g (lw_at lw_m7 111 rfl) rfl
theorem q1614 : (Jvm.Cond.methodLink "InflatedRowsModel" (255 : Nat) ({ cls := "InflatedRowsModel", name := "pairsOf", desc := "([I)I" } : Jvm.MethodName)) ∈ lw_all := lw_g (lw_at lw_m7 112 rfl) rfl
theorem q1615 : (Jvm.Cond.static ({ cls := "InflatedRowsModel", name := "pairsOf", desc := "([I)I" } : Jvm.MethodName)) ∈ lw_all := lw_g (lw_at lw_m7 113 rfl) rfl
theorem q1616 : (Jvm.Cond.code ({ cls := "InflatedRowsModel", name := "pairsOf", desc := "([I)I" } : Jvm.MethodName) prog_16_method_21_code (6 : Nat) (Option.some Jvm.ClassFile.FieldType.int)) ∈ lw_all := lw_g (lw_at lw_m7 114 rfl) rfl
theorem q1617 : (Jvm.Cond.methodLink "InflatedRowsModel" (85 : Nat) ({ cls := "InflatedRowsModel", name := "has", desc := "(II)Z" } : Jvm.MethodName)) ∈ lw_all := lw_g (lw_at lw_m7 115 rfl) rfl
theorem q1618 : (Jvm.Cond.static ({ cls := "InflatedRowsModel", name := "has", desc := "(II)Z" } : Jvm.MethodName)) ∈ lw_all := lw_g (lw_at lw_m7 116 rfl) rfl
theorem q1619 : (Jvm.Cond.code ({ cls := "InflatedRowsModel", name := "has", desc := "(II)Z" } : Jvm.MethodName) prog_16_method_12_code (2 : Nat) (Option.some Jvm.ClassFile.FieldType.boolean)) ∈ lw_all := lw_g (lw_at lw_m7 117 rfl) rfl
theorem q1620 : (Jvm.Cond.methodLink "InflatedRowsModel" (259 : Nat) ({ cls := "InflatedRowsModel", name := "sizeOf", desc := "(I)I" } : Jvm.MethodName)) ∈ lw_all := lw_g (lw_at lw_m7 118 rfl) rfl
theorem q1621 : (Jvm.Cond.static ({ cls := "InflatedRowsModel", name := "sizeOf", desc := "(I)I" } : Jvm.MethodName)) ∈ lw_all := lw_g (lw_at lw_m7 119 rfl) rfl
theorem q1622 : (Jvm.Cond.code ({ cls := "InflatedRowsModel", name := "sizeOf", desc := "(I)I" } : Jvm.MethodName) prog_16_method_13_code (3 : Nat) (Option.some Jvm.ClassFile.FieldType.int)) ∈ lw_all := lw_g (lw_at lw_m7 120 rfl) rfl
theorem q1624 : (Jvm.Cond.instanceMethod ({ cls := "InflatedRowsModel", name := "back", desc := "(III)I" } : Jvm.MethodName)) ∈ lw_all := lw_g (lw_at lw_m7 122 rfl) rfl
theorem q1625 : (Jvm.Cond.selects "InflatedRowsModel" ({ cls := "InflatedRowsModel", name := "back", desc := "(III)I" } : Jvm.MethodName) ({ cls := "InflatedRowsModel", name := "back", desc := "(III)I" } : Jvm.MethodName)) ∈ lw_all := lw_g (lw_at lw_m7 123 rfl) rfl
theorem q1626 : (Jvm.Cond.code ({ cls := "InflatedRowsModel", name := "back", desc := "(III)I" } : Jvm.MethodName) prog_16_method_60_code (7 : Nat) (Option.some Jvm.ClassFile.FieldType.int)) ∈ lw_all := lw_g (lw_at lw_m7 124 rfl) rfl
theorem q1627 : (Jvm.Cond.constantLong "InflatedRowsModel" (267 : Nat) (40 : Int64)) ∈ lw_all := lw_g (lw_at lw_m7 125 rfl) rfl
theorem q1628 : (Jvm.Cond.methodLink "InflatedRowsModel" (269 : Nat) ({ cls := "InflatedRowsModel", name := "layWays", desc := "(II)V" } : Jvm.MethodName)) ∈ lw_all := lw_g (lw_at lw_m7 126 rfl) rfl
theorem q1629 : (Jvm.Cond.privateMethod ({ cls := "InflatedRowsModel", name := "layWays", desc := "(II)V" } : Jvm.MethodName)) ∈ lw_tbl := lw_at lw_m7 127 rfl
theorem q1630 : (Jvm.Cond.instanceMethod ({ cls := "InflatedRowsModel", name := "layWays", desc := "(II)V" } : Jvm.MethodName)) ∈ lw_all := lw_g (lw_at lw_m7 128 rfl) rfl
theorem q1631 : (Jvm.Cond.code ({ cls := "InflatedRowsModel", name := "layWays", desc := "(II)V" } : Jvm.MethodName) prog_16_method_58_code (6 : Nat) (Option.none : Option Jvm.ClassFile.FieldType)) ∈ lw_all := lw_g (lw_at lw_m7 129 rfl) rfl
theorem q1632 : (Jvm.Cond.methodLink "InflatedRowsModel" (262 : Nat) ({ cls := "InflatedRowsModel", name := "isImageAt", desc := "(IIII)Z" } : Jvm.MethodName)) ∈ lw_all := lw_g (lw_at lw_m7 130 rfl) rfl
theorem q1633 : (Jvm.Cond.privateMethod ({ cls := "InflatedRowsModel", name := "isImageAt", desc := "(IIII)Z" } : Jvm.MethodName)) ∈ lw_tbl := lw_at lw_m7 131 rfl
theorem q1634 : (Jvm.Cond.instanceMethod ({ cls := "InflatedRowsModel", name := "isImageAt", desc := "(IIII)Z" } : Jvm.MethodName)) ∈ lw_all := lw_g (lw_at lw_m7 132 rfl) rfl
theorem q1635 : (Jvm.Cond.code ({ cls := "InflatedRowsModel", name := "isImageAt", desc := "(IIII)Z" } : Jvm.MethodName) prog_16_method_57_code (7 : Nat) (Option.some Jvm.ClassFile.FieldType.boolean)) ∈ lw_all := lw_g (lw_at lw_m7 133 rfl) rfl
theorem q1636 : (Jvm.Cond.constant "InflatedRowsModel" (266 : Nat) (1000000 : Int32)) ∈ lw_all := lw_g (lw_at lw_m7 134 rfl) rfl
theorem q1637 : (Jvm.Cond.methodLink "InflatedRowsModel" (273 : Nat) ({ cls := "InflatedRowsModel", name := "firstAt", desc := "(III)I" } : Jvm.MethodName)) ∈ lw_all := lw_g (lw_at lw_m7 135 rfl) rfl
theorem q1638 : (Jvm.Cond.privateMethod ({ cls := "InflatedRowsModel", name := "firstAt", desc := "(III)I" } : Jvm.MethodName)) ∈ lw_tbl := lw_at lw_m7 136 rfl
theorem q1639 : (Jvm.Cond.instanceMethod ({ cls := "InflatedRowsModel", name := "firstAt", desc := "(III)I" } : Jvm.MethodName)) ∈ lw_all := lw_g (lw_at lw_m7 137 rfl) rfl
theorem q1640 : (Jvm.Cond.code ({ cls := "InflatedRowsModel", name := "firstAt", desc := "(III)I" } : Jvm.MethodName) prog_16_method_59_code (6 : Nat) (Option.some Jvm.ClassFile.FieldType.int)) ∈ lw_all := lw_g (lw_at lw_m7 138 rfl) rfl
theorem q1642 : (Jvm.Cond.instanceMethod ({ cls := "InflatedRowsModel", name := "who", desc := "(IIIIII)I" } : Jvm.MethodName)) ∈ lw_all := lw_g (lw_at lw_m7 140 rfl) rfl
theorem q1643 : (Jvm.Cond.selects "InflatedRowsModel" ({ cls := "InflatedRowsModel", name := "who", desc := "(IIIIII)I" } : Jvm.MethodName) ({ cls := "InflatedRowsModel", name := "who", desc := "(IIIIII)I" } : Jvm.MethodName)) ∈ lw_all := lw_g (lw_at lw_m7 141 rfl) rfl
theorem q1644 : (Jvm.Cond.code ({ cls := "InflatedRowsModel", name := "who", desc := "(IIIIII)I" } : Jvm.MethodName) prog_16_method_62_code (10 : Nat) (Option.some Jvm.ClassFile.FieldType.int)) ∈ lw_all := lw_g (lw_at lw_m7 142 rfl) rfl
theorem q1645 : (Jvm.Cond.methodLink "InflatedRowsModel" (277 : Nat) ({ cls := "InflatedRowsModel", name := "layThen", desc := "()V" } : Jvm.MethodName)) ∈ lw_all := lw_g (lw_at lw_m7 143 rfl) rfl
theorem q1646 : (Jvm.Cond.privateMethod ({ cls := "InflatedRowsModel", name := "layThen", desc := "()V" } : Jvm.MethodName)) ∈ lw_tbl := lw_at lw_m7 144 rfl
theorem q1647 : (Jvm.Cond.instanceMethod ({ cls := "InflatedRowsModel", name := "layThen", desc := "()V" } : Jvm.MethodName)) ∈ lw_all := lw_g (lw_at lw_m7 145 rfl) rfl
theorem q1648 : (Jvm.Cond.code ({ cls := "InflatedRowsModel", name := "layThen", desc := "()V" } : Jvm.MethodName) prog_16_method_11_code (2 : Nat) (Option.none : Option Jvm.ClassFile.FieldType)) ∈ lw_all := lw_g (lw_at lw_m7 146 rfl) rfl
theorem q1649 : (Jvm.Cond.methodLink "InflatedRowsModel" (280 : Nat) ({ cls := "InflatedRowsModel", name := "isSo", desc := "(III)Z" } : Jvm.MethodName)) ∈ lw_all := lw_g (lw_at lw_m7 147 rfl) rfl
theorem q1650 : (Jvm.Cond.privateMethod ({ cls := "InflatedRowsModel", name := "isSo", desc := "(III)Z" } : Jvm.MethodName)) ∈ lw_tbl := lw_at lw_m7 148 rfl
theorem q1651 : (Jvm.Cond.instanceMethod ({ cls := "InflatedRowsModel", name := "isSo", desc := "(III)Z" } : Jvm.MethodName)) ∈ lw_all := lw_g (lw_at lw_m7 149 rfl) rfl
theorem q1652 : (Jvm.Cond.code ({ cls := "InflatedRowsModel", name := "isSo", desc := "(III)Z" } : Jvm.MethodName) prog_16_method_61_code (7 : Nat) (Option.some Jvm.ClassFile.FieldType.boolean)) ∈ lw_all := lw_g (lw_at lw_m7 150 rfl) rfl
theorem q1654 : (Jvm.Cond.instanceMethod ({ cls := "InflatedRowsModel", name := "quiet", desc := "()I" } : Jvm.MethodName)) ∈ lw_all := lw_g (lw_at lw_m7 152 rfl) rfl
theorem q1655 : (Jvm.Cond.selects "InflatedRowsModel" ({ cls := "InflatedRowsModel", name := "quiet", desc := "()I" } : Jvm.MethodName) ({ cls := "InflatedRowsModel", name := "quiet", desc := "()I" } : Jvm.MethodName)) ∈ lw_all := lw_g (lw_at lw_m7 153 rfl) rfl
theorem q1656 : (Jvm.Cond.code ({ cls := "InflatedRowsModel", name := "quiet", desc := "()I" } : Jvm.MethodName) prog_16_method_63_code (4 : Nat) (Option.some Jvm.ClassFile.FieldType.int)) ∈ lw_all := lw_g (lw_at lw_m7 154 rfl) rfl
theorem q1658 : (Jvm.Cond.instanceMethod ({ cls := "InflatedRowsModel", name := "sets", desc := "(II)I" } : Jvm.MethodName)) ∈ lw_all := lw_g (lw_at lw_m7 156 rfl) rfl
theorem q1659 : (Jvm.Cond.selects "InflatedRowsModel" ({ cls := "InflatedRowsModel", name := "sets", desc := "(II)I" } : Jvm.MethodName) ({ cls := "InflatedRowsModel", name := "sets", desc := "(II)I" } : Jvm.MethodName)) ∈ lw_all := lw_g (lw_at lw_m7 157 rfl) rfl
theorem q1660 : (Jvm.Cond.code ({ cls := "InflatedRowsModel", name := "sets", desc := "(II)I" } : Jvm.MethodName) prog_16_method_64_code (10 : Nat) (Option.some Jvm.ClassFile.FieldType.int)) ∈ lw_all := lw_g (lw_at lw_m7 158 rfl) rfl
theorem q1661 : (Jvm.Cond.constantLong "InflatedRowsModel" (284 : Nat) (99 : Int64)) ∈ lw_all := lw_g (lw_at lw_m7 159 rfl) rfl
theorem q1663 : (Jvm.Cond.instanceMethod ({ cls := "InflatedRowsModel", name := "lost", desc := "(IIII)J" } : Jvm.MethodName)) ∈ lw_all := lw_g (lw_at lw_m7 161 rfl) rfl
theorem q1664 : (Jvm.Cond.selects "InflatedRowsModel" ({ cls := "InflatedRowsModel", name := "lost", desc := "(IIII)J" } : Jvm.MethodName) ({ cls := "InflatedRowsModel", name := "lost", desc := "(IIII)J" } : Jvm.MethodName)) ∈ lw_all := lw_g (lw_at lw_m7 162 rfl) rfl
theorem q1665 : (Jvm.Cond.code ({ cls := "InflatedRowsModel", name := "lost", desc := "(IIII)J" } : Jvm.MethodName) prog_16_method_66_code (14 : Nat) (Option.some Jvm.ClassFile.FieldType.long)) ∈ lw_all := lw_g (lw_at lw_m7 163 rfl) rfl
theorem q1666 : (Jvm.Cond.methodLink "InflatedRowsModel" (286 : Nat) ({ cls := "InflatedRowsModel", name := "oftenIn", desc := "(II)I" } : Jvm.MethodName)) ∈ lw_all := lw_g (lw_at lw_m7 164 rfl) rfl
theorem q1667 : (Jvm.Cond.privateMethod ({ cls := "InflatedRowsModel", name := "oftenIn", desc := "(II)I" } : Jvm.MethodName)) ∈ lw_tbl := lw_at lw_m7 165 rfl
theorem q1668 : (Jvm.Cond.instanceMethod ({ cls := "InflatedRowsModel", name := "oftenIn", desc := "(II)I" } : Jvm.MethodName)) ∈ lw_all := lw_g (lw_at lw_m7 166 rfl) rfl
theorem q1669 : (Jvm.Cond.code ({ cls := "InflatedRowsModel", name := "oftenIn", desc := "(II)I" } : Jvm.MethodName) prog_16_method_65_code (5 : Nat) (Option.some Jvm.ClassFile.FieldType.int)) ∈ lw_all := lw_g (lw_at lw_m7 167 rfl) rfl
theorem q1671 : (Jvm.Cond.instanceMethod ({ cls := "InflatedRowsModel", name := "drawn", desc := "(III)I" } : Jvm.MethodName)) ∈ lw_all := lw_g (lw_at lw_m7 169 rfl) rfl
theorem q1672 : (Jvm.Cond.selects "InflatedRowsModel" ({ cls := "InflatedRowsModel", name := "drawn", desc := "(III)I" } : Jvm.MethodName) ({ cls := "InflatedRowsModel", name := "drawn", desc := "(III)I" } : Jvm.MethodName)) ∈ lw_all := lw_g (lw_at lw_m7 170 rfl) rfl
theorem q1673 : (Jvm.Cond.code ({ cls := "InflatedRowsModel", name := "drawn", desc := "(III)I" } : Jvm.MethodName) prog_16_method_67_code (10 : Nat) (Option.some Jvm.ClassFile.FieldType.int)) ∈ lw_all := lw_g (lw_at lw_m7 171 rfl) rfl
theorem q1674 : (Jvm.Cond.constantLong "InflatedRowsModel" (289 : Nat) (30 : Int64)) ∈ lw_all := lw_g (lw_at lw_m7 172 rfl) rfl
theorem q1675 : (Jvm.Cond.constantLong "InflatedRowsModel" (291 : Nat) (999999 : Int64)) ∈ lw_all := lw_g (lw_at lw_m7 173 rfl) rfl
theorem q1676 : (Jvm.Cond.constant "InflatedRowsModel" (293 : Nat) (65535 : Int32)) ∈ lw_all := lw_g (lw_at lw_m7 174 rfl) rfl
theorem q1677 : (Jvm.Cond.constantLong "InflatedRowsModel" (294 : Nat) (16807 : Int64)) ∈ lw_all := lw_g (lw_at lw_m7 175 rfl) rfl
theorem q1678 : (Jvm.Cond.constantLong "InflatedRowsModel" (296 : Nat) (2147483647 : Int64)) ∈ lw_all := lw_g (lw_at lw_m7 176 rfl) rfl
theorem q1679 : (Jvm.Cond.constantLong "InflatedRowsModel" (298 : Nat) (16 : Int64)) ∈ lw_all := lw_g (lw_at lw_m7 177 rfl) rfl
theorem q1681 : (Jvm.Cond.instanceMethod ({ cls := "InflatedRowsModel", name := "image", desc := "(I)I" } : Jvm.MethodName)) ∈ lw_all := lw_g (lw_at lw_m7 179 rfl) rfl
theorem q1682 : (Jvm.Cond.selects "InflatedRowsModel" ({ cls := "InflatedRowsModel", name := "image", desc := "(I)I" } : Jvm.MethodName) ({ cls := "InflatedRowsModel", name := "image", desc := "(I)I" } : Jvm.MethodName)) ∈ lw_all := lw_g (lw_at lw_m7 180 rfl) rfl
theorem q1683 : (Jvm.Cond.code ({ cls := "InflatedRowsModel", name := "image", desc := "(I)I" } : Jvm.MethodName) prog_16_method_68_code (3 : Nat) (Option.some Jvm.ClassFile.FieldType.int)) ∈ lw_all := lw_g (lw_at lw_m7 181 rfl) rfl
theorem q1685 : (Jvm.Cond.instanceMethod ({ cls := "InflatedRowsModel", name := "restore", desc := "(I)I" } : Jvm.MethodName)) ∈ lw_all := lw_g (lw_at lw_m7 183 rfl) rfl
theorem q1686 : (Jvm.Cond.selects "InflatedRowsModel" ({ cls := "InflatedRowsModel", name := "restore", desc := "(I)I" } : Jvm.MethodName) ({ cls := "InflatedRowsModel", name := "restore", desc := "(I)I" } : Jvm.MethodName)) ∈ lw_all := lw_g (lw_at lw_m7 184 rfl) rfl
theorem q1687 : (Jvm.Cond.code ({ cls := "InflatedRowsModel", name := "restore", desc := "(I)I" } : Jvm.MethodName) prog_16_method_69_code (3 : Nat) (Option.some Jvm.ClassFile.FieldType.int)) ∈ lw_all := lw_g (lw_at lw_m7 185 rfl) rfl
theorem q1689 : (Jvm.Cond.instanceMethod ({ cls := "InflatedRowsModel", name := "kind", desc := "(I)I" } : Jvm.MethodName)) ∈ lw_all := lw_g (lw_at lw_m7 187 rfl) rfl
theorem q1690 : (Jvm.Cond.selects "InflatedRowsModel" ({ cls := "InflatedRowsModel", name := "kind", desc := "(I)I" } : Jvm.MethodName) ({ cls := "InflatedRowsModel", name := "kind", desc := "(I)I" } : Jvm.MethodName)) ∈ lw_all := lw_g (lw_at lw_m7 188 rfl) rfl
theorem q1691 : (Jvm.Cond.code ({ cls := "InflatedRowsModel", name := "kind", desc := "(I)I" } : Jvm.MethodName) prog_16_method_71_code (2 : Nat) (Option.some Jvm.ClassFile.FieldType.int)) ∈ lw_all := lw_g (lw_at lw_m7 189 rfl) rfl
theorem q1693 : (Jvm.Cond.instanceMethod ({ cls := "InflatedRowsModel", name := "as", desc := "(II)I" } : Jvm.MethodName)) ∈ lw_all := lw_g (lw_at lw_m7 191 rfl) rfl
theorem q1694 : (Jvm.Cond.selects "InflatedRowsModel" ({ cls := "InflatedRowsModel", name := "as", desc := "(II)I" } : Jvm.MethodName) ({ cls := "InflatedRowsModel", name := "as", desc := "(II)I" } : Jvm.MethodName)) ∈ lw_all := lw_g (lw_at lw_m7 192 rfl) rfl
theorem q1695 : (Jvm.Cond.code ({ cls := "InflatedRowsModel", name := "as", desc := "(II)I" } : Jvm.MethodName) prog_16_method_72_code (3 : Nat) (Option.some Jvm.ClassFile.FieldType.int)) ∈ lw_all := lw_g (lw_at lw_m7 193 rfl) rfl
theorem q1696 : (Jvm.Cond.methodLink "InflatedRowsModel" (300 : Nat) ({ cls := "InflatedRowsModel", name := "isOf", desc := "(II)Z" } : Jvm.MethodName)) ∈ lw_all := lw_g (lw_at lw_m7 194 rfl) rfl
theorem q1697 : (Jvm.Cond.static ({ cls := "InflatedRowsModel", name := "isOf", desc := "(II)Z" } : Jvm.MethodName)) ∈ lw_all := lw_g (lw_at lw_m7 195 rfl) rfl
theorem q1698 : (Jvm.Cond.code ({ cls := "InflatedRowsModel", name := "isOf", desc := "(II)Z" } : Jvm.MethodName) prog_16_method_70_code (2 : Nat) (Option.some Jvm.ClassFile.FieldType.boolean)) ∈ lw_all := lw_g (lw_at lw_m7 196 rfl) rfl
theorem q1700 : (Jvm.Cond.instanceMethod ({ cls := "InflatedRowsModel", name := "ask", desc := "(II)I" } : Jvm.MethodName)) ∈ lw_all := lw_g (lw_at lw_m7 198 rfl) rfl
theorem q1701 : (Jvm.Cond.selects "InflatedRowsModel" ({ cls := "InflatedRowsModel", name := "ask", desc := "(II)I" } : Jvm.MethodName) ({ cls := "InflatedRowsModel", name := "ask", desc := "(II)I" } : Jvm.MethodName)) ∈ lw_all := lw_g (lw_at lw_m7 199 rfl) rfl
theorem q1702 : (Jvm.Cond.code ({ cls := "InflatedRowsModel", name := "ask", desc := "(II)I" } : Jvm.MethodName) prog_16_method_78_code (3 : Nat) (Option.some Jvm.ClassFile.FieldType.int)) ∈ lw_all := lw_g (lw_at lw_m7 200 rfl) rfl
theorem q1703 : (Jvm.Cond.methodLink "InflatedRowsModel" (318 : Nat) ({ cls := "InflatedRowsModel", name := "askedSize", desc := "(I)I" } : Jvm.MethodName)) ∈ lw_all := lw_g (lw_at lw_m7 201 rfl) rfl
theorem q1704 : (Jvm.Cond.privateMethod ({ cls := "InflatedRowsModel", name := "askedSize", desc := "(I)I" } : Jvm.MethodName)) ∈ lw_tbl := lw_at lw_m7 202 rfl
theorem q1705 : (Jvm.Cond.instanceMethod ({ cls := "InflatedRowsModel", name := "askedSize", desc := "(I)I" } : Jvm.MethodName)) ∈ lw_all := lw_g (lw_at lw_m7 203 rfl) rfl
theorem q1706 : (Jvm.Cond.code ({ cls := "InflatedRowsModel", name := "askedSize", desc := "(I)I" } : Jvm.MethodName) prog_16_method_77_code (4 : Nat) (Option.some Jvm.ClassFile.FieldType.int)) ∈ lw_all := lw_g (lw_at lw_m7 204 rfl) rfl
theorem q1707 : (Jvm.Cond.methodLink "InflatedRowsModel" (312 : Nat) ({ cls := "InflatedRowsModel", name := "fixedSize", desc := "(I)I" } : Jvm.MethodName)) ∈ lw_all := lw_g (lw_at lw_m7 205 rfl) rfl
theorem q1708 : (Jvm.Cond.privateMethod ({ cls := "InflatedRowsModel", name := "fixedSize", desc := "(I)I" } : Jvm.MethodName)) ∈ lw_tbl := lw_at lw_m7 206 rfl
theorem q1709 : (Jvm.Cond.instanceMethod ({ cls := "InflatedRowsModel", name := "fixedSize", desc := "(I)I" } : Jvm.MethodName)) ∈ lw_all := lw_g (lw_at lw_m7 207 rfl) rfl
theorem q1710 : (Jvm.Cond.code ({ cls := "InflatedRowsModel", name := "fixedSize", desc := "(I)I" } : Jvm.MethodName) prog_16_method_75_code (4 : Nat) (Option.some Jvm.ClassFile.FieldType.int)) ∈ lw_all := lw_g (lw_at lw_m7 208 rfl) rfl
theorem q1711 : (Jvm.Cond.methodLink "InflatedRowsModel" (306 : Nat) ({ cls := "InflatedRowsModel", name := "began", desc := "(I)V" } : Jvm.MethodName)) ∈ lw_all := lw_g (lw_at lw_m7 209 rfl) rfl
theorem q1712 : (Jvm.Cond.privateMethod ({ cls := "InflatedRowsModel", name := "began", desc := "(I)V" } : Jvm.MethodName)) ∈ lw_tbl := lw_at lw_m7 210 rfl
theorem q1713 : (Jvm.Cond.instanceMethod ({ cls := "InflatedRowsModel", name := "began", desc := "(I)V" } : Jvm.MethodName)) ∈ lw_all := lw_g (lw_at lw_m7 211 rfl) rfl
theorem q1714 : (Jvm.Cond.code ({ cls := "InflatedRowsModel", name := "began", desc := "(I)V" } : Jvm.MethodName) prog_16_method_73_code (2 : Nat) (Option.none : Option Jvm.ClassFile.FieldType)) ∈ lw_all := lw_g (lw_at lw_m7 212 rfl) rfl
theorem q1715 : (Jvm.Cond.methodLink "InflatedRowsModel" (309 : Nat) ({ cls := "InflatedRowsModel", name := "lentSize", desc := "(I)I" } : Jvm.MethodName)) ∈ lw_all := lw_g (lw_at lw_m7 213 rfl) rfl
theorem q1716 : (Jvm.Cond.privateMethod ({ cls := "InflatedRowsModel", name := "lentSize", desc := "(I)I" } : Jvm.MethodName)) ∈ lw_tbl := lw_at lw_m7 214 rfl
theorem q1717 : (Jvm.Cond.instanceMethod ({ cls := "InflatedRowsModel", name := "lentSize", desc := "(I)I" } : Jvm.MethodName)) ∈ lw_all := lw_g (lw_at lw_m7 215 rfl) rfl
theorem q1718 : (Jvm.Cond.code ({ cls := "InflatedRowsModel", name := "lentSize", desc := "(I)I" } : Jvm.MethodName) prog_16_method_74_code (2 : Nat) (Option.some Jvm.ClassFile.FieldType.int)) ∈ lw_all := lw_g (lw_at lw_m7 216 rfl) rfl
theorem q1719 : (Jvm.Cond.methodLink "InflatedRowsModel" (315 : Nat) ({ cls := "InflatedRowsModel", name := "markOf", desc := "(I)I" } : Jvm.MethodName)) ∈ lw_all := lw_g (lw_at lw_m7 217 rfl) rfl
theorem q1720 : (Jvm.Cond.privateMethod ({ cls := "InflatedRowsModel", name := "markOf", desc := "(I)I" } : Jvm.MethodName)) ∈ lw_tbl := lw_at lw_m7 218 rfl
theorem q1721 : (Jvm.Cond.instanceMethod ({ cls := "InflatedRowsModel", name := "markOf", desc := "(I)I" } : Jvm.MethodName)) ∈ lw_all := lw_g (lw_at lw_m7 219 rfl) rfl
theorem q1722 : (Jvm.Cond.code ({ cls := "InflatedRowsModel", name := "markOf", desc := "(I)I" } : Jvm.MethodName) prog_16_method_76_code (4 : Nat) (Option.some Jvm.ClassFile.FieldType.int)) ∈ lw_all := lw_g (lw_at lw_m7 220 rfl) rfl
theorem q1724 : (Jvm.Cond.instanceMethod ({ cls := "InflatedRowsModel", name := "trace", desc := "(I)I" } : Jvm.MethodName)) ∈ lw_all := lw_g (lw_at lw_m7 222 rfl) rfl
theorem q1725 : (Jvm.Cond.selects "InflatedRowsModel" ({ cls := "InflatedRowsModel", name := "trace", desc := "(I)I" } : Jvm.MethodName) ({ cls := "InflatedRowsModel", name := "trace", desc := "(I)I" } : Jvm.MethodName)) ∈ lw_all := lw_g (lw_at lw_m7 223 rfl) rfl
theorem q1726 : (Jvm.Cond.code ({ cls := "InflatedRowsModel", name := "trace", desc := "(I)I" } : Jvm.MethodName) prog_16_method_79_code (2 : Nat) (Option.some Jvm.ClassFile.FieldType.int)) ∈ lw_all := lw_g (lw_at lw_m7 224 rfl) rfl
theorem q1728 : (Jvm.Cond.instanceMethod ({ cls := "InflatedRowsModel", name := "count", desc := "(I)I" } : Jvm.MethodName)) ∈ lw_all := lw_g (lw_at lw_m7 226 rfl) rfl
theorem q1729 : (Jvm.Cond.selects "InflatedRowsModel" ({ cls := "InflatedRowsModel", name := "count", desc := "(I)I" } : Jvm.MethodName) ({ cls := "InflatedRowsModel", name := "count", desc := "(I)I" } : Jvm.MethodName)) ∈ lw_all := lw_g (lw_at lw_m7 227 rfl) rfl
theorem q1730 : (Jvm.Cond.code ({ cls := "InflatedRowsModel", name := "count", desc := "(I)I" } : Jvm.MethodName) prog_16_method_81_code (4 : Nat) (Option.some Jvm.ClassFile.FieldType.int)) ∈ lw_all := lw_g (lw_at lw_m7 228 rfl) rfl
theorem q1731 : (Jvm.Cond.methodLink "InflatedRowsModel" (321 : Nat) ({ cls := "InflatedRowsModel", name := "lettersOfAll", desc := "()I" } : Jvm.MethodName)) ∈ lw_all := lw_g (lw_at lw_m7 229 rfl) rfl
theorem q1732 : (Jvm.Cond.privateMethod ({ cls := "InflatedRowsModel", name := "lettersOfAll", desc := "()I" } : Jvm.MethodName)) ∈ lw_tbl := lw_at lw_m7 230 rfl
theorem q1733 : (Jvm.Cond.instanceMethod ({ cls := "InflatedRowsModel", name := "lettersOfAll", desc := "()I" } : Jvm.MethodName)) ∈ lw_all := lw_g (lw_at lw_m7 231 rfl) rfl
theorem q1734 : (Jvm.Cond.code ({ cls := "InflatedRowsModel", name := "lettersOfAll", desc := "()I" } : Jvm.MethodName) prog_16_method_80_code (3 : Nat) (Option.some Jvm.ClassFile.FieldType.int)) ∈ lw_all := lw_g (lw_at lw_m7 232 rfl) rfl
theorem q1736 : (Jvm.Cond.instanceMethod ({ cls := "InflatedRowsModel", name := "status", desc := "()I" } : Jvm.MethodName)) ∈ lw_all := lw_g (lw_at lw_m7 234 rfl) rfl
theorem q1737 : (Jvm.Cond.selects "InflatedRowsModel" ({ cls := "InflatedRowsModel", name := "status", desc := "()I" } : Jvm.MethodName) ({ cls := "InflatedRowsModel", name := "status", desc := "()I" } : Jvm.MethodName)) ∈ lw_all := lw_g (lw_at lw_m7 235 rfl) rfl
theorem q1738 : (Jvm.Cond.code ({ cls := "InflatedRowsModel", name := "status", desc := "()I" } : Jvm.MethodName) prog_16_method_82_code (1 : Nat) (Option.some Jvm.ClassFile.FieldType.int)) ∈ lw_all := lw_g (lw_at lw_m7 236 rfl) rfl
theorem q1769 : (Jvm.Cond.castable "InflatedRowsModel" "java/lang/Object") ∈ lw_tbl := lw_at lw_m8 27 rfl
theorem in_X3 : ∀ w ∈ wsX30, w ∈ lw_all := lw_in wsX30 [1327, 1329, 1331, 1333, 1335, 1337, 1339, 1341, 1343, 1345, 1347, 1349, 1351, 1353, 1355, 1357, 1359, 1361, 1363, 1365, 1367, 1369, 1371, 1373, 1375, 1377, 1379, 1381, 1383, 1385] (by decide +kernel) (by decide +kernel)
