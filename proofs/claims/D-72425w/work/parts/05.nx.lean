/-! InflatedRows$Book -/
set_option maxRecDepth 100000
def RX1 : String := "InflatedRows$Book"
def TX1 : u_T := fun k => match k with
  | 0 => ("InflatedRows$Book", "m", "I", false)
  | 1 => ("InflatedRows$Book", "k", "I", false)
  | 2 => ("InflatedRows$Book", "sorts", "Ljava/util/List;", false)
  | 3 => ("InflatedRows$Book", "p", "[I", true)
  | 4 => ("InflatedRows$Book", "q", "[I", true)
  | 5 => ("InflatedRows$Book", "letters", "[I", true)
  | 6 => ("InflatedRows$Book", "word", "[I", true)
  | 7 => ("InflatedRows$Book", "row", "[I", true)
  | 8 => ("InflatedRows$Book", "size", "I", false)
  | 9 => ("InflatedRows$Book", "grown", "[I", true)
  | 10 => ("InflatedRows$Book", "from", "[I", true)
  | 11 => ("InflatedRows$Book", "next", "[I", true)
  | _ => ("InflatedRows$Book", "many", "I", false)
def tyX1 : Nat → FieldType := fun k => match k with
  | 0 => .int
  | 1 => .int
  | 2 => .object "java/util/List"
  | 3 => .array .int
  | 4 => .array .int
  | 5 => .array .int
  | 6 => .array .int
  | 7 => .array .int
  | 8 => .int
  | 9 => .array .int
  | 10 => .array .int
  | 11 => .array .int
  | _ => .int
abbrev wsX10 : List Cond := u_ws RX1 TX1 13
set_option maxRecDepth 100000 in
theorem nmX1 : ∀ a, a < 13 → ∀ b, b < 13 → a ≠ b → (TX1 a).2.1 ≠ (TX1 b).2.1 := by decide +kernel
set_option maxRecDepth 100000 in
theorem tyX1_ok : ∀ k, k < 13 → parseFieldDescriptor (TX1 k).2.2.1 = some (tyX1 k) := by decide +kernel
abbrev cX1_init : ByteArray := prog_2_method_1_code
def yX1_init : MethodName := ⟨RX1, "<init>", "()V"⟩
def dkwX1_init_0 : List UInt8 := [42, 16, 8, 183, 0, 3, 177]
abbrev dktX1_init_0 : List UInt8 := dkwX1_init_0 ++ []
theorem dksX1_init_0 : cX1_init.data.toList.drop 0 = dktX1_init_0 := by decide +kernel
theorem dX1_init_0 : decode cX1_init 0 = .ok (.aload_n 0, 1) := dk_42 (dk_at dksX1_init_0 0 rfl rfl)
theorem dX1_init_1 : decode cX1_init 1 = .ok (.bipush 8, 2) := dk_16 8 (dk_at dksX1_init_0 1 rfl rfl)
theorem dX1_init_3 : decode cX1_init 3 = .ok (.invokespecial 3, 3) := dk_183 0 3 (dk_at dksX1_init_0 3 rfl rfl)
theorem dX1_init_6 : decode cX1_init 6 = .ok (.return_, 1) := dk_177 (dk_at dksX1_init_0 6 rfl rfl)
abbrev cX1_init_2 : ByteArray := prog_2_method_2_code
def yX1_init_2 : MethodName := ⟨RX1, "<init>", "(I)V"⟩
def dkwX1_init_2_3 : List UInt8 := [18, 43, 181, 0, 44, 42, 27, 188, 10, 181, 0, 48, 177]
abbrev dktX1_init_2_3 : List UInt8 := dkwX1_init_2_3 ++ []
def dkwX1_init_2_2 : List UInt8 := [188, 10, 181, 0, 34, 42, 17, 1, 44, 188, 10, 181, 0, 37, 42, 17, 1, 44, 188, 10, 181, 0, 40, 42]
abbrev dktX1_init_2_2 : List UInt8 := dkwX1_init_2_2 ++ dktX1_init_2_3
def dkwX1_init_2_1 : List UInt8 := [188, 10, 181, 0, 25, 42, 7, 188, 10, 181, 0, 28, 42, 16, 16, 188, 10, 181, 0, 31, 42, 17, 1, 44]
abbrev dktX1_init_2_1 : List UInt8 := dkwX1_init_2_1 ++ dktX1_init_2_2
def dkwX1_init_2_0 : List UInt8 := [42, 183, 0, 9, 42, 187, 0, 14, 89, 183, 0, 16, 181, 0, 17, 42, 7, 188, 10, 181, 0, 21, 42, 7]
abbrev dktX1_init_2_0 : List UInt8 := dkwX1_init_2_0 ++ dktX1_init_2_1
theorem dksX1_init_2_0 : cX1_init_2.data.toList.drop 0 = dktX1_init_2_0 := by decide +kernel
theorem dksX1_init_2_1 : cX1_init_2.data.toList.drop 24 = dktX1_init_2_1 := dk_seg dksX1_init_2_0 24 rfl rfl
theorem dksX1_init_2_2 : cX1_init_2.data.toList.drop 48 = dktX1_init_2_2 := dk_seg dksX1_init_2_1 24 rfl rfl
theorem dksX1_init_2_3 : cX1_init_2.data.toList.drop 72 = dktX1_init_2_3 := dk_seg dksX1_init_2_2 24 rfl rfl
theorem dX1_init_2_0 : decode cX1_init_2 0 = .ok (.aload_n 0, 1) := dk_42 (dk_at dksX1_init_2_0 0 rfl rfl)
theorem dX1_init_2_1 : decode cX1_init_2 1 = .ok (.invokespecial 9, 3) := dk_183 0 9 (dk_at dksX1_init_2_0 1 rfl rfl)
theorem dX1_init_2_4 : decode cX1_init_2 4 = .ok (.aload_n 0, 1) := dk_42 (dk_at dksX1_init_2_0 4 rfl rfl)
theorem dX1_init_2_5 : decode cX1_init_2 5 = .ok (.new 14, 3) := dk_187 0 14 (dk_at dksX1_init_2_0 5 rfl rfl)
theorem dX1_init_2_8 : decode cX1_init_2 8 = .ok (.dup, 1) := dk_89 (dk_at dksX1_init_2_0 8 rfl rfl)
theorem dX1_init_2_9 : decode cX1_init_2 9 = .ok (.invokespecial 16, 3) := dk_183 0 16 (dk_at dksX1_init_2_0 9 rfl rfl)
theorem dX1_init_2_12 : decode cX1_init_2 12 = .ok (.putfield 17, 3) := dk_181 0 17 (dk_at dksX1_init_2_0 12 rfl rfl)
theorem dX1_init_2_15 : decode cX1_init_2 15 = .ok (.aload_n 0, 1) := dk_42 (dk_at dksX1_init_2_0 15 rfl rfl)
theorem dX1_init_2_16 : decode cX1_init_2 16 = .ok (.iconst 4, 1) := dk_7 (dk_at dksX1_init_2_0 16 rfl rfl)
theorem dX1_init_2_17 : decode cX1_init_2 17 = .ok (.newarray .int, 2) := dk_188_10 (dk_at dksX1_init_2_0 17 rfl rfl)
theorem dX1_init_2_19 : decode cX1_init_2 19 = .ok (.putfield 21, 3) := dk_181 0 21 (dk_at dksX1_init_2_0 19 rfl rfl)
theorem dX1_init_2_22 : decode cX1_init_2 22 = .ok (.aload_n 0, 1) := dk_42 (dk_at dksX1_init_2_0 22 rfl rfl)
theorem dX1_init_2_23 : decode cX1_init_2 23 = .ok (.iconst 4, 1) := dk_7 (dk_at dksX1_init_2_0 23 rfl rfl)
theorem dX1_init_2_24 : decode cX1_init_2 24 = .ok (.newarray .int, 2) := dk_188_10 (dk_at dksX1_init_2_1 0 rfl rfl)
theorem dX1_init_2_26 : decode cX1_init_2 26 = .ok (.putfield 25, 3) := dk_181 0 25 (dk_at dksX1_init_2_1 2 rfl rfl)
theorem dX1_init_2_29 : decode cX1_init_2 29 = .ok (.aload_n 0, 1) := dk_42 (dk_at dksX1_init_2_1 5 rfl rfl)
theorem dX1_init_2_30 : decode cX1_init_2 30 = .ok (.iconst 4, 1) := dk_7 (dk_at dksX1_init_2_1 6 rfl rfl)
theorem dX1_init_2_31 : decode cX1_init_2 31 = .ok (.newarray .int, 2) := dk_188_10 (dk_at dksX1_init_2_1 7 rfl rfl)
theorem dX1_init_2_33 : decode cX1_init_2 33 = .ok (.putfield 28, 3) := dk_181 0 28 (dk_at dksX1_init_2_1 9 rfl rfl)
theorem dX1_init_2_36 : decode cX1_init_2 36 = .ok (.aload_n 0, 1) := dk_42 (dk_at dksX1_init_2_1 12 rfl rfl)
theorem dX1_init_2_37 : decode cX1_init_2 37 = .ok (.bipush 16, 2) := dk_16 16 (dk_at dksX1_init_2_1 13 rfl rfl)
theorem dX1_init_2_39 : decode cX1_init_2 39 = .ok (.newarray .int, 2) := dk_188_10 (dk_at dksX1_init_2_1 15 rfl rfl)
theorem dX1_init_2_41 : decode cX1_init_2 41 = .ok (.putfield 31, 3) := dk_181 0 31 (dk_at dksX1_init_2_1 17 rfl rfl)
theorem dX1_init_2_44 : decode cX1_init_2 44 = .ok (.aload_n 0, 1) := dk_42 (dk_at dksX1_init_2_1 20 rfl rfl)
theorem dX1_init_2_45 : decode cX1_init_2 45 = .ok (.sipush 300, 3) := dk_17 1 44 (dk_at dksX1_init_2_1 21 rfl rfl)
theorem dX1_init_2_48 : decode cX1_init_2 48 = .ok (.newarray .int, 2) := dk_188_10 (dk_at dksX1_init_2_2 0 rfl rfl)
theorem dX1_init_2_50 : decode cX1_init_2 50 = .ok (.putfield 34, 3) := dk_181 0 34 (dk_at dksX1_init_2_2 2 rfl rfl)
theorem dX1_init_2_53 : decode cX1_init_2 53 = .ok (.aload_n 0, 1) := dk_42 (dk_at dksX1_init_2_2 5 rfl rfl)
theorem dX1_init_2_54 : decode cX1_init_2 54 = .ok (.sipush 300, 3) := dk_17 1 44 (dk_at dksX1_init_2_2 6 rfl rfl)
theorem dX1_init_2_57 : decode cX1_init_2 57 = .ok (.newarray .int, 2) := dk_188_10 (dk_at dksX1_init_2_2 9 rfl rfl)
theorem dX1_init_2_59 : decode cX1_init_2 59 = .ok (.putfield 37, 3) := dk_181 0 37 (dk_at dksX1_init_2_2 11 rfl rfl)
theorem dX1_init_2_62 : decode cX1_init_2 62 = .ok (.aload_n 0, 1) := dk_42 (dk_at dksX1_init_2_2 14 rfl rfl)
theorem dX1_init_2_63 : decode cX1_init_2 63 = .ok (.sipush 300, 3) := dk_17 1 44 (dk_at dksX1_init_2_2 15 rfl rfl)
theorem dX1_init_2_66 : decode cX1_init_2 66 = .ok (.newarray .int, 2) := dk_188_10 (dk_at dksX1_init_2_2 18 rfl rfl)
theorem dX1_init_2_68 : decode cX1_init_2 68 = .ok (.putfield 40, 3) := dk_181 0 40 (dk_at dksX1_init_2_2 20 rfl rfl)
theorem dX1_init_2_71 : decode cX1_init_2 71 = .ok (.aload_n 0, 1) := dk_42 (dk_at dksX1_init_2_2 23 rfl rfl)
theorem dX1_init_2_72 : decode cX1_init_2 72 = .ok (.ldc 43, 2) := dk_18 43 (dk_at dksX1_init_2_3 0 rfl rfl)
theorem dX1_init_2_74 : decode cX1_init_2 74 = .ok (.putfield 44, 3) := dk_181 0 44 (dk_at dksX1_init_2_3 2 rfl rfl)
theorem dX1_init_2_77 : decode cX1_init_2 77 = .ok (.aload_n 0, 1) := dk_42 (dk_at dksX1_init_2_3 5 rfl rfl)
theorem dX1_init_2_78 : decode cX1_init_2 78 = .ok (.iload_n 1, 1) := dk_27 (dk_at dksX1_init_2_3 6 rfl rfl)
theorem dX1_init_2_79 : decode cX1_init_2 79 = .ok (.newarray .int, 2) := dk_188_10 (dk_at dksX1_init_2_3 7 rfl rfl)
theorem dX1_init_2_81 : decode cX1_init_2 81 = .ok (.putfield 48, 3) := dk_181 0 48 (dk_at dksX1_init_2_3 9 rfl rfl)
theorem dX1_init_2_84 : decode cX1_init_2 84 = .ok (.return_, 1) := dk_177 (dk_at dksX1_init_2_3 12 rfl rfl)
abbrev cX1_sorts : ByteArray := prog_2_method_4_code
def yX1_sorts : MethodName := ⟨RX1, "sorts", "()I"⟩
def dkwX1_sorts_0 : List UInt8 := [42, 180, 0, 17, 185, 0, 66, 1, 0, 172]
abbrev dktX1_sorts_0 : List UInt8 := dkwX1_sorts_0 ++ []
theorem dksX1_sorts_0 : cX1_sorts.data.toList.drop 0 = dktX1_sorts_0 := by decide +kernel
theorem dX1_sorts_0 : decode cX1_sorts 0 = .ok (.aload_n 0, 1) := dk_42 (dk_at dksX1_sorts_0 0 rfl rfl)
theorem dX1_sorts_1 : decode cX1_sorts 1 = .ok (.getfield 17, 3) := dk_180 0 17 (dk_at dksX1_sorts_0 1 rfl rfl)
theorem dX1_sorts_4 : decode cX1_sorts 4 = .ok (.invokeinterface 66 1, 5) := by decide +kernel
theorem dX1_sorts_9 : decode cX1_sorts 9 = .ok (.ireturn, 1) := dk_172 (dk_at dksX1_sorts_0 9 rfl rfl)
abbrev cX1_spell : ByteArray := prog_2_method_7_code
def yX1_spell : MethodName := ⟨RX1, "spell", "(I[I)V"⟩
def dkwX1_spell_0 : List UInt8 := [44, 3, 42, 180, 0, 31, 7, 27, 104, 44, 190, 184, 0, 57, 42, 180, 0, 28, 27, 44, 190, 79, 177]
abbrev dktX1_spell_0 : List UInt8 := dkwX1_spell_0 ++ []
theorem dksX1_spell_0 : cX1_spell.data.toList.drop 0 = dktX1_spell_0 := by decide +kernel
theorem dX1_spell_0 : decode cX1_spell 0 = .ok (.aload_n 2, 1) := dk_44 (dk_at dksX1_spell_0 0 rfl rfl)
theorem dX1_spell_1 : decode cX1_spell 1 = .ok (.iconst 0, 1) := dk_3 (dk_at dksX1_spell_0 1 rfl rfl)
theorem dX1_spell_2 : decode cX1_spell 2 = .ok (.aload_n 0, 1) := dk_42 (dk_at dksX1_spell_0 2 rfl rfl)
theorem dX1_spell_3 : decode cX1_spell 3 = .ok (.getfield 31, 3) := dk_180 0 31 (dk_at dksX1_spell_0 3 rfl rfl)
theorem dX1_spell_6 : decode cX1_spell 6 = .ok (.iconst 4, 1) := dk_7 (dk_at dksX1_spell_0 6 rfl rfl)
theorem dX1_spell_7 : decode cX1_spell 7 = .ok (.iload_n 1, 1) := dk_27 (dk_at dksX1_spell_0 7 rfl rfl)
theorem dX1_spell_8 : decode cX1_spell 8 = .ok (.imul, 1) := dk_104 (dk_at dksX1_spell_0 8 rfl rfl)
theorem dX1_spell_9 : decode cX1_spell 9 = .ok (.aload_n 2, 1) := dk_44 (dk_at dksX1_spell_0 9 rfl rfl)
theorem dX1_spell_10 : decode cX1_spell 10 = .ok (.arraylength, 1) := dk_190 (dk_at dksX1_spell_0 10 rfl rfl)
theorem dX1_spell_11 : decode cX1_spell 11 = .ok (.invokestatic 57, 3) := dk_184 0 57 (dk_at dksX1_spell_0 11 rfl rfl)
theorem dX1_spell_14 : decode cX1_spell 14 = .ok (.aload_n 0, 1) := dk_42 (dk_at dksX1_spell_0 14 rfl rfl)
theorem dX1_spell_15 : decode cX1_spell 15 = .ok (.getfield 28, 3) := dk_180 0 28 (dk_at dksX1_spell_0 15 rfl rfl)
theorem dX1_spell_18 : decode cX1_spell 18 = .ok (.iload_n 1, 1) := dk_27 (dk_at dksX1_spell_0 18 rfl rfl)
theorem dX1_spell_19 : decode cX1_spell 19 = .ok (.aload_n 2, 1) := dk_44 (dk_at dksX1_spell_0 19 rfl rfl)
theorem dX1_spell_20 : decode cX1_spell 20 = .ok (.arraylength, 1) := dk_190 (dk_at dksX1_spell_0 20 rfl rfl)
theorem dX1_spell_21 : decode cX1_spell 21 = .ok (.iastore, 1) := dk_79 (dk_at dksX1_spell_0 21 rfl rfl)
theorem dX1_spell_22 : decode cX1_spell 22 = .ok (.return_, 1) := dk_177 (dk_at dksX1_spell_0 22 rfl rfl)
abbrev cX1_begin : ByteArray := prog_2_method_8_code
def yX1_begin : MethodName := ⟨RX1, "begin", "([I)V"⟩
def dkwX1_begin_0 : List UInt8 := [43, 3, 42, 180, 0, 48, 3, 43, 190, 184, 0, 57, 42, 43, 190, 181, 0, 63, 177]
abbrev dktX1_begin_0 : List UInt8 := dkwX1_begin_0 ++ []
theorem dksX1_begin_0 : cX1_begin.data.toList.drop 0 = dktX1_begin_0 := by decide +kernel
theorem dX1_begin_0 : decode cX1_begin 0 = .ok (.aload_n 1, 1) := dk_43 (dk_at dksX1_begin_0 0 rfl rfl)
theorem dX1_begin_1 : decode cX1_begin 1 = .ok (.iconst 0, 1) := dk_3 (dk_at dksX1_begin_0 1 rfl rfl)
theorem dX1_begin_2 : decode cX1_begin 2 = .ok (.aload_n 0, 1) := dk_42 (dk_at dksX1_begin_0 2 rfl rfl)
theorem dX1_begin_3 : decode cX1_begin 3 = .ok (.getfield 48, 3) := dk_180 0 48 (dk_at dksX1_begin_0 3 rfl rfl)
theorem dX1_begin_6 : decode cX1_begin 6 = .ok (.iconst 0, 1) := dk_3 (dk_at dksX1_begin_0 6 rfl rfl)
theorem dX1_begin_7 : decode cX1_begin 7 = .ok (.aload_n 1, 1) := dk_43 (dk_at dksX1_begin_0 7 rfl rfl)
theorem dX1_begin_8 : decode cX1_begin 8 = .ok (.arraylength, 1) := dk_190 (dk_at dksX1_begin_0 8 rfl rfl)
theorem dX1_begin_9 : decode cX1_begin 9 = .ok (.invokestatic 57, 3) := dk_184 0 57 (dk_at dksX1_begin_0 9 rfl rfl)
theorem dX1_begin_12 : decode cX1_begin 12 = .ok (.aload_n 0, 1) := dk_42 (dk_at dksX1_begin_0 12 rfl rfl)
theorem dX1_begin_13 : decode cX1_begin 13 = .ok (.aload_n 1, 1) := dk_43 (dk_at dksX1_begin_0 13 rfl rfl)
theorem dX1_begin_14 : decode cX1_begin 14 = .ok (.arraylength, 1) := dk_190 (dk_at dksX1_begin_0 14 rfl rfl)
theorem dX1_begin_15 : decode cX1_begin 15 = .ok (.putfield 63, 3) := dk_181 0 63 (dk_at dksX1_begin_0 15 rfl rfl)
theorem dX1_begin_18 : decode cX1_begin 18 = .ok (.return_, 1) := dk_177 (dk_at dksX1_begin_0 18 rfl rfl)
abbrev cX1_isWhole : ByteArray := prog_2_method_9_code
def yX1_isWhole : MethodName := ⟨RX1, "isWhole", "()Z"⟩
def dkwX1_isWhole_4 : List UInt8 := [167, 255, 224, 27, 172]
abbrev dktX1_isWhole_4 : List UInt8 := dkwX1_isWhole_4 ++ []
def dkwX1_isWhole_3 : List UInt8 := [42, 180, 0, 48, 28, 46, 42, 182, 0, 88, 162, 0, 7, 4, 167, 0, 4, 3, 126, 60, 132, 2, 1]
abbrev dktX1_isWhole_3 : List UInt8 := dkwX1_isWhole_3 ++ dktX1_isWhole_4
def dkwX1_isWhole_2 : List UInt8 := [60, 132, 3, 1, 167, 255, 218, 132, 2, 1, 167, 255, 202, 3, 61, 28, 42, 180, 0, 63, 162, 0, 30, 27]
abbrev dktX1_isWhole_2 : List UInt8 := dkwX1_isWhole_2 ++ dktX1_isWhole_3
def dkwX1_isWhole_1 : List UInt8 := [27, 42, 180, 0, 31, 7, 28, 104, 29, 96, 46, 42, 182, 0, 88, 162, 0, 7, 4, 167, 0, 4, 3, 126]
abbrev dktX1_isWhole_1 : List UInt8 := dkwX1_isWhole_1 ++ dktX1_isWhole_2
def dkwX1_isWhole_0 : List UInt8 := [4, 60, 3, 61, 28, 42, 182, 0, 88, 162, 0, 52, 3, 62, 29, 42, 180, 0, 28, 28, 46, 162, 0, 34]
abbrev dktX1_isWhole_0 : List UInt8 := dkwX1_isWhole_0 ++ dktX1_isWhole_1
theorem dksX1_isWhole_0 : cX1_isWhole.data.toList.drop 0 = dktX1_isWhole_0 := by decide +kernel
theorem dksX1_isWhole_1 : cX1_isWhole.data.toList.drop 24 = dktX1_isWhole_1 := dk_seg dksX1_isWhole_0 24 rfl rfl
theorem dksX1_isWhole_2 : cX1_isWhole.data.toList.drop 48 = dktX1_isWhole_2 := dk_seg dksX1_isWhole_1 24 rfl rfl
theorem dksX1_isWhole_3 : cX1_isWhole.data.toList.drop 72 = dktX1_isWhole_3 := dk_seg dksX1_isWhole_2 24 rfl rfl
theorem dksX1_isWhole_4 : cX1_isWhole.data.toList.drop 95 = dktX1_isWhole_4 := dk_seg dksX1_isWhole_3 23 rfl rfl
theorem dX1_isWhole_0 : decode cX1_isWhole 0 = .ok (.iconst 1, 1) := dk_4 (dk_at dksX1_isWhole_0 0 rfl rfl)
theorem dX1_isWhole_1 : decode cX1_isWhole 1 = .ok (.istore_n 1, 1) := dk_60 (dk_at dksX1_isWhole_0 1 rfl rfl)
theorem dX1_isWhole_2 : decode cX1_isWhole 2 = .ok (.iconst 0, 1) := dk_3 (dk_at dksX1_isWhole_0 2 rfl rfl)
theorem dX1_isWhole_3 : decode cX1_isWhole 3 = .ok (.istore_n 2, 1) := dk_61 (dk_at dksX1_isWhole_0 3 rfl rfl)
theorem dX1_isWhole_4 : decode cX1_isWhole 4 = .ok (.iload_n 2, 1) := dk_28 (dk_at dksX1_isWhole_0 4 rfl rfl)
theorem dX1_isWhole_5 : decode cX1_isWhole 5 = .ok (.aload_n 0, 1) := dk_42 (dk_at dksX1_isWhole_0 5 rfl rfl)
theorem dX1_isWhole_6 : decode cX1_isWhole 6 = .ok (.invokevirtual 88, 3) := dk_182 0 88 (dk_at dksX1_isWhole_0 6 rfl rfl)
theorem dX1_isWhole_9 : decode cX1_isWhole 9 = .ok (.if_icmp .ge 52, 3) := dk_162 0 52 (dk_at dksX1_isWhole_0 9 rfl rfl)
theorem dX1_isWhole_12 : decode cX1_isWhole 12 = .ok (.iconst 0, 1) := dk_3 (dk_at dksX1_isWhole_0 12 rfl rfl)
theorem dX1_isWhole_13 : decode cX1_isWhole 13 = .ok (.istore_n 3, 1) := dk_62 (dk_at dksX1_isWhole_0 13 rfl rfl)
theorem dX1_isWhole_14 : decode cX1_isWhole 14 = .ok (.iload_n 3, 1) := dk_29 (dk_at dksX1_isWhole_0 14 rfl rfl)
theorem dX1_isWhole_15 : decode cX1_isWhole 15 = .ok (.aload_n 0, 1) := dk_42 (dk_at dksX1_isWhole_0 15 rfl rfl)
theorem dX1_isWhole_16 : decode cX1_isWhole 16 = .ok (.getfield 28, 3) := dk_180 0 28 (dk_at dksX1_isWhole_0 16 rfl rfl)
theorem dX1_isWhole_19 : decode cX1_isWhole 19 = .ok (.iload_n 2, 1) := dk_28 (dk_at dksX1_isWhole_0 19 rfl rfl)
theorem dX1_isWhole_20 : decode cX1_isWhole 20 = .ok (.iaload, 1) := dk_46 (dk_at dksX1_isWhole_0 20 rfl rfl)
theorem dX1_isWhole_21 : decode cX1_isWhole 21 = .ok (.if_icmp .ge 34, 3) := dk_162 0 34 (dk_at dksX1_isWhole_0 21 rfl rfl)
theorem dX1_isWhole_24 : decode cX1_isWhole 24 = .ok (.iload_n 1, 1) := dk_27 (dk_at dksX1_isWhole_1 0 rfl rfl)
theorem dX1_isWhole_25 : decode cX1_isWhole 25 = .ok (.aload_n 0, 1) := dk_42 (dk_at dksX1_isWhole_1 1 rfl rfl)
theorem dX1_isWhole_26 : decode cX1_isWhole 26 = .ok (.getfield 31, 3) := dk_180 0 31 (dk_at dksX1_isWhole_1 2 rfl rfl)
theorem dX1_isWhole_29 : decode cX1_isWhole 29 = .ok (.iconst 4, 1) := dk_7 (dk_at dksX1_isWhole_1 5 rfl rfl)
theorem dX1_isWhole_30 : decode cX1_isWhole 30 = .ok (.iload_n 2, 1) := dk_28 (dk_at dksX1_isWhole_1 6 rfl rfl)
theorem dX1_isWhole_31 : decode cX1_isWhole 31 = .ok (.imul, 1) := dk_104 (dk_at dksX1_isWhole_1 7 rfl rfl)
theorem dX1_isWhole_32 : decode cX1_isWhole 32 = .ok (.iload_n 3, 1) := dk_29 (dk_at dksX1_isWhole_1 8 rfl rfl)
theorem dX1_isWhole_33 : decode cX1_isWhole 33 = .ok (.iadd, 1) := dk_96 (dk_at dksX1_isWhole_1 9 rfl rfl)
theorem dX1_isWhole_34 : decode cX1_isWhole 34 = .ok (.iaload, 1) := dk_46 (dk_at dksX1_isWhole_1 10 rfl rfl)
theorem dX1_isWhole_35 : decode cX1_isWhole 35 = .ok (.aload_n 0, 1) := dk_42 (dk_at dksX1_isWhole_1 11 rfl rfl)
theorem dX1_isWhole_36 : decode cX1_isWhole 36 = .ok (.invokevirtual 88, 3) := dk_182 0 88 (dk_at dksX1_isWhole_1 12 rfl rfl)
theorem dX1_isWhole_39 : decode cX1_isWhole 39 = .ok (.if_icmp .ge 7, 3) := dk_162 0 7 (dk_at dksX1_isWhole_1 15 rfl rfl)
theorem dX1_isWhole_42 : decode cX1_isWhole 42 = .ok (.iconst 1, 1) := dk_4 (dk_at dksX1_isWhole_1 18 rfl rfl)
theorem dX1_isWhole_43 : decode cX1_isWhole 43 = .ok (.goto 4, 3) := dk_167 0 4 (dk_at dksX1_isWhole_1 19 rfl rfl)
theorem dX1_isWhole_46 : decode cX1_isWhole 46 = .ok (.iconst 0, 1) := dk_3 (dk_at dksX1_isWhole_1 22 rfl rfl)
theorem dX1_isWhole_47 : decode cX1_isWhole 47 = .ok (.iand, 1) := dk_126 (dk_at dksX1_isWhole_1 23 rfl rfl)
theorem dX1_isWhole_48 : decode cX1_isWhole 48 = .ok (.istore_n 1, 1) := dk_60 (dk_at dksX1_isWhole_2 0 rfl rfl)
theorem dX1_isWhole_49 : decode cX1_isWhole 49 = .ok (.iinc 3 1, 3) := dk_132 3 1 (dk_at dksX1_isWhole_2 1 rfl rfl)
theorem dX1_isWhole_52 : decode cX1_isWhole 52 = .ok (.goto (-38), 3) := dk_167 255 218 (dk_at dksX1_isWhole_2 4 rfl rfl)
theorem dX1_isWhole_55 : decode cX1_isWhole 55 = .ok (.iinc 2 1, 3) := dk_132 2 1 (dk_at dksX1_isWhole_2 7 rfl rfl)
theorem dX1_isWhole_58 : decode cX1_isWhole 58 = .ok (.goto (-54), 3) := dk_167 255 202 (dk_at dksX1_isWhole_2 10 rfl rfl)
theorem dX1_isWhole_61 : decode cX1_isWhole 61 = .ok (.iconst 0, 1) := dk_3 (dk_at dksX1_isWhole_2 13 rfl rfl)
theorem dX1_isWhole_62 : decode cX1_isWhole 62 = .ok (.istore_n 2, 1) := dk_61 (dk_at dksX1_isWhole_2 14 rfl rfl)
theorem dX1_isWhole_63 : decode cX1_isWhole 63 = .ok (.iload_n 2, 1) := dk_28 (dk_at dksX1_isWhole_2 15 rfl rfl)
theorem dX1_isWhole_64 : decode cX1_isWhole 64 = .ok (.aload_n 0, 1) := dk_42 (dk_at dksX1_isWhole_2 16 rfl rfl)
theorem dX1_isWhole_65 : decode cX1_isWhole 65 = .ok (.getfield 63, 3) := dk_180 0 63 (dk_at dksX1_isWhole_2 17 rfl rfl)
theorem dX1_isWhole_68 : decode cX1_isWhole 68 = .ok (.if_icmp .ge 30, 3) := dk_162 0 30 (dk_at dksX1_isWhole_2 20 rfl rfl)
theorem dX1_isWhole_71 : decode cX1_isWhole 71 = .ok (.iload_n 1, 1) := dk_27 (dk_at dksX1_isWhole_2 23 rfl rfl)
theorem dX1_isWhole_72 : decode cX1_isWhole 72 = .ok (.aload_n 0, 1) := dk_42 (dk_at dksX1_isWhole_3 0 rfl rfl)
theorem dX1_isWhole_73 : decode cX1_isWhole 73 = .ok (.getfield 48, 3) := dk_180 0 48 (dk_at dksX1_isWhole_3 1 rfl rfl)
theorem dX1_isWhole_76 : decode cX1_isWhole 76 = .ok (.iload_n 2, 1) := dk_28 (dk_at dksX1_isWhole_3 4 rfl rfl)
theorem dX1_isWhole_77 : decode cX1_isWhole 77 = .ok (.iaload, 1) := dk_46 (dk_at dksX1_isWhole_3 5 rfl rfl)
theorem dX1_isWhole_78 : decode cX1_isWhole 78 = .ok (.aload_n 0, 1) := dk_42 (dk_at dksX1_isWhole_3 6 rfl rfl)
theorem dX1_isWhole_79 : decode cX1_isWhole 79 = .ok (.invokevirtual 88, 3) := dk_182 0 88 (dk_at dksX1_isWhole_3 7 rfl rfl)
theorem dX1_isWhole_82 : decode cX1_isWhole 82 = .ok (.if_icmp .ge 7, 3) := dk_162 0 7 (dk_at dksX1_isWhole_3 10 rfl rfl)
theorem dX1_isWhole_85 : decode cX1_isWhole 85 = .ok (.iconst 1, 1) := dk_4 (dk_at dksX1_isWhole_3 13 rfl rfl)
theorem dX1_isWhole_86 : decode cX1_isWhole 86 = .ok (.goto 4, 3) := dk_167 0 4 (dk_at dksX1_isWhole_3 14 rfl rfl)
theorem dX1_isWhole_89 : decode cX1_isWhole 89 = .ok (.iconst 0, 1) := dk_3 (dk_at dksX1_isWhole_3 17 rfl rfl)
theorem dX1_isWhole_90 : decode cX1_isWhole 90 = .ok (.iand, 1) := dk_126 (dk_at dksX1_isWhole_3 18 rfl rfl)
theorem dX1_isWhole_91 : decode cX1_isWhole 91 = .ok (.istore_n 1, 1) := dk_60 (dk_at dksX1_isWhole_3 19 rfl rfl)
theorem dX1_isWhole_92 : decode cX1_isWhole 92 = .ok (.iinc 2 1, 3) := dk_132 2 1 (dk_at dksX1_isWhole_3 20 rfl rfl)
theorem dX1_isWhole_95 : decode cX1_isWhole 95 = .ok (.goto (-32), 3) := dk_167 255 224 (dk_at dksX1_isWhole_4 0 rfl rfl)
theorem dX1_isWhole_98 : decode cX1_isWhole 98 = .ok (.iload_n 1, 1) := dk_27 (dk_at dksX1_isWhole_4 3 rfl rfl)
theorem dX1_isWhole_99 : decode cX1_isWhole 99 = .ok (.ireturn, 1) := dk_172 (dk_at dksX1_isWhole_4 4 rfl rfl)
abbrev cX1_become : ByteArray := prog_2_method_3_code
def yX1_become : MethodName := ⟨RX1, "become", "(LInflatedRows$Book;)LInflatedRows$Book;"⟩
def dkwX1_become_4 : List UInt8 := [184, 0, 57, 42, 43, 180, 0, 63, 181, 0, 63, 42, 176]
abbrev dktX1_become_4 : List UInt8 := dkwX1_become_4 ++ []
def dkwX1_become_3 : List UInt8 := [180, 0, 31, 3, 42, 180, 0, 31, 190, 184, 0, 57, 43, 180, 0, 48, 3, 42, 180, 0, 48, 3, 16, 8]
abbrev dktX1_become_3 : List UInt8 := dkwX1_become_3 ++ dktX1_become_4
def dkwX1_become_2 : List UInt8 := [7, 184, 0, 57, 43, 180, 0, 28, 3, 42, 180, 0, 28, 3, 7, 184, 0, 57, 43, 180, 0, 31, 3, 42]
abbrev dktX1_become_2 : List UInt8 := dkwX1_become_2 ++ dktX1_become_3
def dkwX1_become_1 : List UInt8 := [43, 180, 0, 21, 3, 42, 180, 0, 21, 3, 7, 184, 0, 57, 43, 180, 0, 25, 3, 42, 180, 0, 25, 3]
abbrev dktX1_become_1 : List UInt8 := dkwX1_become_1 ++ dktX1_become_2
def dkwX1_become_0 : List UInt8 := [42, 43, 180, 0, 51, 181, 0, 51, 42, 43, 180, 0, 54, 181, 0, 54, 42, 43, 180, 0, 17, 181, 0, 17]
abbrev dktX1_become_0 : List UInt8 := dkwX1_become_0 ++ dktX1_become_1
theorem dksX1_become_0 : cX1_become.data.toList.drop 0 = dktX1_become_0 := by decide +kernel
theorem dksX1_become_1 : cX1_become.data.toList.drop 24 = dktX1_become_1 := dk_seg dksX1_become_0 24 rfl rfl
theorem dksX1_become_2 : cX1_become.data.toList.drop 48 = dktX1_become_2 := dk_seg dksX1_become_1 24 rfl rfl
theorem dksX1_become_3 : cX1_become.data.toList.drop 72 = dktX1_become_3 := dk_seg dksX1_become_2 24 rfl rfl
theorem dksX1_become_4 : cX1_become.data.toList.drop 96 = dktX1_become_4 := dk_seg dksX1_become_3 24 rfl rfl
theorem dX1_become_0 : decode cX1_become 0 = .ok (.aload_n 0, 1) := dk_42 (dk_at dksX1_become_0 0 rfl rfl)
theorem dX1_become_1 : decode cX1_become 1 = .ok (.aload_n 1, 1) := dk_43 (dk_at dksX1_become_0 1 rfl rfl)
theorem dX1_become_2 : decode cX1_become 2 = .ok (.getfield 51, 3) := dk_180 0 51 (dk_at dksX1_become_0 2 rfl rfl)
theorem dX1_become_5 : decode cX1_become 5 = .ok (.putfield 51, 3) := dk_181 0 51 (dk_at dksX1_become_0 5 rfl rfl)
theorem dX1_become_8 : decode cX1_become 8 = .ok (.aload_n 0, 1) := dk_42 (dk_at dksX1_become_0 8 rfl rfl)
theorem dX1_become_9 : decode cX1_become 9 = .ok (.aload_n 1, 1) := dk_43 (dk_at dksX1_become_0 9 rfl rfl)
theorem dX1_become_10 : decode cX1_become 10 = .ok (.getfield 54, 3) := dk_180 0 54 (dk_at dksX1_become_0 10 rfl rfl)
theorem dX1_become_13 : decode cX1_become 13 = .ok (.putfield 54, 3) := dk_181 0 54 (dk_at dksX1_become_0 13 rfl rfl)
theorem dX1_become_16 : decode cX1_become 16 = .ok (.aload_n 0, 1) := dk_42 (dk_at dksX1_become_0 16 rfl rfl)
theorem dX1_become_17 : decode cX1_become 17 = .ok (.aload_n 1, 1) := dk_43 (dk_at dksX1_become_0 17 rfl rfl)
theorem dX1_become_18 : decode cX1_become 18 = .ok (.getfield 17, 3) := dk_180 0 17 (dk_at dksX1_become_0 18 rfl rfl)
theorem dX1_become_21 : decode cX1_become 21 = .ok (.putfield 17, 3) := dk_181 0 17 (dk_at dksX1_become_0 21 rfl rfl)
theorem dX1_become_24 : decode cX1_become 24 = .ok (.aload_n 1, 1) := dk_43 (dk_at dksX1_become_1 0 rfl rfl)
theorem dX1_become_25 : decode cX1_become 25 = .ok (.getfield 21, 3) := dk_180 0 21 (dk_at dksX1_become_1 1 rfl rfl)
theorem dX1_become_28 : decode cX1_become 28 = .ok (.iconst 0, 1) := dk_3 (dk_at dksX1_become_1 4 rfl rfl)
theorem dX1_become_29 : decode cX1_become 29 = .ok (.aload_n 0, 1) := dk_42 (dk_at dksX1_become_1 5 rfl rfl)
theorem dX1_become_30 : decode cX1_become 30 = .ok (.getfield 21, 3) := dk_180 0 21 (dk_at dksX1_become_1 6 rfl rfl)
theorem dX1_become_33 : decode cX1_become 33 = .ok (.iconst 0, 1) := dk_3 (dk_at dksX1_become_1 9 rfl rfl)
theorem dX1_become_34 : decode cX1_become 34 = .ok (.iconst 4, 1) := dk_7 (dk_at dksX1_become_1 10 rfl rfl)
theorem dX1_become_35 : decode cX1_become 35 = .ok (.invokestatic 57, 3) := dk_184 0 57 (dk_at dksX1_become_1 11 rfl rfl)
theorem dX1_become_38 : decode cX1_become 38 = .ok (.aload_n 1, 1) := dk_43 (dk_at dksX1_become_1 14 rfl rfl)
theorem dX1_become_39 : decode cX1_become 39 = .ok (.getfield 25, 3) := dk_180 0 25 (dk_at dksX1_become_1 15 rfl rfl)
theorem dX1_become_42 : decode cX1_become 42 = .ok (.iconst 0, 1) := dk_3 (dk_at dksX1_become_1 18 rfl rfl)
theorem dX1_become_43 : decode cX1_become 43 = .ok (.aload_n 0, 1) := dk_42 (dk_at dksX1_become_1 19 rfl rfl)
theorem dX1_become_44 : decode cX1_become 44 = .ok (.getfield 25, 3) := dk_180 0 25 (dk_at dksX1_become_1 20 rfl rfl)
theorem dX1_become_47 : decode cX1_become 47 = .ok (.iconst 0, 1) := dk_3 (dk_at dksX1_become_1 23 rfl rfl)
theorem dX1_become_48 : decode cX1_become 48 = .ok (.iconst 4, 1) := dk_7 (dk_at dksX1_become_2 0 rfl rfl)
theorem dX1_become_49 : decode cX1_become 49 = .ok (.invokestatic 57, 3) := dk_184 0 57 (dk_at dksX1_become_2 1 rfl rfl)
theorem dX1_become_52 : decode cX1_become 52 = .ok (.aload_n 1, 1) := dk_43 (dk_at dksX1_become_2 4 rfl rfl)
theorem dX1_become_53 : decode cX1_become 53 = .ok (.getfield 28, 3) := dk_180 0 28 (dk_at dksX1_become_2 5 rfl rfl)
theorem dX1_become_56 : decode cX1_become 56 = .ok (.iconst 0, 1) := dk_3 (dk_at dksX1_become_2 8 rfl rfl)
theorem dX1_become_57 : decode cX1_become 57 = .ok (.aload_n 0, 1) := dk_42 (dk_at dksX1_become_2 9 rfl rfl)
theorem dX1_become_58 : decode cX1_become 58 = .ok (.getfield 28, 3) := dk_180 0 28 (dk_at dksX1_become_2 10 rfl rfl)
theorem dX1_become_61 : decode cX1_become 61 = .ok (.iconst 0, 1) := dk_3 (dk_at dksX1_become_2 13 rfl rfl)
theorem dX1_become_62 : decode cX1_become 62 = .ok (.iconst 4, 1) := dk_7 (dk_at dksX1_become_2 14 rfl rfl)
theorem dX1_become_63 : decode cX1_become 63 = .ok (.invokestatic 57, 3) := dk_184 0 57 (dk_at dksX1_become_2 15 rfl rfl)
theorem dX1_become_66 : decode cX1_become 66 = .ok (.aload_n 1, 1) := dk_43 (dk_at dksX1_become_2 18 rfl rfl)
theorem dX1_become_67 : decode cX1_become 67 = .ok (.getfield 31, 3) := dk_180 0 31 (dk_at dksX1_become_2 19 rfl rfl)
theorem dX1_become_70 : decode cX1_become 70 = .ok (.iconst 0, 1) := dk_3 (dk_at dksX1_become_2 22 rfl rfl)
theorem dX1_become_71 : decode cX1_become 71 = .ok (.aload_n 0, 1) := dk_42 (dk_at dksX1_become_2 23 rfl rfl)
theorem dX1_become_72 : decode cX1_become 72 = .ok (.getfield 31, 3) := dk_180 0 31 (dk_at dksX1_become_3 0 rfl rfl)
theorem dX1_become_75 : decode cX1_become 75 = .ok (.iconst 0, 1) := dk_3 (dk_at dksX1_become_3 3 rfl rfl)
theorem dX1_become_76 : decode cX1_become 76 = .ok (.aload_n 0, 1) := dk_42 (dk_at dksX1_become_3 4 rfl rfl)
theorem dX1_become_77 : decode cX1_become 77 = .ok (.getfield 31, 3) := dk_180 0 31 (dk_at dksX1_become_3 5 rfl rfl)
theorem dX1_become_80 : decode cX1_become 80 = .ok (.arraylength, 1) := dk_190 (dk_at dksX1_become_3 8 rfl rfl)
theorem dX1_become_81 : decode cX1_become 81 = .ok (.invokestatic 57, 3) := dk_184 0 57 (dk_at dksX1_become_3 9 rfl rfl)
theorem dX1_become_84 : decode cX1_become 84 = .ok (.aload_n 1, 1) := dk_43 (dk_at dksX1_become_3 12 rfl rfl)
theorem dX1_become_85 : decode cX1_become 85 = .ok (.getfield 48, 3) := dk_180 0 48 (dk_at dksX1_become_3 13 rfl rfl)
theorem dX1_become_88 : decode cX1_become 88 = .ok (.iconst 0, 1) := dk_3 (dk_at dksX1_become_3 16 rfl rfl)
theorem dX1_become_89 : decode cX1_become 89 = .ok (.aload_n 0, 1) := dk_42 (dk_at dksX1_become_3 17 rfl rfl)
theorem dX1_become_90 : decode cX1_become 90 = .ok (.getfield 48, 3) := dk_180 0 48 (dk_at dksX1_become_3 18 rfl rfl)
theorem dX1_become_93 : decode cX1_become 93 = .ok (.iconst 0, 1) := dk_3 (dk_at dksX1_become_3 21 rfl rfl)
theorem dX1_become_94 : decode cX1_become 94 = .ok (.bipush 8, 2) := dk_16 8 (dk_at dksX1_become_3 22 rfl rfl)
theorem dX1_become_96 : decode cX1_become 96 = .ok (.invokestatic 57, 3) := dk_184 0 57 (dk_at dksX1_become_4 0 rfl rfl)
theorem dX1_become_99 : decode cX1_become 99 = .ok (.aload_n 0, 1) := dk_42 (dk_at dksX1_become_4 3 rfl rfl)
theorem dX1_become_100 : decode cX1_become 100 = .ok (.aload_n 1, 1) := dk_43 (dk_at dksX1_become_4 4 rfl rfl)
theorem dX1_become_101 : decode cX1_become 101 = .ok (.getfield 63, 3) := dk_180 0 63 (dk_at dksX1_become_4 5 rfl rfl)
theorem dX1_become_104 : decode cX1_become 104 = .ok (.putfield 63, 3) := dk_181 0 63 (dk_at dksX1_become_4 8 rfl rfl)
theorem dX1_become_107 : decode cX1_become 107 = .ok (.aload_n 0, 1) := dk_42 (dk_at dksX1_become_4 11 rfl rfl)
theorem dX1_become_108 : decode cX1_become 108 = .ok (.areturn, 1) := dk_176 (dk_at dksX1_become_4 12 rfl rfl)
abbrev cX1_at : ByteArray := prog_2_method_5_code
def yX1_at : MethodName := ⟨RX1, "at", "(I)LInflatedRows$Sort;"⟩
def dkwX1_at_0 : List UInt8 := [42, 180, 0, 17, 27, 185, 0, 71, 2, 0, 192, 0, 75, 176]
abbrev dktX1_at_0 : List UInt8 := dkwX1_at_0 ++ []
theorem dksX1_at_0 : cX1_at.data.toList.drop 0 = dktX1_at_0 := by decide +kernel
theorem dX1_at_0 : decode cX1_at 0 = .ok (.aload_n 0, 1) := dk_42 (dk_at dksX1_at_0 0 rfl rfl)
theorem dX1_at_1 : decode cX1_at 1 = .ok (.getfield 17, 3) := dk_180 0 17 (dk_at dksX1_at_0 1 rfl rfl)
theorem dX1_at_4 : decode cX1_at 4 = .ok (.iload_n 1, 1) := dk_27 (dk_at dksX1_at_0 4 rfl rfl)
theorem dX1_at_5 : decode cX1_at 5 = .ok (.invokeinterface 71 2, 5) := by decide +kernel
theorem dX1_at_10 : decode cX1_at 10 = .ok (.checkcast 75, 3) := dk_192 0 75 (dk_at dksX1_at_0 10 rfl rfl)
theorem dX1_at_13 : decode cX1_at 13 = .ok (.areturn, 1) := dk_176 (dk_at dksX1_at_0 13 rfl rfl)
abbrev cX1_with : ByteArray := prog_2_method_6_code
def yX1_with : MethodName := ⟨RX1, "with", "(II)LInflatedRows$Book;"⟩
def dkwX1_with_1 : List UInt8 := [87, 42, 45, 181, 0, 17, 42, 176]
abbrev dktX1_with_1 : List UInt8 := dkwX1_with_1 ++ []
def dkwX1_with_0 : List UInt8 := [187, 0, 14, 89, 42, 180, 0, 17, 183, 0, 77, 78, 45, 27, 28, 27, 184, 0, 80, 185, 0, 84, 3, 0]
abbrev dktX1_with_0 : List UInt8 := dkwX1_with_0 ++ dktX1_with_1
theorem dksX1_with_0 : cX1_with.data.toList.drop 0 = dktX1_with_0 := by decide +kernel
theorem dksX1_with_1 : cX1_with.data.toList.drop 24 = dktX1_with_1 := dk_seg dksX1_with_0 24 rfl rfl
theorem dX1_with_0 : decode cX1_with 0 = .ok (.new 14, 3) := dk_187 0 14 (dk_at dksX1_with_0 0 rfl rfl)
theorem dX1_with_3 : decode cX1_with 3 = .ok (.dup, 1) := dk_89 (dk_at dksX1_with_0 3 rfl rfl)
theorem dX1_with_4 : decode cX1_with 4 = .ok (.aload_n 0, 1) := dk_42 (dk_at dksX1_with_0 4 rfl rfl)
theorem dX1_with_5 : decode cX1_with 5 = .ok (.getfield 17, 3) := dk_180 0 17 (dk_at dksX1_with_0 5 rfl rfl)
theorem dX1_with_8 : decode cX1_with 8 = .ok (.invokespecial 77, 3) := dk_183 0 77 (dk_at dksX1_with_0 8 rfl rfl)
theorem dX1_with_11 : decode cX1_with 11 = .ok (.astore_n 3, 1) := dk_78 (dk_at dksX1_with_0 11 rfl rfl)
theorem dX1_with_12 : decode cX1_with 12 = .ok (.aload_n 3, 1) := dk_45 (dk_at dksX1_with_0 12 rfl rfl)
theorem dX1_with_13 : decode cX1_with 13 = .ok (.iload_n 1, 1) := dk_27 (dk_at dksX1_with_0 13 rfl rfl)
theorem dX1_with_14 : decode cX1_with 14 = .ok (.iload_n 2, 1) := dk_28 (dk_at dksX1_with_0 14 rfl rfl)
theorem dX1_with_15 : decode cX1_with 15 = .ok (.iload_n 1, 1) := dk_27 (dk_at dksX1_with_0 15 rfl rfl)
theorem dX1_with_16 : decode cX1_with 16 = .ok (.invokestatic 80, 3) := dk_184 0 80 (dk_at dksX1_with_0 16 rfl rfl)
theorem dX1_with_19 : decode cX1_with 19 = .ok (.invokeinterface 84 3, 5) := by decide +kernel
theorem dX1_with_24 : decode cX1_with 24 = .ok (.pop, 1) := dk_87 (dk_at dksX1_with_1 0 rfl rfl)
theorem dX1_with_25 : decode cX1_with 25 = .ok (.aload_n 0, 1) := dk_42 (dk_at dksX1_with_1 1 rfl rfl)
theorem dX1_with_26 : decode cX1_with 26 = .ok (.aload_n 3, 1) := dk_45 (dk_at dksX1_with_1 2 rfl rfl)
theorem dX1_with_27 : decode cX1_with 27 = .ok (.putfield 17, 3) := dk_181 0 17 (dk_at dksX1_with_1 3 rfl rfl)
theorem dX1_with_30 : decode cX1_with 30 = .ok (.aload_n 0, 1) := dk_42 (dk_at dksX1_with_1 6 rfl rfl)
theorem dX1_with_31 : decode cX1_with 31 = .ok (.areturn, 1) := dk_176 (dk_at dksX1_with_1 7 rfl rfl)
abbrev cX1_grow : ByteArray := prog_2_method_10_code
def yX1_grow : MethodName := ⟨RX1, "grow", "(I)Z"⟩
def dkwX1_grow_6 : List UInt8 := [132, 2, 1, 167, 255, 142, 4, 172]
abbrev dktX1_grow_6 : List UInt8 := dkwX1_grow_6 ++ []
def dkwX1_grow_5 : List UInt8 := [167, 255, 177, 42, 180, 0, 40, 3, 42, 180, 0, 34, 3, 29, 184, 0, 57, 42, 29, 181, 0, 44]
abbrev dktX1_grow_5 : List UInt8 := dkwX1_grow_5 ++ dktX1_grow_6
def dkwX1_grow_4 : List UInt8 := [182, 0, 98, 79, 42, 180, 0, 37, 29, 21, 4, 79, 132, 3, 1, 132, 6, 1, 167, 255, 208, 132, 4, 1]
abbrev dktX1_grow_4 : List UInt8 := dkwX1_grow_4 ++ dktX1_grow_5
def dkwX1_grow_3 : List UInt8 := [162, 0, 43, 29, 17, 1, 44, 160, 0, 5, 3, 172, 42, 180, 0, 40, 29, 25, 5, 42, 21, 6]
abbrev dktX1_grow_3 : List UInt8 := dkwX1_grow_3 ++ dktX1_grow_4
def dkwX1_grow_2 : List UInt8 := [42, 42, 180, 0, 34, 21, 4, 46, 182, 0, 90, 58, 5, 3, 54, 6, 21, 6, 25, 5, 42, 182, 0, 94]
abbrev dktX1_grow_2 : List UInt8 := dkwX1_grow_2 ++ dktX1_grow_3
def dkwX1_grow_1 : List UInt8 := [181, 0, 44, 3, 61, 28, 27, 162, 0, 115, 3, 62, 3, 54, 4, 21, 4, 42, 180, 0, 44, 162, 0, 76]
abbrev dktX1_grow_1 : List UInt8 := dkwX1_grow_1 ++ dktX1_grow_2
def dkwX1_grow_0 : List UInt8 := [42, 180, 0, 48, 3, 42, 180, 0, 34, 3, 42, 180, 0, 63, 184, 0, 57, 42, 42, 180, 0, 63]
abbrev dktX1_grow_0 : List UInt8 := dkwX1_grow_0 ++ dktX1_grow_1
theorem dksX1_grow_0 : cX1_grow.data.toList.drop 0 = dktX1_grow_0 := by decide +kernel
theorem dksX1_grow_1 : cX1_grow.data.toList.drop 22 = dktX1_grow_1 := dk_seg dksX1_grow_0 22 rfl rfl
theorem dksX1_grow_2 : cX1_grow.data.toList.drop 46 = dktX1_grow_2 := dk_seg dksX1_grow_1 24 rfl rfl
theorem dksX1_grow_3 : cX1_grow.data.toList.drop 70 = dktX1_grow_3 := dk_seg dksX1_grow_2 24 rfl rfl
theorem dksX1_grow_4 : cX1_grow.data.toList.drop 92 = dktX1_grow_4 := dk_seg dksX1_grow_3 22 rfl rfl
theorem dksX1_grow_5 : cX1_grow.data.toList.drop 116 = dktX1_grow_5 := dk_seg dksX1_grow_4 24 rfl rfl
theorem dksX1_grow_6 : cX1_grow.data.toList.drop 138 = dktX1_grow_6 := dk_seg dksX1_grow_5 22 rfl rfl
theorem dX1_grow_0 : decode cX1_grow 0 = .ok (.aload_n 0, 1) := dk_42 (dk_at dksX1_grow_0 0 rfl rfl)
theorem dX1_grow_1 : decode cX1_grow 1 = .ok (.getfield 48, 3) := dk_180 0 48 (dk_at dksX1_grow_0 1 rfl rfl)
theorem dX1_grow_4 : decode cX1_grow 4 = .ok (.iconst 0, 1) := dk_3 (dk_at dksX1_grow_0 4 rfl rfl)
theorem dX1_grow_5 : decode cX1_grow 5 = .ok (.aload_n 0, 1) := dk_42 (dk_at dksX1_grow_0 5 rfl rfl)
theorem dX1_grow_6 : decode cX1_grow 6 = .ok (.getfield 34, 3) := dk_180 0 34 (dk_at dksX1_grow_0 6 rfl rfl)
theorem dX1_grow_9 : decode cX1_grow 9 = .ok (.iconst 0, 1) := dk_3 (dk_at dksX1_grow_0 9 rfl rfl)
theorem dX1_grow_10 : decode cX1_grow 10 = .ok (.aload_n 0, 1) := dk_42 (dk_at dksX1_grow_0 10 rfl rfl)
theorem dX1_grow_11 : decode cX1_grow 11 = .ok (.getfield 63, 3) := dk_180 0 63 (dk_at dksX1_grow_0 11 rfl rfl)
theorem dX1_grow_14 : decode cX1_grow 14 = .ok (.invokestatic 57, 3) := dk_184 0 57 (dk_at dksX1_grow_0 14 rfl rfl)
theorem dX1_grow_17 : decode cX1_grow 17 = .ok (.aload_n 0, 1) := dk_42 (dk_at dksX1_grow_0 17 rfl rfl)
theorem dX1_grow_18 : decode cX1_grow 18 = .ok (.aload_n 0, 1) := dk_42 (dk_at dksX1_grow_0 18 rfl rfl)
theorem dX1_grow_19 : decode cX1_grow 19 = .ok (.getfield 63, 3) := dk_180 0 63 (dk_at dksX1_grow_0 19 rfl rfl)
theorem dX1_grow_22 : decode cX1_grow 22 = .ok (.putfield 44, 3) := dk_181 0 44 (dk_at dksX1_grow_1 0 rfl rfl)
theorem dX1_grow_25 : decode cX1_grow 25 = .ok (.iconst 0, 1) := dk_3 (dk_at dksX1_grow_1 3 rfl rfl)
theorem dX1_grow_26 : decode cX1_grow 26 = .ok (.istore_n 2, 1) := dk_61 (dk_at dksX1_grow_1 4 rfl rfl)
theorem dX1_grow_27 : decode cX1_grow 27 = .ok (.iload_n 2, 1) := dk_28 (dk_at dksX1_grow_1 5 rfl rfl)
theorem dX1_grow_28 : decode cX1_grow 28 = .ok (.iload_n 1, 1) := dk_27 (dk_at dksX1_grow_1 6 rfl rfl)
theorem dX1_grow_29 : decode cX1_grow 29 = .ok (.if_icmp .ge 115, 3) := dk_162 0 115 (dk_at dksX1_grow_1 7 rfl rfl)
theorem dX1_grow_32 : decode cX1_grow 32 = .ok (.iconst 0, 1) := dk_3 (dk_at dksX1_grow_1 10 rfl rfl)
theorem dX1_grow_33 : decode cX1_grow 33 = .ok (.istore_n 3, 1) := dk_62 (dk_at dksX1_grow_1 11 rfl rfl)
theorem dX1_grow_34 : decode cX1_grow 34 = .ok (.iconst 0, 1) := dk_3 (dk_at dksX1_grow_1 12 rfl rfl)
theorem dX1_grow_35 : decode cX1_grow 35 = .ok (.istore 4, 2) := dk_54 4 (dk_at dksX1_grow_1 13 rfl rfl)
theorem dX1_grow_37 : decode cX1_grow 37 = .ok (.iload 4, 2) := dk_21 4 (dk_at dksX1_grow_1 15 rfl rfl)
theorem dX1_grow_39 : decode cX1_grow 39 = .ok (.aload_n 0, 1) := dk_42 (dk_at dksX1_grow_1 17 rfl rfl)
theorem dX1_grow_40 : decode cX1_grow 40 = .ok (.getfield 44, 3) := dk_180 0 44 (dk_at dksX1_grow_1 18 rfl rfl)
theorem dX1_grow_43 : decode cX1_grow 43 = .ok (.if_icmp .ge 76, 3) := dk_162 0 76 (dk_at dksX1_grow_1 21 rfl rfl)
theorem dX1_grow_46 : decode cX1_grow 46 = .ok (.aload_n 0, 1) := dk_42 (dk_at dksX1_grow_2 0 rfl rfl)
theorem dX1_grow_47 : decode cX1_grow 47 = .ok (.aload_n 0, 1) := dk_42 (dk_at dksX1_grow_2 1 rfl rfl)
theorem dX1_grow_48 : decode cX1_grow 48 = .ok (.getfield 34, 3) := dk_180 0 34 (dk_at dksX1_grow_2 2 rfl rfl)
theorem dX1_grow_51 : decode cX1_grow 51 = .ok (.iload 4, 2) := dk_21 4 (dk_at dksX1_grow_2 5 rfl rfl)
theorem dX1_grow_53 : decode cX1_grow 53 = .ok (.iaload, 1) := dk_46 (dk_at dksX1_grow_2 7 rfl rfl)
theorem dX1_grow_54 : decode cX1_grow 54 = .ok (.invokevirtual 90, 3) := dk_182 0 90 (dk_at dksX1_grow_2 8 rfl rfl)
theorem dX1_grow_57 : decode cX1_grow 57 = .ok (.astore 5, 2) := dk_58 5 (dk_at dksX1_grow_2 11 rfl rfl)
theorem dX1_grow_59 : decode cX1_grow 59 = .ok (.iconst 0, 1) := dk_3 (dk_at dksX1_grow_2 13 rfl rfl)
theorem dX1_grow_60 : decode cX1_grow 60 = .ok (.istore 6, 2) := dk_54 6 (dk_at dksX1_grow_2 14 rfl rfl)
theorem dX1_grow_62 : decode cX1_grow 62 = .ok (.iload 6, 2) := dk_21 6 (dk_at dksX1_grow_2 16 rfl rfl)
theorem dX1_grow_64 : decode cX1_grow 64 = .ok (.aload 5, 2) := dk_25 5 (dk_at dksX1_grow_2 18 rfl rfl)
theorem dX1_grow_66 : decode cX1_grow 66 = .ok (.aload_n 0, 1) := dk_42 (dk_at dksX1_grow_2 20 rfl rfl)
theorem dX1_grow_67 : decode cX1_grow 67 = .ok (.invokevirtual 94, 3) := dk_182 0 94 (dk_at dksX1_grow_2 21 rfl rfl)
theorem dX1_grow_70 : decode cX1_grow 70 = .ok (.if_icmp .ge 43, 3) := dk_162 0 43 (dk_at dksX1_grow_3 0 rfl rfl)
theorem dX1_grow_73 : decode cX1_grow 73 = .ok (.iload_n 3, 1) := dk_29 (dk_at dksX1_grow_3 3 rfl rfl)
theorem dX1_grow_74 : decode cX1_grow 74 = .ok (.sipush 300, 3) := dk_17 1 44 (dk_at dksX1_grow_3 4 rfl rfl)
theorem dX1_grow_77 : decode cX1_grow 77 = .ok (.if_icmp .ne 5, 3) := dk_160 0 5 (dk_at dksX1_grow_3 7 rfl rfl)
theorem dX1_grow_80 : decode cX1_grow 80 = .ok (.iconst 0, 1) := dk_3 (dk_at dksX1_grow_3 10 rfl rfl)
theorem dX1_grow_81 : decode cX1_grow 81 = .ok (.ireturn, 1) := dk_172 (dk_at dksX1_grow_3 11 rfl rfl)
theorem dX1_grow_82 : decode cX1_grow 82 = .ok (.aload_n 0, 1) := dk_42 (dk_at dksX1_grow_3 12 rfl rfl)
theorem dX1_grow_83 : decode cX1_grow 83 = .ok (.getfield 40, 3) := dk_180 0 40 (dk_at dksX1_grow_3 13 rfl rfl)
theorem dX1_grow_86 : decode cX1_grow 86 = .ok (.iload_n 3, 1) := dk_29 (dk_at dksX1_grow_3 16 rfl rfl)
theorem dX1_grow_87 : decode cX1_grow 87 = .ok (.aload 5, 2) := dk_25 5 (dk_at dksX1_grow_3 17 rfl rfl)
theorem dX1_grow_89 : decode cX1_grow 89 = .ok (.aload_n 0, 1) := dk_42 (dk_at dksX1_grow_3 19 rfl rfl)
theorem dX1_grow_90 : decode cX1_grow 90 = .ok (.iload 6, 2) := dk_21 6 (dk_at dksX1_grow_3 20 rfl rfl)
theorem dX1_grow_92 : decode cX1_grow 92 = .ok (.invokevirtual 98, 3) := dk_182 0 98 (dk_at dksX1_grow_4 0 rfl rfl)
theorem dX1_grow_95 : decode cX1_grow 95 = .ok (.iastore, 1) := dk_79 (dk_at dksX1_grow_4 3 rfl rfl)
theorem dX1_grow_96 : decode cX1_grow 96 = .ok (.aload_n 0, 1) := dk_42 (dk_at dksX1_grow_4 4 rfl rfl)
theorem dX1_grow_97 : decode cX1_grow 97 = .ok (.getfield 37, 3) := dk_180 0 37 (dk_at dksX1_grow_4 5 rfl rfl)
theorem dX1_grow_100 : decode cX1_grow 100 = .ok (.iload_n 3, 1) := dk_29 (dk_at dksX1_grow_4 8 rfl rfl)
theorem dX1_grow_101 : decode cX1_grow 101 = .ok (.iload 4, 2) := dk_21 4 (dk_at dksX1_grow_4 9 rfl rfl)
theorem dX1_grow_103 : decode cX1_grow 103 = .ok (.iastore, 1) := dk_79 (dk_at dksX1_grow_4 11 rfl rfl)
theorem dX1_grow_104 : decode cX1_grow 104 = .ok (.iinc 3 1, 3) := dk_132 3 1 (dk_at dksX1_grow_4 12 rfl rfl)
theorem dX1_grow_107 : decode cX1_grow 107 = .ok (.iinc 6 1, 3) := dk_132 6 1 (dk_at dksX1_grow_4 15 rfl rfl)
theorem dX1_grow_110 : decode cX1_grow 110 = .ok (.goto (-48), 3) := dk_167 255 208 (dk_at dksX1_grow_4 18 rfl rfl)
theorem dX1_grow_113 : decode cX1_grow 113 = .ok (.iinc 4 1, 3) := dk_132 4 1 (dk_at dksX1_grow_4 21 rfl rfl)
theorem dX1_grow_116 : decode cX1_grow 116 = .ok (.goto (-79), 3) := dk_167 255 177 (dk_at dksX1_grow_5 0 rfl rfl)
theorem dX1_grow_119 : decode cX1_grow 119 = .ok (.aload_n 0, 1) := dk_42 (dk_at dksX1_grow_5 3 rfl rfl)
theorem dX1_grow_120 : decode cX1_grow 120 = .ok (.getfield 40, 3) := dk_180 0 40 (dk_at dksX1_grow_5 4 rfl rfl)
theorem dX1_grow_123 : decode cX1_grow 123 = .ok (.iconst 0, 1) := dk_3 (dk_at dksX1_grow_5 7 rfl rfl)
theorem dX1_grow_124 : decode cX1_grow 124 = .ok (.aload_n 0, 1) := dk_42 (dk_at dksX1_grow_5 8 rfl rfl)
theorem dX1_grow_125 : decode cX1_grow 125 = .ok (.getfield 34, 3) := dk_180 0 34 (dk_at dksX1_grow_5 9 rfl rfl)
theorem dX1_grow_128 : decode cX1_grow 128 = .ok (.iconst 0, 1) := dk_3 (dk_at dksX1_grow_5 12 rfl rfl)
theorem dX1_grow_129 : decode cX1_grow 129 = .ok (.iload_n 3, 1) := dk_29 (dk_at dksX1_grow_5 13 rfl rfl)
theorem dX1_grow_130 : decode cX1_grow 130 = .ok (.invokestatic 57, 3) := dk_184 0 57 (dk_at dksX1_grow_5 14 rfl rfl)
theorem dX1_grow_133 : decode cX1_grow 133 = .ok (.aload_n 0, 1) := dk_42 (dk_at dksX1_grow_5 17 rfl rfl)
theorem dX1_grow_134 : decode cX1_grow 134 = .ok (.iload_n 3, 1) := dk_29 (dk_at dksX1_grow_5 18 rfl rfl)
theorem dX1_grow_135 : decode cX1_grow 135 = .ok (.putfield 44, 3) := dk_181 0 44 (dk_at dksX1_grow_5 19 rfl rfl)
theorem dX1_grow_138 : decode cX1_grow 138 = .ok (.iinc 2 1, 3) := dk_132 2 1 (dk_at dksX1_grow_6 0 rfl rfl)
theorem dX1_grow_141 : decode cX1_grow 141 = .ok (.goto (-114), 3) := dk_167 255 142 (dk_at dksX1_grow_6 3 rfl rfl)
theorem dX1_grow_144 : decode cX1_grow 144 = .ok (.iconst 1, 1) := dk_4 (dk_at dksX1_grow_6 6 rfl rfl)
theorem dX1_grow_145 : decode cX1_grow 145 = .ok (.ireturn, 1) := dk_172 (dk_at dksX1_grow_6 7 rfl rfl)
abbrev cX1_origin : ByteArray := prog_2_method_11_code
def yX1_origin : MethodName := ⟨RX1, "origin", "(II)I"⟩
def dkwX1_origin_0 : List UInt8 := [42, 27, 182, 0, 102, 87, 42, 180, 0, 37, 28, 46, 172]
abbrev dktX1_origin_0 : List UInt8 := dkwX1_origin_0 ++ []
theorem dksX1_origin_0 : cX1_origin.data.toList.drop 0 = dktX1_origin_0 := by decide +kernel
theorem dX1_origin_0 : decode cX1_origin 0 = .ok (.aload_n 0, 1) := dk_42 (dk_at dksX1_origin_0 0 rfl rfl)
theorem dX1_origin_1 : decode cX1_origin 1 = .ok (.iload_n 1, 1) := dk_27 (dk_at dksX1_origin_0 1 rfl rfl)
theorem dX1_origin_2 : decode cX1_origin 2 = .ok (.invokevirtual 102, 3) := dk_182 0 102 (dk_at dksX1_origin_0 2 rfl rfl)
theorem dX1_origin_5 : decode cX1_origin 5 = .ok (.pop, 1) := dk_87 (dk_at dksX1_origin_0 5 rfl rfl)
theorem dX1_origin_6 : decode cX1_origin 6 = .ok (.aload_n 0, 1) := dk_42 (dk_at dksX1_origin_0 6 rfl rfl)
theorem dX1_origin_7 : decode cX1_origin 7 = .ok (.getfield 37, 3) := dk_180 0 37 (dk_at dksX1_origin_0 7 rfl rfl)
theorem dX1_origin_10 : decode cX1_origin 10 = .ok (.iload_n 2, 1) := dk_28 (dk_at dksX1_origin_0 10 rfl rfl)
theorem dX1_origin_11 : decode cX1_origin 11 = .ok (.iaload, 1) := dk_46 (dk_at dksX1_origin_0 11 rfl rfl)
theorem dX1_origin_12 : decode cX1_origin 12 = .ok (.ireturn, 1) := dk_172 (dk_at dksX1_origin_0 12 rfl rfl)
abbrev cX1_numbers : ByteArray := prog_2_method_14_code
def yX1_numbers : MethodName := ⟨RX1, "numbers", "(I)[J"⟩
def dkwX1_numbers_5 : List UInt8 := [167, 255, 198, 132, 5, 1, 167, 255, 180, 25, 4, 77, 132, 3, 1, 167, 255, 158, 44, 176]
abbrev dktX1_numbers_5 : List UInt8 := dkwX1_numbers_5 ++ []
def dkwX1_numbers_4 : List UInt8 := [89, 3, 25, 4, 21, 7, 47, 80, 89, 4, 44, 21, 5, 47, 80, 184, 0, 114, 80, 132, 6, 1]
abbrev dktX1_numbers_4 : List UInt8 := dkwX1_numbers_4 ++ dktX1_numbers_5
def dkwX1_numbers_3 : List UInt8 := [162, 0, 49, 42, 21, 5, 182, 0, 90, 42, 21, 6, 182, 0, 98, 54, 7, 25, 4, 21, 7, 5, 188, 11]
abbrev dktX1_numbers_3 : List UInt8 := dkwX1_numbers_3 ++ dktX1_numbers_4
def dkwX1_numbers_2 : List UInt8 := [21, 5, 42, 182, 0, 88, 162, 0, 73, 3, 54, 6, 21, 6, 42, 21, 5, 182, 0, 90, 42, 182, 0, 94]
abbrev dktX1_numbers_2 : List UInt8 := dkwX1_numbers_2 ++ dktX1_numbers_3
def dkwX1_numbers_1 : List UInt8 := [97, 80, 132, 3, 1, 167, 255, 233, 3, 62, 29, 27, 162, 0, 99, 7, 188, 11, 58, 4, 3, 54, 5]
abbrev dktX1_numbers_1 : List UInt8 := dkwX1_numbers_1 ++ dktX1_numbers_2
def dkwX1_numbers_0 : List UInt8 := [7, 188, 11, 77, 3, 62, 29, 42, 180, 0, 63, 162, 0, 21, 44, 42, 180, 0, 48, 29, 46, 92, 47, 10]
abbrev dktX1_numbers_0 : List UInt8 := dkwX1_numbers_0 ++ dktX1_numbers_1
theorem dksX1_numbers_0 : cX1_numbers.data.toList.drop 0 = dktX1_numbers_0 := by decide +kernel
theorem dksX1_numbers_1 : cX1_numbers.data.toList.drop 24 = dktX1_numbers_1 := dk_seg dksX1_numbers_0 24 rfl rfl
theorem dksX1_numbers_2 : cX1_numbers.data.toList.drop 47 = dktX1_numbers_2 := dk_seg dksX1_numbers_1 23 rfl rfl
theorem dksX1_numbers_3 : cX1_numbers.data.toList.drop 71 = dktX1_numbers_3 := dk_seg dksX1_numbers_2 24 rfl rfl
theorem dksX1_numbers_4 : cX1_numbers.data.toList.drop 95 = dktX1_numbers_4 := dk_seg dksX1_numbers_3 24 rfl rfl
theorem dksX1_numbers_5 : cX1_numbers.data.toList.drop 117 = dktX1_numbers_5 := dk_seg dksX1_numbers_4 22 rfl rfl
theorem dX1_numbers_0 : decode cX1_numbers 0 = .ok (.iconst 4, 1) := dk_7 (dk_at dksX1_numbers_0 0 rfl rfl)
theorem dX1_numbers_1 : decode cX1_numbers 1 = .ok (.newarray .long, 2) := dk_188_11 (dk_at dksX1_numbers_0 1 rfl rfl)
theorem dX1_numbers_3 : decode cX1_numbers 3 = .ok (.astore_n 2, 1) := dk_77 (dk_at dksX1_numbers_0 3 rfl rfl)
theorem dX1_numbers_4 : decode cX1_numbers 4 = .ok (.iconst 0, 1) := dk_3 (dk_at dksX1_numbers_0 4 rfl rfl)
theorem dX1_numbers_5 : decode cX1_numbers 5 = .ok (.istore_n 3, 1) := dk_62 (dk_at dksX1_numbers_0 5 rfl rfl)
theorem dX1_numbers_6 : decode cX1_numbers 6 = .ok (.iload_n 3, 1) := dk_29 (dk_at dksX1_numbers_0 6 rfl rfl)
theorem dX1_numbers_7 : decode cX1_numbers 7 = .ok (.aload_n 0, 1) := dk_42 (dk_at dksX1_numbers_0 7 rfl rfl)
theorem dX1_numbers_8 : decode cX1_numbers 8 = .ok (.getfield 63, 3) := dk_180 0 63 (dk_at dksX1_numbers_0 8 rfl rfl)
theorem dX1_numbers_11 : decode cX1_numbers 11 = .ok (.if_icmp .ge 21, 3) := dk_162 0 21 (dk_at dksX1_numbers_0 11 rfl rfl)
theorem dX1_numbers_14 : decode cX1_numbers 14 = .ok (.aload_n 2, 1) := dk_44 (dk_at dksX1_numbers_0 14 rfl rfl)
theorem dX1_numbers_15 : decode cX1_numbers 15 = .ok (.aload_n 0, 1) := dk_42 (dk_at dksX1_numbers_0 15 rfl rfl)
theorem dX1_numbers_16 : decode cX1_numbers 16 = .ok (.getfield 48, 3) := dk_180 0 48 (dk_at dksX1_numbers_0 16 rfl rfl)
theorem dX1_numbers_19 : decode cX1_numbers 19 = .ok (.iload_n 3, 1) := dk_29 (dk_at dksX1_numbers_0 19 rfl rfl)
theorem dX1_numbers_20 : decode cX1_numbers 20 = .ok (.iaload, 1) := dk_46 (dk_at dksX1_numbers_0 20 rfl rfl)
theorem dX1_numbers_21 : decode cX1_numbers 21 = .ok (.dup2, 1) := dk_92 (dk_at dksX1_numbers_0 21 rfl rfl)
theorem dX1_numbers_22 : decode cX1_numbers 22 = .ok (.laload, 1) := dk_47 (dk_at dksX1_numbers_0 22 rfl rfl)
theorem dX1_numbers_23 : decode cX1_numbers 23 = .ok (.lconst 1, 1) := dk_10 (dk_at dksX1_numbers_0 23 rfl rfl)
theorem dX1_numbers_24 : decode cX1_numbers 24 = .ok (.ladd, 1) := dk_97 (dk_at dksX1_numbers_1 0 rfl rfl)
theorem dX1_numbers_25 : decode cX1_numbers 25 = .ok (.lastore, 1) := dk_80 (dk_at dksX1_numbers_1 1 rfl rfl)
theorem dX1_numbers_26 : decode cX1_numbers 26 = .ok (.iinc 3 1, 3) := dk_132 3 1 (dk_at dksX1_numbers_1 2 rfl rfl)
theorem dX1_numbers_29 : decode cX1_numbers 29 = .ok (.goto (-23), 3) := dk_167 255 233 (dk_at dksX1_numbers_1 5 rfl rfl)
theorem dX1_numbers_32 : decode cX1_numbers 32 = .ok (.iconst 0, 1) := dk_3 (dk_at dksX1_numbers_1 8 rfl rfl)
theorem dX1_numbers_33 : decode cX1_numbers 33 = .ok (.istore_n 3, 1) := dk_62 (dk_at dksX1_numbers_1 9 rfl rfl)
theorem dX1_numbers_34 : decode cX1_numbers 34 = .ok (.iload_n 3, 1) := dk_29 (dk_at dksX1_numbers_1 10 rfl rfl)
theorem dX1_numbers_35 : decode cX1_numbers 35 = .ok (.iload_n 1, 1) := dk_27 (dk_at dksX1_numbers_1 11 rfl rfl)
theorem dX1_numbers_36 : decode cX1_numbers 36 = .ok (.if_icmp .ge 99, 3) := dk_162 0 99 (dk_at dksX1_numbers_1 12 rfl rfl)
theorem dX1_numbers_39 : decode cX1_numbers 39 = .ok (.iconst 4, 1) := dk_7 (dk_at dksX1_numbers_1 15 rfl rfl)
theorem dX1_numbers_40 : decode cX1_numbers 40 = .ok (.newarray .long, 2) := dk_188_11 (dk_at dksX1_numbers_1 16 rfl rfl)
theorem dX1_numbers_42 : decode cX1_numbers 42 = .ok (.astore 4, 2) := dk_58 4 (dk_at dksX1_numbers_1 18 rfl rfl)
theorem dX1_numbers_44 : decode cX1_numbers 44 = .ok (.iconst 0, 1) := dk_3 (dk_at dksX1_numbers_1 20 rfl rfl)
theorem dX1_numbers_45 : decode cX1_numbers 45 = .ok (.istore 5, 2) := dk_54 5 (dk_at dksX1_numbers_1 21 rfl rfl)
theorem dX1_numbers_47 : decode cX1_numbers 47 = .ok (.iload 5, 2) := dk_21 5 (dk_at dksX1_numbers_2 0 rfl rfl)
theorem dX1_numbers_49 : decode cX1_numbers 49 = .ok (.aload_n 0, 1) := dk_42 (dk_at dksX1_numbers_2 2 rfl rfl)
theorem dX1_numbers_50 : decode cX1_numbers 50 = .ok (.invokevirtual 88, 3) := dk_182 0 88 (dk_at dksX1_numbers_2 3 rfl rfl)
theorem dX1_numbers_53 : decode cX1_numbers 53 = .ok (.if_icmp .ge 73, 3) := dk_162 0 73 (dk_at dksX1_numbers_2 6 rfl rfl)
theorem dX1_numbers_56 : decode cX1_numbers 56 = .ok (.iconst 0, 1) := dk_3 (dk_at dksX1_numbers_2 9 rfl rfl)
theorem dX1_numbers_57 : decode cX1_numbers 57 = .ok (.istore 6, 2) := dk_54 6 (dk_at dksX1_numbers_2 10 rfl rfl)
theorem dX1_numbers_59 : decode cX1_numbers 59 = .ok (.iload 6, 2) := dk_21 6 (dk_at dksX1_numbers_2 12 rfl rfl)
theorem dX1_numbers_61 : decode cX1_numbers 61 = .ok (.aload_n 0, 1) := dk_42 (dk_at dksX1_numbers_2 14 rfl rfl)
theorem dX1_numbers_62 : decode cX1_numbers 62 = .ok (.iload 5, 2) := dk_21 5 (dk_at dksX1_numbers_2 15 rfl rfl)
theorem dX1_numbers_64 : decode cX1_numbers 64 = .ok (.invokevirtual 90, 3) := dk_182 0 90 (dk_at dksX1_numbers_2 17 rfl rfl)
theorem dX1_numbers_67 : decode cX1_numbers 67 = .ok (.aload_n 0, 1) := dk_42 (dk_at dksX1_numbers_2 20 rfl rfl)
theorem dX1_numbers_68 : decode cX1_numbers 68 = .ok (.invokevirtual 94, 3) := dk_182 0 94 (dk_at dksX1_numbers_2 21 rfl rfl)
theorem dX1_numbers_71 : decode cX1_numbers 71 = .ok (.if_icmp .ge 49, 3) := dk_162 0 49 (dk_at dksX1_numbers_3 0 rfl rfl)
theorem dX1_numbers_74 : decode cX1_numbers 74 = .ok (.aload_n 0, 1) := dk_42 (dk_at dksX1_numbers_3 3 rfl rfl)
theorem dX1_numbers_75 : decode cX1_numbers 75 = .ok (.iload 5, 2) := dk_21 5 (dk_at dksX1_numbers_3 4 rfl rfl)
theorem dX1_numbers_77 : decode cX1_numbers 77 = .ok (.invokevirtual 90, 3) := dk_182 0 90 (dk_at dksX1_numbers_3 6 rfl rfl)
theorem dX1_numbers_80 : decode cX1_numbers 80 = .ok (.aload_n 0, 1) := dk_42 (dk_at dksX1_numbers_3 9 rfl rfl)
theorem dX1_numbers_81 : decode cX1_numbers 81 = .ok (.iload 6, 2) := dk_21 6 (dk_at dksX1_numbers_3 10 rfl rfl)
theorem dX1_numbers_83 : decode cX1_numbers 83 = .ok (.invokevirtual 98, 3) := dk_182 0 98 (dk_at dksX1_numbers_3 12 rfl rfl)
theorem dX1_numbers_86 : decode cX1_numbers 86 = .ok (.istore 7, 2) := dk_54 7 (dk_at dksX1_numbers_3 15 rfl rfl)
theorem dX1_numbers_88 : decode cX1_numbers 88 = .ok (.aload 4, 2) := dk_25 4 (dk_at dksX1_numbers_3 17 rfl rfl)
theorem dX1_numbers_90 : decode cX1_numbers 90 = .ok (.iload 7, 2) := dk_21 7 (dk_at dksX1_numbers_3 19 rfl rfl)
theorem dX1_numbers_92 : decode cX1_numbers 92 = .ok (.iconst 2, 1) := dk_5 (dk_at dksX1_numbers_3 21 rfl rfl)
theorem dX1_numbers_93 : decode cX1_numbers 93 = .ok (.newarray .long, 2) := dk_188_11 (dk_at dksX1_numbers_3 22 rfl rfl)
theorem dX1_numbers_95 : decode cX1_numbers 95 = .ok (.dup, 1) := dk_89 (dk_at dksX1_numbers_4 0 rfl rfl)
theorem dX1_numbers_96 : decode cX1_numbers 96 = .ok (.iconst 0, 1) := dk_3 (dk_at dksX1_numbers_4 1 rfl rfl)
theorem dX1_numbers_97 : decode cX1_numbers 97 = .ok (.aload 4, 2) := dk_25 4 (dk_at dksX1_numbers_4 2 rfl rfl)
theorem dX1_numbers_99 : decode cX1_numbers 99 = .ok (.iload 7, 2) := dk_21 7 (dk_at dksX1_numbers_4 4 rfl rfl)
theorem dX1_numbers_101 : decode cX1_numbers 101 = .ok (.laload, 1) := dk_47 (dk_at dksX1_numbers_4 6 rfl rfl)
theorem dX1_numbers_102 : decode cX1_numbers 102 = .ok (.lastore, 1) := dk_80 (dk_at dksX1_numbers_4 7 rfl rfl)
theorem dX1_numbers_103 : decode cX1_numbers 103 = .ok (.dup, 1) := dk_89 (dk_at dksX1_numbers_4 8 rfl rfl)
theorem dX1_numbers_104 : decode cX1_numbers 104 = .ok (.iconst 1, 1) := dk_4 (dk_at dksX1_numbers_4 9 rfl rfl)
theorem dX1_numbers_105 : decode cX1_numbers 105 = .ok (.aload_n 2, 1) := dk_44 (dk_at dksX1_numbers_4 10 rfl rfl)
theorem dX1_numbers_106 : decode cX1_numbers 106 = .ok (.iload 5, 2) := dk_21 5 (dk_at dksX1_numbers_4 11 rfl rfl)
theorem dX1_numbers_108 : decode cX1_numbers 108 = .ok (.laload, 1) := dk_47 (dk_at dksX1_numbers_4 13 rfl rfl)
theorem dX1_numbers_109 : decode cX1_numbers 109 = .ok (.lastore, 1) := dk_80 (dk_at dksX1_numbers_4 14 rfl rfl)
theorem dX1_numbers_110 : decode cX1_numbers 110 = .ok (.invokestatic 114, 3) := dk_184 0 114 (dk_at dksX1_numbers_4 15 rfl rfl)
theorem dX1_numbers_113 : decode cX1_numbers 113 = .ok (.lastore, 1) := dk_80 (dk_at dksX1_numbers_4 18 rfl rfl)
theorem dX1_numbers_114 : decode cX1_numbers 114 = .ok (.iinc 6 1, 3) := dk_132 6 1 (dk_at dksX1_numbers_4 19 rfl rfl)
theorem dX1_numbers_117 : decode cX1_numbers 117 = .ok (.goto (-58), 3) := dk_167 255 198 (dk_at dksX1_numbers_5 0 rfl rfl)
theorem dX1_numbers_120 : decode cX1_numbers 120 = .ok (.iinc 5 1, 3) := dk_132 5 1 (dk_at dksX1_numbers_5 3 rfl rfl)
theorem dX1_numbers_123 : decode cX1_numbers 123 = .ok (.goto (-76), 3) := dk_167 255 180 (dk_at dksX1_numbers_5 6 rfl rfl)
theorem dX1_numbers_126 : decode cX1_numbers 126 = .ok (.aload 4, 2) := dk_25 4 (dk_at dksX1_numbers_5 9 rfl rfl)
theorem dX1_numbers_128 : decode cX1_numbers 128 = .ok (.astore_n 2, 1) := dk_77 (dk_at dksX1_numbers_5 11 rfl rfl)
theorem dX1_numbers_129 : decode cX1_numbers 129 = .ok (.iinc 3 1, 3) := dk_132 3 1 (dk_at dksX1_numbers_5 12 rfl rfl)
theorem dX1_numbers_132 : decode cX1_numbers 132 = .ok (.goto (-98), 3) := dk_167 255 158 (dk_at dksX1_numbers_5 15 rfl rfl)
theorem dX1_numbers_135 : decode cX1_numbers 135 = .ok (.aload_n 2, 1) := dk_44 (dk_at dksX1_numbers_5 18 rfl rfl)
theorem dX1_numbers_136 : decode cX1_numbers 136 = .ok (.areturn, 1) := dk_176 (dk_at dksX1_numbers_5 19 rfl rfl)
abbrev cX1_pairs : ByteArray := prog_2_method_12_code
def yX1_pairs : MethodName := ⟨RX1, "pairs", "()I"⟩
def dkwX1_pairs_12 : List UInt8 := [167, 255, 194, 132, 4, 1, 167, 255, 179, 167, 255, 38, 28, 172]
abbrev dktX1_pairs_12 : List UInt8 := dkwX1_pairs_12 ++ []
def dkwX1_pairs_11 : List UInt8 := [100, 182, 0, 98, 42, 21, 5, 182, 0, 90, 42, 3, 182, 0, 98, 182, 0, 106, 128, 61, 132, 5, 1]
abbrev dktX1_pairs_11 : List UInt8 := dkwX1_pairs_11 ++ dktX1_pairs_12
def dkwX1_pairs_10 : List UInt8 := [126, 153, 0, 43, 28, 42, 42, 21, 4, 182, 0, 90, 42, 42, 21, 4, 182, 0, 90, 42, 182, 0, 94, 4]
abbrev dktX1_pairs_10 : List UInt8 := dkwX1_pairs_10 ++ dktX1_pairs_11
def dkwX1_pairs_9 : List UInt8 := [21, 4, 7, 162, 0, 77, 3, 54, 5, 21, 5, 7, 162, 0, 62, 28, 42, 21, 4, 21, 5, 182, 0, 106]
abbrev dktX1_pairs_9 : List UInt8 := dkwX1_pairs_9 ++ dktX1_pairs_10
def dkwX1_pairs_8 : List UInt8 := [182, 0, 98, 182, 0, 106, 128, 61, 132, 6, 1, 167, 255, 215, 132, 4, 1, 167, 255, 144, 3, 54, 4]
abbrev dktX1_pairs_8 : List UInt8 := dkwX1_pairs_8 ++ dktX1_pairs_9
def dkwX1_pairs_7 : List UInt8 := [182, 0, 94, 162, 0, 34, 28, 42, 25, 5, 42, 21, 6, 182, 0, 98, 25, 5, 42, 21, 6, 4, 96]
abbrev dktX1_pairs_7 : List UInt8 := dkwX1_pairs_7 ++ dktX1_pairs_8
def dkwX1_pairs_6 : List UInt8 := [21, 6, 182, 0, 98, 120, 128, 60, 132, 6, 1, 167, 255, 229, 3, 54, 6, 21, 6, 4, 96, 25, 5, 42]
abbrev dktX1_pairs_6 : List UInt8 := dkwX1_pairs_6 ++ dktX1_pairs_7
def dkwX1_pairs_5 : List UInt8 := [182, 0, 90, 58, 5, 3, 54, 6, 21, 6, 25, 5, 42, 182, 0, 94, 162, 0, 22, 27, 4, 25, 5, 42]
abbrev dktX1_pairs_5 : List UInt8 := dkwX1_pairs_5 ++ dktX1_pairs_6
def dkwX1_pairs_4 : List UInt8 := [42, 182, 0, 88, 162, 0, 109, 27, 21, 4, 184, 0, 110, 154, 0, 6, 167, 0, 91, 42, 21, 4]
abbrev dktX1_pairs_4 : List UInt8 := dkwX1_pairs_4 ++ dktX1_pairs_5
def dkwX1_pairs_3 : List UInt8 := [2, 62, 29, 27, 16, 16, 120, 28, 128, 159, 0, 214, 27, 16, 16, 120, 28, 128, 62, 3, 54, 4, 21, 4]
abbrev dktX1_pairs_3 : List UInt8 := dkwX1_pairs_3 ++ dktX1_pairs_4
def dkwX1_pairs_2 : List UInt8 := [180, 0, 48, 29, 46, 42, 180, 0, 48, 29, 4, 96, 46, 182, 0, 106, 128, 61, 132, 3, 1, 167, 255, 222]
abbrev dktX1_pairs_2 : List UInt8 := dkwX1_pairs_2 ++ dktX1_pairs_3
def dkwX1_pairs_1 : List UInt8 := [60, 132, 3, 1, 167, 255, 234, 3, 62, 29, 4, 96, 42, 180, 0, 63, 162, 0, 30, 28, 42, 42]
abbrev dktX1_pairs_1 : List UInt8 := dkwX1_pairs_1 ++ dktX1_pairs_2
def dkwX1_pairs_0 : List UInt8 := [3, 60, 3, 61, 3, 62, 29, 42, 180, 0, 63, 162, 0, 20, 27, 4, 42, 180, 0, 48, 29, 46, 120, 128]
abbrev dktX1_pairs_0 : List UInt8 := dkwX1_pairs_0 ++ dktX1_pairs_1
theorem dksX1_pairs_0 : cX1_pairs.data.toList.drop 0 = dktX1_pairs_0 := by decide +kernel
theorem dksX1_pairs_1 : cX1_pairs.data.toList.drop 24 = dktX1_pairs_1 := dk_seg dksX1_pairs_0 24 rfl rfl
theorem dksX1_pairs_2 : cX1_pairs.data.toList.drop 46 = dktX1_pairs_2 := dk_seg dksX1_pairs_1 22 rfl rfl
theorem dksX1_pairs_3 : cX1_pairs.data.toList.drop 70 = dktX1_pairs_3 := dk_seg dksX1_pairs_2 24 rfl rfl
theorem dksX1_pairs_4 : cX1_pairs.data.toList.drop 94 = dktX1_pairs_4 := dk_seg dksX1_pairs_3 24 rfl rfl
theorem dksX1_pairs_5 : cX1_pairs.data.toList.drop 116 = dktX1_pairs_5 := dk_seg dksX1_pairs_4 22 rfl rfl
theorem dksX1_pairs_6 : cX1_pairs.data.toList.drop 140 = dktX1_pairs_6 := dk_seg dksX1_pairs_5 24 rfl rfl
theorem dksX1_pairs_7 : cX1_pairs.data.toList.drop 164 = dktX1_pairs_7 := dk_seg dksX1_pairs_6 24 rfl rfl
theorem dksX1_pairs_8 : cX1_pairs.data.toList.drop 187 = dktX1_pairs_8 := dk_seg dksX1_pairs_7 23 rfl rfl
theorem dksX1_pairs_9 : cX1_pairs.data.toList.drop 210 = dktX1_pairs_9 := dk_seg dksX1_pairs_8 23 rfl rfl
theorem dksX1_pairs_10 : cX1_pairs.data.toList.drop 234 = dktX1_pairs_10 := dk_seg dksX1_pairs_9 24 rfl rfl
theorem dksX1_pairs_11 : cX1_pairs.data.toList.drop 258 = dktX1_pairs_11 := dk_seg dksX1_pairs_10 24 rfl rfl
theorem dksX1_pairs_12 : cX1_pairs.data.toList.drop 281 = dktX1_pairs_12 := dk_seg dksX1_pairs_11 23 rfl rfl
theorem dX1_pairs_0 : decode cX1_pairs 0 = .ok (.iconst 0, 1) := dk_3 (dk_at dksX1_pairs_0 0 rfl rfl)
theorem dX1_pairs_1 : decode cX1_pairs 1 = .ok (.istore_n 1, 1) := dk_60 (dk_at dksX1_pairs_0 1 rfl rfl)
theorem dX1_pairs_2 : decode cX1_pairs 2 = .ok (.iconst 0, 1) := dk_3 (dk_at dksX1_pairs_0 2 rfl rfl)
theorem dX1_pairs_3 : decode cX1_pairs 3 = .ok (.istore_n 2, 1) := dk_61 (dk_at dksX1_pairs_0 3 rfl rfl)
theorem dX1_pairs_4 : decode cX1_pairs 4 = .ok (.iconst 0, 1) := dk_3 (dk_at dksX1_pairs_0 4 rfl rfl)
theorem dX1_pairs_5 : decode cX1_pairs 5 = .ok (.istore_n 3, 1) := dk_62 (dk_at dksX1_pairs_0 5 rfl rfl)
theorem dX1_pairs_6 : decode cX1_pairs 6 = .ok (.iload_n 3, 1) := dk_29 (dk_at dksX1_pairs_0 6 rfl rfl)
theorem dX1_pairs_7 : decode cX1_pairs 7 = .ok (.aload_n 0, 1) := dk_42 (dk_at dksX1_pairs_0 7 rfl rfl)
theorem dX1_pairs_8 : decode cX1_pairs 8 = .ok (.getfield 63, 3) := dk_180 0 63 (dk_at dksX1_pairs_0 8 rfl rfl)
theorem dX1_pairs_11 : decode cX1_pairs 11 = .ok (.if_icmp .ge 20, 3) := dk_162 0 20 (dk_at dksX1_pairs_0 11 rfl rfl)
theorem dX1_pairs_14 : decode cX1_pairs 14 = .ok (.iload_n 1, 1) := dk_27 (dk_at dksX1_pairs_0 14 rfl rfl)
theorem dX1_pairs_15 : decode cX1_pairs 15 = .ok (.iconst 1, 1) := dk_4 (dk_at dksX1_pairs_0 15 rfl rfl)
theorem dX1_pairs_16 : decode cX1_pairs 16 = .ok (.aload_n 0, 1) := dk_42 (dk_at dksX1_pairs_0 16 rfl rfl)
theorem dX1_pairs_17 : decode cX1_pairs 17 = .ok (.getfield 48, 3) := dk_180 0 48 (dk_at dksX1_pairs_0 17 rfl rfl)
theorem dX1_pairs_20 : decode cX1_pairs 20 = .ok (.iload_n 3, 1) := dk_29 (dk_at dksX1_pairs_0 20 rfl rfl)
theorem dX1_pairs_21 : decode cX1_pairs 21 = .ok (.iaload, 1) := dk_46 (dk_at dksX1_pairs_0 21 rfl rfl)
theorem dX1_pairs_22 : decode cX1_pairs 22 = .ok (.ishl, 1) := dk_120 (dk_at dksX1_pairs_0 22 rfl rfl)
theorem dX1_pairs_23 : decode cX1_pairs 23 = .ok (.ior, 1) := dk_128 (dk_at dksX1_pairs_0 23 rfl rfl)
theorem dX1_pairs_24 : decode cX1_pairs 24 = .ok (.istore_n 1, 1) := dk_60 (dk_at dksX1_pairs_1 0 rfl rfl)
theorem dX1_pairs_25 : decode cX1_pairs 25 = .ok (.iinc 3 1, 3) := dk_132 3 1 (dk_at dksX1_pairs_1 1 rfl rfl)
theorem dX1_pairs_28 : decode cX1_pairs 28 = .ok (.goto (-22), 3) := dk_167 255 234 (dk_at dksX1_pairs_1 4 rfl rfl)
theorem dX1_pairs_31 : decode cX1_pairs 31 = .ok (.iconst 0, 1) := dk_3 (dk_at dksX1_pairs_1 7 rfl rfl)
theorem dX1_pairs_32 : decode cX1_pairs 32 = .ok (.istore_n 3, 1) := dk_62 (dk_at dksX1_pairs_1 8 rfl rfl)
theorem dX1_pairs_33 : decode cX1_pairs 33 = .ok (.iload_n 3, 1) := dk_29 (dk_at dksX1_pairs_1 9 rfl rfl)
theorem dX1_pairs_34 : decode cX1_pairs 34 = .ok (.iconst 1, 1) := dk_4 (dk_at dksX1_pairs_1 10 rfl rfl)
theorem dX1_pairs_35 : decode cX1_pairs 35 = .ok (.iadd, 1) := dk_96 (dk_at dksX1_pairs_1 11 rfl rfl)
theorem dX1_pairs_36 : decode cX1_pairs 36 = .ok (.aload_n 0, 1) := dk_42 (dk_at dksX1_pairs_1 12 rfl rfl)
theorem dX1_pairs_37 : decode cX1_pairs 37 = .ok (.getfield 63, 3) := dk_180 0 63 (dk_at dksX1_pairs_1 13 rfl rfl)
theorem dX1_pairs_40 : decode cX1_pairs 40 = .ok (.if_icmp .ge 30, 3) := dk_162 0 30 (dk_at dksX1_pairs_1 16 rfl rfl)
theorem dX1_pairs_43 : decode cX1_pairs 43 = .ok (.iload_n 2, 1) := dk_28 (dk_at dksX1_pairs_1 19 rfl rfl)
theorem dX1_pairs_44 : decode cX1_pairs 44 = .ok (.aload_n 0, 1) := dk_42 (dk_at dksX1_pairs_1 20 rfl rfl)
theorem dX1_pairs_45 : decode cX1_pairs 45 = .ok (.aload_n 0, 1) := dk_42 (dk_at dksX1_pairs_1 21 rfl rfl)
theorem dX1_pairs_46 : decode cX1_pairs 46 = .ok (.getfield 48, 3) := dk_180 0 48 (dk_at dksX1_pairs_2 0 rfl rfl)
theorem dX1_pairs_49 : decode cX1_pairs 49 = .ok (.iload_n 3, 1) := dk_29 (dk_at dksX1_pairs_2 3 rfl rfl)
theorem dX1_pairs_50 : decode cX1_pairs 50 = .ok (.iaload, 1) := dk_46 (dk_at dksX1_pairs_2 4 rfl rfl)
theorem dX1_pairs_51 : decode cX1_pairs 51 = .ok (.aload_n 0, 1) := dk_42 (dk_at dksX1_pairs_2 5 rfl rfl)
theorem dX1_pairs_52 : decode cX1_pairs 52 = .ok (.getfield 48, 3) := dk_180 0 48 (dk_at dksX1_pairs_2 6 rfl rfl)
theorem dX1_pairs_55 : decode cX1_pairs 55 = .ok (.iload_n 3, 1) := dk_29 (dk_at dksX1_pairs_2 9 rfl rfl)
theorem dX1_pairs_56 : decode cX1_pairs 56 = .ok (.iconst 1, 1) := dk_4 (dk_at dksX1_pairs_2 10 rfl rfl)
theorem dX1_pairs_57 : decode cX1_pairs 57 = .ok (.iadd, 1) := dk_96 (dk_at dksX1_pairs_2 11 rfl rfl)
theorem dX1_pairs_58 : decode cX1_pairs 58 = .ok (.iaload, 1) := dk_46 (dk_at dksX1_pairs_2 12 rfl rfl)
theorem dX1_pairs_59 : decode cX1_pairs 59 = .ok (.invokevirtual 106, 3) := dk_182 0 106 (dk_at dksX1_pairs_2 13 rfl rfl)
theorem dX1_pairs_62 : decode cX1_pairs 62 = .ok (.ior, 1) := dk_128 (dk_at dksX1_pairs_2 16 rfl rfl)
theorem dX1_pairs_63 : decode cX1_pairs 63 = .ok (.istore_n 2, 1) := dk_61 (dk_at dksX1_pairs_2 17 rfl rfl)
theorem dX1_pairs_64 : decode cX1_pairs 64 = .ok (.iinc 3 1, 3) := dk_132 3 1 (dk_at dksX1_pairs_2 18 rfl rfl)
theorem dX1_pairs_67 : decode cX1_pairs 67 = .ok (.goto (-34), 3) := dk_167 255 222 (dk_at dksX1_pairs_2 21 rfl rfl)
theorem dX1_pairs_70 : decode cX1_pairs 70 = .ok (.iconst (-1), 1) := dk_2 (dk_at dksX1_pairs_3 0 rfl rfl)
theorem dX1_pairs_71 : decode cX1_pairs 71 = .ok (.istore_n 3, 1) := dk_62 (dk_at dksX1_pairs_3 1 rfl rfl)
theorem dX1_pairs_72 : decode cX1_pairs 72 = .ok (.iload_n 3, 1) := dk_29 (dk_at dksX1_pairs_3 2 rfl rfl)
theorem dX1_pairs_73 : decode cX1_pairs 73 = .ok (.iload_n 1, 1) := dk_27 (dk_at dksX1_pairs_3 3 rfl rfl)
theorem dX1_pairs_74 : decode cX1_pairs 74 = .ok (.bipush 16, 2) := dk_16 16 (dk_at dksX1_pairs_3 4 rfl rfl)
theorem dX1_pairs_76 : decode cX1_pairs 76 = .ok (.ishl, 1) := dk_120 (dk_at dksX1_pairs_3 6 rfl rfl)
theorem dX1_pairs_77 : decode cX1_pairs 77 = .ok (.iload_n 2, 1) := dk_28 (dk_at dksX1_pairs_3 7 rfl rfl)
theorem dX1_pairs_78 : decode cX1_pairs 78 = .ok (.ior, 1) := dk_128 (dk_at dksX1_pairs_3 8 rfl rfl)
theorem dX1_pairs_79 : decode cX1_pairs 79 = .ok (.if_icmp .eq 214, 3) := dk_159 0 214 (dk_at dksX1_pairs_3 9 rfl rfl)
theorem dX1_pairs_82 : decode cX1_pairs 82 = .ok (.iload_n 1, 1) := dk_27 (dk_at dksX1_pairs_3 12 rfl rfl)
theorem dX1_pairs_83 : decode cX1_pairs 83 = .ok (.bipush 16, 2) := dk_16 16 (dk_at dksX1_pairs_3 13 rfl rfl)
theorem dX1_pairs_85 : decode cX1_pairs 85 = .ok (.ishl, 1) := dk_120 (dk_at dksX1_pairs_3 15 rfl rfl)
theorem dX1_pairs_86 : decode cX1_pairs 86 = .ok (.iload_n 2, 1) := dk_28 (dk_at dksX1_pairs_3 16 rfl rfl)
theorem dX1_pairs_87 : decode cX1_pairs 87 = .ok (.ior, 1) := dk_128 (dk_at dksX1_pairs_3 17 rfl rfl)
theorem dX1_pairs_88 : decode cX1_pairs 88 = .ok (.istore_n 3, 1) := dk_62 (dk_at dksX1_pairs_3 18 rfl rfl)
theorem dX1_pairs_89 : decode cX1_pairs 89 = .ok (.iconst 0, 1) := dk_3 (dk_at dksX1_pairs_3 19 rfl rfl)
theorem dX1_pairs_90 : decode cX1_pairs 90 = .ok (.istore 4, 2) := dk_54 4 (dk_at dksX1_pairs_3 20 rfl rfl)
theorem dX1_pairs_92 : decode cX1_pairs 92 = .ok (.iload 4, 2) := dk_21 4 (dk_at dksX1_pairs_3 22 rfl rfl)
theorem dX1_pairs_94 : decode cX1_pairs 94 = .ok (.aload_n 0, 1) := dk_42 (dk_at dksX1_pairs_4 0 rfl rfl)
theorem dX1_pairs_95 : decode cX1_pairs 95 = .ok (.invokevirtual 88, 3) := dk_182 0 88 (dk_at dksX1_pairs_4 1 rfl rfl)
theorem dX1_pairs_98 : decode cX1_pairs 98 = .ok (.if_icmp .ge 109, 3) := dk_162 0 109 (dk_at dksX1_pairs_4 4 rfl rfl)
theorem dX1_pairs_101 : decode cX1_pairs 101 = .ok (.iload_n 1, 1) := dk_27 (dk_at dksX1_pairs_4 7 rfl rfl)
theorem dX1_pairs_102 : decode cX1_pairs 102 = .ok (.iload 4, 2) := dk_21 4 (dk_at dksX1_pairs_4 8 rfl rfl)
theorem dX1_pairs_104 : decode cX1_pairs 104 = .ok (.invokestatic 110, 3) := dk_184 0 110 (dk_at dksX1_pairs_4 10 rfl rfl)
theorem dX1_pairs_107 : decode cX1_pairs 107 = .ok (.ifCond .ne 6, 3) := dk_154 0 6 (dk_at dksX1_pairs_4 13 rfl rfl)
theorem dX1_pairs_110 : decode cX1_pairs 110 = .ok (.goto 91, 3) := dk_167 0 91 (dk_at dksX1_pairs_4 16 rfl rfl)
theorem dX1_pairs_113 : decode cX1_pairs 113 = .ok (.aload_n 0, 1) := dk_42 (dk_at dksX1_pairs_4 19 rfl rfl)
theorem dX1_pairs_114 : decode cX1_pairs 114 = .ok (.iload 4, 2) := dk_21 4 (dk_at dksX1_pairs_4 20 rfl rfl)
theorem dX1_pairs_116 : decode cX1_pairs 116 = .ok (.invokevirtual 90, 3) := dk_182 0 90 (dk_at dksX1_pairs_5 0 rfl rfl)
theorem dX1_pairs_119 : decode cX1_pairs 119 = .ok (.astore 5, 2) := dk_58 5 (dk_at dksX1_pairs_5 3 rfl rfl)
theorem dX1_pairs_121 : decode cX1_pairs 121 = .ok (.iconst 0, 1) := dk_3 (dk_at dksX1_pairs_5 5 rfl rfl)
theorem dX1_pairs_122 : decode cX1_pairs 122 = .ok (.istore 6, 2) := dk_54 6 (dk_at dksX1_pairs_5 6 rfl rfl)
theorem dX1_pairs_124 : decode cX1_pairs 124 = .ok (.iload 6, 2) := dk_21 6 (dk_at dksX1_pairs_5 8 rfl rfl)
theorem dX1_pairs_126 : decode cX1_pairs 126 = .ok (.aload 5, 2) := dk_25 5 (dk_at dksX1_pairs_5 10 rfl rfl)
theorem dX1_pairs_128 : decode cX1_pairs 128 = .ok (.aload_n 0, 1) := dk_42 (dk_at dksX1_pairs_5 12 rfl rfl)
theorem dX1_pairs_129 : decode cX1_pairs 129 = .ok (.invokevirtual 94, 3) := dk_182 0 94 (dk_at dksX1_pairs_5 13 rfl rfl)
theorem dX1_pairs_132 : decode cX1_pairs 132 = .ok (.if_icmp .ge 22, 3) := dk_162 0 22 (dk_at dksX1_pairs_5 16 rfl rfl)
theorem dX1_pairs_135 : decode cX1_pairs 135 = .ok (.iload_n 1, 1) := dk_27 (dk_at dksX1_pairs_5 19 rfl rfl)
theorem dX1_pairs_136 : decode cX1_pairs 136 = .ok (.iconst 1, 1) := dk_4 (dk_at dksX1_pairs_5 20 rfl rfl)
theorem dX1_pairs_137 : decode cX1_pairs 137 = .ok (.aload 5, 2) := dk_25 5 (dk_at dksX1_pairs_5 21 rfl rfl)
theorem dX1_pairs_139 : decode cX1_pairs 139 = .ok (.aload_n 0, 1) := dk_42 (dk_at dksX1_pairs_5 23 rfl rfl)
theorem dX1_pairs_140 : decode cX1_pairs 140 = .ok (.iload 6, 2) := dk_21 6 (dk_at dksX1_pairs_6 0 rfl rfl)
theorem dX1_pairs_142 : decode cX1_pairs 142 = .ok (.invokevirtual 98, 3) := dk_182 0 98 (dk_at dksX1_pairs_6 2 rfl rfl)
theorem dX1_pairs_145 : decode cX1_pairs 145 = .ok (.ishl, 1) := dk_120 (dk_at dksX1_pairs_6 5 rfl rfl)
theorem dX1_pairs_146 : decode cX1_pairs 146 = .ok (.ior, 1) := dk_128 (dk_at dksX1_pairs_6 6 rfl rfl)
theorem dX1_pairs_147 : decode cX1_pairs 147 = .ok (.istore_n 1, 1) := dk_60 (dk_at dksX1_pairs_6 7 rfl rfl)
theorem dX1_pairs_148 : decode cX1_pairs 148 = .ok (.iinc 6 1, 3) := dk_132 6 1 (dk_at dksX1_pairs_6 8 rfl rfl)
theorem dX1_pairs_151 : decode cX1_pairs 151 = .ok (.goto (-27), 3) := dk_167 255 229 (dk_at dksX1_pairs_6 11 rfl rfl)
theorem dX1_pairs_154 : decode cX1_pairs 154 = .ok (.iconst 0, 1) := dk_3 (dk_at dksX1_pairs_6 14 rfl rfl)
theorem dX1_pairs_155 : decode cX1_pairs 155 = .ok (.istore 6, 2) := dk_54 6 (dk_at dksX1_pairs_6 15 rfl rfl)
theorem dX1_pairs_157 : decode cX1_pairs 157 = .ok (.iload 6, 2) := dk_21 6 (dk_at dksX1_pairs_6 17 rfl rfl)
theorem dX1_pairs_159 : decode cX1_pairs 159 = .ok (.iconst 1, 1) := dk_4 (dk_at dksX1_pairs_6 19 rfl rfl)
theorem dX1_pairs_160 : decode cX1_pairs 160 = .ok (.iadd, 1) := dk_96 (dk_at dksX1_pairs_6 20 rfl rfl)
theorem dX1_pairs_161 : decode cX1_pairs 161 = .ok (.aload 5, 2) := dk_25 5 (dk_at dksX1_pairs_6 21 rfl rfl)
theorem dX1_pairs_163 : decode cX1_pairs 163 = .ok (.aload_n 0, 1) := dk_42 (dk_at dksX1_pairs_6 23 rfl rfl)
theorem dX1_pairs_164 : decode cX1_pairs 164 = .ok (.invokevirtual 94, 3) := dk_182 0 94 (dk_at dksX1_pairs_7 0 rfl rfl)
theorem dX1_pairs_167 : decode cX1_pairs 167 = .ok (.if_icmp .ge 34, 3) := dk_162 0 34 (dk_at dksX1_pairs_7 3 rfl rfl)
theorem dX1_pairs_170 : decode cX1_pairs 170 = .ok (.iload_n 2, 1) := dk_28 (dk_at dksX1_pairs_7 6 rfl rfl)
theorem dX1_pairs_171 : decode cX1_pairs 171 = .ok (.aload_n 0, 1) := dk_42 (dk_at dksX1_pairs_7 7 rfl rfl)
theorem dX1_pairs_172 : decode cX1_pairs 172 = .ok (.aload 5, 2) := dk_25 5 (dk_at dksX1_pairs_7 8 rfl rfl)
theorem dX1_pairs_174 : decode cX1_pairs 174 = .ok (.aload_n 0, 1) := dk_42 (dk_at dksX1_pairs_7 10 rfl rfl)
theorem dX1_pairs_175 : decode cX1_pairs 175 = .ok (.iload 6, 2) := dk_21 6 (dk_at dksX1_pairs_7 11 rfl rfl)
theorem dX1_pairs_177 : decode cX1_pairs 177 = .ok (.invokevirtual 98, 3) := dk_182 0 98 (dk_at dksX1_pairs_7 13 rfl rfl)
theorem dX1_pairs_180 : decode cX1_pairs 180 = .ok (.aload 5, 2) := dk_25 5 (dk_at dksX1_pairs_7 16 rfl rfl)
theorem dX1_pairs_182 : decode cX1_pairs 182 = .ok (.aload_n 0, 1) := dk_42 (dk_at dksX1_pairs_7 18 rfl rfl)
theorem dX1_pairs_183 : decode cX1_pairs 183 = .ok (.iload 6, 2) := dk_21 6 (dk_at dksX1_pairs_7 19 rfl rfl)
theorem dX1_pairs_185 : decode cX1_pairs 185 = .ok (.iconst 1, 1) := dk_4 (dk_at dksX1_pairs_7 21 rfl rfl)
theorem dX1_pairs_186 : decode cX1_pairs 186 = .ok (.iadd, 1) := dk_96 (dk_at dksX1_pairs_7 22 rfl rfl)
theorem dX1_pairs_187 : decode cX1_pairs 187 = .ok (.invokevirtual 98, 3) := dk_182 0 98 (dk_at dksX1_pairs_8 0 rfl rfl)
theorem dX1_pairs_190 : decode cX1_pairs 190 = .ok (.invokevirtual 106, 3) := dk_182 0 106 (dk_at dksX1_pairs_8 3 rfl rfl)
theorem dX1_pairs_193 : decode cX1_pairs 193 = .ok (.ior, 1) := dk_128 (dk_at dksX1_pairs_8 6 rfl rfl)
theorem dX1_pairs_194 : decode cX1_pairs 194 = .ok (.istore_n 2, 1) := dk_61 (dk_at dksX1_pairs_8 7 rfl rfl)
theorem dX1_pairs_195 : decode cX1_pairs 195 = .ok (.iinc 6 1, 3) := dk_132 6 1 (dk_at dksX1_pairs_8 8 rfl rfl)
theorem dX1_pairs_198 : decode cX1_pairs 198 = .ok (.goto (-41), 3) := dk_167 255 215 (dk_at dksX1_pairs_8 11 rfl rfl)
theorem dX1_pairs_201 : decode cX1_pairs 201 = .ok (.iinc 4 1, 3) := dk_132 4 1 (dk_at dksX1_pairs_8 14 rfl rfl)
theorem dX1_pairs_204 : decode cX1_pairs 204 = .ok (.goto (-112), 3) := dk_167 255 144 (dk_at dksX1_pairs_8 17 rfl rfl)
theorem dX1_pairs_207 : decode cX1_pairs 207 = .ok (.iconst 0, 1) := dk_3 (dk_at dksX1_pairs_8 20 rfl rfl)
theorem dX1_pairs_208 : decode cX1_pairs 208 = .ok (.istore 4, 2) := dk_54 4 (dk_at dksX1_pairs_8 21 rfl rfl)
theorem dX1_pairs_210 : decode cX1_pairs 210 = .ok (.iload 4, 2) := dk_21 4 (dk_at dksX1_pairs_9 0 rfl rfl)
theorem dX1_pairs_212 : decode cX1_pairs 212 = .ok (.iconst 4, 1) := dk_7 (dk_at dksX1_pairs_9 2 rfl rfl)
theorem dX1_pairs_213 : decode cX1_pairs 213 = .ok (.if_icmp .ge 77, 3) := dk_162 0 77 (dk_at dksX1_pairs_9 3 rfl rfl)
theorem dX1_pairs_216 : decode cX1_pairs 216 = .ok (.iconst 0, 1) := dk_3 (dk_at dksX1_pairs_9 6 rfl rfl)
theorem dX1_pairs_217 : decode cX1_pairs 217 = .ok (.istore 5, 2) := dk_54 5 (dk_at dksX1_pairs_9 7 rfl rfl)
theorem dX1_pairs_219 : decode cX1_pairs 219 = .ok (.iload 5, 2) := dk_21 5 (dk_at dksX1_pairs_9 9 rfl rfl)
theorem dX1_pairs_221 : decode cX1_pairs 221 = .ok (.iconst 4, 1) := dk_7 (dk_at dksX1_pairs_9 11 rfl rfl)
theorem dX1_pairs_222 : decode cX1_pairs 222 = .ok (.if_icmp .ge 62, 3) := dk_162 0 62 (dk_at dksX1_pairs_9 12 rfl rfl)
theorem dX1_pairs_225 : decode cX1_pairs 225 = .ok (.iload_n 2, 1) := dk_28 (dk_at dksX1_pairs_9 15 rfl rfl)
theorem dX1_pairs_226 : decode cX1_pairs 226 = .ok (.aload_n 0, 1) := dk_42 (dk_at dksX1_pairs_9 16 rfl rfl)
theorem dX1_pairs_227 : decode cX1_pairs 227 = .ok (.iload 4, 2) := dk_21 4 (dk_at dksX1_pairs_9 17 rfl rfl)
theorem dX1_pairs_229 : decode cX1_pairs 229 = .ok (.iload 5, 2) := dk_21 5 (dk_at dksX1_pairs_9 19 rfl rfl)
theorem dX1_pairs_231 : decode cX1_pairs 231 = .ok (.invokevirtual 106, 3) := dk_182 0 106 (dk_at dksX1_pairs_9 21 rfl rfl)
theorem dX1_pairs_234 : decode cX1_pairs 234 = .ok (.iand, 1) := dk_126 (dk_at dksX1_pairs_10 0 rfl rfl)
theorem dX1_pairs_235 : decode cX1_pairs 235 = .ok (.ifCond .eq 43, 3) := dk_153 0 43 (dk_at dksX1_pairs_10 1 rfl rfl)
theorem dX1_pairs_238 : decode cX1_pairs 238 = .ok (.iload_n 2, 1) := dk_28 (dk_at dksX1_pairs_10 4 rfl rfl)
theorem dX1_pairs_239 : decode cX1_pairs 239 = .ok (.aload_n 0, 1) := dk_42 (dk_at dksX1_pairs_10 5 rfl rfl)
theorem dX1_pairs_240 : decode cX1_pairs 240 = .ok (.aload_n 0, 1) := dk_42 (dk_at dksX1_pairs_10 6 rfl rfl)
theorem dX1_pairs_241 : decode cX1_pairs 241 = .ok (.iload 4, 2) := dk_21 4 (dk_at dksX1_pairs_10 7 rfl rfl)
theorem dX1_pairs_243 : decode cX1_pairs 243 = .ok (.invokevirtual 90, 3) := dk_182 0 90 (dk_at dksX1_pairs_10 9 rfl rfl)
theorem dX1_pairs_246 : decode cX1_pairs 246 = .ok (.aload_n 0, 1) := dk_42 (dk_at dksX1_pairs_10 12 rfl rfl)
theorem dX1_pairs_247 : decode cX1_pairs 247 = .ok (.aload_n 0, 1) := dk_42 (dk_at dksX1_pairs_10 13 rfl rfl)
theorem dX1_pairs_248 : decode cX1_pairs 248 = .ok (.iload 4, 2) := dk_21 4 (dk_at dksX1_pairs_10 14 rfl rfl)
theorem dX1_pairs_250 : decode cX1_pairs 250 = .ok (.invokevirtual 90, 3) := dk_182 0 90 (dk_at dksX1_pairs_10 16 rfl rfl)
theorem dX1_pairs_253 : decode cX1_pairs 253 = .ok (.aload_n 0, 1) := dk_42 (dk_at dksX1_pairs_10 19 rfl rfl)
theorem dX1_pairs_254 : decode cX1_pairs 254 = .ok (.invokevirtual 94, 3) := dk_182 0 94 (dk_at dksX1_pairs_10 20 rfl rfl)
theorem dX1_pairs_257 : decode cX1_pairs 257 = .ok (.iconst 1, 1) := dk_4 (dk_at dksX1_pairs_10 23 rfl rfl)
theorem dX1_pairs_258 : decode cX1_pairs 258 = .ok (.isub, 1) := dk_100 (dk_at dksX1_pairs_11 0 rfl rfl)
theorem dX1_pairs_259 : decode cX1_pairs 259 = .ok (.invokevirtual 98, 3) := dk_182 0 98 (dk_at dksX1_pairs_11 1 rfl rfl)
theorem dX1_pairs_262 : decode cX1_pairs 262 = .ok (.aload_n 0, 1) := dk_42 (dk_at dksX1_pairs_11 4 rfl rfl)
theorem dX1_pairs_263 : decode cX1_pairs 263 = .ok (.iload 5, 2) := dk_21 5 (dk_at dksX1_pairs_11 5 rfl rfl)
theorem dX1_pairs_265 : decode cX1_pairs 265 = .ok (.invokevirtual 90, 3) := dk_182 0 90 (dk_at dksX1_pairs_11 7 rfl rfl)
theorem dX1_pairs_268 : decode cX1_pairs 268 = .ok (.aload_n 0, 1) := dk_42 (dk_at dksX1_pairs_11 10 rfl rfl)
theorem dX1_pairs_269 : decode cX1_pairs 269 = .ok (.iconst 0, 1) := dk_3 (dk_at dksX1_pairs_11 11 rfl rfl)
theorem dX1_pairs_270 : decode cX1_pairs 270 = .ok (.invokevirtual 98, 3) := dk_182 0 98 (dk_at dksX1_pairs_11 12 rfl rfl)
theorem dX1_pairs_273 : decode cX1_pairs 273 = .ok (.invokevirtual 106, 3) := dk_182 0 106 (dk_at dksX1_pairs_11 15 rfl rfl)
theorem dX1_pairs_276 : decode cX1_pairs 276 = .ok (.ior, 1) := dk_128 (dk_at dksX1_pairs_11 18 rfl rfl)
theorem dX1_pairs_277 : decode cX1_pairs 277 = .ok (.istore_n 2, 1) := dk_61 (dk_at dksX1_pairs_11 19 rfl rfl)
theorem dX1_pairs_278 : decode cX1_pairs 278 = .ok (.iinc 5 1, 3) := dk_132 5 1 (dk_at dksX1_pairs_11 20 rfl rfl)
theorem dX1_pairs_281 : decode cX1_pairs 281 = .ok (.goto (-62), 3) := dk_167 255 194 (dk_at dksX1_pairs_12 0 rfl rfl)
theorem dX1_pairs_284 : decode cX1_pairs 284 = .ok (.iinc 4 1, 3) := dk_132 4 1 (dk_at dksX1_pairs_12 3 rfl rfl)
theorem dX1_pairs_287 : decode cX1_pairs 287 = .ok (.goto (-77), 3) := dk_167 255 179 (dk_at dksX1_pairs_12 6 rfl rfl)
theorem dX1_pairs_290 : decode cX1_pairs 290 = .ok (.goto (-218), 3) := dk_167 255 38 (dk_at dksX1_pairs_12 9 rfl rfl)
theorem dX1_pairs_293 : decode cX1_pairs 293 = .ok (.iload_n 2, 1) := dk_28 (dk_at dksX1_pairs_12 12 rfl rfl)
theorem dX1_pairs_294 : decode cX1_pairs 294 = .ok (.ireturn, 1) := dk_172 (dk_at dksX1_pairs_12 13 rfl rfl)
abbrev cX1_pair : ByteArray := prog_2_method_13_code
def yX1_pair : MethodName := ⟨RX1, "pair", "(II)I"⟩
def dkwX1_pair_0 : List UInt8 := [4, 7, 27, 104, 28, 96, 120, 172]
abbrev dktX1_pair_0 : List UInt8 := dkwX1_pair_0 ++ []
theorem dksX1_pair_0 : cX1_pair.data.toList.drop 0 = dktX1_pair_0 := by decide +kernel
theorem dX1_pair_0 : decode cX1_pair 0 = .ok (.iconst 1, 1) := dk_4 (dk_at dksX1_pair_0 0 rfl rfl)
theorem dX1_pair_1 : decode cX1_pair 1 = .ok (.iconst 4, 1) := dk_7 (dk_at dksX1_pair_0 1 rfl rfl)
theorem dX1_pair_2 : decode cX1_pair 2 = .ok (.iload_n 1, 1) := dk_27 (dk_at dksX1_pair_0 2 rfl rfl)
theorem dX1_pair_3 : decode cX1_pair 3 = .ok (.imul, 1) := dk_104 (dk_at dksX1_pair_0 3 rfl rfl)
theorem dX1_pair_4 : decode cX1_pair 4 = .ok (.iload_n 2, 1) := dk_28 (dk_at dksX1_pair_0 4 rfl rfl)
theorem dX1_pair_5 : decode cX1_pair 5 = .ok (.iadd, 1) := dk_96 (dk_at dksX1_pair_0 5 rfl rfl)
theorem dX1_pair_6 : decode cX1_pair 6 = .ok (.ishl, 1) := dk_120 (dk_at dksX1_pair_0 6 rfl rfl)
theorem dX1_pair_7 : decode cX1_pair 7 = .ok (.ireturn, 1) := dk_172 (dk_at dksX1_pair_0 7 rfl rfl)
abbrev cX1_isScale : ByteArray := prog_2_method_15_code
def yX1_isScale : MethodName := ⟨RX1, "isScale", "(II)Z"⟩
def dkwX1_isScale_7 : List UInt8 := [160, 0, 7, 4, 167, 0, 4, 3, 126, 62, 132, 4, 1, 167, 255, 85, 29, 172]
abbrev dktX1_isScale_7 : List UInt8 := dkwX1_isScale_7 ++ []
def dkwX1_isScale_6 : List UInt8 := [160, 0, 31, 21, 6, 27, 21, 8, 104, 28, 21, 7, 104, 96, 28, 21, 8, 104, 42, 180, 0, 51, 104, 96]
abbrev dktX1_isScale_6 : List UInt8 := dkwX1_isScale_6 ++ dktX1_isScale_7
def dkwX1_isScale_5 : List UInt8 := [182, 0, 118, 54, 8, 29, 21, 5, 27, 21, 7, 104, 28, 21, 8, 104, 42, 180, 0, 54, 104, 96]
abbrev dktX1_isScale_5 : List UInt8 := dkwX1_isScale_5 ++ dktX1_isScale_6
def dkwX1_isScale_4 : List UInt8 := [167, 255, 186, 42, 21, 4, 182, 0, 90, 42, 3, 182, 0, 118, 54, 7, 42, 21, 4, 182, 0, 90, 42, 4]
abbrev dktX1_isScale_4 : List UInt8 := dkwX1_isScale_4 ++ dktX1_isScale_5
def dkwX1_isScale_3 : List UInt8 := [182, 0, 90, 42, 21, 7, 182, 0, 98, 182, 0, 90, 42, 4, 182, 0, 118, 96, 54, 6, 132, 7, 1]
abbrev dktX1_isScale_3 : List UInt8 := dkwX1_isScale_3 ++ dktX1_isScale_4
def dkwX1_isScale_2 : List UInt8 := [42, 21, 7, 182, 0, 98, 182, 0, 90, 42, 3, 182, 0, 118, 96, 54, 5, 21, 6, 42, 42, 21, 4]
abbrev dktX1_isScale_2 : List UInt8 := dkwX1_isScale_2 ++ dktX1_isScale_3
def dkwX1_isScale_1 : List UInt8 := [21, 7, 42, 21, 4, 182, 0, 90, 42, 182, 0, 94, 162, 0, 61, 21, 5, 42, 42, 21, 4, 182, 0, 90]
abbrev dktX1_isScale_1 : List UInt8 := dkwX1_isScale_1 ++ dktX1_isScale_2
def dkwX1_isScale_0 : List UInt8 := [4, 62, 3, 54, 4, 21, 4, 42, 182, 0, 88, 162, 0, 168, 3, 54, 5, 3, 54, 6, 3, 54, 7]
abbrev dktX1_isScale_0 : List UInt8 := dkwX1_isScale_0 ++ dktX1_isScale_1
theorem dksX1_isScale_0 : cX1_isScale.data.toList.drop 0 = dktX1_isScale_0 := by decide +kernel
theorem dksX1_isScale_1 : cX1_isScale.data.toList.drop 23 = dktX1_isScale_1 := dk_seg dksX1_isScale_0 23 rfl rfl
theorem dksX1_isScale_2 : cX1_isScale.data.toList.drop 47 = dktX1_isScale_2 := dk_seg dksX1_isScale_1 24 rfl rfl
theorem dksX1_isScale_3 : cX1_isScale.data.toList.drop 70 = dktX1_isScale_3 := dk_seg dksX1_isScale_2 23 rfl rfl
theorem dksX1_isScale_4 : cX1_isScale.data.toList.drop 93 = dktX1_isScale_4 := dk_seg dksX1_isScale_3 23 rfl rfl
theorem dksX1_isScale_5 : cX1_isScale.data.toList.drop 117 = dktX1_isScale_5 := dk_seg dksX1_isScale_4 24 rfl rfl
theorem dksX1_isScale_6 : cX1_isScale.data.toList.drop 139 = dktX1_isScale_6 := dk_seg dksX1_isScale_5 22 rfl rfl
theorem dksX1_isScale_7 : cX1_isScale.data.toList.drop 163 = dktX1_isScale_7 := dk_seg dksX1_isScale_6 24 rfl rfl
theorem dX1_isScale_0 : decode cX1_isScale 0 = .ok (.iconst 1, 1) := dk_4 (dk_at dksX1_isScale_0 0 rfl rfl)
theorem dX1_isScale_1 : decode cX1_isScale 1 = .ok (.istore_n 3, 1) := dk_62 (dk_at dksX1_isScale_0 1 rfl rfl)
theorem dX1_isScale_2 : decode cX1_isScale 2 = .ok (.iconst 0, 1) := dk_3 (dk_at dksX1_isScale_0 2 rfl rfl)
theorem dX1_isScale_3 : decode cX1_isScale 3 = .ok (.istore 4, 2) := dk_54 4 (dk_at dksX1_isScale_0 3 rfl rfl)
theorem dX1_isScale_5 : decode cX1_isScale 5 = .ok (.iload 4, 2) := dk_21 4 (dk_at dksX1_isScale_0 5 rfl rfl)
theorem dX1_isScale_7 : decode cX1_isScale 7 = .ok (.aload_n 0, 1) := dk_42 (dk_at dksX1_isScale_0 7 rfl rfl)
theorem dX1_isScale_8 : decode cX1_isScale 8 = .ok (.invokevirtual 88, 3) := dk_182 0 88 (dk_at dksX1_isScale_0 8 rfl rfl)
theorem dX1_isScale_11 : decode cX1_isScale 11 = .ok (.if_icmp .ge 168, 3) := dk_162 0 168 (dk_at dksX1_isScale_0 11 rfl rfl)
theorem dX1_isScale_14 : decode cX1_isScale 14 = .ok (.iconst 0, 1) := dk_3 (dk_at dksX1_isScale_0 14 rfl rfl)
theorem dX1_isScale_15 : decode cX1_isScale 15 = .ok (.istore 5, 2) := dk_54 5 (dk_at dksX1_isScale_0 15 rfl rfl)
theorem dX1_isScale_17 : decode cX1_isScale 17 = .ok (.iconst 0, 1) := dk_3 (dk_at dksX1_isScale_0 17 rfl rfl)
theorem dX1_isScale_18 : decode cX1_isScale 18 = .ok (.istore 6, 2) := dk_54 6 (dk_at dksX1_isScale_0 18 rfl rfl)
theorem dX1_isScale_20 : decode cX1_isScale 20 = .ok (.iconst 0, 1) := dk_3 (dk_at dksX1_isScale_0 20 rfl rfl)
theorem dX1_isScale_21 : decode cX1_isScale 21 = .ok (.istore 7, 2) := dk_54 7 (dk_at dksX1_isScale_0 21 rfl rfl)
theorem dX1_isScale_23 : decode cX1_isScale 23 = .ok (.iload 7, 2) := dk_21 7 (dk_at dksX1_isScale_1 0 rfl rfl)
theorem dX1_isScale_25 : decode cX1_isScale 25 = .ok (.aload_n 0, 1) := dk_42 (dk_at dksX1_isScale_1 2 rfl rfl)
theorem dX1_isScale_26 : decode cX1_isScale 26 = .ok (.iload 4, 2) := dk_21 4 (dk_at dksX1_isScale_1 3 rfl rfl)
theorem dX1_isScale_28 : decode cX1_isScale 28 = .ok (.invokevirtual 90, 3) := dk_182 0 90 (dk_at dksX1_isScale_1 5 rfl rfl)
theorem dX1_isScale_31 : decode cX1_isScale 31 = .ok (.aload_n 0, 1) := dk_42 (dk_at dksX1_isScale_1 8 rfl rfl)
theorem dX1_isScale_32 : decode cX1_isScale 32 = .ok (.invokevirtual 94, 3) := dk_182 0 94 (dk_at dksX1_isScale_1 9 rfl rfl)
theorem dX1_isScale_35 : decode cX1_isScale 35 = .ok (.if_icmp .ge 61, 3) := dk_162 0 61 (dk_at dksX1_isScale_1 12 rfl rfl)
theorem dX1_isScale_38 : decode cX1_isScale 38 = .ok (.iload 5, 2) := dk_21 5 (dk_at dksX1_isScale_1 15 rfl rfl)
theorem dX1_isScale_40 : decode cX1_isScale 40 = .ok (.aload_n 0, 1) := dk_42 (dk_at dksX1_isScale_1 17 rfl rfl)
theorem dX1_isScale_41 : decode cX1_isScale 41 = .ok (.aload_n 0, 1) := dk_42 (dk_at dksX1_isScale_1 18 rfl rfl)
theorem dX1_isScale_42 : decode cX1_isScale 42 = .ok (.iload 4, 2) := dk_21 4 (dk_at dksX1_isScale_1 19 rfl rfl)
theorem dX1_isScale_44 : decode cX1_isScale 44 = .ok (.invokevirtual 90, 3) := dk_182 0 90 (dk_at dksX1_isScale_1 21 rfl rfl)
theorem dX1_isScale_47 : decode cX1_isScale 47 = .ok (.aload_n 0, 1) := dk_42 (dk_at dksX1_isScale_2 0 rfl rfl)
theorem dX1_isScale_48 : decode cX1_isScale 48 = .ok (.iload 7, 2) := dk_21 7 (dk_at dksX1_isScale_2 1 rfl rfl)
theorem dX1_isScale_50 : decode cX1_isScale 50 = .ok (.invokevirtual 98, 3) := dk_182 0 98 (dk_at dksX1_isScale_2 3 rfl rfl)
theorem dX1_isScale_53 : decode cX1_isScale 53 = .ok (.invokevirtual 90, 3) := dk_182 0 90 (dk_at dksX1_isScale_2 6 rfl rfl)
theorem dX1_isScale_56 : decode cX1_isScale 56 = .ok (.aload_n 0, 1) := dk_42 (dk_at dksX1_isScale_2 9 rfl rfl)
theorem dX1_isScale_57 : decode cX1_isScale 57 = .ok (.iconst 0, 1) := dk_3 (dk_at dksX1_isScale_2 10 rfl rfl)
theorem dX1_isScale_58 : decode cX1_isScale 58 = .ok (.invokevirtual 118, 3) := dk_182 0 118 (dk_at dksX1_isScale_2 11 rfl rfl)
theorem dX1_isScale_61 : decode cX1_isScale 61 = .ok (.iadd, 1) := dk_96 (dk_at dksX1_isScale_2 14 rfl rfl)
theorem dX1_isScale_62 : decode cX1_isScale 62 = .ok (.istore 5, 2) := dk_54 5 (dk_at dksX1_isScale_2 15 rfl rfl)
theorem dX1_isScale_64 : decode cX1_isScale 64 = .ok (.iload 6, 2) := dk_21 6 (dk_at dksX1_isScale_2 17 rfl rfl)
theorem dX1_isScale_66 : decode cX1_isScale 66 = .ok (.aload_n 0, 1) := dk_42 (dk_at dksX1_isScale_2 19 rfl rfl)
theorem dX1_isScale_67 : decode cX1_isScale 67 = .ok (.aload_n 0, 1) := dk_42 (dk_at dksX1_isScale_2 20 rfl rfl)
theorem dX1_isScale_68 : decode cX1_isScale 68 = .ok (.iload 4, 2) := dk_21 4 (dk_at dksX1_isScale_2 21 rfl rfl)
theorem dX1_isScale_70 : decode cX1_isScale 70 = .ok (.invokevirtual 90, 3) := dk_182 0 90 (dk_at dksX1_isScale_3 0 rfl rfl)
theorem dX1_isScale_73 : decode cX1_isScale 73 = .ok (.aload_n 0, 1) := dk_42 (dk_at dksX1_isScale_3 3 rfl rfl)
theorem dX1_isScale_74 : decode cX1_isScale 74 = .ok (.iload 7, 2) := dk_21 7 (dk_at dksX1_isScale_3 4 rfl rfl)
theorem dX1_isScale_76 : decode cX1_isScale 76 = .ok (.invokevirtual 98, 3) := dk_182 0 98 (dk_at dksX1_isScale_3 6 rfl rfl)
theorem dX1_isScale_79 : decode cX1_isScale 79 = .ok (.invokevirtual 90, 3) := dk_182 0 90 (dk_at dksX1_isScale_3 9 rfl rfl)
theorem dX1_isScale_82 : decode cX1_isScale 82 = .ok (.aload_n 0, 1) := dk_42 (dk_at dksX1_isScale_3 12 rfl rfl)
theorem dX1_isScale_83 : decode cX1_isScale 83 = .ok (.iconst 1, 1) := dk_4 (dk_at dksX1_isScale_3 13 rfl rfl)
theorem dX1_isScale_84 : decode cX1_isScale 84 = .ok (.invokevirtual 118, 3) := dk_182 0 118 (dk_at dksX1_isScale_3 14 rfl rfl)
theorem dX1_isScale_87 : decode cX1_isScale 87 = .ok (.iadd, 1) := dk_96 (dk_at dksX1_isScale_3 17 rfl rfl)
theorem dX1_isScale_88 : decode cX1_isScale 88 = .ok (.istore 6, 2) := dk_54 6 (dk_at dksX1_isScale_3 18 rfl rfl)
theorem dX1_isScale_90 : decode cX1_isScale 90 = .ok (.iinc 7 1, 3) := dk_132 7 1 (dk_at dksX1_isScale_3 20 rfl rfl)
theorem dX1_isScale_93 : decode cX1_isScale 93 = .ok (.goto (-70), 3) := dk_167 255 186 (dk_at dksX1_isScale_4 0 rfl rfl)
theorem dX1_isScale_96 : decode cX1_isScale 96 = .ok (.aload_n 0, 1) := dk_42 (dk_at dksX1_isScale_4 3 rfl rfl)
theorem dX1_isScale_97 : decode cX1_isScale 97 = .ok (.iload 4, 2) := dk_21 4 (dk_at dksX1_isScale_4 4 rfl rfl)
theorem dX1_isScale_99 : decode cX1_isScale 99 = .ok (.invokevirtual 90, 3) := dk_182 0 90 (dk_at dksX1_isScale_4 6 rfl rfl)
theorem dX1_isScale_102 : decode cX1_isScale 102 = .ok (.aload_n 0, 1) := dk_42 (dk_at dksX1_isScale_4 9 rfl rfl)
theorem dX1_isScale_103 : decode cX1_isScale 103 = .ok (.iconst 0, 1) := dk_3 (dk_at dksX1_isScale_4 10 rfl rfl)
theorem dX1_isScale_104 : decode cX1_isScale 104 = .ok (.invokevirtual 118, 3) := dk_182 0 118 (dk_at dksX1_isScale_4 11 rfl rfl)
theorem dX1_isScale_107 : decode cX1_isScale 107 = .ok (.istore 7, 2) := dk_54 7 (dk_at dksX1_isScale_4 14 rfl rfl)
theorem dX1_isScale_109 : decode cX1_isScale 109 = .ok (.aload_n 0, 1) := dk_42 (dk_at dksX1_isScale_4 16 rfl rfl)
theorem dX1_isScale_110 : decode cX1_isScale 110 = .ok (.iload 4, 2) := dk_21 4 (dk_at dksX1_isScale_4 17 rfl rfl)
theorem dX1_isScale_112 : decode cX1_isScale 112 = .ok (.invokevirtual 90, 3) := dk_182 0 90 (dk_at dksX1_isScale_4 19 rfl rfl)
theorem dX1_isScale_115 : decode cX1_isScale 115 = .ok (.aload_n 0, 1) := dk_42 (dk_at dksX1_isScale_4 22 rfl rfl)
theorem dX1_isScale_116 : decode cX1_isScale 116 = .ok (.iconst 1, 1) := dk_4 (dk_at dksX1_isScale_4 23 rfl rfl)
theorem dX1_isScale_117 : decode cX1_isScale 117 = .ok (.invokevirtual 118, 3) := dk_182 0 118 (dk_at dksX1_isScale_5 0 rfl rfl)
theorem dX1_isScale_120 : decode cX1_isScale 120 = .ok (.istore 8, 2) := dk_54 8 (dk_at dksX1_isScale_5 3 rfl rfl)
theorem dX1_isScale_122 : decode cX1_isScale 122 = .ok (.iload_n 3, 1) := dk_29 (dk_at dksX1_isScale_5 5 rfl rfl)
theorem dX1_isScale_123 : decode cX1_isScale 123 = .ok (.iload 5, 2) := dk_21 5 (dk_at dksX1_isScale_5 6 rfl rfl)
theorem dX1_isScale_125 : decode cX1_isScale 125 = .ok (.iload_n 1, 1) := dk_27 (dk_at dksX1_isScale_5 8 rfl rfl)
theorem dX1_isScale_126 : decode cX1_isScale 126 = .ok (.iload 7, 2) := dk_21 7 (dk_at dksX1_isScale_5 9 rfl rfl)
theorem dX1_isScale_128 : decode cX1_isScale 128 = .ok (.imul, 1) := dk_104 (dk_at dksX1_isScale_5 11 rfl rfl)
theorem dX1_isScale_129 : decode cX1_isScale 129 = .ok (.iload_n 2, 1) := dk_28 (dk_at dksX1_isScale_5 12 rfl rfl)
theorem dX1_isScale_130 : decode cX1_isScale 130 = .ok (.iload 8, 2) := dk_21 8 (dk_at dksX1_isScale_5 13 rfl rfl)
theorem dX1_isScale_132 : decode cX1_isScale 132 = .ok (.imul, 1) := dk_104 (dk_at dksX1_isScale_5 15 rfl rfl)
theorem dX1_isScale_133 : decode cX1_isScale 133 = .ok (.aload_n 0, 1) := dk_42 (dk_at dksX1_isScale_5 16 rfl rfl)
theorem dX1_isScale_134 : decode cX1_isScale 134 = .ok (.getfield 54, 3) := dk_180 0 54 (dk_at dksX1_isScale_5 17 rfl rfl)
theorem dX1_isScale_137 : decode cX1_isScale 137 = .ok (.imul, 1) := dk_104 (dk_at dksX1_isScale_5 20 rfl rfl)
theorem dX1_isScale_138 : decode cX1_isScale 138 = .ok (.iadd, 1) := dk_96 (dk_at dksX1_isScale_5 21 rfl rfl)
theorem dX1_isScale_139 : decode cX1_isScale 139 = .ok (.if_icmp .ne 31, 3) := dk_160 0 31 (dk_at dksX1_isScale_6 0 rfl rfl)
theorem dX1_isScale_142 : decode cX1_isScale 142 = .ok (.iload 6, 2) := dk_21 6 (dk_at dksX1_isScale_6 3 rfl rfl)
theorem dX1_isScale_144 : decode cX1_isScale 144 = .ok (.iload_n 1, 1) := dk_27 (dk_at dksX1_isScale_6 5 rfl rfl)
theorem dX1_isScale_145 : decode cX1_isScale 145 = .ok (.iload 8, 2) := dk_21 8 (dk_at dksX1_isScale_6 6 rfl rfl)
theorem dX1_isScale_147 : decode cX1_isScale 147 = .ok (.imul, 1) := dk_104 (dk_at dksX1_isScale_6 8 rfl rfl)
theorem dX1_isScale_148 : decode cX1_isScale 148 = .ok (.iload_n 2, 1) := dk_28 (dk_at dksX1_isScale_6 9 rfl rfl)
theorem dX1_isScale_149 : decode cX1_isScale 149 = .ok (.iload 7, 2) := dk_21 7 (dk_at dksX1_isScale_6 10 rfl rfl)
theorem dX1_isScale_151 : decode cX1_isScale 151 = .ok (.imul, 1) := dk_104 (dk_at dksX1_isScale_6 12 rfl rfl)
theorem dX1_isScale_152 : decode cX1_isScale 152 = .ok (.iadd, 1) := dk_96 (dk_at dksX1_isScale_6 13 rfl rfl)
theorem dX1_isScale_153 : decode cX1_isScale 153 = .ok (.iload_n 2, 1) := dk_28 (dk_at dksX1_isScale_6 14 rfl rfl)
theorem dX1_isScale_154 : decode cX1_isScale 154 = .ok (.iload 8, 2) := dk_21 8 (dk_at dksX1_isScale_6 15 rfl rfl)
theorem dX1_isScale_156 : decode cX1_isScale 156 = .ok (.imul, 1) := dk_104 (dk_at dksX1_isScale_6 17 rfl rfl)
theorem dX1_isScale_157 : decode cX1_isScale 157 = .ok (.aload_n 0, 1) := dk_42 (dk_at dksX1_isScale_6 18 rfl rfl)
theorem dX1_isScale_158 : decode cX1_isScale 158 = .ok (.getfield 51, 3) := dk_180 0 51 (dk_at dksX1_isScale_6 19 rfl rfl)
theorem dX1_isScale_161 : decode cX1_isScale 161 = .ok (.imul, 1) := dk_104 (dk_at dksX1_isScale_6 22 rfl rfl)
theorem dX1_isScale_162 : decode cX1_isScale 162 = .ok (.iadd, 1) := dk_96 (dk_at dksX1_isScale_6 23 rfl rfl)
theorem dX1_isScale_163 : decode cX1_isScale 163 = .ok (.if_icmp .ne 7, 3) := dk_160 0 7 (dk_at dksX1_isScale_7 0 rfl rfl)
theorem dX1_isScale_166 : decode cX1_isScale 166 = .ok (.iconst 1, 1) := dk_4 (dk_at dksX1_isScale_7 3 rfl rfl)
theorem dX1_isScale_167 : decode cX1_isScale 167 = .ok (.goto 4, 3) := dk_167 0 4 (dk_at dksX1_isScale_7 4 rfl rfl)
theorem dX1_isScale_170 : decode cX1_isScale 170 = .ok (.iconst 0, 1) := dk_3 (dk_at dksX1_isScale_7 7 rfl rfl)
theorem dX1_isScale_171 : decode cX1_isScale 171 = .ok (.iand, 1) := dk_126 (dk_at dksX1_isScale_7 8 rfl rfl)
theorem dX1_isScale_172 : decode cX1_isScale 172 = .ok (.istore_n 3, 1) := dk_62 (dk_at dksX1_isScale_7 9 rfl rfl)
theorem dX1_isScale_173 : decode cX1_isScale 173 = .ok (.iinc 4 1, 3) := dk_132 4 1 (dk_at dksX1_isScale_7 10 rfl rfl)
theorem dX1_isScale_176 : decode cX1_isScale 176 = .ok (.goto (-171), 3) := dk_167 255 85 (dk_at dksX1_isScale_7 13 rfl rfl)
theorem dX1_isScale_179 : decode cX1_isScale 179 = .ok (.iload_n 3, 1) := dk_29 (dk_at dksX1_isScale_7 16 rfl rfl)
theorem dX1_isScale_180 : decode cX1_isScale 180 = .ok (.ireturn, 1) := dk_172 (dk_at dksX1_isScale_7 17 rfl rfl)
abbrev cX1_backs : ByteArray := prog_2_method_17_code
def yX1_backs : MethodName := ⟨RX1, "backs", "([I)[I"⟩
def dkwX1_backs_3 : List UInt8 := [132, 4, 1, 167, 255, 207, 132, 3, 255, 167, 255, 194, 44, 176]
abbrev dktX1_backs_3 : List UInt8 := dkwX1_backs_3 ++ []
def dkwX1_backs_2 : List UInt8 := [44, 29, 46, 44, 29, 42, 21, 4, 182, 0, 90, 42, 182, 0, 94, 96, 46, 96, 184, 0, 126, 79]
abbrev dktX1_backs_2 : List UInt8 := dkwX1_backs_2 ++ dktX1_backs_3
def dkwX1_backs_1 : List UInt8 := [21, 4, 42, 182, 0, 88, 162, 0, 46, 42, 21, 4, 43, 29, 182, 0, 121, 153, 0, 29, 44, 29, 18, 125]
abbrev dktX1_backs_1 : List UInt8 := dkwX1_backs_1 ++ dktX1_backs_2
def dkwX1_backs_0 : List UInt8 := [43, 190, 4, 96, 188, 10, 77, 44, 43, 190, 4, 79, 43, 190, 4, 100, 62, 29, 155, 0, 64, 3, 54, 4]
abbrev dktX1_backs_0 : List UInt8 := dkwX1_backs_0 ++ dktX1_backs_1
theorem dksX1_backs_0 : cX1_backs.data.toList.drop 0 = dktX1_backs_0 := by decide +kernel
theorem dksX1_backs_1 : cX1_backs.data.toList.drop 24 = dktX1_backs_1 := dk_seg dksX1_backs_0 24 rfl rfl
theorem dksX1_backs_2 : cX1_backs.data.toList.drop 48 = dktX1_backs_2 := dk_seg dksX1_backs_1 24 rfl rfl
theorem dksX1_backs_3 : cX1_backs.data.toList.drop 70 = dktX1_backs_3 := dk_seg dksX1_backs_2 22 rfl rfl
theorem dX1_backs_0 : decode cX1_backs 0 = .ok (.aload_n 1, 1) := dk_43 (dk_at dksX1_backs_0 0 rfl rfl)
theorem dX1_backs_1 : decode cX1_backs 1 = .ok (.arraylength, 1) := dk_190 (dk_at dksX1_backs_0 1 rfl rfl)
theorem dX1_backs_2 : decode cX1_backs 2 = .ok (.iconst 1, 1) := dk_4 (dk_at dksX1_backs_0 2 rfl rfl)
theorem dX1_backs_3 : decode cX1_backs 3 = .ok (.iadd, 1) := dk_96 (dk_at dksX1_backs_0 3 rfl rfl)
theorem dX1_backs_4 : decode cX1_backs 4 = .ok (.newarray .int, 2) := dk_188_10 (dk_at dksX1_backs_0 4 rfl rfl)
theorem dX1_backs_6 : decode cX1_backs 6 = .ok (.astore_n 2, 1) := dk_77 (dk_at dksX1_backs_0 6 rfl rfl)
theorem dX1_backs_7 : decode cX1_backs 7 = .ok (.aload_n 2, 1) := dk_44 (dk_at dksX1_backs_0 7 rfl rfl)
theorem dX1_backs_8 : decode cX1_backs 8 = .ok (.aload_n 1, 1) := dk_43 (dk_at dksX1_backs_0 8 rfl rfl)
theorem dX1_backs_9 : decode cX1_backs 9 = .ok (.arraylength, 1) := dk_190 (dk_at dksX1_backs_0 9 rfl rfl)
theorem dX1_backs_10 : decode cX1_backs 10 = .ok (.iconst 1, 1) := dk_4 (dk_at dksX1_backs_0 10 rfl rfl)
theorem dX1_backs_11 : decode cX1_backs 11 = .ok (.iastore, 1) := dk_79 (dk_at dksX1_backs_0 11 rfl rfl)
theorem dX1_backs_12 : decode cX1_backs 12 = .ok (.aload_n 1, 1) := dk_43 (dk_at dksX1_backs_0 12 rfl rfl)
theorem dX1_backs_13 : decode cX1_backs 13 = .ok (.arraylength, 1) := dk_190 (dk_at dksX1_backs_0 13 rfl rfl)
theorem dX1_backs_14 : decode cX1_backs 14 = .ok (.iconst 1, 1) := dk_4 (dk_at dksX1_backs_0 14 rfl rfl)
theorem dX1_backs_15 : decode cX1_backs 15 = .ok (.isub, 1) := dk_100 (dk_at dksX1_backs_0 15 rfl rfl)
theorem dX1_backs_16 : decode cX1_backs 16 = .ok (.istore_n 3, 1) := dk_62 (dk_at dksX1_backs_0 16 rfl rfl)
theorem dX1_backs_17 : decode cX1_backs 17 = .ok (.iload_n 3, 1) := dk_29 (dk_at dksX1_backs_0 17 rfl rfl)
theorem dX1_backs_18 : decode cX1_backs 18 = .ok (.ifCond .lt 64, 3) := dk_155 0 64 (dk_at dksX1_backs_0 18 rfl rfl)
theorem dX1_backs_21 : decode cX1_backs 21 = .ok (.iconst 0, 1) := dk_3 (dk_at dksX1_backs_0 21 rfl rfl)
theorem dX1_backs_22 : decode cX1_backs 22 = .ok (.istore 4, 2) := dk_54 4 (dk_at dksX1_backs_0 22 rfl rfl)
theorem dX1_backs_24 : decode cX1_backs 24 = .ok (.iload 4, 2) := dk_21 4 (dk_at dksX1_backs_1 0 rfl rfl)
theorem dX1_backs_26 : decode cX1_backs 26 = .ok (.aload_n 0, 1) := dk_42 (dk_at dksX1_backs_1 2 rfl rfl)
theorem dX1_backs_27 : decode cX1_backs 27 = .ok (.invokevirtual 88, 3) := dk_182 0 88 (dk_at dksX1_backs_1 3 rfl rfl)
theorem dX1_backs_30 : decode cX1_backs 30 = .ok (.if_icmp .ge 46, 3) := dk_162 0 46 (dk_at dksX1_backs_1 6 rfl rfl)
theorem dX1_backs_33 : decode cX1_backs 33 = .ok (.aload_n 0, 1) := dk_42 (dk_at dksX1_backs_1 9 rfl rfl)
theorem dX1_backs_34 : decode cX1_backs 34 = .ok (.iload 4, 2) := dk_21 4 (dk_at dksX1_backs_1 10 rfl rfl)
theorem dX1_backs_36 : decode cX1_backs 36 = .ok (.aload_n 1, 1) := dk_43 (dk_at dksX1_backs_1 12 rfl rfl)
theorem dX1_backs_37 : decode cX1_backs 37 = .ok (.iload_n 3, 1) := dk_29 (dk_at dksX1_backs_1 13 rfl rfl)
theorem dX1_backs_38 : decode cX1_backs 38 = .ok (.invokevirtual 121, 3) := dk_182 0 121 (dk_at dksX1_backs_1 14 rfl rfl)
theorem dX1_backs_41 : decode cX1_backs 41 = .ok (.ifCond .eq 29, 3) := dk_153 0 29 (dk_at dksX1_backs_1 17 rfl rfl)
theorem dX1_backs_44 : decode cX1_backs 44 = .ok (.aload_n 2, 1) := dk_44 (dk_at dksX1_backs_1 20 rfl rfl)
theorem dX1_backs_45 : decode cX1_backs 45 = .ok (.iload_n 3, 1) := dk_29 (dk_at dksX1_backs_1 21 rfl rfl)
theorem dX1_backs_46 : decode cX1_backs 46 = .ok (.ldc 125, 2) := dk_18 125 (dk_at dksX1_backs_1 22 rfl rfl)
theorem dX1_backs_48 : decode cX1_backs 48 = .ok (.aload_n 2, 1) := dk_44 (dk_at dksX1_backs_2 0 rfl rfl)
theorem dX1_backs_49 : decode cX1_backs 49 = .ok (.iload_n 3, 1) := dk_29 (dk_at dksX1_backs_2 1 rfl rfl)
theorem dX1_backs_50 : decode cX1_backs 50 = .ok (.iaload, 1) := dk_46 (dk_at dksX1_backs_2 2 rfl rfl)
theorem dX1_backs_51 : decode cX1_backs 51 = .ok (.aload_n 2, 1) := dk_44 (dk_at dksX1_backs_2 3 rfl rfl)
theorem dX1_backs_52 : decode cX1_backs 52 = .ok (.iload_n 3, 1) := dk_29 (dk_at dksX1_backs_2 4 rfl rfl)
theorem dX1_backs_53 : decode cX1_backs 53 = .ok (.aload_n 0, 1) := dk_42 (dk_at dksX1_backs_2 5 rfl rfl)
theorem dX1_backs_54 : decode cX1_backs 54 = .ok (.iload 4, 2) := dk_21 4 (dk_at dksX1_backs_2 6 rfl rfl)
theorem dX1_backs_56 : decode cX1_backs 56 = .ok (.invokevirtual 90, 3) := dk_182 0 90 (dk_at dksX1_backs_2 8 rfl rfl)
theorem dX1_backs_59 : decode cX1_backs 59 = .ok (.aload_n 0, 1) := dk_42 (dk_at dksX1_backs_2 11 rfl rfl)
theorem dX1_backs_60 : decode cX1_backs 60 = .ok (.invokevirtual 94, 3) := dk_182 0 94 (dk_at dksX1_backs_2 12 rfl rfl)
theorem dX1_backs_63 : decode cX1_backs 63 = .ok (.iadd, 1) := dk_96 (dk_at dksX1_backs_2 15 rfl rfl)
theorem dX1_backs_64 : decode cX1_backs 64 = .ok (.iaload, 1) := dk_46 (dk_at dksX1_backs_2 16 rfl rfl)
theorem dX1_backs_65 : decode cX1_backs 65 = .ok (.iadd, 1) := dk_96 (dk_at dksX1_backs_2 17 rfl rfl)
theorem dX1_backs_66 : decode cX1_backs 66 = .ok (.invokestatic 126, 3) := dk_184 0 126 (dk_at dksX1_backs_2 18 rfl rfl)
theorem dX1_backs_69 : decode cX1_backs 69 = .ok (.iastore, 1) := dk_79 (dk_at dksX1_backs_2 21 rfl rfl)
theorem dX1_backs_70 : decode cX1_backs 70 = .ok (.iinc 4 1, 3) := dk_132 4 1 (dk_at dksX1_backs_3 0 rfl rfl)
theorem dX1_backs_73 : decode cX1_backs 73 = .ok (.goto (-49), 3) := dk_167 255 207 (dk_at dksX1_backs_3 3 rfl rfl)
theorem dX1_backs_76 : decode cX1_backs 76 = .ok (.iinc 3 (-1), 3) := dk_132 3 255 (dk_at dksX1_backs_3 6 rfl rfl)
theorem dX1_backs_79 : decode cX1_backs 79 = .ok (.goto (-62), 3) := dk_167 255 194 (dk_at dksX1_backs_3 9 rfl rfl)
theorem dX1_backs_82 : decode cX1_backs 82 = .ok (.aload_n 2, 1) := dk_44 (dk_at dksX1_backs_3 12 rfl rfl)
theorem dX1_backs_83 : decode cX1_backs 83 = .ok (.areturn, 1) := dk_176 (dk_at dksX1_backs_3 13 rfl rfl)
abbrev cX1_isImage : ByteArray := prog_2_method_16_code
def yX1_isImage : MethodName := ⟨RX1, "isImage", "(I[II)Z"⟩
def dkwX1_isImage_3 : List UInt8 := [132, 6, 1, 167, 255, 213, 21, 5, 172]
abbrev dktX1_isImage_3 : List UInt8 := dkwX1_isImage_3 ++ []
def dkwX1_isImage_2 : List UInt8 := [42, 21, 6, 182, 0, 98, 44, 29, 21, 6, 96, 46, 160, 0, 7, 4, 167, 0, 4, 3, 54, 5]
abbrev dktX1_isImage_2 : List UInt8 := dkwX1_isImage_2 ++ dktX1_isImage_3
def dkwX1_isImage_1 : List UInt8 := [3, 54, 5, 3, 54, 6, 21, 6, 25, 4, 42, 182, 0, 94, 162, 0, 38, 21, 5, 153, 0, 33, 25, 4]
abbrev dktX1_isImage_1 : List UInt8 := dkwX1_isImage_1 ++ dktX1_isImage_2
def dkwX1_isImage_0 : List UInt8 := [42, 27, 182, 0, 90, 58, 4, 29, 25, 4, 42, 182, 0, 94, 96, 44, 190, 163, 0, 7, 4, 167, 0, 4]
abbrev dktX1_isImage_0 : List UInt8 := dkwX1_isImage_0 ++ dktX1_isImage_1
theorem dksX1_isImage_0 : cX1_isImage.data.toList.drop 0 = dktX1_isImage_0 := by decide +kernel
theorem dksX1_isImage_1 : cX1_isImage.data.toList.drop 24 = dktX1_isImage_1 := dk_seg dksX1_isImage_0 24 rfl rfl
theorem dksX1_isImage_2 : cX1_isImage.data.toList.drop 48 = dktX1_isImage_2 := dk_seg dksX1_isImage_1 24 rfl rfl
theorem dksX1_isImage_3 : cX1_isImage.data.toList.drop 70 = dktX1_isImage_3 := dk_seg dksX1_isImage_2 22 rfl rfl
theorem dX1_isImage_0 : decode cX1_isImage 0 = .ok (.aload_n 0, 1) := dk_42 (dk_at dksX1_isImage_0 0 rfl rfl)
theorem dX1_isImage_1 : decode cX1_isImage 1 = .ok (.iload_n 1, 1) := dk_27 (dk_at dksX1_isImage_0 1 rfl rfl)
theorem dX1_isImage_2 : decode cX1_isImage 2 = .ok (.invokevirtual 90, 3) := dk_182 0 90 (dk_at dksX1_isImage_0 2 rfl rfl)
theorem dX1_isImage_5 : decode cX1_isImage 5 = .ok (.astore 4, 2) := dk_58 4 (dk_at dksX1_isImage_0 5 rfl rfl)
theorem dX1_isImage_7 : decode cX1_isImage 7 = .ok (.iload_n 3, 1) := dk_29 (dk_at dksX1_isImage_0 7 rfl rfl)
theorem dX1_isImage_8 : decode cX1_isImage 8 = .ok (.aload 4, 2) := dk_25 4 (dk_at dksX1_isImage_0 8 rfl rfl)
theorem dX1_isImage_10 : decode cX1_isImage 10 = .ok (.aload_n 0, 1) := dk_42 (dk_at dksX1_isImage_0 10 rfl rfl)
theorem dX1_isImage_11 : decode cX1_isImage 11 = .ok (.invokevirtual 94, 3) := dk_182 0 94 (dk_at dksX1_isImage_0 11 rfl rfl)
theorem dX1_isImage_14 : decode cX1_isImage 14 = .ok (.iadd, 1) := dk_96 (dk_at dksX1_isImage_0 14 rfl rfl)
theorem dX1_isImage_15 : decode cX1_isImage 15 = .ok (.aload_n 2, 1) := dk_44 (dk_at dksX1_isImage_0 15 rfl rfl)
theorem dX1_isImage_16 : decode cX1_isImage 16 = .ok (.arraylength, 1) := dk_190 (dk_at dksX1_isImage_0 16 rfl rfl)
theorem dX1_isImage_17 : decode cX1_isImage 17 = .ok (.if_icmp .gt 7, 3) := dk_163 0 7 (dk_at dksX1_isImage_0 17 rfl rfl)
theorem dX1_isImage_20 : decode cX1_isImage 20 = .ok (.iconst 1, 1) := dk_4 (dk_at dksX1_isImage_0 20 rfl rfl)
theorem dX1_isImage_21 : decode cX1_isImage 21 = .ok (.goto 4, 3) := dk_167 0 4 (dk_at dksX1_isImage_0 21 rfl rfl)
theorem dX1_isImage_24 : decode cX1_isImage 24 = .ok (.iconst 0, 1) := dk_3 (dk_at dksX1_isImage_1 0 rfl rfl)
theorem dX1_isImage_25 : decode cX1_isImage 25 = .ok (.istore 5, 2) := dk_54 5 (dk_at dksX1_isImage_1 1 rfl rfl)
theorem dX1_isImage_27 : decode cX1_isImage 27 = .ok (.iconst 0, 1) := dk_3 (dk_at dksX1_isImage_1 3 rfl rfl)
theorem dX1_isImage_28 : decode cX1_isImage 28 = .ok (.istore 6, 2) := dk_54 6 (dk_at dksX1_isImage_1 4 rfl rfl)
theorem dX1_isImage_30 : decode cX1_isImage 30 = .ok (.iload 6, 2) := dk_21 6 (dk_at dksX1_isImage_1 6 rfl rfl)
theorem dX1_isImage_32 : decode cX1_isImage 32 = .ok (.aload 4, 2) := dk_25 4 (dk_at dksX1_isImage_1 8 rfl rfl)
theorem dX1_isImage_34 : decode cX1_isImage 34 = .ok (.aload_n 0, 1) := dk_42 (dk_at dksX1_isImage_1 10 rfl rfl)
theorem dX1_isImage_35 : decode cX1_isImage 35 = .ok (.invokevirtual 94, 3) := dk_182 0 94 (dk_at dksX1_isImage_1 11 rfl rfl)
theorem dX1_isImage_38 : decode cX1_isImage 38 = .ok (.if_icmp .ge 38, 3) := dk_162 0 38 (dk_at dksX1_isImage_1 14 rfl rfl)
theorem dX1_isImage_41 : decode cX1_isImage 41 = .ok (.iload 5, 2) := dk_21 5 (dk_at dksX1_isImage_1 17 rfl rfl)
theorem dX1_isImage_43 : decode cX1_isImage 43 = .ok (.ifCond .eq 33, 3) := dk_153 0 33 (dk_at dksX1_isImage_1 19 rfl rfl)
theorem dX1_isImage_46 : decode cX1_isImage 46 = .ok (.aload 4, 2) := dk_25 4 (dk_at dksX1_isImage_1 22 rfl rfl)
theorem dX1_isImage_48 : decode cX1_isImage 48 = .ok (.aload_n 0, 1) := dk_42 (dk_at dksX1_isImage_2 0 rfl rfl)
theorem dX1_isImage_49 : decode cX1_isImage 49 = .ok (.iload 6, 2) := dk_21 6 (dk_at dksX1_isImage_2 1 rfl rfl)
theorem dX1_isImage_51 : decode cX1_isImage 51 = .ok (.invokevirtual 98, 3) := dk_182 0 98 (dk_at dksX1_isImage_2 3 rfl rfl)
theorem dX1_isImage_54 : decode cX1_isImage 54 = .ok (.aload_n 2, 1) := dk_44 (dk_at dksX1_isImage_2 6 rfl rfl)
theorem dX1_isImage_55 : decode cX1_isImage 55 = .ok (.iload_n 3, 1) := dk_29 (dk_at dksX1_isImage_2 7 rfl rfl)
theorem dX1_isImage_56 : decode cX1_isImage 56 = .ok (.iload 6, 2) := dk_21 6 (dk_at dksX1_isImage_2 8 rfl rfl)
theorem dX1_isImage_58 : decode cX1_isImage 58 = .ok (.iadd, 1) := dk_96 (dk_at dksX1_isImage_2 10 rfl rfl)
theorem dX1_isImage_59 : decode cX1_isImage 59 = .ok (.iaload, 1) := dk_46 (dk_at dksX1_isImage_2 11 rfl rfl)
theorem dX1_isImage_60 : decode cX1_isImage 60 = .ok (.if_icmp .ne 7, 3) := dk_160 0 7 (dk_at dksX1_isImage_2 12 rfl rfl)
theorem dX1_isImage_63 : decode cX1_isImage 63 = .ok (.iconst 1, 1) := dk_4 (dk_at dksX1_isImage_2 15 rfl rfl)
theorem dX1_isImage_64 : decode cX1_isImage 64 = .ok (.goto 4, 3) := dk_167 0 4 (dk_at dksX1_isImage_2 16 rfl rfl)
theorem dX1_isImage_67 : decode cX1_isImage 67 = .ok (.iconst 0, 1) := dk_3 (dk_at dksX1_isImage_2 19 rfl rfl)
theorem dX1_isImage_68 : decode cX1_isImage 68 = .ok (.istore 5, 2) := dk_54 5 (dk_at dksX1_isImage_2 20 rfl rfl)
theorem dX1_isImage_70 : decode cX1_isImage 70 = .ok (.iinc 6 1, 3) := dk_132 6 1 (dk_at dksX1_isImage_3 0 rfl rfl)
theorem dX1_isImage_73 : decode cX1_isImage 73 = .ok (.goto (-43), 3) := dk_167 255 213 (dk_at dksX1_isImage_3 3 rfl rfl)
theorem dX1_isImage_76 : decode cX1_isImage 76 = .ok (.iload 5, 2) := dk_21 5 (dk_at dksX1_isImage_3 6 rfl rfl)
theorem dX1_isImage_78 : decode cX1_isImage 78 = .ok (.ireturn, 1) := dk_172 (dk_at dksX1_isImage_3 8 rfl rfl)
abbrev cX1_back : ByteArray := prog_2_method_18_code
def yX1_back : MethodName := ⟨RX1, "back", "([I[II)I"⟩
def dkwX1_back_3 : List UInt8 := [21, 6, 182, 0, 90, 42, 182, 0, 94, 96, 54, 4, 132, 5, 1, 167, 255, 176, 18, 43, 172]
abbrev dktX1_back_3 : List UInt8 := dkwX1_back_3 ++ []
def dkwX1_back_2 : List UInt8 := [96, 46, 154, 0, 9, 132, 6, 1, 167, 255, 223, 21, 5, 29, 160, 0, 6, 21, 6, 172, 21, 4, 42]
abbrev dktX1_back_2 : List UInt8 := dkwX1_back_2 ++ dktX1_back_3
def dkwX1_back_1 : List UInt8 := [21, 6, 43, 21, 4, 182, 0, 121, 153, 0, 21, 44, 21, 4, 42, 21, 6, 182, 0, 90, 42, 182, 0, 94]
abbrev dktX1_back_1 : List UInt8 := dkwX1_back_1 ++ dktX1_back_2
def dkwX1_back_0 : List UInt8 := [3, 54, 4, 3, 54, 5, 21, 4, 43, 190, 162, 0, 79, 44, 21, 4, 46, 158, 0, 72, 3, 54, 6, 42]
abbrev dktX1_back_0 : List UInt8 := dkwX1_back_0 ++ dktX1_back_1
theorem dksX1_back_0 : cX1_back.data.toList.drop 0 = dktX1_back_0 := by decide +kernel
theorem dksX1_back_1 : cX1_back.data.toList.drop 24 = dktX1_back_1 := dk_seg dksX1_back_0 24 rfl rfl
theorem dksX1_back_2 : cX1_back.data.toList.drop 48 = dktX1_back_2 := dk_seg dksX1_back_1 24 rfl rfl
theorem dksX1_back_3 : cX1_back.data.toList.drop 71 = dktX1_back_3 := dk_seg dksX1_back_2 23 rfl rfl
theorem dX1_back_0 : decode cX1_back 0 = .ok (.iconst 0, 1) := dk_3 (dk_at dksX1_back_0 0 rfl rfl)
theorem dX1_back_1 : decode cX1_back 1 = .ok (.istore 4, 2) := dk_54 4 (dk_at dksX1_back_0 1 rfl rfl)
theorem dX1_back_3 : decode cX1_back 3 = .ok (.iconst 0, 1) := dk_3 (dk_at dksX1_back_0 3 rfl rfl)
theorem dX1_back_4 : decode cX1_back 4 = .ok (.istore 5, 2) := dk_54 5 (dk_at dksX1_back_0 4 rfl rfl)
theorem dX1_back_6 : decode cX1_back 6 = .ok (.iload 4, 2) := dk_21 4 (dk_at dksX1_back_0 6 rfl rfl)
theorem dX1_back_8 : decode cX1_back 8 = .ok (.aload_n 1, 1) := dk_43 (dk_at dksX1_back_0 8 rfl rfl)
theorem dX1_back_9 : decode cX1_back 9 = .ok (.arraylength, 1) := dk_190 (dk_at dksX1_back_0 9 rfl rfl)
theorem dX1_back_10 : decode cX1_back 10 = .ok (.if_icmp .ge 79, 3) := dk_162 0 79 (dk_at dksX1_back_0 10 rfl rfl)
theorem dX1_back_13 : decode cX1_back 13 = .ok (.aload_n 2, 1) := dk_44 (dk_at dksX1_back_0 13 rfl rfl)
theorem dX1_back_14 : decode cX1_back 14 = .ok (.iload 4, 2) := dk_21 4 (dk_at dksX1_back_0 14 rfl rfl)
theorem dX1_back_16 : decode cX1_back 16 = .ok (.iaload, 1) := dk_46 (dk_at dksX1_back_0 16 rfl rfl)
theorem dX1_back_17 : decode cX1_back 17 = .ok (.ifCond .le 72, 3) := dk_158 0 72 (dk_at dksX1_back_0 17 rfl rfl)
theorem dX1_back_20 : decode cX1_back 20 = .ok (.iconst 0, 1) := dk_3 (dk_at dksX1_back_0 20 rfl rfl)
theorem dX1_back_21 : decode cX1_back 21 = .ok (.istore 6, 2) := dk_54 6 (dk_at dksX1_back_0 21 rfl rfl)
theorem dX1_back_23 : decode cX1_back 23 = .ok (.aload_n 0, 1) := dk_42 (dk_at dksX1_back_0 23 rfl rfl)
theorem dX1_back_24 : decode cX1_back 24 = .ok (.iload 6, 2) := dk_21 6 (dk_at dksX1_back_1 0 rfl rfl)
theorem dX1_back_26 : decode cX1_back 26 = .ok (.aload_n 1, 1) := dk_43 (dk_at dksX1_back_1 2 rfl rfl)
theorem dX1_back_27 : decode cX1_back 27 = .ok (.iload 4, 2) := dk_21 4 (dk_at dksX1_back_1 3 rfl rfl)
theorem dX1_back_29 : decode cX1_back 29 = .ok (.invokevirtual 121, 3) := dk_182 0 121 (dk_at dksX1_back_1 5 rfl rfl)
theorem dX1_back_32 : decode cX1_back 32 = .ok (.ifCond .eq 21, 3) := dk_153 0 21 (dk_at dksX1_back_1 8 rfl rfl)
theorem dX1_back_35 : decode cX1_back 35 = .ok (.aload_n 2, 1) := dk_44 (dk_at dksX1_back_1 11 rfl rfl)
theorem dX1_back_36 : decode cX1_back 36 = .ok (.iload 4, 2) := dk_21 4 (dk_at dksX1_back_1 12 rfl rfl)
theorem dX1_back_38 : decode cX1_back 38 = .ok (.aload_n 0, 1) := dk_42 (dk_at dksX1_back_1 14 rfl rfl)
theorem dX1_back_39 : decode cX1_back 39 = .ok (.iload 6, 2) := dk_21 6 (dk_at dksX1_back_1 15 rfl rfl)
theorem dX1_back_41 : decode cX1_back 41 = .ok (.invokevirtual 90, 3) := dk_182 0 90 (dk_at dksX1_back_1 17 rfl rfl)
theorem dX1_back_44 : decode cX1_back 44 = .ok (.aload_n 0, 1) := dk_42 (dk_at dksX1_back_1 20 rfl rfl)
theorem dX1_back_45 : decode cX1_back 45 = .ok (.invokevirtual 94, 3) := dk_182 0 94 (dk_at dksX1_back_1 21 rfl rfl)
theorem dX1_back_48 : decode cX1_back 48 = .ok (.iadd, 1) := dk_96 (dk_at dksX1_back_2 0 rfl rfl)
theorem dX1_back_49 : decode cX1_back 49 = .ok (.iaload, 1) := dk_46 (dk_at dksX1_back_2 1 rfl rfl)
theorem dX1_back_50 : decode cX1_back 50 = .ok (.ifCond .ne 9, 3) := dk_154 0 9 (dk_at dksX1_back_2 2 rfl rfl)
theorem dX1_back_53 : decode cX1_back 53 = .ok (.iinc 6 1, 3) := dk_132 6 1 (dk_at dksX1_back_2 5 rfl rfl)
theorem dX1_back_56 : decode cX1_back 56 = .ok (.goto (-33), 3) := dk_167 255 223 (dk_at dksX1_back_2 8 rfl rfl)
theorem dX1_back_59 : decode cX1_back 59 = .ok (.iload 5, 2) := dk_21 5 (dk_at dksX1_back_2 11 rfl rfl)
theorem dX1_back_61 : decode cX1_back 61 = .ok (.iload_n 3, 1) := dk_29 (dk_at dksX1_back_2 13 rfl rfl)
theorem dX1_back_62 : decode cX1_back 62 = .ok (.if_icmp .ne 6, 3) := dk_160 0 6 (dk_at dksX1_back_2 14 rfl rfl)
theorem dX1_back_65 : decode cX1_back 65 = .ok (.iload 6, 2) := dk_21 6 (dk_at dksX1_back_2 17 rfl rfl)
theorem dX1_back_67 : decode cX1_back 67 = .ok (.ireturn, 1) := dk_172 (dk_at dksX1_back_2 19 rfl rfl)
theorem dX1_back_68 : decode cX1_back 68 = .ok (.iload 4, 2) := dk_21 4 (dk_at dksX1_back_2 20 rfl rfl)
theorem dX1_back_70 : decode cX1_back 70 = .ok (.aload_n 0, 1) := dk_42 (dk_at dksX1_back_2 22 rfl rfl)
theorem dX1_back_71 : decode cX1_back 71 = .ok (.iload 6, 2) := dk_21 6 (dk_at dksX1_back_3 0 rfl rfl)
theorem dX1_back_73 : decode cX1_back 73 = .ok (.invokevirtual 90, 3) := dk_182 0 90 (dk_at dksX1_back_3 2 rfl rfl)
theorem dX1_back_76 : decode cX1_back 76 = .ok (.aload_n 0, 1) := dk_42 (dk_at dksX1_back_3 5 rfl rfl)
theorem dX1_back_77 : decode cX1_back 77 = .ok (.invokevirtual 94, 3) := dk_182 0 94 (dk_at dksX1_back_3 6 rfl rfl)
theorem dX1_back_80 : decode cX1_back 80 = .ok (.iadd, 1) := dk_96 (dk_at dksX1_back_3 9 rfl rfl)
theorem dX1_back_81 : decode cX1_back 81 = .ok (.istore 4, 2) := dk_54 4 (dk_at dksX1_back_3 10 rfl rfl)
theorem dX1_back_83 : decode cX1_back 83 = .ok (.iinc 5 1, 3) := dk_132 5 1 (dk_at dksX1_back_3 12 rfl rfl)
theorem dX1_back_86 : decode cX1_back 86 = .ok (.goto (-80), 3) := dk_167 255 176 (dk_at dksX1_back_3 15 rfl rfl)
theorem dX1_back_89 : decode cX1_back 89 = .ok (.ldc 43, 2) := dk_18 43 (dk_at dksX1_back_3 18 rfl rfl)
theorem dX1_back_91 : decode cX1_back 91 = .ok (.ireturn, 1) := dk_172 (dk_at dksX1_back_3 20 rfl rfl)
theorem q64 : (Jvm.Cond.initialized "InflatedRows$Book") ∈ lw_all := lw_g (lw_at lw_m1 2 rfl) rfl
theorem q108 : (Jvm.Cond.instantiable "InflatedRows$Book" (13 : Nat)) ∈ lw_all := lw_g (lw_at lw_m1 46 rfl) rfl
theorem q110 : (Jvm.Cond.instanceMethod ({ cls := "InflatedRows$Book", name := "<init>", desc := "()V" } : Jvm.MethodName)) ∈ lw_all := lw_g (lw_at lw_m1 48 rfl) rfl
theorem q111 : (Jvm.Cond.code ({ cls := "InflatedRows$Book", name := "<init>", desc := "()V" } : Jvm.MethodName) prog_2_method_1_code (1 : Nat) (Option.none : Option Jvm.ClassFile.FieldType)) ∈ lw_all := lw_g (lw_at lw_m1 49 rfl) rfl
theorem q112 : (Jvm.Cond.methodLink "InflatedRows$Book" (3 : Nat) ({ cls := "InflatedRows$Book", name := "<init>", desc := "(I)V" } : Jvm.MethodName)) ∈ lw_all := lw_g (lw_at lw_m1 50 rfl) rfl
theorem q113 : (Jvm.Cond.instanceMethod ({ cls := "InflatedRows$Book", name := "<init>", desc := "(I)V" } : Jvm.MethodName)) ∈ lw_all := lw_g (lw_at lw_m1 51 rfl) rfl
theorem q114 : (Jvm.Cond.code ({ cls := "InflatedRows$Book", name := "<init>", desc := "(I)V" } : Jvm.MethodName) prog_2_method_2_code (2 : Nat) (Option.none : Option Jvm.ClassFile.FieldType)) ∈ lw_all := lw_g (lw_at lw_m1 52 rfl) rfl
theorem q115 : (Jvm.Cond.methodLink "InflatedRows$Book" (9 : Nat) ({ cls := "java/lang/Object", name := "<init>", desc := "()V" } : Jvm.MethodName)) ∈ lw_all := lw_g (lw_at lw_m1 53 rfl) rfl
theorem q116 : (Jvm.Cond.classLink "InflatedRows$Book" (14 : Nat) "java/util/ArrayList") ∈ lw_all := lw_g (lw_at lw_m1 54 rfl) rfl
theorem q118 : (Jvm.Cond.methodLink "InflatedRows$Book" (16 : Nat) ({ cls := "java/util/ArrayList", name := "<init>", desc := "()V" } : Jvm.MethodName)) ∈ lw_all := lw_g (lw_at lw_m1 56 rfl) rfl
theorem q143 : (Jvm.Cond.constant "InflatedRows$Book" (43 : Nat) (-1000000 : Int32)) ∈ lw_all := lw_g (lw_at lw_m1 81 rfl) rfl
theorem q144 : (Jvm.Cond.fieldLink "InflatedRows$Book" (51 : Nat) "InflatedRows$Book" "m" "I") ∈ lw_all := lw_g (lw_at lw_m1 82 rfl) rfl
theorem q147 : (Jvm.Cond.fieldLink "InflatedRows$Book" (54 : Nat) "InflatedRows$Book" "k" "I") ∈ lw_all := lw_g (lw_at lw_m1 85 rfl) rfl
theorem q150 : (Jvm.Cond.fieldLink "InflatedRows$Book" (17 : Nat) "InflatedRows$Book" "sorts" "Ljava/util/List;") ∈ lw_all := lw_g (lw_at lw_m1 88 rfl) rfl
theorem q153 : (Jvm.Cond.fieldLink "InflatedRows$Book" (21 : Nat) "InflatedRows$Book" "p" "[I") ∈ lw_all := lw_g (lw_at lw_m1 91 rfl) rfl
theorem q157 : (Jvm.Cond.fieldLink "InflatedRows$Book" (25 : Nat) "InflatedRows$Book" "q" "[I") ∈ lw_all := lw_g (lw_at lw_m1 95 rfl) rfl
theorem q161 : (Jvm.Cond.fieldLink "InflatedRows$Book" (28 : Nat) "InflatedRows$Book" "letters" "[I") ∈ lw_all := lw_g (lw_at lw_m1 99 rfl) rfl
theorem q164 : (Jvm.Cond.fieldLink "InflatedRows$Book" (31 : Nat) "InflatedRows$Book" "word" "[I") ∈ lw_all := lw_g (lw_at lw_m1 102 rfl) rfl
theorem q167 : (Jvm.Cond.fieldLink "InflatedRows$Book" (48 : Nat) "InflatedRows$Book" "row" "[I") ∈ lw_all := lw_g (lw_at lw_m1 105 rfl) rfl
theorem q169 : (Jvm.Cond.fieldLink "InflatedRows$Book" (63 : Nat) "InflatedRows$Book" "size" "I") ∈ lw_all := lw_g (lw_at lw_m1 107 rfl) rfl
theorem q171 : (Jvm.Cond.fieldLink "InflatedRows$Book" (34 : Nat) "InflatedRows$Book" "grown" "[I") ∈ lw_all := lw_g (lw_at lw_m1 109 rfl) rfl
theorem q173 : (Jvm.Cond.fieldLink "InflatedRows$Book" (37 : Nat) "InflatedRows$Book" "from" "[I") ∈ lw_all := lw_g (lw_at lw_m1 111 rfl) rfl
theorem q174 : (Jvm.Cond.fieldLink "InflatedRows$Book" (40 : Nat) "InflatedRows$Book" "next" "[I") ∈ lw_all := lw_g (lw_at lw_m1 112 rfl) rfl
theorem q175 : (Jvm.Cond.fieldLink "InflatedRows$Book" (44 : Nat) "InflatedRows$Book" "many" "I") ∈ lw_all := lw_g (lw_at lw_m1 113 rfl) rfl
theorem q177 : (Jvm.Cond.lays "InflatedRows$Book" "InflatedRows$Book" "m" "I") ∈ lw_all := lw_g (lw_at lw_m1 115 rfl) rfl
theorem q178 : (Jvm.Cond.soleField "InflatedRows$Book" "m") ∈ lw_all := lw_g (lw_at lw_m1 116 rfl) rfl
theorem q179 : (Jvm.Cond.lays "InflatedRows$Book" "InflatedRows$Book" "k" "I") ∈ lw_all := lw_g (lw_at lw_m1 117 rfl) rfl
theorem q180 : (Jvm.Cond.soleField "InflatedRows$Book" "k") ∈ lw_all := lw_g (lw_at lw_m1 118 rfl) rfl
theorem q181 : (Jvm.Cond.lays "InflatedRows$Book" "InflatedRows$Book" "sorts" "Ljava/util/List;") ∈ lw_all := lw_g (lw_at lw_m1 119 rfl) rfl
theorem q182 : (Jvm.Cond.soleField "InflatedRows$Book" "sorts") ∈ lw_all := lw_g (lw_at lw_m1 120 rfl) rfl
theorem q183 : (Jvm.Cond.laysFinal "InflatedRows$Book" "InflatedRows$Book" "p" "[I") ∈ lw_all := lw_g (lw_at lw_m1 121 rfl) rfl
theorem q184 : (Jvm.Cond.soleField "InflatedRows$Book" "p") ∈ lw_all := lw_g (lw_at lw_m1 122 rfl) rfl
theorem q185 : (Jvm.Cond.laysFinal "InflatedRows$Book" "InflatedRows$Book" "q" "[I") ∈ lw_all := lw_g (lw_at lw_m1 123 rfl) rfl
theorem q186 : (Jvm.Cond.soleField "InflatedRows$Book" "q") ∈ lw_all := lw_g (lw_at lw_m1 124 rfl) rfl
theorem q187 : (Jvm.Cond.laysFinal "InflatedRows$Book" "InflatedRows$Book" "letters" "[I") ∈ lw_all := lw_g (lw_at lw_m1 125 rfl) rfl
theorem q188 : (Jvm.Cond.soleField "InflatedRows$Book" "letters") ∈ lw_all := lw_g (lw_at lw_m1 126 rfl) rfl
theorem q189 : (Jvm.Cond.laysFinal "InflatedRows$Book" "InflatedRows$Book" "word" "[I") ∈ lw_all := lw_g (lw_at lw_m1 127 rfl) rfl
theorem q190 : (Jvm.Cond.soleField "InflatedRows$Book" "word") ∈ lw_all := lw_g (lw_at lw_m1 128 rfl) rfl
theorem q191 : (Jvm.Cond.laysFinal "InflatedRows$Book" "InflatedRows$Book" "row" "[I") ∈ lw_all := lw_g (lw_at lw_m1 129 rfl) rfl
theorem q192 : (Jvm.Cond.soleField "InflatedRows$Book" "row") ∈ lw_all := lw_g (lw_at lw_m1 130 rfl) rfl
theorem q193 : (Jvm.Cond.lays "InflatedRows$Book" "InflatedRows$Book" "size" "I") ∈ lw_all := lw_g (lw_at lw_m1 131 rfl) rfl
theorem q194 : (Jvm.Cond.soleField "InflatedRows$Book" "size") ∈ lw_all := lw_g (lw_at lw_m1 132 rfl) rfl
theorem q195 : (Jvm.Cond.laysFinal "InflatedRows$Book" "InflatedRows$Book" "grown" "[I") ∈ lw_all := lw_g (lw_at lw_m1 133 rfl) rfl
theorem q196 : (Jvm.Cond.soleField "InflatedRows$Book" "grown") ∈ lw_all := lw_g (lw_at lw_m1 134 rfl) rfl
theorem q197 : (Jvm.Cond.laysFinal "InflatedRows$Book" "InflatedRows$Book" "from" "[I") ∈ lw_all := lw_g (lw_at lw_m1 135 rfl) rfl
theorem q198 : (Jvm.Cond.soleField "InflatedRows$Book" "from") ∈ lw_all := lw_g (lw_at lw_m1 136 rfl) rfl
theorem q199 : (Jvm.Cond.laysFinal "InflatedRows$Book" "InflatedRows$Book" "next" "[I") ∈ lw_all := lw_g (lw_at lw_m1 137 rfl) rfl
theorem q200 : (Jvm.Cond.soleField "InflatedRows$Book" "next") ∈ lw_all := lw_g (lw_at lw_m1 138 rfl) rfl
theorem q201 : (Jvm.Cond.lays "InflatedRows$Book" "InflatedRows$Book" "many" "I") ∈ lw_all := lw_g (lw_at lw_m1 139 rfl) rfl
theorem q202 : (Jvm.Cond.soleField "InflatedRows$Book" "many") ∈ lw_all := lw_g (lw_at lw_m1 140 rfl) rfl
theorem q203 : (Jvm.Cond.superclass "InflatedRows$Book" "java/lang/Object") ∈ lw_all := lw_g (lw_at lw_m1 141 rfl) rfl
theorem q582 : (Jvm.Cond.instanceMethod ({ cls := "InflatedRows$Book", name := "sorts", desc := "()I" } : Jvm.MethodName)) ∈ lw_all := lw_g (lw_at lw_m3 40 rfl) rfl
theorem q583 : (Jvm.Cond.selects "InflatedRows$Book" ({ cls := "InflatedRows$Book", name := "sorts", desc := "()I" } : Jvm.MethodName) ({ cls := "InflatedRows$Book", name := "sorts", desc := "()I" } : Jvm.MethodName)) ∈ lw_all := lw_g (lw_at lw_m3 41 rfl) rfl
theorem q584 : (Jvm.Cond.code ({ cls := "InflatedRows$Book", name := "sorts", desc := "()I" } : Jvm.MethodName) prog_2_method_4_code (1 : Nat) (Option.some Jvm.ClassFile.FieldType.int)) ∈ lw_all := lw_g (lw_at lw_m3 42 rfl) rfl
theorem q585 : (Jvm.Cond.interfaceEntry "InflatedRows$Book" (66 : Nat)) ∈ lw_tbl := lw_at lw_m3 43 rfl
theorem q586 : (Jvm.Cond.methodLink "InflatedRows$Book" (66 : Nat) ({ cls := "java/util/List", name := "size", desc := "()I" } : Jvm.MethodName)) ∈ lw_all := lw_g (lw_at lw_m3 44 rfl) rfl
theorem q606 : (Jvm.Cond.instanceMethod ({ cls := "InflatedRows$Book", name := "spell", desc := "(I[I)V" } : Jvm.MethodName)) ∈ lw_all := lw_g (lw_at lw_m3 64 rfl) rfl
theorem q607 : (Jvm.Cond.selects "InflatedRows$Book" ({ cls := "InflatedRows$Book", name := "spell", desc := "(I[I)V" } : Jvm.MethodName) ({ cls := "InflatedRows$Book", name := "spell", desc := "(I[I)V" } : Jvm.MethodName)) ∈ lw_all := lw_g (lw_at lw_m3 65 rfl) rfl
theorem q608 : (Jvm.Cond.code ({ cls := "InflatedRows$Book", name := "spell", desc := "(I[I)V" } : Jvm.MethodName) prog_2_method_7_code (3 : Nat) (Option.none : Option Jvm.ClassFile.FieldType)) ∈ lw_all := lw_g (lw_at lw_m3 66 rfl) rfl
theorem q609 : (Jvm.Cond.methodLink "InflatedRows$Book" (57 : Nat) ({ cls := "java/lang/System", name := "arraycopy", desc := "(Ljava/lang/Object;ILjava/lang/Object;II)V" } : Jvm.MethodName)) ∈ lw_all := lw_g (lw_at lw_m3 67 rfl) rfl
theorem q696 : (Jvm.Cond.selects "InflatedRows$Book" ({ cls := "java/lang/Object", name := "getClass", desc := "()Ljava/lang/Class;" } : Jvm.MethodName) ({ cls := "java/lang/Object", name := "getClass", desc := "()Ljava/lang/Class;" } : Jvm.MethodName)) ∈ lw_all := lw_g (lw_at lw_m3 154 rfl) rfl
theorem q726 : (Jvm.Cond.instanceMethod ({ cls := "InflatedRows$Book", name := "begin", desc := "([I)V" } : Jvm.MethodName)) ∈ lw_all := lw_g (lw_at lw_m3 184 rfl) rfl
theorem q727 : (Jvm.Cond.selects "InflatedRows$Book" ({ cls := "InflatedRows$Book", name := "begin", desc := "([I)V" } : Jvm.MethodName) ({ cls := "InflatedRows$Book", name := "begin", desc := "([I)V" } : Jvm.MethodName)) ∈ lw_all := lw_g (lw_at lw_m3 185 rfl) rfl
theorem q728 : (Jvm.Cond.code ({ cls := "InflatedRows$Book", name := "begin", desc := "([I)V" } : Jvm.MethodName) prog_2_method_8_code (2 : Nat) (Option.none : Option Jvm.ClassFile.FieldType)) ∈ lw_all := lw_g (lw_at lw_m3 186 rfl) rfl
theorem q730 : (Jvm.Cond.instanceMethod ({ cls := "InflatedRows$Book", name := "isWhole", desc := "()Z" } : Jvm.MethodName)) ∈ lw_all := lw_g (lw_at lw_m3 188 rfl) rfl
theorem q731 : (Jvm.Cond.selects "InflatedRows$Book" ({ cls := "InflatedRows$Book", name := "isWhole", desc := "()Z" } : Jvm.MethodName) ({ cls := "InflatedRows$Book", name := "isWhole", desc := "()Z" } : Jvm.MethodName)) ∈ lw_all := lw_g (lw_at lw_m3 189 rfl) rfl
theorem q732 : (Jvm.Cond.code ({ cls := "InflatedRows$Book", name := "isWhole", desc := "()Z" } : Jvm.MethodName) prog_2_method_9_code (4 : Nat) (Option.some Jvm.ClassFile.FieldType.boolean)) ∈ lw_all := lw_g (lw_at lw_m3 190 rfl) rfl
theorem q733 : (Jvm.Cond.methodLink "InflatedRows$Book" (88 : Nat) ({ cls := "InflatedRows$Book", name := "sorts", desc := "()I" } : Jvm.MethodName)) ∈ lw_all := lw_g (lw_at lw_m3 191 rfl) rfl
theorem q736 : (Jvm.Cond.instanceMethod ({ cls := "InflatedRows$Book", name := "become", desc := "(LInflatedRows$Book;)LInflatedRows$Book;" } : Jvm.MethodName)) ∈ lw_all := lw_g (lw_at lw_m3 194 rfl) rfl
theorem q737 : (Jvm.Cond.selects "InflatedRows$Book" ({ cls := "InflatedRows$Book", name := "become", desc := "(LInflatedRows$Book;)LInflatedRows$Book;" } : Jvm.MethodName) ({ cls := "InflatedRows$Book", name := "become", desc := "(LInflatedRows$Book;)LInflatedRows$Book;" } : Jvm.MethodName)) ∈ lw_all := lw_g (lw_at lw_m3 195 rfl) rfl
theorem q738 : (Jvm.Cond.code ({ cls := "InflatedRows$Book", name := "become", desc := "(LInflatedRows$Book;)LInflatedRows$Book;" } : Jvm.MethodName) prog_2_method_3_code (2 : Nat) (Option.some (Jvm.ClassFile.FieldType.object "InflatedRows$Book"))) ∈ lw_all := lw_g (lw_at lw_m3 196 rfl) rfl
theorem q787 : (Jvm.Cond.instanceMethod ({ cls := "InflatedRows$Book", name := "at", desc := "(I)LInflatedRows$Sort;" } : Jvm.MethodName)) ∈ lw_all := lw_g (lw_at lw_m4 5 rfl) rfl
theorem q788 : (Jvm.Cond.selects "InflatedRows$Book" ({ cls := "InflatedRows$Book", name := "at", desc := "(I)LInflatedRows$Sort;" } : Jvm.MethodName) ({ cls := "InflatedRows$Book", name := "at", desc := "(I)LInflatedRows$Sort;" } : Jvm.MethodName)) ∈ lw_all := lw_g (lw_at lw_m4 6 rfl) rfl
theorem q789 : (Jvm.Cond.code ({ cls := "InflatedRows$Book", name := "at", desc := "(I)LInflatedRows$Sort;" } : Jvm.MethodName) prog_2_method_5_code (2 : Nat) (Option.some (Jvm.ClassFile.FieldType.object "InflatedRows$Sort"))) ∈ lw_all := lw_g (lw_at lw_m4 7 rfl) rfl
theorem q790 : (Jvm.Cond.interfaceEntry "InflatedRows$Book" (71 : Nat)) ∈ lw_tbl := lw_at lw_m4 8 rfl
theorem q791 : (Jvm.Cond.methodLink "InflatedRows$Book" (71 : Nat) ({ cls := "java/util/List", name := "get", desc := "(I)Ljava/lang/Object;" } : Jvm.MethodName)) ∈ lw_all := lw_g (lw_at lw_m4 9 rfl) rfl
theorem q807 : (Jvm.Cond.classLink "InflatedRows$Book" (75 : Nat) "InflatedRows$Sort") ∈ lw_all := lw_g (lw_at lw_m4 25 rfl) rfl
theorem q827 : (Jvm.Cond.instanceMethod ({ cls := "InflatedRows$Book", name := "with", desc := "(II)LInflatedRows$Book;" } : Jvm.MethodName)) ∈ lw_all := lw_g (lw_at lw_m4 45 rfl) rfl
theorem q828 : (Jvm.Cond.selects "InflatedRows$Book" ({ cls := "InflatedRows$Book", name := "with", desc := "(II)LInflatedRows$Book;" } : Jvm.MethodName) ({ cls := "InflatedRows$Book", name := "with", desc := "(II)LInflatedRows$Book;" } : Jvm.MethodName)) ∈ lw_all := lw_g (lw_at lw_m4 46 rfl) rfl
theorem q829 : (Jvm.Cond.code ({ cls := "InflatedRows$Book", name := "with", desc := "(II)LInflatedRows$Book;" } : Jvm.MethodName) prog_2_method_6_code (4 : Nat) (Option.some (Jvm.ClassFile.FieldType.object "InflatedRows$Book"))) ∈ lw_all := lw_g (lw_at lw_m4 47 rfl) rfl
theorem q830 : (Jvm.Cond.methodLink "InflatedRows$Book" (77 : Nat) ({ cls := "java/util/ArrayList", name := "<init>", desc := "(Ljava/util/Collection;)V" } : Jvm.MethodName)) ∈ lw_all := lw_g (lw_at lw_m4 48 rfl) rfl
theorem q854 : (Jvm.Cond.methodLinkNest "InflatedRows$Book" (80 : Nat) ({ cls := "InflatedRows", name := "sortBy", desc := "(II)LInflatedRows$Sort;" } : Jvm.MethodName) "InflatedRows") ∈ lw_tbl := lw_at lw_m4 72 rfl
theorem q855 : (Jvm.Cond.interfaceEntry "InflatedRows$Book" (84 : Nat)) ∈ lw_tbl := lw_at lw_m4 73 rfl
theorem q856 : (Jvm.Cond.methodLink "InflatedRows$Book" (84 : Nat) ({ cls := "java/util/List", name := "set", desc := "(ILjava/lang/Object;)Ljava/lang/Object;" } : Jvm.MethodName)) ∈ lw_all := lw_g (lw_at lw_m4 74 rfl) rfl
theorem q884 : (Jvm.Cond.instanceMethod ({ cls := "InflatedRows$Book", name := "grow", desc := "(I)Z" } : Jvm.MethodName)) ∈ lw_all := lw_g (lw_at lw_m4 102 rfl) rfl
theorem q885 : (Jvm.Cond.selects "InflatedRows$Book" ({ cls := "InflatedRows$Book", name := "grow", desc := "(I)Z" } : Jvm.MethodName) ({ cls := "InflatedRows$Book", name := "grow", desc := "(I)Z" } : Jvm.MethodName)) ∈ lw_all := lw_g (lw_at lw_m4 103 rfl) rfl
theorem q886 : (Jvm.Cond.code ({ cls := "InflatedRows$Book", name := "grow", desc := "(I)Z" } : Jvm.MethodName) prog_2_method_10_code (7 : Nat) (Option.some Jvm.ClassFile.FieldType.boolean)) ∈ lw_all := lw_g (lw_at lw_m4 104 rfl) rfl
theorem q887 : (Jvm.Cond.methodLink "InflatedRows$Book" (90 : Nat) ({ cls := "InflatedRows$Book", name := "at", desc := "(I)LInflatedRows$Sort;" } : Jvm.MethodName)) ∈ lw_all := lw_g (lw_at lw_m4 105 rfl) rfl
theorem q888 : (Jvm.Cond.methodLink "InflatedRows$Book" (94 : Nat) ({ cls := "InflatedRows$Sort", name := "becomes", desc := "(LInflatedRows$Book;)I" } : Jvm.MethodName)) ∈ lw_all := lw_g (lw_at lw_m4 106 rfl) rfl
theorem q911 : (Jvm.Cond.methodLink "InflatedRows$Book" (98 : Nat) ({ cls := "InflatedRows$Sort", name := "image", desc := "(LInflatedRows$Book;I)I" } : Jvm.MethodName)) ∈ lw_all := lw_g (lw_at lw_m4 129 rfl) rfl
theorem q959 : (Jvm.Cond.instanceMethod ({ cls := "InflatedRows$Book", name := "origin", desc := "(II)I" } : Jvm.MethodName)) ∈ lw_all := lw_g (lw_at lw_m4 177 rfl) rfl
theorem q960 : (Jvm.Cond.selects "InflatedRows$Book" ({ cls := "InflatedRows$Book", name := "origin", desc := "(II)I" } : Jvm.MethodName) ({ cls := "InflatedRows$Book", name := "origin", desc := "(II)I" } : Jvm.MethodName)) ∈ lw_all := lw_g (lw_at lw_m4 178 rfl) rfl
theorem q961 : (Jvm.Cond.code ({ cls := "InflatedRows$Book", name := "origin", desc := "(II)I" } : Jvm.MethodName) prog_2_method_11_code (3 : Nat) (Option.some Jvm.ClassFile.FieldType.int)) ∈ lw_all := lw_g (lw_at lw_m4 179 rfl) rfl
theorem q962 : (Jvm.Cond.methodLink "InflatedRows$Book" (102 : Nat) ({ cls := "InflatedRows$Book", name := "grow", desc := "(I)Z" } : Jvm.MethodName)) ∈ lw_all := lw_g (lw_at lw_m4 180 rfl) rfl
theorem q991 : (Jvm.Cond.instanceMethod ({ cls := "InflatedRows$Book", name := "numbers", desc := "(I)[J" } : Jvm.MethodName)) ∈ lw_all := lw_g (lw_at lw_m4 209 rfl) rfl
theorem q992 : (Jvm.Cond.selects "InflatedRows$Book" ({ cls := "InflatedRows$Book", name := "numbers", desc := "(I)[J" } : Jvm.MethodName) ({ cls := "InflatedRows$Book", name := "numbers", desc := "(I)[J" } : Jvm.MethodName)) ∈ lw_all := lw_g (lw_at lw_m4 210 rfl) rfl
theorem q993 : (Jvm.Cond.code ({ cls := "InflatedRows$Book", name := "numbers", desc := "(I)[J" } : Jvm.MethodName) prog_2_method_14_code (8 : Nat) (Option.some (Jvm.ClassFile.FieldType.array Jvm.ClassFile.FieldType.long))) ∈ lw_all := lw_g (lw_at lw_m4 211 rfl) rfl
theorem q994 : (Jvm.Cond.methodLinkNest "InflatedRows$Book" (114 : Nat) ({ cls := "InflatedRows", name := "sum", desc := "([J)J" } : Jvm.MethodName) "InflatedRows") ∈ lw_tbl := lw_at lw_m4 212 rfl
theorem q1050 : (Jvm.Cond.instanceMethod ({ cls := "InflatedRows$Book", name := "pairs", desc := "()I" } : Jvm.MethodName)) ∈ lw_all := lw_g (lw_at lw_m5 28 rfl) rfl
theorem q1051 : (Jvm.Cond.selects "InflatedRows$Book" ({ cls := "InflatedRows$Book", name := "pairs", desc := "()I" } : Jvm.MethodName) ({ cls := "InflatedRows$Book", name := "pairs", desc := "()I" } : Jvm.MethodName)) ∈ lw_all := lw_g (lw_at lw_m5 29 rfl) rfl
theorem q1052 : (Jvm.Cond.code ({ cls := "InflatedRows$Book", name := "pairs", desc := "()I" } : Jvm.MethodName) prog_2_method_12_code (7 : Nat) (Option.some Jvm.ClassFile.FieldType.int)) ∈ lw_all := lw_g (lw_at lw_m5 30 rfl) rfl
theorem q1053 : (Jvm.Cond.methodLink "InflatedRows$Book" (106 : Nat) ({ cls := "InflatedRows$Book", name := "pair", desc := "(II)I" } : Jvm.MethodName)) ∈ lw_all := lw_g (lw_at lw_m5 31 rfl) rfl
theorem q1054 : (Jvm.Cond.privateMethod ({ cls := "InflatedRows$Book", name := "pair", desc := "(II)I" } : Jvm.MethodName)) ∈ lw_tbl := lw_at lw_m5 32 rfl
theorem q1055 : (Jvm.Cond.instanceMethod ({ cls := "InflatedRows$Book", name := "pair", desc := "(II)I" } : Jvm.MethodName)) ∈ lw_all := lw_g (lw_at lw_m5 33 rfl) rfl
theorem q1056 : (Jvm.Cond.code ({ cls := "InflatedRows$Book", name := "pair", desc := "(II)I" } : Jvm.MethodName) prog_2_method_13_code (3 : Nat) (Option.some Jvm.ClassFile.FieldType.int)) ∈ lw_all := lw_g (lw_at lw_m5 34 rfl) rfl
theorem q1057 : (Jvm.Cond.methodLinkNest "InflatedRows$Book" (110 : Nat) ({ cls := "InflatedRows", name := "has", desc := "(II)Z" } : Jvm.MethodName) "InflatedRows") ∈ lw_tbl := lw_at lw_m5 35 rfl
theorem q1073 : (Jvm.Cond.instanceMethod ({ cls := "InflatedRows$Book", name := "isScale", desc := "(II)Z" } : Jvm.MethodName)) ∈ lw_all := lw_g (lw_at lw_m5 51 rfl) rfl
theorem q1074 : (Jvm.Cond.selects "InflatedRows$Book" ({ cls := "InflatedRows$Book", name := "isScale", desc := "(II)Z" } : Jvm.MethodName) ({ cls := "InflatedRows$Book", name := "isScale", desc := "(II)Z" } : Jvm.MethodName)) ∈ lw_all := lw_g (lw_at lw_m5 52 rfl) rfl
theorem q1075 : (Jvm.Cond.code ({ cls := "InflatedRows$Book", name := "isScale", desc := "(II)Z" } : Jvm.MethodName) prog_2_method_15_code (9 : Nat) (Option.some Jvm.ClassFile.FieldType.boolean)) ∈ lw_all := lw_g (lw_at lw_m5 53 rfl) rfl
theorem q1076 : (Jvm.Cond.methodLink "InflatedRows$Book" (118 : Nat) ({ cls := "InflatedRows$Sort", name := "length", desc := "(LInflatedRows$Book;I)I" } : Jvm.MethodName)) ∈ lw_all := lw_g (lw_at lw_m5 54 rfl) rfl
theorem q1083 : (Jvm.Cond.instanceMethod ({ cls := "InflatedRows$Book", name := "backs", desc := "([I)[I" } : Jvm.MethodName)) ∈ lw_all := lw_g (lw_at lw_m5 61 rfl) rfl
theorem q1084 : (Jvm.Cond.selects "InflatedRows$Book" ({ cls := "InflatedRows$Book", name := "backs", desc := "([I)[I" } : Jvm.MethodName) ({ cls := "InflatedRows$Book", name := "backs", desc := "([I)[I" } : Jvm.MethodName)) ∈ lw_all := lw_g (lw_at lw_m5 62 rfl) rfl
theorem q1085 : (Jvm.Cond.code ({ cls := "InflatedRows$Book", name := "backs", desc := "([I)[I" } : Jvm.MethodName) prog_2_method_17_code (5 : Nat) (Option.some (Jvm.ClassFile.FieldType.array Jvm.ClassFile.FieldType.int))) ∈ lw_all := lw_g (lw_at lw_m5 63 rfl) rfl
theorem q1086 : (Jvm.Cond.methodLink "InflatedRows$Book" (121 : Nat) ({ cls := "InflatedRows$Book", name := "isImage", desc := "(I[II)Z" } : Jvm.MethodName)) ∈ lw_all := lw_g (lw_at lw_m5 64 rfl) rfl
theorem q1087 : (Jvm.Cond.privateMethod ({ cls := "InflatedRows$Book", name := "isImage", desc := "(I[II)Z" } : Jvm.MethodName)) ∈ lw_tbl := lw_at lw_m5 65 rfl
theorem q1088 : (Jvm.Cond.instanceMethod ({ cls := "InflatedRows$Book", name := "isImage", desc := "(I[II)Z" } : Jvm.MethodName)) ∈ lw_all := lw_g (lw_at lw_m5 66 rfl) rfl
theorem q1089 : (Jvm.Cond.code ({ cls := "InflatedRows$Book", name := "isImage", desc := "(I[II)Z" } : Jvm.MethodName) prog_2_method_16_code (7 : Nat) (Option.some Jvm.ClassFile.FieldType.boolean)) ∈ lw_all := lw_g (lw_at lw_m5 67 rfl) rfl
theorem q1090 : (Jvm.Cond.constant "InflatedRows$Book" (125 : Nat) (1000000 : Int32)) ∈ lw_all := lw_g (lw_at lw_m5 68 rfl) rfl
theorem q1091 : (Jvm.Cond.methodLink "InflatedRows$Book" (126 : Nat) ({ cls := "java/lang/Math", name := "min", desc := "(II)I" } : Jvm.MethodName)) ∈ lw_all := lw_g (lw_at lw_m5 69 rfl) rfl
theorem q1093 : (Jvm.Cond.instanceMethod ({ cls := "InflatedRows$Book", name := "back", desc := "([I[II)I" } : Jvm.MethodName)) ∈ lw_all := lw_g (lw_at lw_m5 71 rfl) rfl
theorem q1094 : (Jvm.Cond.selects "InflatedRows$Book" ({ cls := "InflatedRows$Book", name := "back", desc := "([I[II)I" } : Jvm.MethodName) ({ cls := "InflatedRows$Book", name := "back", desc := "([I[II)I" } : Jvm.MethodName)) ∈ lw_all := lw_g (lw_at lw_m5 72 rfl) rfl
theorem q1095 : (Jvm.Cond.code ({ cls := "InflatedRows$Book", name := "back", desc := "([I[II)I" } : Jvm.MethodName) prog_2_method_18_code (7 : Nat) (Option.some Jvm.ClassFile.FieldType.int)) ∈ lw_all := lw_g (lw_at lw_m5 73 rfl) rfl
theorem q1765 : (Jvm.Cond.castable "InflatedRows$Book" "java/lang/Object") ∈ lw_tbl := lw_at lw_m8 23 rfl
theorem in_X1 : ∀ w ∈ wsX10, w ∈ lw_all := lw_in wsX10 [177, 179, 181, 183, 185, 187, 189, 191, 193, 195, 197, 199, 201] (by decide +kernel) (by decide +kernel)
/-! InflatedRows$Trail -/
set_option maxRecDepth 100000
def RX2 : String := "InflatedRows$Trail"
def TX2 : u_T := fun k => match k with
  | 0 => ("InflatedRows$Trail", "body", "[I", true)
  | _ => ("InflatedRows$Trail", "many", "I", false)
def tyX2 : Nat → FieldType := fun k => match k with
  | 0 => .array .int
  | _ => .int
abbrev wsX20 : List Cond := u_ws RX2 TX2 2
theorem nmX2 : ∀ a, a < 2 → ∀ b, b < 2 → a ≠ b → (TX2 a).2.1 ≠ (TX2 b).2.1 := by decide +kernel
theorem tyX2_ok : ∀ k, k < 2 → parseFieldDescriptor (TX2 k).2.2.1 = some (tyX2 k) := by decide +kernel
abbrev cX2_init : ByteArray := prog_14_method_1_code
def yX2_init : MethodName := ⟨RX2, "<init>", "()V"⟩
def dkwX2_init_0 : List UInt8 := [42, 183, 0, 3, 42, 16, 16, 188, 10, 181, 0, 9, 177]
abbrev dktX2_init_0 : List UInt8 := dkwX2_init_0 ++ []
theorem dksX2_init_0 : cX2_init.data.toList.drop 0 = dktX2_init_0 := by decide +kernel
theorem dX2_init_0 : decode cX2_init 0 = .ok (.aload_n 0, 1) := dk_42 (dk_at dksX2_init_0 0 rfl rfl)
theorem dX2_init_1 : decode cX2_init 1 = .ok (.invokespecial 3, 3) := dk_183 0 3 (dk_at dksX2_init_0 1 rfl rfl)
theorem dX2_init_4 : decode cX2_init 4 = .ok (.aload_n 0, 1) := dk_42 (dk_at dksX2_init_0 4 rfl rfl)
theorem dX2_init_5 : decode cX2_init 5 = .ok (.bipush 16, 2) := dk_16 16 (dk_at dksX2_init_0 5 rfl rfl)
theorem dX2_init_7 : decode cX2_init 7 = .ok (.newarray .int, 2) := dk_188_10 (dk_at dksX2_init_0 7 rfl rfl)
theorem dX2_init_9 : decode cX2_init 9 = .ok (.putfield 9, 3) := dk_181 0 9 (dk_at dksX2_init_0 9 rfl rfl)
theorem dX2_init_12 : decode cX2_init 12 = .ok (.return_, 1) := dk_177 (dk_at dksX2_init_0 12 rfl rfl)
abbrev cX2_begins : ByteArray := prog_14_method_2_code
def yX2_begins : MethodName := ⟨RX2, "begins", "(I)V"⟩
def dkwX2_begins_1 : List UInt8 := [27, 79, 177]
abbrev dktX2_begins_1 : List UInt8 := dkwX2_begins_1 ++ []
def dkwX2_begins_0 : List UInt8 := [42, 180, 0, 15, 16, 16, 162, 0, 20, 42, 180, 0, 9, 42, 89, 180, 0, 15, 90, 4, 96, 181, 0, 15]
abbrev dktX2_begins_0 : List UInt8 := dkwX2_begins_0 ++ dktX2_begins_1
theorem dksX2_begins_0 : cX2_begins.data.toList.drop 0 = dktX2_begins_0 := by decide +kernel
theorem dksX2_begins_1 : cX2_begins.data.toList.drop 24 = dktX2_begins_1 := dk_seg dksX2_begins_0 24 rfl rfl
theorem dX2_begins_0 : decode cX2_begins 0 = .ok (.aload_n 0, 1) := dk_42 (dk_at dksX2_begins_0 0 rfl rfl)
theorem dX2_begins_1 : decode cX2_begins 1 = .ok (.getfield 15, 3) := dk_180 0 15 (dk_at dksX2_begins_0 1 rfl rfl)
theorem dX2_begins_4 : decode cX2_begins 4 = .ok (.bipush 16, 2) := dk_16 16 (dk_at dksX2_begins_0 4 rfl rfl)
theorem dX2_begins_6 : decode cX2_begins 6 = .ok (.if_icmp .ge 20, 3) := dk_162 0 20 (dk_at dksX2_begins_0 6 rfl rfl)
theorem dX2_begins_9 : decode cX2_begins 9 = .ok (.aload_n 0, 1) := dk_42 (dk_at dksX2_begins_0 9 rfl rfl)
theorem dX2_begins_10 : decode cX2_begins 10 = .ok (.getfield 9, 3) := dk_180 0 9 (dk_at dksX2_begins_0 10 rfl rfl)
theorem dX2_begins_13 : decode cX2_begins 13 = .ok (.aload_n 0, 1) := dk_42 (dk_at dksX2_begins_0 13 rfl rfl)
theorem dX2_begins_14 : decode cX2_begins 14 = .ok (.dup, 1) := dk_89 (dk_at dksX2_begins_0 14 rfl rfl)
theorem dX2_begins_15 : decode cX2_begins 15 = .ok (.getfield 15, 3) := dk_180 0 15 (dk_at dksX2_begins_0 15 rfl rfl)
theorem dX2_begins_18 : decode cX2_begins 18 = .ok (.dup_x1, 1) := dk_90 (dk_at dksX2_begins_0 18 rfl rfl)
theorem dX2_begins_19 : decode cX2_begins 19 = .ok (.iconst 1, 1) := dk_4 (dk_at dksX2_begins_0 19 rfl rfl)
theorem dX2_begins_20 : decode cX2_begins 20 = .ok (.iadd, 1) := dk_96 (dk_at dksX2_begins_0 20 rfl rfl)
theorem dX2_begins_21 : decode cX2_begins 21 = .ok (.putfield 15, 3) := dk_181 0 15 (dk_at dksX2_begins_0 21 rfl rfl)
theorem dX2_begins_24 : decode cX2_begins 24 = .ok (.iload_n 1, 1) := dk_27 (dk_at dksX2_begins_1 0 rfl rfl)
theorem dX2_begins_25 : decode cX2_begins 25 = .ok (.iastore, 1) := dk_79 (dk_at dksX2_begins_1 1 rfl rfl)
theorem dX2_begins_26 : decode cX2_begins 26 = .ok (.return_, 1) := dk_177 (dk_at dksX2_begins_1 2 rfl rfl)
theorem q68 : (Jvm.Cond.initialized "InflatedRows$Trail") ∈ lw_all := lw_g (lw_at lw_m1 6 rfl) rfl
theorem q207 : (Jvm.Cond.instantiable "InflatedRows$Trail" (2 : Nat)) ∈ lw_all := lw_g (lw_at lw_m1 145 rfl) rfl
theorem q209 : (Jvm.Cond.instanceMethod ({ cls := "InflatedRows$Trail", name := "<init>", desc := "()V" } : Jvm.MethodName)) ∈ lw_all := lw_g (lw_at lw_m1 147 rfl) rfl
theorem q210 : (Jvm.Cond.code ({ cls := "InflatedRows$Trail", name := "<init>", desc := "()V" } : Jvm.MethodName) prog_14_method_1_code (1 : Nat) (Option.none : Option Jvm.ClassFile.FieldType)) ∈ lw_all := lw_g (lw_at lw_m1 148 rfl) rfl
theorem q211 : (Jvm.Cond.methodLink "InflatedRows$Trail" (3 : Nat) ({ cls := "java/lang/Object", name := "<init>", desc := "()V" } : Jvm.MethodName)) ∈ lw_all := lw_g (lw_at lw_m1 149 rfl) rfl
theorem q212 : (Jvm.Cond.fieldLink "InflatedRows$Trail" (9 : Nat) "InflatedRows$Trail" "body" "[I") ∈ lw_all := lw_g (lw_at lw_m1 150 rfl) rfl
theorem q214 : (Jvm.Cond.fieldLink "InflatedRows$Trail" (15 : Nat) "InflatedRows$Trail" "many" "I") ∈ lw_all := lw_g (lw_at lw_m1 152 rfl) rfl
theorem q216 : (Jvm.Cond.laysFinal "InflatedRows$Trail" "InflatedRows$Trail" "body" "[I") ∈ lw_all := lw_g (lw_at lw_m1 154 rfl) rfl
theorem q217 : (Jvm.Cond.soleField "InflatedRows$Trail" "body") ∈ lw_all := lw_g (lw_at lw_m1 155 rfl) rfl
theorem q218 : (Jvm.Cond.lays "InflatedRows$Trail" "InflatedRows$Trail" "many" "I") ∈ lw_all := lw_g (lw_at lw_m1 156 rfl) rfl
theorem q219 : (Jvm.Cond.soleField "InflatedRows$Trail" "many") ∈ lw_all := lw_g (lw_at lw_m1 157 rfl) rfl
theorem q220 : (Jvm.Cond.superclass "InflatedRows$Trail" "java/lang/Object") ∈ lw_all := lw_g (lw_at lw_m1 158 rfl) rfl
theorem q706 : (Jvm.Cond.selects "InflatedRows$Trail" ({ cls := "java/lang/Object", name := "getClass", desc := "()Ljava/lang/Class;" } : Jvm.MethodName) ({ cls := "java/lang/Object", name := "getClass", desc := "()Ljava/lang/Class;" } : Jvm.MethodName)) ∈ lw_all := lw_g (lw_at lw_m3 164 rfl) rfl
theorem q1191 : (Jvm.Cond.instanceMethod ({ cls := "InflatedRows$Trail", name := "begins", desc := "(I)V" } : Jvm.MethodName)) ∈ lw_all := lw_g (lw_at lw_m5 169 rfl) rfl
theorem q1192 : (Jvm.Cond.selects "InflatedRows$Trail" ({ cls := "InflatedRows$Trail", name := "begins", desc := "(I)V" } : Jvm.MethodName) ({ cls := "InflatedRows$Trail", name := "begins", desc := "(I)V" } : Jvm.MethodName)) ∈ lw_all := lw_g (lw_at lw_m5 170 rfl) rfl
theorem q1193 : (Jvm.Cond.code ({ cls := "InflatedRows$Trail", name := "begins", desc := "(I)V" } : Jvm.MethodName) prog_14_method_2_code (2 : Nat) (Option.none : Option Jvm.ClassFile.FieldType)) ∈ lw_all := lw_g (lw_at lw_m5 171 rfl) rfl
theorem q1768 : (Jvm.Cond.castable "InflatedRows$Trail" "java/lang/Object") ∈ lw_tbl := lw_at lw_m8 26 rfl
theorem in_X2 : ∀ w ∈ wsX20, w ∈ lw_all := lw_in wsX20 [216, 218] (by decide +kernel) (by decide +kernel)
/-! InflatedRows$Finding -/
set_option maxRecDepth 100000
def RX4 : String := "InflatedRows$Finding"
def TX4 : u_T := fun k => match k with
  | 0 => ("java/lang/Throwable", "cause", "Ljava/lang/Throwable;", false)
  | 1 => ("java/lang/Throwable", "stackTrace", "[Ljava/lang/StackTraceElement;", false)
  | 2 => ("java/lang/Throwable", "suppressedExceptions", "Ljava/util/List;", false)
  | 3 => ("java/lang/Throwable", "detailMessage", "Ljava/lang/String;", false)
  | 4 => ("java/lang/Throwable", "backtrace", "Ljava/lang/Object;", false)
  | 5 => ("java/lang/Throwable", "depth", "I", false)
  | _ => ("InflatedRows$Finding", "number", "I", true)
def tyX4 : Nat → FieldType := fun k => match k with
  | 0 => .object "java/lang/Throwable"
  | 1 => .array (.object "java/lang/StackTraceElement")
  | 2 => .object "java/util/List"
  | 3 => .object "java/lang/String"
  | 4 => .object "java/lang/Object"
  | 5 => .int
  | _ => .int
abbrev wsX40 : List Cond := u_ws RX4 TX4 7
theorem nmX4 : ∀ a, a < 7 → ∀ b, b < 7 → a ≠ b → (TX4 a).2.1 ≠ (TX4 b).2.1 := by decide +kernel
theorem tyX4_ok : ∀ k, k < 7 → parseFieldDescriptor (TX4 k).2.2.1 = some (tyX4 k) := by decide +kernel
abbrev cX4_init : ByteArray := prog_4_method_1_code
def yX4_init : MethodName := ⟨RX4, "<init>", "(I)V"⟩
def dkwX4_init_0 : List UInt8 := [42, 1, 1, 3, 3, 183, 0, 1, 42, 27, 181, 0, 7, 177]
abbrev dktX4_init_0 : List UInt8 := dkwX4_init_0 ++ []
theorem dksX4_init_0 : cX4_init.data.toList.drop 0 = dktX4_init_0 := by decide +kernel
theorem dX4_init_0 : decode cX4_init 0 = .ok (.aload_n 0, 1) := dk_42 (dk_at dksX4_init_0 0 rfl rfl)
theorem dX4_init_1 : decode cX4_init 1 = .ok (.aconst_null, 1) := dk_1 (dk_at dksX4_init_0 1 rfl rfl)
theorem dX4_init_2 : decode cX4_init 2 = .ok (.aconst_null, 1) := dk_1 (dk_at dksX4_init_0 2 rfl rfl)
theorem dX4_init_3 : decode cX4_init 3 = .ok (.iconst 0, 1) := dk_3 (dk_at dksX4_init_0 3 rfl rfl)
theorem dX4_init_4 : decode cX4_init 4 = .ok (.iconst 0, 1) := dk_3 (dk_at dksX4_init_0 4 rfl rfl)
theorem dX4_init_5 : decode cX4_init 5 = .ok (.invokespecial 1, 3) := dk_183 0 1 (dk_at dksX4_init_0 5 rfl rfl)
theorem dX4_init_8 : decode cX4_init 8 = .ok (.aload_n 0, 1) := dk_42 (dk_at dksX4_init_0 8 rfl rfl)
theorem dX4_init_9 : decode cX4_init 9 = .ok (.iload_n 1, 1) := dk_27 (dk_at dksX4_init_0 9 rfl rfl)
theorem dX4_init_10 : decode cX4_init 10 = .ok (.putfield 7, 3) := dk_181 0 7 (dk_at dksX4_init_0 10 rfl rfl)
theorem dX4_init_13 : decode cX4_init 13 = .ok (.return_, 1) := dk_177 (dk_at dksX4_init_0 13 rfl rfl)
theorem q72 : (Jvm.Cond.initialized "InflatedRows$Finding") ∈ lw_all := lw_g (lw_at lw_m1 10 rfl) rfl
theorem q272 : (Jvm.Cond.instantiable "InflatedRows$Finding" (7 : Nat)) ∈ lw_all := lw_g (lw_at lw_m1 210 rfl) rfl
theorem q273 : (Jvm.Cond.castable "InflatedRows$Finding" "InflatedRows$Finding") ∈ lw_tbl := lw_at lw_m1 211 rfl
theorem q278 : (Jvm.Cond.selects "InflatedRows$Finding" ({ cls := "java/lang/Throwable", name := "fillInStackTrace", desc := "(I)Ljava/lang/Throwable;" } : Jvm.MethodName) ({ cls := "java/lang/Throwable", name := "fillInStackTrace", desc := "(I)Ljava/lang/Throwable;" } : Jvm.MethodName)) ∈ lw_all := lw_g (lw_at lw_m1 216 rfl) rfl
theorem q279 : (Jvm.Cond.selects "InflatedRows$Finding" ({ cls := "java/lang/Throwable", name := "fillInStackTrace", desc := "()Ljava/lang/Throwable;" } : Jvm.MethodName) ({ cls := "java/lang/Throwable", name := "fillInStackTrace", desc := "()Ljava/lang/Throwable;" } : Jvm.MethodName)) ∈ lw_all := lw_g (lw_at lw_m1 217 rfl) rfl
theorem q280 : (Jvm.Cond.lays "InflatedRows$Finding" "java/lang/Throwable" "cause" "Ljava/lang/Throwable;") ∈ lw_all := lw_g (lw_at lw_m1 218 rfl) rfl
theorem q282 : (Jvm.Cond.lays "InflatedRows$Finding" "java/lang/Throwable" "stackTrace" "[Ljava/lang/StackTraceElement;") ∈ lw_all := lw_g (lw_at lw_m1 220 rfl) rfl
theorem q284 : (Jvm.Cond.lays "InflatedRows$Finding" "java/lang/Throwable" "suppressedExceptions" "Ljava/util/List;") ∈ lw_all := lw_g (lw_at lw_m1 222 rfl) rfl
theorem q286 : (Jvm.Cond.lays "InflatedRows$Finding" "java/lang/Throwable" "detailMessage" "Ljava/lang/String;") ∈ lw_all := lw_g (lw_at lw_m1 224 rfl) rfl
theorem q288 : (Jvm.Cond.lays "InflatedRows$Finding" "java/lang/Throwable" "backtrace" "Ljava/lang/Object;") ∈ lw_all := lw_g (lw_at lw_m1 226 rfl) rfl
theorem q313 : (Jvm.Cond.instanceMethod ({ cls := "InflatedRows$Finding", name := "<init>", desc := "(I)V" } : Jvm.MethodName)) ∈ lw_all := lw_g (lw_at lw_m2 11 rfl) rfl
theorem q314 : (Jvm.Cond.code ({ cls := "InflatedRows$Finding", name := "<init>", desc := "(I)V" } : Jvm.MethodName) prog_4_method_1_code (2 : Nat) (Option.none : Option Jvm.ClassFile.FieldType)) ∈ lw_all := lw_g (lw_at lw_m2 12 rfl) rfl
theorem q315 : (Jvm.Cond.methodLink "InflatedRows$Finding" (1 : Nat) ({ cls := "java/lang/Exception", name := "<init>", desc := "(Ljava/lang/String;Ljava/lang/Throwable;ZZ)V" } : Jvm.MethodName)) ∈ lw_all := lw_g (lw_at lw_m2 13 rfl) rfl
theorem q321 : (Jvm.Cond.fieldLink "InflatedRows$Finding" (7 : Nat) "InflatedRows$Finding" "number" "I") ∈ lw_all := lw_g (lw_at lw_m2 19 rfl) rfl
theorem q328 : (Jvm.Cond.laysFinal "InflatedRows$Finding" "InflatedRows$Finding" "number" "I") ∈ lw_all := lw_g (lw_at lw_m2 26 rfl) rfl
theorem q329 : (Jvm.Cond.soleField "InflatedRows$Finding" "number") ∈ lw_all := lw_g (lw_at lw_m2 27 rfl) rfl
theorem q334 : (Jvm.Cond.lays "InflatedRows$Finding" "java/lang/Throwable" "depth" "I") ∈ lw_all := lw_g (lw_at lw_m2 32 rfl) rfl
theorem q337 : (Jvm.Cond.superclass "InflatedRows$Finding" "java/lang/Exception") ∈ lw_all := lw_g (lw_at lw_m2 35 rfl) rfl
theorem q698 : (Jvm.Cond.selects "InflatedRows$Finding" ({ cls := "java/lang/Object", name := "getClass", desc := "()Ljava/lang/Class;" } : Jvm.MethodName) ({ cls := "java/lang/Object", name := "getClass", desc := "()Ljava/lang/Class;" } : Jvm.MethodName)) ∈ lw_all := lw_g (lw_at lw_m3 156 rfl) rfl
theorem q1770 : (Jvm.Cond.castable "InflatedRows$Finding" "java/lang/Object") ∈ lw_tbl := lw_at lw_m8 28 rfl
theorem in_X4 : ∀ w ∈ wsX40, w ∈ lw_all := lw_in wsX40 [280, 282, 284, 286, 288, 334, 328] (by decide +kernel) (by decide +kernel)
/-! InflatedRows$Row -/
set_option maxRecDepth 100000
def RX5 : String := "InflatedRows$Row"
def TX5 : u_T := fun k => match k with
  | 0 => ("InflatedRows$Row", "lane", "I", true)
  | _ => ("InflatedRows$Row", "items", "[I", true)
def tyX5 : Nat → FieldType := fun k => match k with
  | 0 => .int
  | _ => .array .int
abbrev wsX50 : List Cond := u_ws RX5 TX5 2
theorem nmX5 : ∀ a, a < 2 → ∀ b, b < 2 → a ≠ b → (TX5 a).2.1 ≠ (TX5 b).2.1 := by decide +kernel
theorem tyX5_ok : ∀ k, k < 2 → parseFieldDescriptor (TX5 k).2.2.1 = some (tyX5 k) := by decide +kernel
abbrev cX5_init : ByteArray := prog_11_method_1_code
def yX5_init : MethodName := ⟨RX5, "<init>", "(II)V"⟩
def dkwX5_init_0 : List UInt8 := [42, 183, 0, 3, 42, 27, 181, 0, 9, 42, 28, 188, 10, 181, 0, 15, 177]
abbrev dktX5_init_0 : List UInt8 := dkwX5_init_0 ++ []
theorem dksX5_init_0 : cX5_init.data.toList.drop 0 = dktX5_init_0 := by decide +kernel
theorem dX5_init_0 : decode cX5_init 0 = .ok (.aload_n 0, 1) := dk_42 (dk_at dksX5_init_0 0 rfl rfl)
theorem dX5_init_1 : decode cX5_init 1 = .ok (.invokespecial 3, 3) := dk_183 0 3 (dk_at dksX5_init_0 1 rfl rfl)
theorem dX5_init_4 : decode cX5_init 4 = .ok (.aload_n 0, 1) := dk_42 (dk_at dksX5_init_0 4 rfl rfl)
theorem dX5_init_5 : decode cX5_init 5 = .ok (.iload_n 1, 1) := dk_27 (dk_at dksX5_init_0 5 rfl rfl)
theorem dX5_init_6 : decode cX5_init 6 = .ok (.putfield 9, 3) := dk_181 0 9 (dk_at dksX5_init_0 6 rfl rfl)
theorem dX5_init_9 : decode cX5_init 9 = .ok (.aload_n 0, 1) := dk_42 (dk_at dksX5_init_0 9 rfl rfl)
theorem dX5_init_10 : decode cX5_init 10 = .ok (.iload_n 2, 1) := dk_28 (dk_at dksX5_init_0 10 rfl rfl)
theorem dX5_init_11 : decode cX5_init 11 = .ok (.newarray .int, 2) := dk_188_10 (dk_at dksX5_init_0 11 rfl rfl)
theorem dX5_init_13 : decode cX5_init 13 = .ok (.putfield 15, 3) := dk_181 0 15 (dk_at dksX5_init_0 13 rfl rfl)
theorem dX5_init_16 : decode cX5_init 16 = .ok (.return_, 1) := dk_177 (dk_at dksX5_init_0 16 rfl rfl)
abbrev cX5_cut : ByteArray := prog_11_method_2_code
def yX5_cut : MethodName := ⟨RX5, "cut", "(I)I"⟩
def dkwX5_cut_1 : List UInt8 := [167, 0, 4, 27, 172]
abbrev dktX5_cut_1 : List UInt8 := dkwX5_cut_1 ++ []
def dkwX5_cut_0 : List UInt8 := [42, 180, 0, 9, 154, 0, 8, 27, 145, 167, 0, 17, 42, 180, 0, 9, 4, 160, 0, 8, 27, 147]
abbrev dktX5_cut_0 : List UInt8 := dkwX5_cut_0 ++ dktX5_cut_1
theorem dksX5_cut_0 : cX5_cut.data.toList.drop 0 = dktX5_cut_0 := by decide +kernel
theorem dksX5_cut_1 : cX5_cut.data.toList.drop 22 = dktX5_cut_1 := dk_seg dksX5_cut_0 22 rfl rfl
theorem dX5_cut_0 : decode cX5_cut 0 = .ok (.aload_n 0, 1) := dk_42 (dk_at dksX5_cut_0 0 rfl rfl)
theorem dX5_cut_1 : decode cX5_cut 1 = .ok (.getfield 9, 3) := dk_180 0 9 (dk_at dksX5_cut_0 1 rfl rfl)
theorem dX5_cut_4 : decode cX5_cut 4 = .ok (.ifCond .ne 8, 3) := dk_154 0 8 (dk_at dksX5_cut_0 4 rfl rfl)
theorem dX5_cut_7 : decode cX5_cut 7 = .ok (.iload_n 1, 1) := dk_27 (dk_at dksX5_cut_0 7 rfl rfl)
theorem dX5_cut_8 : decode cX5_cut 8 = .ok (.i2b, 1) := dk_145 (dk_at dksX5_cut_0 8 rfl rfl)
theorem dX5_cut_9 : decode cX5_cut 9 = .ok (.goto 17, 3) := dk_167 0 17 (dk_at dksX5_cut_0 9 rfl rfl)
theorem dX5_cut_12 : decode cX5_cut 12 = .ok (.aload_n 0, 1) := dk_42 (dk_at dksX5_cut_0 12 rfl rfl)
theorem dX5_cut_13 : decode cX5_cut 13 = .ok (.getfield 9, 3) := dk_180 0 9 (dk_at dksX5_cut_0 13 rfl rfl)
theorem dX5_cut_16 : decode cX5_cut 16 = .ok (.iconst 1, 1) := dk_4 (dk_at dksX5_cut_0 16 rfl rfl)
theorem dX5_cut_17 : decode cX5_cut 17 = .ok (.if_icmp .ne 8, 3) := dk_160 0 8 (dk_at dksX5_cut_0 17 rfl rfl)
theorem dX5_cut_20 : decode cX5_cut 20 = .ok (.iload_n 1, 1) := dk_27 (dk_at dksX5_cut_0 20 rfl rfl)
theorem dX5_cut_21 : decode cX5_cut 21 = .ok (.i2s, 1) := dk_147 (dk_at dksX5_cut_0 21 rfl rfl)
theorem dX5_cut_22 : decode cX5_cut 22 = .ok (.goto 4, 3) := dk_167 0 4 (dk_at dksX5_cut_1 0 rfl rfl)
theorem dX5_cut_25 : decode cX5_cut 25 = .ok (.iload_n 1, 1) := dk_27 (dk_at dksX5_cut_1 3 rfl rfl)
theorem dX5_cut_26 : decode cX5_cut 26 = .ok (.ireturn, 1) := dk_172 (dk_at dksX5_cut_1 4 rfl rfl)
abbrev cX5_row : ByteArray := prog_11_method_3_code
def yX5_row : MethodName := ⟨RX5, "row", "(II)[I"⟩
def dkwX5_row_1 : List UInt8 := [5, 184, 0, 19, 28, 188, 10, 78, 42, 180, 0, 15, 27, 45, 3, 28, 184, 0, 23, 45, 176]
abbrev dktX5_row_1 : List UInt8 := dkwX5_row_1 ++ []
def dkwX5_row_0 : List UInt8 := [27, 155, 0, 22, 27, 133, 28, 133, 97, 42, 180, 0, 15, 190, 133, 148, 157, 0, 7, 4, 167, 0, 4, 3]
abbrev dktX5_row_0 : List UInt8 := dkwX5_row_0 ++ dktX5_row_1
theorem dksX5_row_0 : cX5_row.data.toList.drop 0 = dktX5_row_0 := by decide +kernel
theorem dksX5_row_1 : cX5_row.data.toList.drop 24 = dktX5_row_1 := dk_seg dksX5_row_0 24 rfl rfl
theorem dX5_row_0 : decode cX5_row 0 = .ok (.iload_n 1, 1) := dk_27 (dk_at dksX5_row_0 0 rfl rfl)
theorem dX5_row_1 : decode cX5_row 1 = .ok (.ifCond .lt 22, 3) := dk_155 0 22 (dk_at dksX5_row_0 1 rfl rfl)
theorem dX5_row_4 : decode cX5_row 4 = .ok (.iload_n 1, 1) := dk_27 (dk_at dksX5_row_0 4 rfl rfl)
theorem dX5_row_5 : decode cX5_row 5 = .ok (.i2l, 1) := dk_133 (dk_at dksX5_row_0 5 rfl rfl)
theorem dX5_row_6 : decode cX5_row 6 = .ok (.iload_n 2, 1) := dk_28 (dk_at dksX5_row_0 6 rfl rfl)
theorem dX5_row_7 : decode cX5_row 7 = .ok (.i2l, 1) := dk_133 (dk_at dksX5_row_0 7 rfl rfl)
theorem dX5_row_8 : decode cX5_row 8 = .ok (.ladd, 1) := dk_97 (dk_at dksX5_row_0 8 rfl rfl)
theorem dX5_row_9 : decode cX5_row 9 = .ok (.aload_n 0, 1) := dk_42 (dk_at dksX5_row_0 9 rfl rfl)
theorem dX5_row_10 : decode cX5_row 10 = .ok (.getfield 15, 3) := dk_180 0 15 (dk_at dksX5_row_0 10 rfl rfl)
theorem dX5_row_13 : decode cX5_row 13 = .ok (.arraylength, 1) := dk_190 (dk_at dksX5_row_0 13 rfl rfl)
theorem dX5_row_14 : decode cX5_row 14 = .ok (.i2l, 1) := dk_133 (dk_at dksX5_row_0 14 rfl rfl)
theorem dX5_row_15 : decode cX5_row 15 = .ok (.lcmp, 1) := dk_148 (dk_at dksX5_row_0 15 rfl rfl)
theorem dX5_row_16 : decode cX5_row 16 = .ok (.ifCond .gt 7, 3) := dk_157 0 7 (dk_at dksX5_row_0 16 rfl rfl)
theorem dX5_row_19 : decode cX5_row 19 = .ok (.iconst 1, 1) := dk_4 (dk_at dksX5_row_0 19 rfl rfl)
theorem dX5_row_20 : decode cX5_row 20 = .ok (.goto 4, 3) := dk_167 0 4 (dk_at dksX5_row_0 20 rfl rfl)
theorem dX5_row_23 : decode cX5_row 23 = .ok (.iconst 0, 1) := dk_3 (dk_at dksX5_row_0 23 rfl rfl)
theorem dX5_row_24 : decode cX5_row 24 = .ok (.iconst 2, 1) := dk_5 (dk_at dksX5_row_1 0 rfl rfl)
theorem dX5_row_25 : decode cX5_row 25 = .ok (.invokestatic 19, 3) := dk_184 0 19 (dk_at dksX5_row_1 1 rfl rfl)
theorem dX5_row_28 : decode cX5_row 28 = .ok (.iload_n 2, 1) := dk_28 (dk_at dksX5_row_1 4 rfl rfl)
theorem dX5_row_29 : decode cX5_row 29 = .ok (.newarray .int, 2) := dk_188_10 (dk_at dksX5_row_1 5 rfl rfl)
theorem dX5_row_31 : decode cX5_row 31 = .ok (.astore_n 3, 1) := dk_78 (dk_at dksX5_row_1 7 rfl rfl)
theorem dX5_row_32 : decode cX5_row 32 = .ok (.aload_n 0, 1) := dk_42 (dk_at dksX5_row_1 8 rfl rfl)
theorem dX5_row_33 : decode cX5_row 33 = .ok (.getfield 15, 3) := dk_180 0 15 (dk_at dksX5_row_1 9 rfl rfl)
theorem dX5_row_36 : decode cX5_row 36 = .ok (.iload_n 1, 1) := dk_27 (dk_at dksX5_row_1 12 rfl rfl)
theorem dX5_row_37 : decode cX5_row 37 = .ok (.aload_n 3, 1) := dk_45 (dk_at dksX5_row_1 13 rfl rfl)
theorem dX5_row_38 : decode cX5_row 38 = .ok (.iconst 0, 1) := dk_3 (dk_at dksX5_row_1 14 rfl rfl)
theorem dX5_row_39 : decode cX5_row 39 = .ok (.iload_n 2, 1) := dk_28 (dk_at dksX5_row_1 15 rfl rfl)
theorem dX5_row_40 : decode cX5_row 40 = .ok (.invokestatic 23, 3) := dk_184 0 23 (dk_at dksX5_row_1 16 rfl rfl)
theorem dX5_row_43 : decode cX5_row 43 = .ok (.aload_n 3, 1) := dk_45 (dk_at dksX5_row_1 19 rfl rfl)
theorem dX5_row_44 : decode cX5_row 44 = .ok (.areturn, 1) := dk_176 (dk_at dksX5_row_1 20 rfl rfl)
theorem q73 : (Jvm.Cond.initialized "InflatedRows$Row") ∈ lw_all := lw_g (lw_at lw_m1 11 rfl) rfl
theorem q338 : (Jvm.Cond.instantiable "InflatedRows$Row" (2 : Nat)) ∈ lw_all := lw_g (lw_at lw_m2 36 rfl) rfl
theorem q340 : (Jvm.Cond.instanceMethod ({ cls := "InflatedRows$Row", name := "<init>", desc := "(II)V" } : Jvm.MethodName)) ∈ lw_all := lw_g (lw_at lw_m2 38 rfl) rfl
theorem q341 : (Jvm.Cond.code ({ cls := "InflatedRows$Row", name := "<init>", desc := "(II)V" } : Jvm.MethodName) prog_11_method_1_code (3 : Nat) (Option.none : Option Jvm.ClassFile.FieldType)) ∈ lw_all := lw_g (lw_at lw_m2 39 rfl) rfl
theorem q342 : (Jvm.Cond.methodLink "InflatedRows$Row" (3 : Nat) ({ cls := "java/lang/Object", name := "<init>", desc := "()V" } : Jvm.MethodName)) ∈ lw_all := lw_g (lw_at lw_m2 40 rfl) rfl
theorem q343 : (Jvm.Cond.fieldLink "InflatedRows$Row" (9 : Nat) "InflatedRows$Row" "lane" "I") ∈ lw_all := lw_g (lw_at lw_m2 41 rfl) rfl
theorem q345 : (Jvm.Cond.fieldLink "InflatedRows$Row" (15 : Nat) "InflatedRows$Row" "items" "[I") ∈ lw_all := lw_g (lw_at lw_m2 43 rfl) rfl
theorem q347 : (Jvm.Cond.laysFinal "InflatedRows$Row" "InflatedRows$Row" "lane" "I") ∈ lw_all := lw_g (lw_at lw_m2 45 rfl) rfl
theorem q348 : (Jvm.Cond.soleField "InflatedRows$Row" "lane") ∈ lw_all := lw_g (lw_at lw_m2 46 rfl) rfl
theorem q349 : (Jvm.Cond.laysFinal "InflatedRows$Row" "InflatedRows$Row" "items" "[I") ∈ lw_all := lw_g (lw_at lw_m2 47 rfl) rfl
theorem q350 : (Jvm.Cond.soleField "InflatedRows$Row" "items") ∈ lw_all := lw_g (lw_at lw_m2 48 rfl) rfl
theorem q351 : (Jvm.Cond.superclass "InflatedRows$Row" "java/lang/Object") ∈ lw_all := lw_g (lw_at lw_m2 49 rfl) rfl
theorem q370 : (Jvm.Cond.instanceMethod ({ cls := "InflatedRows$Row", name := "cut", desc := "(I)I" } : Jvm.MethodName)) ∈ lw_all := lw_g (lw_at lw_m2 68 rfl) rfl
theorem q371 : (Jvm.Cond.selects "InflatedRows$Row" ({ cls := "InflatedRows$Row", name := "cut", desc := "(I)I" } : Jvm.MethodName) ({ cls := "InflatedRows$Row", name := "cut", desc := "(I)I" } : Jvm.MethodName)) ∈ lw_all := lw_g (lw_at lw_m2 69 rfl) rfl
theorem q372 : (Jvm.Cond.code ({ cls := "InflatedRows$Row", name := "cut", desc := "(I)I" } : Jvm.MethodName) prog_11_method_2_code (2 : Nat) (Option.some Jvm.ClassFile.FieldType.int)) ∈ lw_all := lw_g (lw_at lw_m2 70 rfl) rfl
theorem q704 : (Jvm.Cond.selects "InflatedRows$Row" ({ cls := "java/lang/Object", name := "getClass", desc := "()Ljava/lang/Class;" } : Jvm.MethodName) ({ cls := "java/lang/Object", name := "getClass", desc := "()Ljava/lang/Class;" } : Jvm.MethodName)) ∈ lw_all := lw_g (lw_at lw_m3 162 rfl) rfl
theorem q763 : (Jvm.Cond.instanceMethod ({ cls := "InflatedRows$Row", name := "row", desc := "(II)[I" } : Jvm.MethodName)) ∈ lw_all := lw_g (lw_at lw_m3 221 rfl) rfl
theorem q764 : (Jvm.Cond.selects "InflatedRows$Row" ({ cls := "InflatedRows$Row", name := "row", desc := "(II)[I" } : Jvm.MethodName) ({ cls := "InflatedRows$Row", name := "row", desc := "(II)[I" } : Jvm.MethodName)) ∈ lw_all := lw_g (lw_at lw_m3 222 rfl) rfl
theorem q765 : (Jvm.Cond.code ({ cls := "InflatedRows$Row", name := "row", desc := "(II)[I" } : Jvm.MethodName) prog_11_method_3_code (4 : Nat) (Option.some (Jvm.ClassFile.FieldType.array Jvm.ClassFile.FieldType.int))) ∈ lw_all := lw_g (lw_at lw_m3 223 rfl) rfl
theorem q766 : (Jvm.Cond.methodLinkNest "InflatedRows$Row" (19 : Nat) ({ cls := "InflatedRows", name := "must", desc := "(ZI)V" } : Jvm.MethodName) "InflatedRows") ∈ lw_tbl := lw_at lw_m3 224 rfl
theorem q767 : (Jvm.Cond.methodLink "InflatedRows$Row" (23 : Nat) ({ cls := "java/lang/System", name := "arraycopy", desc := "(Ljava/lang/Object;ILjava/lang/Object;II)V" } : Jvm.MethodName)) ∈ lw_all := lw_g (lw_at lw_m3 225 rfl) rfl
theorem q1764 : (Jvm.Cond.castable "InflatedRows$Row" "java/lang/Object") ∈ lw_tbl := lw_at lw_m8 22 rfl
theorem in_X5 : ∀ w ∈ wsX50, w ∈ lw_all := lw_in wsX50 [347, 349] (by decide +kernel) (by decide +kernel)
/-! InflatedRows$Reader -/
set_option maxRecDepth 100000
def RX6 : String := "InflatedRows$Reader"
def TX6 : u_T := fun k => match k with
  | 0 => ("InflatedRows$Reader", "text", "[B", true)
  | 1 => ("InflatedRows$Reader", "size", "I", true)
  | 2 => ("InflatedRows$Reader", "at", "I", false)
  | 3 => ("InflatedRows$Reader", "token", "I", false)
  | 4 => ("InflatedRows$Reader", "from", "I", false)
  | 5 => ("InflatedRows$Reader", "value", "I", false)
  | _ => ("InflatedRows$Reader", "made", "LInflatedRows$Book;", true)
def tyX6 : Nat → FieldType := fun k => match k with
  | 0 => .array .byte
  | 1 => .int
  | 2 => .int
  | 3 => .int
  | 4 => .int
  | 5 => .int
  | _ => .object "InflatedRows$Book"
abbrev wsX60 : List Cond := u_ws RX6 TX6 7
theorem nmX6 : ∀ a, a < 7 → ∀ b, b < 7 → a ≠ b → (TX6 a).2.1 ≠ (TX6 b).2.1 := by decide +kernel
theorem tyX6_ok : ∀ k, k < 7 → parseFieldDescriptor (TX6 k).2.2.1 = some (tyX6 k) := by decide +kernel
abbrev cX6_init : ByteArray := prog_10_method_1_code
def yX6_init : MethodName := ⟨RX6, "<init>", "([BI)V"⟩
def dkwX6_init_1 : List UInt8 := [181, 0, 22, 177]
abbrev dktX6_init_1 : List UInt8 := dkwX6_init_1 ++ []
def dkwX6_init_0 : List UInt8 := [42, 183, 0, 3, 42, 187, 0, 9, 89, 183, 0, 11, 181, 0, 12, 42, 43, 181, 0, 18, 42, 28]
abbrev dktX6_init_0 : List UInt8 := dkwX6_init_0 ++ dktX6_init_1
theorem dksX6_init_0 : cX6_init.data.toList.drop 0 = dktX6_init_0 := by decide +kernel
theorem dksX6_init_1 : cX6_init.data.toList.drop 22 = dktX6_init_1 := dk_seg dksX6_init_0 22 rfl rfl
theorem dX6_init_0 : decode cX6_init 0 = .ok (.aload_n 0, 1) := dk_42 (dk_at dksX6_init_0 0 rfl rfl)
theorem dX6_init_1 : decode cX6_init 1 = .ok (.invokespecial 3, 3) := dk_183 0 3 (dk_at dksX6_init_0 1 rfl rfl)
theorem dX6_init_4 : decode cX6_init 4 = .ok (.aload_n 0, 1) := dk_42 (dk_at dksX6_init_0 4 rfl rfl)
theorem dX6_init_5 : decode cX6_init 5 = .ok (.new 9, 3) := dk_187 0 9 (dk_at dksX6_init_0 5 rfl rfl)
theorem dX6_init_8 : decode cX6_init 8 = .ok (.dup, 1) := dk_89 (dk_at dksX6_init_0 8 rfl rfl)
theorem dX6_init_9 : decode cX6_init 9 = .ok (.invokespecial 11, 3) := dk_183 0 11 (dk_at dksX6_init_0 9 rfl rfl)
theorem dX6_init_12 : decode cX6_init 12 = .ok (.putfield 12, 3) := dk_181 0 12 (dk_at dksX6_init_0 12 rfl rfl)
theorem dX6_init_15 : decode cX6_init 15 = .ok (.aload_n 0, 1) := dk_42 (dk_at dksX6_init_0 15 rfl rfl)
theorem dX6_init_16 : decode cX6_init 16 = .ok (.aload_n 1, 1) := dk_43 (dk_at dksX6_init_0 16 rfl rfl)
theorem dX6_init_17 : decode cX6_init 17 = .ok (.putfield 18, 3) := dk_181 0 18 (dk_at dksX6_init_0 17 rfl rfl)
theorem dX6_init_20 : decode cX6_init 20 = .ok (.aload_n 0, 1) := dk_42 (dk_at dksX6_init_0 20 rfl rfl)
theorem dX6_init_21 : decode cX6_init 21 = .ok (.iload_n 2, 1) := dk_28 (dk_at dksX6_init_0 21 rfl rfl)
theorem dX6_init_22 : decode cX6_init 22 = .ok (.putfield 22, 3) := dk_181 0 22 (dk_at dksX6_init_1 0 rfl rfl)
theorem dX6_init_25 : decode cX6_init 25 = .ok (.return_, 1) := dk_177 (dk_at dksX6_init_1 3 rfl rfl)
abbrev cX6_all : ByteArray := prog_10_method_12_code
def yX6_all : MethodName := ⟨RX6, "all", "()V"⟩
def dkwX6_all_6 : List UInt8 := [180, 0, 12, 182, 0, 118, 7, 182, 0, 60, 177]
abbrev dktX6_all_6 : List UInt8 := dkwX6_all_6 ++ []
def dkwX6_all_5 : List UInt8 := [42, 7, 182, 0, 67, 42, 42, 180, 0, 40, 154, 0, 7, 4, 167, 0, 4, 3, 4, 182, 0, 60, 42, 42]
abbrev dktX6_all_5 : List UInt8 := dkwX6_all_5 ++ dktX6_all_6
def dkwX6_all_4 : List UInt8 := [182, 0, 88, 4, 182, 0, 60, 42, 182, 0, 64, 42, 180, 0, 12, 42, 16, 8, 182, 0, 110, 182, 0, 114]
abbrev dktX6_all_4 : List UInt8 := dkwX6_all_4 ++ dktX6_all_5
def dkwX6_all_3 : List UInt8 := [42, 18, 101, 182, 0, 103, 18, 29, 159, 0, 10, 42, 182, 0, 107, 167, 255, 241, 42, 42, 16, 120]
abbrev dktX6_all_3 : List UInt8 := dkwX6_all_3 ++ dktX6_all_4
def dkwX6_all_2 : List UInt8 := [182, 0, 67, 42, 42, 18, 101, 182, 0, 103, 18, 29, 159, 0, 7, 4, 167, 0, 4, 3, 4, 182, 0, 60]
abbrev dktX6_all_2 : List UInt8 := dkwX6_all_2 ++ dktX6_all_3
def dkwX6_all_1 : List UInt8 := [3, 6, 182, 0, 71, 181, 0, 92, 42, 180, 0, 12, 42, 4, 16, 9, 182, 0, 95, 181, 0, 98, 42, 7]
abbrev dktX6_all_1 : List UInt8 := dkwX6_all_1 ++ dktX6_all_2
def dkwX6_all_0 : List UInt8 := [42, 182, 0, 64, 42, 42, 16, 114, 182, 0, 88, 4, 182, 0, 60, 42, 182, 0, 64, 42, 180, 0, 12, 42]
abbrev dktX6_all_0 : List UInt8 := dkwX6_all_0 ++ dktX6_all_1
theorem dksX6_all_0 : cX6_all.data.toList.drop 0 = dktX6_all_0 := by decide +kernel
theorem dksX6_all_1 : cX6_all.data.toList.drop 24 = dktX6_all_1 := dk_seg dksX6_all_0 24 rfl rfl
theorem dksX6_all_2 : cX6_all.data.toList.drop 48 = dktX6_all_2 := dk_seg dksX6_all_1 24 rfl rfl
theorem dksX6_all_3 : cX6_all.data.toList.drop 72 = dktX6_all_3 := dk_seg dksX6_all_2 24 rfl rfl
theorem dksX6_all_4 : cX6_all.data.toList.drop 94 = dktX6_all_4 := dk_seg dksX6_all_3 22 rfl rfl
theorem dksX6_all_5 : cX6_all.data.toList.drop 118 = dktX6_all_5 := dk_seg dksX6_all_4 24 rfl rfl
theorem dksX6_all_6 : cX6_all.data.toList.drop 142 = dktX6_all_6 := dk_seg dksX6_all_5 24 rfl rfl
theorem dX6_all_0 : decode cX6_all 0 = .ok (.aload_n 0, 1) := dk_42 (dk_at dksX6_all_0 0 rfl rfl)
theorem dX6_all_1 : decode cX6_all 1 = .ok (.invokevirtual 64, 3) := dk_182 0 64 (dk_at dksX6_all_0 1 rfl rfl)
theorem dX6_all_4 : decode cX6_all 4 = .ok (.aload_n 0, 1) := dk_42 (dk_at dksX6_all_0 4 rfl rfl)
theorem dX6_all_5 : decode cX6_all 5 = .ok (.aload_n 0, 1) := dk_42 (dk_at dksX6_all_0 5 rfl rfl)
theorem dX6_all_6 : decode cX6_all 6 = .ok (.bipush 114, 2) := dk_16 114 (dk_at dksX6_all_0 6 rfl rfl)
theorem dX6_all_8 : decode cX6_all 8 = .ok (.invokevirtual 88, 3) := dk_182 0 88 (dk_at dksX6_all_0 8 rfl rfl)
theorem dX6_all_11 : decode cX6_all 11 = .ok (.iconst 1, 1) := dk_4 (dk_at dksX6_all_0 11 rfl rfl)
theorem dX6_all_12 : decode cX6_all 12 = .ok (.invokevirtual 60, 3) := dk_182 0 60 (dk_at dksX6_all_0 12 rfl rfl)
theorem dX6_all_15 : decode cX6_all 15 = .ok (.aload_n 0, 1) := dk_42 (dk_at dksX6_all_0 15 rfl rfl)
theorem dX6_all_16 : decode cX6_all 16 = .ok (.invokevirtual 64, 3) := dk_182 0 64 (dk_at dksX6_all_0 16 rfl rfl)
theorem dX6_all_19 : decode cX6_all 19 = .ok (.aload_n 0, 1) := dk_42 (dk_at dksX6_all_0 19 rfl rfl)
theorem dX6_all_20 : decode cX6_all 20 = .ok (.getfield 12, 3) := dk_180 0 12 (dk_at dksX6_all_0 20 rfl rfl)
theorem dX6_all_23 : decode cX6_all 23 = .ok (.aload_n 0, 1) := dk_42 (dk_at dksX6_all_0 23 rfl rfl)
theorem dX6_all_24 : decode cX6_all 24 = .ok (.iconst 0, 1) := dk_3 (dk_at dksX6_all_1 0 rfl rfl)
theorem dX6_all_25 : decode cX6_all 25 = .ok (.iconst 3, 1) := dk_6 (dk_at dksX6_all_1 1 rfl rfl)
theorem dX6_all_26 : decode cX6_all 26 = .ok (.invokevirtual 71, 3) := dk_182 0 71 (dk_at dksX6_all_1 2 rfl rfl)
theorem dX6_all_29 : decode cX6_all 29 = .ok (.putfield 92, 3) := dk_181 0 92 (dk_at dksX6_all_1 5 rfl rfl)
theorem dX6_all_32 : decode cX6_all 32 = .ok (.aload_n 0, 1) := dk_42 (dk_at dksX6_all_1 8 rfl rfl)
theorem dX6_all_33 : decode cX6_all 33 = .ok (.getfield 12, 3) := dk_180 0 12 (dk_at dksX6_all_1 9 rfl rfl)
theorem dX6_all_36 : decode cX6_all 36 = .ok (.aload_n 0, 1) := dk_42 (dk_at dksX6_all_1 12 rfl rfl)
theorem dX6_all_37 : decode cX6_all 37 = .ok (.iconst 1, 1) := dk_4 (dk_at dksX6_all_1 13 rfl rfl)
theorem dX6_all_38 : decode cX6_all 38 = .ok (.bipush 9, 2) := dk_16 9 (dk_at dksX6_all_1 14 rfl rfl)
theorem dX6_all_40 : decode cX6_all 40 = .ok (.invokevirtual 95, 3) := dk_182 0 95 (dk_at dksX6_all_1 16 rfl rfl)
theorem dX6_all_43 : decode cX6_all 43 = .ok (.putfield 98, 3) := dk_181 0 98 (dk_at dksX6_all_1 19 rfl rfl)
theorem dX6_all_46 : decode cX6_all 46 = .ok (.aload_n 0, 1) := dk_42 (dk_at dksX6_all_1 22 rfl rfl)
theorem dX6_all_47 : decode cX6_all 47 = .ok (.iconst 4, 1) := dk_7 (dk_at dksX6_all_1 23 rfl rfl)
theorem dX6_all_48 : decode cX6_all 48 = .ok (.invokevirtual 67, 3) := dk_182 0 67 (dk_at dksX6_all_2 0 rfl rfl)
theorem dX6_all_51 : decode cX6_all 51 = .ok (.aload_n 0, 1) := dk_42 (dk_at dksX6_all_2 3 rfl rfl)
theorem dX6_all_52 : decode cX6_all 52 = .ok (.aload_n 0, 1) := dk_42 (dk_at dksX6_all_2 4 rfl rfl)
theorem dX6_all_53 : decode cX6_all 53 = .ok (.ldc 101, 2) := dk_18 101 (dk_at dksX6_all_2 5 rfl rfl)
theorem dX6_all_55 : decode cX6_all 55 = .ok (.invokevirtual 103, 3) := dk_182 0 103 (dk_at dksX6_all_2 7 rfl rfl)
theorem dX6_all_58 : decode cX6_all 58 = .ok (.ldc 29, 2) := dk_18 29 (dk_at dksX6_all_2 10 rfl rfl)
theorem dX6_all_60 : decode cX6_all 60 = .ok (.if_icmp .eq 7, 3) := dk_159 0 7 (dk_at dksX6_all_2 12 rfl rfl)
theorem dX6_all_63 : decode cX6_all 63 = .ok (.iconst 1, 1) := dk_4 (dk_at dksX6_all_2 15 rfl rfl)
theorem dX6_all_64 : decode cX6_all 64 = .ok (.goto 4, 3) := dk_167 0 4 (dk_at dksX6_all_2 16 rfl rfl)
theorem dX6_all_67 : decode cX6_all 67 = .ok (.iconst 0, 1) := dk_3 (dk_at dksX6_all_2 19 rfl rfl)
theorem dX6_all_68 : decode cX6_all 68 = .ok (.iconst 1, 1) := dk_4 (dk_at dksX6_all_2 20 rfl rfl)
theorem dX6_all_69 : decode cX6_all 69 = .ok (.invokevirtual 60, 3) := dk_182 0 60 (dk_at dksX6_all_2 21 rfl rfl)
theorem dX6_all_72 : decode cX6_all 72 = .ok (.aload_n 0, 1) := dk_42 (dk_at dksX6_all_3 0 rfl rfl)
theorem dX6_all_73 : decode cX6_all 73 = .ok (.ldc 101, 2) := dk_18 101 (dk_at dksX6_all_3 1 rfl rfl)
theorem dX6_all_75 : decode cX6_all 75 = .ok (.invokevirtual 103, 3) := dk_182 0 103 (dk_at dksX6_all_3 3 rfl rfl)
theorem dX6_all_78 : decode cX6_all 78 = .ok (.ldc 29, 2) := dk_18 29 (dk_at dksX6_all_3 6 rfl rfl)
theorem dX6_all_80 : decode cX6_all 80 = .ok (.if_icmp .eq 10, 3) := dk_159 0 10 (dk_at dksX6_all_3 8 rfl rfl)
theorem dX6_all_83 : decode cX6_all 83 = .ok (.aload_n 0, 1) := dk_42 (dk_at dksX6_all_3 11 rfl rfl)
theorem dX6_all_84 : decode cX6_all 84 = .ok (.invokevirtual 107, 3) := dk_182 0 107 (dk_at dksX6_all_3 12 rfl rfl)
theorem dX6_all_87 : decode cX6_all 87 = .ok (.goto (-15), 3) := dk_167 255 241 (dk_at dksX6_all_3 15 rfl rfl)
theorem dX6_all_90 : decode cX6_all 90 = .ok (.aload_n 0, 1) := dk_42 (dk_at dksX6_all_3 18 rfl rfl)
theorem dX6_all_91 : decode cX6_all 91 = .ok (.aload_n 0, 1) := dk_42 (dk_at dksX6_all_3 19 rfl rfl)
theorem dX6_all_92 : decode cX6_all 92 = .ok (.bipush 120, 2) := dk_16 120 (dk_at dksX6_all_3 20 rfl rfl)
theorem dX6_all_94 : decode cX6_all 94 = .ok (.invokevirtual 88, 3) := dk_182 0 88 (dk_at dksX6_all_4 0 rfl rfl)
theorem dX6_all_97 : decode cX6_all 97 = .ok (.iconst 1, 1) := dk_4 (dk_at dksX6_all_4 3 rfl rfl)
theorem dX6_all_98 : decode cX6_all 98 = .ok (.invokevirtual 60, 3) := dk_182 0 60 (dk_at dksX6_all_4 4 rfl rfl)
theorem dX6_all_101 : decode cX6_all 101 = .ok (.aload_n 0, 1) := dk_42 (dk_at dksX6_all_4 7 rfl rfl)
theorem dX6_all_102 : decode cX6_all 102 = .ok (.invokevirtual 64, 3) := dk_182 0 64 (dk_at dksX6_all_4 8 rfl rfl)
theorem dX6_all_105 : decode cX6_all 105 = .ok (.aload_n 0, 1) := dk_42 (dk_at dksX6_all_4 11 rfl rfl)
theorem dX6_all_106 : decode cX6_all 106 = .ok (.getfield 12, 3) := dk_180 0 12 (dk_at dksX6_all_4 12 rfl rfl)
theorem dX6_all_109 : decode cX6_all 109 = .ok (.aload_n 0, 1) := dk_42 (dk_at dksX6_all_4 15 rfl rfl)
theorem dX6_all_110 : decode cX6_all 110 = .ok (.bipush 8, 2) := dk_16 8 (dk_at dksX6_all_4 16 rfl rfl)
theorem dX6_all_112 : decode cX6_all 112 = .ok (.invokevirtual 110, 3) := dk_182 0 110 (dk_at dksX6_all_4 18 rfl rfl)
theorem dX6_all_115 : decode cX6_all 115 = .ok (.invokevirtual 114, 3) := dk_182 0 114 (dk_at dksX6_all_4 21 rfl rfl)
theorem dX6_all_118 : decode cX6_all 118 = .ok (.aload_n 0, 1) := dk_42 (dk_at dksX6_all_5 0 rfl rfl)
theorem dX6_all_119 : decode cX6_all 119 = .ok (.iconst 4, 1) := dk_7 (dk_at dksX6_all_5 1 rfl rfl)
theorem dX6_all_120 : decode cX6_all 120 = .ok (.invokevirtual 67, 3) := dk_182 0 67 (dk_at dksX6_all_5 2 rfl rfl)
theorem dX6_all_123 : decode cX6_all 123 = .ok (.aload_n 0, 1) := dk_42 (dk_at dksX6_all_5 5 rfl rfl)
theorem dX6_all_124 : decode cX6_all 124 = .ok (.aload_n 0, 1) := dk_42 (dk_at dksX6_all_5 6 rfl rfl)
theorem dX6_all_125 : decode cX6_all 125 = .ok (.getfield 40, 3) := dk_180 0 40 (dk_at dksX6_all_5 7 rfl rfl)
theorem dX6_all_128 : decode cX6_all 128 = .ok (.ifCond .ne 7, 3) := dk_154 0 7 (dk_at dksX6_all_5 10 rfl rfl)
theorem dX6_all_131 : decode cX6_all 131 = .ok (.iconst 1, 1) := dk_4 (dk_at dksX6_all_5 13 rfl rfl)
theorem dX6_all_132 : decode cX6_all 132 = .ok (.goto 4, 3) := dk_167 0 4 (dk_at dksX6_all_5 14 rfl rfl)
theorem dX6_all_135 : decode cX6_all 135 = .ok (.iconst 0, 1) := dk_3 (dk_at dksX6_all_5 17 rfl rfl)
theorem dX6_all_136 : decode cX6_all 136 = .ok (.iconst 1, 1) := dk_4 (dk_at dksX6_all_5 18 rfl rfl)
theorem dX6_all_137 : decode cX6_all 137 = .ok (.invokevirtual 60, 3) := dk_182 0 60 (dk_at dksX6_all_5 19 rfl rfl)
theorem dX6_all_140 : decode cX6_all 140 = .ok (.aload_n 0, 1) := dk_42 (dk_at dksX6_all_5 22 rfl rfl)
theorem dX6_all_141 : decode cX6_all 141 = .ok (.aload_n 0, 1) := dk_42 (dk_at dksX6_all_5 23 rfl rfl)
theorem dX6_all_142 : decode cX6_all 142 = .ok (.getfield 12, 3) := dk_180 0 12 (dk_at dksX6_all_6 0 rfl rfl)
theorem dX6_all_145 : decode cX6_all 145 = .ok (.invokevirtual 118, 3) := dk_182 0 118 (dk_at dksX6_all_6 3 rfl rfl)
theorem dX6_all_148 : decode cX6_all 148 = .ok (.iconst 4, 1) := dk_7 (dk_at dksX6_all_6 6 rfl rfl)
theorem dX6_all_149 : decode cX6_all 149 = .ok (.invokevirtual 60, 3) := dk_182 0 60 (dk_at dksX6_all_6 7 rfl rfl)
theorem dX6_all_152 : decode cX6_all 152 = .ok (.return_, 1) := dk_177 (dk_at dksX6_all_6 10 rfl rfl)
abbrev cX6_next : ByteArray := prog_10_method_3_code
def yX6_next : MethodName := ⟨RX6, "next", "()V"⟩
def dkwX6_next_8 : List UInt8 := [16, 59, 160, 0, 7, 7, 167, 0, 4, 8, 181, 0, 40, 177]
abbrev dktX6_next_8 : List UInt8 := dkwX6_next_8 ++ []
def dkwX6_next_7 : List UInt8 := [20, 0, 53, 184, 0, 47, 153, 0, 7, 4, 167, 0, 24, 27, 16, 44, 160, 0, 7, 6, 167, 0, 14, 27]
abbrev dktX6_next_7 : List UInt8 := dkwX6_next_7 ++ dktX6_next_8
def dkwX6_next_6 : List UInt8 := [181, 0, 40, 167, 0, 56, 42, 89, 180, 0, 26, 4, 96, 181, 0, 26, 42, 27, 133, 20, 0, 51]
abbrev dktX6_next_6 : List UInt8 := dkwX6_next_6 ++ dktX6_next_7
def dkwX6_next_5 : List UInt8 := [167, 255, 190, 42, 42, 180, 0, 26, 42, 180, 0, 30, 100, 5, 163, 0, 7, 5, 167, 0, 4, 8]
abbrev dktX6_next_5 : List UInt8 := dkwX6_next_5 ++ dktX6_next_6
def dkwX6_next_4 : List UInt8 := [16, 48, 100, 167, 0, 7, 42, 180, 0, 37, 181, 0, 37, 42, 89, 180, 0, 26, 4, 96, 181, 0, 26]
abbrev dktX6_next_4 : List UInt8 := dkwX6_next_4 ++ dktX6_next_5
def dkwX6_next_3 : List UInt8 := [180, 0, 26, 42, 180, 0, 30, 100, 5, 162, 0, 21, 16, 10, 42, 180, 0, 37, 104, 42, 182, 0, 33, 96]
abbrev dktX6_next_3 : List UInt8 := dkwX6_next_3 ++ dktX6_next_4
def dkwX6_next_2 : List UInt8 := [181, 0, 37, 42, 182, 0, 33, 133, 20, 0, 43, 20, 0, 45, 184, 0, 47, 153, 0, 55, 42, 42]
abbrev dktX6_next_2 : List UInt8 := dkwX6_next_2 ++ dktX6_next_3
def dkwX6_next_1 : List UInt8 := [42, 3, 181, 0, 40, 167, 0, 169, 27, 133, 20, 0, 43, 20, 0, 45, 184, 0, 47, 153, 0, 102, 42, 3]
abbrev dktX6_next_1 : List UInt8 := dkwX6_next_1 ++ dktX6_next_2
def dkwX6_next_0 : List UInt8 := [42, 42, 180, 0, 26, 181, 0, 30, 42, 182, 0, 33, 60, 42, 27, 181, 0, 37, 27, 18, 29, 160, 0, 11]
abbrev dktX6_next_0 : List UInt8 := dkwX6_next_0 ++ dktX6_next_1
theorem dksX6_next_0 : cX6_next.data.toList.drop 0 = dktX6_next_0 := by decide +kernel
theorem dksX6_next_1 : cX6_next.data.toList.drop 24 = dktX6_next_1 := dk_seg dksX6_next_0 24 rfl rfl
theorem dksX6_next_2 : cX6_next.data.toList.drop 48 = dktX6_next_2 := dk_seg dksX6_next_1 24 rfl rfl
theorem dksX6_next_3 : cX6_next.data.toList.drop 70 = dktX6_next_3 := dk_seg dksX6_next_2 22 rfl rfl
theorem dksX6_next_4 : cX6_next.data.toList.drop 94 = dktX6_next_4 := dk_seg dksX6_next_3 24 rfl rfl
theorem dksX6_next_5 : cX6_next.data.toList.drop 117 = dktX6_next_5 := dk_seg dksX6_next_4 23 rfl rfl
theorem dksX6_next_6 : cX6_next.data.toList.drop 139 = dktX6_next_6 := dk_seg dksX6_next_5 22 rfl rfl
theorem dksX6_next_7 : cX6_next.data.toList.drop 161 = dktX6_next_7 := dk_seg dksX6_next_6 22 rfl rfl
theorem dksX6_next_8 : cX6_next.data.toList.drop 185 = dktX6_next_8 := dk_seg dksX6_next_7 24 rfl rfl
theorem dX6_next_0 : decode cX6_next 0 = .ok (.aload_n 0, 1) := dk_42 (dk_at dksX6_next_0 0 rfl rfl)
theorem dX6_next_1 : decode cX6_next 1 = .ok (.aload_n 0, 1) := dk_42 (dk_at dksX6_next_0 1 rfl rfl)
theorem dX6_next_2 : decode cX6_next 2 = .ok (.getfield 26, 3) := dk_180 0 26 (dk_at dksX6_next_0 2 rfl rfl)
theorem dX6_next_5 : decode cX6_next 5 = .ok (.putfield 30, 3) := dk_181 0 30 (dk_at dksX6_next_0 5 rfl rfl)
theorem dX6_next_8 : decode cX6_next 8 = .ok (.aload_n 0, 1) := dk_42 (dk_at dksX6_next_0 8 rfl rfl)
theorem dX6_next_9 : decode cX6_next 9 = .ok (.invokevirtual 33, 3) := dk_182 0 33 (dk_at dksX6_next_0 9 rfl rfl)
theorem dX6_next_12 : decode cX6_next 12 = .ok (.istore_n 1, 1) := dk_60 (dk_at dksX6_next_0 12 rfl rfl)
theorem dX6_next_13 : decode cX6_next 13 = .ok (.aload_n 0, 1) := dk_42 (dk_at dksX6_next_0 13 rfl rfl)
theorem dX6_next_14 : decode cX6_next 14 = .ok (.iload_n 1, 1) := dk_27 (dk_at dksX6_next_0 14 rfl rfl)
theorem dX6_next_15 : decode cX6_next 15 = .ok (.putfield 37, 3) := dk_181 0 37 (dk_at dksX6_next_0 15 rfl rfl)
theorem dX6_next_18 : decode cX6_next 18 = .ok (.iload_n 1, 1) := dk_27 (dk_at dksX6_next_0 18 rfl rfl)
theorem dX6_next_19 : decode cX6_next 19 = .ok (.ldc 29, 2) := dk_18 29 (dk_at dksX6_next_0 19 rfl rfl)
theorem dX6_next_21 : decode cX6_next 21 = .ok (.if_icmp .ne 11, 3) := dk_160 0 11 (dk_at dksX6_next_0 21 rfl rfl)
theorem dX6_next_24 : decode cX6_next 24 = .ok (.aload_n 0, 1) := dk_42 (dk_at dksX6_next_1 0 rfl rfl)
theorem dX6_next_25 : decode cX6_next 25 = .ok (.iconst 0, 1) := dk_3 (dk_at dksX6_next_1 1 rfl rfl)
theorem dX6_next_26 : decode cX6_next 26 = .ok (.putfield 40, 3) := dk_181 0 40 (dk_at dksX6_next_1 2 rfl rfl)
theorem dX6_next_29 : decode cX6_next 29 = .ok (.goto 169, 3) := dk_167 0 169 (dk_at dksX6_next_1 5 rfl rfl)
theorem dX6_next_32 : decode cX6_next 32 = .ok (.iload_n 1, 1) := dk_27 (dk_at dksX6_next_1 8 rfl rfl)
theorem dX6_next_33 : decode cX6_next 33 = .ok (.i2l, 1) := dk_133 (dk_at dksX6_next_1 9 rfl rfl)
theorem dX6_next_34 : decode cX6_next 34 = .ok (.ldc2_w 43, 3) := dk_20 0 43 (dk_at dksX6_next_1 10 rfl rfl)
theorem dX6_next_37 : decode cX6_next 37 = .ok (.ldc2_w 45, 3) := dk_20 0 45 (dk_at dksX6_next_1 13 rfl rfl)
theorem dX6_next_40 : decode cX6_next 40 = .ok (.invokestatic 47, 3) := dk_184 0 47 (dk_at dksX6_next_1 16 rfl rfl)
theorem dX6_next_43 : decode cX6_next 43 = .ok (.ifCond .eq 102, 3) := dk_153 0 102 (dk_at dksX6_next_1 19 rfl rfl)
theorem dX6_next_46 : decode cX6_next 46 = .ok (.aload_n 0, 1) := dk_42 (dk_at dksX6_next_1 22 rfl rfl)
theorem dX6_next_47 : decode cX6_next 47 = .ok (.iconst 0, 1) := dk_3 (dk_at dksX6_next_1 23 rfl rfl)
theorem dX6_next_48 : decode cX6_next 48 = .ok (.putfield 37, 3) := dk_181 0 37 (dk_at dksX6_next_2 0 rfl rfl)
theorem dX6_next_51 : decode cX6_next 51 = .ok (.aload_n 0, 1) := dk_42 (dk_at dksX6_next_2 3 rfl rfl)
theorem dX6_next_52 : decode cX6_next 52 = .ok (.invokevirtual 33, 3) := dk_182 0 33 (dk_at dksX6_next_2 4 rfl rfl)
theorem dX6_next_55 : decode cX6_next 55 = .ok (.i2l, 1) := dk_133 (dk_at dksX6_next_2 7 rfl rfl)
theorem dX6_next_56 : decode cX6_next 56 = .ok (.ldc2_w 43, 3) := dk_20 0 43 (dk_at dksX6_next_2 8 rfl rfl)
theorem dX6_next_59 : decode cX6_next 59 = .ok (.ldc2_w 45, 3) := dk_20 0 45 (dk_at dksX6_next_2 11 rfl rfl)
theorem dX6_next_62 : decode cX6_next 62 = .ok (.invokestatic 47, 3) := dk_184 0 47 (dk_at dksX6_next_2 14 rfl rfl)
theorem dX6_next_65 : decode cX6_next 65 = .ok (.ifCond .eq 55, 3) := dk_153 0 55 (dk_at dksX6_next_2 17 rfl rfl)
theorem dX6_next_68 : decode cX6_next 68 = .ok (.aload_n 0, 1) := dk_42 (dk_at dksX6_next_2 20 rfl rfl)
theorem dX6_next_69 : decode cX6_next 69 = .ok (.aload_n 0, 1) := dk_42 (dk_at dksX6_next_2 21 rfl rfl)
theorem dX6_next_70 : decode cX6_next 70 = .ok (.getfield 26, 3) := dk_180 0 26 (dk_at dksX6_next_3 0 rfl rfl)
theorem dX6_next_73 : decode cX6_next 73 = .ok (.aload_n 0, 1) := dk_42 (dk_at dksX6_next_3 3 rfl rfl)
theorem dX6_next_74 : decode cX6_next 74 = .ok (.getfield 30, 3) := dk_180 0 30 (dk_at dksX6_next_3 4 rfl rfl)
theorem dX6_next_77 : decode cX6_next 77 = .ok (.isub, 1) := dk_100 (dk_at dksX6_next_3 7 rfl rfl)
theorem dX6_next_78 : decode cX6_next 78 = .ok (.iconst 2, 1) := dk_5 (dk_at dksX6_next_3 8 rfl rfl)
theorem dX6_next_79 : decode cX6_next 79 = .ok (.if_icmp .ge 21, 3) := dk_162 0 21 (dk_at dksX6_next_3 9 rfl rfl)
theorem dX6_next_82 : decode cX6_next 82 = .ok (.bipush 10, 2) := dk_16 10 (dk_at dksX6_next_3 12 rfl rfl)
theorem dX6_next_84 : decode cX6_next 84 = .ok (.aload_n 0, 1) := dk_42 (dk_at dksX6_next_3 14 rfl rfl)
theorem dX6_next_85 : decode cX6_next 85 = .ok (.getfield 37, 3) := dk_180 0 37 (dk_at dksX6_next_3 15 rfl rfl)
theorem dX6_next_88 : decode cX6_next 88 = .ok (.imul, 1) := dk_104 (dk_at dksX6_next_3 18 rfl rfl)
theorem dX6_next_89 : decode cX6_next 89 = .ok (.aload_n 0, 1) := dk_42 (dk_at dksX6_next_3 19 rfl rfl)
theorem dX6_next_90 : decode cX6_next 90 = .ok (.invokevirtual 33, 3) := dk_182 0 33 (dk_at dksX6_next_3 20 rfl rfl)
theorem dX6_next_93 : decode cX6_next 93 = .ok (.iadd, 1) := dk_96 (dk_at dksX6_next_3 23 rfl rfl)
theorem dX6_next_94 : decode cX6_next 94 = .ok (.bipush 48, 2) := dk_16 48 (dk_at dksX6_next_4 0 rfl rfl)
theorem dX6_next_96 : decode cX6_next 96 = .ok (.isub, 1) := dk_100 (dk_at dksX6_next_4 2 rfl rfl)
theorem dX6_next_97 : decode cX6_next 97 = .ok (.goto 7, 3) := dk_167 0 7 (dk_at dksX6_next_4 3 rfl rfl)
theorem dX6_next_100 : decode cX6_next 100 = .ok (.aload_n 0, 1) := dk_42 (dk_at dksX6_next_4 6 rfl rfl)
theorem dX6_next_101 : decode cX6_next 101 = .ok (.getfield 37, 3) := dk_180 0 37 (dk_at dksX6_next_4 7 rfl rfl)
theorem dX6_next_104 : decode cX6_next 104 = .ok (.putfield 37, 3) := dk_181 0 37 (dk_at dksX6_next_4 10 rfl rfl)
theorem dX6_next_107 : decode cX6_next 107 = .ok (.aload_n 0, 1) := dk_42 (dk_at dksX6_next_4 13 rfl rfl)
theorem dX6_next_108 : decode cX6_next 108 = .ok (.dup, 1) := dk_89 (dk_at dksX6_next_4 14 rfl rfl)
theorem dX6_next_109 : decode cX6_next 109 = .ok (.getfield 26, 3) := dk_180 0 26 (dk_at dksX6_next_4 15 rfl rfl)
theorem dX6_next_112 : decode cX6_next 112 = .ok (.iconst 1, 1) := dk_4 (dk_at dksX6_next_4 18 rfl rfl)
theorem dX6_next_113 : decode cX6_next 113 = .ok (.iadd, 1) := dk_96 (dk_at dksX6_next_4 19 rfl rfl)
theorem dX6_next_114 : decode cX6_next 114 = .ok (.putfield 26, 3) := dk_181 0 26 (dk_at dksX6_next_4 20 rfl rfl)
theorem dX6_next_117 : decode cX6_next 117 = .ok (.goto (-66), 3) := dk_167 255 190 (dk_at dksX6_next_5 0 rfl rfl)
theorem dX6_next_120 : decode cX6_next 120 = .ok (.aload_n 0, 1) := dk_42 (dk_at dksX6_next_5 3 rfl rfl)
theorem dX6_next_121 : decode cX6_next 121 = .ok (.aload_n 0, 1) := dk_42 (dk_at dksX6_next_5 4 rfl rfl)
theorem dX6_next_122 : decode cX6_next 122 = .ok (.getfield 26, 3) := dk_180 0 26 (dk_at dksX6_next_5 5 rfl rfl)
theorem dX6_next_125 : decode cX6_next 125 = .ok (.aload_n 0, 1) := dk_42 (dk_at dksX6_next_5 8 rfl rfl)
theorem dX6_next_126 : decode cX6_next 126 = .ok (.getfield 30, 3) := dk_180 0 30 (dk_at dksX6_next_5 9 rfl rfl)
theorem dX6_next_129 : decode cX6_next 129 = .ok (.isub, 1) := dk_100 (dk_at dksX6_next_5 12 rfl rfl)
theorem dX6_next_130 : decode cX6_next 130 = .ok (.iconst 2, 1) := dk_5 (dk_at dksX6_next_5 13 rfl rfl)
theorem dX6_next_131 : decode cX6_next 131 = .ok (.if_icmp .gt 7, 3) := dk_163 0 7 (dk_at dksX6_next_5 14 rfl rfl)
theorem dX6_next_134 : decode cX6_next 134 = .ok (.iconst 2, 1) := dk_5 (dk_at dksX6_next_5 17 rfl rfl)
theorem dX6_next_135 : decode cX6_next 135 = .ok (.goto 4, 3) := dk_167 0 4 (dk_at dksX6_next_5 18 rfl rfl)
theorem dX6_next_138 : decode cX6_next 138 = .ok (.iconst 5, 1) := dk_8 (dk_at dksX6_next_5 21 rfl rfl)
theorem dX6_next_139 : decode cX6_next 139 = .ok (.putfield 40, 3) := dk_181 0 40 (dk_at dksX6_next_6 0 rfl rfl)
theorem dX6_next_142 : decode cX6_next 142 = .ok (.goto 56, 3) := dk_167 0 56 (dk_at dksX6_next_6 3 rfl rfl)
theorem dX6_next_145 : decode cX6_next 145 = .ok (.aload_n 0, 1) := dk_42 (dk_at dksX6_next_6 6 rfl rfl)
theorem dX6_next_146 : decode cX6_next 146 = .ok (.dup, 1) := dk_89 (dk_at dksX6_next_6 7 rfl rfl)
theorem dX6_next_147 : decode cX6_next 147 = .ok (.getfield 26, 3) := dk_180 0 26 (dk_at dksX6_next_6 8 rfl rfl)
theorem dX6_next_150 : decode cX6_next 150 = .ok (.iconst 1, 1) := dk_4 (dk_at dksX6_next_6 11 rfl rfl)
theorem dX6_next_151 : decode cX6_next 151 = .ok (.iadd, 1) := dk_96 (dk_at dksX6_next_6 12 rfl rfl)
theorem dX6_next_152 : decode cX6_next 152 = .ok (.putfield 26, 3) := dk_181 0 26 (dk_at dksX6_next_6 13 rfl rfl)
theorem dX6_next_155 : decode cX6_next 155 = .ok (.aload_n 0, 1) := dk_42 (dk_at dksX6_next_6 16 rfl rfl)
theorem dX6_next_156 : decode cX6_next 156 = .ok (.iload_n 1, 1) := dk_27 (dk_at dksX6_next_6 17 rfl rfl)
theorem dX6_next_157 : decode cX6_next 157 = .ok (.i2l, 1) := dk_133 (dk_at dksX6_next_6 18 rfl rfl)
theorem dX6_next_158 : decode cX6_next 158 = .ok (.ldc2_w 51, 3) := dk_20 0 51 (dk_at dksX6_next_6 19 rfl rfl)
theorem dX6_next_161 : decode cX6_next 161 = .ok (.ldc2_w 53, 3) := dk_20 0 53 (dk_at dksX6_next_7 0 rfl rfl)
theorem dX6_next_164 : decode cX6_next 164 = .ok (.invokestatic 47, 3) := dk_184 0 47 (dk_at dksX6_next_7 3 rfl rfl)
theorem dX6_next_167 : decode cX6_next 167 = .ok (.ifCond .eq 7, 3) := dk_153 0 7 (dk_at dksX6_next_7 6 rfl rfl)
theorem dX6_next_170 : decode cX6_next 170 = .ok (.iconst 1, 1) := dk_4 (dk_at dksX6_next_7 9 rfl rfl)
theorem dX6_next_171 : decode cX6_next 171 = .ok (.goto 24, 3) := dk_167 0 24 (dk_at dksX6_next_7 10 rfl rfl)
theorem dX6_next_174 : decode cX6_next 174 = .ok (.iload_n 1, 1) := dk_27 (dk_at dksX6_next_7 13 rfl rfl)
theorem dX6_next_175 : decode cX6_next 175 = .ok (.bipush 44, 2) := dk_16 44 (dk_at dksX6_next_7 14 rfl rfl)
theorem dX6_next_177 : decode cX6_next 177 = .ok (.if_icmp .ne 7, 3) := dk_160 0 7 (dk_at dksX6_next_7 16 rfl rfl)
theorem dX6_next_180 : decode cX6_next 180 = .ok (.iconst 3, 1) := dk_6 (dk_at dksX6_next_7 19 rfl rfl)
theorem dX6_next_181 : decode cX6_next 181 = .ok (.goto 14, 3) := dk_167 0 14 (dk_at dksX6_next_7 20 rfl rfl)
theorem dX6_next_184 : decode cX6_next 184 = .ok (.iload_n 1, 1) := dk_27 (dk_at dksX6_next_7 23 rfl rfl)
theorem dX6_next_185 : decode cX6_next 185 = .ok (.bipush 59, 2) := dk_16 59 (dk_at dksX6_next_8 0 rfl rfl)
theorem dX6_next_187 : decode cX6_next 187 = .ok (.if_icmp .ne 7, 3) := dk_160 0 7 (dk_at dksX6_next_8 2 rfl rfl)
theorem dX6_next_190 : decode cX6_next 190 = .ok (.iconst 4, 1) := dk_7 (dk_at dksX6_next_8 5 rfl rfl)
theorem dX6_next_191 : decode cX6_next 191 = .ok (.goto 4, 3) := dk_167 0 4 (dk_at dksX6_next_8 6 rfl rfl)
theorem dX6_next_194 : decode cX6_next 194 = .ok (.iconst 5, 1) := dk_8 (dk_at dksX6_next_8 9 rfl rfl)
theorem dX6_next_195 : decode cX6_next 195 = .ok (.putfield 40, 3) := dk_181 0 40 (dk_at dksX6_next_8 10 rfl rfl)
theorem dX6_next_198 : decode cX6_next 198 = .ok (.return_, 1) := dk_177 (dk_at dksX6_next_8 13 rfl rfl)
abbrev cX6_look : ByteArray := prog_10_method_2_code
def yX6_look : MethodName := ⟨RX6, "look", "()I"⟩
def dkwX6_look_1 : List UInt8 := [167, 0, 5, 18, 29, 172]
abbrev dktX6_look_1 : List UInt8 := dkwX6_look_1 ++ []
def dkwX6_look_0 : List UInt8 := [42, 180, 0, 26, 42, 180, 0, 22, 162, 0, 19, 42, 180, 0, 18, 42, 180, 0, 26, 51, 17, 0, 255, 126]
abbrev dktX6_look_0 : List UInt8 := dkwX6_look_0 ++ dktX6_look_1
theorem dksX6_look_0 : cX6_look.data.toList.drop 0 = dktX6_look_0 := by decide +kernel
theorem dksX6_look_1 : cX6_look.data.toList.drop 24 = dktX6_look_1 := dk_seg dksX6_look_0 24 rfl rfl
theorem dX6_look_0 : decode cX6_look 0 = .ok (.aload_n 0, 1) := dk_42 (dk_at dksX6_look_0 0 rfl rfl)
theorem dX6_look_1 : decode cX6_look 1 = .ok (.getfield 26, 3) := dk_180 0 26 (dk_at dksX6_look_0 1 rfl rfl)
theorem dX6_look_4 : decode cX6_look 4 = .ok (.aload_n 0, 1) := dk_42 (dk_at dksX6_look_0 4 rfl rfl)
theorem dX6_look_5 : decode cX6_look 5 = .ok (.getfield 22, 3) := dk_180 0 22 (dk_at dksX6_look_0 5 rfl rfl)
theorem dX6_look_8 : decode cX6_look 8 = .ok (.if_icmp .ge 19, 3) := dk_162 0 19 (dk_at dksX6_look_0 8 rfl rfl)
theorem dX6_look_11 : decode cX6_look 11 = .ok (.aload_n 0, 1) := dk_42 (dk_at dksX6_look_0 11 rfl rfl)
theorem dX6_look_12 : decode cX6_look 12 = .ok (.getfield 18, 3) := dk_180 0 18 (dk_at dksX6_look_0 12 rfl rfl)
theorem dX6_look_15 : decode cX6_look 15 = .ok (.aload_n 0, 1) := dk_42 (dk_at dksX6_look_0 15 rfl rfl)
theorem dX6_look_16 : decode cX6_look 16 = .ok (.getfield 26, 3) := dk_180 0 26 (dk_at dksX6_look_0 16 rfl rfl)
theorem dX6_look_19 : decode cX6_look 19 = .ok (.baload, 1) := dk_51 (dk_at dksX6_look_0 19 rfl rfl)
theorem dX6_look_20 : decode cX6_look 20 = .ok (.sipush 255, 3) := dk_17 0 255 (dk_at dksX6_look_0 20 rfl rfl)
theorem dX6_look_23 : decode cX6_look 23 = .ok (.iand, 1) := dk_126 (dk_at dksX6_look_0 23 rfl rfl)
theorem dX6_look_24 : decode cX6_look 24 = .ok (.goto 5, 3) := dk_167 0 5 (dk_at dksX6_look_1 0 rfl rfl)
theorem dX6_look_27 : decode cX6_look 27 = .ok (.ldc 29, 2) := dk_18 29 (dk_at dksX6_look_1 3 rfl rfl)
theorem dX6_look_29 : decode cX6_look 29 = .ok (.ireturn, 1) := dk_172 (dk_at dksX6_look_1 5 rfl rfl)
abbrev cX6_isLetter : ByteArray := prog_10_method_5_code
def yX6_isLetter : MethodName := ⟨RX6, "isLetter", "(I)Z"⟩
def dkwX6_isLetter_0 : List UInt8 := [42, 180, 0, 40, 4, 160, 0, 15, 42, 180, 0, 37, 27, 160, 0, 7, 4, 167, 0, 4, 3, 172]
abbrev dktX6_isLetter_0 : List UInt8 := dkwX6_isLetter_0 ++ []
theorem dksX6_isLetter_0 : cX6_isLetter.data.toList.drop 0 = dktX6_isLetter_0 := by decide +kernel
theorem dX6_isLetter_0 : decode cX6_isLetter 0 = .ok (.aload_n 0, 1) := dk_42 (dk_at dksX6_isLetter_0 0 rfl rfl)
theorem dX6_isLetter_1 : decode cX6_isLetter 1 = .ok (.getfield 40, 3) := dk_180 0 40 (dk_at dksX6_isLetter_0 1 rfl rfl)
theorem dX6_isLetter_4 : decode cX6_isLetter 4 = .ok (.iconst 1, 1) := dk_4 (dk_at dksX6_isLetter_0 4 rfl rfl)
theorem dX6_isLetter_5 : decode cX6_isLetter 5 = .ok (.if_icmp .ne 15, 3) := dk_160 0 15 (dk_at dksX6_isLetter_0 5 rfl rfl)
theorem dX6_isLetter_8 : decode cX6_isLetter 8 = .ok (.aload_n 0, 1) := dk_42 (dk_at dksX6_isLetter_0 8 rfl rfl)
theorem dX6_isLetter_9 : decode cX6_isLetter 9 = .ok (.getfield 37, 3) := dk_180 0 37 (dk_at dksX6_isLetter_0 9 rfl rfl)
theorem dX6_isLetter_12 : decode cX6_isLetter 12 = .ok (.iload_n 1, 1) := dk_27 (dk_at dksX6_isLetter_0 12 rfl rfl)
theorem dX6_isLetter_13 : decode cX6_isLetter 13 = .ok (.if_icmp .ne 7, 3) := dk_160 0 7 (dk_at dksX6_isLetter_0 13 rfl rfl)
theorem dX6_isLetter_16 : decode cX6_isLetter 16 = .ok (.iconst 1, 1) := dk_4 (dk_at dksX6_isLetter_0 16 rfl rfl)
theorem dX6_isLetter_17 : decode cX6_isLetter 17 = .ok (.goto 4, 3) := dk_167 0 4 (dk_at dksX6_isLetter_0 17 rfl rfl)
theorem dX6_isLetter_20 : decode cX6_isLetter 20 = .ok (.iconst 0, 1) := dk_3 (dk_at dksX6_isLetter_0 20 rfl rfl)
theorem dX6_isLetter_21 : decode cX6_isLetter 21 = .ok (.ireturn, 1) := dk_172 (dk_at dksX6_isLetter_0 21 rfl rfl)
abbrev cX6_must : ByteArray := prog_10_method_4_code
def yX6_must : MethodName := ⟨RX6, "must", "(ZI)V"⟩
def dkwX6_must_0 : List UInt8 := [27, 154, 0, 16, 187, 0, 55, 89, 28, 42, 180, 0, 30, 183, 0, 57, 191, 177]
abbrev dktX6_must_0 : List UInt8 := dkwX6_must_0 ++ []
theorem dksX6_must_0 : cX6_must.data.toList.drop 0 = dktX6_must_0 := by decide +kernel
theorem dX6_must_0 : decode cX6_must 0 = .ok (.iload_n 1, 1) := dk_27 (dk_at dksX6_must_0 0 rfl rfl)
theorem dX6_must_1 : decode cX6_must 1 = .ok (.ifCond .ne 16, 3) := dk_154 0 16 (dk_at dksX6_must_0 1 rfl rfl)
theorem dX6_must_4 : decode cX6_must 4 = .ok (.new 55, 3) := dk_187 0 55 (dk_at dksX6_must_0 4 rfl rfl)
theorem dX6_must_7 : decode cX6_must 7 = .ok (.dup, 1) := dk_89 (dk_at dksX6_must_0 7 rfl rfl)
theorem dX6_must_8 : decode cX6_must 8 = .ok (.iload_n 2, 1) := dk_28 (dk_at dksX6_must_0 8 rfl rfl)
theorem dX6_must_9 : decode cX6_must 9 = .ok (.aload_n 0, 1) := dk_42 (dk_at dksX6_must_0 9 rfl rfl)
theorem dX6_must_10 : decode cX6_must 10 = .ok (.getfield 30, 3) := dk_180 0 30 (dk_at dksX6_must_0 10 rfl rfl)
theorem dX6_must_13 : decode cX6_must 13 = .ok (.invokespecial 57, 3) := dk_183 0 57 (dk_at dksX6_must_0 13 rfl rfl)
theorem dX6_must_16 : decode cX6_must 16 = .ok (.athrow, 1) := dk_191 (dk_at dksX6_must_0 16 rfl rfl)
theorem dX6_must_17 : decode cX6_must 17 = .ok (.return_, 1) := dk_177 (dk_at dksX6_must_0 17 rfl rfl)
abbrev cX6_figure : ByteArray := prog_10_method_6_code
def yX6_figure : MethodName := ⟨RX6, "figure", "(II)I"⟩
def dkwX6_figure_1 : List UInt8 := [27, 133, 28, 133, 184, 0, 47, 5, 182, 0, 60, 42, 180, 0, 37, 62, 42, 182, 0, 64, 29, 172]
abbrev dktX6_figure_1 : List UInt8 := dkwX6_figure_1 ++ []
def dkwX6_figure_0 : List UInt8 := [42, 42, 180, 0, 40, 5, 160, 0, 7, 4, 167, 0, 4, 3, 4, 182, 0, 60, 42, 42, 180, 0, 37, 133]
abbrev dktX6_figure_0 : List UInt8 := dkwX6_figure_0 ++ dktX6_figure_1
theorem dksX6_figure_0 : cX6_figure.data.toList.drop 0 = dktX6_figure_0 := by decide +kernel
theorem dksX6_figure_1 : cX6_figure.data.toList.drop 24 = dktX6_figure_1 := dk_seg dksX6_figure_0 24 rfl rfl
theorem dX6_figure_0 : decode cX6_figure 0 = .ok (.aload_n 0, 1) := dk_42 (dk_at dksX6_figure_0 0 rfl rfl)
theorem dX6_figure_1 : decode cX6_figure 1 = .ok (.aload_n 0, 1) := dk_42 (dk_at dksX6_figure_0 1 rfl rfl)
theorem dX6_figure_2 : decode cX6_figure 2 = .ok (.getfield 40, 3) := dk_180 0 40 (dk_at dksX6_figure_0 2 rfl rfl)
theorem dX6_figure_5 : decode cX6_figure 5 = .ok (.iconst 2, 1) := dk_5 (dk_at dksX6_figure_0 5 rfl rfl)
theorem dX6_figure_6 : decode cX6_figure 6 = .ok (.if_icmp .ne 7, 3) := dk_160 0 7 (dk_at dksX6_figure_0 6 rfl rfl)
theorem dX6_figure_9 : decode cX6_figure 9 = .ok (.iconst 1, 1) := dk_4 (dk_at dksX6_figure_0 9 rfl rfl)
theorem dX6_figure_10 : decode cX6_figure 10 = .ok (.goto 4, 3) := dk_167 0 4 (dk_at dksX6_figure_0 10 rfl rfl)
theorem dX6_figure_13 : decode cX6_figure 13 = .ok (.iconst 0, 1) := dk_3 (dk_at dksX6_figure_0 13 rfl rfl)
theorem dX6_figure_14 : decode cX6_figure 14 = .ok (.iconst 1, 1) := dk_4 (dk_at dksX6_figure_0 14 rfl rfl)
theorem dX6_figure_15 : decode cX6_figure 15 = .ok (.invokevirtual 60, 3) := dk_182 0 60 (dk_at dksX6_figure_0 15 rfl rfl)
theorem dX6_figure_18 : decode cX6_figure 18 = .ok (.aload_n 0, 1) := dk_42 (dk_at dksX6_figure_0 18 rfl rfl)
theorem dX6_figure_19 : decode cX6_figure 19 = .ok (.aload_n 0, 1) := dk_42 (dk_at dksX6_figure_0 19 rfl rfl)
theorem dX6_figure_20 : decode cX6_figure 20 = .ok (.getfield 37, 3) := dk_180 0 37 (dk_at dksX6_figure_0 20 rfl rfl)
theorem dX6_figure_23 : decode cX6_figure 23 = .ok (.i2l, 1) := dk_133 (dk_at dksX6_figure_0 23 rfl rfl)
theorem dX6_figure_24 : decode cX6_figure 24 = .ok (.iload_n 1, 1) := dk_27 (dk_at dksX6_figure_1 0 rfl rfl)
theorem dX6_figure_25 : decode cX6_figure 25 = .ok (.i2l, 1) := dk_133 (dk_at dksX6_figure_1 1 rfl rfl)
theorem dX6_figure_26 : decode cX6_figure 26 = .ok (.iload_n 2, 1) := dk_28 (dk_at dksX6_figure_1 2 rfl rfl)
theorem dX6_figure_27 : decode cX6_figure 27 = .ok (.i2l, 1) := dk_133 (dk_at dksX6_figure_1 3 rfl rfl)
theorem dX6_figure_28 : decode cX6_figure 28 = .ok (.invokestatic 47, 3) := dk_184 0 47 (dk_at dksX6_figure_1 4 rfl rfl)
theorem dX6_figure_31 : decode cX6_figure 31 = .ok (.iconst 2, 1) := dk_5 (dk_at dksX6_figure_1 7 rfl rfl)
theorem dX6_figure_32 : decode cX6_figure 32 = .ok (.invokevirtual 60, 3) := dk_182 0 60 (dk_at dksX6_figure_1 8 rfl rfl)
theorem dX6_figure_35 : decode cX6_figure 35 = .ok (.aload_n 0, 1) := dk_42 (dk_at dksX6_figure_1 11 rfl rfl)
theorem dX6_figure_36 : decode cX6_figure 36 = .ok (.getfield 37, 3) := dk_180 0 37 (dk_at dksX6_figure_1 12 rfl rfl)
theorem dX6_figure_39 : decode cX6_figure 39 = .ok (.istore_n 3, 1) := dk_62 (dk_at dksX6_figure_1 15 rfl rfl)
theorem dX6_figure_40 : decode cX6_figure 40 = .ok (.aload_n 0, 1) := dk_42 (dk_at dksX6_figure_1 16 rfl rfl)
theorem dX6_figure_41 : decode cX6_figure 41 = .ok (.invokevirtual 64, 3) := dk_182 0 64 (dk_at dksX6_figure_1 17 rfl rfl)
theorem dX6_figure_44 : decode cX6_figure 44 = .ok (.iload_n 3, 1) := dk_29 (dk_at dksX6_figure_1 20 rfl rfl)
theorem dX6_figure_45 : decode cX6_figure 45 = .ok (.ireturn, 1) := dk_172 (dk_at dksX6_figure_1 21 rfl rfl)
abbrev cX6_more : ByteArray := prog_10_method_7_code
def yX6_more : MethodName := ⟨RX6, "more", "(II)I"⟩
def dkwX6_more_0 : List UInt8 := [42, 6, 182, 0, 67, 42, 27, 28, 182, 0, 71, 172]
abbrev dktX6_more_0 : List UInt8 := dkwX6_more_0 ++ []
theorem dksX6_more_0 : cX6_more.data.toList.drop 0 = dktX6_more_0 := by decide +kernel
theorem dX6_more_0 : decode cX6_more 0 = .ok (.aload_n 0, 1) := dk_42 (dk_at dksX6_more_0 0 rfl rfl)
theorem dX6_more_1 : decode cX6_more 1 = .ok (.iconst 3, 1) := dk_6 (dk_at dksX6_more_0 1 rfl rfl)
theorem dX6_more_2 : decode cX6_more 2 = .ok (.invokevirtual 67, 3) := dk_182 0 67 (dk_at dksX6_more_0 2 rfl rfl)
theorem dX6_more_5 : decode cX6_more 5 = .ok (.aload_n 0, 1) := dk_42 (dk_at dksX6_more_0 5 rfl rfl)
theorem dX6_more_6 : decode cX6_more 6 = .ok (.iload_n 1, 1) := dk_27 (dk_at dksX6_more_0 6 rfl rfl)
theorem dX6_more_7 : decode cX6_more 7 = .ok (.iload_n 2, 1) := dk_28 (dk_at dksX6_more_0 7 rfl rfl)
theorem dX6_more_8 : decode cX6_more 8 = .ok (.invokevirtual 71, 3) := dk_182 0 71 (dk_at dksX6_more_0 8 rfl rfl)
theorem dX6_more_11 : decode cX6_more 11 = .ok (.ireturn, 1) := dk_172 (dk_at dksX6_more_0 11 rfl rfl)
abbrev cX6_sign : ByteArray := prog_10_method_8_code
def yX6_sign : MethodName := ⟨RX6, "sign", "(I)V"⟩
def dkwX6_sign_0 : List UInt8 := [42, 42, 180, 0, 40, 27, 160, 0, 7, 4, 167, 0, 4, 3, 4, 182, 0, 60, 42, 182, 0, 64, 177]
abbrev dktX6_sign_0 : List UInt8 := dkwX6_sign_0 ++ []
theorem dksX6_sign_0 : cX6_sign.data.toList.drop 0 = dktX6_sign_0 := by decide +kernel
theorem dX6_sign_0 : decode cX6_sign 0 = .ok (.aload_n 0, 1) := dk_42 (dk_at dksX6_sign_0 0 rfl rfl)
theorem dX6_sign_1 : decode cX6_sign 1 = .ok (.aload_n 0, 1) := dk_42 (dk_at dksX6_sign_0 1 rfl rfl)
theorem dX6_sign_2 : decode cX6_sign 2 = .ok (.getfield 40, 3) := dk_180 0 40 (dk_at dksX6_sign_0 2 rfl rfl)
theorem dX6_sign_5 : decode cX6_sign 5 = .ok (.iload_n 1, 1) := dk_27 (dk_at dksX6_sign_0 5 rfl rfl)
theorem dX6_sign_6 : decode cX6_sign 6 = .ok (.if_icmp .ne 7, 3) := dk_160 0 7 (dk_at dksX6_sign_0 6 rfl rfl)
theorem dX6_sign_9 : decode cX6_sign 9 = .ok (.iconst 1, 1) := dk_4 (dk_at dksX6_sign_0 9 rfl rfl)
theorem dX6_sign_10 : decode cX6_sign 10 = .ok (.goto 4, 3) := dk_167 0 4 (dk_at dksX6_sign_0 10 rfl rfl)
theorem dX6_sign_13 : decode cX6_sign 13 = .ok (.iconst 0, 1) := dk_3 (dk_at dksX6_sign_0 13 rfl rfl)
theorem dX6_sign_14 : decode cX6_sign 14 = .ok (.iconst 1, 1) := dk_4 (dk_at dksX6_sign_0 14 rfl rfl)
theorem dX6_sign_15 : decode cX6_sign 15 = .ok (.invokevirtual 60, 3) := dk_182 0 60 (dk_at dksX6_sign_0 15 rfl rfl)
theorem dX6_sign_18 : decode cX6_sign 18 = .ok (.aload_n 0, 1) := dk_42 (dk_at dksX6_sign_0 18 rfl rfl)
theorem dX6_sign_19 : decode cX6_sign 19 = .ok (.invokevirtual 64, 3) := dk_182 0 64 (dk_at dksX6_sign_0 19 rfl rfl)
theorem dX6_sign_22 : decode cX6_sign 22 = .ok (.return_, 1) := dk_177 (dk_at dksX6_sign_0 22 rfl rfl)
abbrev cX6_sortOf : ByteArray := prog_10_method_11_code
def yX6_sortOf : MethodName := ⟨RX6, "sortOf", "(Ljava/lang/String;)I"⟩
def dkwX6_sortOf_0 : List UInt8 := [43, 42, 180, 0, 40, 42, 180, 0, 37, 184, 0, 84, 172]
abbrev dktX6_sortOf_0 : List UInt8 := dkwX6_sortOf_0 ++ []
theorem dksX6_sortOf_0 : cX6_sortOf.data.toList.drop 0 = dktX6_sortOf_0 := by decide +kernel
theorem dX6_sortOf_0 : decode cX6_sortOf 0 = .ok (.aload_n 1, 1) := dk_43 (dk_at dksX6_sortOf_0 0 rfl rfl)
theorem dX6_sortOf_1 : decode cX6_sortOf 1 = .ok (.aload_n 0, 1) := dk_42 (dk_at dksX6_sortOf_0 1 rfl rfl)
theorem dX6_sortOf_2 : decode cX6_sortOf 2 = .ok (.getfield 40, 3) := dk_180 0 40 (dk_at dksX6_sortOf_0 2 rfl rfl)
theorem dX6_sortOf_5 : decode cX6_sortOf 5 = .ok (.aload_n 0, 1) := dk_42 (dk_at dksX6_sortOf_0 5 rfl rfl)
theorem dX6_sortOf_6 : decode cX6_sortOf 6 = .ok (.getfield 37, 3) := dk_180 0 37 (dk_at dksX6_sortOf_0 6 rfl rfl)
theorem dX6_sortOf_9 : decode cX6_sortOf 9 = .ok (.invokestatic 84, 3) := dk_184 0 84 (dk_at dksX6_sortOf_0 9 rfl rfl)
theorem dX6_sortOf_12 : decode cX6_sortOf 12 = .ok (.ireturn, 1) := dk_172 (dk_at dksX6_sortOf_0 12 rfl rfl)
abbrev cX6_sortIn : ByteArray := prog_10_method_10_code
def yX6_sortIn : MethodName := ⟨RX6, "sortIn", "(Ljava/lang/String;II)I"⟩
def dkwX6_sortIn_1 : List UInt8 := [132, 3, 1, 167, 255, 231, 29, 42, 182, 0, 75, 162, 0, 7, 29, 167, 0, 5, 18, 29, 172]
abbrev dktX6_sortIn_1 : List UInt8 := dkwX6_sortIn_1 ++ []
def dkwX6_sortIn_0 : List UInt8 := [3, 62, 29, 42, 182, 0, 75, 162, 0, 23, 27, 4, 160, 0, 12, 42, 29, 182, 0, 80, 28, 159, 0, 9]
abbrev dktX6_sortIn_0 : List UInt8 := dkwX6_sortIn_0 ++ dktX6_sortIn_1
theorem dksX6_sortIn_0 : cX6_sortIn.data.toList.drop 0 = dktX6_sortIn_0 := by decide +kernel
theorem dksX6_sortIn_1 : cX6_sortIn.data.toList.drop 24 = dktX6_sortIn_1 := dk_seg dksX6_sortIn_0 24 rfl rfl
theorem dX6_sortIn_0 : decode cX6_sortIn 0 = .ok (.iconst 0, 1) := dk_3 (dk_at dksX6_sortIn_0 0 rfl rfl)
theorem dX6_sortIn_1 : decode cX6_sortIn 1 = .ok (.istore_n 3, 1) := dk_62 (dk_at dksX6_sortIn_0 1 rfl rfl)
theorem dX6_sortIn_2 : decode cX6_sortIn 2 = .ok (.iload_n 3, 1) := dk_29 (dk_at dksX6_sortIn_0 2 rfl rfl)
theorem dX6_sortIn_3 : decode cX6_sortIn 3 = .ok (.aload_n 0, 1) := dk_42 (dk_at dksX6_sortIn_0 3 rfl rfl)
theorem dX6_sortIn_4 : decode cX6_sortIn 4 = .ok (.invokevirtual 75, 3) := dk_182 0 75 (dk_at dksX6_sortIn_0 4 rfl rfl)
theorem dX6_sortIn_7 : decode cX6_sortIn 7 = .ok (.if_icmp .ge 23, 3) := dk_162 0 23 (dk_at dksX6_sortIn_0 7 rfl rfl)
theorem dX6_sortIn_10 : decode cX6_sortIn 10 = .ok (.iload_n 1, 1) := dk_27 (dk_at dksX6_sortIn_0 10 rfl rfl)
theorem dX6_sortIn_11 : decode cX6_sortIn 11 = .ok (.iconst 1, 1) := dk_4 (dk_at dksX6_sortIn_0 11 rfl rfl)
theorem dX6_sortIn_12 : decode cX6_sortIn 12 = .ok (.if_icmp .ne 12, 3) := dk_160 0 12 (dk_at dksX6_sortIn_0 12 rfl rfl)
theorem dX6_sortIn_15 : decode cX6_sortIn 15 = .ok (.aload_n 0, 1) := dk_42 (dk_at dksX6_sortIn_0 15 rfl rfl)
theorem dX6_sortIn_16 : decode cX6_sortIn 16 = .ok (.iload_n 3, 1) := dk_29 (dk_at dksX6_sortIn_0 16 rfl rfl)
theorem dX6_sortIn_17 : decode cX6_sortIn 17 = .ok (.invokevirtual 80, 3) := dk_182 0 80 (dk_at dksX6_sortIn_0 17 rfl rfl)
theorem dX6_sortIn_20 : decode cX6_sortIn 20 = .ok (.iload_n 2, 1) := dk_28 (dk_at dksX6_sortIn_0 20 rfl rfl)
theorem dX6_sortIn_21 : decode cX6_sortIn 21 = .ok (.if_icmp .eq 9, 3) := dk_159 0 9 (dk_at dksX6_sortIn_0 21 rfl rfl)
theorem dX6_sortIn_24 : decode cX6_sortIn 24 = .ok (.iinc 3 1, 3) := dk_132 3 1 (dk_at dksX6_sortIn_1 0 rfl rfl)
theorem dX6_sortIn_27 : decode cX6_sortIn 27 = .ok (.goto (-25), 3) := dk_167 255 231 (dk_at dksX6_sortIn_1 3 rfl rfl)
theorem dX6_sortIn_30 : decode cX6_sortIn 30 = .ok (.iload_n 3, 1) := dk_29 (dk_at dksX6_sortIn_1 6 rfl rfl)
theorem dX6_sortIn_31 : decode cX6_sortIn 31 = .ok (.aload_n 0, 1) := dk_42 (dk_at dksX6_sortIn_1 7 rfl rfl)
theorem dX6_sortIn_32 : decode cX6_sortIn 32 = .ok (.invokevirtual 75, 3) := dk_182 0 75 (dk_at dksX6_sortIn_1 8 rfl rfl)
theorem dX6_sortIn_35 : decode cX6_sortIn 35 = .ok (.if_icmp .ge 7, 3) := dk_162 0 7 (dk_at dksX6_sortIn_1 11 rfl rfl)
theorem dX6_sortIn_38 : decode cX6_sortIn 38 = .ok (.iload_n 3, 1) := dk_29 (dk_at dksX6_sortIn_1 14 rfl rfl)
theorem dX6_sortIn_39 : decode cX6_sortIn 39 = .ok (.goto 5, 3) := dk_167 0 5 (dk_at dksX6_sortIn_1 15 rfl rfl)
theorem dX6_sortIn_42 : decode cX6_sortIn 42 = .ok (.ldc 29, 2) := dk_18 29 (dk_at dksX6_sortIn_1 18 rfl rfl)
theorem dX6_sortIn_44 : decode cX6_sortIn 44 = .ok (.ireturn, 1) := dk_172 (dk_at dksX6_sortIn_1 20 rfl rfl)
abbrev cX6_sort : ByteArray := prog_10_method_13_code
def yX6_sort : MethodName := ⟨RX6, "sort", "()V"⟩
def dkwX6_sort_4 : List UInt8 := [7, 182, 0, 67, 177]
abbrev dktX6_sort_4 : List UInt8 := dkwX6_sort_4 ++ []
def dkwX6_sort_3 : List UInt8 := [182, 0, 134, 42, 180, 0, 12, 180, 0, 138, 27, 4, 96, 28, 184, 0, 141, 185, 0, 145, 2, 0, 87, 42]
abbrev dktX6_sort_3 : List UInt8 := dkwX6_sort_3 ++ dktX6_sort_4
def dkwX6_sort_2 : List UInt8 := [3, 16, 9, 182, 0, 95, 79, 42, 6, 182, 0, 67, 42, 180, 0, 12, 28, 42, 7, 182, 0, 110]
abbrev dktX6_sort_2 : List UInt8 := dkwX6_sort_2 ++ dktX6_sort_3
def dkwX6_sort_1 : List UInt8 := [180, 0, 12, 180, 0, 127, 28, 42, 3, 16, 9, 182, 0, 71, 79, 42, 180, 0, 12, 180, 0, 131, 28, 42]
abbrev dktX6_sort_1 : List UInt8 := dkwX6_sort_1 ++ dktX6_sort_2
def dkwX6_sort_0 : List UInt8 := [42, 18, 101, 182, 0, 103, 60, 42, 180, 0, 12, 182, 0, 122, 61, 42, 28, 7, 182, 0, 125, 42]
abbrev dktX6_sort_0 : List UInt8 := dkwX6_sort_0 ++ dktX6_sort_1
theorem dksX6_sort_0 : cX6_sort.data.toList.drop 0 = dktX6_sort_0 := by decide +kernel
theorem dksX6_sort_1 : cX6_sort.data.toList.drop 22 = dktX6_sort_1 := dk_seg dksX6_sort_0 22 rfl rfl
theorem dksX6_sort_2 : cX6_sort.data.toList.drop 46 = dktX6_sort_2 := dk_seg dksX6_sort_1 24 rfl rfl
theorem dksX6_sort_3 : cX6_sort.data.toList.drop 68 = dktX6_sort_3 := dk_seg dksX6_sort_2 22 rfl rfl
theorem dksX6_sort_4 : cX6_sort.data.toList.drop 92 = dktX6_sort_4 := dk_seg dksX6_sort_3 24 rfl rfl
theorem dX6_sort_0 : decode cX6_sort 0 = .ok (.aload_n 0, 1) := dk_42 (dk_at dksX6_sort_0 0 rfl rfl)
theorem dX6_sort_1 : decode cX6_sort 1 = .ok (.ldc 101, 2) := dk_18 101 (dk_at dksX6_sort_0 1 rfl rfl)
theorem dX6_sort_3 : decode cX6_sort 3 = .ok (.invokevirtual 103, 3) := dk_182 0 103 (dk_at dksX6_sort_0 3 rfl rfl)
theorem dX6_sort_6 : decode cX6_sort 6 = .ok (.istore_n 1, 1) := dk_60 (dk_at dksX6_sort_0 6 rfl rfl)
theorem dX6_sort_7 : decode cX6_sort 7 = .ok (.aload_n 0, 1) := dk_42 (dk_at dksX6_sort_0 7 rfl rfl)
theorem dX6_sort_8 : decode cX6_sort 8 = .ok (.getfield 12, 3) := dk_180 0 12 (dk_at dksX6_sort_0 8 rfl rfl)
theorem dX6_sort_11 : decode cX6_sort 11 = .ok (.invokevirtual 122, 3) := dk_182 0 122 (dk_at dksX6_sort_0 11 rfl rfl)
theorem dX6_sort_14 : decode cX6_sort 14 = .ok (.istore_n 2, 1) := dk_61 (dk_at dksX6_sort_0 14 rfl rfl)
theorem dX6_sort_15 : decode cX6_sort 15 = .ok (.aload_n 0, 1) := dk_42 (dk_at dksX6_sort_0 15 rfl rfl)
theorem dX6_sort_16 : decode cX6_sort 16 = .ok (.iload_n 2, 1) := dk_28 (dk_at dksX6_sort_0 16 rfl rfl)
theorem dX6_sort_17 : decode cX6_sort 17 = .ok (.iconst 4, 1) := dk_7 (dk_at dksX6_sort_0 17 rfl rfl)
theorem dX6_sort_18 : decode cX6_sort 18 = .ok (.invokevirtual 125, 3) := dk_182 0 125 (dk_at dksX6_sort_0 18 rfl rfl)
theorem dX6_sort_21 : decode cX6_sort 21 = .ok (.aload_n 0, 1) := dk_42 (dk_at dksX6_sort_0 21 rfl rfl)
theorem dX6_sort_22 : decode cX6_sort 22 = .ok (.getfield 12, 3) := dk_180 0 12 (dk_at dksX6_sort_1 0 rfl rfl)
theorem dX6_sort_25 : decode cX6_sort 25 = .ok (.getfield 127, 3) := dk_180 0 127 (dk_at dksX6_sort_1 3 rfl rfl)
theorem dX6_sort_28 : decode cX6_sort 28 = .ok (.iload_n 2, 1) := dk_28 (dk_at dksX6_sort_1 6 rfl rfl)
theorem dX6_sort_29 : decode cX6_sort 29 = .ok (.aload_n 0, 1) := dk_42 (dk_at dksX6_sort_1 7 rfl rfl)
theorem dX6_sort_30 : decode cX6_sort 30 = .ok (.iconst 0, 1) := dk_3 (dk_at dksX6_sort_1 8 rfl rfl)
theorem dX6_sort_31 : decode cX6_sort 31 = .ok (.bipush 9, 2) := dk_16 9 (dk_at dksX6_sort_1 9 rfl rfl)
theorem dX6_sort_33 : decode cX6_sort 33 = .ok (.invokevirtual 71, 3) := dk_182 0 71 (dk_at dksX6_sort_1 11 rfl rfl)
theorem dX6_sort_36 : decode cX6_sort 36 = .ok (.iastore, 1) := dk_79 (dk_at dksX6_sort_1 14 rfl rfl)
theorem dX6_sort_37 : decode cX6_sort 37 = .ok (.aload_n 0, 1) := dk_42 (dk_at dksX6_sort_1 15 rfl rfl)
theorem dX6_sort_38 : decode cX6_sort 38 = .ok (.getfield 12, 3) := dk_180 0 12 (dk_at dksX6_sort_1 16 rfl rfl)
theorem dX6_sort_41 : decode cX6_sort 41 = .ok (.getfield 131, 3) := dk_180 0 131 (dk_at dksX6_sort_1 19 rfl rfl)
theorem dX6_sort_44 : decode cX6_sort 44 = .ok (.iload_n 2, 1) := dk_28 (dk_at dksX6_sort_1 22 rfl rfl)
theorem dX6_sort_45 : decode cX6_sort 45 = .ok (.aload_n 0, 1) := dk_42 (dk_at dksX6_sort_1 23 rfl rfl)
theorem dX6_sort_46 : decode cX6_sort 46 = .ok (.iconst 0, 1) := dk_3 (dk_at dksX6_sort_2 0 rfl rfl)
theorem dX6_sort_47 : decode cX6_sort 47 = .ok (.bipush 9, 2) := dk_16 9 (dk_at dksX6_sort_2 1 rfl rfl)
theorem dX6_sort_49 : decode cX6_sort 49 = .ok (.invokevirtual 95, 3) := dk_182 0 95 (dk_at dksX6_sort_2 3 rfl rfl)
theorem dX6_sort_52 : decode cX6_sort 52 = .ok (.iastore, 1) := dk_79 (dk_at dksX6_sort_2 6 rfl rfl)
theorem dX6_sort_53 : decode cX6_sort 53 = .ok (.aload_n 0, 1) := dk_42 (dk_at dksX6_sort_2 7 rfl rfl)
theorem dX6_sort_54 : decode cX6_sort 54 = .ok (.iconst 3, 1) := dk_6 (dk_at dksX6_sort_2 8 rfl rfl)
theorem dX6_sort_55 : decode cX6_sort 55 = .ok (.invokevirtual 67, 3) := dk_182 0 67 (dk_at dksX6_sort_2 9 rfl rfl)
theorem dX6_sort_58 : decode cX6_sort 58 = .ok (.aload_n 0, 1) := dk_42 (dk_at dksX6_sort_2 12 rfl rfl)
theorem dX6_sort_59 : decode cX6_sort 59 = .ok (.getfield 12, 3) := dk_180 0 12 (dk_at dksX6_sort_2 13 rfl rfl)
theorem dX6_sort_62 : decode cX6_sort 62 = .ok (.iload_n 2, 1) := dk_28 (dk_at dksX6_sort_2 16 rfl rfl)
theorem dX6_sort_63 : decode cX6_sort 63 = .ok (.aload_n 0, 1) := dk_42 (dk_at dksX6_sort_2 17 rfl rfl)
theorem dX6_sort_64 : decode cX6_sort 64 = .ok (.iconst 4, 1) := dk_7 (dk_at dksX6_sort_2 18 rfl rfl)
theorem dX6_sort_65 : decode cX6_sort 65 = .ok (.invokevirtual 110, 3) := dk_182 0 110 (dk_at dksX6_sort_2 19 rfl rfl)
theorem dX6_sort_68 : decode cX6_sort 68 = .ok (.invokevirtual 134, 3) := dk_182 0 134 (dk_at dksX6_sort_3 0 rfl rfl)
theorem dX6_sort_71 : decode cX6_sort 71 = .ok (.aload_n 0, 1) := dk_42 (dk_at dksX6_sort_3 3 rfl rfl)
theorem dX6_sort_72 : decode cX6_sort 72 = .ok (.getfield 12, 3) := dk_180 0 12 (dk_at dksX6_sort_3 4 rfl rfl)
theorem dX6_sort_75 : decode cX6_sort 75 = .ok (.getfield 138, 3) := dk_180 0 138 (dk_at dksX6_sort_3 7 rfl rfl)
theorem dX6_sort_78 : decode cX6_sort 78 = .ok (.iload_n 1, 1) := dk_27 (dk_at dksX6_sort_3 10 rfl rfl)
theorem dX6_sort_79 : decode cX6_sort 79 = .ok (.iconst 1, 1) := dk_4 (dk_at dksX6_sort_3 11 rfl rfl)
theorem dX6_sort_80 : decode cX6_sort 80 = .ok (.iadd, 1) := dk_96 (dk_at dksX6_sort_3 12 rfl rfl)
theorem dX6_sort_81 : decode cX6_sort 81 = .ok (.iload_n 2, 1) := dk_28 (dk_at dksX6_sort_3 13 rfl rfl)
theorem dX6_sort_82 : decode cX6_sort 82 = .ok (.invokestatic 141, 3) := dk_184 0 141 (dk_at dksX6_sort_3 14 rfl rfl)
theorem dX6_sort_85 : decode cX6_sort 85 = .ok (.invokeinterface 145 2, 5) := by decide +kernel
theorem dX6_sort_90 : decode cX6_sort 90 = .ok (.pop, 1) := dk_87 (dk_at dksX6_sort_3 22 rfl rfl)
theorem dX6_sort_91 : decode cX6_sort 91 = .ok (.aload_n 0, 1) := dk_42 (dk_at dksX6_sort_3 23 rfl rfl)
theorem dX6_sort_92 : decode cX6_sort 92 = .ok (.iconst 4, 1) := dk_7 (dk_at dksX6_sort_4 0 rfl rfl)
theorem dX6_sort_93 : decode cX6_sort 93 = .ok (.invokevirtual 67, 3) := dk_182 0 67 (dk_at dksX6_sort_4 1 rfl rfl)
theorem dX6_sort_96 : decode cX6_sort 96 = .ok (.return_, 1) := dk_177 (dk_at dksX6_sort_4 4 rfl rfl)
abbrev cX6_begin : ByteArray := prog_10_method_9_code
def yX6_begin : MethodName := ⟨RX6, "begin", "(II)V"⟩
def dkwX6_begin_0 : List UInt8 := [42, 27, 28, 162, 0, 7, 4, 167, 0, 4, 3, 6, 182, 0, 60, 42, 182, 0, 64, 177]
abbrev dktX6_begin_0 : List UInt8 := dkwX6_begin_0 ++ []
theorem dksX6_begin_0 : cX6_begin.data.toList.drop 0 = dktX6_begin_0 := by decide +kernel
theorem dX6_begin_0 : decode cX6_begin 0 = .ok (.aload_n 0, 1) := dk_42 (dk_at dksX6_begin_0 0 rfl rfl)
theorem dX6_begin_1 : decode cX6_begin 1 = .ok (.iload_n 1, 1) := dk_27 (dk_at dksX6_begin_0 1 rfl rfl)
theorem dX6_begin_2 : decode cX6_begin 2 = .ok (.iload_n 2, 1) := dk_28 (dk_at dksX6_begin_0 2 rfl rfl)
theorem dX6_begin_3 : decode cX6_begin 3 = .ok (.if_icmp .ge 7, 3) := dk_162 0 7 (dk_at dksX6_begin_0 3 rfl rfl)
theorem dX6_begin_6 : decode cX6_begin 6 = .ok (.iconst 1, 1) := dk_4 (dk_at dksX6_begin_0 6 rfl rfl)
theorem dX6_begin_7 : decode cX6_begin 7 = .ok (.goto 4, 3) := dk_167 0 4 (dk_at dksX6_begin_0 7 rfl rfl)
theorem dX6_begin_10 : decode cX6_begin 10 = .ok (.iconst 0, 1) := dk_3 (dk_at dksX6_begin_0 10 rfl rfl)
theorem dX6_begin_11 : decode cX6_begin 11 = .ok (.iconst 3, 1) := dk_6 (dk_at dksX6_begin_0 11 rfl rfl)
theorem dX6_begin_12 : decode cX6_begin 12 = .ok (.invokevirtual 60, 3) := dk_182 0 60 (dk_at dksX6_begin_0 12 rfl rfl)
theorem dX6_begin_15 : decode cX6_begin 15 = .ok (.aload_n 0, 1) := dk_42 (dk_at dksX6_begin_0 15 rfl rfl)
theorem dX6_begin_16 : decode cX6_begin 16 = .ok (.invokevirtual 64, 3) := dk_182 0 64 (dk_at dksX6_begin_0 16 rfl rfl)
theorem dX6_begin_19 : decode cX6_begin 19 = .ok (.return_, 1) := dk_177 (dk_at dksX6_begin_0 19 rfl rfl)
abbrev cX6_word : ByteArray := prog_10_method_14_code
def yX6_word : MethodName := ⟨RX6, "word", "(I)[I"⟩
def dkwX6_word_3 : List UInt8 := [25, 4, 3, 29, 184, 0, 153, 25, 4, 176]
abbrev dktX6_word_3 : List UInt8 := dkwX6_word_3 ++ []
def dkwX6_word_2 : List UInt8 := [18, 151, 182, 0, 103, 79, 132, 3, 1, 42, 182, 0, 64, 167, 255, 224, 29, 188, 10, 58, 4, 44, 3]
abbrev dktX6_word_2 : List UInt8 := dkwX6_word_2 ++ dktX6_word_3
def dkwX6_word_1 : List UInt8 := [182, 0, 60, 3, 62, 29, 27, 162, 0, 33, 42, 18, 151, 182, 0, 103, 18, 29, 159, 0, 22, 44, 29, 42]
abbrev dktX6_word_1 : List UInt8 := dkwX6_word_1 ++ dktX6_word_2
def dkwX6_word_0 : List UInt8 := [27, 188, 10, 77, 42, 42, 18, 151, 182, 0, 103, 18, 29, 159, 0, 7, 4, 167, 0, 4, 3, 4]
abbrev dktX6_word_0 : List UInt8 := dkwX6_word_0 ++ dktX6_word_1
theorem dksX6_word_0 : cX6_word.data.toList.drop 0 = dktX6_word_0 := by decide +kernel
theorem dksX6_word_1 : cX6_word.data.toList.drop 22 = dktX6_word_1 := dk_seg dksX6_word_0 22 rfl rfl
theorem dksX6_word_2 : cX6_word.data.toList.drop 46 = dktX6_word_2 := dk_seg dksX6_word_1 24 rfl rfl
theorem dksX6_word_3 : cX6_word.data.toList.drop 69 = dktX6_word_3 := dk_seg dksX6_word_2 23 rfl rfl
theorem dX6_word_0 : decode cX6_word 0 = .ok (.iload_n 1, 1) := dk_27 (dk_at dksX6_word_0 0 rfl rfl)
theorem dX6_word_1 : decode cX6_word 1 = .ok (.newarray .int, 2) := dk_188_10 (dk_at dksX6_word_0 1 rfl rfl)
theorem dX6_word_3 : decode cX6_word 3 = .ok (.astore_n 2, 1) := dk_77 (dk_at dksX6_word_0 3 rfl rfl)
theorem dX6_word_4 : decode cX6_word 4 = .ok (.aload_n 0, 1) := dk_42 (dk_at dksX6_word_0 4 rfl rfl)
theorem dX6_word_5 : decode cX6_word 5 = .ok (.aload_n 0, 1) := dk_42 (dk_at dksX6_word_0 5 rfl rfl)
theorem dX6_word_6 : decode cX6_word 6 = .ok (.ldc 151, 2) := dk_18 151 (dk_at dksX6_word_0 6 rfl rfl)
theorem dX6_word_8 : decode cX6_word 8 = .ok (.invokevirtual 103, 3) := dk_182 0 103 (dk_at dksX6_word_0 8 rfl rfl)
theorem dX6_word_11 : decode cX6_word 11 = .ok (.ldc 29, 2) := dk_18 29 (dk_at dksX6_word_0 11 rfl rfl)
theorem dX6_word_13 : decode cX6_word 13 = .ok (.if_icmp .eq 7, 3) := dk_159 0 7 (dk_at dksX6_word_0 13 rfl rfl)
theorem dX6_word_16 : decode cX6_word 16 = .ok (.iconst 1, 1) := dk_4 (dk_at dksX6_word_0 16 rfl rfl)
theorem dX6_word_17 : decode cX6_word 17 = .ok (.goto 4, 3) := dk_167 0 4 (dk_at dksX6_word_0 17 rfl rfl)
theorem dX6_word_20 : decode cX6_word 20 = .ok (.iconst 0, 1) := dk_3 (dk_at dksX6_word_0 20 rfl rfl)
theorem dX6_word_21 : decode cX6_word 21 = .ok (.iconst 1, 1) := dk_4 (dk_at dksX6_word_0 21 rfl rfl)
theorem dX6_word_22 : decode cX6_word 22 = .ok (.invokevirtual 60, 3) := dk_182 0 60 (dk_at dksX6_word_1 0 rfl rfl)
theorem dX6_word_25 : decode cX6_word 25 = .ok (.iconst 0, 1) := dk_3 (dk_at dksX6_word_1 3 rfl rfl)
theorem dX6_word_26 : decode cX6_word 26 = .ok (.istore_n 3, 1) := dk_62 (dk_at dksX6_word_1 4 rfl rfl)
theorem dX6_word_27 : decode cX6_word 27 = .ok (.iload_n 3, 1) := dk_29 (dk_at dksX6_word_1 5 rfl rfl)
theorem dX6_word_28 : decode cX6_word 28 = .ok (.iload_n 1, 1) := dk_27 (dk_at dksX6_word_1 6 rfl rfl)
theorem dX6_word_29 : decode cX6_word 29 = .ok (.if_icmp .ge 33, 3) := dk_162 0 33 (dk_at dksX6_word_1 7 rfl rfl)
theorem dX6_word_32 : decode cX6_word 32 = .ok (.aload_n 0, 1) := dk_42 (dk_at dksX6_word_1 10 rfl rfl)
theorem dX6_word_33 : decode cX6_word 33 = .ok (.ldc 151, 2) := dk_18 151 (dk_at dksX6_word_1 11 rfl rfl)
theorem dX6_word_35 : decode cX6_word 35 = .ok (.invokevirtual 103, 3) := dk_182 0 103 (dk_at dksX6_word_1 13 rfl rfl)
theorem dX6_word_38 : decode cX6_word 38 = .ok (.ldc 29, 2) := dk_18 29 (dk_at dksX6_word_1 16 rfl rfl)
theorem dX6_word_40 : decode cX6_word 40 = .ok (.if_icmp .eq 22, 3) := dk_159 0 22 (dk_at dksX6_word_1 18 rfl rfl)
theorem dX6_word_43 : decode cX6_word 43 = .ok (.aload_n 2, 1) := dk_44 (dk_at dksX6_word_1 21 rfl rfl)
theorem dX6_word_44 : decode cX6_word 44 = .ok (.iload_n 3, 1) := dk_29 (dk_at dksX6_word_1 22 rfl rfl)
theorem dX6_word_45 : decode cX6_word 45 = .ok (.aload_n 0, 1) := dk_42 (dk_at dksX6_word_1 23 rfl rfl)
theorem dX6_word_46 : decode cX6_word 46 = .ok (.ldc 151, 2) := dk_18 151 (dk_at dksX6_word_2 0 rfl rfl)
theorem dX6_word_48 : decode cX6_word 48 = .ok (.invokevirtual 103, 3) := dk_182 0 103 (dk_at dksX6_word_2 2 rfl rfl)
theorem dX6_word_51 : decode cX6_word 51 = .ok (.iastore, 1) := dk_79 (dk_at dksX6_word_2 5 rfl rfl)
theorem dX6_word_52 : decode cX6_word 52 = .ok (.iinc 3 1, 3) := dk_132 3 1 (dk_at dksX6_word_2 6 rfl rfl)
theorem dX6_word_55 : decode cX6_word 55 = .ok (.aload_n 0, 1) := dk_42 (dk_at dksX6_word_2 9 rfl rfl)
theorem dX6_word_56 : decode cX6_word 56 = .ok (.invokevirtual 64, 3) := dk_182 0 64 (dk_at dksX6_word_2 10 rfl rfl)
theorem dX6_word_59 : decode cX6_word 59 = .ok (.goto (-32), 3) := dk_167 255 224 (dk_at dksX6_word_2 13 rfl rfl)
theorem dX6_word_62 : decode cX6_word 62 = .ok (.iload_n 3, 1) := dk_29 (dk_at dksX6_word_2 16 rfl rfl)
theorem dX6_word_63 : decode cX6_word 63 = .ok (.newarray .int, 2) := dk_188_10 (dk_at dksX6_word_2 17 rfl rfl)
theorem dX6_word_65 : decode cX6_word 65 = .ok (.astore 4, 2) := dk_58 4 (dk_at dksX6_word_2 19 rfl rfl)
theorem dX6_word_67 : decode cX6_word 67 = .ok (.aload_n 2, 1) := dk_44 (dk_at dksX6_word_2 21 rfl rfl)
theorem dX6_word_68 : decode cX6_word 68 = .ok (.iconst 0, 1) := dk_3 (dk_at dksX6_word_2 22 rfl rfl)
theorem dX6_word_69 : decode cX6_word 69 = .ok (.aload 4, 2) := dk_25 4 (dk_at dksX6_word_3 0 rfl rfl)
theorem dX6_word_71 : decode cX6_word 71 = .ok (.iconst 0, 1) := dk_3 (dk_at dksX6_word_3 2 rfl rfl)
theorem dX6_word_72 : decode cX6_word 72 = .ok (.iload_n 3, 1) := dk_29 (dk_at dksX6_word_3 3 rfl rfl)
theorem dX6_word_73 : decode cX6_word 73 = .ok (.invokestatic 153, 3) := dk_184 0 153 (dk_at dksX6_word_3 4 rfl rfl)
theorem dX6_word_76 : decode cX6_word 76 = .ok (.aload 4, 2) := dk_25 4 (dk_at dksX6_word_3 7 rfl rfl)
theorem dX6_word_78 : decode cX6_word 78 = .ok (.areturn, 1) := dk_176 (dk_at dksX6_word_3 9 rfl rfl)
theorem q79 : (Jvm.Cond.initialized "InflatedRows$Reader") ∈ lw_all := lw_g (lw_at lw_m1 17 rfl) rfl
theorem q145 : (Jvm.Cond.fieldLink "InflatedRows$Reader" (92 : Nat) "InflatedRows$Book" "m" "I") ∈ lw_all := lw_g (lw_at lw_m1 83 rfl) rfl
theorem q148 : (Jvm.Cond.fieldLink "InflatedRows$Reader" (98 : Nat) "InflatedRows$Book" "k" "I") ∈ lw_all := lw_g (lw_at lw_m1 86 rfl) rfl
theorem q151 : (Jvm.Cond.fieldLink "InflatedRows$Reader" (138 : Nat) "InflatedRows$Book" "sorts" "Ljava/util/List;") ∈ lw_all := lw_g (lw_at lw_m1 89 rfl) rfl
theorem q155 : (Jvm.Cond.fieldLink "InflatedRows$Reader" (127 : Nat) "InflatedRows$Book" "p" "[I") ∈ lw_all := lw_g (lw_at lw_m1 93 rfl) rfl
theorem q159 : (Jvm.Cond.fieldLink "InflatedRows$Reader" (131 : Nat) "InflatedRows$Book" "q" "[I") ∈ lw_all := lw_g (lw_at lw_m1 97 rfl) rfl
theorem q430 : (Jvm.Cond.instantiable "InflatedRows$Reader" (7 : Nat)) ∈ lw_all := lw_g (lw_at lw_m2 128 rfl) rfl
theorem q432 : (Jvm.Cond.instanceMethod ({ cls := "InflatedRows$Reader", name := "<init>", desc := "([BI)V" } : Jvm.MethodName)) ∈ lw_all := lw_g (lw_at lw_m2 130 rfl) rfl
theorem q433 : (Jvm.Cond.code ({ cls := "InflatedRows$Reader", name := "<init>", desc := "([BI)V" } : Jvm.MethodName) prog_10_method_1_code (3 : Nat) (Option.none : Option Jvm.ClassFile.FieldType)) ∈ lw_all := lw_g (lw_at lw_m2 131 rfl) rfl
theorem q434 : (Jvm.Cond.methodLink "InflatedRows$Reader" (3 : Nat) ({ cls := "java/lang/Object", name := "<init>", desc := "()V" } : Jvm.MethodName)) ∈ lw_all := lw_g (lw_at lw_m2 132 rfl) rfl
theorem q435 : (Jvm.Cond.classLink "InflatedRows$Reader" (9 : Nat) "InflatedRows$Book") ∈ lw_all := lw_g (lw_at lw_m2 133 rfl) rfl
theorem q436 : (Jvm.Cond.methodLink "InflatedRows$Reader" (11 : Nat) ({ cls := "InflatedRows$Book", name := "<init>", desc := "()V" } : Jvm.MethodName)) ∈ lw_all := lw_g (lw_at lw_m2 134 rfl) rfl
theorem q437 : (Jvm.Cond.fieldLink "InflatedRows$Reader" (18 : Nat) "InflatedRows$Reader" "text" "[B") ∈ lw_all := lw_g (lw_at lw_m2 135 rfl) rfl
theorem q438 : (Jvm.Cond.fieldLink "InflatedRows$Reader" (22 : Nat) "InflatedRows$Reader" "size" "I") ∈ lw_all := lw_g (lw_at lw_m2 136 rfl) rfl
theorem q439 : (Jvm.Cond.fieldLink "InflatedRows$Reader" (26 : Nat) "InflatedRows$Reader" "at" "I") ∈ lw_all := lw_g (lw_at lw_m2 137 rfl) rfl
theorem q440 : (Jvm.Cond.fieldLink "InflatedRows$Reader" (40 : Nat) "InflatedRows$Reader" "token" "I") ∈ lw_all := lw_g (lw_at lw_m2 138 rfl) rfl
theorem q441 : (Jvm.Cond.fieldLink "InflatedRows$Reader" (30 : Nat) "InflatedRows$Reader" "from" "I") ∈ lw_all := lw_g (lw_at lw_m2 139 rfl) rfl
theorem q442 : (Jvm.Cond.fieldLink "InflatedRows$Reader" (37 : Nat) "InflatedRows$Reader" "value" "I") ∈ lw_all := lw_g (lw_at lw_m2 140 rfl) rfl
theorem q443 : (Jvm.Cond.fieldLink "InflatedRows$Reader" (12 : Nat) "InflatedRows$Reader" "made" "LInflatedRows$Book;") ∈ lw_all := lw_g (lw_at lw_m2 141 rfl) rfl
theorem q445 : (Jvm.Cond.laysFinal "InflatedRows$Reader" "InflatedRows$Reader" "text" "[B") ∈ lw_all := lw_g (lw_at lw_m2 143 rfl) rfl
theorem q446 : (Jvm.Cond.soleField "InflatedRows$Reader" "text") ∈ lw_all := lw_g (lw_at lw_m2 144 rfl) rfl
theorem q447 : (Jvm.Cond.laysFinal "InflatedRows$Reader" "InflatedRows$Reader" "size" "I") ∈ lw_all := lw_g (lw_at lw_m2 145 rfl) rfl
theorem q448 : (Jvm.Cond.soleField "InflatedRows$Reader" "size") ∈ lw_all := lw_g (lw_at lw_m2 146 rfl) rfl
theorem q449 : (Jvm.Cond.lays "InflatedRows$Reader" "InflatedRows$Reader" "at" "I") ∈ lw_all := lw_g (lw_at lw_m2 147 rfl) rfl
theorem q450 : (Jvm.Cond.soleField "InflatedRows$Reader" "at") ∈ lw_all := lw_g (lw_at lw_m2 148 rfl) rfl
theorem q451 : (Jvm.Cond.lays "InflatedRows$Reader" "InflatedRows$Reader" "token" "I") ∈ lw_all := lw_g (lw_at lw_m2 149 rfl) rfl
theorem q452 : (Jvm.Cond.soleField "InflatedRows$Reader" "token") ∈ lw_all := lw_g (lw_at lw_m2 150 rfl) rfl
theorem q453 : (Jvm.Cond.lays "InflatedRows$Reader" "InflatedRows$Reader" "from" "I") ∈ lw_all := lw_g (lw_at lw_m2 151 rfl) rfl
theorem q454 : (Jvm.Cond.soleField "InflatedRows$Reader" "from") ∈ lw_all := lw_g (lw_at lw_m2 152 rfl) rfl
theorem q455 : (Jvm.Cond.lays "InflatedRows$Reader" "InflatedRows$Reader" "value" "I") ∈ lw_all := lw_g (lw_at lw_m2 153 rfl) rfl
theorem q456 : (Jvm.Cond.soleField "InflatedRows$Reader" "value") ∈ lw_all := lw_g (lw_at lw_m2 154 rfl) rfl
theorem q457 : (Jvm.Cond.laysFinal "InflatedRows$Reader" "InflatedRows$Reader" "made" "LInflatedRows$Book;") ∈ lw_all := lw_g (lw_at lw_m2 155 rfl) rfl
theorem q458 : (Jvm.Cond.soleField "InflatedRows$Reader" "made") ∈ lw_all := lw_g (lw_at lw_m2 156 rfl) rfl
theorem q459 : (Jvm.Cond.superclass "InflatedRows$Reader" "java/lang/Object") ∈ lw_all := lw_g (lw_at lw_m2 157 rfl) rfl
theorem q461 : (Jvm.Cond.instanceMethod ({ cls := "InflatedRows$Reader", name := "all", desc := "()V" } : Jvm.MethodName)) ∈ lw_all := lw_g (lw_at lw_m2 159 rfl) rfl
theorem q462 : (Jvm.Cond.selects "InflatedRows$Reader" ({ cls := "InflatedRows$Reader", name := "all", desc := "()V" } : Jvm.MethodName) ({ cls := "InflatedRows$Reader", name := "all", desc := "()V" } : Jvm.MethodName)) ∈ lw_all := lw_g (lw_at lw_m2 160 rfl) rfl
theorem q463 : (Jvm.Cond.code ({ cls := "InflatedRows$Reader", name := "all", desc := "()V" } : Jvm.MethodName) prog_10_method_12_code (1 : Nat) (Option.none : Option Jvm.ClassFile.FieldType)) ∈ lw_all := lw_g (lw_at lw_m2 161 rfl) rfl
theorem q464 : (Jvm.Cond.methodLink "InflatedRows$Reader" (64 : Nat) ({ cls := "InflatedRows$Reader", name := "next", desc := "()V" } : Jvm.MethodName)) ∈ lw_all := lw_g (lw_at lw_m2 162 rfl) rfl
theorem q465 : (Jvm.Cond.privateMethod ({ cls := "InflatedRows$Reader", name := "next", desc := "()V" } : Jvm.MethodName)) ∈ lw_tbl := lw_at lw_m2 163 rfl
theorem q466 : (Jvm.Cond.instanceMethod ({ cls := "InflatedRows$Reader", name := "next", desc := "()V" } : Jvm.MethodName)) ∈ lw_all := lw_g (lw_at lw_m2 164 rfl) rfl
theorem q467 : (Jvm.Cond.code ({ cls := "InflatedRows$Reader", name := "next", desc := "()V" } : Jvm.MethodName) prog_10_method_3_code (2 : Nat) (Option.none : Option Jvm.ClassFile.FieldType)) ∈ lw_all := lw_g (lw_at lw_m2 165 rfl) rfl
theorem q468 : (Jvm.Cond.methodLink "InflatedRows$Reader" (33 : Nat) ({ cls := "InflatedRows$Reader", name := "look", desc := "()I" } : Jvm.MethodName)) ∈ lw_all := lw_g (lw_at lw_m2 166 rfl) rfl
theorem q469 : (Jvm.Cond.privateMethod ({ cls := "InflatedRows$Reader", name := "look", desc := "()I" } : Jvm.MethodName)) ∈ lw_tbl := lw_at lw_m2 167 rfl
theorem q470 : (Jvm.Cond.instanceMethod ({ cls := "InflatedRows$Reader", name := "look", desc := "()I" } : Jvm.MethodName)) ∈ lw_all := lw_g (lw_at lw_m2 168 rfl) rfl
theorem q471 : (Jvm.Cond.code ({ cls := "InflatedRows$Reader", name := "look", desc := "()I" } : Jvm.MethodName) prog_10_method_2_code (1 : Nat) (Option.some Jvm.ClassFile.FieldType.int)) ∈ lw_all := lw_g (lw_at lw_m2 169 rfl) rfl
theorem q472 : (Jvm.Cond.constant "InflatedRows$Reader" (29 : Nat) (-1000000 : Int32)) ∈ lw_all := lw_g (lw_at lw_m2 170 rfl) rfl
theorem q473 : (Jvm.Cond.constantLong "InflatedRows$Reader" (43 : Nat) (48 : Int64)) ∈ lw_all := lw_g (lw_at lw_m2 171 rfl) rfl
theorem q474 : (Jvm.Cond.constantLong "InflatedRows$Reader" (45 : Nat) (57 : Int64)) ∈ lw_all := lw_g (lw_at lw_m2 172 rfl) rfl
theorem q475 : (Jvm.Cond.methodLinkNest "InflatedRows$Reader" (47 : Nat) ({ cls := "InflatedRows", name := "isIn", desc := "(JJJ)Z" } : Jvm.MethodName) "InflatedRows") ∈ lw_tbl := lw_at lw_m2 173 rfl
theorem q476 : (Jvm.Cond.constantLong "InflatedRows$Reader" (51 : Nat) (97 : Int64)) ∈ lw_all := lw_g (lw_at lw_m2 174 rfl) rfl
theorem q477 : (Jvm.Cond.constantLong "InflatedRows$Reader" (53 : Nat) (122 : Int64)) ∈ lw_all := lw_g (lw_at lw_m2 175 rfl) rfl
theorem q478 : (Jvm.Cond.methodLink "InflatedRows$Reader" (88 : Nat) ({ cls := "InflatedRows$Reader", name := "isLetter", desc := "(I)Z" } : Jvm.MethodName)) ∈ lw_all := lw_g (lw_at lw_m2 176 rfl) rfl
theorem q479 : (Jvm.Cond.privateMethod ({ cls := "InflatedRows$Reader", name := "isLetter", desc := "(I)Z" } : Jvm.MethodName)) ∈ lw_tbl := lw_at lw_m2 177 rfl
theorem q480 : (Jvm.Cond.instanceMethod ({ cls := "InflatedRows$Reader", name := "isLetter", desc := "(I)Z" } : Jvm.MethodName)) ∈ lw_all := lw_g (lw_at lw_m2 178 rfl) rfl
theorem q481 : (Jvm.Cond.code ({ cls := "InflatedRows$Reader", name := "isLetter", desc := "(I)Z" } : Jvm.MethodName) prog_10_method_5_code (2 : Nat) (Option.some Jvm.ClassFile.FieldType.boolean)) ∈ lw_all := lw_g (lw_at lw_m2 179 rfl) rfl
theorem q482 : (Jvm.Cond.methodLink "InflatedRows$Reader" (60 : Nat) ({ cls := "InflatedRows$Reader", name := "must", desc := "(ZI)V" } : Jvm.MethodName)) ∈ lw_all := lw_g (lw_at lw_m2 180 rfl) rfl
theorem q483 : (Jvm.Cond.privateMethod ({ cls := "InflatedRows$Reader", name := "must", desc := "(ZI)V" } : Jvm.MethodName)) ∈ lw_tbl := lw_at lw_m2 181 rfl
theorem q484 : (Jvm.Cond.instanceMethod ({ cls := "InflatedRows$Reader", name := "must", desc := "(ZI)V" } : Jvm.MethodName)) ∈ lw_all := lw_g (lw_at lw_m2 182 rfl) rfl
theorem q485 : (Jvm.Cond.code ({ cls := "InflatedRows$Reader", name := "must", desc := "(ZI)V" } : Jvm.MethodName) prog_10_method_4_code (3 : Nat) (Option.none : Option Jvm.ClassFile.FieldType)) ∈ lw_all := lw_g (lw_at lw_m2 183 rfl) rfl
theorem q486 : (Jvm.Cond.classLink "InflatedRows$Reader" (55 : Nat) "InflatedRows$Fault") ∈ lw_all := lw_g (lw_at lw_m2 184 rfl) rfl
theorem q495 : (Jvm.Cond.methodLink "InflatedRows$Reader" (57 : Nat) ({ cls := "InflatedRows$Fault", name := "<init>", desc := "(II)V" } : Jvm.MethodName)) ∈ lw_all := lw_g (lw_at lw_m2 193 rfl) rfl
theorem q509 : (Jvm.Cond.methodLink "InflatedRows$Reader" (71 : Nat) ({ cls := "InflatedRows$Reader", name := "figure", desc := "(II)I" } : Jvm.MethodName)) ∈ lw_all := lw_g (lw_at lw_m2 207 rfl) rfl
theorem q510 : (Jvm.Cond.privateMethod ({ cls := "InflatedRows$Reader", name := "figure", desc := "(II)I" } : Jvm.MethodName)) ∈ lw_tbl := lw_at lw_m2 208 rfl
theorem q511 : (Jvm.Cond.instanceMethod ({ cls := "InflatedRows$Reader", name := "figure", desc := "(II)I" } : Jvm.MethodName)) ∈ lw_all := lw_g (lw_at lw_m2 209 rfl) rfl
theorem q512 : (Jvm.Cond.code ({ cls := "InflatedRows$Reader", name := "figure", desc := "(II)I" } : Jvm.MethodName) prog_10_method_6_code (4 : Nat) (Option.some Jvm.ClassFile.FieldType.int)) ∈ lw_all := lw_g (lw_at lw_m2 210 rfl) rfl
theorem q513 : (Jvm.Cond.methodLink "InflatedRows$Reader" (95 : Nat) ({ cls := "InflatedRows$Reader", name := "more", desc := "(II)I" } : Jvm.MethodName)) ∈ lw_all := lw_g (lw_at lw_m2 211 rfl) rfl
theorem q514 : (Jvm.Cond.privateMethod ({ cls := "InflatedRows$Reader", name := "more", desc := "(II)I" } : Jvm.MethodName)) ∈ lw_tbl := lw_at lw_m2 212 rfl
theorem q515 : (Jvm.Cond.instanceMethod ({ cls := "InflatedRows$Reader", name := "more", desc := "(II)I" } : Jvm.MethodName)) ∈ lw_all := lw_g (lw_at lw_m2 213 rfl) rfl
theorem q516 : (Jvm.Cond.code ({ cls := "InflatedRows$Reader", name := "more", desc := "(II)I" } : Jvm.MethodName) prog_10_method_7_code (3 : Nat) (Option.some Jvm.ClassFile.FieldType.int)) ∈ lw_all := lw_g (lw_at lw_m2 214 rfl) rfl
theorem q517 : (Jvm.Cond.methodLink "InflatedRows$Reader" (67 : Nat) ({ cls := "InflatedRows$Reader", name := "sign", desc := "(I)V" } : Jvm.MethodName)) ∈ lw_all := lw_g (lw_at lw_m2 215 rfl) rfl
theorem q518 : (Jvm.Cond.privateMethod ({ cls := "InflatedRows$Reader", name := "sign", desc := "(I)V" } : Jvm.MethodName)) ∈ lw_tbl := lw_at lw_m2 216 rfl
theorem q519 : (Jvm.Cond.instanceMethod ({ cls := "InflatedRows$Reader", name := "sign", desc := "(I)V" } : Jvm.MethodName)) ∈ lw_all := lw_g (lw_at lw_m2 217 rfl) rfl
theorem q520 : (Jvm.Cond.code ({ cls := "InflatedRows$Reader", name := "sign", desc := "(I)V" } : Jvm.MethodName) prog_10_method_8_code (2 : Nat) (Option.none : Option Jvm.ClassFile.FieldType)) ∈ lw_all := lw_g (lw_at lw_m2 218 rfl) rfl
theorem q521 : (Jvm.Cond.stringRef "InflatedRows$Reader" (101 : Nat) "pmlfs") ∈ lw_tbl := lw_at lw_m2 219 rfl
theorem q522 : (Jvm.Cond.methodLink "InflatedRows$Reader" (103 : Nat) ({ cls := "InflatedRows$Reader", name := "sortOf", desc := "(Ljava/lang/String;)I" } : Jvm.MethodName)) ∈ lw_all := lw_g (lw_at lw_m2 220 rfl) rfl
theorem q523 : (Jvm.Cond.privateMethod ({ cls := "InflatedRows$Reader", name := "sortOf", desc := "(Ljava/lang/String;)I" } : Jvm.MethodName)) ∈ lw_tbl := lw_at lw_m2 221 rfl
theorem q524 : (Jvm.Cond.instanceMethod ({ cls := "InflatedRows$Reader", name := "sortOf", desc := "(Ljava/lang/String;)I" } : Jvm.MethodName)) ∈ lw_all := lw_g (lw_at lw_m2 222 rfl) rfl
theorem q525 : (Jvm.Cond.code ({ cls := "InflatedRows$Reader", name := "sortOf", desc := "(Ljava/lang/String;)I" } : Jvm.MethodName) prog_10_method_11_code (2 : Nat) (Option.some Jvm.ClassFile.FieldType.int)) ∈ lw_all := lw_g (lw_at lw_m2 223 rfl) rfl
theorem q526 : (Jvm.Cond.methodLink "InflatedRows$Reader" (84 : Nat) ({ cls := "InflatedRows$Reader", name := "sortIn", desc := "(Ljava/lang/String;II)I" } : Jvm.MethodName)) ∈ lw_all := lw_g (lw_at lw_m2 224 rfl) rfl
theorem q527 : (Jvm.Cond.static ({ cls := "InflatedRows$Reader", name := "sortIn", desc := "(Ljava/lang/String;II)I" } : Jvm.MethodName)) ∈ lw_all := lw_g (lw_at lw_m2 225 rfl) rfl
theorem q528 : (Jvm.Cond.code ({ cls := "InflatedRows$Reader", name := "sortIn", desc := "(Ljava/lang/String;II)I" } : Jvm.MethodName) prog_10_method_10_code (4 : Nat) (Option.some Jvm.ClassFile.FieldType.int)) ∈ lw_all := lw_g (lw_at lw_m2 226 rfl) rfl
theorem q529 : (Jvm.Cond.methodLink "InflatedRows$Reader" (75 : Nat) ({ cls := "java/lang/String", name := "length", desc := "()I" } : Jvm.MethodName)) ∈ lw_all := lw_g (lw_at lw_m2 227 rfl) rfl
theorem q539 : (Jvm.Cond.methodLink "InflatedRows$Reader" (80 : Nat) ({ cls := "java/lang/String", name := "charAt", desc := "(I)C" } : Jvm.MethodName)) ∈ lw_all := lw_g (lw_at lw_m2 237 rfl) rfl
theorem q577 : (Jvm.Cond.methodLink "InflatedRows$Reader" (107 : Nat) ({ cls := "InflatedRows$Reader", name := "sort", desc := "()V" } : Jvm.MethodName)) ∈ lw_all := lw_g (lw_at lw_m3 35 rfl) rfl
theorem q578 : (Jvm.Cond.privateMethod ({ cls := "InflatedRows$Reader", name := "sort", desc := "()V" } : Jvm.MethodName)) ∈ lw_tbl := lw_at lw_m3 36 rfl
theorem q579 : (Jvm.Cond.instanceMethod ({ cls := "InflatedRows$Reader", name := "sort", desc := "()V" } : Jvm.MethodName)) ∈ lw_all := lw_g (lw_at lw_m3 37 rfl) rfl
theorem q580 : (Jvm.Cond.code ({ cls := "InflatedRows$Reader", name := "sort", desc := "()V" } : Jvm.MethodName) prog_10_method_13_code (3 : Nat) (Option.none : Option Jvm.ClassFile.FieldType)) ∈ lw_all := lw_g (lw_at lw_m3 38 rfl) rfl
theorem q581 : (Jvm.Cond.methodLink "InflatedRows$Reader" (122 : Nat) ({ cls := "InflatedRows$Book", name := "sorts", desc := "()I" } : Jvm.MethodName)) ∈ lw_all := lw_g (lw_at lw_m3 39 rfl) rfl
theorem q595 : (Jvm.Cond.methodLink "InflatedRows$Reader" (125 : Nat) ({ cls := "InflatedRows$Reader", name := "begin", desc := "(II)V" } : Jvm.MethodName)) ∈ lw_all := lw_g (lw_at lw_m3 53 rfl) rfl
theorem q596 : (Jvm.Cond.privateMethod ({ cls := "InflatedRows$Reader", name := "begin", desc := "(II)V" } : Jvm.MethodName)) ∈ lw_tbl := lw_at lw_m3 54 rfl
theorem q597 : (Jvm.Cond.instanceMethod ({ cls := "InflatedRows$Reader", name := "begin", desc := "(II)V" } : Jvm.MethodName)) ∈ lw_all := lw_g (lw_at lw_m3 55 rfl) rfl
theorem q598 : (Jvm.Cond.code ({ cls := "InflatedRows$Reader", name := "begin", desc := "(II)V" } : Jvm.MethodName) prog_10_method_9_code (3 : Nat) (Option.none : Option Jvm.ClassFile.FieldType)) ∈ lw_all := lw_g (lw_at lw_m3 56 rfl) rfl
theorem q599 : (Jvm.Cond.methodLink "InflatedRows$Reader" (110 : Nat) ({ cls := "InflatedRows$Reader", name := "word", desc := "(I)[I" } : Jvm.MethodName)) ∈ lw_all := lw_g (lw_at lw_m3 57 rfl) rfl
theorem q600 : (Jvm.Cond.privateMethod ({ cls := "InflatedRows$Reader", name := "word", desc := "(I)[I" } : Jvm.MethodName)) ∈ lw_tbl := lw_at lw_m3 58 rfl
theorem q601 : (Jvm.Cond.instanceMethod ({ cls := "InflatedRows$Reader", name := "word", desc := "(I)[I" } : Jvm.MethodName)) ∈ lw_all := lw_g (lw_at lw_m3 59 rfl) rfl
theorem q602 : (Jvm.Cond.code ({ cls := "InflatedRows$Reader", name := "word", desc := "(I)[I" } : Jvm.MethodName) prog_10_method_14_code (5 : Nat) (Option.some (Jvm.ClassFile.FieldType.array Jvm.ClassFile.FieldType.int))) ∈ lw_all := lw_g (lw_at lw_m3 60 rfl) rfl
theorem q603 : (Jvm.Cond.stringRef "InflatedRows$Reader" (151 : Nat) "abcd") ∈ lw_tbl := lw_at lw_m3 61 rfl
theorem q604 : (Jvm.Cond.methodLink "InflatedRows$Reader" (153 : Nat) ({ cls := "java/lang/System", name := "arraycopy", desc := "(Ljava/lang/Object;ILjava/lang/Object;II)V" } : Jvm.MethodName)) ∈ lw_all := lw_g (lw_at lw_m3 62 rfl) rfl
theorem q605 : (Jvm.Cond.methodLink "InflatedRows$Reader" (134 : Nat) ({ cls := "InflatedRows$Book", name := "spell", desc := "(I[I)V" } : Jvm.MethodName)) ∈ lw_all := lw_g (lw_at lw_m3 63 rfl) rfl
theorem q610 : (Jvm.Cond.methodLinkNest "InflatedRows$Reader" (141 : Nat) ({ cls := "InflatedRows", name := "sortBy", desc := "(II)LInflatedRows$Sort;" } : Jvm.MethodName) "InflatedRows") ∈ lw_tbl := lw_at lw_m3 68 rfl
theorem q658 : (Jvm.Cond.interfaceEntry "InflatedRows$Reader" (145 : Nat)) ∈ lw_tbl := lw_at lw_m3 116 rfl
theorem q659 : (Jvm.Cond.methodLink "InflatedRows$Reader" (145 : Nat) ({ cls := "java/util/List", name := "add", desc := "(Ljava/lang/Object;)Z" } : Jvm.MethodName)) ∈ lw_all := lw_g (lw_at lw_m3 117 rfl) rfl
theorem q703 : (Jvm.Cond.selects "InflatedRows$Reader" ({ cls := "java/lang/Object", name := "getClass", desc := "()Ljava/lang/Class;" } : Jvm.MethodName) ({ cls := "java/lang/Object", name := "getClass", desc := "()Ljava/lang/Class;" } : Jvm.MethodName)) ∈ lw_all := lw_g (lw_at lw_m3 161 rfl) rfl
theorem q725 : (Jvm.Cond.methodLink "InflatedRows$Reader" (114 : Nat) ({ cls := "InflatedRows$Book", name := "begin", desc := "([I)V" } : Jvm.MethodName)) ∈ lw_all := lw_g (lw_at lw_m3 183 rfl) rfl
theorem q729 : (Jvm.Cond.methodLink "InflatedRows$Reader" (118 : Nat) ({ cls := "InflatedRows$Book", name := "isWhole", desc := "()Z" } : Jvm.MethodName)) ∈ lw_all := lw_g (lw_at lw_m3 187 rfl) rfl
theorem q1772 : (Jvm.Cond.castable "InflatedRows$Reader" "java/lang/Object") ∈ lw_tbl := lw_at lw_m8 30 rfl
theorem in_X6 : ∀ w ∈ wsX60, w ∈ lw_all := lw_in wsX60 [445, 447, 449, 451, 453, 455, 457] (by decide +kernel) (by decide +kernel)
/-! InflatedRows$Fault -/
set_option maxRecDepth 100000
def RX7 : String := "InflatedRows$Fault"
def TX7 : u_T := fun k => match k with
  | 0 => ("java/lang/Throwable", "cause", "Ljava/lang/Throwable;", false)
  | 1 => ("java/lang/Throwable", "stackTrace", "[Ljava/lang/StackTraceElement;", false)
  | 2 => ("java/lang/Throwable", "suppressedExceptions", "Ljava/util/List;", false)
  | 3 => ("java/lang/Throwable", "detailMessage", "Ljava/lang/String;", false)
  | 4 => ("java/lang/Throwable", "backtrace", "Ljava/lang/Object;", false)
  | 5 => ("java/lang/Throwable", "depth", "I", false)
  | 6 => ("InflatedRows$Fault", "kind", "I", true)
  | _ => ("InflatedRows$Fault", "place", "I", true)
def tyX7 : Nat → FieldType := fun k => match k with
  | 0 => .object "java/lang/Throwable"
  | 1 => .array (.object "java/lang/StackTraceElement")
  | 2 => .object "java/util/List"
  | 3 => .object "java/lang/String"
  | 4 => .object "java/lang/Object"
  | 5 => .int
  | 6 => .int
  | _ => .int
abbrev wsX70 : List Cond := u_ws RX7 TX7 8
theorem nmX7 : ∀ a, a < 8 → ∀ b, b < 8 → a ≠ b → (TX7 a).2.1 ≠ (TX7 b).2.1 := by decide +kernel
theorem tyX7_ok : ∀ k, k < 8 → parseFieldDescriptor (TX7 k).2.2.1 = some (tyX7 k) := by decide +kernel
abbrev cX7_init : ByteArray := prog_3_method_1_code
def yX7_init : MethodName := ⟨RX7, "<init>", "(II)V"⟩
def dkwX7_init_0 : List UInt8 := [42, 1, 1, 3, 3, 183, 0, 1, 42, 27, 181, 0, 7, 42, 28, 181, 0, 13, 177]
abbrev dktX7_init_0 : List UInt8 := dkwX7_init_0 ++ []
theorem dksX7_init_0 : cX7_init.data.toList.drop 0 = dktX7_init_0 := by decide +kernel
theorem dX7_init_0 : decode cX7_init 0 = .ok (.aload_n 0, 1) := dk_42 (dk_at dksX7_init_0 0 rfl rfl)
theorem dX7_init_1 : decode cX7_init 1 = .ok (.aconst_null, 1) := dk_1 (dk_at dksX7_init_0 1 rfl rfl)
theorem dX7_init_2 : decode cX7_init 2 = .ok (.aconst_null, 1) := dk_1 (dk_at dksX7_init_0 2 rfl rfl)
theorem dX7_init_3 : decode cX7_init 3 = .ok (.iconst 0, 1) := dk_3 (dk_at dksX7_init_0 3 rfl rfl)
theorem dX7_init_4 : decode cX7_init 4 = .ok (.iconst 0, 1) := dk_3 (dk_at dksX7_init_0 4 rfl rfl)
theorem dX7_init_5 : decode cX7_init 5 = .ok (.invokespecial 1, 3) := dk_183 0 1 (dk_at dksX7_init_0 5 rfl rfl)
theorem dX7_init_8 : decode cX7_init 8 = .ok (.aload_n 0, 1) := dk_42 (dk_at dksX7_init_0 8 rfl rfl)
theorem dX7_init_9 : decode cX7_init 9 = .ok (.iload_n 1, 1) := dk_27 (dk_at dksX7_init_0 9 rfl rfl)
theorem dX7_init_10 : decode cX7_init 10 = .ok (.putfield 7, 3) := dk_181 0 7 (dk_at dksX7_init_0 10 rfl rfl)
theorem dX7_init_13 : decode cX7_init 13 = .ok (.aload_n 0, 1) := dk_42 (dk_at dksX7_init_0 13 rfl rfl)
theorem dX7_init_14 : decode cX7_init 14 = .ok (.iload_n 2, 1) := dk_28 (dk_at dksX7_init_0 14 rfl rfl)
theorem dX7_init_15 : decode cX7_init 15 = .ok (.putfield 13, 3) := dk_181 0 13 (dk_at dksX7_init_0 15 rfl rfl)
theorem dX7_init_18 : decode cX7_init 18 = .ok (.return_, 1) := dk_177 (dk_at dksX7_init_0 18 rfl rfl)
theorem q80 : (Jvm.Cond.initialized "InflatedRows$Fault") ∈ lw_all := lw_g (lw_at lw_m1 18 rfl) rfl
theorem q302 : (Jvm.Cond.selects "InflatedRows$Fault" ({ cls := "java/lang/Throwable", name := "fillInStackTrace", desc := "()Ljava/lang/Throwable;" } : Jvm.MethodName) ({ cls := "java/lang/Throwable", name := "fillInStackTrace", desc := "()Ljava/lang/Throwable;" } : Jvm.MethodName)) ∈ lw_all := lw_g (lw_at lw_m2 0 rfl) rfl
theorem q487 : (Jvm.Cond.instantiable "InflatedRows$Fault" (8 : Nat)) ∈ lw_all := lw_g (lw_at lw_m2 185 rfl) rfl
theorem q488 : (Jvm.Cond.castable "InflatedRows$Fault" "InflatedRows$Fault") ∈ lw_tbl := lw_at lw_m2 186 rfl
theorem q489 : (Jvm.Cond.selects "InflatedRows$Fault" ({ cls := "java/lang/Throwable", name := "fillInStackTrace", desc := "(I)Ljava/lang/Throwable;" } : Jvm.MethodName) ({ cls := "java/lang/Throwable", name := "fillInStackTrace", desc := "(I)Ljava/lang/Throwable;" } : Jvm.MethodName)) ∈ lw_all := lw_g (lw_at lw_m2 187 rfl) rfl
theorem q490 : (Jvm.Cond.lays "InflatedRows$Fault" "java/lang/Throwable" "cause" "Ljava/lang/Throwable;") ∈ lw_all := lw_g (lw_at lw_m2 188 rfl) rfl
theorem q491 : (Jvm.Cond.lays "InflatedRows$Fault" "java/lang/Throwable" "stackTrace" "[Ljava/lang/StackTraceElement;") ∈ lw_all := lw_g (lw_at lw_m2 189 rfl) rfl
theorem q492 : (Jvm.Cond.lays "InflatedRows$Fault" "java/lang/Throwable" "suppressedExceptions" "Ljava/util/List;") ∈ lw_all := lw_g (lw_at lw_m2 190 rfl) rfl
theorem q493 : (Jvm.Cond.lays "InflatedRows$Fault" "java/lang/Throwable" "detailMessage" "Ljava/lang/String;") ∈ lw_all := lw_g (lw_at lw_m2 191 rfl) rfl
theorem q494 : (Jvm.Cond.lays "InflatedRows$Fault" "java/lang/Throwable" "backtrace" "Ljava/lang/Object;") ∈ lw_all := lw_g (lw_at lw_m2 192 rfl) rfl
theorem q496 : (Jvm.Cond.instanceMethod ({ cls := "InflatedRows$Fault", name := "<init>", desc := "(II)V" } : Jvm.MethodName)) ∈ lw_all := lw_g (lw_at lw_m2 194 rfl) rfl
theorem q497 : (Jvm.Cond.code ({ cls := "InflatedRows$Fault", name := "<init>", desc := "(II)V" } : Jvm.MethodName) prog_3_method_1_code (3 : Nat) (Option.none : Option Jvm.ClassFile.FieldType)) ∈ lw_all := lw_g (lw_at lw_m2 195 rfl) rfl
theorem q498 : (Jvm.Cond.methodLink "InflatedRows$Fault" (1 : Nat) ({ cls := "java/lang/Exception", name := "<init>", desc := "(Ljava/lang/String;Ljava/lang/Throwable;ZZ)V" } : Jvm.MethodName)) ∈ lw_all := lw_g (lw_at lw_m2 196 rfl) rfl
theorem q499 : (Jvm.Cond.fieldLink "InflatedRows$Fault" (7 : Nat) "InflatedRows$Fault" "kind" "I") ∈ lw_all := lw_g (lw_at lw_m2 197 rfl) rfl
theorem q501 : (Jvm.Cond.fieldLink "InflatedRows$Fault" (13 : Nat) "InflatedRows$Fault" "place" "I") ∈ lw_all := lw_g (lw_at lw_m2 199 rfl) rfl
theorem q503 : (Jvm.Cond.laysFinal "InflatedRows$Fault" "InflatedRows$Fault" "kind" "I") ∈ lw_all := lw_g (lw_at lw_m2 201 rfl) rfl
theorem q504 : (Jvm.Cond.soleField "InflatedRows$Fault" "kind") ∈ lw_all := lw_g (lw_at lw_m2 202 rfl) rfl
theorem q505 : (Jvm.Cond.laysFinal "InflatedRows$Fault" "InflatedRows$Fault" "place" "I") ∈ lw_all := lw_g (lw_at lw_m2 203 rfl) rfl
theorem q506 : (Jvm.Cond.soleField "InflatedRows$Fault" "place") ∈ lw_all := lw_g (lw_at lw_m2 204 rfl) rfl
theorem q507 : (Jvm.Cond.lays "InflatedRows$Fault" "java/lang/Throwable" "depth" "I") ∈ lw_all := lw_g (lw_at lw_m2 205 rfl) rfl
theorem q508 : (Jvm.Cond.superclass "InflatedRows$Fault" "java/lang/Exception") ∈ lw_all := lw_g (lw_at lw_m2 206 rfl) rfl
theorem q697 : (Jvm.Cond.selects "InflatedRows$Fault" ({ cls := "java/lang/Object", name := "getClass", desc := "()Ljava/lang/Class;" } : Jvm.MethodName) ({ cls := "java/lang/Object", name := "getClass", desc := "()Ljava/lang/Class;" } : Jvm.MethodName)) ∈ lw_all := lw_g (lw_at lw_m3 155 rfl) rfl
theorem q1773 : (Jvm.Cond.castable "InflatedRows$Fault" "java/lang/Object") ∈ lw_tbl := lw_at lw_m8 31 rfl
theorem in_X7 : ∀ w ∈ wsX70, w ∈ lw_all := lw_in wsX70 [490, 491, 492, 493, 494, 507, 503, 505] (by decide +kernel) (by decide +kernel)
/-! InflatedRows$Sort -/
set_option maxRecDepth 100000
def RX8 : String := "InflatedRows$Sort"
abbrev cX8_init : ByteArray := prog_12_method_1_code
def yX8_init : MethodName := ⟨RX8, "<init>", "(I)V"⟩
def dkwX8_init_0 : List UInt8 := [42, 183, 0, 1, 42, 27, 181, 0, 7, 177]
abbrev dktX8_init_0 : List UInt8 := dkwX8_init_0 ++ []
theorem dksX8_init_0 : cX8_init.data.toList.drop 0 = dktX8_init_0 := by decide +kernel
theorem dX8_init_0 : decode cX8_init 0 = .ok (.aload_n 0, 1) := dk_42 (dk_at dksX8_init_0 0 rfl rfl)
theorem dX8_init_1 : decode cX8_init 1 = .ok (.invokespecial 1, 3) := dk_183 0 1 (dk_at dksX8_init_0 1 rfl rfl)
theorem dX8_init_4 : decode cX8_init 4 = .ok (.aload_n 0, 1) := dk_42 (dk_at dksX8_init_0 4 rfl rfl)
theorem dX8_init_5 : decode cX8_init 5 = .ok (.iload_n 1, 1) := dk_27 (dk_at dksX8_init_0 5 rfl rfl)
theorem dX8_init_6 : decode cX8_init 6 = .ok (.putfield 7, 3) := dk_181 0 7 (dk_at dksX8_init_0 6 rfl rfl)
theorem dX8_init_9 : decode cX8_init 9 = .ok (.return_, 1) := dk_177 (dk_at dksX8_init_0 9 rfl rfl)
abbrev cX8_number : ByteArray := prog_12_method_6_code
def yX8_number : MethodName := ⟨RX8, "number", "()I"⟩
theorem dX8_number_0 : decode cX8_number 0 = .ok (.aload_n 0, 1) := by decide +kernel
theorem dX8_number_1 : decode cX8_number 1 = .ok (.getfield 7, 3) := by decide +kernel
theorem dX8_number_4 : decode cX8_number 4 = .ok (.ireturn, 1) := by decide +kernel
abbrev cX8_length : ByteArray := prog_12_method_5_code
def yX8_length : MethodName := ⟨RX8, "length", "(LInflatedRows$Book;I)I"⟩
def dkwX8_length_1 : List UInt8 := [46, 172]
abbrev dktX8_length_1 : List UInt8 := dkwX8_length_1 ++ []
def dkwX8_length_0 : List UInt8 := [28, 154, 0, 15, 43, 180, 0, 13, 42, 180, 0, 7, 46, 167, 0, 12, 43, 180, 0, 19, 42, 180, 0, 7]
abbrev dktX8_length_0 : List UInt8 := dkwX8_length_0 ++ dktX8_length_1
theorem dksX8_length_0 : cX8_length.data.toList.drop 0 = dktX8_length_0 := by decide +kernel
theorem dksX8_length_1 : cX8_length.data.toList.drop 24 = dktX8_length_1 := dk_seg dksX8_length_0 24 rfl rfl
theorem dX8_length_0 : decode cX8_length 0 = .ok (.iload_n 2, 1) := dk_28 (dk_at dksX8_length_0 0 rfl rfl)
theorem dX8_length_1 : decode cX8_length 1 = .ok (.ifCond .ne 15, 3) := dk_154 0 15 (dk_at dksX8_length_0 1 rfl rfl)
theorem dX8_length_4 : decode cX8_length 4 = .ok (.aload_n 1, 1) := dk_43 (dk_at dksX8_length_0 4 rfl rfl)
theorem dX8_length_5 : decode cX8_length 5 = .ok (.getfield 13, 3) := dk_180 0 13 (dk_at dksX8_length_0 5 rfl rfl)
theorem dX8_length_8 : decode cX8_length 8 = .ok (.aload_n 0, 1) := dk_42 (dk_at dksX8_length_0 8 rfl rfl)
theorem dX8_length_9 : decode cX8_length 9 = .ok (.getfield 7, 3) := dk_180 0 7 (dk_at dksX8_length_0 9 rfl rfl)
theorem dX8_length_12 : decode cX8_length 12 = .ok (.iaload, 1) := dk_46 (dk_at dksX8_length_0 12 rfl rfl)
theorem dX8_length_13 : decode cX8_length 13 = .ok (.goto 12, 3) := dk_167 0 12 (dk_at dksX8_length_0 13 rfl rfl)
theorem dX8_length_16 : decode cX8_length 16 = .ok (.aload_n 1, 1) := dk_43 (dk_at dksX8_length_0 16 rfl rfl)
theorem dX8_length_17 : decode cX8_length 17 = .ok (.getfield 19, 3) := dk_180 0 19 (dk_at dksX8_length_0 17 rfl rfl)
theorem dX8_length_20 : decode cX8_length 20 = .ok (.aload_n 0, 1) := dk_42 (dk_at dksX8_length_0 20 rfl rfl)
theorem dX8_length_21 : decode cX8_length 21 = .ok (.getfield 7, 3) := dk_180 0 7 (dk_at dksX8_length_0 21 rfl rfl)
theorem dX8_length_24 : decode cX8_length 24 = .ok (.iaload, 1) := dk_46 (dk_at dksX8_length_1 0 rfl rfl)
theorem dX8_length_25 : decode cX8_length 25 = .ok (.ireturn, 1) := dk_172 (dk_at dksX8_length_1 1 rfl rfl)
abbrev cX8_size : ByteArray := prog_12_method_7_code
def yX8_size : MethodName := ⟨RX8, "size", "(LInflatedRows$Trail;LInflatedRows$Book;)I"⟩
def dkwX8_size_0 : List UInt8 := [43, 16, 10, 182, 0, 22, 44, 180, 0, 13, 42, 180, 0, 7, 46, 172]
abbrev dktX8_size_0 : List UInt8 := dkwX8_size_0 ++ []
theorem dksX8_size_0 : cX8_size.data.toList.drop 0 = dktX8_size_0 := by decide +kernel
theorem dX8_size_0 : decode cX8_size 0 = .ok (.aload_n 1, 1) := dk_43 (dk_at dksX8_size_0 0 rfl rfl)
theorem dX8_size_1 : decode cX8_size 1 = .ok (.bipush 10, 2) := dk_16 10 (dk_at dksX8_size_0 1 rfl rfl)
theorem dX8_size_3 : decode cX8_size 3 = .ok (.invokevirtual 22, 3) := dk_182 0 22 (dk_at dksX8_size_0 3 rfl rfl)
theorem dX8_size_6 : decode cX8_size 6 = .ok (.aload_n 2, 1) := dk_44 (dk_at dksX8_size_0 6 rfl rfl)
theorem dX8_size_7 : decode cX8_size 7 = .ok (.getfield 13, 3) := dk_180 0 13 (dk_at dksX8_size_0 7 rfl rfl)
theorem dX8_size_10 : decode cX8_size 10 = .ok (.aload_n 0, 1) := dk_42 (dk_at dksX8_size_0 10 rfl rfl)
theorem dX8_size_11 : decode cX8_size 11 = .ok (.getfield 7, 3) := dk_180 0 7 (dk_at dksX8_size_0 11 rfl rfl)
theorem dX8_size_14 : decode cX8_size 14 = .ok (.iaload, 1) := dk_46 (dk_at dksX8_size_0 14 rfl rfl)
theorem dX8_size_15 : decode cX8_size 15 = .ok (.ireturn, 1) := dk_172 (dk_at dksX8_size_0 15 rfl rfl)
theorem q84 : (Jvm.Cond.initialized "InflatedRows$Sort") ∈ lw_all := lw_g (lw_at lw_m1 22 rfl) rfl
theorem q154 : (Jvm.Cond.fieldLink "InflatedRows$Sort" (13 : Nat) "InflatedRows$Book" "p" "[I") ∈ lw_all := lw_g (lw_at lw_m1 92 rfl) rfl
theorem q158 : (Jvm.Cond.fieldLink "InflatedRows$Sort" (19 : Nat) "InflatedRows$Book" "q" "[I") ∈ lw_all := lw_g (lw_at lw_m1 96 rfl) rfl
theorem q619 : (Jvm.Cond.instanceMethod ({ cls := "InflatedRows$Sort", name := "<init>", desc := "(I)V" } : Jvm.MethodName)) ∈ lw_all := lw_g (lw_at lw_m3 77 rfl) rfl
theorem q620 : (Jvm.Cond.code ({ cls := "InflatedRows$Sort", name := "<init>", desc := "(I)V" } : Jvm.MethodName) prog_12_method_1_code (2 : Nat) (Option.none : Option Jvm.ClassFile.FieldType)) ∈ lw_all := lw_g (lw_at lw_m3 78 rfl) rfl
theorem q621 : (Jvm.Cond.methodLink "InflatedRows$Sort" (1 : Nat) ({ cls := "java/lang/Object", name := "<init>", desc := "()V" } : Jvm.MethodName)) ∈ lw_all := lw_g (lw_at lw_m3 79 rfl) rfl
theorem q622 : (Jvm.Cond.fieldLink "InflatedRows$Sort" (7 : Nat) "InflatedRows$Sort" "number" "I") ∈ lw_all := lw_g (lw_at lw_m3 80 rfl) rfl
theorem q624 : (Jvm.Cond.soleField "InflatedRows$Sort" "number") ∈ lw_all := lw_g (lw_at lw_m3 82 rfl) rfl
theorem q809 : (Jvm.Cond.declares ({ cls := "InflatedRows$Sort", name := "kind", desc := "()I" } : Jvm.MethodName)) ∈ lw_tbl := lw_at lw_m4 27 rfl
theorem q810 : (Jvm.Cond.sameMethod "InflatedRows$Sort" "InflatedRows$Sort" "kind" "()I") ∈ lw_all := lw_g (lw_at lw_m4 28 rfl) rfl
theorem q889 : (Jvm.Cond.declares ({ cls := "InflatedRows$Sort", name := "becomes", desc := "(LInflatedRows$Book;)I" } : Jvm.MethodName)) ∈ lw_tbl := lw_at lw_m4 107 rfl
theorem q890 : (Jvm.Cond.sameMethod "InflatedRows$Sort" "InflatedRows$Sort" "becomes" "(LInflatedRows$Book;)I") ∈ lw_all := lw_g (lw_at lw_m4 108 rfl) rfl
theorem q899 : (Jvm.Cond.declares ({ cls := "InflatedRows$Sort", name := "number", desc := "()I" } : Jvm.MethodName)) ∈ lw_tbl := lw_at lw_m4 117 rfl
theorem q903 : (Jvm.Cond.instanceMethod ({ cls := "InflatedRows$Sort", name := "number", desc := "()I" } : Jvm.MethodName)) ∈ lw_all := lw_g (lw_at lw_m4 121 rfl) rfl
theorem q904 : (Jvm.Cond.code ({ cls := "InflatedRows$Sort", name := "number", desc := "()I" } : Jvm.MethodName) prog_12_method_6_code (1 : Nat) (Option.some Jvm.ClassFile.FieldType.int)) ∈ lw_all := lw_g (lw_at lw_m4 122 rfl) rfl
theorem q912 : (Jvm.Cond.declares ({ cls := "InflatedRows$Sort", name := "image", desc := "(LInflatedRows$Book;I)I" } : Jvm.MethodName)) ∈ lw_tbl := lw_at lw_m4 130 rfl
theorem q913 : (Jvm.Cond.sameMethod "InflatedRows$Sort" "InflatedRows$Sort" "image" "(LInflatedRows$Book;I)I") ∈ lw_all := lw_g (lw_at lw_m4 131 rfl) rfl
theorem q972 : (Jvm.Cond.instanceMethod ({ cls := "InflatedRows$Sort", name := "length", desc := "(LInflatedRows$Book;I)I" } : Jvm.MethodName)) ∈ lw_all := lw_g (lw_at lw_m4 190 rfl) rfl
theorem q973 : (Jvm.Cond.sameMethod "InflatedRows$Sort" "InflatedRows$Sort" "length" "(LInflatedRows$Book;I)I") ∈ lw_all := lw_g (lw_at lw_m4 191 rfl) rfl
theorem q980 : (Jvm.Cond.declares ({ cls := "InflatedRows$Sort", name := "length", desc := "(LInflatedRows$Book;I)I" } : Jvm.MethodName)) ∈ lw_tbl := lw_at lw_m4 198 rfl
theorem q981 : (Jvm.Cond.code ({ cls := "InflatedRows$Sort", name := "length", desc := "(LInflatedRows$Book;I)I" } : Jvm.MethodName) prog_12_method_5_code (3 : Nat) (Option.some Jvm.ClassFile.FieldType.int)) ∈ lw_all := lw_g (lw_at lw_m4 199 rfl) rfl
theorem q1195 : (Jvm.Cond.instanceMethod ({ cls := "InflatedRows$Sort", name := "size", desc := "(LInflatedRows$Trail;LInflatedRows$Book;)I" } : Jvm.MethodName)) ∈ lw_all := lw_g (lw_at lw_m5 173 rfl) rfl
theorem q1196 : (Jvm.Cond.code ({ cls := "InflatedRows$Sort", name := "size", desc := "(LInflatedRows$Trail;LInflatedRows$Book;)I" } : Jvm.MethodName) prog_12_method_7_code (3 : Nat) (Option.some Jvm.ClassFile.FieldType.int)) ∈ lw_all := lw_g (lw_at lw_m5 174 rfl) rfl
theorem q1197 : (Jvm.Cond.methodLink "InflatedRows$Sort" (22 : Nat) ({ cls := "InflatedRows$Trail", name := "begins", desc := "(I)V" } : Jvm.MethodName)) ∈ lw_all := lw_g (lw_at lw_m5 175 rfl) rfl
theorem q1216 : (Jvm.Cond.superclass "InflatedRows$Sort" "java/lang/Object") ∈ lw_all := lw_g (lw_at lw_m5 194 rfl) rfl
theorem q1227 : (Jvm.Cond.publicMethod ({ cls := "InflatedRows$Sort", name := "number", desc := "()I" } : Jvm.MethodName)) ∈ lw_tbl := lw_at lw_m5 205 rfl
theorem q1742 : (Jvm.Cond.sameMethod "InflatedRows$Sort" "InflatedRows$Sort" "number" "()I") ∈ lw_all := lw_g (lw_at lw_m8 0 rfl) rfl
theorem q1748 : (Jvm.Cond.sameMethod "InflatedRows$Sort" "InflatedRows$Sort" "size" "(LInflatedRows$Trail;LInflatedRows$Book;)I") ∈ lw_all := lw_g (lw_at lw_m8 6 rfl) rfl
/-! InflatedRows$Plain -/
set_option maxRecDepth 100000
def RX9 : String := "InflatedRows$Plain"
def TX9 : u_T := fun k => match k with
  | _ => ("InflatedRows$Sort", "number", "I", true)
def tyX9 : Nat → FieldType := fun k => match k with
  | _ => .int
abbrev wsX90 : List Cond := u_ws RX9 TX9 1
theorem nmX9 : ∀ a, a < 1 → ∀ b, b < 1 → a ≠ b → (TX9 a).2.1 ≠ (TX9 b).2.1 := by decide +kernel
theorem tyX9_ok : ∀ k, k < 1 → parseFieldDescriptor (TX9 k).2.2.1 = some (tyX9 k) := by decide +kernel
abbrev cX9_init : ByteArray := prog_9_method_1_code
def yX9_init : MethodName := ⟨RX9, "<init>", "(I)V"⟩
def dkwX9_init_0 : List UInt8 := [42, 27, 183, 0, 3, 177]
abbrev dktX9_init_0 : List UInt8 := dkwX9_init_0 ++ []
theorem dksX9_init_0 : cX9_init.data.toList.drop 0 = dktX9_init_0 := by decide +kernel
theorem dX9_init_0 : decode cX9_init 0 = .ok (.aload_n 0, 1) := dk_42 (dk_at dksX9_init_0 0 rfl rfl)
theorem dX9_init_1 : decode cX9_init 1 = .ok (.iload_n 1, 1) := dk_27 (dk_at dksX9_init_0 1 rfl rfl)
theorem dX9_init_2 : decode cX9_init 2 = .ok (.invokespecial 3, 3) := dk_183 0 3 (dk_at dksX9_init_0 2 rfl rfl)
theorem dX9_init_5 : decode cX9_init 5 = .ok (.return_, 1) := dk_177 (dk_at dksX9_init_0 5 rfl rfl)
abbrev cX9_kind : ByteArray := prog_9_method_2_code
def yX9_kind : MethodName := ⟨RX9, "kind", "()I"⟩
theorem dX9_kind_0 : decode cX9_kind 0 = .ok (.iconst 1, 1) := by decide +kernel
theorem dX9_kind_1 : decode cX9_kind 1 = .ok (.ireturn, 1) := by decide +kernel
abbrev cX9_becomes : ByteArray := prog_9_method_3_code
def yX9_becomes : MethodName := ⟨RX9, "becomes", "(LInflatedRows$Book;)I"⟩
def dkwX9_becomes_0 : List UInt8 := [43, 180, 0, 9, 42, 182, 0, 15, 46, 172]
abbrev dktX9_becomes_0 : List UInt8 := dkwX9_becomes_0 ++ []
theorem dksX9_becomes_0 : cX9_becomes.data.toList.drop 0 = dktX9_becomes_0 := by decide +kernel
theorem dX9_becomes_0 : decode cX9_becomes 0 = .ok (.aload_n 1, 1) := dk_43 (dk_at dksX9_becomes_0 0 rfl rfl)
theorem dX9_becomes_1 : decode cX9_becomes 1 = .ok (.getfield 9, 3) := dk_180 0 9 (dk_at dksX9_becomes_0 1 rfl rfl)
theorem dX9_becomes_4 : decode cX9_becomes 4 = .ok (.aload_n 0, 1) := dk_42 (dk_at dksX9_becomes_0 4 rfl rfl)
theorem dX9_becomes_5 : decode cX9_becomes 5 = .ok (.invokevirtual 15, 3) := dk_182 0 15 (dk_at dksX9_becomes_0 5 rfl rfl)
theorem dX9_becomes_8 : decode cX9_becomes 8 = .ok (.iaload, 1) := dk_46 (dk_at dksX9_becomes_0 8 rfl rfl)
theorem dX9_becomes_9 : decode cX9_becomes 9 = .ok (.ireturn, 1) := dk_172 (dk_at dksX9_becomes_0 9 rfl rfl)
abbrev cX9_image : ByteArray := prog_9_method_4_code
def yX9_image : MethodName := ⟨RX9, "image", "(LInflatedRows$Book;I)I"⟩
def dkwX9_image_0 : List UInt8 := [43, 180, 0, 21, 7, 42, 182, 0, 15, 104, 28, 96, 46, 172]
abbrev dktX9_image_0 : List UInt8 := dkwX9_image_0 ++ []
theorem dksX9_image_0 : cX9_image.data.toList.drop 0 = dktX9_image_0 := by decide +kernel
theorem dX9_image_0 : decode cX9_image 0 = .ok (.aload_n 1, 1) := dk_43 (dk_at dksX9_image_0 0 rfl rfl)
theorem dX9_image_1 : decode cX9_image 1 = .ok (.getfield 21, 3) := dk_180 0 21 (dk_at dksX9_image_0 1 rfl rfl)
theorem dX9_image_4 : decode cX9_image 4 = .ok (.iconst 4, 1) := dk_7 (dk_at dksX9_image_0 4 rfl rfl)
theorem dX9_image_5 : decode cX9_image 5 = .ok (.aload_n 0, 1) := dk_42 (dk_at dksX9_image_0 5 rfl rfl)
theorem dX9_image_6 : decode cX9_image 6 = .ok (.invokevirtual 15, 3) := dk_182 0 15 (dk_at dksX9_image_0 6 rfl rfl)
theorem dX9_image_9 : decode cX9_image 9 = .ok (.imul, 1) := dk_104 (dk_at dksX9_image_0 9 rfl rfl)
theorem dX9_image_10 : decode cX9_image 10 = .ok (.iload_n 2, 1) := dk_28 (dk_at dksX9_image_0 10 rfl rfl)
theorem dX9_image_11 : decode cX9_image 11 = .ok (.iadd, 1) := dk_96 (dk_at dksX9_image_0 11 rfl rfl)
theorem dX9_image_12 : decode cX9_image 12 = .ok (.iaload, 1) := dk_46 (dk_at dksX9_image_0 12 rfl rfl)
theorem dX9_image_13 : decode cX9_image 13 = .ok (.ireturn, 1) := dk_172 (dk_at dksX9_image_0 13 rfl rfl)
abbrev cX9_size : ByteArray := prog_9_method_5_code
def yX9_size : MethodName := ⟨RX9, "size", "(LInflatedRows$Trail;LInflatedRows$Book;)I"⟩
def dkwX9_size_0 : List UInt8 := [43, 16, 11, 182, 0, 24, 42, 43, 44, 183, 0, 29, 42, 43, 44, 182, 0, 33, 96, 172]
abbrev dktX9_size_0 : List UInt8 := dkwX9_size_0 ++ []
theorem dksX9_size_0 : cX9_size.data.toList.drop 0 = dktX9_size_0 := by decide +kernel
theorem dX9_size_0 : decode cX9_size 0 = .ok (.aload_n 1, 1) := dk_43 (dk_at dksX9_size_0 0 rfl rfl)
theorem dX9_size_1 : decode cX9_size 1 = .ok (.bipush 11, 2) := dk_16 11 (dk_at dksX9_size_0 1 rfl rfl)
theorem dX9_size_3 : decode cX9_size 3 = .ok (.invokevirtual 24, 3) := dk_182 0 24 (dk_at dksX9_size_0 3 rfl rfl)
theorem dX9_size_6 : decode cX9_size 6 = .ok (.aload_n 0, 1) := dk_42 (dk_at dksX9_size_0 6 rfl rfl)
theorem dX9_size_7 : decode cX9_size 7 = .ok (.aload_n 1, 1) := dk_43 (dk_at dksX9_size_0 7 rfl rfl)
theorem dX9_size_8 : decode cX9_size 8 = .ok (.aload_n 2, 1) := dk_44 (dk_at dksX9_size_0 8 rfl rfl)
theorem dX9_size_9 : decode cX9_size 9 = .ok (.invokespecial 29, 3) := dk_183 0 29 (dk_at dksX9_size_0 9 rfl rfl)
theorem dX9_size_12 : decode cX9_size 12 = .ok (.aload_n 0, 1) := dk_42 (dk_at dksX9_size_0 12 rfl rfl)
theorem dX9_size_13 : decode cX9_size 13 = .ok (.aload_n 1, 1) := dk_43 (dk_at dksX9_size_0 13 rfl rfl)
theorem dX9_size_14 : decode cX9_size 14 = .ok (.aload_n 2, 1) := dk_44 (dk_at dksX9_size_0 14 rfl rfl)
theorem dX9_size_15 : decode cX9_size 15 = .ok (.invokevirtual 33, 3) := dk_182 0 33 (dk_at dksX9_size_0 15 rfl rfl)
theorem dX9_size_18 : decode cX9_size 18 = .ok (.iadd, 1) := dk_96 (dk_at dksX9_size_0 18 rfl rfl)
theorem dX9_size_19 : decode cX9_size 19 = .ok (.ireturn, 1) := dk_172 (dk_at dksX9_size_0 19 rfl rfl)
abbrev cX9_mark : ByteArray := prog_9_method_6_code
def yX9_mark : MethodName := ⟨RX9, "mark", "(LInflatedRows$Trail;LInflatedRows$Book;)I"⟩
def dkwX9_mark_0 : List UInt8 := [43, 16, 21, 182, 0, 24, 42, 43, 44, 183, 0, 36, 44, 180, 0, 9, 42, 182, 0, 15, 46, 96, 172]
abbrev dktX9_mark_0 : List UInt8 := dkwX9_mark_0 ++ []
theorem dksX9_mark_0 : cX9_mark.data.toList.drop 0 = dktX9_mark_0 := by decide +kernel
theorem dX9_mark_0 : decode cX9_mark 0 = .ok (.aload_n 1, 1) := dk_43 (dk_at dksX9_mark_0 0 rfl rfl)
theorem dX9_mark_1 : decode cX9_mark 1 = .ok (.bipush 21, 2) := dk_16 21 (dk_at dksX9_mark_0 1 rfl rfl)
theorem dX9_mark_3 : decode cX9_mark 3 = .ok (.invokevirtual 24, 3) := dk_182 0 24 (dk_at dksX9_mark_0 3 rfl rfl)
theorem dX9_mark_6 : decode cX9_mark 6 = .ok (.aload_n 0, 1) := dk_42 (dk_at dksX9_mark_0 6 rfl rfl)
theorem dX9_mark_7 : decode cX9_mark 7 = .ok (.aload_n 1, 1) := dk_43 (dk_at dksX9_mark_0 7 rfl rfl)
theorem dX9_mark_8 : decode cX9_mark 8 = .ok (.aload_n 2, 1) := dk_44 (dk_at dksX9_mark_0 8 rfl rfl)
theorem dX9_mark_9 : decode cX9_mark 9 = .ok (.invokespecial 36, 3) := dk_183 0 36 (dk_at dksX9_mark_0 9 rfl rfl)
theorem dX9_mark_12 : decode cX9_mark 12 = .ok (.aload_n 2, 1) := dk_44 (dk_at dksX9_mark_0 12 rfl rfl)
theorem dX9_mark_13 : decode cX9_mark 13 = .ok (.getfield 9, 3) := dk_180 0 9 (dk_at dksX9_mark_0 13 rfl rfl)
theorem dX9_mark_16 : decode cX9_mark 16 = .ok (.aload_n 0, 1) := dk_42 (dk_at dksX9_mark_0 16 rfl rfl)
theorem dX9_mark_17 : decode cX9_mark 17 = .ok (.invokevirtual 15, 3) := dk_182 0 15 (dk_at dksX9_mark_0 17 rfl rfl)
theorem dX9_mark_20 : decode cX9_mark 20 = .ok (.iaload, 1) := dk_46 (dk_at dksX9_mark_0 20 rfl rfl)
theorem dX9_mark_21 : decode cX9_mark 21 = .ok (.iadd, 1) := dk_96 (dk_at dksX9_mark_0 21 rfl rfl)
theorem dX9_mark_22 : decode cX9_mark 22 = .ok (.ireturn, 1) := dk_172 (dk_at dksX9_mark_0 22 rfl rfl)
theorem q85 : (Jvm.Cond.initialized "InflatedRows$Plain") ∈ lw_all := lw_g (lw_at lw_m1 23 rfl) rfl
theorem q162 : (Jvm.Cond.fieldLink "InflatedRows$Plain" (9 : Nat) "InflatedRows$Book" "letters" "[I") ∈ lw_all := lw_g (lw_at lw_m1 100 rfl) rfl
theorem q165 : (Jvm.Cond.fieldLink "InflatedRows$Plain" (21 : Nat) "InflatedRows$Book" "word" "[I") ∈ lw_all := lw_g (lw_at lw_m1 103 rfl) rfl
theorem q614 : (Jvm.Cond.instantiable "InflatedRows$Plain" (1 : Nat)) ∈ lw_all := lw_g (lw_at lw_m3 72 rfl) rfl
theorem q616 : (Jvm.Cond.instanceMethod ({ cls := "InflatedRows$Plain", name := "<init>", desc := "(I)V" } : Jvm.MethodName)) ∈ lw_all := lw_g (lw_at lw_m3 74 rfl) rfl
theorem q617 : (Jvm.Cond.code ({ cls := "InflatedRows$Plain", name := "<init>", desc := "(I)V" } : Jvm.MethodName) prog_9_method_1_code (2 : Nat) (Option.none : Option Jvm.ClassFile.FieldType)) ∈ lw_all := lw_g (lw_at lw_m3 75 rfl) rfl
theorem q618 : (Jvm.Cond.methodLink "InflatedRows$Plain" (3 : Nat) ({ cls := "InflatedRows$Sort", name := "<init>", desc := "(I)V" } : Jvm.MethodName)) ∈ lw_all := lw_g (lw_at lw_m3 76 rfl) rfl
theorem q623 : (Jvm.Cond.laysFinal "InflatedRows$Plain" "InflatedRows$Sort" "number" "I") ∈ lw_all := lw_g (lw_at lw_m3 81 rfl) rfl
theorem q625 : (Jvm.Cond.superclass "InflatedRows$Plain" "InflatedRows$Sort") ∈ lw_all := lw_g (lw_at lw_m3 83 rfl) rfl
theorem q702 : (Jvm.Cond.selects "InflatedRows$Plain" ({ cls := "java/lang/Object", name := "getClass", desc := "()Ljava/lang/Class;" } : Jvm.MethodName) ({ cls := "java/lang/Object", name := "getClass", desc := "()Ljava/lang/Class;" } : Jvm.MethodName)) ∈ lw_all := lw_g (lw_at lw_m3 160 rfl) rfl
theorem q820 : (Jvm.Cond.selects "InflatedRows$Plain" ({ cls := "InflatedRows$Sort", name := "kind", desc := "()I" } : Jvm.MethodName) ({ cls := "InflatedRows$Plain", name := "kind", desc := "()I" } : Jvm.MethodName)) ∈ lw_all := lw_g (lw_at lw_m4 38 rfl) rfl
theorem q821 : (Jvm.Cond.instanceMethod ({ cls := "InflatedRows$Plain", name := "kind", desc := "()I" } : Jvm.MethodName)) ∈ lw_all := lw_g (lw_at lw_m4 39 rfl) rfl
theorem q822 : (Jvm.Cond.code ({ cls := "InflatedRows$Plain", name := "kind", desc := "()I" } : Jvm.MethodName) prog_9_method_2_code (1 : Nat) (Option.some Jvm.ClassFile.FieldType.int)) ∈ lw_all := lw_g (lw_at lw_m4 40 rfl) rfl
theorem q895 : (Jvm.Cond.instanceMethod ({ cls := "InflatedRows$Plain", name := "becomes", desc := "(LInflatedRows$Book;)I" } : Jvm.MethodName)) ∈ lw_all := lw_g (lw_at lw_m4 113 rfl) rfl
theorem q896 : (Jvm.Cond.code ({ cls := "InflatedRows$Plain", name := "becomes", desc := "(LInflatedRows$Book;)I" } : Jvm.MethodName) prog_9_method_3_code (2 : Nat) (Option.some Jvm.ClassFile.FieldType.int)) ∈ lw_all := lw_g (lw_at lw_m4 114 rfl) rfl
theorem q897 : (Jvm.Cond.methodLink "InflatedRows$Plain" (15 : Nat) ({ cls := "InflatedRows$Plain", name := "number", desc := "()I" } : Jvm.MethodName)) ∈ lw_all := lw_g (lw_at lw_m4 115 rfl) rfl
theorem q898 : (Jvm.Cond.sameMethod "InflatedRows$Plain" "InflatedRows$Sort" "number" "()I") ∈ lw_all := lw_g (lw_at lw_m4 116 rfl) rfl
theorem q902 : (Jvm.Cond.selects "InflatedRows$Plain" ({ cls := "InflatedRows$Plain", name := "number", desc := "()I" } : Jvm.MethodName) ({ cls := "InflatedRows$Sort", name := "number", desc := "()I" } : Jvm.MethodName)) ∈ lw_all := lw_g (lw_at lw_m4 120 rfl) rfl
theorem q906 : (Jvm.Cond.selects "InflatedRows$Plain" ({ cls := "InflatedRows$Sort", name := "becomes", desc := "(LInflatedRows$Book;)I" } : Jvm.MethodName) ({ cls := "InflatedRows$Plain", name := "becomes", desc := "(LInflatedRows$Book;)I" } : Jvm.MethodName)) ∈ lw_all := lw_g (lw_at lw_m4 124 rfl) rfl
theorem q922 : (Jvm.Cond.instanceMethod ({ cls := "InflatedRows$Plain", name := "image", desc := "(LInflatedRows$Book;I)I" } : Jvm.MethodName)) ∈ lw_all := lw_g (lw_at lw_m4 140 rfl) rfl
theorem q923 : (Jvm.Cond.code ({ cls := "InflatedRows$Plain", name := "image", desc := "(LInflatedRows$Book;I)I" } : Jvm.MethodName) prog_9_method_4_code (3 : Nat) (Option.some Jvm.ClassFile.FieldType.int)) ∈ lw_all := lw_g (lw_at lw_m4 141 rfl) rfl
theorem q929 : (Jvm.Cond.declares ({ cls := "InflatedRows$Plain", name := "becomes", desc := "(LInflatedRows$Book;)I" } : Jvm.MethodName)) ∈ lw_tbl := lw_at lw_m4 147 rfl
theorem q932 : (Jvm.Cond.selects "InflatedRows$Plain" ({ cls := "InflatedRows$Sort", name := "image", desc := "(LInflatedRows$Book;I)I" } : Jvm.MethodName) ({ cls := "InflatedRows$Plain", name := "image", desc := "(LInflatedRows$Book;I)I" } : Jvm.MethodName)) ∈ lw_all := lw_g (lw_at lw_m4 150 rfl) rfl
theorem q979 : (Jvm.Cond.sameMethod "InflatedRows$Plain" "InflatedRows$Sort" "length" "(LInflatedRows$Book;I)I") ∈ lw_all := lw_g (lw_at lw_m4 197 rfl) rfl
theorem q983 : (Jvm.Cond.selects "InflatedRows$Plain" ({ cls := "InflatedRows$Sort", name := "length", desc := "(LInflatedRows$Book;I)I" } : Jvm.MethodName) ({ cls := "InflatedRows$Sort", name := "length", desc := "(LInflatedRows$Book;I)I" } : Jvm.MethodName)) ∈ lw_all := lw_g (lw_at lw_m4 201 rfl) rfl
theorem q1201 : (Jvm.Cond.instanceMethod ({ cls := "InflatedRows$Plain", name := "size", desc := "(LInflatedRows$Trail;LInflatedRows$Book;)I" } : Jvm.MethodName)) ∈ lw_all := lw_g (lw_at lw_m5 179 rfl) rfl
theorem q1202 : (Jvm.Cond.publicMethod ({ cls := "InflatedRows$Plain", name := "size", desc := "(LInflatedRows$Trail;LInflatedRows$Book;)I" } : Jvm.MethodName)) ∈ lw_tbl := lw_at lw_m5 180 rfl
theorem q1203 : (Jvm.Cond.code ({ cls := "InflatedRows$Plain", name := "size", desc := "(LInflatedRows$Trail;LInflatedRows$Book;)I" } : Jvm.MethodName) prog_9_method_5_code (3 : Nat) (Option.some Jvm.ClassFile.FieldType.int)) ∈ lw_all := lw_g (lw_at lw_m5 181 rfl) rfl
theorem q1204 : (Jvm.Cond.methodLink "InflatedRows$Plain" (24 : Nat) ({ cls := "InflatedRows$Trail", name := "begins", desc := "(I)V" } : Jvm.MethodName)) ∈ lw_all := lw_g (lw_at lw_m5 182 rfl) rfl
theorem q1205 : (Jvm.Cond.methodLink "InflatedRows$Plain" (29 : Nat) ({ cls := "InflatedRows$Sort", name := "size", desc := "(LInflatedRows$Trail;LInflatedRows$Book;)I" } : Jvm.MethodName)) ∈ lw_all := lw_g (lw_at lw_m5 183 rfl) rfl
theorem q1206 : (Jvm.Cond.methodLink "InflatedRows$Plain" (33 : Nat) ({ cls := "InflatedRows$Plain", name := "mark", desc := "(LInflatedRows$Trail;LInflatedRows$Book;)I" } : Jvm.MethodName)) ∈ lw_all := lw_g (lw_at lw_m5 184 rfl) rfl
theorem q1207 : (Jvm.Cond.instanceMethod ({ cls := "InflatedRows$Plain", name := "mark", desc := "(LInflatedRows$Trail;LInflatedRows$Book;)I" } : Jvm.MethodName)) ∈ lw_all := lw_g (lw_at lw_m5 185 rfl) rfl
theorem q1208 : (Jvm.Cond.selects "InflatedRows$Plain" ({ cls := "InflatedRows$Plain", name := "mark", desc := "(LInflatedRows$Trail;LInflatedRows$Book;)I" } : Jvm.MethodName) ({ cls := "InflatedRows$Plain", name := "mark", desc := "(LInflatedRows$Trail;LInflatedRows$Book;)I" } : Jvm.MethodName)) ∈ lw_all := lw_g (lw_at lw_m5 186 rfl) rfl
theorem q1209 : (Jvm.Cond.sameMethod "InflatedRows$Plain" "InflatedRows$Plain" "mark" "(LInflatedRows$Trail;LInflatedRows$Book;)I") ∈ lw_all := lw_g (lw_at lw_m5 187 rfl) rfl
theorem q1215 : (Jvm.Cond.code ({ cls := "InflatedRows$Plain", name := "mark", desc := "(LInflatedRows$Trail;LInflatedRows$Book;)I" } : Jvm.MethodName) prog_9_method_6_code (3 : Nat) (Option.some Jvm.ClassFile.FieldType.int)) ∈ lw_all := lw_g (lw_at lw_m5 193 rfl) rfl
theorem q1233 : (Jvm.Cond.castable "InflatedRows$Plain" "InflatedRows$Marked") ∈ lw_tbl := lw_at lw_m5 211 rfl
theorem q1234 : (Jvm.Cond.selects "InflatedRows$Plain" ({ cls := "InflatedRows$Marked", name := "number", desc := "()I" } : Jvm.MethodName) ({ cls := "InflatedRows$Sort", name := "number", desc := "()I" } : Jvm.MethodName)) ∈ lw_all := lw_g (lw_at lw_m5 212 rfl) rfl
theorem q1235 : (Jvm.Cond.unhidden "InflatedRows$Plain" "number" "()I") ∈ lw_tbl := lw_at lw_m5 213 rfl
theorem q1250 : (Jvm.Cond.selects "InflatedRows$Plain" ({ cls := "InflatedRows$Marked", name := "size", desc := "(LInflatedRows$Trail;LInflatedRows$Book;)I" } : Jvm.MethodName) ({ cls := "InflatedRows$Plain", name := "size", desc := "(LInflatedRows$Trail;LInflatedRows$Book;)I" } : Jvm.MethodName)) ∈ lw_all := lw_g (lw_at lw_m5 228 rfl) rfl
theorem q1251 : (Jvm.Cond.unhidden "InflatedRows$Plain" "size" "(LInflatedRows$Trail;LInflatedRows$Book;)I") ∈ lw_tbl := lw_at lw_m5 229 rfl
theorem q1274 : (Jvm.Cond.selects "InflatedRows$Plain" ({ cls := "InflatedRows$Marked", name := "mark", desc := "(LInflatedRows$Trail;LInflatedRows$Book;)I" } : Jvm.MethodName) ({ cls := "InflatedRows$Plain", name := "mark", desc := "(LInflatedRows$Trail;LInflatedRows$Book;)I" } : Jvm.MethodName)) ∈ lw_all := lw_g (lw_at lw_m6 12 rfl) rfl
theorem q1275 : (Jvm.Cond.unhidden "InflatedRows$Plain" "mark" "(LInflatedRows$Trail;LInflatedRows$Book;)I") ∈ lw_tbl := lw_at lw_m6 13 rfl
theorem q1276 : (Jvm.Cond.publicMethod ({ cls := "InflatedRows$Plain", name := "mark", desc := "(LInflatedRows$Trail;LInflatedRows$Book;)I" } : Jvm.MethodName)) ∈ lw_tbl := lw_at lw_m6 14 rfl
theorem q1741 : (Jvm.Cond.sameMethod "InflatedRows$Plain" "InflatedRows$Plain" "image" "(LInflatedRows$Book;I)I") ∈ lw_all := lw_g (lw_at lw_m7 239 rfl) rfl
theorem q1746 : (Jvm.Cond.selects "InflatedRows$Plain" ({ cls := "InflatedRows$Sort", name := "number", desc := "()I" } : Jvm.MethodName) ({ cls := "InflatedRows$Sort", name := "number", desc := "()I" } : Jvm.MethodName)) ∈ lw_all := lw_g (lw_at lw_m8 4 rfl) rfl
theorem q1749 : (Jvm.Cond.sameMethod "InflatedRows$Plain" "InflatedRows$Plain" "size" "(LInflatedRows$Trail;LInflatedRows$Book;)I") ∈ lw_all := lw_g (lw_at lw_m8 7 rfl) rfl
theorem q1759 : (Jvm.Cond.castable "InflatedRows$Plain" "InflatedRows$Sort") ∈ lw_tbl := lw_at lw_m8 17 rfl
theorem q1774 : (Jvm.Cond.castable "InflatedRows$Plain" "java/lang/Object") ∈ lw_tbl := lw_at lw_m8 32 rfl
theorem in_X9 : ∀ w ∈ wsX90, w ∈ lw_all := lw_in wsX90 [623] (by decide +kernel) (by decide +kernel)
/-! InflatedRows$Mirrored -/
set_option maxRecDepth 100000
def RX10 : String := "InflatedRows$Mirrored"
def TX10 : u_T := fun k => match k with
  | _ => ("InflatedRows$Sort", "number", "I", true)
def tyX10 : Nat → FieldType := fun k => match k with
  | _ => .int
abbrev wsX100 : List Cond := u_ws RX10 TX10 1
theorem nmX10 : ∀ a, a < 1 → ∀ b, b < 1 → a ≠ b → (TX10 a).2.1 ≠ (TX10 b).2.1 := by decide +kernel
theorem tyX10_ok : ∀ k, k < 1 → parseFieldDescriptor (TX10 k).2.2.1 = some (tyX10 k) := by decide +kernel
abbrev cX10_init : ByteArray := prog_8_method_1_code
def yX10_init : MethodName := ⟨RX10, "<init>", "(I)V"⟩
def dkwX10_init_0 : List UInt8 := [42, 27, 183, 0, 3, 177]
abbrev dktX10_init_0 : List UInt8 := dkwX10_init_0 ++ []
theorem dksX10_init_0 : cX10_init.data.toList.drop 0 = dktX10_init_0 := by decide +kernel
theorem dX10_init_0 : decode cX10_init 0 = .ok (.aload_n 0, 1) := dk_42 (dk_at dksX10_init_0 0 rfl rfl)
theorem dX10_init_1 : decode cX10_init 1 = .ok (.iload_n 1, 1) := dk_27 (dk_at dksX10_init_0 1 rfl rfl)
theorem dX10_init_2 : decode cX10_init 2 = .ok (.invokespecial 3, 3) := dk_183 0 3 (dk_at dksX10_init_0 2 rfl rfl)
theorem dX10_init_5 : decode cX10_init 5 = .ok (.return_, 1) := dk_177 (dk_at dksX10_init_0 5 rfl rfl)
abbrev cX10_kind : ByteArray := prog_8_method_2_code
def yX10_kind : MethodName := ⟨RX10, "kind", "()I"⟩
theorem dX10_kind_0 : decode cX10_kind 0 = .ok (.iconst 2, 1) := by decide +kernel
theorem dX10_kind_1 : decode cX10_kind 1 = .ok (.ireturn, 1) := by decide +kernel
abbrev cX10_image : ByteArray := prog_8_method_3_code
def yX10_image : MethodName := ⟨RX10, "image", "(LInflatedRows$Book;I)I"⟩
def dkwX10_image_0 : List UInt8 := [42, 43, 42, 43, 182, 0, 9, 4, 100, 28, 100, 183, 0, 15, 172]
abbrev dktX10_image_0 : List UInt8 := dkwX10_image_0 ++ []
theorem dksX10_image_0 : cX10_image.data.toList.drop 0 = dktX10_image_0 := by decide +kernel
theorem dX10_image_0 : decode cX10_image 0 = .ok (.aload_n 0, 1) := dk_42 (dk_at dksX10_image_0 0 rfl rfl)
theorem dX10_image_1 : decode cX10_image 1 = .ok (.aload_n 1, 1) := dk_43 (dk_at dksX10_image_0 1 rfl rfl)
theorem dX10_image_2 : decode cX10_image 2 = .ok (.aload_n 0, 1) := dk_42 (dk_at dksX10_image_0 2 rfl rfl)
theorem dX10_image_3 : decode cX10_image 3 = .ok (.aload_n 1, 1) := dk_43 (dk_at dksX10_image_0 3 rfl rfl)
theorem dX10_image_4 : decode cX10_image 4 = .ok (.invokevirtual 9, 3) := dk_182 0 9 (dk_at dksX10_image_0 4 rfl rfl)
theorem dX10_image_7 : decode cX10_image 7 = .ok (.iconst 1, 1) := dk_4 (dk_at dksX10_image_0 7 rfl rfl)
theorem dX10_image_8 : decode cX10_image 8 = .ok (.isub, 1) := dk_100 (dk_at dksX10_image_0 8 rfl rfl)
theorem dX10_image_9 : decode cX10_image 9 = .ok (.iload_n 2, 1) := dk_28 (dk_at dksX10_image_0 9 rfl rfl)
theorem dX10_image_10 : decode cX10_image 10 = .ok (.isub, 1) := dk_100 (dk_at dksX10_image_0 10 rfl rfl)
theorem dX10_image_11 : decode cX10_image 11 = .ok (.invokespecial 15, 3) := dk_183 0 15 (dk_at dksX10_image_0 11 rfl rfl)
theorem dX10_image_14 : decode cX10_image 14 = .ok (.ireturn, 1) := dk_172 (dk_at dksX10_image_0 14 rfl rfl)
abbrev cX10_mark : ByteArray := prog_8_method_5_code
def yX10_mark : MethodName := ⟨RX10, "mark", "(LInflatedRows$Trail;LInflatedRows$Book;)I"⟩
def dkwX10_mark_0 : List UInt8 := [43, 16, 24, 182, 0, 19, 5, 42, 43, 44, 183, 0, 28, 104, 172]
abbrev dktX10_mark_0 : List UInt8 := dkwX10_mark_0 ++ []
theorem dksX10_mark_0 : cX10_mark.data.toList.drop 0 = dktX10_mark_0 := by decide +kernel
theorem dX10_mark_0 : decode cX10_mark 0 = .ok (.aload_n 1, 1) := dk_43 (dk_at dksX10_mark_0 0 rfl rfl)
theorem dX10_mark_1 : decode cX10_mark 1 = .ok (.bipush 24, 2) := dk_16 24 (dk_at dksX10_mark_0 1 rfl rfl)
theorem dX10_mark_3 : decode cX10_mark 3 = .ok (.invokevirtual 19, 3) := dk_182 0 19 (dk_at dksX10_mark_0 3 rfl rfl)
theorem dX10_mark_6 : decode cX10_mark 6 = .ok (.iconst 2, 1) := dk_5 (dk_at dksX10_mark_0 6 rfl rfl)
theorem dX10_mark_7 : decode cX10_mark 7 = .ok (.aload_n 0, 1) := dk_42 (dk_at dksX10_mark_0 7 rfl rfl)
theorem dX10_mark_8 : decode cX10_mark 8 = .ok (.aload_n 1, 1) := dk_43 (dk_at dksX10_mark_0 8 rfl rfl)
theorem dX10_mark_9 : decode cX10_mark 9 = .ok (.aload_n 2, 1) := dk_44 (dk_at dksX10_mark_0 9 rfl rfl)
theorem dX10_mark_10 : decode cX10_mark 10 = .ok (.invokespecial 28, 3) := dk_183 0 28 (dk_at dksX10_mark_0 10 rfl rfl)
theorem dX10_mark_13 : decode cX10_mark 13 = .ok (.imul, 1) := dk_104 (dk_at dksX10_mark_0 13 rfl rfl)
theorem dX10_mark_14 : decode cX10_mark 14 = .ok (.ireturn, 1) := dk_172 (dk_at dksX10_mark_0 14 rfl rfl)
abbrev cX10_size : ByteArray := prog_8_method_4_code
def yX10_size : MethodName := ⟨RX10, "size", "(LInflatedRows$Trail;LInflatedRows$Book;)I"⟩
def dkwX10_size_0 : List UInt8 := [43, 16, 12, 182, 0, 19, 42, 43, 44, 183, 0, 24, 116, 172]
abbrev dktX10_size_0 : List UInt8 := dkwX10_size_0 ++ []
theorem dksX10_size_0 : cX10_size.data.toList.drop 0 = dktX10_size_0 := by decide +kernel
theorem dX10_size_0 : decode cX10_size 0 = .ok (.aload_n 1, 1) := dk_43 (dk_at dksX10_size_0 0 rfl rfl)
theorem dX10_size_1 : decode cX10_size 1 = .ok (.bipush 12, 2) := dk_16 12 (dk_at dksX10_size_0 1 rfl rfl)
theorem dX10_size_3 : decode cX10_size 3 = .ok (.invokevirtual 19, 3) := dk_182 0 19 (dk_at dksX10_size_0 3 rfl rfl)
theorem dX10_size_6 : decode cX10_size 6 = .ok (.aload_n 0, 1) := dk_42 (dk_at dksX10_size_0 6 rfl rfl)
theorem dX10_size_7 : decode cX10_size 7 = .ok (.aload_n 1, 1) := dk_43 (dk_at dksX10_size_0 7 rfl rfl)
theorem dX10_size_8 : decode cX10_size 8 = .ok (.aload_n 2, 1) := dk_44 (dk_at dksX10_size_0 8 rfl rfl)
theorem dX10_size_9 : decode cX10_size 9 = .ok (.invokespecial 24, 3) := dk_183 0 24 (dk_at dksX10_size_0 9 rfl rfl)
theorem dX10_size_12 : decode cX10_size 12 = .ok (.ineg, 1) := dk_116 (dk_at dksX10_size_0 12 rfl rfl)
theorem dX10_size_13 : decode cX10_size 13 = .ok (.ireturn, 1) := dk_172 (dk_at dksX10_size_0 13 rfl rfl)
theorem q86 : (Jvm.Cond.initialized "InflatedRows$Mirrored") ∈ lw_all := lw_g (lw_at lw_m1 24 rfl) rfl
theorem q627 : (Jvm.Cond.instantiable "InflatedRows$Mirrored" (1 : Nat)) ∈ lw_all := lw_g (lw_at lw_m3 85 rfl) rfl
theorem q629 : (Jvm.Cond.instanceMethod ({ cls := "InflatedRows$Mirrored", name := "<init>", desc := "(I)V" } : Jvm.MethodName)) ∈ lw_all := lw_g (lw_at lw_m3 87 rfl) rfl
theorem q630 : (Jvm.Cond.code ({ cls := "InflatedRows$Mirrored", name := "<init>", desc := "(I)V" } : Jvm.MethodName) prog_8_method_1_code (2 : Nat) (Option.none : Option Jvm.ClassFile.FieldType)) ∈ lw_all := lw_g (lw_at lw_m3 88 rfl) rfl
theorem q631 : (Jvm.Cond.methodLink "InflatedRows$Mirrored" (3 : Nat) ({ cls := "InflatedRows$Plain", name := "<init>", desc := "(I)V" } : Jvm.MethodName)) ∈ lw_all := lw_g (lw_at lw_m3 89 rfl) rfl
theorem q632 : (Jvm.Cond.laysFinal "InflatedRows$Mirrored" "InflatedRows$Sort" "number" "I") ∈ lw_all := lw_g (lw_at lw_m3 90 rfl) rfl
theorem q633 : (Jvm.Cond.superclass "InflatedRows$Mirrored" "InflatedRows$Plain") ∈ lw_all := lw_g (lw_at lw_m3 91 rfl) rfl
theorem q701 : (Jvm.Cond.selects "InflatedRows$Mirrored" ({ cls := "java/lang/Object", name := "getClass", desc := "()Ljava/lang/Class;" } : Jvm.MethodName) ({ cls := "java/lang/Object", name := "getClass", desc := "()Ljava/lang/Class;" } : Jvm.MethodName)) ∈ lw_all := lw_g (lw_at lw_m3 159 rfl) rfl
theorem q817 : (Jvm.Cond.selects "InflatedRows$Mirrored" ({ cls := "InflatedRows$Sort", name := "kind", desc := "()I" } : Jvm.MethodName) ({ cls := "InflatedRows$Mirrored", name := "kind", desc := "()I" } : Jvm.MethodName)) ∈ lw_all := lw_g (lw_at lw_m4 35 rfl) rfl
theorem q818 : (Jvm.Cond.instanceMethod ({ cls := "InflatedRows$Mirrored", name := "kind", desc := "()I" } : Jvm.MethodName)) ∈ lw_all := lw_g (lw_at lw_m4 36 rfl) rfl
theorem q819 : (Jvm.Cond.code ({ cls := "InflatedRows$Mirrored", name := "kind", desc := "()I" } : Jvm.MethodName) prog_8_method_2_code (1 : Nat) (Option.some Jvm.ClassFile.FieldType.int)) ∈ lw_all := lw_g (lw_at lw_m4 37 rfl) rfl
theorem q901 : (Jvm.Cond.selects "InflatedRows$Mirrored" ({ cls := "InflatedRows$Plain", name := "number", desc := "()I" } : Jvm.MethodName) ({ cls := "InflatedRows$Sort", name := "number", desc := "()I" } : Jvm.MethodName)) ∈ lw_all := lw_g (lw_at lw_m4 119 rfl) rfl
theorem q905 : (Jvm.Cond.selects "InflatedRows$Mirrored" ({ cls := "InflatedRows$Sort", name := "becomes", desc := "(LInflatedRows$Book;)I" } : Jvm.MethodName) ({ cls := "InflatedRows$Plain", name := "becomes", desc := "(LInflatedRows$Book;)I" } : Jvm.MethodName)) ∈ lw_all := lw_g (lw_at lw_m4 123 rfl) rfl
theorem q924 : (Jvm.Cond.selects "InflatedRows$Mirrored" ({ cls := "InflatedRows$Sort", name := "image", desc := "(LInflatedRows$Book;I)I" } : Jvm.MethodName) ({ cls := "InflatedRows$Mirrored", name := "image", desc := "(LInflatedRows$Book;I)I" } : Jvm.MethodName)) ∈ lw_all := lw_g (lw_at lw_m4 142 rfl) rfl
theorem q925 : (Jvm.Cond.instanceMethod ({ cls := "InflatedRows$Mirrored", name := "image", desc := "(LInflatedRows$Book;I)I" } : Jvm.MethodName)) ∈ lw_all := lw_g (lw_at lw_m4 143 rfl) rfl
theorem q926 : (Jvm.Cond.code ({ cls := "InflatedRows$Mirrored", name := "image", desc := "(LInflatedRows$Book;I)I" } : Jvm.MethodName) prog_8_method_3_code (3 : Nat) (Option.some Jvm.ClassFile.FieldType.int)) ∈ lw_all := lw_g (lw_at lw_m4 144 rfl) rfl
theorem q927 : (Jvm.Cond.methodLink "InflatedRows$Mirrored" (9 : Nat) ({ cls := "InflatedRows$Mirrored", name := "becomes", desc := "(LInflatedRows$Book;)I" } : Jvm.MethodName)) ∈ lw_all := lw_g (lw_at lw_m4 145 rfl) rfl
theorem q928 : (Jvm.Cond.sameMethod "InflatedRows$Mirrored" "InflatedRows$Plain" "becomes" "(LInflatedRows$Book;)I") ∈ lw_all := lw_g (lw_at lw_m4 146 rfl) rfl
theorem q930 : (Jvm.Cond.selects "InflatedRows$Mirrored" ({ cls := "InflatedRows$Mirrored", name := "becomes", desc := "(LInflatedRows$Book;)I" } : Jvm.MethodName) ({ cls := "InflatedRows$Plain", name := "becomes", desc := "(LInflatedRows$Book;)I" } : Jvm.MethodName)) ∈ lw_all := lw_g (lw_at lw_m4 148 rfl) rfl
theorem q931 : (Jvm.Cond.methodLink "InflatedRows$Mirrored" (15 : Nat) ({ cls := "InflatedRows$Plain", name := "image", desc := "(LInflatedRows$Book;I)I" } : Jvm.MethodName)) ∈ lw_all := lw_g (lw_at lw_m4 149 rfl) rfl
theorem q982 : (Jvm.Cond.selects "InflatedRows$Mirrored" ({ cls := "InflatedRows$Sort", name := "length", desc := "(LInflatedRows$Book;I)I" } : Jvm.MethodName) ({ cls := "InflatedRows$Sort", name := "length", desc := "(LInflatedRows$Book;I)I" } : Jvm.MethodName)) ∈ lw_all := lw_g (lw_at lw_m4 200 rfl) rfl
theorem q1230 : (Jvm.Cond.castable "InflatedRows$Mirrored" "InflatedRows$Marked") ∈ lw_tbl := lw_at lw_m5 208 rfl
theorem q1231 : (Jvm.Cond.selects "InflatedRows$Mirrored" ({ cls := "InflatedRows$Marked", name := "number", desc := "()I" } : Jvm.MethodName) ({ cls := "InflatedRows$Sort", name := "number", desc := "()I" } : Jvm.MethodName)) ∈ lw_all := lw_g (lw_at lw_m5 209 rfl) rfl
theorem q1232 : (Jvm.Cond.unhidden "InflatedRows$Mirrored" "number" "()I") ∈ lw_tbl := lw_at lw_m5 210 rfl
theorem q1239 : (Jvm.Cond.selects "InflatedRows$Mirrored" ({ cls := "InflatedRows$Plain", name := "mark", desc := "(LInflatedRows$Trail;LInflatedRows$Book;)I" } : Jvm.MethodName) ({ cls := "InflatedRows$Mirrored", name := "mark", desc := "(LInflatedRows$Trail;LInflatedRows$Book;)I" } : Jvm.MethodName)) ∈ lw_all := lw_g (lw_at lw_m5 217 rfl) rfl
theorem q1240 : (Jvm.Cond.instanceMethod ({ cls := "InflatedRows$Mirrored", name := "mark", desc := "(LInflatedRows$Trail;LInflatedRows$Book;)I" } : Jvm.MethodName)) ∈ lw_all := lw_g (lw_at lw_m5 218 rfl) rfl
theorem q1241 : (Jvm.Cond.code ({ cls := "InflatedRows$Mirrored", name := "mark", desc := "(LInflatedRows$Trail;LInflatedRows$Book;)I" } : Jvm.MethodName) prog_8_method_5_code (3 : Nat) (Option.some Jvm.ClassFile.FieldType.int)) ∈ lw_all := lw_g (lw_at lw_m5 219 rfl) rfl
theorem q1242 : (Jvm.Cond.methodLink "InflatedRows$Mirrored" (19 : Nat) ({ cls := "InflatedRows$Trail", name := "begins", desc := "(I)V" } : Jvm.MethodName)) ∈ lw_all := lw_g (lw_at lw_m5 220 rfl) rfl
theorem q1243 : (Jvm.Cond.methodLink "InflatedRows$Mirrored" (28 : Nat) ({ cls := "InflatedRows$Plain", name := "mark", desc := "(LInflatedRows$Trail;LInflatedRows$Book;)I" } : Jvm.MethodName)) ∈ lw_all := lw_g (lw_at lw_m5 221 rfl) rfl
theorem q1244 : (Jvm.Cond.selects "InflatedRows$Mirrored" ({ cls := "InflatedRows$Marked", name := "size", desc := "(LInflatedRows$Trail;LInflatedRows$Book;)I" } : Jvm.MethodName) ({ cls := "InflatedRows$Mirrored", name := "size", desc := "(LInflatedRows$Trail;LInflatedRows$Book;)I" } : Jvm.MethodName)) ∈ lw_all := lw_g (lw_at lw_m5 222 rfl) rfl
theorem q1245 : (Jvm.Cond.unhidden "InflatedRows$Mirrored" "size" "(LInflatedRows$Trail;LInflatedRows$Book;)I") ∈ lw_tbl := lw_at lw_m5 223 rfl
theorem q1246 : (Jvm.Cond.instanceMethod ({ cls := "InflatedRows$Mirrored", name := "size", desc := "(LInflatedRows$Trail;LInflatedRows$Book;)I" } : Jvm.MethodName)) ∈ lw_all := lw_g (lw_at lw_m5 224 rfl) rfl
theorem q1247 : (Jvm.Cond.publicMethod ({ cls := "InflatedRows$Mirrored", name := "size", desc := "(LInflatedRows$Trail;LInflatedRows$Book;)I" } : Jvm.MethodName)) ∈ lw_tbl := lw_at lw_m5 225 rfl
theorem q1248 : (Jvm.Cond.code ({ cls := "InflatedRows$Mirrored", name := "size", desc := "(LInflatedRows$Trail;LInflatedRows$Book;)I" } : Jvm.MethodName) prog_8_method_4_code (3 : Nat) (Option.some Jvm.ClassFile.FieldType.int)) ∈ lw_all := lw_g (lw_at lw_m5 226 rfl) rfl
theorem q1249 : (Jvm.Cond.methodLink "InflatedRows$Mirrored" (24 : Nat) ({ cls := "InflatedRows$Plain", name := "size", desc := "(LInflatedRows$Trail;LInflatedRows$Book;)I" } : Jvm.MethodName)) ∈ lw_all := lw_g (lw_at lw_m5 227 rfl) rfl
theorem q1271 : (Jvm.Cond.selects "InflatedRows$Mirrored" ({ cls := "InflatedRows$Marked", name := "mark", desc := "(LInflatedRows$Trail;LInflatedRows$Book;)I" } : Jvm.MethodName) ({ cls := "InflatedRows$Mirrored", name := "mark", desc := "(LInflatedRows$Trail;LInflatedRows$Book;)I" } : Jvm.MethodName)) ∈ lw_all := lw_g (lw_at lw_m6 9 rfl) rfl
theorem q1272 : (Jvm.Cond.unhidden "InflatedRows$Mirrored" "mark" "(LInflatedRows$Trail;LInflatedRows$Book;)I") ∈ lw_tbl := lw_at lw_m6 10 rfl
theorem q1273 : (Jvm.Cond.publicMethod ({ cls := "InflatedRows$Mirrored", name := "mark", desc := "(LInflatedRows$Trail;LInflatedRows$Book;)I" } : Jvm.MethodName)) ∈ lw_tbl := lw_at lw_m6 11 rfl
theorem q1745 : (Jvm.Cond.selects "InflatedRows$Mirrored" ({ cls := "InflatedRows$Sort", name := "number", desc := "()I" } : Jvm.MethodName) ({ cls := "InflatedRows$Sort", name := "number", desc := "()I" } : Jvm.MethodName)) ∈ lw_all := lw_g (lw_at lw_m8 3 rfl) rfl
theorem q1758 : (Jvm.Cond.castable "InflatedRows$Mirrored" "InflatedRows$Sort") ∈ lw_tbl := lw_at lw_m8 16 rfl
theorem q1762 : (Jvm.Cond.castable "InflatedRows$Mirrored" "InflatedRows$Plain") ∈ lw_tbl := lw_at lw_m8 20 rfl
theorem q1775 : (Jvm.Cond.castable "InflatedRows$Mirrored" "java/lang/Object") ∈ lw_tbl := lw_at lw_m8 33 rfl
theorem in_X10 : ∀ w ∈ wsX100, w ∈ lw_all := lw_in wsX100 [632] (by decide +kernel) (by decide +kernel)
/-! InflatedRows$Longer -/
set_option maxRecDepth 100000
def RX11 : String := "InflatedRows$Longer"
def TX11 : u_T := fun k => match k with
  | _ => ("InflatedRows$Sort", "number", "I", true)
def tyX11 : Nat → FieldType := fun k => match k with
  | _ => .int
abbrev wsX110 : List Cond := u_ws RX11 TX11 1
theorem nmX11 : ∀ a, a < 1 → ∀ b, b < 1 → a ≠ b → (TX11 a).2.1 ≠ (TX11 b).2.1 := by decide +kernel
theorem tyX11_ok : ∀ k, k < 1 → parseFieldDescriptor (TX11 k).2.2.1 = some (tyX11 k) := by decide +kernel
abbrev cX11_init : ByteArray := prog_6_method_1_code
def yX11_init : MethodName := ⟨RX11, "<init>", "(I)V"⟩
def dkwX11_init_0 : List UInt8 := [42, 27, 183, 0, 3, 177]
abbrev dktX11_init_0 : List UInt8 := dkwX11_init_0 ++ []
theorem dksX11_init_0 : cX11_init.data.toList.drop 0 = dktX11_init_0 := by decide +kernel
theorem dX11_init_0 : decode cX11_init 0 = .ok (.aload_n 0, 1) := dk_42 (dk_at dksX11_init_0 0 rfl rfl)
theorem dX11_init_1 : decode cX11_init 1 = .ok (.iload_n 1, 1) := dk_27 (dk_at dksX11_init_0 1 rfl rfl)
theorem dX11_init_2 : decode cX11_init 2 = .ok (.invokespecial 3, 3) := dk_183 0 3 (dk_at dksX11_init_0 2 rfl rfl)
theorem dX11_init_5 : decode cX11_init 5 = .ok (.return_, 1) := dk_177 (dk_at dksX11_init_0 5 rfl rfl)
abbrev cX11_kind : ByteArray := prog_6_method_2_code
def yX11_kind : MethodName := ⟨RX11, "kind", "()I"⟩
theorem dX11_kind_0 : decode cX11_kind 0 = .ok (.iconst 3, 1) := by decide +kernel
theorem dX11_kind_1 : decode cX11_kind 1 = .ok (.ireturn, 1) := by decide +kernel
abbrev cX11_length : ByteArray := prog_6_method_3_code
def yX11_length : MethodName := ⟨RX11, "length", "(LInflatedRows$Book;I)I"⟩
def dkwX11_length_0 : List UInt8 := [5, 42, 43, 28, 183, 0, 9, 104, 172]
abbrev dktX11_length_0 : List UInt8 := dkwX11_length_0 ++ []
theorem dksX11_length_0 : cX11_length.data.toList.drop 0 = dktX11_length_0 := by decide +kernel
theorem dX11_length_0 : decode cX11_length 0 = .ok (.iconst 2, 1) := dk_5 (dk_at dksX11_length_0 0 rfl rfl)
theorem dX11_length_1 : decode cX11_length 1 = .ok (.aload_n 0, 1) := dk_42 (dk_at dksX11_length_0 1 rfl rfl)
theorem dX11_length_2 : decode cX11_length 2 = .ok (.aload_n 1, 1) := dk_43 (dk_at dksX11_length_0 2 rfl rfl)
theorem dX11_length_3 : decode cX11_length 3 = .ok (.iload_n 2, 1) := dk_28 (dk_at dksX11_length_0 3 rfl rfl)
theorem dX11_length_4 : decode cX11_length 4 = .ok (.invokespecial 9, 3) := dk_183 0 9 (dk_at dksX11_length_0 4 rfl rfl)
theorem dX11_length_7 : decode cX11_length 7 = .ok (.imul, 1) := dk_104 (dk_at dksX11_length_0 7 rfl rfl)
theorem dX11_length_8 : decode cX11_length 8 = .ok (.ireturn, 1) := dk_172 (dk_at dksX11_length_0 8 rfl rfl)
abbrev cX11_mark : ByteArray := prog_6_method_4_code
def yX11_mark : MethodName := ⟨RX11, "mark", "(LInflatedRows$Trail;LInflatedRows$Book;)I"⟩
def dkwX11_mark_0 : List UInt8 := [43, 16, 22, 182, 0, 13, 42, 43, 44, 183, 0, 18, 17, 3, 232, 100, 172]
abbrev dktX11_mark_0 : List UInt8 := dkwX11_mark_0 ++ []
theorem dksX11_mark_0 : cX11_mark.data.toList.drop 0 = dktX11_mark_0 := by decide +kernel
theorem dX11_mark_0 : decode cX11_mark 0 = .ok (.aload_n 1, 1) := dk_43 (dk_at dksX11_mark_0 0 rfl rfl)
theorem dX11_mark_1 : decode cX11_mark 1 = .ok (.bipush 22, 2) := dk_16 22 (dk_at dksX11_mark_0 1 rfl rfl)
theorem dX11_mark_3 : decode cX11_mark 3 = .ok (.invokevirtual 13, 3) := dk_182 0 13 (dk_at dksX11_mark_0 3 rfl rfl)
theorem dX11_mark_6 : decode cX11_mark 6 = .ok (.aload_n 0, 1) := dk_42 (dk_at dksX11_mark_0 6 rfl rfl)
theorem dX11_mark_7 : decode cX11_mark 7 = .ok (.aload_n 1, 1) := dk_43 (dk_at dksX11_mark_0 7 rfl rfl)
theorem dX11_mark_8 : decode cX11_mark 8 = .ok (.aload_n 2, 1) := dk_44 (dk_at dksX11_mark_0 8 rfl rfl)
theorem dX11_mark_9 : decode cX11_mark 9 = .ok (.invokespecial 18, 3) := dk_183 0 18 (dk_at dksX11_mark_0 9 rfl rfl)
theorem dX11_mark_12 : decode cX11_mark 12 = .ok (.sipush 1000, 3) := dk_17 3 232 (dk_at dksX11_mark_0 12 rfl rfl)
theorem dX11_mark_15 : decode cX11_mark 15 = .ok (.isub, 1) := dk_100 (dk_at dksX11_mark_0 15 rfl rfl)
theorem dX11_mark_16 : decode cX11_mark 16 = .ok (.ireturn, 1) := dk_172 (dk_at dksX11_mark_0 16 rfl rfl)
theorem q87 : (Jvm.Cond.initialized "InflatedRows$Longer") ∈ lw_all := lw_g (lw_at lw_m1 25 rfl) rfl
theorem q635 : (Jvm.Cond.instantiable "InflatedRows$Longer" (1 : Nat)) ∈ lw_all := lw_g (lw_at lw_m3 93 rfl) rfl
theorem q637 : (Jvm.Cond.instanceMethod ({ cls := "InflatedRows$Longer", name := "<init>", desc := "(I)V" } : Jvm.MethodName)) ∈ lw_all := lw_g (lw_at lw_m3 95 rfl) rfl
theorem q638 : (Jvm.Cond.code ({ cls := "InflatedRows$Longer", name := "<init>", desc := "(I)V" } : Jvm.MethodName) prog_6_method_1_code (2 : Nat) (Option.none : Option Jvm.ClassFile.FieldType)) ∈ lw_all := lw_g (lw_at lw_m3 96 rfl) rfl
theorem q639 : (Jvm.Cond.methodLink "InflatedRows$Longer" (3 : Nat) ({ cls := "InflatedRows$Plain", name := "<init>", desc := "(I)V" } : Jvm.MethodName)) ∈ lw_all := lw_g (lw_at lw_m3 97 rfl) rfl
theorem q640 : (Jvm.Cond.laysFinal "InflatedRows$Longer" "InflatedRows$Sort" "number" "I") ∈ lw_all := lw_g (lw_at lw_m3 98 rfl) rfl
theorem q641 : (Jvm.Cond.superclass "InflatedRows$Longer" "InflatedRows$Plain") ∈ lw_all := lw_g (lw_at lw_m3 99 rfl) rfl
theorem q700 : (Jvm.Cond.selects "InflatedRows$Longer" ({ cls := "java/lang/Object", name := "getClass", desc := "()Ljava/lang/Class;" } : Jvm.MethodName) ({ cls := "java/lang/Object", name := "getClass", desc := "()Ljava/lang/Class;" } : Jvm.MethodName)) ∈ lw_all := lw_g (lw_at lw_m3 158 rfl) rfl
theorem q814 : (Jvm.Cond.selects "InflatedRows$Longer" ({ cls := "InflatedRows$Sort", name := "kind", desc := "()I" } : Jvm.MethodName) ({ cls := "InflatedRows$Longer", name := "kind", desc := "()I" } : Jvm.MethodName)) ∈ lw_all := lw_g (lw_at lw_m4 32 rfl) rfl
theorem q815 : (Jvm.Cond.instanceMethod ({ cls := "InflatedRows$Longer", name := "kind", desc := "()I" } : Jvm.MethodName)) ∈ lw_all := lw_g (lw_at lw_m4 33 rfl) rfl
theorem q816 : (Jvm.Cond.code ({ cls := "InflatedRows$Longer", name := "kind", desc := "()I" } : Jvm.MethodName) prog_6_method_2_code (1 : Nat) (Option.some Jvm.ClassFile.FieldType.int)) ∈ lw_all := lw_g (lw_at lw_m4 34 rfl) rfl
theorem q894 : (Jvm.Cond.selects "InflatedRows$Longer" ({ cls := "InflatedRows$Sort", name := "becomes", desc := "(LInflatedRows$Book;)I" } : Jvm.MethodName) ({ cls := "InflatedRows$Plain", name := "becomes", desc := "(LInflatedRows$Book;)I" } : Jvm.MethodName)) ∈ lw_all := lw_g (lw_at lw_m4 112 rfl) rfl
theorem q900 : (Jvm.Cond.selects "InflatedRows$Longer" ({ cls := "InflatedRows$Plain", name := "number", desc := "()I" } : Jvm.MethodName) ({ cls := "InflatedRows$Sort", name := "number", desc := "()I" } : Jvm.MethodName)) ∈ lw_all := lw_g (lw_at lw_m4 118 rfl) rfl
theorem q921 : (Jvm.Cond.selects "InflatedRows$Longer" ({ cls := "InflatedRows$Sort", name := "image", desc := "(LInflatedRows$Book;I)I" } : Jvm.MethodName) ({ cls := "InflatedRows$Plain", name := "image", desc := "(LInflatedRows$Book;I)I" } : Jvm.MethodName)) ∈ lw_all := lw_g (lw_at lw_m4 139 rfl) rfl
theorem q975 : (Jvm.Cond.selects "InflatedRows$Longer" ({ cls := "InflatedRows$Sort", name := "length", desc := "(LInflatedRows$Book;I)I" } : Jvm.MethodName) ({ cls := "InflatedRows$Longer", name := "length", desc := "(LInflatedRows$Book;I)I" } : Jvm.MethodName)) ∈ lw_all := lw_g (lw_at lw_m4 193 rfl) rfl
theorem q976 : (Jvm.Cond.instanceMethod ({ cls := "InflatedRows$Longer", name := "length", desc := "(LInflatedRows$Book;I)I" } : Jvm.MethodName)) ∈ lw_all := lw_g (lw_at lw_m4 194 rfl) rfl
theorem q977 : (Jvm.Cond.code ({ cls := "InflatedRows$Longer", name := "length", desc := "(LInflatedRows$Book;I)I" } : Jvm.MethodName) prog_6_method_3_code (3 : Nat) (Option.some Jvm.ClassFile.FieldType.int)) ∈ lw_all := lw_g (lw_at lw_m4 195 rfl) rfl
theorem q978 : (Jvm.Cond.methodLink "InflatedRows$Longer" (9 : Nat) ({ cls := "InflatedRows$Plain", name := "length", desc := "(LInflatedRows$Book;I)I" } : Jvm.MethodName)) ∈ lw_all := lw_g (lw_at lw_m4 196 rfl) rfl
theorem q1198 : (Jvm.Cond.castable "InflatedRows$Longer" "InflatedRows$Marked") ∈ lw_tbl := lw_at lw_m5 176 rfl
theorem q1199 : (Jvm.Cond.selects "InflatedRows$Longer" ({ cls := "InflatedRows$Marked", name := "size", desc := "(LInflatedRows$Trail;LInflatedRows$Book;)I" } : Jvm.MethodName) ({ cls := "InflatedRows$Plain", name := "size", desc := "(LInflatedRows$Trail;LInflatedRows$Book;)I" } : Jvm.MethodName)) ∈ lw_all := lw_g (lw_at lw_m5 177 rfl) rfl
theorem q1200 : (Jvm.Cond.unhidden "InflatedRows$Longer" "size" "(LInflatedRows$Trail;LInflatedRows$Book;)I") ∈ lw_tbl := lw_at lw_m5 178 rfl
theorem q1210 : (Jvm.Cond.selects "InflatedRows$Longer" ({ cls := "InflatedRows$Plain", name := "mark", desc := "(LInflatedRows$Trail;LInflatedRows$Book;)I" } : Jvm.MethodName) ({ cls := "InflatedRows$Longer", name := "mark", desc := "(LInflatedRows$Trail;LInflatedRows$Book;)I" } : Jvm.MethodName)) ∈ lw_all := lw_g (lw_at lw_m5 188 rfl) rfl
theorem q1211 : (Jvm.Cond.instanceMethod ({ cls := "InflatedRows$Longer", name := "mark", desc := "(LInflatedRows$Trail;LInflatedRows$Book;)I" } : Jvm.MethodName)) ∈ lw_all := lw_g (lw_at lw_m5 189 rfl) rfl
theorem q1212 : (Jvm.Cond.code ({ cls := "InflatedRows$Longer", name := "mark", desc := "(LInflatedRows$Trail;LInflatedRows$Book;)I" } : Jvm.MethodName) prog_6_method_4_code (3 : Nat) (Option.some Jvm.ClassFile.FieldType.int)) ∈ lw_all := lw_g (lw_at lw_m5 190 rfl) rfl
theorem q1213 : (Jvm.Cond.methodLink "InflatedRows$Longer" (13 : Nat) ({ cls := "InflatedRows$Trail", name := "begins", desc := "(I)V" } : Jvm.MethodName)) ∈ lw_all := lw_g (lw_at lw_m5 191 rfl) rfl
theorem q1214 : (Jvm.Cond.methodLink "InflatedRows$Longer" (18 : Nat) ({ cls := "InflatedRows$Plain", name := "mark", desc := "(LInflatedRows$Trail;LInflatedRows$Book;)I" } : Jvm.MethodName)) ∈ lw_all := lw_g (lw_at lw_m5 192 rfl) rfl
theorem q1228 : (Jvm.Cond.selects "InflatedRows$Longer" ({ cls := "InflatedRows$Marked", name := "number", desc := "()I" } : Jvm.MethodName) ({ cls := "InflatedRows$Sort", name := "number", desc := "()I" } : Jvm.MethodName)) ∈ lw_all := lw_g (lw_at lw_m5 206 rfl) rfl
theorem q1229 : (Jvm.Cond.unhidden "InflatedRows$Longer" "number" "()I") ∈ lw_tbl := lw_at lw_m5 207 rfl
theorem q1268 : (Jvm.Cond.selects "InflatedRows$Longer" ({ cls := "InflatedRows$Marked", name := "mark", desc := "(LInflatedRows$Trail;LInflatedRows$Book;)I" } : Jvm.MethodName) ({ cls := "InflatedRows$Longer", name := "mark", desc := "(LInflatedRows$Trail;LInflatedRows$Book;)I" } : Jvm.MethodName)) ∈ lw_all := lw_g (lw_at lw_m6 6 rfl) rfl
theorem q1269 : (Jvm.Cond.unhidden "InflatedRows$Longer" "mark" "(LInflatedRows$Trail;LInflatedRows$Book;)I") ∈ lw_tbl := lw_at lw_m6 7 rfl
theorem q1270 : (Jvm.Cond.publicMethod ({ cls := "InflatedRows$Longer", name := "mark", desc := "(LInflatedRows$Trail;LInflatedRows$Book;)I" } : Jvm.MethodName)) ∈ lw_tbl := lw_at lw_m6 8 rfl
theorem q1744 : (Jvm.Cond.selects "InflatedRows$Longer" ({ cls := "InflatedRows$Sort", name := "number", desc := "()I" } : Jvm.MethodName) ({ cls := "InflatedRows$Sort", name := "number", desc := "()I" } : Jvm.MethodName)) ∈ lw_all := lw_g (lw_at lw_m8 2 rfl) rfl
theorem q1757 : (Jvm.Cond.castable "InflatedRows$Longer" "InflatedRows$Sort") ∈ lw_tbl := lw_at lw_m8 15 rfl
theorem q1761 : (Jvm.Cond.castable "InflatedRows$Longer" "InflatedRows$Plain") ∈ lw_tbl := lw_at lw_m8 19 rfl
theorem q1776 : (Jvm.Cond.castable "InflatedRows$Longer" "java/lang/Object") ∈ lw_tbl := lw_at lw_m8 34 rfl
theorem in_X11 : ∀ w ∈ wsX110, w ∈ lw_all := lw_in wsX110 [640] (by decide +kernel) (by decide +kernel)
/-! InflatedRows$Fixed -/
set_option maxRecDepth 100000
def RX12 : String := "InflatedRows$Fixed"
def TX12 : u_T := fun k => match k with
  | _ => ("InflatedRows$Sort", "number", "I", true)
def tyX12 : Nat → FieldType := fun k => match k with
  | _ => .int
abbrev wsX120 : List Cond := u_ws RX12 TX12 1
theorem nmX12 : ∀ a, a < 1 → ∀ b, b < 1 → a ≠ b → (TX12 a).2.1 ≠ (TX12 b).2.1 := by decide +kernel
theorem tyX12_ok : ∀ k, k < 1 → parseFieldDescriptor (TX12 k).2.2.1 = some (tyX12 k) := by decide +kernel
abbrev cX12_init : ByteArray := prog_5_method_1_code
def yX12_init : MethodName := ⟨RX12, "<init>", "(I)V"⟩
def dkwX12_init_0 : List UInt8 := [42, 27, 183, 0, 3, 177]
abbrev dktX12_init_0 : List UInt8 := dkwX12_init_0 ++ []
theorem dksX12_init_0 : cX12_init.data.toList.drop 0 = dktX12_init_0 := by decide +kernel
theorem dX12_init_0 : decode cX12_init 0 = .ok (.aload_n 0, 1) := dk_42 (dk_at dksX12_init_0 0 rfl rfl)
theorem dX12_init_1 : decode cX12_init 1 = .ok (.iload_n 1, 1) := dk_27 (dk_at dksX12_init_0 1 rfl rfl)
theorem dX12_init_2 : decode cX12_init 2 = .ok (.invokespecial 3, 3) := dk_183 0 3 (dk_at dksX12_init_0 2 rfl rfl)
theorem dX12_init_5 : decode cX12_init 5 = .ok (.return_, 1) := dk_177 (dk_at dksX12_init_0 5 rfl rfl)
abbrev cX12_kind : ByteArray := prog_5_method_2_code
def yX12_kind : MethodName := ⟨RX12, "kind", "()I"⟩
theorem dX12_kind_0 : decode cX12_kind 0 = .ok (.iconst 4, 1) := by decide +kernel
theorem dX12_kind_1 : decode cX12_kind 1 = .ok (.ireturn, 1) := by decide +kernel
abbrev cX12_becomes : ByteArray := prog_5_method_3_code
def yX12_becomes : MethodName := ⟨RX12, "becomes", "(LInflatedRows$Book;)I"⟩
theorem dX12_becomes_0 : decode cX12_becomes 0 = .ok (.iconst 1, 1) := by decide +kernel
theorem dX12_becomes_1 : decode cX12_becomes 1 = .ok (.ireturn, 1) := by decide +kernel
abbrev cX12_image : ByteArray := prog_5_method_4_code
def yX12_image : MethodName := ⟨RX12, "image", "(LInflatedRows$Book;I)I"⟩
theorem dX12_image_0 : decode cX12_image 0 = .ok (.aload_n 0, 1) := by decide +kernel
theorem dX12_image_1 : decode cX12_image 1 = .ok (.invokevirtual 9, 3) := by decide +kernel
theorem dX12_image_4 : decode cX12_image 4 = .ok (.ireturn, 1) := by decide +kernel
abbrev cX12_size : ByteArray := prog_5_method_5_code
def yX12_size : MethodName := ⟨RX12, "size", "(LInflatedRows$Trail;LInflatedRows$Book;)I"⟩
def dkwX12_size_0 : List UInt8 := [43, 16, 13, 182, 0, 15, 42, 43, 44, 183, 0, 20, 16, 100, 100, 172]
abbrev dktX12_size_0 : List UInt8 := dkwX12_size_0 ++ []
theorem dksX12_size_0 : cX12_size.data.toList.drop 0 = dktX12_size_0 := by decide +kernel
theorem dX12_size_0 : decode cX12_size 0 = .ok (.aload_n 1, 1) := dk_43 (dk_at dksX12_size_0 0 rfl rfl)
theorem dX12_size_1 : decode cX12_size 1 = .ok (.bipush 13, 2) := dk_16 13 (dk_at dksX12_size_0 1 rfl rfl)
theorem dX12_size_3 : decode cX12_size 3 = .ok (.invokevirtual 15, 3) := dk_182 0 15 (dk_at dksX12_size_0 3 rfl rfl)
theorem dX12_size_6 : decode cX12_size 6 = .ok (.aload_n 0, 1) := dk_42 (dk_at dksX12_size_0 6 rfl rfl)
theorem dX12_size_7 : decode cX12_size 7 = .ok (.aload_n 1, 1) := dk_43 (dk_at dksX12_size_0 7 rfl rfl)
theorem dX12_size_8 : decode cX12_size 8 = .ok (.aload_n 2, 1) := dk_44 (dk_at dksX12_size_0 8 rfl rfl)
theorem dX12_size_9 : decode cX12_size 9 = .ok (.invokespecial 20, 3) := dk_183 0 20 (dk_at dksX12_size_0 9 rfl rfl)
theorem dX12_size_12 : decode cX12_size 12 = .ok (.bipush 100, 2) := dk_16 100 (dk_at dksX12_size_0 12 rfl rfl)
theorem dX12_size_14 : decode cX12_size 14 = .ok (.isub, 1) := dk_100 (dk_at dksX12_size_0 14 rfl rfl)
theorem dX12_size_15 : decode cX12_size 15 = .ok (.ireturn, 1) := dk_172 (dk_at dksX12_size_0 15 rfl rfl)
abbrev cX12_mark : ByteArray := prog_5_method_6_code
def yX12_mark : MethodName := ⟨RX12, "mark", "(LInflatedRows$Trail;LInflatedRows$Book;)I"⟩
def dkwX12_mark_0 : List UInt8 := [43, 16, 23, 182, 0, 15, 42, 43, 44, 183, 0, 24, 42, 43, 44, 182, 0, 27, 100, 172]
abbrev dktX12_mark_0 : List UInt8 := dkwX12_mark_0 ++ []
theorem dksX12_mark_0 : cX12_mark.data.toList.drop 0 = dktX12_mark_0 := by decide +kernel
theorem dX12_mark_0 : decode cX12_mark 0 = .ok (.aload_n 1, 1) := dk_43 (dk_at dksX12_mark_0 0 rfl rfl)
theorem dX12_mark_1 : decode cX12_mark 1 = .ok (.bipush 23, 2) := dk_16 23 (dk_at dksX12_mark_0 1 rfl rfl)
theorem dX12_mark_3 : decode cX12_mark 3 = .ok (.invokevirtual 15, 3) := dk_182 0 15 (dk_at dksX12_mark_0 3 rfl rfl)
theorem dX12_mark_6 : decode cX12_mark 6 = .ok (.aload_n 0, 1) := dk_42 (dk_at dksX12_mark_0 6 rfl rfl)
theorem dX12_mark_7 : decode cX12_mark 7 = .ok (.aload_n 1, 1) := dk_43 (dk_at dksX12_mark_0 7 rfl rfl)
theorem dX12_mark_8 : decode cX12_mark 8 = .ok (.aload_n 2, 1) := dk_44 (dk_at dksX12_mark_0 8 rfl rfl)
theorem dX12_mark_9 : decode cX12_mark 9 = .ok (.invokespecial 24, 3) := dk_183 0 24 (dk_at dksX12_mark_0 9 rfl rfl)
theorem dX12_mark_12 : decode cX12_mark 12 = .ok (.aload_n 0, 1) := dk_42 (dk_at dksX12_mark_0 12 rfl rfl)
theorem dX12_mark_13 : decode cX12_mark 13 = .ok (.aload_n 1, 1) := dk_43 (dk_at dksX12_mark_0 13 rfl rfl)
theorem dX12_mark_14 : decode cX12_mark 14 = .ok (.aload_n 2, 1) := dk_44 (dk_at dksX12_mark_0 14 rfl rfl)
theorem dX12_mark_15 : decode cX12_mark 15 = .ok (.invokevirtual 27, 3) := dk_182 0 27 (dk_at dksX12_mark_0 15 rfl rfl)
theorem dX12_mark_18 : decode cX12_mark 18 = .ok (.isub, 1) := dk_100 (dk_at dksX12_mark_0 18 rfl rfl)
theorem dX12_mark_19 : decode cX12_mark 19 = .ok (.ireturn, 1) := dk_172 (dk_at dksX12_mark_0 19 rfl rfl)
theorem q88 : (Jvm.Cond.initialized "InflatedRows$Fixed") ∈ lw_all := lw_g (lw_at lw_m1 26 rfl) rfl
theorem q643 : (Jvm.Cond.instantiable "InflatedRows$Fixed" (1 : Nat)) ∈ lw_all := lw_g (lw_at lw_m3 101 rfl) rfl
theorem q645 : (Jvm.Cond.instanceMethod ({ cls := "InflatedRows$Fixed", name := "<init>", desc := "(I)V" } : Jvm.MethodName)) ∈ lw_all := lw_g (lw_at lw_m3 103 rfl) rfl
theorem q646 : (Jvm.Cond.code ({ cls := "InflatedRows$Fixed", name := "<init>", desc := "(I)V" } : Jvm.MethodName) prog_5_method_1_code (2 : Nat) (Option.none : Option Jvm.ClassFile.FieldType)) ∈ lw_all := lw_g (lw_at lw_m3 104 rfl) rfl
theorem q647 : (Jvm.Cond.methodLink "InflatedRows$Fixed" (3 : Nat) ({ cls := "InflatedRows$Sort", name := "<init>", desc := "(I)V" } : Jvm.MethodName)) ∈ lw_all := lw_g (lw_at lw_m3 105 rfl) rfl
theorem q648 : (Jvm.Cond.laysFinal "InflatedRows$Fixed" "InflatedRows$Sort" "number" "I") ∈ lw_all := lw_g (lw_at lw_m3 106 rfl) rfl
theorem q649 : (Jvm.Cond.superclass "InflatedRows$Fixed" "InflatedRows$Sort") ∈ lw_all := lw_g (lw_at lw_m3 107 rfl) rfl
theorem q699 : (Jvm.Cond.selects "InflatedRows$Fixed" ({ cls := "java/lang/Object", name := "getClass", desc := "()Ljava/lang/Class;" } : Jvm.MethodName) ({ cls := "java/lang/Object", name := "getClass", desc := "()Ljava/lang/Class;" } : Jvm.MethodName)) ∈ lw_all := lw_g (lw_at lw_m3 157 rfl) rfl
theorem q811 : (Jvm.Cond.selects "InflatedRows$Fixed" ({ cls := "InflatedRows$Sort", name := "kind", desc := "()I" } : Jvm.MethodName) ({ cls := "InflatedRows$Fixed", name := "kind", desc := "()I" } : Jvm.MethodName)) ∈ lw_all := lw_g (lw_at lw_m4 29 rfl) rfl
theorem q812 : (Jvm.Cond.instanceMethod ({ cls := "InflatedRows$Fixed", name := "kind", desc := "()I" } : Jvm.MethodName)) ∈ lw_all := lw_g (lw_at lw_m4 30 rfl) rfl
theorem q813 : (Jvm.Cond.code ({ cls := "InflatedRows$Fixed", name := "kind", desc := "()I" } : Jvm.MethodName) prog_5_method_2_code (1 : Nat) (Option.some Jvm.ClassFile.FieldType.int)) ∈ lw_all := lw_g (lw_at lw_m4 31 rfl) rfl
theorem q891 : (Jvm.Cond.selects "InflatedRows$Fixed" ({ cls := "InflatedRows$Sort", name := "becomes", desc := "(LInflatedRows$Book;)I" } : Jvm.MethodName) ({ cls := "InflatedRows$Fixed", name := "becomes", desc := "(LInflatedRows$Book;)I" } : Jvm.MethodName)) ∈ lw_all := lw_g (lw_at lw_m4 109 rfl) rfl
theorem q892 : (Jvm.Cond.instanceMethod ({ cls := "InflatedRows$Fixed", name := "becomes", desc := "(LInflatedRows$Book;)I" } : Jvm.MethodName)) ∈ lw_all := lw_g (lw_at lw_m4 110 rfl) rfl
theorem q893 : (Jvm.Cond.code ({ cls := "InflatedRows$Fixed", name := "becomes", desc := "(LInflatedRows$Book;)I" } : Jvm.MethodName) prog_5_method_3_code (2 : Nat) (Option.some Jvm.ClassFile.FieldType.int)) ∈ lw_all := lw_g (lw_at lw_m4 111 rfl) rfl
theorem q914 : (Jvm.Cond.selects "InflatedRows$Fixed" ({ cls := "InflatedRows$Sort", name := "image", desc := "(LInflatedRows$Book;I)I" } : Jvm.MethodName) ({ cls := "InflatedRows$Fixed", name := "image", desc := "(LInflatedRows$Book;I)I" } : Jvm.MethodName)) ∈ lw_all := lw_g (lw_at lw_m4 132 rfl) rfl
theorem q915 : (Jvm.Cond.instanceMethod ({ cls := "InflatedRows$Fixed", name := "image", desc := "(LInflatedRows$Book;I)I" } : Jvm.MethodName)) ∈ lw_all := lw_g (lw_at lw_m4 133 rfl) rfl
theorem q916 : (Jvm.Cond.code ({ cls := "InflatedRows$Fixed", name := "image", desc := "(LInflatedRows$Book;I)I" } : Jvm.MethodName) prog_5_method_4_code (3 : Nat) (Option.some Jvm.ClassFile.FieldType.int)) ∈ lw_all := lw_g (lw_at lw_m4 134 rfl) rfl
theorem q917 : (Jvm.Cond.methodLink "InflatedRows$Fixed" (9 : Nat) ({ cls := "InflatedRows$Fixed", name := "number", desc := "()I" } : Jvm.MethodName)) ∈ lw_all := lw_g (lw_at lw_m4 135 rfl) rfl
theorem q918 : (Jvm.Cond.sameMethod "InflatedRows$Fixed" "InflatedRows$Sort" "number" "()I") ∈ lw_all := lw_g (lw_at lw_m4 136 rfl) rfl
theorem q919 : (Jvm.Cond.selects "InflatedRows$Fixed" ({ cls := "InflatedRows$Fixed", name := "number", desc := "()I" } : Jvm.MethodName) ({ cls := "InflatedRows$Sort", name := "number", desc := "()I" } : Jvm.MethodName)) ∈ lw_all := lw_g (lw_at lw_m4 137 rfl) rfl
theorem q974 : (Jvm.Cond.selects "InflatedRows$Fixed" ({ cls := "InflatedRows$Sort", name := "length", desc := "(LInflatedRows$Book;I)I" } : Jvm.MethodName) ({ cls := "InflatedRows$Sort", name := "length", desc := "(LInflatedRows$Book;I)I" } : Jvm.MethodName)) ∈ lw_all := lw_g (lw_at lw_m4 192 rfl) rfl
theorem q1184 : (Jvm.Cond.castable "InflatedRows$Fixed" "InflatedRows$Marked") ∈ lw_tbl := lw_at lw_m5 162 rfl
theorem q1185 : (Jvm.Cond.selects "InflatedRows$Fixed" ({ cls := "InflatedRows$Marked", name := "size", desc := "(LInflatedRows$Trail;LInflatedRows$Book;)I" } : Jvm.MethodName) ({ cls := "InflatedRows$Fixed", name := "size", desc := "(LInflatedRows$Trail;LInflatedRows$Book;)I" } : Jvm.MethodName)) ∈ lw_all := lw_g (lw_at lw_m5 163 rfl) rfl
theorem q1186 : (Jvm.Cond.unhidden "InflatedRows$Fixed" "size" "(LInflatedRows$Trail;LInflatedRows$Book;)I") ∈ lw_tbl := lw_at lw_m5 164 rfl
theorem q1187 : (Jvm.Cond.instanceMethod ({ cls := "InflatedRows$Fixed", name := "size", desc := "(LInflatedRows$Trail;LInflatedRows$Book;)I" } : Jvm.MethodName)) ∈ lw_all := lw_g (lw_at lw_m5 165 rfl) rfl
theorem q1188 : (Jvm.Cond.publicMethod ({ cls := "InflatedRows$Fixed", name := "size", desc := "(LInflatedRows$Trail;LInflatedRows$Book;)I" } : Jvm.MethodName)) ∈ lw_tbl := lw_at lw_m5 166 rfl
theorem q1189 : (Jvm.Cond.code ({ cls := "InflatedRows$Fixed", name := "size", desc := "(LInflatedRows$Trail;LInflatedRows$Book;)I" } : Jvm.MethodName) prog_5_method_5_code (3 : Nat) (Option.some Jvm.ClassFile.FieldType.int)) ∈ lw_all := lw_g (lw_at lw_m5 167 rfl) rfl
theorem q1190 : (Jvm.Cond.methodLink "InflatedRows$Fixed" (15 : Nat) ({ cls := "InflatedRows$Trail", name := "begins", desc := "(I)V" } : Jvm.MethodName)) ∈ lw_all := lw_g (lw_at lw_m5 168 rfl) rfl
theorem q1194 : (Jvm.Cond.methodLink "InflatedRows$Fixed" (20 : Nat) ({ cls := "InflatedRows$Sort", name := "size", desc := "(LInflatedRows$Trail;LInflatedRows$Book;)I" } : Jvm.MethodName)) ∈ lw_all := lw_g (lw_at lw_m5 172 rfl) rfl
theorem q1225 : (Jvm.Cond.selects "InflatedRows$Fixed" ({ cls := "InflatedRows$Marked", name := "number", desc := "()I" } : Jvm.MethodName) ({ cls := "InflatedRows$Sort", name := "number", desc := "()I" } : Jvm.MethodName)) ∈ lw_all := lw_g (lw_at lw_m5 203 rfl) rfl
theorem q1226 : (Jvm.Cond.unhidden "InflatedRows$Fixed" "number" "()I") ∈ lw_tbl := lw_at lw_m5 204 rfl
theorem q1262 : (Jvm.Cond.selects "InflatedRows$Fixed" ({ cls := "InflatedRows$Marked", name := "mark", desc := "(LInflatedRows$Trail;LInflatedRows$Book;)I" } : Jvm.MethodName) ({ cls := "InflatedRows$Fixed", name := "mark", desc := "(LInflatedRows$Trail;LInflatedRows$Book;)I" } : Jvm.MethodName)) ∈ lw_all := lw_g (lw_at lw_m6 0 rfl) rfl
theorem q1263 : (Jvm.Cond.unhidden "InflatedRows$Fixed" "mark" "(LInflatedRows$Trail;LInflatedRows$Book;)I") ∈ lw_tbl := lw_at lw_m6 1 rfl
theorem q1264 : (Jvm.Cond.instanceMethod ({ cls := "InflatedRows$Fixed", name := "mark", desc := "(LInflatedRows$Trail;LInflatedRows$Book;)I" } : Jvm.MethodName)) ∈ lw_all := lw_g (lw_at lw_m6 2 rfl) rfl
theorem q1265 : (Jvm.Cond.publicMethod ({ cls := "InflatedRows$Fixed", name := "mark", desc := "(LInflatedRows$Trail;LInflatedRows$Book;)I" } : Jvm.MethodName)) ∈ lw_tbl := lw_at lw_m6 3 rfl
theorem q1266 : (Jvm.Cond.code ({ cls := "InflatedRows$Fixed", name := "mark", desc := "(LInflatedRows$Trail;LInflatedRows$Book;)I" } : Jvm.MethodName) prog_5_method_6_code (3 : Nat) (Option.some Jvm.ClassFile.FieldType.int)) ∈ lw_all := lw_g (lw_at lw_m6 4 rfl) rfl
theorem q1267 : (Jvm.Cond.methodLink "InflatedRows$Fixed" (27 : Nat) ({ cls := "InflatedRows$Fixed", name := "size", desc := "(LInflatedRows$Trail;LInflatedRows$Book;)I" } : Jvm.MethodName)) ∈ lw_all := lw_g (lw_at lw_m6 5 rfl) rfl
theorem q1740 : (Jvm.Cond.sameMethod "InflatedRows$Fixed" "InflatedRows$Fixed" "becomes" "(LInflatedRows$Book;)I") ∈ lw_all := lw_g (lw_at lw_m7 238 rfl) rfl
theorem q1743 : (Jvm.Cond.selects "InflatedRows$Fixed" ({ cls := "InflatedRows$Sort", name := "number", desc := "()I" } : Jvm.MethodName) ({ cls := "InflatedRows$Sort", name := "number", desc := "()I" } : Jvm.MethodName)) ∈ lw_all := lw_g (lw_at lw_m8 1 rfl) rfl
theorem q1750 : (Jvm.Cond.sameMethod "InflatedRows$Fixed" "InflatedRows$Fixed" "size" "(LInflatedRows$Trail;LInflatedRows$Book;)I") ∈ lw_all := lw_g (lw_at lw_m8 8 rfl) rfl
theorem q1751 : (Jvm.Cond.selects "InflatedRows$Fixed" ({ cls := "InflatedRows$Fixed", name := "size", desc := "(LInflatedRows$Trail;LInflatedRows$Book;)I" } : Jvm.MethodName) ({ cls := "InflatedRows$Fixed", name := "size", desc := "(LInflatedRows$Trail;LInflatedRows$Book;)I" } : Jvm.MethodName)) ∈ lw_all := lw_g (lw_at lw_m8 9 rfl) rfl
theorem q1756 : (Jvm.Cond.castable "InflatedRows$Fixed" "InflatedRows$Sort") ∈ lw_tbl := lw_at lw_m8 14 rfl
theorem q1777 : (Jvm.Cond.castable "InflatedRows$Fixed" "java/lang/Object") ∈ lw_tbl := lw_at lw_m8 35 rfl
theorem in_X12 : ∀ w ∈ wsX120, w ∈ lw_all := lw_in wsX120 [648] (by decide +kernel) (by decide +kernel)
/-! InflatedRows$Split -/
set_option maxRecDepth 100000
def RX13 : String := "InflatedRows$Split"
def TX13 : u_T := fun k => match k with
  | _ => ("InflatedRows$Sort", "number", "I", true)
def tyX13 : Nat → FieldType := fun k => match k with
  | _ => .int
abbrev wsX130 : List Cond := u_ws RX13 TX13 1
theorem nmX13 : ∀ a, a < 1 → ∀ b, b < 1 → a ≠ b → (TX13 a).2.1 ≠ (TX13 b).2.1 := by decide +kernel
theorem tyX13_ok : ∀ k, k < 1 → parseFieldDescriptor (TX13 k).2.2.1 = some (tyX13 k) := by decide +kernel
abbrev cX13_init : ByteArray := prog_13_method_1_code
def yX13_init : MethodName := ⟨RX13, "<init>", "(I)V"⟩
def dkwX13_init_0 : List UInt8 := [42, 27, 183, 0, 3, 177]
abbrev dktX13_init_0 : List UInt8 := dkwX13_init_0 ++ []
theorem dksX13_init_0 : cX13_init.data.toList.drop 0 = dktX13_init_0 := by decide +kernel
theorem dX13_init_0 : decode cX13_init 0 = .ok (.aload_n 0, 1) := dk_42 (dk_at dksX13_init_0 0 rfl rfl)
theorem dX13_init_1 : decode cX13_init 1 = .ok (.iload_n 1, 1) := dk_27 (dk_at dksX13_init_0 1 rfl rfl)
theorem dX13_init_2 : decode cX13_init 2 = .ok (.invokespecial 3, 3) := dk_183 0 3 (dk_at dksX13_init_0 2 rfl rfl)
theorem dX13_init_5 : decode cX13_init 5 = .ok (.return_, 1) := dk_177 (dk_at dksX13_init_0 5 rfl rfl)
abbrev cX13_kind : ByteArray := prog_13_method_2_code
def yX13_kind : MethodName := ⟨RX13, "kind", "()I"⟩
theorem dX13_kind_0 : decode cX13_kind 0 = .ok (.iconst 5, 1) := by decide +kernel
theorem dX13_kind_1 : decode cX13_kind 1 = .ok (.ireturn, 1) := by decide +kernel
abbrev cX13_becomes : ByteArray := prog_13_method_3_code
def yX13_becomes : MethodName := ⟨RX13, "becomes", "(LInflatedRows$Book;)I"⟩
def dkwX13_becomes_0 : List UInt8 := [5, 42, 43, 183, 0, 9, 104, 172]
abbrev dktX13_becomes_0 : List UInt8 := dkwX13_becomes_0 ++ []
theorem dksX13_becomes_0 : cX13_becomes.data.toList.drop 0 = dktX13_becomes_0 := by decide +kernel
theorem dX13_becomes_0 : decode cX13_becomes 0 = .ok (.iconst 2, 1) := dk_5 (dk_at dksX13_becomes_0 0 rfl rfl)
theorem dX13_becomes_1 : decode cX13_becomes 1 = .ok (.aload_n 0, 1) := dk_42 (dk_at dksX13_becomes_0 1 rfl rfl)
theorem dX13_becomes_2 : decode cX13_becomes 2 = .ok (.aload_n 1, 1) := dk_43 (dk_at dksX13_becomes_0 2 rfl rfl)
theorem dX13_becomes_3 : decode cX13_becomes 3 = .ok (.invokespecial 9, 3) := dk_183 0 9 (dk_at dksX13_becomes_0 3 rfl rfl)
theorem dX13_becomes_6 : decode cX13_becomes 6 = .ok (.imul, 1) := dk_104 (dk_at dksX13_becomes_0 6 rfl rfl)
theorem dX13_becomes_7 : decode cX13_becomes 7 = .ok (.ireturn, 1) := dk_172 (dk_at dksX13_becomes_0 7 rfl rfl)
abbrev cX13_size : ByteArray := prog_13_method_4_code
def yX13_size : MethodName := ⟨RX13, "size", "(LInflatedRows$Trail;LInflatedRows$Book;)I"⟩
def dkwX13_size_0 : List UInt8 := [43, 16, 14, 182, 0, 13, 5, 42, 43, 44, 183, 0, 18, 104, 172]
abbrev dktX13_size_0 : List UInt8 := dkwX13_size_0 ++ []
theorem dksX13_size_0 : cX13_size.data.toList.drop 0 = dktX13_size_0 := by decide +kernel
theorem dX13_size_0 : decode cX13_size 0 = .ok (.aload_n 1, 1) := dk_43 (dk_at dksX13_size_0 0 rfl rfl)
theorem dX13_size_1 : decode cX13_size 1 = .ok (.bipush 14, 2) := dk_16 14 (dk_at dksX13_size_0 1 rfl rfl)
theorem dX13_size_3 : decode cX13_size 3 = .ok (.invokevirtual 13, 3) := dk_182 0 13 (dk_at dksX13_size_0 3 rfl rfl)
theorem dX13_size_6 : decode cX13_size 6 = .ok (.iconst 2, 1) := dk_5 (dk_at dksX13_size_0 6 rfl rfl)
theorem dX13_size_7 : decode cX13_size 7 = .ok (.aload_n 0, 1) := dk_42 (dk_at dksX13_size_0 7 rfl rfl)
theorem dX13_size_8 : decode cX13_size 8 = .ok (.aload_n 1, 1) := dk_43 (dk_at dksX13_size_0 8 rfl rfl)
theorem dX13_size_9 : decode cX13_size 9 = .ok (.aload_n 2, 1) := dk_44 (dk_at dksX13_size_0 9 rfl rfl)
theorem dX13_size_10 : decode cX13_size 10 = .ok (.invokespecial 18, 3) := dk_183 0 18 (dk_at dksX13_size_0 10 rfl rfl)
theorem dX13_size_13 : decode cX13_size 13 = .ok (.imul, 1) := dk_104 (dk_at dksX13_size_0 13 rfl rfl)
theorem dX13_size_14 : decode cX13_size 14 = .ok (.ireturn, 1) := dk_172 (dk_at dksX13_size_0 14 rfl rfl)
theorem q89 : (Jvm.Cond.initialized "InflatedRows$Split") ∈ lw_all := lw_g (lw_at lw_m1 27 rfl) rfl
theorem q651 : (Jvm.Cond.instantiable "InflatedRows$Split" (1 : Nat)) ∈ lw_all := lw_g (lw_at lw_m3 109 rfl) rfl
theorem q653 : (Jvm.Cond.instanceMethod ({ cls := "InflatedRows$Split", name := "<init>", desc := "(I)V" } : Jvm.MethodName)) ∈ lw_all := lw_g (lw_at lw_m3 111 rfl) rfl
theorem q654 : (Jvm.Cond.code ({ cls := "InflatedRows$Split", name := "<init>", desc := "(I)V" } : Jvm.MethodName) prog_13_method_1_code (2 : Nat) (Option.none : Option Jvm.ClassFile.FieldType)) ∈ lw_all := lw_g (lw_at lw_m3 112 rfl) rfl
theorem q655 : (Jvm.Cond.methodLink "InflatedRows$Split" (3 : Nat) ({ cls := "InflatedRows$Fixed", name := "<init>", desc := "(I)V" } : Jvm.MethodName)) ∈ lw_all := lw_g (lw_at lw_m3 113 rfl) rfl
theorem q656 : (Jvm.Cond.laysFinal "InflatedRows$Split" "InflatedRows$Sort" "number" "I") ∈ lw_all := lw_g (lw_at lw_m3 114 rfl) rfl
theorem q657 : (Jvm.Cond.superclass "InflatedRows$Split" "InflatedRows$Fixed") ∈ lw_all := lw_g (lw_at lw_m3 115 rfl) rfl
theorem q705 : (Jvm.Cond.selects "InflatedRows$Split" ({ cls := "java/lang/Object", name := "getClass", desc := "()Ljava/lang/Class;" } : Jvm.MethodName) ({ cls := "java/lang/Object", name := "getClass", desc := "()Ljava/lang/Class;" } : Jvm.MethodName)) ∈ lw_all := lw_g (lw_at lw_m3 163 rfl) rfl
theorem q823 : (Jvm.Cond.selects "InflatedRows$Split" ({ cls := "InflatedRows$Sort", name := "kind", desc := "()I" } : Jvm.MethodName) ({ cls := "InflatedRows$Split", name := "kind", desc := "()I" } : Jvm.MethodName)) ∈ lw_all := lw_g (lw_at lw_m4 41 rfl) rfl
theorem q824 : (Jvm.Cond.instanceMethod ({ cls := "InflatedRows$Split", name := "kind", desc := "()I" } : Jvm.MethodName)) ∈ lw_all := lw_g (lw_at lw_m4 42 rfl) rfl
theorem q825 : (Jvm.Cond.code ({ cls := "InflatedRows$Split", name := "kind", desc := "()I" } : Jvm.MethodName) prog_13_method_2_code (1 : Nat) (Option.some Jvm.ClassFile.FieldType.int)) ∈ lw_all := lw_g (lw_at lw_m4 43 rfl) rfl
theorem q907 : (Jvm.Cond.selects "InflatedRows$Split" ({ cls := "InflatedRows$Sort", name := "becomes", desc := "(LInflatedRows$Book;)I" } : Jvm.MethodName) ({ cls := "InflatedRows$Split", name := "becomes", desc := "(LInflatedRows$Book;)I" } : Jvm.MethodName)) ∈ lw_all := lw_g (lw_at lw_m4 125 rfl) rfl
theorem q908 : (Jvm.Cond.instanceMethod ({ cls := "InflatedRows$Split", name := "becomes", desc := "(LInflatedRows$Book;)I" } : Jvm.MethodName)) ∈ lw_all := lw_g (lw_at lw_m4 126 rfl) rfl
theorem q909 : (Jvm.Cond.code ({ cls := "InflatedRows$Split", name := "becomes", desc := "(LInflatedRows$Book;)I" } : Jvm.MethodName) prog_13_method_3_code (2 : Nat) (Option.some Jvm.ClassFile.FieldType.int)) ∈ lw_all := lw_g (lw_at lw_m4 127 rfl) rfl
theorem q910 : (Jvm.Cond.methodLink "InflatedRows$Split" (9 : Nat) ({ cls := "InflatedRows$Fixed", name := "becomes", desc := "(LInflatedRows$Book;)I" } : Jvm.MethodName)) ∈ lw_all := lw_g (lw_at lw_m4 128 rfl) rfl
theorem q920 : (Jvm.Cond.selects "InflatedRows$Split" ({ cls := "InflatedRows$Fixed", name := "number", desc := "()I" } : Jvm.MethodName) ({ cls := "InflatedRows$Sort", name := "number", desc := "()I" } : Jvm.MethodName)) ∈ lw_all := lw_g (lw_at lw_m4 138 rfl) rfl
theorem q933 : (Jvm.Cond.selects "InflatedRows$Split" ({ cls := "InflatedRows$Sort", name := "image", desc := "(LInflatedRows$Book;I)I" } : Jvm.MethodName) ({ cls := "InflatedRows$Fixed", name := "image", desc := "(LInflatedRows$Book;I)I" } : Jvm.MethodName)) ∈ lw_all := lw_g (lw_at lw_m4 151 rfl) rfl
theorem q984 : (Jvm.Cond.selects "InflatedRows$Split" ({ cls := "InflatedRows$Sort", name := "length", desc := "(LInflatedRows$Book;I)I" } : Jvm.MethodName) ({ cls := "InflatedRows$Sort", name := "length", desc := "(LInflatedRows$Book;I)I" } : Jvm.MethodName)) ∈ lw_all := lw_g (lw_at lw_m4 202 rfl) rfl
theorem q1236 : (Jvm.Cond.castable "InflatedRows$Split" "InflatedRows$Marked") ∈ lw_tbl := lw_at lw_m5 214 rfl
theorem q1237 : (Jvm.Cond.selects "InflatedRows$Split" ({ cls := "InflatedRows$Marked", name := "number", desc := "()I" } : Jvm.MethodName) ({ cls := "InflatedRows$Sort", name := "number", desc := "()I" } : Jvm.MethodName)) ∈ lw_all := lw_g (lw_at lw_m5 215 rfl) rfl
theorem q1238 : (Jvm.Cond.unhidden "InflatedRows$Split" "number" "()I") ∈ lw_tbl := lw_at lw_m5 216 rfl
theorem q1252 : (Jvm.Cond.selects "InflatedRows$Split" ({ cls := "InflatedRows$Marked", name := "size", desc := "(LInflatedRows$Trail;LInflatedRows$Book;)I" } : Jvm.MethodName) ({ cls := "InflatedRows$Split", name := "size", desc := "(LInflatedRows$Trail;LInflatedRows$Book;)I" } : Jvm.MethodName)) ∈ lw_all := lw_g (lw_at lw_m5 230 rfl) rfl
theorem q1253 : (Jvm.Cond.unhidden "InflatedRows$Split" "size" "(LInflatedRows$Trail;LInflatedRows$Book;)I") ∈ lw_tbl := lw_at lw_m5 231 rfl
theorem q1254 : (Jvm.Cond.instanceMethod ({ cls := "InflatedRows$Split", name := "size", desc := "(LInflatedRows$Trail;LInflatedRows$Book;)I" } : Jvm.MethodName)) ∈ lw_all := lw_g (lw_at lw_m5 232 rfl) rfl
theorem q1255 : (Jvm.Cond.publicMethod ({ cls := "InflatedRows$Split", name := "size", desc := "(LInflatedRows$Trail;LInflatedRows$Book;)I" } : Jvm.MethodName)) ∈ lw_tbl := lw_at lw_m5 233 rfl
theorem q1256 : (Jvm.Cond.code ({ cls := "InflatedRows$Split", name := "size", desc := "(LInflatedRows$Trail;LInflatedRows$Book;)I" } : Jvm.MethodName) prog_13_method_4_code (3 : Nat) (Option.some Jvm.ClassFile.FieldType.int)) ∈ lw_all := lw_g (lw_at lw_m5 234 rfl) rfl
theorem q1257 : (Jvm.Cond.methodLink "InflatedRows$Split" (13 : Nat) ({ cls := "InflatedRows$Trail", name := "begins", desc := "(I)V" } : Jvm.MethodName)) ∈ lw_all := lw_g (lw_at lw_m5 235 rfl) rfl
theorem q1258 : (Jvm.Cond.methodLink "InflatedRows$Split" (18 : Nat) ({ cls := "InflatedRows$Fixed", name := "size", desc := "(LInflatedRows$Trail;LInflatedRows$Book;)I" } : Jvm.MethodName)) ∈ lw_all := lw_g (lw_at lw_m5 236 rfl) rfl
theorem q1277 : (Jvm.Cond.selects "InflatedRows$Split" ({ cls := "InflatedRows$Marked", name := "mark", desc := "(LInflatedRows$Trail;LInflatedRows$Book;)I" } : Jvm.MethodName) ({ cls := "InflatedRows$Fixed", name := "mark", desc := "(LInflatedRows$Trail;LInflatedRows$Book;)I" } : Jvm.MethodName)) ∈ lw_all := lw_g (lw_at lw_m6 15 rfl) rfl
theorem q1278 : (Jvm.Cond.unhidden "InflatedRows$Split" "mark" "(LInflatedRows$Trail;LInflatedRows$Book;)I") ∈ lw_tbl := lw_at lw_m6 16 rfl
theorem q1747 : (Jvm.Cond.selects "InflatedRows$Split" ({ cls := "InflatedRows$Sort", name := "number", desc := "()I" } : Jvm.MethodName) ({ cls := "InflatedRows$Sort", name := "number", desc := "()I" } : Jvm.MethodName)) ∈ lw_all := lw_g (lw_at lw_m8 5 rfl) rfl
theorem q1752 : (Jvm.Cond.selects "InflatedRows$Split" ({ cls := "InflatedRows$Fixed", name := "size", desc := "(LInflatedRows$Trail;LInflatedRows$Book;)I" } : Jvm.MethodName) ({ cls := "InflatedRows$Split", name := "size", desc := "(LInflatedRows$Trail;LInflatedRows$Book;)I" } : Jvm.MethodName)) ∈ lw_all := lw_g (lw_at lw_m8 10 rfl) rfl
theorem q1760 : (Jvm.Cond.castable "InflatedRows$Split" "InflatedRows$Sort") ∈ lw_tbl := lw_at lw_m8 18 rfl
theorem q1763 : (Jvm.Cond.castable "InflatedRows$Split" "InflatedRows$Fixed") ∈ lw_tbl := lw_at lw_m8 21 rfl
theorem q1778 : (Jvm.Cond.castable "InflatedRows$Split" "java/lang/Object") ∈ lw_tbl := lw_at lw_m8 36 rfl
theorem in_X13 : ∀ w ∈ wsX130, w ∈ lw_all := lw_in wsX130 [656] (by decide +kernel) (by decide +kernel)
/-! InflatedRows$Marked -/
set_option maxRecDepth 100000
def RX14 : String := "InflatedRows$Marked"
abbrev cX14_mark : ByteArray := prog_7_method_3_code
def yX14_mark : MethodName := ⟨RX14, "mark", "(LInflatedRows$Trail;LInflatedRows$Book;)I"⟩
def dkwX14_mark_0 : List UInt8 := [43, 16, 20, 182, 0, 1, 42, 185, 0, 7, 1, 0, 172]
abbrev dktX14_mark_0 : List UInt8 := dkwX14_mark_0 ++ []
theorem dksX14_mark_0 : cX14_mark.data.toList.drop 0 = dktX14_mark_0 := by decide +kernel
theorem dX14_mark_0 : decode cX14_mark 0 = .ok (.aload_n 1, 1) := dk_43 (dk_at dksX14_mark_0 0 rfl rfl)
theorem dX14_mark_1 : decode cX14_mark 1 = .ok (.bipush 20, 2) := dk_16 20 (dk_at dksX14_mark_0 1 rfl rfl)
theorem dX14_mark_3 : decode cX14_mark 3 = .ok (.invokevirtual 1, 3) := dk_182 0 1 (dk_at dksX14_mark_0 3 rfl rfl)
theorem dX14_mark_6 : decode cX14_mark 6 = .ok (.aload_n 0, 1) := dk_42 (dk_at dksX14_mark_0 6 rfl rfl)
theorem dX14_mark_7 : decode cX14_mark 7 = .ok (.invokeinterface 7 1, 5) := by decide +kernel
theorem dX14_mark_12 : decode cX14_mark 12 = .ok (.ireturn, 1) := dk_172 (dk_at dksX14_mark_0 12 rfl rfl)
theorem q1182 : (Jvm.Cond.interfaceMethod "InflatedRows$Marked" "InflatedRows$Marked" "size" "(LInflatedRows$Trail;LInflatedRows$Book;)I") ∈ lw_tbl := lw_at lw_m5 160 rfl
theorem q1183 : (Jvm.Cond.declares ({ cls := "InflatedRows$Marked", name := "size", desc := "(LInflatedRows$Trail;LInflatedRows$Book;)I" } : Jvm.MethodName)) ∈ lw_tbl := lw_at lw_m5 161 rfl
theorem q1217 : (Jvm.Cond.declares ({ cls := "InflatedRows$Marked", name := "mark", desc := "(LInflatedRows$Trail;LInflatedRows$Book;)I" } : Jvm.MethodName)) ∈ lw_tbl := lw_at lw_m5 195 rfl
theorem q1218 : (Jvm.Cond.instanceMethod ({ cls := "InflatedRows$Marked", name := "mark", desc := "(LInflatedRows$Trail;LInflatedRows$Book;)I" } : Jvm.MethodName)) ∈ lw_all := lw_g (lw_at lw_m5 196 rfl) rfl
theorem q1219 : (Jvm.Cond.code ({ cls := "InflatedRows$Marked", name := "mark", desc := "(LInflatedRows$Trail;LInflatedRows$Book;)I" } : Jvm.MethodName) prog_7_method_3_code (3 : Nat) (Option.some Jvm.ClassFile.FieldType.int)) ∈ lw_all := lw_g (lw_at lw_m5 197 rfl) rfl
theorem q1220 : (Jvm.Cond.methodLink "InflatedRows$Marked" (1 : Nat) ({ cls := "InflatedRows$Trail", name := "begins", desc := "(I)V" } : Jvm.MethodName)) ∈ lw_all := lw_g (lw_at lw_m5 198 rfl) rfl
theorem q1221 : (Jvm.Cond.interfaceEntry "InflatedRows$Marked" (7 : Nat)) ∈ lw_tbl := lw_at lw_m5 199 rfl
theorem q1222 : (Jvm.Cond.methodLink "InflatedRows$Marked" (7 : Nat) ({ cls := "InflatedRows$Marked", name := "number", desc := "()I" } : Jvm.MethodName)) ∈ lw_all := lw_g (lw_at lw_m5 200 rfl) rfl
theorem q1223 : (Jvm.Cond.interfaceMethod "InflatedRows$Marked" "InflatedRows$Marked" "number" "()I") ∈ lw_tbl := lw_at lw_m5 201 rfl
theorem q1224 : (Jvm.Cond.declares ({ cls := "InflatedRows$Marked", name := "number", desc := "()I" } : Jvm.MethodName)) ∈ lw_tbl := lw_at lw_m5 202 rfl
theorem q1261 : (Jvm.Cond.interfaceMethod "InflatedRows$Marked" "InflatedRows$Marked" "mark" "(LInflatedRows$Trail;LInflatedRows$Book;)I") ∈ lw_tbl := lw_at lw_m5 239 rfl
theorem q1754 : (Jvm.Cond.initialized "InflatedRows$Marked") ∈ lw_all := lw_g (lw_at lw_m8 12 rfl) rfl
