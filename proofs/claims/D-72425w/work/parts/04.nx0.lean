/-! InflatedRows -/
set_option maxRecDepth 100000
def RX0 : String := "InflatedRows"
def TX0 : u_T := fun k => match k with
  | 0 => ("InflatedRows", "rows", "[LInflatedRows$Row;", true)
  | 1 => ("InflatedRows", "tape", "[B", true)
  | 2 => ("InflatedRows", "taped", "I", false)
  | 3 => ("InflatedRows", "faultKind", "I", false)
  | 4 => ("InflatedRows", "book", "LInflatedRows$Book;", true)
  | 5 => ("InflatedRows", "trial", "LInflatedRows$Book;", true)
  | 6 => ("InflatedRows", "past", "[LInflatedRows$Book;", true)
  | 7 => ("InflatedRows", "acts", "I", false)
  | 8 => ("InflatedRows", "images", "[LInflatedRows$Book;", true)
  | 9 => ("InflatedRows", "trail", "LInflatedRows$Trail;", false)
  | _ => ("InflatedRows", "status", "I", false)
def tyX0 : Nat → FieldType := fun k => match k with
  | 0 => .array (.object "InflatedRows$Row")
  | 1 => .array .byte
  | 2 => .int
  | 3 => .int
  | 4 => .object "InflatedRows$Book"
  | 5 => .object "InflatedRows$Book"
  | 6 => .array (.object "InflatedRows$Book")
  | 7 => .int
  | 8 => .array (.object "InflatedRows$Book")
  | 9 => .object "InflatedRows$Trail"
  | _ => .int
abbrev wsX00 : List Cond := u_ws RX0 TX0 11
theorem nmX0 : ∀ a, a < 11 → ∀ b, b < 11 → a ≠ b → (TX0 a).2.1 ≠ (TX0 b).2.1 := by decide +kernel
theorem tyX0_ok : ∀ k, k < 11 → parseFieldDescriptor (TX0 k).2.2.1 = some (tyX0 k) := by decide +kernel
abbrev cX0_init : ByteArray := prog_1_method_6_code
def yX0_init : MethodName := ⟨RX0, "<init>", "()V"⟩
def dkwX0_init_3 : List UInt8 := [181, 0, 70, 177]
abbrev dktX0_init_3 : List UInt8 := dkwX0_init_3 ++ []
def dkwX0_init_2 : List UInt8 := [189, 0, 50, 181, 0, 60, 42, 5, 189, 0, 50, 181, 0, 64, 42, 187, 0, 67, 89, 183, 0, 69]
abbrev dktX0_init_2 : List UInt8 := dkwX0_init_2 ++ dktX0_init_3
def dkwX0_init_1 : List UInt8 := [187, 0, 50, 89, 183, 0, 52, 181, 0, 53, 42, 187, 0, 50, 89, 183, 0, 52, 181, 0, 57, 42, 16, 24]
abbrev dktX0_init_1 : List UInt8 := dkwX0_init_1 ++ dktX0_init_2
def dkwX0_init_0 : List UInt8 := [42, 183, 0, 35, 42, 16, 8, 189, 0, 40, 181, 0, 42, 42, 16, 120, 188, 8, 181, 0, 46, 42]
abbrev dktX0_init_0 : List UInt8 := dkwX0_init_0 ++ dktX0_init_1
theorem dksX0_init_0 : cX0_init.data.toList.drop 0 = dktX0_init_0 := by decide +kernel
theorem dksX0_init_1 : cX0_init.data.toList.drop 22 = dktX0_init_1 := dk_seg dksX0_init_0 22 rfl rfl
theorem dksX0_init_2 : cX0_init.data.toList.drop 46 = dktX0_init_2 := dk_seg dksX0_init_1 24 rfl rfl
theorem dksX0_init_3 : cX0_init.data.toList.drop 68 = dktX0_init_3 := dk_seg dksX0_init_2 22 rfl rfl
theorem dX0_init_0 : decode cX0_init 0 = .ok (.aload_n 0, 1) := dk_42 (dk_at dksX0_init_0 0 rfl rfl)
theorem dX0_init_1 : decode cX0_init 1 = .ok (.invokespecial 35, 3) := dk_183 0 35 (dk_at dksX0_init_0 1 rfl rfl)
theorem dX0_init_4 : decode cX0_init 4 = .ok (.aload_n 0, 1) := dk_42 (dk_at dksX0_init_0 4 rfl rfl)
theorem dX0_init_5 : decode cX0_init 5 = .ok (.bipush 8, 2) := dk_16 8 (dk_at dksX0_init_0 5 rfl rfl)
theorem dX0_init_7 : decode cX0_init 7 = .ok (.anewarray 40, 3) := dk_189 0 40 (dk_at dksX0_init_0 7 rfl rfl)
theorem dX0_init_10 : decode cX0_init 10 = .ok (.putfield 42, 3) := dk_181 0 42 (dk_at dksX0_init_0 10 rfl rfl)
theorem dX0_init_13 : decode cX0_init 13 = .ok (.aload_n 0, 1) := dk_42 (dk_at dksX0_init_0 13 rfl rfl)
theorem dX0_init_14 : decode cX0_init 14 = .ok (.bipush 120, 2) := dk_16 120 (dk_at dksX0_init_0 14 rfl rfl)
theorem dX0_init_16 : decode cX0_init 16 = .ok (.newarray .byte, 2) := dk_188_8 (dk_at dksX0_init_0 16 rfl rfl)
theorem dX0_init_18 : decode cX0_init 18 = .ok (.putfield 46, 3) := dk_181 0 46 (dk_at dksX0_init_0 18 rfl rfl)
theorem dX0_init_21 : decode cX0_init 21 = .ok (.aload_n 0, 1) := dk_42 (dk_at dksX0_init_0 21 rfl rfl)
theorem dX0_init_22 : decode cX0_init 22 = .ok (.new 50, 3) := dk_187 0 50 (dk_at dksX0_init_1 0 rfl rfl)
theorem dX0_init_25 : decode cX0_init 25 = .ok (.dup, 1) := dk_89 (dk_at dksX0_init_1 3 rfl rfl)
theorem dX0_init_26 : decode cX0_init 26 = .ok (.invokespecial 52, 3) := dk_183 0 52 (dk_at dksX0_init_1 4 rfl rfl)
theorem dX0_init_29 : decode cX0_init 29 = .ok (.putfield 53, 3) := dk_181 0 53 (dk_at dksX0_init_1 7 rfl rfl)
theorem dX0_init_32 : decode cX0_init 32 = .ok (.aload_n 0, 1) := dk_42 (dk_at dksX0_init_1 10 rfl rfl)
theorem dX0_init_33 : decode cX0_init 33 = .ok (.new 50, 3) := dk_187 0 50 (dk_at dksX0_init_1 11 rfl rfl)
theorem dX0_init_36 : decode cX0_init 36 = .ok (.dup, 1) := dk_89 (dk_at dksX0_init_1 14 rfl rfl)
theorem dX0_init_37 : decode cX0_init 37 = .ok (.invokespecial 52, 3) := dk_183 0 52 (dk_at dksX0_init_1 15 rfl rfl)
theorem dX0_init_40 : decode cX0_init 40 = .ok (.putfield 57, 3) := dk_181 0 57 (dk_at dksX0_init_1 18 rfl rfl)
theorem dX0_init_43 : decode cX0_init 43 = .ok (.aload_n 0, 1) := dk_42 (dk_at dksX0_init_1 21 rfl rfl)
theorem dX0_init_44 : decode cX0_init 44 = .ok (.bipush 24, 2) := dk_16 24 (dk_at dksX0_init_1 22 rfl rfl)
theorem dX0_init_46 : decode cX0_init 46 = .ok (.anewarray 50, 3) := dk_189 0 50 (dk_at dksX0_init_2 0 rfl rfl)
theorem dX0_init_49 : decode cX0_init 49 = .ok (.putfield 60, 3) := dk_181 0 60 (dk_at dksX0_init_2 3 rfl rfl)
theorem dX0_init_52 : decode cX0_init 52 = .ok (.aload_n 0, 1) := dk_42 (dk_at dksX0_init_2 6 rfl rfl)
theorem dX0_init_53 : decode cX0_init 53 = .ok (.iconst 2, 1) := dk_5 (dk_at dksX0_init_2 7 rfl rfl)
theorem dX0_init_54 : decode cX0_init 54 = .ok (.anewarray 50, 3) := dk_189 0 50 (dk_at dksX0_init_2 8 rfl rfl)
theorem dX0_init_57 : decode cX0_init 57 = .ok (.putfield 64, 3) := dk_181 0 64 (dk_at dksX0_init_2 11 rfl rfl)
theorem dX0_init_60 : decode cX0_init 60 = .ok (.aload_n 0, 1) := dk_42 (dk_at dksX0_init_2 14 rfl rfl)
theorem dX0_init_61 : decode cX0_init 61 = .ok (.new 67, 3) := dk_187 0 67 (dk_at dksX0_init_2 15 rfl rfl)
theorem dX0_init_64 : decode cX0_init 64 = .ok (.dup, 1) := dk_89 (dk_at dksX0_init_2 18 rfl rfl)
theorem dX0_init_65 : decode cX0_init 65 = .ok (.invokespecial 69, 3) := dk_183 0 69 (dk_at dksX0_init_2 19 rfl rfl)
theorem dX0_init_68 : decode cX0_init 68 = .ok (.putfield 70, 3) := dk_181 0 70 (dk_at dksX0_init_3 0 rfl rfl)
theorem dX0_init_71 : decode cX0_init 71 = .ok (.return_, 1) := dk_177 (dk_at dksX0_init_3 3 rfl rfl)
abbrev cX0_row : ByteArray := prog_1_method_12_code
def yX0_row : MethodName := ⟨RX0, "row", "(III)I"⟩
def dkwX0_row_3 : List UInt8 := [172]
abbrev dktX0_row_3 : List UInt8 := dkwX0_row_3 ++ []
def dkwX0_row_2 : List UInt8 := [187, 0, 40, 89, 28, 29, 183, 0, 99, 83, 42, 29, 182, 0, 102, 172, 58, 4, 42, 25, 4, 182, 0, 106]
abbrev dktX0_row_2 : List UInt8 := dkwX0_row_2 ++ dktX0_row_3
def dkwX0_row_1 : List UInt8 := [164, 0, 6, 18, 98, 172, 29, 155, 0, 7, 4, 167, 0, 4, 3, 7, 184, 0, 88, 42, 180, 0, 42, 27]
abbrev dktX0_row_1 : List UInt8 := dkwX0_row_1 ++ dktX0_row_2
def dkwX0_row_0 : List UInt8 := [27, 184, 0, 92, 153, 0, 21, 28, 133, 9, 20, 0, 96, 184, 0, 84, 153, 0, 9, 29, 16, 40]
abbrev dktX0_row_0 : List UInt8 := dkwX0_row_0 ++ dktX0_row_1
theorem dksX0_row_0 : cX0_row.data.toList.drop 0 = dktX0_row_0 := by decide +kernel
theorem dksX0_row_1 : cX0_row.data.toList.drop 22 = dktX0_row_1 := dk_seg dksX0_row_0 22 rfl rfl
theorem dksX0_row_2 : cX0_row.data.toList.drop 46 = dktX0_row_2 := dk_seg dksX0_row_1 24 rfl rfl
theorem dksX0_row_3 : cX0_row.data.toList.drop 70 = dktX0_row_3 := dk_seg dksX0_row_2 24 rfl rfl
theorem dX0_row_0 : decode cX0_row 0 = .ok (.iload_n 1, 1) := dk_27 (dk_at dksX0_row_0 0 rfl rfl)
theorem dX0_row_1 : decode cX0_row 1 = .ok (.invokestatic 92, 3) := dk_184 0 92 (dk_at dksX0_row_0 1 rfl rfl)
theorem dX0_row_4 : decode cX0_row 4 = .ok (.ifCond .eq 21, 3) := dk_153 0 21 (dk_at dksX0_row_0 4 rfl rfl)
theorem dX0_row_7 : decode cX0_row 7 = .ok (.iload_n 2, 1) := dk_28 (dk_at dksX0_row_0 7 rfl rfl)
theorem dX0_row_8 : decode cX0_row 8 = .ok (.i2l, 1) := dk_133 (dk_at dksX0_row_0 8 rfl rfl)
theorem dX0_row_9 : decode cX0_row 9 = .ok (.lconst 0, 1) := dk_9 (dk_at dksX0_row_0 9 rfl rfl)
theorem dX0_row_10 : decode cX0_row 10 = .ok (.ldc2_w 96, 3) := dk_20 0 96 (dk_at dksX0_row_0 10 rfl rfl)
theorem dX0_row_13 : decode cX0_row 13 = .ok (.invokestatic 84, 3) := dk_184 0 84 (dk_at dksX0_row_0 13 rfl rfl)
theorem dX0_row_16 : decode cX0_row 16 = .ok (.ifCond .eq 9, 3) := dk_153 0 9 (dk_at dksX0_row_0 16 rfl rfl)
theorem dX0_row_19 : decode cX0_row 19 = .ok (.iload_n 3, 1) := dk_29 (dk_at dksX0_row_0 19 rfl rfl)
theorem dX0_row_20 : decode cX0_row 20 = .ok (.bipush 40, 2) := dk_16 40 (dk_at dksX0_row_0 20 rfl rfl)
theorem dX0_row_22 : decode cX0_row 22 = .ok (.if_icmp .le 6, 3) := dk_164 0 6 (dk_at dksX0_row_1 0 rfl rfl)
theorem dX0_row_25 : decode cX0_row 25 = .ok (.ldc 98, 2) := dk_18 98 (dk_at dksX0_row_1 3 rfl rfl)
theorem dX0_row_27 : decode cX0_row 27 = .ok (.ireturn, 1) := dk_172 (dk_at dksX0_row_1 5 rfl rfl)
theorem dX0_row_28 : decode cX0_row 28 = .ok (.iload_n 3, 1) := dk_29 (dk_at dksX0_row_1 6 rfl rfl)
theorem dX0_row_29 : decode cX0_row 29 = .ok (.ifCond .lt 7, 3) := dk_155 0 7 (dk_at dksX0_row_1 7 rfl rfl)
theorem dX0_row_32 : decode cX0_row 32 = .ok (.iconst 1, 1) := dk_4 (dk_at dksX0_row_1 10 rfl rfl)
theorem dX0_row_33 : decode cX0_row 33 = .ok (.goto 4, 3) := dk_167 0 4 (dk_at dksX0_row_1 11 rfl rfl)
theorem dX0_row_36 : decode cX0_row 36 = .ok (.iconst 0, 1) := dk_3 (dk_at dksX0_row_1 14 rfl rfl)
theorem dX0_row_37 : decode cX0_row 37 = .ok (.iconst 4, 1) := dk_7 (dk_at dksX0_row_1 15 rfl rfl)
theorem dX0_row_38 : decode cX0_row 38 = .ok (.invokestatic 88, 3) := dk_184 0 88 (dk_at dksX0_row_1 16 rfl rfl)
theorem dX0_row_41 : decode cX0_row 41 = .ok (.aload_n 0, 1) := dk_42 (dk_at dksX0_row_1 19 rfl rfl)
theorem dX0_row_42 : decode cX0_row 42 = .ok (.getfield 42, 3) := dk_180 0 42 (dk_at dksX0_row_1 20 rfl rfl)
theorem dX0_row_45 : decode cX0_row 45 = .ok (.iload_n 1, 1) := dk_27 (dk_at dksX0_row_1 23 rfl rfl)
theorem dX0_row_46 : decode cX0_row 46 = .ok (.new 40, 3) := dk_187 0 40 (dk_at dksX0_row_2 0 rfl rfl)
theorem dX0_row_49 : decode cX0_row 49 = .ok (.dup, 1) := dk_89 (dk_at dksX0_row_2 3 rfl rfl)
theorem dX0_row_50 : decode cX0_row 50 = .ok (.iload_n 2, 1) := dk_28 (dk_at dksX0_row_2 4 rfl rfl)
theorem dX0_row_51 : decode cX0_row 51 = .ok (.iload_n 3, 1) := dk_29 (dk_at dksX0_row_2 5 rfl rfl)
theorem dX0_row_52 : decode cX0_row 52 = .ok (.invokespecial 99, 3) := dk_183 0 99 (dk_at dksX0_row_2 6 rfl rfl)
theorem dX0_row_55 : decode cX0_row 55 = .ok (.aastore, 1) := dk_83 (dk_at dksX0_row_2 9 rfl rfl)
theorem dX0_row_56 : decode cX0_row 56 = .ok (.aload_n 0, 1) := dk_42 (dk_at dksX0_row_2 10 rfl rfl)
theorem dX0_row_57 : decode cX0_row 57 = .ok (.iload_n 3, 1) := dk_29 (dk_at dksX0_row_2 11 rfl rfl)
theorem dX0_row_58 : decode cX0_row 58 = .ok (.invokevirtual 102, 3) := dk_182 0 102 (dk_at dksX0_row_2 12 rfl rfl)
theorem dX0_row_61 : decode cX0_row 61 = .ok (.ireturn, 1) := dk_172 (dk_at dksX0_row_2 15 rfl rfl)
theorem dX0_row_62 : decode cX0_row 62 = .ok (.astore 4, 2) := dk_58 4 (dk_at dksX0_row_2 16 rfl rfl)
theorem dX0_row_64 : decode cX0_row 64 = .ok (.aload_n 0, 1) := dk_42 (dk_at dksX0_row_2 18 rfl rfl)
theorem dX0_row_65 : decode cX0_row 65 = .ok (.aload 4, 2) := dk_25 4 (dk_at dksX0_row_2 19 rfl rfl)
theorem dX0_row_67 : decode cX0_row 67 = .ok (.invokevirtual 106, 3) := dk_182 0 106 (dk_at dksX0_row_2 21 rfl rfl)
theorem dX0_row_70 : decode cX0_row 70 = .ok (.ireturn, 1) := dk_172 (dk_at dksX0_row_3 0 rfl rfl)
abbrev cX0_isRow : ByteArray := prog_1_method_10_code
def yX0_isRow : MethodName := ⟨RX0, "isRow", "(I)Z"⟩
def dkwX0_isRow_0 : List UInt8 := [26, 133, 9, 20, 0, 82, 184, 0, 84, 172]
abbrev dktX0_isRow_0 : List UInt8 := dkwX0_isRow_0 ++ []
theorem dksX0_isRow_0 : cX0_isRow.data.toList.drop 0 = dktX0_isRow_0 := by decide +kernel
theorem dX0_isRow_0 : decode cX0_isRow 0 = .ok (.iload_n 0, 1) := dk_26 (dk_at dksX0_isRow_0 0 rfl rfl)
theorem dX0_isRow_1 : decode cX0_isRow 1 = .ok (.i2l, 1) := dk_133 (dk_at dksX0_isRow_0 1 rfl rfl)
theorem dX0_isRow_2 : decode cX0_isRow 2 = .ok (.lconst 0, 1) := dk_9 (dk_at dksX0_isRow_0 2 rfl rfl)
theorem dX0_isRow_3 : decode cX0_isRow 3 = .ok (.ldc2_w 82, 3) := dk_20 0 82 (dk_at dksX0_isRow_0 3 rfl rfl)
theorem dX0_isRow_6 : decode cX0_isRow 6 = .ok (.invokestatic 84, 3) := dk_184 0 84 (dk_at dksX0_isRow_0 6 rfl rfl)
theorem dX0_isRow_9 : decode cX0_isRow 9 = .ok (.ireturn, 1) := dk_172 (dk_at dksX0_isRow_0 9 rfl rfl)
abbrev cX0_isIn : ByteArray := prog_1_method_1_code
def yX0_isIn : MethodName := ⟨RX0, "isIn", "(JJJ)Z"⟩
def dkwX0_isIn_0 : List UInt8 := [30, 32, 148, 155, 0, 14, 30, 22, 4, 148, 157, 0, 7, 4, 167, 0, 4, 3, 172]
abbrev dktX0_isIn_0 : List UInt8 := dkwX0_isIn_0 ++ []
theorem dksX0_isIn_0 : cX0_isIn.data.toList.drop 0 = dktX0_isIn_0 := by decide +kernel
theorem dX0_isIn_0 : decode cX0_isIn 0 = .ok (.lload_n 0, 1) := dk_30 (dk_at dksX0_isIn_0 0 rfl rfl)
theorem dX0_isIn_1 : decode cX0_isIn 1 = .ok (.lload_n 2, 1) := dk_32 (dk_at dksX0_isIn_0 1 rfl rfl)
theorem dX0_isIn_2 : decode cX0_isIn 2 = .ok (.lcmp, 1) := dk_148 (dk_at dksX0_isIn_0 2 rfl rfl)
theorem dX0_isIn_3 : decode cX0_isIn 3 = .ok (.ifCond .lt 14, 3) := dk_155 0 14 (dk_at dksX0_isIn_0 3 rfl rfl)
theorem dX0_isIn_6 : decode cX0_isIn 6 = .ok (.lload_n 0, 1) := dk_30 (dk_at dksX0_isIn_0 6 rfl rfl)
theorem dX0_isIn_7 : decode cX0_isIn 7 = .ok (.lload 4, 2) := dk_22 4 (dk_at dksX0_isIn_0 7 rfl rfl)
theorem dX0_isIn_9 : decode cX0_isIn 9 = .ok (.lcmp, 1) := dk_148 (dk_at dksX0_isIn_0 9 rfl rfl)
theorem dX0_isIn_10 : decode cX0_isIn 10 = .ok (.ifCond .gt 7, 3) := dk_157 0 7 (dk_at dksX0_isIn_0 10 rfl rfl)
theorem dX0_isIn_13 : decode cX0_isIn 13 = .ok (.iconst 1, 1) := dk_4 (dk_at dksX0_isIn_0 13 rfl rfl)
theorem dX0_isIn_14 : decode cX0_isIn 14 = .ok (.goto 4, 3) := dk_167 0 4 (dk_at dksX0_isIn_0 14 rfl rfl)
theorem dX0_isIn_17 : decode cX0_isIn 17 = .ok (.iconst 0, 1) := dk_3 (dk_at dksX0_isIn_0 17 rfl rfl)
theorem dX0_isIn_18 : decode cX0_isIn 18 = .ok (.ireturn, 1) := dk_172 (dk_at dksX0_isIn_0 18 rfl rfl)
abbrev cX0_must : ByteArray := prog_1_method_9_code
def yX0_must : MethodName := ⟨RX0, "must", "(ZI)V"⟩
def dkwX0_must_0 : List UInt8 := [26, 154, 0, 12, 187, 0, 9, 89, 27, 183, 0, 13, 191, 177]
abbrev dktX0_must_0 : List UInt8 := dkwX0_must_0 ++ []
theorem dksX0_must_0 : cX0_must.data.toList.drop 0 = dktX0_must_0 := by decide +kernel
theorem dX0_must_0 : decode cX0_must 0 = .ok (.iload_n 0, 1) := dk_26 (dk_at dksX0_must_0 0 rfl rfl)
theorem dX0_must_1 : decode cX0_must 1 = .ok (.ifCond .ne 12, 3) := dk_154 0 12 (dk_at dksX0_must_0 1 rfl rfl)
theorem dX0_must_4 : decode cX0_must 4 = .ok (.new 9, 3) := dk_187 0 9 (dk_at dksX0_must_0 4 rfl rfl)
theorem dX0_must_7 : decode cX0_must 7 = .ok (.dup, 1) := dk_89 (dk_at dksX0_must_0 7 rfl rfl)
theorem dX0_must_8 : decode cX0_must 8 = .ok (.iload_n 1, 1) := dk_27 (dk_at dksX0_must_0 8 rfl rfl)
theorem dX0_must_9 : decode cX0_must 9 = .ok (.invokespecial 13, 3) := dk_183 0 13 (dk_at dksX0_must_0 9 rfl rfl)
theorem dX0_must_12 : decode cX0_must 12 = .ok (.athrow, 1) := dk_191 (dk_at dksX0_must_0 12 rfl rfl)
theorem dX0_must_13 : decode cX0_must 13 = .ok (.return_, 1) := dk_177 (dk_at dksX0_must_0 13 rfl rfl)
abbrev cX0_well : ByteArray := prog_1_method_8_code
def yX0_well : MethodName := ⟨RX0, "well", "(I)I"⟩
def dkwX0_well_0 : List UInt8 := [42, 3, 181, 0, 78, 27, 172]
abbrev dktX0_well_0 : List UInt8 := dkwX0_well_0 ++ []
theorem dksX0_well_0 : cX0_well.data.toList.drop 0 = dktX0_well_0 := by decide +kernel
theorem dX0_well_0 : decode cX0_well 0 = .ok (.aload_n 0, 1) := dk_42 (dk_at dksX0_well_0 0 rfl rfl)
theorem dX0_well_1 : decode cX0_well 1 = .ok (.iconst 0, 1) := dk_3 (dk_at dksX0_well_0 1 rfl rfl)
theorem dX0_well_2 : decode cX0_well 2 = .ok (.putfield 78, 3) := dk_181 0 78 (dk_at dksX0_well_0 2 rfl rfl)
theorem dX0_well_5 : decode cX0_well 5 = .ok (.iload_n 1, 1) := dk_27 (dk_at dksX0_well_0 5 rfl rfl)
theorem dX0_well_6 : decode cX0_well 6 = .ok (.ireturn, 1) := dk_172 (dk_at dksX0_well_0 6 rfl rfl)
abbrev cX0_found : ByteArray := prog_1_method_7_code
def yX0_found : MethodName := ⟨RX0, "found", "(LInflatedRows$Finding;)I"⟩
def dkwX0_found_0 : List UInt8 := [42, 43, 180, 0, 74, 181, 0, 78, 18, 81, 43, 180, 0, 74, 100, 172]
abbrev dktX0_found_0 : List UInt8 := dkwX0_found_0 ++ []
theorem dksX0_found_0 : cX0_found.data.toList.drop 0 = dktX0_found_0 := by decide +kernel
theorem dX0_found_0 : decode cX0_found 0 = .ok (.aload_n 0, 1) := dk_42 (dk_at dksX0_found_0 0 rfl rfl)
theorem dX0_found_1 : decode cX0_found 1 = .ok (.aload_n 1, 1) := dk_43 (dk_at dksX0_found_0 1 rfl rfl)
theorem dX0_found_2 : decode cX0_found 2 = .ok (.getfield 74, 3) := dk_180 0 74 (dk_at dksX0_found_0 2 rfl rfl)
theorem dX0_found_5 : decode cX0_found 5 = .ok (.putfield 78, 3) := dk_181 0 78 (dk_at dksX0_found_0 5 rfl rfl)
theorem dX0_found_8 : decode cX0_found 8 = .ok (.ldc 81, 2) := dk_18 81 (dk_at dksX0_found_0 8 rfl rfl)
theorem dX0_found_10 : decode cX0_found 10 = .ok (.aload_n 1, 1) := dk_43 (dk_at dksX0_found_0 10 rfl rfl)
theorem dX0_found_11 : decode cX0_found 11 = .ok (.getfield 74, 3) := dk_180 0 74 (dk_at dksX0_found_0 11 rfl rfl)
theorem dX0_found_14 : decode cX0_found 14 = .ok (.isub, 1) := dk_100 (dk_at dksX0_found_0 14 rfl rfl)
theorem dX0_found_15 : decode cX0_found 15 = .ok (.ireturn, 1) := dk_172 (dk_at dksX0_found_0 15 rfl rfl)
abbrev cX0_set : ByteArray := prog_1_method_13_code
def yX0_set : MethodName := ⟨RX0, "set", "(III)I"⟩
def dkwX0_set_3 : List UInt8 := [172]
abbrev dktX0_set_3 : List UInt8 := dkwX0_set_3 ++ []
def dkwX0_set_2 : List UInt8 := [182, 0, 118, 79, 42, 25, 4, 180, 0, 114, 28, 46, 182, 0, 102, 172, 58, 4, 42, 25, 4, 182, 0, 106]
abbrev dktX0_set_2 : List UInt8 := dkwX0_set_2 ++ dktX0_set_3
def dkwX0_set_1 : List UInt8 := [180, 0, 114, 190, 4, 100, 133, 184, 0, 84, 5, 184, 0, 88, 25, 4, 180, 0, 114, 28, 25, 4, 29]
abbrev dktX0_set_1 : List UInt8 := dkwX0_set_1 ++ dktX0_set_2
def dkwX0_set_0 : List UInt8 := [27, 184, 0, 92, 154, 0, 6, 18, 98, 172, 42, 27, 182, 0, 110, 58, 4, 28, 133, 9, 25, 4]
abbrev dktX0_set_0 : List UInt8 := dkwX0_set_0 ++ dktX0_set_1
theorem dksX0_set_0 : cX0_set.data.toList.drop 0 = dktX0_set_0 := by decide +kernel
theorem dksX0_set_1 : cX0_set.data.toList.drop 22 = dktX0_set_1 := dk_seg dksX0_set_0 22 rfl rfl
theorem dksX0_set_2 : cX0_set.data.toList.drop 45 = dktX0_set_2 := dk_seg dksX0_set_1 23 rfl rfl
theorem dksX0_set_3 : cX0_set.data.toList.drop 69 = dktX0_set_3 := dk_seg dksX0_set_2 24 rfl rfl
theorem dX0_set_0 : decode cX0_set 0 = .ok (.iload_n 1, 1) := dk_27 (dk_at dksX0_set_0 0 rfl rfl)
theorem dX0_set_1 : decode cX0_set 1 = .ok (.invokestatic 92, 3) := dk_184 0 92 (dk_at dksX0_set_0 1 rfl rfl)
theorem dX0_set_4 : decode cX0_set 4 = .ok (.ifCond .ne 6, 3) := dk_154 0 6 (dk_at dksX0_set_0 4 rfl rfl)
theorem dX0_set_7 : decode cX0_set 7 = .ok (.ldc 98, 2) := dk_18 98 (dk_at dksX0_set_0 7 rfl rfl)
theorem dX0_set_9 : decode cX0_set 9 = .ok (.ireturn, 1) := dk_172 (dk_at dksX0_set_0 9 rfl rfl)
theorem dX0_set_10 : decode cX0_set 10 = .ok (.aload_n 0, 1) := dk_42 (dk_at dksX0_set_0 10 rfl rfl)
theorem dX0_set_11 : decode cX0_set 11 = .ok (.iload_n 1, 1) := dk_27 (dk_at dksX0_set_0 11 rfl rfl)
theorem dX0_set_12 : decode cX0_set 12 = .ok (.invokevirtual 110, 3) := dk_182 0 110 (dk_at dksX0_set_0 12 rfl rfl)
theorem dX0_set_15 : decode cX0_set 15 = .ok (.astore 4, 2) := dk_58 4 (dk_at dksX0_set_0 15 rfl rfl)
theorem dX0_set_17 : decode cX0_set 17 = .ok (.iload_n 2, 1) := dk_28 (dk_at dksX0_set_0 17 rfl rfl)
theorem dX0_set_18 : decode cX0_set 18 = .ok (.i2l, 1) := dk_133 (dk_at dksX0_set_0 18 rfl rfl)
theorem dX0_set_19 : decode cX0_set 19 = .ok (.lconst 0, 1) := dk_9 (dk_at dksX0_set_0 19 rfl rfl)
theorem dX0_set_20 : decode cX0_set 20 = .ok (.aload 4, 2) := dk_25 4 (dk_at dksX0_set_0 20 rfl rfl)
theorem dX0_set_22 : decode cX0_set 22 = .ok (.getfield 114, 3) := dk_180 0 114 (dk_at dksX0_set_1 0 rfl rfl)
theorem dX0_set_25 : decode cX0_set 25 = .ok (.arraylength, 1) := dk_190 (dk_at dksX0_set_1 3 rfl rfl)
theorem dX0_set_26 : decode cX0_set 26 = .ok (.iconst 1, 1) := dk_4 (dk_at dksX0_set_1 4 rfl rfl)
theorem dX0_set_27 : decode cX0_set 27 = .ok (.isub, 1) := dk_100 (dk_at dksX0_set_1 5 rfl rfl)
theorem dX0_set_28 : decode cX0_set 28 = .ok (.i2l, 1) := dk_133 (dk_at dksX0_set_1 6 rfl rfl)
theorem dX0_set_29 : decode cX0_set 29 = .ok (.invokestatic 84, 3) := dk_184 0 84 (dk_at dksX0_set_1 7 rfl rfl)
theorem dX0_set_32 : decode cX0_set 32 = .ok (.iconst 2, 1) := dk_5 (dk_at dksX0_set_1 10 rfl rfl)
theorem dX0_set_33 : decode cX0_set 33 = .ok (.invokestatic 88, 3) := dk_184 0 88 (dk_at dksX0_set_1 11 rfl rfl)
theorem dX0_set_36 : decode cX0_set 36 = .ok (.aload 4, 2) := dk_25 4 (dk_at dksX0_set_1 14 rfl rfl)
theorem dX0_set_38 : decode cX0_set 38 = .ok (.getfield 114, 3) := dk_180 0 114 (dk_at dksX0_set_1 16 rfl rfl)
theorem dX0_set_41 : decode cX0_set 41 = .ok (.iload_n 2, 1) := dk_28 (dk_at dksX0_set_1 19 rfl rfl)
theorem dX0_set_42 : decode cX0_set 42 = .ok (.aload 4, 2) := dk_25 4 (dk_at dksX0_set_1 20 rfl rfl)
theorem dX0_set_44 : decode cX0_set 44 = .ok (.iload_n 3, 1) := dk_29 (dk_at dksX0_set_1 22 rfl rfl)
theorem dX0_set_45 : decode cX0_set 45 = .ok (.invokevirtual 118, 3) := dk_182 0 118 (dk_at dksX0_set_2 0 rfl rfl)
theorem dX0_set_48 : decode cX0_set 48 = .ok (.iastore, 1) := dk_79 (dk_at dksX0_set_2 3 rfl rfl)
theorem dX0_set_49 : decode cX0_set 49 = .ok (.aload_n 0, 1) := dk_42 (dk_at dksX0_set_2 4 rfl rfl)
theorem dX0_set_50 : decode cX0_set 50 = .ok (.aload 4, 2) := dk_25 4 (dk_at dksX0_set_2 5 rfl rfl)
theorem dX0_set_52 : decode cX0_set 52 = .ok (.getfield 114, 3) := dk_180 0 114 (dk_at dksX0_set_2 7 rfl rfl)
theorem dX0_set_55 : decode cX0_set 55 = .ok (.iload_n 2, 1) := dk_28 (dk_at dksX0_set_2 10 rfl rfl)
theorem dX0_set_56 : decode cX0_set 56 = .ok (.iaload, 1) := dk_46 (dk_at dksX0_set_2 11 rfl rfl)
theorem dX0_set_57 : decode cX0_set 57 = .ok (.invokevirtual 102, 3) := dk_182 0 102 (dk_at dksX0_set_2 12 rfl rfl)
theorem dX0_set_60 : decode cX0_set 60 = .ok (.ireturn, 1) := dk_172 (dk_at dksX0_set_2 15 rfl rfl)
theorem dX0_set_61 : decode cX0_set 61 = .ok (.astore 4, 2) := dk_58 4 (dk_at dksX0_set_2 16 rfl rfl)
theorem dX0_set_63 : decode cX0_set 63 = .ok (.aload_n 0, 1) := dk_42 (dk_at dksX0_set_2 18 rfl rfl)
theorem dX0_set_64 : decode cX0_set 64 = .ok (.aload 4, 2) := dk_25 4 (dk_at dksX0_set_2 19 rfl rfl)
theorem dX0_set_66 : decode cX0_set 66 = .ok (.invokevirtual 106, 3) := dk_182 0 106 (dk_at dksX0_set_2 21 rfl rfl)
theorem dX0_set_69 : decode cX0_set 69 = .ok (.ireturn, 1) := dk_172 (dk_at dksX0_set_3 0 rfl rfl)
abbrev cX0_rowAt : ByteArray := prog_1_method_11_code
def yX0_rowAt : MethodName := ⟨RX0, "rowAt", "(I)LInflatedRows$Row;"⟩
def dkwX0_rowAt_1 : List UInt8 := [176]
abbrev dktX0_rowAt_1 : List UInt8 := dkwX0_rowAt_1 ++ []
def dkwX0_rowAt_0 : List UInt8 := [42, 180, 0, 42, 27, 50, 198, 0, 7, 4, 167, 0, 4, 3, 4, 184, 0, 88, 42, 180, 0, 42, 27, 50]
abbrev dktX0_rowAt_0 : List UInt8 := dkwX0_rowAt_0 ++ dktX0_rowAt_1
theorem dksX0_rowAt_0 : cX0_rowAt.data.toList.drop 0 = dktX0_rowAt_0 := by decide +kernel
theorem dksX0_rowAt_1 : cX0_rowAt.data.toList.drop 24 = dktX0_rowAt_1 := dk_seg dksX0_rowAt_0 24 rfl rfl
theorem dX0_rowAt_0 : decode cX0_rowAt 0 = .ok (.aload_n 0, 1) := dk_42 (dk_at dksX0_rowAt_0 0 rfl rfl)
theorem dX0_rowAt_1 : decode cX0_rowAt 1 = .ok (.getfield 42, 3) := dk_180 0 42 (dk_at dksX0_rowAt_0 1 rfl rfl)
theorem dX0_rowAt_4 : decode cX0_rowAt 4 = .ok (.iload_n 1, 1) := dk_27 (dk_at dksX0_rowAt_0 4 rfl rfl)
theorem dX0_rowAt_5 : decode cX0_rowAt 5 = .ok (.aaload, 1) := dk_50 (dk_at dksX0_rowAt_0 5 rfl rfl)
theorem dX0_rowAt_6 : decode cX0_rowAt 6 = .ok (.ifnull 7, 3) := dk_198 0 7 (dk_at dksX0_rowAt_0 6 rfl rfl)
theorem dX0_rowAt_9 : decode cX0_rowAt 9 = .ok (.iconst 1, 1) := dk_4 (dk_at dksX0_rowAt_0 9 rfl rfl)
theorem dX0_rowAt_10 : decode cX0_rowAt 10 = .ok (.goto 4, 3) := dk_167 0 4 (dk_at dksX0_rowAt_0 10 rfl rfl)
theorem dX0_rowAt_13 : decode cX0_rowAt 13 = .ok (.iconst 0, 1) := dk_3 (dk_at dksX0_rowAt_0 13 rfl rfl)
theorem dX0_rowAt_14 : decode cX0_rowAt 14 = .ok (.iconst 1, 1) := dk_4 (dk_at dksX0_rowAt_0 14 rfl rfl)
theorem dX0_rowAt_15 : decode cX0_rowAt 15 = .ok (.invokestatic 88, 3) := dk_184 0 88 (dk_at dksX0_rowAt_0 15 rfl rfl)
theorem dX0_rowAt_18 : decode cX0_rowAt 18 = .ok (.aload_n 0, 1) := dk_42 (dk_at dksX0_rowAt_0 18 rfl rfl)
theorem dX0_rowAt_19 : decode cX0_rowAt 19 = .ok (.getfield 42, 3) := dk_180 0 42 (dk_at dksX0_rowAt_0 19 rfl rfl)
theorem dX0_rowAt_22 : decode cX0_rowAt 22 = .ok (.iload_n 1, 1) := dk_27 (dk_at dksX0_rowAt_0 22 rfl rfl)
theorem dX0_rowAt_23 : decode cX0_rowAt 23 = .ok (.aaload, 1) := dk_50 (dk_at dksX0_rowAt_0 23 rfl rfl)
theorem dX0_rowAt_24 : decode cX0_rowAt 24 = .ok (.areturn, 1) := dk_176 (dk_at dksX0_rowAt_1 0 rfl rfl)
abbrev cX0_copy : ByteArray := prog_1_method_14_code
def yX0_copy : MethodName := ⟨RX0, "copy", "(IIIII)I"⟩
def dkwX0_copy_4 : List UInt8 := [25, 6, 182, 0, 106, 172]
abbrev dktX0_copy_4 : List UInt8 := dkwX0_copy_4 ++ []
def dkwX0_copy_3 : List UInt8 := [167, 0, 14, 58, 8, 187, 0, 9, 89, 5, 183, 0, 13, 191, 42, 21, 5, 182, 0, 102, 172, 58, 6, 42]
abbrev dktX0_copy_3 : List UInt8 := dkwX0_copy_3 ++ dktX0_copy_4
def dkwX0_copy_2 : List UInt8 := [3, 8, 184, 0, 88, 25, 6, 180, 0, 114, 28, 25, 7, 180, 0, 114, 21, 4, 21, 5, 184, 0, 124]
abbrev dktX0_copy_2 : List UInt8 := dkwX0_copy_2 ++ dktX0_copy_3
def dkwX0_copy_1 : List UInt8 := [42, 29, 182, 0, 110, 58, 7, 25, 6, 180, 0, 121, 25, 7, 180, 0, 121, 160, 0, 7, 4, 167, 0, 4]
abbrev dktX0_copy_1 : List UInt8 := dkwX0_copy_1 ++ dktX0_copy_2
def dkwX0_copy_0 : List UInt8 := [27, 184, 0, 92, 153, 0, 10, 29, 184, 0, 92, 154, 0, 6, 18, 98, 172, 42, 27, 182, 0, 110, 58, 6]
abbrev dktX0_copy_0 : List UInt8 := dkwX0_copy_0 ++ dktX0_copy_1
theorem dksX0_copy_0 : cX0_copy.data.toList.drop 0 = dktX0_copy_0 := by decide +kernel
theorem dksX0_copy_1 : cX0_copy.data.toList.drop 24 = dktX0_copy_1 := dk_seg dksX0_copy_0 24 rfl rfl
theorem dksX0_copy_2 : cX0_copy.data.toList.drop 48 = dktX0_copy_2 := dk_seg dksX0_copy_1 24 rfl rfl
theorem dksX0_copy_3 : cX0_copy.data.toList.drop 71 = dktX0_copy_3 := dk_seg dksX0_copy_2 23 rfl rfl
theorem dksX0_copy_4 : cX0_copy.data.toList.drop 95 = dktX0_copy_4 := dk_seg dksX0_copy_3 24 rfl rfl
theorem dX0_copy_0 : decode cX0_copy 0 = .ok (.iload_n 1, 1) := dk_27 (dk_at dksX0_copy_0 0 rfl rfl)
theorem dX0_copy_1 : decode cX0_copy 1 = .ok (.invokestatic 92, 3) := dk_184 0 92 (dk_at dksX0_copy_0 1 rfl rfl)
theorem dX0_copy_4 : decode cX0_copy 4 = .ok (.ifCond .eq 10, 3) := dk_153 0 10 (dk_at dksX0_copy_0 4 rfl rfl)
theorem dX0_copy_7 : decode cX0_copy 7 = .ok (.iload_n 3, 1) := dk_29 (dk_at dksX0_copy_0 7 rfl rfl)
theorem dX0_copy_8 : decode cX0_copy 8 = .ok (.invokestatic 92, 3) := dk_184 0 92 (dk_at dksX0_copy_0 8 rfl rfl)
theorem dX0_copy_11 : decode cX0_copy 11 = .ok (.ifCond .ne 6, 3) := dk_154 0 6 (dk_at dksX0_copy_0 11 rfl rfl)
theorem dX0_copy_14 : decode cX0_copy 14 = .ok (.ldc 98, 2) := dk_18 98 (dk_at dksX0_copy_0 14 rfl rfl)
theorem dX0_copy_16 : decode cX0_copy 16 = .ok (.ireturn, 1) := dk_172 (dk_at dksX0_copy_0 16 rfl rfl)
theorem dX0_copy_17 : decode cX0_copy 17 = .ok (.aload_n 0, 1) := dk_42 (dk_at dksX0_copy_0 17 rfl rfl)
theorem dX0_copy_18 : decode cX0_copy 18 = .ok (.iload_n 1, 1) := dk_27 (dk_at dksX0_copy_0 18 rfl rfl)
theorem dX0_copy_19 : decode cX0_copy 19 = .ok (.invokevirtual 110, 3) := dk_182 0 110 (dk_at dksX0_copy_0 19 rfl rfl)
theorem dX0_copy_22 : decode cX0_copy 22 = .ok (.astore 6, 2) := dk_58 6 (dk_at dksX0_copy_0 22 rfl rfl)
theorem dX0_copy_24 : decode cX0_copy 24 = .ok (.aload_n 0, 1) := dk_42 (dk_at dksX0_copy_1 0 rfl rfl)
theorem dX0_copy_25 : decode cX0_copy 25 = .ok (.iload_n 3, 1) := dk_29 (dk_at dksX0_copy_1 1 rfl rfl)
theorem dX0_copy_26 : decode cX0_copy 26 = .ok (.invokevirtual 110, 3) := dk_182 0 110 (dk_at dksX0_copy_1 2 rfl rfl)
theorem dX0_copy_29 : decode cX0_copy 29 = .ok (.astore 7, 2) := dk_58 7 (dk_at dksX0_copy_1 5 rfl rfl)
theorem dX0_copy_31 : decode cX0_copy 31 = .ok (.aload 6, 2) := dk_25 6 (dk_at dksX0_copy_1 7 rfl rfl)
theorem dX0_copy_33 : decode cX0_copy 33 = .ok (.getfield 121, 3) := dk_180 0 121 (dk_at dksX0_copy_1 9 rfl rfl)
theorem dX0_copy_36 : decode cX0_copy 36 = .ok (.aload 7, 2) := dk_25 7 (dk_at dksX0_copy_1 12 rfl rfl)
theorem dX0_copy_38 : decode cX0_copy 38 = .ok (.getfield 121, 3) := dk_180 0 121 (dk_at dksX0_copy_1 14 rfl rfl)
theorem dX0_copy_41 : decode cX0_copy 41 = .ok (.if_icmp .ne 7, 3) := dk_160 0 7 (dk_at dksX0_copy_1 17 rfl rfl)
theorem dX0_copy_44 : decode cX0_copy 44 = .ok (.iconst 1, 1) := dk_4 (dk_at dksX0_copy_1 20 rfl rfl)
theorem dX0_copy_45 : decode cX0_copy 45 = .ok (.goto 4, 3) := dk_167 0 4 (dk_at dksX0_copy_1 21 rfl rfl)
theorem dX0_copy_48 : decode cX0_copy 48 = .ok (.iconst 0, 1) := dk_3 (dk_at dksX0_copy_2 0 rfl rfl)
theorem dX0_copy_49 : decode cX0_copy 49 = .ok (.iconst 5, 1) := dk_8 (dk_at dksX0_copy_2 1 rfl rfl)
theorem dX0_copy_50 : decode cX0_copy 50 = .ok (.invokestatic 88, 3) := dk_184 0 88 (dk_at dksX0_copy_2 2 rfl rfl)
theorem dX0_copy_53 : decode cX0_copy 53 = .ok (.aload 6, 2) := dk_25 6 (dk_at dksX0_copy_2 5 rfl rfl)
theorem dX0_copy_55 : decode cX0_copy 55 = .ok (.getfield 114, 3) := dk_180 0 114 (dk_at dksX0_copy_2 7 rfl rfl)
theorem dX0_copy_58 : decode cX0_copy 58 = .ok (.iload_n 2, 1) := dk_28 (dk_at dksX0_copy_2 10 rfl rfl)
theorem dX0_copy_59 : decode cX0_copy 59 = .ok (.aload 7, 2) := dk_25 7 (dk_at dksX0_copy_2 11 rfl rfl)
theorem dX0_copy_61 : decode cX0_copy 61 = .ok (.getfield 114, 3) := dk_180 0 114 (dk_at dksX0_copy_2 13 rfl rfl)
theorem dX0_copy_64 : decode cX0_copy 64 = .ok (.iload 4, 2) := dk_21 4 (dk_at dksX0_copy_2 16 rfl rfl)
theorem dX0_copy_66 : decode cX0_copy 66 = .ok (.iload 5, 2) := dk_21 5 (dk_at dksX0_copy_2 18 rfl rfl)
theorem dX0_copy_68 : decode cX0_copy 68 = .ok (.invokestatic 124, 3) := dk_184 0 124 (dk_at dksX0_copy_2 20 rfl rfl)
theorem dX0_copy_71 : decode cX0_copy 71 = .ok (.goto 14, 3) := dk_167 0 14 (dk_at dksX0_copy_3 0 rfl rfl)
theorem dX0_copy_74 : decode cX0_copy 74 = .ok (.astore 8, 2) := dk_58 8 (dk_at dksX0_copy_3 3 rfl rfl)
theorem dX0_copy_76 : decode cX0_copy 76 = .ok (.new 9, 3) := dk_187 0 9 (dk_at dksX0_copy_3 5 rfl rfl)
theorem dX0_copy_79 : decode cX0_copy 79 = .ok (.dup, 1) := dk_89 (dk_at dksX0_copy_3 8 rfl rfl)
theorem dX0_copy_80 : decode cX0_copy 80 = .ok (.iconst 2, 1) := dk_5 (dk_at dksX0_copy_3 9 rfl rfl)
theorem dX0_copy_81 : decode cX0_copy 81 = .ok (.invokespecial 13, 3) := dk_183 0 13 (dk_at dksX0_copy_3 10 rfl rfl)
theorem dX0_copy_84 : decode cX0_copy 84 = .ok (.athrow, 1) := dk_191 (dk_at dksX0_copy_3 13 rfl rfl)
theorem dX0_copy_85 : decode cX0_copy 85 = .ok (.aload_n 0, 1) := dk_42 (dk_at dksX0_copy_3 14 rfl rfl)
theorem dX0_copy_86 : decode cX0_copy 86 = .ok (.iload 5, 2) := dk_21 5 (dk_at dksX0_copy_3 15 rfl rfl)
theorem dX0_copy_88 : decode cX0_copy 88 = .ok (.invokevirtual 102, 3) := dk_182 0 102 (dk_at dksX0_copy_3 17 rfl rfl)
theorem dX0_copy_91 : decode cX0_copy 91 = .ok (.ireturn, 1) := dk_172 (dk_at dksX0_copy_3 20 rfl rfl)
theorem dX0_copy_92 : decode cX0_copy 92 = .ok (.astore 6, 2) := dk_58 6 (dk_at dksX0_copy_3 21 rfl rfl)
theorem dX0_copy_94 : decode cX0_copy 94 = .ok (.aload_n 0, 1) := dk_42 (dk_at dksX0_copy_3 23 rfl rfl)
theorem dX0_copy_95 : decode cX0_copy 95 = .ok (.aload 6, 2) := dk_25 6 (dk_at dksX0_copy_4 0 rfl rfl)
theorem dX0_copy_97 : decode cX0_copy 97 = .ok (.invokevirtual 106, 3) := dk_182 0 106 (dk_at dksX0_copy_4 2 rfl rfl)
theorem dX0_copy_100 : decode cX0_copy 100 = .ok (.ireturn, 1) := dk_172 (dk_at dksX0_copy_4 5 rfl rfl)
abbrev cX0_drop : ByteArray := prog_1_method_15_code
def yX0_drop : MethodName := ⟨RX0, "drop", "(I)I"⟩
def dkwX0_drop_1 : List UInt8 := [27, 1, 83, 42, 28, 182, 0, 102, 172, 77, 42, 44, 182, 0, 106, 172]
abbrev dktX0_drop_1 : List UInt8 := dkwX0_drop_1 ++ []
def dkwX0_drop_0 : List UInt8 := [27, 184, 0, 92, 154, 0, 6, 18, 98, 172, 42, 27, 182, 0, 110, 180, 0, 114, 190, 61, 42, 180, 0, 42]
abbrev dktX0_drop_0 : List UInt8 := dkwX0_drop_0 ++ dktX0_drop_1
theorem dksX0_drop_0 : cX0_drop.data.toList.drop 0 = dktX0_drop_0 := by decide +kernel
theorem dksX0_drop_1 : cX0_drop.data.toList.drop 24 = dktX0_drop_1 := dk_seg dksX0_drop_0 24 rfl rfl
theorem dX0_drop_0 : decode cX0_drop 0 = .ok (.iload_n 1, 1) := dk_27 (dk_at dksX0_drop_0 0 rfl rfl)
theorem dX0_drop_1 : decode cX0_drop 1 = .ok (.invokestatic 92, 3) := dk_184 0 92 (dk_at dksX0_drop_0 1 rfl rfl)
theorem dX0_drop_4 : decode cX0_drop 4 = .ok (.ifCond .ne 6, 3) := dk_154 0 6 (dk_at dksX0_drop_0 4 rfl rfl)
theorem dX0_drop_7 : decode cX0_drop 7 = .ok (.ldc 98, 2) := dk_18 98 (dk_at dksX0_drop_0 7 rfl rfl)
theorem dX0_drop_9 : decode cX0_drop 9 = .ok (.ireturn, 1) := dk_172 (dk_at dksX0_drop_0 9 rfl rfl)
theorem dX0_drop_10 : decode cX0_drop 10 = .ok (.aload_n 0, 1) := dk_42 (dk_at dksX0_drop_0 10 rfl rfl)
theorem dX0_drop_11 : decode cX0_drop 11 = .ok (.iload_n 1, 1) := dk_27 (dk_at dksX0_drop_0 11 rfl rfl)
theorem dX0_drop_12 : decode cX0_drop 12 = .ok (.invokevirtual 110, 3) := dk_182 0 110 (dk_at dksX0_drop_0 12 rfl rfl)
theorem dX0_drop_15 : decode cX0_drop 15 = .ok (.getfield 114, 3) := dk_180 0 114 (dk_at dksX0_drop_0 15 rfl rfl)
theorem dX0_drop_18 : decode cX0_drop 18 = .ok (.arraylength, 1) := dk_190 (dk_at dksX0_drop_0 18 rfl rfl)
theorem dX0_drop_19 : decode cX0_drop 19 = .ok (.istore_n 2, 1) := dk_61 (dk_at dksX0_drop_0 19 rfl rfl)
theorem dX0_drop_20 : decode cX0_drop 20 = .ok (.aload_n 0, 1) := dk_42 (dk_at dksX0_drop_0 20 rfl rfl)
theorem dX0_drop_21 : decode cX0_drop 21 = .ok (.getfield 42, 3) := dk_180 0 42 (dk_at dksX0_drop_0 21 rfl rfl)
theorem dX0_drop_24 : decode cX0_drop 24 = .ok (.iload_n 1, 1) := dk_27 (dk_at dksX0_drop_1 0 rfl rfl)
theorem dX0_drop_25 : decode cX0_drop 25 = .ok (.aconst_null, 1) := dk_1 (dk_at dksX0_drop_1 1 rfl rfl)
theorem dX0_drop_26 : decode cX0_drop 26 = .ok (.aastore, 1) := dk_83 (dk_at dksX0_drop_1 2 rfl rfl)
theorem dX0_drop_27 : decode cX0_drop 27 = .ok (.aload_n 0, 1) := dk_42 (dk_at dksX0_drop_1 3 rfl rfl)
theorem dX0_drop_28 : decode cX0_drop 28 = .ok (.iload_n 2, 1) := dk_28 (dk_at dksX0_drop_1 4 rfl rfl)
theorem dX0_drop_29 : decode cX0_drop 29 = .ok (.invokevirtual 102, 3) := dk_182 0 102 (dk_at dksX0_drop_1 5 rfl rfl)
theorem dX0_drop_32 : decode cX0_drop 32 = .ok (.ireturn, 1) := dk_172 (dk_at dksX0_drop_1 8 rfl rfl)
theorem dX0_drop_33 : decode cX0_drop 33 = .ok (.astore_n 2, 1) := dk_77 (dk_at dksX0_drop_1 9 rfl rfl)
theorem dX0_drop_34 : decode cX0_drop 34 = .ok (.aload_n 0, 1) := dk_42 (dk_at dksX0_drop_1 10 rfl rfl)
theorem dX0_drop_35 : decode cX0_drop 35 = .ok (.aload_n 2, 1) := dk_44 (dk_at dksX0_drop_1 11 rfl rfl)
theorem dX0_drop_36 : decode cX0_drop 36 = .ok (.invokevirtual 106, 3) := dk_182 0 106 (dk_at dksX0_drop_1 12 rfl rfl)
theorem dX0_drop_39 : decode cX0_drop 39 = .ok (.ireturn, 1) := dk_172 (dk_at dksX0_drop_1 15 rfl rfl)
abbrev cX0_feed : ByteArray := prog_1_method_16_code
def yX0_feed : MethodName := ⟨RX0, "feed", "(I)I"⟩
def dkwX0_feed_2 : List UInt8 := [180, 0, 134, 172]
abbrev dktX0_feed_2 : List UInt8 := dkwX0_feed_2 ++ []
def dkwX0_feed_1 : List UInt8 := [18, 137, 172, 42, 180, 0, 46, 42, 89, 180, 0, 134, 90, 4, 96, 181, 0, 134, 27, 145, 84, 42]
abbrev dktX0_feed_1 : List UInt8 := dkwX0_feed_1 ++ dktX0_feed_2
def dkwX0_feed_0 : List UInt8 := [27, 133, 9, 20, 0, 132, 184, 0, 84, 154, 0, 6, 18, 98, 172, 42, 180, 0, 134, 16, 120, 160, 0, 6]
abbrev dktX0_feed_0 : List UInt8 := dkwX0_feed_0 ++ dktX0_feed_1
theorem dksX0_feed_0 : cX0_feed.data.toList.drop 0 = dktX0_feed_0 := by decide +kernel
theorem dksX0_feed_1 : cX0_feed.data.toList.drop 24 = dktX0_feed_1 := dk_seg dksX0_feed_0 24 rfl rfl
theorem dksX0_feed_2 : cX0_feed.data.toList.drop 46 = dktX0_feed_2 := dk_seg dksX0_feed_1 22 rfl rfl
theorem dX0_feed_0 : decode cX0_feed 0 = .ok (.iload_n 1, 1) := dk_27 (dk_at dksX0_feed_0 0 rfl rfl)
theorem dX0_feed_1 : decode cX0_feed 1 = .ok (.i2l, 1) := dk_133 (dk_at dksX0_feed_0 1 rfl rfl)
theorem dX0_feed_2 : decode cX0_feed 2 = .ok (.lconst 0, 1) := dk_9 (dk_at dksX0_feed_0 2 rfl rfl)
theorem dX0_feed_3 : decode cX0_feed 3 = .ok (.ldc2_w 132, 3) := dk_20 0 132 (dk_at dksX0_feed_0 3 rfl rfl)
theorem dX0_feed_6 : decode cX0_feed 6 = .ok (.invokestatic 84, 3) := dk_184 0 84 (dk_at dksX0_feed_0 6 rfl rfl)
theorem dX0_feed_9 : decode cX0_feed 9 = .ok (.ifCond .ne 6, 3) := dk_154 0 6 (dk_at dksX0_feed_0 9 rfl rfl)
theorem dX0_feed_12 : decode cX0_feed 12 = .ok (.ldc 98, 2) := dk_18 98 (dk_at dksX0_feed_0 12 rfl rfl)
theorem dX0_feed_14 : decode cX0_feed 14 = .ok (.ireturn, 1) := dk_172 (dk_at dksX0_feed_0 14 rfl rfl)
theorem dX0_feed_15 : decode cX0_feed 15 = .ok (.aload_n 0, 1) := dk_42 (dk_at dksX0_feed_0 15 rfl rfl)
theorem dX0_feed_16 : decode cX0_feed 16 = .ok (.getfield 134, 3) := dk_180 0 134 (dk_at dksX0_feed_0 16 rfl rfl)
theorem dX0_feed_19 : decode cX0_feed 19 = .ok (.bipush 120, 2) := dk_16 120 (dk_at dksX0_feed_0 19 rfl rfl)
theorem dX0_feed_21 : decode cX0_feed 21 = .ok (.if_icmp .ne 6, 3) := dk_160 0 6 (dk_at dksX0_feed_0 21 rfl rfl)
theorem dX0_feed_24 : decode cX0_feed 24 = .ok (.ldc 137, 2) := dk_18 137 (dk_at dksX0_feed_1 0 rfl rfl)
theorem dX0_feed_26 : decode cX0_feed 26 = .ok (.ireturn, 1) := dk_172 (dk_at dksX0_feed_1 2 rfl rfl)
theorem dX0_feed_27 : decode cX0_feed 27 = .ok (.aload_n 0, 1) := dk_42 (dk_at dksX0_feed_1 3 rfl rfl)
theorem dX0_feed_28 : decode cX0_feed 28 = .ok (.getfield 46, 3) := dk_180 0 46 (dk_at dksX0_feed_1 4 rfl rfl)
theorem dX0_feed_31 : decode cX0_feed 31 = .ok (.aload_n 0, 1) := dk_42 (dk_at dksX0_feed_1 7 rfl rfl)
theorem dX0_feed_32 : decode cX0_feed 32 = .ok (.dup, 1) := dk_89 (dk_at dksX0_feed_1 8 rfl rfl)
theorem dX0_feed_33 : decode cX0_feed 33 = .ok (.getfield 134, 3) := dk_180 0 134 (dk_at dksX0_feed_1 9 rfl rfl)
theorem dX0_feed_36 : decode cX0_feed 36 = .ok (.dup_x1, 1) := dk_90 (dk_at dksX0_feed_1 12 rfl rfl)
theorem dX0_feed_37 : decode cX0_feed 37 = .ok (.iconst 1, 1) := dk_4 (dk_at dksX0_feed_1 13 rfl rfl)
theorem dX0_feed_38 : decode cX0_feed 38 = .ok (.iadd, 1) := dk_96 (dk_at dksX0_feed_1 14 rfl rfl)
theorem dX0_feed_39 : decode cX0_feed 39 = .ok (.putfield 134, 3) := dk_181 0 134 (dk_at dksX0_feed_1 15 rfl rfl)
theorem dX0_feed_42 : decode cX0_feed 42 = .ok (.iload_n 1, 1) := dk_27 (dk_at dksX0_feed_1 18 rfl rfl)
theorem dX0_feed_43 : decode cX0_feed 43 = .ok (.i2b, 1) := dk_145 (dk_at dksX0_feed_1 19 rfl rfl)
theorem dX0_feed_44 : decode cX0_feed 44 = .ok (.bastore, 1) := dk_84 (dk_at dksX0_feed_1 20 rfl rfl)
theorem dX0_feed_45 : decode cX0_feed 45 = .ok (.aload_n 0, 1) := dk_42 (dk_at dksX0_feed_1 21 rfl rfl)
theorem dX0_feed_46 : decode cX0_feed 46 = .ok (.getfield 134, 3) := dk_180 0 134 (dk_at dksX0_feed_2 0 rfl rfl)
theorem dX0_feed_49 : decode cX0_feed 49 = .ok (.ireturn, 1) := dk_172 (dk_at dksX0_feed_2 3 rfl rfl)
abbrev cX0_book : ByteArray := prog_1_method_17_code
def yX0_book : MethodName := ⟨RX0, "book", "()I"⟩
def dkwX0_book_2 : List UInt8 := [180, 0, 53, 43, 180, 0, 158, 182, 0, 161, 87, 42, 3, 181, 0, 165, 42, 180, 0, 53, 182, 0, 168, 172]
abbrev dktX0_book_2 : List UInt8 := dkwX0_book_2 ++ []
def dkwX0_book_1 : List UInt8 := [182, 0, 143, 167, 0, 20, 77, 42, 44, 180, 0, 148, 181, 0, 151, 18, 154, 44, 180, 0, 155, 100, 172, 42]
abbrev dktX0_book_1 : List UInt8 := dkwX0_book_1 ++ dktX0_book_2
def dkwX0_book_0 : List UInt8 := [187, 0, 138, 89, 42, 180, 0, 46, 42, 180, 0, 134, 183, 0, 140, 76, 42, 3, 181, 0, 134, 43]
abbrev dktX0_book_0 : List UInt8 := dkwX0_book_0 ++ dktX0_book_1
theorem dksX0_book_0 : cX0_book.data.toList.drop 0 = dktX0_book_0 := by decide +kernel
theorem dksX0_book_1 : cX0_book.data.toList.drop 22 = dktX0_book_1 := dk_seg dksX0_book_0 22 rfl rfl
theorem dksX0_book_2 : cX0_book.data.toList.drop 46 = dktX0_book_2 := dk_seg dksX0_book_1 24 rfl rfl
theorem dX0_book_0 : decode cX0_book 0 = .ok (.new 138, 3) := dk_187 0 138 (dk_at dksX0_book_0 0 rfl rfl)
theorem dX0_book_3 : decode cX0_book 3 = .ok (.dup, 1) := dk_89 (dk_at dksX0_book_0 3 rfl rfl)
theorem dX0_book_4 : decode cX0_book 4 = .ok (.aload_n 0, 1) := dk_42 (dk_at dksX0_book_0 4 rfl rfl)
theorem dX0_book_5 : decode cX0_book 5 = .ok (.getfield 46, 3) := dk_180 0 46 (dk_at dksX0_book_0 5 rfl rfl)
theorem dX0_book_8 : decode cX0_book 8 = .ok (.aload_n 0, 1) := dk_42 (dk_at dksX0_book_0 8 rfl rfl)
theorem dX0_book_9 : decode cX0_book 9 = .ok (.getfield 134, 3) := dk_180 0 134 (dk_at dksX0_book_0 9 rfl rfl)
theorem dX0_book_12 : decode cX0_book 12 = .ok (.invokespecial 140, 3) := dk_183 0 140 (dk_at dksX0_book_0 12 rfl rfl)
theorem dX0_book_15 : decode cX0_book 15 = .ok (.astore_n 1, 1) := dk_76 (dk_at dksX0_book_0 15 rfl rfl)
theorem dX0_book_16 : decode cX0_book 16 = .ok (.aload_n 0, 1) := dk_42 (dk_at dksX0_book_0 16 rfl rfl)
theorem dX0_book_17 : decode cX0_book 17 = .ok (.iconst 0, 1) := dk_3 (dk_at dksX0_book_0 17 rfl rfl)
theorem dX0_book_18 : decode cX0_book 18 = .ok (.putfield 134, 3) := dk_181 0 134 (dk_at dksX0_book_0 18 rfl rfl)
theorem dX0_book_21 : decode cX0_book 21 = .ok (.aload_n 1, 1) := dk_43 (dk_at dksX0_book_0 21 rfl rfl)
theorem dX0_book_22 : decode cX0_book 22 = .ok (.invokevirtual 143, 3) := dk_182 0 143 (dk_at dksX0_book_1 0 rfl rfl)
theorem dX0_book_25 : decode cX0_book 25 = .ok (.goto 20, 3) := dk_167 0 20 (dk_at dksX0_book_1 3 rfl rfl)
theorem dX0_book_28 : decode cX0_book 28 = .ok (.astore_n 2, 1) := dk_77 (dk_at dksX0_book_1 6 rfl rfl)
theorem dX0_book_29 : decode cX0_book 29 = .ok (.aload_n 0, 1) := dk_42 (dk_at dksX0_book_1 7 rfl rfl)
theorem dX0_book_30 : decode cX0_book 30 = .ok (.aload_n 2, 1) := dk_44 (dk_at dksX0_book_1 8 rfl rfl)
theorem dX0_book_31 : decode cX0_book 31 = .ok (.getfield 148, 3) := dk_180 0 148 (dk_at dksX0_book_1 9 rfl rfl)
theorem dX0_book_34 : decode cX0_book 34 = .ok (.putfield 151, 3) := dk_181 0 151 (dk_at dksX0_book_1 12 rfl rfl)
theorem dX0_book_37 : decode cX0_book 37 = .ok (.ldc 154, 2) := dk_18 154 (dk_at dksX0_book_1 15 rfl rfl)
theorem dX0_book_39 : decode cX0_book 39 = .ok (.aload_n 2, 1) := dk_44 (dk_at dksX0_book_1 17 rfl rfl)
theorem dX0_book_40 : decode cX0_book 40 = .ok (.getfield 155, 3) := dk_180 0 155 (dk_at dksX0_book_1 18 rfl rfl)
theorem dX0_book_43 : decode cX0_book 43 = .ok (.isub, 1) := dk_100 (dk_at dksX0_book_1 21 rfl rfl)
theorem dX0_book_44 : decode cX0_book 44 = .ok (.ireturn, 1) := dk_172 (dk_at dksX0_book_1 22 rfl rfl)
theorem dX0_book_45 : decode cX0_book 45 = .ok (.aload_n 0, 1) := dk_42 (dk_at dksX0_book_1 23 rfl rfl)
theorem dX0_book_46 : decode cX0_book 46 = .ok (.getfield 53, 3) := dk_180 0 53 (dk_at dksX0_book_2 0 rfl rfl)
theorem dX0_book_49 : decode cX0_book 49 = .ok (.aload_n 1, 1) := dk_43 (dk_at dksX0_book_2 3 rfl rfl)
theorem dX0_book_50 : decode cX0_book 50 = .ok (.getfield 158, 3) := dk_180 0 158 (dk_at dksX0_book_2 4 rfl rfl)
theorem dX0_book_53 : decode cX0_book 53 = .ok (.invokevirtual 161, 3) := dk_182 0 161 (dk_at dksX0_book_2 7 rfl rfl)
theorem dX0_book_56 : decode cX0_book 56 = .ok (.pop, 1) := dk_87 (dk_at dksX0_book_2 10 rfl rfl)
theorem dX0_book_57 : decode cX0_book 57 = .ok (.aload_n 0, 1) := dk_42 (dk_at dksX0_book_2 11 rfl rfl)
theorem dX0_book_58 : decode cX0_book 58 = .ok (.iconst 0, 1) := dk_3 (dk_at dksX0_book_2 12 rfl rfl)
theorem dX0_book_59 : decode cX0_book 59 = .ok (.putfield 165, 3) := dk_181 0 165 (dk_at dksX0_book_2 13 rfl rfl)
theorem dX0_book_62 : decode cX0_book 62 = .ok (.aload_n 0, 1) := dk_42 (dk_at dksX0_book_2 16 rfl rfl)
theorem dX0_book_63 : decode cX0_book 63 = .ok (.getfield 53, 3) := dk_180 0 53 (dk_at dksX0_book_2 17 rfl rfl)
theorem dX0_book_66 : decode cX0_book 66 = .ok (.invokevirtual 168, 3) := dk_182 0 168 (dk_at dksX0_book_2 20 rfl rfl)
theorem dX0_book_69 : decode cX0_book 69 = .ok (.ireturn, 1) := dk_172 (dk_at dksX0_book_2 23 rfl rfl)
abbrev cX0_sortBy : ByteArray := prog_1_method_5_code
def yX0_sortBy : MethodName := ⟨RX0, "sortBy", "(II)LInflatedRows$Sort;"⟩
def dkwX0_sortBy_3 : List UInt8 := [183, 0, 28, 176, 187, 0, 29, 89, 27, 183, 0, 31, 176, 187, 0, 32, 89, 27, 183, 0, 34, 176]
abbrev dktX0_sortBy_3 : List UInt8 := dkwX0_sortBy_3 ++ []
def dkwX0_sortBy_2 : List UInt8 := [187, 0, 20, 89, 27, 183, 0, 22, 176, 187, 0, 23, 89, 27, 183, 0, 25, 176, 187, 0, 26, 89, 27]
abbrev dktX0_sortBy_2 : List UInt8 := dkwX0_sortBy_2 ++ dktX0_sortBy_3
def dkwX0_sortBy_1 : List UInt8 := [170, 0, 0, 0, 0, 0, 67, 0, 0, 0, 1, 0, 0, 0, 4, 0, 0, 0, 31, 0, 0, 0, 40, 0, 0, 0, 49, 0, 0, 0, 58]
abbrev dktX0_sortBy_1 : List UInt8 := dkwX0_sortBy_1 ++ dktX0_sortBy_2
def dkwX0_sortBy_0 : List UInt8 := [26]
abbrev dktX0_sortBy_0 : List UInt8 := dkwX0_sortBy_0 ++ dktX0_sortBy_1
theorem dksX0_sortBy_0 : cX0_sortBy.data.toList.drop 0 = dktX0_sortBy_0 := by decide +kernel
theorem dksX0_sortBy_1 : cX0_sortBy.data.toList.drop 1 = dktX0_sortBy_1 := dk_seg dksX0_sortBy_0 1 rfl rfl
theorem dksX0_sortBy_2 : cX0_sortBy.data.toList.drop 32 = dktX0_sortBy_2 := dk_seg dksX0_sortBy_1 31 rfl rfl
theorem dksX0_sortBy_3 : cX0_sortBy.data.toList.drop 55 = dktX0_sortBy_3 := dk_seg dksX0_sortBy_2 23 rfl rfl
theorem dX0_sortBy_0 : decode cX0_sortBy 0 = .ok (.iload_n 0, 1) := dk_26 (dk_at dksX0_sortBy_0 0 rfl rfl)
theorem dX0_sortBy_1 : decode cX0_sortBy 1 = .ok (.tableswitch 67 1 4 #[31, 40, 49, 58], 31) := by decide +kernel
theorem dX0_sortBy_32 : decode cX0_sortBy 32 = .ok (.new 20, 3) := dk_187 0 20 (dk_at dksX0_sortBy_2 0 rfl rfl)
theorem dX0_sortBy_35 : decode cX0_sortBy 35 = .ok (.dup, 1) := dk_89 (dk_at dksX0_sortBy_2 3 rfl rfl)
theorem dX0_sortBy_36 : decode cX0_sortBy 36 = .ok (.iload_n 1, 1) := dk_27 (dk_at dksX0_sortBy_2 4 rfl rfl)
theorem dX0_sortBy_37 : decode cX0_sortBy 37 = .ok (.invokespecial 22, 3) := dk_183 0 22 (dk_at dksX0_sortBy_2 5 rfl rfl)
theorem dX0_sortBy_40 : decode cX0_sortBy 40 = .ok (.areturn, 1) := dk_176 (dk_at dksX0_sortBy_2 8 rfl rfl)
theorem dX0_sortBy_41 : decode cX0_sortBy 41 = .ok (.new 23, 3) := dk_187 0 23 (dk_at dksX0_sortBy_2 9 rfl rfl)
theorem dX0_sortBy_44 : decode cX0_sortBy 44 = .ok (.dup, 1) := dk_89 (dk_at dksX0_sortBy_2 12 rfl rfl)
theorem dX0_sortBy_45 : decode cX0_sortBy 45 = .ok (.iload_n 1, 1) := dk_27 (dk_at dksX0_sortBy_2 13 rfl rfl)
theorem dX0_sortBy_46 : decode cX0_sortBy 46 = .ok (.invokespecial 25, 3) := dk_183 0 25 (dk_at dksX0_sortBy_2 14 rfl rfl)
theorem dX0_sortBy_49 : decode cX0_sortBy 49 = .ok (.areturn, 1) := dk_176 (dk_at dksX0_sortBy_2 17 rfl rfl)
theorem dX0_sortBy_50 : decode cX0_sortBy 50 = .ok (.new 26, 3) := dk_187 0 26 (dk_at dksX0_sortBy_2 18 rfl rfl)
theorem dX0_sortBy_53 : decode cX0_sortBy 53 = .ok (.dup, 1) := dk_89 (dk_at dksX0_sortBy_2 21 rfl rfl)
theorem dX0_sortBy_54 : decode cX0_sortBy 54 = .ok (.iload_n 1, 1) := dk_27 (dk_at dksX0_sortBy_2 22 rfl rfl)
theorem dX0_sortBy_55 : decode cX0_sortBy 55 = .ok (.invokespecial 28, 3) := dk_183 0 28 (dk_at dksX0_sortBy_3 0 rfl rfl)
theorem dX0_sortBy_58 : decode cX0_sortBy 58 = .ok (.areturn, 1) := dk_176 (dk_at dksX0_sortBy_3 3 rfl rfl)
theorem dX0_sortBy_59 : decode cX0_sortBy 59 = .ok (.new 29, 3) := dk_187 0 29 (dk_at dksX0_sortBy_3 4 rfl rfl)
theorem dX0_sortBy_62 : decode cX0_sortBy 62 = .ok (.dup, 1) := dk_89 (dk_at dksX0_sortBy_3 7 rfl rfl)
theorem dX0_sortBy_63 : decode cX0_sortBy 63 = .ok (.iload_n 1, 1) := dk_27 (dk_at dksX0_sortBy_3 8 rfl rfl)
theorem dX0_sortBy_64 : decode cX0_sortBy 64 = .ok (.invokespecial 31, 3) := dk_183 0 31 (dk_at dksX0_sortBy_3 9 rfl rfl)
theorem dX0_sortBy_67 : decode cX0_sortBy 67 = .ok (.areturn, 1) := dk_176 (dk_at dksX0_sortBy_3 12 rfl rfl)
theorem dX0_sortBy_68 : decode cX0_sortBy 68 = .ok (.new 32, 3) := dk_187 0 32 (dk_at dksX0_sortBy_3 13 rfl rfl)
theorem dX0_sortBy_71 : decode cX0_sortBy 71 = .ok (.dup, 1) := dk_89 (dk_at dksX0_sortBy_3 16 rfl rfl)
theorem dX0_sortBy_72 : decode cX0_sortBy 72 = .ok (.iload_n 1, 1) := dk_27 (dk_at dksX0_sortBy_3 17 rfl rfl)
theorem dX0_sortBy_73 : decode cX0_sortBy 73 = .ok (.invokespecial 34, 3) := dk_183 0 34 (dk_at dksX0_sortBy_3 18 rfl rfl)
theorem dX0_sortBy_76 : decode cX0_sortBy 76 = .ok (.areturn, 1) := dk_176 (dk_at dksX0_sortBy_3 21 rfl rfl)
abbrev cX0_fault : ByteArray := prog_1_method_18_code
def yX0_fault : MethodName := ⟨RX0, "fault", "()I"⟩
theorem dX0_fault_0 : decode cX0_fault 0 = .ok (.aload_n 0, 1) := by decide +kernel
theorem dX0_fault_1 : decode cX0_fault 1 = .ok (.getfield 151, 3) := by decide +kernel
theorem dX0_fault_4 : decode cX0_fault 4 = .ok (.ireturn, 1) := by decide +kernel
abbrev cX0_undo : ByteArray := prog_1_method_21_code
def yX0_undo : MethodName := ⟨RX0, "undo", "()I"⟩
def dkwX0_undo_1 : List UInt8 := [42, 180, 0, 60, 42, 180, 0, 165, 50, 182, 0, 161, 87, 42, 180, 0, 165, 172]
abbrev dktX0_undo_1 : List UInt8 := dkwX0_undo_1 ++ []
def dkwX0_undo_0 : List UInt8 := [42, 180, 0, 165, 154, 0, 6, 18, 172, 172, 42, 89, 180, 0, 165, 4, 100, 181, 0, 165, 42, 180, 0, 53]
abbrev dktX0_undo_0 : List UInt8 := dkwX0_undo_0 ++ dktX0_undo_1
theorem dksX0_undo_0 : cX0_undo.data.toList.drop 0 = dktX0_undo_0 := by decide +kernel
theorem dksX0_undo_1 : cX0_undo.data.toList.drop 24 = dktX0_undo_1 := dk_seg dksX0_undo_0 24 rfl rfl
theorem dX0_undo_0 : decode cX0_undo 0 = .ok (.aload_n 0, 1) := dk_42 (dk_at dksX0_undo_0 0 rfl rfl)
theorem dX0_undo_1 : decode cX0_undo 1 = .ok (.getfield 165, 3) := dk_180 0 165 (dk_at dksX0_undo_0 1 rfl rfl)
theorem dX0_undo_4 : decode cX0_undo 4 = .ok (.ifCond .ne 6, 3) := dk_154 0 6 (dk_at dksX0_undo_0 4 rfl rfl)
theorem dX0_undo_7 : decode cX0_undo 7 = .ok (.ldc 172, 2) := dk_18 172 (dk_at dksX0_undo_0 7 rfl rfl)
theorem dX0_undo_9 : decode cX0_undo 9 = .ok (.ireturn, 1) := dk_172 (dk_at dksX0_undo_0 9 rfl rfl)
theorem dX0_undo_10 : decode cX0_undo 10 = .ok (.aload_n 0, 1) := dk_42 (dk_at dksX0_undo_0 10 rfl rfl)
theorem dX0_undo_11 : decode cX0_undo 11 = .ok (.dup, 1) := dk_89 (dk_at dksX0_undo_0 11 rfl rfl)
theorem dX0_undo_12 : decode cX0_undo 12 = .ok (.getfield 165, 3) := dk_180 0 165 (dk_at dksX0_undo_0 12 rfl rfl)
theorem dX0_undo_15 : decode cX0_undo 15 = .ok (.iconst 1, 1) := dk_4 (dk_at dksX0_undo_0 15 rfl rfl)
theorem dX0_undo_16 : decode cX0_undo 16 = .ok (.isub, 1) := dk_100 (dk_at dksX0_undo_0 16 rfl rfl)
theorem dX0_undo_17 : decode cX0_undo 17 = .ok (.putfield 165, 3) := dk_181 0 165 (dk_at dksX0_undo_0 17 rfl rfl)
theorem dX0_undo_20 : decode cX0_undo 20 = .ok (.aload_n 0, 1) := dk_42 (dk_at dksX0_undo_0 20 rfl rfl)
theorem dX0_undo_21 : decode cX0_undo 21 = .ok (.getfield 53, 3) := dk_180 0 53 (dk_at dksX0_undo_0 21 rfl rfl)
theorem dX0_undo_24 : decode cX0_undo 24 = .ok (.aload_n 0, 1) := dk_42 (dk_at dksX0_undo_1 0 rfl rfl)
theorem dX0_undo_25 : decode cX0_undo 25 = .ok (.getfield 60, 3) := dk_180 0 60 (dk_at dksX0_undo_1 1 rfl rfl)
theorem dX0_undo_28 : decode cX0_undo 28 = .ok (.aload_n 0, 1) := dk_42 (dk_at dksX0_undo_1 4 rfl rfl)
theorem dX0_undo_29 : decode cX0_undo 29 = .ok (.getfield 165, 3) := dk_180 0 165 (dk_at dksX0_undo_1 5 rfl rfl)
theorem dX0_undo_32 : decode cX0_undo 32 = .ok (.aaload, 1) := dk_50 (dk_at dksX0_undo_1 8 rfl rfl)
theorem dX0_undo_33 : decode cX0_undo 33 = .ok (.invokevirtual 161, 3) := dk_182 0 161 (dk_at dksX0_undo_1 9 rfl rfl)
theorem dX0_undo_36 : decode cX0_undo 36 = .ok (.pop, 1) := dk_87 (dk_at dksX0_undo_1 12 rfl rfl)
theorem dX0_undo_37 : decode cX0_undo 37 = .ok (.aload_n 0, 1) := dk_42 (dk_at dksX0_undo_1 13 rfl rfl)
theorem dX0_undo_38 : decode cX0_undo 38 = .ok (.getfield 165, 3) := dk_180 0 165 (dk_at dksX0_undo_1 14 rfl rfl)
theorem dX0_undo_41 : decode cX0_undo 41 = .ok (.ireturn, 1) := dk_172 (dk_at dksX0_undo_1 17 rfl rfl)
abbrev cX0_word : ByteArray := prog_1_method_26_code
def yX0_word : MethodName := ⟨RX0, "word", "(III)I"⟩
def dkwX0_word_3 : List UInt8 := [58, 4, 42, 25, 4, 182, 0, 106, 172]
abbrev dktX0_word_3 : List UInt8 := dkwX0_word_3 ++ []
def dkwX0_word_2 : List UInt8 := [180, 0, 190, 27, 46, 54, 5, 42, 180, 0, 53, 27, 25, 4, 182, 0, 193, 42, 21, 5, 182, 0, 102, 172]
abbrev dktX0_word_2 : List UInt8 := dkwX0_word_2 ++ dktX0_word_3
def dkwX0_word_1 : List UInt8 := [154, 0, 6, 18, 98, 172, 42, 28, 29, 182, 0, 184, 58, 4, 42, 182, 0, 187, 42, 180, 0, 53]
abbrev dktX0_word_1 : List UInt8 := dkwX0_word_1 ++ dktX0_word_2
def dkwX0_word_0 : List UInt8 := [42, 27, 182, 0, 179, 153, 0, 22, 28, 184, 0, 92, 153, 0, 15, 29, 133, 10, 20, 0, 182, 184, 0, 84]
abbrev dktX0_word_0 : List UInt8 := dkwX0_word_0 ++ dktX0_word_1
theorem dksX0_word_0 : cX0_word.data.toList.drop 0 = dktX0_word_0 := by decide +kernel
theorem dksX0_word_1 : cX0_word.data.toList.drop 24 = dktX0_word_1 := dk_seg dksX0_word_0 24 rfl rfl
theorem dksX0_word_2 : cX0_word.data.toList.drop 46 = dktX0_word_2 := dk_seg dksX0_word_1 22 rfl rfl
theorem dksX0_word_3 : cX0_word.data.toList.drop 70 = dktX0_word_3 := dk_seg dksX0_word_2 24 rfl rfl
theorem dX0_word_0 : decode cX0_word 0 = .ok (.aload_n 0, 1) := dk_42 (dk_at dksX0_word_0 0 rfl rfl)
theorem dX0_word_1 : decode cX0_word 1 = .ok (.iload_n 1, 1) := dk_27 (dk_at dksX0_word_0 1 rfl rfl)
theorem dX0_word_2 : decode cX0_word 2 = .ok (.invokevirtual 179, 3) := dk_182 0 179 (dk_at dksX0_word_0 2 rfl rfl)
theorem dX0_word_5 : decode cX0_word 5 = .ok (.ifCond .eq 22, 3) := dk_153 0 22 (dk_at dksX0_word_0 5 rfl rfl)
theorem dX0_word_8 : decode cX0_word 8 = .ok (.iload_n 2, 1) := dk_28 (dk_at dksX0_word_0 8 rfl rfl)
theorem dX0_word_9 : decode cX0_word 9 = .ok (.invokestatic 92, 3) := dk_184 0 92 (dk_at dksX0_word_0 9 rfl rfl)
theorem dX0_word_12 : decode cX0_word 12 = .ok (.ifCond .eq 15, 3) := dk_153 0 15 (dk_at dksX0_word_0 12 rfl rfl)
theorem dX0_word_15 : decode cX0_word 15 = .ok (.iload_n 3, 1) := dk_29 (dk_at dksX0_word_0 15 rfl rfl)
theorem dX0_word_16 : decode cX0_word 16 = .ok (.i2l, 1) := dk_133 (dk_at dksX0_word_0 16 rfl rfl)
theorem dX0_word_17 : decode cX0_word 17 = .ok (.lconst 1, 1) := dk_10 (dk_at dksX0_word_0 17 rfl rfl)
theorem dX0_word_18 : decode cX0_word 18 = .ok (.ldc2_w 182, 3) := dk_20 0 182 (dk_at dksX0_word_0 18 rfl rfl)
theorem dX0_word_21 : decode cX0_word 21 = .ok (.invokestatic 84, 3) := dk_184 0 84 (dk_at dksX0_word_0 21 rfl rfl)
theorem dX0_word_24 : decode cX0_word 24 = .ok (.ifCond .ne 6, 3) := dk_154 0 6 (dk_at dksX0_word_1 0 rfl rfl)
theorem dX0_word_27 : decode cX0_word 27 = .ok (.ldc 98, 2) := dk_18 98 (dk_at dksX0_word_1 3 rfl rfl)
theorem dX0_word_29 : decode cX0_word 29 = .ok (.ireturn, 1) := dk_172 (dk_at dksX0_word_1 5 rfl rfl)
theorem dX0_word_30 : decode cX0_word 30 = .ok (.aload_n 0, 1) := dk_42 (dk_at dksX0_word_1 6 rfl rfl)
theorem dX0_word_31 : decode cX0_word 31 = .ok (.iload_n 2, 1) := dk_28 (dk_at dksX0_word_1 7 rfl rfl)
theorem dX0_word_32 : decode cX0_word 32 = .ok (.iload_n 3, 1) := dk_29 (dk_at dksX0_word_1 8 rfl rfl)
theorem dX0_word_33 : decode cX0_word 33 = .ok (.invokevirtual 184, 3) := dk_182 0 184 (dk_at dksX0_word_1 9 rfl rfl)
theorem dX0_word_36 : decode cX0_word 36 = .ok (.astore 4, 2) := dk_58 4 (dk_at dksX0_word_1 12 rfl rfl)
theorem dX0_word_38 : decode cX0_word 38 = .ok (.aload_n 0, 1) := dk_42 (dk_at dksX0_word_1 14 rfl rfl)
theorem dX0_word_39 : decode cX0_word 39 = .ok (.invokevirtual 187, 3) := dk_182 0 187 (dk_at dksX0_word_1 15 rfl rfl)
theorem dX0_word_42 : decode cX0_word 42 = .ok (.aload_n 0, 1) := dk_42 (dk_at dksX0_word_1 18 rfl rfl)
theorem dX0_word_43 : decode cX0_word 43 = .ok (.getfield 53, 3) := dk_180 0 53 (dk_at dksX0_word_1 19 rfl rfl)
theorem dX0_word_46 : decode cX0_word 46 = .ok (.getfield 190, 3) := dk_180 0 190 (dk_at dksX0_word_2 0 rfl rfl)
theorem dX0_word_49 : decode cX0_word 49 = .ok (.iload_n 1, 1) := dk_27 (dk_at dksX0_word_2 3 rfl rfl)
theorem dX0_word_50 : decode cX0_word 50 = .ok (.iaload, 1) := dk_46 (dk_at dksX0_word_2 4 rfl rfl)
theorem dX0_word_51 : decode cX0_word 51 = .ok (.istore 5, 2) := dk_54 5 (dk_at dksX0_word_2 5 rfl rfl)
theorem dX0_word_53 : decode cX0_word 53 = .ok (.aload_n 0, 1) := dk_42 (dk_at dksX0_word_2 7 rfl rfl)
theorem dX0_word_54 : decode cX0_word 54 = .ok (.getfield 53, 3) := dk_180 0 53 (dk_at dksX0_word_2 8 rfl rfl)
theorem dX0_word_57 : decode cX0_word 57 = .ok (.iload_n 1, 1) := dk_27 (dk_at dksX0_word_2 11 rfl rfl)
theorem dX0_word_58 : decode cX0_word 58 = .ok (.aload 4, 2) := dk_25 4 (dk_at dksX0_word_2 12 rfl rfl)
theorem dX0_word_60 : decode cX0_word 60 = .ok (.invokevirtual 193, 3) := dk_182 0 193 (dk_at dksX0_word_2 14 rfl rfl)
theorem dX0_word_63 : decode cX0_word 63 = .ok (.aload_n 0, 1) := dk_42 (dk_at dksX0_word_2 17 rfl rfl)
theorem dX0_word_64 : decode cX0_word 64 = .ok (.iload 5, 2) := dk_21 5 (dk_at dksX0_word_2 18 rfl rfl)
theorem dX0_word_66 : decode cX0_word 66 = .ok (.invokevirtual 102, 3) := dk_182 0 102 (dk_at dksX0_word_2 20 rfl rfl)
theorem dX0_word_69 : decode cX0_word 69 = .ok (.ireturn, 1) := dk_172 (dk_at dksX0_word_2 23 rfl rfl)
theorem dX0_word_70 : decode cX0_word 70 = .ok (.astore 4, 2) := dk_58 4 (dk_at dksX0_word_3 0 rfl rfl)
theorem dX0_word_72 : decode cX0_word 72 = .ok (.aload_n 0, 1) := dk_42 (dk_at dksX0_word_3 2 rfl rfl)
theorem dX0_word_73 : decode cX0_word 73 = .ok (.aload 4, 2) := dk_25 4 (dk_at dksX0_word_3 3 rfl rfl)
theorem dX0_word_75 : decode cX0_word 75 = .ok (.invokevirtual 106, 3) := dk_182 0 106 (dk_at dksX0_word_3 5 rfl rfl)
theorem dX0_word_78 : decode cX0_word 78 = .ok (.ireturn, 1) := dk_172 (dk_at dksX0_word_3 8 rfl rfl)
abbrev cX0_isSort : ByteArray := prog_1_method_23_code
def yX0_isSort : MethodName := ⟨RX0, "isSort", "(I)Z"⟩
def dkwX0_isSort_0 : List UInt8 := [27, 133, 9, 42, 180, 0, 53, 182, 0, 168, 4, 100, 133, 184, 0, 84, 172]
abbrev dktX0_isSort_0 : List UInt8 := dkwX0_isSort_0 ++ []
theorem dksX0_isSort_0 : cX0_isSort.data.toList.drop 0 = dktX0_isSort_0 := by decide +kernel
theorem dX0_isSort_0 : decode cX0_isSort 0 = .ok (.iload_n 1, 1) := dk_27 (dk_at dksX0_isSort_0 0 rfl rfl)
theorem dX0_isSort_1 : decode cX0_isSort 1 = .ok (.i2l, 1) := dk_133 (dk_at dksX0_isSort_0 1 rfl rfl)
theorem dX0_isSort_2 : decode cX0_isSort 2 = .ok (.lconst 0, 1) := dk_9 (dk_at dksX0_isSort_0 2 rfl rfl)
theorem dX0_isSort_3 : decode cX0_isSort 3 = .ok (.aload_n 0, 1) := dk_42 (dk_at dksX0_isSort_0 3 rfl rfl)
theorem dX0_isSort_4 : decode cX0_isSort 4 = .ok (.getfield 53, 3) := dk_180 0 53 (dk_at dksX0_isSort_0 4 rfl rfl)
theorem dX0_isSort_7 : decode cX0_isSort 7 = .ok (.invokevirtual 168, 3) := dk_182 0 168 (dk_at dksX0_isSort_0 7 rfl rfl)
theorem dX0_isSort_10 : decode cX0_isSort 10 = .ok (.iconst 1, 1) := dk_4 (dk_at dksX0_isSort_0 10 rfl rfl)
theorem dX0_isSort_11 : decode cX0_isSort 11 = .ok (.isub, 1) := dk_100 (dk_at dksX0_isSort_0 11 rfl rfl)
theorem dX0_isSort_12 : decode cX0_isSort 12 = .ok (.i2l, 1) := dk_133 (dk_at dksX0_isSort_0 12 rfl rfl)
theorem dX0_isSort_13 : decode cX0_isSort 13 = .ok (.invokestatic 84, 3) := dk_184 0 84 (dk_at dksX0_isSort_0 13 rfl rfl)
theorem dX0_isSort_16 : decode cX0_isSort 16 = .ok (.ireturn, 1) := dk_172 (dk_at dksX0_isSort_0 16 rfl rfl)
abbrev cX0_lettersOf : ByteArray := prog_1_method_25_code
def yX0_lettersOf : MethodName := ⟨RX0, "lettersOf", "(II)[I"⟩
def dkwX0_lettersOf_1 : List UInt8 := [46, 182, 0, 179, 5, 184, 0, 88, 132, 4, 1, 167, 255, 235, 45, 176]
abbrev dktX0_lettersOf_1 : List UInt8 := dkwX0_lettersOf_1 ++ []
def dkwX0_lettersOf_0 : List UInt8 := [42, 27, 182, 0, 110, 3, 28, 182, 0, 175, 78, 3, 54, 4, 21, 4, 28, 162, 0, 21, 42, 45, 21, 4]
abbrev dktX0_lettersOf_0 : List UInt8 := dkwX0_lettersOf_0 ++ dktX0_lettersOf_1
theorem dksX0_lettersOf_0 : cX0_lettersOf.data.toList.drop 0 = dktX0_lettersOf_0 := by decide +kernel
theorem dksX0_lettersOf_1 : cX0_lettersOf.data.toList.drop 24 = dktX0_lettersOf_1 := dk_seg dksX0_lettersOf_0 24 rfl rfl
theorem dX0_lettersOf_0 : decode cX0_lettersOf 0 = .ok (.aload_n 0, 1) := dk_42 (dk_at dksX0_lettersOf_0 0 rfl rfl)
theorem dX0_lettersOf_1 : decode cX0_lettersOf 1 = .ok (.iload_n 1, 1) := dk_27 (dk_at dksX0_lettersOf_0 1 rfl rfl)
theorem dX0_lettersOf_2 : decode cX0_lettersOf 2 = .ok (.invokevirtual 110, 3) := dk_182 0 110 (dk_at dksX0_lettersOf_0 2 rfl rfl)
theorem dX0_lettersOf_5 : decode cX0_lettersOf 5 = .ok (.iconst 0, 1) := dk_3 (dk_at dksX0_lettersOf_0 5 rfl rfl)
theorem dX0_lettersOf_6 : decode cX0_lettersOf 6 = .ok (.iload_n 2, 1) := dk_28 (dk_at dksX0_lettersOf_0 6 rfl rfl)
theorem dX0_lettersOf_7 : decode cX0_lettersOf 7 = .ok (.invokevirtual 175, 3) := dk_182 0 175 (dk_at dksX0_lettersOf_0 7 rfl rfl)
theorem dX0_lettersOf_10 : decode cX0_lettersOf 10 = .ok (.astore_n 3, 1) := dk_78 (dk_at dksX0_lettersOf_0 10 rfl rfl)
theorem dX0_lettersOf_11 : decode cX0_lettersOf 11 = .ok (.iconst 0, 1) := dk_3 (dk_at dksX0_lettersOf_0 11 rfl rfl)
theorem dX0_lettersOf_12 : decode cX0_lettersOf 12 = .ok (.istore 4, 2) := dk_54 4 (dk_at dksX0_lettersOf_0 12 rfl rfl)
theorem dX0_lettersOf_14 : decode cX0_lettersOf 14 = .ok (.iload 4, 2) := dk_21 4 (dk_at dksX0_lettersOf_0 14 rfl rfl)
theorem dX0_lettersOf_16 : decode cX0_lettersOf 16 = .ok (.iload_n 2, 1) := dk_28 (dk_at dksX0_lettersOf_0 16 rfl rfl)
theorem dX0_lettersOf_17 : decode cX0_lettersOf 17 = .ok (.if_icmp .ge 21, 3) := dk_162 0 21 (dk_at dksX0_lettersOf_0 17 rfl rfl)
theorem dX0_lettersOf_20 : decode cX0_lettersOf 20 = .ok (.aload_n 0, 1) := dk_42 (dk_at dksX0_lettersOf_0 20 rfl rfl)
theorem dX0_lettersOf_21 : decode cX0_lettersOf 21 = .ok (.aload_n 3, 1) := dk_45 (dk_at dksX0_lettersOf_0 21 rfl rfl)
theorem dX0_lettersOf_22 : decode cX0_lettersOf 22 = .ok (.iload 4, 2) := dk_21 4 (dk_at dksX0_lettersOf_0 22 rfl rfl)
theorem dX0_lettersOf_24 : decode cX0_lettersOf 24 = .ok (.iaload, 1) := dk_46 (dk_at dksX0_lettersOf_1 0 rfl rfl)
theorem dX0_lettersOf_25 : decode cX0_lettersOf 25 = .ok (.invokevirtual 179, 3) := dk_182 0 179 (dk_at dksX0_lettersOf_1 1 rfl rfl)
theorem dX0_lettersOf_28 : decode cX0_lettersOf 28 = .ok (.iconst 2, 1) := dk_5 (dk_at dksX0_lettersOf_1 4 rfl rfl)
theorem dX0_lettersOf_29 : decode cX0_lettersOf 29 = .ok (.invokestatic 88, 3) := dk_184 0 88 (dk_at dksX0_lettersOf_1 5 rfl rfl)
theorem dX0_lettersOf_32 : decode cX0_lettersOf 32 = .ok (.iinc 4 1, 3) := dk_132 4 1 (dk_at dksX0_lettersOf_1 8 rfl rfl)
theorem dX0_lettersOf_35 : decode cX0_lettersOf 35 = .ok (.goto (-21), 3) := dk_167 255 235 (dk_at dksX0_lettersOf_1 11 rfl rfl)
theorem dX0_lettersOf_38 : decode cX0_lettersOf 38 = .ok (.aload_n 3, 1) := dk_45 (dk_at dksX0_lettersOf_1 14 rfl rfl)
theorem dX0_lettersOf_39 : decode cX0_lettersOf 39 = .ok (.areturn, 1) := dk_176 (dk_at dksX0_lettersOf_1 15 rfl rfl)
abbrev cX0_keep : ByteArray := prog_1_method_20_code
def yX0_keep : MethodName := ⟨RX0, "keep", "()V"⟩
def dkwX0_keep_4 : List UInt8 := [180, 0, 165, 50, 42, 180, 0, 53, 182, 0, 161, 87, 42, 89, 180, 0, 165, 4, 96, 181, 0, 165, 177]
abbrev dktX0_keep_4 : List UInt8 := dkwX0_keep_4 ++ []
def dkwX0_keep_3 : List UInt8 := [199, 0, 19, 42, 180, 0, 60, 42, 180, 0, 165, 187, 0, 50, 89, 183, 0, 52, 83, 42, 180, 0, 60, 42]
abbrev dktX0_keep_3 : List UInt8 := dkwX0_keep_3 ++ dktX0_keep_4
def dkwX0_keep_2 : List UInt8 := [16, 23, 43, 83, 42, 89, 180, 0, 165, 4, 100, 181, 0, 165, 42, 180, 0, 60, 42, 180, 0, 165, 50]
abbrev dktX0_keep_2 : List UInt8 := dkwX0_keep_2 ++ dktX0_keep_3
def dkwX0_keep_1 : List UInt8 := [42, 180, 0, 60, 28, 4, 100, 42, 180, 0, 60, 28, 50, 83, 132, 2, 1, 167, 255, 233, 42, 180, 0, 60]
abbrev dktX0_keep_1 : List UInt8 := dkwX0_keep_1 ++ dktX0_keep_2
def dkwX0_keep_0 : List UInt8 := [42, 180, 0, 165, 16, 24, 160, 0, 56, 42, 180, 0, 60, 3, 50, 76, 4, 61, 28, 16, 24, 162, 0, 23]
abbrev dktX0_keep_0 : List UInt8 := dkwX0_keep_0 ++ dktX0_keep_1
theorem dksX0_keep_0 : cX0_keep.data.toList.drop 0 = dktX0_keep_0 := by decide +kernel
theorem dksX0_keep_1 : cX0_keep.data.toList.drop 24 = dktX0_keep_1 := dk_seg dksX0_keep_0 24 rfl rfl
theorem dksX0_keep_2 : cX0_keep.data.toList.drop 48 = dktX0_keep_2 := dk_seg dksX0_keep_1 24 rfl rfl
theorem dksX0_keep_3 : cX0_keep.data.toList.drop 71 = dktX0_keep_3 := dk_seg dksX0_keep_2 23 rfl rfl
theorem dksX0_keep_4 : cX0_keep.data.toList.drop 95 = dktX0_keep_4 := dk_seg dksX0_keep_3 24 rfl rfl
theorem dX0_keep_0 : decode cX0_keep 0 = .ok (.aload_n 0, 1) := dk_42 (dk_at dksX0_keep_0 0 rfl rfl)
theorem dX0_keep_1 : decode cX0_keep 1 = .ok (.getfield 165, 3) := dk_180 0 165 (dk_at dksX0_keep_0 1 rfl rfl)
theorem dX0_keep_4 : decode cX0_keep 4 = .ok (.bipush 24, 2) := dk_16 24 (dk_at dksX0_keep_0 4 rfl rfl)
theorem dX0_keep_6 : decode cX0_keep 6 = .ok (.if_icmp .ne 56, 3) := dk_160 0 56 (dk_at dksX0_keep_0 6 rfl rfl)
theorem dX0_keep_9 : decode cX0_keep 9 = .ok (.aload_n 0, 1) := dk_42 (dk_at dksX0_keep_0 9 rfl rfl)
theorem dX0_keep_10 : decode cX0_keep 10 = .ok (.getfield 60, 3) := dk_180 0 60 (dk_at dksX0_keep_0 10 rfl rfl)
theorem dX0_keep_13 : decode cX0_keep 13 = .ok (.iconst 0, 1) := dk_3 (dk_at dksX0_keep_0 13 rfl rfl)
theorem dX0_keep_14 : decode cX0_keep 14 = .ok (.aaload, 1) := dk_50 (dk_at dksX0_keep_0 14 rfl rfl)
theorem dX0_keep_15 : decode cX0_keep 15 = .ok (.astore_n 1, 1) := dk_76 (dk_at dksX0_keep_0 15 rfl rfl)
theorem dX0_keep_16 : decode cX0_keep 16 = .ok (.iconst 1, 1) := dk_4 (dk_at dksX0_keep_0 16 rfl rfl)
theorem dX0_keep_17 : decode cX0_keep 17 = .ok (.istore_n 2, 1) := dk_61 (dk_at dksX0_keep_0 17 rfl rfl)
theorem dX0_keep_18 : decode cX0_keep 18 = .ok (.iload_n 2, 1) := dk_28 (dk_at dksX0_keep_0 18 rfl rfl)
theorem dX0_keep_19 : decode cX0_keep 19 = .ok (.bipush 24, 2) := dk_16 24 (dk_at dksX0_keep_0 19 rfl rfl)
theorem dX0_keep_21 : decode cX0_keep 21 = .ok (.if_icmp .ge 23, 3) := dk_162 0 23 (dk_at dksX0_keep_0 21 rfl rfl)
theorem dX0_keep_24 : decode cX0_keep 24 = .ok (.aload_n 0, 1) := dk_42 (dk_at dksX0_keep_1 0 rfl rfl)
theorem dX0_keep_25 : decode cX0_keep 25 = .ok (.getfield 60, 3) := dk_180 0 60 (dk_at dksX0_keep_1 1 rfl rfl)
theorem dX0_keep_28 : decode cX0_keep 28 = .ok (.iload_n 2, 1) := dk_28 (dk_at dksX0_keep_1 4 rfl rfl)
theorem dX0_keep_29 : decode cX0_keep 29 = .ok (.iconst 1, 1) := dk_4 (dk_at dksX0_keep_1 5 rfl rfl)
theorem dX0_keep_30 : decode cX0_keep 30 = .ok (.isub, 1) := dk_100 (dk_at dksX0_keep_1 6 rfl rfl)
theorem dX0_keep_31 : decode cX0_keep 31 = .ok (.aload_n 0, 1) := dk_42 (dk_at dksX0_keep_1 7 rfl rfl)
theorem dX0_keep_32 : decode cX0_keep 32 = .ok (.getfield 60, 3) := dk_180 0 60 (dk_at dksX0_keep_1 8 rfl rfl)
theorem dX0_keep_35 : decode cX0_keep 35 = .ok (.iload_n 2, 1) := dk_28 (dk_at dksX0_keep_1 11 rfl rfl)
theorem dX0_keep_36 : decode cX0_keep 36 = .ok (.aaload, 1) := dk_50 (dk_at dksX0_keep_1 12 rfl rfl)
theorem dX0_keep_37 : decode cX0_keep 37 = .ok (.aastore, 1) := dk_83 (dk_at dksX0_keep_1 13 rfl rfl)
theorem dX0_keep_38 : decode cX0_keep 38 = .ok (.iinc 2 1, 3) := dk_132 2 1 (dk_at dksX0_keep_1 14 rfl rfl)
theorem dX0_keep_41 : decode cX0_keep 41 = .ok (.goto (-23), 3) := dk_167 255 233 (dk_at dksX0_keep_1 17 rfl rfl)
theorem dX0_keep_44 : decode cX0_keep 44 = .ok (.aload_n 0, 1) := dk_42 (dk_at dksX0_keep_1 20 rfl rfl)
theorem dX0_keep_45 : decode cX0_keep 45 = .ok (.getfield 60, 3) := dk_180 0 60 (dk_at dksX0_keep_1 21 rfl rfl)
theorem dX0_keep_48 : decode cX0_keep 48 = .ok (.bipush 23, 2) := dk_16 23 (dk_at dksX0_keep_2 0 rfl rfl)
theorem dX0_keep_50 : decode cX0_keep 50 = .ok (.aload_n 1, 1) := dk_43 (dk_at dksX0_keep_2 2 rfl rfl)
theorem dX0_keep_51 : decode cX0_keep 51 = .ok (.aastore, 1) := dk_83 (dk_at dksX0_keep_2 3 rfl rfl)
theorem dX0_keep_52 : decode cX0_keep 52 = .ok (.aload_n 0, 1) := dk_42 (dk_at dksX0_keep_2 4 rfl rfl)
theorem dX0_keep_53 : decode cX0_keep 53 = .ok (.dup, 1) := dk_89 (dk_at dksX0_keep_2 5 rfl rfl)
theorem dX0_keep_54 : decode cX0_keep 54 = .ok (.getfield 165, 3) := dk_180 0 165 (dk_at dksX0_keep_2 6 rfl rfl)
theorem dX0_keep_57 : decode cX0_keep 57 = .ok (.iconst 1, 1) := dk_4 (dk_at dksX0_keep_2 9 rfl rfl)
theorem dX0_keep_58 : decode cX0_keep 58 = .ok (.isub, 1) := dk_100 (dk_at dksX0_keep_2 10 rfl rfl)
theorem dX0_keep_59 : decode cX0_keep 59 = .ok (.putfield 165, 3) := dk_181 0 165 (dk_at dksX0_keep_2 11 rfl rfl)
theorem dX0_keep_62 : decode cX0_keep 62 = .ok (.aload_n 0, 1) := dk_42 (dk_at dksX0_keep_2 14 rfl rfl)
theorem dX0_keep_63 : decode cX0_keep 63 = .ok (.getfield 60, 3) := dk_180 0 60 (dk_at dksX0_keep_2 15 rfl rfl)
theorem dX0_keep_66 : decode cX0_keep 66 = .ok (.aload_n 0, 1) := dk_42 (dk_at dksX0_keep_2 18 rfl rfl)
theorem dX0_keep_67 : decode cX0_keep 67 = .ok (.getfield 165, 3) := dk_180 0 165 (dk_at dksX0_keep_2 19 rfl rfl)
theorem dX0_keep_70 : decode cX0_keep 70 = .ok (.aaload, 1) := dk_50 (dk_at dksX0_keep_2 22 rfl rfl)
theorem dX0_keep_71 : decode cX0_keep 71 = .ok (.ifnonnull 19, 3) := dk_199 0 19 (dk_at dksX0_keep_3 0 rfl rfl)
theorem dX0_keep_74 : decode cX0_keep 74 = .ok (.aload_n 0, 1) := dk_42 (dk_at dksX0_keep_3 3 rfl rfl)
theorem dX0_keep_75 : decode cX0_keep 75 = .ok (.getfield 60, 3) := dk_180 0 60 (dk_at dksX0_keep_3 4 rfl rfl)
theorem dX0_keep_78 : decode cX0_keep 78 = .ok (.aload_n 0, 1) := dk_42 (dk_at dksX0_keep_3 7 rfl rfl)
theorem dX0_keep_79 : decode cX0_keep 79 = .ok (.getfield 165, 3) := dk_180 0 165 (dk_at dksX0_keep_3 8 rfl rfl)
theorem dX0_keep_82 : decode cX0_keep 82 = .ok (.new 50, 3) := dk_187 0 50 (dk_at dksX0_keep_3 11 rfl rfl)
theorem dX0_keep_85 : decode cX0_keep 85 = .ok (.dup, 1) := dk_89 (dk_at dksX0_keep_3 14 rfl rfl)
theorem dX0_keep_86 : decode cX0_keep 86 = .ok (.invokespecial 52, 3) := dk_183 0 52 (dk_at dksX0_keep_3 15 rfl rfl)
theorem dX0_keep_89 : decode cX0_keep 89 = .ok (.aastore, 1) := dk_83 (dk_at dksX0_keep_3 18 rfl rfl)
theorem dX0_keep_90 : decode cX0_keep 90 = .ok (.aload_n 0, 1) := dk_42 (dk_at dksX0_keep_3 19 rfl rfl)
theorem dX0_keep_91 : decode cX0_keep 91 = .ok (.getfield 60, 3) := dk_180 0 60 (dk_at dksX0_keep_3 20 rfl rfl)
theorem dX0_keep_94 : decode cX0_keep 94 = .ok (.aload_n 0, 1) := dk_42 (dk_at dksX0_keep_3 23 rfl rfl)
theorem dX0_keep_95 : decode cX0_keep 95 = .ok (.getfield 165, 3) := dk_180 0 165 (dk_at dksX0_keep_4 0 rfl rfl)
theorem dX0_keep_98 : decode cX0_keep 98 = .ok (.aaload, 1) := dk_50 (dk_at dksX0_keep_4 3 rfl rfl)
theorem dX0_keep_99 : decode cX0_keep 99 = .ok (.aload_n 0, 1) := dk_42 (dk_at dksX0_keep_4 4 rfl rfl)
theorem dX0_keep_100 : decode cX0_keep 100 = .ok (.getfield 53, 3) := dk_180 0 53 (dk_at dksX0_keep_4 5 rfl rfl)
theorem dX0_keep_103 : decode cX0_keep 103 = .ok (.invokevirtual 161, 3) := dk_182 0 161 (dk_at dksX0_keep_4 8 rfl rfl)
theorem dX0_keep_106 : decode cX0_keep 106 = .ok (.pop, 1) := dk_87 (dk_at dksX0_keep_4 11 rfl rfl)
theorem dX0_keep_107 : decode cX0_keep 107 = .ok (.aload_n 0, 1) := dk_42 (dk_at dksX0_keep_4 12 rfl rfl)
theorem dX0_keep_108 : decode cX0_keep 108 = .ok (.dup, 1) := dk_89 (dk_at dksX0_keep_4 13 rfl rfl)
theorem dX0_keep_109 : decode cX0_keep 109 = .ok (.getfield 165, 3) := dk_180 0 165 (dk_at dksX0_keep_4 14 rfl rfl)
theorem dX0_keep_112 : decode cX0_keep 112 = .ok (.iconst 1, 1) := dk_4 (dk_at dksX0_keep_4 17 rfl rfl)
theorem dX0_keep_113 : decode cX0_keep 113 = .ok (.iadd, 1) := dk_96 (dk_at dksX0_keep_4 18 rfl rfl)
theorem dX0_keep_114 : decode cX0_keep 114 = .ok (.putfield 165, 3) := dk_181 0 165 (dk_at dksX0_keep_4 19 rfl rfl)
theorem dX0_keep_117 : decode cX0_keep 117 = .ok (.return_, 1) := dk_177 (dk_at dksX0_keep_4 22 rfl rfl)
abbrev cX0_length : ByteArray := prog_1_method_27_code
def yX0_length : MethodName := ⟨RX0, "length", "(III)I"⟩
def dkwX0_length_2 : List UInt8 := [42, 180, 0, 53, 180, 0, 205, 58, 4, 25, 4, 27, 46, 54, 5, 25, 4, 27, 29, 79, 21, 5, 172]
abbrev dktX0_length_2 : List UInt8 := dkwX0_length_2 ++ []
def dkwX0_length_1 : List UInt8 := [154, 0, 6, 18, 98, 172, 42, 182, 0, 187, 28, 154, 0, 13, 42, 180, 0, 53, 180, 0, 202, 167, 0, 10]
abbrev dktX0_length_1 : List UInt8 := dkwX0_length_1 ++ dktX0_length_2
def dkwX0_length_0 : List UInt8 := [42, 27, 182, 0, 179, 153, 0, 22, 28, 184, 0, 197, 153, 0, 15, 29, 133, 9, 20, 0, 200, 184, 0, 84]
abbrev dktX0_length_0 : List UInt8 := dkwX0_length_0 ++ dktX0_length_1
theorem dksX0_length_0 : cX0_length.data.toList.drop 0 = dktX0_length_0 := by decide +kernel
theorem dksX0_length_1 : cX0_length.data.toList.drop 24 = dktX0_length_1 := dk_seg dksX0_length_0 24 rfl rfl
theorem dksX0_length_2 : cX0_length.data.toList.drop 48 = dktX0_length_2 := dk_seg dksX0_length_1 24 rfl rfl
theorem dX0_length_0 : decode cX0_length 0 = .ok (.aload_n 0, 1) := dk_42 (dk_at dksX0_length_0 0 rfl rfl)
theorem dX0_length_1 : decode cX0_length 1 = .ok (.iload_n 1, 1) := dk_27 (dk_at dksX0_length_0 1 rfl rfl)
theorem dX0_length_2 : decode cX0_length 2 = .ok (.invokevirtual 179, 3) := dk_182 0 179 (dk_at dksX0_length_0 2 rfl rfl)
theorem dX0_length_5 : decode cX0_length 5 = .ok (.ifCond .eq 22, 3) := dk_153 0 22 (dk_at dksX0_length_0 5 rfl rfl)
theorem dX0_length_8 : decode cX0_length 8 = .ok (.iload_n 2, 1) := dk_28 (dk_at dksX0_length_0 8 rfl rfl)
theorem dX0_length_9 : decode cX0_length 9 = .ok (.invokestatic 197, 3) := dk_184 0 197 (dk_at dksX0_length_0 9 rfl rfl)
theorem dX0_length_12 : decode cX0_length 12 = .ok (.ifCond .eq 15, 3) := dk_153 0 15 (dk_at dksX0_length_0 12 rfl rfl)
theorem dX0_length_15 : decode cX0_length 15 = .ok (.iload_n 3, 1) := dk_29 (dk_at dksX0_length_0 15 rfl rfl)
theorem dX0_length_16 : decode cX0_length 16 = .ok (.i2l, 1) := dk_133 (dk_at dksX0_length_0 16 rfl rfl)
theorem dX0_length_17 : decode cX0_length 17 = .ok (.lconst 0, 1) := dk_9 (dk_at dksX0_length_0 17 rfl rfl)
theorem dX0_length_18 : decode cX0_length 18 = .ok (.ldc2_w 200, 3) := dk_20 0 200 (dk_at dksX0_length_0 18 rfl rfl)
theorem dX0_length_21 : decode cX0_length 21 = .ok (.invokestatic 84, 3) := dk_184 0 84 (dk_at dksX0_length_0 21 rfl rfl)
theorem dX0_length_24 : decode cX0_length 24 = .ok (.ifCond .ne 6, 3) := dk_154 0 6 (dk_at dksX0_length_1 0 rfl rfl)
theorem dX0_length_27 : decode cX0_length 27 = .ok (.ldc 98, 2) := dk_18 98 (dk_at dksX0_length_1 3 rfl rfl)
theorem dX0_length_29 : decode cX0_length 29 = .ok (.ireturn, 1) := dk_172 (dk_at dksX0_length_1 5 rfl rfl)
theorem dX0_length_30 : decode cX0_length 30 = .ok (.aload_n 0, 1) := dk_42 (dk_at dksX0_length_1 6 rfl rfl)
theorem dX0_length_31 : decode cX0_length 31 = .ok (.invokevirtual 187, 3) := dk_182 0 187 (dk_at dksX0_length_1 7 rfl rfl)
theorem dX0_length_34 : decode cX0_length 34 = .ok (.iload_n 2, 1) := dk_28 (dk_at dksX0_length_1 10 rfl rfl)
theorem dX0_length_35 : decode cX0_length 35 = .ok (.ifCond .ne 13, 3) := dk_154 0 13 (dk_at dksX0_length_1 11 rfl rfl)
theorem dX0_length_38 : decode cX0_length 38 = .ok (.aload_n 0, 1) := dk_42 (dk_at dksX0_length_1 14 rfl rfl)
theorem dX0_length_39 : decode cX0_length 39 = .ok (.getfield 53, 3) := dk_180 0 53 (dk_at dksX0_length_1 15 rfl rfl)
theorem dX0_length_42 : decode cX0_length 42 = .ok (.getfield 202, 3) := dk_180 0 202 (dk_at dksX0_length_1 18 rfl rfl)
theorem dX0_length_45 : decode cX0_length 45 = .ok (.goto 10, 3) := dk_167 0 10 (dk_at dksX0_length_1 21 rfl rfl)
theorem dX0_length_48 : decode cX0_length 48 = .ok (.aload_n 0, 1) := dk_42 (dk_at dksX0_length_2 0 rfl rfl)
theorem dX0_length_49 : decode cX0_length 49 = .ok (.getfield 53, 3) := dk_180 0 53 (dk_at dksX0_length_2 1 rfl rfl)
theorem dX0_length_52 : decode cX0_length 52 = .ok (.getfield 205, 3) := dk_180 0 205 (dk_at dksX0_length_2 4 rfl rfl)
theorem dX0_length_55 : decode cX0_length 55 = .ok (.astore 4, 2) := dk_58 4 (dk_at dksX0_length_2 7 rfl rfl)
theorem dX0_length_57 : decode cX0_length 57 = .ok (.aload 4, 2) := dk_25 4 (dk_at dksX0_length_2 9 rfl rfl)
theorem dX0_length_59 : decode cX0_length 59 = .ok (.iload_n 1, 1) := dk_27 (dk_at dksX0_length_2 11 rfl rfl)
theorem dX0_length_60 : decode cX0_length 60 = .ok (.iaload, 1) := dk_46 (dk_at dksX0_length_2 12 rfl rfl)
theorem dX0_length_61 : decode cX0_length 61 = .ok (.istore 5, 2) := dk_54 5 (dk_at dksX0_length_2 13 rfl rfl)
theorem dX0_length_63 : decode cX0_length 63 = .ok (.aload 4, 2) := dk_25 4 (dk_at dksX0_length_2 15 rfl rfl)
theorem dX0_length_65 : decode cX0_length 65 = .ok (.iload_n 1, 1) := dk_27 (dk_at dksX0_length_2 17 rfl rfl)
theorem dX0_length_66 : decode cX0_length 66 = .ok (.iload_n 3, 1) := dk_29 (dk_at dksX0_length_2 18 rfl rfl)
theorem dX0_length_67 : decode cX0_length 67 = .ok (.iastore, 1) := dk_79 (dk_at dksX0_length_2 19 rfl rfl)
theorem dX0_length_68 : decode cX0_length 68 = .ok (.iload 5, 2) := dk_21 5 (dk_at dksX0_length_2 20 rfl rfl)
theorem dX0_length_70 : decode cX0_length 70 = .ok (.ireturn, 1) := dk_172 (dk_at dksX0_length_2 22 rfl rfl)
abbrev cX0_isHalf : ByteArray := prog_1_method_19_code
def yX0_isHalf : MethodName := ⟨RX0, "isHalf", "(I)Z"⟩
def dkwX0_isHalf_0 : List UInt8 := [26, 133, 9, 10, 184, 0, 84, 172]
abbrev dktX0_isHalf_0 : List UInt8 := dkwX0_isHalf_0 ++ []
theorem dksX0_isHalf_0 : cX0_isHalf.data.toList.drop 0 = dktX0_isHalf_0 := by decide +kernel
theorem dX0_isHalf_0 : decode cX0_isHalf 0 = .ok (.iload_n 0, 1) := dk_26 (dk_at dksX0_isHalf_0 0 rfl rfl)
theorem dX0_isHalf_1 : decode cX0_isHalf 1 = .ok (.i2l, 1) := dk_133 (dk_at dksX0_isHalf_0 1 rfl rfl)
theorem dX0_isHalf_2 : decode cX0_isHalf 2 = .ok (.lconst 0, 1) := dk_9 (dk_at dksX0_isHalf_0 2 rfl rfl)
theorem dX0_isHalf_3 : decode cX0_isHalf 3 = .ok (.lconst 1, 1) := dk_10 (dk_at dksX0_isHalf_0 3 rfl rfl)
theorem dX0_isHalf_4 : decode cX0_isHalf 4 = .ok (.invokestatic 84, 3) := dk_184 0 84 (dk_at dksX0_isHalf_0 4 rfl rfl)
theorem dX0_isHalf_7 : decode cX0_isHalf 7 = .ok (.ireturn, 1) := dk_172 (dk_at dksX0_isHalf_0 7 rfl rfl)
abbrev cX0_become : ByteArray := prog_1_method_28_code
def yX0_become : MethodName := ⟨RX0, "become", "(II)I"⟩
def dkwX0_become_2 : List UInt8 := [180, 0, 53, 27, 28, 182, 0, 218, 87, 29, 172]
abbrev dktX0_become_2 : List UInt8 := dkwX0_become_2 ++ []
def dkwX0_become_1 : List UInt8 := [180, 0, 53, 27, 182, 0, 210, 182, 0, 214, 62, 29, 28, 160, 0, 6, 18, 172, 172, 42, 182, 0, 187, 42]
abbrev dktX0_become_1 : List UInt8 := dkwX0_become_1 ++ dktX0_become_2
def dkwX0_become_0 : List UInt8 := [42, 27, 182, 0, 179, 153, 0, 15, 28, 133, 10, 20, 0, 208, 184, 0, 84, 154, 0, 6, 18, 98, 172, 42]
abbrev dktX0_become_0 : List UInt8 := dkwX0_become_0 ++ dktX0_become_1
theorem dksX0_become_0 : cX0_become.data.toList.drop 0 = dktX0_become_0 := by decide +kernel
theorem dksX0_become_1 : cX0_become.data.toList.drop 24 = dktX0_become_1 := dk_seg dksX0_become_0 24 rfl rfl
theorem dksX0_become_2 : cX0_become.data.toList.drop 48 = dktX0_become_2 := dk_seg dksX0_become_1 24 rfl rfl
theorem dX0_become_0 : decode cX0_become 0 = .ok (.aload_n 0, 1) := dk_42 (dk_at dksX0_become_0 0 rfl rfl)
theorem dX0_become_1 : decode cX0_become 1 = .ok (.iload_n 1, 1) := dk_27 (dk_at dksX0_become_0 1 rfl rfl)
theorem dX0_become_2 : decode cX0_become 2 = .ok (.invokevirtual 179, 3) := dk_182 0 179 (dk_at dksX0_become_0 2 rfl rfl)
theorem dX0_become_5 : decode cX0_become 5 = .ok (.ifCond .eq 15, 3) := dk_153 0 15 (dk_at dksX0_become_0 5 rfl rfl)
theorem dX0_become_8 : decode cX0_become 8 = .ok (.iload_n 2, 1) := dk_28 (dk_at dksX0_become_0 8 rfl rfl)
theorem dX0_become_9 : decode cX0_become 9 = .ok (.i2l, 1) := dk_133 (dk_at dksX0_become_0 9 rfl rfl)
theorem dX0_become_10 : decode cX0_become 10 = .ok (.lconst 1, 1) := dk_10 (dk_at dksX0_become_0 10 rfl rfl)
theorem dX0_become_11 : decode cX0_become 11 = .ok (.ldc2_w 208, 3) := dk_20 0 208 (dk_at dksX0_become_0 11 rfl rfl)
theorem dX0_become_14 : decode cX0_become 14 = .ok (.invokestatic 84, 3) := dk_184 0 84 (dk_at dksX0_become_0 14 rfl rfl)
theorem dX0_become_17 : decode cX0_become 17 = .ok (.ifCond .ne 6, 3) := dk_154 0 6 (dk_at dksX0_become_0 17 rfl rfl)
theorem dX0_become_20 : decode cX0_become 20 = .ok (.ldc 98, 2) := dk_18 98 (dk_at dksX0_become_0 20 rfl rfl)
theorem dX0_become_22 : decode cX0_become 22 = .ok (.ireturn, 1) := dk_172 (dk_at dksX0_become_0 22 rfl rfl)
theorem dX0_become_23 : decode cX0_become 23 = .ok (.aload_n 0, 1) := dk_42 (dk_at dksX0_become_0 23 rfl rfl)
theorem dX0_become_24 : decode cX0_become 24 = .ok (.getfield 53, 3) := dk_180 0 53 (dk_at dksX0_become_1 0 rfl rfl)
theorem dX0_become_27 : decode cX0_become 27 = .ok (.iload_n 1, 1) := dk_27 (dk_at dksX0_become_1 3 rfl rfl)
theorem dX0_become_28 : decode cX0_become 28 = .ok (.invokevirtual 210, 3) := dk_182 0 210 (dk_at dksX0_become_1 4 rfl rfl)
theorem dX0_become_31 : decode cX0_become 31 = .ok (.invokevirtual 214, 3) := dk_182 0 214 (dk_at dksX0_become_1 7 rfl rfl)
theorem dX0_become_34 : decode cX0_become 34 = .ok (.istore_n 3, 1) := dk_62 (dk_at dksX0_become_1 10 rfl rfl)
theorem dX0_become_35 : decode cX0_become 35 = .ok (.iload_n 3, 1) := dk_29 (dk_at dksX0_become_1 11 rfl rfl)
theorem dX0_become_36 : decode cX0_become 36 = .ok (.iload_n 2, 1) := dk_28 (dk_at dksX0_become_1 12 rfl rfl)
theorem dX0_become_37 : decode cX0_become 37 = .ok (.if_icmp .ne 6, 3) := dk_160 0 6 (dk_at dksX0_become_1 13 rfl rfl)
theorem dX0_become_40 : decode cX0_become 40 = .ok (.ldc 172, 2) := dk_18 172 (dk_at dksX0_become_1 16 rfl rfl)
theorem dX0_become_42 : decode cX0_become 42 = .ok (.ireturn, 1) := dk_172 (dk_at dksX0_become_1 18 rfl rfl)
theorem dX0_become_43 : decode cX0_become 43 = .ok (.aload_n 0, 1) := dk_42 (dk_at dksX0_become_1 19 rfl rfl)
theorem dX0_become_44 : decode cX0_become 44 = .ok (.invokevirtual 187, 3) := dk_182 0 187 (dk_at dksX0_become_1 20 rfl rfl)
theorem dX0_become_47 : decode cX0_become 47 = .ok (.aload_n 0, 1) := dk_42 (dk_at dksX0_become_1 23 rfl rfl)
theorem dX0_become_48 : decode cX0_become 48 = .ok (.getfield 53, 3) := dk_180 0 53 (dk_at dksX0_become_2 0 rfl rfl)
theorem dX0_become_51 : decode cX0_become 51 = .ok (.iload_n 1, 1) := dk_27 (dk_at dksX0_become_2 3 rfl rfl)
theorem dX0_become_52 : decode cX0_become 52 = .ok (.iload_n 2, 1) := dk_28 (dk_at dksX0_become_2 4 rfl rfl)
theorem dX0_become_53 : decode cX0_become 53 = .ok (.invokevirtual 218, 3) := dk_182 0 218 (dk_at dksX0_become_2 5 rfl rfl)
theorem dX0_become_56 : decode cX0_become 56 = .ok (.pop, 1) := dk_87 (dk_at dksX0_become_2 8 rfl rfl)
theorem dX0_become_57 : decode cX0_become 57 = .ok (.iload_n 3, 1) := dk_29 (dk_at dksX0_become_2 9 rfl rfl)
theorem dX0_become_58 : decode cX0_become 58 = .ok (.ireturn, 1) := dk_172 (dk_at dksX0_become_2 10 rfl rfl)
abbrev cX0_root : ByteArray := prog_1_method_29_code
def yX0_root : MethodName := ⟨RX0, "root", "(II)I"⟩
def dkwX0_root_4 : List UInt8 := [180, 0, 53, 28, 181, 0, 231, 29, 172]
abbrev dktX0_root_4 : List UInt8 := dkwX0_root_4 ++ []
def dkwX0_root_3 : List UInt8 := [180, 0, 53, 180, 0, 231, 62, 27, 154, 0, 14, 42, 180, 0, 53, 28, 181, 0, 228, 167, 0, 11, 42]
abbrev dktX0_root_3 : List UInt8 := dkwX0_root_3 ++ dktX0_root_4
def dkwX0_root_2 : List UInt8 := [18, 98, 172, 42, 182, 0, 187, 27, 154, 0, 13, 42, 180, 0, 53, 180, 0, 228, 167, 0, 10, 42]
abbrev dktX0_root_2 : List UInt8 := dkwX0_root_2 ++ dktX0_root_3
def dkwX0_root_1 : List UInt8 := [20, 0, 226, 184, 0, 84, 153, 0, 18, 167, 0, 18, 28, 133, 10, 20, 0, 200, 184, 0, 84, 154, 0, 6]
abbrev dktX0_root_1 : List UInt8 := dkwX0_root_1 ++ dktX0_root_2
def dkwX0_root_0 : List UInt8 := [42, 182, 0, 222, 154, 0, 6, 18, 172, 172, 27, 184, 0, 197, 153, 0, 34, 27, 154, 0, 18, 28, 133, 9]
abbrev dktX0_root_0 : List UInt8 := dkwX0_root_0 ++ dktX0_root_1
theorem dksX0_root_0 : cX0_root.data.toList.drop 0 = dktX0_root_0 := by decide +kernel
theorem dksX0_root_1 : cX0_root.data.toList.drop 24 = dktX0_root_1 := dk_seg dksX0_root_0 24 rfl rfl
theorem dksX0_root_2 : cX0_root.data.toList.drop 48 = dktX0_root_2 := dk_seg dksX0_root_1 24 rfl rfl
theorem dksX0_root_3 : cX0_root.data.toList.drop 70 = dktX0_root_3 := dk_seg dksX0_root_2 22 rfl rfl
theorem dksX0_root_4 : cX0_root.data.toList.drop 93 = dktX0_root_4 := dk_seg dksX0_root_3 23 rfl rfl
theorem dX0_root_0 : decode cX0_root 0 = .ok (.aload_n 0, 1) := dk_42 (dk_at dksX0_root_0 0 rfl rfl)
theorem dX0_root_1 : decode cX0_root 1 = .ok (.invokevirtual 222, 3) := dk_182 0 222 (dk_at dksX0_root_0 1 rfl rfl)
theorem dX0_root_4 : decode cX0_root 4 = .ok (.ifCond .ne 6, 3) := dk_154 0 6 (dk_at dksX0_root_0 4 rfl rfl)
theorem dX0_root_7 : decode cX0_root 7 = .ok (.ldc 172, 2) := dk_18 172 (dk_at dksX0_root_0 7 rfl rfl)
theorem dX0_root_9 : decode cX0_root 9 = .ok (.ireturn, 1) := dk_172 (dk_at dksX0_root_0 9 rfl rfl)
theorem dX0_root_10 : decode cX0_root 10 = .ok (.iload_n 1, 1) := dk_27 (dk_at dksX0_root_0 10 rfl rfl)
theorem dX0_root_11 : decode cX0_root 11 = .ok (.invokestatic 197, 3) := dk_184 0 197 (dk_at dksX0_root_0 11 rfl rfl)
theorem dX0_root_14 : decode cX0_root 14 = .ok (.ifCond .eq 34, 3) := dk_153 0 34 (dk_at dksX0_root_0 14 rfl rfl)
theorem dX0_root_17 : decode cX0_root 17 = .ok (.iload_n 1, 1) := dk_27 (dk_at dksX0_root_0 17 rfl rfl)
theorem dX0_root_18 : decode cX0_root 18 = .ok (.ifCond .ne 18, 3) := dk_154 0 18 (dk_at dksX0_root_0 18 rfl rfl)
theorem dX0_root_21 : decode cX0_root 21 = .ok (.iload_n 2, 1) := dk_28 (dk_at dksX0_root_0 21 rfl rfl)
theorem dX0_root_22 : decode cX0_root 22 = .ok (.i2l, 1) := dk_133 (dk_at dksX0_root_0 22 rfl rfl)
theorem dX0_root_23 : decode cX0_root 23 = .ok (.lconst 0, 1) := dk_9 (dk_at dksX0_root_0 23 rfl rfl)
theorem dX0_root_24 : decode cX0_root 24 = .ok (.ldc2_w 226, 3) := dk_20 0 226 (dk_at dksX0_root_1 0 rfl rfl)
theorem dX0_root_27 : decode cX0_root 27 = .ok (.invokestatic 84, 3) := dk_184 0 84 (dk_at dksX0_root_1 3 rfl rfl)
theorem dX0_root_30 : decode cX0_root 30 = .ok (.ifCond .eq 18, 3) := dk_153 0 18 (dk_at dksX0_root_1 6 rfl rfl)
theorem dX0_root_33 : decode cX0_root 33 = .ok (.goto 18, 3) := dk_167 0 18 (dk_at dksX0_root_1 9 rfl rfl)
theorem dX0_root_36 : decode cX0_root 36 = .ok (.iload_n 2, 1) := dk_28 (dk_at dksX0_root_1 12 rfl rfl)
theorem dX0_root_37 : decode cX0_root 37 = .ok (.i2l, 1) := dk_133 (dk_at dksX0_root_1 13 rfl rfl)
theorem dX0_root_38 : decode cX0_root 38 = .ok (.lconst 1, 1) := dk_10 (dk_at dksX0_root_1 14 rfl rfl)
theorem dX0_root_39 : decode cX0_root 39 = .ok (.ldc2_w 200, 3) := dk_20 0 200 (dk_at dksX0_root_1 15 rfl rfl)
theorem dX0_root_42 : decode cX0_root 42 = .ok (.invokestatic 84, 3) := dk_184 0 84 (dk_at dksX0_root_1 18 rfl rfl)
theorem dX0_root_45 : decode cX0_root 45 = .ok (.ifCond .ne 6, 3) := dk_154 0 6 (dk_at dksX0_root_1 21 rfl rfl)
theorem dX0_root_48 : decode cX0_root 48 = .ok (.ldc 98, 2) := dk_18 98 (dk_at dksX0_root_2 0 rfl rfl)
theorem dX0_root_50 : decode cX0_root 50 = .ok (.ireturn, 1) := dk_172 (dk_at dksX0_root_2 2 rfl rfl)
theorem dX0_root_51 : decode cX0_root 51 = .ok (.aload_n 0, 1) := dk_42 (dk_at dksX0_root_2 3 rfl rfl)
theorem dX0_root_52 : decode cX0_root 52 = .ok (.invokevirtual 187, 3) := dk_182 0 187 (dk_at dksX0_root_2 4 rfl rfl)
theorem dX0_root_55 : decode cX0_root 55 = .ok (.iload_n 1, 1) := dk_27 (dk_at dksX0_root_2 7 rfl rfl)
theorem dX0_root_56 : decode cX0_root 56 = .ok (.ifCond .ne 13, 3) := dk_154 0 13 (dk_at dksX0_root_2 8 rfl rfl)
theorem dX0_root_59 : decode cX0_root 59 = .ok (.aload_n 0, 1) := dk_42 (dk_at dksX0_root_2 11 rfl rfl)
theorem dX0_root_60 : decode cX0_root 60 = .ok (.getfield 53, 3) := dk_180 0 53 (dk_at dksX0_root_2 12 rfl rfl)
theorem dX0_root_63 : decode cX0_root 63 = .ok (.getfield 228, 3) := dk_180 0 228 (dk_at dksX0_root_2 15 rfl rfl)
theorem dX0_root_66 : decode cX0_root 66 = .ok (.goto 10, 3) := dk_167 0 10 (dk_at dksX0_root_2 18 rfl rfl)
theorem dX0_root_69 : decode cX0_root 69 = .ok (.aload_n 0, 1) := dk_42 (dk_at dksX0_root_2 21 rfl rfl)
theorem dX0_root_70 : decode cX0_root 70 = .ok (.getfield 53, 3) := dk_180 0 53 (dk_at dksX0_root_3 0 rfl rfl)
theorem dX0_root_73 : decode cX0_root 73 = .ok (.getfield 231, 3) := dk_180 0 231 (dk_at dksX0_root_3 3 rfl rfl)
theorem dX0_root_76 : decode cX0_root 76 = .ok (.istore_n 3, 1) := dk_62 (dk_at dksX0_root_3 6 rfl rfl)
theorem dX0_root_77 : decode cX0_root 77 = .ok (.iload_n 1, 1) := dk_27 (dk_at dksX0_root_3 7 rfl rfl)
theorem dX0_root_78 : decode cX0_root 78 = .ok (.ifCond .ne 14, 3) := dk_154 0 14 (dk_at dksX0_root_3 8 rfl rfl)
theorem dX0_root_81 : decode cX0_root 81 = .ok (.aload_n 0, 1) := dk_42 (dk_at dksX0_root_3 11 rfl rfl)
theorem dX0_root_82 : decode cX0_root 82 = .ok (.getfield 53, 3) := dk_180 0 53 (dk_at dksX0_root_3 12 rfl rfl)
theorem dX0_root_85 : decode cX0_root 85 = .ok (.iload_n 2, 1) := dk_28 (dk_at dksX0_root_3 15 rfl rfl)
theorem dX0_root_86 : decode cX0_root 86 = .ok (.putfield 228, 3) := dk_181 0 228 (dk_at dksX0_root_3 16 rfl rfl)
theorem dX0_root_89 : decode cX0_root 89 = .ok (.goto 11, 3) := dk_167 0 11 (dk_at dksX0_root_3 19 rfl rfl)
theorem dX0_root_92 : decode cX0_root 92 = .ok (.aload_n 0, 1) := dk_42 (dk_at dksX0_root_3 22 rfl rfl)
theorem dX0_root_93 : decode cX0_root 93 = .ok (.getfield 53, 3) := dk_180 0 53 (dk_at dksX0_root_4 0 rfl rfl)
theorem dX0_root_96 : decode cX0_root 96 = .ok (.iload_n 2, 1) := dk_28 (dk_at dksX0_root_4 3 rfl rfl)
theorem dX0_root_97 : decode cX0_root 97 = .ok (.putfield 231, 3) := dk_181 0 231 (dk_at dksX0_root_4 4 rfl rfl)
theorem dX0_root_100 : decode cX0_root 100 = .ok (.iload_n 3, 1) := dk_29 (dk_at dksX0_root_4 7 rfl rfl)
theorem dX0_root_101 : decode cX0_root 101 = .ok (.ireturn, 1) := dk_172 (dk_at dksX0_root_4 8 rfl rfl)
abbrev cX0_isBook : ByteArray := prog_1_method_22_code
def yX0_isBook : MethodName := ⟨RX0, "isBook", "()Z"⟩
def dkwX0_isBook_0 : List UInt8 := [42, 180, 0, 53, 182, 0, 168, 158, 0, 7, 4, 167, 0, 4, 3, 172]
abbrev dktX0_isBook_0 : List UInt8 := dkwX0_isBook_0 ++ []
theorem dksX0_isBook_0 : cX0_isBook.data.toList.drop 0 = dktX0_isBook_0 := by decide +kernel
theorem dX0_isBook_0 : decode cX0_isBook 0 = .ok (.aload_n 0, 1) := dk_42 (dk_at dksX0_isBook_0 0 rfl rfl)
theorem dX0_isBook_1 : decode cX0_isBook 1 = .ok (.getfield 53, 3) := dk_180 0 53 (dk_at dksX0_isBook_0 1 rfl rfl)
theorem dX0_isBook_4 : decode cX0_isBook 4 = .ok (.invokevirtual 168, 3) := dk_182 0 168 (dk_at dksX0_isBook_0 4 rfl rfl)
theorem dX0_isBook_7 : decode cX0_isBook 7 = .ok (.ifCond .le 7, 3) := dk_158 0 7 (dk_at dksX0_isBook_0 7 rfl rfl)
theorem dX0_isBook_10 : decode cX0_isBook 10 = .ok (.iconst 1, 1) := dk_4 (dk_at dksX0_isBook_0 10 rfl rfl)
theorem dX0_isBook_11 : decode cX0_isBook 11 = .ok (.goto 4, 3) := dk_167 0 4 (dk_at dksX0_isBook_0 11 rfl rfl)
theorem dX0_isBook_14 : decode cX0_isBook 14 = .ok (.iconst 0, 1) := dk_3 (dk_at dksX0_isBook_0 14 rfl rfl)
theorem dX0_isBook_15 : decode cX0_isBook 15 = .ok (.ireturn, 1) := dk_172 (dk_at dksX0_isBook_0 15 rfl rfl)
abbrev cX0_begin : ByteArray := prog_1_method_30_code
def yX0_begin : MethodName := ⟨RX0, "begin", "(II)I"⟩
def dkwX0_begin_3 : List UInt8 := [182, 0, 106, 172]
abbrev dktX0_begin_3 : List UInt8 := dkwX0_begin_3 ++ []
def dkwX0_begin_2 : List UInt8 := [180, 0, 236, 54, 4, 42, 180, 0, 53, 45, 182, 0, 239, 42, 21, 4, 182, 0, 102, 172, 78, 42, 45]
abbrev dktX0_begin_2 : List UInt8 := dkwX0_begin_2 ++ dktX0_begin_3
def dkwX0_begin_1 : List UInt8 := [184, 0, 84, 154, 0, 6, 18, 98, 172, 42, 27, 28, 182, 0, 184, 78, 42, 182, 0, 187, 42, 180, 0, 53]
abbrev dktX0_begin_1 : List UInt8 := dkwX0_begin_1 ++ dktX0_begin_2
def dkwX0_begin_0 : List UInt8 := [42, 182, 0, 222, 154, 0, 6, 18, 172, 172, 27, 184, 0, 92, 153, 0, 15, 28, 133, 10, 20, 0, 234]
abbrev dktX0_begin_0 : List UInt8 := dkwX0_begin_0 ++ dktX0_begin_1
theorem dksX0_begin_0 : cX0_begin.data.toList.drop 0 = dktX0_begin_0 := by decide +kernel
theorem dksX0_begin_1 : cX0_begin.data.toList.drop 23 = dktX0_begin_1 := dk_seg dksX0_begin_0 23 rfl rfl
theorem dksX0_begin_2 : cX0_begin.data.toList.drop 47 = dktX0_begin_2 := dk_seg dksX0_begin_1 24 rfl rfl
theorem dksX0_begin_3 : cX0_begin.data.toList.drop 70 = dktX0_begin_3 := dk_seg dksX0_begin_2 23 rfl rfl
theorem dX0_begin_0 : decode cX0_begin 0 = .ok (.aload_n 0, 1) := dk_42 (dk_at dksX0_begin_0 0 rfl rfl)
theorem dX0_begin_1 : decode cX0_begin 1 = .ok (.invokevirtual 222, 3) := dk_182 0 222 (dk_at dksX0_begin_0 1 rfl rfl)
theorem dX0_begin_4 : decode cX0_begin 4 = .ok (.ifCond .ne 6, 3) := dk_154 0 6 (dk_at dksX0_begin_0 4 rfl rfl)
theorem dX0_begin_7 : decode cX0_begin 7 = .ok (.ldc 172, 2) := dk_18 172 (dk_at dksX0_begin_0 7 rfl rfl)
theorem dX0_begin_9 : decode cX0_begin 9 = .ok (.ireturn, 1) := dk_172 (dk_at dksX0_begin_0 9 rfl rfl)
theorem dX0_begin_10 : decode cX0_begin 10 = .ok (.iload_n 1, 1) := dk_27 (dk_at dksX0_begin_0 10 rfl rfl)
theorem dX0_begin_11 : decode cX0_begin 11 = .ok (.invokestatic 92, 3) := dk_184 0 92 (dk_at dksX0_begin_0 11 rfl rfl)
theorem dX0_begin_14 : decode cX0_begin 14 = .ok (.ifCond .eq 15, 3) := dk_153 0 15 (dk_at dksX0_begin_0 14 rfl rfl)
theorem dX0_begin_17 : decode cX0_begin 17 = .ok (.iload_n 2, 1) := dk_28 (dk_at dksX0_begin_0 17 rfl rfl)
theorem dX0_begin_18 : decode cX0_begin 18 = .ok (.i2l, 1) := dk_133 (dk_at dksX0_begin_0 18 rfl rfl)
theorem dX0_begin_19 : decode cX0_begin 19 = .ok (.lconst 1, 1) := dk_10 (dk_at dksX0_begin_0 19 rfl rfl)
theorem dX0_begin_20 : decode cX0_begin 20 = .ok (.ldc2_w 234, 3) := dk_20 0 234 (dk_at dksX0_begin_0 20 rfl rfl)
theorem dX0_begin_23 : decode cX0_begin 23 = .ok (.invokestatic 84, 3) := dk_184 0 84 (dk_at dksX0_begin_1 0 rfl rfl)
theorem dX0_begin_26 : decode cX0_begin 26 = .ok (.ifCond .ne 6, 3) := dk_154 0 6 (dk_at dksX0_begin_1 3 rfl rfl)
theorem dX0_begin_29 : decode cX0_begin 29 = .ok (.ldc 98, 2) := dk_18 98 (dk_at dksX0_begin_1 6 rfl rfl)
theorem dX0_begin_31 : decode cX0_begin 31 = .ok (.ireturn, 1) := dk_172 (dk_at dksX0_begin_1 8 rfl rfl)
theorem dX0_begin_32 : decode cX0_begin 32 = .ok (.aload_n 0, 1) := dk_42 (dk_at dksX0_begin_1 9 rfl rfl)
theorem dX0_begin_33 : decode cX0_begin 33 = .ok (.iload_n 1, 1) := dk_27 (dk_at dksX0_begin_1 10 rfl rfl)
theorem dX0_begin_34 : decode cX0_begin 34 = .ok (.iload_n 2, 1) := dk_28 (dk_at dksX0_begin_1 11 rfl rfl)
theorem dX0_begin_35 : decode cX0_begin 35 = .ok (.invokevirtual 184, 3) := dk_182 0 184 (dk_at dksX0_begin_1 12 rfl rfl)
theorem dX0_begin_38 : decode cX0_begin 38 = .ok (.astore_n 3, 1) := dk_78 (dk_at dksX0_begin_1 15 rfl rfl)
theorem dX0_begin_39 : decode cX0_begin 39 = .ok (.aload_n 0, 1) := dk_42 (dk_at dksX0_begin_1 16 rfl rfl)
theorem dX0_begin_40 : decode cX0_begin 40 = .ok (.invokevirtual 187, 3) := dk_182 0 187 (dk_at dksX0_begin_1 17 rfl rfl)
theorem dX0_begin_43 : decode cX0_begin 43 = .ok (.aload_n 0, 1) := dk_42 (dk_at dksX0_begin_1 20 rfl rfl)
theorem dX0_begin_44 : decode cX0_begin 44 = .ok (.getfield 53, 3) := dk_180 0 53 (dk_at dksX0_begin_1 21 rfl rfl)
theorem dX0_begin_47 : decode cX0_begin 47 = .ok (.getfield 236, 3) := dk_180 0 236 (dk_at dksX0_begin_2 0 rfl rfl)
theorem dX0_begin_50 : decode cX0_begin 50 = .ok (.istore 4, 2) := dk_54 4 (dk_at dksX0_begin_2 3 rfl rfl)
theorem dX0_begin_52 : decode cX0_begin 52 = .ok (.aload_n 0, 1) := dk_42 (dk_at dksX0_begin_2 5 rfl rfl)
theorem dX0_begin_53 : decode cX0_begin 53 = .ok (.getfield 53, 3) := dk_180 0 53 (dk_at dksX0_begin_2 6 rfl rfl)
theorem dX0_begin_56 : decode cX0_begin 56 = .ok (.aload_n 3, 1) := dk_45 (dk_at dksX0_begin_2 9 rfl rfl)
theorem dX0_begin_57 : decode cX0_begin 57 = .ok (.invokevirtual 239, 3) := dk_182 0 239 (dk_at dksX0_begin_2 10 rfl rfl)
theorem dX0_begin_60 : decode cX0_begin 60 = .ok (.aload_n 0, 1) := dk_42 (dk_at dksX0_begin_2 13 rfl rfl)
theorem dX0_begin_61 : decode cX0_begin 61 = .ok (.iload 4, 2) := dk_21 4 (dk_at dksX0_begin_2 14 rfl rfl)
theorem dX0_begin_63 : decode cX0_begin 63 = .ok (.invokevirtual 102, 3) := dk_182 0 102 (dk_at dksX0_begin_2 16 rfl rfl)
theorem dX0_begin_66 : decode cX0_begin 66 = .ok (.ireturn, 1) := dk_172 (dk_at dksX0_begin_2 19 rfl rfl)
theorem dX0_begin_67 : decode cX0_begin 67 = .ok (.astore_n 3, 1) := dk_78 (dk_at dksX0_begin_2 20 rfl rfl)
theorem dX0_begin_68 : decode cX0_begin 68 = .ok (.aload_n 0, 1) := dk_42 (dk_at dksX0_begin_2 21 rfl rfl)
theorem dX0_begin_69 : decode cX0_begin 69 = .ok (.aload_n 3, 1) := dk_45 (dk_at dksX0_begin_2 22 rfl rfl)
theorem dX0_begin_70 : decode cX0_begin 70 = .ok (.invokevirtual 106, 3) := dk_182 0 106 (dk_at dksX0_begin_3 0 rfl rfl)
theorem dX0_begin_73 : decode cX0_begin 73 = .ok (.ireturn, 1) := dk_172 (dk_at dksX0_begin_3 3 rfl rfl)
abbrev cX0_inflate : ByteArray := prog_1_method_31_code
def yX0_inflate : MethodName := ⟨RX0, "inflate", "()I"⟩
def dkwX0_inflate_3 : List UInt8 := [180, 0, 53, 44, 182, 0, 239, 27, 172]
abbrev dktX0_inflate_3 : List UInt8 := dkwX0_inflate_3 ++ []
def dkwX0_inflate_2 : List UInt8 := [188, 10, 77, 42, 180, 0, 53, 180, 0, 249, 3, 44, 3, 27, 184, 0, 124, 42, 182, 0, 187, 42]
abbrev dktX0_inflate_2 : List UInt8 := dkwX0_inflate_2 ++ dktX0_inflate_3
def dkwX0_inflate_1 : List UInt8 := [180, 0, 53, 180, 0, 246, 16, 8, 164, 0, 6, 18, 137, 172, 42, 180, 0, 53, 180, 0, 246, 60, 27]
abbrev dktX0_inflate_1 : List UInt8 := dkwX0_inflate_1 ++ dktX0_inflate_2
def dkwX0_inflate_0 : List UInt8 := [42, 182, 0, 222, 154, 0, 6, 18, 172, 172, 42, 180, 0, 53, 4, 182, 0, 243, 153, 0, 15, 42]
abbrev dktX0_inflate_0 : List UInt8 := dkwX0_inflate_0 ++ dktX0_inflate_1
theorem dksX0_inflate_0 : cX0_inflate.data.toList.drop 0 = dktX0_inflate_0 := by decide +kernel
theorem dksX0_inflate_1 : cX0_inflate.data.toList.drop 22 = dktX0_inflate_1 := dk_seg dksX0_inflate_0 22 rfl rfl
theorem dksX0_inflate_2 : cX0_inflate.data.toList.drop 45 = dktX0_inflate_2 := dk_seg dksX0_inflate_1 23 rfl rfl
theorem dksX0_inflate_3 : cX0_inflate.data.toList.drop 67 = dktX0_inflate_3 := dk_seg dksX0_inflate_2 22 rfl rfl
theorem dX0_inflate_0 : decode cX0_inflate 0 = .ok (.aload_n 0, 1) := dk_42 (dk_at dksX0_inflate_0 0 rfl rfl)
theorem dX0_inflate_1 : decode cX0_inflate 1 = .ok (.invokevirtual 222, 3) := dk_182 0 222 (dk_at dksX0_inflate_0 1 rfl rfl)
theorem dX0_inflate_4 : decode cX0_inflate 4 = .ok (.ifCond .ne 6, 3) := dk_154 0 6 (dk_at dksX0_inflate_0 4 rfl rfl)
theorem dX0_inflate_7 : decode cX0_inflate 7 = .ok (.ldc 172, 2) := dk_18 172 (dk_at dksX0_inflate_0 7 rfl rfl)
theorem dX0_inflate_9 : decode cX0_inflate 9 = .ok (.ireturn, 1) := dk_172 (dk_at dksX0_inflate_0 9 rfl rfl)
theorem dX0_inflate_10 : decode cX0_inflate 10 = .ok (.aload_n 0, 1) := dk_42 (dk_at dksX0_inflate_0 10 rfl rfl)
theorem dX0_inflate_11 : decode cX0_inflate 11 = .ok (.getfield 53, 3) := dk_180 0 53 (dk_at dksX0_inflate_0 11 rfl rfl)
theorem dX0_inflate_14 : decode cX0_inflate 14 = .ok (.iconst 1, 1) := dk_4 (dk_at dksX0_inflate_0 14 rfl rfl)
theorem dX0_inflate_15 : decode cX0_inflate 15 = .ok (.invokevirtual 243, 3) := dk_182 0 243 (dk_at dksX0_inflate_0 15 rfl rfl)
theorem dX0_inflate_18 : decode cX0_inflate 18 = .ok (.ifCond .eq 15, 3) := dk_153 0 15 (dk_at dksX0_inflate_0 18 rfl rfl)
theorem dX0_inflate_21 : decode cX0_inflate 21 = .ok (.aload_n 0, 1) := dk_42 (dk_at dksX0_inflate_0 21 rfl rfl)
theorem dX0_inflate_22 : decode cX0_inflate 22 = .ok (.getfield 53, 3) := dk_180 0 53 (dk_at dksX0_inflate_1 0 rfl rfl)
theorem dX0_inflate_25 : decode cX0_inflate 25 = .ok (.getfield 246, 3) := dk_180 0 246 (dk_at dksX0_inflate_1 3 rfl rfl)
theorem dX0_inflate_28 : decode cX0_inflate 28 = .ok (.bipush 8, 2) := dk_16 8 (dk_at dksX0_inflate_1 6 rfl rfl)
theorem dX0_inflate_30 : decode cX0_inflate 30 = .ok (.if_icmp .le 6, 3) := dk_164 0 6 (dk_at dksX0_inflate_1 8 rfl rfl)
theorem dX0_inflate_33 : decode cX0_inflate 33 = .ok (.ldc 137, 2) := dk_18 137 (dk_at dksX0_inflate_1 11 rfl rfl)
theorem dX0_inflate_35 : decode cX0_inflate 35 = .ok (.ireturn, 1) := dk_172 (dk_at dksX0_inflate_1 13 rfl rfl)
theorem dX0_inflate_36 : decode cX0_inflate 36 = .ok (.aload_n 0, 1) := dk_42 (dk_at dksX0_inflate_1 14 rfl rfl)
theorem dX0_inflate_37 : decode cX0_inflate 37 = .ok (.getfield 53, 3) := dk_180 0 53 (dk_at dksX0_inflate_1 15 rfl rfl)
theorem dX0_inflate_40 : decode cX0_inflate 40 = .ok (.getfield 246, 3) := dk_180 0 246 (dk_at dksX0_inflate_1 18 rfl rfl)
theorem dX0_inflate_43 : decode cX0_inflate 43 = .ok (.istore_n 1, 1) := dk_60 (dk_at dksX0_inflate_1 21 rfl rfl)
theorem dX0_inflate_44 : decode cX0_inflate 44 = .ok (.iload_n 1, 1) := dk_27 (dk_at dksX0_inflate_1 22 rfl rfl)
theorem dX0_inflate_45 : decode cX0_inflate 45 = .ok (.newarray .int, 2) := dk_188_10 (dk_at dksX0_inflate_2 0 rfl rfl)
theorem dX0_inflate_47 : decode cX0_inflate 47 = .ok (.astore_n 2, 1) := dk_77 (dk_at dksX0_inflate_2 2 rfl rfl)
theorem dX0_inflate_48 : decode cX0_inflate 48 = .ok (.aload_n 0, 1) := dk_42 (dk_at dksX0_inflate_2 3 rfl rfl)
theorem dX0_inflate_49 : decode cX0_inflate 49 = .ok (.getfield 53, 3) := dk_180 0 53 (dk_at dksX0_inflate_2 4 rfl rfl)
theorem dX0_inflate_52 : decode cX0_inflate 52 = .ok (.getfield 249, 3) := dk_180 0 249 (dk_at dksX0_inflate_2 7 rfl rfl)
theorem dX0_inflate_55 : decode cX0_inflate 55 = .ok (.iconst 0, 1) := dk_3 (dk_at dksX0_inflate_2 10 rfl rfl)
theorem dX0_inflate_56 : decode cX0_inflate 56 = .ok (.aload_n 2, 1) := dk_44 (dk_at dksX0_inflate_2 11 rfl rfl)
theorem dX0_inflate_57 : decode cX0_inflate 57 = .ok (.iconst 0, 1) := dk_3 (dk_at dksX0_inflate_2 12 rfl rfl)
theorem dX0_inflate_58 : decode cX0_inflate 58 = .ok (.iload_n 1, 1) := dk_27 (dk_at dksX0_inflate_2 13 rfl rfl)
theorem dX0_inflate_59 : decode cX0_inflate 59 = .ok (.invokestatic 124, 3) := dk_184 0 124 (dk_at dksX0_inflate_2 14 rfl rfl)
theorem dX0_inflate_62 : decode cX0_inflate 62 = .ok (.aload_n 0, 1) := dk_42 (dk_at dksX0_inflate_2 17 rfl rfl)
theorem dX0_inflate_63 : decode cX0_inflate 63 = .ok (.invokevirtual 187, 3) := dk_182 0 187 (dk_at dksX0_inflate_2 18 rfl rfl)
theorem dX0_inflate_66 : decode cX0_inflate 66 = .ok (.aload_n 0, 1) := dk_42 (dk_at dksX0_inflate_2 21 rfl rfl)
theorem dX0_inflate_67 : decode cX0_inflate 67 = .ok (.getfield 53, 3) := dk_180 0 53 (dk_at dksX0_inflate_3 0 rfl rfl)
theorem dX0_inflate_70 : decode cX0_inflate 70 = .ok (.aload_n 2, 1) := dk_44 (dk_at dksX0_inflate_3 3 rfl rfl)
theorem dX0_inflate_71 : decode cX0_inflate 71 = .ok (.invokevirtual 239, 3) := dk_182 0 239 (dk_at dksX0_inflate_3 4 rfl rfl)
theorem dX0_inflate_74 : decode cX0_inflate 74 = .ok (.iload_n 1, 1) := dk_27 (dk_at dksX0_inflate_3 7 rfl rfl)
theorem dX0_inflate_75 : decode cX0_inflate 75 = .ok (.ireturn, 1) := dk_172 (dk_at dksX0_inflate_3 8 rfl rfl)
abbrev cX0_sort : ByteArray := prog_1_method_32_code
def yX0_sort : MethodName := ⟨RX0, "sort", "(II)I"⟩
def dkwX0_sort_7 : List UInt8 := [182, 1, 4, 167, 0, 6, 19, 1, 3, 172, 18, 98, 172]
abbrev dktX0_sort_7 : List UInt8 := dkwX0_sort_7 ++ []
def dkwX0_sort_6 : List UInt8 := [19, 1, 3, 172, 21, 4, 45, 42, 180, 0, 53, 182, 0, 252, 162, 0, 16, 45, 42, 180, 0, 53, 21, 4]
abbrev dktX0_sort_6 : List UInt8 := dkwX0_sort_6 ++ dktX0_sort_7
def dkwX0_sort_5 : List UInt8 := [27, 46, 162, 0, 20, 42, 180, 0, 53, 180, 1, 0, 7, 27, 104, 21, 4, 96, 46, 167, 0, 6]
abbrev dktX0_sort_5 : List UInt8 := dkwX0_sort_5 ++ dktX0_sort_6
def dkwX0_sort_4 : List UInt8 := [180, 0, 190, 27, 46, 172, 45, 42, 180, 0, 53, 182, 0, 252, 172, 21, 4, 42, 180, 0, 53, 180, 0, 190]
abbrev dktX0_sort_4 : List UInt8 := dkwX0_sort_4 ++ dktX0_sort_5
def dkwX0_sort_3 : List UInt8 := [42, 180, 0, 53, 180, 0, 202, 27, 46, 172, 42, 180, 0, 53, 180, 0, 205, 27, 46, 172, 42, 180, 0, 53]
abbrev dktX0_sort_3 : List UInt8 := dkwX0_sort_3 ++ dktX0_sort_4
def dkwX0_sort_2 : List UInt8 := [170, 0, 0, 0, 213, 0, 0, 0, 0, 0, 0, 0, 23, 0, 0, 0, 109, 0, 0, 0, 119, 0, 0, 0, 129, 0, 0, 0, 139, 0, 0, 0, 213, 0, 0, 0, 213, 0, 0, 0, 213, 0, 0, 0, 213, 0, 0, 0, 213, 0, 0, 0, 213, 0, 0, 0, 148, 0, 0, 0, 148, 0, 0, 0, 148, 0, 0, 0, 148, 0, 0, 0, 213, 0, 0, 0, 213, 0, 0, 0, 213, 0, 0, 0, 213, 0, 0, 0, 213, 0, 0, 0, 213, 0, 0, 0, 183, 0, 0, 0, 183, 0, 0, 0, 183, 0, 0, 0, 183]
abbrev dktX0_sort_2 : List UInt8 := dkwX0_sort_2 ++ dktX0_sort_3
def dkwX0_sort_1 : List UInt8 := [54, 4, 28]
abbrev dktX0_sort_1 : List UInt8 := dkwX0_sort_1 ++ dktX0_sort_2
def dkwX0_sort_0 : List UInt8 := [42, 27, 182, 0, 179, 154, 0, 6, 18, 98, 172, 42, 180, 0, 53, 27, 182, 0, 210, 78, 28, 16, 10, 112]
abbrev dktX0_sort_0 : List UInt8 := dkwX0_sort_0 ++ dktX0_sort_1
theorem dksX0_sort_0 : cX0_sort.data.toList.drop 0 = dktX0_sort_0 := by decide +kernel
theorem dksX0_sort_1 : cX0_sort.data.toList.drop 24 = dktX0_sort_1 := dk_seg dksX0_sort_0 24 rfl rfl
theorem dksX0_sort_2 : cX0_sort.data.toList.drop 27 = dktX0_sort_2 := dk_seg dksX0_sort_1 3 rfl rfl
theorem dksX0_sort_3 : cX0_sort.data.toList.drop 136 = dktX0_sort_3 := dk_seg dksX0_sort_2 109 rfl rfl
theorem dksX0_sort_4 : cX0_sort.data.toList.drop 160 = dktX0_sort_4 := dk_seg dksX0_sort_3 24 rfl rfl
theorem dksX0_sort_5 : cX0_sort.data.toList.drop 184 = dktX0_sort_5 := dk_seg dksX0_sort_4 24 rfl rfl
theorem dksX0_sort_6 : cX0_sort.data.toList.drop 206 = dktX0_sort_6 := dk_seg dksX0_sort_5 22 rfl rfl
theorem dksX0_sort_7 : cX0_sort.data.toList.drop 230 = dktX0_sort_7 := dk_seg dksX0_sort_6 24 rfl rfl
theorem dX0_sort_0 : decode cX0_sort 0 = .ok (.aload_n 0, 1) := dk_42 (dk_at dksX0_sort_0 0 rfl rfl)
theorem dX0_sort_1 : decode cX0_sort 1 = .ok (.iload_n 1, 1) := dk_27 (dk_at dksX0_sort_0 1 rfl rfl)
theorem dX0_sort_2 : decode cX0_sort 2 = .ok (.invokevirtual 179, 3) := dk_182 0 179 (dk_at dksX0_sort_0 2 rfl rfl)
theorem dX0_sort_5 : decode cX0_sort 5 = .ok (.ifCond .ne 6, 3) := dk_154 0 6 (dk_at dksX0_sort_0 5 rfl rfl)
theorem dX0_sort_8 : decode cX0_sort 8 = .ok (.ldc 98, 2) := dk_18 98 (dk_at dksX0_sort_0 8 rfl rfl)
theorem dX0_sort_10 : decode cX0_sort 10 = .ok (.ireturn, 1) := dk_172 (dk_at dksX0_sort_0 10 rfl rfl)
theorem dX0_sort_11 : decode cX0_sort 11 = .ok (.aload_n 0, 1) := dk_42 (dk_at dksX0_sort_0 11 rfl rfl)
theorem dX0_sort_12 : decode cX0_sort 12 = .ok (.getfield 53, 3) := dk_180 0 53 (dk_at dksX0_sort_0 12 rfl rfl)
theorem dX0_sort_15 : decode cX0_sort 15 = .ok (.iload_n 1, 1) := dk_27 (dk_at dksX0_sort_0 15 rfl rfl)
theorem dX0_sort_16 : decode cX0_sort 16 = .ok (.invokevirtual 210, 3) := dk_182 0 210 (dk_at dksX0_sort_0 16 rfl rfl)
theorem dX0_sort_19 : decode cX0_sort 19 = .ok (.astore_n 3, 1) := dk_78 (dk_at dksX0_sort_0 19 rfl rfl)
theorem dX0_sort_20 : decode cX0_sort 20 = .ok (.iload_n 2, 1) := dk_28 (dk_at dksX0_sort_0 20 rfl rfl)
theorem dX0_sort_21 : decode cX0_sort 21 = .ok (.bipush 10, 2) := dk_16 10 (dk_at dksX0_sort_0 21 rfl rfl)
theorem dX0_sort_23 : decode cX0_sort 23 = .ok (.irem, 1) := dk_112 (dk_at dksX0_sort_0 23 rfl rfl)
theorem dX0_sort_24 : decode cX0_sort 24 = .ok (.istore 4, 2) := dk_54 4 (dk_at dksX0_sort_1 0 rfl rfl)
theorem dX0_sort_26 : decode cX0_sort 26 = .ok (.iload_n 2, 1) := dk_28 (dk_at dksX0_sort_1 2 rfl rfl)
theorem dX0_sort_27 : decode cX0_sort 27 = .ok (.tableswitch 213 0 23 #[109, 119, 129, 139, 213, 213, 213, 213, 213, 213, 148, 148, 148, 148, 213, 213, 213, 213, 213, 213, 183, 183, 183, 183], 109) := by decide +kernel
theorem dX0_sort_136 : decode cX0_sort 136 = .ok (.aload_n 0, 1) := dk_42 (dk_at dksX0_sort_3 0 rfl rfl)
theorem dX0_sort_137 : decode cX0_sort 137 = .ok (.getfield 53, 3) := dk_180 0 53 (dk_at dksX0_sort_3 1 rfl rfl)
theorem dX0_sort_140 : decode cX0_sort 140 = .ok (.getfield 202, 3) := dk_180 0 202 (dk_at dksX0_sort_3 4 rfl rfl)
theorem dX0_sort_143 : decode cX0_sort 143 = .ok (.iload_n 1, 1) := dk_27 (dk_at dksX0_sort_3 7 rfl rfl)
theorem dX0_sort_144 : decode cX0_sort 144 = .ok (.iaload, 1) := dk_46 (dk_at dksX0_sort_3 8 rfl rfl)
theorem dX0_sort_145 : decode cX0_sort 145 = .ok (.ireturn, 1) := dk_172 (dk_at dksX0_sort_3 9 rfl rfl)
theorem dX0_sort_146 : decode cX0_sort 146 = .ok (.aload_n 0, 1) := dk_42 (dk_at dksX0_sort_3 10 rfl rfl)
theorem dX0_sort_147 : decode cX0_sort 147 = .ok (.getfield 53, 3) := dk_180 0 53 (dk_at dksX0_sort_3 11 rfl rfl)
theorem dX0_sort_150 : decode cX0_sort 150 = .ok (.getfield 205, 3) := dk_180 0 205 (dk_at dksX0_sort_3 14 rfl rfl)
theorem dX0_sort_153 : decode cX0_sort 153 = .ok (.iload_n 1, 1) := dk_27 (dk_at dksX0_sort_3 17 rfl rfl)
theorem dX0_sort_154 : decode cX0_sort 154 = .ok (.iaload, 1) := dk_46 (dk_at dksX0_sort_3 18 rfl rfl)
theorem dX0_sort_155 : decode cX0_sort 155 = .ok (.ireturn, 1) := dk_172 (dk_at dksX0_sort_3 19 rfl rfl)
theorem dX0_sort_156 : decode cX0_sort 156 = .ok (.aload_n 0, 1) := dk_42 (dk_at dksX0_sort_3 20 rfl rfl)
theorem dX0_sort_157 : decode cX0_sort 157 = .ok (.getfield 53, 3) := dk_180 0 53 (dk_at dksX0_sort_3 21 rfl rfl)
theorem dX0_sort_160 : decode cX0_sort 160 = .ok (.getfield 190, 3) := dk_180 0 190 (dk_at dksX0_sort_4 0 rfl rfl)
theorem dX0_sort_163 : decode cX0_sort 163 = .ok (.iload_n 1, 1) := dk_27 (dk_at dksX0_sort_4 3 rfl rfl)
theorem dX0_sort_164 : decode cX0_sort 164 = .ok (.iaload, 1) := dk_46 (dk_at dksX0_sort_4 4 rfl rfl)
theorem dX0_sort_165 : decode cX0_sort 165 = .ok (.ireturn, 1) := dk_172 (dk_at dksX0_sort_4 5 rfl rfl)
theorem dX0_sort_166 : decode cX0_sort 166 = .ok (.aload_n 3, 1) := dk_45 (dk_at dksX0_sort_4 6 rfl rfl)
theorem dX0_sort_167 : decode cX0_sort 167 = .ok (.aload_n 0, 1) := dk_42 (dk_at dksX0_sort_4 7 rfl rfl)
theorem dX0_sort_168 : decode cX0_sort 168 = .ok (.getfield 53, 3) := dk_180 0 53 (dk_at dksX0_sort_4 8 rfl rfl)
theorem dX0_sort_171 : decode cX0_sort 171 = .ok (.invokevirtual 252, 3) := dk_182 0 252 (dk_at dksX0_sort_4 11 rfl rfl)
theorem dX0_sort_174 : decode cX0_sort 174 = .ok (.ireturn, 1) := dk_172 (dk_at dksX0_sort_4 14 rfl rfl)
theorem dX0_sort_175 : decode cX0_sort 175 = .ok (.iload 4, 2) := dk_21 4 (dk_at dksX0_sort_4 15 rfl rfl)
theorem dX0_sort_177 : decode cX0_sort 177 = .ok (.aload_n 0, 1) := dk_42 (dk_at dksX0_sort_4 17 rfl rfl)
theorem dX0_sort_178 : decode cX0_sort 178 = .ok (.getfield 53, 3) := dk_180 0 53 (dk_at dksX0_sort_4 18 rfl rfl)
theorem dX0_sort_181 : decode cX0_sort 181 = .ok (.getfield 190, 3) := dk_180 0 190 (dk_at dksX0_sort_4 21 rfl rfl)
theorem dX0_sort_184 : decode cX0_sort 184 = .ok (.iload_n 1, 1) := dk_27 (dk_at dksX0_sort_5 0 rfl rfl)
theorem dX0_sort_185 : decode cX0_sort 185 = .ok (.iaload, 1) := dk_46 (dk_at dksX0_sort_5 1 rfl rfl)
theorem dX0_sort_186 : decode cX0_sort 186 = .ok (.if_icmp .ge 20, 3) := dk_162 0 20 (dk_at dksX0_sort_5 2 rfl rfl)
theorem dX0_sort_189 : decode cX0_sort 189 = .ok (.aload_n 0, 1) := dk_42 (dk_at dksX0_sort_5 5 rfl rfl)
theorem dX0_sort_190 : decode cX0_sort 190 = .ok (.getfield 53, 3) := dk_180 0 53 (dk_at dksX0_sort_5 6 rfl rfl)
theorem dX0_sort_193 : decode cX0_sort 193 = .ok (.getfield 256, 3) := dk_180 1 0 (dk_at dksX0_sort_5 9 rfl rfl)
theorem dX0_sort_196 : decode cX0_sort 196 = .ok (.iconst 4, 1) := dk_7 (dk_at dksX0_sort_5 12 rfl rfl)
theorem dX0_sort_197 : decode cX0_sort 197 = .ok (.iload_n 1, 1) := dk_27 (dk_at dksX0_sort_5 13 rfl rfl)
theorem dX0_sort_198 : decode cX0_sort 198 = .ok (.imul, 1) := dk_104 (dk_at dksX0_sort_5 14 rfl rfl)
theorem dX0_sort_199 : decode cX0_sort 199 = .ok (.iload 4, 2) := dk_21 4 (dk_at dksX0_sort_5 15 rfl rfl)
theorem dX0_sort_201 : decode cX0_sort 201 = .ok (.iadd, 1) := dk_96 (dk_at dksX0_sort_5 17 rfl rfl)
theorem dX0_sort_202 : decode cX0_sort 202 = .ok (.iaload, 1) := dk_46 (dk_at dksX0_sort_5 18 rfl rfl)
theorem dX0_sort_203 : decode cX0_sort 203 = .ok (.goto 6, 3) := dk_167 0 6 (dk_at dksX0_sort_5 19 rfl rfl)
theorem dX0_sort_206 : decode cX0_sort 206 = .ok (.ldc_w 259, 3) := dk_19 1 3 (dk_at dksX0_sort_6 0 rfl rfl)
theorem dX0_sort_209 : decode cX0_sort 209 = .ok (.ireturn, 1) := dk_172 (dk_at dksX0_sort_6 3 rfl rfl)
theorem dX0_sort_210 : decode cX0_sort 210 = .ok (.iload 4, 2) := dk_21 4 (dk_at dksX0_sort_6 4 rfl rfl)
theorem dX0_sort_212 : decode cX0_sort 212 = .ok (.aload_n 3, 1) := dk_45 (dk_at dksX0_sort_6 6 rfl rfl)
theorem dX0_sort_213 : decode cX0_sort 213 = .ok (.aload_n 0, 1) := dk_42 (dk_at dksX0_sort_6 7 rfl rfl)
theorem dX0_sort_214 : decode cX0_sort 214 = .ok (.getfield 53, 3) := dk_180 0 53 (dk_at dksX0_sort_6 8 rfl rfl)
theorem dX0_sort_217 : decode cX0_sort 217 = .ok (.invokevirtual 252, 3) := dk_182 0 252 (dk_at dksX0_sort_6 11 rfl rfl)
theorem dX0_sort_220 : decode cX0_sort 220 = .ok (.if_icmp .ge 16, 3) := dk_162 0 16 (dk_at dksX0_sort_6 14 rfl rfl)
theorem dX0_sort_223 : decode cX0_sort 223 = .ok (.aload_n 3, 1) := dk_45 (dk_at dksX0_sort_6 17 rfl rfl)
theorem dX0_sort_224 : decode cX0_sort 224 = .ok (.aload_n 0, 1) := dk_42 (dk_at dksX0_sort_6 18 rfl rfl)
theorem dX0_sort_225 : decode cX0_sort 225 = .ok (.getfield 53, 3) := dk_180 0 53 (dk_at dksX0_sort_6 19 rfl rfl)
theorem dX0_sort_228 : decode cX0_sort 228 = .ok (.iload 4, 2) := dk_21 4 (dk_at dksX0_sort_6 22 rfl rfl)
theorem dX0_sort_230 : decode cX0_sort 230 = .ok (.invokevirtual 260, 3) := dk_182 1 4 (dk_at dksX0_sort_7 0 rfl rfl)
theorem dX0_sort_233 : decode cX0_sort 233 = .ok (.goto 6, 3) := dk_167 0 6 (dk_at dksX0_sort_7 3 rfl rfl)
theorem dX0_sort_236 : decode cX0_sort 236 = .ok (.ldc_w 259, 3) := dk_19 1 3 (dk_at dksX0_sort_7 6 rfl rfl)
theorem dX0_sort_239 : decode cX0_sort 239 = .ok (.ireturn, 1) := dk_172 (dk_at dksX0_sort_7 9 rfl rfl)
theorem dX0_sort_240 : decode cX0_sort 240 = .ok (.ldc 98, 2) := dk_18 98 (dk_at dksX0_sort_7 10 rfl rfl)
theorem dX0_sort_242 : decode cX0_sort 242 = .ok (.ireturn, 1) := dk_172 (dk_at dksX0_sort_7 12 rfl rfl)
abbrev cX0_letter : ByteArray := prog_1_method_33_code
def yX0_letter : MethodName := ⟨RX0, "letter", "(I)I"⟩
def dkwX0_letter_1 : List UInt8 := [180, 0, 236, 162, 0, 15, 42, 180, 0, 53, 180, 1, 8, 27, 46, 167, 0, 6, 19, 1, 3, 172]
abbrev dktX0_letter_1 : List UInt8 := dkwX0_letter_1 ++ []
def dkwX0_letter_0 : List UInt8 := [42, 182, 0, 222, 154, 0, 6, 18, 172, 172, 27, 156, 0, 8, 18, 98, 167, 0, 29, 27, 42, 180, 0, 53]
abbrev dktX0_letter_0 : List UInt8 := dkwX0_letter_0 ++ dktX0_letter_1
theorem dksX0_letter_0 : cX0_letter.data.toList.drop 0 = dktX0_letter_0 := by decide +kernel
theorem dksX0_letter_1 : cX0_letter.data.toList.drop 24 = dktX0_letter_1 := dk_seg dksX0_letter_0 24 rfl rfl
theorem dX0_letter_0 : decode cX0_letter 0 = .ok (.aload_n 0, 1) := dk_42 (dk_at dksX0_letter_0 0 rfl rfl)
theorem dX0_letter_1 : decode cX0_letter 1 = .ok (.invokevirtual 222, 3) := dk_182 0 222 (dk_at dksX0_letter_0 1 rfl rfl)
theorem dX0_letter_4 : decode cX0_letter 4 = .ok (.ifCond .ne 6, 3) := dk_154 0 6 (dk_at dksX0_letter_0 4 rfl rfl)
theorem dX0_letter_7 : decode cX0_letter 7 = .ok (.ldc 172, 2) := dk_18 172 (dk_at dksX0_letter_0 7 rfl rfl)
theorem dX0_letter_9 : decode cX0_letter 9 = .ok (.ireturn, 1) := dk_172 (dk_at dksX0_letter_0 9 rfl rfl)
theorem dX0_letter_10 : decode cX0_letter 10 = .ok (.iload_n 1, 1) := dk_27 (dk_at dksX0_letter_0 10 rfl rfl)
theorem dX0_letter_11 : decode cX0_letter 11 = .ok (.ifCond .ge 8, 3) := dk_156 0 8 (dk_at dksX0_letter_0 11 rfl rfl)
theorem dX0_letter_14 : decode cX0_letter 14 = .ok (.ldc 98, 2) := dk_18 98 (dk_at dksX0_letter_0 14 rfl rfl)
theorem dX0_letter_16 : decode cX0_letter 16 = .ok (.goto 29, 3) := dk_167 0 29 (dk_at dksX0_letter_0 16 rfl rfl)
theorem dX0_letter_19 : decode cX0_letter 19 = .ok (.iload_n 1, 1) := dk_27 (dk_at dksX0_letter_0 19 rfl rfl)
theorem dX0_letter_20 : decode cX0_letter 20 = .ok (.aload_n 0, 1) := dk_42 (dk_at dksX0_letter_0 20 rfl rfl)
theorem dX0_letter_21 : decode cX0_letter 21 = .ok (.getfield 53, 3) := dk_180 0 53 (dk_at dksX0_letter_0 21 rfl rfl)
theorem dX0_letter_24 : decode cX0_letter 24 = .ok (.getfield 236, 3) := dk_180 0 236 (dk_at dksX0_letter_1 0 rfl rfl)
theorem dX0_letter_27 : decode cX0_letter 27 = .ok (.if_icmp .ge 15, 3) := dk_162 0 15 (dk_at dksX0_letter_1 3 rfl rfl)
theorem dX0_letter_30 : decode cX0_letter 30 = .ok (.aload_n 0, 1) := dk_42 (dk_at dksX0_letter_1 6 rfl rfl)
theorem dX0_letter_31 : decode cX0_letter 31 = .ok (.getfield 53, 3) := dk_180 0 53 (dk_at dksX0_letter_1 7 rfl rfl)
theorem dX0_letter_34 : decode cX0_letter 34 = .ok (.getfield 264, 3) := dk_180 1 8 (dk_at dksX0_letter_1 10 rfl rfl)
theorem dX0_letter_37 : decode cX0_letter 37 = .ok (.iload_n 1, 1) := dk_27 (dk_at dksX0_letter_1 13 rfl rfl)
theorem dX0_letter_38 : decode cX0_letter 38 = .ok (.iaload, 1) := dk_46 (dk_at dksX0_letter_1 14 rfl rfl)
theorem dX0_letter_39 : decode cX0_letter 39 = .ok (.goto 6, 3) := dk_167 0 6 (dk_at dksX0_letter_1 15 rfl rfl)
theorem dX0_letter_42 : decode cX0_letter 42 = .ok (.ldc_w 259, 3) := dk_19 1 3 (dk_at dksX0_letter_1 18 rfl rfl)
theorem dX0_letter_45 : decode cX0_letter 45 = .ok (.ireturn, 1) := dk_172 (dk_at dksX0_letter_1 21 rfl rfl)
abbrev cX0_grown : ByteArray := prog_1_method_34_code
def yX0_grown : MethodName := ⟨RX0, "grown", "(II)I"⟩
def dkwX0_grown_3 : List UInt8 := [180, 0, 249, 28, 46, 167, 0, 6, 19, 1, 3, 172]
abbrev dktX0_grown_3 : List UInt8 := dkwX0_grown_3 ++ []
def dkwX0_grown_2 : List UInt8 := [180, 0, 53, 180, 0, 246, 167, 0, 29, 28, 42, 180, 0, 53, 180, 0, 246, 162, 0, 15, 42, 180, 0, 53]
abbrev dktX0_grown_2 : List UInt8 := dkwX0_grown_2 ++ dktX0_grown_3
def dkwX0_grown_1 : List UInt8 := [18, 98, 172, 42, 180, 0, 53, 27, 182, 0, 243, 154, 0, 6, 18, 137, 172, 28, 2, 160, 0, 13, 42]
abbrev dktX0_grown_1 : List UInt8 := dkwX0_grown_1 ++ dktX0_grown_2
def dkwX0_grown_0 : List UInt8 := [42, 182, 0, 222, 154, 0, 6, 18, 172, 172, 42, 27, 182, 1, 10, 153, 0, 8, 28, 2, 162, 0, 6]
abbrev dktX0_grown_0 : List UInt8 := dkwX0_grown_0 ++ dktX0_grown_1
theorem dksX0_grown_0 : cX0_grown.data.toList.drop 0 = dktX0_grown_0 := by decide +kernel
theorem dksX0_grown_1 : cX0_grown.data.toList.drop 23 = dktX0_grown_1 := dk_seg dksX0_grown_0 23 rfl rfl
theorem dksX0_grown_2 : cX0_grown.data.toList.drop 46 = dktX0_grown_2 := dk_seg dksX0_grown_1 23 rfl rfl
theorem dksX0_grown_3 : cX0_grown.data.toList.drop 70 = dktX0_grown_3 := dk_seg dksX0_grown_2 24 rfl rfl
theorem dX0_grown_0 : decode cX0_grown 0 = .ok (.aload_n 0, 1) := dk_42 (dk_at dksX0_grown_0 0 rfl rfl)
theorem dX0_grown_1 : decode cX0_grown 1 = .ok (.invokevirtual 222, 3) := dk_182 0 222 (dk_at dksX0_grown_0 1 rfl rfl)
theorem dX0_grown_4 : decode cX0_grown 4 = .ok (.ifCond .ne 6, 3) := dk_154 0 6 (dk_at dksX0_grown_0 4 rfl rfl)
theorem dX0_grown_7 : decode cX0_grown 7 = .ok (.ldc 172, 2) := dk_18 172 (dk_at dksX0_grown_0 7 rfl rfl)
theorem dX0_grown_9 : decode cX0_grown 9 = .ok (.ireturn, 1) := dk_172 (dk_at dksX0_grown_0 9 rfl rfl)
theorem dX0_grown_10 : decode cX0_grown 10 = .ok (.aload_n 0, 1) := dk_42 (dk_at dksX0_grown_0 10 rfl rfl)
theorem dX0_grown_11 : decode cX0_grown 11 = .ok (.iload_n 1, 1) := dk_27 (dk_at dksX0_grown_0 11 rfl rfl)
theorem dX0_grown_12 : decode cX0_grown 12 = .ok (.invokevirtual 266, 3) := dk_182 1 10 (dk_at dksX0_grown_0 12 rfl rfl)
theorem dX0_grown_15 : decode cX0_grown 15 = .ok (.ifCond .eq 8, 3) := dk_153 0 8 (dk_at dksX0_grown_0 15 rfl rfl)
theorem dX0_grown_18 : decode cX0_grown 18 = .ok (.iload_n 2, 1) := dk_28 (dk_at dksX0_grown_0 18 rfl rfl)
theorem dX0_grown_19 : decode cX0_grown 19 = .ok (.iconst (-1), 1) := dk_2 (dk_at dksX0_grown_0 19 rfl rfl)
theorem dX0_grown_20 : decode cX0_grown 20 = .ok (.if_icmp .ge 6, 3) := dk_162 0 6 (dk_at dksX0_grown_0 20 rfl rfl)
theorem dX0_grown_23 : decode cX0_grown 23 = .ok (.ldc 98, 2) := dk_18 98 (dk_at dksX0_grown_1 0 rfl rfl)
theorem dX0_grown_25 : decode cX0_grown 25 = .ok (.ireturn, 1) := dk_172 (dk_at dksX0_grown_1 2 rfl rfl)
theorem dX0_grown_26 : decode cX0_grown 26 = .ok (.aload_n 0, 1) := dk_42 (dk_at dksX0_grown_1 3 rfl rfl)
theorem dX0_grown_27 : decode cX0_grown 27 = .ok (.getfield 53, 3) := dk_180 0 53 (dk_at dksX0_grown_1 4 rfl rfl)
theorem dX0_grown_30 : decode cX0_grown 30 = .ok (.iload_n 1, 1) := dk_27 (dk_at dksX0_grown_1 7 rfl rfl)
theorem dX0_grown_31 : decode cX0_grown 31 = .ok (.invokevirtual 243, 3) := dk_182 0 243 (dk_at dksX0_grown_1 8 rfl rfl)
theorem dX0_grown_34 : decode cX0_grown 34 = .ok (.ifCond .ne 6, 3) := dk_154 0 6 (dk_at dksX0_grown_1 11 rfl rfl)
theorem dX0_grown_37 : decode cX0_grown 37 = .ok (.ldc 137, 2) := dk_18 137 (dk_at dksX0_grown_1 14 rfl rfl)
theorem dX0_grown_39 : decode cX0_grown 39 = .ok (.ireturn, 1) := dk_172 (dk_at dksX0_grown_1 16 rfl rfl)
theorem dX0_grown_40 : decode cX0_grown 40 = .ok (.iload_n 2, 1) := dk_28 (dk_at dksX0_grown_1 17 rfl rfl)
theorem dX0_grown_41 : decode cX0_grown 41 = .ok (.iconst (-1), 1) := dk_2 (dk_at dksX0_grown_1 18 rfl rfl)
theorem dX0_grown_42 : decode cX0_grown 42 = .ok (.if_icmp .ne 13, 3) := dk_160 0 13 (dk_at dksX0_grown_1 19 rfl rfl)
theorem dX0_grown_45 : decode cX0_grown 45 = .ok (.aload_n 0, 1) := dk_42 (dk_at dksX0_grown_1 22 rfl rfl)
theorem dX0_grown_46 : decode cX0_grown 46 = .ok (.getfield 53, 3) := dk_180 0 53 (dk_at dksX0_grown_2 0 rfl rfl)
theorem dX0_grown_49 : decode cX0_grown 49 = .ok (.getfield 246, 3) := dk_180 0 246 (dk_at dksX0_grown_2 3 rfl rfl)
theorem dX0_grown_52 : decode cX0_grown 52 = .ok (.goto 29, 3) := dk_167 0 29 (dk_at dksX0_grown_2 6 rfl rfl)
theorem dX0_grown_55 : decode cX0_grown 55 = .ok (.iload_n 2, 1) := dk_28 (dk_at dksX0_grown_2 9 rfl rfl)
theorem dX0_grown_56 : decode cX0_grown 56 = .ok (.aload_n 0, 1) := dk_42 (dk_at dksX0_grown_2 10 rfl rfl)
theorem dX0_grown_57 : decode cX0_grown 57 = .ok (.getfield 53, 3) := dk_180 0 53 (dk_at dksX0_grown_2 11 rfl rfl)
theorem dX0_grown_60 : decode cX0_grown 60 = .ok (.getfield 246, 3) := dk_180 0 246 (dk_at dksX0_grown_2 14 rfl rfl)
theorem dX0_grown_63 : decode cX0_grown 63 = .ok (.if_icmp .ge 15, 3) := dk_162 0 15 (dk_at dksX0_grown_2 17 rfl rfl)
theorem dX0_grown_66 : decode cX0_grown 66 = .ok (.aload_n 0, 1) := dk_42 (dk_at dksX0_grown_2 20 rfl rfl)
theorem dX0_grown_67 : decode cX0_grown 67 = .ok (.getfield 53, 3) := dk_180 0 53 (dk_at dksX0_grown_2 21 rfl rfl)
theorem dX0_grown_70 : decode cX0_grown 70 = .ok (.getfield 249, 3) := dk_180 0 249 (dk_at dksX0_grown_3 0 rfl rfl)
theorem dX0_grown_73 : decode cX0_grown 73 = .ok (.iload_n 2, 1) := dk_28 (dk_at dksX0_grown_3 3 rfl rfl)
theorem dX0_grown_74 : decode cX0_grown 74 = .ok (.iaload, 1) := dk_46 (dk_at dksX0_grown_3 4 rfl rfl)
theorem dX0_grown_75 : decode cX0_grown 75 = .ok (.goto 6, 3) := dk_167 0 6 (dk_at dksX0_grown_3 5 rfl rfl)
theorem dX0_grown_78 : decode cX0_grown 78 = .ok (.ldc_w 259, 3) := dk_19 1 3 (dk_at dksX0_grown_3 8 rfl rfl)
theorem dX0_grown_81 : decode cX0_grown 81 = .ok (.ireturn, 1) := dk_172 (dk_at dksX0_grown_3 11 rfl rfl)
abbrev cX0_isTimes : ByteArray := prog_1_method_24_code
def yX0_isTimes : MethodName := ⟨RX0, "isTimes", "(I)Z"⟩
def dkwX0_isTimes_0 : List UInt8 := [27, 133, 9, 20, 0, 173, 184, 0, 84, 172]
abbrev dktX0_isTimes_0 : List UInt8 := dkwX0_isTimes_0 ++ []
theorem dksX0_isTimes_0 : cX0_isTimes.data.toList.drop 0 = dktX0_isTimes_0 := by decide +kernel
theorem dX0_isTimes_0 : decode cX0_isTimes 0 = .ok (.iload_n 1, 1) := dk_27 (dk_at dksX0_isTimes_0 0 rfl rfl)
theorem dX0_isTimes_1 : decode cX0_isTimes 1 = .ok (.i2l, 1) := dk_133 (dk_at dksX0_isTimes_0 1 rfl rfl)
theorem dX0_isTimes_2 : decode cX0_isTimes 2 = .ok (.lconst 0, 1) := dk_9 (dk_at dksX0_isTimes_0 2 rfl rfl)
theorem dX0_isTimes_3 : decode cX0_isTimes 3 = .ok (.ldc2_w 173, 3) := dk_20 0 173 (dk_at dksX0_isTimes_0 3 rfl rfl)
theorem dX0_isTimes_6 : decode cX0_isTimes 6 = .ok (.invokestatic 84, 3) := dk_184 0 84 (dk_at dksX0_isTimes_0 6 rfl rfl)
theorem dX0_isTimes_9 : decode cX0_isTimes 9 = .ok (.ireturn, 1) := dk_172 (dk_at dksX0_isTimes_0 9 rfl rfl)
abbrev cX0_origin : ByteArray := prog_1_method_35_code
def yX0_origin : MethodName := ⟨RX0, "origin", "(III)I"⟩
def dkwX0_origin_4 : List UInt8 := [54, 4, 132, 5, 1, 167, 255, 232, 21, 4, 172]
abbrev dktX0_origin_4 : List UInt8 := dkwX0_origin_4 ++ []
def dkwX0_origin_3 : List UInt8 := [54, 4, 3, 54, 5, 21, 5, 29, 162, 0, 24, 42, 180, 0, 53, 27, 21, 5, 100, 21, 4, 182, 1, 13]
abbrev dktX0_origin_3 : List UInt8 := dkwX0_origin_3 ++ dktX0_origin_4
def dkwX0_origin_2 : List UInt8 := [100, 133, 184, 0, 84, 153, 0, 14, 29, 133, 9, 27, 133, 184, 0, 84, 154, 0, 6, 18, 98, 172, 28]
abbrev dktX0_origin_2 : List UInt8 := dkwX0_origin_2 ++ dktX0_origin_3
def dkwX0_origin_1 : List UInt8 := [180, 0, 53, 27, 182, 0, 243, 154, 0, 6, 18, 137, 172, 28, 133, 9, 42, 180, 0, 53, 180, 0, 246, 4]
abbrev dktX0_origin_1 : List UInt8 := dkwX0_origin_1 ++ dktX0_origin_2
def dkwX0_origin_0 : List UInt8 := [42, 182, 0, 222, 154, 0, 6, 18, 172, 172, 42, 27, 182, 1, 10, 154, 0, 6, 18, 98, 172, 42]
abbrev dktX0_origin_0 : List UInt8 := dkwX0_origin_0 ++ dktX0_origin_1
theorem dksX0_origin_0 : cX0_origin.data.toList.drop 0 = dktX0_origin_0 := by decide +kernel
theorem dksX0_origin_1 : cX0_origin.data.toList.drop 22 = dktX0_origin_1 := dk_seg dksX0_origin_0 22 rfl rfl
theorem dksX0_origin_2 : cX0_origin.data.toList.drop 46 = dktX0_origin_2 := dk_seg dksX0_origin_1 24 rfl rfl
theorem dksX0_origin_3 : cX0_origin.data.toList.drop 69 = dktX0_origin_3 := dk_seg dksX0_origin_2 23 rfl rfl
theorem dksX0_origin_4 : cX0_origin.data.toList.drop 93 = dktX0_origin_4 := dk_seg dksX0_origin_3 24 rfl rfl
theorem dX0_origin_0 : decode cX0_origin 0 = .ok (.aload_n 0, 1) := dk_42 (dk_at dksX0_origin_0 0 rfl rfl)
theorem dX0_origin_1 : decode cX0_origin 1 = .ok (.invokevirtual 222, 3) := dk_182 0 222 (dk_at dksX0_origin_0 1 rfl rfl)
theorem dX0_origin_4 : decode cX0_origin 4 = .ok (.ifCond .ne 6, 3) := dk_154 0 6 (dk_at dksX0_origin_0 4 rfl rfl)
theorem dX0_origin_7 : decode cX0_origin 7 = .ok (.ldc 172, 2) := dk_18 172 (dk_at dksX0_origin_0 7 rfl rfl)
theorem dX0_origin_9 : decode cX0_origin 9 = .ok (.ireturn, 1) := dk_172 (dk_at dksX0_origin_0 9 rfl rfl)
theorem dX0_origin_10 : decode cX0_origin 10 = .ok (.aload_n 0, 1) := dk_42 (dk_at dksX0_origin_0 10 rfl rfl)
theorem dX0_origin_11 : decode cX0_origin 11 = .ok (.iload_n 1, 1) := dk_27 (dk_at dksX0_origin_0 11 rfl rfl)
theorem dX0_origin_12 : decode cX0_origin 12 = .ok (.invokevirtual 266, 3) := dk_182 1 10 (dk_at dksX0_origin_0 12 rfl rfl)
theorem dX0_origin_15 : decode cX0_origin 15 = .ok (.ifCond .ne 6, 3) := dk_154 0 6 (dk_at dksX0_origin_0 15 rfl rfl)
theorem dX0_origin_18 : decode cX0_origin 18 = .ok (.ldc 98, 2) := dk_18 98 (dk_at dksX0_origin_0 18 rfl rfl)
theorem dX0_origin_20 : decode cX0_origin 20 = .ok (.ireturn, 1) := dk_172 (dk_at dksX0_origin_0 20 rfl rfl)
theorem dX0_origin_21 : decode cX0_origin 21 = .ok (.aload_n 0, 1) := dk_42 (dk_at dksX0_origin_0 21 rfl rfl)
theorem dX0_origin_22 : decode cX0_origin 22 = .ok (.getfield 53, 3) := dk_180 0 53 (dk_at dksX0_origin_1 0 rfl rfl)
theorem dX0_origin_25 : decode cX0_origin 25 = .ok (.iload_n 1, 1) := dk_27 (dk_at dksX0_origin_1 3 rfl rfl)
theorem dX0_origin_26 : decode cX0_origin 26 = .ok (.invokevirtual 243, 3) := dk_182 0 243 (dk_at dksX0_origin_1 4 rfl rfl)
theorem dX0_origin_29 : decode cX0_origin 29 = .ok (.ifCond .ne 6, 3) := dk_154 0 6 (dk_at dksX0_origin_1 7 rfl rfl)
theorem dX0_origin_32 : decode cX0_origin 32 = .ok (.ldc 137, 2) := dk_18 137 (dk_at dksX0_origin_1 10 rfl rfl)
theorem dX0_origin_34 : decode cX0_origin 34 = .ok (.ireturn, 1) := dk_172 (dk_at dksX0_origin_1 12 rfl rfl)
theorem dX0_origin_35 : decode cX0_origin 35 = .ok (.iload_n 2, 1) := dk_28 (dk_at dksX0_origin_1 13 rfl rfl)
theorem dX0_origin_36 : decode cX0_origin 36 = .ok (.i2l, 1) := dk_133 (dk_at dksX0_origin_1 14 rfl rfl)
theorem dX0_origin_37 : decode cX0_origin 37 = .ok (.lconst 0, 1) := dk_9 (dk_at dksX0_origin_1 15 rfl rfl)
theorem dX0_origin_38 : decode cX0_origin 38 = .ok (.aload_n 0, 1) := dk_42 (dk_at dksX0_origin_1 16 rfl rfl)
theorem dX0_origin_39 : decode cX0_origin 39 = .ok (.getfield 53, 3) := dk_180 0 53 (dk_at dksX0_origin_1 17 rfl rfl)
theorem dX0_origin_42 : decode cX0_origin 42 = .ok (.getfield 246, 3) := dk_180 0 246 (dk_at dksX0_origin_1 20 rfl rfl)
theorem dX0_origin_45 : decode cX0_origin 45 = .ok (.iconst 1, 1) := dk_4 (dk_at dksX0_origin_1 23 rfl rfl)
theorem dX0_origin_46 : decode cX0_origin 46 = .ok (.isub, 1) := dk_100 (dk_at dksX0_origin_2 0 rfl rfl)
theorem dX0_origin_47 : decode cX0_origin 47 = .ok (.i2l, 1) := dk_133 (dk_at dksX0_origin_2 1 rfl rfl)
theorem dX0_origin_48 : decode cX0_origin 48 = .ok (.invokestatic 84, 3) := dk_184 0 84 (dk_at dksX0_origin_2 2 rfl rfl)
theorem dX0_origin_51 : decode cX0_origin 51 = .ok (.ifCond .eq 14, 3) := dk_153 0 14 (dk_at dksX0_origin_2 5 rfl rfl)
theorem dX0_origin_54 : decode cX0_origin 54 = .ok (.iload_n 3, 1) := dk_29 (dk_at dksX0_origin_2 8 rfl rfl)
theorem dX0_origin_55 : decode cX0_origin 55 = .ok (.i2l, 1) := dk_133 (dk_at dksX0_origin_2 9 rfl rfl)
theorem dX0_origin_56 : decode cX0_origin 56 = .ok (.lconst 0, 1) := dk_9 (dk_at dksX0_origin_2 10 rfl rfl)
theorem dX0_origin_57 : decode cX0_origin 57 = .ok (.iload_n 1, 1) := dk_27 (dk_at dksX0_origin_2 11 rfl rfl)
theorem dX0_origin_58 : decode cX0_origin 58 = .ok (.i2l, 1) := dk_133 (dk_at dksX0_origin_2 12 rfl rfl)
theorem dX0_origin_59 : decode cX0_origin 59 = .ok (.invokestatic 84, 3) := dk_184 0 84 (dk_at dksX0_origin_2 13 rfl rfl)
theorem dX0_origin_62 : decode cX0_origin 62 = .ok (.ifCond .ne 6, 3) := dk_154 0 6 (dk_at dksX0_origin_2 16 rfl rfl)
theorem dX0_origin_65 : decode cX0_origin 65 = .ok (.ldc 98, 2) := dk_18 98 (dk_at dksX0_origin_2 19 rfl rfl)
theorem dX0_origin_67 : decode cX0_origin 67 = .ok (.ireturn, 1) := dk_172 (dk_at dksX0_origin_2 21 rfl rfl)
theorem dX0_origin_68 : decode cX0_origin 68 = .ok (.iload_n 2, 1) := dk_28 (dk_at dksX0_origin_2 22 rfl rfl)
theorem dX0_origin_69 : decode cX0_origin 69 = .ok (.istore 4, 2) := dk_54 4 (dk_at dksX0_origin_3 0 rfl rfl)
theorem dX0_origin_71 : decode cX0_origin 71 = .ok (.iconst 0, 1) := dk_3 (dk_at dksX0_origin_3 2 rfl rfl)
theorem dX0_origin_72 : decode cX0_origin 72 = .ok (.istore 5, 2) := dk_54 5 (dk_at dksX0_origin_3 3 rfl rfl)
theorem dX0_origin_74 : decode cX0_origin 74 = .ok (.iload 5, 2) := dk_21 5 (dk_at dksX0_origin_3 5 rfl rfl)
theorem dX0_origin_76 : decode cX0_origin 76 = .ok (.iload_n 3, 1) := dk_29 (dk_at dksX0_origin_3 7 rfl rfl)
theorem dX0_origin_77 : decode cX0_origin 77 = .ok (.if_icmp .ge 24, 3) := dk_162 0 24 (dk_at dksX0_origin_3 8 rfl rfl)
theorem dX0_origin_80 : decode cX0_origin 80 = .ok (.aload_n 0, 1) := dk_42 (dk_at dksX0_origin_3 11 rfl rfl)
theorem dX0_origin_81 : decode cX0_origin 81 = .ok (.getfield 53, 3) := dk_180 0 53 (dk_at dksX0_origin_3 12 rfl rfl)
theorem dX0_origin_84 : decode cX0_origin 84 = .ok (.iload_n 1, 1) := dk_27 (dk_at dksX0_origin_3 15 rfl rfl)
theorem dX0_origin_85 : decode cX0_origin 85 = .ok (.iload 5, 2) := dk_21 5 (dk_at dksX0_origin_3 16 rfl rfl)
theorem dX0_origin_87 : decode cX0_origin 87 = .ok (.isub, 1) := dk_100 (dk_at dksX0_origin_3 18 rfl rfl)
theorem dX0_origin_88 : decode cX0_origin 88 = .ok (.iload 4, 2) := dk_21 4 (dk_at dksX0_origin_3 19 rfl rfl)
theorem dX0_origin_90 : decode cX0_origin 90 = .ok (.invokevirtual 269, 3) := dk_182 1 13 (dk_at dksX0_origin_3 21 rfl rfl)
theorem dX0_origin_93 : decode cX0_origin 93 = .ok (.istore 4, 2) := dk_54 4 (dk_at dksX0_origin_4 0 rfl rfl)
theorem dX0_origin_95 : decode cX0_origin 95 = .ok (.iinc 5 1, 3) := dk_132 5 1 (dk_at dksX0_origin_4 2 rfl rfl)
theorem dX0_origin_98 : decode cX0_origin 98 = .ok (.goto (-24), 3) := dk_167 255 232 (dk_at dksX0_origin_4 5 rfl rfl)
theorem dX0_origin_101 : decode cX0_origin 101 = .ok (.iload 4, 2) := dk_21 4 (dk_at dksX0_origin_4 8 rfl rfl)
theorem dX0_origin_103 : decode cX0_origin 103 = .ok (.ireturn, 1) := dk_172 (dk_at dksX0_origin_4 10 rfl rfl)
abbrev cX0_place : ByteArray := prog_1_method_36_code
def yX0_place : MethodName := ⟨RX0, "place", "(III)J"⟩
def dkwX0_place_4 : List UInt8 := [180, 0, 53, 29, 182, 1, 25, 133, 97, 55, 4, 132, 6, 1, 167, 255, 216, 22, 4, 173]
abbrev dktX0_place_4 : List UInt8 := dkwX0_place_4 ++ []
def dkwX0_place_3 : List UInt8 := [28, 162, 0, 40, 22, 4, 42, 180, 0, 53, 42, 180, 0, 53, 180, 0, 249, 21, 6, 46, 182, 0, 210, 42]
abbrev dktX0_place_3 : List UInt8 := dkwX0_place_3 ++ dktX0_place_4
def dkwX0_place_2 : List UInt8 := [173, 28, 42, 180, 0, 53, 180, 0, 246, 161, 0, 7, 20, 1, 23, 173, 9, 55, 4, 3, 54, 6, 21, 6]
abbrev dktX0_place_2 : List UInt8 := dkwX0_place_2 ++ dktX0_place_3
def dkwX0_place_1 : List UInt8 := [184, 0, 197, 154, 0, 7, 20, 1, 19, 173, 42, 180, 0, 53, 27, 182, 0, 243, 154, 0, 7, 20, 1, 21]
abbrev dktX0_place_1 : List UInt8 := dkwX0_place_1 ++ dktX0_place_2
def dkwX0_place_0 : List UInt8 := [42, 182, 0, 222, 154, 0, 7, 20, 1, 17, 173, 42, 27, 182, 1, 10, 153, 0, 14, 28, 155, 0, 10, 29]
abbrev dktX0_place_0 : List UInt8 := dkwX0_place_0 ++ dktX0_place_1
theorem dksX0_place_0 : cX0_place.data.toList.drop 0 = dktX0_place_0 := by decide +kernel
theorem dksX0_place_1 : cX0_place.data.toList.drop 24 = dktX0_place_1 := dk_seg dksX0_place_0 24 rfl rfl
theorem dksX0_place_2 : cX0_place.data.toList.drop 48 = dktX0_place_2 := dk_seg dksX0_place_1 24 rfl rfl
theorem dksX0_place_3 : cX0_place.data.toList.drop 72 = dktX0_place_3 := dk_seg dksX0_place_2 24 rfl rfl
theorem dksX0_place_4 : cX0_place.data.toList.drop 96 = dktX0_place_4 := dk_seg dksX0_place_3 24 rfl rfl
theorem dX0_place_0 : decode cX0_place 0 = .ok (.aload_n 0, 1) := dk_42 (dk_at dksX0_place_0 0 rfl rfl)
theorem dX0_place_1 : decode cX0_place 1 = .ok (.invokevirtual 222, 3) := dk_182 0 222 (dk_at dksX0_place_0 1 rfl rfl)
theorem dX0_place_4 : decode cX0_place 4 = .ok (.ifCond .ne 7, 3) := dk_154 0 7 (dk_at dksX0_place_0 4 rfl rfl)
theorem dX0_place_7 : decode cX0_place 7 = .ok (.ldc2_w 273, 3) := dk_20 1 17 (dk_at dksX0_place_0 7 rfl rfl)
theorem dX0_place_10 : decode cX0_place 10 = .ok (.lreturn, 1) := dk_173 (dk_at dksX0_place_0 10 rfl rfl)
theorem dX0_place_11 : decode cX0_place 11 = .ok (.aload_n 0, 1) := dk_42 (dk_at dksX0_place_0 11 rfl rfl)
theorem dX0_place_12 : decode cX0_place 12 = .ok (.iload_n 1, 1) := dk_27 (dk_at dksX0_place_0 12 rfl rfl)
theorem dX0_place_13 : decode cX0_place 13 = .ok (.invokevirtual 266, 3) := dk_182 1 10 (dk_at dksX0_place_0 13 rfl rfl)
theorem dX0_place_16 : decode cX0_place 16 = .ok (.ifCond .eq 14, 3) := dk_153 0 14 (dk_at dksX0_place_0 16 rfl rfl)
theorem dX0_place_19 : decode cX0_place 19 = .ok (.iload_n 2, 1) := dk_28 (dk_at dksX0_place_0 19 rfl rfl)
theorem dX0_place_20 : decode cX0_place 20 = .ok (.ifCond .lt 10, 3) := dk_155 0 10 (dk_at dksX0_place_0 20 rfl rfl)
theorem dX0_place_23 : decode cX0_place 23 = .ok (.iload_n 3, 1) := dk_29 (dk_at dksX0_place_0 23 rfl rfl)
theorem dX0_place_24 : decode cX0_place 24 = .ok (.invokestatic 197, 3) := dk_184 0 197 (dk_at dksX0_place_1 0 rfl rfl)
theorem dX0_place_27 : decode cX0_place 27 = .ok (.ifCond .ne 7, 3) := dk_154 0 7 (dk_at dksX0_place_1 3 rfl rfl)
theorem dX0_place_30 : decode cX0_place 30 = .ok (.ldc2_w 275, 3) := dk_20 1 19 (dk_at dksX0_place_1 6 rfl rfl)
theorem dX0_place_33 : decode cX0_place 33 = .ok (.lreturn, 1) := dk_173 (dk_at dksX0_place_1 9 rfl rfl)
theorem dX0_place_34 : decode cX0_place 34 = .ok (.aload_n 0, 1) := dk_42 (dk_at dksX0_place_1 10 rfl rfl)
theorem dX0_place_35 : decode cX0_place 35 = .ok (.getfield 53, 3) := dk_180 0 53 (dk_at dksX0_place_1 11 rfl rfl)
theorem dX0_place_38 : decode cX0_place 38 = .ok (.iload_n 1, 1) := dk_27 (dk_at dksX0_place_1 14 rfl rfl)
theorem dX0_place_39 : decode cX0_place 39 = .ok (.invokevirtual 243, 3) := dk_182 0 243 (dk_at dksX0_place_1 15 rfl rfl)
theorem dX0_place_42 : decode cX0_place 42 = .ok (.ifCond .ne 7, 3) := dk_154 0 7 (dk_at dksX0_place_1 18 rfl rfl)
theorem dX0_place_45 : decode cX0_place 45 = .ok (.ldc2_w 277, 3) := dk_20 1 21 (dk_at dksX0_place_1 21 rfl rfl)
theorem dX0_place_48 : decode cX0_place 48 = .ok (.lreturn, 1) := dk_173 (dk_at dksX0_place_2 0 rfl rfl)
theorem dX0_place_49 : decode cX0_place 49 = .ok (.iload_n 2, 1) := dk_28 (dk_at dksX0_place_2 1 rfl rfl)
theorem dX0_place_50 : decode cX0_place 50 = .ok (.aload_n 0, 1) := dk_42 (dk_at dksX0_place_2 2 rfl rfl)
theorem dX0_place_51 : decode cX0_place 51 = .ok (.getfield 53, 3) := dk_180 0 53 (dk_at dksX0_place_2 3 rfl rfl)
theorem dX0_place_54 : decode cX0_place 54 = .ok (.getfield 246, 3) := dk_180 0 246 (dk_at dksX0_place_2 6 rfl rfl)
theorem dX0_place_57 : decode cX0_place 57 = .ok (.if_icmp .lt 7, 3) := dk_161 0 7 (dk_at dksX0_place_2 9 rfl rfl)
theorem dX0_place_60 : decode cX0_place 60 = .ok (.ldc2_w 279, 3) := dk_20 1 23 (dk_at dksX0_place_2 12 rfl rfl)
theorem dX0_place_63 : decode cX0_place 63 = .ok (.lreturn, 1) := dk_173 (dk_at dksX0_place_2 15 rfl rfl)
theorem dX0_place_64 : decode cX0_place 64 = .ok (.lconst 0, 1) := dk_9 (dk_at dksX0_place_2 16 rfl rfl)
theorem dX0_place_65 : decode cX0_place 65 = .ok (.lstore 4, 2) := dk_55 4 (dk_at dksX0_place_2 17 rfl rfl)
theorem dX0_place_67 : decode cX0_place 67 = .ok (.iconst 0, 1) := dk_3 (dk_at dksX0_place_2 19 rfl rfl)
theorem dX0_place_68 : decode cX0_place 68 = .ok (.istore 6, 2) := dk_54 6 (dk_at dksX0_place_2 20 rfl rfl)
theorem dX0_place_70 : decode cX0_place 70 = .ok (.iload 6, 2) := dk_21 6 (dk_at dksX0_place_2 22 rfl rfl)
theorem dX0_place_72 : decode cX0_place 72 = .ok (.iload_n 2, 1) := dk_28 (dk_at dksX0_place_3 0 rfl rfl)
theorem dX0_place_73 : decode cX0_place 73 = .ok (.if_icmp .ge 40, 3) := dk_162 0 40 (dk_at dksX0_place_3 1 rfl rfl)
theorem dX0_place_76 : decode cX0_place 76 = .ok (.lload 4, 2) := dk_22 4 (dk_at dksX0_place_3 4 rfl rfl)
theorem dX0_place_78 : decode cX0_place 78 = .ok (.aload_n 0, 1) := dk_42 (dk_at dksX0_place_3 6 rfl rfl)
theorem dX0_place_79 : decode cX0_place 79 = .ok (.getfield 53, 3) := dk_180 0 53 (dk_at dksX0_place_3 7 rfl rfl)
theorem dX0_place_82 : decode cX0_place 82 = .ok (.aload_n 0, 1) := dk_42 (dk_at dksX0_place_3 10 rfl rfl)
theorem dX0_place_83 : decode cX0_place 83 = .ok (.getfield 53, 3) := dk_180 0 53 (dk_at dksX0_place_3 11 rfl rfl)
theorem dX0_place_86 : decode cX0_place 86 = .ok (.getfield 249, 3) := dk_180 0 249 (dk_at dksX0_place_3 14 rfl rfl)
theorem dX0_place_89 : decode cX0_place 89 = .ok (.iload 6, 2) := dk_21 6 (dk_at dksX0_place_3 17 rfl rfl)
theorem dX0_place_91 : decode cX0_place 91 = .ok (.iaload, 1) := dk_46 (dk_at dksX0_place_3 19 rfl rfl)
theorem dX0_place_92 : decode cX0_place 92 = .ok (.invokevirtual 210, 3) := dk_182 0 210 (dk_at dksX0_place_3 20 rfl rfl)
theorem dX0_place_95 : decode cX0_place 95 = .ok (.aload_n 0, 1) := dk_42 (dk_at dksX0_place_3 23 rfl rfl)
theorem dX0_place_96 : decode cX0_place 96 = .ok (.getfield 53, 3) := dk_180 0 53 (dk_at dksX0_place_4 0 rfl rfl)
theorem dX0_place_99 : decode cX0_place 99 = .ok (.iload_n 3, 1) := dk_29 (dk_at dksX0_place_4 3 rfl rfl)
theorem dX0_place_100 : decode cX0_place 100 = .ok (.invokevirtual 281, 3) := dk_182 1 25 (dk_at dksX0_place_4 4 rfl rfl)
theorem dX0_place_103 : decode cX0_place 103 = .ok (.i2l, 1) := dk_133 (dk_at dksX0_place_4 7 rfl rfl)
theorem dX0_place_104 : decode cX0_place 104 = .ok (.ladd, 1) := dk_97 (dk_at dksX0_place_4 8 rfl rfl)
theorem dX0_place_105 : decode cX0_place 105 = .ok (.lstore 4, 2) := dk_55 4 (dk_at dksX0_place_4 9 rfl rfl)
theorem dX0_place_107 : decode cX0_place 107 = .ok (.iinc 6 1, 3) := dk_132 6 1 (dk_at dksX0_place_4 11 rfl rfl)
theorem dX0_place_110 : decode cX0_place 110 = .ok (.goto (-40), 3) := dk_167 255 216 (dk_at dksX0_place_4 14 rfl rfl)
theorem dX0_place_113 : decode cX0_place 113 = .ok (.lload 4, 2) := dk_22 4 (dk_at dksX0_place_4 17 rfl rfl)
theorem dX0_place_115 : decode cX0_place 115 = .ok (.lreturn, 1) := dk_173 (dk_at dksX0_place_4 19 rfl rfl)
abbrev cX0_numbers : ByteArray := prog_1_method_38_code
def yX0_numbers : MethodName := ⟨RX0, "numbers", "(II)J"⟩
def dkwX0_numbers_1 : List UInt8 := [42, 42, 180, 0, 53, 28, 182, 1, 30, 27, 47, 182, 1, 34, 173, 78, 42, 45, 182, 0, 106, 133, 173]
abbrev dktX0_numbers_1 : List UInt8 := dkwX0_numbers_1 ++ []
def dkwX0_numbers_0 : List UInt8 := [42, 27, 182, 0, 179, 153, 0, 15, 28, 133, 9, 20, 1, 28, 184, 0, 84, 154, 0, 7, 20, 1, 19, 173]
abbrev dktX0_numbers_0 : List UInt8 := dkwX0_numbers_0 ++ dktX0_numbers_1
theorem dksX0_numbers_0 : cX0_numbers.data.toList.drop 0 = dktX0_numbers_0 := by decide +kernel
theorem dksX0_numbers_1 : cX0_numbers.data.toList.drop 24 = dktX0_numbers_1 := dk_seg dksX0_numbers_0 24 rfl rfl
theorem dX0_numbers_0 : decode cX0_numbers 0 = .ok (.aload_n 0, 1) := dk_42 (dk_at dksX0_numbers_0 0 rfl rfl)
theorem dX0_numbers_1 : decode cX0_numbers 1 = .ok (.iload_n 1, 1) := dk_27 (dk_at dksX0_numbers_0 1 rfl rfl)
theorem dX0_numbers_2 : decode cX0_numbers 2 = .ok (.invokevirtual 179, 3) := dk_182 0 179 (dk_at dksX0_numbers_0 2 rfl rfl)
theorem dX0_numbers_5 : decode cX0_numbers 5 = .ok (.ifCond .eq 15, 3) := dk_153 0 15 (dk_at dksX0_numbers_0 5 rfl rfl)
theorem dX0_numbers_8 : decode cX0_numbers 8 = .ok (.iload_n 2, 1) := dk_28 (dk_at dksX0_numbers_0 8 rfl rfl)
theorem dX0_numbers_9 : decode cX0_numbers 9 = .ok (.i2l, 1) := dk_133 (dk_at dksX0_numbers_0 9 rfl rfl)
theorem dX0_numbers_10 : decode cX0_numbers 10 = .ok (.lconst 0, 1) := dk_9 (dk_at dksX0_numbers_0 10 rfl rfl)
theorem dX0_numbers_11 : decode cX0_numbers 11 = .ok (.ldc2_w 284, 3) := dk_20 1 28 (dk_at dksX0_numbers_0 11 rfl rfl)
theorem dX0_numbers_14 : decode cX0_numbers 14 = .ok (.invokestatic 84, 3) := dk_184 0 84 (dk_at dksX0_numbers_0 14 rfl rfl)
theorem dX0_numbers_17 : decode cX0_numbers 17 = .ok (.ifCond .ne 7, 3) := dk_154 0 7 (dk_at dksX0_numbers_0 17 rfl rfl)
theorem dX0_numbers_20 : decode cX0_numbers 20 = .ok (.ldc2_w 275, 3) := dk_20 1 19 (dk_at dksX0_numbers_0 20 rfl rfl)
theorem dX0_numbers_23 : decode cX0_numbers 23 = .ok (.lreturn, 1) := dk_173 (dk_at dksX0_numbers_0 23 rfl rfl)
theorem dX0_numbers_24 : decode cX0_numbers 24 = .ok (.aload_n 0, 1) := dk_42 (dk_at dksX0_numbers_1 0 rfl rfl)
theorem dX0_numbers_25 : decode cX0_numbers 25 = .ok (.aload_n 0, 1) := dk_42 (dk_at dksX0_numbers_1 1 rfl rfl)
theorem dX0_numbers_26 : decode cX0_numbers 26 = .ok (.getfield 53, 3) := dk_180 0 53 (dk_at dksX0_numbers_1 2 rfl rfl)
theorem dX0_numbers_29 : decode cX0_numbers 29 = .ok (.iload_n 2, 1) := dk_28 (dk_at dksX0_numbers_1 5 rfl rfl)
theorem dX0_numbers_30 : decode cX0_numbers 30 = .ok (.invokevirtual 286, 3) := dk_182 1 30 (dk_at dksX0_numbers_1 6 rfl rfl)
theorem dX0_numbers_33 : decode cX0_numbers 33 = .ok (.iload_n 1, 1) := dk_27 (dk_at dksX0_numbers_1 9 rfl rfl)
theorem dX0_numbers_34 : decode cX0_numbers 34 = .ok (.laload, 1) := dk_47 (dk_at dksX0_numbers_1 10 rfl rfl)
theorem dX0_numbers_35 : decode cX0_numbers 35 = .ok (.invokevirtual 290, 3) := dk_182 1 34 (dk_at dksX0_numbers_1 11 rfl rfl)
theorem dX0_numbers_38 : decode cX0_numbers 38 = .ok (.lreturn, 1) := dk_173 (dk_at dksX0_numbers_1 14 rfl rfl)
theorem dX0_numbers_39 : decode cX0_numbers 39 = .ok (.astore_n 3, 1) := dk_78 (dk_at dksX0_numbers_1 15 rfl rfl)
theorem dX0_numbers_40 : decode cX0_numbers 40 = .ok (.aload_n 0, 1) := dk_42 (dk_at dksX0_numbers_1 16 rfl rfl)
theorem dX0_numbers_41 : decode cX0_numbers 41 = .ok (.aload_n 3, 1) := dk_45 (dk_at dksX0_numbers_1 17 rfl rfl)
theorem dX0_numbers_42 : decode cX0_numbers 42 = .ok (.invokevirtual 106, 3) := dk_182 0 106 (dk_at dksX0_numbers_1 18 rfl rfl)
theorem dX0_numbers_45 : decode cX0_numbers 45 = .ok (.i2l, 1) := dk_133 (dk_at dksX0_numbers_1 21 rfl rfl)
theorem dX0_numbers_46 : decode cX0_numbers 46 = .ok (.lreturn, 1) := dk_173 (dk_at dksX0_numbers_1 22 rfl rfl)
abbrev cX0_sum : ByteArray := prog_1_method_3_code
def yX0_sum : MethodName := ⟨RX0, "sum", "([J)J"⟩
def dkwX0_sum_1 : List UInt8 := [167, 0, 14, 78, 187, 0, 9, 89, 16, 6, 183, 0, 13, 191, 31, 173]
abbrev dktX0_sum_1 : List UInt8 := dkwX0_sum_1 ++ []
def dkwX0_sum_0 : List UInt8 := [9, 64, 3, 62, 29, 42, 190, 162, 0, 17, 31, 42, 29, 47, 184, 0, 1, 64, 132, 3, 1, 167, 255, 239]
abbrev dktX0_sum_0 : List UInt8 := dkwX0_sum_0 ++ dktX0_sum_1
theorem dksX0_sum_0 : cX0_sum.data.toList.drop 0 = dktX0_sum_0 := by decide +kernel
theorem dksX0_sum_1 : cX0_sum.data.toList.drop 24 = dktX0_sum_1 := dk_seg dksX0_sum_0 24 rfl rfl
theorem dX0_sum_0 : decode cX0_sum 0 = .ok (.lconst 0, 1) := dk_9 (dk_at dksX0_sum_0 0 rfl rfl)
theorem dX0_sum_1 : decode cX0_sum 1 = .ok (.lstore_n 1, 1) := dk_64 (dk_at dksX0_sum_0 1 rfl rfl)
theorem dX0_sum_2 : decode cX0_sum 2 = .ok (.iconst 0, 1) := dk_3 (dk_at dksX0_sum_0 2 rfl rfl)
theorem dX0_sum_3 : decode cX0_sum 3 = .ok (.istore_n 3, 1) := dk_62 (dk_at dksX0_sum_0 3 rfl rfl)
theorem dX0_sum_4 : decode cX0_sum 4 = .ok (.iload_n 3, 1) := dk_29 (dk_at dksX0_sum_0 4 rfl rfl)
theorem dX0_sum_5 : decode cX0_sum 5 = .ok (.aload_n 0, 1) := dk_42 (dk_at dksX0_sum_0 5 rfl rfl)
theorem dX0_sum_6 : decode cX0_sum 6 = .ok (.arraylength, 1) := dk_190 (dk_at dksX0_sum_0 6 rfl rfl)
theorem dX0_sum_7 : decode cX0_sum 7 = .ok (.if_icmp .ge 17, 3) := dk_162 0 17 (dk_at dksX0_sum_0 7 rfl rfl)
theorem dX0_sum_10 : decode cX0_sum 10 = .ok (.lload_n 1, 1) := dk_31 (dk_at dksX0_sum_0 10 rfl rfl)
theorem dX0_sum_11 : decode cX0_sum 11 = .ok (.aload_n 0, 1) := dk_42 (dk_at dksX0_sum_0 11 rfl rfl)
theorem dX0_sum_12 : decode cX0_sum 12 = .ok (.iload_n 3, 1) := dk_29 (dk_at dksX0_sum_0 12 rfl rfl)
theorem dX0_sum_13 : decode cX0_sum 13 = .ok (.laload, 1) := dk_47 (dk_at dksX0_sum_0 13 rfl rfl)
theorem dX0_sum_14 : decode cX0_sum 14 = .ok (.invokestatic 1, 3) := dk_184 0 1 (dk_at dksX0_sum_0 14 rfl rfl)
theorem dX0_sum_17 : decode cX0_sum 17 = .ok (.lstore_n 1, 1) := dk_64 (dk_at dksX0_sum_0 17 rfl rfl)
theorem dX0_sum_18 : decode cX0_sum 18 = .ok (.iinc 3 1, 3) := dk_132 3 1 (dk_at dksX0_sum_0 18 rfl rfl)
theorem dX0_sum_21 : decode cX0_sum 21 = .ok (.goto (-17), 3) := dk_167 255 239 (dk_at dksX0_sum_0 21 rfl rfl)
theorem dX0_sum_24 : decode cX0_sum 24 = .ok (.goto 14, 3) := dk_167 0 14 (dk_at dksX0_sum_1 0 rfl rfl)
theorem dX0_sum_27 : decode cX0_sum 27 = .ok (.astore_n 3, 1) := dk_78 (dk_at dksX0_sum_1 3 rfl rfl)
theorem dX0_sum_28 : decode cX0_sum 28 = .ok (.new 9, 3) := dk_187 0 9 (dk_at dksX0_sum_1 4 rfl rfl)
theorem dX0_sum_31 : decode cX0_sum 31 = .ok (.dup, 1) := dk_89 (dk_at dksX0_sum_1 7 rfl rfl)
theorem dX0_sum_32 : decode cX0_sum 32 = .ok (.bipush 6, 2) := dk_16 6 (dk_at dksX0_sum_1 8 rfl rfl)
theorem dX0_sum_34 : decode cX0_sum 34 = .ok (.invokespecial 13, 3) := dk_183 0 13 (dk_at dksX0_sum_1 10 rfl rfl)
theorem dX0_sum_37 : decode cX0_sum 37 = .ok (.athrow, 1) := dk_191 (dk_at dksX0_sum_1 13 rfl rfl)
theorem dX0_sum_38 : decode cX0_sum 38 = .ok (.lload_n 1, 1) := dk_31 (dk_at dksX0_sum_1 14 rfl rfl)
theorem dX0_sum_39 : decode cX0_sum 39 = .ok (.lreturn, 1) := dk_173 (dk_at dksX0_sum_1 15 rfl rfl)
abbrev cX0_exact : ByteArray := prog_1_method_37_code
def yX0_exact : MethodName := ⟨RX0, "exact", "(J)J"⟩
def dkwX0_exact_0 : List UInt8 := [42, 3, 181, 0, 78, 31, 173]
abbrev dktX0_exact_0 : List UInt8 := dkwX0_exact_0 ++ []
theorem dksX0_exact_0 : cX0_exact.data.toList.drop 0 = dktX0_exact_0 := by decide +kernel
theorem dX0_exact_0 : decode cX0_exact 0 = .ok (.aload_n 0, 1) := dk_42 (dk_at dksX0_exact_0 0 rfl rfl)
theorem dX0_exact_1 : decode cX0_exact 1 = .ok (.iconst 0, 1) := dk_3 (dk_at dksX0_exact_0 1 rfl rfl)
theorem dX0_exact_2 : decode cX0_exact 2 = .ok (.putfield 78, 3) := dk_181 0 78 (dk_at dksX0_exact_0 2 rfl rfl)
theorem dX0_exact_5 : decode cX0_exact 5 = .ok (.lload_n 1, 1) := dk_31 (dk_at dksX0_exact_0 5 rfl rfl)
theorem dX0_exact_6 : decode cX0_exact 6 = .ok (.lreturn, 1) := dk_173 (dk_at dksX0_exact_0 6 rfl rfl)
abbrev cX0_share : ByteArray := prog_1_method_40_code
def yX0_share : MethodName := ⟨RX0, "share", "(III)J"⟩
def dkwX0_share_3 : List UInt8 := [182, 1, 34, 173, 58, 4, 42, 25, 4, 182, 0, 106, 133, 173]
abbrev dktX0_share_3 : List UInt8 := dkwX0_share_3 ++ []
def dkwX0_share_2 : List UInt8 := [42, 29, 154, 0, 10, 25, 4, 27, 47, 167, 0, 5, 22, 5, 25, 4, 27, 47, 22, 5, 184, 1, 42, 109]
abbrev dktX0_share_2 : List UInt8 := dkwX0_share_2 ++ dktX0_share_3
def dkwX0_share_1 : List UInt8 := [154, 0, 7, 20, 1, 19, 173, 42, 180, 0, 53, 28, 182, 1, 30, 58, 4, 25, 4, 184, 1, 38, 55, 5]
abbrev dktX0_share_1 : List UInt8 := dkwX0_share_1 ++ dktX0_share_2
def dkwX0_share_0 : List UInt8 := [42, 27, 182, 0, 179, 153, 0, 22, 28, 133, 9, 20, 1, 28, 184, 0, 84, 153, 0, 10, 29, 184, 0, 197]
abbrev dktX0_share_0 : List UInt8 := dkwX0_share_0 ++ dktX0_share_1
theorem dksX0_share_0 : cX0_share.data.toList.drop 0 = dktX0_share_0 := by decide +kernel
theorem dksX0_share_1 : cX0_share.data.toList.drop 24 = dktX0_share_1 := dk_seg dksX0_share_0 24 rfl rfl
theorem dksX0_share_2 : cX0_share.data.toList.drop 48 = dktX0_share_2 := dk_seg dksX0_share_1 24 rfl rfl
theorem dksX0_share_3 : cX0_share.data.toList.drop 72 = dktX0_share_3 := dk_seg dksX0_share_2 24 rfl rfl
theorem dX0_share_0 : decode cX0_share 0 = .ok (.aload_n 0, 1) := dk_42 (dk_at dksX0_share_0 0 rfl rfl)
theorem dX0_share_1 : decode cX0_share 1 = .ok (.iload_n 1, 1) := dk_27 (dk_at dksX0_share_0 1 rfl rfl)
theorem dX0_share_2 : decode cX0_share 2 = .ok (.invokevirtual 179, 3) := dk_182 0 179 (dk_at dksX0_share_0 2 rfl rfl)
theorem dX0_share_5 : decode cX0_share 5 = .ok (.ifCond .eq 22, 3) := dk_153 0 22 (dk_at dksX0_share_0 5 rfl rfl)
theorem dX0_share_8 : decode cX0_share 8 = .ok (.iload_n 2, 1) := dk_28 (dk_at dksX0_share_0 8 rfl rfl)
theorem dX0_share_9 : decode cX0_share 9 = .ok (.i2l, 1) := dk_133 (dk_at dksX0_share_0 9 rfl rfl)
theorem dX0_share_10 : decode cX0_share 10 = .ok (.lconst 0, 1) := dk_9 (dk_at dksX0_share_0 10 rfl rfl)
theorem dX0_share_11 : decode cX0_share 11 = .ok (.ldc2_w 284, 3) := dk_20 1 28 (dk_at dksX0_share_0 11 rfl rfl)
theorem dX0_share_14 : decode cX0_share 14 = .ok (.invokestatic 84, 3) := dk_184 0 84 (dk_at dksX0_share_0 14 rfl rfl)
theorem dX0_share_17 : decode cX0_share 17 = .ok (.ifCond .eq 10, 3) := dk_153 0 10 (dk_at dksX0_share_0 17 rfl rfl)
theorem dX0_share_20 : decode cX0_share 20 = .ok (.iload_n 3, 1) := dk_29 (dk_at dksX0_share_0 20 rfl rfl)
theorem dX0_share_21 : decode cX0_share 21 = .ok (.invokestatic 197, 3) := dk_184 0 197 (dk_at dksX0_share_0 21 rfl rfl)
theorem dX0_share_24 : decode cX0_share 24 = .ok (.ifCond .ne 7, 3) := dk_154 0 7 (dk_at dksX0_share_1 0 rfl rfl)
theorem dX0_share_27 : decode cX0_share 27 = .ok (.ldc2_w 275, 3) := dk_20 1 19 (dk_at dksX0_share_1 3 rfl rfl)
theorem dX0_share_30 : decode cX0_share 30 = .ok (.lreturn, 1) := dk_173 (dk_at dksX0_share_1 6 rfl rfl)
theorem dX0_share_31 : decode cX0_share 31 = .ok (.aload_n 0, 1) := dk_42 (dk_at dksX0_share_1 7 rfl rfl)
theorem dX0_share_32 : decode cX0_share 32 = .ok (.getfield 53, 3) := dk_180 0 53 (dk_at dksX0_share_1 8 rfl rfl)
theorem dX0_share_35 : decode cX0_share 35 = .ok (.iload_n 2, 1) := dk_28 (dk_at dksX0_share_1 11 rfl rfl)
theorem dX0_share_36 : decode cX0_share 36 = .ok (.invokevirtual 286, 3) := dk_182 1 30 (dk_at dksX0_share_1 12 rfl rfl)
theorem dX0_share_39 : decode cX0_share 39 = .ok (.astore 4, 2) := dk_58 4 (dk_at dksX0_share_1 15 rfl rfl)
theorem dX0_share_41 : decode cX0_share 41 = .ok (.aload 4, 2) := dk_25 4 (dk_at dksX0_share_1 17 rfl rfl)
theorem dX0_share_43 : decode cX0_share 43 = .ok (.invokestatic 294, 3) := dk_184 1 38 (dk_at dksX0_share_1 19 rfl rfl)
theorem dX0_share_46 : decode cX0_share 46 = .ok (.lstore 5, 2) := dk_55 5 (dk_at dksX0_share_1 22 rfl rfl)
theorem dX0_share_48 : decode cX0_share 48 = .ok (.aload_n 0, 1) := dk_42 (dk_at dksX0_share_2 0 rfl rfl)
theorem dX0_share_49 : decode cX0_share 49 = .ok (.iload_n 3, 1) := dk_29 (dk_at dksX0_share_2 1 rfl rfl)
theorem dX0_share_50 : decode cX0_share 50 = .ok (.ifCond .ne 10, 3) := dk_154 0 10 (dk_at dksX0_share_2 2 rfl rfl)
theorem dX0_share_53 : decode cX0_share 53 = .ok (.aload 4, 2) := dk_25 4 (dk_at dksX0_share_2 5 rfl rfl)
theorem dX0_share_55 : decode cX0_share 55 = .ok (.iload_n 1, 1) := dk_27 (dk_at dksX0_share_2 7 rfl rfl)
theorem dX0_share_56 : decode cX0_share 56 = .ok (.laload, 1) := dk_47 (dk_at dksX0_share_2 8 rfl rfl)
theorem dX0_share_57 : decode cX0_share 57 = .ok (.goto 5, 3) := dk_167 0 5 (dk_at dksX0_share_2 9 rfl rfl)
theorem dX0_share_60 : decode cX0_share 60 = .ok (.lload 5, 2) := dk_22 5 (dk_at dksX0_share_2 12 rfl rfl)
theorem dX0_share_62 : decode cX0_share 62 = .ok (.aload 4, 2) := dk_25 4 (dk_at dksX0_share_2 14 rfl rfl)
theorem dX0_share_64 : decode cX0_share 64 = .ok (.iload_n 1, 1) := dk_27 (dk_at dksX0_share_2 16 rfl rfl)
theorem dX0_share_65 : decode cX0_share 65 = .ok (.laload, 1) := dk_47 (dk_at dksX0_share_2 17 rfl rfl)
theorem dX0_share_66 : decode cX0_share 66 = .ok (.lload 5, 2) := dk_22 5 (dk_at dksX0_share_2 18 rfl rfl)
theorem dX0_share_68 : decode cX0_share 68 = .ok (.invokestatic 298, 3) := dk_184 1 42 (dk_at dksX0_share_2 20 rfl rfl)
theorem dX0_share_71 : decode cX0_share 71 = .ok (.ldiv, 1) := dk_109 (dk_at dksX0_share_2 23 rfl rfl)
theorem dX0_share_72 : decode cX0_share 72 = .ok (.invokevirtual 290, 3) := dk_182 1 34 (dk_at dksX0_share_3 0 rfl rfl)
theorem dX0_share_75 : decode cX0_share 75 = .ok (.lreturn, 1) := dk_173 (dk_at dksX0_share_3 3 rfl rfl)
theorem dX0_share_76 : decode cX0_share 76 = .ok (.astore 4, 2) := dk_58 4 (dk_at dksX0_share_3 4 rfl rfl)
theorem dX0_share_78 : decode cX0_share 78 = .ok (.aload_n 0, 1) := dk_42 (dk_at dksX0_share_3 6 rfl rfl)
theorem dX0_share_79 : decode cX0_share 79 = .ok (.aload 4, 2) := dk_25 4 (dk_at dksX0_share_3 7 rfl rfl)
theorem dX0_share_81 : decode cX0_share 81 = .ok (.invokevirtual 106, 3) := dk_182 0 106 (dk_at dksX0_share_3 9 rfl rfl)
theorem dX0_share_84 : decode cX0_share 84 = .ok (.i2l, 1) := dk_133 (dk_at dksX0_share_3 12 rfl rfl)
theorem dX0_share_85 : decode cX0_share 85 = .ok (.lreturn, 1) := dk_173 (dk_at dksX0_share_3 13 rfl rfl)
abbrev cX0_common : ByteArray := prog_1_method_39_code
def yX0_common : MethodName := ⟨RX0, "common", "(JJ)J"⟩
def dkwX0_common_1 : List UInt8 := [22, 8, 55, 6, 167, 255, 234, 22, 4, 173]
abbrev dktX0_common_1 : List UInt8 := dkwX0_common_1 ++ []
def dkwX0_common_0 : List UInt8 := [30, 55, 4, 32, 55, 6, 22, 6, 9, 148, 153, 0, 21, 22, 4, 22, 6, 113, 55, 8, 22, 6, 55, 4]
abbrev dktX0_common_0 : List UInt8 := dkwX0_common_0 ++ dktX0_common_1
theorem dksX0_common_0 : cX0_common.data.toList.drop 0 = dktX0_common_0 := by decide +kernel
theorem dksX0_common_1 : cX0_common.data.toList.drop 24 = dktX0_common_1 := dk_seg dksX0_common_0 24 rfl rfl
theorem dX0_common_0 : decode cX0_common 0 = .ok (.lload_n 0, 1) := dk_30 (dk_at dksX0_common_0 0 rfl rfl)
theorem dX0_common_1 : decode cX0_common 1 = .ok (.lstore 4, 2) := dk_55 4 (dk_at dksX0_common_0 1 rfl rfl)
theorem dX0_common_3 : decode cX0_common 3 = .ok (.lload_n 2, 1) := dk_32 (dk_at dksX0_common_0 3 rfl rfl)
theorem dX0_common_4 : decode cX0_common 4 = .ok (.lstore 6, 2) := dk_55 6 (dk_at dksX0_common_0 4 rfl rfl)
theorem dX0_common_6 : decode cX0_common 6 = .ok (.lload 6, 2) := dk_22 6 (dk_at dksX0_common_0 6 rfl rfl)
theorem dX0_common_8 : decode cX0_common 8 = .ok (.lconst 0, 1) := dk_9 (dk_at dksX0_common_0 8 rfl rfl)
theorem dX0_common_9 : decode cX0_common 9 = .ok (.lcmp, 1) := dk_148 (dk_at dksX0_common_0 9 rfl rfl)
theorem dX0_common_10 : decode cX0_common 10 = .ok (.ifCond .eq 21, 3) := dk_153 0 21 (dk_at dksX0_common_0 10 rfl rfl)
theorem dX0_common_13 : decode cX0_common 13 = .ok (.lload 4, 2) := dk_22 4 (dk_at dksX0_common_0 13 rfl rfl)
theorem dX0_common_15 : decode cX0_common 15 = .ok (.lload 6, 2) := dk_22 6 (dk_at dksX0_common_0 15 rfl rfl)
theorem dX0_common_17 : decode cX0_common 17 = .ok (.lrem, 1) := dk_113 (dk_at dksX0_common_0 17 rfl rfl)
theorem dX0_common_18 : decode cX0_common 18 = .ok (.lstore 8, 2) := dk_55 8 (dk_at dksX0_common_0 18 rfl rfl)
theorem dX0_common_20 : decode cX0_common 20 = .ok (.lload 6, 2) := dk_22 6 (dk_at dksX0_common_0 20 rfl rfl)
theorem dX0_common_22 : decode cX0_common 22 = .ok (.lstore 4, 2) := dk_55 4 (dk_at dksX0_common_0 22 rfl rfl)
theorem dX0_common_24 : decode cX0_common 24 = .ok (.lload 8, 2) := dk_22 8 (dk_at dksX0_common_1 0 rfl rfl)
theorem dX0_common_26 : decode cX0_common 26 = .ok (.lstore 6, 2) := dk_55 6 (dk_at dksX0_common_1 2 rfl rfl)
theorem dX0_common_28 : decode cX0_common 28 = .ok (.goto (-22), 3) := dk_167 255 234 (dk_at dksX0_common_1 4 rfl rfl)
theorem dX0_common_31 : decode cX0_common 31 = .ok (.lload 4, 2) := dk_22 4 (dk_at dksX0_common_1 7 rfl rfl)
theorem dX0_common_33 : decode cX0_common 33 = .ok (.lreturn, 1) := dk_173 (dk_at dksX0_common_1 9 rfl rfl)
abbrev cX0_all : ByteArray := prog_1_method_41_code
def yX0_all : MethodName := ⟨RX0, "all", "(II)J"⟩
def dkwX0_all_5 : List UInt8 := [45, 182, 0, 106, 133, 173]
abbrev dktX0_all_5 : List UInt8 := dkwX0_all_5 ++ []
def dkwX0_all_4 : List UInt8 := [184, 1, 45, 80, 184, 1, 38, 55, 4, 132, 6, 1, 167, 255, 200, 42, 22, 4, 182, 1, 34, 173, 78, 42]
abbrev dktX0_all_4 : List UInt8 := dkwX0_all_4 ++ dktX0_all_5
def dkwX0_all_3 : List UInt8 := [45, 21, 6, 47, 42, 180, 0, 53, 21, 6, 182, 0, 210, 42, 180, 0, 53, 28, 182, 1, 25, 133]
abbrev dktX0_all_3 : List UInt8 := dkwX0_all_3 ++ dktX0_all_4
def dkwX0_all_2 : List UInt8 := [54, 6, 21, 6, 42, 180, 0, 53, 182, 0, 168, 162, 0, 50, 5, 188, 11, 89, 3, 22, 4, 80, 89, 4]
abbrev dktX0_all_2 : List UInt8 := dkwX0_all_2 ++ dktX0_all_3
def dkwX0_all_1 : List UInt8 := [184, 0, 197, 154, 0, 7, 20, 1, 19, 173, 42, 180, 0, 53, 27, 182, 1, 30, 78, 9, 55, 4, 3]
abbrev dktX0_all_1 : List UInt8 := dkwX0_all_1 ++ dktX0_all_2
def dkwX0_all_0 : List UInt8 := [42, 182, 0, 222, 154, 0, 7, 20, 1, 17, 173, 27, 133, 9, 20, 1, 28, 184, 0, 84, 153, 0, 10, 28]
abbrev dktX0_all_0 : List UInt8 := dkwX0_all_0 ++ dktX0_all_1
theorem dksX0_all_0 : cX0_all.data.toList.drop 0 = dktX0_all_0 := by decide +kernel
theorem dksX0_all_1 : cX0_all.data.toList.drop 24 = dktX0_all_1 := dk_seg dksX0_all_0 24 rfl rfl
theorem dksX0_all_2 : cX0_all.data.toList.drop 47 = dktX0_all_2 := dk_seg dksX0_all_1 23 rfl rfl
theorem dksX0_all_3 : cX0_all.data.toList.drop 71 = dktX0_all_3 := dk_seg dksX0_all_2 24 rfl rfl
theorem dksX0_all_4 : cX0_all.data.toList.drop 93 = dktX0_all_4 := dk_seg dksX0_all_3 22 rfl rfl
theorem dksX0_all_5 : cX0_all.data.toList.drop 117 = dktX0_all_5 := dk_seg dksX0_all_4 24 rfl rfl
theorem dX0_all_0 : decode cX0_all 0 = .ok (.aload_n 0, 1) := dk_42 (dk_at dksX0_all_0 0 rfl rfl)
theorem dX0_all_1 : decode cX0_all 1 = .ok (.invokevirtual 222, 3) := dk_182 0 222 (dk_at dksX0_all_0 1 rfl rfl)
theorem dX0_all_4 : decode cX0_all 4 = .ok (.ifCond .ne 7, 3) := dk_154 0 7 (dk_at dksX0_all_0 4 rfl rfl)
theorem dX0_all_7 : decode cX0_all 7 = .ok (.ldc2_w 273, 3) := dk_20 1 17 (dk_at dksX0_all_0 7 rfl rfl)
theorem dX0_all_10 : decode cX0_all 10 = .ok (.lreturn, 1) := dk_173 (dk_at dksX0_all_0 10 rfl rfl)
theorem dX0_all_11 : decode cX0_all 11 = .ok (.iload_n 1, 1) := dk_27 (dk_at dksX0_all_0 11 rfl rfl)
theorem dX0_all_12 : decode cX0_all 12 = .ok (.i2l, 1) := dk_133 (dk_at dksX0_all_0 12 rfl rfl)
theorem dX0_all_13 : decode cX0_all 13 = .ok (.lconst 0, 1) := dk_9 (dk_at dksX0_all_0 13 rfl rfl)
theorem dX0_all_14 : decode cX0_all 14 = .ok (.ldc2_w 284, 3) := dk_20 1 28 (dk_at dksX0_all_0 14 rfl rfl)
theorem dX0_all_17 : decode cX0_all 17 = .ok (.invokestatic 84, 3) := dk_184 0 84 (dk_at dksX0_all_0 17 rfl rfl)
theorem dX0_all_20 : decode cX0_all 20 = .ok (.ifCond .eq 10, 3) := dk_153 0 10 (dk_at dksX0_all_0 20 rfl rfl)
theorem dX0_all_23 : decode cX0_all 23 = .ok (.iload_n 2, 1) := dk_28 (dk_at dksX0_all_0 23 rfl rfl)
theorem dX0_all_24 : decode cX0_all 24 = .ok (.invokestatic 197, 3) := dk_184 0 197 (dk_at dksX0_all_1 0 rfl rfl)
theorem dX0_all_27 : decode cX0_all 27 = .ok (.ifCond .ne 7, 3) := dk_154 0 7 (dk_at dksX0_all_1 3 rfl rfl)
theorem dX0_all_30 : decode cX0_all 30 = .ok (.ldc2_w 275, 3) := dk_20 1 19 (dk_at dksX0_all_1 6 rfl rfl)
theorem dX0_all_33 : decode cX0_all 33 = .ok (.lreturn, 1) := dk_173 (dk_at dksX0_all_1 9 rfl rfl)
theorem dX0_all_34 : decode cX0_all 34 = .ok (.aload_n 0, 1) := dk_42 (dk_at dksX0_all_1 10 rfl rfl)
theorem dX0_all_35 : decode cX0_all 35 = .ok (.getfield 53, 3) := dk_180 0 53 (dk_at dksX0_all_1 11 rfl rfl)
theorem dX0_all_38 : decode cX0_all 38 = .ok (.iload_n 1, 1) := dk_27 (dk_at dksX0_all_1 14 rfl rfl)
theorem dX0_all_39 : decode cX0_all 39 = .ok (.invokevirtual 286, 3) := dk_182 1 30 (dk_at dksX0_all_1 15 rfl rfl)
theorem dX0_all_42 : decode cX0_all 42 = .ok (.astore_n 3, 1) := dk_78 (dk_at dksX0_all_1 18 rfl rfl)
theorem dX0_all_43 : decode cX0_all 43 = .ok (.lconst 0, 1) := dk_9 (dk_at dksX0_all_1 19 rfl rfl)
theorem dX0_all_44 : decode cX0_all 44 = .ok (.lstore 4, 2) := dk_55 4 (dk_at dksX0_all_1 20 rfl rfl)
theorem dX0_all_46 : decode cX0_all 46 = .ok (.iconst 0, 1) := dk_3 (dk_at dksX0_all_1 22 rfl rfl)
theorem dX0_all_47 : decode cX0_all 47 = .ok (.istore 6, 2) := dk_54 6 (dk_at dksX0_all_2 0 rfl rfl)
theorem dX0_all_49 : decode cX0_all 49 = .ok (.iload 6, 2) := dk_21 6 (dk_at dksX0_all_2 2 rfl rfl)
theorem dX0_all_51 : decode cX0_all 51 = .ok (.aload_n 0, 1) := dk_42 (dk_at dksX0_all_2 4 rfl rfl)
theorem dX0_all_52 : decode cX0_all 52 = .ok (.getfield 53, 3) := dk_180 0 53 (dk_at dksX0_all_2 5 rfl rfl)
theorem dX0_all_55 : decode cX0_all 55 = .ok (.invokevirtual 168, 3) := dk_182 0 168 (dk_at dksX0_all_2 8 rfl rfl)
theorem dX0_all_58 : decode cX0_all 58 = .ok (.if_icmp .ge 50, 3) := dk_162 0 50 (dk_at dksX0_all_2 11 rfl rfl)
theorem dX0_all_61 : decode cX0_all 61 = .ok (.iconst 2, 1) := dk_5 (dk_at dksX0_all_2 14 rfl rfl)
theorem dX0_all_62 : decode cX0_all 62 = .ok (.newarray .long, 2) := dk_188_11 (dk_at dksX0_all_2 15 rfl rfl)
theorem dX0_all_64 : decode cX0_all 64 = .ok (.dup, 1) := dk_89 (dk_at dksX0_all_2 17 rfl rfl)
theorem dX0_all_65 : decode cX0_all 65 = .ok (.iconst 0, 1) := dk_3 (dk_at dksX0_all_2 18 rfl rfl)
theorem dX0_all_66 : decode cX0_all 66 = .ok (.lload 4, 2) := dk_22 4 (dk_at dksX0_all_2 19 rfl rfl)
theorem dX0_all_68 : decode cX0_all 68 = .ok (.lastore, 1) := dk_80 (dk_at dksX0_all_2 21 rfl rfl)
theorem dX0_all_69 : decode cX0_all 69 = .ok (.dup, 1) := dk_89 (dk_at dksX0_all_2 22 rfl rfl)
theorem dX0_all_70 : decode cX0_all 70 = .ok (.iconst 1, 1) := dk_4 (dk_at dksX0_all_2 23 rfl rfl)
theorem dX0_all_71 : decode cX0_all 71 = .ok (.aload_n 3, 1) := dk_45 (dk_at dksX0_all_3 0 rfl rfl)
theorem dX0_all_72 : decode cX0_all 72 = .ok (.iload 6, 2) := dk_21 6 (dk_at dksX0_all_3 1 rfl rfl)
theorem dX0_all_74 : decode cX0_all 74 = .ok (.laload, 1) := dk_47 (dk_at dksX0_all_3 3 rfl rfl)
theorem dX0_all_75 : decode cX0_all 75 = .ok (.aload_n 0, 1) := dk_42 (dk_at dksX0_all_3 4 rfl rfl)
theorem dX0_all_76 : decode cX0_all 76 = .ok (.getfield 53, 3) := dk_180 0 53 (dk_at dksX0_all_3 5 rfl rfl)
theorem dX0_all_79 : decode cX0_all 79 = .ok (.iload 6, 2) := dk_21 6 (dk_at dksX0_all_3 8 rfl rfl)
theorem dX0_all_81 : decode cX0_all 81 = .ok (.invokevirtual 210, 3) := dk_182 0 210 (dk_at dksX0_all_3 10 rfl rfl)
theorem dX0_all_84 : decode cX0_all 84 = .ok (.aload_n 0, 1) := dk_42 (dk_at dksX0_all_3 13 rfl rfl)
theorem dX0_all_85 : decode cX0_all 85 = .ok (.getfield 53, 3) := dk_180 0 53 (dk_at dksX0_all_3 14 rfl rfl)
theorem dX0_all_88 : decode cX0_all 88 = .ok (.iload_n 2, 1) := dk_28 (dk_at dksX0_all_3 17 rfl rfl)
theorem dX0_all_89 : decode cX0_all 89 = .ok (.invokevirtual 281, 3) := dk_182 1 25 (dk_at dksX0_all_3 18 rfl rfl)
theorem dX0_all_92 : decode cX0_all 92 = .ok (.i2l, 1) := dk_133 (dk_at dksX0_all_3 21 rfl rfl)
theorem dX0_all_93 : decode cX0_all 93 = .ok (.invokestatic 301, 3) := dk_184 1 45 (dk_at dksX0_all_4 0 rfl rfl)
theorem dX0_all_96 : decode cX0_all 96 = .ok (.lastore, 1) := dk_80 (dk_at dksX0_all_4 3 rfl rfl)
theorem dX0_all_97 : decode cX0_all 97 = .ok (.invokestatic 294, 3) := dk_184 1 38 (dk_at dksX0_all_4 4 rfl rfl)
theorem dX0_all_100 : decode cX0_all 100 = .ok (.lstore 4, 2) := dk_55 4 (dk_at dksX0_all_4 7 rfl rfl)
theorem dX0_all_102 : decode cX0_all 102 = .ok (.iinc 6 1, 3) := dk_132 6 1 (dk_at dksX0_all_4 9 rfl rfl)
theorem dX0_all_105 : decode cX0_all 105 = .ok (.goto (-56), 3) := dk_167 255 200 (dk_at dksX0_all_4 12 rfl rfl)
theorem dX0_all_108 : decode cX0_all 108 = .ok (.aload_n 0, 1) := dk_42 (dk_at dksX0_all_4 15 rfl rfl)
theorem dX0_all_109 : decode cX0_all 109 = .ok (.lload 4, 2) := dk_22 4 (dk_at dksX0_all_4 16 rfl rfl)
theorem dX0_all_111 : decode cX0_all 111 = .ok (.invokevirtual 290, 3) := dk_182 1 34 (dk_at dksX0_all_4 18 rfl rfl)
theorem dX0_all_114 : decode cX0_all 114 = .ok (.lreturn, 1) := dk_173 (dk_at dksX0_all_4 21 rfl rfl)
theorem dX0_all_115 : decode cX0_all 115 = .ok (.astore_n 3, 1) := dk_78 (dk_at dksX0_all_4 22 rfl rfl)
theorem dX0_all_116 : decode cX0_all 116 = .ok (.aload_n 0, 1) := dk_42 (dk_at dksX0_all_4 23 rfl rfl)
theorem dX0_all_117 : decode cX0_all 117 = .ok (.aload_n 3, 1) := dk_45 (dk_at dksX0_all_5 0 rfl rfl)
theorem dX0_all_118 : decode cX0_all 118 = .ok (.invokevirtual 106, 3) := dk_182 0 106 (dk_at dksX0_all_5 1 rfl rfl)
theorem dX0_all_121 : decode cX0_all 121 = .ok (.i2l, 1) := dk_133 (dk_at dksX0_all_5 4 rfl rfl)
theorem dX0_all_122 : decode cX0_all 122 = .ok (.lreturn, 1) := dk_173 (dk_at dksX0_all_5 5 rfl rfl)
abbrev cX0_times : ByteArray := prog_1_method_4_code
def yX0_times : MethodName := ⟨RX0, "times", "(JJ)J"⟩
def dkwX0_times_0 : List UInt8 := [30, 32, 184, 0, 17, 173, 58, 4, 187, 0, 9, 89, 16, 6, 183, 0, 13, 191]
abbrev dktX0_times_0 : List UInt8 := dkwX0_times_0 ++ []
theorem dksX0_times_0 : cX0_times.data.toList.drop 0 = dktX0_times_0 := by decide +kernel
theorem dX0_times_0 : decode cX0_times 0 = .ok (.lload_n 0, 1) := dk_30 (dk_at dksX0_times_0 0 rfl rfl)
theorem dX0_times_1 : decode cX0_times 1 = .ok (.lload_n 2, 1) := dk_32 (dk_at dksX0_times_0 1 rfl rfl)
theorem dX0_times_2 : decode cX0_times 2 = .ok (.invokestatic 17, 3) := dk_184 0 17 (dk_at dksX0_times_0 2 rfl rfl)
theorem dX0_times_5 : decode cX0_times 5 = .ok (.lreturn, 1) := dk_173 (dk_at dksX0_times_0 5 rfl rfl)
theorem dX0_times_6 : decode cX0_times 6 = .ok (.astore 4, 2) := dk_58 4 (dk_at dksX0_times_0 6 rfl rfl)
theorem dX0_times_8 : decode cX0_times 8 = .ok (.new 9, 3) := dk_187 0 9 (dk_at dksX0_times_0 8 rfl rfl)
theorem dX0_times_11 : decode cX0_times 11 = .ok (.dup, 1) := dk_89 (dk_at dksX0_times_0 11 rfl rfl)
theorem dX0_times_12 : decode cX0_times 12 = .ok (.bipush 6, 2) := dk_16 6 (dk_at dksX0_times_0 12 rfl rfl)
theorem dX0_times_14 : decode cX0_times 14 = .ok (.invokespecial 13, 3) := dk_183 0 13 (dk_at dksX0_times_0 14 rfl rfl)
theorem dX0_times_17 : decode cX0_times 17 = .ok (.athrow, 1) := dk_191 (dk_at dksX0_times_0 17 rfl rfl)
abbrev cX0_whole : ByteArray := prog_1_method_43_code
def yX0_whole : MethodName := ⟨RX0, "whole", "(I)I"⟩
def dkwX0_whole_4 : List UInt8 := [182, 1, 63, 172, 18, 98, 172]
abbrev dktX0_whole_4 : List UInt8 := dkwX0_whole_4 ++ []
def dkwX0_whole_3 : List UInt8 := [42, 180, 0, 53, 182, 1, 55, 172, 42, 180, 0, 53, 182, 1, 55, 184, 1, 58, 172, 42, 27, 8, 100]
abbrev dktX0_whole_3 : List UInt8 := dkwX0_whole_3 ++ dktX0_whole_4
def dkwX0_whole_2 : List UInt8 := [42, 180, 0, 53, 180, 0, 228, 172, 42, 180, 0, 53, 180, 0, 231, 172, 42, 180, 0, 53, 180, 0, 236, 172]
abbrev dktX0_whole_2 : List UInt8 := dkwX0_whole_2 ++ dktX0_whole_3
def dkwX0_whole_1 : List UInt8 := [170, 0, 0, 0, 92, 0, 0, 0, 0, 0, 0, 0, 6, 0, 0, 0, 41, 0, 0, 0, 49, 0, 0, 0, 57, 0, 0, 0, 65, 0, 0, 0, 73, 0, 0, 0, 84, 0, 0, 0, 84]
abbrev dktX0_whole_1 : List UInt8 := dkwX0_whole_1 ++ dktX0_whole_2
def dkwX0_whole_0 : List UInt8 := [42, 182, 0, 222, 154, 0, 6, 18, 172, 172, 27]
abbrev dktX0_whole_0 : List UInt8 := dkwX0_whole_0 ++ dktX0_whole_1
theorem dksX0_whole_0 : cX0_whole.data.toList.drop 0 = dktX0_whole_0 := by decide +kernel
theorem dksX0_whole_1 : cX0_whole.data.toList.drop 11 = dktX0_whole_1 := dk_seg dksX0_whole_0 11 rfl rfl
theorem dksX0_whole_2 : cX0_whole.data.toList.drop 52 = dktX0_whole_2 := dk_seg dksX0_whole_1 41 rfl rfl
theorem dksX0_whole_3 : cX0_whole.data.toList.drop 76 = dktX0_whole_3 := dk_seg dksX0_whole_2 24 rfl rfl
theorem dksX0_whole_4 : cX0_whole.data.toList.drop 99 = dktX0_whole_4 := dk_seg dksX0_whole_3 23 rfl rfl
theorem dX0_whole_0 : decode cX0_whole 0 = .ok (.aload_n 0, 1) := dk_42 (dk_at dksX0_whole_0 0 rfl rfl)
theorem dX0_whole_1 : decode cX0_whole 1 = .ok (.invokevirtual 222, 3) := dk_182 0 222 (dk_at dksX0_whole_0 1 rfl rfl)
theorem dX0_whole_4 : decode cX0_whole 4 = .ok (.ifCond .ne 6, 3) := dk_154 0 6 (dk_at dksX0_whole_0 4 rfl rfl)
theorem dX0_whole_7 : decode cX0_whole 7 = .ok (.ldc 172, 2) := dk_18 172 (dk_at dksX0_whole_0 7 rfl rfl)
theorem dX0_whole_9 : decode cX0_whole 9 = .ok (.ireturn, 1) := dk_172 (dk_at dksX0_whole_0 9 rfl rfl)
theorem dX0_whole_10 : decode cX0_whole 10 = .ok (.iload_n 1, 1) := dk_27 (dk_at dksX0_whole_0 10 rfl rfl)
theorem dX0_whole_11 : decode cX0_whole 11 = .ok (.tableswitch 92 0 6 #[41, 49, 57, 65, 73, 84, 84], 41) := by decide +kernel
theorem dX0_whole_52 : decode cX0_whole 52 = .ok (.aload_n 0, 1) := dk_42 (dk_at dksX0_whole_2 0 rfl rfl)
theorem dX0_whole_53 : decode cX0_whole 53 = .ok (.getfield 53, 3) := dk_180 0 53 (dk_at dksX0_whole_2 1 rfl rfl)
theorem dX0_whole_56 : decode cX0_whole 56 = .ok (.getfield 228, 3) := dk_180 0 228 (dk_at dksX0_whole_2 4 rfl rfl)
theorem dX0_whole_59 : decode cX0_whole 59 = .ok (.ireturn, 1) := dk_172 (dk_at dksX0_whole_2 7 rfl rfl)
theorem dX0_whole_60 : decode cX0_whole 60 = .ok (.aload_n 0, 1) := dk_42 (dk_at dksX0_whole_2 8 rfl rfl)
theorem dX0_whole_61 : decode cX0_whole 61 = .ok (.getfield 53, 3) := dk_180 0 53 (dk_at dksX0_whole_2 9 rfl rfl)
theorem dX0_whole_64 : decode cX0_whole 64 = .ok (.getfield 231, 3) := dk_180 0 231 (dk_at dksX0_whole_2 12 rfl rfl)
theorem dX0_whole_67 : decode cX0_whole 67 = .ok (.ireturn, 1) := dk_172 (dk_at dksX0_whole_2 15 rfl rfl)
theorem dX0_whole_68 : decode cX0_whole 68 = .ok (.aload_n 0, 1) := dk_42 (dk_at dksX0_whole_2 16 rfl rfl)
theorem dX0_whole_69 : decode cX0_whole 69 = .ok (.getfield 53, 3) := dk_180 0 53 (dk_at dksX0_whole_2 17 rfl rfl)
theorem dX0_whole_72 : decode cX0_whole 72 = .ok (.getfield 236, 3) := dk_180 0 236 (dk_at dksX0_whole_2 20 rfl rfl)
theorem dX0_whole_75 : decode cX0_whole 75 = .ok (.ireturn, 1) := dk_172 (dk_at dksX0_whole_2 23 rfl rfl)
theorem dX0_whole_76 : decode cX0_whole 76 = .ok (.aload_n 0, 1) := dk_42 (dk_at dksX0_whole_3 0 rfl rfl)
theorem dX0_whole_77 : decode cX0_whole 77 = .ok (.getfield 53, 3) := dk_180 0 53 (dk_at dksX0_whole_3 1 rfl rfl)
theorem dX0_whole_80 : decode cX0_whole 80 = .ok (.invokevirtual 311, 3) := dk_182 1 55 (dk_at dksX0_whole_3 4 rfl rfl)
theorem dX0_whole_83 : decode cX0_whole 83 = .ok (.ireturn, 1) := dk_172 (dk_at dksX0_whole_3 7 rfl rfl)
theorem dX0_whole_84 : decode cX0_whole 84 = .ok (.aload_n 0, 1) := dk_42 (dk_at dksX0_whole_3 8 rfl rfl)
theorem dX0_whole_85 : decode cX0_whole 85 = .ok (.getfield 53, 3) := dk_180 0 53 (dk_at dksX0_whole_3 9 rfl rfl)
theorem dX0_whole_88 : decode cX0_whole 88 = .ok (.invokevirtual 311, 3) := dk_182 1 55 (dk_at dksX0_whole_3 12 rfl rfl)
theorem dX0_whole_91 : decode cX0_whole 91 = .ok (.invokestatic 314, 3) := dk_184 1 58 (dk_at dksX0_whole_3 15 rfl rfl)
theorem dX0_whole_94 : decode cX0_whole 94 = .ok (.ireturn, 1) := dk_172 (dk_at dksX0_whole_3 18 rfl rfl)
theorem dX0_whole_95 : decode cX0_whole 95 = .ok (.aload_n 0, 1) := dk_42 (dk_at dksX0_whole_3 19 rfl rfl)
theorem dX0_whole_96 : decode cX0_whole 96 = .ok (.iload_n 1, 1) := dk_27 (dk_at dksX0_whole_3 20 rfl rfl)
theorem dX0_whole_97 : decode cX0_whole 97 = .ok (.iconst 5, 1) := dk_8 (dk_at dksX0_whole_3 21 rfl rfl)
theorem dX0_whole_98 : decode cX0_whole 98 = .ok (.isub, 1) := dk_100 (dk_at dksX0_whole_3 22 rfl rfl)
theorem dX0_whole_99 : decode cX0_whole 99 = .ok (.invokevirtual 319, 3) := dk_182 1 63 (dk_at dksX0_whole_4 0 rfl rfl)
theorem dX0_whole_102 : decode cX0_whole 102 = .ok (.ireturn, 1) := dk_172 (dk_at dksX0_whole_4 3 rfl rfl)
theorem dX0_whole_103 : decode cX0_whole 103 = .ok (.ldc 98, 2) := dk_18 98 (dk_at dksX0_whole_4 4 rfl rfl)
theorem dX0_whole_105 : decode cX0_whole 105 = .ok (.ireturn, 1) := dk_172 (dk_at dksX0_whole_4 6 rfl rfl)
abbrev cX0_has : ByteArray := prog_1_method_2_code
def yX0_has : MethodName := ⟨RX0, "has", "(II)Z"⟩
def dkwX0_has_0 : List UInt8 := [26, 27, 122, 4, 126, 4, 160, 0, 7, 4, 167, 0, 4, 3, 172]
abbrev dktX0_has_0 : List UInt8 := dkwX0_has_0 ++ []
theorem dksX0_has_0 : cX0_has.data.toList.drop 0 = dktX0_has_0 := by decide +kernel
theorem dX0_has_0 : decode cX0_has 0 = .ok (.iload_n 0, 1) := dk_26 (dk_at dksX0_has_0 0 rfl rfl)
theorem dX0_has_1 : decode cX0_has 1 = .ok (.iload_n 1, 1) := dk_27 (dk_at dksX0_has_0 1 rfl rfl)
theorem dX0_has_2 : decode cX0_has 2 = .ok (.ishr, 1) := dk_122 (dk_at dksX0_has_0 2 rfl rfl)
theorem dX0_has_3 : decode cX0_has 3 = .ok (.iconst 1, 1) := dk_4 (dk_at dksX0_has_0 3 rfl rfl)
theorem dX0_has_4 : decode cX0_has 4 = .ok (.iand, 1) := dk_126 (dk_at dksX0_has_0 4 rfl rfl)
theorem dX0_has_5 : decode cX0_has 5 = .ok (.iconst 1, 1) := dk_4 (dk_at dksX0_has_0 5 rfl rfl)
theorem dX0_has_6 : decode cX0_has 6 = .ok (.if_icmp .ne 7, 3) := dk_160 0 7 (dk_at dksX0_has_0 6 rfl rfl)
theorem dX0_has_9 : decode cX0_has 9 = .ok (.iconst 1, 1) := dk_4 (dk_at dksX0_has_0 9 rfl rfl)
theorem dX0_has_10 : decode cX0_has 10 = .ok (.goto 4, 3) := dk_167 0 4 (dk_at dksX0_has_0 10 rfl rfl)
theorem dX0_has_13 : decode cX0_has 13 = .ok (.iconst 0, 1) := dk_3 (dk_at dksX0_has_0 13 rfl rfl)
theorem dX0_has_14 : decode cX0_has 14 = .ok (.ireturn, 1) := dk_172 (dk_at dksX0_has_0 14 rfl rfl)
abbrev cX0_scale : ByteArray := prog_1_method_42_code
def yX0_scale : MethodName := ⟨RX0, "scale", "(I)I"⟩
def dkwX0_scale_3 : List UInt8 := [172]
abbrev dktX0_scale_3 : List UInt8 := dkwX0_scale_3 ++ []
def dkwX0_scale_2 : List UInt8 := [16, 10, 108, 167, 0, 11, 178, 1, 48, 28, 46, 16, 10, 112, 172, 132, 2, 1, 167, 255, 195, 19, 1, 3]
abbrev dktX0_scale_2 : List UInt8 := dkwX0_scale_2 ++ dktX0_scale_3
def dkwX0_scale_1 : List UInt8 := [178, 1, 48, 28, 46, 16, 10, 112, 182, 1, 51, 153, 0, 27, 27, 154, 0, 14, 178, 1, 48, 28, 46]
abbrev dktX0_scale_1 : List UInt8 := dkwX0_scale_1 ++ dktX0_scale_2
def dkwX0_scale_0 : List UInt8 := [3, 61, 28, 178, 1, 48, 190, 162, 0, 59, 42, 180, 0, 53, 178, 1, 48, 28, 46, 16, 10, 108]
abbrev dktX0_scale_0 : List UInt8 := dkwX0_scale_0 ++ dktX0_scale_1
theorem dksX0_scale_0 : cX0_scale.data.toList.drop 0 = dktX0_scale_0 := by decide +kernel
theorem dksX0_scale_1 : cX0_scale.data.toList.drop 22 = dktX0_scale_1 := dk_seg dksX0_scale_0 22 rfl rfl
theorem dksX0_scale_2 : cX0_scale.data.toList.drop 45 = dktX0_scale_2 := dk_seg dksX0_scale_1 23 rfl rfl
theorem dksX0_scale_3 : cX0_scale.data.toList.drop 69 = dktX0_scale_3 := dk_seg dksX0_scale_2 24 rfl rfl
theorem dX0_scale_0 : decode cX0_scale 0 = .ok (.iconst 0, 1) := dk_3 (dk_at dksX0_scale_0 0 rfl rfl)
theorem dX0_scale_1 : decode cX0_scale 1 = .ok (.istore_n 2, 1) := dk_61 (dk_at dksX0_scale_0 1 rfl rfl)
theorem dX0_scale_2 : decode cX0_scale 2 = .ok (.iload_n 2, 1) := dk_28 (dk_at dksX0_scale_0 2 rfl rfl)
theorem dX0_scale_3 : decode cX0_scale 3 = .ok (.getstatic 304, 3) := dk_178 1 48 (dk_at dksX0_scale_0 3 rfl rfl)
theorem dX0_scale_6 : decode cX0_scale 6 = .ok (.arraylength, 1) := dk_190 (dk_at dksX0_scale_0 6 rfl rfl)
theorem dX0_scale_7 : decode cX0_scale 7 = .ok (.if_icmp .ge 59, 3) := dk_162 0 59 (dk_at dksX0_scale_0 7 rfl rfl)
theorem dX0_scale_10 : decode cX0_scale 10 = .ok (.aload_n 0, 1) := dk_42 (dk_at dksX0_scale_0 10 rfl rfl)
theorem dX0_scale_11 : decode cX0_scale 11 = .ok (.getfield 53, 3) := dk_180 0 53 (dk_at dksX0_scale_0 11 rfl rfl)
theorem dX0_scale_14 : decode cX0_scale 14 = .ok (.getstatic 304, 3) := dk_178 1 48 (dk_at dksX0_scale_0 14 rfl rfl)
theorem dX0_scale_17 : decode cX0_scale 17 = .ok (.iload_n 2, 1) := dk_28 (dk_at dksX0_scale_0 17 rfl rfl)
theorem dX0_scale_18 : decode cX0_scale 18 = .ok (.iaload, 1) := dk_46 (dk_at dksX0_scale_0 18 rfl rfl)
theorem dX0_scale_19 : decode cX0_scale 19 = .ok (.bipush 10, 2) := dk_16 10 (dk_at dksX0_scale_0 19 rfl rfl)
theorem dX0_scale_21 : decode cX0_scale 21 = .ok (.idiv, 1) := dk_108 (dk_at dksX0_scale_0 21 rfl rfl)
theorem dX0_scale_22 : decode cX0_scale 22 = .ok (.getstatic 304, 3) := dk_178 1 48 (dk_at dksX0_scale_1 0 rfl rfl)
theorem dX0_scale_25 : decode cX0_scale 25 = .ok (.iload_n 2, 1) := dk_28 (dk_at dksX0_scale_1 3 rfl rfl)
theorem dX0_scale_26 : decode cX0_scale 26 = .ok (.iaload, 1) := dk_46 (dk_at dksX0_scale_1 4 rfl rfl)
theorem dX0_scale_27 : decode cX0_scale 27 = .ok (.bipush 10, 2) := dk_16 10 (dk_at dksX0_scale_1 5 rfl rfl)
theorem dX0_scale_29 : decode cX0_scale 29 = .ok (.irem, 1) := dk_112 (dk_at dksX0_scale_1 7 rfl rfl)
theorem dX0_scale_30 : decode cX0_scale 30 = .ok (.invokevirtual 307, 3) := dk_182 1 51 (dk_at dksX0_scale_1 8 rfl rfl)
theorem dX0_scale_33 : decode cX0_scale 33 = .ok (.ifCond .eq 27, 3) := dk_153 0 27 (dk_at dksX0_scale_1 11 rfl rfl)
theorem dX0_scale_36 : decode cX0_scale 36 = .ok (.iload_n 1, 1) := dk_27 (dk_at dksX0_scale_1 14 rfl rfl)
theorem dX0_scale_37 : decode cX0_scale 37 = .ok (.ifCond .ne 14, 3) := dk_154 0 14 (dk_at dksX0_scale_1 15 rfl rfl)
theorem dX0_scale_40 : decode cX0_scale 40 = .ok (.getstatic 304, 3) := dk_178 1 48 (dk_at dksX0_scale_1 18 rfl rfl)
theorem dX0_scale_43 : decode cX0_scale 43 = .ok (.iload_n 2, 1) := dk_28 (dk_at dksX0_scale_1 21 rfl rfl)
theorem dX0_scale_44 : decode cX0_scale 44 = .ok (.iaload, 1) := dk_46 (dk_at dksX0_scale_1 22 rfl rfl)
theorem dX0_scale_45 : decode cX0_scale 45 = .ok (.bipush 10, 2) := dk_16 10 (dk_at dksX0_scale_2 0 rfl rfl)
theorem dX0_scale_47 : decode cX0_scale 47 = .ok (.idiv, 1) := dk_108 (dk_at dksX0_scale_2 2 rfl rfl)
theorem dX0_scale_48 : decode cX0_scale 48 = .ok (.goto 11, 3) := dk_167 0 11 (dk_at dksX0_scale_2 3 rfl rfl)
theorem dX0_scale_51 : decode cX0_scale 51 = .ok (.getstatic 304, 3) := dk_178 1 48 (dk_at dksX0_scale_2 6 rfl rfl)
theorem dX0_scale_54 : decode cX0_scale 54 = .ok (.iload_n 2, 1) := dk_28 (dk_at dksX0_scale_2 9 rfl rfl)
theorem dX0_scale_55 : decode cX0_scale 55 = .ok (.iaload, 1) := dk_46 (dk_at dksX0_scale_2 10 rfl rfl)
theorem dX0_scale_56 : decode cX0_scale 56 = .ok (.bipush 10, 2) := dk_16 10 (dk_at dksX0_scale_2 11 rfl rfl)
theorem dX0_scale_58 : decode cX0_scale 58 = .ok (.irem, 1) := dk_112 (dk_at dksX0_scale_2 13 rfl rfl)
theorem dX0_scale_59 : decode cX0_scale 59 = .ok (.ireturn, 1) := dk_172 (dk_at dksX0_scale_2 14 rfl rfl)
theorem dX0_scale_60 : decode cX0_scale 60 = .ok (.iinc 2 1, 3) := dk_132 2 1 (dk_at dksX0_scale_2 15 rfl rfl)
theorem dX0_scale_63 : decode cX0_scale 63 = .ok (.goto (-61), 3) := dk_167 255 195 (dk_at dksX0_scale_2 18 rfl rfl)
theorem dX0_scale_66 : decode cX0_scale 66 = .ok (.ldc_w 259, 3) := dk_19 1 3 (dk_at dksX0_scale_2 21 rfl rfl)
theorem dX0_scale_69 : decode cX0_scale 69 = .ok (.ireturn, 1) := dk_172 (dk_at dksX0_scale_3 0 rfl rfl)
abbrev cX0_back : ByteArray := prog_1_method_44_code
def yX0_back : MethodName := ⟨RX0, "back", "(III)I"⟩
def dkwX0_back_3 : List UInt8 := [180, 0, 53, 25, 4, 25, 5, 29, 182, 1, 72, 182, 0, 102, 172, 58, 4, 42, 25, 4, 182, 0, 106, 172]
abbrev dktX0_back_3 : List UInt8 := dkwX0_back_3 ++ []
def dkwX0_back_2 : List UInt8 := [180, 0, 53, 25, 4, 182, 1, 68, 58, 5, 42, 29, 2, 160, 0, 10, 25, 5, 3, 46, 167, 0, 15, 42]
abbrev dktX0_back_2 : List UInt8 := dkwX0_back_2 ++ dktX0_back_3
def dkwX0_back_1 : List UInt8 := [184, 0, 84, 153, 0, 8, 29, 2, 162, 0, 6, 18, 98, 172, 42, 27, 28, 182, 0, 184, 58, 4, 42]
abbrev dktX0_back_1 : List UInt8 := dkwX0_back_1 ++ dktX0_back_2
def dkwX0_back_0 : List UInt8 := [42, 182, 0, 222, 154, 0, 6, 18, 172, 172, 27, 184, 0, 92, 153, 0, 20, 28, 133, 10, 20, 1, 66]
abbrev dktX0_back_0 : List UInt8 := dkwX0_back_0 ++ dktX0_back_1
theorem dksX0_back_0 : cX0_back.data.toList.drop 0 = dktX0_back_0 := by decide +kernel
theorem dksX0_back_1 : cX0_back.data.toList.drop 23 = dktX0_back_1 := dk_seg dksX0_back_0 23 rfl rfl
theorem dksX0_back_2 : cX0_back.data.toList.drop 46 = dktX0_back_2 := dk_seg dksX0_back_1 23 rfl rfl
theorem dksX0_back_3 : cX0_back.data.toList.drop 70 = dktX0_back_3 := dk_seg dksX0_back_2 24 rfl rfl
theorem dX0_back_0 : decode cX0_back 0 = .ok (.aload_n 0, 1) := dk_42 (dk_at dksX0_back_0 0 rfl rfl)
theorem dX0_back_1 : decode cX0_back 1 = .ok (.invokevirtual 222, 3) := dk_182 0 222 (dk_at dksX0_back_0 1 rfl rfl)
theorem dX0_back_4 : decode cX0_back 4 = .ok (.ifCond .ne 6, 3) := dk_154 0 6 (dk_at dksX0_back_0 4 rfl rfl)
theorem dX0_back_7 : decode cX0_back 7 = .ok (.ldc 172, 2) := dk_18 172 (dk_at dksX0_back_0 7 rfl rfl)
theorem dX0_back_9 : decode cX0_back 9 = .ok (.ireturn, 1) := dk_172 (dk_at dksX0_back_0 9 rfl rfl)
theorem dX0_back_10 : decode cX0_back 10 = .ok (.iload_n 1, 1) := dk_27 (dk_at dksX0_back_0 10 rfl rfl)
theorem dX0_back_11 : decode cX0_back 11 = .ok (.invokestatic 92, 3) := dk_184 0 92 (dk_at dksX0_back_0 11 rfl rfl)
theorem dX0_back_14 : decode cX0_back 14 = .ok (.ifCond .eq 20, 3) := dk_153 0 20 (dk_at dksX0_back_0 14 rfl rfl)
theorem dX0_back_17 : decode cX0_back 17 = .ok (.iload_n 2, 1) := dk_28 (dk_at dksX0_back_0 17 rfl rfl)
theorem dX0_back_18 : decode cX0_back 18 = .ok (.i2l, 1) := dk_133 (dk_at dksX0_back_0 18 rfl rfl)
theorem dX0_back_19 : decode cX0_back 19 = .ok (.lconst 1, 1) := dk_10 (dk_at dksX0_back_0 19 rfl rfl)
theorem dX0_back_20 : decode cX0_back 20 = .ok (.ldc2_w 322, 3) := dk_20 1 66 (dk_at dksX0_back_0 20 rfl rfl)
theorem dX0_back_23 : decode cX0_back 23 = .ok (.invokestatic 84, 3) := dk_184 0 84 (dk_at dksX0_back_1 0 rfl rfl)
theorem dX0_back_26 : decode cX0_back 26 = .ok (.ifCond .eq 8, 3) := dk_153 0 8 (dk_at dksX0_back_1 3 rfl rfl)
theorem dX0_back_29 : decode cX0_back 29 = .ok (.iload_n 3, 1) := dk_29 (dk_at dksX0_back_1 6 rfl rfl)
theorem dX0_back_30 : decode cX0_back 30 = .ok (.iconst (-1), 1) := dk_2 (dk_at dksX0_back_1 7 rfl rfl)
theorem dX0_back_31 : decode cX0_back 31 = .ok (.if_icmp .ge 6, 3) := dk_162 0 6 (dk_at dksX0_back_1 8 rfl rfl)
theorem dX0_back_34 : decode cX0_back 34 = .ok (.ldc 98, 2) := dk_18 98 (dk_at dksX0_back_1 11 rfl rfl)
theorem dX0_back_36 : decode cX0_back 36 = .ok (.ireturn, 1) := dk_172 (dk_at dksX0_back_1 13 rfl rfl)
theorem dX0_back_37 : decode cX0_back 37 = .ok (.aload_n 0, 1) := dk_42 (dk_at dksX0_back_1 14 rfl rfl)
theorem dX0_back_38 : decode cX0_back 38 = .ok (.iload_n 1, 1) := dk_27 (dk_at dksX0_back_1 15 rfl rfl)
theorem dX0_back_39 : decode cX0_back 39 = .ok (.iload_n 2, 1) := dk_28 (dk_at dksX0_back_1 16 rfl rfl)
theorem dX0_back_40 : decode cX0_back 40 = .ok (.invokevirtual 184, 3) := dk_182 0 184 (dk_at dksX0_back_1 17 rfl rfl)
theorem dX0_back_43 : decode cX0_back 43 = .ok (.astore 4, 2) := dk_58 4 (dk_at dksX0_back_1 20 rfl rfl)
theorem dX0_back_45 : decode cX0_back 45 = .ok (.aload_n 0, 1) := dk_42 (dk_at dksX0_back_1 22 rfl rfl)
theorem dX0_back_46 : decode cX0_back 46 = .ok (.getfield 53, 3) := dk_180 0 53 (dk_at dksX0_back_2 0 rfl rfl)
theorem dX0_back_49 : decode cX0_back 49 = .ok (.aload 4, 2) := dk_25 4 (dk_at dksX0_back_2 3 rfl rfl)
theorem dX0_back_51 : decode cX0_back 51 = .ok (.invokevirtual 324, 3) := dk_182 1 68 (dk_at dksX0_back_2 5 rfl rfl)
theorem dX0_back_54 : decode cX0_back 54 = .ok (.astore 5, 2) := dk_58 5 (dk_at dksX0_back_2 8 rfl rfl)
theorem dX0_back_56 : decode cX0_back 56 = .ok (.aload_n 0, 1) := dk_42 (dk_at dksX0_back_2 10 rfl rfl)
theorem dX0_back_57 : decode cX0_back 57 = .ok (.iload_n 3, 1) := dk_29 (dk_at dksX0_back_2 11 rfl rfl)
theorem dX0_back_58 : decode cX0_back 58 = .ok (.iconst (-1), 1) := dk_2 (dk_at dksX0_back_2 12 rfl rfl)
theorem dX0_back_59 : decode cX0_back 59 = .ok (.if_icmp .ne 10, 3) := dk_160 0 10 (dk_at dksX0_back_2 13 rfl rfl)
theorem dX0_back_62 : decode cX0_back 62 = .ok (.aload 5, 2) := dk_25 5 (dk_at dksX0_back_2 16 rfl rfl)
theorem dX0_back_64 : decode cX0_back 64 = .ok (.iconst 0, 1) := dk_3 (dk_at dksX0_back_2 18 rfl rfl)
theorem dX0_back_65 : decode cX0_back 65 = .ok (.iaload, 1) := dk_46 (dk_at dksX0_back_2 19 rfl rfl)
theorem dX0_back_66 : decode cX0_back 66 = .ok (.goto 15, 3) := dk_167 0 15 (dk_at dksX0_back_2 20 rfl rfl)
theorem dX0_back_69 : decode cX0_back 69 = .ok (.aload_n 0, 1) := dk_42 (dk_at dksX0_back_2 23 rfl rfl)
theorem dX0_back_70 : decode cX0_back 70 = .ok (.getfield 53, 3) := dk_180 0 53 (dk_at dksX0_back_3 0 rfl rfl)
theorem dX0_back_73 : decode cX0_back 73 = .ok (.aload 4, 2) := dk_25 4 (dk_at dksX0_back_3 3 rfl rfl)
theorem dX0_back_75 : decode cX0_back 75 = .ok (.aload 5, 2) := dk_25 5 (dk_at dksX0_back_3 5 rfl rfl)
theorem dX0_back_77 : decode cX0_back 77 = .ok (.iload_n 3, 1) := dk_29 (dk_at dksX0_back_3 7 rfl rfl)
theorem dX0_back_78 : decode cX0_back 78 = .ok (.invokevirtual 328, 3) := dk_182 1 72 (dk_at dksX0_back_3 8 rfl rfl)
theorem dX0_back_81 : decode cX0_back 81 = .ok (.invokevirtual 102, 3) := dk_182 0 102 (dk_at dksX0_back_3 11 rfl rfl)
theorem dX0_back_84 : decode cX0_back 84 = .ok (.ireturn, 1) := dk_172 (dk_at dksX0_back_3 14 rfl rfl)
theorem dX0_back_85 : decode cX0_back 85 = .ok (.astore 4, 2) := dk_58 4 (dk_at dksX0_back_3 15 rfl rfl)
theorem dX0_back_87 : decode cX0_back 87 = .ok (.aload_n 0, 1) := dk_42 (dk_at dksX0_back_3 17 rfl rfl)
theorem dX0_back_88 : decode cX0_back 88 = .ok (.aload 4, 2) := dk_25 4 (dk_at dksX0_back_3 18 rfl rfl)
theorem dX0_back_90 : decode cX0_back 90 = .ok (.invokevirtual 106, 3) := dk_182 0 106 (dk_at dksX0_back_3 20 rfl rfl)
theorem dX0_back_93 : decode cX0_back 93 = .ok (.ireturn, 1) := dk_172 (dk_at dksX0_back_3 23 rfl rfl)
abbrev cX0_who : ByteArray := prog_1_method_47_code
def yX0_who : MethodName := ⟨RX0, "who", "(IIIIII)I"⟩
def dkwX0_who_11 : List UInt8 := [58, 8, 42, 25, 8, 182, 0, 106, 172]
abbrev dktX0_who_11 : List UInt8 := dkwX0_who_11 ++ []
def dkwX0_who_10 : List UInt8 := [4, 21, 10, 120, 167, 0, 4, 3, 128, 54, 9, 132, 10, 1, 167, 255, 151, 42, 21, 9, 182, 0, 102, 172]
abbrev dktX0_who_10 : List UInt8 := dkwX0_who_10 ++ dktX0_who_11
def dkwX0_who_9 : List UInt8 := [180, 1, 0, 7, 27, 104, 28, 96, 21, 10, 79, 21, 9, 42, 21, 4, 25, 8, 182, 1, 80, 153, 0, 10]
abbrev dktX0_who_9 : List UInt8 := dkwX0_who_9 ++ dktX0_who_10
def dkwX0_who_8 : List UInt8 := [4, 160, 0, 14, 42, 180, 0, 57, 180, 1, 8, 28, 21, 10, 79, 29, 5, 160, 0, 18, 42, 180, 0, 57]
abbrev dktX0_who_8 : List UInt8 := dkwX0_who_8 ++ dktX0_who_9
def dkwX0_who_7 : List UInt8 := [163, 0, 89, 42, 182, 1, 76, 87, 29, 154, 0, 14, 42, 180, 0, 57, 27, 21, 10, 182, 0, 218, 87, 29]
abbrev dktX0_who_7 : List UInt8 := dkwX0_who_7 ++ dktX0_who_8
def dkwX0_who_6 : List UInt8 := [3, 54, 10, 21, 10, 29, 154, 0, 7, 8, 167, 0, 12, 42, 180, 0, 53, 182, 0, 168, 4, 100]
abbrev dktX0_who_6 : List UInt8 := dkwX0_who_6 ++ dktX0_who_7
def dkwX0_who_5 : List UInt8 := [21, 5, 182, 0, 110, 3, 21, 6, 182, 0, 175, 58, 8, 3, 54, 9, 29, 154, 0, 7, 4, 167, 0, 4]
abbrev dktX0_who_5 : List UInt8 := dkwX0_who_5 ++ dktX0_who_6
def dkwX0_who_4 : List UInt8 := [184, 0, 92, 153, 0, 16, 21, 6, 133, 10, 20, 1, 66, 184, 0, 84, 154, 0, 6, 18, 98, 172, 42]
abbrev dktX0_who_4 : List UInt8 := dkwX0_who_4 ++ dktX0_who_5
def dkwX0_who_3 : List UInt8 := [42, 27, 182, 0, 179, 153, 0, 38, 21, 7, 153, 0, 33, 42, 21, 4, 182, 1, 10, 153, 0, 24, 21, 5]
abbrev dktX0_who_3 : List UInt8 := dkwX0_who_3 ++ dktX0_who_4
def dkwX0_who_2 : List UInt8 := [180, 0, 53, 180, 0, 190, 27, 46, 4, 100, 133, 184, 0, 84, 153, 0, 7, 4, 167, 0, 4, 3, 54, 7]
abbrev dktX0_who_2 : List UInt8 := dkwX0_who_2 ++ dktX0_who_3
def dkwX0_who_1 : List UInt8 := [184, 0, 84, 154, 0, 37, 29, 5, 160, 0, 36, 42, 27, 182, 0, 179, 153, 0, 28, 28, 133, 9, 42]
abbrev dktX0_who_1 : List UInt8 := dkwX0_who_1 ++ dktX0_who_2
def dkwX0_who_0 : List UInt8 := [29, 153, 0, 61, 29, 4, 160, 0, 22, 28, 133, 9, 42, 180, 0, 53, 180, 0, 236, 4, 100, 133]
abbrev dktX0_who_0 : List UInt8 := dkwX0_who_0 ++ dktX0_who_1
theorem dksX0_who_0 : cX0_who.data.toList.drop 0 = dktX0_who_0 := by decide +kernel
theorem dksX0_who_1 : cX0_who.data.toList.drop 22 = dktX0_who_1 := dk_seg dksX0_who_0 22 rfl rfl
theorem dksX0_who_2 : cX0_who.data.toList.drop 45 = dktX0_who_2 := dk_seg dksX0_who_1 23 rfl rfl
theorem dksX0_who_3 : cX0_who.data.toList.drop 69 = dktX0_who_3 := dk_seg dksX0_who_2 24 rfl rfl
theorem dksX0_who_4 : cX0_who.data.toList.drop 93 = dktX0_who_4 := dk_seg dksX0_who_3 24 rfl rfl
theorem dksX0_who_5 : cX0_who.data.toList.drop 116 = dktX0_who_5 := dk_seg dksX0_who_4 23 rfl rfl
theorem dksX0_who_6 : cX0_who.data.toList.drop 140 = dktX0_who_6 := dk_seg dksX0_who_5 24 rfl rfl
theorem dksX0_who_7 : cX0_who.data.toList.drop 162 = dktX0_who_7 := dk_seg dksX0_who_6 22 rfl rfl
theorem dksX0_who_8 : cX0_who.data.toList.drop 186 = dktX0_who_8 := dk_seg dksX0_who_7 24 rfl rfl
theorem dksX0_who_9 : cX0_who.data.toList.drop 210 = dktX0_who_9 := dk_seg dksX0_who_8 24 rfl rfl
theorem dksX0_who_10 : cX0_who.data.toList.drop 234 = dktX0_who_10 := dk_seg dksX0_who_9 24 rfl rfl
theorem dksX0_who_11 : cX0_who.data.toList.drop 258 = dktX0_who_11 := dk_seg dksX0_who_10 24 rfl rfl
theorem dX0_who_0 : decode cX0_who 0 = .ok (.iload_n 3, 1) := dk_29 (dk_at dksX0_who_0 0 rfl rfl)
theorem dX0_who_1 : decode cX0_who 1 = .ok (.ifCond .eq 61, 3) := dk_153 0 61 (dk_at dksX0_who_0 1 rfl rfl)
theorem dX0_who_4 : decode cX0_who 4 = .ok (.iload_n 3, 1) := dk_29 (dk_at dksX0_who_0 4 rfl rfl)
theorem dX0_who_5 : decode cX0_who 5 = .ok (.iconst 1, 1) := dk_4 (dk_at dksX0_who_0 5 rfl rfl)
theorem dX0_who_6 : decode cX0_who 6 = .ok (.if_icmp .ne 22, 3) := dk_160 0 22 (dk_at dksX0_who_0 6 rfl rfl)
theorem dX0_who_9 : decode cX0_who 9 = .ok (.iload_n 2, 1) := dk_28 (dk_at dksX0_who_0 9 rfl rfl)
theorem dX0_who_10 : decode cX0_who 10 = .ok (.i2l, 1) := dk_133 (dk_at dksX0_who_0 10 rfl rfl)
theorem dX0_who_11 : decode cX0_who 11 = .ok (.lconst 0, 1) := dk_9 (dk_at dksX0_who_0 11 rfl rfl)
theorem dX0_who_12 : decode cX0_who 12 = .ok (.aload_n 0, 1) := dk_42 (dk_at dksX0_who_0 12 rfl rfl)
theorem dX0_who_13 : decode cX0_who 13 = .ok (.getfield 53, 3) := dk_180 0 53 (dk_at dksX0_who_0 13 rfl rfl)
theorem dX0_who_16 : decode cX0_who 16 = .ok (.getfield 236, 3) := dk_180 0 236 (dk_at dksX0_who_0 16 rfl rfl)
theorem dX0_who_19 : decode cX0_who 19 = .ok (.iconst 1, 1) := dk_4 (dk_at dksX0_who_0 19 rfl rfl)
theorem dX0_who_20 : decode cX0_who 20 = .ok (.isub, 1) := dk_100 (dk_at dksX0_who_0 20 rfl rfl)
theorem dX0_who_21 : decode cX0_who 21 = .ok (.i2l, 1) := dk_133 (dk_at dksX0_who_0 21 rfl rfl)
theorem dX0_who_22 : decode cX0_who 22 = .ok (.invokestatic 84, 3) := dk_184 0 84 (dk_at dksX0_who_1 0 rfl rfl)
theorem dX0_who_25 : decode cX0_who 25 = .ok (.ifCond .ne 37, 3) := dk_154 0 37 (dk_at dksX0_who_1 3 rfl rfl)
theorem dX0_who_28 : decode cX0_who 28 = .ok (.iload_n 3, 1) := dk_29 (dk_at dksX0_who_1 6 rfl rfl)
theorem dX0_who_29 : decode cX0_who 29 = .ok (.iconst 2, 1) := dk_5 (dk_at dksX0_who_1 7 rfl rfl)
theorem dX0_who_30 : decode cX0_who 30 = .ok (.if_icmp .ne 36, 3) := dk_160 0 36 (dk_at dksX0_who_1 8 rfl rfl)
theorem dX0_who_33 : decode cX0_who 33 = .ok (.aload_n 0, 1) := dk_42 (dk_at dksX0_who_1 11 rfl rfl)
theorem dX0_who_34 : decode cX0_who 34 = .ok (.iload_n 1, 1) := dk_27 (dk_at dksX0_who_1 12 rfl rfl)
theorem dX0_who_35 : decode cX0_who 35 = .ok (.invokevirtual 179, 3) := dk_182 0 179 (dk_at dksX0_who_1 13 rfl rfl)
theorem dX0_who_38 : decode cX0_who 38 = .ok (.ifCond .eq 28, 3) := dk_153 0 28 (dk_at dksX0_who_1 16 rfl rfl)
theorem dX0_who_41 : decode cX0_who 41 = .ok (.iload_n 2, 1) := dk_28 (dk_at dksX0_who_1 19 rfl rfl)
theorem dX0_who_42 : decode cX0_who 42 = .ok (.i2l, 1) := dk_133 (dk_at dksX0_who_1 20 rfl rfl)
theorem dX0_who_43 : decode cX0_who 43 = .ok (.lconst 0, 1) := dk_9 (dk_at dksX0_who_1 21 rfl rfl)
theorem dX0_who_44 : decode cX0_who 44 = .ok (.aload_n 0, 1) := dk_42 (dk_at dksX0_who_1 22 rfl rfl)
theorem dX0_who_45 : decode cX0_who 45 = .ok (.getfield 53, 3) := dk_180 0 53 (dk_at dksX0_who_2 0 rfl rfl)
theorem dX0_who_48 : decode cX0_who 48 = .ok (.getfield 190, 3) := dk_180 0 190 (dk_at dksX0_who_2 3 rfl rfl)
theorem dX0_who_51 : decode cX0_who 51 = .ok (.iload_n 1, 1) := dk_27 (dk_at dksX0_who_2 6 rfl rfl)
theorem dX0_who_52 : decode cX0_who 52 = .ok (.iaload, 1) := dk_46 (dk_at dksX0_who_2 7 rfl rfl)
theorem dX0_who_53 : decode cX0_who 53 = .ok (.iconst 1, 1) := dk_4 (dk_at dksX0_who_2 8 rfl rfl)
theorem dX0_who_54 : decode cX0_who 54 = .ok (.isub, 1) := dk_100 (dk_at dksX0_who_2 9 rfl rfl)
theorem dX0_who_55 : decode cX0_who 55 = .ok (.i2l, 1) := dk_133 (dk_at dksX0_who_2 10 rfl rfl)
theorem dX0_who_56 : decode cX0_who 56 = .ok (.invokestatic 84, 3) := dk_184 0 84 (dk_at dksX0_who_2 11 rfl rfl)
theorem dX0_who_59 : decode cX0_who 59 = .ok (.ifCond .eq 7, 3) := dk_153 0 7 (dk_at dksX0_who_2 14 rfl rfl)
theorem dX0_who_62 : decode cX0_who 62 = .ok (.iconst 1, 1) := dk_4 (dk_at dksX0_who_2 17 rfl rfl)
theorem dX0_who_63 : decode cX0_who 63 = .ok (.goto 4, 3) := dk_167 0 4 (dk_at dksX0_who_2 18 rfl rfl)
theorem dX0_who_66 : decode cX0_who 66 = .ok (.iconst 0, 1) := dk_3 (dk_at dksX0_who_2 21 rfl rfl)
theorem dX0_who_67 : decode cX0_who 67 = .ok (.istore 7, 2) := dk_54 7 (dk_at dksX0_who_2 22 rfl rfl)
theorem dX0_who_69 : decode cX0_who 69 = .ok (.aload_n 0, 1) := dk_42 (dk_at dksX0_who_3 0 rfl rfl)
theorem dX0_who_70 : decode cX0_who 70 = .ok (.iload_n 1, 1) := dk_27 (dk_at dksX0_who_3 1 rfl rfl)
theorem dX0_who_71 : decode cX0_who 71 = .ok (.invokevirtual 179, 3) := dk_182 0 179 (dk_at dksX0_who_3 2 rfl rfl)
theorem dX0_who_74 : decode cX0_who 74 = .ok (.ifCond .eq 38, 3) := dk_153 0 38 (dk_at dksX0_who_3 5 rfl rfl)
theorem dX0_who_77 : decode cX0_who 77 = .ok (.iload 7, 2) := dk_21 7 (dk_at dksX0_who_3 8 rfl rfl)
theorem dX0_who_79 : decode cX0_who 79 = .ok (.ifCond .eq 33, 3) := dk_153 0 33 (dk_at dksX0_who_3 10 rfl rfl)
theorem dX0_who_82 : decode cX0_who 82 = .ok (.aload_n 0, 1) := dk_42 (dk_at dksX0_who_3 13 rfl rfl)
theorem dX0_who_83 : decode cX0_who 83 = .ok (.iload 4, 2) := dk_21 4 (dk_at dksX0_who_3 14 rfl rfl)
theorem dX0_who_85 : decode cX0_who 85 = .ok (.invokevirtual 266, 3) := dk_182 1 10 (dk_at dksX0_who_3 16 rfl rfl)
theorem dX0_who_88 : decode cX0_who 88 = .ok (.ifCond .eq 24, 3) := dk_153 0 24 (dk_at dksX0_who_3 19 rfl rfl)
theorem dX0_who_91 : decode cX0_who 91 = .ok (.iload 5, 2) := dk_21 5 (dk_at dksX0_who_3 22 rfl rfl)
theorem dX0_who_93 : decode cX0_who 93 = .ok (.invokestatic 92, 3) := dk_184 0 92 (dk_at dksX0_who_4 0 rfl rfl)
theorem dX0_who_96 : decode cX0_who 96 = .ok (.ifCond .eq 16, 3) := dk_153 0 16 (dk_at dksX0_who_4 3 rfl rfl)
theorem dX0_who_99 : decode cX0_who 99 = .ok (.iload 6, 2) := dk_21 6 (dk_at dksX0_who_4 6 rfl rfl)
theorem dX0_who_101 : decode cX0_who 101 = .ok (.i2l, 1) := dk_133 (dk_at dksX0_who_4 8 rfl rfl)
theorem dX0_who_102 : decode cX0_who 102 = .ok (.lconst 1, 1) := dk_10 (dk_at dksX0_who_4 9 rfl rfl)
theorem dX0_who_103 : decode cX0_who 103 = .ok (.ldc2_w 322, 3) := dk_20 1 66 (dk_at dksX0_who_4 10 rfl rfl)
theorem dX0_who_106 : decode cX0_who 106 = .ok (.invokestatic 84, 3) := dk_184 0 84 (dk_at dksX0_who_4 13 rfl rfl)
theorem dX0_who_109 : decode cX0_who 109 = .ok (.ifCond .ne 6, 3) := dk_154 0 6 (dk_at dksX0_who_4 16 rfl rfl)
theorem dX0_who_112 : decode cX0_who 112 = .ok (.ldc 98, 2) := dk_18 98 (dk_at dksX0_who_4 19 rfl rfl)
theorem dX0_who_114 : decode cX0_who 114 = .ok (.ireturn, 1) := dk_172 (dk_at dksX0_who_4 21 rfl rfl)
theorem dX0_who_115 : decode cX0_who 115 = .ok (.aload_n 0, 1) := dk_42 (dk_at dksX0_who_4 22 rfl rfl)
theorem dX0_who_116 : decode cX0_who 116 = .ok (.iload 5, 2) := dk_21 5 (dk_at dksX0_who_5 0 rfl rfl)
theorem dX0_who_118 : decode cX0_who 118 = .ok (.invokevirtual 110, 3) := dk_182 0 110 (dk_at dksX0_who_5 2 rfl rfl)
theorem dX0_who_121 : decode cX0_who 121 = .ok (.iconst 0, 1) := dk_3 (dk_at dksX0_who_5 5 rfl rfl)
theorem dX0_who_122 : decode cX0_who 122 = .ok (.iload 6, 2) := dk_21 6 (dk_at dksX0_who_5 6 rfl rfl)
theorem dX0_who_124 : decode cX0_who 124 = .ok (.invokevirtual 175, 3) := dk_182 0 175 (dk_at dksX0_who_5 8 rfl rfl)
theorem dX0_who_127 : decode cX0_who 127 = .ok (.astore 8, 2) := dk_58 8 (dk_at dksX0_who_5 11 rfl rfl)
theorem dX0_who_129 : decode cX0_who 129 = .ok (.iconst 0, 1) := dk_3 (dk_at dksX0_who_5 13 rfl rfl)
theorem dX0_who_130 : decode cX0_who 130 = .ok (.istore 9, 2) := dk_54 9 (dk_at dksX0_who_5 14 rfl rfl)
theorem dX0_who_132 : decode cX0_who 132 = .ok (.iload_n 3, 1) := dk_29 (dk_at dksX0_who_5 16 rfl rfl)
theorem dX0_who_133 : decode cX0_who 133 = .ok (.ifCond .ne 7, 3) := dk_154 0 7 (dk_at dksX0_who_5 17 rfl rfl)
theorem dX0_who_136 : decode cX0_who 136 = .ok (.iconst 1, 1) := dk_4 (dk_at dksX0_who_5 20 rfl rfl)
theorem dX0_who_137 : decode cX0_who 137 = .ok (.goto 4, 3) := dk_167 0 4 (dk_at dksX0_who_5 21 rfl rfl)
theorem dX0_who_140 : decode cX0_who 140 = .ok (.iconst 0, 1) := dk_3 (dk_at dksX0_who_6 0 rfl rfl)
theorem dX0_who_141 : decode cX0_who 141 = .ok (.istore 10, 2) := dk_54 10 (dk_at dksX0_who_6 1 rfl rfl)
theorem dX0_who_143 : decode cX0_who 143 = .ok (.iload 10, 2) := dk_21 10 (dk_at dksX0_who_6 3 rfl rfl)
theorem dX0_who_145 : decode cX0_who 145 = .ok (.iload_n 3, 1) := dk_29 (dk_at dksX0_who_6 5 rfl rfl)
theorem dX0_who_146 : decode cX0_who 146 = .ok (.ifCond .ne 7, 3) := dk_154 0 7 (dk_at dksX0_who_6 6 rfl rfl)
theorem dX0_who_149 : decode cX0_who 149 = .ok (.iconst 5, 1) := dk_8 (dk_at dksX0_who_6 9 rfl rfl)
theorem dX0_who_150 : decode cX0_who 150 = .ok (.goto 12, 3) := dk_167 0 12 (dk_at dksX0_who_6 10 rfl rfl)
theorem dX0_who_153 : decode cX0_who 153 = .ok (.aload_n 0, 1) := dk_42 (dk_at dksX0_who_6 13 rfl rfl)
theorem dX0_who_154 : decode cX0_who 154 = .ok (.getfield 53, 3) := dk_180 0 53 (dk_at dksX0_who_6 14 rfl rfl)
theorem dX0_who_157 : decode cX0_who 157 = .ok (.invokevirtual 168, 3) := dk_182 0 168 (dk_at dksX0_who_6 17 rfl rfl)
theorem dX0_who_160 : decode cX0_who 160 = .ok (.iconst 1, 1) := dk_4 (dk_at dksX0_who_6 20 rfl rfl)
theorem dX0_who_161 : decode cX0_who 161 = .ok (.isub, 1) := dk_100 (dk_at dksX0_who_6 21 rfl rfl)
theorem dX0_who_162 : decode cX0_who 162 = .ok (.if_icmp .gt 89, 3) := dk_163 0 89 (dk_at dksX0_who_7 0 rfl rfl)
theorem dX0_who_165 : decode cX0_who 165 = .ok (.aload_n 0, 1) := dk_42 (dk_at dksX0_who_7 3 rfl rfl)
theorem dX0_who_166 : decode cX0_who 166 = .ok (.invokevirtual 332, 3) := dk_182 1 76 (dk_at dksX0_who_7 4 rfl rfl)
theorem dX0_who_169 : decode cX0_who 169 = .ok (.pop, 1) := dk_87 (dk_at dksX0_who_7 7 rfl rfl)
theorem dX0_who_170 : decode cX0_who 170 = .ok (.iload_n 3, 1) := dk_29 (dk_at dksX0_who_7 8 rfl rfl)
theorem dX0_who_171 : decode cX0_who 171 = .ok (.ifCond .ne 14, 3) := dk_154 0 14 (dk_at dksX0_who_7 9 rfl rfl)
theorem dX0_who_174 : decode cX0_who 174 = .ok (.aload_n 0, 1) := dk_42 (dk_at dksX0_who_7 12 rfl rfl)
theorem dX0_who_175 : decode cX0_who 175 = .ok (.getfield 57, 3) := dk_180 0 57 (dk_at dksX0_who_7 13 rfl rfl)
theorem dX0_who_178 : decode cX0_who 178 = .ok (.iload_n 1, 1) := dk_27 (dk_at dksX0_who_7 16 rfl rfl)
theorem dX0_who_179 : decode cX0_who 179 = .ok (.iload 10, 2) := dk_21 10 (dk_at dksX0_who_7 17 rfl rfl)
theorem dX0_who_181 : decode cX0_who 181 = .ok (.invokevirtual 218, 3) := dk_182 0 218 (dk_at dksX0_who_7 19 rfl rfl)
theorem dX0_who_184 : decode cX0_who 184 = .ok (.pop, 1) := dk_87 (dk_at dksX0_who_7 22 rfl rfl)
theorem dX0_who_185 : decode cX0_who 185 = .ok (.iload_n 3, 1) := dk_29 (dk_at dksX0_who_7 23 rfl rfl)
theorem dX0_who_186 : decode cX0_who 186 = .ok (.iconst 1, 1) := dk_4 (dk_at dksX0_who_8 0 rfl rfl)
theorem dX0_who_187 : decode cX0_who 187 = .ok (.if_icmp .ne 14, 3) := dk_160 0 14 (dk_at dksX0_who_8 1 rfl rfl)
theorem dX0_who_190 : decode cX0_who 190 = .ok (.aload_n 0, 1) := dk_42 (dk_at dksX0_who_8 4 rfl rfl)
theorem dX0_who_191 : decode cX0_who 191 = .ok (.getfield 57, 3) := dk_180 0 57 (dk_at dksX0_who_8 5 rfl rfl)
theorem dX0_who_194 : decode cX0_who 194 = .ok (.getfield 264, 3) := dk_180 1 8 (dk_at dksX0_who_8 8 rfl rfl)
theorem dX0_who_197 : decode cX0_who 197 = .ok (.iload_n 2, 1) := dk_28 (dk_at dksX0_who_8 11 rfl rfl)
theorem dX0_who_198 : decode cX0_who 198 = .ok (.iload 10, 2) := dk_21 10 (dk_at dksX0_who_8 12 rfl rfl)
theorem dX0_who_200 : decode cX0_who 200 = .ok (.iastore, 1) := dk_79 (dk_at dksX0_who_8 14 rfl rfl)
theorem dX0_who_201 : decode cX0_who 201 = .ok (.iload_n 3, 1) := dk_29 (dk_at dksX0_who_8 15 rfl rfl)
theorem dX0_who_202 : decode cX0_who 202 = .ok (.iconst 2, 1) := dk_5 (dk_at dksX0_who_8 16 rfl rfl)
theorem dX0_who_203 : decode cX0_who 203 = .ok (.if_icmp .ne 18, 3) := dk_160 0 18 (dk_at dksX0_who_8 17 rfl rfl)
theorem dX0_who_206 : decode cX0_who 206 = .ok (.aload_n 0, 1) := dk_42 (dk_at dksX0_who_8 20 rfl rfl)
theorem dX0_who_207 : decode cX0_who 207 = .ok (.getfield 57, 3) := dk_180 0 57 (dk_at dksX0_who_8 21 rfl rfl)
theorem dX0_who_210 : decode cX0_who 210 = .ok (.getfield 256, 3) := dk_180 1 0 (dk_at dksX0_who_9 0 rfl rfl)
theorem dX0_who_213 : decode cX0_who 213 = .ok (.iconst 4, 1) := dk_7 (dk_at dksX0_who_9 3 rfl rfl)
theorem dX0_who_214 : decode cX0_who 214 = .ok (.iload_n 1, 1) := dk_27 (dk_at dksX0_who_9 4 rfl rfl)
theorem dX0_who_215 : decode cX0_who 215 = .ok (.imul, 1) := dk_104 (dk_at dksX0_who_9 5 rfl rfl)
theorem dX0_who_216 : decode cX0_who 216 = .ok (.iload_n 2, 1) := dk_28 (dk_at dksX0_who_9 6 rfl rfl)
theorem dX0_who_217 : decode cX0_who 217 = .ok (.iadd, 1) := dk_96 (dk_at dksX0_who_9 7 rfl rfl)
theorem dX0_who_218 : decode cX0_who 218 = .ok (.iload 10, 2) := dk_21 10 (dk_at dksX0_who_9 8 rfl rfl)
theorem dX0_who_220 : decode cX0_who 220 = .ok (.iastore, 1) := dk_79 (dk_at dksX0_who_9 10 rfl rfl)
theorem dX0_who_221 : decode cX0_who 221 = .ok (.iload 9, 2) := dk_21 9 (dk_at dksX0_who_9 11 rfl rfl)
theorem dX0_who_223 : decode cX0_who 223 = .ok (.aload_n 0, 1) := dk_42 (dk_at dksX0_who_9 13 rfl rfl)
theorem dX0_who_224 : decode cX0_who 224 = .ok (.iload 4, 2) := dk_21 4 (dk_at dksX0_who_9 14 rfl rfl)
theorem dX0_who_226 : decode cX0_who 226 = .ok (.aload 8, 2) := dk_25 8 (dk_at dksX0_who_9 16 rfl rfl)
theorem dX0_who_228 : decode cX0_who 228 = .ok (.invokevirtual 336, 3) := dk_182 1 80 (dk_at dksX0_who_9 18 rfl rfl)
theorem dX0_who_231 : decode cX0_who 231 = .ok (.ifCond .eq 10, 3) := dk_153 0 10 (dk_at dksX0_who_9 21 rfl rfl)
theorem dX0_who_234 : decode cX0_who 234 = .ok (.iconst 1, 1) := dk_4 (dk_at dksX0_who_10 0 rfl rfl)
theorem dX0_who_235 : decode cX0_who 235 = .ok (.iload 10, 2) := dk_21 10 (dk_at dksX0_who_10 1 rfl rfl)
theorem dX0_who_237 : decode cX0_who 237 = .ok (.ishl, 1) := dk_120 (dk_at dksX0_who_10 3 rfl rfl)
theorem dX0_who_238 : decode cX0_who 238 = .ok (.goto 4, 3) := dk_167 0 4 (dk_at dksX0_who_10 4 rfl rfl)
theorem dX0_who_241 : decode cX0_who 241 = .ok (.iconst 0, 1) := dk_3 (dk_at dksX0_who_10 7 rfl rfl)
theorem dX0_who_242 : decode cX0_who 242 = .ok (.ior, 1) := dk_128 (dk_at dksX0_who_10 8 rfl rfl)
theorem dX0_who_243 : decode cX0_who 243 = .ok (.istore 9, 2) := dk_54 9 (dk_at dksX0_who_10 9 rfl rfl)
theorem dX0_who_245 : decode cX0_who 245 = .ok (.iinc 10 1, 3) := dk_132 10 1 (dk_at dksX0_who_10 11 rfl rfl)
theorem dX0_who_248 : decode cX0_who 248 = .ok (.goto (-105), 3) := dk_167 255 151 (dk_at dksX0_who_10 14 rfl rfl)
theorem dX0_who_251 : decode cX0_who 251 = .ok (.aload_n 0, 1) := dk_42 (dk_at dksX0_who_10 17 rfl rfl)
theorem dX0_who_252 : decode cX0_who 252 = .ok (.iload 9, 2) := dk_21 9 (dk_at dksX0_who_10 18 rfl rfl)
theorem dX0_who_254 : decode cX0_who 254 = .ok (.invokevirtual 102, 3) := dk_182 0 102 (dk_at dksX0_who_10 20 rfl rfl)
theorem dX0_who_257 : decode cX0_who 257 = .ok (.ireturn, 1) := dk_172 (dk_at dksX0_who_10 23 rfl rfl)
theorem dX0_who_258 : decode cX0_who 258 = .ok (.astore 8, 2) := dk_58 8 (dk_at dksX0_who_11 0 rfl rfl)
theorem dX0_who_260 : decode cX0_who 260 = .ok (.aload_n 0, 1) := dk_42 (dk_at dksX0_who_11 2 rfl rfl)
theorem dX0_who_261 : decode cX0_who 261 = .ok (.aload 8, 2) := dk_25 8 (dk_at dksX0_who_11 3 rfl rfl)
theorem dX0_who_263 : decode cX0_who 263 = .ok (.invokevirtual 106, 3) := dk_182 0 106 (dk_at dksX0_who_11 5 rfl rfl)
theorem dX0_who_266 : decode cX0_who 266 = .ok (.ireturn, 1) := dk_172 (dk_at dksX0_who_11 8 rfl rfl)
abbrev cX0_tried : ByteArray := prog_1_method_45_code
def yX0_tried : MethodName := ⟨RX0, "tried", "()LInflatedRows$Book;"⟩
def dkwX0_tried_0 : List UInt8 := [42, 180, 0, 57, 42, 180, 0, 53, 182, 0, 161, 176]
abbrev dktX0_tried_0 : List UInt8 := dkwX0_tried_0 ++ []
theorem dksX0_tried_0 : cX0_tried.data.toList.drop 0 = dktX0_tried_0 := by decide +kernel
theorem dX0_tried_0 : decode cX0_tried 0 = .ok (.aload_n 0, 1) := dk_42 (dk_at dksX0_tried_0 0 rfl rfl)
theorem dX0_tried_1 : decode cX0_tried 1 = .ok (.getfield 57, 3) := dk_180 0 57 (dk_at dksX0_tried_0 1 rfl rfl)
theorem dX0_tried_4 : decode cX0_tried 4 = .ok (.aload_n 0, 1) := dk_42 (dk_at dksX0_tried_0 4 rfl rfl)
theorem dX0_tried_5 : decode cX0_tried 5 = .ok (.getfield 53, 3) := dk_180 0 53 (dk_at dksX0_tried_0 5 rfl rfl)
theorem dX0_tried_8 : decode cX0_tried 8 = .ok (.invokevirtual 161, 3) := dk_182 0 161 (dk_at dksX0_tried_0 8 rfl rfl)
theorem dX0_tried_11 : decode cX0_tried 11 = .ok (.areturn, 1) := dk_176 (dk_at dksX0_tried_0 11 rfl rfl)
abbrev cX0_isSeen : ByteArray := prog_1_method_46_code
def yX0_isSeen : MethodName := ⟨RX0, "isSeen", "(I[I)Z"⟩
def dkwX0_isSeen_3 : List UInt8 := [167, 255, 219, 29, 172]
abbrev dktX0_isSeen_3 : List UInt8 := dkwX0_isSeen_3 ++ []
def dkwX0_isSeen_2 : List UInt8 := [180, 0, 249, 21, 4, 46, 44, 21, 4, 46, 160, 0, 7, 4, 167, 0, 4, 3, 62, 132, 4, 1]
abbrev dktX0_isSeen_2 : List UInt8 := dkwX0_isSeen_2 ++ dktX0_isSeen_3
def dkwX0_isSeen_1 : List UInt8 := [167, 0, 4, 3, 62, 3, 54, 4, 21, 4, 44, 190, 162, 0, 36, 29, 153, 0, 32, 42, 180, 0, 57]
abbrev dktX0_isSeen_1 : List UInt8 := dkwX0_isSeen_1 ++ dktX0_isSeen_2
def dkwX0_isSeen_0 : List UInt8 := [42, 180, 0, 57, 27, 182, 0, 243, 153, 0, 19, 42, 180, 0, 57, 180, 0, 246, 44, 190, 161, 0, 7, 4]
abbrev dktX0_isSeen_0 : List UInt8 := dkwX0_isSeen_0 ++ dktX0_isSeen_1
theorem dksX0_isSeen_0 : cX0_isSeen.data.toList.drop 0 = dktX0_isSeen_0 := by decide +kernel
theorem dksX0_isSeen_1 : cX0_isSeen.data.toList.drop 24 = dktX0_isSeen_1 := dk_seg dksX0_isSeen_0 24 rfl rfl
theorem dksX0_isSeen_2 : cX0_isSeen.data.toList.drop 47 = dktX0_isSeen_2 := dk_seg dksX0_isSeen_1 23 rfl rfl
theorem dksX0_isSeen_3 : cX0_isSeen.data.toList.drop 69 = dktX0_isSeen_3 := dk_seg dksX0_isSeen_2 22 rfl rfl
theorem dX0_isSeen_0 : decode cX0_isSeen 0 = .ok (.aload_n 0, 1) := dk_42 (dk_at dksX0_isSeen_0 0 rfl rfl)
theorem dX0_isSeen_1 : decode cX0_isSeen 1 = .ok (.getfield 57, 3) := dk_180 0 57 (dk_at dksX0_isSeen_0 1 rfl rfl)
theorem dX0_isSeen_4 : decode cX0_isSeen 4 = .ok (.iload_n 1, 1) := dk_27 (dk_at dksX0_isSeen_0 4 rfl rfl)
theorem dX0_isSeen_5 : decode cX0_isSeen 5 = .ok (.invokevirtual 243, 3) := dk_182 0 243 (dk_at dksX0_isSeen_0 5 rfl rfl)
theorem dX0_isSeen_8 : decode cX0_isSeen 8 = .ok (.ifCond .eq 19, 3) := dk_153 0 19 (dk_at dksX0_isSeen_0 8 rfl rfl)
theorem dX0_isSeen_11 : decode cX0_isSeen 11 = .ok (.aload_n 0, 1) := dk_42 (dk_at dksX0_isSeen_0 11 rfl rfl)
theorem dX0_isSeen_12 : decode cX0_isSeen 12 = .ok (.getfield 57, 3) := dk_180 0 57 (dk_at dksX0_isSeen_0 12 rfl rfl)
theorem dX0_isSeen_15 : decode cX0_isSeen 15 = .ok (.getfield 246, 3) := dk_180 0 246 (dk_at dksX0_isSeen_0 15 rfl rfl)
theorem dX0_isSeen_18 : decode cX0_isSeen 18 = .ok (.aload_n 2, 1) := dk_44 (dk_at dksX0_isSeen_0 18 rfl rfl)
theorem dX0_isSeen_19 : decode cX0_isSeen 19 = .ok (.arraylength, 1) := dk_190 (dk_at dksX0_isSeen_0 19 rfl rfl)
theorem dX0_isSeen_20 : decode cX0_isSeen 20 = .ok (.if_icmp .lt 7, 3) := dk_161 0 7 (dk_at dksX0_isSeen_0 20 rfl rfl)
theorem dX0_isSeen_23 : decode cX0_isSeen 23 = .ok (.iconst 1, 1) := dk_4 (dk_at dksX0_isSeen_0 23 rfl rfl)
theorem dX0_isSeen_24 : decode cX0_isSeen 24 = .ok (.goto 4, 3) := dk_167 0 4 (dk_at dksX0_isSeen_1 0 rfl rfl)
theorem dX0_isSeen_27 : decode cX0_isSeen 27 = .ok (.iconst 0, 1) := dk_3 (dk_at dksX0_isSeen_1 3 rfl rfl)
theorem dX0_isSeen_28 : decode cX0_isSeen 28 = .ok (.istore_n 3, 1) := dk_62 (dk_at dksX0_isSeen_1 4 rfl rfl)
theorem dX0_isSeen_29 : decode cX0_isSeen 29 = .ok (.iconst 0, 1) := dk_3 (dk_at dksX0_isSeen_1 5 rfl rfl)
theorem dX0_isSeen_30 : decode cX0_isSeen 30 = .ok (.istore 4, 2) := dk_54 4 (dk_at dksX0_isSeen_1 6 rfl rfl)
theorem dX0_isSeen_32 : decode cX0_isSeen 32 = .ok (.iload 4, 2) := dk_21 4 (dk_at dksX0_isSeen_1 8 rfl rfl)
theorem dX0_isSeen_34 : decode cX0_isSeen 34 = .ok (.aload_n 2, 1) := dk_44 (dk_at dksX0_isSeen_1 10 rfl rfl)
theorem dX0_isSeen_35 : decode cX0_isSeen 35 = .ok (.arraylength, 1) := dk_190 (dk_at dksX0_isSeen_1 11 rfl rfl)
theorem dX0_isSeen_36 : decode cX0_isSeen 36 = .ok (.if_icmp .ge 36, 3) := dk_162 0 36 (dk_at dksX0_isSeen_1 12 rfl rfl)
theorem dX0_isSeen_39 : decode cX0_isSeen 39 = .ok (.iload_n 3, 1) := dk_29 (dk_at dksX0_isSeen_1 15 rfl rfl)
theorem dX0_isSeen_40 : decode cX0_isSeen 40 = .ok (.ifCond .eq 32, 3) := dk_153 0 32 (dk_at dksX0_isSeen_1 16 rfl rfl)
theorem dX0_isSeen_43 : decode cX0_isSeen 43 = .ok (.aload_n 0, 1) := dk_42 (dk_at dksX0_isSeen_1 19 rfl rfl)
theorem dX0_isSeen_44 : decode cX0_isSeen 44 = .ok (.getfield 57, 3) := dk_180 0 57 (dk_at dksX0_isSeen_1 20 rfl rfl)
theorem dX0_isSeen_47 : decode cX0_isSeen 47 = .ok (.getfield 249, 3) := dk_180 0 249 (dk_at dksX0_isSeen_2 0 rfl rfl)
theorem dX0_isSeen_50 : decode cX0_isSeen 50 = .ok (.iload 4, 2) := dk_21 4 (dk_at dksX0_isSeen_2 3 rfl rfl)
theorem dX0_isSeen_52 : decode cX0_isSeen 52 = .ok (.iaload, 1) := dk_46 (dk_at dksX0_isSeen_2 5 rfl rfl)
theorem dX0_isSeen_53 : decode cX0_isSeen 53 = .ok (.aload_n 2, 1) := dk_44 (dk_at dksX0_isSeen_2 6 rfl rfl)
theorem dX0_isSeen_54 : decode cX0_isSeen 54 = .ok (.iload 4, 2) := dk_21 4 (dk_at dksX0_isSeen_2 7 rfl rfl)
theorem dX0_isSeen_56 : decode cX0_isSeen 56 = .ok (.iaload, 1) := dk_46 (dk_at dksX0_isSeen_2 9 rfl rfl)
theorem dX0_isSeen_57 : decode cX0_isSeen 57 = .ok (.if_icmp .ne 7, 3) := dk_160 0 7 (dk_at dksX0_isSeen_2 10 rfl rfl)
theorem dX0_isSeen_60 : decode cX0_isSeen 60 = .ok (.iconst 1, 1) := dk_4 (dk_at dksX0_isSeen_2 13 rfl rfl)
theorem dX0_isSeen_61 : decode cX0_isSeen 61 = .ok (.goto 4, 3) := dk_167 0 4 (dk_at dksX0_isSeen_2 14 rfl rfl)
theorem dX0_isSeen_64 : decode cX0_isSeen 64 = .ok (.iconst 0, 1) := dk_3 (dk_at dksX0_isSeen_2 17 rfl rfl)
theorem dX0_isSeen_65 : decode cX0_isSeen 65 = .ok (.istore_n 3, 1) := dk_62 (dk_at dksX0_isSeen_2 18 rfl rfl)
theorem dX0_isSeen_66 : decode cX0_isSeen 66 = .ok (.iinc 4 1, 3) := dk_132 4 1 (dk_at dksX0_isSeen_2 19 rfl rfl)
theorem dX0_isSeen_69 : decode cX0_isSeen 69 = .ok (.goto (-37), 3) := dk_167 255 219 (dk_at dksX0_isSeen_3 0 rfl rfl)
theorem dX0_isSeen_72 : decode cX0_isSeen 72 = .ok (.iload_n 3, 1) := dk_29 (dk_at dksX0_isSeen_3 3 rfl rfl)
theorem dX0_isSeen_73 : decode cX0_isSeen 73 = .ok (.ireturn, 1) := dk_172 (dk_at dksX0_isSeen_3 4 rfl rfl)
abbrev cX0_quiet : ByteArray := prog_1_method_48_code
def yX0_quiet : MethodName := ⟨RX0, "quiet", "()I"⟩
def dkwX0_quiet_4 : List UInt8 := [132, 4, 1, 167, 255, 195, 132, 3, 1, 167, 255, 175, 28, 172]
abbrev dktX0_quiet_4 : List UInt8 := dkwX0_quiet_4 ++ []
def dkwX0_quiet_3 : List UInt8 := [159, 0, 20, 42, 180, 0, 57, 182, 1, 55, 27, 160, 0, 9, 4, 29, 120, 167, 0, 4, 3, 128, 61]
abbrev dktX0_quiet_3 : List UInt8 := dkwX0_quiet_3 ++ dktX0_quiet_4
def dkwX0_quiet_2 : List UInt8 := [42, 182, 1, 76, 180, 1, 8, 29, 21, 4, 79, 28, 21, 4, 42, 180, 0, 53, 180, 1, 8, 29, 46]
abbrev dktX0_quiet_2 : List UInt8 := dkwX0_quiet_2 ++ dktX0_quiet_3
def dkwX0_quiet_1 : List UInt8 := [180, 0, 53, 180, 0, 236, 162, 0, 76, 3, 54, 4, 21, 4, 42, 180, 0, 53, 182, 0, 168, 162, 0, 55]
abbrev dktX0_quiet_1 : List UInt8 := dkwX0_quiet_1 ++ dktX0_quiet_2
def dkwX0_quiet_0 : List UInt8 := [42, 182, 0, 222, 154, 0, 6, 18, 172, 172, 42, 180, 0, 53, 182, 1, 55, 60, 3, 61, 3, 62, 29, 42]
abbrev dktX0_quiet_0 : List UInt8 := dkwX0_quiet_0 ++ dktX0_quiet_1
theorem dksX0_quiet_0 : cX0_quiet.data.toList.drop 0 = dktX0_quiet_0 := by decide +kernel
theorem dksX0_quiet_1 : cX0_quiet.data.toList.drop 24 = dktX0_quiet_1 := dk_seg dksX0_quiet_0 24 rfl rfl
theorem dksX0_quiet_2 : cX0_quiet.data.toList.drop 48 = dktX0_quiet_2 := dk_seg dksX0_quiet_1 24 rfl rfl
theorem dksX0_quiet_3 : cX0_quiet.data.toList.drop 71 = dktX0_quiet_3 := dk_seg dksX0_quiet_2 23 rfl rfl
theorem dksX0_quiet_4 : cX0_quiet.data.toList.drop 94 = dktX0_quiet_4 := dk_seg dksX0_quiet_3 23 rfl rfl
theorem dX0_quiet_0 : decode cX0_quiet 0 = .ok (.aload_n 0, 1) := dk_42 (dk_at dksX0_quiet_0 0 rfl rfl)
theorem dX0_quiet_1 : decode cX0_quiet 1 = .ok (.invokevirtual 222, 3) := dk_182 0 222 (dk_at dksX0_quiet_0 1 rfl rfl)
theorem dX0_quiet_4 : decode cX0_quiet 4 = .ok (.ifCond .ne 6, 3) := dk_154 0 6 (dk_at dksX0_quiet_0 4 rfl rfl)
theorem dX0_quiet_7 : decode cX0_quiet 7 = .ok (.ldc 172, 2) := dk_18 172 (dk_at dksX0_quiet_0 7 rfl rfl)
theorem dX0_quiet_9 : decode cX0_quiet 9 = .ok (.ireturn, 1) := dk_172 (dk_at dksX0_quiet_0 9 rfl rfl)
theorem dX0_quiet_10 : decode cX0_quiet 10 = .ok (.aload_n 0, 1) := dk_42 (dk_at dksX0_quiet_0 10 rfl rfl)
theorem dX0_quiet_11 : decode cX0_quiet 11 = .ok (.getfield 53, 3) := dk_180 0 53 (dk_at dksX0_quiet_0 11 rfl rfl)
theorem dX0_quiet_14 : decode cX0_quiet 14 = .ok (.invokevirtual 311, 3) := dk_182 1 55 (dk_at dksX0_quiet_0 14 rfl rfl)
theorem dX0_quiet_17 : decode cX0_quiet 17 = .ok (.istore_n 1, 1) := dk_60 (dk_at dksX0_quiet_0 17 rfl rfl)
theorem dX0_quiet_18 : decode cX0_quiet 18 = .ok (.iconst 0, 1) := dk_3 (dk_at dksX0_quiet_0 18 rfl rfl)
theorem dX0_quiet_19 : decode cX0_quiet 19 = .ok (.istore_n 2, 1) := dk_61 (dk_at dksX0_quiet_0 19 rfl rfl)
theorem dX0_quiet_20 : decode cX0_quiet 20 = .ok (.iconst 0, 1) := dk_3 (dk_at dksX0_quiet_0 20 rfl rfl)
theorem dX0_quiet_21 : decode cX0_quiet 21 = .ok (.istore_n 3, 1) := dk_62 (dk_at dksX0_quiet_0 21 rfl rfl)
theorem dX0_quiet_22 : decode cX0_quiet 22 = .ok (.iload_n 3, 1) := dk_29 (dk_at dksX0_quiet_0 22 rfl rfl)
theorem dX0_quiet_23 : decode cX0_quiet 23 = .ok (.aload_n 0, 1) := dk_42 (dk_at dksX0_quiet_0 23 rfl rfl)
theorem dX0_quiet_24 : decode cX0_quiet 24 = .ok (.getfield 53, 3) := dk_180 0 53 (dk_at dksX0_quiet_1 0 rfl rfl)
theorem dX0_quiet_27 : decode cX0_quiet 27 = .ok (.getfield 236, 3) := dk_180 0 236 (dk_at dksX0_quiet_1 3 rfl rfl)
theorem dX0_quiet_30 : decode cX0_quiet 30 = .ok (.if_icmp .ge 76, 3) := dk_162 0 76 (dk_at dksX0_quiet_1 6 rfl rfl)
theorem dX0_quiet_33 : decode cX0_quiet 33 = .ok (.iconst 0, 1) := dk_3 (dk_at dksX0_quiet_1 9 rfl rfl)
theorem dX0_quiet_34 : decode cX0_quiet 34 = .ok (.istore 4, 2) := dk_54 4 (dk_at dksX0_quiet_1 10 rfl rfl)
theorem dX0_quiet_36 : decode cX0_quiet 36 = .ok (.iload 4, 2) := dk_21 4 (dk_at dksX0_quiet_1 12 rfl rfl)
theorem dX0_quiet_38 : decode cX0_quiet 38 = .ok (.aload_n 0, 1) := dk_42 (dk_at dksX0_quiet_1 14 rfl rfl)
theorem dX0_quiet_39 : decode cX0_quiet 39 = .ok (.getfield 53, 3) := dk_180 0 53 (dk_at dksX0_quiet_1 15 rfl rfl)
theorem dX0_quiet_42 : decode cX0_quiet 42 = .ok (.invokevirtual 168, 3) := dk_182 0 168 (dk_at dksX0_quiet_1 18 rfl rfl)
theorem dX0_quiet_45 : decode cX0_quiet 45 = .ok (.if_icmp .ge 55, 3) := dk_162 0 55 (dk_at dksX0_quiet_1 21 rfl rfl)
theorem dX0_quiet_48 : decode cX0_quiet 48 = .ok (.aload_n 0, 1) := dk_42 (dk_at dksX0_quiet_2 0 rfl rfl)
theorem dX0_quiet_49 : decode cX0_quiet 49 = .ok (.invokevirtual 332, 3) := dk_182 1 76 (dk_at dksX0_quiet_2 1 rfl rfl)
theorem dX0_quiet_52 : decode cX0_quiet 52 = .ok (.getfield 264, 3) := dk_180 1 8 (dk_at dksX0_quiet_2 4 rfl rfl)
theorem dX0_quiet_55 : decode cX0_quiet 55 = .ok (.iload_n 3, 1) := dk_29 (dk_at dksX0_quiet_2 7 rfl rfl)
theorem dX0_quiet_56 : decode cX0_quiet 56 = .ok (.iload 4, 2) := dk_21 4 (dk_at dksX0_quiet_2 8 rfl rfl)
theorem dX0_quiet_58 : decode cX0_quiet 58 = .ok (.iastore, 1) := dk_79 (dk_at dksX0_quiet_2 10 rfl rfl)
theorem dX0_quiet_59 : decode cX0_quiet 59 = .ok (.iload_n 2, 1) := dk_28 (dk_at dksX0_quiet_2 11 rfl rfl)
theorem dX0_quiet_60 : decode cX0_quiet 60 = .ok (.iload 4, 2) := dk_21 4 (dk_at dksX0_quiet_2 12 rfl rfl)
theorem dX0_quiet_62 : decode cX0_quiet 62 = .ok (.aload_n 0, 1) := dk_42 (dk_at dksX0_quiet_2 14 rfl rfl)
theorem dX0_quiet_63 : decode cX0_quiet 63 = .ok (.getfield 53, 3) := dk_180 0 53 (dk_at dksX0_quiet_2 15 rfl rfl)
theorem dX0_quiet_66 : decode cX0_quiet 66 = .ok (.getfield 264, 3) := dk_180 1 8 (dk_at dksX0_quiet_2 18 rfl rfl)
theorem dX0_quiet_69 : decode cX0_quiet 69 = .ok (.iload_n 3, 1) := dk_29 (dk_at dksX0_quiet_2 21 rfl rfl)
theorem dX0_quiet_70 : decode cX0_quiet 70 = .ok (.iaload, 1) := dk_46 (dk_at dksX0_quiet_2 22 rfl rfl)
theorem dX0_quiet_71 : decode cX0_quiet 71 = .ok (.if_icmp .eq 20, 3) := dk_159 0 20 (dk_at dksX0_quiet_3 0 rfl rfl)
theorem dX0_quiet_74 : decode cX0_quiet 74 = .ok (.aload_n 0, 1) := dk_42 (dk_at dksX0_quiet_3 3 rfl rfl)
theorem dX0_quiet_75 : decode cX0_quiet 75 = .ok (.getfield 57, 3) := dk_180 0 57 (dk_at dksX0_quiet_3 4 rfl rfl)
theorem dX0_quiet_78 : decode cX0_quiet 78 = .ok (.invokevirtual 311, 3) := dk_182 1 55 (dk_at dksX0_quiet_3 7 rfl rfl)
theorem dX0_quiet_81 : decode cX0_quiet 81 = .ok (.iload_n 1, 1) := dk_27 (dk_at dksX0_quiet_3 10 rfl rfl)
theorem dX0_quiet_82 : decode cX0_quiet 82 = .ok (.if_icmp .ne 9, 3) := dk_160 0 9 (dk_at dksX0_quiet_3 11 rfl rfl)
theorem dX0_quiet_85 : decode cX0_quiet 85 = .ok (.iconst 1, 1) := dk_4 (dk_at dksX0_quiet_3 14 rfl rfl)
theorem dX0_quiet_86 : decode cX0_quiet 86 = .ok (.iload_n 3, 1) := dk_29 (dk_at dksX0_quiet_3 15 rfl rfl)
theorem dX0_quiet_87 : decode cX0_quiet 87 = .ok (.ishl, 1) := dk_120 (dk_at dksX0_quiet_3 16 rfl rfl)
theorem dX0_quiet_88 : decode cX0_quiet 88 = .ok (.goto 4, 3) := dk_167 0 4 (dk_at dksX0_quiet_3 17 rfl rfl)
theorem dX0_quiet_91 : decode cX0_quiet 91 = .ok (.iconst 0, 1) := dk_3 (dk_at dksX0_quiet_3 20 rfl rfl)
theorem dX0_quiet_92 : decode cX0_quiet 92 = .ok (.ior, 1) := dk_128 (dk_at dksX0_quiet_3 21 rfl rfl)
theorem dX0_quiet_93 : decode cX0_quiet 93 = .ok (.istore_n 2, 1) := dk_61 (dk_at dksX0_quiet_3 22 rfl rfl)
theorem dX0_quiet_94 : decode cX0_quiet 94 = .ok (.iinc 4 1, 3) := dk_132 4 1 (dk_at dksX0_quiet_4 0 rfl rfl)
theorem dX0_quiet_97 : decode cX0_quiet 97 = .ok (.goto (-61), 3) := dk_167 255 195 (dk_at dksX0_quiet_4 3 rfl rfl)
theorem dX0_quiet_100 : decode cX0_quiet 100 = .ok (.iinc 3 1, 3) := dk_132 3 1 (dk_at dksX0_quiet_4 6 rfl rfl)
theorem dX0_quiet_103 : decode cX0_quiet 103 = .ok (.goto (-81), 3) := dk_167 255 175 (dk_at dksX0_quiet_4 9 rfl rfl)
theorem dX0_quiet_106 : decode cX0_quiet 106 = .ok (.iload_n 2, 1) := dk_28 (dk_at dksX0_quiet_4 12 rfl rfl)
theorem dX0_quiet_107 : decode cX0_quiet 107 = .ok (.ireturn, 1) := dk_172 (dk_at dksX0_quiet_4 13 rfl rfl)
abbrev cX0_sets : ByteArray := prog_1_method_50_code
def yX0_sets : MethodName := ⟨RX0, "sets", "(II)I"⟩
def dkwX0_sets_5 : List UInt8 := [21, 6, 167, 0, 14, 21, 4, 154, 0, 7, 3, 167, 0, 5, 21, 5, 172]
abbrev dktX0_sets_5 : List UInt8 := dkwX0_sets_5 ++ []
def dkwX0_sets_4 : List UInt8 := [128, 54, 6, 132, 7, 1, 167, 255, 217, 28, 154, 0, 8, 21, 4, 167, 0, 24, 28, 5, 160, 0, 8]
abbrev dktX0_sets_4 : List UInt8 := dkwX0_sets_4 ++ dktX0_sets_5
def dkwX0_sets_3 : List UInt8 := [182, 1, 89, 27, 159, 0, 6, 167, 0, 20, 132, 4, 1, 21, 5, 21, 7, 126, 54, 5, 21, 6, 21, 7]
abbrev dktX0_sets_3 : List UInt8 := dkwX0_sets_3 ++ dktX0_sets_4
def dkwX0_sets_2 : List UInt8 := [62, 3, 54, 4, 29, 54, 5, 3, 54, 6, 3, 54, 7, 21, 7, 29, 163, 0, 39, 42, 21, 7]
abbrev dktX0_sets_2 : List UInt8 := dkwX0_sets_2 ++ dktX0_sets_3
def dkwX0_sets_1 : List UInt8 := [9, 20, 0, 96, 184, 0, 84, 154, 0, 6, 18, 98, 172, 4, 42, 180, 0, 53, 180, 0, 236, 120, 4, 100]
abbrev dktX0_sets_1 : List UInt8 := dkwX0_sets_1 ++ dktX0_sets_2
def dkwX0_sets_0 : List UInt8 := [42, 182, 0, 222, 154, 0, 6, 18, 172, 172, 27, 133, 9, 20, 1, 87, 184, 0, 84, 153, 0, 15, 28, 133]
abbrev dktX0_sets_0 : List UInt8 := dkwX0_sets_0 ++ dktX0_sets_1
theorem dksX0_sets_0 : cX0_sets.data.toList.drop 0 = dktX0_sets_0 := by decide +kernel
theorem dksX0_sets_1 : cX0_sets.data.toList.drop 24 = dktX0_sets_1 := dk_seg dksX0_sets_0 24 rfl rfl
theorem dksX0_sets_2 : cX0_sets.data.toList.drop 48 = dktX0_sets_2 := dk_seg dksX0_sets_1 24 rfl rfl
theorem dksX0_sets_3 : cX0_sets.data.toList.drop 70 = dktX0_sets_3 := dk_seg dksX0_sets_2 22 rfl rfl
theorem dksX0_sets_4 : cX0_sets.data.toList.drop 94 = dktX0_sets_4 := dk_seg dksX0_sets_3 24 rfl rfl
theorem dksX0_sets_5 : cX0_sets.data.toList.drop 117 = dktX0_sets_5 := dk_seg dksX0_sets_4 23 rfl rfl
theorem dX0_sets_0 : decode cX0_sets 0 = .ok (.aload_n 0, 1) := dk_42 (dk_at dksX0_sets_0 0 rfl rfl)
theorem dX0_sets_1 : decode cX0_sets 1 = .ok (.invokevirtual 222, 3) := dk_182 0 222 (dk_at dksX0_sets_0 1 rfl rfl)
theorem dX0_sets_4 : decode cX0_sets 4 = .ok (.ifCond .ne 6, 3) := dk_154 0 6 (dk_at dksX0_sets_0 4 rfl rfl)
theorem dX0_sets_7 : decode cX0_sets 7 = .ok (.ldc 172, 2) := dk_18 172 (dk_at dksX0_sets_0 7 rfl rfl)
theorem dX0_sets_9 : decode cX0_sets 9 = .ok (.ireturn, 1) := dk_172 (dk_at dksX0_sets_0 9 rfl rfl)
theorem dX0_sets_10 : decode cX0_sets 10 = .ok (.iload_n 1, 1) := dk_27 (dk_at dksX0_sets_0 10 rfl rfl)
theorem dX0_sets_11 : decode cX0_sets 11 = .ok (.i2l, 1) := dk_133 (dk_at dksX0_sets_0 11 rfl rfl)
theorem dX0_sets_12 : decode cX0_sets 12 = .ok (.lconst 0, 1) := dk_9 (dk_at dksX0_sets_0 12 rfl rfl)
theorem dX0_sets_13 : decode cX0_sets 13 = .ok (.ldc2_w 343, 3) := dk_20 1 87 (dk_at dksX0_sets_0 13 rfl rfl)
theorem dX0_sets_16 : decode cX0_sets 16 = .ok (.invokestatic 84, 3) := dk_184 0 84 (dk_at dksX0_sets_0 16 rfl rfl)
theorem dX0_sets_19 : decode cX0_sets 19 = .ok (.ifCond .eq 15, 3) := dk_153 0 15 (dk_at dksX0_sets_0 19 rfl rfl)
theorem dX0_sets_22 : decode cX0_sets 22 = .ok (.iload_n 2, 1) := dk_28 (dk_at dksX0_sets_0 22 rfl rfl)
theorem dX0_sets_23 : decode cX0_sets 23 = .ok (.i2l, 1) := dk_133 (dk_at dksX0_sets_0 23 rfl rfl)
theorem dX0_sets_24 : decode cX0_sets 24 = .ok (.lconst 0, 1) := dk_9 (dk_at dksX0_sets_1 0 rfl rfl)
theorem dX0_sets_25 : decode cX0_sets 25 = .ok (.ldc2_w 96, 3) := dk_20 0 96 (dk_at dksX0_sets_1 1 rfl rfl)
theorem dX0_sets_28 : decode cX0_sets 28 = .ok (.invokestatic 84, 3) := dk_184 0 84 (dk_at dksX0_sets_1 4 rfl rfl)
theorem dX0_sets_31 : decode cX0_sets 31 = .ok (.ifCond .ne 6, 3) := dk_154 0 6 (dk_at dksX0_sets_1 7 rfl rfl)
theorem dX0_sets_34 : decode cX0_sets 34 = .ok (.ldc 98, 2) := dk_18 98 (dk_at dksX0_sets_1 10 rfl rfl)
theorem dX0_sets_36 : decode cX0_sets 36 = .ok (.ireturn, 1) := dk_172 (dk_at dksX0_sets_1 12 rfl rfl)
theorem dX0_sets_37 : decode cX0_sets 37 = .ok (.iconst 1, 1) := dk_4 (dk_at dksX0_sets_1 13 rfl rfl)
theorem dX0_sets_38 : decode cX0_sets 38 = .ok (.aload_n 0, 1) := dk_42 (dk_at dksX0_sets_1 14 rfl rfl)
theorem dX0_sets_39 : decode cX0_sets 39 = .ok (.getfield 53, 3) := dk_180 0 53 (dk_at dksX0_sets_1 15 rfl rfl)
theorem dX0_sets_42 : decode cX0_sets 42 = .ok (.getfield 236, 3) := dk_180 0 236 (dk_at dksX0_sets_1 18 rfl rfl)
theorem dX0_sets_45 : decode cX0_sets 45 = .ok (.ishl, 1) := dk_120 (dk_at dksX0_sets_1 21 rfl rfl)
theorem dX0_sets_46 : decode cX0_sets 46 = .ok (.iconst 1, 1) := dk_4 (dk_at dksX0_sets_1 22 rfl rfl)
theorem dX0_sets_47 : decode cX0_sets 47 = .ok (.isub, 1) := dk_100 (dk_at dksX0_sets_1 23 rfl rfl)
theorem dX0_sets_48 : decode cX0_sets 48 = .ok (.istore_n 3, 1) := dk_62 (dk_at dksX0_sets_2 0 rfl rfl)
theorem dX0_sets_49 : decode cX0_sets 49 = .ok (.iconst 0, 1) := dk_3 (dk_at dksX0_sets_2 1 rfl rfl)
theorem dX0_sets_50 : decode cX0_sets 50 = .ok (.istore 4, 2) := dk_54 4 (dk_at dksX0_sets_2 2 rfl rfl)
theorem dX0_sets_52 : decode cX0_sets 52 = .ok (.iload_n 3, 1) := dk_29 (dk_at dksX0_sets_2 4 rfl rfl)
theorem dX0_sets_53 : decode cX0_sets 53 = .ok (.istore 5, 2) := dk_54 5 (dk_at dksX0_sets_2 5 rfl rfl)
theorem dX0_sets_55 : decode cX0_sets 55 = .ok (.iconst 0, 1) := dk_3 (dk_at dksX0_sets_2 7 rfl rfl)
theorem dX0_sets_56 : decode cX0_sets 56 = .ok (.istore 6, 2) := dk_54 6 (dk_at dksX0_sets_2 8 rfl rfl)
theorem dX0_sets_58 : decode cX0_sets 58 = .ok (.iconst 0, 1) := dk_3 (dk_at dksX0_sets_2 10 rfl rfl)
theorem dX0_sets_59 : decode cX0_sets 59 = .ok (.istore 7, 2) := dk_54 7 (dk_at dksX0_sets_2 11 rfl rfl)
theorem dX0_sets_61 : decode cX0_sets 61 = .ok (.iload 7, 2) := dk_21 7 (dk_at dksX0_sets_2 13 rfl rfl)
theorem dX0_sets_63 : decode cX0_sets 63 = .ok (.iload_n 3, 1) := dk_29 (dk_at dksX0_sets_2 15 rfl rfl)
theorem dX0_sets_64 : decode cX0_sets 64 = .ok (.if_icmp .gt 39, 3) := dk_163 0 39 (dk_at dksX0_sets_2 16 rfl rfl)
theorem dX0_sets_67 : decode cX0_sets 67 = .ok (.aload_n 0, 1) := dk_42 (dk_at dksX0_sets_2 19 rfl rfl)
theorem dX0_sets_68 : decode cX0_sets 68 = .ok (.iload 7, 2) := dk_21 7 (dk_at dksX0_sets_2 20 rfl rfl)
theorem dX0_sets_70 : decode cX0_sets 70 = .ok (.invokevirtual 345, 3) := dk_182 1 89 (dk_at dksX0_sets_3 0 rfl rfl)
theorem dX0_sets_73 : decode cX0_sets 73 = .ok (.iload_n 1, 1) := dk_27 (dk_at dksX0_sets_3 3 rfl rfl)
theorem dX0_sets_74 : decode cX0_sets 74 = .ok (.if_icmp .eq 6, 3) := dk_159 0 6 (dk_at dksX0_sets_3 4 rfl rfl)
theorem dX0_sets_77 : decode cX0_sets 77 = .ok (.goto 20, 3) := dk_167 0 20 (dk_at dksX0_sets_3 7 rfl rfl)
theorem dX0_sets_80 : decode cX0_sets 80 = .ok (.iinc 4 1, 3) := dk_132 4 1 (dk_at dksX0_sets_3 10 rfl rfl)
theorem dX0_sets_83 : decode cX0_sets 83 = .ok (.iload 5, 2) := dk_21 5 (dk_at dksX0_sets_3 13 rfl rfl)
theorem dX0_sets_85 : decode cX0_sets 85 = .ok (.iload 7, 2) := dk_21 7 (dk_at dksX0_sets_3 15 rfl rfl)
theorem dX0_sets_87 : decode cX0_sets 87 = .ok (.iand, 1) := dk_126 (dk_at dksX0_sets_3 17 rfl rfl)
theorem dX0_sets_88 : decode cX0_sets 88 = .ok (.istore 5, 2) := dk_54 5 (dk_at dksX0_sets_3 18 rfl rfl)
theorem dX0_sets_90 : decode cX0_sets 90 = .ok (.iload 6, 2) := dk_21 6 (dk_at dksX0_sets_3 20 rfl rfl)
theorem dX0_sets_92 : decode cX0_sets 92 = .ok (.iload 7, 2) := dk_21 7 (dk_at dksX0_sets_3 22 rfl rfl)
theorem dX0_sets_94 : decode cX0_sets 94 = .ok (.ior, 1) := dk_128 (dk_at dksX0_sets_4 0 rfl rfl)
theorem dX0_sets_95 : decode cX0_sets 95 = .ok (.istore 6, 2) := dk_54 6 (dk_at dksX0_sets_4 1 rfl rfl)
theorem dX0_sets_97 : decode cX0_sets 97 = .ok (.iinc 7 1, 3) := dk_132 7 1 (dk_at dksX0_sets_4 3 rfl rfl)
theorem dX0_sets_100 : decode cX0_sets 100 = .ok (.goto (-39), 3) := dk_167 255 217 (dk_at dksX0_sets_4 6 rfl rfl)
theorem dX0_sets_103 : decode cX0_sets 103 = .ok (.iload_n 2, 1) := dk_28 (dk_at dksX0_sets_4 9 rfl rfl)
theorem dX0_sets_104 : decode cX0_sets 104 = .ok (.ifCond .ne 8, 3) := dk_154 0 8 (dk_at dksX0_sets_4 10 rfl rfl)
theorem dX0_sets_107 : decode cX0_sets 107 = .ok (.iload 4, 2) := dk_21 4 (dk_at dksX0_sets_4 13 rfl rfl)
theorem dX0_sets_109 : decode cX0_sets 109 = .ok (.goto 24, 3) := dk_167 0 24 (dk_at dksX0_sets_4 15 rfl rfl)
theorem dX0_sets_112 : decode cX0_sets 112 = .ok (.iload_n 2, 1) := dk_28 (dk_at dksX0_sets_4 18 rfl rfl)
theorem dX0_sets_113 : decode cX0_sets 113 = .ok (.iconst 2, 1) := dk_5 (dk_at dksX0_sets_4 19 rfl rfl)
theorem dX0_sets_114 : decode cX0_sets 114 = .ok (.if_icmp .ne 8, 3) := dk_160 0 8 (dk_at dksX0_sets_4 20 rfl rfl)
theorem dX0_sets_117 : decode cX0_sets 117 = .ok (.iload 6, 2) := dk_21 6 (dk_at dksX0_sets_5 0 rfl rfl)
theorem dX0_sets_119 : decode cX0_sets 119 = .ok (.goto 14, 3) := dk_167 0 14 (dk_at dksX0_sets_5 2 rfl rfl)
theorem dX0_sets_122 : decode cX0_sets 122 = .ok (.iload 4, 2) := dk_21 4 (dk_at dksX0_sets_5 5 rfl rfl)
theorem dX0_sets_124 : decode cX0_sets 124 = .ok (.ifCond .ne 7, 3) := dk_154 0 7 (dk_at dksX0_sets_5 7 rfl rfl)
theorem dX0_sets_127 : decode cX0_sets 127 = .ok (.iconst 0, 1) := dk_3 (dk_at dksX0_sets_5 10 rfl rfl)
theorem dX0_sets_128 : decode cX0_sets 128 = .ok (.goto 5, 3) := dk_167 0 5 (dk_at dksX0_sets_5 11 rfl rfl)
theorem dX0_sets_131 : decode cX0_sets 131 = .ok (.iload 5, 2) := dk_21 5 (dk_at dksX0_sets_5 14 rfl rfl)
theorem dX0_sets_133 : decode cX0_sets 133 = .ok (.ireturn, 1) := dk_172 (dk_at dksX0_sets_5 16 rfl rfl)
abbrev cX0_wholesOf : ByteArray := prog_1_method_49_code
def yX0_wholesOf : MethodName := ⟨RX0, "wholesOf", "(I)I"⟩
def dkwX0_wholesOf_2 : List UInt8 := [167, 0, 4, 3, 96, 61, 132, 3, 1, 167, 255, 203, 28, 172]
abbrev dktX0_wholesOf_2 : List UInt8 := dkwX0_wholesOf_2 ++ []
def dkwX0_wholesOf_1 : List UInt8 := [42, 180, 0, 53, 42, 180, 0, 53, 180, 1, 8, 29, 46, 182, 0, 210, 42, 180, 0, 53, 3, 182, 1, 25]
abbrev dktX0_wholesOf_1 : List UInt8 := dkwX0_wholesOf_1 ++ dktX0_wholesOf_2
def dkwX0_wholesOf_0 : List UInt8 := [3, 61, 3, 62, 29, 42, 180, 0, 53, 180, 0, 236, 162, 0, 48, 28, 27, 29, 184, 1, 84, 153, 0, 30]
abbrev dktX0_wholesOf_0 : List UInt8 := dkwX0_wholesOf_0 ++ dktX0_wholesOf_1
theorem dksX0_wholesOf_0 : cX0_wholesOf.data.toList.drop 0 = dktX0_wholesOf_0 := by decide +kernel
theorem dksX0_wholesOf_1 : cX0_wholesOf.data.toList.drop 24 = dktX0_wholesOf_1 := dk_seg dksX0_wholesOf_0 24 rfl rfl
theorem dksX0_wholesOf_2 : cX0_wholesOf.data.toList.drop 48 = dktX0_wholesOf_2 := dk_seg dksX0_wholesOf_1 24 rfl rfl
theorem dX0_wholesOf_0 : decode cX0_wholesOf 0 = .ok (.iconst 0, 1) := dk_3 (dk_at dksX0_wholesOf_0 0 rfl rfl)
theorem dX0_wholesOf_1 : decode cX0_wholesOf 1 = .ok (.istore_n 2, 1) := dk_61 (dk_at dksX0_wholesOf_0 1 rfl rfl)
theorem dX0_wholesOf_2 : decode cX0_wholesOf 2 = .ok (.iconst 0, 1) := dk_3 (dk_at dksX0_wholesOf_0 2 rfl rfl)
theorem dX0_wholesOf_3 : decode cX0_wholesOf 3 = .ok (.istore_n 3, 1) := dk_62 (dk_at dksX0_wholesOf_0 3 rfl rfl)
theorem dX0_wholesOf_4 : decode cX0_wholesOf 4 = .ok (.iload_n 3, 1) := dk_29 (dk_at dksX0_wholesOf_0 4 rfl rfl)
theorem dX0_wholesOf_5 : decode cX0_wholesOf 5 = .ok (.aload_n 0, 1) := dk_42 (dk_at dksX0_wholesOf_0 5 rfl rfl)
theorem dX0_wholesOf_6 : decode cX0_wholesOf 6 = .ok (.getfield 53, 3) := dk_180 0 53 (dk_at dksX0_wholesOf_0 6 rfl rfl)
theorem dX0_wholesOf_9 : decode cX0_wholesOf 9 = .ok (.getfield 236, 3) := dk_180 0 236 (dk_at dksX0_wholesOf_0 9 rfl rfl)
theorem dX0_wholesOf_12 : decode cX0_wholesOf 12 = .ok (.if_icmp .ge 48, 3) := dk_162 0 48 (dk_at dksX0_wholesOf_0 12 rfl rfl)
theorem dX0_wholesOf_15 : decode cX0_wholesOf 15 = .ok (.iload_n 2, 1) := dk_28 (dk_at dksX0_wholesOf_0 15 rfl rfl)
theorem dX0_wholesOf_16 : decode cX0_wholesOf 16 = .ok (.iload_n 1, 1) := dk_27 (dk_at dksX0_wholesOf_0 16 rfl rfl)
theorem dX0_wholesOf_17 : decode cX0_wholesOf 17 = .ok (.iload_n 3, 1) := dk_29 (dk_at dksX0_wholesOf_0 17 rfl rfl)
theorem dX0_wholesOf_18 : decode cX0_wholesOf 18 = .ok (.invokestatic 340, 3) := dk_184 1 84 (dk_at dksX0_wholesOf_0 18 rfl rfl)
theorem dX0_wholesOf_21 : decode cX0_wholesOf 21 = .ok (.ifCond .eq 30, 3) := dk_153 0 30 (dk_at dksX0_wholesOf_0 21 rfl rfl)
theorem dX0_wholesOf_24 : decode cX0_wholesOf 24 = .ok (.aload_n 0, 1) := dk_42 (dk_at dksX0_wholesOf_1 0 rfl rfl)
theorem dX0_wholesOf_25 : decode cX0_wholesOf 25 = .ok (.getfield 53, 3) := dk_180 0 53 (dk_at dksX0_wholesOf_1 1 rfl rfl)
theorem dX0_wholesOf_28 : decode cX0_wholesOf 28 = .ok (.aload_n 0, 1) := dk_42 (dk_at dksX0_wholesOf_1 4 rfl rfl)
theorem dX0_wholesOf_29 : decode cX0_wholesOf 29 = .ok (.getfield 53, 3) := dk_180 0 53 (dk_at dksX0_wholesOf_1 5 rfl rfl)
theorem dX0_wholesOf_32 : decode cX0_wholesOf 32 = .ok (.getfield 264, 3) := dk_180 1 8 (dk_at dksX0_wholesOf_1 8 rfl rfl)
theorem dX0_wholesOf_35 : decode cX0_wholesOf 35 = .ok (.iload_n 3, 1) := dk_29 (dk_at dksX0_wholesOf_1 11 rfl rfl)
theorem dX0_wholesOf_36 : decode cX0_wholesOf 36 = .ok (.iaload, 1) := dk_46 (dk_at dksX0_wholesOf_1 12 rfl rfl)
theorem dX0_wholesOf_37 : decode cX0_wholesOf 37 = .ok (.invokevirtual 210, 3) := dk_182 0 210 (dk_at dksX0_wholesOf_1 13 rfl rfl)
theorem dX0_wholesOf_40 : decode cX0_wholesOf 40 = .ok (.aload_n 0, 1) := dk_42 (dk_at dksX0_wholesOf_1 16 rfl rfl)
theorem dX0_wholesOf_41 : decode cX0_wholesOf 41 = .ok (.getfield 53, 3) := dk_180 0 53 (dk_at dksX0_wholesOf_1 17 rfl rfl)
theorem dX0_wholesOf_44 : decode cX0_wholesOf 44 = .ok (.iconst 0, 1) := dk_3 (dk_at dksX0_wholesOf_1 20 rfl rfl)
theorem dX0_wholesOf_45 : decode cX0_wholesOf 45 = .ok (.invokevirtual 281, 3) := dk_182 1 25 (dk_at dksX0_wholesOf_1 21 rfl rfl)
theorem dX0_wholesOf_48 : decode cX0_wholesOf 48 = .ok (.goto 4, 3) := dk_167 0 4 (dk_at dksX0_wholesOf_2 0 rfl rfl)
theorem dX0_wholesOf_51 : decode cX0_wholesOf 51 = .ok (.iconst 0, 1) := dk_3 (dk_at dksX0_wholesOf_2 3 rfl rfl)
theorem dX0_wholesOf_52 : decode cX0_wholesOf 52 = .ok (.iadd, 1) := dk_96 (dk_at dksX0_wholesOf_2 4 rfl rfl)
theorem dX0_wholesOf_53 : decode cX0_wholesOf 53 = .ok (.istore_n 2, 1) := dk_61 (dk_at dksX0_wholesOf_2 5 rfl rfl)
theorem dX0_wholesOf_54 : decode cX0_wholesOf 54 = .ok (.iinc 3 1, 3) := dk_132 3 1 (dk_at dksX0_wholesOf_2 6 rfl rfl)
theorem dX0_wholesOf_57 : decode cX0_wholesOf 57 = .ok (.goto (-53), 3) := dk_167 255 203 (dk_at dksX0_wholesOf_2 9 rfl rfl)
theorem dX0_wholesOf_60 : decode cX0_wholesOf 60 = .ok (.iload_n 2, 1) := dk_28 (dk_at dksX0_wholesOf_2 12 rfl rfl)
theorem dX0_wholesOf_61 : decode cX0_wholesOf 61 = .ok (.ireturn, 1) := dk_172 (dk_at dksX0_wholesOf_2 13 rfl rfl)
abbrev cX0_lost : ByteArray := prog_1_method_52_code
def yX0_lost : MethodName := ⟨RX0, "lost", "(IIII)J"⟩
def dkwX0_lost_9 : List UInt8 := [22, 5, 167, 0, 5, 22, 7, 22, 5, 22, 7, 184, 1, 42, 109, 173]
abbrev dktX0_lost_9 : List UInt8 := dkwX0_lost_9 ++ []
def dkwX0_lost_8 : List UInt8 := [163, 0, 8, 22, 10, 167, 0, 4, 9, 97, 55, 5, 132, 9, 1, 167, 255, 136, 21, 4, 154, 0, 8]
abbrev dktX0_lost_8 : List UInt8 := dkwX0_lost_8 ++ dktX0_lost_9
def dkwX0_lost_7 : List UInt8 := [21, 13, 46, 182, 1, 94, 167, 0, 4, 3, 96, 54, 12, 132, 13, 1, 167, 255, 182, 22, 5, 21, 12, 28]
abbrev dktX0_lost_7 : List UInt8 := dkwX0_lost_7 ++ dktX0_lost_8
def dkwX0_lost_6 : List UInt8 := [55, 10, 21, 12, 21, 9, 21, 13, 184, 1, 84, 153, 0, 21, 42, 27, 42, 180, 0, 53, 180, 1, 8]
abbrev dktX0_lost_6 : List UInt8 := dkwX0_lost_6 ++ dktX0_lost_7
def dkwX0_lost_5 : List UInt8 := [22, 10, 21, 9, 21, 13, 184, 1, 84, 153, 0, 11, 16, 10, 29, 100, 133, 167, 0, 5, 29, 133, 105]
abbrev dktX0_lost_5 : List UInt8 := dkwX0_lost_5 ++ dktX0_lost_6
def dkwX0_lost_4 : List UInt8 := [162, 0, 112, 10, 55, 10, 3, 54, 12, 3, 54, 13, 21, 13, 42, 180, 0, 53, 180, 0, 236, 162, 0, 68]
abbrev dktX0_lost_4 : List UInt8 := dkwX0_lost_4 ++ dktX0_lost_5
def dkwX0_lost_3 : List UInt8 := [55, 7, 132, 9, 1, 167, 255, 233, 3, 54, 9, 21, 9, 4, 42, 180, 0, 53, 180, 0, 236, 120]
abbrev dktX0_lost_3 : List UInt8 := dkwX0_lost_3 ++ dktX0_lost_4
def dkwX0_lost_2 : List UInt8 := [10, 55, 7, 3, 54, 9, 21, 9, 42, 180, 0, 53, 180, 0, 236, 162, 0, 17, 22, 7, 20, 1, 92, 105]
abbrev dktX0_lost_2 : List UInt8 := dkwX0_lost_2 ++ dktX0_lost_3
def dkwX0_lost_1 : List UInt8 := [20, 1, 92, 184, 0, 84, 153, 0, 11, 21, 4, 184, 0, 197, 154, 0, 7, 20, 1, 19, 173, 9, 55, 5]
abbrev dktX0_lost_1 : List UInt8 := dkwX0_lost_1 ++ dktX0_lost_2
def dkwX0_lost_0 : List UInt8 := [42, 27, 182, 0, 179, 153, 0, 35, 28, 133, 9, 20, 1, 66, 184, 0, 84, 153, 0, 23, 29, 133, 9]
abbrev dktX0_lost_0 : List UInt8 := dkwX0_lost_0 ++ dktX0_lost_1
theorem dksX0_lost_0 : cX0_lost.data.toList.drop 0 = dktX0_lost_0 := by decide +kernel
theorem dksX0_lost_1 : cX0_lost.data.toList.drop 23 = dktX0_lost_1 := dk_seg dksX0_lost_0 23 rfl rfl
theorem dksX0_lost_2 : cX0_lost.data.toList.drop 47 = dktX0_lost_2 := dk_seg dksX0_lost_1 24 rfl rfl
theorem dksX0_lost_3 : cX0_lost.data.toList.drop 71 = dktX0_lost_3 := dk_seg dksX0_lost_2 24 rfl rfl
theorem dksX0_lost_4 : cX0_lost.data.toList.drop 93 = dktX0_lost_4 := dk_seg dksX0_lost_3 22 rfl rfl
theorem dksX0_lost_5 : cX0_lost.data.toList.drop 117 = dktX0_lost_5 := dk_seg dksX0_lost_4 24 rfl rfl
theorem dksX0_lost_6 : cX0_lost.data.toList.drop 140 = dktX0_lost_6 := dk_seg dksX0_lost_5 23 rfl rfl
theorem dksX0_lost_7 : cX0_lost.data.toList.drop 163 = dktX0_lost_7 := dk_seg dksX0_lost_6 23 rfl rfl
theorem dksX0_lost_8 : cX0_lost.data.toList.drop 187 = dktX0_lost_8 := dk_seg dksX0_lost_7 24 rfl rfl
theorem dksX0_lost_9 : cX0_lost.data.toList.drop 210 = dktX0_lost_9 := dk_seg dksX0_lost_8 23 rfl rfl
theorem dX0_lost_0 : decode cX0_lost 0 = .ok (.aload_n 0, 1) := dk_42 (dk_at dksX0_lost_0 0 rfl rfl)
theorem dX0_lost_1 : decode cX0_lost 1 = .ok (.iload_n 1, 1) := dk_27 (dk_at dksX0_lost_0 1 rfl rfl)
theorem dX0_lost_2 : decode cX0_lost 2 = .ok (.invokevirtual 179, 3) := dk_182 0 179 (dk_at dksX0_lost_0 2 rfl rfl)
theorem dX0_lost_5 : decode cX0_lost 5 = .ok (.ifCond .eq 35, 3) := dk_153 0 35 (dk_at dksX0_lost_0 5 rfl rfl)
theorem dX0_lost_8 : decode cX0_lost 8 = .ok (.iload_n 2, 1) := dk_28 (dk_at dksX0_lost_0 8 rfl rfl)
theorem dX0_lost_9 : decode cX0_lost 9 = .ok (.i2l, 1) := dk_133 (dk_at dksX0_lost_0 9 rfl rfl)
theorem dX0_lost_10 : decode cX0_lost 10 = .ok (.lconst 0, 1) := dk_9 (dk_at dksX0_lost_0 10 rfl rfl)
theorem dX0_lost_11 : decode cX0_lost 11 = .ok (.ldc2_w 322, 3) := dk_20 1 66 (dk_at dksX0_lost_0 11 rfl rfl)
theorem dX0_lost_14 : decode cX0_lost 14 = .ok (.invokestatic 84, 3) := dk_184 0 84 (dk_at dksX0_lost_0 14 rfl rfl)
theorem dX0_lost_17 : decode cX0_lost 17 = .ok (.ifCond .eq 23, 3) := dk_153 0 23 (dk_at dksX0_lost_0 17 rfl rfl)
theorem dX0_lost_20 : decode cX0_lost 20 = .ok (.iload_n 3, 1) := dk_29 (dk_at dksX0_lost_0 20 rfl rfl)
theorem dX0_lost_21 : decode cX0_lost 21 = .ok (.i2l, 1) := dk_133 (dk_at dksX0_lost_0 21 rfl rfl)
theorem dX0_lost_22 : decode cX0_lost 22 = .ok (.lconst 0, 1) := dk_9 (dk_at dksX0_lost_0 22 rfl rfl)
theorem dX0_lost_23 : decode cX0_lost 23 = .ok (.ldc2_w 348, 3) := dk_20 1 92 (dk_at dksX0_lost_1 0 rfl rfl)
theorem dX0_lost_26 : decode cX0_lost 26 = .ok (.invokestatic 84, 3) := dk_184 0 84 (dk_at dksX0_lost_1 3 rfl rfl)
theorem dX0_lost_29 : decode cX0_lost 29 = .ok (.ifCond .eq 11, 3) := dk_153 0 11 (dk_at dksX0_lost_1 6 rfl rfl)
theorem dX0_lost_32 : decode cX0_lost 32 = .ok (.iload 4, 2) := dk_21 4 (dk_at dksX0_lost_1 9 rfl rfl)
theorem dX0_lost_34 : decode cX0_lost 34 = .ok (.invokestatic 197, 3) := dk_184 0 197 (dk_at dksX0_lost_1 11 rfl rfl)
theorem dX0_lost_37 : decode cX0_lost 37 = .ok (.ifCond .ne 7, 3) := dk_154 0 7 (dk_at dksX0_lost_1 14 rfl rfl)
theorem dX0_lost_40 : decode cX0_lost 40 = .ok (.ldc2_w 275, 3) := dk_20 1 19 (dk_at dksX0_lost_1 17 rfl rfl)
theorem dX0_lost_43 : decode cX0_lost 43 = .ok (.lreturn, 1) := dk_173 (dk_at dksX0_lost_1 20 rfl rfl)
theorem dX0_lost_44 : decode cX0_lost 44 = .ok (.lconst 0, 1) := dk_9 (dk_at dksX0_lost_1 21 rfl rfl)
theorem dX0_lost_45 : decode cX0_lost 45 = .ok (.lstore 5, 2) := dk_55 5 (dk_at dksX0_lost_1 22 rfl rfl)
theorem dX0_lost_47 : decode cX0_lost 47 = .ok (.lconst 1, 1) := dk_10 (dk_at dksX0_lost_2 0 rfl rfl)
theorem dX0_lost_48 : decode cX0_lost 48 = .ok (.lstore 7, 2) := dk_55 7 (dk_at dksX0_lost_2 1 rfl rfl)
theorem dX0_lost_50 : decode cX0_lost 50 = .ok (.iconst 0, 1) := dk_3 (dk_at dksX0_lost_2 3 rfl rfl)
theorem dX0_lost_51 : decode cX0_lost 51 = .ok (.istore 9, 2) := dk_54 9 (dk_at dksX0_lost_2 4 rfl rfl)
theorem dX0_lost_53 : decode cX0_lost 53 = .ok (.iload 9, 2) := dk_21 9 (dk_at dksX0_lost_2 6 rfl rfl)
theorem dX0_lost_55 : decode cX0_lost 55 = .ok (.aload_n 0, 1) := dk_42 (dk_at dksX0_lost_2 8 rfl rfl)
theorem dX0_lost_56 : decode cX0_lost 56 = .ok (.getfield 53, 3) := dk_180 0 53 (dk_at dksX0_lost_2 9 rfl rfl)
theorem dX0_lost_59 : decode cX0_lost 59 = .ok (.getfield 236, 3) := dk_180 0 236 (dk_at dksX0_lost_2 12 rfl rfl)
theorem dX0_lost_62 : decode cX0_lost 62 = .ok (.if_icmp .ge 17, 3) := dk_162 0 17 (dk_at dksX0_lost_2 15 rfl rfl)
theorem dX0_lost_65 : decode cX0_lost 65 = .ok (.lload 7, 2) := dk_22 7 (dk_at dksX0_lost_2 18 rfl rfl)
theorem dX0_lost_67 : decode cX0_lost 67 = .ok (.ldc2_w 348, 3) := dk_20 1 92 (dk_at dksX0_lost_2 20 rfl rfl)
theorem dX0_lost_70 : decode cX0_lost 70 = .ok (.lmul, 1) := dk_105 (dk_at dksX0_lost_2 23 rfl rfl)
theorem dX0_lost_71 : decode cX0_lost 71 = .ok (.lstore 7, 2) := dk_55 7 (dk_at dksX0_lost_3 0 rfl rfl)
theorem dX0_lost_73 : decode cX0_lost 73 = .ok (.iinc 9 1, 3) := dk_132 9 1 (dk_at dksX0_lost_3 2 rfl rfl)
theorem dX0_lost_76 : decode cX0_lost 76 = .ok (.goto (-23), 3) := dk_167 255 233 (dk_at dksX0_lost_3 5 rfl rfl)
theorem dX0_lost_79 : decode cX0_lost 79 = .ok (.iconst 0, 1) := dk_3 (dk_at dksX0_lost_3 8 rfl rfl)
theorem dX0_lost_80 : decode cX0_lost 80 = .ok (.istore 9, 2) := dk_54 9 (dk_at dksX0_lost_3 9 rfl rfl)
theorem dX0_lost_82 : decode cX0_lost 82 = .ok (.iload 9, 2) := dk_21 9 (dk_at dksX0_lost_3 11 rfl rfl)
theorem dX0_lost_84 : decode cX0_lost 84 = .ok (.iconst 1, 1) := dk_4 (dk_at dksX0_lost_3 13 rfl rfl)
theorem dX0_lost_85 : decode cX0_lost 85 = .ok (.aload_n 0, 1) := dk_42 (dk_at dksX0_lost_3 14 rfl rfl)
theorem dX0_lost_86 : decode cX0_lost 86 = .ok (.getfield 53, 3) := dk_180 0 53 (dk_at dksX0_lost_3 15 rfl rfl)
theorem dX0_lost_89 : decode cX0_lost 89 = .ok (.getfield 236, 3) := dk_180 0 236 (dk_at dksX0_lost_3 18 rfl rfl)
theorem dX0_lost_92 : decode cX0_lost 92 = .ok (.ishl, 1) := dk_120 (dk_at dksX0_lost_3 21 rfl rfl)
theorem dX0_lost_93 : decode cX0_lost 93 = .ok (.if_icmp .ge 112, 3) := dk_162 0 112 (dk_at dksX0_lost_4 0 rfl rfl)
theorem dX0_lost_96 : decode cX0_lost 96 = .ok (.lconst 1, 1) := dk_10 (dk_at dksX0_lost_4 3 rfl rfl)
theorem dX0_lost_97 : decode cX0_lost 97 = .ok (.lstore 10, 2) := dk_55 10 (dk_at dksX0_lost_4 4 rfl rfl)
theorem dX0_lost_99 : decode cX0_lost 99 = .ok (.iconst 0, 1) := dk_3 (dk_at dksX0_lost_4 6 rfl rfl)
theorem dX0_lost_100 : decode cX0_lost 100 = .ok (.istore 12, 2) := dk_54 12 (dk_at dksX0_lost_4 7 rfl rfl)
theorem dX0_lost_102 : decode cX0_lost 102 = .ok (.iconst 0, 1) := dk_3 (dk_at dksX0_lost_4 9 rfl rfl)
theorem dX0_lost_103 : decode cX0_lost 103 = .ok (.istore 13, 2) := dk_54 13 (dk_at dksX0_lost_4 10 rfl rfl)
theorem dX0_lost_105 : decode cX0_lost 105 = .ok (.iload 13, 2) := dk_21 13 (dk_at dksX0_lost_4 12 rfl rfl)
theorem dX0_lost_107 : decode cX0_lost 107 = .ok (.aload_n 0, 1) := dk_42 (dk_at dksX0_lost_4 14 rfl rfl)
theorem dX0_lost_108 : decode cX0_lost 108 = .ok (.getfield 53, 3) := dk_180 0 53 (dk_at dksX0_lost_4 15 rfl rfl)
theorem dX0_lost_111 : decode cX0_lost 111 = .ok (.getfield 236, 3) := dk_180 0 236 (dk_at dksX0_lost_4 18 rfl rfl)
theorem dX0_lost_114 : decode cX0_lost 114 = .ok (.if_icmp .ge 68, 3) := dk_162 0 68 (dk_at dksX0_lost_4 21 rfl rfl)
theorem dX0_lost_117 : decode cX0_lost 117 = .ok (.lload 10, 2) := dk_22 10 (dk_at dksX0_lost_5 0 rfl rfl)
theorem dX0_lost_119 : decode cX0_lost 119 = .ok (.iload 9, 2) := dk_21 9 (dk_at dksX0_lost_5 2 rfl rfl)
theorem dX0_lost_121 : decode cX0_lost 121 = .ok (.iload 13, 2) := dk_21 13 (dk_at dksX0_lost_5 4 rfl rfl)
theorem dX0_lost_123 : decode cX0_lost 123 = .ok (.invokestatic 340, 3) := dk_184 1 84 (dk_at dksX0_lost_5 6 rfl rfl)
theorem dX0_lost_126 : decode cX0_lost 126 = .ok (.ifCond .eq 11, 3) := dk_153 0 11 (dk_at dksX0_lost_5 9 rfl rfl)
theorem dX0_lost_129 : decode cX0_lost 129 = .ok (.bipush 10, 2) := dk_16 10 (dk_at dksX0_lost_5 12 rfl rfl)
theorem dX0_lost_131 : decode cX0_lost 131 = .ok (.iload_n 3, 1) := dk_29 (dk_at dksX0_lost_5 14 rfl rfl)
theorem dX0_lost_132 : decode cX0_lost 132 = .ok (.isub, 1) := dk_100 (dk_at dksX0_lost_5 15 rfl rfl)
theorem dX0_lost_133 : decode cX0_lost 133 = .ok (.i2l, 1) := dk_133 (dk_at dksX0_lost_5 16 rfl rfl)
theorem dX0_lost_134 : decode cX0_lost 134 = .ok (.goto 5, 3) := dk_167 0 5 (dk_at dksX0_lost_5 17 rfl rfl)
theorem dX0_lost_137 : decode cX0_lost 137 = .ok (.iload_n 3, 1) := dk_29 (dk_at dksX0_lost_5 20 rfl rfl)
theorem dX0_lost_138 : decode cX0_lost 138 = .ok (.i2l, 1) := dk_133 (dk_at dksX0_lost_5 21 rfl rfl)
theorem dX0_lost_139 : decode cX0_lost 139 = .ok (.lmul, 1) := dk_105 (dk_at dksX0_lost_5 22 rfl rfl)
theorem dX0_lost_140 : decode cX0_lost 140 = .ok (.lstore 10, 2) := dk_55 10 (dk_at dksX0_lost_6 0 rfl rfl)
theorem dX0_lost_142 : decode cX0_lost 142 = .ok (.iload 12, 2) := dk_21 12 (dk_at dksX0_lost_6 2 rfl rfl)
theorem dX0_lost_144 : decode cX0_lost 144 = .ok (.iload 9, 2) := dk_21 9 (dk_at dksX0_lost_6 4 rfl rfl)
theorem dX0_lost_146 : decode cX0_lost 146 = .ok (.iload 13, 2) := dk_21 13 (dk_at dksX0_lost_6 6 rfl rfl)
theorem dX0_lost_148 : decode cX0_lost 148 = .ok (.invokestatic 340, 3) := dk_184 1 84 (dk_at dksX0_lost_6 8 rfl rfl)
theorem dX0_lost_151 : decode cX0_lost 151 = .ok (.ifCond .eq 21, 3) := dk_153 0 21 (dk_at dksX0_lost_6 11 rfl rfl)
theorem dX0_lost_154 : decode cX0_lost 154 = .ok (.aload_n 0, 1) := dk_42 (dk_at dksX0_lost_6 14 rfl rfl)
theorem dX0_lost_155 : decode cX0_lost 155 = .ok (.iload_n 1, 1) := dk_27 (dk_at dksX0_lost_6 15 rfl rfl)
theorem dX0_lost_156 : decode cX0_lost 156 = .ok (.aload_n 0, 1) := dk_42 (dk_at dksX0_lost_6 16 rfl rfl)
theorem dX0_lost_157 : decode cX0_lost 157 = .ok (.getfield 53, 3) := dk_180 0 53 (dk_at dksX0_lost_6 17 rfl rfl)
theorem dX0_lost_160 : decode cX0_lost 160 = .ok (.getfield 264, 3) := dk_180 1 8 (dk_at dksX0_lost_6 20 rfl rfl)
theorem dX0_lost_163 : decode cX0_lost 163 = .ok (.iload 13, 2) := dk_21 13 (dk_at dksX0_lost_7 0 rfl rfl)
theorem dX0_lost_165 : decode cX0_lost 165 = .ok (.iaload, 1) := dk_46 (dk_at dksX0_lost_7 2 rfl rfl)
theorem dX0_lost_166 : decode cX0_lost 166 = .ok (.invokevirtual 350, 3) := dk_182 1 94 (dk_at dksX0_lost_7 3 rfl rfl)
theorem dX0_lost_169 : decode cX0_lost 169 = .ok (.goto 4, 3) := dk_167 0 4 (dk_at dksX0_lost_7 6 rfl rfl)
theorem dX0_lost_172 : decode cX0_lost 172 = .ok (.iconst 0, 1) := dk_3 (dk_at dksX0_lost_7 9 rfl rfl)
theorem dX0_lost_173 : decode cX0_lost 173 = .ok (.iadd, 1) := dk_96 (dk_at dksX0_lost_7 10 rfl rfl)
theorem dX0_lost_174 : decode cX0_lost 174 = .ok (.istore 12, 2) := dk_54 12 (dk_at dksX0_lost_7 11 rfl rfl)
theorem dX0_lost_176 : decode cX0_lost 176 = .ok (.iinc 13 1, 3) := dk_132 13 1 (dk_at dksX0_lost_7 13 rfl rfl)
theorem dX0_lost_179 : decode cX0_lost 179 = .ok (.goto (-74), 3) := dk_167 255 182 (dk_at dksX0_lost_7 16 rfl rfl)
theorem dX0_lost_182 : decode cX0_lost 182 = .ok (.lload 5, 2) := dk_22 5 (dk_at dksX0_lost_7 19 rfl rfl)
theorem dX0_lost_184 : decode cX0_lost 184 = .ok (.iload 12, 2) := dk_21 12 (dk_at dksX0_lost_7 21 rfl rfl)
theorem dX0_lost_186 : decode cX0_lost 186 = .ok (.iload_n 2, 1) := dk_28 (dk_at dksX0_lost_7 23 rfl rfl)
theorem dX0_lost_187 : decode cX0_lost 187 = .ok (.if_icmp .gt 8, 3) := dk_163 0 8 (dk_at dksX0_lost_8 0 rfl rfl)
theorem dX0_lost_190 : decode cX0_lost 190 = .ok (.lload 10, 2) := dk_22 10 (dk_at dksX0_lost_8 3 rfl rfl)
theorem dX0_lost_192 : decode cX0_lost 192 = .ok (.goto 4, 3) := dk_167 0 4 (dk_at dksX0_lost_8 5 rfl rfl)
theorem dX0_lost_195 : decode cX0_lost 195 = .ok (.lconst 0, 1) := dk_9 (dk_at dksX0_lost_8 8 rfl rfl)
theorem dX0_lost_196 : decode cX0_lost 196 = .ok (.ladd, 1) := dk_97 (dk_at dksX0_lost_8 9 rfl rfl)
theorem dX0_lost_197 : decode cX0_lost 197 = .ok (.lstore 5, 2) := dk_55 5 (dk_at dksX0_lost_8 10 rfl rfl)
theorem dX0_lost_199 : decode cX0_lost 199 = .ok (.iinc 9 1, 3) := dk_132 9 1 (dk_at dksX0_lost_8 12 rfl rfl)
theorem dX0_lost_202 : decode cX0_lost 202 = .ok (.goto (-120), 3) := dk_167 255 136 (dk_at dksX0_lost_8 15 rfl rfl)
theorem dX0_lost_205 : decode cX0_lost 205 = .ok (.iload 4, 2) := dk_21 4 (dk_at dksX0_lost_8 18 rfl rfl)
theorem dX0_lost_207 : decode cX0_lost 207 = .ok (.ifCond .ne 8, 3) := dk_154 0 8 (dk_at dksX0_lost_8 20 rfl rfl)
theorem dX0_lost_210 : decode cX0_lost 210 = .ok (.lload 5, 2) := dk_22 5 (dk_at dksX0_lost_9 0 rfl rfl)
theorem dX0_lost_212 : decode cX0_lost 212 = .ok (.goto 5, 3) := dk_167 0 5 (dk_at dksX0_lost_9 2 rfl rfl)
theorem dX0_lost_215 : decode cX0_lost 215 = .ok (.lload 7, 2) := dk_22 7 (dk_at dksX0_lost_9 5 rfl rfl)
theorem dX0_lost_217 : decode cX0_lost 217 = .ok (.lload 5, 2) := dk_22 5 (dk_at dksX0_lost_9 7 rfl rfl)
theorem dX0_lost_219 : decode cX0_lost 219 = .ok (.lload 7, 2) := dk_22 7 (dk_at dksX0_lost_9 9 rfl rfl)
theorem dX0_lost_221 : decode cX0_lost 221 = .ok (.invokestatic 298, 3) := dk_184 1 42 (dk_at dksX0_lost_9 11 rfl rfl)
theorem dX0_lost_224 : decode cX0_lost 224 = .ok (.ldiv, 1) := dk_109 (dk_at dksX0_lost_9 14 rfl rfl)
theorem dX0_lost_225 : decode cX0_lost 225 = .ok (.lreturn, 1) := dk_173 (dk_at dksX0_lost_9 15 rfl rfl)
abbrev cX0_oftenIn : ByteArray := prog_1_method_51_code
def yX0_oftenIn : MethodName := ⟨RX0, "oftenIn", "(II)I"⟩
def dkwX0_oftenIn_2 : List UInt8 := [160, 0, 7, 4, 167, 0, 4, 3, 96, 62, 132, 4, 1, 167, 255, 204, 29, 172]
abbrev dktX0_oftenIn_2 : List UInt8 := dkwX0_oftenIn_2 ++ []
def dkwX0_oftenIn_1 : List UInt8 := [162, 0, 38, 29, 42, 180, 0, 53, 28, 182, 0, 210, 42, 180, 0, 53, 21, 4, 182, 1, 4, 27]
abbrev dktX0_oftenIn_1 : List UInt8 := dkwX0_oftenIn_1 ++ dktX0_oftenIn_2
def dkwX0_oftenIn_0 : List UInt8 := [3, 62, 3, 54, 4, 21, 4, 42, 180, 0, 53, 28, 182, 0, 210, 42, 180, 0, 53, 182, 0, 252]
abbrev dktX0_oftenIn_0 : List UInt8 := dkwX0_oftenIn_0 ++ dktX0_oftenIn_1
theorem dksX0_oftenIn_0 : cX0_oftenIn.data.toList.drop 0 = dktX0_oftenIn_0 := by decide +kernel
theorem dksX0_oftenIn_1 : cX0_oftenIn.data.toList.drop 22 = dktX0_oftenIn_1 := dk_seg dksX0_oftenIn_0 22 rfl rfl
theorem dksX0_oftenIn_2 : cX0_oftenIn.data.toList.drop 44 = dktX0_oftenIn_2 := dk_seg dksX0_oftenIn_1 22 rfl rfl
theorem dX0_oftenIn_0 : decode cX0_oftenIn 0 = .ok (.iconst 0, 1) := dk_3 (dk_at dksX0_oftenIn_0 0 rfl rfl)
theorem dX0_oftenIn_1 : decode cX0_oftenIn 1 = .ok (.istore_n 3, 1) := dk_62 (dk_at dksX0_oftenIn_0 1 rfl rfl)
theorem dX0_oftenIn_2 : decode cX0_oftenIn 2 = .ok (.iconst 0, 1) := dk_3 (dk_at dksX0_oftenIn_0 2 rfl rfl)
theorem dX0_oftenIn_3 : decode cX0_oftenIn 3 = .ok (.istore 4, 2) := dk_54 4 (dk_at dksX0_oftenIn_0 3 rfl rfl)
theorem dX0_oftenIn_5 : decode cX0_oftenIn 5 = .ok (.iload 4, 2) := dk_21 4 (dk_at dksX0_oftenIn_0 5 rfl rfl)
theorem dX0_oftenIn_7 : decode cX0_oftenIn 7 = .ok (.aload_n 0, 1) := dk_42 (dk_at dksX0_oftenIn_0 7 rfl rfl)
theorem dX0_oftenIn_8 : decode cX0_oftenIn 8 = .ok (.getfield 53, 3) := dk_180 0 53 (dk_at dksX0_oftenIn_0 8 rfl rfl)
theorem dX0_oftenIn_11 : decode cX0_oftenIn 11 = .ok (.iload_n 2, 1) := dk_28 (dk_at dksX0_oftenIn_0 11 rfl rfl)
theorem dX0_oftenIn_12 : decode cX0_oftenIn 12 = .ok (.invokevirtual 210, 3) := dk_182 0 210 (dk_at dksX0_oftenIn_0 12 rfl rfl)
theorem dX0_oftenIn_15 : decode cX0_oftenIn 15 = .ok (.aload_n 0, 1) := dk_42 (dk_at dksX0_oftenIn_0 15 rfl rfl)
theorem dX0_oftenIn_16 : decode cX0_oftenIn 16 = .ok (.getfield 53, 3) := dk_180 0 53 (dk_at dksX0_oftenIn_0 16 rfl rfl)
theorem dX0_oftenIn_19 : decode cX0_oftenIn 19 = .ok (.invokevirtual 252, 3) := dk_182 0 252 (dk_at dksX0_oftenIn_0 19 rfl rfl)
theorem dX0_oftenIn_22 : decode cX0_oftenIn 22 = .ok (.if_icmp .ge 38, 3) := dk_162 0 38 (dk_at dksX0_oftenIn_1 0 rfl rfl)
theorem dX0_oftenIn_25 : decode cX0_oftenIn 25 = .ok (.iload_n 3, 1) := dk_29 (dk_at dksX0_oftenIn_1 3 rfl rfl)
theorem dX0_oftenIn_26 : decode cX0_oftenIn 26 = .ok (.aload_n 0, 1) := dk_42 (dk_at dksX0_oftenIn_1 4 rfl rfl)
theorem dX0_oftenIn_27 : decode cX0_oftenIn 27 = .ok (.getfield 53, 3) := dk_180 0 53 (dk_at dksX0_oftenIn_1 5 rfl rfl)
theorem dX0_oftenIn_30 : decode cX0_oftenIn 30 = .ok (.iload_n 2, 1) := dk_28 (dk_at dksX0_oftenIn_1 8 rfl rfl)
theorem dX0_oftenIn_31 : decode cX0_oftenIn 31 = .ok (.invokevirtual 210, 3) := dk_182 0 210 (dk_at dksX0_oftenIn_1 9 rfl rfl)
theorem dX0_oftenIn_34 : decode cX0_oftenIn 34 = .ok (.aload_n 0, 1) := dk_42 (dk_at dksX0_oftenIn_1 12 rfl rfl)
theorem dX0_oftenIn_35 : decode cX0_oftenIn 35 = .ok (.getfield 53, 3) := dk_180 0 53 (dk_at dksX0_oftenIn_1 13 rfl rfl)
theorem dX0_oftenIn_38 : decode cX0_oftenIn 38 = .ok (.iload 4, 2) := dk_21 4 (dk_at dksX0_oftenIn_1 16 rfl rfl)
theorem dX0_oftenIn_40 : decode cX0_oftenIn 40 = .ok (.invokevirtual 260, 3) := dk_182 1 4 (dk_at dksX0_oftenIn_1 18 rfl rfl)
theorem dX0_oftenIn_43 : decode cX0_oftenIn 43 = .ok (.iload_n 1, 1) := dk_27 (dk_at dksX0_oftenIn_1 21 rfl rfl)
theorem dX0_oftenIn_44 : decode cX0_oftenIn 44 = .ok (.if_icmp .ne 7, 3) := dk_160 0 7 (dk_at dksX0_oftenIn_2 0 rfl rfl)
theorem dX0_oftenIn_47 : decode cX0_oftenIn 47 = .ok (.iconst 1, 1) := dk_4 (dk_at dksX0_oftenIn_2 3 rfl rfl)
theorem dX0_oftenIn_48 : decode cX0_oftenIn 48 = .ok (.goto 4, 3) := dk_167 0 4 (dk_at dksX0_oftenIn_2 4 rfl rfl)
theorem dX0_oftenIn_51 : decode cX0_oftenIn 51 = .ok (.iconst 0, 1) := dk_3 (dk_at dksX0_oftenIn_2 7 rfl rfl)
theorem dX0_oftenIn_52 : decode cX0_oftenIn 52 = .ok (.iadd, 1) := dk_96 (dk_at dksX0_oftenIn_2 8 rfl rfl)
theorem dX0_oftenIn_53 : decode cX0_oftenIn 53 = .ok (.istore_n 3, 1) := dk_62 (dk_at dksX0_oftenIn_2 9 rfl rfl)
theorem dX0_oftenIn_54 : decode cX0_oftenIn 54 = .ok (.iinc 4 1, 3) := dk_132 4 1 (dk_at dksX0_oftenIn_2 10 rfl rfl)
theorem dX0_oftenIn_57 : decode cX0_oftenIn 57 = .ok (.goto (-52), 3) := dk_167 255 204 (dk_at dksX0_oftenIn_2 13 rfl rfl)
theorem dX0_oftenIn_60 : decode cX0_oftenIn 60 = .ok (.iload_n 3, 1) := dk_29 (dk_at dksX0_oftenIn_2 16 rfl rfl)
theorem dX0_oftenIn_61 : decode cX0_oftenIn 61 = .ok (.ireturn, 1) := dk_172 (dk_at dksX0_oftenIn_2 17 rfl rfl)
abbrev cX0_drawn : ByteArray := prog_1_method_53_code
def yX0_drawn : MethodName := ⟨RX0, "drawn", "(III)I"⟩
def dkwX0_drawn_6 : List UInt8 := [54, 7, 132, 8, 1, 167, 255, 173, 29, 154, 0, 8, 21, 6, 167, 0, 5, 21, 7, 172]
abbrev dktX0_drawn_6 : List UInt8 := dkwX0_drawn_6 ++ []
def dkwX0_drawn_5 : List UInt8 := [180, 0, 57, 182, 1, 55, 54, 9, 21, 6, 21, 9, 184, 1, 58, 96, 54, 6, 21, 7, 21, 9, 126]
abbrev dktX0_drawn_5 : List UInt8 := dkwX0_drawn_5 ++ dktX0_drawn_6
def dkwX0_drawn_4 : List UInt8 := [180, 0, 236, 133, 113, 136, 22, 4, 20, 1, 106, 109, 42, 180, 0, 57, 182, 0, 168, 133, 113, 136, 79, 42]
abbrev dktX0_drawn_4 : List UInt8 := dkwX0_drawn_4 ++ dktX0_drawn_5
def dkwX0_drawn_3 : List UInt8 := [20, 1, 102, 105, 20, 1, 104, 113, 55, 4, 42, 180, 0, 57, 180, 1, 8, 22, 4, 42, 180, 0, 57]
abbrev dktX0_drawn_3 : List UInt8 := dkwX0_drawn_3 ++ dktX0_drawn_4
def dkwX0_drawn_2 : List UInt8 := [87, 28, 133, 55, 4, 3, 54, 6, 19, 1, 101, 54, 7, 3, 54, 8, 21, 8, 27, 162, 0, 83, 22, 4]
abbrev dktX0_drawn_2 : List UInt8 := dkwX0_drawn_2 ++ dktX0_drawn_3
def dkwX0_drawn_1 : List UInt8 := [10, 20, 1, 99, 184, 0, 84, 153, 0, 10, 29, 184, 0, 197, 154, 0, 6, 18, 98, 172, 42, 182, 1, 76]
abbrev dktX0_drawn_1 : List UInt8 := dkwX0_drawn_1 ++ dktX0_drawn_2
def dkwX0_drawn_0 : List UInt8 := [42, 182, 0, 222, 154, 0, 6, 18, 172, 172, 27, 133, 9, 20, 1, 97, 184, 0, 84, 153, 0, 22, 28, 133]
abbrev dktX0_drawn_0 : List UInt8 := dkwX0_drawn_0 ++ dktX0_drawn_1
theorem dksX0_drawn_0 : cX0_drawn.data.toList.drop 0 = dktX0_drawn_0 := by decide +kernel
theorem dksX0_drawn_1 : cX0_drawn.data.toList.drop 24 = dktX0_drawn_1 := dk_seg dksX0_drawn_0 24 rfl rfl
theorem dksX0_drawn_2 : cX0_drawn.data.toList.drop 48 = dktX0_drawn_2 := dk_seg dksX0_drawn_1 24 rfl rfl
theorem dksX0_drawn_3 : cX0_drawn.data.toList.drop 72 = dktX0_drawn_3 := dk_seg dksX0_drawn_2 24 rfl rfl
theorem dksX0_drawn_4 : cX0_drawn.data.toList.drop 95 = dktX0_drawn_4 := dk_seg dksX0_drawn_3 23 rfl rfl
theorem dksX0_drawn_5 : cX0_drawn.data.toList.drop 119 = dktX0_drawn_5 := dk_seg dksX0_drawn_4 24 rfl rfl
theorem dksX0_drawn_6 : cX0_drawn.data.toList.drop 142 = dktX0_drawn_6 := dk_seg dksX0_drawn_5 23 rfl rfl
theorem dX0_drawn_0 : decode cX0_drawn 0 = .ok (.aload_n 0, 1) := dk_42 (dk_at dksX0_drawn_0 0 rfl rfl)
theorem dX0_drawn_1 : decode cX0_drawn 1 = .ok (.invokevirtual 222, 3) := dk_182 0 222 (dk_at dksX0_drawn_0 1 rfl rfl)
theorem dX0_drawn_4 : decode cX0_drawn 4 = .ok (.ifCond .ne 6, 3) := dk_154 0 6 (dk_at dksX0_drawn_0 4 rfl rfl)
theorem dX0_drawn_7 : decode cX0_drawn 7 = .ok (.ldc 172, 2) := dk_18 172 (dk_at dksX0_drawn_0 7 rfl rfl)
theorem dX0_drawn_9 : decode cX0_drawn 9 = .ok (.ireturn, 1) := dk_172 (dk_at dksX0_drawn_0 9 rfl rfl)
theorem dX0_drawn_10 : decode cX0_drawn 10 = .ok (.iload_n 1, 1) := dk_27 (dk_at dksX0_drawn_0 10 rfl rfl)
theorem dX0_drawn_11 : decode cX0_drawn 11 = .ok (.i2l, 1) := dk_133 (dk_at dksX0_drawn_0 11 rfl rfl)
theorem dX0_drawn_12 : decode cX0_drawn 12 = .ok (.lconst 0, 1) := dk_9 (dk_at dksX0_drawn_0 12 rfl rfl)
theorem dX0_drawn_13 : decode cX0_drawn 13 = .ok (.ldc2_w 353, 3) := dk_20 1 97 (dk_at dksX0_drawn_0 13 rfl rfl)
theorem dX0_drawn_16 : decode cX0_drawn 16 = .ok (.invokestatic 84, 3) := dk_184 0 84 (dk_at dksX0_drawn_0 16 rfl rfl)
theorem dX0_drawn_19 : decode cX0_drawn 19 = .ok (.ifCond .eq 22, 3) := dk_153 0 22 (dk_at dksX0_drawn_0 19 rfl rfl)
theorem dX0_drawn_22 : decode cX0_drawn 22 = .ok (.iload_n 2, 1) := dk_28 (dk_at dksX0_drawn_0 22 rfl rfl)
theorem dX0_drawn_23 : decode cX0_drawn 23 = .ok (.i2l, 1) := dk_133 (dk_at dksX0_drawn_0 23 rfl rfl)
theorem dX0_drawn_24 : decode cX0_drawn 24 = .ok (.lconst 1, 1) := dk_10 (dk_at dksX0_drawn_1 0 rfl rfl)
theorem dX0_drawn_25 : decode cX0_drawn 25 = .ok (.ldc2_w 355, 3) := dk_20 1 99 (dk_at dksX0_drawn_1 1 rfl rfl)
theorem dX0_drawn_28 : decode cX0_drawn 28 = .ok (.invokestatic 84, 3) := dk_184 0 84 (dk_at dksX0_drawn_1 4 rfl rfl)
theorem dX0_drawn_31 : decode cX0_drawn 31 = .ok (.ifCond .eq 10, 3) := dk_153 0 10 (dk_at dksX0_drawn_1 7 rfl rfl)
theorem dX0_drawn_34 : decode cX0_drawn 34 = .ok (.iload_n 3, 1) := dk_29 (dk_at dksX0_drawn_1 10 rfl rfl)
theorem dX0_drawn_35 : decode cX0_drawn 35 = .ok (.invokestatic 197, 3) := dk_184 0 197 (dk_at dksX0_drawn_1 11 rfl rfl)
theorem dX0_drawn_38 : decode cX0_drawn 38 = .ok (.ifCond .ne 6, 3) := dk_154 0 6 (dk_at dksX0_drawn_1 14 rfl rfl)
theorem dX0_drawn_41 : decode cX0_drawn 41 = .ok (.ldc 98, 2) := dk_18 98 (dk_at dksX0_drawn_1 17 rfl rfl)
theorem dX0_drawn_43 : decode cX0_drawn 43 = .ok (.ireturn, 1) := dk_172 (dk_at dksX0_drawn_1 19 rfl rfl)
theorem dX0_drawn_44 : decode cX0_drawn 44 = .ok (.aload_n 0, 1) := dk_42 (dk_at dksX0_drawn_1 20 rfl rfl)
theorem dX0_drawn_45 : decode cX0_drawn 45 = .ok (.invokevirtual 332, 3) := dk_182 1 76 (dk_at dksX0_drawn_1 21 rfl rfl)
theorem dX0_drawn_48 : decode cX0_drawn 48 = .ok (.pop, 1) := dk_87 (dk_at dksX0_drawn_2 0 rfl rfl)
theorem dX0_drawn_49 : decode cX0_drawn 49 = .ok (.iload_n 2, 1) := dk_28 (dk_at dksX0_drawn_2 1 rfl rfl)
theorem dX0_drawn_50 : decode cX0_drawn 50 = .ok (.i2l, 1) := dk_133 (dk_at dksX0_drawn_2 2 rfl rfl)
theorem dX0_drawn_51 : decode cX0_drawn 51 = .ok (.lstore 4, 2) := dk_55 4 (dk_at dksX0_drawn_2 3 rfl rfl)
theorem dX0_drawn_53 : decode cX0_drawn 53 = .ok (.iconst 0, 1) := dk_3 (dk_at dksX0_drawn_2 5 rfl rfl)
theorem dX0_drawn_54 : decode cX0_drawn 54 = .ok (.istore 6, 2) := dk_54 6 (dk_at dksX0_drawn_2 6 rfl rfl)
theorem dX0_drawn_56 : decode cX0_drawn 56 = .ok (.ldc_w 357, 3) := dk_19 1 101 (dk_at dksX0_drawn_2 8 rfl rfl)
theorem dX0_drawn_59 : decode cX0_drawn 59 = .ok (.istore 7, 2) := dk_54 7 (dk_at dksX0_drawn_2 11 rfl rfl)
theorem dX0_drawn_61 : decode cX0_drawn 61 = .ok (.iconst 0, 1) := dk_3 (dk_at dksX0_drawn_2 13 rfl rfl)
theorem dX0_drawn_62 : decode cX0_drawn 62 = .ok (.istore 8, 2) := dk_54 8 (dk_at dksX0_drawn_2 14 rfl rfl)
theorem dX0_drawn_64 : decode cX0_drawn 64 = .ok (.iload 8, 2) := dk_21 8 (dk_at dksX0_drawn_2 16 rfl rfl)
theorem dX0_drawn_66 : decode cX0_drawn 66 = .ok (.iload_n 1, 1) := dk_27 (dk_at dksX0_drawn_2 18 rfl rfl)
theorem dX0_drawn_67 : decode cX0_drawn 67 = .ok (.if_icmp .ge 83, 3) := dk_162 0 83 (dk_at dksX0_drawn_2 19 rfl rfl)
theorem dX0_drawn_70 : decode cX0_drawn 70 = .ok (.lload 4, 2) := dk_22 4 (dk_at dksX0_drawn_2 22 rfl rfl)
theorem dX0_drawn_72 : decode cX0_drawn 72 = .ok (.ldc2_w 358, 3) := dk_20 1 102 (dk_at dksX0_drawn_3 0 rfl rfl)
theorem dX0_drawn_75 : decode cX0_drawn 75 = .ok (.lmul, 1) := dk_105 (dk_at dksX0_drawn_3 3 rfl rfl)
theorem dX0_drawn_76 : decode cX0_drawn 76 = .ok (.ldc2_w 360, 3) := dk_20 1 104 (dk_at dksX0_drawn_3 4 rfl rfl)
theorem dX0_drawn_79 : decode cX0_drawn 79 = .ok (.lrem, 1) := dk_113 (dk_at dksX0_drawn_3 7 rfl rfl)
theorem dX0_drawn_80 : decode cX0_drawn 80 = .ok (.lstore 4, 2) := dk_55 4 (dk_at dksX0_drawn_3 8 rfl rfl)
theorem dX0_drawn_82 : decode cX0_drawn 82 = .ok (.aload_n 0, 1) := dk_42 (dk_at dksX0_drawn_3 10 rfl rfl)
theorem dX0_drawn_83 : decode cX0_drawn 83 = .ok (.getfield 57, 3) := dk_180 0 57 (dk_at dksX0_drawn_3 11 rfl rfl)
theorem dX0_drawn_86 : decode cX0_drawn 86 = .ok (.getfield 264, 3) := dk_180 1 8 (dk_at dksX0_drawn_3 14 rfl rfl)
theorem dX0_drawn_89 : decode cX0_drawn 89 = .ok (.lload 4, 2) := dk_22 4 (dk_at dksX0_drawn_3 17 rfl rfl)
theorem dX0_drawn_91 : decode cX0_drawn 91 = .ok (.aload_n 0, 1) := dk_42 (dk_at dksX0_drawn_3 19 rfl rfl)
theorem dX0_drawn_92 : decode cX0_drawn 92 = .ok (.getfield 57, 3) := dk_180 0 57 (dk_at dksX0_drawn_3 20 rfl rfl)
theorem dX0_drawn_95 : decode cX0_drawn 95 = .ok (.getfield 236, 3) := dk_180 0 236 (dk_at dksX0_drawn_4 0 rfl rfl)
theorem dX0_drawn_98 : decode cX0_drawn 98 = .ok (.i2l, 1) := dk_133 (dk_at dksX0_drawn_4 3 rfl rfl)
theorem dX0_drawn_99 : decode cX0_drawn 99 = .ok (.lrem, 1) := dk_113 (dk_at dksX0_drawn_4 4 rfl rfl)
theorem dX0_drawn_100 : decode cX0_drawn 100 = .ok (.l2i, 1) := dk_136 (dk_at dksX0_drawn_4 5 rfl rfl)
theorem dX0_drawn_101 : decode cX0_drawn 101 = .ok (.lload 4, 2) := dk_22 4 (dk_at dksX0_drawn_4 6 rfl rfl)
theorem dX0_drawn_103 : decode cX0_drawn 103 = .ok (.ldc2_w 362, 3) := dk_20 1 106 (dk_at dksX0_drawn_4 8 rfl rfl)
theorem dX0_drawn_106 : decode cX0_drawn 106 = .ok (.ldiv, 1) := dk_109 (dk_at dksX0_drawn_4 11 rfl rfl)
theorem dX0_drawn_107 : decode cX0_drawn 107 = .ok (.aload_n 0, 1) := dk_42 (dk_at dksX0_drawn_4 12 rfl rfl)
theorem dX0_drawn_108 : decode cX0_drawn 108 = .ok (.getfield 57, 3) := dk_180 0 57 (dk_at dksX0_drawn_4 13 rfl rfl)
theorem dX0_drawn_111 : decode cX0_drawn 111 = .ok (.invokevirtual 168, 3) := dk_182 0 168 (dk_at dksX0_drawn_4 16 rfl rfl)
theorem dX0_drawn_114 : decode cX0_drawn 114 = .ok (.i2l, 1) := dk_133 (dk_at dksX0_drawn_4 19 rfl rfl)
theorem dX0_drawn_115 : decode cX0_drawn 115 = .ok (.lrem, 1) := dk_113 (dk_at dksX0_drawn_4 20 rfl rfl)
theorem dX0_drawn_116 : decode cX0_drawn 116 = .ok (.l2i, 1) := dk_136 (dk_at dksX0_drawn_4 21 rfl rfl)
theorem dX0_drawn_117 : decode cX0_drawn 117 = .ok (.iastore, 1) := dk_79 (dk_at dksX0_drawn_4 22 rfl rfl)
theorem dX0_drawn_118 : decode cX0_drawn 118 = .ok (.aload_n 0, 1) := dk_42 (dk_at dksX0_drawn_4 23 rfl rfl)
theorem dX0_drawn_119 : decode cX0_drawn 119 = .ok (.getfield 57, 3) := dk_180 0 57 (dk_at dksX0_drawn_5 0 rfl rfl)
theorem dX0_drawn_122 : decode cX0_drawn 122 = .ok (.invokevirtual 311, 3) := dk_182 1 55 (dk_at dksX0_drawn_5 3 rfl rfl)
theorem dX0_drawn_125 : decode cX0_drawn 125 = .ok (.istore 9, 2) := dk_54 9 (dk_at dksX0_drawn_5 6 rfl rfl)
theorem dX0_drawn_127 : decode cX0_drawn 127 = .ok (.iload 6, 2) := dk_21 6 (dk_at dksX0_drawn_5 8 rfl rfl)
theorem dX0_drawn_129 : decode cX0_drawn 129 = .ok (.iload 9, 2) := dk_21 9 (dk_at dksX0_drawn_5 10 rfl rfl)
theorem dX0_drawn_131 : decode cX0_drawn 131 = .ok (.invokestatic 314, 3) := dk_184 1 58 (dk_at dksX0_drawn_5 12 rfl rfl)
theorem dX0_drawn_134 : decode cX0_drawn 134 = .ok (.iadd, 1) := dk_96 (dk_at dksX0_drawn_5 15 rfl rfl)
theorem dX0_drawn_135 : decode cX0_drawn 135 = .ok (.istore 6, 2) := dk_54 6 (dk_at dksX0_drawn_5 16 rfl rfl)
theorem dX0_drawn_137 : decode cX0_drawn 137 = .ok (.iload 7, 2) := dk_21 7 (dk_at dksX0_drawn_5 18 rfl rfl)
theorem dX0_drawn_139 : decode cX0_drawn 139 = .ok (.iload 9, 2) := dk_21 9 (dk_at dksX0_drawn_5 20 rfl rfl)
theorem dX0_drawn_141 : decode cX0_drawn 141 = .ok (.iand, 1) := dk_126 (dk_at dksX0_drawn_5 22 rfl rfl)
theorem dX0_drawn_142 : decode cX0_drawn 142 = .ok (.istore 7, 2) := dk_54 7 (dk_at dksX0_drawn_6 0 rfl rfl)
theorem dX0_drawn_144 : decode cX0_drawn 144 = .ok (.iinc 8 1, 3) := dk_132 8 1 (dk_at dksX0_drawn_6 2 rfl rfl)
theorem dX0_drawn_147 : decode cX0_drawn 147 = .ok (.goto (-83), 3) := dk_167 255 173 (dk_at dksX0_drawn_6 5 rfl rfl)
theorem dX0_drawn_150 : decode cX0_drawn 150 = .ok (.iload_n 3, 1) := dk_29 (dk_at dksX0_drawn_6 8 rfl rfl)
theorem dX0_drawn_151 : decode cX0_drawn 151 = .ok (.ifCond .ne 8, 3) := dk_154 0 8 (dk_at dksX0_drawn_6 9 rfl rfl)
theorem dX0_drawn_154 : decode cX0_drawn 154 = .ok (.iload 6, 2) := dk_21 6 (dk_at dksX0_drawn_6 12 rfl rfl)
theorem dX0_drawn_156 : decode cX0_drawn 156 = .ok (.goto 5, 3) := dk_167 0 5 (dk_at dksX0_drawn_6 14 rfl rfl)
theorem dX0_drawn_159 : decode cX0_drawn 159 = .ok (.iload 7, 2) := dk_21 7 (dk_at dksX0_drawn_6 17 rfl rfl)
theorem dX0_drawn_161 : decode cX0_drawn 161 = .ok (.ireturn, 1) := dk_172 (dk_at dksX0_drawn_6 19 rfl rfl)
abbrev cX0_image : ByteArray := prog_1_method_54_code
def yX0_image : MethodName := ⟨RX0, "image", "(I)I"⟩
def dkwX0_image_2 : List UInt8 := [180, 0, 64, 27, 50, 42, 180, 0, 53, 182, 0, 161, 87, 4, 172]
abbrev dktX0_image_2 : List UInt8 := dkwX0_image_2 ++ []
def dkwX0_image_1 : List UInt8 := [180, 0, 64, 27, 50, 199, 0, 16, 42, 180, 0, 64, 27, 187, 0, 50, 89, 183, 0, 52, 83, 42]
abbrev dktX0_image_1 : List UInt8 := dkwX0_image_1 ++ dktX0_image_2
def dkwX0_image_0 : List UInt8 := [27, 133, 9, 10, 184, 0, 84, 154, 0, 6, 18, 98, 172, 42, 182, 0, 222, 154, 0, 6, 18, 172, 172, 42]
abbrev dktX0_image_0 : List UInt8 := dkwX0_image_0 ++ dktX0_image_1
theorem dksX0_image_0 : cX0_image.data.toList.drop 0 = dktX0_image_0 := by decide +kernel
theorem dksX0_image_1 : cX0_image.data.toList.drop 24 = dktX0_image_1 := dk_seg dksX0_image_0 24 rfl rfl
theorem dksX0_image_2 : cX0_image.data.toList.drop 46 = dktX0_image_2 := dk_seg dksX0_image_1 22 rfl rfl
theorem dX0_image_0 : decode cX0_image 0 = .ok (.iload_n 1, 1) := dk_27 (dk_at dksX0_image_0 0 rfl rfl)
theorem dX0_image_1 : decode cX0_image 1 = .ok (.i2l, 1) := dk_133 (dk_at dksX0_image_0 1 rfl rfl)
theorem dX0_image_2 : decode cX0_image 2 = .ok (.lconst 0, 1) := dk_9 (dk_at dksX0_image_0 2 rfl rfl)
theorem dX0_image_3 : decode cX0_image 3 = .ok (.lconst 1, 1) := dk_10 (dk_at dksX0_image_0 3 rfl rfl)
theorem dX0_image_4 : decode cX0_image 4 = .ok (.invokestatic 84, 3) := dk_184 0 84 (dk_at dksX0_image_0 4 rfl rfl)
theorem dX0_image_7 : decode cX0_image 7 = .ok (.ifCond .ne 6, 3) := dk_154 0 6 (dk_at dksX0_image_0 7 rfl rfl)
theorem dX0_image_10 : decode cX0_image 10 = .ok (.ldc 98, 2) := dk_18 98 (dk_at dksX0_image_0 10 rfl rfl)
theorem dX0_image_12 : decode cX0_image 12 = .ok (.ireturn, 1) := dk_172 (dk_at dksX0_image_0 12 rfl rfl)
theorem dX0_image_13 : decode cX0_image 13 = .ok (.aload_n 0, 1) := dk_42 (dk_at dksX0_image_0 13 rfl rfl)
theorem dX0_image_14 : decode cX0_image 14 = .ok (.invokevirtual 222, 3) := dk_182 0 222 (dk_at dksX0_image_0 14 rfl rfl)
theorem dX0_image_17 : decode cX0_image 17 = .ok (.ifCond .ne 6, 3) := dk_154 0 6 (dk_at dksX0_image_0 17 rfl rfl)
theorem dX0_image_20 : decode cX0_image 20 = .ok (.ldc 172, 2) := dk_18 172 (dk_at dksX0_image_0 20 rfl rfl)
theorem dX0_image_22 : decode cX0_image 22 = .ok (.ireturn, 1) := dk_172 (dk_at dksX0_image_0 22 rfl rfl)
theorem dX0_image_23 : decode cX0_image 23 = .ok (.aload_n 0, 1) := dk_42 (dk_at dksX0_image_0 23 rfl rfl)
theorem dX0_image_24 : decode cX0_image 24 = .ok (.getfield 64, 3) := dk_180 0 64 (dk_at dksX0_image_1 0 rfl rfl)
theorem dX0_image_27 : decode cX0_image 27 = .ok (.iload_n 1, 1) := dk_27 (dk_at dksX0_image_1 3 rfl rfl)
theorem dX0_image_28 : decode cX0_image 28 = .ok (.aaload, 1) := dk_50 (dk_at dksX0_image_1 4 rfl rfl)
theorem dX0_image_29 : decode cX0_image 29 = .ok (.ifnonnull 16, 3) := dk_199 0 16 (dk_at dksX0_image_1 5 rfl rfl)
theorem dX0_image_32 : decode cX0_image 32 = .ok (.aload_n 0, 1) := dk_42 (dk_at dksX0_image_1 8 rfl rfl)
theorem dX0_image_33 : decode cX0_image 33 = .ok (.getfield 64, 3) := dk_180 0 64 (dk_at dksX0_image_1 9 rfl rfl)
theorem dX0_image_36 : decode cX0_image 36 = .ok (.iload_n 1, 1) := dk_27 (dk_at dksX0_image_1 12 rfl rfl)
theorem dX0_image_37 : decode cX0_image 37 = .ok (.new 50, 3) := dk_187 0 50 (dk_at dksX0_image_1 13 rfl rfl)
theorem dX0_image_40 : decode cX0_image 40 = .ok (.dup, 1) := dk_89 (dk_at dksX0_image_1 16 rfl rfl)
theorem dX0_image_41 : decode cX0_image 41 = .ok (.invokespecial 52, 3) := dk_183 0 52 (dk_at dksX0_image_1 17 rfl rfl)
theorem dX0_image_44 : decode cX0_image 44 = .ok (.aastore, 1) := dk_83 (dk_at dksX0_image_1 20 rfl rfl)
theorem dX0_image_45 : decode cX0_image 45 = .ok (.aload_n 0, 1) := dk_42 (dk_at dksX0_image_1 21 rfl rfl)
theorem dX0_image_46 : decode cX0_image 46 = .ok (.getfield 64, 3) := dk_180 0 64 (dk_at dksX0_image_2 0 rfl rfl)
theorem dX0_image_49 : decode cX0_image 49 = .ok (.iload_n 1, 1) := dk_27 (dk_at dksX0_image_2 3 rfl rfl)
theorem dX0_image_50 : decode cX0_image 50 = .ok (.aaload, 1) := dk_50 (dk_at dksX0_image_2 4 rfl rfl)
theorem dX0_image_51 : decode cX0_image 51 = .ok (.aload_n 0, 1) := dk_42 (dk_at dksX0_image_2 5 rfl rfl)
theorem dX0_image_52 : decode cX0_image 52 = .ok (.getfield 53, 3) := dk_180 0 53 (dk_at dksX0_image_2 6 rfl rfl)
theorem dX0_image_55 : decode cX0_image 55 = .ok (.invokevirtual 161, 3) := dk_182 0 161 (dk_at dksX0_image_2 9 rfl rfl)
theorem dX0_image_58 : decode cX0_image 58 = .ok (.pop, 1) := dk_87 (dk_at dksX0_image_2 12 rfl rfl)
theorem dX0_image_59 : decode cX0_image 59 = .ok (.iconst 1, 1) := dk_4 (dk_at dksX0_image_2 13 rfl rfl)
theorem dX0_image_60 : decode cX0_image 60 = .ok (.ireturn, 1) := dk_172 (dk_at dksX0_image_2 14 rfl rfl)
abbrev cX0_restore : ByteArray := prog_1_method_55_code
def yX0_restore : MethodName := ⟨RX0, "restore", "(I)I"⟩
def dkwX0_restore_1 : List UInt8 := [172, 42, 180, 0, 53, 42, 180, 0, 64, 27, 50, 182, 0, 161, 87, 42, 3, 181, 0, 165, 4, 172]
abbrev dktX0_restore_1 : List UInt8 := dkwX0_restore_1 ++ []
def dkwX0_restore_0 : List UInt8 := [27, 133, 9, 10, 184, 0, 84, 154, 0, 6, 18, 98, 172, 42, 180, 0, 64, 27, 50, 199, 0, 6, 18, 172]
abbrev dktX0_restore_0 : List UInt8 := dkwX0_restore_0 ++ dktX0_restore_1
theorem dksX0_restore_0 : cX0_restore.data.toList.drop 0 = dktX0_restore_0 := by decide +kernel
theorem dksX0_restore_1 : cX0_restore.data.toList.drop 24 = dktX0_restore_1 := dk_seg dksX0_restore_0 24 rfl rfl
theorem dX0_restore_0 : decode cX0_restore 0 = .ok (.iload_n 1, 1) := dk_27 (dk_at dksX0_restore_0 0 rfl rfl)
theorem dX0_restore_1 : decode cX0_restore 1 = .ok (.i2l, 1) := dk_133 (dk_at dksX0_restore_0 1 rfl rfl)
theorem dX0_restore_2 : decode cX0_restore 2 = .ok (.lconst 0, 1) := dk_9 (dk_at dksX0_restore_0 2 rfl rfl)
theorem dX0_restore_3 : decode cX0_restore 3 = .ok (.lconst 1, 1) := dk_10 (dk_at dksX0_restore_0 3 rfl rfl)
theorem dX0_restore_4 : decode cX0_restore 4 = .ok (.invokestatic 84, 3) := dk_184 0 84 (dk_at dksX0_restore_0 4 rfl rfl)
theorem dX0_restore_7 : decode cX0_restore 7 = .ok (.ifCond .ne 6, 3) := dk_154 0 6 (dk_at dksX0_restore_0 7 rfl rfl)
theorem dX0_restore_10 : decode cX0_restore 10 = .ok (.ldc 98, 2) := dk_18 98 (dk_at dksX0_restore_0 10 rfl rfl)
theorem dX0_restore_12 : decode cX0_restore 12 = .ok (.ireturn, 1) := dk_172 (dk_at dksX0_restore_0 12 rfl rfl)
theorem dX0_restore_13 : decode cX0_restore 13 = .ok (.aload_n 0, 1) := dk_42 (dk_at dksX0_restore_0 13 rfl rfl)
theorem dX0_restore_14 : decode cX0_restore 14 = .ok (.getfield 64, 3) := dk_180 0 64 (dk_at dksX0_restore_0 14 rfl rfl)
theorem dX0_restore_17 : decode cX0_restore 17 = .ok (.iload_n 1, 1) := dk_27 (dk_at dksX0_restore_0 17 rfl rfl)
theorem dX0_restore_18 : decode cX0_restore 18 = .ok (.aaload, 1) := dk_50 (dk_at dksX0_restore_0 18 rfl rfl)
theorem dX0_restore_19 : decode cX0_restore 19 = .ok (.ifnonnull 6, 3) := dk_199 0 6 (dk_at dksX0_restore_0 19 rfl rfl)
theorem dX0_restore_22 : decode cX0_restore 22 = .ok (.ldc 172, 2) := dk_18 172 (dk_at dksX0_restore_0 22 rfl rfl)
theorem dX0_restore_24 : decode cX0_restore 24 = .ok (.ireturn, 1) := dk_172 (dk_at dksX0_restore_1 0 rfl rfl)
theorem dX0_restore_25 : decode cX0_restore 25 = .ok (.aload_n 0, 1) := dk_42 (dk_at dksX0_restore_1 1 rfl rfl)
theorem dX0_restore_26 : decode cX0_restore 26 = .ok (.getfield 53, 3) := dk_180 0 53 (dk_at dksX0_restore_1 2 rfl rfl)
theorem dX0_restore_29 : decode cX0_restore 29 = .ok (.aload_n 0, 1) := dk_42 (dk_at dksX0_restore_1 5 rfl rfl)
theorem dX0_restore_30 : decode cX0_restore 30 = .ok (.getfield 64, 3) := dk_180 0 64 (dk_at dksX0_restore_1 6 rfl rfl)
theorem dX0_restore_33 : decode cX0_restore 33 = .ok (.iload_n 1, 1) := dk_27 (dk_at dksX0_restore_1 9 rfl rfl)
theorem dX0_restore_34 : decode cX0_restore 34 = .ok (.aaload, 1) := dk_50 (dk_at dksX0_restore_1 10 rfl rfl)
theorem dX0_restore_35 : decode cX0_restore 35 = .ok (.invokevirtual 161, 3) := dk_182 0 161 (dk_at dksX0_restore_1 11 rfl rfl)
theorem dX0_restore_38 : decode cX0_restore 38 = .ok (.pop, 1) := dk_87 (dk_at dksX0_restore_1 14 rfl rfl)
theorem dX0_restore_39 : decode cX0_restore 39 = .ok (.aload_n 0, 1) := dk_42 (dk_at dksX0_restore_1 15 rfl rfl)
theorem dX0_restore_40 : decode cX0_restore 40 = .ok (.iconst 0, 1) := dk_3 (dk_at dksX0_restore_1 16 rfl rfl)
theorem dX0_restore_41 : decode cX0_restore 41 = .ok (.putfield 165, 3) := dk_181 0 165 (dk_at dksX0_restore_1 17 rfl rfl)
theorem dX0_restore_44 : decode cX0_restore 44 = .ok (.iconst 1, 1) := dk_4 (dk_at dksX0_restore_1 20 rfl rfl)
theorem dX0_restore_45 : decode cX0_restore 45 = .ok (.ireturn, 1) := dk_172 (dk_at dksX0_restore_1 21 rfl rfl)
abbrev cX0_kind : ByteArray := prog_1_method_56_code
def yX0_kind : MethodName := ⟨RX0, "kind", "(I)I"⟩
def dkwX0_kind_1 : List UInt8 := [182, 0, 214, 167, 0, 5, 18, 98, 172]
abbrev dktX0_kind_1 : List UInt8 := dkwX0_kind_1 ++ []
def dkwX0_kind_0 : List UInt8 := [42, 27, 182, 0, 179, 153, 0, 25, 42, 180, 0, 53, 180, 1, 108, 27, 185, 1, 111, 2, 0, 192, 0, 215]
abbrev dktX0_kind_0 : List UInt8 := dkwX0_kind_0 ++ dktX0_kind_1
theorem dksX0_kind_0 : cX0_kind.data.toList.drop 0 = dktX0_kind_0 := by decide +kernel
theorem dksX0_kind_1 : cX0_kind.data.toList.drop 24 = dktX0_kind_1 := dk_seg dksX0_kind_0 24 rfl rfl
theorem dX0_kind_0 : decode cX0_kind 0 = .ok (.aload_n 0, 1) := dk_42 (dk_at dksX0_kind_0 0 rfl rfl)
theorem dX0_kind_1 : decode cX0_kind 1 = .ok (.iload_n 1, 1) := dk_27 (dk_at dksX0_kind_0 1 rfl rfl)
theorem dX0_kind_2 : decode cX0_kind 2 = .ok (.invokevirtual 179, 3) := dk_182 0 179 (dk_at dksX0_kind_0 2 rfl rfl)
theorem dX0_kind_5 : decode cX0_kind 5 = .ok (.ifCond .eq 25, 3) := dk_153 0 25 (dk_at dksX0_kind_0 5 rfl rfl)
theorem dX0_kind_8 : decode cX0_kind 8 = .ok (.aload_n 0, 1) := dk_42 (dk_at dksX0_kind_0 8 rfl rfl)
theorem dX0_kind_9 : decode cX0_kind 9 = .ok (.getfield 53, 3) := dk_180 0 53 (dk_at dksX0_kind_0 9 rfl rfl)
theorem dX0_kind_12 : decode cX0_kind 12 = .ok (.getfield 364, 3) := dk_180 1 108 (dk_at dksX0_kind_0 12 rfl rfl)
theorem dX0_kind_15 : decode cX0_kind 15 = .ok (.iload_n 1, 1) := dk_27 (dk_at dksX0_kind_0 15 rfl rfl)
theorem dX0_kind_16 : decode cX0_kind 16 = .ok (.invokeinterface 367 2, 5) := by decide +kernel
theorem dX0_kind_21 : decode cX0_kind 21 = .ok (.checkcast 215, 3) := dk_192 0 215 (dk_at dksX0_kind_0 21 rfl rfl)
theorem dX0_kind_24 : decode cX0_kind 24 = .ok (.invokevirtual 214, 3) := dk_182 0 214 (dk_at dksX0_kind_1 0 rfl rfl)
theorem dX0_kind_27 : decode cX0_kind 27 = .ok (.goto 5, 3) := dk_167 0 5 (dk_at dksX0_kind_1 3 rfl rfl)
theorem dX0_kind_30 : decode cX0_kind 30 = .ok (.ldc 98, 2) := dk_18 98 (dk_at dksX0_kind_1 6 rfl rfl)
theorem dX0_kind_32 : decode cX0_kind 32 = .ok (.ireturn, 1) := dk_172 (dk_at dksX0_kind_1 8 rfl rfl)
abbrev cX0_as : ByteArray := prog_1_method_57_code
def yX0_as : MethodName := ⟨RX0, "as", "(II)I"⟩
def dkwX0_as_5 : List UInt8 := [183, 0, 13, 191, 78, 42, 45, 182, 0, 106, 172]
abbrev dktX0_as_5 : List UInt8 := dkwX0_as_5 ++ []
def dkwX0_as_4 : List UInt8 := [45, 192, 0, 32, 58, 4, 42, 25, 4, 182, 1, 117, 182, 0, 102, 172, 58, 4, 187, 0, 9, 89, 6]
abbrev dktX0_as_4 : List UInt8 := dkwX0_as_4 ++ dktX0_as_5
def dkwX0_as_3 : List UInt8 := [28, 6, 160, 0, 10, 45, 192, 0, 26, 167, 0, 19, 28, 7, 160, 0, 10, 45, 192, 0, 29, 167, 0, 7]
abbrev dktX0_as_3 : List UInt8 := dkwX0_as_3 ++ dktX0_as_4
def dkwX0_as_2 : List UInt8 := [28, 4, 160, 0, 10, 45, 192, 0, 20, 167, 0, 43, 28, 5, 160, 0, 10, 45, 192, 0, 23, 167, 0, 31]
abbrev dktX0_as_2 : List UInt8 := dkwX0_as_2 ++ dktX0_as_3
def dkwX0_as_1 : List UInt8 := [180, 0, 53, 180, 1, 108, 27, 185, 1, 111, 2, 0, 192, 0, 215, 78, 28, 154, 0, 7, 45, 167, 0, 55]
abbrev dktX0_as_1 : List UInt8 := dkwX0_as_1 ++ dktX0_as_2
def dkwX0_as_0 : List UInt8 := [42, 27, 182, 0, 179, 153, 0, 15, 28, 133, 9, 20, 0, 208, 184, 0, 84, 154, 0, 6, 18, 98, 172, 42]
abbrev dktX0_as_0 : List UInt8 := dkwX0_as_0 ++ dktX0_as_1
theorem dksX0_as_0 : cX0_as.data.toList.drop 0 = dktX0_as_0 := by decide +kernel
theorem dksX0_as_1 : cX0_as.data.toList.drop 24 = dktX0_as_1 := dk_seg dksX0_as_0 24 rfl rfl
theorem dksX0_as_2 : cX0_as.data.toList.drop 48 = dktX0_as_2 := dk_seg dksX0_as_1 24 rfl rfl
theorem dksX0_as_3 : cX0_as.data.toList.drop 72 = dktX0_as_3 := dk_seg dksX0_as_2 24 rfl rfl
theorem dksX0_as_4 : cX0_as.data.toList.drop 96 = dktX0_as_4 := dk_seg dksX0_as_3 24 rfl rfl
theorem dksX0_as_5 : cX0_as.data.toList.drop 119 = dktX0_as_5 := dk_seg dksX0_as_4 23 rfl rfl
theorem dX0_as_0 : decode cX0_as 0 = .ok (.aload_n 0, 1) := dk_42 (dk_at dksX0_as_0 0 rfl rfl)
theorem dX0_as_1 : decode cX0_as 1 = .ok (.iload_n 1, 1) := dk_27 (dk_at dksX0_as_0 1 rfl rfl)
theorem dX0_as_2 : decode cX0_as 2 = .ok (.invokevirtual 179, 3) := dk_182 0 179 (dk_at dksX0_as_0 2 rfl rfl)
theorem dX0_as_5 : decode cX0_as 5 = .ok (.ifCond .eq 15, 3) := dk_153 0 15 (dk_at dksX0_as_0 5 rfl rfl)
theorem dX0_as_8 : decode cX0_as 8 = .ok (.iload_n 2, 1) := dk_28 (dk_at dksX0_as_0 8 rfl rfl)
theorem dX0_as_9 : decode cX0_as 9 = .ok (.i2l, 1) := dk_133 (dk_at dksX0_as_0 9 rfl rfl)
theorem dX0_as_10 : decode cX0_as 10 = .ok (.lconst 0, 1) := dk_9 (dk_at dksX0_as_0 10 rfl rfl)
theorem dX0_as_11 : decode cX0_as 11 = .ok (.ldc2_w 208, 3) := dk_20 0 208 (dk_at dksX0_as_0 11 rfl rfl)
theorem dX0_as_14 : decode cX0_as 14 = .ok (.invokestatic 84, 3) := dk_184 0 84 (dk_at dksX0_as_0 14 rfl rfl)
theorem dX0_as_17 : decode cX0_as 17 = .ok (.ifCond .ne 6, 3) := dk_154 0 6 (dk_at dksX0_as_0 17 rfl rfl)
theorem dX0_as_20 : decode cX0_as 20 = .ok (.ldc 98, 2) := dk_18 98 (dk_at dksX0_as_0 20 rfl rfl)
theorem dX0_as_22 : decode cX0_as 22 = .ok (.ireturn, 1) := dk_172 (dk_at dksX0_as_0 22 rfl rfl)
theorem dX0_as_23 : decode cX0_as 23 = .ok (.aload_n 0, 1) := dk_42 (dk_at dksX0_as_0 23 rfl rfl)
theorem dX0_as_24 : decode cX0_as 24 = .ok (.getfield 53, 3) := dk_180 0 53 (dk_at dksX0_as_1 0 rfl rfl)
theorem dX0_as_27 : decode cX0_as 27 = .ok (.getfield 364, 3) := dk_180 1 108 (dk_at dksX0_as_1 3 rfl rfl)
theorem dX0_as_30 : decode cX0_as 30 = .ok (.iload_n 1, 1) := dk_27 (dk_at dksX0_as_1 6 rfl rfl)
theorem dX0_as_31 : decode cX0_as 31 = .ok (.invokeinterface 367 2, 5) := by decide +kernel
theorem dX0_as_36 : decode cX0_as 36 = .ok (.checkcast 215, 3) := dk_192 0 215 (dk_at dksX0_as_1 12 rfl rfl)
theorem dX0_as_39 : decode cX0_as 39 = .ok (.astore_n 3, 1) := dk_78 (dk_at dksX0_as_1 15 rfl rfl)
theorem dX0_as_40 : decode cX0_as 40 = .ok (.iload_n 2, 1) := dk_28 (dk_at dksX0_as_1 16 rfl rfl)
theorem dX0_as_41 : decode cX0_as 41 = .ok (.ifCond .ne 7, 3) := dk_154 0 7 (dk_at dksX0_as_1 17 rfl rfl)
theorem dX0_as_44 : decode cX0_as 44 = .ok (.aload_n 3, 1) := dk_45 (dk_at dksX0_as_1 20 rfl rfl)
theorem dX0_as_45 : decode cX0_as 45 = .ok (.goto 55, 3) := dk_167 0 55 (dk_at dksX0_as_1 21 rfl rfl)
theorem dX0_as_48 : decode cX0_as 48 = .ok (.iload_n 2, 1) := dk_28 (dk_at dksX0_as_2 0 rfl rfl)
theorem dX0_as_49 : decode cX0_as 49 = .ok (.iconst 1, 1) := dk_4 (dk_at dksX0_as_2 1 rfl rfl)
theorem dX0_as_50 : decode cX0_as 50 = .ok (.if_icmp .ne 10, 3) := dk_160 0 10 (dk_at dksX0_as_2 2 rfl rfl)
theorem dX0_as_53 : decode cX0_as 53 = .ok (.aload_n 3, 1) := dk_45 (dk_at dksX0_as_2 5 rfl rfl)
theorem dX0_as_54 : decode cX0_as 54 = .ok (.checkcast 20, 3) := dk_192 0 20 (dk_at dksX0_as_2 6 rfl rfl)
theorem dX0_as_57 : decode cX0_as 57 = .ok (.goto 43, 3) := dk_167 0 43 (dk_at dksX0_as_2 9 rfl rfl)
theorem dX0_as_60 : decode cX0_as 60 = .ok (.iload_n 2, 1) := dk_28 (dk_at dksX0_as_2 12 rfl rfl)
theorem dX0_as_61 : decode cX0_as 61 = .ok (.iconst 2, 1) := dk_5 (dk_at dksX0_as_2 13 rfl rfl)
theorem dX0_as_62 : decode cX0_as 62 = .ok (.if_icmp .ne 10, 3) := dk_160 0 10 (dk_at dksX0_as_2 14 rfl rfl)
theorem dX0_as_65 : decode cX0_as 65 = .ok (.aload_n 3, 1) := dk_45 (dk_at dksX0_as_2 17 rfl rfl)
theorem dX0_as_66 : decode cX0_as 66 = .ok (.checkcast 23, 3) := dk_192 0 23 (dk_at dksX0_as_2 18 rfl rfl)
theorem dX0_as_69 : decode cX0_as 69 = .ok (.goto 31, 3) := dk_167 0 31 (dk_at dksX0_as_2 21 rfl rfl)
theorem dX0_as_72 : decode cX0_as 72 = .ok (.iload_n 2, 1) := dk_28 (dk_at dksX0_as_3 0 rfl rfl)
theorem dX0_as_73 : decode cX0_as 73 = .ok (.iconst 3, 1) := dk_6 (dk_at dksX0_as_3 1 rfl rfl)
theorem dX0_as_74 : decode cX0_as 74 = .ok (.if_icmp .ne 10, 3) := dk_160 0 10 (dk_at dksX0_as_3 2 rfl rfl)
theorem dX0_as_77 : decode cX0_as 77 = .ok (.aload_n 3, 1) := dk_45 (dk_at dksX0_as_3 5 rfl rfl)
theorem dX0_as_78 : decode cX0_as 78 = .ok (.checkcast 26, 3) := dk_192 0 26 (dk_at dksX0_as_3 6 rfl rfl)
theorem dX0_as_81 : decode cX0_as 81 = .ok (.goto 19, 3) := dk_167 0 19 (dk_at dksX0_as_3 9 rfl rfl)
theorem dX0_as_84 : decode cX0_as 84 = .ok (.iload_n 2, 1) := dk_28 (dk_at dksX0_as_3 12 rfl rfl)
theorem dX0_as_85 : decode cX0_as 85 = .ok (.iconst 4, 1) := dk_7 (dk_at dksX0_as_3 13 rfl rfl)
theorem dX0_as_86 : decode cX0_as 86 = .ok (.if_icmp .ne 10, 3) := dk_160 0 10 (dk_at dksX0_as_3 14 rfl rfl)
theorem dX0_as_89 : decode cX0_as 89 = .ok (.aload_n 3, 1) := dk_45 (dk_at dksX0_as_3 17 rfl rfl)
theorem dX0_as_90 : decode cX0_as 90 = .ok (.checkcast 29, 3) := dk_192 0 29 (dk_at dksX0_as_3 18 rfl rfl)
theorem dX0_as_93 : decode cX0_as 93 = .ok (.goto 7, 3) := dk_167 0 7 (dk_at dksX0_as_3 21 rfl rfl)
theorem dX0_as_96 : decode cX0_as 96 = .ok (.aload_n 3, 1) := dk_45 (dk_at dksX0_as_4 0 rfl rfl)
theorem dX0_as_97 : decode cX0_as 97 = .ok (.checkcast 32, 3) := dk_192 0 32 (dk_at dksX0_as_4 1 rfl rfl)
theorem dX0_as_100 : decode cX0_as 100 = .ok (.astore 4, 2) := dk_58 4 (dk_at dksX0_as_4 4 rfl rfl)
theorem dX0_as_102 : decode cX0_as 102 = .ok (.aload_n 0, 1) := dk_42 (dk_at dksX0_as_4 6 rfl rfl)
theorem dX0_as_103 : decode cX0_as 103 = .ok (.aload 4, 2) := dk_25 4 (dk_at dksX0_as_4 7 rfl rfl)
theorem dX0_as_105 : decode cX0_as 105 = .ok (.invokevirtual 373, 3) := dk_182 1 117 (dk_at dksX0_as_4 9 rfl rfl)
theorem dX0_as_108 : decode cX0_as 108 = .ok (.invokevirtual 102, 3) := dk_182 0 102 (dk_at dksX0_as_4 12 rfl rfl)
theorem dX0_as_111 : decode cX0_as 111 = .ok (.ireturn, 1) := dk_172 (dk_at dksX0_as_4 15 rfl rfl)
theorem dX0_as_112 : decode cX0_as 112 = .ok (.astore 4, 2) := dk_58 4 (dk_at dksX0_as_4 16 rfl rfl)
theorem dX0_as_114 : decode cX0_as 114 = .ok (.new 9, 3) := dk_187 0 9 (dk_at dksX0_as_4 18 rfl rfl)
theorem dX0_as_117 : decode cX0_as 117 = .ok (.dup, 1) := dk_89 (dk_at dksX0_as_4 21 rfl rfl)
theorem dX0_as_118 : decode cX0_as 118 = .ok (.iconst 3, 1) := dk_6 (dk_at dksX0_as_4 22 rfl rfl)
theorem dX0_as_119 : decode cX0_as 119 = .ok (.invokespecial 13, 3) := dk_183 0 13 (dk_at dksX0_as_5 0 rfl rfl)
theorem dX0_as_122 : decode cX0_as 122 = .ok (.athrow, 1) := dk_191 (dk_at dksX0_as_5 3 rfl rfl)
theorem dX0_as_123 : decode cX0_as 123 = .ok (.astore_n 3, 1) := dk_78 (dk_at dksX0_as_5 4 rfl rfl)
theorem dX0_as_124 : decode cX0_as 124 = .ok (.aload_n 0, 1) := dk_42 (dk_at dksX0_as_5 5 rfl rfl)
theorem dX0_as_125 : decode cX0_as 125 = .ok (.aload_n 3, 1) := dk_45 (dk_at dksX0_as_5 6 rfl rfl)
theorem dX0_as_126 : decode cX0_as 126 = .ok (.invokevirtual 106, 3) := dk_182 0 106 (dk_at dksX0_as_5 7 rfl rfl)
theorem dX0_as_129 : decode cX0_as 129 = .ok (.ireturn, 1) := dk_172 (dk_at dksX0_as_5 10 rfl rfl)
abbrev cX0_ask : ByteArray := prog_1_method_58_code
def yX0_ask : MethodName := ⟨RX0, "ask", "(II)I"⟩
def dkwX0_ask_3 : List UInt8 := [180, 0, 70, 42, 180, 0, 53, 185, 1, 126, 3, 0, 172]
abbrev dktX0_ask_3 : List UInt8 := dkwX0_ask_3 ++ []
def dkwX0_ask_2 : List UInt8 := [154, 0, 20, 45, 42, 180, 0, 70, 42, 180, 0, 53, 185, 1, 123, 3, 0, 167, 0, 17, 45, 42]
abbrev dktX0_ask_2 : List UInt8 := dkwX0_ask_2 ++ dktX0_ask_3
def dkwX0_ask_1 : List UInt8 := [183, 0, 69, 181, 0, 70, 42, 180, 0, 53, 180, 1, 108, 27, 185, 1, 111, 2, 0, 192, 1, 121, 78, 28]
abbrev dktX0_ask_1 : List UInt8 := dkwX0_ask_1 ++ dktX0_ask_2
def dkwX0_ask_0 : List UInt8 := [42, 27, 182, 0, 179, 153, 0, 10, 28, 184, 0, 197, 154, 0, 6, 18, 98, 172, 42, 187, 0, 67, 89]
abbrev dktX0_ask_0 : List UInt8 := dkwX0_ask_0 ++ dktX0_ask_1
theorem dksX0_ask_0 : cX0_ask.data.toList.drop 0 = dktX0_ask_0 := by decide +kernel
theorem dksX0_ask_1 : cX0_ask.data.toList.drop 23 = dktX0_ask_1 := dk_seg dksX0_ask_0 23 rfl rfl
theorem dksX0_ask_2 : cX0_ask.data.toList.drop 47 = dktX0_ask_2 := dk_seg dksX0_ask_1 24 rfl rfl
theorem dksX0_ask_3 : cX0_ask.data.toList.drop 69 = dktX0_ask_3 := dk_seg dksX0_ask_2 22 rfl rfl
theorem dX0_ask_0 : decode cX0_ask 0 = .ok (.aload_n 0, 1) := dk_42 (dk_at dksX0_ask_0 0 rfl rfl)
theorem dX0_ask_1 : decode cX0_ask 1 = .ok (.iload_n 1, 1) := dk_27 (dk_at dksX0_ask_0 1 rfl rfl)
theorem dX0_ask_2 : decode cX0_ask 2 = .ok (.invokevirtual 179, 3) := dk_182 0 179 (dk_at dksX0_ask_0 2 rfl rfl)
theorem dX0_ask_5 : decode cX0_ask 5 = .ok (.ifCond .eq 10, 3) := dk_153 0 10 (dk_at dksX0_ask_0 5 rfl rfl)
theorem dX0_ask_8 : decode cX0_ask 8 = .ok (.iload_n 2, 1) := dk_28 (dk_at dksX0_ask_0 8 rfl rfl)
theorem dX0_ask_9 : decode cX0_ask 9 = .ok (.invokestatic 197, 3) := dk_184 0 197 (dk_at dksX0_ask_0 9 rfl rfl)
theorem dX0_ask_12 : decode cX0_ask 12 = .ok (.ifCond .ne 6, 3) := dk_154 0 6 (dk_at dksX0_ask_0 12 rfl rfl)
theorem dX0_ask_15 : decode cX0_ask 15 = .ok (.ldc 98, 2) := dk_18 98 (dk_at dksX0_ask_0 15 rfl rfl)
theorem dX0_ask_17 : decode cX0_ask 17 = .ok (.ireturn, 1) := dk_172 (dk_at dksX0_ask_0 17 rfl rfl)
theorem dX0_ask_18 : decode cX0_ask 18 = .ok (.aload_n 0, 1) := dk_42 (dk_at dksX0_ask_0 18 rfl rfl)
theorem dX0_ask_19 : decode cX0_ask 19 = .ok (.new 67, 3) := dk_187 0 67 (dk_at dksX0_ask_0 19 rfl rfl)
theorem dX0_ask_22 : decode cX0_ask 22 = .ok (.dup, 1) := dk_89 (dk_at dksX0_ask_0 22 rfl rfl)
theorem dX0_ask_23 : decode cX0_ask 23 = .ok (.invokespecial 69, 3) := dk_183 0 69 (dk_at dksX0_ask_1 0 rfl rfl)
theorem dX0_ask_26 : decode cX0_ask 26 = .ok (.putfield 70, 3) := dk_181 0 70 (dk_at dksX0_ask_1 3 rfl rfl)
theorem dX0_ask_29 : decode cX0_ask 29 = .ok (.aload_n 0, 1) := dk_42 (dk_at dksX0_ask_1 6 rfl rfl)
theorem dX0_ask_30 : decode cX0_ask 30 = .ok (.getfield 53, 3) := dk_180 0 53 (dk_at dksX0_ask_1 7 rfl rfl)
theorem dX0_ask_33 : decode cX0_ask 33 = .ok (.getfield 364, 3) := dk_180 1 108 (dk_at dksX0_ask_1 10 rfl rfl)
theorem dX0_ask_36 : decode cX0_ask 36 = .ok (.iload_n 1, 1) := dk_27 (dk_at dksX0_ask_1 13 rfl rfl)
theorem dX0_ask_37 : decode cX0_ask 37 = .ok (.invokeinterface 367 2, 5) := by decide +kernel
theorem dX0_ask_42 : decode cX0_ask 42 = .ok (.checkcast 377, 3) := dk_192 1 121 (dk_at dksX0_ask_1 19 rfl rfl)
theorem dX0_ask_45 : decode cX0_ask 45 = .ok (.astore_n 3, 1) := dk_78 (dk_at dksX0_ask_1 22 rfl rfl)
theorem dX0_ask_46 : decode cX0_ask 46 = .ok (.iload_n 2, 1) := dk_28 (dk_at dksX0_ask_1 23 rfl rfl)
theorem dX0_ask_47 : decode cX0_ask 47 = .ok (.ifCond .ne 20, 3) := dk_154 0 20 (dk_at dksX0_ask_2 0 rfl rfl)
theorem dX0_ask_50 : decode cX0_ask 50 = .ok (.aload_n 3, 1) := dk_45 (dk_at dksX0_ask_2 3 rfl rfl)
theorem dX0_ask_51 : decode cX0_ask 51 = .ok (.aload_n 0, 1) := dk_42 (dk_at dksX0_ask_2 4 rfl rfl)
theorem dX0_ask_52 : decode cX0_ask 52 = .ok (.getfield 70, 3) := dk_180 0 70 (dk_at dksX0_ask_2 5 rfl rfl)
theorem dX0_ask_55 : decode cX0_ask 55 = .ok (.aload_n 0, 1) := dk_42 (dk_at dksX0_ask_2 8 rfl rfl)
theorem dX0_ask_56 : decode cX0_ask 56 = .ok (.getfield 53, 3) := dk_180 0 53 (dk_at dksX0_ask_2 9 rfl rfl)
theorem dX0_ask_59 : decode cX0_ask 59 = .ok (.invokeinterface 379 3, 5) := by decide +kernel
theorem dX0_ask_64 : decode cX0_ask 64 = .ok (.goto 17, 3) := dk_167 0 17 (dk_at dksX0_ask_2 17 rfl rfl)
theorem dX0_ask_67 : decode cX0_ask 67 = .ok (.aload_n 3, 1) := dk_45 (dk_at dksX0_ask_2 20 rfl rfl)
theorem dX0_ask_68 : decode cX0_ask 68 = .ok (.aload_n 0, 1) := dk_42 (dk_at dksX0_ask_2 21 rfl rfl)
theorem dX0_ask_69 : decode cX0_ask 69 = .ok (.getfield 70, 3) := dk_180 0 70 (dk_at dksX0_ask_3 0 rfl rfl)
theorem dX0_ask_72 : decode cX0_ask 72 = .ok (.aload_n 0, 1) := dk_42 (dk_at dksX0_ask_3 3 rfl rfl)
theorem dX0_ask_73 : decode cX0_ask 73 = .ok (.getfield 53, 3) := dk_180 0 53 (dk_at dksX0_ask_3 4 rfl rfl)
theorem dX0_ask_76 : decode cX0_ask 76 = .ok (.invokeinterface 382 3, 5) := by decide +kernel
theorem dX0_ask_81 : decode cX0_ask 81 = .ok (.ireturn, 1) := dk_172 (dk_at dksX0_ask_3 12 rfl rfl)
abbrev cX0_trace : ByteArray := prog_1_method_59_code
def yX0_trace : MethodName := ⟨RX0, "trace", "(I)I"⟩
def dkwX0_trace_1 : List UInt8 := [180, 1, 130, 27, 46, 167, 0, 6, 19, 1, 3, 172]
abbrev dktX0_trace_1 : List UInt8 := dkwX0_trace_1 ++ []
def dkwX0_trace_0 : List UInt8 := [27, 133, 9, 42, 180, 0, 70, 180, 1, 129, 4, 100, 133, 184, 0, 84, 153, 0, 15, 42, 180, 0, 70]
abbrev dktX0_trace_0 : List UInt8 := dkwX0_trace_0 ++ dktX0_trace_1
theorem dksX0_trace_0 : cX0_trace.data.toList.drop 0 = dktX0_trace_0 := by decide +kernel
theorem dksX0_trace_1 : cX0_trace.data.toList.drop 23 = dktX0_trace_1 := dk_seg dksX0_trace_0 23 rfl rfl
theorem dX0_trace_0 : decode cX0_trace 0 = .ok (.iload_n 1, 1) := dk_27 (dk_at dksX0_trace_0 0 rfl rfl)
theorem dX0_trace_1 : decode cX0_trace 1 = .ok (.i2l, 1) := dk_133 (dk_at dksX0_trace_0 1 rfl rfl)
theorem dX0_trace_2 : decode cX0_trace 2 = .ok (.lconst 0, 1) := dk_9 (dk_at dksX0_trace_0 2 rfl rfl)
theorem dX0_trace_3 : decode cX0_trace 3 = .ok (.aload_n 0, 1) := dk_42 (dk_at dksX0_trace_0 3 rfl rfl)
theorem dX0_trace_4 : decode cX0_trace 4 = .ok (.getfield 70, 3) := dk_180 0 70 (dk_at dksX0_trace_0 4 rfl rfl)
theorem dX0_trace_7 : decode cX0_trace 7 = .ok (.getfield 385, 3) := dk_180 1 129 (dk_at dksX0_trace_0 7 rfl rfl)
theorem dX0_trace_10 : decode cX0_trace 10 = .ok (.iconst 1, 1) := dk_4 (dk_at dksX0_trace_0 10 rfl rfl)
theorem dX0_trace_11 : decode cX0_trace 11 = .ok (.isub, 1) := dk_100 (dk_at dksX0_trace_0 11 rfl rfl)
theorem dX0_trace_12 : decode cX0_trace 12 = .ok (.i2l, 1) := dk_133 (dk_at dksX0_trace_0 12 rfl rfl)
theorem dX0_trace_13 : decode cX0_trace 13 = .ok (.invokestatic 84, 3) := dk_184 0 84 (dk_at dksX0_trace_0 13 rfl rfl)
theorem dX0_trace_16 : decode cX0_trace 16 = .ok (.ifCond .eq 15, 3) := dk_153 0 15 (dk_at dksX0_trace_0 16 rfl rfl)
theorem dX0_trace_19 : decode cX0_trace 19 = .ok (.aload_n 0, 1) := dk_42 (dk_at dksX0_trace_0 19 rfl rfl)
theorem dX0_trace_20 : decode cX0_trace 20 = .ok (.getfield 70, 3) := dk_180 0 70 (dk_at dksX0_trace_0 20 rfl rfl)
theorem dX0_trace_23 : decode cX0_trace 23 = .ok (.getfield 386, 3) := dk_180 1 130 (dk_at dksX0_trace_1 0 rfl rfl)
theorem dX0_trace_26 : decode cX0_trace 26 = .ok (.iload_n 1, 1) := dk_27 (dk_at dksX0_trace_1 3 rfl rfl)
theorem dX0_trace_27 : decode cX0_trace 27 = .ok (.iaload, 1) := dk_46 (dk_at dksX0_trace_1 4 rfl rfl)
theorem dX0_trace_28 : decode cX0_trace 28 = .ok (.goto 6, 3) := dk_167 0 6 (dk_at dksX0_trace_1 5 rfl rfl)
theorem dX0_trace_31 : decode cX0_trace 31 = .ok (.ldc_w 259, 3) := dk_19 1 3 (dk_at dksX0_trace_1 8 rfl rfl)
theorem dX0_trace_34 : decode cX0_trace 34 = .ok (.ireturn, 1) := dk_172 (dk_at dksX0_trace_1 11 rfl rfl)
abbrev cX0_count : ByteArray := prog_1_method_60_code
def yX0_count : MethodName := ⟨RX0, "count", "(I)I"⟩
def dkwX0_count_5 : List UInt8 := [96, 61, 132, 3, 1, 167, 255, 230, 28, 172, 42, 180, 0, 165, 172, 42, 180, 0, 134, 172, 18, 98, 172]
abbrev dktX0_count_5 : List UInt8 := dkwX0_count_5 ++ []
def dkwX0_count_4 : List UInt8 := [172, 3, 62, 29, 42, 180, 0, 53, 182, 0, 168, 162, 0, 21, 28, 42, 180, 0, 53, 180, 0, 190, 29, 46]
abbrev dktX0_count_4 : List UInt8 := dkwX0_count_4 ++ dktX0_count_5
def dkwX0_count_3 : List UInt8 := [61, 132, 3, 1, 167, 255, 230, 28, 172, 42, 180, 0, 53, 182, 0, 168, 172, 42, 180, 0, 53, 180, 0, 236]
abbrev dktX0_count_3 : List UInt8 := dkwX0_count_3 ++ dktX0_count_4
def dkwX0_count_2 : List UInt8 := [3, 62, 29, 16, 8, 162, 0, 26, 28, 42, 180, 0, 42, 29, 50, 199, 0, 7, 3, 167, 0, 4, 4, 96]
abbrev dktX0_count_2 : List UInt8 := dkwX0_count_2 ++ dktX0_count_3
def dkwX0_count_1 : List UInt8 := [170, 0, 0, 0, 129, 0, 0, 0, 0, 0, 0, 0, 5, 0, 0, 0, 37, 0, 0, 0, 70, 0, 0, 0, 78, 0, 0, 0, 86, 0, 0, 0, 119, 0, 0, 0, 124]
abbrev dktX0_count_1 : List UInt8 := dkwX0_count_1 ++ dktX0_count_2
def dkwX0_count_0 : List UInt8 := [3, 61, 27]
abbrev dktX0_count_0 : List UInt8 := dkwX0_count_0 ++ dktX0_count_1
theorem dksX0_count_0 : cX0_count.data.toList.drop 0 = dktX0_count_0 := by decide +kernel
theorem dksX0_count_1 : cX0_count.data.toList.drop 3 = dktX0_count_1 := dk_seg dksX0_count_0 3 rfl rfl
theorem dksX0_count_2 : cX0_count.data.toList.drop 40 = dktX0_count_2 := dk_seg dksX0_count_1 37 rfl rfl
theorem dksX0_count_3 : cX0_count.data.toList.drop 64 = dktX0_count_3 := dk_seg dksX0_count_2 24 rfl rfl
theorem dksX0_count_4 : cX0_count.data.toList.drop 88 = dktX0_count_4 := dk_seg dksX0_count_3 24 rfl rfl
theorem dksX0_count_5 : cX0_count.data.toList.drop 112 = dktX0_count_5 := dk_seg dksX0_count_4 24 rfl rfl
theorem dX0_count_0 : decode cX0_count 0 = .ok (.iconst 0, 1) := dk_3 (dk_at dksX0_count_0 0 rfl rfl)
theorem dX0_count_1 : decode cX0_count 1 = .ok (.istore_n 2, 1) := dk_61 (dk_at dksX0_count_0 1 rfl rfl)
theorem dX0_count_2 : decode cX0_count 2 = .ok (.iload_n 1, 1) := dk_27 (dk_at dksX0_count_0 2 rfl rfl)
theorem dX0_count_3 : decode cX0_count 3 = .ok (.tableswitch 129 0 5 #[37, 70, 78, 86, 119, 124], 37) := by decide +kernel
theorem dX0_count_40 : decode cX0_count 40 = .ok (.iconst 0, 1) := dk_3 (dk_at dksX0_count_2 0 rfl rfl)
theorem dX0_count_41 : decode cX0_count 41 = .ok (.istore_n 3, 1) := dk_62 (dk_at dksX0_count_2 1 rfl rfl)
theorem dX0_count_42 : decode cX0_count 42 = .ok (.iload_n 3, 1) := dk_29 (dk_at dksX0_count_2 2 rfl rfl)
theorem dX0_count_43 : decode cX0_count 43 = .ok (.bipush 8, 2) := dk_16 8 (dk_at dksX0_count_2 3 rfl rfl)
theorem dX0_count_45 : decode cX0_count 45 = .ok (.if_icmp .ge 26, 3) := dk_162 0 26 (dk_at dksX0_count_2 5 rfl rfl)
theorem dX0_count_48 : decode cX0_count 48 = .ok (.iload_n 2, 1) := dk_28 (dk_at dksX0_count_2 8 rfl rfl)
theorem dX0_count_49 : decode cX0_count 49 = .ok (.aload_n 0, 1) := dk_42 (dk_at dksX0_count_2 9 rfl rfl)
theorem dX0_count_50 : decode cX0_count 50 = .ok (.getfield 42, 3) := dk_180 0 42 (dk_at dksX0_count_2 10 rfl rfl)
theorem dX0_count_53 : decode cX0_count 53 = .ok (.iload_n 3, 1) := dk_29 (dk_at dksX0_count_2 13 rfl rfl)
theorem dX0_count_54 : decode cX0_count 54 = .ok (.aaload, 1) := dk_50 (dk_at dksX0_count_2 14 rfl rfl)
theorem dX0_count_55 : decode cX0_count 55 = .ok (.ifnonnull 7, 3) := dk_199 0 7 (dk_at dksX0_count_2 15 rfl rfl)
theorem dX0_count_58 : decode cX0_count 58 = .ok (.iconst 0, 1) := dk_3 (dk_at dksX0_count_2 18 rfl rfl)
theorem dX0_count_59 : decode cX0_count 59 = .ok (.goto 4, 3) := dk_167 0 4 (dk_at dksX0_count_2 19 rfl rfl)
theorem dX0_count_62 : decode cX0_count 62 = .ok (.iconst 1, 1) := dk_4 (dk_at dksX0_count_2 22 rfl rfl)
theorem dX0_count_63 : decode cX0_count 63 = .ok (.iadd, 1) := dk_96 (dk_at dksX0_count_2 23 rfl rfl)
theorem dX0_count_64 : decode cX0_count 64 = .ok (.istore_n 2, 1) := dk_61 (dk_at dksX0_count_3 0 rfl rfl)
theorem dX0_count_65 : decode cX0_count 65 = .ok (.iinc 3 1, 3) := dk_132 3 1 (dk_at dksX0_count_3 1 rfl rfl)
theorem dX0_count_68 : decode cX0_count 68 = .ok (.goto (-26), 3) := dk_167 255 230 (dk_at dksX0_count_3 4 rfl rfl)
theorem dX0_count_71 : decode cX0_count 71 = .ok (.iload_n 2, 1) := dk_28 (dk_at dksX0_count_3 7 rfl rfl)
theorem dX0_count_72 : decode cX0_count 72 = .ok (.ireturn, 1) := dk_172 (dk_at dksX0_count_3 8 rfl rfl)
theorem dX0_count_73 : decode cX0_count 73 = .ok (.aload_n 0, 1) := dk_42 (dk_at dksX0_count_3 9 rfl rfl)
theorem dX0_count_74 : decode cX0_count 74 = .ok (.getfield 53, 3) := dk_180 0 53 (dk_at dksX0_count_3 10 rfl rfl)
theorem dX0_count_77 : decode cX0_count 77 = .ok (.invokevirtual 168, 3) := dk_182 0 168 (dk_at dksX0_count_3 13 rfl rfl)
theorem dX0_count_80 : decode cX0_count 80 = .ok (.ireturn, 1) := dk_172 (dk_at dksX0_count_3 16 rfl rfl)
theorem dX0_count_81 : decode cX0_count 81 = .ok (.aload_n 0, 1) := dk_42 (dk_at dksX0_count_3 17 rfl rfl)
theorem dX0_count_82 : decode cX0_count 82 = .ok (.getfield 53, 3) := dk_180 0 53 (dk_at dksX0_count_3 18 rfl rfl)
theorem dX0_count_85 : decode cX0_count 85 = .ok (.getfield 236, 3) := dk_180 0 236 (dk_at dksX0_count_3 21 rfl rfl)
theorem dX0_count_88 : decode cX0_count 88 = .ok (.ireturn, 1) := dk_172 (dk_at dksX0_count_4 0 rfl rfl)
theorem dX0_count_89 : decode cX0_count 89 = .ok (.iconst 0, 1) := dk_3 (dk_at dksX0_count_4 1 rfl rfl)
theorem dX0_count_90 : decode cX0_count 90 = .ok (.istore_n 3, 1) := dk_62 (dk_at dksX0_count_4 2 rfl rfl)
theorem dX0_count_91 : decode cX0_count 91 = .ok (.iload_n 3, 1) := dk_29 (dk_at dksX0_count_4 3 rfl rfl)
theorem dX0_count_92 : decode cX0_count 92 = .ok (.aload_n 0, 1) := dk_42 (dk_at dksX0_count_4 4 rfl rfl)
theorem dX0_count_93 : decode cX0_count 93 = .ok (.getfield 53, 3) := dk_180 0 53 (dk_at dksX0_count_4 5 rfl rfl)
theorem dX0_count_96 : decode cX0_count 96 = .ok (.invokevirtual 168, 3) := dk_182 0 168 (dk_at dksX0_count_4 8 rfl rfl)
theorem dX0_count_99 : decode cX0_count 99 = .ok (.if_icmp .ge 21, 3) := dk_162 0 21 (dk_at dksX0_count_4 11 rfl rfl)
theorem dX0_count_102 : decode cX0_count 102 = .ok (.iload_n 2, 1) := dk_28 (dk_at dksX0_count_4 14 rfl rfl)
theorem dX0_count_103 : decode cX0_count 103 = .ok (.aload_n 0, 1) := dk_42 (dk_at dksX0_count_4 15 rfl rfl)
theorem dX0_count_104 : decode cX0_count 104 = .ok (.getfield 53, 3) := dk_180 0 53 (dk_at dksX0_count_4 16 rfl rfl)
theorem dX0_count_107 : decode cX0_count 107 = .ok (.getfield 190, 3) := dk_180 0 190 (dk_at dksX0_count_4 19 rfl rfl)
theorem dX0_count_110 : decode cX0_count 110 = .ok (.iload_n 3, 1) := dk_29 (dk_at dksX0_count_4 22 rfl rfl)
theorem dX0_count_111 : decode cX0_count 111 = .ok (.iaload, 1) := dk_46 (dk_at dksX0_count_4 23 rfl rfl)
theorem dX0_count_112 : decode cX0_count 112 = .ok (.iadd, 1) := dk_96 (dk_at dksX0_count_5 0 rfl rfl)
theorem dX0_count_113 : decode cX0_count 113 = .ok (.istore_n 2, 1) := dk_61 (dk_at dksX0_count_5 1 rfl rfl)
theorem dX0_count_114 : decode cX0_count 114 = .ok (.iinc 3 1, 3) := dk_132 3 1 (dk_at dksX0_count_5 2 rfl rfl)
theorem dX0_count_117 : decode cX0_count 117 = .ok (.goto (-26), 3) := dk_167 255 230 (dk_at dksX0_count_5 5 rfl rfl)
theorem dX0_count_120 : decode cX0_count 120 = .ok (.iload_n 2, 1) := dk_28 (dk_at dksX0_count_5 8 rfl rfl)
theorem dX0_count_121 : decode cX0_count 121 = .ok (.ireturn, 1) := dk_172 (dk_at dksX0_count_5 9 rfl rfl)
theorem dX0_count_122 : decode cX0_count 122 = .ok (.aload_n 0, 1) := dk_42 (dk_at dksX0_count_5 10 rfl rfl)
theorem dX0_count_123 : decode cX0_count 123 = .ok (.getfield 165, 3) := dk_180 0 165 (dk_at dksX0_count_5 11 rfl rfl)
theorem dX0_count_126 : decode cX0_count 126 = .ok (.ireturn, 1) := dk_172 (dk_at dksX0_count_5 14 rfl rfl)
theorem dX0_count_127 : decode cX0_count 127 = .ok (.aload_n 0, 1) := dk_42 (dk_at dksX0_count_5 15 rfl rfl)
theorem dX0_count_128 : decode cX0_count 128 = .ok (.getfield 134, 3) := dk_180 0 134 (dk_at dksX0_count_5 16 rfl rfl)
theorem dX0_count_131 : decode cX0_count 131 = .ok (.ireturn, 1) := dk_172 (dk_at dksX0_count_5 19 rfl rfl)
theorem dX0_count_132 : decode cX0_count 132 = .ok (.ldc 98, 2) := dk_18 98 (dk_at dksX0_count_5 20 rfl rfl)
theorem dX0_count_134 : decode cX0_count 134 = .ok (.ireturn, 1) := dk_172 (dk_at dksX0_count_5 22 rfl rfl)
abbrev cX0_status : ByteArray := prog_1_method_61_code
def yX0_status : MethodName := ⟨RX0, "status", "()I"⟩
theorem dX0_status_0 : decode cX0_status 0 = .ok (.aload_n 0, 1) := by decide +kernel
theorem dX0_status_1 : decode cX0_status 1 = .ok (.getfield 78, 3) := by decide +kernel
theorem dX0_status_4 : decode cX0_status 4 = .ok (.ireturn, 1) := by decide +kernel
theorem q63 : (Jvm.Cond.initialized "InflatedRows") ∈ lw_all := lw_g (lw_at lw_m1 1 rfl) rfl
theorem q98 : (Jvm.Cond.instantiable "InflatedRows" (11 : Nat)) ∈ lw_all := lw_g (lw_at lw_m1 36 rfl) rfl
theorem q100 : (Jvm.Cond.instanceMethod ({ cls := "InflatedRows", name := "<init>", desc := "()V" } : Jvm.MethodName)) ∈ lw_all := lw_g (lw_at lw_m1 38 rfl) rfl
theorem q101 : (Jvm.Cond.code ({ cls := "InflatedRows", name := "<init>", desc := "()V" } : Jvm.MethodName) prog_1_method_6_code (1 : Nat) (Option.none : Option Jvm.ClassFile.FieldType)) ∈ lw_all := lw_g (lw_at lw_m1 39 rfl) rfl
theorem q102 : (Jvm.Cond.methodLink "InflatedRows" (35 : Nat) ({ cls := "java/lang/Object", name := "<init>", desc := "()V" } : Jvm.MethodName)) ∈ lw_all := lw_g (lw_at lw_m1 40 rfl) rfl
theorem q105 : (Jvm.Cond.classLink "InflatedRows" (40 : Nat) "InflatedRows$Row") ∈ lw_all := lw_g (lw_at lw_m1 43 rfl) rfl
theorem q107 : (Jvm.Cond.classLink "InflatedRows" (50 : Nat) "InflatedRows$Book") ∈ lw_all := lw_g (lw_at lw_m1 45 rfl) rfl
theorem q109 : (Jvm.Cond.methodLink "InflatedRows" (52 : Nat) ({ cls := "InflatedRows$Book", name := "<init>", desc := "()V" } : Jvm.MethodName)) ∈ lw_all := lw_g (lw_at lw_m1 47 rfl) rfl
theorem q146 : (Jvm.Cond.fieldLink "InflatedRows" (228 : Nat) "InflatedRows$Book" "m" "I") ∈ lw_all := lw_g (lw_at lw_m1 84 rfl) rfl
theorem q149 : (Jvm.Cond.fieldLink "InflatedRows" (231 : Nat) "InflatedRows$Book" "k" "I") ∈ lw_all := lw_g (lw_at lw_m1 87 rfl) rfl
theorem q152 : (Jvm.Cond.fieldLink "InflatedRows" (364 : Nat) "InflatedRows$Book" "sorts" "Ljava/util/List;") ∈ lw_all := lw_g (lw_at lw_m1 90 rfl) rfl
theorem q156 : (Jvm.Cond.fieldLink "InflatedRows" (202 : Nat) "InflatedRows$Book" "p" "[I") ∈ lw_all := lw_g (lw_at lw_m1 94 rfl) rfl
theorem q160 : (Jvm.Cond.fieldLink "InflatedRows" (205 : Nat) "InflatedRows$Book" "q" "[I") ∈ lw_all := lw_g (lw_at lw_m1 98 rfl) rfl
theorem q163 : (Jvm.Cond.fieldLink "InflatedRows" (190 : Nat) "InflatedRows$Book" "letters" "[I") ∈ lw_all := lw_g (lw_at lw_m1 101 rfl) rfl
theorem q166 : (Jvm.Cond.fieldLink "InflatedRows" (256 : Nat) "InflatedRows$Book" "word" "[I") ∈ lw_all := lw_g (lw_at lw_m1 104 rfl) rfl
theorem q168 : (Jvm.Cond.fieldLink "InflatedRows" (264 : Nat) "InflatedRows$Book" "row" "[I") ∈ lw_all := lw_g (lw_at lw_m1 106 rfl) rfl
theorem q170 : (Jvm.Cond.fieldLink "InflatedRows" (236 : Nat) "InflatedRows$Book" "size" "I") ∈ lw_all := lw_g (lw_at lw_m1 108 rfl) rfl
theorem q172 : (Jvm.Cond.fieldLinkNest "InflatedRows" (249 : Nat) "InflatedRows$Book" "grown" "[I" "InflatedRows") ∈ lw_tbl := lw_at lw_m1 110 rfl
theorem q176 : (Jvm.Cond.fieldLinkNest "InflatedRows" (246 : Nat) "InflatedRows$Book" "many" "I" "InflatedRows") ∈ lw_tbl := lw_at lw_m1 114 rfl
theorem q206 : (Jvm.Cond.classLink "InflatedRows" (67 : Nat) "InflatedRows$Trail") ∈ lw_all := lw_g (lw_at lw_m1 144 rfl) rfl
theorem q208 : (Jvm.Cond.methodLinkNest "InflatedRows" (69 : Nat) ({ cls := "InflatedRows$Trail", name := "<init>", desc := "()V" } : Jvm.MethodName) "InflatedRows") ∈ lw_tbl := lw_at lw_m1 146 rfl
theorem q213 : (Jvm.Cond.fieldLinkNest "InflatedRows" (386 : Nat) "InflatedRows$Trail" "body" "[I" "InflatedRows") ∈ lw_tbl := lw_at lw_m1 151 rfl
theorem q215 : (Jvm.Cond.fieldLinkNest "InflatedRows" (385 : Nat) "InflatedRows$Trail" "many" "I" "InflatedRows") ∈ lw_tbl := lw_at lw_m1 153 rfl
theorem q221 : (Jvm.Cond.fieldLink "InflatedRows" (42 : Nat) "InflatedRows" "rows" "[LInflatedRows$Row;") ∈ lw_all := lw_g (lw_at lw_m1 159 rfl) rfl
theorem q222 : (Jvm.Cond.fieldLink "InflatedRows" (46 : Nat) "InflatedRows" "tape" "[B") ∈ lw_all := lw_g (lw_at lw_m1 160 rfl) rfl
theorem q223 : (Jvm.Cond.fieldLink "InflatedRows" (134 : Nat) "InflatedRows" "taped" "I") ∈ lw_all := lw_g (lw_at lw_m1 161 rfl) rfl
theorem q224 : (Jvm.Cond.fieldLink "InflatedRows" (151 : Nat) "InflatedRows" "faultKind" "I") ∈ lw_all := lw_g (lw_at lw_m1 162 rfl) rfl
theorem q225 : (Jvm.Cond.fieldLink "InflatedRows" (53 : Nat) "InflatedRows" "book" "LInflatedRows$Book;") ∈ lw_all := lw_g (lw_at lw_m1 163 rfl) rfl
theorem q226 : (Jvm.Cond.fieldLink "InflatedRows" (57 : Nat) "InflatedRows" "trial" "LInflatedRows$Book;") ∈ lw_all := lw_g (lw_at lw_m1 164 rfl) rfl
theorem q227 : (Jvm.Cond.fieldLink "InflatedRows" (60 : Nat) "InflatedRows" "past" "[LInflatedRows$Book;") ∈ lw_all := lw_g (lw_at lw_m1 165 rfl) rfl
theorem q228 : (Jvm.Cond.fieldLink "InflatedRows" (165 : Nat) "InflatedRows" "acts" "I") ∈ lw_all := lw_g (lw_at lw_m1 166 rfl) rfl
theorem q229 : (Jvm.Cond.fieldLink "InflatedRows" (64 : Nat) "InflatedRows" "images" "[LInflatedRows$Book;") ∈ lw_all := lw_g (lw_at lw_m1 167 rfl) rfl
theorem q230 : (Jvm.Cond.fieldLink "InflatedRows" (70 : Nat) "InflatedRows" "trail" "LInflatedRows$Trail;") ∈ lw_all := lw_g (lw_at lw_m1 168 rfl) rfl
theorem q231 : (Jvm.Cond.fieldLink "InflatedRows" (78 : Nat) "InflatedRows" "status" "I") ∈ lw_all := lw_g (lw_at lw_m1 169 rfl) rfl
theorem q232 : (Jvm.Cond.laysFinal "InflatedRows" "InflatedRows" "rows" "[LInflatedRows$Row;") ∈ lw_all := lw_g (lw_at lw_m1 170 rfl) rfl
theorem q233 : (Jvm.Cond.soleField "InflatedRows" "rows") ∈ lw_all := lw_g (lw_at lw_m1 171 rfl) rfl
theorem q234 : (Jvm.Cond.laysFinal "InflatedRows" "InflatedRows" "tape" "[B") ∈ lw_all := lw_g (lw_at lw_m1 172 rfl) rfl
theorem q235 : (Jvm.Cond.soleField "InflatedRows" "tape") ∈ lw_all := lw_g (lw_at lw_m1 173 rfl) rfl
theorem q236 : (Jvm.Cond.lays "InflatedRows" "InflatedRows" "taped" "I") ∈ lw_all := lw_g (lw_at lw_m1 174 rfl) rfl
theorem q237 : (Jvm.Cond.soleField "InflatedRows" "taped") ∈ lw_all := lw_g (lw_at lw_m1 175 rfl) rfl
theorem q238 : (Jvm.Cond.lays "InflatedRows" "InflatedRows" "faultKind" "I") ∈ lw_all := lw_g (lw_at lw_m1 176 rfl) rfl
theorem q239 : (Jvm.Cond.soleField "InflatedRows" "faultKind") ∈ lw_all := lw_g (lw_at lw_m1 177 rfl) rfl
theorem q240 : (Jvm.Cond.laysFinal "InflatedRows" "InflatedRows" "book" "LInflatedRows$Book;") ∈ lw_all := lw_g (lw_at lw_m1 178 rfl) rfl
theorem q241 : (Jvm.Cond.soleField "InflatedRows" "book") ∈ lw_all := lw_g (lw_at lw_m1 179 rfl) rfl
theorem q242 : (Jvm.Cond.laysFinal "InflatedRows" "InflatedRows" "trial" "LInflatedRows$Book;") ∈ lw_all := lw_g (lw_at lw_m1 180 rfl) rfl
theorem q243 : (Jvm.Cond.soleField "InflatedRows" "trial") ∈ lw_all := lw_g (lw_at lw_m1 181 rfl) rfl
theorem q244 : (Jvm.Cond.laysFinal "InflatedRows" "InflatedRows" "past" "[LInflatedRows$Book;") ∈ lw_all := lw_g (lw_at lw_m1 182 rfl) rfl
theorem q245 : (Jvm.Cond.soleField "InflatedRows" "past") ∈ lw_all := lw_g (lw_at lw_m1 183 rfl) rfl
theorem q246 : (Jvm.Cond.lays "InflatedRows" "InflatedRows" "acts" "I") ∈ lw_all := lw_g (lw_at lw_m1 184 rfl) rfl
theorem q247 : (Jvm.Cond.soleField "InflatedRows" "acts") ∈ lw_all := lw_g (lw_at lw_m1 185 rfl) rfl
theorem q248 : (Jvm.Cond.laysFinal "InflatedRows" "InflatedRows" "images" "[LInflatedRows$Book;") ∈ lw_all := lw_g (lw_at lw_m1 186 rfl) rfl
theorem q249 : (Jvm.Cond.soleField "InflatedRows" "images") ∈ lw_all := lw_g (lw_at lw_m1 187 rfl) rfl
theorem q250 : (Jvm.Cond.lays "InflatedRows" "InflatedRows" "trail" "LInflatedRows$Trail;") ∈ lw_all := lw_g (lw_at lw_m1 188 rfl) rfl
theorem q251 : (Jvm.Cond.soleField "InflatedRows" "trail") ∈ lw_all := lw_g (lw_at lw_m1 189 rfl) rfl
theorem q252 : (Jvm.Cond.lays "InflatedRows" "InflatedRows" "status" "I") ∈ lw_all := lw_g (lw_at lw_m1 190 rfl) rfl
theorem q253 : (Jvm.Cond.soleField "InflatedRows" "status") ∈ lw_all := lw_g (lw_at lw_m1 191 rfl) rfl
theorem q254 : (Jvm.Cond.superclass "InflatedRows" "java/lang/Object") ∈ lw_all := lw_g (lw_at lw_m1 192 rfl) rfl
theorem q256 : (Jvm.Cond.instanceMethod ({ cls := "InflatedRows", name := "row", desc := "(III)I" } : Jvm.MethodName)) ∈ lw_all := lw_g (lw_at lw_m1 194 rfl) rfl
theorem q257 : (Jvm.Cond.selects "InflatedRows" ({ cls := "InflatedRows", name := "row", desc := "(III)I" } : Jvm.MethodName) ({ cls := "InflatedRows", name := "row", desc := "(III)I" } : Jvm.MethodName)) ∈ lw_all := lw_g (lw_at lw_m1 195 rfl) rfl
theorem q258 : (Jvm.Cond.codeWith ({ cls := "InflatedRows", name := "row", desc := "(III)I" } : Jvm.MethodName) prog_1_method_12_code (5 : Nat) (Option.some Jvm.ClassFile.FieldType.int) [((28 : Nat), (61 : Nat), (62 : Nat), (9 : Nat))]) ∈ lw_all := lw_g (lw_at lw_m1 196 rfl) rfl
theorem q259 : (Jvm.Cond.classLink "InflatedRows" (9 : Nat) "InflatedRows$Finding") ∈ lw_all := lw_g (lw_at lw_m1 197 rfl) rfl
theorem q260 : (Jvm.Cond.methodLink "InflatedRows" (92 : Nat) ({ cls := "InflatedRows", name := "isRow", desc := "(I)Z" } : Jvm.MethodName)) ∈ lw_all := lw_g (lw_at lw_m1 198 rfl) rfl
theorem q261 : (Jvm.Cond.static ({ cls := "InflatedRows", name := "isRow", desc := "(I)Z" } : Jvm.MethodName)) ∈ lw_all := lw_g (lw_at lw_m1 199 rfl) rfl
theorem q262 : (Jvm.Cond.code ({ cls := "InflatedRows", name := "isRow", desc := "(I)Z" } : Jvm.MethodName) prog_1_method_10_code (1 : Nat) (Option.some Jvm.ClassFile.FieldType.boolean)) ∈ lw_all := lw_g (lw_at lw_m1 200 rfl) rfl
theorem q263 : (Jvm.Cond.constantLong "InflatedRows" (82 : Nat) (7 : Int64)) ∈ lw_all := lw_g (lw_at lw_m1 201 rfl) rfl
theorem q264 : (Jvm.Cond.methodLink "InflatedRows" (84 : Nat) ({ cls := "InflatedRows", name := "isIn", desc := "(JJJ)Z" } : Jvm.MethodName)) ∈ lw_all := lw_g (lw_at lw_m1 202 rfl) rfl
theorem q265 : (Jvm.Cond.static ({ cls := "InflatedRows", name := "isIn", desc := "(JJJ)Z" } : Jvm.MethodName)) ∈ lw_all := lw_g (lw_at lw_m1 203 rfl) rfl
theorem q266 : (Jvm.Cond.code ({ cls := "InflatedRows", name := "isIn", desc := "(JJJ)Z" } : Jvm.MethodName) prog_1_method_1_code (6 : Nat) (Option.some Jvm.ClassFile.FieldType.boolean)) ∈ lw_all := lw_g (lw_at lw_m1 204 rfl) rfl
theorem q267 : (Jvm.Cond.constantLong "InflatedRows" (96 : Nat) (2 : Int64)) ∈ lw_all := lw_g (lw_at lw_m1 205 rfl) rfl
theorem q268 : (Jvm.Cond.constant "InflatedRows" (98 : Nat) (-1000001 : Int32)) ∈ lw_all := lw_g (lw_at lw_m1 206 rfl) rfl
theorem q269 : (Jvm.Cond.methodLink "InflatedRows" (88 : Nat) ({ cls := "InflatedRows", name := "must", desc := "(ZI)V" } : Jvm.MethodName)) ∈ lw_all := lw_g (lw_at lw_m1 207 rfl) rfl
theorem q270 : (Jvm.Cond.static ({ cls := "InflatedRows", name := "must", desc := "(ZI)V" } : Jvm.MethodName)) ∈ lw_all := lw_g (lw_at lw_m1 208 rfl) rfl
theorem q271 : (Jvm.Cond.code ({ cls := "InflatedRows", name := "must", desc := "(ZI)V" } : Jvm.MethodName) prog_1_method_9_code (2 : Nat) (Option.none : Option Jvm.ClassFile.FieldType)) ∈ lw_all := lw_g (lw_at lw_m1 209 rfl) rfl
theorem q312 : (Jvm.Cond.methodLink "InflatedRows" (13 : Nat) ({ cls := "InflatedRows$Finding", name := "<init>", desc := "(I)V" } : Jvm.MethodName)) ∈ lw_all := lw_g (lw_at lw_m2 10 rfl) rfl
theorem q322 : (Jvm.Cond.fieldLink "InflatedRows" (74 : Nat) "InflatedRows$Finding" "number" "I") ∈ lw_all := lw_g (lw_at lw_m2 20 rfl) rfl
theorem q339 : (Jvm.Cond.methodLink "InflatedRows" (99 : Nat) ({ cls := "InflatedRows$Row", name := "<init>", desc := "(II)V" } : Jvm.MethodName)) ∈ lw_all := lw_g (lw_at lw_m2 37 rfl) rfl
theorem q344 : (Jvm.Cond.fieldLink "InflatedRows" (121 : Nat) "InflatedRows$Row" "lane" "I") ∈ lw_all := lw_g (lw_at lw_m2 42 rfl) rfl
theorem q346 : (Jvm.Cond.fieldLink "InflatedRows" (114 : Nat) "InflatedRows$Row" "items" "[I") ∈ lw_all := lw_g (lw_at lw_m2 44 rfl) rfl
theorem q352 : (Jvm.Cond.methodLink "InflatedRows" (102 : Nat) ({ cls := "InflatedRows", name := "well", desc := "(I)I" } : Jvm.MethodName)) ∈ lw_all := lw_g (lw_at lw_m2 50 rfl) rfl
theorem q353 : (Jvm.Cond.privateMethod ({ cls := "InflatedRows", name := "well", desc := "(I)I" } : Jvm.MethodName)) ∈ lw_tbl := lw_at lw_m2 51 rfl
theorem q354 : (Jvm.Cond.instanceMethod ({ cls := "InflatedRows", name := "well", desc := "(I)I" } : Jvm.MethodName)) ∈ lw_all := lw_g (lw_at lw_m2 52 rfl) rfl
theorem q355 : (Jvm.Cond.code ({ cls := "InflatedRows", name := "well", desc := "(I)I" } : Jvm.MethodName) prog_1_method_8_code (2 : Nat) (Option.some Jvm.ClassFile.FieldType.int)) ∈ lw_all := lw_g (lw_at lw_m2 53 rfl) rfl
theorem q356 : (Jvm.Cond.methodLink "InflatedRows" (106 : Nat) ({ cls := "InflatedRows", name := "found", desc := "(LInflatedRows$Finding;)I" } : Jvm.MethodName)) ∈ lw_all := lw_g (lw_at lw_m2 54 rfl) rfl
theorem q357 : (Jvm.Cond.privateMethod ({ cls := "InflatedRows", name := "found", desc := "(LInflatedRows$Finding;)I" } : Jvm.MethodName)) ∈ lw_tbl := lw_at lw_m2 55 rfl
theorem q358 : (Jvm.Cond.instanceMethod ({ cls := "InflatedRows", name := "found", desc := "(LInflatedRows$Finding;)I" } : Jvm.MethodName)) ∈ lw_all := lw_g (lw_at lw_m2 56 rfl) rfl
theorem q359 : (Jvm.Cond.code ({ cls := "InflatedRows", name := "found", desc := "(LInflatedRows$Finding;)I" } : Jvm.MethodName) prog_1_method_7_code (2 : Nat) (Option.some Jvm.ClassFile.FieldType.int)) ∈ lw_all := lw_g (lw_at lw_m2 57 rfl) rfl
theorem q360 : (Jvm.Cond.constant "InflatedRows" (81 : Nat) (-1000010 : Int32)) ∈ lw_all := lw_g (lw_at lw_m2 58 rfl) rfl
theorem q362 : (Jvm.Cond.instanceMethod ({ cls := "InflatedRows", name := "set", desc := "(III)I" } : Jvm.MethodName)) ∈ lw_all := lw_g (lw_at lw_m2 60 rfl) rfl
theorem q363 : (Jvm.Cond.selects "InflatedRows" ({ cls := "InflatedRows", name := "set", desc := "(III)I" } : Jvm.MethodName) ({ cls := "InflatedRows", name := "set", desc := "(III)I" } : Jvm.MethodName)) ∈ lw_all := lw_g (lw_at lw_m2 61 rfl) rfl
theorem q364 : (Jvm.Cond.codeWith ({ cls := "InflatedRows", name := "set", desc := "(III)I" } : Jvm.MethodName) prog_1_method_13_code (5 : Nat) (Option.some Jvm.ClassFile.FieldType.int) [((10 : Nat), (60 : Nat), (61 : Nat), (9 : Nat))]) ∈ lw_all := lw_g (lw_at lw_m2 62 rfl) rfl
theorem q365 : (Jvm.Cond.methodLink "InflatedRows" (110 : Nat) ({ cls := "InflatedRows", name := "rowAt", desc := "(I)LInflatedRows$Row;" } : Jvm.MethodName)) ∈ lw_all := lw_g (lw_at lw_m2 63 rfl) rfl
theorem q366 : (Jvm.Cond.privateMethod ({ cls := "InflatedRows", name := "rowAt", desc := "(I)LInflatedRows$Row;" } : Jvm.MethodName)) ∈ lw_tbl := lw_at lw_m2 64 rfl
theorem q367 : (Jvm.Cond.instanceMethod ({ cls := "InflatedRows", name := "rowAt", desc := "(I)LInflatedRows$Row;" } : Jvm.MethodName)) ∈ lw_all := lw_g (lw_at lw_m2 65 rfl) rfl
theorem q368 : (Jvm.Cond.code ({ cls := "InflatedRows", name := "rowAt", desc := "(I)LInflatedRows$Row;" } : Jvm.MethodName) prog_1_method_11_code (2 : Nat) (Option.some (Jvm.ClassFile.FieldType.object "InflatedRows$Row"))) ∈ lw_all := lw_g (lw_at lw_m2 66 rfl) rfl
theorem q369 : (Jvm.Cond.methodLink "InflatedRows" (118 : Nat) ({ cls := "InflatedRows$Row", name := "cut", desc := "(I)I" } : Jvm.MethodName)) ∈ lw_all := lw_g (lw_at lw_m2 67 rfl) rfl
theorem q374 : (Jvm.Cond.instanceMethod ({ cls := "InflatedRows", name := "copy", desc := "(IIIII)I" } : Jvm.MethodName)) ∈ lw_all := lw_g (lw_at lw_m2 72 rfl) rfl
theorem q375 : (Jvm.Cond.selects "InflatedRows" ({ cls := "InflatedRows", name := "copy", desc := "(IIIII)I" } : Jvm.MethodName) ({ cls := "InflatedRows", name := "copy", desc := "(IIIII)I" } : Jvm.MethodName)) ∈ lw_all := lw_g (lw_at lw_m2 73 rfl) rfl
theorem q376 : (Jvm.Cond.codeWith ({ cls := "InflatedRows", name := "copy", desc := "(IIIII)I" } : Jvm.MethodName) prog_1_method_14_code (9 : Nat) (Option.some Jvm.ClassFile.FieldType.int) [((53 : Nat), (71 : Nat), (74 : Nat), (130 : Nat)), ((17 : Nat), (91 : Nat), (92 : Nat), (9 : Nat))]) ∈ lw_all := lw_g (lw_at lw_m2 74 rfl) rfl
theorem q377 : (Jvm.Cond.classLink "InflatedRows" (130 : Nat) "java/lang/IndexOutOfBoundsException") ∈ lw_all := lw_g (lw_at lw_m2 75 rfl) rfl
theorem q411 : (Jvm.Cond.methodLink "InflatedRows" (124 : Nat) ({ cls := "java/lang/System", name := "arraycopy", desc := "(Ljava/lang/Object;ILjava/lang/Object;II)V" } : Jvm.MethodName)) ∈ lw_all := lw_g (lw_at lw_m2 109 rfl) rfl
theorem q415 : (Jvm.Cond.instanceMethod ({ cls := "InflatedRows", name := "drop", desc := "(I)I" } : Jvm.MethodName)) ∈ lw_all := lw_g (lw_at lw_m2 113 rfl) rfl
theorem q416 : (Jvm.Cond.selects "InflatedRows" ({ cls := "InflatedRows", name := "drop", desc := "(I)I" } : Jvm.MethodName) ({ cls := "InflatedRows", name := "drop", desc := "(I)I" } : Jvm.MethodName)) ∈ lw_all := lw_g (lw_at lw_m2 114 rfl) rfl
theorem q417 : (Jvm.Cond.codeWith ({ cls := "InflatedRows", name := "drop", desc := "(I)I" } : Jvm.MethodName) prog_1_method_15_code (3 : Nat) (Option.some Jvm.ClassFile.FieldType.int) [((10 : Nat), (32 : Nat), (33 : Nat), (9 : Nat))]) ∈ lw_all := lw_g (lw_at lw_m2 115 rfl) rfl
theorem q419 : (Jvm.Cond.instanceMethod ({ cls := "InflatedRows", name := "feed", desc := "(I)I" } : Jvm.MethodName)) ∈ lw_all := lw_g (lw_at lw_m2 117 rfl) rfl
theorem q420 : (Jvm.Cond.selects "InflatedRows" ({ cls := "InflatedRows", name := "feed", desc := "(I)I" } : Jvm.MethodName) ({ cls := "InflatedRows", name := "feed", desc := "(I)I" } : Jvm.MethodName)) ∈ lw_all := lw_g (lw_at lw_m2 118 rfl) rfl
theorem q421 : (Jvm.Cond.code ({ cls := "InflatedRows", name := "feed", desc := "(I)I" } : Jvm.MethodName) prog_1_method_16_code (2 : Nat) (Option.some Jvm.ClassFile.FieldType.int)) ∈ lw_all := lw_g (lw_at lw_m2 119 rfl) rfl
theorem q422 : (Jvm.Cond.constantLong "InflatedRows" (132 : Nat) (255 : Int64)) ∈ lw_all := lw_g (lw_at lw_m2 120 rfl) rfl
theorem q423 : (Jvm.Cond.constant "InflatedRows" (137 : Nat) (-1000003 : Int32)) ∈ lw_all := lw_g (lw_at lw_m2 121 rfl) rfl
theorem q425 : (Jvm.Cond.instanceMethod ({ cls := "InflatedRows", name := "book", desc := "()I" } : Jvm.MethodName)) ∈ lw_all := lw_g (lw_at lw_m2 123 rfl) rfl
theorem q426 : (Jvm.Cond.selects "InflatedRows" ({ cls := "InflatedRows", name := "book", desc := "()I" } : Jvm.MethodName) ({ cls := "InflatedRows", name := "book", desc := "()I" } : Jvm.MethodName)) ∈ lw_all := lw_g (lw_at lw_m2 124 rfl) rfl
theorem q427 : (Jvm.Cond.codeWith ({ cls := "InflatedRows", name := "book", desc := "()I" } : Jvm.MethodName) prog_1_method_17_code (3 : Nat) (Option.some Jvm.ClassFile.FieldType.int) [((21 : Nat), (25 : Nat), (28 : Nat), (146 : Nat))]) ∈ lw_all := lw_g (lw_at lw_m2 125 rfl) rfl
theorem q428 : (Jvm.Cond.classLink "InflatedRows" (146 : Nat) "InflatedRows$Fault") ∈ lw_all := lw_g (lw_at lw_m2 126 rfl) rfl
theorem q429 : (Jvm.Cond.classLink "InflatedRows" (138 : Nat) "InflatedRows$Reader") ∈ lw_all := lw_g (lw_at lw_m2 127 rfl) rfl
theorem q431 : (Jvm.Cond.methodLink "InflatedRows" (140 : Nat) ({ cls := "InflatedRows$Reader", name := "<init>", desc := "([BI)V" } : Jvm.MethodName)) ∈ lw_all := lw_g (lw_at lw_m2 129 rfl) rfl
theorem q444 : (Jvm.Cond.fieldLink "InflatedRows" (158 : Nat) "InflatedRows$Reader" "made" "LInflatedRows$Book;") ∈ lw_all := lw_g (lw_at lw_m2 142 rfl) rfl
theorem q460 : (Jvm.Cond.methodLink "InflatedRows" (143 : Nat) ({ cls := "InflatedRows$Reader", name := "all", desc := "()V" } : Jvm.MethodName)) ∈ lw_all := lw_g (lw_at lw_m2 158 rfl) rfl
theorem q500 : (Jvm.Cond.fieldLink "InflatedRows" (148 : Nat) "InflatedRows$Fault" "kind" "I") ∈ lw_all := lw_g (lw_at lw_m2 198 rfl) rfl
theorem q502 : (Jvm.Cond.fieldLink "InflatedRows" (155 : Nat) "InflatedRows$Fault" "place" "I") ∈ lw_all := lw_g (lw_at lw_m2 200 rfl) rfl
theorem q611 : (Jvm.Cond.static ({ cls := "InflatedRows", name := "sortBy", desc := "(II)LInflatedRows$Sort;" } : Jvm.MethodName)) ∈ lw_all := lw_g (lw_at lw_m3 69 rfl) rfl
theorem q612 : (Jvm.Cond.code ({ cls := "InflatedRows", name := "sortBy", desc := "(II)LInflatedRows$Sort;" } : Jvm.MethodName) prog_1_method_5_code (2 : Nat) (Option.some (Jvm.ClassFile.FieldType.object "InflatedRows$Sort"))) ∈ lw_all := lw_g (lw_at lw_m3 70 rfl) rfl
theorem q613 : (Jvm.Cond.classLink "InflatedRows" (20 : Nat) "InflatedRows$Plain") ∈ lw_all := lw_g (lw_at lw_m3 71 rfl) rfl
theorem q615 : (Jvm.Cond.methodLink "InflatedRows" (22 : Nat) ({ cls := "InflatedRows$Plain", name := "<init>", desc := "(I)V" } : Jvm.MethodName)) ∈ lw_all := lw_g (lw_at lw_m3 73 rfl) rfl
theorem q626 : (Jvm.Cond.classLink "InflatedRows" (23 : Nat) "InflatedRows$Mirrored") ∈ lw_all := lw_g (lw_at lw_m3 84 rfl) rfl
theorem q628 : (Jvm.Cond.methodLink "InflatedRows" (25 : Nat) ({ cls := "InflatedRows$Mirrored", name := "<init>", desc := "(I)V" } : Jvm.MethodName)) ∈ lw_all := lw_g (lw_at lw_m3 86 rfl) rfl
theorem q634 : (Jvm.Cond.classLink "InflatedRows" (26 : Nat) "InflatedRows$Longer") ∈ lw_all := lw_g (lw_at lw_m3 92 rfl) rfl
theorem q636 : (Jvm.Cond.methodLink "InflatedRows" (28 : Nat) ({ cls := "InflatedRows$Longer", name := "<init>", desc := "(I)V" } : Jvm.MethodName)) ∈ lw_all := lw_g (lw_at lw_m3 94 rfl) rfl
theorem q642 : (Jvm.Cond.classLink "InflatedRows" (29 : Nat) "InflatedRows$Fixed") ∈ lw_all := lw_g (lw_at lw_m3 100 rfl) rfl
theorem q644 : (Jvm.Cond.methodLink "InflatedRows" (31 : Nat) ({ cls := "InflatedRows$Fixed", name := "<init>", desc := "(I)V" } : Jvm.MethodName)) ∈ lw_all := lw_g (lw_at lw_m3 102 rfl) rfl
theorem q650 : (Jvm.Cond.classLink "InflatedRows" (32 : Nat) "InflatedRows$Split") ∈ lw_all := lw_g (lw_at lw_m3 108 rfl) rfl
theorem q652 : (Jvm.Cond.methodLink "InflatedRows" (34 : Nat) ({ cls := "InflatedRows$Split", name := "<init>", desc := "(I)V" } : Jvm.MethodName)) ∈ lw_all := lw_g (lw_at lw_m3 110 rfl) rfl
theorem q695 : (Jvm.Cond.selects "InflatedRows" ({ cls := "java/lang/Object", name := "getClass", desc := "()Ljava/lang/Class;" } : Jvm.MethodName) ({ cls := "java/lang/Object", name := "getClass", desc := "()Ljava/lang/Class;" } : Jvm.MethodName)) ∈ lw_all := lw_g (lw_at lw_m3 153 rfl) rfl
theorem q734 : (Jvm.Cond.constant "InflatedRows" (154 : Nat) (-1000100 : Int32)) ∈ lw_all := lw_g (lw_at lw_m3 192 rfl) rfl
theorem q735 : (Jvm.Cond.methodLink "InflatedRows" (161 : Nat) ({ cls := "InflatedRows$Book", name := "become", desc := "(LInflatedRows$Book;)LInflatedRows$Book;" } : Jvm.MethodName)) ∈ lw_all := lw_g (lw_at lw_m3 193 rfl) rfl
theorem q739 : (Jvm.Cond.methodLink "InflatedRows" (168 : Nat) ({ cls := "InflatedRows$Book", name := "sorts", desc := "()I" } : Jvm.MethodName)) ∈ lw_all := lw_g (lw_at lw_m3 197 rfl) rfl
theorem q741 : (Jvm.Cond.instanceMethod ({ cls := "InflatedRows", name := "fault", desc := "()I" } : Jvm.MethodName)) ∈ lw_all := lw_g (lw_at lw_m3 199 rfl) rfl
theorem q742 : (Jvm.Cond.selects "InflatedRows" ({ cls := "InflatedRows", name := "fault", desc := "()I" } : Jvm.MethodName) ({ cls := "InflatedRows", name := "fault", desc := "()I" } : Jvm.MethodName)) ∈ lw_all := lw_g (lw_at lw_m3 200 rfl) rfl
theorem q743 : (Jvm.Cond.code ({ cls := "InflatedRows", name := "fault", desc := "()I" } : Jvm.MethodName) prog_1_method_18_code (1 : Nat) (Option.some Jvm.ClassFile.FieldType.int)) ∈ lw_all := lw_g (lw_at lw_m3 201 rfl) rfl
theorem q745 : (Jvm.Cond.instanceMethod ({ cls := "InflatedRows", name := "undo", desc := "()I" } : Jvm.MethodName)) ∈ lw_all := lw_g (lw_at lw_m3 203 rfl) rfl
theorem q746 : (Jvm.Cond.selects "InflatedRows" ({ cls := "InflatedRows", name := "undo", desc := "()I" } : Jvm.MethodName) ({ cls := "InflatedRows", name := "undo", desc := "()I" } : Jvm.MethodName)) ∈ lw_all := lw_g (lw_at lw_m3 204 rfl) rfl
theorem q747 : (Jvm.Cond.code ({ cls := "InflatedRows", name := "undo", desc := "()I" } : Jvm.MethodName) prog_1_method_21_code (1 : Nat) (Option.some Jvm.ClassFile.FieldType.int)) ∈ lw_all := lw_g (lw_at lw_m3 205 rfl) rfl
theorem q748 : (Jvm.Cond.constant "InflatedRows" (172 : Nat) (-1000002 : Int32)) ∈ lw_all := lw_g (lw_at lw_m3 206 rfl) rfl
theorem q750 : (Jvm.Cond.instanceMethod ({ cls := "InflatedRows", name := "word", desc := "(III)I" } : Jvm.MethodName)) ∈ lw_all := lw_g (lw_at lw_m3 208 rfl) rfl
theorem q751 : (Jvm.Cond.selects "InflatedRows" ({ cls := "InflatedRows", name := "word", desc := "(III)I" } : Jvm.MethodName) ({ cls := "InflatedRows", name := "word", desc := "(III)I" } : Jvm.MethodName)) ∈ lw_all := lw_g (lw_at lw_m3 209 rfl) rfl
theorem q752 : (Jvm.Cond.codeWith ({ cls := "InflatedRows", name := "word", desc := "(III)I" } : Jvm.MethodName) prog_1_method_26_code (6 : Nat) (Option.some Jvm.ClassFile.FieldType.int) [((30 : Nat), (69 : Nat), (70 : Nat), (9 : Nat))]) ∈ lw_all := lw_g (lw_at lw_m3 210 rfl) rfl
theorem q753 : (Jvm.Cond.methodLink "InflatedRows" (179 : Nat) ({ cls := "InflatedRows", name := "isSort", desc := "(I)Z" } : Jvm.MethodName)) ∈ lw_all := lw_g (lw_at lw_m3 211 rfl) rfl
theorem q754 : (Jvm.Cond.privateMethod ({ cls := "InflatedRows", name := "isSort", desc := "(I)Z" } : Jvm.MethodName)) ∈ lw_tbl := lw_at lw_m3 212 rfl
theorem q755 : (Jvm.Cond.instanceMethod ({ cls := "InflatedRows", name := "isSort", desc := "(I)Z" } : Jvm.MethodName)) ∈ lw_all := lw_g (lw_at lw_m3 213 rfl) rfl
theorem q756 : (Jvm.Cond.code ({ cls := "InflatedRows", name := "isSort", desc := "(I)Z" } : Jvm.MethodName) prog_1_method_23_code (2 : Nat) (Option.some Jvm.ClassFile.FieldType.boolean)) ∈ lw_all := lw_g (lw_at lw_m3 214 rfl) rfl
theorem q757 : (Jvm.Cond.constantLong "InflatedRows" (182 : Nat) (4 : Int64)) ∈ lw_all := lw_g (lw_at lw_m3 215 rfl) rfl
theorem q758 : (Jvm.Cond.methodLink "InflatedRows" (184 : Nat) ({ cls := "InflatedRows", name := "lettersOf", desc := "(II)[I" } : Jvm.MethodName)) ∈ lw_all := lw_g (lw_at lw_m3 216 rfl) rfl
theorem q759 : (Jvm.Cond.privateMethod ({ cls := "InflatedRows", name := "lettersOf", desc := "(II)[I" } : Jvm.MethodName)) ∈ lw_tbl := lw_at lw_m3 217 rfl
theorem q760 : (Jvm.Cond.instanceMethod ({ cls := "InflatedRows", name := "lettersOf", desc := "(II)[I" } : Jvm.MethodName)) ∈ lw_all := lw_g (lw_at lw_m3 218 rfl) rfl
theorem q761 : (Jvm.Cond.code ({ cls := "InflatedRows", name := "lettersOf", desc := "(II)[I" } : Jvm.MethodName) prog_1_method_25_code (5 : Nat) (Option.some (Jvm.ClassFile.FieldType.array Jvm.ClassFile.FieldType.int))) ∈ lw_all := lw_g (lw_at lw_m3 219 rfl) rfl
theorem q762 : (Jvm.Cond.methodLink "InflatedRows" (175 : Nat) ({ cls := "InflatedRows$Row", name := "row", desc := "(II)[I" } : Jvm.MethodName)) ∈ lw_all := lw_g (lw_at lw_m3 220 rfl) rfl
theorem q768 : (Jvm.Cond.methodLink "InflatedRows" (187 : Nat) ({ cls := "InflatedRows", name := "keep", desc := "()V" } : Jvm.MethodName)) ∈ lw_all := lw_g (lw_at lw_m3 226 rfl) rfl
theorem q769 : (Jvm.Cond.privateMethod ({ cls := "InflatedRows", name := "keep", desc := "()V" } : Jvm.MethodName)) ∈ lw_tbl := lw_at lw_m3 227 rfl
theorem q770 : (Jvm.Cond.instanceMethod ({ cls := "InflatedRows", name := "keep", desc := "()V" } : Jvm.MethodName)) ∈ lw_all := lw_g (lw_at lw_m3 228 rfl) rfl
theorem q771 : (Jvm.Cond.code ({ cls := "InflatedRows", name := "keep", desc := "()V" } : Jvm.MethodName) prog_1_method_20_code (3 : Nat) (Option.none : Option Jvm.ClassFile.FieldType)) ∈ lw_all := lw_g (lw_at lw_m3 229 rfl) rfl
theorem q772 : (Jvm.Cond.methodLink "InflatedRows" (193 : Nat) ({ cls := "InflatedRows$Book", name := "spell", desc := "(I[I)V" } : Jvm.MethodName)) ∈ lw_all := lw_g (lw_at lw_m3 230 rfl) rfl
theorem q774 : (Jvm.Cond.instanceMethod ({ cls := "InflatedRows", name := "length", desc := "(III)I" } : Jvm.MethodName)) ∈ lw_all := lw_g (lw_at lw_m3 232 rfl) rfl
theorem q775 : (Jvm.Cond.selects "InflatedRows" ({ cls := "InflatedRows", name := "length", desc := "(III)I" } : Jvm.MethodName) ({ cls := "InflatedRows", name := "length", desc := "(III)I" } : Jvm.MethodName)) ∈ lw_all := lw_g (lw_at lw_m3 233 rfl) rfl
theorem q776 : (Jvm.Cond.code ({ cls := "InflatedRows", name := "length", desc := "(III)I" } : Jvm.MethodName) prog_1_method_27_code (6 : Nat) (Option.some Jvm.ClassFile.FieldType.int)) ∈ lw_all := lw_g (lw_at lw_m3 234 rfl) rfl
theorem q777 : (Jvm.Cond.methodLink "InflatedRows" (197 : Nat) ({ cls := "InflatedRows", name := "isHalf", desc := "(I)Z" } : Jvm.MethodName)) ∈ lw_all := lw_g (lw_at lw_m3 235 rfl) rfl
theorem q778 : (Jvm.Cond.static ({ cls := "InflatedRows", name := "isHalf", desc := "(I)Z" } : Jvm.MethodName)) ∈ lw_all := lw_g (lw_at lw_m3 236 rfl) rfl
theorem q779 : (Jvm.Cond.code ({ cls := "InflatedRows", name := "isHalf", desc := "(I)Z" } : Jvm.MethodName) prog_1_method_19_code (1 : Nat) (Option.some Jvm.ClassFile.FieldType.boolean)) ∈ lw_all := lw_g (lw_at lw_m3 237 rfl) rfl
theorem q780 : (Jvm.Cond.constantLong "InflatedRows" (200 : Nat) (9 : Int64)) ∈ lw_all := lw_g (lw_at lw_m3 238 rfl) rfl
theorem q782 : (Jvm.Cond.instanceMethod ({ cls := "InflatedRows", name := "become", desc := "(II)I" } : Jvm.MethodName)) ∈ lw_all := lw_g (lw_at lw_m4 0 rfl) rfl
theorem q783 : (Jvm.Cond.selects "InflatedRows" ({ cls := "InflatedRows", name := "become", desc := "(II)I" } : Jvm.MethodName) ({ cls := "InflatedRows", name := "become", desc := "(II)I" } : Jvm.MethodName)) ∈ lw_all := lw_g (lw_at lw_m4 1 rfl) rfl
theorem q784 : (Jvm.Cond.code ({ cls := "InflatedRows", name := "become", desc := "(II)I" } : Jvm.MethodName) prog_1_method_28_code (4 : Nat) (Option.some Jvm.ClassFile.FieldType.int)) ∈ lw_all := lw_g (lw_at lw_m4 2 rfl) rfl
theorem q785 : (Jvm.Cond.constantLong "InflatedRows" (208 : Nat) (5 : Int64)) ∈ lw_all := lw_g (lw_at lw_m4 3 rfl) rfl
theorem q786 : (Jvm.Cond.methodLink "InflatedRows" (210 : Nat) ({ cls := "InflatedRows$Book", name := "at", desc := "(I)LInflatedRows$Sort;" } : Jvm.MethodName)) ∈ lw_all := lw_g (lw_at lw_m4 4 rfl) rfl
theorem q808 : (Jvm.Cond.methodLink "InflatedRows" (214 : Nat) ({ cls := "InflatedRows$Sort", name := "kind", desc := "()I" } : Jvm.MethodName)) ∈ lw_all := lw_g (lw_at lw_m4 26 rfl) rfl
theorem q826 : (Jvm.Cond.methodLink "InflatedRows" (218 : Nat) ({ cls := "InflatedRows$Book", name := "with", desc := "(II)LInflatedRows$Book;" } : Jvm.MethodName)) ∈ lw_all := lw_g (lw_at lw_m4 44 rfl) rfl
theorem q865 : (Jvm.Cond.instanceMethod ({ cls := "InflatedRows", name := "root", desc := "(II)I" } : Jvm.MethodName)) ∈ lw_all := lw_g (lw_at lw_m4 83 rfl) rfl
theorem q866 : (Jvm.Cond.selects "InflatedRows" ({ cls := "InflatedRows", name := "root", desc := "(II)I" } : Jvm.MethodName) ({ cls := "InflatedRows", name := "root", desc := "(II)I" } : Jvm.MethodName)) ∈ lw_all := lw_g (lw_at lw_m4 84 rfl) rfl
theorem q867 : (Jvm.Cond.code ({ cls := "InflatedRows", name := "root", desc := "(II)I" } : Jvm.MethodName) prog_1_method_29_code (4 : Nat) (Option.some Jvm.ClassFile.FieldType.int)) ∈ lw_all := lw_g (lw_at lw_m4 85 rfl) rfl
theorem q868 : (Jvm.Cond.methodLink "InflatedRows" (222 : Nat) ({ cls := "InflatedRows", name := "isBook", desc := "()Z" } : Jvm.MethodName)) ∈ lw_all := lw_g (lw_at lw_m4 86 rfl) rfl
theorem q869 : (Jvm.Cond.privateMethod ({ cls := "InflatedRows", name := "isBook", desc := "()Z" } : Jvm.MethodName)) ∈ lw_tbl := lw_at lw_m4 87 rfl
theorem q870 : (Jvm.Cond.instanceMethod ({ cls := "InflatedRows", name := "isBook", desc := "()Z" } : Jvm.MethodName)) ∈ lw_all := lw_g (lw_at lw_m4 88 rfl) rfl
theorem q871 : (Jvm.Cond.code ({ cls := "InflatedRows", name := "isBook", desc := "()Z" } : Jvm.MethodName) prog_1_method_22_code (1 : Nat) (Option.some Jvm.ClassFile.FieldType.boolean)) ∈ lw_all := lw_g (lw_at lw_m4 89 rfl) rfl
theorem q872 : (Jvm.Cond.constantLong "InflatedRows" (226 : Nat) (3 : Int64)) ∈ lw_all := lw_g (lw_at lw_m4 90 rfl) rfl
theorem q874 : (Jvm.Cond.instanceMethod ({ cls := "InflatedRows", name := "begin", desc := "(II)I" } : Jvm.MethodName)) ∈ lw_all := lw_g (lw_at lw_m4 92 rfl) rfl
theorem q875 : (Jvm.Cond.selects "InflatedRows" ({ cls := "InflatedRows", name := "begin", desc := "(II)I" } : Jvm.MethodName) ({ cls := "InflatedRows", name := "begin", desc := "(II)I" } : Jvm.MethodName)) ∈ lw_all := lw_g (lw_at lw_m4 93 rfl) rfl
theorem q876 : (Jvm.Cond.codeWith ({ cls := "InflatedRows", name := "begin", desc := "(II)I" } : Jvm.MethodName) prog_1_method_30_code (5 : Nat) (Option.some Jvm.ClassFile.FieldType.int) [((32 : Nat), (66 : Nat), (67 : Nat), (9 : Nat))]) ∈ lw_all := lw_g (lw_at lw_m4 94 rfl) rfl
theorem q877 : (Jvm.Cond.constantLong "InflatedRows" (234 : Nat) (8 : Int64)) ∈ lw_all := lw_g (lw_at lw_m4 95 rfl) rfl
theorem q878 : (Jvm.Cond.methodLink "InflatedRows" (239 : Nat) ({ cls := "InflatedRows$Book", name := "begin", desc := "([I)V" } : Jvm.MethodName)) ∈ lw_all := lw_g (lw_at lw_m4 96 rfl) rfl
theorem q880 : (Jvm.Cond.instanceMethod ({ cls := "InflatedRows", name := "inflate", desc := "()I" } : Jvm.MethodName)) ∈ lw_all := lw_g (lw_at lw_m4 98 rfl) rfl
theorem q881 : (Jvm.Cond.selects "InflatedRows" ({ cls := "InflatedRows", name := "inflate", desc := "()I" } : Jvm.MethodName) ({ cls := "InflatedRows", name := "inflate", desc := "()I" } : Jvm.MethodName)) ∈ lw_all := lw_g (lw_at lw_m4 99 rfl) rfl
theorem q882 : (Jvm.Cond.code ({ cls := "InflatedRows", name := "inflate", desc := "()I" } : Jvm.MethodName) prog_1_method_31_code (3 : Nat) (Option.some Jvm.ClassFile.FieldType.int)) ∈ lw_all := lw_g (lw_at lw_m4 100 rfl) rfl
theorem q883 : (Jvm.Cond.methodLink "InflatedRows" (243 : Nat) ({ cls := "InflatedRows$Book", name := "grow", desc := "(I)Z" } : Jvm.MethodName)) ∈ lw_all := lw_g (lw_at lw_m4 101 rfl) rfl
theorem q935 : (Jvm.Cond.instanceMethod ({ cls := "InflatedRows", name := "sort", desc := "(II)I" } : Jvm.MethodName)) ∈ lw_all := lw_g (lw_at lw_m4 153 rfl) rfl
theorem q936 : (Jvm.Cond.selects "InflatedRows" ({ cls := "InflatedRows", name := "sort", desc := "(II)I" } : Jvm.MethodName) ({ cls := "InflatedRows", name := "sort", desc := "(II)I" } : Jvm.MethodName)) ∈ lw_all := lw_g (lw_at lw_m4 154 rfl) rfl
theorem q937 : (Jvm.Cond.code ({ cls := "InflatedRows", name := "sort", desc := "(II)I" } : Jvm.MethodName) prog_1_method_32_code (5 : Nat) (Option.some Jvm.ClassFile.FieldType.int)) ∈ lw_all := lw_g (lw_at lw_m4 155 rfl) rfl
theorem q938 : (Jvm.Cond.methodLink "InflatedRows" (252 : Nat) ({ cls := "InflatedRows$Sort", name := "becomes", desc := "(LInflatedRows$Book;)I" } : Jvm.MethodName)) ∈ lw_all := lw_g (lw_at lw_m4 156 rfl) rfl
theorem q939 : (Jvm.Cond.constant "InflatedRows" (259 : Nat) (-1000000 : Int32)) ∈ lw_all := lw_g (lw_at lw_m4 157 rfl) rfl
theorem q940 : (Jvm.Cond.methodLink "InflatedRows" (260 : Nat) ({ cls := "InflatedRows$Sort", name := "image", desc := "(LInflatedRows$Book;I)I" } : Jvm.MethodName)) ∈ lw_all := lw_g (lw_at lw_m4 158 rfl) rfl
theorem q942 : (Jvm.Cond.instanceMethod ({ cls := "InflatedRows", name := "letter", desc := "(I)I" } : Jvm.MethodName)) ∈ lw_all := lw_g (lw_at lw_m4 160 rfl) rfl
theorem q943 : (Jvm.Cond.selects "InflatedRows" ({ cls := "InflatedRows", name := "letter", desc := "(I)I" } : Jvm.MethodName) ({ cls := "InflatedRows", name := "letter", desc := "(I)I" } : Jvm.MethodName)) ∈ lw_all := lw_g (lw_at lw_m4 161 rfl) rfl
theorem q944 : (Jvm.Cond.code ({ cls := "InflatedRows", name := "letter", desc := "(I)I" } : Jvm.MethodName) prog_1_method_33_code (2 : Nat) (Option.some Jvm.ClassFile.FieldType.int)) ∈ lw_all := lw_g (lw_at lw_m4 162 rfl) rfl
theorem q946 : (Jvm.Cond.instanceMethod ({ cls := "InflatedRows", name := "grown", desc := "(II)I" } : Jvm.MethodName)) ∈ lw_all := lw_g (lw_at lw_m4 164 rfl) rfl
theorem q947 : (Jvm.Cond.selects "InflatedRows" ({ cls := "InflatedRows", name := "grown", desc := "(II)I" } : Jvm.MethodName) ({ cls := "InflatedRows", name := "grown", desc := "(II)I" } : Jvm.MethodName)) ∈ lw_all := lw_g (lw_at lw_m4 165 rfl) rfl
theorem q948 : (Jvm.Cond.code ({ cls := "InflatedRows", name := "grown", desc := "(II)I" } : Jvm.MethodName) prog_1_method_34_code (3 : Nat) (Option.some Jvm.ClassFile.FieldType.int)) ∈ lw_all := lw_g (lw_at lw_m4 166 rfl) rfl
theorem q949 : (Jvm.Cond.methodLink "InflatedRows" (266 : Nat) ({ cls := "InflatedRows", name := "isTimes", desc := "(I)Z" } : Jvm.MethodName)) ∈ lw_all := lw_g (lw_at lw_m4 167 rfl) rfl
theorem q950 : (Jvm.Cond.privateMethod ({ cls := "InflatedRows", name := "isTimes", desc := "(I)Z" } : Jvm.MethodName)) ∈ lw_tbl := lw_at lw_m4 168 rfl
theorem q951 : (Jvm.Cond.instanceMethod ({ cls := "InflatedRows", name := "isTimes", desc := "(I)Z" } : Jvm.MethodName)) ∈ lw_all := lw_g (lw_at lw_m4 169 rfl) rfl
theorem q952 : (Jvm.Cond.code ({ cls := "InflatedRows", name := "isTimes", desc := "(I)Z" } : Jvm.MethodName) prog_1_method_24_code (2 : Nat) (Option.some Jvm.ClassFile.FieldType.boolean)) ∈ lw_all := lw_g (lw_at lw_m4 170 rfl) rfl
theorem q953 : (Jvm.Cond.constantLong "InflatedRows" (173 : Nat) (6 : Int64)) ∈ lw_all := lw_g (lw_at lw_m4 171 rfl) rfl
theorem q955 : (Jvm.Cond.instanceMethod ({ cls := "InflatedRows", name := "origin", desc := "(III)I" } : Jvm.MethodName)) ∈ lw_all := lw_g (lw_at lw_m4 173 rfl) rfl
theorem q956 : (Jvm.Cond.selects "InflatedRows" ({ cls := "InflatedRows", name := "origin", desc := "(III)I" } : Jvm.MethodName) ({ cls := "InflatedRows", name := "origin", desc := "(III)I" } : Jvm.MethodName)) ∈ lw_all := lw_g (lw_at lw_m4 174 rfl) rfl
theorem q957 : (Jvm.Cond.code ({ cls := "InflatedRows", name := "origin", desc := "(III)I" } : Jvm.MethodName) prog_1_method_35_code (6 : Nat) (Option.some Jvm.ClassFile.FieldType.int)) ∈ lw_all := lw_g (lw_at lw_m4 175 rfl) rfl
theorem q958 : (Jvm.Cond.methodLink "InflatedRows" (269 : Nat) ({ cls := "InflatedRows$Book", name := "origin", desc := "(II)I" } : Jvm.MethodName)) ∈ lw_all := lw_g (lw_at lw_m4 176 rfl) rfl
theorem q964 : (Jvm.Cond.instanceMethod ({ cls := "InflatedRows", name := "place", desc := "(III)J" } : Jvm.MethodName)) ∈ lw_all := lw_g (lw_at lw_m4 182 rfl) rfl
theorem q965 : (Jvm.Cond.selects "InflatedRows" ({ cls := "InflatedRows", name := "place", desc := "(III)J" } : Jvm.MethodName) ({ cls := "InflatedRows", name := "place", desc := "(III)J" } : Jvm.MethodName)) ∈ lw_all := lw_g (lw_at lw_m4 183 rfl) rfl
theorem q966 : (Jvm.Cond.code ({ cls := "InflatedRows", name := "place", desc := "(III)J" } : Jvm.MethodName) prog_1_method_36_code (7 : Nat) (Option.some Jvm.ClassFile.FieldType.long)) ∈ lw_all := lw_g (lw_at lw_m4 184 rfl) rfl
theorem q967 : (Jvm.Cond.constantLong "InflatedRows" (273 : Nat) (-1000002 : Int64)) ∈ lw_all := lw_g (lw_at lw_m4 185 rfl) rfl
theorem q968 : (Jvm.Cond.constantLong "InflatedRows" (275 : Nat) (-1000001 : Int64)) ∈ lw_all := lw_g (lw_at lw_m4 186 rfl) rfl
theorem q969 : (Jvm.Cond.constantLong "InflatedRows" (277 : Nat) (-1000003 : Int64)) ∈ lw_all := lw_g (lw_at lw_m4 187 rfl) rfl
theorem q970 : (Jvm.Cond.constantLong "InflatedRows" (279 : Nat) (-1000000 : Int64)) ∈ lw_all := lw_g (lw_at lw_m4 188 rfl) rfl
theorem q971 : (Jvm.Cond.methodLink "InflatedRows" (281 : Nat) ({ cls := "InflatedRows$Sort", name := "length", desc := "(LInflatedRows$Book;I)I" } : Jvm.MethodName)) ∈ lw_all := lw_g (lw_at lw_m4 189 rfl) rfl
theorem q986 : (Jvm.Cond.instanceMethod ({ cls := "InflatedRows", name := "numbers", desc := "(II)J" } : Jvm.MethodName)) ∈ lw_all := lw_g (lw_at lw_m4 204 rfl) rfl
theorem q987 : (Jvm.Cond.selects "InflatedRows" ({ cls := "InflatedRows", name := "numbers", desc := "(II)J" } : Jvm.MethodName) ({ cls := "InflatedRows", name := "numbers", desc := "(II)J" } : Jvm.MethodName)) ∈ lw_all := lw_g (lw_at lw_m4 205 rfl) rfl
theorem q988 : (Jvm.Cond.codeWith ({ cls := "InflatedRows", name := "numbers", desc := "(II)J" } : Jvm.MethodName) prog_1_method_38_code (4 : Nat) (Option.some Jvm.ClassFile.FieldType.long) [((24 : Nat), (38 : Nat), (39 : Nat), (9 : Nat))]) ∈ lw_all := lw_g (lw_at lw_m4 206 rfl) rfl
theorem q989 : (Jvm.Cond.constantLong "InflatedRows" (284 : Nat) (60 : Int64)) ∈ lw_all := lw_g (lw_at lw_m4 207 rfl) rfl
theorem q990 : (Jvm.Cond.methodLink "InflatedRows" (286 : Nat) ({ cls := "InflatedRows$Book", name := "numbers", desc := "(I)[J" } : Jvm.MethodName)) ∈ lw_all := lw_g (lw_at lw_m4 208 rfl) rfl
theorem q995 : (Jvm.Cond.static ({ cls := "InflatedRows", name := "sum", desc := "([J)J" } : Jvm.MethodName)) ∈ lw_all := lw_g (lw_at lw_m4 213 rfl) rfl
theorem q996 : (Jvm.Cond.codeWith ({ cls := "InflatedRows", name := "sum", desc := "([J)J" } : Jvm.MethodName) prog_1_method_3_code (4 : Nat) (Option.some Jvm.ClassFile.FieldType.long) [((2 : Nat), (24 : Nat), (27 : Nat), (7 : Nat))]) ∈ lw_all := lw_g (lw_at lw_m4 214 rfl) rfl
theorem q997 : (Jvm.Cond.classLink "InflatedRows" (7 : Nat) "java/lang/ArithmeticException") ∈ lw_all := lw_g (lw_at lw_m4 215 rfl) rfl
theorem q1011 : (Jvm.Cond.methodLink "InflatedRows" (1 : Nat) ({ cls := "java/lang/Math", name := "addExact", desc := "(JJ)J" } : Jvm.MethodName)) ∈ lw_all := lw_g (lw_at lw_m4 229 rfl) rfl
theorem q1017 : (Jvm.Cond.methodLink "InflatedRows" (290 : Nat) ({ cls := "InflatedRows", name := "exact", desc := "(J)J" } : Jvm.MethodName)) ∈ lw_all := lw_g (lw_at lw_m4 235 rfl) rfl
theorem q1018 : (Jvm.Cond.privateMethod ({ cls := "InflatedRows", name := "exact", desc := "(J)J" } : Jvm.MethodName)) ∈ lw_tbl := lw_at lw_m4 236 rfl
theorem q1019 : (Jvm.Cond.instanceMethod ({ cls := "InflatedRows", name := "exact", desc := "(J)J" } : Jvm.MethodName)) ∈ lw_all := lw_g (lw_at lw_m4 237 rfl) rfl
theorem q1020 : (Jvm.Cond.code ({ cls := "InflatedRows", name := "exact", desc := "(J)J" } : Jvm.MethodName) prog_1_method_37_code (3 : Nat) (Option.some Jvm.ClassFile.FieldType.long)) ∈ lw_all := lw_g (lw_at lw_m4 238 rfl) rfl
theorem q1023 : (Jvm.Cond.instanceMethod ({ cls := "InflatedRows", name := "share", desc := "(III)J" } : Jvm.MethodName)) ∈ lw_all := lw_g (lw_at lw_m5 1 rfl) rfl
theorem q1024 : (Jvm.Cond.selects "InflatedRows" ({ cls := "InflatedRows", name := "share", desc := "(III)J" } : Jvm.MethodName) ({ cls := "InflatedRows", name := "share", desc := "(III)J" } : Jvm.MethodName)) ∈ lw_all := lw_g (lw_at lw_m5 2 rfl) rfl
theorem q1025 : (Jvm.Cond.codeWith ({ cls := "InflatedRows", name := "share", desc := "(III)J" } : Jvm.MethodName) prog_1_method_40_code (7 : Nat) (Option.some Jvm.ClassFile.FieldType.long) [((31 : Nat), (75 : Nat), (76 : Nat), (9 : Nat))]) ∈ lw_all := lw_g (lw_at lw_m5 3 rfl) rfl
theorem q1026 : (Jvm.Cond.methodLink "InflatedRows" (294 : Nat) ({ cls := "InflatedRows", name := "sum", desc := "([J)J" } : Jvm.MethodName)) ∈ lw_all := lw_g (lw_at lw_m5 4 rfl) rfl
theorem q1027 : (Jvm.Cond.methodLink "InflatedRows" (298 : Nat) ({ cls := "InflatedRows", name := "common", desc := "(JJ)J" } : Jvm.MethodName)) ∈ lw_all := lw_g (lw_at lw_m5 5 rfl) rfl
theorem q1028 : (Jvm.Cond.static ({ cls := "InflatedRows", name := "common", desc := "(JJ)J" } : Jvm.MethodName)) ∈ lw_all := lw_g (lw_at lw_m5 6 rfl) rfl
theorem q1029 : (Jvm.Cond.code ({ cls := "InflatedRows", name := "common", desc := "(JJ)J" } : Jvm.MethodName) prog_1_method_39_code (10 : Nat) (Option.some Jvm.ClassFile.FieldType.long)) ∈ lw_all := lw_g (lw_at lw_m5 7 rfl) rfl
theorem q1031 : (Jvm.Cond.instanceMethod ({ cls := "InflatedRows", name := "all", desc := "(II)J" } : Jvm.MethodName)) ∈ lw_all := lw_g (lw_at lw_m5 9 rfl) rfl
theorem q1032 : (Jvm.Cond.selects "InflatedRows" ({ cls := "InflatedRows", name := "all", desc := "(II)J" } : Jvm.MethodName) ({ cls := "InflatedRows", name := "all", desc := "(II)J" } : Jvm.MethodName)) ∈ lw_all := lw_g (lw_at lw_m5 10 rfl) rfl
theorem q1033 : (Jvm.Cond.codeWith ({ cls := "InflatedRows", name := "all", desc := "(II)J" } : Jvm.MethodName) prog_1_method_41_code (7 : Nat) (Option.some Jvm.ClassFile.FieldType.long) [((34 : Nat), (114 : Nat), (115 : Nat), (9 : Nat))]) ∈ lw_all := lw_g (lw_at lw_m5 11 rfl) rfl
theorem q1034 : (Jvm.Cond.methodLink "InflatedRows" (301 : Nat) ({ cls := "InflatedRows", name := "times", desc := "(JJ)J" } : Jvm.MethodName)) ∈ lw_all := lw_g (lw_at lw_m5 12 rfl) rfl
theorem q1035 : (Jvm.Cond.static ({ cls := "InflatedRows", name := "times", desc := "(JJ)J" } : Jvm.MethodName)) ∈ lw_all := lw_g (lw_at lw_m5 13 rfl) rfl
theorem q1036 : (Jvm.Cond.codeWith ({ cls := "InflatedRows", name := "times", desc := "(JJ)J" } : Jvm.MethodName) prog_1_method_4_code (5 : Nat) (Option.some Jvm.ClassFile.FieldType.long) [((0 : Nat), (5 : Nat), (6 : Nat), (7 : Nat))]) ∈ lw_all := lw_g (lw_at lw_m5 14 rfl) rfl
theorem q1037 : (Jvm.Cond.methodLink "InflatedRows" (17 : Nat) ({ cls := "java/lang/Math", name := "multiplyExact", desc := "(JJ)J" } : Jvm.MethodName)) ∈ lw_all := lw_g (lw_at lw_m5 15 rfl) rfl
theorem q1046 : (Jvm.Cond.instanceMethod ({ cls := "InflatedRows", name := "whole", desc := "(I)I" } : Jvm.MethodName)) ∈ lw_all := lw_g (lw_at lw_m5 24 rfl) rfl
theorem q1047 : (Jvm.Cond.selects "InflatedRows" ({ cls := "InflatedRows", name := "whole", desc := "(I)I" } : Jvm.MethodName) ({ cls := "InflatedRows", name := "whole", desc := "(I)I" } : Jvm.MethodName)) ∈ lw_all := lw_g (lw_at lw_m5 25 rfl) rfl
theorem q1048 : (Jvm.Cond.code ({ cls := "InflatedRows", name := "whole", desc := "(I)I" } : Jvm.MethodName) prog_1_method_43_code (2 : Nat) (Option.some Jvm.ClassFile.FieldType.int)) ∈ lw_all := lw_g (lw_at lw_m5 26 rfl) rfl
theorem q1049 : (Jvm.Cond.methodLink "InflatedRows" (311 : Nat) ({ cls := "InflatedRows$Book", name := "pairs", desc := "()I" } : Jvm.MethodName)) ∈ lw_all := lw_g (lw_at lw_m5 27 rfl) rfl
theorem q1058 : (Jvm.Cond.static ({ cls := "InflatedRows", name := "has", desc := "(II)Z" } : Jvm.MethodName)) ∈ lw_all := lw_g (lw_at lw_m5 36 rfl) rfl
theorem q1059 : (Jvm.Cond.code ({ cls := "InflatedRows", name := "has", desc := "(II)Z" } : Jvm.MethodName) prog_1_method_2_code (2 : Nat) (Option.some Jvm.ClassFile.FieldType.boolean)) ∈ lw_all := lw_g (lw_at lw_m5 37 rfl) rfl
theorem q1060 : (Jvm.Cond.methodLink "InflatedRows" (314 : Nat) ({ cls := "java/lang/Integer", name := "bitCount", desc := "(I)I" } : Jvm.MethodName)) ∈ lw_all := lw_g (lw_at lw_m5 38 rfl) rfl
theorem q1066 : (Jvm.Cond.methodLink "InflatedRows" (319 : Nat) ({ cls := "InflatedRows", name := "scale", desc := "(I)I" } : Jvm.MethodName)) ∈ lw_all := lw_g (lw_at lw_m5 44 rfl) rfl
theorem q1067 : (Jvm.Cond.privateMethod ({ cls := "InflatedRows", name := "scale", desc := "(I)I" } : Jvm.MethodName)) ∈ lw_tbl := lw_at lw_m5 45 rfl
theorem q1068 : (Jvm.Cond.instanceMethod ({ cls := "InflatedRows", name := "scale", desc := "(I)I" } : Jvm.MethodName)) ∈ lw_all := lw_g (lw_at lw_m5 46 rfl) rfl
theorem q1069 : (Jvm.Cond.code ({ cls := "InflatedRows", name := "scale", desc := "(I)I" } : Jvm.MethodName) prog_1_method_42_code (3 : Nat) (Option.some Jvm.ClassFile.FieldType.int)) ∈ lw_all := lw_g (lw_at lw_m5 47 rfl) rfl
theorem q1070 : (Jvm.Cond.fieldLink "InflatedRows" (304 : Nat) "InflatedRows" "SCALES" "[I") ∈ lw_all := lw_g (lw_at lw_m5 48 rfl) rfl
theorem q1071 : (Jvm.Cond.laysStatic "InflatedRows" "SCALES" "[I") ∈ lw_tbl := lw_at lw_m5 49 rfl
theorem q1072 : (Jvm.Cond.methodLink "InflatedRows" (307 : Nat) ({ cls := "InflatedRows$Book", name := "isScale", desc := "(II)Z" } : Jvm.MethodName)) ∈ lw_all := lw_g (lw_at lw_m5 50 rfl) rfl
theorem q1078 : (Jvm.Cond.instanceMethod ({ cls := "InflatedRows", name := "back", desc := "(III)I" } : Jvm.MethodName)) ∈ lw_all := lw_g (lw_at lw_m5 56 rfl) rfl
theorem q1079 : (Jvm.Cond.selects "InflatedRows" ({ cls := "InflatedRows", name := "back", desc := "(III)I" } : Jvm.MethodName) ({ cls := "InflatedRows", name := "back", desc := "(III)I" } : Jvm.MethodName)) ∈ lw_all := lw_g (lw_at lw_m5 57 rfl) rfl
theorem q1080 : (Jvm.Cond.codeWith ({ cls := "InflatedRows", name := "back", desc := "(III)I" } : Jvm.MethodName) prog_1_method_44_code (6 : Nat) (Option.some Jvm.ClassFile.FieldType.int) [((37 : Nat), (84 : Nat), (85 : Nat), (9 : Nat))]) ∈ lw_all := lw_g (lw_at lw_m5 58 rfl) rfl
theorem q1081 : (Jvm.Cond.constantLong "InflatedRows" (322 : Nat) (40 : Int64)) ∈ lw_all := lw_g (lw_at lw_m5 59 rfl) rfl
theorem q1082 : (Jvm.Cond.methodLink "InflatedRows" (324 : Nat) ({ cls := "InflatedRows$Book", name := "backs", desc := "([I)[I" } : Jvm.MethodName)) ∈ lw_all := lw_g (lw_at lw_m5 60 rfl) rfl
theorem q1092 : (Jvm.Cond.methodLink "InflatedRows" (328 : Nat) ({ cls := "InflatedRows$Book", name := "back", desc := "([I[II)I" } : Jvm.MethodName)) ∈ lw_all := lw_g (lw_at lw_m5 70 rfl) rfl
theorem q1097 : (Jvm.Cond.instanceMethod ({ cls := "InflatedRows", name := "who", desc := "(IIIIII)I" } : Jvm.MethodName)) ∈ lw_all := lw_g (lw_at lw_m5 75 rfl) rfl
theorem q1098 : (Jvm.Cond.selects "InflatedRows" ({ cls := "InflatedRows", name := "who", desc := "(IIIIII)I" } : Jvm.MethodName) ({ cls := "InflatedRows", name := "who", desc := "(IIIIII)I" } : Jvm.MethodName)) ∈ lw_all := lw_g (lw_at lw_m5 76 rfl) rfl
theorem q1099 : (Jvm.Cond.codeWith ({ cls := "InflatedRows", name := "who", desc := "(IIIIII)I" } : Jvm.MethodName) prog_1_method_47_code (11 : Nat) (Option.some Jvm.ClassFile.FieldType.int) [((115 : Nat), (257 : Nat), (258 : Nat), (9 : Nat))]) ∈ lw_all := lw_g (lw_at lw_m5 77 rfl) rfl
theorem q1100 : (Jvm.Cond.methodLink "InflatedRows" (332 : Nat) ({ cls := "InflatedRows", name := "tried", desc := "()LInflatedRows$Book;" } : Jvm.MethodName)) ∈ lw_all := lw_g (lw_at lw_m5 78 rfl) rfl
theorem q1101 : (Jvm.Cond.privateMethod ({ cls := "InflatedRows", name := "tried", desc := "()LInflatedRows$Book;" } : Jvm.MethodName)) ∈ lw_tbl := lw_at lw_m5 79 rfl
theorem q1102 : (Jvm.Cond.instanceMethod ({ cls := "InflatedRows", name := "tried", desc := "()LInflatedRows$Book;" } : Jvm.MethodName)) ∈ lw_all := lw_g (lw_at lw_m5 80 rfl) rfl
theorem q1103 : (Jvm.Cond.code ({ cls := "InflatedRows", name := "tried", desc := "()LInflatedRows$Book;" } : Jvm.MethodName) prog_1_method_45_code (1 : Nat) (Option.some (Jvm.ClassFile.FieldType.object "InflatedRows$Book"))) ∈ lw_all := lw_g (lw_at lw_m5 81 rfl) rfl
theorem q1104 : (Jvm.Cond.methodLink "InflatedRows" (336 : Nat) ({ cls := "InflatedRows", name := "isSeen", desc := "(I[I)Z" } : Jvm.MethodName)) ∈ lw_all := lw_g (lw_at lw_m5 82 rfl) rfl
theorem q1105 : (Jvm.Cond.privateMethod ({ cls := "InflatedRows", name := "isSeen", desc := "(I[I)Z" } : Jvm.MethodName)) ∈ lw_tbl := lw_at lw_m5 83 rfl
theorem q1106 : (Jvm.Cond.instanceMethod ({ cls := "InflatedRows", name := "isSeen", desc := "(I[I)Z" } : Jvm.MethodName)) ∈ lw_all := lw_g (lw_at lw_m5 84 rfl) rfl
theorem q1107 : (Jvm.Cond.code ({ cls := "InflatedRows", name := "isSeen", desc := "(I[I)Z" } : Jvm.MethodName) prog_1_method_46_code (5 : Nat) (Option.some Jvm.ClassFile.FieldType.boolean)) ∈ lw_all := lw_g (lw_at lw_m5 85 rfl) rfl
theorem q1109 : (Jvm.Cond.instanceMethod ({ cls := "InflatedRows", name := "quiet", desc := "()I" } : Jvm.MethodName)) ∈ lw_all := lw_g (lw_at lw_m5 87 rfl) rfl
theorem q1110 : (Jvm.Cond.selects "InflatedRows" ({ cls := "InflatedRows", name := "quiet", desc := "()I" } : Jvm.MethodName) ({ cls := "InflatedRows", name := "quiet", desc := "()I" } : Jvm.MethodName)) ∈ lw_all := lw_g (lw_at lw_m5 88 rfl) rfl
theorem q1111 : (Jvm.Cond.code ({ cls := "InflatedRows", name := "quiet", desc := "()I" } : Jvm.MethodName) prog_1_method_48_code (5 : Nat) (Option.some Jvm.ClassFile.FieldType.int)) ∈ lw_all := lw_g (lw_at lw_m5 89 rfl) rfl
theorem q1113 : (Jvm.Cond.instanceMethod ({ cls := "InflatedRows", name := "sets", desc := "(II)I" } : Jvm.MethodName)) ∈ lw_all := lw_g (lw_at lw_m5 91 rfl) rfl
theorem q1114 : (Jvm.Cond.selects "InflatedRows" ({ cls := "InflatedRows", name := "sets", desc := "(II)I" } : Jvm.MethodName) ({ cls := "InflatedRows", name := "sets", desc := "(II)I" } : Jvm.MethodName)) ∈ lw_all := lw_g (lw_at lw_m5 92 rfl) rfl
theorem q1115 : (Jvm.Cond.code ({ cls := "InflatedRows", name := "sets", desc := "(II)I" } : Jvm.MethodName) prog_1_method_50_code (8 : Nat) (Option.some Jvm.ClassFile.FieldType.int)) ∈ lw_all := lw_g (lw_at lw_m5 93 rfl) rfl
theorem q1116 : (Jvm.Cond.constantLong "InflatedRows" (343 : Nat) (99 : Int64)) ∈ lw_all := lw_g (lw_at lw_m5 94 rfl) rfl
theorem q1117 : (Jvm.Cond.methodLink "InflatedRows" (345 : Nat) ({ cls := "InflatedRows", name := "wholesOf", desc := "(I)I" } : Jvm.MethodName)) ∈ lw_all := lw_g (lw_at lw_m5 95 rfl) rfl
theorem q1118 : (Jvm.Cond.privateMethod ({ cls := "InflatedRows", name := "wholesOf", desc := "(I)I" } : Jvm.MethodName)) ∈ lw_tbl := lw_at lw_m5 96 rfl
theorem q1119 : (Jvm.Cond.instanceMethod ({ cls := "InflatedRows", name := "wholesOf", desc := "(I)I" } : Jvm.MethodName)) ∈ lw_all := lw_g (lw_at lw_m5 97 rfl) rfl
theorem q1120 : (Jvm.Cond.code ({ cls := "InflatedRows", name := "wholesOf", desc := "(I)I" } : Jvm.MethodName) prog_1_method_49_code (4 : Nat) (Option.some Jvm.ClassFile.FieldType.int)) ∈ lw_all := lw_g (lw_at lw_m5 98 rfl) rfl
theorem q1121 : (Jvm.Cond.methodLink "InflatedRows" (340 : Nat) ({ cls := "InflatedRows", name := "has", desc := "(II)Z" } : Jvm.MethodName)) ∈ lw_all := lw_g (lw_at lw_m5 99 rfl) rfl
theorem q1123 : (Jvm.Cond.instanceMethod ({ cls := "InflatedRows", name := "lost", desc := "(IIII)J" } : Jvm.MethodName)) ∈ lw_all := lw_g (lw_at lw_m5 101 rfl) rfl
theorem q1124 : (Jvm.Cond.selects "InflatedRows" ({ cls := "InflatedRows", name := "lost", desc := "(IIII)J" } : Jvm.MethodName) ({ cls := "InflatedRows", name := "lost", desc := "(IIII)J" } : Jvm.MethodName)) ∈ lw_all := lw_g (lw_at lw_m5 102 rfl) rfl
theorem q1125 : (Jvm.Cond.code ({ cls := "InflatedRows", name := "lost", desc := "(IIII)J" } : Jvm.MethodName) prog_1_method_52_code (14 : Nat) (Option.some Jvm.ClassFile.FieldType.long)) ∈ lw_all := lw_g (lw_at lw_m5 103 rfl) rfl
theorem q1126 : (Jvm.Cond.constantLong "InflatedRows" (348 : Nat) (10 : Int64)) ∈ lw_all := lw_g (lw_at lw_m5 104 rfl) rfl
theorem q1127 : (Jvm.Cond.methodLink "InflatedRows" (350 : Nat) ({ cls := "InflatedRows", name := "oftenIn", desc := "(II)I" } : Jvm.MethodName)) ∈ lw_all := lw_g (lw_at lw_m5 105 rfl) rfl
theorem q1128 : (Jvm.Cond.privateMethod ({ cls := "InflatedRows", name := "oftenIn", desc := "(II)I" } : Jvm.MethodName)) ∈ lw_tbl := lw_at lw_m5 106 rfl
theorem q1129 : (Jvm.Cond.instanceMethod ({ cls := "InflatedRows", name := "oftenIn", desc := "(II)I" } : Jvm.MethodName)) ∈ lw_all := lw_g (lw_at lw_m5 107 rfl) rfl
theorem q1130 : (Jvm.Cond.code ({ cls := "InflatedRows", name := "oftenIn", desc := "(II)I" } : Jvm.MethodName) prog_1_method_51_code (5 : Nat) (Option.some Jvm.ClassFile.FieldType.int)) ∈ lw_all := lw_g (lw_at lw_m5 108 rfl) rfl
theorem q1132 : (Jvm.Cond.instanceMethod ({ cls := "InflatedRows", name := "drawn", desc := "(III)I" } : Jvm.MethodName)) ∈ lw_all := lw_g (lw_at lw_m5 110 rfl) rfl
theorem q1133 : (Jvm.Cond.selects "InflatedRows" ({ cls := "InflatedRows", name := "drawn", desc := "(III)I" } : Jvm.MethodName) ({ cls := "InflatedRows", name := "drawn", desc := "(III)I" } : Jvm.MethodName)) ∈ lw_all := lw_g (lw_at lw_m5 111 rfl) rfl
theorem q1134 : (Jvm.Cond.code ({ cls := "InflatedRows", name := "drawn", desc := "(III)I" } : Jvm.MethodName) prog_1_method_53_code (10 : Nat) (Option.some Jvm.ClassFile.FieldType.int)) ∈ lw_all := lw_g (lw_at lw_m5 112 rfl) rfl
theorem q1135 : (Jvm.Cond.constantLong "InflatedRows" (353 : Nat) (30 : Int64)) ∈ lw_all := lw_g (lw_at lw_m5 113 rfl) rfl
theorem q1136 : (Jvm.Cond.constantLong "InflatedRows" (355 : Nat) (999999 : Int64)) ∈ lw_all := lw_g (lw_at lw_m5 114 rfl) rfl
theorem q1137 : (Jvm.Cond.constant "InflatedRows" (357 : Nat) (65535 : Int32)) ∈ lw_all := lw_g (lw_at lw_m5 115 rfl) rfl
theorem q1138 : (Jvm.Cond.constantLong "InflatedRows" (358 : Nat) (16807 : Int64)) ∈ lw_all := lw_g (lw_at lw_m5 116 rfl) rfl
theorem q1139 : (Jvm.Cond.constantLong "InflatedRows" (360 : Nat) (2147483647 : Int64)) ∈ lw_all := lw_g (lw_at lw_m5 117 rfl) rfl
theorem q1140 : (Jvm.Cond.constantLong "InflatedRows" (362 : Nat) (16 : Int64)) ∈ lw_all := lw_g (lw_at lw_m5 118 rfl) rfl
theorem q1142 : (Jvm.Cond.instanceMethod ({ cls := "InflatedRows", name := "image", desc := "(I)I" } : Jvm.MethodName)) ∈ lw_all := lw_g (lw_at lw_m5 120 rfl) rfl
theorem q1143 : (Jvm.Cond.selects "InflatedRows" ({ cls := "InflatedRows", name := "image", desc := "(I)I" } : Jvm.MethodName) ({ cls := "InflatedRows", name := "image", desc := "(I)I" } : Jvm.MethodName)) ∈ lw_all := lw_g (lw_at lw_m5 121 rfl) rfl
theorem q1144 : (Jvm.Cond.code ({ cls := "InflatedRows", name := "image", desc := "(I)I" } : Jvm.MethodName) prog_1_method_54_code (2 : Nat) (Option.some Jvm.ClassFile.FieldType.int)) ∈ lw_all := lw_g (lw_at lw_m5 122 rfl) rfl
theorem q1146 : (Jvm.Cond.instanceMethod ({ cls := "InflatedRows", name := "restore", desc := "(I)I" } : Jvm.MethodName)) ∈ lw_all := lw_g (lw_at lw_m5 124 rfl) rfl
theorem q1147 : (Jvm.Cond.selects "InflatedRows" ({ cls := "InflatedRows", name := "restore", desc := "(I)I" } : Jvm.MethodName) ({ cls := "InflatedRows", name := "restore", desc := "(I)I" } : Jvm.MethodName)) ∈ lw_all := lw_g (lw_at lw_m5 125 rfl) rfl
theorem q1148 : (Jvm.Cond.code ({ cls := "InflatedRows", name := "restore", desc := "(I)I" } : Jvm.MethodName) prog_1_method_55_code (2 : Nat) (Option.some Jvm.ClassFile.FieldType.int)) ∈ lw_all := lw_g (lw_at lw_m5 126 rfl) rfl
theorem q1150 : (Jvm.Cond.instanceMethod ({ cls := "InflatedRows", name := "kind", desc := "(I)I" } : Jvm.MethodName)) ∈ lw_all := lw_g (lw_at lw_m5 128 rfl) rfl
theorem q1151 : (Jvm.Cond.selects "InflatedRows" ({ cls := "InflatedRows", name := "kind", desc := "(I)I" } : Jvm.MethodName) ({ cls := "InflatedRows", name := "kind", desc := "(I)I" } : Jvm.MethodName)) ∈ lw_all := lw_g (lw_at lw_m5 129 rfl) rfl
theorem q1152 : (Jvm.Cond.code ({ cls := "InflatedRows", name := "kind", desc := "(I)I" } : Jvm.MethodName) prog_1_method_56_code (2 : Nat) (Option.some Jvm.ClassFile.FieldType.int)) ∈ lw_all := lw_g (lw_at lw_m5 130 rfl) rfl
theorem q1153 : (Jvm.Cond.interfaceEntry "InflatedRows" (367 : Nat)) ∈ lw_tbl := lw_at lw_m5 131 rfl
theorem q1154 : (Jvm.Cond.methodLink "InflatedRows" (367 : Nat) ({ cls := "java/util/List", name := "get", desc := "(I)Ljava/lang/Object;" } : Jvm.MethodName)) ∈ lw_all := lw_g (lw_at lw_m5 132 rfl) rfl
theorem q1155 : (Jvm.Cond.classLink "InflatedRows" (215 : Nat) "InflatedRows$Sort") ∈ lw_all := lw_g (lw_at lw_m5 133 rfl) rfl
theorem q1157 : (Jvm.Cond.instanceMethod ({ cls := "InflatedRows", name := "as", desc := "(II)I" } : Jvm.MethodName)) ∈ lw_all := lw_g (lw_at lw_m5 135 rfl) rfl
theorem q1158 : (Jvm.Cond.selects "InflatedRows" ({ cls := "InflatedRows", name := "as", desc := "(II)I" } : Jvm.MethodName) ({ cls := "InflatedRows", name := "as", desc := "(II)I" } : Jvm.MethodName)) ∈ lw_all := lw_g (lw_at lw_m5 136 rfl) rfl
theorem q1159 : (Jvm.Cond.codeWith ({ cls := "InflatedRows", name := "as", desc := "(II)I" } : Jvm.MethodName) prog_1_method_57_code (5 : Nat) (Option.some Jvm.ClassFile.FieldType.int) [((40 : Nat), (111 : Nat), (112 : Nat), (375 : Nat)), ((23 : Nat), (111 : Nat), (123 : Nat), (9 : Nat)), ((112 : Nat), (123 : Nat), (123 : Nat), (9 : Nat))]) ∈ lw_all := lw_g (lw_at lw_m5 137 rfl) rfl
theorem q1160 : (Jvm.Cond.classLink "InflatedRows" (375 : Nat) "java/lang/ClassCastException") ∈ lw_all := lw_g (lw_at lw_m5 138 rfl) rfl
theorem q1174 : (Jvm.Cond.methodLink "InflatedRows" (373 : Nat) ({ cls := "InflatedRows$Sort", name := "number", desc := "()I" } : Jvm.MethodName)) ∈ lw_all := lw_g (lw_at lw_m5 152 rfl) rfl
theorem q1176 : (Jvm.Cond.instanceMethod ({ cls := "InflatedRows", name := "ask", desc := "(II)I" } : Jvm.MethodName)) ∈ lw_all := lw_g (lw_at lw_m5 154 rfl) rfl
theorem q1177 : (Jvm.Cond.selects "InflatedRows" ({ cls := "InflatedRows", name := "ask", desc := "(II)I" } : Jvm.MethodName) ({ cls := "InflatedRows", name := "ask", desc := "(II)I" } : Jvm.MethodName)) ∈ lw_all := lw_g (lw_at lw_m5 155 rfl) rfl
theorem q1178 : (Jvm.Cond.code ({ cls := "InflatedRows", name := "ask", desc := "(II)I" } : Jvm.MethodName) prog_1_method_58_code (4 : Nat) (Option.some Jvm.ClassFile.FieldType.int)) ∈ lw_all := lw_g (lw_at lw_m5 156 rfl) rfl
theorem q1179 : (Jvm.Cond.classLink "InflatedRows" (377 : Nat) "InflatedRows$Marked") ∈ lw_all := lw_g (lw_at lw_m5 157 rfl) rfl
theorem q1180 : (Jvm.Cond.interfaceEntry "InflatedRows" (379 : Nat)) ∈ lw_tbl := lw_at lw_m5 158 rfl
theorem q1181 : (Jvm.Cond.methodLink "InflatedRows" (379 : Nat) ({ cls := "InflatedRows$Marked", name := "size", desc := "(LInflatedRows$Trail;LInflatedRows$Book;)I" } : Jvm.MethodName)) ∈ lw_all := lw_g (lw_at lw_m5 159 rfl) rfl
theorem q1259 : (Jvm.Cond.interfaceEntry "InflatedRows" (382 : Nat)) ∈ lw_tbl := lw_at lw_m5 237 rfl
theorem q1260 : (Jvm.Cond.methodLink "InflatedRows" (382 : Nat) ({ cls := "InflatedRows$Marked", name := "mark", desc := "(LInflatedRows$Trail;LInflatedRows$Book;)I" } : Jvm.MethodName)) ∈ lw_all := lw_g (lw_at lw_m5 238 rfl) rfl
theorem q1280 : (Jvm.Cond.instanceMethod ({ cls := "InflatedRows", name := "trace", desc := "(I)I" } : Jvm.MethodName)) ∈ lw_all := lw_g (lw_at lw_m6 18 rfl) rfl
theorem q1281 : (Jvm.Cond.selects "InflatedRows" ({ cls := "InflatedRows", name := "trace", desc := "(I)I" } : Jvm.MethodName) ({ cls := "InflatedRows", name := "trace", desc := "(I)I" } : Jvm.MethodName)) ∈ lw_all := lw_g (lw_at lw_m6 19 rfl) rfl
theorem q1282 : (Jvm.Cond.code ({ cls := "InflatedRows", name := "trace", desc := "(I)I" } : Jvm.MethodName) prog_1_method_59_code (2 : Nat) (Option.some Jvm.ClassFile.FieldType.int)) ∈ lw_all := lw_g (lw_at lw_m6 20 rfl) rfl
theorem q1284 : (Jvm.Cond.instanceMethod ({ cls := "InflatedRows", name := "count", desc := "(I)I" } : Jvm.MethodName)) ∈ lw_all := lw_g (lw_at lw_m6 22 rfl) rfl
theorem q1285 : (Jvm.Cond.selects "InflatedRows" ({ cls := "InflatedRows", name := "count", desc := "(I)I" } : Jvm.MethodName) ({ cls := "InflatedRows", name := "count", desc := "(I)I" } : Jvm.MethodName)) ∈ lw_all := lw_g (lw_at lw_m6 23 rfl) rfl
theorem q1286 : (Jvm.Cond.code ({ cls := "InflatedRows", name := "count", desc := "(I)I" } : Jvm.MethodName) prog_1_method_60_code (4 : Nat) (Option.some Jvm.ClassFile.FieldType.int)) ∈ lw_all := lw_g (lw_at lw_m6 24 rfl) rfl
theorem q1288 : (Jvm.Cond.instanceMethod ({ cls := "InflatedRows", name := "status", desc := "()I" } : Jvm.MethodName)) ∈ lw_all := lw_g (lw_at lw_m6 26 rfl) rfl
theorem q1289 : (Jvm.Cond.selects "InflatedRows" ({ cls := "InflatedRows", name := "status", desc := "()I" } : Jvm.MethodName) ({ cls := "InflatedRows", name := "status", desc := "()I" } : Jvm.MethodName)) ∈ lw_all := lw_g (lw_at lw_m6 27 rfl) rfl
theorem q1290 : (Jvm.Cond.code ({ cls := "InflatedRows", name := "status", desc := "()I" } : Jvm.MethodName) prog_1_method_61_code (1 : Nat) (Option.some Jvm.ClassFile.FieldType.int)) ∈ lw_all := lw_g (lw_at lw_m6 28 rfl) rfl
theorem q1766 : (Jvm.Cond.castable "InflatedRows" "java/lang/Object") ∈ lw_tbl := lw_at lw_m8 24 rfl
theorem in_X0 : ∀ w ∈ wsX00, w ∈ lw_all := lw_in wsX00 [232, 234, 236, 238, 240, 242, 244, 246, 248, 250, 252] (by decide +kernel) (by decide +kernel)
