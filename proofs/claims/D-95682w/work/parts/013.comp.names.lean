/-! NightStones -/
set_option maxRecDepth 100000
def RX0 : String := "NightStones"
def TX0 : u_T := fun k => match k with
  | 0 => ("NightStones", "rows", "[LNightStones$Row;", true)
  | 1 => ("NightStones", "tape", "[B", true)
  | 2 => ("NightStones", "taped", "I", false)
  | 3 => ("NightStones", "faultKind", "I", false)
  | 4 => ("NightStones", "road", "LNightStones$Road;", true)
  | 5 => ("NightStones", "trial", "LNightStones$Road;", true)
  | 6 => ("NightStones", "past", "[LNightStones$Road;", true)
  | 7 => ("NightStones", "acts", "I", false)
  | 8 => ("NightStones", "images", "[LNightStones$Road;", true)
  | 9 => ("NightStones", "trail", "LNightStones$Trail;", false)
  | 10 => ("NightStones", "status", "I", false)
  | _ => ("NightStones", "most", "[I", true)
def tyX0 : Nat → FieldType := fun k => match k with
  | 0 => .array (.object "NightStones$Row")
  | 1 => .array .byte
  | 2 => .int
  | 3 => .int
  | 4 => .object "NightStones$Road"
  | 5 => .object "NightStones$Road"
  | 6 => .array (.object "NightStones$Road")
  | 7 => .int
  | 8 => .array (.object "NightStones$Road")
  | 9 => .object "NightStones$Trail"
  | 10 => .int
  | _ => .array .int
abbrev wsX00 : List Cond := u_ws RX0 TX0 12
theorem nmX0 : ∀ a, a < 12 → ∀ b, b < 12 → a ≠ b → (TX0 a).2.1 ≠ (TX0 b).2.1 := by decide +kernel
theorem tyX0_ok : ∀ k, k < 12 → parseFieldDescriptor (TX0 k).2.2.1 = some (tyX0 k) := by decide +kernel
abbrev cX0_init : ByteArray := prog_1_method_5_code
def yX0_init : MethodName := ⟨RX0, "<init>", "()V"⟩
def dkwX0_init_3 : List UInt8 := [181, 0, 62, 42, 16, 49, 188, 10, 181, 0, 66, 177]
abbrev dktX0_init_3 : List UInt8 := dkwX0_init_3 ++ []
def dkwX0_init_2 : List UInt8 := [189, 0, 42, 181, 0, 52, 42, 5, 189, 0, 42, 181, 0, 56, 42, 187, 0, 59, 89, 183, 0, 61]
abbrev dktX0_init_2 : List UInt8 := dkwX0_init_2 ++ dktX0_init_3
def dkwX0_init_1 : List UInt8 := [187, 0, 42, 89, 183, 0, 44, 181, 0, 45, 42, 187, 0, 42, 89, 183, 0, 44, 181, 0, 49, 42, 16, 24]
abbrev dktX0_init_1 : List UInt8 := dkwX0_init_1 ++ dktX0_init_2
def dkwX0_init_0 : List UInt8 := [42, 183, 0, 25, 42, 16, 8, 189, 0, 32, 181, 0, 34, 42, 17, 1, 144, 188, 8, 181, 0, 38, 42]
abbrev dktX0_init_0 : List UInt8 := dkwX0_init_0 ++ dktX0_init_1
theorem dksX0_init_0 : cX0_init.data.toList.drop 0 = dktX0_init_0 := by decide +kernel
theorem dksX0_init_1 : cX0_init.data.toList.drop 23 = dktX0_init_1 := dk_seg dksX0_init_0 23 rfl rfl
theorem dksX0_init_2 : cX0_init.data.toList.drop 47 = dktX0_init_2 := dk_seg dksX0_init_1 24 rfl rfl
theorem dksX0_init_3 : cX0_init.data.toList.drop 69 = dktX0_init_3 := dk_seg dksX0_init_2 22 rfl rfl
theorem dX0_init_0 : decode cX0_init 0 = .ok (.aload_n 0, 1) := dk_42 (dk_at dksX0_init_0 0 rfl rfl)
theorem dX0_init_1 : decode cX0_init 1 = .ok (.invokespecial 25, 3) := dk_183 0 25 (dk_at dksX0_init_0 1 rfl rfl)
theorem dX0_init_4 : decode cX0_init 4 = .ok (.aload_n 0, 1) := dk_42 (dk_at dksX0_init_0 4 rfl rfl)
theorem dX0_init_5 : decode cX0_init 5 = .ok (.bipush 8, 2) := dk_16 8 (dk_at dksX0_init_0 5 rfl rfl)
theorem dX0_init_7 : decode cX0_init 7 = .ok (.anewarray 32, 3) := dk_189 0 32 (dk_at dksX0_init_0 7 rfl rfl)
theorem dX0_init_10 : decode cX0_init 10 = .ok (.putfield 34, 3) := dk_181 0 34 (dk_at dksX0_init_0 10 rfl rfl)
theorem dX0_init_13 : decode cX0_init 13 = .ok (.aload_n 0, 1) := dk_42 (dk_at dksX0_init_0 13 rfl rfl)
theorem dX0_init_14 : decode cX0_init 14 = .ok (.sipush 400, 3) := dk_17 1 144 (dk_at dksX0_init_0 14 rfl rfl)
theorem dX0_init_17 : decode cX0_init 17 = .ok (.newarray .byte, 2) := dk_188_8 (dk_at dksX0_init_0 17 rfl rfl)
theorem dX0_init_19 : decode cX0_init 19 = .ok (.putfield 38, 3) := dk_181 0 38 (dk_at dksX0_init_0 19 rfl rfl)
theorem dX0_init_22 : decode cX0_init 22 = .ok (.aload_n 0, 1) := dk_42 (dk_at dksX0_init_0 22 rfl rfl)
theorem dX0_init_23 : decode cX0_init 23 = .ok (.new 42, 3) := dk_187 0 42 (dk_at dksX0_init_1 0 rfl rfl)
theorem dX0_init_26 : decode cX0_init 26 = .ok (.dup, 1) := dk_89 (dk_at dksX0_init_1 3 rfl rfl)
theorem dX0_init_27 : decode cX0_init 27 = .ok (.invokespecial 44, 3) := dk_183 0 44 (dk_at dksX0_init_1 4 rfl rfl)
theorem dX0_init_30 : decode cX0_init 30 = .ok (.putfield 45, 3) := dk_181 0 45 (dk_at dksX0_init_1 7 rfl rfl)
theorem dX0_init_33 : decode cX0_init 33 = .ok (.aload_n 0, 1) := dk_42 (dk_at dksX0_init_1 10 rfl rfl)
theorem dX0_init_34 : decode cX0_init 34 = .ok (.new 42, 3) := dk_187 0 42 (dk_at dksX0_init_1 11 rfl rfl)
theorem dX0_init_37 : decode cX0_init 37 = .ok (.dup, 1) := dk_89 (dk_at dksX0_init_1 14 rfl rfl)
theorem dX0_init_38 : decode cX0_init 38 = .ok (.invokespecial 44, 3) := dk_183 0 44 (dk_at dksX0_init_1 15 rfl rfl)
theorem dX0_init_41 : decode cX0_init 41 = .ok (.putfield 49, 3) := dk_181 0 49 (dk_at dksX0_init_1 18 rfl rfl)
theorem dX0_init_44 : decode cX0_init 44 = .ok (.aload_n 0, 1) := dk_42 (dk_at dksX0_init_1 21 rfl rfl)
theorem dX0_init_45 : decode cX0_init 45 = .ok (.bipush 24, 2) := dk_16 24 (dk_at dksX0_init_1 22 rfl rfl)
theorem dX0_init_47 : decode cX0_init 47 = .ok (.anewarray 42, 3) := dk_189 0 42 (dk_at dksX0_init_2 0 rfl rfl)
theorem dX0_init_50 : decode cX0_init 50 = .ok (.putfield 52, 3) := dk_181 0 52 (dk_at dksX0_init_2 3 rfl rfl)
theorem dX0_init_53 : decode cX0_init 53 = .ok (.aload_n 0, 1) := dk_42 (dk_at dksX0_init_2 6 rfl rfl)
theorem dX0_init_54 : decode cX0_init 54 = .ok (.iconst 2, 1) := dk_5 (dk_at dksX0_init_2 7 rfl rfl)
theorem dX0_init_55 : decode cX0_init 55 = .ok (.anewarray 42, 3) := dk_189 0 42 (dk_at dksX0_init_2 8 rfl rfl)
theorem dX0_init_58 : decode cX0_init 58 = .ok (.putfield 56, 3) := dk_181 0 56 (dk_at dksX0_init_2 11 rfl rfl)
theorem dX0_init_61 : decode cX0_init 61 = .ok (.aload_n 0, 1) := dk_42 (dk_at dksX0_init_2 14 rfl rfl)
theorem dX0_init_62 : decode cX0_init 62 = .ok (.new 59, 3) := dk_187 0 59 (dk_at dksX0_init_2 15 rfl rfl)
theorem dX0_init_65 : decode cX0_init 65 = .ok (.dup, 1) := dk_89 (dk_at dksX0_init_2 18 rfl rfl)
theorem dX0_init_66 : decode cX0_init 66 = .ok (.invokespecial 61, 3) := dk_183 0 61 (dk_at dksX0_init_2 19 rfl rfl)
theorem dX0_init_69 : decode cX0_init 69 = .ok (.putfield 62, 3) := dk_181 0 62 (dk_at dksX0_init_3 0 rfl rfl)
theorem dX0_init_72 : decode cX0_init 72 = .ok (.aload_n 0, 1) := dk_42 (dk_at dksX0_init_3 3 rfl rfl)
theorem dX0_init_73 : decode cX0_init 73 = .ok (.bipush 49, 2) := dk_16 49 (dk_at dksX0_init_3 4 rfl rfl)
theorem dX0_init_75 : decode cX0_init 75 = .ok (.newarray .int, 2) := dk_188_10 (dk_at dksX0_init_3 6 rfl rfl)
theorem dX0_init_77 : decode cX0_init 77 = .ok (.putfield 66, 3) := dk_181 0 66 (dk_at dksX0_init_3 8 rfl rfl)
theorem dX0_init_80 : decode cX0_init 80 = .ok (.return_, 1) := dk_177 (dk_at dksX0_init_3 11 rfl rfl)
abbrev cX0_row : ByteArray := prog_1_method_11_code
def yX0_row : MethodName := ⟨RX0, "row", "(III)I"⟩
def dkwX0_row_3 : List UInt8 := [172]
abbrev dktX0_row_3 : List UInt8 := dkwX0_row_3 ++ []
def dkwX0_row_2 : List UInt8 := [187, 0, 32, 89, 28, 29, 183, 0, 100, 83, 42, 29, 182, 0, 103, 172, 58, 4, 42, 25, 4, 182, 0, 106]
abbrev dktX0_row_2 : List UInt8 := dkwX0_row_2 ++ dktX0_row_3
def dkwX0_row_1 : List UInt8 := [164, 0, 6, 18, 99, 172, 29, 155, 0, 7, 4, 167, 0, 4, 3, 7, 184, 0, 89, 42, 180, 0, 34, 27]
abbrev dktX0_row_1 : List UInt8 := dkwX0_row_1 ++ dktX0_row_2
def dkwX0_row_0 : List UInt8 := [27, 184, 0, 93, 153, 0, 21, 28, 133, 9, 20, 0, 97, 184, 0, 85, 153, 0, 9, 29, 16, 40]
abbrev dktX0_row_0 : List UInt8 := dkwX0_row_0 ++ dktX0_row_1
theorem dksX0_row_0 : cX0_row.data.toList.drop 0 = dktX0_row_0 := by decide +kernel
theorem dksX0_row_1 : cX0_row.data.toList.drop 22 = dktX0_row_1 := dk_seg dksX0_row_0 22 rfl rfl
theorem dksX0_row_2 : cX0_row.data.toList.drop 46 = dktX0_row_2 := dk_seg dksX0_row_1 24 rfl rfl
theorem dksX0_row_3 : cX0_row.data.toList.drop 70 = dktX0_row_3 := dk_seg dksX0_row_2 24 rfl rfl
theorem dX0_row_0 : decode cX0_row 0 = .ok (.iload_n 1, 1) := dk_27 (dk_at dksX0_row_0 0 rfl rfl)
theorem dX0_row_1 : decode cX0_row 1 = .ok (.invokestatic 93, 3) := dk_184 0 93 (dk_at dksX0_row_0 1 rfl rfl)
theorem dX0_row_4 : decode cX0_row 4 = .ok (.ifCond .eq 21, 3) := dk_153 0 21 (dk_at dksX0_row_0 4 rfl rfl)
theorem dX0_row_7 : decode cX0_row 7 = .ok (.iload_n 2, 1) := dk_28 (dk_at dksX0_row_0 7 rfl rfl)
theorem dX0_row_8 : decode cX0_row 8 = .ok (.i2l, 1) := dk_133 (dk_at dksX0_row_0 8 rfl rfl)
theorem dX0_row_9 : decode cX0_row 9 = .ok (.lconst 0, 1) := dk_9 (dk_at dksX0_row_0 9 rfl rfl)
theorem dX0_row_10 : decode cX0_row 10 = .ok (.ldc2_w 97, 3) := dk_20 0 97 (dk_at dksX0_row_0 10 rfl rfl)
theorem dX0_row_13 : decode cX0_row 13 = .ok (.invokestatic 85, 3) := dk_184 0 85 (dk_at dksX0_row_0 13 rfl rfl)
theorem dX0_row_16 : decode cX0_row 16 = .ok (.ifCond .eq 9, 3) := dk_153 0 9 (dk_at dksX0_row_0 16 rfl rfl)
theorem dX0_row_19 : decode cX0_row 19 = .ok (.iload_n 3, 1) := dk_29 (dk_at dksX0_row_0 19 rfl rfl)
theorem dX0_row_20 : decode cX0_row 20 = .ok (.bipush 40, 2) := dk_16 40 (dk_at dksX0_row_0 20 rfl rfl)
theorem dX0_row_22 : decode cX0_row 22 = .ok (.if_icmp .le 6, 3) := dk_164 0 6 (dk_at dksX0_row_1 0 rfl rfl)
theorem dX0_row_25 : decode cX0_row 25 = .ok (.ldc 99, 2) := dk_18 99 (dk_at dksX0_row_1 3 rfl rfl)
theorem dX0_row_27 : decode cX0_row 27 = .ok (.ireturn, 1) := dk_172 (dk_at dksX0_row_1 5 rfl rfl)
theorem dX0_row_28 : decode cX0_row 28 = .ok (.iload_n 3, 1) := dk_29 (dk_at dksX0_row_1 6 rfl rfl)
theorem dX0_row_29 : decode cX0_row 29 = .ok (.ifCond .lt 7, 3) := dk_155 0 7 (dk_at dksX0_row_1 7 rfl rfl)
theorem dX0_row_32 : decode cX0_row 32 = .ok (.iconst 1, 1) := dk_4 (dk_at dksX0_row_1 10 rfl rfl)
theorem dX0_row_33 : decode cX0_row 33 = .ok (.goto 4, 3) := dk_167 0 4 (dk_at dksX0_row_1 11 rfl rfl)
theorem dX0_row_36 : decode cX0_row 36 = .ok (.iconst 0, 1) := dk_3 (dk_at dksX0_row_1 14 rfl rfl)
theorem dX0_row_37 : decode cX0_row 37 = .ok (.iconst 4, 1) := dk_7 (dk_at dksX0_row_1 15 rfl rfl)
theorem dX0_row_38 : decode cX0_row 38 = .ok (.invokestatic 89, 3) := dk_184 0 89 (dk_at dksX0_row_1 16 rfl rfl)
theorem dX0_row_41 : decode cX0_row 41 = .ok (.aload_n 0, 1) := dk_42 (dk_at dksX0_row_1 19 rfl rfl)
theorem dX0_row_42 : decode cX0_row 42 = .ok (.getfield 34, 3) := dk_180 0 34 (dk_at dksX0_row_1 20 rfl rfl)
theorem dX0_row_45 : decode cX0_row 45 = .ok (.iload_n 1, 1) := dk_27 (dk_at dksX0_row_1 23 rfl rfl)
theorem dX0_row_46 : decode cX0_row 46 = .ok (.new 32, 3) := dk_187 0 32 (dk_at dksX0_row_2 0 rfl rfl)
theorem dX0_row_49 : decode cX0_row 49 = .ok (.dup, 1) := dk_89 (dk_at dksX0_row_2 3 rfl rfl)
theorem dX0_row_50 : decode cX0_row 50 = .ok (.iload_n 2, 1) := dk_28 (dk_at dksX0_row_2 4 rfl rfl)
theorem dX0_row_51 : decode cX0_row 51 = .ok (.iload_n 3, 1) := dk_29 (dk_at dksX0_row_2 5 rfl rfl)
theorem dX0_row_52 : decode cX0_row 52 = .ok (.invokespecial 100, 3) := dk_183 0 100 (dk_at dksX0_row_2 6 rfl rfl)
theorem dX0_row_55 : decode cX0_row 55 = .ok (.aastore, 1) := dk_83 (dk_at dksX0_row_2 9 rfl rfl)
theorem dX0_row_56 : decode cX0_row 56 = .ok (.aload_n 0, 1) := dk_42 (dk_at dksX0_row_2 10 rfl rfl)
theorem dX0_row_57 : decode cX0_row 57 = .ok (.iload_n 3, 1) := dk_29 (dk_at dksX0_row_2 11 rfl rfl)
theorem dX0_row_58 : decode cX0_row 58 = .ok (.invokevirtual 103, 3) := dk_182 0 103 (dk_at dksX0_row_2 12 rfl rfl)
theorem dX0_row_61 : decode cX0_row 61 = .ok (.ireturn, 1) := dk_172 (dk_at dksX0_row_2 15 rfl rfl)
theorem dX0_row_62 : decode cX0_row 62 = .ok (.astore 4, 2) := dk_58 4 (dk_at dksX0_row_2 16 rfl rfl)
theorem dX0_row_64 : decode cX0_row 64 = .ok (.aload_n 0, 1) := dk_42 (dk_at dksX0_row_2 18 rfl rfl)
theorem dX0_row_65 : decode cX0_row 65 = .ok (.aload 4, 2) := dk_25 4 (dk_at dksX0_row_2 19 rfl rfl)
theorem dX0_row_67 : decode cX0_row 67 = .ok (.invokevirtual 106, 3) := dk_182 0 106 (dk_at dksX0_row_2 21 rfl rfl)
theorem dX0_row_70 : decode cX0_row 70 = .ok (.ireturn, 1) := dk_172 (dk_at dksX0_row_3 0 rfl rfl)
abbrev cX0_isRow : ByteArray := prog_1_method_9_code
def yX0_isRow : MethodName := ⟨RX0, "isRow", "(I)Z"⟩
def dkwX0_isRow_0 : List UInt8 := [26, 133, 9, 20, 0, 83, 184, 0, 85, 172]
abbrev dktX0_isRow_0 : List UInt8 := dkwX0_isRow_0 ++ []
theorem dksX0_isRow_0 : cX0_isRow.data.toList.drop 0 = dktX0_isRow_0 := by decide +kernel
theorem dX0_isRow_0 : decode cX0_isRow 0 = .ok (.iload_n 0, 1) := dk_26 (dk_at dksX0_isRow_0 0 rfl rfl)
theorem dX0_isRow_1 : decode cX0_isRow 1 = .ok (.i2l, 1) := dk_133 (dk_at dksX0_isRow_0 1 rfl rfl)
theorem dX0_isRow_2 : decode cX0_isRow 2 = .ok (.lconst 0, 1) := dk_9 (dk_at dksX0_isRow_0 2 rfl rfl)
theorem dX0_isRow_3 : decode cX0_isRow 3 = .ok (.ldc2_w 83, 3) := dk_20 0 83 (dk_at dksX0_isRow_0 3 rfl rfl)
theorem dX0_isRow_6 : decode cX0_isRow 6 = .ok (.invokestatic 85, 3) := dk_184 0 85 (dk_at dksX0_isRow_0 6 rfl rfl)
theorem dX0_isRow_9 : decode cX0_isRow 9 = .ok (.ireturn, 1) := dk_172 (dk_at dksX0_isRow_0 9 rfl rfl)
abbrev cX0_isIn : ByteArray := prog_1_method_1_code
def yX0_isIn : MethodName := ⟨RX0, "isIn", "(JJJ)Z"⟩
def dkwX0_isIn_0 : List UInt8 := [30, 32, 148, 155, 0, 14, 30, 22, 4, 148, 157, 0, 7, 4, 167, 0, 4, 3, 172]
abbrev dktX0_isIn_0 : List UInt8 := dkwX0_isIn_0 ++ []
theorem dksX0_isIn_0 : cX0_isIn.data.toList.drop 0 = dktX0_isIn_0 := by decide +kernel
theorem dX0_isIn_0 : decode cX0_isIn 0 = .ok (.lload_n 0, 1) := dk_30 (dk_at dksX0_isIn_0 0 rfl rfl)
theorem dX0_isIn_1 : decode cX0_isIn 1 = .ok (.lload_n 2, 1) := dk_32 (dk_at dksX0_isIn_0 1 rfl rfl)
theorem dX0_isIn_2 : decode cX0_isIn 2 = .ok (.lcmp, 1) := dk_148 (dk_at dksX0_isIn_0 2 rfl rfl)
theorem dX0_isIn_3 : decode cX0_isIn 3 = .ok (.ifCond .lt 14, 3) := dk_155 0 14 (dk_at dksX0_isIn_0 3 rfl rfl)
theorem dX0_isIn_6 : decode cX0_isIn 6 = .ok (.lload_n 0, 1) := dk_30 (dk_at dksX0_isIn_0 6 rfl rfl)
theorem dX0_isIn_7 : decode cX0_isIn 7 = .ok (.lload 4, 2) := dk_22 4 (dk_at dksX0_isIn_0 7 rfl rfl)
theorem dX0_isIn_9 : decode cX0_isIn 9 = .ok (.lcmp, 1) := dk_148 (dk_at dksX0_isIn_0 9 rfl rfl)
theorem dX0_isIn_10 : decode cX0_isIn 10 = .ok (.ifCond .gt 7, 3) := dk_157 0 7 (dk_at dksX0_isIn_0 10 rfl rfl)
theorem dX0_isIn_13 : decode cX0_isIn 13 = .ok (.iconst 1, 1) := dk_4 (dk_at dksX0_isIn_0 13 rfl rfl)
theorem dX0_isIn_14 : decode cX0_isIn 14 = .ok (.goto 4, 3) := dk_167 0 4 (dk_at dksX0_isIn_0 14 rfl rfl)
theorem dX0_isIn_17 : decode cX0_isIn 17 = .ok (.iconst 0, 1) := dk_3 (dk_at dksX0_isIn_0 17 rfl rfl)
theorem dX0_isIn_18 : decode cX0_isIn 18 = .ok (.ireturn, 1) := dk_172 (dk_at dksX0_isIn_0 18 rfl rfl)
abbrev cX0_must : ByteArray := prog_1_method_8_code
def yX0_must : MethodName := ⟨RX0, "must", "(ZI)V"⟩
def dkwX0_must_0 : List UInt8 := [26, 154, 0, 12, 187, 0, 71, 89, 27, 183, 0, 80, 191, 177]
abbrev dktX0_must_0 : List UInt8 := dkwX0_must_0 ++ []
theorem dksX0_must_0 : cX0_must.data.toList.drop 0 = dktX0_must_0 := by decide +kernel
theorem dX0_must_0 : decode cX0_must 0 = .ok (.iload_n 0, 1) := dk_26 (dk_at dksX0_must_0 0 rfl rfl)
theorem dX0_must_1 : decode cX0_must 1 = .ok (.ifCond .ne 12, 3) := dk_154 0 12 (dk_at dksX0_must_0 1 rfl rfl)
theorem dX0_must_4 : decode cX0_must 4 = .ok (.new 71, 3) := dk_187 0 71 (dk_at dksX0_must_0 4 rfl rfl)
theorem dX0_must_7 : decode cX0_must 7 = .ok (.dup, 1) := dk_89 (dk_at dksX0_must_0 7 rfl rfl)
theorem dX0_must_8 : decode cX0_must 8 = .ok (.iload_n 1, 1) := dk_27 (dk_at dksX0_must_0 8 rfl rfl)
theorem dX0_must_9 : decode cX0_must 9 = .ok (.invokespecial 80, 3) := dk_183 0 80 (dk_at dksX0_must_0 9 rfl rfl)
theorem dX0_must_12 : decode cX0_must 12 = .ok (.athrow, 1) := dk_191 (dk_at dksX0_must_0 12 rfl rfl)
theorem dX0_must_13 : decode cX0_must 13 = .ok (.return_, 1) := dk_177 (dk_at dksX0_must_0 13 rfl rfl)
abbrev cX0_well : ByteArray := prog_1_method_7_code
def yX0_well : MethodName := ⟨RX0, "well", "(I)I"⟩
def dkwX0_well_0 : List UInt8 := [42, 3, 181, 0, 76, 27, 172]
abbrev dktX0_well_0 : List UInt8 := dkwX0_well_0 ++ []
theorem dksX0_well_0 : cX0_well.data.toList.drop 0 = dktX0_well_0 := by decide +kernel
theorem dX0_well_0 : decode cX0_well 0 = .ok (.aload_n 0, 1) := dk_42 (dk_at dksX0_well_0 0 rfl rfl)
theorem dX0_well_1 : decode cX0_well 1 = .ok (.iconst 0, 1) := dk_3 (dk_at dksX0_well_0 1 rfl rfl)
theorem dX0_well_2 : decode cX0_well 2 = .ok (.putfield 76, 3) := dk_181 0 76 (dk_at dksX0_well_0 2 rfl rfl)
theorem dX0_well_5 : decode cX0_well 5 = .ok (.iload_n 1, 1) := dk_27 (dk_at dksX0_well_0 5 rfl rfl)
theorem dX0_well_6 : decode cX0_well 6 = .ok (.ireturn, 1) := dk_172 (dk_at dksX0_well_0 6 rfl rfl)
abbrev cX0_found : ByteArray := prog_1_method_6_code
def yX0_found : MethodName := ⟨RX0, "found", "(LNightStones$Finding;)I"⟩
def dkwX0_found_0 : List UInt8 := [42, 43, 180, 0, 70, 181, 0, 76, 18, 79, 43, 180, 0, 70, 100, 172]
abbrev dktX0_found_0 : List UInt8 := dkwX0_found_0 ++ []
theorem dksX0_found_0 : cX0_found.data.toList.drop 0 = dktX0_found_0 := by decide +kernel
theorem dX0_found_0 : decode cX0_found 0 = .ok (.aload_n 0, 1) := dk_42 (dk_at dksX0_found_0 0 rfl rfl)
theorem dX0_found_1 : decode cX0_found 1 = .ok (.aload_n 1, 1) := dk_43 (dk_at dksX0_found_0 1 rfl rfl)
theorem dX0_found_2 : decode cX0_found 2 = .ok (.getfield 70, 3) := dk_180 0 70 (dk_at dksX0_found_0 2 rfl rfl)
theorem dX0_found_5 : decode cX0_found 5 = .ok (.putfield 76, 3) := dk_181 0 76 (dk_at dksX0_found_0 5 rfl rfl)
theorem dX0_found_8 : decode cX0_found 8 = .ok (.ldc 79, 2) := dk_18 79 (dk_at dksX0_found_0 8 rfl rfl)
theorem dX0_found_10 : decode cX0_found 10 = .ok (.aload_n 1, 1) := dk_43 (dk_at dksX0_found_0 10 rfl rfl)
theorem dX0_found_11 : decode cX0_found 11 = .ok (.getfield 70, 3) := dk_180 0 70 (dk_at dksX0_found_0 11 rfl rfl)
theorem dX0_found_14 : decode cX0_found 14 = .ok (.isub, 1) := dk_100 (dk_at dksX0_found_0 14 rfl rfl)
theorem dX0_found_15 : decode cX0_found 15 = .ok (.ireturn, 1) := dk_172 (dk_at dksX0_found_0 15 rfl rfl)
abbrev cX0_set : ByteArray := prog_1_method_12_code
def yX0_set : MethodName := ⟨RX0, "set", "(III)I"⟩
def dkwX0_set_3 : List UInt8 := [172]
abbrev dktX0_set_3 : List UInt8 := dkwX0_set_3 ++ []
def dkwX0_set_2 : List UInt8 := [182, 0, 117, 79, 42, 25, 4, 180, 0, 114, 28, 46, 182, 0, 103, 172, 58, 4, 42, 25, 4, 182, 0, 106]
abbrev dktX0_set_2 : List UInt8 := dkwX0_set_2 ++ dktX0_set_3
def dkwX0_set_1 : List UInt8 := [180, 0, 114, 190, 4, 100, 133, 184, 0, 85, 5, 184, 0, 89, 25, 4, 180, 0, 114, 28, 25, 4, 29]
abbrev dktX0_set_1 : List UInt8 := dkwX0_set_1 ++ dktX0_set_2
def dkwX0_set_0 : List UInt8 := [27, 184, 0, 93, 154, 0, 6, 18, 99, 172, 42, 27, 182, 0, 110, 58, 4, 28, 133, 9, 25, 4]
abbrev dktX0_set_0 : List UInt8 := dkwX0_set_0 ++ dktX0_set_1
theorem dksX0_set_0 : cX0_set.data.toList.drop 0 = dktX0_set_0 := by decide +kernel
theorem dksX0_set_1 : cX0_set.data.toList.drop 22 = dktX0_set_1 := dk_seg dksX0_set_0 22 rfl rfl
theorem dksX0_set_2 : cX0_set.data.toList.drop 45 = dktX0_set_2 := dk_seg dksX0_set_1 23 rfl rfl
theorem dksX0_set_3 : cX0_set.data.toList.drop 69 = dktX0_set_3 := dk_seg dksX0_set_2 24 rfl rfl
theorem dX0_set_0 : decode cX0_set 0 = .ok (.iload_n 1, 1) := dk_27 (dk_at dksX0_set_0 0 rfl rfl)
theorem dX0_set_1 : decode cX0_set 1 = .ok (.invokestatic 93, 3) := dk_184 0 93 (dk_at dksX0_set_0 1 rfl rfl)
theorem dX0_set_4 : decode cX0_set 4 = .ok (.ifCond .ne 6, 3) := dk_154 0 6 (dk_at dksX0_set_0 4 rfl rfl)
theorem dX0_set_7 : decode cX0_set 7 = .ok (.ldc 99, 2) := dk_18 99 (dk_at dksX0_set_0 7 rfl rfl)
theorem dX0_set_9 : decode cX0_set 9 = .ok (.ireturn, 1) := dk_172 (dk_at dksX0_set_0 9 rfl rfl)
theorem dX0_set_10 : decode cX0_set 10 = .ok (.aload_n 0, 1) := dk_42 (dk_at dksX0_set_0 10 rfl rfl)
theorem dX0_set_11 : decode cX0_set 11 = .ok (.iload_n 1, 1) := dk_27 (dk_at dksX0_set_0 11 rfl rfl)
theorem dX0_set_12 : decode cX0_set 12 = .ok (.invokevirtual 110, 3) := dk_182 0 110 (dk_at dksX0_set_0 12 rfl rfl)
theorem dX0_set_15 : decode cX0_set 15 = .ok (.astore 4, 2) := dk_58 4 (dk_at dksX0_set_0 15 rfl rfl)
theorem dX0_set_17 : decode cX0_set 17 = .ok (.iload_n 2, 1) := dk_28 (dk_at dksX0_set_0 17 rfl rfl)
theorem dX0_set_18 : decode cX0_set 18 = .ok (.i2l, 1) := dk_133 (dk_at dksX0_set_0 18 rfl rfl)
theorem dX0_set_19 : decode cX0_set 19 = .ok (.lconst 0, 1) := dk_9 (dk_at dksX0_set_0 19 rfl rfl)
theorem dX0_set_20 : decode cX0_set 20 = .ok (.aload 4, 2) := dk_25 4 (dk_at dksX0_set_0 20 rfl rfl)
theorem dX0_set_22 : decode cX0_set 22 = .ok (.getfield 114, 3) := dk_180 0 114 (dk_at dksX0_set_1 0 rfl rfl)
theorem dX0_set_25 : decode cX0_set 25 = .ok (.arraylength, 1) := dk_190 (dk_at dksX0_set_1 3 rfl rfl)
theorem dX0_set_26 : decode cX0_set 26 = .ok (.iconst 1, 1) := dk_4 (dk_at dksX0_set_1 4 rfl rfl)
theorem dX0_set_27 : decode cX0_set 27 = .ok (.isub, 1) := dk_100 (dk_at dksX0_set_1 5 rfl rfl)
theorem dX0_set_28 : decode cX0_set 28 = .ok (.i2l, 1) := dk_133 (dk_at dksX0_set_1 6 rfl rfl)
theorem dX0_set_29 : decode cX0_set 29 = .ok (.invokestatic 85, 3) := dk_184 0 85 (dk_at dksX0_set_1 7 rfl rfl)
theorem dX0_set_32 : decode cX0_set 32 = .ok (.iconst 2, 1) := dk_5 (dk_at dksX0_set_1 10 rfl rfl)
theorem dX0_set_33 : decode cX0_set 33 = .ok (.invokestatic 89, 3) := dk_184 0 89 (dk_at dksX0_set_1 11 rfl rfl)
theorem dX0_set_36 : decode cX0_set 36 = .ok (.aload 4, 2) := dk_25 4 (dk_at dksX0_set_1 14 rfl rfl)
theorem dX0_set_38 : decode cX0_set 38 = .ok (.getfield 114, 3) := dk_180 0 114 (dk_at dksX0_set_1 16 rfl rfl)
theorem dX0_set_41 : decode cX0_set 41 = .ok (.iload_n 2, 1) := dk_28 (dk_at dksX0_set_1 19 rfl rfl)
theorem dX0_set_42 : decode cX0_set 42 = .ok (.aload 4, 2) := dk_25 4 (dk_at dksX0_set_1 20 rfl rfl)
theorem dX0_set_44 : decode cX0_set 44 = .ok (.iload_n 3, 1) := dk_29 (dk_at dksX0_set_1 22 rfl rfl)
theorem dX0_set_45 : decode cX0_set 45 = .ok (.invokevirtual 117, 3) := dk_182 0 117 (dk_at dksX0_set_2 0 rfl rfl)
theorem dX0_set_48 : decode cX0_set 48 = .ok (.iastore, 1) := dk_79 (dk_at dksX0_set_2 3 rfl rfl)
theorem dX0_set_49 : decode cX0_set 49 = .ok (.aload_n 0, 1) := dk_42 (dk_at dksX0_set_2 4 rfl rfl)
theorem dX0_set_50 : decode cX0_set 50 = .ok (.aload 4, 2) := dk_25 4 (dk_at dksX0_set_2 5 rfl rfl)
theorem dX0_set_52 : decode cX0_set 52 = .ok (.getfield 114, 3) := dk_180 0 114 (dk_at dksX0_set_2 7 rfl rfl)
theorem dX0_set_55 : decode cX0_set 55 = .ok (.iload_n 2, 1) := dk_28 (dk_at dksX0_set_2 10 rfl rfl)
theorem dX0_set_56 : decode cX0_set 56 = .ok (.iaload, 1) := dk_46 (dk_at dksX0_set_2 11 rfl rfl)
theorem dX0_set_57 : decode cX0_set 57 = .ok (.invokevirtual 103, 3) := dk_182 0 103 (dk_at dksX0_set_2 12 rfl rfl)
theorem dX0_set_60 : decode cX0_set 60 = .ok (.ireturn, 1) := dk_172 (dk_at dksX0_set_2 15 rfl rfl)
theorem dX0_set_61 : decode cX0_set 61 = .ok (.astore 4, 2) := dk_58 4 (dk_at dksX0_set_2 16 rfl rfl)
theorem dX0_set_63 : decode cX0_set 63 = .ok (.aload_n 0, 1) := dk_42 (dk_at dksX0_set_2 18 rfl rfl)
theorem dX0_set_64 : decode cX0_set 64 = .ok (.aload 4, 2) := dk_25 4 (dk_at dksX0_set_2 19 rfl rfl)
theorem dX0_set_66 : decode cX0_set 66 = .ok (.invokevirtual 106, 3) := dk_182 0 106 (dk_at dksX0_set_2 21 rfl rfl)
theorem dX0_set_69 : decode cX0_set 69 = .ok (.ireturn, 1) := dk_172 (dk_at dksX0_set_3 0 rfl rfl)
abbrev cX0_rowAt : ByteArray := prog_1_method_10_code
def yX0_rowAt : MethodName := ⟨RX0, "rowAt", "(I)LNightStones$Row;"⟩
def dkwX0_rowAt_1 : List UInt8 := [176]
abbrev dktX0_rowAt_1 : List UInt8 := dkwX0_rowAt_1 ++ []
def dkwX0_rowAt_0 : List UInt8 := [42, 180, 0, 34, 27, 50, 198, 0, 7, 4, 167, 0, 4, 3, 4, 184, 0, 89, 42, 180, 0, 34, 27, 50]
abbrev dktX0_rowAt_0 : List UInt8 := dkwX0_rowAt_0 ++ dktX0_rowAt_1
theorem dksX0_rowAt_0 : cX0_rowAt.data.toList.drop 0 = dktX0_rowAt_0 := by decide +kernel
theorem dksX0_rowAt_1 : cX0_rowAt.data.toList.drop 24 = dktX0_rowAt_1 := dk_seg dksX0_rowAt_0 24 rfl rfl
theorem dX0_rowAt_0 : decode cX0_rowAt 0 = .ok (.aload_n 0, 1) := dk_42 (dk_at dksX0_rowAt_0 0 rfl rfl)
theorem dX0_rowAt_1 : decode cX0_rowAt 1 = .ok (.getfield 34, 3) := dk_180 0 34 (dk_at dksX0_rowAt_0 1 rfl rfl)
theorem dX0_rowAt_4 : decode cX0_rowAt 4 = .ok (.iload_n 1, 1) := dk_27 (dk_at dksX0_rowAt_0 4 rfl rfl)
theorem dX0_rowAt_5 : decode cX0_rowAt 5 = .ok (.aaload, 1) := dk_50 (dk_at dksX0_rowAt_0 5 rfl rfl)
theorem dX0_rowAt_6 : decode cX0_rowAt 6 = .ok (.ifnull 7, 3) := dk_198 0 7 (dk_at dksX0_rowAt_0 6 rfl rfl)
theorem dX0_rowAt_9 : decode cX0_rowAt 9 = .ok (.iconst 1, 1) := dk_4 (dk_at dksX0_rowAt_0 9 rfl rfl)
theorem dX0_rowAt_10 : decode cX0_rowAt 10 = .ok (.goto 4, 3) := dk_167 0 4 (dk_at dksX0_rowAt_0 10 rfl rfl)
theorem dX0_rowAt_13 : decode cX0_rowAt 13 = .ok (.iconst 0, 1) := dk_3 (dk_at dksX0_rowAt_0 13 rfl rfl)
theorem dX0_rowAt_14 : decode cX0_rowAt 14 = .ok (.iconst 1, 1) := dk_4 (dk_at dksX0_rowAt_0 14 rfl rfl)
theorem dX0_rowAt_15 : decode cX0_rowAt 15 = .ok (.invokestatic 89, 3) := dk_184 0 89 (dk_at dksX0_rowAt_0 15 rfl rfl)
theorem dX0_rowAt_18 : decode cX0_rowAt 18 = .ok (.aload_n 0, 1) := dk_42 (dk_at dksX0_rowAt_0 18 rfl rfl)
theorem dX0_rowAt_19 : decode cX0_rowAt 19 = .ok (.getfield 34, 3) := dk_180 0 34 (dk_at dksX0_rowAt_0 19 rfl rfl)
theorem dX0_rowAt_22 : decode cX0_rowAt 22 = .ok (.iload_n 1, 1) := dk_27 (dk_at dksX0_rowAt_0 22 rfl rfl)
theorem dX0_rowAt_23 : decode cX0_rowAt 23 = .ok (.aaload, 1) := dk_50 (dk_at dksX0_rowAt_0 23 rfl rfl)
theorem dX0_rowAt_24 : decode cX0_rowAt 24 = .ok (.areturn, 1) := dk_176 (dk_at dksX0_rowAt_1 0 rfl rfl)
abbrev cX0_copy : ByteArray := prog_1_method_13_code
def yX0_copy : MethodName := ⟨RX0, "copy", "(IIIII)I"⟩
def dkwX0_copy_4 : List UInt8 := [25, 6, 182, 0, 106, 172]
abbrev dktX0_copy_4 : List UInt8 := dkwX0_copy_4 ++ []
def dkwX0_copy_3 : List UInt8 := [167, 0, 14, 58, 8, 187, 0, 71, 89, 5, 183, 0, 80, 191, 42, 21, 5, 182, 0, 103, 172, 58, 6, 42]
abbrev dktX0_copy_3 : List UInt8 := dkwX0_copy_3 ++ dktX0_copy_4
def dkwX0_copy_2 : List UInt8 := [3, 8, 184, 0, 89, 25, 6, 180, 0, 114, 28, 25, 7, 180, 0, 114, 21, 4, 21, 5, 184, 0, 123]
abbrev dktX0_copy_2 : List UInt8 := dkwX0_copy_2 ++ dktX0_copy_3
def dkwX0_copy_1 : List UInt8 := [42, 29, 182, 0, 110, 58, 7, 25, 6, 180, 0, 120, 25, 7, 180, 0, 120, 160, 0, 7, 4, 167, 0, 4]
abbrev dktX0_copy_1 : List UInt8 := dkwX0_copy_1 ++ dktX0_copy_2
def dkwX0_copy_0 : List UInt8 := [27, 184, 0, 93, 153, 0, 10, 29, 184, 0, 93, 154, 0, 6, 18, 99, 172, 42, 27, 182, 0, 110, 58, 6]
abbrev dktX0_copy_0 : List UInt8 := dkwX0_copy_0 ++ dktX0_copy_1
theorem dksX0_copy_0 : cX0_copy.data.toList.drop 0 = dktX0_copy_0 := by decide +kernel
theorem dksX0_copy_1 : cX0_copy.data.toList.drop 24 = dktX0_copy_1 := dk_seg dksX0_copy_0 24 rfl rfl
theorem dksX0_copy_2 : cX0_copy.data.toList.drop 48 = dktX0_copy_2 := dk_seg dksX0_copy_1 24 rfl rfl
theorem dksX0_copy_3 : cX0_copy.data.toList.drop 71 = dktX0_copy_3 := dk_seg dksX0_copy_2 23 rfl rfl
theorem dksX0_copy_4 : cX0_copy.data.toList.drop 95 = dktX0_copy_4 := dk_seg dksX0_copy_3 24 rfl rfl
theorem dX0_copy_0 : decode cX0_copy 0 = .ok (.iload_n 1, 1) := dk_27 (dk_at dksX0_copy_0 0 rfl rfl)
theorem dX0_copy_1 : decode cX0_copy 1 = .ok (.invokestatic 93, 3) := dk_184 0 93 (dk_at dksX0_copy_0 1 rfl rfl)
theorem dX0_copy_4 : decode cX0_copy 4 = .ok (.ifCond .eq 10, 3) := dk_153 0 10 (dk_at dksX0_copy_0 4 rfl rfl)
theorem dX0_copy_7 : decode cX0_copy 7 = .ok (.iload_n 3, 1) := dk_29 (dk_at dksX0_copy_0 7 rfl rfl)
theorem dX0_copy_8 : decode cX0_copy 8 = .ok (.invokestatic 93, 3) := dk_184 0 93 (dk_at dksX0_copy_0 8 rfl rfl)
theorem dX0_copy_11 : decode cX0_copy 11 = .ok (.ifCond .ne 6, 3) := dk_154 0 6 (dk_at dksX0_copy_0 11 rfl rfl)
theorem dX0_copy_14 : decode cX0_copy 14 = .ok (.ldc 99, 2) := dk_18 99 (dk_at dksX0_copy_0 14 rfl rfl)
theorem dX0_copy_16 : decode cX0_copy 16 = .ok (.ireturn, 1) := dk_172 (dk_at dksX0_copy_0 16 rfl rfl)
theorem dX0_copy_17 : decode cX0_copy 17 = .ok (.aload_n 0, 1) := dk_42 (dk_at dksX0_copy_0 17 rfl rfl)
theorem dX0_copy_18 : decode cX0_copy 18 = .ok (.iload_n 1, 1) := dk_27 (dk_at dksX0_copy_0 18 rfl rfl)
theorem dX0_copy_19 : decode cX0_copy 19 = .ok (.invokevirtual 110, 3) := dk_182 0 110 (dk_at dksX0_copy_0 19 rfl rfl)
theorem dX0_copy_22 : decode cX0_copy 22 = .ok (.astore 6, 2) := dk_58 6 (dk_at dksX0_copy_0 22 rfl rfl)
theorem dX0_copy_24 : decode cX0_copy 24 = .ok (.aload_n 0, 1) := dk_42 (dk_at dksX0_copy_1 0 rfl rfl)
theorem dX0_copy_25 : decode cX0_copy 25 = .ok (.iload_n 3, 1) := dk_29 (dk_at dksX0_copy_1 1 rfl rfl)
theorem dX0_copy_26 : decode cX0_copy 26 = .ok (.invokevirtual 110, 3) := dk_182 0 110 (dk_at dksX0_copy_1 2 rfl rfl)
theorem dX0_copy_29 : decode cX0_copy 29 = .ok (.astore 7, 2) := dk_58 7 (dk_at dksX0_copy_1 5 rfl rfl)
theorem dX0_copy_31 : decode cX0_copy 31 = .ok (.aload 6, 2) := dk_25 6 (dk_at dksX0_copy_1 7 rfl rfl)
theorem dX0_copy_33 : decode cX0_copy 33 = .ok (.getfield 120, 3) := dk_180 0 120 (dk_at dksX0_copy_1 9 rfl rfl)
theorem dX0_copy_36 : decode cX0_copy 36 = .ok (.aload 7, 2) := dk_25 7 (dk_at dksX0_copy_1 12 rfl rfl)
theorem dX0_copy_38 : decode cX0_copy 38 = .ok (.getfield 120, 3) := dk_180 0 120 (dk_at dksX0_copy_1 14 rfl rfl)
theorem dX0_copy_41 : decode cX0_copy 41 = .ok (.if_icmp .ne 7, 3) := dk_160 0 7 (dk_at dksX0_copy_1 17 rfl rfl)
theorem dX0_copy_44 : decode cX0_copy 44 = .ok (.iconst 1, 1) := dk_4 (dk_at dksX0_copy_1 20 rfl rfl)
theorem dX0_copy_45 : decode cX0_copy 45 = .ok (.goto 4, 3) := dk_167 0 4 (dk_at dksX0_copy_1 21 rfl rfl)
theorem dX0_copy_48 : decode cX0_copy 48 = .ok (.iconst 0, 1) := dk_3 (dk_at dksX0_copy_2 0 rfl rfl)
theorem dX0_copy_49 : decode cX0_copy 49 = .ok (.iconst 5, 1) := dk_8 (dk_at dksX0_copy_2 1 rfl rfl)
theorem dX0_copy_50 : decode cX0_copy 50 = .ok (.invokestatic 89, 3) := dk_184 0 89 (dk_at dksX0_copy_2 2 rfl rfl)
theorem dX0_copy_53 : decode cX0_copy 53 = .ok (.aload 6, 2) := dk_25 6 (dk_at dksX0_copy_2 5 rfl rfl)
theorem dX0_copy_55 : decode cX0_copy 55 = .ok (.getfield 114, 3) := dk_180 0 114 (dk_at dksX0_copy_2 7 rfl rfl)
theorem dX0_copy_58 : decode cX0_copy 58 = .ok (.iload_n 2, 1) := dk_28 (dk_at dksX0_copy_2 10 rfl rfl)
theorem dX0_copy_59 : decode cX0_copy 59 = .ok (.aload 7, 2) := dk_25 7 (dk_at dksX0_copy_2 11 rfl rfl)
theorem dX0_copy_61 : decode cX0_copy 61 = .ok (.getfield 114, 3) := dk_180 0 114 (dk_at dksX0_copy_2 13 rfl rfl)
theorem dX0_copy_64 : decode cX0_copy 64 = .ok (.iload 4, 2) := dk_21 4 (dk_at dksX0_copy_2 16 rfl rfl)
theorem dX0_copy_66 : decode cX0_copy 66 = .ok (.iload 5, 2) := dk_21 5 (dk_at dksX0_copy_2 18 rfl rfl)
theorem dX0_copy_68 : decode cX0_copy 68 = .ok (.invokestatic 123, 3) := dk_184 0 123 (dk_at dksX0_copy_2 20 rfl rfl)
theorem dX0_copy_71 : decode cX0_copy 71 = .ok (.goto 14, 3) := dk_167 0 14 (dk_at dksX0_copy_3 0 rfl rfl)
theorem dX0_copy_74 : decode cX0_copy 74 = .ok (.astore 8, 2) := dk_58 8 (dk_at dksX0_copy_3 3 rfl rfl)
theorem dX0_copy_76 : decode cX0_copy 76 = .ok (.new 71, 3) := dk_187 0 71 (dk_at dksX0_copy_3 5 rfl rfl)
theorem dX0_copy_79 : decode cX0_copy 79 = .ok (.dup, 1) := dk_89 (dk_at dksX0_copy_3 8 rfl rfl)
theorem dX0_copy_80 : decode cX0_copy 80 = .ok (.iconst 2, 1) := dk_5 (dk_at dksX0_copy_3 9 rfl rfl)
theorem dX0_copy_81 : decode cX0_copy 81 = .ok (.invokespecial 80, 3) := dk_183 0 80 (dk_at dksX0_copy_3 10 rfl rfl)
theorem dX0_copy_84 : decode cX0_copy 84 = .ok (.athrow, 1) := dk_191 (dk_at dksX0_copy_3 13 rfl rfl)
theorem dX0_copy_85 : decode cX0_copy 85 = .ok (.aload_n 0, 1) := dk_42 (dk_at dksX0_copy_3 14 rfl rfl)
theorem dX0_copy_86 : decode cX0_copy 86 = .ok (.iload 5, 2) := dk_21 5 (dk_at dksX0_copy_3 15 rfl rfl)
theorem dX0_copy_88 : decode cX0_copy 88 = .ok (.invokevirtual 103, 3) := dk_182 0 103 (dk_at dksX0_copy_3 17 rfl rfl)
theorem dX0_copy_91 : decode cX0_copy 91 = .ok (.ireturn, 1) := dk_172 (dk_at dksX0_copy_3 20 rfl rfl)
theorem dX0_copy_92 : decode cX0_copy 92 = .ok (.astore 6, 2) := dk_58 6 (dk_at dksX0_copy_3 21 rfl rfl)
theorem dX0_copy_94 : decode cX0_copy 94 = .ok (.aload_n 0, 1) := dk_42 (dk_at dksX0_copy_3 23 rfl rfl)
theorem dX0_copy_95 : decode cX0_copy 95 = .ok (.aload 6, 2) := dk_25 6 (dk_at dksX0_copy_4 0 rfl rfl)
theorem dX0_copy_97 : decode cX0_copy 97 = .ok (.invokevirtual 106, 3) := dk_182 0 106 (dk_at dksX0_copy_4 2 rfl rfl)
theorem dX0_copy_100 : decode cX0_copy 100 = .ok (.ireturn, 1) := dk_172 (dk_at dksX0_copy_4 5 rfl rfl)
abbrev cX0_drop : ByteArray := prog_1_method_14_code
def yX0_drop : MethodName := ⟨RX0, "drop", "(I)I"⟩
def dkwX0_drop_1 : List UInt8 := [27, 1, 83, 42, 28, 182, 0, 103, 172, 77, 42, 44, 182, 0, 106, 172]
abbrev dktX0_drop_1 : List UInt8 := dkwX0_drop_1 ++ []
def dkwX0_drop_0 : List UInt8 := [27, 184, 0, 93, 154, 0, 6, 18, 99, 172, 42, 27, 182, 0, 110, 180, 0, 114, 190, 61, 42, 180, 0, 34]
abbrev dktX0_drop_0 : List UInt8 := dkwX0_drop_0 ++ dktX0_drop_1
theorem dksX0_drop_0 : cX0_drop.data.toList.drop 0 = dktX0_drop_0 := by decide +kernel
theorem dksX0_drop_1 : cX0_drop.data.toList.drop 24 = dktX0_drop_1 := dk_seg dksX0_drop_0 24 rfl rfl
theorem dX0_drop_0 : decode cX0_drop 0 = .ok (.iload_n 1, 1) := dk_27 (dk_at dksX0_drop_0 0 rfl rfl)
theorem dX0_drop_1 : decode cX0_drop 1 = .ok (.invokestatic 93, 3) := dk_184 0 93 (dk_at dksX0_drop_0 1 rfl rfl)
theorem dX0_drop_4 : decode cX0_drop 4 = .ok (.ifCond .ne 6, 3) := dk_154 0 6 (dk_at dksX0_drop_0 4 rfl rfl)
theorem dX0_drop_7 : decode cX0_drop 7 = .ok (.ldc 99, 2) := dk_18 99 (dk_at dksX0_drop_0 7 rfl rfl)
theorem dX0_drop_9 : decode cX0_drop 9 = .ok (.ireturn, 1) := dk_172 (dk_at dksX0_drop_0 9 rfl rfl)
theorem dX0_drop_10 : decode cX0_drop 10 = .ok (.aload_n 0, 1) := dk_42 (dk_at dksX0_drop_0 10 rfl rfl)
theorem dX0_drop_11 : decode cX0_drop 11 = .ok (.iload_n 1, 1) := dk_27 (dk_at dksX0_drop_0 11 rfl rfl)
theorem dX0_drop_12 : decode cX0_drop 12 = .ok (.invokevirtual 110, 3) := dk_182 0 110 (dk_at dksX0_drop_0 12 rfl rfl)
theorem dX0_drop_15 : decode cX0_drop 15 = .ok (.getfield 114, 3) := dk_180 0 114 (dk_at dksX0_drop_0 15 rfl rfl)
theorem dX0_drop_18 : decode cX0_drop 18 = .ok (.arraylength, 1) := dk_190 (dk_at dksX0_drop_0 18 rfl rfl)
theorem dX0_drop_19 : decode cX0_drop 19 = .ok (.istore_n 2, 1) := dk_61 (dk_at dksX0_drop_0 19 rfl rfl)
theorem dX0_drop_20 : decode cX0_drop 20 = .ok (.aload_n 0, 1) := dk_42 (dk_at dksX0_drop_0 20 rfl rfl)
theorem dX0_drop_21 : decode cX0_drop 21 = .ok (.getfield 34, 3) := dk_180 0 34 (dk_at dksX0_drop_0 21 rfl rfl)
theorem dX0_drop_24 : decode cX0_drop 24 = .ok (.iload_n 1, 1) := dk_27 (dk_at dksX0_drop_1 0 rfl rfl)
theorem dX0_drop_25 : decode cX0_drop 25 = .ok (.aconst_null, 1) := dk_1 (dk_at dksX0_drop_1 1 rfl rfl)
theorem dX0_drop_26 : decode cX0_drop 26 = .ok (.aastore, 1) := dk_83 (dk_at dksX0_drop_1 2 rfl rfl)
theorem dX0_drop_27 : decode cX0_drop 27 = .ok (.aload_n 0, 1) := dk_42 (dk_at dksX0_drop_1 3 rfl rfl)
theorem dX0_drop_28 : decode cX0_drop 28 = .ok (.iload_n 2, 1) := dk_28 (dk_at dksX0_drop_1 4 rfl rfl)
theorem dX0_drop_29 : decode cX0_drop 29 = .ok (.invokevirtual 103, 3) := dk_182 0 103 (dk_at dksX0_drop_1 5 rfl rfl)
theorem dX0_drop_32 : decode cX0_drop 32 = .ok (.ireturn, 1) := dk_172 (dk_at dksX0_drop_1 8 rfl rfl)
theorem dX0_drop_33 : decode cX0_drop 33 = .ok (.astore_n 2, 1) := dk_77 (dk_at dksX0_drop_1 9 rfl rfl)
theorem dX0_drop_34 : decode cX0_drop 34 = .ok (.aload_n 0, 1) := dk_42 (dk_at dksX0_drop_1 10 rfl rfl)
theorem dX0_drop_35 : decode cX0_drop 35 = .ok (.aload_n 2, 1) := dk_44 (dk_at dksX0_drop_1 11 rfl rfl)
theorem dX0_drop_36 : decode cX0_drop 36 = .ok (.invokevirtual 106, 3) := dk_182 0 106 (dk_at dksX0_drop_1 12 rfl rfl)
theorem dX0_drop_39 : decode cX0_drop 39 = .ok (.ireturn, 1) := dk_172 (dk_at dksX0_drop_1 15 rfl rfl)
abbrev cX0_feed : ByteArray := prog_1_method_15_code
def yX0_feed : MethodName := ⟨RX0, "feed", "(JI)I"⟩
def dkwX0_feed_3 : List UInt8 := [167, 255, 223, 42, 180, 0, 133, 172]
abbrev dktX0_feed_3 : List UInt8 := dkwX0_feed_3 ++ []
def dkwX0_feed_2 : List UInt8 := [180, 0, 133, 90, 4, 96, 181, 0, 133, 31, 16, 8, 21, 4, 104, 123, 136, 145, 84, 132, 4, 255]
abbrev dktX0_feed_2 : List UInt8 := dkwX0_feed_2 ++ dktX0_feed_3
def dkwX0_feed_1 : List UInt8 := [164, 0, 6, 18, 136, 172, 29, 4, 100, 54, 4, 21, 4, 155, 0, 34, 42, 180, 0, 38, 42, 89]
abbrev dktX0_feed_1 : List UInt8 := dkwX0_feed_1 ++ dktX0_feed_2
def dkwX0_feed_0 : List UInt8 := [29, 133, 10, 20, 0, 131, 184, 0, 85, 154, 0, 6, 18, 99, 172, 42, 180, 0, 133, 29, 96, 17, 1, 144]
abbrev dktX0_feed_0 : List UInt8 := dkwX0_feed_0 ++ dktX0_feed_1
theorem dksX0_feed_0 : cX0_feed.data.toList.drop 0 = dktX0_feed_0 := by decide +kernel
theorem dksX0_feed_1 : cX0_feed.data.toList.drop 24 = dktX0_feed_1 := dk_seg dksX0_feed_0 24 rfl rfl
theorem dksX0_feed_2 : cX0_feed.data.toList.drop 46 = dktX0_feed_2 := dk_seg dksX0_feed_1 22 rfl rfl
theorem dksX0_feed_3 : cX0_feed.data.toList.drop 68 = dktX0_feed_3 := dk_seg dksX0_feed_2 22 rfl rfl
theorem dX0_feed_0 : decode cX0_feed 0 = .ok (.iload_n 3, 1) := dk_29 (dk_at dksX0_feed_0 0 rfl rfl)
theorem dX0_feed_1 : decode cX0_feed 1 = .ok (.i2l, 1) := dk_133 (dk_at dksX0_feed_0 1 rfl rfl)
theorem dX0_feed_2 : decode cX0_feed 2 = .ok (.lconst 1, 1) := dk_10 (dk_at dksX0_feed_0 2 rfl rfl)
theorem dX0_feed_3 : decode cX0_feed 3 = .ok (.ldc2_w 131, 3) := dk_20 0 131 (dk_at dksX0_feed_0 3 rfl rfl)
theorem dX0_feed_6 : decode cX0_feed 6 = .ok (.invokestatic 85, 3) := dk_184 0 85 (dk_at dksX0_feed_0 6 rfl rfl)
theorem dX0_feed_9 : decode cX0_feed 9 = .ok (.ifCond .ne 6, 3) := dk_154 0 6 (dk_at dksX0_feed_0 9 rfl rfl)
theorem dX0_feed_12 : decode cX0_feed 12 = .ok (.ldc 99, 2) := dk_18 99 (dk_at dksX0_feed_0 12 rfl rfl)
theorem dX0_feed_14 : decode cX0_feed 14 = .ok (.ireturn, 1) := dk_172 (dk_at dksX0_feed_0 14 rfl rfl)
theorem dX0_feed_15 : decode cX0_feed 15 = .ok (.aload_n 0, 1) := dk_42 (dk_at dksX0_feed_0 15 rfl rfl)
theorem dX0_feed_16 : decode cX0_feed 16 = .ok (.getfield 133, 3) := dk_180 0 133 (dk_at dksX0_feed_0 16 rfl rfl)
theorem dX0_feed_19 : decode cX0_feed 19 = .ok (.iload_n 3, 1) := dk_29 (dk_at dksX0_feed_0 19 rfl rfl)
theorem dX0_feed_20 : decode cX0_feed 20 = .ok (.iadd, 1) := dk_96 (dk_at dksX0_feed_0 20 rfl rfl)
theorem dX0_feed_21 : decode cX0_feed 21 = .ok (.sipush 400, 3) := dk_17 1 144 (dk_at dksX0_feed_0 21 rfl rfl)
theorem dX0_feed_24 : decode cX0_feed 24 = .ok (.if_icmp .le 6, 3) := dk_164 0 6 (dk_at dksX0_feed_1 0 rfl rfl)
theorem dX0_feed_27 : decode cX0_feed 27 = .ok (.ldc 136, 2) := dk_18 136 (dk_at dksX0_feed_1 3 rfl rfl)
theorem dX0_feed_29 : decode cX0_feed 29 = .ok (.ireturn, 1) := dk_172 (dk_at dksX0_feed_1 5 rfl rfl)
theorem dX0_feed_30 : decode cX0_feed 30 = .ok (.iload_n 3, 1) := dk_29 (dk_at dksX0_feed_1 6 rfl rfl)
theorem dX0_feed_31 : decode cX0_feed 31 = .ok (.iconst 1, 1) := dk_4 (dk_at dksX0_feed_1 7 rfl rfl)
theorem dX0_feed_32 : decode cX0_feed 32 = .ok (.isub, 1) := dk_100 (dk_at dksX0_feed_1 8 rfl rfl)
theorem dX0_feed_33 : decode cX0_feed 33 = .ok (.istore 4, 2) := dk_54 4 (dk_at dksX0_feed_1 9 rfl rfl)
theorem dX0_feed_35 : decode cX0_feed 35 = .ok (.iload 4, 2) := dk_21 4 (dk_at dksX0_feed_1 11 rfl rfl)
theorem dX0_feed_37 : decode cX0_feed 37 = .ok (.ifCond .lt 34, 3) := dk_155 0 34 (dk_at dksX0_feed_1 13 rfl rfl)
theorem dX0_feed_40 : decode cX0_feed 40 = .ok (.aload_n 0, 1) := dk_42 (dk_at dksX0_feed_1 16 rfl rfl)
theorem dX0_feed_41 : decode cX0_feed 41 = .ok (.getfield 38, 3) := dk_180 0 38 (dk_at dksX0_feed_1 17 rfl rfl)
theorem dX0_feed_44 : decode cX0_feed 44 = .ok (.aload_n 0, 1) := dk_42 (dk_at dksX0_feed_1 20 rfl rfl)
theorem dX0_feed_45 : decode cX0_feed 45 = .ok (.dup, 1) := dk_89 (dk_at dksX0_feed_1 21 rfl rfl)
theorem dX0_feed_46 : decode cX0_feed 46 = .ok (.getfield 133, 3) := dk_180 0 133 (dk_at dksX0_feed_2 0 rfl rfl)
theorem dX0_feed_49 : decode cX0_feed 49 = .ok (.dup_x1, 1) := dk_90 (dk_at dksX0_feed_2 3 rfl rfl)
theorem dX0_feed_50 : decode cX0_feed 50 = .ok (.iconst 1, 1) := dk_4 (dk_at dksX0_feed_2 4 rfl rfl)
theorem dX0_feed_51 : decode cX0_feed 51 = .ok (.iadd, 1) := dk_96 (dk_at dksX0_feed_2 5 rfl rfl)
theorem dX0_feed_52 : decode cX0_feed 52 = .ok (.putfield 133, 3) := dk_181 0 133 (dk_at dksX0_feed_2 6 rfl rfl)
theorem dX0_feed_55 : decode cX0_feed 55 = .ok (.lload_n 1, 1) := dk_31 (dk_at dksX0_feed_2 9 rfl rfl)
theorem dX0_feed_56 : decode cX0_feed 56 = .ok (.bipush 8, 2) := dk_16 8 (dk_at dksX0_feed_2 10 rfl rfl)
theorem dX0_feed_58 : decode cX0_feed 58 = .ok (.iload 4, 2) := dk_21 4 (dk_at dksX0_feed_2 12 rfl rfl)
theorem dX0_feed_60 : decode cX0_feed 60 = .ok (.imul, 1) := dk_104 (dk_at dksX0_feed_2 14 rfl rfl)
theorem dX0_feed_61 : decode cX0_feed 61 = .ok (.lshr, 1) := dk_123 (dk_at dksX0_feed_2 15 rfl rfl)
theorem dX0_feed_62 : decode cX0_feed 62 = .ok (.l2i, 1) := dk_136 (dk_at dksX0_feed_2 16 rfl rfl)
theorem dX0_feed_63 : decode cX0_feed 63 = .ok (.i2b, 1) := dk_145 (dk_at dksX0_feed_2 17 rfl rfl)
theorem dX0_feed_64 : decode cX0_feed 64 = .ok (.bastore, 1) := dk_84 (dk_at dksX0_feed_2 18 rfl rfl)
theorem dX0_feed_65 : decode cX0_feed 65 = .ok (.iinc 4 (-1), 3) := dk_132 4 255 (dk_at dksX0_feed_2 19 rfl rfl)
theorem dX0_feed_68 : decode cX0_feed 68 = .ok (.goto (-33), 3) := dk_167 255 223 (dk_at dksX0_feed_3 0 rfl rfl)
theorem dX0_feed_71 : decode cX0_feed 71 = .ok (.aload_n 0, 1) := dk_42 (dk_at dksX0_feed_3 3 rfl rfl)
theorem dX0_feed_72 : decode cX0_feed 72 = .ok (.getfield 133, 3) := dk_180 0 133 (dk_at dksX0_feed_3 4 rfl rfl)
theorem dX0_feed_75 : decode cX0_feed 75 = .ok (.ireturn, 1) := dk_172 (dk_at dksX0_feed_3 7 rfl rfl)
abbrev cX0_road : ByteArray := prog_1_method_16_code
def yX0_road : MethodName := ⟨RX0, "road", "()I"⟩
def dkwX0_road_2 : List UInt8 := [180, 0, 45, 43, 180, 0, 157, 182, 0, 160, 87, 42, 3, 181, 0, 164, 42, 180, 0, 45, 180, 0, 167, 172]
abbrev dktX0_road_2 : List UInt8 := dkwX0_road_2 ++ []
def dkwX0_road_1 : List UInt8 := [182, 0, 142, 167, 0, 20, 77, 42, 44, 180, 0, 147, 181, 0, 150, 18, 153, 44, 180, 0, 154, 100, 172, 42]
abbrev dktX0_road_1 : List UInt8 := dkwX0_road_1 ++ dktX0_road_2
def dkwX0_road_0 : List UInt8 := [187, 0, 137, 89, 42, 180, 0, 38, 42, 180, 0, 133, 183, 0, 139, 76, 42, 3, 181, 0, 133, 43]
abbrev dktX0_road_0 : List UInt8 := dkwX0_road_0 ++ dktX0_road_1
theorem dksX0_road_0 : cX0_road.data.toList.drop 0 = dktX0_road_0 := by decide +kernel
theorem dksX0_road_1 : cX0_road.data.toList.drop 22 = dktX0_road_1 := dk_seg dksX0_road_0 22 rfl rfl
theorem dksX0_road_2 : cX0_road.data.toList.drop 46 = dktX0_road_2 := dk_seg dksX0_road_1 24 rfl rfl
theorem dX0_road_0 : decode cX0_road 0 = .ok (.new 137, 3) := dk_187 0 137 (dk_at dksX0_road_0 0 rfl rfl)
theorem dX0_road_3 : decode cX0_road 3 = .ok (.dup, 1) := dk_89 (dk_at dksX0_road_0 3 rfl rfl)
theorem dX0_road_4 : decode cX0_road 4 = .ok (.aload_n 0, 1) := dk_42 (dk_at dksX0_road_0 4 rfl rfl)
theorem dX0_road_5 : decode cX0_road 5 = .ok (.getfield 38, 3) := dk_180 0 38 (dk_at dksX0_road_0 5 rfl rfl)
theorem dX0_road_8 : decode cX0_road 8 = .ok (.aload_n 0, 1) := dk_42 (dk_at dksX0_road_0 8 rfl rfl)
theorem dX0_road_9 : decode cX0_road 9 = .ok (.getfield 133, 3) := dk_180 0 133 (dk_at dksX0_road_0 9 rfl rfl)
theorem dX0_road_12 : decode cX0_road 12 = .ok (.invokespecial 139, 3) := dk_183 0 139 (dk_at dksX0_road_0 12 rfl rfl)
theorem dX0_road_15 : decode cX0_road 15 = .ok (.astore_n 1, 1) := dk_76 (dk_at dksX0_road_0 15 rfl rfl)
theorem dX0_road_16 : decode cX0_road 16 = .ok (.aload_n 0, 1) := dk_42 (dk_at dksX0_road_0 16 rfl rfl)
theorem dX0_road_17 : decode cX0_road 17 = .ok (.iconst 0, 1) := dk_3 (dk_at dksX0_road_0 17 rfl rfl)
theorem dX0_road_18 : decode cX0_road 18 = .ok (.putfield 133, 3) := dk_181 0 133 (dk_at dksX0_road_0 18 rfl rfl)
theorem dX0_road_21 : decode cX0_road 21 = .ok (.aload_n 1, 1) := dk_43 (dk_at dksX0_road_0 21 rfl rfl)
theorem dX0_road_22 : decode cX0_road 22 = .ok (.invokevirtual 142, 3) := dk_182 0 142 (dk_at dksX0_road_1 0 rfl rfl)
theorem dX0_road_25 : decode cX0_road 25 = .ok (.goto 20, 3) := dk_167 0 20 (dk_at dksX0_road_1 3 rfl rfl)
theorem dX0_road_28 : decode cX0_road 28 = .ok (.astore_n 2, 1) := dk_77 (dk_at dksX0_road_1 6 rfl rfl)
theorem dX0_road_29 : decode cX0_road 29 = .ok (.aload_n 0, 1) := dk_42 (dk_at dksX0_road_1 7 rfl rfl)
theorem dX0_road_30 : decode cX0_road 30 = .ok (.aload_n 2, 1) := dk_44 (dk_at dksX0_road_1 8 rfl rfl)
theorem dX0_road_31 : decode cX0_road 31 = .ok (.getfield 147, 3) := dk_180 0 147 (dk_at dksX0_road_1 9 rfl rfl)
theorem dX0_road_34 : decode cX0_road 34 = .ok (.putfield 150, 3) := dk_181 0 150 (dk_at dksX0_road_1 12 rfl rfl)
theorem dX0_road_37 : decode cX0_road 37 = .ok (.ldc 153, 2) := dk_18 153 (dk_at dksX0_road_1 15 rfl rfl)
theorem dX0_road_39 : decode cX0_road 39 = .ok (.aload_n 2, 1) := dk_44 (dk_at dksX0_road_1 17 rfl rfl)
theorem dX0_road_40 : decode cX0_road 40 = .ok (.getfield 154, 3) := dk_180 0 154 (dk_at dksX0_road_1 18 rfl rfl)
theorem dX0_road_43 : decode cX0_road 43 = .ok (.isub, 1) := dk_100 (dk_at dksX0_road_1 21 rfl rfl)
theorem dX0_road_44 : decode cX0_road 44 = .ok (.ireturn, 1) := dk_172 (dk_at dksX0_road_1 22 rfl rfl)
theorem dX0_road_45 : decode cX0_road 45 = .ok (.aload_n 0, 1) := dk_42 (dk_at dksX0_road_1 23 rfl rfl)
theorem dX0_road_46 : decode cX0_road 46 = .ok (.getfield 45, 3) := dk_180 0 45 (dk_at dksX0_road_2 0 rfl rfl)
theorem dX0_road_49 : decode cX0_road 49 = .ok (.aload_n 1, 1) := dk_43 (dk_at dksX0_road_2 3 rfl rfl)
theorem dX0_road_50 : decode cX0_road 50 = .ok (.getfield 157, 3) := dk_180 0 157 (dk_at dksX0_road_2 4 rfl rfl)
theorem dX0_road_53 : decode cX0_road 53 = .ok (.invokevirtual 160, 3) := dk_182 0 160 (dk_at dksX0_road_2 7 rfl rfl)
theorem dX0_road_56 : decode cX0_road 56 = .ok (.pop, 1) := dk_87 (dk_at dksX0_road_2 10 rfl rfl)
theorem dX0_road_57 : decode cX0_road 57 = .ok (.aload_n 0, 1) := dk_42 (dk_at dksX0_road_2 11 rfl rfl)
theorem dX0_road_58 : decode cX0_road 58 = .ok (.iconst 0, 1) := dk_3 (dk_at dksX0_road_2 12 rfl rfl)
theorem dX0_road_59 : decode cX0_road 59 = .ok (.putfield 164, 3) := dk_181 0 164 (dk_at dksX0_road_2 13 rfl rfl)
theorem dX0_road_62 : decode cX0_road 62 = .ok (.aload_n 0, 1) := dk_42 (dk_at dksX0_road_2 16 rfl rfl)
theorem dX0_road_63 : decode cX0_road 63 = .ok (.getfield 45, 3) := dk_180 0 45 (dk_at dksX0_road_2 17 rfl rfl)
theorem dX0_road_66 : decode cX0_road 66 = .ok (.getfield 167, 3) := dk_180 0 167 (dk_at dksX0_road_2 20 rfl rfl)
theorem dX0_road_69 : decode cX0_road 69 = .ok (.ireturn, 1) := dk_172 (dk_at dksX0_road_2 23 rfl rfl)
abbrev cX0_moverBy : ByteArray := prog_1_method_4_code
def yX0_moverBy : MethodName := ⟨RX0, "moverBy", "(IIIZI)LNightStones$Mover;"⟩
def dkwX0_moverBy_4 : List UInt8 := [21, 4, 183, 0, 21, 176, 187, 0, 22, 89, 27, 28, 29, 21, 4, 183, 0, 24, 176]
abbrev dktX0_moverBy_4 : List UInt8 := dkwX0_moverBy_4 ++ []
def dkwX0_moverBy_3 : List UInt8 := [183, 0, 15, 176, 187, 0, 16, 89, 27, 28, 29, 21, 4, 183, 0, 18, 176, 187, 0, 19, 89, 27, 28, 29]
abbrev dktX0_moverBy_3 : List UInt8 := dkwX0_moverBy_3 ++ dktX0_moverBy_4
def dkwX0_moverBy_2 : List UInt8 := [187, 0, 7, 89, 27, 28, 29, 21, 4, 183, 0, 9, 176, 187, 0, 13, 89, 27, 28, 29, 21, 4]
abbrev dktX0_moverBy_2 : List UInt8 := dkwX0_moverBy_2 ++ dktX0_moverBy_3
def dkwX0_moverBy_1 : List UInt8 := [170, 0, 0, 0, 0, 0, 83, 0, 0, 0, 0, 0, 0, 0, 3, 0, 0, 0, 31, 0, 0, 0, 44, 0, 0, 0, 57, 0, 0, 0, 70]
abbrev dktX0_moverBy_1 : List UInt8 := dkwX0_moverBy_1 ++ dktX0_moverBy_2
def dkwX0_moverBy_0 : List UInt8 := [26]
abbrev dktX0_moverBy_0 : List UInt8 := dkwX0_moverBy_0 ++ dktX0_moverBy_1
theorem dksX0_moverBy_0 : cX0_moverBy.data.toList.drop 0 = dktX0_moverBy_0 := by decide +kernel
theorem dksX0_moverBy_1 : cX0_moverBy.data.toList.drop 1 = dktX0_moverBy_1 := dk_seg dksX0_moverBy_0 1 rfl rfl
theorem dksX0_moverBy_2 : cX0_moverBy.data.toList.drop 32 = dktX0_moverBy_2 := dk_seg dksX0_moverBy_1 31 rfl rfl
theorem dksX0_moverBy_3 : cX0_moverBy.data.toList.drop 54 = dktX0_moverBy_3 := dk_seg dksX0_moverBy_2 22 rfl rfl
theorem dksX0_moverBy_4 : cX0_moverBy.data.toList.drop 78 = dktX0_moverBy_4 := dk_seg dksX0_moverBy_3 24 rfl rfl
theorem dX0_moverBy_0 : decode cX0_moverBy 0 = .ok (.iload_n 0, 1) := dk_26 (dk_at dksX0_moverBy_0 0 rfl rfl)
theorem dX0_moverBy_1 : decode cX0_moverBy 1 = .ok (.tableswitch 83 0 3 #[31, 44, 57, 70], 31) := by decide +kernel
theorem dX0_moverBy_32 : decode cX0_moverBy 32 = .ok (.new 7, 3) := dk_187 0 7 (dk_at dksX0_moverBy_2 0 rfl rfl)
theorem dX0_moverBy_35 : decode cX0_moverBy 35 = .ok (.dup, 1) := dk_89 (dk_at dksX0_moverBy_2 3 rfl rfl)
theorem dX0_moverBy_36 : decode cX0_moverBy 36 = .ok (.iload_n 1, 1) := dk_27 (dk_at dksX0_moverBy_2 4 rfl rfl)
theorem dX0_moverBy_37 : decode cX0_moverBy 37 = .ok (.iload_n 2, 1) := dk_28 (dk_at dksX0_moverBy_2 5 rfl rfl)
theorem dX0_moverBy_38 : decode cX0_moverBy 38 = .ok (.iload_n 3, 1) := dk_29 (dk_at dksX0_moverBy_2 6 rfl rfl)
theorem dX0_moverBy_39 : decode cX0_moverBy 39 = .ok (.iload 4, 2) := dk_21 4 (dk_at dksX0_moverBy_2 7 rfl rfl)
theorem dX0_moverBy_41 : decode cX0_moverBy 41 = .ok (.invokespecial 9, 3) := dk_183 0 9 (dk_at dksX0_moverBy_2 9 rfl rfl)
theorem dX0_moverBy_44 : decode cX0_moverBy 44 = .ok (.areturn, 1) := dk_176 (dk_at dksX0_moverBy_2 12 rfl rfl)
theorem dX0_moverBy_45 : decode cX0_moverBy 45 = .ok (.new 13, 3) := dk_187 0 13 (dk_at dksX0_moverBy_2 13 rfl rfl)
theorem dX0_moverBy_48 : decode cX0_moverBy 48 = .ok (.dup, 1) := dk_89 (dk_at dksX0_moverBy_2 16 rfl rfl)
theorem dX0_moverBy_49 : decode cX0_moverBy 49 = .ok (.iload_n 1, 1) := dk_27 (dk_at dksX0_moverBy_2 17 rfl rfl)
theorem dX0_moverBy_50 : decode cX0_moverBy 50 = .ok (.iload_n 2, 1) := dk_28 (dk_at dksX0_moverBy_2 18 rfl rfl)
theorem dX0_moverBy_51 : decode cX0_moverBy 51 = .ok (.iload_n 3, 1) := dk_29 (dk_at dksX0_moverBy_2 19 rfl rfl)
theorem dX0_moverBy_52 : decode cX0_moverBy 52 = .ok (.iload 4, 2) := dk_21 4 (dk_at dksX0_moverBy_2 20 rfl rfl)
theorem dX0_moverBy_54 : decode cX0_moverBy 54 = .ok (.invokespecial 15, 3) := dk_183 0 15 (dk_at dksX0_moverBy_3 0 rfl rfl)
theorem dX0_moverBy_57 : decode cX0_moverBy 57 = .ok (.areturn, 1) := dk_176 (dk_at dksX0_moverBy_3 3 rfl rfl)
theorem dX0_moverBy_58 : decode cX0_moverBy 58 = .ok (.new 16, 3) := dk_187 0 16 (dk_at dksX0_moverBy_3 4 rfl rfl)
theorem dX0_moverBy_61 : decode cX0_moverBy 61 = .ok (.dup, 1) := dk_89 (dk_at dksX0_moverBy_3 7 rfl rfl)
theorem dX0_moverBy_62 : decode cX0_moverBy 62 = .ok (.iload_n 1, 1) := dk_27 (dk_at dksX0_moverBy_3 8 rfl rfl)
theorem dX0_moverBy_63 : decode cX0_moverBy 63 = .ok (.iload_n 2, 1) := dk_28 (dk_at dksX0_moverBy_3 9 rfl rfl)
theorem dX0_moverBy_64 : decode cX0_moverBy 64 = .ok (.iload_n 3, 1) := dk_29 (dk_at dksX0_moverBy_3 10 rfl rfl)
theorem dX0_moverBy_65 : decode cX0_moverBy 65 = .ok (.iload 4, 2) := dk_21 4 (dk_at dksX0_moverBy_3 11 rfl rfl)
theorem dX0_moverBy_67 : decode cX0_moverBy 67 = .ok (.invokespecial 18, 3) := dk_183 0 18 (dk_at dksX0_moverBy_3 13 rfl rfl)
theorem dX0_moverBy_70 : decode cX0_moverBy 70 = .ok (.areturn, 1) := dk_176 (dk_at dksX0_moverBy_3 16 rfl rfl)
theorem dX0_moverBy_71 : decode cX0_moverBy 71 = .ok (.new 19, 3) := dk_187 0 19 (dk_at dksX0_moverBy_3 17 rfl rfl)
theorem dX0_moverBy_74 : decode cX0_moverBy 74 = .ok (.dup, 1) := dk_89 (dk_at dksX0_moverBy_3 20 rfl rfl)
theorem dX0_moverBy_75 : decode cX0_moverBy 75 = .ok (.iload_n 1, 1) := dk_27 (dk_at dksX0_moverBy_3 21 rfl rfl)
theorem dX0_moverBy_76 : decode cX0_moverBy 76 = .ok (.iload_n 2, 1) := dk_28 (dk_at dksX0_moverBy_3 22 rfl rfl)
theorem dX0_moverBy_77 : decode cX0_moverBy 77 = .ok (.iload_n 3, 1) := dk_29 (dk_at dksX0_moverBy_3 23 rfl rfl)
theorem dX0_moverBy_78 : decode cX0_moverBy 78 = .ok (.iload 4, 2) := dk_21 4 (dk_at dksX0_moverBy_4 0 rfl rfl)
theorem dX0_moverBy_80 : decode cX0_moverBy 80 = .ok (.invokespecial 21, 3) := dk_183 0 21 (dk_at dksX0_moverBy_4 2 rfl rfl)
theorem dX0_moverBy_83 : decode cX0_moverBy 83 = .ok (.areturn, 1) := dk_176 (dk_at dksX0_moverBy_4 5 rfl rfl)
theorem dX0_moverBy_84 : decode cX0_moverBy 84 = .ok (.new 22, 3) := dk_187 0 22 (dk_at dksX0_moverBy_4 6 rfl rfl)
theorem dX0_moverBy_87 : decode cX0_moverBy 87 = .ok (.dup, 1) := dk_89 (dk_at dksX0_moverBy_4 9 rfl rfl)
theorem dX0_moverBy_88 : decode cX0_moverBy 88 = .ok (.iload_n 1, 1) := dk_27 (dk_at dksX0_moverBy_4 10 rfl rfl)
theorem dX0_moverBy_89 : decode cX0_moverBy 89 = .ok (.iload_n 2, 1) := dk_28 (dk_at dksX0_moverBy_4 11 rfl rfl)
theorem dX0_moverBy_90 : decode cX0_moverBy 90 = .ok (.iload_n 3, 1) := dk_29 (dk_at dksX0_moverBy_4 12 rfl rfl)
theorem dX0_moverBy_91 : decode cX0_moverBy 91 = .ok (.iload 4, 2) := dk_21 4 (dk_at dksX0_moverBy_4 13 rfl rfl)
theorem dX0_moverBy_93 : decode cX0_moverBy 93 = .ok (.invokespecial 24, 3) := dk_183 0 24 (dk_at dksX0_moverBy_4 15 rfl rfl)
theorem dX0_moverBy_96 : decode cX0_moverBy 96 = .ok (.areturn, 1) := dk_176 (dk_at dksX0_moverBy_4 18 rfl rfl)
abbrev cX0_fault : ByteArray := prog_1_method_17_code
def yX0_fault : MethodName := ⟨RX0, "fault", "()I"⟩
theorem dX0_fault_0 : decode cX0_fault 0 = .ok (.aload_n 0, 1) := by decide +kernel
theorem dX0_fault_1 : decode cX0_fault 1 = .ok (.getfield 150, 3) := by decide +kernel
theorem dX0_fault_4 : decode cX0_fault 4 = .ok (.ireturn, 1) := by decide +kernel
abbrev cX0_night : ByteArray := prog_1_method_23_code
def yX0_night : MethodName := ⟨RX0, "night", "()I"⟩
def dkwX0_night_1 : List UInt8 := [18, 136, 172, 42, 182, 0, 191, 42, 180, 0, 45, 42, 180, 0, 45, 182, 0, 194, 182, 0, 196, 172]
abbrev dktX0_night_1 : List UInt8 := dkwX0_night_1 ++ []
def dkwX0_night_0 : List UInt8 := [42, 182, 0, 183, 154, 0, 6, 18, 187, 172, 42, 180, 0, 45, 180, 0, 188, 17, 39, 15, 160, 0, 6]
abbrev dktX0_night_0 : List UInt8 := dkwX0_night_0 ++ dktX0_night_1
theorem dksX0_night_0 : cX0_night.data.toList.drop 0 = dktX0_night_0 := by decide +kernel
theorem dksX0_night_1 : cX0_night.data.toList.drop 23 = dktX0_night_1 := dk_seg dksX0_night_0 23 rfl rfl
theorem dX0_night_0 : decode cX0_night 0 = .ok (.aload_n 0, 1) := dk_42 (dk_at dksX0_night_0 0 rfl rfl)
theorem dX0_night_1 : decode cX0_night 1 = .ok (.invokevirtual 183, 3) := dk_182 0 183 (dk_at dksX0_night_0 1 rfl rfl)
theorem dX0_night_4 : decode cX0_night 4 = .ok (.ifCond .ne 6, 3) := dk_154 0 6 (dk_at dksX0_night_0 4 rfl rfl)
theorem dX0_night_7 : decode cX0_night 7 = .ok (.ldc 187, 2) := dk_18 187 (dk_at dksX0_night_0 7 rfl rfl)
theorem dX0_night_9 : decode cX0_night 9 = .ok (.ireturn, 1) := dk_172 (dk_at dksX0_night_0 9 rfl rfl)
theorem dX0_night_10 : decode cX0_night 10 = .ok (.aload_n 0, 1) := dk_42 (dk_at dksX0_night_0 10 rfl rfl)
theorem dX0_night_11 : decode cX0_night 11 = .ok (.getfield 45, 3) := dk_180 0 45 (dk_at dksX0_night_0 11 rfl rfl)
theorem dX0_night_14 : decode cX0_night 14 = .ok (.getfield 188, 3) := dk_180 0 188 (dk_at dksX0_night_0 14 rfl rfl)
theorem dX0_night_17 : decode cX0_night 17 = .ok (.sipush 9999, 3) := dk_17 39 15 (dk_at dksX0_night_0 17 rfl rfl)
theorem dX0_night_20 : decode cX0_night 20 = .ok (.if_icmp .ne 6, 3) := dk_160 0 6 (dk_at dksX0_night_0 20 rfl rfl)
theorem dX0_night_23 : decode cX0_night 23 = .ok (.ldc 136, 2) := dk_18 136 (dk_at dksX0_night_1 0 rfl rfl)
theorem dX0_night_25 : decode cX0_night 25 = .ok (.ireturn, 1) := dk_172 (dk_at dksX0_night_1 2 rfl rfl)
theorem dX0_night_26 : decode cX0_night 26 = .ok (.aload_n 0, 1) := dk_42 (dk_at dksX0_night_1 3 rfl rfl)
theorem dX0_night_27 : decode cX0_night 27 = .ok (.invokevirtual 191, 3) := dk_182 0 191 (dk_at dksX0_night_1 4 rfl rfl)
theorem dX0_night_30 : decode cX0_night 30 = .ok (.aload_n 0, 1) := dk_42 (dk_at dksX0_night_1 7 rfl rfl)
theorem dX0_night_31 : decode cX0_night 31 = .ok (.getfield 45, 3) := dk_180 0 45 (dk_at dksX0_night_1 8 rfl rfl)
theorem dX0_night_34 : decode cX0_night 34 = .ok (.aload_n 0, 1) := dk_42 (dk_at dksX0_night_1 11 rfl rfl)
theorem dX0_night_35 : decode cX0_night 35 = .ok (.getfield 45, 3) := dk_180 0 45 (dk_at dksX0_night_1 12 rfl rfl)
theorem dX0_night_38 : decode cX0_night 38 = .ok (.invokevirtual 194, 3) := dk_182 0 194 (dk_at dksX0_night_1 15 rfl rfl)
theorem dX0_night_41 : decode cX0_night 41 = .ok (.invokevirtual 196, 3) := dk_182 0 196 (dk_at dksX0_night_1 18 rfl rfl)
theorem dX0_night_44 : decode cX0_night 44 = .ok (.ireturn, 1) := dk_172 (dk_at dksX0_night_1 21 rfl rfl)
abbrev cX0_isRoad : ByteArray := prog_1_method_18_code
def yX0_isRoad : MethodName := ⟨RX0, "isRoad", "()Z"⟩
def dkwX0_isRoad_0 : List UInt8 := [42, 180, 0, 45, 180, 0, 170, 158, 0, 7, 4, 167, 0, 4, 3, 172]
abbrev dktX0_isRoad_0 : List UInt8 := dkwX0_isRoad_0 ++ []
theorem dksX0_isRoad_0 : cX0_isRoad.data.toList.drop 0 = dktX0_isRoad_0 := by decide +kernel
theorem dX0_isRoad_0 : decode cX0_isRoad 0 = .ok (.aload_n 0, 1) := dk_42 (dk_at dksX0_isRoad_0 0 rfl rfl)
theorem dX0_isRoad_1 : decode cX0_isRoad 1 = .ok (.getfield 45, 3) := dk_180 0 45 (dk_at dksX0_isRoad_0 1 rfl rfl)
theorem dX0_isRoad_4 : decode cX0_isRoad 4 = .ok (.getfield 170, 3) := dk_180 0 170 (dk_at dksX0_isRoad_0 4 rfl rfl)
theorem dX0_isRoad_7 : decode cX0_isRoad 7 = .ok (.ifCond .le 7, 3) := dk_158 0 7 (dk_at dksX0_isRoad_0 7 rfl rfl)
theorem dX0_isRoad_10 : decode cX0_isRoad 10 = .ok (.iconst 1, 1) := dk_4 (dk_at dksX0_isRoad_0 10 rfl rfl)
theorem dX0_isRoad_11 : decode cX0_isRoad 11 = .ok (.goto 4, 3) := dk_167 0 4 (dk_at dksX0_isRoad_0 11 rfl rfl)
theorem dX0_isRoad_14 : decode cX0_isRoad 14 = .ok (.iconst 0, 1) := dk_3 (dk_at dksX0_isRoad_0 14 rfl rfl)
theorem dX0_isRoad_15 : decode cX0_isRoad 15 = .ok (.ireturn, 1) := dk_172 (dk_at dksX0_isRoad_0 15 rfl rfl)
abbrev cX0_keep : ByteArray := prog_1_method_22_code
def yX0_keep : MethodName := ⟨RX0, "keep", "()V"⟩
def dkwX0_keep_4 : List UInt8 := [180, 0, 164, 50, 42, 180, 0, 45, 182, 0, 160, 87, 42, 89, 180, 0, 164, 4, 96, 181, 0, 164, 177]
abbrev dktX0_keep_4 : List UInt8 := dkwX0_keep_4 ++ []
def dkwX0_keep_3 : List UInt8 := [199, 0, 19, 42, 180, 0, 52, 42, 180, 0, 164, 187, 0, 42, 89, 183, 0, 44, 83, 42, 180, 0, 52, 42]
abbrev dktX0_keep_3 : List UInt8 := dkwX0_keep_3 ++ dktX0_keep_4
def dkwX0_keep_2 : List UInt8 := [16, 23, 43, 83, 42, 89, 180, 0, 164, 4, 100, 181, 0, 164, 42, 180, 0, 52, 42, 180, 0, 164, 50]
abbrev dktX0_keep_2 : List UInt8 := dkwX0_keep_2 ++ dktX0_keep_3
def dkwX0_keep_1 : List UInt8 := [42, 180, 0, 52, 28, 4, 100, 42, 180, 0, 52, 28, 50, 83, 132, 2, 1, 167, 255, 233, 42, 180, 0, 52]
abbrev dktX0_keep_1 : List UInt8 := dkwX0_keep_1 ++ dktX0_keep_2
def dkwX0_keep_0 : List UInt8 := [42, 180, 0, 164, 16, 24, 160, 0, 56, 42, 180, 0, 52, 3, 50, 76, 4, 61, 28, 16, 24, 162, 0, 23]
abbrev dktX0_keep_0 : List UInt8 := dkwX0_keep_0 ++ dktX0_keep_1
theorem dksX0_keep_0 : cX0_keep.data.toList.drop 0 = dktX0_keep_0 := by decide +kernel
theorem dksX0_keep_1 : cX0_keep.data.toList.drop 24 = dktX0_keep_1 := dk_seg dksX0_keep_0 24 rfl rfl
theorem dksX0_keep_2 : cX0_keep.data.toList.drop 48 = dktX0_keep_2 := dk_seg dksX0_keep_1 24 rfl rfl
theorem dksX0_keep_3 : cX0_keep.data.toList.drop 71 = dktX0_keep_3 := dk_seg dksX0_keep_2 23 rfl rfl
theorem dksX0_keep_4 : cX0_keep.data.toList.drop 95 = dktX0_keep_4 := dk_seg dksX0_keep_3 24 rfl rfl
theorem dX0_keep_0 : decode cX0_keep 0 = .ok (.aload_n 0, 1) := dk_42 (dk_at dksX0_keep_0 0 rfl rfl)
theorem dX0_keep_1 : decode cX0_keep 1 = .ok (.getfield 164, 3) := dk_180 0 164 (dk_at dksX0_keep_0 1 rfl rfl)
theorem dX0_keep_4 : decode cX0_keep 4 = .ok (.bipush 24, 2) := dk_16 24 (dk_at dksX0_keep_0 4 rfl rfl)
theorem dX0_keep_6 : decode cX0_keep 6 = .ok (.if_icmp .ne 56, 3) := dk_160 0 56 (dk_at dksX0_keep_0 6 rfl rfl)
theorem dX0_keep_9 : decode cX0_keep 9 = .ok (.aload_n 0, 1) := dk_42 (dk_at dksX0_keep_0 9 rfl rfl)
theorem dX0_keep_10 : decode cX0_keep 10 = .ok (.getfield 52, 3) := dk_180 0 52 (dk_at dksX0_keep_0 10 rfl rfl)
theorem dX0_keep_13 : decode cX0_keep 13 = .ok (.iconst 0, 1) := dk_3 (dk_at dksX0_keep_0 13 rfl rfl)
theorem dX0_keep_14 : decode cX0_keep 14 = .ok (.aaload, 1) := dk_50 (dk_at dksX0_keep_0 14 rfl rfl)
theorem dX0_keep_15 : decode cX0_keep 15 = .ok (.astore_n 1, 1) := dk_76 (dk_at dksX0_keep_0 15 rfl rfl)
theorem dX0_keep_16 : decode cX0_keep 16 = .ok (.iconst 1, 1) := dk_4 (dk_at dksX0_keep_0 16 rfl rfl)
theorem dX0_keep_17 : decode cX0_keep 17 = .ok (.istore_n 2, 1) := dk_61 (dk_at dksX0_keep_0 17 rfl rfl)
theorem dX0_keep_18 : decode cX0_keep 18 = .ok (.iload_n 2, 1) := dk_28 (dk_at dksX0_keep_0 18 rfl rfl)
theorem dX0_keep_19 : decode cX0_keep 19 = .ok (.bipush 24, 2) := dk_16 24 (dk_at dksX0_keep_0 19 rfl rfl)
theorem dX0_keep_21 : decode cX0_keep 21 = .ok (.if_icmp .ge 23, 3) := dk_162 0 23 (dk_at dksX0_keep_0 21 rfl rfl)
theorem dX0_keep_24 : decode cX0_keep 24 = .ok (.aload_n 0, 1) := dk_42 (dk_at dksX0_keep_1 0 rfl rfl)
theorem dX0_keep_25 : decode cX0_keep 25 = .ok (.getfield 52, 3) := dk_180 0 52 (dk_at dksX0_keep_1 1 rfl rfl)
theorem dX0_keep_28 : decode cX0_keep 28 = .ok (.iload_n 2, 1) := dk_28 (dk_at dksX0_keep_1 4 rfl rfl)
theorem dX0_keep_29 : decode cX0_keep 29 = .ok (.iconst 1, 1) := dk_4 (dk_at dksX0_keep_1 5 rfl rfl)
theorem dX0_keep_30 : decode cX0_keep 30 = .ok (.isub, 1) := dk_100 (dk_at dksX0_keep_1 6 rfl rfl)
theorem dX0_keep_31 : decode cX0_keep 31 = .ok (.aload_n 0, 1) := dk_42 (dk_at dksX0_keep_1 7 rfl rfl)
theorem dX0_keep_32 : decode cX0_keep 32 = .ok (.getfield 52, 3) := dk_180 0 52 (dk_at dksX0_keep_1 8 rfl rfl)
theorem dX0_keep_35 : decode cX0_keep 35 = .ok (.iload_n 2, 1) := dk_28 (dk_at dksX0_keep_1 11 rfl rfl)
theorem dX0_keep_36 : decode cX0_keep 36 = .ok (.aaload, 1) := dk_50 (dk_at dksX0_keep_1 12 rfl rfl)
theorem dX0_keep_37 : decode cX0_keep 37 = .ok (.aastore, 1) := dk_83 (dk_at dksX0_keep_1 13 rfl rfl)
theorem dX0_keep_38 : decode cX0_keep 38 = .ok (.iinc 2 1, 3) := dk_132 2 1 (dk_at dksX0_keep_1 14 rfl rfl)
theorem dX0_keep_41 : decode cX0_keep 41 = .ok (.goto (-23), 3) := dk_167 255 233 (dk_at dksX0_keep_1 17 rfl rfl)
theorem dX0_keep_44 : decode cX0_keep 44 = .ok (.aload_n 0, 1) := dk_42 (dk_at dksX0_keep_1 20 rfl rfl)
theorem dX0_keep_45 : decode cX0_keep 45 = .ok (.getfield 52, 3) := dk_180 0 52 (dk_at dksX0_keep_1 21 rfl rfl)
theorem dX0_keep_48 : decode cX0_keep 48 = .ok (.bipush 23, 2) := dk_16 23 (dk_at dksX0_keep_2 0 rfl rfl)
theorem dX0_keep_50 : decode cX0_keep 50 = .ok (.aload_n 1, 1) := dk_43 (dk_at dksX0_keep_2 2 rfl rfl)
theorem dX0_keep_51 : decode cX0_keep 51 = .ok (.aastore, 1) := dk_83 (dk_at dksX0_keep_2 3 rfl rfl)
theorem dX0_keep_52 : decode cX0_keep 52 = .ok (.aload_n 0, 1) := dk_42 (dk_at dksX0_keep_2 4 rfl rfl)
theorem dX0_keep_53 : decode cX0_keep 53 = .ok (.dup, 1) := dk_89 (dk_at dksX0_keep_2 5 rfl rfl)
theorem dX0_keep_54 : decode cX0_keep 54 = .ok (.getfield 164, 3) := dk_180 0 164 (dk_at dksX0_keep_2 6 rfl rfl)
theorem dX0_keep_57 : decode cX0_keep 57 = .ok (.iconst 1, 1) := dk_4 (dk_at dksX0_keep_2 9 rfl rfl)
theorem dX0_keep_58 : decode cX0_keep 58 = .ok (.isub, 1) := dk_100 (dk_at dksX0_keep_2 10 rfl rfl)
theorem dX0_keep_59 : decode cX0_keep 59 = .ok (.putfield 164, 3) := dk_181 0 164 (dk_at dksX0_keep_2 11 rfl rfl)
theorem dX0_keep_62 : decode cX0_keep 62 = .ok (.aload_n 0, 1) := dk_42 (dk_at dksX0_keep_2 14 rfl rfl)
theorem dX0_keep_63 : decode cX0_keep 63 = .ok (.getfield 52, 3) := dk_180 0 52 (dk_at dksX0_keep_2 15 rfl rfl)
theorem dX0_keep_66 : decode cX0_keep 66 = .ok (.aload_n 0, 1) := dk_42 (dk_at dksX0_keep_2 18 rfl rfl)
theorem dX0_keep_67 : decode cX0_keep 67 = .ok (.getfield 164, 3) := dk_180 0 164 (dk_at dksX0_keep_2 19 rfl rfl)
theorem dX0_keep_70 : decode cX0_keep 70 = .ok (.aaload, 1) := dk_50 (dk_at dksX0_keep_2 22 rfl rfl)
theorem dX0_keep_71 : decode cX0_keep 71 = .ok (.ifnonnull 19, 3) := dk_199 0 19 (dk_at dksX0_keep_3 0 rfl rfl)
theorem dX0_keep_74 : decode cX0_keep 74 = .ok (.aload_n 0, 1) := dk_42 (dk_at dksX0_keep_3 3 rfl rfl)
theorem dX0_keep_75 : decode cX0_keep 75 = .ok (.getfield 52, 3) := dk_180 0 52 (dk_at dksX0_keep_3 4 rfl rfl)
theorem dX0_keep_78 : decode cX0_keep 78 = .ok (.aload_n 0, 1) := dk_42 (dk_at dksX0_keep_3 7 rfl rfl)
theorem dX0_keep_79 : decode cX0_keep 79 = .ok (.getfield 164, 3) := dk_180 0 164 (dk_at dksX0_keep_3 8 rfl rfl)
theorem dX0_keep_82 : decode cX0_keep 82 = .ok (.new 42, 3) := dk_187 0 42 (dk_at dksX0_keep_3 11 rfl rfl)
theorem dX0_keep_85 : decode cX0_keep 85 = .ok (.dup, 1) := dk_89 (dk_at dksX0_keep_3 14 rfl rfl)
theorem dX0_keep_86 : decode cX0_keep 86 = .ok (.invokespecial 44, 3) := dk_183 0 44 (dk_at dksX0_keep_3 15 rfl rfl)
theorem dX0_keep_89 : decode cX0_keep 89 = .ok (.aastore, 1) := dk_83 (dk_at dksX0_keep_3 18 rfl rfl)
theorem dX0_keep_90 : decode cX0_keep 90 = .ok (.aload_n 0, 1) := dk_42 (dk_at dksX0_keep_3 19 rfl rfl)
theorem dX0_keep_91 : decode cX0_keep 91 = .ok (.getfield 52, 3) := dk_180 0 52 (dk_at dksX0_keep_3 20 rfl rfl)
theorem dX0_keep_94 : decode cX0_keep 94 = .ok (.aload_n 0, 1) := dk_42 (dk_at dksX0_keep_3 23 rfl rfl)
theorem dX0_keep_95 : decode cX0_keep 95 = .ok (.getfield 164, 3) := dk_180 0 164 (dk_at dksX0_keep_4 0 rfl rfl)
theorem dX0_keep_98 : decode cX0_keep 98 = .ok (.aaload, 1) := dk_50 (dk_at dksX0_keep_4 3 rfl rfl)
theorem dX0_keep_99 : decode cX0_keep 99 = .ok (.aload_n 0, 1) := dk_42 (dk_at dksX0_keep_4 4 rfl rfl)
theorem dX0_keep_100 : decode cX0_keep 100 = .ok (.getfield 45, 3) := dk_180 0 45 (dk_at dksX0_keep_4 5 rfl rfl)
theorem dX0_keep_103 : decode cX0_keep 103 = .ok (.invokevirtual 160, 3) := dk_182 0 160 (dk_at dksX0_keep_4 8 rfl rfl)
theorem dX0_keep_106 : decode cX0_keep 106 = .ok (.pop, 1) := dk_87 (dk_at dksX0_keep_4 11 rfl rfl)
theorem dX0_keep_107 : decode cX0_keep 107 = .ok (.aload_n 0, 1) := dk_42 (dk_at dksX0_keep_4 12 rfl rfl)
theorem dX0_keep_108 : decode cX0_keep 108 = .ok (.dup, 1) := dk_89 (dk_at dksX0_keep_4 13 rfl rfl)
theorem dX0_keep_109 : decode cX0_keep 109 = .ok (.getfield 164, 3) := dk_180 0 164 (dk_at dksX0_keep_4 14 rfl rfl)
theorem dX0_keep_112 : decode cX0_keep 112 = .ok (.iconst 1, 1) := dk_4 (dk_at dksX0_keep_4 17 rfl rfl)
theorem dX0_keep_113 : decode cX0_keep 113 = .ok (.iadd, 1) := dk_96 (dk_at dksX0_keep_4 18 rfl rfl)
theorem dX0_keep_114 : decode cX0_keep 114 = .ok (.putfield 164, 3) := dk_181 0 164 (dk_at dksX0_keep_4 19 rfl rfl)
theorem dX0_keep_117 : decode cX0_keep 117 = .ok (.return_, 1) := dk_177 (dk_at dksX0_keep_4 22 rfl rfl)
abbrev cX0_has : ByteArray := prog_1_method_2_code
def yX0_has : MethodName := ⟨RX0, "has", "(II)Z"⟩
def dkwX0_has_0 : List UInt8 := [26, 27, 122, 4, 126, 4, 160, 0, 7, 4, 167, 0, 4, 3, 172]
abbrev dktX0_has_0 : List UInt8 := dkwX0_has_0 ++ []
theorem dksX0_has_0 : cX0_has.data.toList.drop 0 = dktX0_has_0 := by decide +kernel
theorem dX0_has_0 : decode cX0_has 0 = .ok (.iload_n 0, 1) := dk_26 (dk_at dksX0_has_0 0 rfl rfl)
theorem dX0_has_1 : decode cX0_has 1 = .ok (.iload_n 1, 1) := dk_27 (dk_at dksX0_has_0 1 rfl rfl)
theorem dX0_has_2 : decode cX0_has 2 = .ok (.ishr, 1) := dk_122 (dk_at dksX0_has_0 2 rfl rfl)
theorem dX0_has_3 : decode cX0_has 3 = .ok (.iconst 1, 1) := dk_4 (dk_at dksX0_has_0 3 rfl rfl)
theorem dX0_has_4 : decode cX0_has 4 = .ok (.iand, 1) := dk_126 (dk_at dksX0_has_0 4 rfl rfl)
theorem dX0_has_5 : decode cX0_has 5 = .ok (.iconst 1, 1) := dk_4 (dk_at dksX0_has_0 5 rfl rfl)
theorem dX0_has_6 : decode cX0_has 6 = .ok (.if_icmp .ne 7, 3) := dk_160 0 7 (dk_at dksX0_has_0 6 rfl rfl)
theorem dX0_has_9 : decode cX0_has 9 = .ok (.iconst 1, 1) := dk_4 (dk_at dksX0_has_0 9 rfl rfl)
theorem dX0_has_10 : decode cX0_has 10 = .ok (.goto 4, 3) := dk_167 0 4 (dk_at dksX0_has_0 10 rfl rfl)
theorem dX0_has_13 : decode cX0_has 13 = .ok (.iconst 0, 1) := dk_3 (dk_at dksX0_has_0 13 rfl rfl)
theorem dX0_has_14 : decode cX0_has 14 = .ok (.ireturn, 1) := dk_172 (dk_at dksX0_has_0 14 rfl rfl)
abbrev cX0_prove : ByteArray := prog_1_method_24_code
def yX0_prove : MethodName := ⟨RX0, "prove", "(I)I"⟩
def dkwX0_prove_2 : List UInt8 := [184, 0, 1, 61, 42, 180, 0, 45, 180, 0, 205, 27, 42, 180, 0, 45, 180, 0, 208, 27, 46, 79, 28, 172]
abbrev dktX0_prove_2 : List UInt8 := dkwX0_prove_2 ++ []
def dkwX0_prove_1 : List UInt8 := [172, 42, 182, 0, 191, 42, 180, 0, 45, 180, 0, 205, 27, 46, 42, 180, 0, 45, 180, 0, 208, 27, 46, 100]
abbrev dktX0_prove_1 : List UInt8 := dkwX0_prove_1 ++ dktX0_prove_2
def dkwX0_prove_0 : List UInt8 := [42, 27, 182, 0, 199, 154, 0, 6, 18, 99, 172, 42, 180, 0, 45, 27, 182, 0, 202, 154, 0, 6, 18, 187]
abbrev dktX0_prove_0 : List UInt8 := dkwX0_prove_0 ++ dktX0_prove_1
theorem dksX0_prove_0 : cX0_prove.data.toList.drop 0 = dktX0_prove_0 := by decide +kernel
theorem dksX0_prove_1 : cX0_prove.data.toList.drop 24 = dktX0_prove_1 := dk_seg dksX0_prove_0 24 rfl rfl
theorem dksX0_prove_2 : cX0_prove.data.toList.drop 48 = dktX0_prove_2 := dk_seg dksX0_prove_1 24 rfl rfl
theorem dX0_prove_0 : decode cX0_prove 0 = .ok (.aload_n 0, 1) := dk_42 (dk_at dksX0_prove_0 0 rfl rfl)
theorem dX0_prove_1 : decode cX0_prove 1 = .ok (.iload_n 1, 1) := dk_27 (dk_at dksX0_prove_0 1 rfl rfl)
theorem dX0_prove_2 : decode cX0_prove 2 = .ok (.invokevirtual 199, 3) := dk_182 0 199 (dk_at dksX0_prove_0 2 rfl rfl)
theorem dX0_prove_5 : decode cX0_prove 5 = .ok (.ifCond .ne 6, 3) := dk_154 0 6 (dk_at dksX0_prove_0 5 rfl rfl)
theorem dX0_prove_8 : decode cX0_prove 8 = .ok (.ldc 99, 2) := dk_18 99 (dk_at dksX0_prove_0 8 rfl rfl)
theorem dX0_prove_10 : decode cX0_prove 10 = .ok (.ireturn, 1) := dk_172 (dk_at dksX0_prove_0 10 rfl rfl)
theorem dX0_prove_11 : decode cX0_prove 11 = .ok (.aload_n 0, 1) := dk_42 (dk_at dksX0_prove_0 11 rfl rfl)
theorem dX0_prove_12 : decode cX0_prove 12 = .ok (.getfield 45, 3) := dk_180 0 45 (dk_at dksX0_prove_0 12 rfl rfl)
theorem dX0_prove_15 : decode cX0_prove 15 = .ok (.iload_n 1, 1) := dk_27 (dk_at dksX0_prove_0 15 rfl rfl)
theorem dX0_prove_16 : decode cX0_prove 16 = .ok (.invokevirtual 202, 3) := dk_182 0 202 (dk_at dksX0_prove_0 16 rfl rfl)
theorem dX0_prove_19 : decode cX0_prove 19 = .ok (.ifCond .ne 6, 3) := dk_154 0 6 (dk_at dksX0_prove_0 19 rfl rfl)
theorem dX0_prove_22 : decode cX0_prove 22 = .ok (.ldc 187, 2) := dk_18 187 (dk_at dksX0_prove_0 22 rfl rfl)
theorem dX0_prove_24 : decode cX0_prove 24 = .ok (.ireturn, 1) := dk_172 (dk_at dksX0_prove_1 0 rfl rfl)
theorem dX0_prove_25 : decode cX0_prove 25 = .ok (.aload_n 0, 1) := dk_42 (dk_at dksX0_prove_1 1 rfl rfl)
theorem dX0_prove_26 : decode cX0_prove 26 = .ok (.invokevirtual 191, 3) := dk_182 0 191 (dk_at dksX0_prove_1 2 rfl rfl)
theorem dX0_prove_29 : decode cX0_prove 29 = .ok (.aload_n 0, 1) := dk_42 (dk_at dksX0_prove_1 5 rfl rfl)
theorem dX0_prove_30 : decode cX0_prove 30 = .ok (.getfield 45, 3) := dk_180 0 45 (dk_at dksX0_prove_1 6 rfl rfl)
theorem dX0_prove_33 : decode cX0_prove 33 = .ok (.getfield 205, 3) := dk_180 0 205 (dk_at dksX0_prove_1 9 rfl rfl)
theorem dX0_prove_36 : decode cX0_prove 36 = .ok (.iload_n 1, 1) := dk_27 (dk_at dksX0_prove_1 12 rfl rfl)
theorem dX0_prove_37 : decode cX0_prove 37 = .ok (.iaload, 1) := dk_46 (dk_at dksX0_prove_1 13 rfl rfl)
theorem dX0_prove_38 : decode cX0_prove 38 = .ok (.aload_n 0, 1) := dk_42 (dk_at dksX0_prove_1 14 rfl rfl)
theorem dX0_prove_39 : decode cX0_prove 39 = .ok (.getfield 45, 3) := dk_180 0 45 (dk_at dksX0_prove_1 15 rfl rfl)
theorem dX0_prove_42 : decode cX0_prove 42 = .ok (.getfield 208, 3) := dk_180 0 208 (dk_at dksX0_prove_1 18 rfl rfl)
theorem dX0_prove_45 : decode cX0_prove 45 = .ok (.iload_n 1, 1) := dk_27 (dk_at dksX0_prove_1 21 rfl rfl)
theorem dX0_prove_46 : decode cX0_prove 46 = .ok (.iaload, 1) := dk_46 (dk_at dksX0_prove_1 22 rfl rfl)
theorem dX0_prove_47 : decode cX0_prove 47 = .ok (.isub, 1) := dk_100 (dk_at dksX0_prove_1 23 rfl rfl)
theorem dX0_prove_48 : decode cX0_prove 48 = .ok (.invokestatic 1, 3) := dk_184 0 1 (dk_at dksX0_prove_2 0 rfl rfl)
theorem dX0_prove_51 : decode cX0_prove 51 = .ok (.istore_n 2, 1) := dk_61 (dk_at dksX0_prove_2 3 rfl rfl)
theorem dX0_prove_52 : decode cX0_prove 52 = .ok (.aload_n 0, 1) := dk_42 (dk_at dksX0_prove_2 4 rfl rfl)
theorem dX0_prove_53 : decode cX0_prove 53 = .ok (.getfield 45, 3) := dk_180 0 45 (dk_at dksX0_prove_2 5 rfl rfl)
theorem dX0_prove_56 : decode cX0_prove 56 = .ok (.getfield 205, 3) := dk_180 0 205 (dk_at dksX0_prove_2 8 rfl rfl)
theorem dX0_prove_59 : decode cX0_prove 59 = .ok (.iload_n 1, 1) := dk_27 (dk_at dksX0_prove_2 11 rfl rfl)
theorem dX0_prove_60 : decode cX0_prove 60 = .ok (.aload_n 0, 1) := dk_42 (dk_at dksX0_prove_2 12 rfl rfl)
theorem dX0_prove_61 : decode cX0_prove 61 = .ok (.getfield 45, 3) := dk_180 0 45 (dk_at dksX0_prove_2 13 rfl rfl)
theorem dX0_prove_64 : decode cX0_prove 64 = .ok (.getfield 208, 3) := dk_180 0 208 (dk_at dksX0_prove_2 16 rfl rfl)
theorem dX0_prove_67 : decode cX0_prove 67 = .ok (.iload_n 1, 1) := dk_27 (dk_at dksX0_prove_2 19 rfl rfl)
theorem dX0_prove_68 : decode cX0_prove 68 = .ok (.iaload, 1) := dk_46 (dk_at dksX0_prove_2 20 rfl rfl)
theorem dX0_prove_69 : decode cX0_prove 69 = .ok (.iastore, 1) := dk_79 (dk_at dksX0_prove_2 21 rfl rfl)
theorem dX0_prove_70 : decode cX0_prove 70 = .ok (.iload_n 2, 1) := dk_28 (dk_at dksX0_prove_2 22 rfl rfl)
theorem dX0_prove_71 : decode cX0_prove 71 = .ok (.ireturn, 1) := dk_172 (dk_at dksX0_prove_2 23 rfl rfl)
abbrev cX0_isStone : ByteArray := prog_1_method_19_code
def yX0_isStone : MethodName := ⟨RX0, "isStone", "(I)Z"⟩
def dkwX0_isStone_0 : List UInt8 := [27, 133, 9, 42, 180, 0, 45, 180, 0, 167, 4, 100, 133, 184, 0, 85, 172]
abbrev dktX0_isStone_0 : List UInt8 := dkwX0_isStone_0 ++ []
theorem dksX0_isStone_0 : cX0_isStone.data.toList.drop 0 = dktX0_isStone_0 := by decide +kernel
theorem dX0_isStone_0 : decode cX0_isStone 0 = .ok (.iload_n 1, 1) := dk_27 (dk_at dksX0_isStone_0 0 rfl rfl)
theorem dX0_isStone_1 : decode cX0_isStone 1 = .ok (.i2l, 1) := dk_133 (dk_at dksX0_isStone_0 1 rfl rfl)
theorem dX0_isStone_2 : decode cX0_isStone 2 = .ok (.lconst 0, 1) := dk_9 (dk_at dksX0_isStone_0 2 rfl rfl)
theorem dX0_isStone_3 : decode cX0_isStone 3 = .ok (.aload_n 0, 1) := dk_42 (dk_at dksX0_isStone_0 3 rfl rfl)
theorem dX0_isStone_4 : decode cX0_isStone 4 = .ok (.getfield 45, 3) := dk_180 0 45 (dk_at dksX0_isStone_0 4 rfl rfl)
theorem dX0_isStone_7 : decode cX0_isStone 7 = .ok (.getfield 167, 3) := dk_180 0 167 (dk_at dksX0_isStone_0 7 rfl rfl)
theorem dX0_isStone_10 : decode cX0_isStone 10 = .ok (.iconst 1, 1) := dk_4 (dk_at dksX0_isStone_0 10 rfl rfl)
theorem dX0_isStone_11 : decode cX0_isStone 11 = .ok (.isub, 1) := dk_100 (dk_at dksX0_isStone_0 11 rfl rfl)
theorem dX0_isStone_12 : decode cX0_isStone 12 = .ok (.i2l, 1) := dk_133 (dk_at dksX0_isStone_0 12 rfl rfl)
theorem dX0_isStone_13 : decode cX0_isStone 13 = .ok (.invokestatic 85, 3) := dk_184 0 85 (dk_at dksX0_isStone_0 13 rfl rfl)
theorem dX0_isStone_16 : decode cX0_isStone 16 = .ok (.ireturn, 1) := dk_172 (dk_at dksX0_isStone_0 16 rfl rfl)
abbrev cX0_undo : ByteArray := prog_1_method_25_code
def yX0_undo : MethodName := ⟨RX0, "undo", "()I"⟩
def dkwX0_undo_2 : List UInt8 := [180, 0, 45, 42, 180, 0, 52, 42, 180, 0, 164, 50, 180, 0, 188, 181, 0, 188, 42, 180, 0, 164, 172]
abbrev dktX0_undo_2 : List UInt8 := dkwX0_undo_2 ++ []
def dkwX0_undo_1 : List UInt8 := [42, 180, 0, 164, 50, 180, 0, 205, 3, 42, 180, 0, 45, 180, 0, 205, 3, 16, 6, 184, 0, 123, 42]
abbrev dktX0_undo_1 : List UInt8 := dkwX0_undo_1 ++ dktX0_undo_2
def dkwX0_undo_0 : List UInt8 := [42, 180, 0, 164, 154, 0, 6, 18, 187, 172, 42, 89, 180, 0, 164, 4, 100, 181, 0, 164, 42, 180, 0, 52]
abbrev dktX0_undo_0 : List UInt8 := dkwX0_undo_0 ++ dktX0_undo_1
theorem dksX0_undo_0 : cX0_undo.data.toList.drop 0 = dktX0_undo_0 := by decide +kernel
theorem dksX0_undo_1 : cX0_undo.data.toList.drop 24 = dktX0_undo_1 := dk_seg dksX0_undo_0 24 rfl rfl
theorem dksX0_undo_2 : cX0_undo.data.toList.drop 47 = dktX0_undo_2 := dk_seg dksX0_undo_1 23 rfl rfl
theorem dX0_undo_0 : decode cX0_undo 0 = .ok (.aload_n 0, 1) := dk_42 (dk_at dksX0_undo_0 0 rfl rfl)
theorem dX0_undo_1 : decode cX0_undo 1 = .ok (.getfield 164, 3) := dk_180 0 164 (dk_at dksX0_undo_0 1 rfl rfl)
theorem dX0_undo_4 : decode cX0_undo 4 = .ok (.ifCond .ne 6, 3) := dk_154 0 6 (dk_at dksX0_undo_0 4 rfl rfl)
theorem dX0_undo_7 : decode cX0_undo 7 = .ok (.ldc 187, 2) := dk_18 187 (dk_at dksX0_undo_0 7 rfl rfl)
theorem dX0_undo_9 : decode cX0_undo 9 = .ok (.ireturn, 1) := dk_172 (dk_at dksX0_undo_0 9 rfl rfl)
theorem dX0_undo_10 : decode cX0_undo 10 = .ok (.aload_n 0, 1) := dk_42 (dk_at dksX0_undo_0 10 rfl rfl)
theorem dX0_undo_11 : decode cX0_undo 11 = .ok (.dup, 1) := dk_89 (dk_at dksX0_undo_0 11 rfl rfl)
theorem dX0_undo_12 : decode cX0_undo 12 = .ok (.getfield 164, 3) := dk_180 0 164 (dk_at dksX0_undo_0 12 rfl rfl)
theorem dX0_undo_15 : decode cX0_undo 15 = .ok (.iconst 1, 1) := dk_4 (dk_at dksX0_undo_0 15 rfl rfl)
theorem dX0_undo_16 : decode cX0_undo 16 = .ok (.isub, 1) := dk_100 (dk_at dksX0_undo_0 16 rfl rfl)
theorem dX0_undo_17 : decode cX0_undo 17 = .ok (.putfield 164, 3) := dk_181 0 164 (dk_at dksX0_undo_0 17 rfl rfl)
theorem dX0_undo_20 : decode cX0_undo 20 = .ok (.aload_n 0, 1) := dk_42 (dk_at dksX0_undo_0 20 rfl rfl)
theorem dX0_undo_21 : decode cX0_undo 21 = .ok (.getfield 52, 3) := dk_180 0 52 (dk_at dksX0_undo_0 21 rfl rfl)
theorem dX0_undo_24 : decode cX0_undo 24 = .ok (.aload_n 0, 1) := dk_42 (dk_at dksX0_undo_1 0 rfl rfl)
theorem dX0_undo_25 : decode cX0_undo 25 = .ok (.getfield 164, 3) := dk_180 0 164 (dk_at dksX0_undo_1 1 rfl rfl)
theorem dX0_undo_28 : decode cX0_undo 28 = .ok (.aaload, 1) := dk_50 (dk_at dksX0_undo_1 4 rfl rfl)
theorem dX0_undo_29 : decode cX0_undo 29 = .ok (.getfield 205, 3) := dk_180 0 205 (dk_at dksX0_undo_1 5 rfl rfl)
theorem dX0_undo_32 : decode cX0_undo 32 = .ok (.iconst 0, 1) := dk_3 (dk_at dksX0_undo_1 8 rfl rfl)
theorem dX0_undo_33 : decode cX0_undo 33 = .ok (.aload_n 0, 1) := dk_42 (dk_at dksX0_undo_1 9 rfl rfl)
theorem dX0_undo_34 : decode cX0_undo 34 = .ok (.getfield 45, 3) := dk_180 0 45 (dk_at dksX0_undo_1 10 rfl rfl)
theorem dX0_undo_37 : decode cX0_undo 37 = .ok (.getfield 205, 3) := dk_180 0 205 (dk_at dksX0_undo_1 13 rfl rfl)
theorem dX0_undo_40 : decode cX0_undo 40 = .ok (.iconst 0, 1) := dk_3 (dk_at dksX0_undo_1 16 rfl rfl)
theorem dX0_undo_41 : decode cX0_undo 41 = .ok (.bipush 6, 2) := dk_16 6 (dk_at dksX0_undo_1 17 rfl rfl)
theorem dX0_undo_43 : decode cX0_undo 43 = .ok (.invokestatic 123, 3) := dk_184 0 123 (dk_at dksX0_undo_1 19 rfl rfl)
theorem dX0_undo_46 : decode cX0_undo 46 = .ok (.aload_n 0, 1) := dk_42 (dk_at dksX0_undo_1 22 rfl rfl)
theorem dX0_undo_47 : decode cX0_undo 47 = .ok (.getfield 45, 3) := dk_180 0 45 (dk_at dksX0_undo_2 0 rfl rfl)
theorem dX0_undo_50 : decode cX0_undo 50 = .ok (.aload_n 0, 1) := dk_42 (dk_at dksX0_undo_2 3 rfl rfl)
theorem dX0_undo_51 : decode cX0_undo 51 = .ok (.getfield 52, 3) := dk_180 0 52 (dk_at dksX0_undo_2 4 rfl rfl)
theorem dX0_undo_54 : decode cX0_undo 54 = .ok (.aload_n 0, 1) := dk_42 (dk_at dksX0_undo_2 7 rfl rfl)
theorem dX0_undo_55 : decode cX0_undo 55 = .ok (.getfield 164, 3) := dk_180 0 164 (dk_at dksX0_undo_2 8 rfl rfl)
theorem dX0_undo_58 : decode cX0_undo 58 = .ok (.aaload, 1) := dk_50 (dk_at dksX0_undo_2 11 rfl rfl)
theorem dX0_undo_59 : decode cX0_undo 59 = .ok (.getfield 188, 3) := dk_180 0 188 (dk_at dksX0_undo_2 12 rfl rfl)
theorem dX0_undo_62 : decode cX0_undo 62 = .ok (.putfield 188, 3) := dk_181 0 188 (dk_at dksX0_undo_2 15 rfl rfl)
theorem dX0_undo_65 : decode cX0_undo 65 = .ok (.aload_n 0, 1) := dk_42 (dk_at dksX0_undo_2 18 rfl rfl)
theorem dX0_undo_66 : decode cX0_undo 66 = .ok (.getfield 164, 3) := dk_180 0 164 (dk_at dksX0_undo_2 19 rfl rfl)
theorem dX0_undo_69 : decode cX0_undo 69 = .ok (.ireturn, 1) := dk_172 (dk_at dksX0_undo_2 22 rfl rfl)
abbrev cX0_stone : ByteArray := prog_1_method_26_code
def yX0_stone : MethodName := ⟨RX0, "stone", "(II)I"⟩
def dkwX0_stone_2 : List UInt8 := [180, 0, 205, 27, 46, 167, 0, 12, 42, 180, 0, 45, 180, 0, 208, 27, 46, 172]
abbrev dktX0_stone_2 : List UInt8 := dkwX0_stone_2 ++ []
def dkwX0_stone_1 : List UInt8 := [154, 0, 15, 42, 180, 0, 45, 180, 0, 211, 27, 46, 167, 0, 29, 28, 4, 160, 0, 15, 42, 180, 0, 45]
abbrev dktX0_stone_1 : List UInt8 := dkwX0_stone_1 ++ dktX0_stone_2
def dkwX0_stone_0 : List UInt8 := [42, 27, 182, 0, 199, 153, 0, 15, 28, 133, 9, 20, 0, 97, 184, 0, 85, 154, 0, 6, 18, 99, 172, 28]
abbrev dktX0_stone_0 : List UInt8 := dkwX0_stone_0 ++ dktX0_stone_1
theorem dksX0_stone_0 : cX0_stone.data.toList.drop 0 = dktX0_stone_0 := by decide +kernel
theorem dksX0_stone_1 : cX0_stone.data.toList.drop 24 = dktX0_stone_1 := dk_seg dksX0_stone_0 24 rfl rfl
theorem dksX0_stone_2 : cX0_stone.data.toList.drop 48 = dktX0_stone_2 := dk_seg dksX0_stone_1 24 rfl rfl
theorem dX0_stone_0 : decode cX0_stone 0 = .ok (.aload_n 0, 1) := dk_42 (dk_at dksX0_stone_0 0 rfl rfl)
theorem dX0_stone_1 : decode cX0_stone 1 = .ok (.iload_n 1, 1) := dk_27 (dk_at dksX0_stone_0 1 rfl rfl)
theorem dX0_stone_2 : decode cX0_stone 2 = .ok (.invokevirtual 199, 3) := dk_182 0 199 (dk_at dksX0_stone_0 2 rfl rfl)
theorem dX0_stone_5 : decode cX0_stone 5 = .ok (.ifCond .eq 15, 3) := dk_153 0 15 (dk_at dksX0_stone_0 5 rfl rfl)
theorem dX0_stone_8 : decode cX0_stone 8 = .ok (.iload_n 2, 1) := dk_28 (dk_at dksX0_stone_0 8 rfl rfl)
theorem dX0_stone_9 : decode cX0_stone 9 = .ok (.i2l, 1) := dk_133 (dk_at dksX0_stone_0 9 rfl rfl)
theorem dX0_stone_10 : decode cX0_stone 10 = .ok (.lconst 0, 1) := dk_9 (dk_at dksX0_stone_0 10 rfl rfl)
theorem dX0_stone_11 : decode cX0_stone 11 = .ok (.ldc2_w 97, 3) := dk_20 0 97 (dk_at dksX0_stone_0 11 rfl rfl)
theorem dX0_stone_14 : decode cX0_stone 14 = .ok (.invokestatic 85, 3) := dk_184 0 85 (dk_at dksX0_stone_0 14 rfl rfl)
theorem dX0_stone_17 : decode cX0_stone 17 = .ok (.ifCond .ne 6, 3) := dk_154 0 6 (dk_at dksX0_stone_0 17 rfl rfl)
theorem dX0_stone_20 : decode cX0_stone 20 = .ok (.ldc 99, 2) := dk_18 99 (dk_at dksX0_stone_0 20 rfl rfl)
theorem dX0_stone_22 : decode cX0_stone 22 = .ok (.ireturn, 1) := dk_172 (dk_at dksX0_stone_0 22 rfl rfl)
theorem dX0_stone_23 : decode cX0_stone 23 = .ok (.iload_n 2, 1) := dk_28 (dk_at dksX0_stone_0 23 rfl rfl)
theorem dX0_stone_24 : decode cX0_stone 24 = .ok (.ifCond .ne 15, 3) := dk_154 0 15 (dk_at dksX0_stone_1 0 rfl rfl)
theorem dX0_stone_27 : decode cX0_stone 27 = .ok (.aload_n 0, 1) := dk_42 (dk_at dksX0_stone_1 3 rfl rfl)
theorem dX0_stone_28 : decode cX0_stone 28 = .ok (.getfield 45, 3) := dk_180 0 45 (dk_at dksX0_stone_1 4 rfl rfl)
theorem dX0_stone_31 : decode cX0_stone 31 = .ok (.getfield 211, 3) := dk_180 0 211 (dk_at dksX0_stone_1 7 rfl rfl)
theorem dX0_stone_34 : decode cX0_stone 34 = .ok (.iload_n 1, 1) := dk_27 (dk_at dksX0_stone_1 10 rfl rfl)
theorem dX0_stone_35 : decode cX0_stone 35 = .ok (.iaload, 1) := dk_46 (dk_at dksX0_stone_1 11 rfl rfl)
theorem dX0_stone_36 : decode cX0_stone 36 = .ok (.goto 29, 3) := dk_167 0 29 (dk_at dksX0_stone_1 12 rfl rfl)
theorem dX0_stone_39 : decode cX0_stone 39 = .ok (.iload_n 2, 1) := dk_28 (dk_at dksX0_stone_1 15 rfl rfl)
theorem dX0_stone_40 : decode cX0_stone 40 = .ok (.iconst 1, 1) := dk_4 (dk_at dksX0_stone_1 16 rfl rfl)
theorem dX0_stone_41 : decode cX0_stone 41 = .ok (.if_icmp .ne 15, 3) := dk_160 0 15 (dk_at dksX0_stone_1 17 rfl rfl)
theorem dX0_stone_44 : decode cX0_stone 44 = .ok (.aload_n 0, 1) := dk_42 (dk_at dksX0_stone_1 20 rfl rfl)
theorem dX0_stone_45 : decode cX0_stone 45 = .ok (.getfield 45, 3) := dk_180 0 45 (dk_at dksX0_stone_1 21 rfl rfl)
theorem dX0_stone_48 : decode cX0_stone 48 = .ok (.getfield 205, 3) := dk_180 0 205 (dk_at dksX0_stone_2 0 rfl rfl)
theorem dX0_stone_51 : decode cX0_stone 51 = .ok (.iload_n 1, 1) := dk_27 (dk_at dksX0_stone_2 3 rfl rfl)
theorem dX0_stone_52 : decode cX0_stone 52 = .ok (.iaload, 1) := dk_46 (dk_at dksX0_stone_2 4 rfl rfl)
theorem dX0_stone_53 : decode cX0_stone 53 = .ok (.goto 12, 3) := dk_167 0 12 (dk_at dksX0_stone_2 5 rfl rfl)
theorem dX0_stone_56 : decode cX0_stone 56 = .ok (.aload_n 0, 1) := dk_42 (dk_at dksX0_stone_2 8 rfl rfl)
theorem dX0_stone_57 : decode cX0_stone 57 = .ok (.getfield 45, 3) := dk_180 0 45 (dk_at dksX0_stone_2 9 rfl rfl)
theorem dX0_stone_60 : decode cX0_stone 60 = .ok (.getfield 208, 3) := dk_180 0 208 (dk_at dksX0_stone_2 12 rfl rfl)
theorem dX0_stone_63 : decode cX0_stone 63 = .ok (.iload_n 1, 1) := dk_27 (dk_at dksX0_stone_2 15 rfl rfl)
theorem dX0_stone_64 : decode cX0_stone 64 = .ok (.iaload, 1) := dk_46 (dk_at dksX0_stone_2 16 rfl rfl)
theorem dX0_stone_65 : decode cX0_stone 65 = .ok (.ireturn, 1) := dk_172 (dk_at dksX0_stone_2 17 rfl rfl)
abbrev cX0_carry : ByteArray := prog_1_method_27_code
def yX0_carry : MethodName := ⟨RX0, "carry", "(III)I"⟩
def dkwX0_carry_3 : List UInt8 := [46, 42, 180, 0, 45, 180, 0, 205, 28, 46, 100, 184, 0, 1, 172]
abbrev dktX0_carry_3 : List UInt8 := dkwX0_carry_3 ++ []
def dkwX0_carry_2 : List UInt8 := [180, 0, 45, 180, 0, 211, 28, 46, 100, 184, 0, 1, 104, 167, 0, 25, 42, 180, 0, 45, 180, 0, 205, 27]
abbrev dktX0_carry_2 : List UInt8 := dkwX0_carry_2 ++ dktX0_carry_3
def dkwX0_carry_1 : List UInt8 := [18, 99, 172, 29, 154, 0, 36, 42, 180, 0, 45, 180, 0, 217, 42, 180, 0, 45, 180, 0, 211, 27, 46, 42]
abbrev dktX0_carry_1 : List UInt8 := dkwX0_carry_1 ++ dktX0_carry_2
def dkwX0_carry_0 : List UInt8 := [42, 27, 182, 0, 199, 153, 0, 18, 42, 28, 182, 0, 199, 153, 0, 10, 29, 184, 0, 214, 154, 0, 6]
abbrev dktX0_carry_0 : List UInt8 := dkwX0_carry_0 ++ dktX0_carry_1
theorem dksX0_carry_0 : cX0_carry.data.toList.drop 0 = dktX0_carry_0 := by decide +kernel
theorem dksX0_carry_1 : cX0_carry.data.toList.drop 23 = dktX0_carry_1 := dk_seg dksX0_carry_0 23 rfl rfl
theorem dksX0_carry_2 : cX0_carry.data.toList.drop 47 = dktX0_carry_2 := dk_seg dksX0_carry_1 24 rfl rfl
theorem dksX0_carry_3 : cX0_carry.data.toList.drop 71 = dktX0_carry_3 := dk_seg dksX0_carry_2 24 rfl rfl
theorem dX0_carry_0 : decode cX0_carry 0 = .ok (.aload_n 0, 1) := dk_42 (dk_at dksX0_carry_0 0 rfl rfl)
theorem dX0_carry_1 : decode cX0_carry 1 = .ok (.iload_n 1, 1) := dk_27 (dk_at dksX0_carry_0 1 rfl rfl)
theorem dX0_carry_2 : decode cX0_carry 2 = .ok (.invokevirtual 199, 3) := dk_182 0 199 (dk_at dksX0_carry_0 2 rfl rfl)
theorem dX0_carry_5 : decode cX0_carry 5 = .ok (.ifCond .eq 18, 3) := dk_153 0 18 (dk_at dksX0_carry_0 5 rfl rfl)
theorem dX0_carry_8 : decode cX0_carry 8 = .ok (.aload_n 0, 1) := dk_42 (dk_at dksX0_carry_0 8 rfl rfl)
theorem dX0_carry_9 : decode cX0_carry 9 = .ok (.iload_n 2, 1) := dk_28 (dk_at dksX0_carry_0 9 rfl rfl)
theorem dX0_carry_10 : decode cX0_carry 10 = .ok (.invokevirtual 199, 3) := dk_182 0 199 (dk_at dksX0_carry_0 10 rfl rfl)
theorem dX0_carry_13 : decode cX0_carry 13 = .ok (.ifCond .eq 10, 3) := dk_153 0 10 (dk_at dksX0_carry_0 13 rfl rfl)
theorem dX0_carry_16 : decode cX0_carry 16 = .ok (.iload_n 3, 1) := dk_29 (dk_at dksX0_carry_0 16 rfl rfl)
theorem dX0_carry_17 : decode cX0_carry 17 = .ok (.invokestatic 214, 3) := dk_184 0 214 (dk_at dksX0_carry_0 17 rfl rfl)
theorem dX0_carry_20 : decode cX0_carry 20 = .ok (.ifCond .ne 6, 3) := dk_154 0 6 (dk_at dksX0_carry_0 20 rfl rfl)
theorem dX0_carry_23 : decode cX0_carry 23 = .ok (.ldc 99, 2) := dk_18 99 (dk_at dksX0_carry_1 0 rfl rfl)
theorem dX0_carry_25 : decode cX0_carry 25 = .ok (.ireturn, 1) := dk_172 (dk_at dksX0_carry_1 2 rfl rfl)
theorem dX0_carry_26 : decode cX0_carry 26 = .ok (.iload_n 3, 1) := dk_29 (dk_at dksX0_carry_1 3 rfl rfl)
theorem dX0_carry_27 : decode cX0_carry 27 = .ok (.ifCond .ne 36, 3) := dk_154 0 36 (dk_at dksX0_carry_1 4 rfl rfl)
theorem dX0_carry_30 : decode cX0_carry 30 = .ok (.aload_n 0, 1) := dk_42 (dk_at dksX0_carry_1 7 rfl rfl)
theorem dX0_carry_31 : decode cX0_carry 31 = .ok (.getfield 45, 3) := dk_180 0 45 (dk_at dksX0_carry_1 8 rfl rfl)
theorem dX0_carry_34 : decode cX0_carry 34 = .ok (.getfield 217, 3) := dk_180 0 217 (dk_at dksX0_carry_1 11 rfl rfl)
theorem dX0_carry_37 : decode cX0_carry 37 = .ok (.aload_n 0, 1) := dk_42 (dk_at dksX0_carry_1 14 rfl rfl)
theorem dX0_carry_38 : decode cX0_carry 38 = .ok (.getfield 45, 3) := dk_180 0 45 (dk_at dksX0_carry_1 15 rfl rfl)
theorem dX0_carry_41 : decode cX0_carry 41 = .ok (.getfield 211, 3) := dk_180 0 211 (dk_at dksX0_carry_1 18 rfl rfl)
theorem dX0_carry_44 : decode cX0_carry 44 = .ok (.iload_n 1, 1) := dk_27 (dk_at dksX0_carry_1 21 rfl rfl)
theorem dX0_carry_45 : decode cX0_carry 45 = .ok (.iaload, 1) := dk_46 (dk_at dksX0_carry_1 22 rfl rfl)
theorem dX0_carry_46 : decode cX0_carry 46 = .ok (.aload_n 0, 1) := dk_42 (dk_at dksX0_carry_1 23 rfl rfl)
theorem dX0_carry_47 : decode cX0_carry 47 = .ok (.getfield 45, 3) := dk_180 0 45 (dk_at dksX0_carry_2 0 rfl rfl)
theorem dX0_carry_50 : decode cX0_carry 50 = .ok (.getfield 211, 3) := dk_180 0 211 (dk_at dksX0_carry_2 3 rfl rfl)
theorem dX0_carry_53 : decode cX0_carry 53 = .ok (.iload_n 2, 1) := dk_28 (dk_at dksX0_carry_2 6 rfl rfl)
theorem dX0_carry_54 : decode cX0_carry 54 = .ok (.iaload, 1) := dk_46 (dk_at dksX0_carry_2 7 rfl rfl)
theorem dX0_carry_55 : decode cX0_carry 55 = .ok (.isub, 1) := dk_100 (dk_at dksX0_carry_2 8 rfl rfl)
theorem dX0_carry_56 : decode cX0_carry 56 = .ok (.invokestatic 1, 3) := dk_184 0 1 (dk_at dksX0_carry_2 9 rfl rfl)
theorem dX0_carry_59 : decode cX0_carry 59 = .ok (.imul, 1) := dk_104 (dk_at dksX0_carry_2 12 rfl rfl)
theorem dX0_carry_60 : decode cX0_carry 60 = .ok (.goto 25, 3) := dk_167 0 25 (dk_at dksX0_carry_2 13 rfl rfl)
theorem dX0_carry_63 : decode cX0_carry 63 = .ok (.aload_n 0, 1) := dk_42 (dk_at dksX0_carry_2 16 rfl rfl)
theorem dX0_carry_64 : decode cX0_carry 64 = .ok (.getfield 45, 3) := dk_180 0 45 (dk_at dksX0_carry_2 17 rfl rfl)
theorem dX0_carry_67 : decode cX0_carry 67 = .ok (.getfield 205, 3) := dk_180 0 205 (dk_at dksX0_carry_2 20 rfl rfl)
theorem dX0_carry_70 : decode cX0_carry 70 = .ok (.iload_n 1, 1) := dk_27 (dk_at dksX0_carry_2 23 rfl rfl)
theorem dX0_carry_71 : decode cX0_carry 71 = .ok (.iaload, 1) := dk_46 (dk_at dksX0_carry_3 0 rfl rfl)
theorem dX0_carry_72 : decode cX0_carry 72 = .ok (.aload_n 0, 1) := dk_42 (dk_at dksX0_carry_3 1 rfl rfl)
theorem dX0_carry_73 : decode cX0_carry 73 = .ok (.getfield 45, 3) := dk_180 0 45 (dk_at dksX0_carry_3 2 rfl rfl)
theorem dX0_carry_76 : decode cX0_carry 76 = .ok (.getfield 205, 3) := dk_180 0 205 (dk_at dksX0_carry_3 5 rfl rfl)
theorem dX0_carry_79 : decode cX0_carry 79 = .ok (.iload_n 2, 1) := dk_28 (dk_at dksX0_carry_3 8 rfl rfl)
theorem dX0_carry_80 : decode cX0_carry 80 = .ok (.iaload, 1) := dk_46 (dk_at dksX0_carry_3 9 rfl rfl)
theorem dX0_carry_81 : decode cX0_carry 81 = .ok (.isub, 1) := dk_100 (dk_at dksX0_carry_3 10 rfl rfl)
theorem dX0_carry_82 : decode cX0_carry 82 = .ok (.invokestatic 1, 3) := dk_184 0 1 (dk_at dksX0_carry_3 11 rfl rfl)
theorem dX0_carry_85 : decode cX0_carry 85 = .ok (.ireturn, 1) := dk_172 (dk_at dksX0_carry_3 14 rfl rfl)
abbrev cX0_isHalf : ByteArray := prog_1_method_21_code
def yX0_isHalf : MethodName := ⟨RX0, "isHalf", "(I)Z"⟩
def dkwX0_isHalf_0 : List UInt8 := [26, 133, 9, 10, 184, 0, 85, 172]
abbrev dktX0_isHalf_0 : List UInt8 := dkwX0_isHalf_0 ++ []
theorem dksX0_isHalf_0 : cX0_isHalf.data.toList.drop 0 = dktX0_isHalf_0 := by decide +kernel
theorem dX0_isHalf_0 : decode cX0_isHalf 0 = .ok (.iload_n 0, 1) := dk_26 (dk_at dksX0_isHalf_0 0 rfl rfl)
theorem dX0_isHalf_1 : decode cX0_isHalf 1 = .ok (.i2l, 1) := dk_133 (dk_at dksX0_isHalf_0 1 rfl rfl)
theorem dX0_isHalf_2 : decode cX0_isHalf 2 = .ok (.lconst 0, 1) := dk_9 (dk_at dksX0_isHalf_0 2 rfl rfl)
theorem dX0_isHalf_3 : decode cX0_isHalf 3 = .ok (.lconst 1, 1) := dk_10 (dk_at dksX0_isHalf_0 3 rfl rfl)
theorem dX0_isHalf_4 : decode cX0_isHalf 4 = .ok (.invokestatic 85, 3) := dk_184 0 85 (dk_at dksX0_isHalf_0 4 rfl rfl)
theorem dX0_isHalf_7 : decode cX0_isHalf 7 = .ok (.ireturn, 1) := dk_172 (dk_at dksX0_isHalf_0 7 rfl rfl)
abbrev cX0_time : ByteArray := prog_1_method_28_code
def yX0_time : MethodName := ⟨RX0, "time", "(IIII)I"⟩
def dkwX0_time_3 : List UInt8 := [180, 0, 220, 172]
abbrev dktX0_time_3 : List UInt8 := dkwX0_time_3 ++ []
def dkwX0_time_2 : List UInt8 := [160, 0, 6, 18, 136, 172, 42, 180, 0, 45, 27, 28, 29, 21, 4, 182, 0, 223, 87, 42, 180, 0, 45]
abbrev dktX0_time_2 : List UInt8 := dkwX0_time_2 ++ dktX0_time_3
def dkwX0_time_1 : List UInt8 := [27, 28, 29, 21, 4, 182, 0, 223, 154, 0, 6, 18, 99, 172, 42, 180, 0, 45, 180, 0, 220, 16, 12]
abbrev dktX0_time_1 : List UInt8 := dkwX0_time_1 ++ dktX0_time_2
def dkwX0_time_0 : List UInt8 := [42, 180, 0, 49, 42, 180, 0, 45, 182, 0, 160, 87, 42, 180, 0, 49, 3, 181, 0, 220, 42, 180, 0, 49]
abbrev dktX0_time_0 : List UInt8 := dkwX0_time_0 ++ dktX0_time_1
theorem dksX0_time_0 : cX0_time.data.toList.drop 0 = dktX0_time_0 := by decide +kernel
theorem dksX0_time_1 : cX0_time.data.toList.drop 24 = dktX0_time_1 := dk_seg dksX0_time_0 24 rfl rfl
theorem dksX0_time_2 : cX0_time.data.toList.drop 47 = dktX0_time_2 := dk_seg dksX0_time_1 23 rfl rfl
theorem dksX0_time_3 : cX0_time.data.toList.drop 70 = dktX0_time_3 := dk_seg dksX0_time_2 23 rfl rfl
theorem dX0_time_0 : decode cX0_time 0 = .ok (.aload_n 0, 1) := dk_42 (dk_at dksX0_time_0 0 rfl rfl)
theorem dX0_time_1 : decode cX0_time 1 = .ok (.getfield 49, 3) := dk_180 0 49 (dk_at dksX0_time_0 1 rfl rfl)
theorem dX0_time_4 : decode cX0_time 4 = .ok (.aload_n 0, 1) := dk_42 (dk_at dksX0_time_0 4 rfl rfl)
theorem dX0_time_5 : decode cX0_time 5 = .ok (.getfield 45, 3) := dk_180 0 45 (dk_at dksX0_time_0 5 rfl rfl)
theorem dX0_time_8 : decode cX0_time 8 = .ok (.invokevirtual 160, 3) := dk_182 0 160 (dk_at dksX0_time_0 8 rfl rfl)
theorem dX0_time_11 : decode cX0_time 11 = .ok (.pop, 1) := dk_87 (dk_at dksX0_time_0 11 rfl rfl)
theorem dX0_time_12 : decode cX0_time 12 = .ok (.aload_n 0, 1) := dk_42 (dk_at dksX0_time_0 12 rfl rfl)
theorem dX0_time_13 : decode cX0_time 13 = .ok (.getfield 49, 3) := dk_180 0 49 (dk_at dksX0_time_0 13 rfl rfl)
theorem dX0_time_16 : decode cX0_time 16 = .ok (.iconst 0, 1) := dk_3 (dk_at dksX0_time_0 16 rfl rfl)
theorem dX0_time_17 : decode cX0_time 17 = .ok (.putfield 220, 3) := dk_181 0 220 (dk_at dksX0_time_0 17 rfl rfl)
theorem dX0_time_20 : decode cX0_time 20 = .ok (.aload_n 0, 1) := dk_42 (dk_at dksX0_time_0 20 rfl rfl)
theorem dX0_time_21 : decode cX0_time 21 = .ok (.getfield 49, 3) := dk_180 0 49 (dk_at dksX0_time_0 21 rfl rfl)
theorem dX0_time_24 : decode cX0_time 24 = .ok (.iload_n 1, 1) := dk_27 (dk_at dksX0_time_1 0 rfl rfl)
theorem dX0_time_25 : decode cX0_time 25 = .ok (.iload_n 2, 1) := dk_28 (dk_at dksX0_time_1 1 rfl rfl)
theorem dX0_time_26 : decode cX0_time 26 = .ok (.iload_n 3, 1) := dk_29 (dk_at dksX0_time_1 2 rfl rfl)
theorem dX0_time_27 : decode cX0_time 27 = .ok (.iload 4, 2) := dk_21 4 (dk_at dksX0_time_1 3 rfl rfl)
theorem dX0_time_29 : decode cX0_time 29 = .ok (.invokevirtual 223, 3) := dk_182 0 223 (dk_at dksX0_time_1 5 rfl rfl)
theorem dX0_time_32 : decode cX0_time 32 = .ok (.ifCond .ne 6, 3) := dk_154 0 6 (dk_at dksX0_time_1 8 rfl rfl)
theorem dX0_time_35 : decode cX0_time 35 = .ok (.ldc 99, 2) := dk_18 99 (dk_at dksX0_time_1 11 rfl rfl)
theorem dX0_time_37 : decode cX0_time 37 = .ok (.ireturn, 1) := dk_172 (dk_at dksX0_time_1 13 rfl rfl)
theorem dX0_time_38 : decode cX0_time 38 = .ok (.aload_n 0, 1) := dk_42 (dk_at dksX0_time_1 14 rfl rfl)
theorem dX0_time_39 : decode cX0_time 39 = .ok (.getfield 45, 3) := dk_180 0 45 (dk_at dksX0_time_1 15 rfl rfl)
theorem dX0_time_42 : decode cX0_time 42 = .ok (.getfield 220, 3) := dk_180 0 220 (dk_at dksX0_time_1 18 rfl rfl)
theorem dX0_time_45 : decode cX0_time 45 = .ok (.bipush 12, 2) := dk_16 12 (dk_at dksX0_time_1 21 rfl rfl)
theorem dX0_time_47 : decode cX0_time 47 = .ok (.if_icmp .ne 6, 3) := dk_160 0 6 (dk_at dksX0_time_2 0 rfl rfl)
theorem dX0_time_50 : decode cX0_time 50 = .ok (.ldc 136, 2) := dk_18 136 (dk_at dksX0_time_2 3 rfl rfl)
theorem dX0_time_52 : decode cX0_time 52 = .ok (.ireturn, 1) := dk_172 (dk_at dksX0_time_2 5 rfl rfl)
theorem dX0_time_53 : decode cX0_time 53 = .ok (.aload_n 0, 1) := dk_42 (dk_at dksX0_time_2 6 rfl rfl)
theorem dX0_time_54 : decode cX0_time 54 = .ok (.getfield 45, 3) := dk_180 0 45 (dk_at dksX0_time_2 7 rfl rfl)
theorem dX0_time_57 : decode cX0_time 57 = .ok (.iload_n 1, 1) := dk_27 (dk_at dksX0_time_2 10 rfl rfl)
theorem dX0_time_58 : decode cX0_time 58 = .ok (.iload_n 2, 1) := dk_28 (dk_at dksX0_time_2 11 rfl rfl)
theorem dX0_time_59 : decode cX0_time 59 = .ok (.iload_n 3, 1) := dk_29 (dk_at dksX0_time_2 12 rfl rfl)
theorem dX0_time_60 : decode cX0_time 60 = .ok (.iload 4, 2) := dk_21 4 (dk_at dksX0_time_2 13 rfl rfl)
theorem dX0_time_62 : decode cX0_time 62 = .ok (.invokevirtual 223, 3) := dk_182 0 223 (dk_at dksX0_time_2 15 rfl rfl)
theorem dX0_time_65 : decode cX0_time 65 = .ok (.pop, 1) := dk_87 (dk_at dksX0_time_2 18 rfl rfl)
theorem dX0_time_66 : decode cX0_time 66 = .ok (.aload_n 0, 1) := dk_42 (dk_at dksX0_time_2 19 rfl rfl)
theorem dX0_time_67 : decode cX0_time 67 = .ok (.getfield 45, 3) := dk_180 0 45 (dk_at dksX0_time_2 20 rfl rfl)
theorem dX0_time_70 : decode cX0_time 70 = .ok (.getfield 220, 3) := dk_180 0 220 (dk_at dksX0_time_3 0 rfl rfl)
theorem dX0_time_73 : decode cX0_time 73 = .ok (.ireturn, 1) := dk_172 (dk_at dksX0_time_3 3 rfl rfl)
abbrev cX0_times : ByteArray := prog_1_method_29_code
def yX0_times : MethodName := ⟨RX0, "times", "(III)I"⟩
def dkwX0_times_9 : List UInt8 := [172, 58, 4, 42, 25, 4, 182, 0, 106, 172]
abbrev dktX0_times_9 : List UInt8 := dkwX0_times_9 ++ []
def dkwX0_times_8 : List UInt8 := [6, 96, 46, 182, 0, 223, 87, 132, 5, 1, 167, 255, 205, 42, 42, 180, 0, 45, 180, 0, 220, 182, 0, 103]
abbrev dktX0_times_8 : List UInt8 := dkwX0_times_8 ++ dktX0_times_9
def dkwX0_times_7 : List UInt8 := [25, 4, 7, 21, 5, 104, 4, 96, 46, 25, 4, 7, 21, 5, 104, 5, 96, 46, 25, 4, 7, 21, 5, 104]
abbrev dktX0_times_7 : List UInt8 := dkwX0_times_7 ++ dktX0_times_8
def dkwX0_times_6 : List UInt8 := [18, 136, 172, 3, 54, 5, 21, 5, 29, 162, 0, 51, 42, 180, 0, 45, 25, 4, 7, 21, 5, 104, 46]
abbrev dktX0_times_6 : List UInt8 := dkwX0_times_6 ++ dktX0_times_7
def dkwX0_times_5 : List UInt8 := [18, 99, 172, 132, 5, 1, 167, 255, 200, 42, 180, 0, 45, 180, 0, 220, 29, 96, 16, 12, 164, 0, 6]
abbrev dktX0_times_5 : List UInt8 := dkwX0_times_5 ++ dktX0_times_6
def dkwX0_times_4 : List UInt8 := [25, 4, 7, 21, 5, 104, 5, 96, 46, 25, 4, 7, 21, 5, 104, 6, 96, 46, 182, 0, 223, 154, 0, 6]
abbrev dktX0_times_4 : List UInt8 := dkwX0_times_4 ++ dktX0_times_5
def dkwX0_times_3 : List UInt8 := [29, 162, 0, 56, 42, 180, 0, 49, 25, 4, 7, 21, 5, 104, 46, 25, 4, 7, 21, 5, 104, 4, 96, 46]
abbrev dktX0_times_3 : List UInt8 := dkwX0_times_3 ++ dktX0_times_4
def dkwX0_times_2 : List UInt8 := [180, 0, 49, 42, 180, 0, 45, 182, 0, 160, 87, 42, 180, 0, 49, 3, 181, 0, 220, 3, 54, 5, 21, 5]
abbrev dktX0_times_2 : List UInt8 := dkwX0_times_2 ++ dktX0_times_3
def dkwX0_times_1 : List UInt8 := [184, 0, 85, 154, 0, 6, 18, 99, 172, 42, 27, 182, 0, 110, 28, 7, 29, 104, 182, 0, 229, 58, 4, 42]
abbrev dktX0_times_1 : List UInt8 := dkwX0_times_1 ++ dktX0_times_2
def dkwX0_times_0 : List UInt8 := [42, 182, 0, 183, 154, 0, 6, 18, 187, 172, 27, 184, 0, 93, 153, 0, 15, 29, 133, 10, 20, 0, 227]
abbrev dktX0_times_0 : List UInt8 := dkwX0_times_0 ++ dktX0_times_1
theorem dksX0_times_0 : cX0_times.data.toList.drop 0 = dktX0_times_0 := by decide +kernel
theorem dksX0_times_1 : cX0_times.data.toList.drop 23 = dktX0_times_1 := dk_seg dksX0_times_0 23 rfl rfl
theorem dksX0_times_2 : cX0_times.data.toList.drop 47 = dktX0_times_2 := dk_seg dksX0_times_1 24 rfl rfl
theorem dksX0_times_3 : cX0_times.data.toList.drop 71 = dktX0_times_3 := dk_seg dksX0_times_2 24 rfl rfl
theorem dksX0_times_4 : cX0_times.data.toList.drop 95 = dktX0_times_4 := dk_seg dksX0_times_3 24 rfl rfl
theorem dksX0_times_5 : cX0_times.data.toList.drop 119 = dktX0_times_5 := dk_seg dksX0_times_4 24 rfl rfl
theorem dksX0_times_6 : cX0_times.data.toList.drop 142 = dktX0_times_6 := dk_seg dksX0_times_5 23 rfl rfl
theorem dksX0_times_7 : cX0_times.data.toList.drop 165 = dktX0_times_7 := dk_seg dksX0_times_6 23 rfl rfl
theorem dksX0_times_8 : cX0_times.data.toList.drop 189 = dktX0_times_8 := dk_seg dksX0_times_7 24 rfl rfl
theorem dksX0_times_9 : cX0_times.data.toList.drop 213 = dktX0_times_9 := dk_seg dksX0_times_8 24 rfl rfl
theorem dX0_times_0 : decode cX0_times 0 = .ok (.aload_n 0, 1) := dk_42 (dk_at dksX0_times_0 0 rfl rfl)
theorem dX0_times_1 : decode cX0_times 1 = .ok (.invokevirtual 183, 3) := dk_182 0 183 (dk_at dksX0_times_0 1 rfl rfl)
theorem dX0_times_4 : decode cX0_times 4 = .ok (.ifCond .ne 6, 3) := dk_154 0 6 (dk_at dksX0_times_0 4 rfl rfl)
theorem dX0_times_7 : decode cX0_times 7 = .ok (.ldc 187, 2) := dk_18 187 (dk_at dksX0_times_0 7 rfl rfl)
theorem dX0_times_9 : decode cX0_times 9 = .ok (.ireturn, 1) := dk_172 (dk_at dksX0_times_0 9 rfl rfl)
theorem dX0_times_10 : decode cX0_times 10 = .ok (.iload_n 1, 1) := dk_27 (dk_at dksX0_times_0 10 rfl rfl)
theorem dX0_times_11 : decode cX0_times 11 = .ok (.invokestatic 93, 3) := dk_184 0 93 (dk_at dksX0_times_0 11 rfl rfl)
theorem dX0_times_14 : decode cX0_times 14 = .ok (.ifCond .eq 15, 3) := dk_153 0 15 (dk_at dksX0_times_0 14 rfl rfl)
theorem dX0_times_17 : decode cX0_times 17 = .ok (.iload_n 3, 1) := dk_29 (dk_at dksX0_times_0 17 rfl rfl)
theorem dX0_times_18 : decode cX0_times 18 = .ok (.i2l, 1) := dk_133 (dk_at dksX0_times_0 18 rfl rfl)
theorem dX0_times_19 : decode cX0_times 19 = .ok (.lconst 1, 1) := dk_10 (dk_at dksX0_times_0 19 rfl rfl)
theorem dX0_times_20 : decode cX0_times 20 = .ok (.ldc2_w 227, 3) := dk_20 0 227 (dk_at dksX0_times_0 20 rfl rfl)
theorem dX0_times_23 : decode cX0_times 23 = .ok (.invokestatic 85, 3) := dk_184 0 85 (dk_at dksX0_times_1 0 rfl rfl)
theorem dX0_times_26 : decode cX0_times 26 = .ok (.ifCond .ne 6, 3) := dk_154 0 6 (dk_at dksX0_times_1 3 rfl rfl)
theorem dX0_times_29 : decode cX0_times 29 = .ok (.ldc 99, 2) := dk_18 99 (dk_at dksX0_times_1 6 rfl rfl)
theorem dX0_times_31 : decode cX0_times 31 = .ok (.ireturn, 1) := dk_172 (dk_at dksX0_times_1 8 rfl rfl)
theorem dX0_times_32 : decode cX0_times 32 = .ok (.aload_n 0, 1) := dk_42 (dk_at dksX0_times_1 9 rfl rfl)
theorem dX0_times_33 : decode cX0_times 33 = .ok (.iload_n 1, 1) := dk_27 (dk_at dksX0_times_1 10 rfl rfl)
theorem dX0_times_34 : decode cX0_times 34 = .ok (.invokevirtual 110, 3) := dk_182 0 110 (dk_at dksX0_times_1 11 rfl rfl)
theorem dX0_times_37 : decode cX0_times 37 = .ok (.iload_n 2, 1) := dk_28 (dk_at dksX0_times_1 14 rfl rfl)
theorem dX0_times_38 : decode cX0_times 38 = .ok (.iconst 4, 1) := dk_7 (dk_at dksX0_times_1 15 rfl rfl)
theorem dX0_times_39 : decode cX0_times 39 = .ok (.iload_n 3, 1) := dk_29 (dk_at dksX0_times_1 16 rfl rfl)
theorem dX0_times_40 : decode cX0_times 40 = .ok (.imul, 1) := dk_104 (dk_at dksX0_times_1 17 rfl rfl)
theorem dX0_times_41 : decode cX0_times 41 = .ok (.invokevirtual 229, 3) := dk_182 0 229 (dk_at dksX0_times_1 18 rfl rfl)
theorem dX0_times_44 : decode cX0_times 44 = .ok (.astore 4, 2) := dk_58 4 (dk_at dksX0_times_1 21 rfl rfl)
theorem dX0_times_46 : decode cX0_times 46 = .ok (.aload_n 0, 1) := dk_42 (dk_at dksX0_times_1 23 rfl rfl)
theorem dX0_times_47 : decode cX0_times 47 = .ok (.getfield 49, 3) := dk_180 0 49 (dk_at dksX0_times_2 0 rfl rfl)
theorem dX0_times_50 : decode cX0_times 50 = .ok (.aload_n 0, 1) := dk_42 (dk_at dksX0_times_2 3 rfl rfl)
theorem dX0_times_51 : decode cX0_times 51 = .ok (.getfield 45, 3) := dk_180 0 45 (dk_at dksX0_times_2 4 rfl rfl)
theorem dX0_times_54 : decode cX0_times 54 = .ok (.invokevirtual 160, 3) := dk_182 0 160 (dk_at dksX0_times_2 7 rfl rfl)
theorem dX0_times_57 : decode cX0_times 57 = .ok (.pop, 1) := dk_87 (dk_at dksX0_times_2 10 rfl rfl)
theorem dX0_times_58 : decode cX0_times 58 = .ok (.aload_n 0, 1) := dk_42 (dk_at dksX0_times_2 11 rfl rfl)
theorem dX0_times_59 : decode cX0_times 59 = .ok (.getfield 49, 3) := dk_180 0 49 (dk_at dksX0_times_2 12 rfl rfl)
theorem dX0_times_62 : decode cX0_times 62 = .ok (.iconst 0, 1) := dk_3 (dk_at dksX0_times_2 15 rfl rfl)
theorem dX0_times_63 : decode cX0_times 63 = .ok (.putfield 220, 3) := dk_181 0 220 (dk_at dksX0_times_2 16 rfl rfl)
theorem dX0_times_66 : decode cX0_times 66 = .ok (.iconst 0, 1) := dk_3 (dk_at dksX0_times_2 19 rfl rfl)
theorem dX0_times_67 : decode cX0_times 67 = .ok (.istore 5, 2) := dk_54 5 (dk_at dksX0_times_2 20 rfl rfl)
theorem dX0_times_69 : decode cX0_times 69 = .ok (.iload 5, 2) := dk_21 5 (dk_at dksX0_times_2 22 rfl rfl)
theorem dX0_times_71 : decode cX0_times 71 = .ok (.iload_n 3, 1) := dk_29 (dk_at dksX0_times_3 0 rfl rfl)
theorem dX0_times_72 : decode cX0_times 72 = .ok (.if_icmp .ge 56, 3) := dk_162 0 56 (dk_at dksX0_times_3 1 rfl rfl)
theorem dX0_times_75 : decode cX0_times 75 = .ok (.aload_n 0, 1) := dk_42 (dk_at dksX0_times_3 4 rfl rfl)
theorem dX0_times_76 : decode cX0_times 76 = .ok (.getfield 49, 3) := dk_180 0 49 (dk_at dksX0_times_3 5 rfl rfl)
theorem dX0_times_79 : decode cX0_times 79 = .ok (.aload 4, 2) := dk_25 4 (dk_at dksX0_times_3 8 rfl rfl)
theorem dX0_times_81 : decode cX0_times 81 = .ok (.iconst 4, 1) := dk_7 (dk_at dksX0_times_3 10 rfl rfl)
theorem dX0_times_82 : decode cX0_times 82 = .ok (.iload 5, 2) := dk_21 5 (dk_at dksX0_times_3 11 rfl rfl)
theorem dX0_times_84 : decode cX0_times 84 = .ok (.imul, 1) := dk_104 (dk_at dksX0_times_3 13 rfl rfl)
theorem dX0_times_85 : decode cX0_times 85 = .ok (.iaload, 1) := dk_46 (dk_at dksX0_times_3 14 rfl rfl)
theorem dX0_times_86 : decode cX0_times 86 = .ok (.aload 4, 2) := dk_25 4 (dk_at dksX0_times_3 15 rfl rfl)
theorem dX0_times_88 : decode cX0_times 88 = .ok (.iconst 4, 1) := dk_7 (dk_at dksX0_times_3 17 rfl rfl)
theorem dX0_times_89 : decode cX0_times 89 = .ok (.iload 5, 2) := dk_21 5 (dk_at dksX0_times_3 18 rfl rfl)
theorem dX0_times_91 : decode cX0_times 91 = .ok (.imul, 1) := dk_104 (dk_at dksX0_times_3 20 rfl rfl)
theorem dX0_times_92 : decode cX0_times 92 = .ok (.iconst 1, 1) := dk_4 (dk_at dksX0_times_3 21 rfl rfl)
theorem dX0_times_93 : decode cX0_times 93 = .ok (.iadd, 1) := dk_96 (dk_at dksX0_times_3 22 rfl rfl)
theorem dX0_times_94 : decode cX0_times 94 = .ok (.iaload, 1) := dk_46 (dk_at dksX0_times_3 23 rfl rfl)
theorem dX0_times_95 : decode cX0_times 95 = .ok (.aload 4, 2) := dk_25 4 (dk_at dksX0_times_4 0 rfl rfl)
theorem dX0_times_97 : decode cX0_times 97 = .ok (.iconst 4, 1) := dk_7 (dk_at dksX0_times_4 2 rfl rfl)
theorem dX0_times_98 : decode cX0_times 98 = .ok (.iload 5, 2) := dk_21 5 (dk_at dksX0_times_4 3 rfl rfl)
theorem dX0_times_100 : decode cX0_times 100 = .ok (.imul, 1) := dk_104 (dk_at dksX0_times_4 5 rfl rfl)
theorem dX0_times_101 : decode cX0_times 101 = .ok (.iconst 2, 1) := dk_5 (dk_at dksX0_times_4 6 rfl rfl)
theorem dX0_times_102 : decode cX0_times 102 = .ok (.iadd, 1) := dk_96 (dk_at dksX0_times_4 7 rfl rfl)
theorem dX0_times_103 : decode cX0_times 103 = .ok (.iaload, 1) := dk_46 (dk_at dksX0_times_4 8 rfl rfl)
theorem dX0_times_104 : decode cX0_times 104 = .ok (.aload 4, 2) := dk_25 4 (dk_at dksX0_times_4 9 rfl rfl)
theorem dX0_times_106 : decode cX0_times 106 = .ok (.iconst 4, 1) := dk_7 (dk_at dksX0_times_4 11 rfl rfl)
theorem dX0_times_107 : decode cX0_times 107 = .ok (.iload 5, 2) := dk_21 5 (dk_at dksX0_times_4 12 rfl rfl)
theorem dX0_times_109 : decode cX0_times 109 = .ok (.imul, 1) := dk_104 (dk_at dksX0_times_4 14 rfl rfl)
theorem dX0_times_110 : decode cX0_times 110 = .ok (.iconst 3, 1) := dk_6 (dk_at dksX0_times_4 15 rfl rfl)
theorem dX0_times_111 : decode cX0_times 111 = .ok (.iadd, 1) := dk_96 (dk_at dksX0_times_4 16 rfl rfl)
theorem dX0_times_112 : decode cX0_times 112 = .ok (.iaload, 1) := dk_46 (dk_at dksX0_times_4 17 rfl rfl)
theorem dX0_times_113 : decode cX0_times 113 = .ok (.invokevirtual 223, 3) := dk_182 0 223 (dk_at dksX0_times_4 18 rfl rfl)
theorem dX0_times_116 : decode cX0_times 116 = .ok (.ifCond .ne 6, 3) := dk_154 0 6 (dk_at dksX0_times_4 21 rfl rfl)
theorem dX0_times_119 : decode cX0_times 119 = .ok (.ldc 99, 2) := dk_18 99 (dk_at dksX0_times_5 0 rfl rfl)
theorem dX0_times_121 : decode cX0_times 121 = .ok (.ireturn, 1) := dk_172 (dk_at dksX0_times_5 2 rfl rfl)
theorem dX0_times_122 : decode cX0_times 122 = .ok (.iinc 5 1, 3) := dk_132 5 1 (dk_at dksX0_times_5 3 rfl rfl)
theorem dX0_times_125 : decode cX0_times 125 = .ok (.goto (-56), 3) := dk_167 255 200 (dk_at dksX0_times_5 6 rfl rfl)
theorem dX0_times_128 : decode cX0_times 128 = .ok (.aload_n 0, 1) := dk_42 (dk_at dksX0_times_5 9 rfl rfl)
theorem dX0_times_129 : decode cX0_times 129 = .ok (.getfield 45, 3) := dk_180 0 45 (dk_at dksX0_times_5 10 rfl rfl)
theorem dX0_times_132 : decode cX0_times 132 = .ok (.getfield 220, 3) := dk_180 0 220 (dk_at dksX0_times_5 13 rfl rfl)
theorem dX0_times_135 : decode cX0_times 135 = .ok (.iload_n 3, 1) := dk_29 (dk_at dksX0_times_5 16 rfl rfl)
theorem dX0_times_136 : decode cX0_times 136 = .ok (.iadd, 1) := dk_96 (dk_at dksX0_times_5 17 rfl rfl)
theorem dX0_times_137 : decode cX0_times 137 = .ok (.bipush 12, 2) := dk_16 12 (dk_at dksX0_times_5 18 rfl rfl)
theorem dX0_times_139 : decode cX0_times 139 = .ok (.if_icmp .le 6, 3) := dk_164 0 6 (dk_at dksX0_times_5 20 rfl rfl)
theorem dX0_times_142 : decode cX0_times 142 = .ok (.ldc 136, 2) := dk_18 136 (dk_at dksX0_times_6 0 rfl rfl)
theorem dX0_times_144 : decode cX0_times 144 = .ok (.ireturn, 1) := dk_172 (dk_at dksX0_times_6 2 rfl rfl)
theorem dX0_times_145 : decode cX0_times 145 = .ok (.iconst 0, 1) := dk_3 (dk_at dksX0_times_6 3 rfl rfl)
theorem dX0_times_146 : decode cX0_times 146 = .ok (.istore 5, 2) := dk_54 5 (dk_at dksX0_times_6 4 rfl rfl)
theorem dX0_times_148 : decode cX0_times 148 = .ok (.iload 5, 2) := dk_21 5 (dk_at dksX0_times_6 6 rfl rfl)
theorem dX0_times_150 : decode cX0_times 150 = .ok (.iload_n 3, 1) := dk_29 (dk_at dksX0_times_6 8 rfl rfl)
theorem dX0_times_151 : decode cX0_times 151 = .ok (.if_icmp .ge 51, 3) := dk_162 0 51 (dk_at dksX0_times_6 9 rfl rfl)
theorem dX0_times_154 : decode cX0_times 154 = .ok (.aload_n 0, 1) := dk_42 (dk_at dksX0_times_6 12 rfl rfl)
theorem dX0_times_155 : decode cX0_times 155 = .ok (.getfield 45, 3) := dk_180 0 45 (dk_at dksX0_times_6 13 rfl rfl)
theorem dX0_times_158 : decode cX0_times 158 = .ok (.aload 4, 2) := dk_25 4 (dk_at dksX0_times_6 16 rfl rfl)
theorem dX0_times_160 : decode cX0_times 160 = .ok (.iconst 4, 1) := dk_7 (dk_at dksX0_times_6 18 rfl rfl)
theorem dX0_times_161 : decode cX0_times 161 = .ok (.iload 5, 2) := dk_21 5 (dk_at dksX0_times_6 19 rfl rfl)
theorem dX0_times_163 : decode cX0_times 163 = .ok (.imul, 1) := dk_104 (dk_at dksX0_times_6 21 rfl rfl)
theorem dX0_times_164 : decode cX0_times 164 = .ok (.iaload, 1) := dk_46 (dk_at dksX0_times_6 22 rfl rfl)
theorem dX0_times_165 : decode cX0_times 165 = .ok (.aload 4, 2) := dk_25 4 (dk_at dksX0_times_7 0 rfl rfl)
theorem dX0_times_167 : decode cX0_times 167 = .ok (.iconst 4, 1) := dk_7 (dk_at dksX0_times_7 2 rfl rfl)
theorem dX0_times_168 : decode cX0_times 168 = .ok (.iload 5, 2) := dk_21 5 (dk_at dksX0_times_7 3 rfl rfl)
theorem dX0_times_170 : decode cX0_times 170 = .ok (.imul, 1) := dk_104 (dk_at dksX0_times_7 5 rfl rfl)
theorem dX0_times_171 : decode cX0_times 171 = .ok (.iconst 1, 1) := dk_4 (dk_at dksX0_times_7 6 rfl rfl)
theorem dX0_times_172 : decode cX0_times 172 = .ok (.iadd, 1) := dk_96 (dk_at dksX0_times_7 7 rfl rfl)
theorem dX0_times_173 : decode cX0_times 173 = .ok (.iaload, 1) := dk_46 (dk_at dksX0_times_7 8 rfl rfl)
theorem dX0_times_174 : decode cX0_times 174 = .ok (.aload 4, 2) := dk_25 4 (dk_at dksX0_times_7 9 rfl rfl)
theorem dX0_times_176 : decode cX0_times 176 = .ok (.iconst 4, 1) := dk_7 (dk_at dksX0_times_7 11 rfl rfl)
theorem dX0_times_177 : decode cX0_times 177 = .ok (.iload 5, 2) := dk_21 5 (dk_at dksX0_times_7 12 rfl rfl)
theorem dX0_times_179 : decode cX0_times 179 = .ok (.imul, 1) := dk_104 (dk_at dksX0_times_7 14 rfl rfl)
theorem dX0_times_180 : decode cX0_times 180 = .ok (.iconst 2, 1) := dk_5 (dk_at dksX0_times_7 15 rfl rfl)
theorem dX0_times_181 : decode cX0_times 181 = .ok (.iadd, 1) := dk_96 (dk_at dksX0_times_7 16 rfl rfl)
theorem dX0_times_182 : decode cX0_times 182 = .ok (.iaload, 1) := dk_46 (dk_at dksX0_times_7 17 rfl rfl)
theorem dX0_times_183 : decode cX0_times 183 = .ok (.aload 4, 2) := dk_25 4 (dk_at dksX0_times_7 18 rfl rfl)
theorem dX0_times_185 : decode cX0_times 185 = .ok (.iconst 4, 1) := dk_7 (dk_at dksX0_times_7 20 rfl rfl)
theorem dX0_times_186 : decode cX0_times 186 = .ok (.iload 5, 2) := dk_21 5 (dk_at dksX0_times_7 21 rfl rfl)
theorem dX0_times_188 : decode cX0_times 188 = .ok (.imul, 1) := dk_104 (dk_at dksX0_times_7 23 rfl rfl)
theorem dX0_times_189 : decode cX0_times 189 = .ok (.iconst 3, 1) := dk_6 (dk_at dksX0_times_8 0 rfl rfl)
theorem dX0_times_190 : decode cX0_times 190 = .ok (.iadd, 1) := dk_96 (dk_at dksX0_times_8 1 rfl rfl)
theorem dX0_times_191 : decode cX0_times 191 = .ok (.iaload, 1) := dk_46 (dk_at dksX0_times_8 2 rfl rfl)
theorem dX0_times_192 : decode cX0_times 192 = .ok (.invokevirtual 223, 3) := dk_182 0 223 (dk_at dksX0_times_8 3 rfl rfl)
theorem dX0_times_195 : decode cX0_times 195 = .ok (.pop, 1) := dk_87 (dk_at dksX0_times_8 6 rfl rfl)
theorem dX0_times_196 : decode cX0_times 196 = .ok (.iinc 5 1, 3) := dk_132 5 1 (dk_at dksX0_times_8 7 rfl rfl)
theorem dX0_times_199 : decode cX0_times 199 = .ok (.goto (-51), 3) := dk_167 255 205 (dk_at dksX0_times_8 10 rfl rfl)
theorem dX0_times_202 : decode cX0_times 202 = .ok (.aload_n 0, 1) := dk_42 (dk_at dksX0_times_8 13 rfl rfl)
theorem dX0_times_203 : decode cX0_times 203 = .ok (.aload_n 0, 1) := dk_42 (dk_at dksX0_times_8 14 rfl rfl)
theorem dX0_times_204 : decode cX0_times 204 = .ok (.getfield 45, 3) := dk_180 0 45 (dk_at dksX0_times_8 15 rfl rfl)
theorem dX0_times_207 : decode cX0_times 207 = .ok (.getfield 220, 3) := dk_180 0 220 (dk_at dksX0_times_8 18 rfl rfl)
theorem dX0_times_210 : decode cX0_times 210 = .ok (.invokevirtual 103, 3) := dk_182 0 103 (dk_at dksX0_times_8 21 rfl rfl)
theorem dX0_times_213 : decode cX0_times 213 = .ok (.ireturn, 1) := dk_172 (dk_at dksX0_times_9 0 rfl rfl)
theorem dX0_times_214 : decode cX0_times 214 = .ok (.astore 4, 2) := dk_58 4 (dk_at dksX0_times_9 1 rfl rfl)
theorem dX0_times_216 : decode cX0_times 216 = .ok (.aload_n 0, 1) := dk_42 (dk_at dksX0_times_9 3 rfl rfl)
theorem dX0_times_217 : decode cX0_times 217 = .ok (.aload 4, 2) := dk_25 4 (dk_at dksX0_times_9 4 rfl rfl)
theorem dX0_times_219 : decode cX0_times 219 = .ok (.invokevirtual 106, 3) := dk_182 0 106 (dk_at dksX0_times_9 6 rfl rfl)
theorem dX0_times_222 : decode cX0_times 222 = .ok (.ireturn, 1) := dk_172 (dk_at dksX0_times_9 9 rfl rfl)
abbrev cX0_forget : ByteArray := prog_1_method_30_code
def yX0_forget : MethodName := ⟨RX0, "forget", "()I"⟩
def dkwX0_forget_0 : List UInt8 := [42, 180, 0, 45, 180, 0, 220, 60, 42, 180, 0, 45, 3, 181, 0, 220, 27, 172]
abbrev dktX0_forget_0 : List UInt8 := dkwX0_forget_0 ++ []
theorem dksX0_forget_0 : cX0_forget.data.toList.drop 0 = dktX0_forget_0 := by decide +kernel
theorem dX0_forget_0 : decode cX0_forget 0 = .ok (.aload_n 0, 1) := dk_42 (dk_at dksX0_forget_0 0 rfl rfl)
theorem dX0_forget_1 : decode cX0_forget 1 = .ok (.getfield 45, 3) := dk_180 0 45 (dk_at dksX0_forget_0 1 rfl rfl)
theorem dX0_forget_4 : decode cX0_forget 4 = .ok (.getfield 220, 3) := dk_180 0 220 (dk_at dksX0_forget_0 4 rfl rfl)
theorem dX0_forget_7 : decode cX0_forget 7 = .ok (.istore_n 1, 1) := dk_60 (dk_at dksX0_forget_0 7 rfl rfl)
theorem dX0_forget_8 : decode cX0_forget 8 = .ok (.aload_n 0, 1) := dk_42 (dk_at dksX0_forget_0 8 rfl rfl)
theorem dX0_forget_9 : decode cX0_forget 9 = .ok (.getfield 45, 3) := dk_180 0 45 (dk_at dksX0_forget_0 9 rfl rfl)
theorem dX0_forget_12 : decode cX0_forget 12 = .ok (.iconst 0, 1) := dk_3 (dk_at dksX0_forget_0 12 rfl rfl)
theorem dX0_forget_13 : decode cX0_forget 13 = .ok (.putfield 220, 3) := dk_181 0 220 (dk_at dksX0_forget_0 13 rfl rfl)
theorem dX0_forget_16 : decode cX0_forget 16 = .ok (.iload_n 1, 1) := dk_27 (dk_at dksX0_forget_0 16 rfl rfl)
theorem dX0_forget_17 : decode cX0_forget 17 = .ok (.ireturn, 1) := dk_172 (dk_at dksX0_forget_0 17 rfl rfl)
abbrev cX0_ends : ByteArray := prog_1_method_34_code
def yX0_ends : MethodName := ⟨RX0, "ends", "(III)I"⟩
def dkwX0_ends_3 : List UInt8 := [180, 0, 66, 42, 27, 28, 182, 0, 233, 46, 172]
abbrev dktX0_ends_3 : List UInt8 := dkwX0_ends_3 ++ []
def dkwX0_ends_2 : List UInt8 := [18, 249, 172, 29, 154, 0, 18, 42, 180, 0, 66, 42, 28, 27, 182, 0, 233, 46, 116, 167, 0, 14, 42]
abbrev dktX0_ends_2 : List UInt8 := dkwX0_ends_2 ++ dktX0_ends_3
def dkwX0_ends_1 : List UInt8 := [184, 0, 85, 153, 0, 10, 29, 184, 0, 214, 154, 0, 6, 18, 99, 172, 42, 182, 0, 246, 154, 0, 6]
abbrev dktX0_ends_1 : List UInt8 := dkwX0_ends_1 ++ dktX0_ends_2
def dkwX0_ends_0 : List UInt8 := [42, 27, 182, 0, 199, 153, 0, 32, 28, 133, 27, 4, 96, 133, 42, 180, 0, 45, 180, 0, 167, 4, 100, 133]
abbrev dktX0_ends_0 : List UInt8 := dkwX0_ends_0 ++ dktX0_ends_1
theorem dksX0_ends_0 : cX0_ends.data.toList.drop 0 = dktX0_ends_0 := by decide +kernel
theorem dksX0_ends_1 : cX0_ends.data.toList.drop 24 = dktX0_ends_1 := dk_seg dksX0_ends_0 24 rfl rfl
theorem dksX0_ends_2 : cX0_ends.data.toList.drop 47 = dktX0_ends_2 := dk_seg dksX0_ends_1 23 rfl rfl
theorem dksX0_ends_3 : cX0_ends.data.toList.drop 70 = dktX0_ends_3 := dk_seg dksX0_ends_2 23 rfl rfl
theorem dX0_ends_0 : decode cX0_ends 0 = .ok (.aload_n 0, 1) := dk_42 (dk_at dksX0_ends_0 0 rfl rfl)
theorem dX0_ends_1 : decode cX0_ends 1 = .ok (.iload_n 1, 1) := dk_27 (dk_at dksX0_ends_0 1 rfl rfl)
theorem dX0_ends_2 : decode cX0_ends 2 = .ok (.invokevirtual 199, 3) := dk_182 0 199 (dk_at dksX0_ends_0 2 rfl rfl)
theorem dX0_ends_5 : decode cX0_ends 5 = .ok (.ifCond .eq 32, 3) := dk_153 0 32 (dk_at dksX0_ends_0 5 rfl rfl)
theorem dX0_ends_8 : decode cX0_ends 8 = .ok (.iload_n 2, 1) := dk_28 (dk_at dksX0_ends_0 8 rfl rfl)
theorem dX0_ends_9 : decode cX0_ends 9 = .ok (.i2l, 1) := dk_133 (dk_at dksX0_ends_0 9 rfl rfl)
theorem dX0_ends_10 : decode cX0_ends 10 = .ok (.iload_n 1, 1) := dk_27 (dk_at dksX0_ends_0 10 rfl rfl)
theorem dX0_ends_11 : decode cX0_ends 11 = .ok (.iconst 1, 1) := dk_4 (dk_at dksX0_ends_0 11 rfl rfl)
theorem dX0_ends_12 : decode cX0_ends 12 = .ok (.iadd, 1) := dk_96 (dk_at dksX0_ends_0 12 rfl rfl)
theorem dX0_ends_13 : decode cX0_ends 13 = .ok (.i2l, 1) := dk_133 (dk_at dksX0_ends_0 13 rfl rfl)
theorem dX0_ends_14 : decode cX0_ends 14 = .ok (.aload_n 0, 1) := dk_42 (dk_at dksX0_ends_0 14 rfl rfl)
theorem dX0_ends_15 : decode cX0_ends 15 = .ok (.getfield 45, 3) := dk_180 0 45 (dk_at dksX0_ends_0 15 rfl rfl)
theorem dX0_ends_18 : decode cX0_ends 18 = .ok (.getfield 167, 3) := dk_180 0 167 (dk_at dksX0_ends_0 18 rfl rfl)
theorem dX0_ends_21 : decode cX0_ends 21 = .ok (.iconst 1, 1) := dk_4 (dk_at dksX0_ends_0 21 rfl rfl)
theorem dX0_ends_22 : decode cX0_ends 22 = .ok (.isub, 1) := dk_100 (dk_at dksX0_ends_0 22 rfl rfl)
theorem dX0_ends_23 : decode cX0_ends 23 = .ok (.i2l, 1) := dk_133 (dk_at dksX0_ends_0 23 rfl rfl)
theorem dX0_ends_24 : decode cX0_ends 24 = .ok (.invokestatic 85, 3) := dk_184 0 85 (dk_at dksX0_ends_1 0 rfl rfl)
theorem dX0_ends_27 : decode cX0_ends 27 = .ok (.ifCond .eq 10, 3) := dk_153 0 10 (dk_at dksX0_ends_1 3 rfl rfl)
theorem dX0_ends_30 : decode cX0_ends 30 = .ok (.iload_n 3, 1) := dk_29 (dk_at dksX0_ends_1 6 rfl rfl)
theorem dX0_ends_31 : decode cX0_ends 31 = .ok (.invokestatic 214, 3) := dk_184 0 214 (dk_at dksX0_ends_1 7 rfl rfl)
theorem dX0_ends_34 : decode cX0_ends 34 = .ok (.ifCond .ne 6, 3) := dk_154 0 6 (dk_at dksX0_ends_1 10 rfl rfl)
theorem dX0_ends_37 : decode cX0_ends 37 = .ok (.ldc 99, 2) := dk_18 99 (dk_at dksX0_ends_1 13 rfl rfl)
theorem dX0_ends_39 : decode cX0_ends 39 = .ok (.ireturn, 1) := dk_172 (dk_at dksX0_ends_1 15 rfl rfl)
theorem dX0_ends_40 : decode cX0_ends 40 = .ok (.aload_n 0, 1) := dk_42 (dk_at dksX0_ends_1 16 rfl rfl)
theorem dX0_ends_41 : decode cX0_ends 41 = .ok (.invokevirtual 246, 3) := dk_182 0 246 (dk_at dksX0_ends_1 17 rfl rfl)
theorem dX0_ends_44 : decode cX0_ends 44 = .ok (.ifCond .ne 6, 3) := dk_154 0 6 (dk_at dksX0_ends_1 20 rfl rfl)
theorem dX0_ends_47 : decode cX0_ends 47 = .ok (.ldc 249, 2) := dk_18 249 (dk_at dksX0_ends_2 0 rfl rfl)
theorem dX0_ends_49 : decode cX0_ends 49 = .ok (.ireturn, 1) := dk_172 (dk_at dksX0_ends_2 2 rfl rfl)
theorem dX0_ends_50 : decode cX0_ends 50 = .ok (.iload_n 3, 1) := dk_29 (dk_at dksX0_ends_2 3 rfl rfl)
theorem dX0_ends_51 : decode cX0_ends 51 = .ok (.ifCond .ne 18, 3) := dk_154 0 18 (dk_at dksX0_ends_2 4 rfl rfl)
theorem dX0_ends_54 : decode cX0_ends 54 = .ok (.aload_n 0, 1) := dk_42 (dk_at dksX0_ends_2 7 rfl rfl)
theorem dX0_ends_55 : decode cX0_ends 55 = .ok (.getfield 66, 3) := dk_180 0 66 (dk_at dksX0_ends_2 8 rfl rfl)
theorem dX0_ends_58 : decode cX0_ends 58 = .ok (.aload_n 0, 1) := dk_42 (dk_at dksX0_ends_2 11 rfl rfl)
theorem dX0_ends_59 : decode cX0_ends 59 = .ok (.iload_n 2, 1) := dk_28 (dk_at dksX0_ends_2 12 rfl rfl)
theorem dX0_ends_60 : decode cX0_ends 60 = .ok (.iload_n 1, 1) := dk_27 (dk_at dksX0_ends_2 13 rfl rfl)
theorem dX0_ends_61 : decode cX0_ends 61 = .ok (.invokevirtual 233, 3) := dk_182 0 233 (dk_at dksX0_ends_2 14 rfl rfl)
theorem dX0_ends_64 : decode cX0_ends 64 = .ok (.iaload, 1) := dk_46 (dk_at dksX0_ends_2 17 rfl rfl)
theorem dX0_ends_65 : decode cX0_ends 65 = .ok (.ineg, 1) := dk_116 (dk_at dksX0_ends_2 18 rfl rfl)
theorem dX0_ends_66 : decode cX0_ends 66 = .ok (.goto 14, 3) := dk_167 0 14 (dk_at dksX0_ends_2 19 rfl rfl)
theorem dX0_ends_69 : decode cX0_ends 69 = .ok (.aload_n 0, 1) := dk_42 (dk_at dksX0_ends_2 22 rfl rfl)
theorem dX0_ends_70 : decode cX0_ends 70 = .ok (.getfield 66, 3) := dk_180 0 66 (dk_at dksX0_ends_3 0 rfl rfl)
theorem dX0_ends_73 : decode cX0_ends 73 = .ok (.aload_n 0, 1) := dk_42 (dk_at dksX0_ends_3 3 rfl rfl)
theorem dX0_ends_74 : decode cX0_ends 74 = .ok (.iload_n 1, 1) := dk_27 (dk_at dksX0_ends_3 4 rfl rfl)
theorem dX0_ends_75 : decode cX0_ends 75 = .ok (.iload_n 2, 1) := dk_28 (dk_at dksX0_ends_3 5 rfl rfl)
theorem dX0_ends_76 : decode cX0_ends 76 = .ok (.invokevirtual 233, 3) := dk_182 0 233 (dk_at dksX0_ends_3 6 rfl rfl)
theorem dX0_ends_79 : decode cX0_ends 79 = .ok (.iaload, 1) := dk_46 (dk_at dksX0_ends_3 9 rfl rfl)
theorem dX0_ends_80 : decode cX0_ends 80 = .ok (.ireturn, 1) := dk_172 (dk_at dksX0_ends_3 10 rfl rfl)
abbrev cX0_measure : ByteArray := prog_1_method_33_code
def yX0_measure : MethodName := ⟨RX0, "measure", "()Z"⟩
def dkwX0_measure_13 : List UInt8 := [155, 0, 7, 4, 167, 0, 4, 3, 126, 61, 132, 3, 1, 167, 255, 226, 28, 172]
abbrev dktX0_measure_13 : List UInt8 := dkwX0_measure_13 ++ []
def dkwX0_measure_12 : List UInt8 := [167, 255, 189, 4, 61, 3, 62, 29, 27, 163, 0, 31, 28, 42, 180, 0, 66, 42, 29, 29, 182, 0, 233, 46]
abbrev dktX0_measure_12 : List UInt8 := dkwX0_measure_12 ++ dktX0_measure_13
def dkwX0_measure_11 : List UInt8 := [182, 0, 233, 46, 96, 182, 0, 239, 132, 4, 1, 167, 255, 216, 132, 3, 1, 167, 255, 202, 132, 2, 1]
abbrev dktX0_measure_11 : List UInt8 := dkwX0_measure_11 ++ dktX0_measure_12
def dkwX0_measure_10 : List UInt8 := [29, 21, 4, 42, 180, 0, 66, 42, 29, 28, 182, 0, 233, 46, 42, 180, 0, 66, 42, 28, 21, 4]
abbrev dktX0_measure_10 : List UInt8 := dkwX0_measure_10 ++ dktX0_measure_11
def dkwX0_measure_9 : List UInt8 := [3, 61, 28, 27, 163, 0, 68, 3, 62, 29, 27, 163, 0, 55, 3, 54, 4, 21, 4, 27, 163, 0, 40, 42]
abbrev dktX0_measure_9 : List UInt8 := dkwX0_measure_9 ++ dktX0_measure_10
def dkwX0_measure_8 : List UInt8 := [180, 0, 243, 7, 28, 104, 4, 96, 46, 21, 4, 29, 96, 4, 100, 182, 0, 239, 132, 2, 1, 167, 255, 146]
abbrev dktX0_measure_8 : List UInt8 := dkwX0_measure_8 ++ dktX0_measure_9
def dkwX0_measure_7 : List UInt8 := [21, 4, 116, 182, 0, 239, 42, 42, 180, 0, 45, 180, 0, 243, 7, 28, 104, 46, 42, 180, 0, 45]
abbrev dktX0_measure_7 : List UInt8 := dkwX0_measure_7 ++ dktX0_measure_8
def dkwX0_measure_6 : List UInt8 := [42, 180, 0, 45, 180, 0, 243, 7, 28, 104, 4, 96, 46, 42, 180, 0, 45, 180, 0, 243, 7, 28, 104, 46]
abbrev dktX0_measure_6 : List UInt8 := dkwX0_measure_6 ++ dktX0_measure_7
def dkwX0_measure_5 : List UInt8 := [28, 104, 5, 96, 46, 62, 29, 42, 180, 0, 45, 180, 0, 243, 7, 28, 104, 6, 96, 46, 104, 54, 4, 42]
abbrev dktX0_measure_5 : List UInt8 := dkwX0_measure_5 ++ dktX0_measure_6
def dkwX0_measure_4 : List UInt8 := [167, 255, 228, 3, 61, 28, 42, 180, 0, 45, 180, 0, 220, 162, 0, 105, 42, 180, 0, 45, 180, 0, 243, 7]
abbrev dktX0_measure_4 : List UInt8 := dkwX0_measure_4 ++ dktX0_measure_5
def dkwX0_measure_3 : List UInt8 := [28, 27, 3, 182, 0, 239, 28, 158, 0, 12, 42, 28, 28, 4, 100, 2, 182, 0, 239, 132, 2, 1]
abbrev dktX0_measure_3 : List UInt8 := dkwX0_measure_3 ++ dktX0_measure_4
def dkwX0_measure_2 : List UInt8 := [180, 0, 170, 79, 132, 3, 1, 167, 255, 221, 132, 2, 1, 167, 255, 208, 3, 61, 28, 27, 162, 0, 29, 42]
abbrev dktX0_measure_2 : List UInt8 := dkwX0_measure_2 ++ dktX0_measure_3
def dkwX0_measure_1 : List UInt8 := [180, 0, 66, 42, 28, 29, 182, 0, 233, 28, 29, 160, 0, 7, 3, 167, 0, 10, 42, 180, 0, 45]
abbrev dktX0_measure_1 : List UInt8 := dkwX0_measure_1 ++ dktX0_measure_2
def dkwX0_measure_0 : List UInt8 := [42, 180, 0, 45, 180, 0, 167, 60, 3, 61, 28, 27, 163, 0, 49, 3, 62, 29, 27, 163, 0, 36, 42]
abbrev dktX0_measure_0 : List UInt8 := dkwX0_measure_0 ++ dktX0_measure_1
theorem dksX0_measure_0 : cX0_measure.data.toList.drop 0 = dktX0_measure_0 := by decide +kernel
theorem dksX0_measure_1 : cX0_measure.data.toList.drop 23 = dktX0_measure_1 := dk_seg dksX0_measure_0 23 rfl rfl
theorem dksX0_measure_2 : cX0_measure.data.toList.drop 45 = dktX0_measure_2 := dk_seg dksX0_measure_1 22 rfl rfl
theorem dksX0_measure_3 : cX0_measure.data.toList.drop 69 = dktX0_measure_3 := dk_seg dksX0_measure_2 24 rfl rfl
theorem dksX0_measure_4 : cX0_measure.data.toList.drop 91 = dktX0_measure_4 := dk_seg dksX0_measure_3 22 rfl rfl
theorem dksX0_measure_5 : cX0_measure.data.toList.drop 115 = dktX0_measure_5 := dk_seg dksX0_measure_4 24 rfl rfl
theorem dksX0_measure_6 : cX0_measure.data.toList.drop 139 = dktX0_measure_6 := dk_seg dksX0_measure_5 24 rfl rfl
theorem dksX0_measure_7 : cX0_measure.data.toList.drop 163 = dktX0_measure_7 := dk_seg dksX0_measure_6 24 rfl rfl
theorem dksX0_measure_8 : cX0_measure.data.toList.drop 185 = dktX0_measure_8 := dk_seg dksX0_measure_7 22 rfl rfl
theorem dksX0_measure_9 : cX0_measure.data.toList.drop 209 = dktX0_measure_9 := dk_seg dksX0_measure_8 24 rfl rfl
theorem dksX0_measure_10 : cX0_measure.data.toList.drop 233 = dktX0_measure_10 := dk_seg dksX0_measure_9 24 rfl rfl
theorem dksX0_measure_11 : cX0_measure.data.toList.drop 255 = dktX0_measure_11 := dk_seg dksX0_measure_10 22 rfl rfl
theorem dksX0_measure_12 : cX0_measure.data.toList.drop 278 = dktX0_measure_12 := dk_seg dksX0_measure_11 23 rfl rfl
theorem dksX0_measure_13 : cX0_measure.data.toList.drop 302 = dktX0_measure_13 := dk_seg dksX0_measure_12 24 rfl rfl
theorem dX0_measure_0 : decode cX0_measure 0 = .ok (.aload_n 0, 1) := dk_42 (dk_at dksX0_measure_0 0 rfl rfl)
theorem dX0_measure_1 : decode cX0_measure 1 = .ok (.getfield 45, 3) := dk_180 0 45 (dk_at dksX0_measure_0 1 rfl rfl)
theorem dX0_measure_4 : decode cX0_measure 4 = .ok (.getfield 167, 3) := dk_180 0 167 (dk_at dksX0_measure_0 4 rfl rfl)
theorem dX0_measure_7 : decode cX0_measure 7 = .ok (.istore_n 1, 1) := dk_60 (dk_at dksX0_measure_0 7 rfl rfl)
theorem dX0_measure_8 : decode cX0_measure 8 = .ok (.iconst 0, 1) := dk_3 (dk_at dksX0_measure_0 8 rfl rfl)
theorem dX0_measure_9 : decode cX0_measure 9 = .ok (.istore_n 2, 1) := dk_61 (dk_at dksX0_measure_0 9 rfl rfl)
theorem dX0_measure_10 : decode cX0_measure 10 = .ok (.iload_n 2, 1) := dk_28 (dk_at dksX0_measure_0 10 rfl rfl)
theorem dX0_measure_11 : decode cX0_measure 11 = .ok (.iload_n 1, 1) := dk_27 (dk_at dksX0_measure_0 11 rfl rfl)
theorem dX0_measure_12 : decode cX0_measure 12 = .ok (.if_icmp .gt 49, 3) := dk_163 0 49 (dk_at dksX0_measure_0 12 rfl rfl)
theorem dX0_measure_15 : decode cX0_measure 15 = .ok (.iconst 0, 1) := dk_3 (dk_at dksX0_measure_0 15 rfl rfl)
theorem dX0_measure_16 : decode cX0_measure 16 = .ok (.istore_n 3, 1) := dk_62 (dk_at dksX0_measure_0 16 rfl rfl)
theorem dX0_measure_17 : decode cX0_measure 17 = .ok (.iload_n 3, 1) := dk_29 (dk_at dksX0_measure_0 17 rfl rfl)
theorem dX0_measure_18 : decode cX0_measure 18 = .ok (.iload_n 1, 1) := dk_27 (dk_at dksX0_measure_0 18 rfl rfl)
theorem dX0_measure_19 : decode cX0_measure 19 = .ok (.if_icmp .gt 36, 3) := dk_163 0 36 (dk_at dksX0_measure_0 19 rfl rfl)
theorem dX0_measure_22 : decode cX0_measure 22 = .ok (.aload_n 0, 1) := dk_42 (dk_at dksX0_measure_0 22 rfl rfl)
theorem dX0_measure_23 : decode cX0_measure 23 = .ok (.getfield 66, 3) := dk_180 0 66 (dk_at dksX0_measure_1 0 rfl rfl)
theorem dX0_measure_26 : decode cX0_measure 26 = .ok (.aload_n 0, 1) := dk_42 (dk_at dksX0_measure_1 3 rfl rfl)
theorem dX0_measure_27 : decode cX0_measure 27 = .ok (.iload_n 2, 1) := dk_28 (dk_at dksX0_measure_1 4 rfl rfl)
theorem dX0_measure_28 : decode cX0_measure 28 = .ok (.iload_n 3, 1) := dk_29 (dk_at dksX0_measure_1 5 rfl rfl)
theorem dX0_measure_29 : decode cX0_measure 29 = .ok (.invokevirtual 233, 3) := dk_182 0 233 (dk_at dksX0_measure_1 6 rfl rfl)
theorem dX0_measure_32 : decode cX0_measure 32 = .ok (.iload_n 2, 1) := dk_28 (dk_at dksX0_measure_1 9 rfl rfl)
theorem dX0_measure_33 : decode cX0_measure 33 = .ok (.iload_n 3, 1) := dk_29 (dk_at dksX0_measure_1 10 rfl rfl)
theorem dX0_measure_34 : decode cX0_measure 34 = .ok (.if_icmp .ne 7, 3) := dk_160 0 7 (dk_at dksX0_measure_1 11 rfl rfl)
theorem dX0_measure_37 : decode cX0_measure 37 = .ok (.iconst 0, 1) := dk_3 (dk_at dksX0_measure_1 14 rfl rfl)
theorem dX0_measure_38 : decode cX0_measure 38 = .ok (.goto 10, 3) := dk_167 0 10 (dk_at dksX0_measure_1 15 rfl rfl)
theorem dX0_measure_41 : decode cX0_measure 41 = .ok (.aload_n 0, 1) := dk_42 (dk_at dksX0_measure_1 18 rfl rfl)
theorem dX0_measure_42 : decode cX0_measure 42 = .ok (.getfield 45, 3) := dk_180 0 45 (dk_at dksX0_measure_1 19 rfl rfl)
theorem dX0_measure_45 : decode cX0_measure 45 = .ok (.getfield 170, 3) := dk_180 0 170 (dk_at dksX0_measure_2 0 rfl rfl)
theorem dX0_measure_48 : decode cX0_measure 48 = .ok (.iastore, 1) := dk_79 (dk_at dksX0_measure_2 3 rfl rfl)
theorem dX0_measure_49 : decode cX0_measure 49 = .ok (.iinc 3 1, 3) := dk_132 3 1 (dk_at dksX0_measure_2 4 rfl rfl)
theorem dX0_measure_52 : decode cX0_measure 52 = .ok (.goto (-35), 3) := dk_167 255 221 (dk_at dksX0_measure_2 7 rfl rfl)
theorem dX0_measure_55 : decode cX0_measure 55 = .ok (.iinc 2 1, 3) := dk_132 2 1 (dk_at dksX0_measure_2 10 rfl rfl)
theorem dX0_measure_58 : decode cX0_measure 58 = .ok (.goto (-48), 3) := dk_167 255 208 (dk_at dksX0_measure_2 13 rfl rfl)
theorem dX0_measure_61 : decode cX0_measure 61 = .ok (.iconst 0, 1) := dk_3 (dk_at dksX0_measure_2 16 rfl rfl)
theorem dX0_measure_62 : decode cX0_measure 62 = .ok (.istore_n 2, 1) := dk_61 (dk_at dksX0_measure_2 17 rfl rfl)
theorem dX0_measure_63 : decode cX0_measure 63 = .ok (.iload_n 2, 1) := dk_28 (dk_at dksX0_measure_2 18 rfl rfl)
theorem dX0_measure_64 : decode cX0_measure 64 = .ok (.iload_n 1, 1) := dk_27 (dk_at dksX0_measure_2 19 rfl rfl)
theorem dX0_measure_65 : decode cX0_measure 65 = .ok (.if_icmp .ge 29, 3) := dk_162 0 29 (dk_at dksX0_measure_2 20 rfl rfl)
theorem dX0_measure_68 : decode cX0_measure 68 = .ok (.aload_n 0, 1) := dk_42 (dk_at dksX0_measure_2 23 rfl rfl)
theorem dX0_measure_69 : decode cX0_measure 69 = .ok (.iload_n 2, 1) := dk_28 (dk_at dksX0_measure_3 0 rfl rfl)
theorem dX0_measure_70 : decode cX0_measure 70 = .ok (.iload_n 1, 1) := dk_27 (dk_at dksX0_measure_3 1 rfl rfl)
theorem dX0_measure_71 : decode cX0_measure 71 = .ok (.iconst 0, 1) := dk_3 (dk_at dksX0_measure_3 2 rfl rfl)
theorem dX0_measure_72 : decode cX0_measure 72 = .ok (.invokevirtual 239, 3) := dk_182 0 239 (dk_at dksX0_measure_3 3 rfl rfl)
theorem dX0_measure_75 : decode cX0_measure 75 = .ok (.iload_n 2, 1) := dk_28 (dk_at dksX0_measure_3 6 rfl rfl)
theorem dX0_measure_76 : decode cX0_measure 76 = .ok (.ifCond .le 12, 3) := dk_158 0 12 (dk_at dksX0_measure_3 7 rfl rfl)
theorem dX0_measure_79 : decode cX0_measure 79 = .ok (.aload_n 0, 1) := dk_42 (dk_at dksX0_measure_3 10 rfl rfl)
theorem dX0_measure_80 : decode cX0_measure 80 = .ok (.iload_n 2, 1) := dk_28 (dk_at dksX0_measure_3 11 rfl rfl)
theorem dX0_measure_81 : decode cX0_measure 81 = .ok (.iload_n 2, 1) := dk_28 (dk_at dksX0_measure_3 12 rfl rfl)
theorem dX0_measure_82 : decode cX0_measure 82 = .ok (.iconst 1, 1) := dk_4 (dk_at dksX0_measure_3 13 rfl rfl)
theorem dX0_measure_83 : decode cX0_measure 83 = .ok (.isub, 1) := dk_100 (dk_at dksX0_measure_3 14 rfl rfl)
theorem dX0_measure_84 : decode cX0_measure 84 = .ok (.iconst (-1), 1) := dk_2 (dk_at dksX0_measure_3 15 rfl rfl)
theorem dX0_measure_85 : decode cX0_measure 85 = .ok (.invokevirtual 239, 3) := dk_182 0 239 (dk_at dksX0_measure_3 16 rfl rfl)
theorem dX0_measure_88 : decode cX0_measure 88 = .ok (.iinc 2 1, 3) := dk_132 2 1 (dk_at dksX0_measure_3 19 rfl rfl)
theorem dX0_measure_91 : decode cX0_measure 91 = .ok (.goto (-28), 3) := dk_167 255 228 (dk_at dksX0_measure_4 0 rfl rfl)
theorem dX0_measure_94 : decode cX0_measure 94 = .ok (.iconst 0, 1) := dk_3 (dk_at dksX0_measure_4 3 rfl rfl)
theorem dX0_measure_95 : decode cX0_measure 95 = .ok (.istore_n 2, 1) := dk_61 (dk_at dksX0_measure_4 4 rfl rfl)
theorem dX0_measure_96 : decode cX0_measure 96 = .ok (.iload_n 2, 1) := dk_28 (dk_at dksX0_measure_4 5 rfl rfl)
theorem dX0_measure_97 : decode cX0_measure 97 = .ok (.aload_n 0, 1) := dk_42 (dk_at dksX0_measure_4 6 rfl rfl)
theorem dX0_measure_98 : decode cX0_measure 98 = .ok (.getfield 45, 3) := dk_180 0 45 (dk_at dksX0_measure_4 7 rfl rfl)
theorem dX0_measure_101 : decode cX0_measure 101 = .ok (.getfield 220, 3) := dk_180 0 220 (dk_at dksX0_measure_4 10 rfl rfl)
theorem dX0_measure_104 : decode cX0_measure 104 = .ok (.if_icmp .ge 105, 3) := dk_162 0 105 (dk_at dksX0_measure_4 13 rfl rfl)
theorem dX0_measure_107 : decode cX0_measure 107 = .ok (.aload_n 0, 1) := dk_42 (dk_at dksX0_measure_4 16 rfl rfl)
theorem dX0_measure_108 : decode cX0_measure 108 = .ok (.getfield 45, 3) := dk_180 0 45 (dk_at dksX0_measure_4 17 rfl rfl)
theorem dX0_measure_111 : decode cX0_measure 111 = .ok (.getfield 243, 3) := dk_180 0 243 (dk_at dksX0_measure_4 20 rfl rfl)
theorem dX0_measure_114 : decode cX0_measure 114 = .ok (.iconst 4, 1) := dk_7 (dk_at dksX0_measure_4 23 rfl rfl)
theorem dX0_measure_115 : decode cX0_measure 115 = .ok (.iload_n 2, 1) := dk_28 (dk_at dksX0_measure_5 0 rfl rfl)
theorem dX0_measure_116 : decode cX0_measure 116 = .ok (.imul, 1) := dk_104 (dk_at dksX0_measure_5 1 rfl rfl)
theorem dX0_measure_117 : decode cX0_measure 117 = .ok (.iconst 2, 1) := dk_5 (dk_at dksX0_measure_5 2 rfl rfl)
theorem dX0_measure_118 : decode cX0_measure 118 = .ok (.iadd, 1) := dk_96 (dk_at dksX0_measure_5 3 rfl rfl)
theorem dX0_measure_119 : decode cX0_measure 119 = .ok (.iaload, 1) := dk_46 (dk_at dksX0_measure_5 4 rfl rfl)
theorem dX0_measure_120 : decode cX0_measure 120 = .ok (.istore_n 3, 1) := dk_62 (dk_at dksX0_measure_5 5 rfl rfl)
theorem dX0_measure_121 : decode cX0_measure 121 = .ok (.iload_n 3, 1) := dk_29 (dk_at dksX0_measure_5 6 rfl rfl)
theorem dX0_measure_122 : decode cX0_measure 122 = .ok (.aload_n 0, 1) := dk_42 (dk_at dksX0_measure_5 7 rfl rfl)
theorem dX0_measure_123 : decode cX0_measure 123 = .ok (.getfield 45, 3) := dk_180 0 45 (dk_at dksX0_measure_5 8 rfl rfl)
theorem dX0_measure_126 : decode cX0_measure 126 = .ok (.getfield 243, 3) := dk_180 0 243 (dk_at dksX0_measure_5 11 rfl rfl)
theorem dX0_measure_129 : decode cX0_measure 129 = .ok (.iconst 4, 1) := dk_7 (dk_at dksX0_measure_5 14 rfl rfl)
theorem dX0_measure_130 : decode cX0_measure 130 = .ok (.iload_n 2, 1) := dk_28 (dk_at dksX0_measure_5 15 rfl rfl)
theorem dX0_measure_131 : decode cX0_measure 131 = .ok (.imul, 1) := dk_104 (dk_at dksX0_measure_5 16 rfl rfl)
theorem dX0_measure_132 : decode cX0_measure 132 = .ok (.iconst 3, 1) := dk_6 (dk_at dksX0_measure_5 17 rfl rfl)
theorem dX0_measure_133 : decode cX0_measure 133 = .ok (.iadd, 1) := dk_96 (dk_at dksX0_measure_5 18 rfl rfl)
theorem dX0_measure_134 : decode cX0_measure 134 = .ok (.iaload, 1) := dk_46 (dk_at dksX0_measure_5 19 rfl rfl)
theorem dX0_measure_135 : decode cX0_measure 135 = .ok (.imul, 1) := dk_104 (dk_at dksX0_measure_5 20 rfl rfl)
theorem dX0_measure_136 : decode cX0_measure 136 = .ok (.istore 4, 2) := dk_54 4 (dk_at dksX0_measure_5 21 rfl rfl)
theorem dX0_measure_138 : decode cX0_measure 138 = .ok (.aload_n 0, 1) := dk_42 (dk_at dksX0_measure_5 23 rfl rfl)
theorem dX0_measure_139 : decode cX0_measure 139 = .ok (.aload_n 0, 1) := dk_42 (dk_at dksX0_measure_6 0 rfl rfl)
theorem dX0_measure_140 : decode cX0_measure 140 = .ok (.getfield 45, 3) := dk_180 0 45 (dk_at dksX0_measure_6 1 rfl rfl)
theorem dX0_measure_143 : decode cX0_measure 143 = .ok (.getfield 243, 3) := dk_180 0 243 (dk_at dksX0_measure_6 4 rfl rfl)
theorem dX0_measure_146 : decode cX0_measure 146 = .ok (.iconst 4, 1) := dk_7 (dk_at dksX0_measure_6 7 rfl rfl)
theorem dX0_measure_147 : decode cX0_measure 147 = .ok (.iload_n 2, 1) := dk_28 (dk_at dksX0_measure_6 8 rfl rfl)
theorem dX0_measure_148 : decode cX0_measure 148 = .ok (.imul, 1) := dk_104 (dk_at dksX0_measure_6 9 rfl rfl)
theorem dX0_measure_149 : decode cX0_measure 149 = .ok (.iconst 1, 1) := dk_4 (dk_at dksX0_measure_6 10 rfl rfl)
theorem dX0_measure_150 : decode cX0_measure 150 = .ok (.iadd, 1) := dk_96 (dk_at dksX0_measure_6 11 rfl rfl)
theorem dX0_measure_151 : decode cX0_measure 151 = .ok (.iaload, 1) := dk_46 (dk_at dksX0_measure_6 12 rfl rfl)
theorem dX0_measure_152 : decode cX0_measure 152 = .ok (.aload_n 0, 1) := dk_42 (dk_at dksX0_measure_6 13 rfl rfl)
theorem dX0_measure_153 : decode cX0_measure 153 = .ok (.getfield 45, 3) := dk_180 0 45 (dk_at dksX0_measure_6 14 rfl rfl)
theorem dX0_measure_156 : decode cX0_measure 156 = .ok (.getfield 243, 3) := dk_180 0 243 (dk_at dksX0_measure_6 17 rfl rfl)
theorem dX0_measure_159 : decode cX0_measure 159 = .ok (.iconst 4, 1) := dk_7 (dk_at dksX0_measure_6 20 rfl rfl)
theorem dX0_measure_160 : decode cX0_measure 160 = .ok (.iload_n 2, 1) := dk_28 (dk_at dksX0_measure_6 21 rfl rfl)
theorem dX0_measure_161 : decode cX0_measure 161 = .ok (.imul, 1) := dk_104 (dk_at dksX0_measure_6 22 rfl rfl)
theorem dX0_measure_162 : decode cX0_measure 162 = .ok (.iaload, 1) := dk_46 (dk_at dksX0_measure_6 23 rfl rfl)
theorem dX0_measure_163 : decode cX0_measure 163 = .ok (.iload 4, 2) := dk_21 4 (dk_at dksX0_measure_7 0 rfl rfl)
theorem dX0_measure_165 : decode cX0_measure 165 = .ok (.ineg, 1) := dk_116 (dk_at dksX0_measure_7 2 rfl rfl)
theorem dX0_measure_166 : decode cX0_measure 166 = .ok (.invokevirtual 239, 3) := dk_182 0 239 (dk_at dksX0_measure_7 3 rfl rfl)
theorem dX0_measure_169 : decode cX0_measure 169 = .ok (.aload_n 0, 1) := dk_42 (dk_at dksX0_measure_7 6 rfl rfl)
theorem dX0_measure_170 : decode cX0_measure 170 = .ok (.aload_n 0, 1) := dk_42 (dk_at dksX0_measure_7 7 rfl rfl)
theorem dX0_measure_171 : decode cX0_measure 171 = .ok (.getfield 45, 3) := dk_180 0 45 (dk_at dksX0_measure_7 8 rfl rfl)
theorem dX0_measure_174 : decode cX0_measure 174 = .ok (.getfield 243, 3) := dk_180 0 243 (dk_at dksX0_measure_7 11 rfl rfl)
theorem dX0_measure_177 : decode cX0_measure 177 = .ok (.iconst 4, 1) := dk_7 (dk_at dksX0_measure_7 14 rfl rfl)
theorem dX0_measure_178 : decode cX0_measure 178 = .ok (.iload_n 2, 1) := dk_28 (dk_at dksX0_measure_7 15 rfl rfl)
theorem dX0_measure_179 : decode cX0_measure 179 = .ok (.imul, 1) := dk_104 (dk_at dksX0_measure_7 16 rfl rfl)
theorem dX0_measure_180 : decode cX0_measure 180 = .ok (.iaload, 1) := dk_46 (dk_at dksX0_measure_7 17 rfl rfl)
theorem dX0_measure_181 : decode cX0_measure 181 = .ok (.aload_n 0, 1) := dk_42 (dk_at dksX0_measure_7 18 rfl rfl)
theorem dX0_measure_182 : decode cX0_measure 182 = .ok (.getfield 45, 3) := dk_180 0 45 (dk_at dksX0_measure_7 19 rfl rfl)
theorem dX0_measure_185 : decode cX0_measure 185 = .ok (.getfield 243, 3) := dk_180 0 243 (dk_at dksX0_measure_8 0 rfl rfl)
theorem dX0_measure_188 : decode cX0_measure 188 = .ok (.iconst 4, 1) := dk_7 (dk_at dksX0_measure_8 3 rfl rfl)
theorem dX0_measure_189 : decode cX0_measure 189 = .ok (.iload_n 2, 1) := dk_28 (dk_at dksX0_measure_8 4 rfl rfl)
theorem dX0_measure_190 : decode cX0_measure 190 = .ok (.imul, 1) := dk_104 (dk_at dksX0_measure_8 5 rfl rfl)
theorem dX0_measure_191 : decode cX0_measure 191 = .ok (.iconst 1, 1) := dk_4 (dk_at dksX0_measure_8 6 rfl rfl)
theorem dX0_measure_192 : decode cX0_measure 192 = .ok (.iadd, 1) := dk_96 (dk_at dksX0_measure_8 7 rfl rfl)
theorem dX0_measure_193 : decode cX0_measure 193 = .ok (.iaload, 1) := dk_46 (dk_at dksX0_measure_8 8 rfl rfl)
theorem dX0_measure_194 : decode cX0_measure 194 = .ok (.iload 4, 2) := dk_21 4 (dk_at dksX0_measure_8 9 rfl rfl)
theorem dX0_measure_196 : decode cX0_measure 196 = .ok (.iload_n 3, 1) := dk_29 (dk_at dksX0_measure_8 11 rfl rfl)
theorem dX0_measure_197 : decode cX0_measure 197 = .ok (.iadd, 1) := dk_96 (dk_at dksX0_measure_8 12 rfl rfl)
theorem dX0_measure_198 : decode cX0_measure 198 = .ok (.iconst 1, 1) := dk_4 (dk_at dksX0_measure_8 13 rfl rfl)
theorem dX0_measure_199 : decode cX0_measure 199 = .ok (.isub, 1) := dk_100 (dk_at dksX0_measure_8 14 rfl rfl)
theorem dX0_measure_200 : decode cX0_measure 200 = .ok (.invokevirtual 239, 3) := dk_182 0 239 (dk_at dksX0_measure_8 15 rfl rfl)
theorem dX0_measure_203 : decode cX0_measure 203 = .ok (.iinc 2 1, 3) := dk_132 2 1 (dk_at dksX0_measure_8 18 rfl rfl)
theorem dX0_measure_206 : decode cX0_measure 206 = .ok (.goto (-110), 3) := dk_167 255 146 (dk_at dksX0_measure_8 21 rfl rfl)
theorem dX0_measure_209 : decode cX0_measure 209 = .ok (.iconst 0, 1) := dk_3 (dk_at dksX0_measure_9 0 rfl rfl)
theorem dX0_measure_210 : decode cX0_measure 210 = .ok (.istore_n 2, 1) := dk_61 (dk_at dksX0_measure_9 1 rfl rfl)
theorem dX0_measure_211 : decode cX0_measure 211 = .ok (.iload_n 2, 1) := dk_28 (dk_at dksX0_measure_9 2 rfl rfl)
theorem dX0_measure_212 : decode cX0_measure 212 = .ok (.iload_n 1, 1) := dk_27 (dk_at dksX0_measure_9 3 rfl rfl)
theorem dX0_measure_213 : decode cX0_measure 213 = .ok (.if_icmp .gt 68, 3) := dk_163 0 68 (dk_at dksX0_measure_9 4 rfl rfl)
theorem dX0_measure_216 : decode cX0_measure 216 = .ok (.iconst 0, 1) := dk_3 (dk_at dksX0_measure_9 7 rfl rfl)
theorem dX0_measure_217 : decode cX0_measure 217 = .ok (.istore_n 3, 1) := dk_62 (dk_at dksX0_measure_9 8 rfl rfl)
theorem dX0_measure_218 : decode cX0_measure 218 = .ok (.iload_n 3, 1) := dk_29 (dk_at dksX0_measure_9 9 rfl rfl)
theorem dX0_measure_219 : decode cX0_measure 219 = .ok (.iload_n 1, 1) := dk_27 (dk_at dksX0_measure_9 10 rfl rfl)
theorem dX0_measure_220 : decode cX0_measure 220 = .ok (.if_icmp .gt 55, 3) := dk_163 0 55 (dk_at dksX0_measure_9 11 rfl rfl)
theorem dX0_measure_223 : decode cX0_measure 223 = .ok (.iconst 0, 1) := dk_3 (dk_at dksX0_measure_9 14 rfl rfl)
theorem dX0_measure_224 : decode cX0_measure 224 = .ok (.istore 4, 2) := dk_54 4 (dk_at dksX0_measure_9 15 rfl rfl)
theorem dX0_measure_226 : decode cX0_measure 226 = .ok (.iload 4, 2) := dk_21 4 (dk_at dksX0_measure_9 17 rfl rfl)
theorem dX0_measure_228 : decode cX0_measure 228 = .ok (.iload_n 1, 1) := dk_27 (dk_at dksX0_measure_9 19 rfl rfl)
theorem dX0_measure_229 : decode cX0_measure 229 = .ok (.if_icmp .gt 40, 3) := dk_163 0 40 (dk_at dksX0_measure_9 20 rfl rfl)
theorem dX0_measure_232 : decode cX0_measure 232 = .ok (.aload_n 0, 1) := dk_42 (dk_at dksX0_measure_9 23 rfl rfl)
theorem dX0_measure_233 : decode cX0_measure 233 = .ok (.iload_n 3, 1) := dk_29 (dk_at dksX0_measure_10 0 rfl rfl)
theorem dX0_measure_234 : decode cX0_measure 234 = .ok (.iload 4, 2) := dk_21 4 (dk_at dksX0_measure_10 1 rfl rfl)
theorem dX0_measure_236 : decode cX0_measure 236 = .ok (.aload_n 0, 1) := dk_42 (dk_at dksX0_measure_10 3 rfl rfl)
theorem dX0_measure_237 : decode cX0_measure 237 = .ok (.getfield 66, 3) := dk_180 0 66 (dk_at dksX0_measure_10 4 rfl rfl)
theorem dX0_measure_240 : decode cX0_measure 240 = .ok (.aload_n 0, 1) := dk_42 (dk_at dksX0_measure_10 7 rfl rfl)
theorem dX0_measure_241 : decode cX0_measure 241 = .ok (.iload_n 3, 1) := dk_29 (dk_at dksX0_measure_10 8 rfl rfl)
theorem dX0_measure_242 : decode cX0_measure 242 = .ok (.iload_n 2, 1) := dk_28 (dk_at dksX0_measure_10 9 rfl rfl)
theorem dX0_measure_243 : decode cX0_measure 243 = .ok (.invokevirtual 233, 3) := dk_182 0 233 (dk_at dksX0_measure_10 10 rfl rfl)
theorem dX0_measure_246 : decode cX0_measure 246 = .ok (.iaload, 1) := dk_46 (dk_at dksX0_measure_10 13 rfl rfl)
theorem dX0_measure_247 : decode cX0_measure 247 = .ok (.aload_n 0, 1) := dk_42 (dk_at dksX0_measure_10 14 rfl rfl)
theorem dX0_measure_248 : decode cX0_measure 248 = .ok (.getfield 66, 3) := dk_180 0 66 (dk_at dksX0_measure_10 15 rfl rfl)
theorem dX0_measure_251 : decode cX0_measure 251 = .ok (.aload_n 0, 1) := dk_42 (dk_at dksX0_measure_10 18 rfl rfl)
theorem dX0_measure_252 : decode cX0_measure 252 = .ok (.iload_n 2, 1) := dk_28 (dk_at dksX0_measure_10 19 rfl rfl)
theorem dX0_measure_253 : decode cX0_measure 253 = .ok (.iload 4, 2) := dk_21 4 (dk_at dksX0_measure_10 20 rfl rfl)
theorem dX0_measure_255 : decode cX0_measure 255 = .ok (.invokevirtual 233, 3) := dk_182 0 233 (dk_at dksX0_measure_11 0 rfl rfl)
theorem dX0_measure_258 : decode cX0_measure 258 = .ok (.iaload, 1) := dk_46 (dk_at dksX0_measure_11 3 rfl rfl)
theorem dX0_measure_259 : decode cX0_measure 259 = .ok (.iadd, 1) := dk_96 (dk_at dksX0_measure_11 4 rfl rfl)
theorem dX0_measure_260 : decode cX0_measure 260 = .ok (.invokevirtual 239, 3) := dk_182 0 239 (dk_at dksX0_measure_11 5 rfl rfl)
theorem dX0_measure_263 : decode cX0_measure 263 = .ok (.iinc 4 1, 3) := dk_132 4 1 (dk_at dksX0_measure_11 8 rfl rfl)
theorem dX0_measure_266 : decode cX0_measure 266 = .ok (.goto (-40), 3) := dk_167 255 216 (dk_at dksX0_measure_11 11 rfl rfl)
theorem dX0_measure_269 : decode cX0_measure 269 = .ok (.iinc 3 1, 3) := dk_132 3 1 (dk_at dksX0_measure_11 14 rfl rfl)
theorem dX0_measure_272 : decode cX0_measure 272 = .ok (.goto (-54), 3) := dk_167 255 202 (dk_at dksX0_measure_11 17 rfl rfl)
theorem dX0_measure_275 : decode cX0_measure 275 = .ok (.iinc 2 1, 3) := dk_132 2 1 (dk_at dksX0_measure_11 20 rfl rfl)
theorem dX0_measure_278 : decode cX0_measure 278 = .ok (.goto (-67), 3) := dk_167 255 189 (dk_at dksX0_measure_12 0 rfl rfl)
theorem dX0_measure_281 : decode cX0_measure 281 = .ok (.iconst 1, 1) := dk_4 (dk_at dksX0_measure_12 3 rfl rfl)
theorem dX0_measure_282 : decode cX0_measure 282 = .ok (.istore_n 2, 1) := dk_61 (dk_at dksX0_measure_12 4 rfl rfl)
theorem dX0_measure_283 : decode cX0_measure 283 = .ok (.iconst 0, 1) := dk_3 (dk_at dksX0_measure_12 5 rfl rfl)
theorem dX0_measure_284 : decode cX0_measure 284 = .ok (.istore_n 3, 1) := dk_62 (dk_at dksX0_measure_12 6 rfl rfl)
theorem dX0_measure_285 : decode cX0_measure 285 = .ok (.iload_n 3, 1) := dk_29 (dk_at dksX0_measure_12 7 rfl rfl)
theorem dX0_measure_286 : decode cX0_measure 286 = .ok (.iload_n 1, 1) := dk_27 (dk_at dksX0_measure_12 8 rfl rfl)
theorem dX0_measure_287 : decode cX0_measure 287 = .ok (.if_icmp .gt 31, 3) := dk_163 0 31 (dk_at dksX0_measure_12 9 rfl rfl)
theorem dX0_measure_290 : decode cX0_measure 290 = .ok (.iload_n 2, 1) := dk_28 (dk_at dksX0_measure_12 12 rfl rfl)
theorem dX0_measure_291 : decode cX0_measure 291 = .ok (.aload_n 0, 1) := dk_42 (dk_at dksX0_measure_12 13 rfl rfl)
theorem dX0_measure_292 : decode cX0_measure 292 = .ok (.getfield 66, 3) := dk_180 0 66 (dk_at dksX0_measure_12 14 rfl rfl)
theorem dX0_measure_295 : decode cX0_measure 295 = .ok (.aload_n 0, 1) := dk_42 (dk_at dksX0_measure_12 17 rfl rfl)
theorem dX0_measure_296 : decode cX0_measure 296 = .ok (.iload_n 3, 1) := dk_29 (dk_at dksX0_measure_12 18 rfl rfl)
theorem dX0_measure_297 : decode cX0_measure 297 = .ok (.iload_n 3, 1) := dk_29 (dk_at dksX0_measure_12 19 rfl rfl)
theorem dX0_measure_298 : decode cX0_measure 298 = .ok (.invokevirtual 233, 3) := dk_182 0 233 (dk_at dksX0_measure_12 20 rfl rfl)
theorem dX0_measure_301 : decode cX0_measure 301 = .ok (.iaload, 1) := dk_46 (dk_at dksX0_measure_12 23 rfl rfl)
theorem dX0_measure_302 : decode cX0_measure 302 = .ok (.ifCond .lt 7, 3) := dk_155 0 7 (dk_at dksX0_measure_13 0 rfl rfl)
theorem dX0_measure_305 : decode cX0_measure 305 = .ok (.iconst 1, 1) := dk_4 (dk_at dksX0_measure_13 3 rfl rfl)
theorem dX0_measure_306 : decode cX0_measure 306 = .ok (.goto 4, 3) := dk_167 0 4 (dk_at dksX0_measure_13 4 rfl rfl)
theorem dX0_measure_309 : decode cX0_measure 309 = .ok (.iconst 0, 1) := dk_3 (dk_at dksX0_measure_13 7 rfl rfl)
theorem dX0_measure_310 : decode cX0_measure 310 = .ok (.iand, 1) := dk_126 (dk_at dksX0_measure_13 8 rfl rfl)
theorem dX0_measure_311 : decode cX0_measure 311 = .ok (.istore_n 2, 1) := dk_61 (dk_at dksX0_measure_13 9 rfl rfl)
theorem dX0_measure_312 : decode cX0_measure 312 = .ok (.iinc 3 1, 3) := dk_132 3 1 (dk_at dksX0_measure_13 10 rfl rfl)
theorem dX0_measure_315 : decode cX0_measure 315 = .ok (.goto (-30), 3) := dk_167 255 226 (dk_at dksX0_measure_13 13 rfl rfl)
theorem dX0_measure_318 : decode cX0_measure 318 = .ok (.iload_n 2, 1) := dk_28 (dk_at dksX0_measure_13 16 rfl rfl)
theorem dX0_measure_319 : decode cX0_measure 319 = .ok (.ireturn, 1) := dk_172 (dk_at dksX0_measure_13 17 rfl rfl)
abbrev cX0_at : ByteArray := prog_1_method_31_code
def yX0_at : MethodName := ⟨RX0, "at", "(II)I"⟩
def dkwX0_at_0 : List UInt8 := [16, 7, 27, 104, 28, 96, 172]
abbrev dktX0_at_0 : List UInt8 := dkwX0_at_0 ++ []
theorem dksX0_at_0 : cX0_at.data.toList.drop 0 = dktX0_at_0 := by decide +kernel
theorem dX0_at_0 : decode cX0_at 0 = .ok (.bipush 7, 2) := dk_16 7 (dk_at dksX0_at_0 0 rfl rfl)
theorem dX0_at_2 : decode cX0_at 2 = .ok (.iload_n 1, 1) := dk_27 (dk_at dksX0_at_0 2 rfl rfl)
theorem dX0_at_3 : decode cX0_at 3 = .ok (.imul, 1) := dk_104 (dk_at dksX0_at_0 3 rfl rfl)
theorem dX0_at_4 : decode cX0_at 4 = .ok (.iload_n 2, 1) := dk_28 (dk_at dksX0_at_0 4 rfl rfl)
theorem dX0_at_5 : decode cX0_at 5 = .ok (.iadd, 1) := dk_96 (dk_at dksX0_at_0 5 rfl rfl)
theorem dX0_at_6 : decode cX0_at 6 = .ok (.ireturn, 1) := dk_172 (dk_at dksX0_at_0 6 rfl rfl)
abbrev cX0_lessen : ByteArray := prog_1_method_32_code
def yX0_lessen : MethodName := ⟨RX0, "lessen", "(III)V"⟩
def dkwX0_lessen_1 : List UInt8 := [184, 0, 236, 79, 177]
abbrev dktX0_lessen_1 : List UInt8 := dkwX0_lessen_1 ++ []
def dkwX0_lessen_0 : List UInt8 := [42, 180, 0, 66, 42, 27, 28, 182, 0, 233, 42, 180, 0, 66, 42, 27, 28, 182, 0, 233, 46, 29]
abbrev dktX0_lessen_0 : List UInt8 := dkwX0_lessen_0 ++ dktX0_lessen_1
theorem dksX0_lessen_0 : cX0_lessen.data.toList.drop 0 = dktX0_lessen_0 := by decide +kernel
theorem dksX0_lessen_1 : cX0_lessen.data.toList.drop 22 = dktX0_lessen_1 := dk_seg dksX0_lessen_0 22 rfl rfl
theorem dX0_lessen_0 : decode cX0_lessen 0 = .ok (.aload_n 0, 1) := dk_42 (dk_at dksX0_lessen_0 0 rfl rfl)
theorem dX0_lessen_1 : decode cX0_lessen 1 = .ok (.getfield 66, 3) := dk_180 0 66 (dk_at dksX0_lessen_0 1 rfl rfl)
theorem dX0_lessen_4 : decode cX0_lessen 4 = .ok (.aload_n 0, 1) := dk_42 (dk_at dksX0_lessen_0 4 rfl rfl)
theorem dX0_lessen_5 : decode cX0_lessen 5 = .ok (.iload_n 1, 1) := dk_27 (dk_at dksX0_lessen_0 5 rfl rfl)
theorem dX0_lessen_6 : decode cX0_lessen 6 = .ok (.iload_n 2, 1) := dk_28 (dk_at dksX0_lessen_0 6 rfl rfl)
theorem dX0_lessen_7 : decode cX0_lessen 7 = .ok (.invokevirtual 233, 3) := dk_182 0 233 (dk_at dksX0_lessen_0 7 rfl rfl)
theorem dX0_lessen_10 : decode cX0_lessen 10 = .ok (.aload_n 0, 1) := dk_42 (dk_at dksX0_lessen_0 10 rfl rfl)
theorem dX0_lessen_11 : decode cX0_lessen 11 = .ok (.getfield 66, 3) := dk_180 0 66 (dk_at dksX0_lessen_0 11 rfl rfl)
theorem dX0_lessen_14 : decode cX0_lessen 14 = .ok (.aload_n 0, 1) := dk_42 (dk_at dksX0_lessen_0 14 rfl rfl)
theorem dX0_lessen_15 : decode cX0_lessen 15 = .ok (.iload_n 1, 1) := dk_27 (dk_at dksX0_lessen_0 15 rfl rfl)
theorem dX0_lessen_16 : decode cX0_lessen 16 = .ok (.iload_n 2, 1) := dk_28 (dk_at dksX0_lessen_0 16 rfl rfl)
theorem dX0_lessen_17 : decode cX0_lessen 17 = .ok (.invokevirtual 233, 3) := dk_182 0 233 (dk_at dksX0_lessen_0 17 rfl rfl)
theorem dX0_lessen_20 : decode cX0_lessen 20 = .ok (.iaload, 1) := dk_46 (dk_at dksX0_lessen_0 20 rfl rfl)
theorem dX0_lessen_21 : decode cX0_lessen 21 = .ok (.iload_n 3, 1) := dk_29 (dk_at dksX0_lessen_0 21 rfl rfl)
theorem dX0_lessen_22 : decode cX0_lessen 22 = .ok (.invokestatic 236, 3) := dk_184 0 236 (dk_at dksX0_lessen_1 0 rfl rfl)
theorem dX0_lessen_25 : decode cX0_lessen 25 = .ok (.iastore, 1) := dk_79 (dk_at dksX0_lessen_1 3 rfl rfl)
theorem dX0_lessen_26 : decode cX0_lessen 26 = .ok (.return_, 1) := dk_177 (dk_at dksX0_lessen_1 4 rfl rfl)
abbrev cX0_widest : ByteArray := prog_1_method_35_code
def yX0_widest : MethodName := ⟨RX0, "widest", "()I"⟩
def dkwX0_widest_5 : List UInt8 := [167, 255, 167, 27, 172]
abbrev dktX0_widest_5 : List UInt8 := dkwX0_widest_5 ++ []
def dkwX0_widest_4 : List UInt8 := [21, 4, 96, 167, 0, 4, 27, 60, 28, 21, 5, 184, 0, 250, 61, 132, 4, 1, 167, 255, 189, 132, 3, 1]
abbrev dktX0_widest_4 : List UInt8 := dkwX0_widest_4 ++ dktX0_widest_5
def dkwX0_widest_3 : List UInt8 := [180, 0, 66, 42, 21, 4, 29, 182, 0, 233, 46, 96, 54, 5, 21, 5, 28, 164, 0, 13, 16, 6, 29, 104]
abbrev dktX0_widest_3 : List UInt8 := dkwX0_widest_3 ++ dktX0_widest_4
def dkwX0_widest_2 : List UInt8 := [180, 0, 45, 180, 0, 167, 162, 0, 61, 42, 180, 0, 66, 42, 29, 21, 4, 182, 0, 233, 46, 42]
abbrev dktX0_widest_2 : List UInt8 := dkwX0_widest_2 ++ dktX0_widest_3
def dkwX0_widest_1 : List UInt8 := [18, 249, 61, 3, 62, 29, 42, 180, 0, 45, 180, 0, 167, 162, 0, 84, 29, 4, 96, 54, 4, 21, 4, 42]
abbrev dktX0_widest_1 : List UInt8 := dkwX0_widest_1 ++ dktX0_widest_2
def dkwX0_widest_0 : List UInt8 := [42, 182, 0, 183, 154, 0, 6, 18, 187, 172, 42, 182, 0, 246, 154, 0, 6, 18, 249, 172, 18, 249, 60]
abbrev dktX0_widest_0 : List UInt8 := dkwX0_widest_0 ++ dktX0_widest_1
theorem dksX0_widest_0 : cX0_widest.data.toList.drop 0 = dktX0_widest_0 := by decide +kernel
theorem dksX0_widest_1 : cX0_widest.data.toList.drop 23 = dktX0_widest_1 := dk_seg dksX0_widest_0 23 rfl rfl
theorem dksX0_widest_2 : cX0_widest.data.toList.drop 47 = dktX0_widest_2 := dk_seg dksX0_widest_1 24 rfl rfl
theorem dksX0_widest_3 : cX0_widest.data.toList.drop 69 = dktX0_widest_3 := dk_seg dksX0_widest_2 22 rfl rfl
theorem dksX0_widest_4 : cX0_widest.data.toList.drop 93 = dktX0_widest_4 := dk_seg dksX0_widest_3 24 rfl rfl
theorem dksX0_widest_5 : cX0_widest.data.toList.drop 117 = dktX0_widest_5 := dk_seg dksX0_widest_4 24 rfl rfl
theorem dX0_widest_0 : decode cX0_widest 0 = .ok (.aload_n 0, 1) := dk_42 (dk_at dksX0_widest_0 0 rfl rfl)
theorem dX0_widest_1 : decode cX0_widest 1 = .ok (.invokevirtual 183, 3) := dk_182 0 183 (dk_at dksX0_widest_0 1 rfl rfl)
theorem dX0_widest_4 : decode cX0_widest 4 = .ok (.ifCond .ne 6, 3) := dk_154 0 6 (dk_at dksX0_widest_0 4 rfl rfl)
theorem dX0_widest_7 : decode cX0_widest 7 = .ok (.ldc 187, 2) := dk_18 187 (dk_at dksX0_widest_0 7 rfl rfl)
theorem dX0_widest_9 : decode cX0_widest 9 = .ok (.ireturn, 1) := dk_172 (dk_at dksX0_widest_0 9 rfl rfl)
theorem dX0_widest_10 : decode cX0_widest 10 = .ok (.aload_n 0, 1) := dk_42 (dk_at dksX0_widest_0 10 rfl rfl)
theorem dX0_widest_11 : decode cX0_widest 11 = .ok (.invokevirtual 246, 3) := dk_182 0 246 (dk_at dksX0_widest_0 11 rfl rfl)
theorem dX0_widest_14 : decode cX0_widest 14 = .ok (.ifCond .ne 6, 3) := dk_154 0 6 (dk_at dksX0_widest_0 14 rfl rfl)
theorem dX0_widest_17 : decode cX0_widest 17 = .ok (.ldc 249, 2) := dk_18 249 (dk_at dksX0_widest_0 17 rfl rfl)
theorem dX0_widest_19 : decode cX0_widest 19 = .ok (.ireturn, 1) := dk_172 (dk_at dksX0_widest_0 19 rfl rfl)
theorem dX0_widest_20 : decode cX0_widest 20 = .ok (.ldc 249, 2) := dk_18 249 (dk_at dksX0_widest_0 20 rfl rfl)
theorem dX0_widest_22 : decode cX0_widest 22 = .ok (.istore_n 1, 1) := dk_60 (dk_at dksX0_widest_0 22 rfl rfl)
theorem dX0_widest_23 : decode cX0_widest 23 = .ok (.ldc 249, 2) := dk_18 249 (dk_at dksX0_widest_1 0 rfl rfl)
theorem dX0_widest_25 : decode cX0_widest 25 = .ok (.istore_n 2, 1) := dk_61 (dk_at dksX0_widest_1 2 rfl rfl)
theorem dX0_widest_26 : decode cX0_widest 26 = .ok (.iconst 0, 1) := dk_3 (dk_at dksX0_widest_1 3 rfl rfl)
theorem dX0_widest_27 : decode cX0_widest 27 = .ok (.istore_n 3, 1) := dk_62 (dk_at dksX0_widest_1 4 rfl rfl)
theorem dX0_widest_28 : decode cX0_widest 28 = .ok (.iload_n 3, 1) := dk_29 (dk_at dksX0_widest_1 5 rfl rfl)
theorem dX0_widest_29 : decode cX0_widest 29 = .ok (.aload_n 0, 1) := dk_42 (dk_at dksX0_widest_1 6 rfl rfl)
theorem dX0_widest_30 : decode cX0_widest 30 = .ok (.getfield 45, 3) := dk_180 0 45 (dk_at dksX0_widest_1 7 rfl rfl)
theorem dX0_widest_33 : decode cX0_widest 33 = .ok (.getfield 167, 3) := dk_180 0 167 (dk_at dksX0_widest_1 10 rfl rfl)
theorem dX0_widest_36 : decode cX0_widest 36 = .ok (.if_icmp .ge 84, 3) := dk_162 0 84 (dk_at dksX0_widest_1 13 rfl rfl)
theorem dX0_widest_39 : decode cX0_widest 39 = .ok (.iload_n 3, 1) := dk_29 (dk_at dksX0_widest_1 16 rfl rfl)
theorem dX0_widest_40 : decode cX0_widest 40 = .ok (.iconst 1, 1) := dk_4 (dk_at dksX0_widest_1 17 rfl rfl)
theorem dX0_widest_41 : decode cX0_widest 41 = .ok (.iadd, 1) := dk_96 (dk_at dksX0_widest_1 18 rfl rfl)
theorem dX0_widest_42 : decode cX0_widest 42 = .ok (.istore 4, 2) := dk_54 4 (dk_at dksX0_widest_1 19 rfl rfl)
theorem dX0_widest_44 : decode cX0_widest 44 = .ok (.iload 4, 2) := dk_21 4 (dk_at dksX0_widest_1 21 rfl rfl)
theorem dX0_widest_46 : decode cX0_widest 46 = .ok (.aload_n 0, 1) := dk_42 (dk_at dksX0_widest_1 23 rfl rfl)
theorem dX0_widest_47 : decode cX0_widest 47 = .ok (.getfield 45, 3) := dk_180 0 45 (dk_at dksX0_widest_2 0 rfl rfl)
theorem dX0_widest_50 : decode cX0_widest 50 = .ok (.getfield 167, 3) := dk_180 0 167 (dk_at dksX0_widest_2 3 rfl rfl)
theorem dX0_widest_53 : decode cX0_widest 53 = .ok (.if_icmp .ge 61, 3) := dk_162 0 61 (dk_at dksX0_widest_2 6 rfl rfl)
theorem dX0_widest_56 : decode cX0_widest 56 = .ok (.aload_n 0, 1) := dk_42 (dk_at dksX0_widest_2 9 rfl rfl)
theorem dX0_widest_57 : decode cX0_widest 57 = .ok (.getfield 66, 3) := dk_180 0 66 (dk_at dksX0_widest_2 10 rfl rfl)
theorem dX0_widest_60 : decode cX0_widest 60 = .ok (.aload_n 0, 1) := dk_42 (dk_at dksX0_widest_2 13 rfl rfl)
theorem dX0_widest_61 : decode cX0_widest 61 = .ok (.iload_n 3, 1) := dk_29 (dk_at dksX0_widest_2 14 rfl rfl)
theorem dX0_widest_62 : decode cX0_widest 62 = .ok (.iload 4, 2) := dk_21 4 (dk_at dksX0_widest_2 15 rfl rfl)
theorem dX0_widest_64 : decode cX0_widest 64 = .ok (.invokevirtual 233, 3) := dk_182 0 233 (dk_at dksX0_widest_2 17 rfl rfl)
theorem dX0_widest_67 : decode cX0_widest 67 = .ok (.iaload, 1) := dk_46 (dk_at dksX0_widest_2 20 rfl rfl)
theorem dX0_widest_68 : decode cX0_widest 68 = .ok (.aload_n 0, 1) := dk_42 (dk_at dksX0_widest_2 21 rfl rfl)
theorem dX0_widest_69 : decode cX0_widest 69 = .ok (.getfield 66, 3) := dk_180 0 66 (dk_at dksX0_widest_3 0 rfl rfl)
theorem dX0_widest_72 : decode cX0_widest 72 = .ok (.aload_n 0, 1) := dk_42 (dk_at dksX0_widest_3 3 rfl rfl)
theorem dX0_widest_73 : decode cX0_widest 73 = .ok (.iload 4, 2) := dk_21 4 (dk_at dksX0_widest_3 4 rfl rfl)
theorem dX0_widest_75 : decode cX0_widest 75 = .ok (.iload_n 3, 1) := dk_29 (dk_at dksX0_widest_3 6 rfl rfl)
theorem dX0_widest_76 : decode cX0_widest 76 = .ok (.invokevirtual 233, 3) := dk_182 0 233 (dk_at dksX0_widest_3 7 rfl rfl)
theorem dX0_widest_79 : decode cX0_widest 79 = .ok (.iaload, 1) := dk_46 (dk_at dksX0_widest_3 10 rfl rfl)
theorem dX0_widest_80 : decode cX0_widest 80 = .ok (.iadd, 1) := dk_96 (dk_at dksX0_widest_3 11 rfl rfl)
theorem dX0_widest_81 : decode cX0_widest 81 = .ok (.istore 5, 2) := dk_54 5 (dk_at dksX0_widest_3 12 rfl rfl)
theorem dX0_widest_83 : decode cX0_widest 83 = .ok (.iload 5, 2) := dk_21 5 (dk_at dksX0_widest_3 14 rfl rfl)
theorem dX0_widest_85 : decode cX0_widest 85 = .ok (.iload_n 2, 1) := dk_28 (dk_at dksX0_widest_3 16 rfl rfl)
theorem dX0_widest_86 : decode cX0_widest 86 = .ok (.if_icmp .le 13, 3) := dk_164 0 13 (dk_at dksX0_widest_3 17 rfl rfl)
theorem dX0_widest_89 : decode cX0_widest 89 = .ok (.bipush 6, 2) := dk_16 6 (dk_at dksX0_widest_3 20 rfl rfl)
theorem dX0_widest_91 : decode cX0_widest 91 = .ok (.iload_n 3, 1) := dk_29 (dk_at dksX0_widest_3 22 rfl rfl)
theorem dX0_widest_92 : decode cX0_widest 92 = .ok (.imul, 1) := dk_104 (dk_at dksX0_widest_3 23 rfl rfl)
theorem dX0_widest_93 : decode cX0_widest 93 = .ok (.iload 4, 2) := dk_21 4 (dk_at dksX0_widest_4 0 rfl rfl)
theorem dX0_widest_95 : decode cX0_widest 95 = .ok (.iadd, 1) := dk_96 (dk_at dksX0_widest_4 2 rfl rfl)
theorem dX0_widest_96 : decode cX0_widest 96 = .ok (.goto 4, 3) := dk_167 0 4 (dk_at dksX0_widest_4 3 rfl rfl)
theorem dX0_widest_99 : decode cX0_widest 99 = .ok (.iload_n 1, 1) := dk_27 (dk_at dksX0_widest_4 6 rfl rfl)
theorem dX0_widest_100 : decode cX0_widest 100 = .ok (.istore_n 1, 1) := dk_60 (dk_at dksX0_widest_4 7 rfl rfl)
theorem dX0_widest_101 : decode cX0_widest 101 = .ok (.iload_n 2, 1) := dk_28 (dk_at dksX0_widest_4 8 rfl rfl)
theorem dX0_widest_102 : decode cX0_widest 102 = .ok (.iload 5, 2) := dk_21 5 (dk_at dksX0_widest_4 9 rfl rfl)
theorem dX0_widest_104 : decode cX0_widest 104 = .ok (.invokestatic 250, 3) := dk_184 0 250 (dk_at dksX0_widest_4 11 rfl rfl)
theorem dX0_widest_107 : decode cX0_widest 107 = .ok (.istore_n 2, 1) := dk_61 (dk_at dksX0_widest_4 14 rfl rfl)
theorem dX0_widest_108 : decode cX0_widest 108 = .ok (.iinc 4 1, 3) := dk_132 4 1 (dk_at dksX0_widest_4 15 rfl rfl)
theorem dX0_widest_111 : decode cX0_widest 111 = .ok (.goto (-67), 3) := dk_167 255 189 (dk_at dksX0_widest_4 18 rfl rfl)
theorem dX0_widest_114 : decode cX0_widest 114 = .ok (.iinc 3 1, 3) := dk_132 3 1 (dk_at dksX0_widest_4 21 rfl rfl)
theorem dX0_widest_117 : decode cX0_widest 117 = .ok (.goto (-89), 3) := dk_167 255 167 (dk_at dksX0_widest_5 0 rfl rfl)
theorem dX0_widest_120 : decode cX0_widest 120 = .ok (.iload_n 1, 1) := dk_27 (dk_at dksX0_widest_5 3 rfl rfl)
theorem dX0_widest_121 : decode cX0_widest 121 = .ok (.ireturn, 1) := dk_172 (dk_at dksX0_widest_5 4 rfl rfl)
abbrev cX0_rest : ByteArray := prog_1_method_36_code
def yX0_rest : MethodName := ⟨RX0, "rest", "()I"⟩
def dkwX0_rest_3 : List UInt8 := [132, 2, 1, 167, 255, 210, 18, 249, 172]
abbrev dktX0_rest_3 : List UInt8 := dkwX0_rest_3 ++ []
def dkwX0_rest_2 : List UInt8 := [154, 0, 7, 4, 167, 0, 4, 3, 62, 27, 153, 0, 11, 29, 153, 0, 7, 28, 4, 100, 172, 29, 60]
abbrev dktX0_rest_2 : List UInt8 := dkwX0_rest_2 ++ dktX0_rest_3
def dkwX0_rest_1 : List UInt8 := [3, 61, 28, 16, 61, 163, 0, 46, 42, 180, 0, 49, 42, 180, 0, 49, 182, 0, 194, 182, 0, 196]
abbrev dktX0_rest_1 : List UInt8 := dkwX0_rest_1 ++ dktX0_rest_2
def dkwX0_rest_0 : List UInt8 := [42, 182, 0, 183, 154, 0, 6, 18, 187, 172, 42, 180, 0, 49, 42, 180, 0, 45, 182, 0, 160, 87, 3, 60]
abbrev dktX0_rest_0 : List UInt8 := dkwX0_rest_0 ++ dktX0_rest_1
theorem dksX0_rest_0 : cX0_rest.data.toList.drop 0 = dktX0_rest_0 := by decide +kernel
theorem dksX0_rest_1 : cX0_rest.data.toList.drop 24 = dktX0_rest_1 := dk_seg dksX0_rest_0 24 rfl rfl
theorem dksX0_rest_2 : cX0_rest.data.toList.drop 46 = dktX0_rest_2 := dk_seg dksX0_rest_1 22 rfl rfl
theorem dksX0_rest_3 : cX0_rest.data.toList.drop 69 = dktX0_rest_3 := dk_seg dksX0_rest_2 23 rfl rfl
theorem dX0_rest_0 : decode cX0_rest 0 = .ok (.aload_n 0, 1) := dk_42 (dk_at dksX0_rest_0 0 rfl rfl)
theorem dX0_rest_1 : decode cX0_rest 1 = .ok (.invokevirtual 183, 3) := dk_182 0 183 (dk_at dksX0_rest_0 1 rfl rfl)
theorem dX0_rest_4 : decode cX0_rest 4 = .ok (.ifCond .ne 6, 3) := dk_154 0 6 (dk_at dksX0_rest_0 4 rfl rfl)
theorem dX0_rest_7 : decode cX0_rest 7 = .ok (.ldc 187, 2) := dk_18 187 (dk_at dksX0_rest_0 7 rfl rfl)
theorem dX0_rest_9 : decode cX0_rest 9 = .ok (.ireturn, 1) := dk_172 (dk_at dksX0_rest_0 9 rfl rfl)
theorem dX0_rest_10 : decode cX0_rest 10 = .ok (.aload_n 0, 1) := dk_42 (dk_at dksX0_rest_0 10 rfl rfl)
theorem dX0_rest_11 : decode cX0_rest 11 = .ok (.getfield 49, 3) := dk_180 0 49 (dk_at dksX0_rest_0 11 rfl rfl)
theorem dX0_rest_14 : decode cX0_rest 14 = .ok (.aload_n 0, 1) := dk_42 (dk_at dksX0_rest_0 14 rfl rfl)
theorem dX0_rest_15 : decode cX0_rest 15 = .ok (.getfield 45, 3) := dk_180 0 45 (dk_at dksX0_rest_0 15 rfl rfl)
theorem dX0_rest_18 : decode cX0_rest 18 = .ok (.invokevirtual 160, 3) := dk_182 0 160 (dk_at dksX0_rest_0 18 rfl rfl)
theorem dX0_rest_21 : decode cX0_rest 21 = .ok (.pop, 1) := dk_87 (dk_at dksX0_rest_0 21 rfl rfl)
theorem dX0_rest_22 : decode cX0_rest 22 = .ok (.iconst 0, 1) := dk_3 (dk_at dksX0_rest_0 22 rfl rfl)
theorem dX0_rest_23 : decode cX0_rest 23 = .ok (.istore_n 1, 1) := dk_60 (dk_at dksX0_rest_0 23 rfl rfl)
theorem dX0_rest_24 : decode cX0_rest 24 = .ok (.iconst 0, 1) := dk_3 (dk_at dksX0_rest_1 0 rfl rfl)
theorem dX0_rest_25 : decode cX0_rest 25 = .ok (.istore_n 2, 1) := dk_61 (dk_at dksX0_rest_1 1 rfl rfl)
theorem dX0_rest_26 : decode cX0_rest 26 = .ok (.iload_n 2, 1) := dk_28 (dk_at dksX0_rest_1 2 rfl rfl)
theorem dX0_rest_27 : decode cX0_rest 27 = .ok (.bipush 61, 2) := dk_16 61 (dk_at dksX0_rest_1 3 rfl rfl)
theorem dX0_rest_29 : decode cX0_rest 29 = .ok (.if_icmp .gt 46, 3) := dk_163 0 46 (dk_at dksX0_rest_1 5 rfl rfl)
theorem dX0_rest_32 : decode cX0_rest 32 = .ok (.aload_n 0, 1) := dk_42 (dk_at dksX0_rest_1 8 rfl rfl)
theorem dX0_rest_33 : decode cX0_rest 33 = .ok (.getfield 49, 3) := dk_180 0 49 (dk_at dksX0_rest_1 9 rfl rfl)
theorem dX0_rest_36 : decode cX0_rest 36 = .ok (.aload_n 0, 1) := dk_42 (dk_at dksX0_rest_1 12 rfl rfl)
theorem dX0_rest_37 : decode cX0_rest 37 = .ok (.getfield 49, 3) := dk_180 0 49 (dk_at dksX0_rest_1 13 rfl rfl)
theorem dX0_rest_40 : decode cX0_rest 40 = .ok (.invokevirtual 194, 3) := dk_182 0 194 (dk_at dksX0_rest_1 16 rfl rfl)
theorem dX0_rest_43 : decode cX0_rest 43 = .ok (.invokevirtual 196, 3) := dk_182 0 196 (dk_at dksX0_rest_1 19 rfl rfl)
theorem dX0_rest_46 : decode cX0_rest 46 = .ok (.ifCond .ne 7, 3) := dk_154 0 7 (dk_at dksX0_rest_2 0 rfl rfl)
theorem dX0_rest_49 : decode cX0_rest 49 = .ok (.iconst 1, 1) := dk_4 (dk_at dksX0_rest_2 3 rfl rfl)
theorem dX0_rest_50 : decode cX0_rest 50 = .ok (.goto 4, 3) := dk_167 0 4 (dk_at dksX0_rest_2 4 rfl rfl)
theorem dX0_rest_53 : decode cX0_rest 53 = .ok (.iconst 0, 1) := dk_3 (dk_at dksX0_rest_2 7 rfl rfl)
theorem dX0_rest_54 : decode cX0_rest 54 = .ok (.istore_n 3, 1) := dk_62 (dk_at dksX0_rest_2 8 rfl rfl)
theorem dX0_rest_55 : decode cX0_rest 55 = .ok (.iload_n 1, 1) := dk_27 (dk_at dksX0_rest_2 9 rfl rfl)
theorem dX0_rest_56 : decode cX0_rest 56 = .ok (.ifCond .eq 11, 3) := dk_153 0 11 (dk_at dksX0_rest_2 10 rfl rfl)
theorem dX0_rest_59 : decode cX0_rest 59 = .ok (.iload_n 3, 1) := dk_29 (dk_at dksX0_rest_2 13 rfl rfl)
theorem dX0_rest_60 : decode cX0_rest 60 = .ok (.ifCond .eq 7, 3) := dk_153 0 7 (dk_at dksX0_rest_2 14 rfl rfl)
theorem dX0_rest_63 : decode cX0_rest 63 = .ok (.iload_n 2, 1) := dk_28 (dk_at dksX0_rest_2 17 rfl rfl)
theorem dX0_rest_64 : decode cX0_rest 64 = .ok (.iconst 1, 1) := dk_4 (dk_at dksX0_rest_2 18 rfl rfl)
theorem dX0_rest_65 : decode cX0_rest 65 = .ok (.isub, 1) := dk_100 (dk_at dksX0_rest_2 19 rfl rfl)
theorem dX0_rest_66 : decode cX0_rest 66 = .ok (.ireturn, 1) := dk_172 (dk_at dksX0_rest_2 20 rfl rfl)
theorem dX0_rest_67 : decode cX0_rest 67 = .ok (.iload_n 3, 1) := dk_29 (dk_at dksX0_rest_2 21 rfl rfl)
theorem dX0_rest_68 : decode cX0_rest 68 = .ok (.istore_n 1, 1) := dk_60 (dk_at dksX0_rest_2 22 rfl rfl)
theorem dX0_rest_69 : decode cX0_rest 69 = .ok (.iinc 2 1, 3) := dk_132 2 1 (dk_at dksX0_rest_3 0 rfl rfl)
theorem dX0_rest_72 : decode cX0_rest 72 = .ok (.goto (-46), 3) := dk_167 255 210 (dk_at dksX0_rest_3 3 rfl rfl)
theorem dX0_rest_75 : decode cX0_rest 75 = .ok (.ldc 249, 2) := dk_18 249 (dk_at dksX0_rest_3 6 rfl rfl)
theorem dX0_rest_77 : decode cX0_rest 77 = .ok (.ireturn, 1) := dk_172 (dk_at dksX0_rest_3 8 rfl rfl)
abbrev cX0_moved : ByteArray := prog_1_method_37_code
def yX0_moved : MethodName := ⟨RX0, "moved", "(I)I"⟩
def dkwX0_moved_8 : List UInt8 := [4, 160, 0, 7, 28, 167, 0, 14, 29, 18, 249, 160, 0, 7, 3, 167, 0, 4, 29, 172]
abbrev dktX0_moved_8 : List UInt8 := dkwX0_moved_8 ++ []
def dkwX0_moved_7 : List UInt8 := [167, 0, 4, 28, 61, 21, 7, 153, 0, 8, 21, 6, 167, 0, 4, 29, 62, 132, 4, 1, 167, 255, 97, 27]
abbrev dktX0_moved_7 : List UInt8 := dkwX0_moved_7 ++ dktX0_moved_8
def dkwX0_moved_6 : List UInt8 := [29, 160, 0, 13, 21, 5, 28, 162, 0, 7, 4, 167, 0, 4, 3, 54, 7, 21, 7, 153, 0, 8, 21, 5]
abbrev dktX0_moved_6 : List UInt8 := dkwX0_moved_6 ++ dktX0_moved_7
def dkwX0_moved_5 : List UInt8 := [167, 255, 183, 21, 5, 184, 0, 253, 54, 6, 29, 18, 249, 159, 0, 21, 21, 6, 29, 161, 0, 15, 21, 6]
abbrev dktX0_moved_5 : List UInt8 := dkwX0_moved_5 ++ dktX0_moved_6
def dkwX0_moved_4 : List UInt8 := [180, 0, 211, 21, 4, 46, 100, 159, 0, 10, 4, 21, 6, 120, 167, 0, 4, 3, 128, 54, 5, 132, 6, 1]
abbrev dktX0_moved_4 : List UInt8 := dkwX0_moved_4 ++ dktX0_moved_5
def dkwX0_moved_3 : List UInt8 := [180, 0, 45, 180, 0, 211, 21, 6, 46, 100, 42, 180, 0, 45, 180, 0, 205, 21, 4, 46, 42, 180, 0, 45]
abbrev dktX0_moved_3 : List UInt8 := dkwX0_moved_3 ++ dktX0_moved_4
def dkwX0_moved_2 : List UInt8 := [42, 180, 0, 45, 180, 0, 167, 162, 0, 67, 21, 5, 42, 180, 0, 45, 180, 0, 205, 21, 6, 46, 42]
abbrev dktX0_moved_2 : List UInt8 := dkwX0_moved_2 ++ dktX0_moved_3
def dkwX0_moved_1 : List UInt8 := [62, 3, 54, 4, 21, 4, 42, 180, 0, 45, 180, 0, 167, 162, 0, 153, 3, 54, 5, 3, 54, 6, 21, 6]
abbrev dktX0_moved_1 : List UInt8 := dkwX0_moved_1 ++ dktX0_moved_2
def dkwX0_moved_0 : List UInt8 := [42, 182, 0, 183, 154, 0, 6, 18, 187, 172, 27, 184, 0, 214, 154, 0, 6, 18, 99, 172, 3, 61, 18, 249]
abbrev dktX0_moved_0 : List UInt8 := dkwX0_moved_0 ++ dktX0_moved_1
theorem dksX0_moved_0 : cX0_moved.data.toList.drop 0 = dktX0_moved_0 := by decide +kernel
theorem dksX0_moved_1 : cX0_moved.data.toList.drop 24 = dktX0_moved_1 := dk_seg dksX0_moved_0 24 rfl rfl
theorem dksX0_moved_2 : cX0_moved.data.toList.drop 48 = dktX0_moved_2 := dk_seg dksX0_moved_1 24 rfl rfl
theorem dksX0_moved_3 : cX0_moved.data.toList.drop 71 = dktX0_moved_3 := dk_seg dksX0_moved_2 23 rfl rfl
theorem dksX0_moved_4 : cX0_moved.data.toList.drop 95 = dktX0_moved_4 := dk_seg dksX0_moved_3 24 rfl rfl
theorem dksX0_moved_5 : cX0_moved.data.toList.drop 119 = dktX0_moved_5 := dk_seg dksX0_moved_4 24 rfl rfl
theorem dksX0_moved_6 : cX0_moved.data.toList.drop 143 = dktX0_moved_6 := dk_seg dksX0_moved_5 24 rfl rfl
theorem dksX0_moved_7 : cX0_moved.data.toList.drop 167 = dktX0_moved_7 := dk_seg dksX0_moved_6 24 rfl rfl
theorem dksX0_moved_8 : cX0_moved.data.toList.drop 191 = dktX0_moved_8 := dk_seg dksX0_moved_7 24 rfl rfl
theorem dX0_moved_0 : decode cX0_moved 0 = .ok (.aload_n 0, 1) := dk_42 (dk_at dksX0_moved_0 0 rfl rfl)
theorem dX0_moved_1 : decode cX0_moved 1 = .ok (.invokevirtual 183, 3) := dk_182 0 183 (dk_at dksX0_moved_0 1 rfl rfl)
theorem dX0_moved_4 : decode cX0_moved 4 = .ok (.ifCond .ne 6, 3) := dk_154 0 6 (dk_at dksX0_moved_0 4 rfl rfl)
theorem dX0_moved_7 : decode cX0_moved 7 = .ok (.ldc 187, 2) := dk_18 187 (dk_at dksX0_moved_0 7 rfl rfl)
theorem dX0_moved_9 : decode cX0_moved 9 = .ok (.ireturn, 1) := dk_172 (dk_at dksX0_moved_0 9 rfl rfl)
theorem dX0_moved_10 : decode cX0_moved 10 = .ok (.iload_n 1, 1) := dk_27 (dk_at dksX0_moved_0 10 rfl rfl)
theorem dX0_moved_11 : decode cX0_moved 11 = .ok (.invokestatic 214, 3) := dk_184 0 214 (dk_at dksX0_moved_0 11 rfl rfl)
theorem dX0_moved_14 : decode cX0_moved 14 = .ok (.ifCond .ne 6, 3) := dk_154 0 6 (dk_at dksX0_moved_0 14 rfl rfl)
theorem dX0_moved_17 : decode cX0_moved 17 = .ok (.ldc 99, 2) := dk_18 99 (dk_at dksX0_moved_0 17 rfl rfl)
theorem dX0_moved_19 : decode cX0_moved 19 = .ok (.ireturn, 1) := dk_172 (dk_at dksX0_moved_0 19 rfl rfl)
theorem dX0_moved_20 : decode cX0_moved 20 = .ok (.iconst 0, 1) := dk_3 (dk_at dksX0_moved_0 20 rfl rfl)
theorem dX0_moved_21 : decode cX0_moved 21 = .ok (.istore_n 2, 1) := dk_61 (dk_at dksX0_moved_0 21 rfl rfl)
theorem dX0_moved_22 : decode cX0_moved 22 = .ok (.ldc 249, 2) := dk_18 249 (dk_at dksX0_moved_0 22 rfl rfl)
theorem dX0_moved_24 : decode cX0_moved 24 = .ok (.istore_n 3, 1) := dk_62 (dk_at dksX0_moved_1 0 rfl rfl)
theorem dX0_moved_25 : decode cX0_moved 25 = .ok (.iconst 0, 1) := dk_3 (dk_at dksX0_moved_1 1 rfl rfl)
theorem dX0_moved_26 : decode cX0_moved 26 = .ok (.istore 4, 2) := dk_54 4 (dk_at dksX0_moved_1 2 rfl rfl)
theorem dX0_moved_28 : decode cX0_moved 28 = .ok (.iload 4, 2) := dk_21 4 (dk_at dksX0_moved_1 4 rfl rfl)
theorem dX0_moved_30 : decode cX0_moved 30 = .ok (.aload_n 0, 1) := dk_42 (dk_at dksX0_moved_1 6 rfl rfl)
theorem dX0_moved_31 : decode cX0_moved 31 = .ok (.getfield 45, 3) := dk_180 0 45 (dk_at dksX0_moved_1 7 rfl rfl)
theorem dX0_moved_34 : decode cX0_moved 34 = .ok (.getfield 167, 3) := dk_180 0 167 (dk_at dksX0_moved_1 10 rfl rfl)
theorem dX0_moved_37 : decode cX0_moved 37 = .ok (.if_icmp .ge 153, 3) := dk_162 0 153 (dk_at dksX0_moved_1 13 rfl rfl)
theorem dX0_moved_40 : decode cX0_moved 40 = .ok (.iconst 0, 1) := dk_3 (dk_at dksX0_moved_1 16 rfl rfl)
theorem dX0_moved_41 : decode cX0_moved 41 = .ok (.istore 5, 2) := dk_54 5 (dk_at dksX0_moved_1 17 rfl rfl)
theorem dX0_moved_43 : decode cX0_moved 43 = .ok (.iconst 0, 1) := dk_3 (dk_at dksX0_moved_1 19 rfl rfl)
theorem dX0_moved_44 : decode cX0_moved 44 = .ok (.istore 6, 2) := dk_54 6 (dk_at dksX0_moved_1 20 rfl rfl)
theorem dX0_moved_46 : decode cX0_moved 46 = .ok (.iload 6, 2) := dk_21 6 (dk_at dksX0_moved_1 22 rfl rfl)
theorem dX0_moved_48 : decode cX0_moved 48 = .ok (.aload_n 0, 1) := dk_42 (dk_at dksX0_moved_2 0 rfl rfl)
theorem dX0_moved_49 : decode cX0_moved 49 = .ok (.getfield 45, 3) := dk_180 0 45 (dk_at dksX0_moved_2 1 rfl rfl)
theorem dX0_moved_52 : decode cX0_moved 52 = .ok (.getfield 167, 3) := dk_180 0 167 (dk_at dksX0_moved_2 4 rfl rfl)
theorem dX0_moved_55 : decode cX0_moved 55 = .ok (.if_icmp .ge 67, 3) := dk_162 0 67 (dk_at dksX0_moved_2 7 rfl rfl)
theorem dX0_moved_58 : decode cX0_moved 58 = .ok (.iload 5, 2) := dk_21 5 (dk_at dksX0_moved_2 10 rfl rfl)
theorem dX0_moved_60 : decode cX0_moved 60 = .ok (.aload_n 0, 1) := dk_42 (dk_at dksX0_moved_2 12 rfl rfl)
theorem dX0_moved_61 : decode cX0_moved 61 = .ok (.getfield 45, 3) := dk_180 0 45 (dk_at dksX0_moved_2 13 rfl rfl)
theorem dX0_moved_64 : decode cX0_moved 64 = .ok (.getfield 205, 3) := dk_180 0 205 (dk_at dksX0_moved_2 16 rfl rfl)
theorem dX0_moved_67 : decode cX0_moved 67 = .ok (.iload 6, 2) := dk_21 6 (dk_at dksX0_moved_2 19 rfl rfl)
theorem dX0_moved_69 : decode cX0_moved 69 = .ok (.iaload, 1) := dk_46 (dk_at dksX0_moved_2 21 rfl rfl)
theorem dX0_moved_70 : decode cX0_moved 70 = .ok (.aload_n 0, 1) := dk_42 (dk_at dksX0_moved_2 22 rfl rfl)
theorem dX0_moved_71 : decode cX0_moved 71 = .ok (.getfield 45, 3) := dk_180 0 45 (dk_at dksX0_moved_3 0 rfl rfl)
theorem dX0_moved_74 : decode cX0_moved 74 = .ok (.getfield 211, 3) := dk_180 0 211 (dk_at dksX0_moved_3 3 rfl rfl)
theorem dX0_moved_77 : decode cX0_moved 77 = .ok (.iload 6, 2) := dk_21 6 (dk_at dksX0_moved_3 6 rfl rfl)
theorem dX0_moved_79 : decode cX0_moved 79 = .ok (.iaload, 1) := dk_46 (dk_at dksX0_moved_3 8 rfl rfl)
theorem dX0_moved_80 : decode cX0_moved 80 = .ok (.isub, 1) := dk_100 (dk_at dksX0_moved_3 9 rfl rfl)
theorem dX0_moved_81 : decode cX0_moved 81 = .ok (.aload_n 0, 1) := dk_42 (dk_at dksX0_moved_3 10 rfl rfl)
theorem dX0_moved_82 : decode cX0_moved 82 = .ok (.getfield 45, 3) := dk_180 0 45 (dk_at dksX0_moved_3 11 rfl rfl)
theorem dX0_moved_85 : decode cX0_moved 85 = .ok (.getfield 205, 3) := dk_180 0 205 (dk_at dksX0_moved_3 14 rfl rfl)
theorem dX0_moved_88 : decode cX0_moved 88 = .ok (.iload 4, 2) := dk_21 4 (dk_at dksX0_moved_3 17 rfl rfl)
theorem dX0_moved_90 : decode cX0_moved 90 = .ok (.iaload, 1) := dk_46 (dk_at dksX0_moved_3 19 rfl rfl)
theorem dX0_moved_91 : decode cX0_moved 91 = .ok (.aload_n 0, 1) := dk_42 (dk_at dksX0_moved_3 20 rfl rfl)
theorem dX0_moved_92 : decode cX0_moved 92 = .ok (.getfield 45, 3) := dk_180 0 45 (dk_at dksX0_moved_3 21 rfl rfl)
theorem dX0_moved_95 : decode cX0_moved 95 = .ok (.getfield 211, 3) := dk_180 0 211 (dk_at dksX0_moved_4 0 rfl rfl)
theorem dX0_moved_98 : decode cX0_moved 98 = .ok (.iload 4, 2) := dk_21 4 (dk_at dksX0_moved_4 3 rfl rfl)
theorem dX0_moved_100 : decode cX0_moved 100 = .ok (.iaload, 1) := dk_46 (dk_at dksX0_moved_4 5 rfl rfl)
theorem dX0_moved_101 : decode cX0_moved 101 = .ok (.isub, 1) := dk_100 (dk_at dksX0_moved_4 6 rfl rfl)
theorem dX0_moved_102 : decode cX0_moved 102 = .ok (.if_icmp .eq 10, 3) := dk_159 0 10 (dk_at dksX0_moved_4 7 rfl rfl)
theorem dX0_moved_105 : decode cX0_moved 105 = .ok (.iconst 1, 1) := dk_4 (dk_at dksX0_moved_4 10 rfl rfl)
theorem dX0_moved_106 : decode cX0_moved 106 = .ok (.iload 6, 2) := dk_21 6 (dk_at dksX0_moved_4 11 rfl rfl)
theorem dX0_moved_108 : decode cX0_moved 108 = .ok (.ishl, 1) := dk_120 (dk_at dksX0_moved_4 13 rfl rfl)
theorem dX0_moved_109 : decode cX0_moved 109 = .ok (.goto 4, 3) := dk_167 0 4 (dk_at dksX0_moved_4 14 rfl rfl)
theorem dX0_moved_112 : decode cX0_moved 112 = .ok (.iconst 0, 1) := dk_3 (dk_at dksX0_moved_4 17 rfl rfl)
theorem dX0_moved_113 : decode cX0_moved 113 = .ok (.ior, 1) := dk_128 (dk_at dksX0_moved_4 18 rfl rfl)
theorem dX0_moved_114 : decode cX0_moved 114 = .ok (.istore 5, 2) := dk_54 5 (dk_at dksX0_moved_4 19 rfl rfl)
theorem dX0_moved_116 : decode cX0_moved 116 = .ok (.iinc 6 1, 3) := dk_132 6 1 (dk_at dksX0_moved_4 21 rfl rfl)
theorem dX0_moved_119 : decode cX0_moved 119 = .ok (.goto (-73), 3) := dk_167 255 183 (dk_at dksX0_moved_5 0 rfl rfl)
theorem dX0_moved_122 : decode cX0_moved 122 = .ok (.iload 5, 2) := dk_21 5 (dk_at dksX0_moved_5 3 rfl rfl)
theorem dX0_moved_124 : decode cX0_moved 124 = .ok (.invokestatic 253, 3) := dk_184 0 253 (dk_at dksX0_moved_5 5 rfl rfl)
theorem dX0_moved_127 : decode cX0_moved 127 = .ok (.istore 6, 2) := dk_54 6 (dk_at dksX0_moved_5 8 rfl rfl)
theorem dX0_moved_129 : decode cX0_moved 129 = .ok (.iload_n 3, 1) := dk_29 (dk_at dksX0_moved_5 10 rfl rfl)
theorem dX0_moved_130 : decode cX0_moved 130 = .ok (.ldc 249, 2) := dk_18 249 (dk_at dksX0_moved_5 11 rfl rfl)
theorem dX0_moved_132 : decode cX0_moved 132 = .ok (.if_icmp .eq 21, 3) := dk_159 0 21 (dk_at dksX0_moved_5 13 rfl rfl)
theorem dX0_moved_135 : decode cX0_moved 135 = .ok (.iload 6, 2) := dk_21 6 (dk_at dksX0_moved_5 16 rfl rfl)
theorem dX0_moved_137 : decode cX0_moved 137 = .ok (.iload_n 3, 1) := dk_29 (dk_at dksX0_moved_5 18 rfl rfl)
theorem dX0_moved_138 : decode cX0_moved 138 = .ok (.if_icmp .lt 15, 3) := dk_161 0 15 (dk_at dksX0_moved_5 19 rfl rfl)
theorem dX0_moved_141 : decode cX0_moved 141 = .ok (.iload 6, 2) := dk_21 6 (dk_at dksX0_moved_5 22 rfl rfl)
theorem dX0_moved_143 : decode cX0_moved 143 = .ok (.iload_n 3, 1) := dk_29 (dk_at dksX0_moved_6 0 rfl rfl)
theorem dX0_moved_144 : decode cX0_moved 144 = .ok (.if_icmp .ne 13, 3) := dk_160 0 13 (dk_at dksX0_moved_6 1 rfl rfl)
theorem dX0_moved_147 : decode cX0_moved 147 = .ok (.iload 5, 2) := dk_21 5 (dk_at dksX0_moved_6 4 rfl rfl)
theorem dX0_moved_149 : decode cX0_moved 149 = .ok (.iload_n 2, 1) := dk_28 (dk_at dksX0_moved_6 6 rfl rfl)
theorem dX0_moved_150 : decode cX0_moved 150 = .ok (.if_icmp .ge 7, 3) := dk_162 0 7 (dk_at dksX0_moved_6 7 rfl rfl)
theorem dX0_moved_153 : decode cX0_moved 153 = .ok (.iconst 1, 1) := dk_4 (dk_at dksX0_moved_6 10 rfl rfl)
theorem dX0_moved_154 : decode cX0_moved 154 = .ok (.goto 4, 3) := dk_167 0 4 (dk_at dksX0_moved_6 11 rfl rfl)
theorem dX0_moved_157 : decode cX0_moved 157 = .ok (.iconst 0, 1) := dk_3 (dk_at dksX0_moved_6 14 rfl rfl)
theorem dX0_moved_158 : decode cX0_moved 158 = .ok (.istore 7, 2) := dk_54 7 (dk_at dksX0_moved_6 15 rfl rfl)
theorem dX0_moved_160 : decode cX0_moved 160 = .ok (.iload 7, 2) := dk_21 7 (dk_at dksX0_moved_6 17 rfl rfl)
theorem dX0_moved_162 : decode cX0_moved 162 = .ok (.ifCond .eq 8, 3) := dk_153 0 8 (dk_at dksX0_moved_6 19 rfl rfl)
theorem dX0_moved_165 : decode cX0_moved 165 = .ok (.iload 5, 2) := dk_21 5 (dk_at dksX0_moved_6 22 rfl rfl)
theorem dX0_moved_167 : decode cX0_moved 167 = .ok (.goto 4, 3) := dk_167 0 4 (dk_at dksX0_moved_7 0 rfl rfl)
theorem dX0_moved_170 : decode cX0_moved 170 = .ok (.iload_n 2, 1) := dk_28 (dk_at dksX0_moved_7 3 rfl rfl)
theorem dX0_moved_171 : decode cX0_moved 171 = .ok (.istore_n 2, 1) := dk_61 (dk_at dksX0_moved_7 4 rfl rfl)
theorem dX0_moved_172 : decode cX0_moved 172 = .ok (.iload 7, 2) := dk_21 7 (dk_at dksX0_moved_7 5 rfl rfl)
theorem dX0_moved_174 : decode cX0_moved 174 = .ok (.ifCond .eq 8, 3) := dk_153 0 8 (dk_at dksX0_moved_7 7 rfl rfl)
theorem dX0_moved_177 : decode cX0_moved 177 = .ok (.iload 6, 2) := dk_21 6 (dk_at dksX0_moved_7 10 rfl rfl)
theorem dX0_moved_179 : decode cX0_moved 179 = .ok (.goto 4, 3) := dk_167 0 4 (dk_at dksX0_moved_7 12 rfl rfl)
theorem dX0_moved_182 : decode cX0_moved 182 = .ok (.iload_n 3, 1) := dk_29 (dk_at dksX0_moved_7 15 rfl rfl)
theorem dX0_moved_183 : decode cX0_moved 183 = .ok (.istore_n 3, 1) := dk_62 (dk_at dksX0_moved_7 16 rfl rfl)
theorem dX0_moved_184 : decode cX0_moved 184 = .ok (.iinc 4 1, 3) := dk_132 4 1 (dk_at dksX0_moved_7 17 rfl rfl)
theorem dX0_moved_187 : decode cX0_moved 187 = .ok (.goto (-159), 3) := dk_167 255 97 (dk_at dksX0_moved_7 20 rfl rfl)
theorem dX0_moved_190 : decode cX0_moved 190 = .ok (.iload_n 1, 1) := dk_27 (dk_at dksX0_moved_7 23 rfl rfl)
theorem dX0_moved_191 : decode cX0_moved 191 = .ok (.iconst 1, 1) := dk_4 (dk_at dksX0_moved_8 0 rfl rfl)
theorem dX0_moved_192 : decode cX0_moved 192 = .ok (.if_icmp .ne 7, 3) := dk_160 0 7 (dk_at dksX0_moved_8 1 rfl rfl)
theorem dX0_moved_195 : decode cX0_moved 195 = .ok (.iload_n 2, 1) := dk_28 (dk_at dksX0_moved_8 4 rfl rfl)
theorem dX0_moved_196 : decode cX0_moved 196 = .ok (.goto 14, 3) := dk_167 0 14 (dk_at dksX0_moved_8 5 rfl rfl)
theorem dX0_moved_199 : decode cX0_moved 199 = .ok (.iload_n 3, 1) := dk_29 (dk_at dksX0_moved_8 8 rfl rfl)
theorem dX0_moved_200 : decode cX0_moved 200 = .ok (.ldc 249, 2) := dk_18 249 (dk_at dksX0_moved_8 9 rfl rfl)
theorem dX0_moved_202 : decode cX0_moved 202 = .ok (.if_icmp .ne 7, 3) := dk_160 0 7 (dk_at dksX0_moved_8 11 rfl rfl)
theorem dX0_moved_205 : decode cX0_moved 205 = .ok (.iconst 0, 1) := dk_3 (dk_at dksX0_moved_8 14 rfl rfl)
theorem dX0_moved_206 : decode cX0_moved 206 = .ok (.goto 4, 3) := dk_167 0 4 (dk_at dksX0_moved_8 15 rfl rfl)
theorem dX0_moved_209 : decode cX0_moved 209 = .ok (.iload_n 3, 1) := dk_29 (dk_at dksX0_moved_8 18 rfl rfl)
theorem dX0_moved_210 : decode cX0_moved 210 = .ok (.ireturn, 1) := dk_172 (dk_at dksX0_moved_8 19 rfl rfl)
abbrev cX0_who : ByteArray := prog_1_method_38_code
def yX0_who : MethodName := ⟨RX0, "who", "(II)I"⟩
def dkwX0_who_6 : List UInt8 := [21, 4, 172]
abbrev dktX0_who_6 : List UInt8 := dkwX0_who_6 ++ []
def dkwX0_who_5 : List UInt8 := [167, 0, 5, 21, 4, 54, 4, 132, 3, 1, 132, 5, 1, 167, 255, 168, 28, 154, 0, 7, 29, 167, 0, 5]
abbrev dktX0_who_5 : List UInt8 := dkwX0_who_5 ++ dktX0_who_6
def dkwX0_who_4 : List UInt8 := [180, 0, 49, 42, 180, 0, 45, 182, 1, 8, 154, 0, 6, 167, 0, 19, 29, 154, 0, 8, 21, 5]
abbrev dktX0_who_4 : List UInt8 := dkwX0_who_4 ++ dktX0_who_5
def dkwX0_who_3 : List UInt8 := [21, 6, 27, 162, 0, 19, 42, 180, 0, 49, 21, 5, 182, 0, 196, 87, 132, 6, 1, 167, 255, 237, 42]
abbrev dktX0_who_3 : List UInt8 := dkwX0_who_3 ++ dktX0_who_4
def dkwX0_who_2 : List UInt8 := [182, 0, 194, 163, 0, 82, 42, 180, 0, 49, 42, 180, 0, 45, 182, 0, 160, 182, 1, 4, 87, 3, 54, 6]
abbrev dktX0_who_2 : List UInt8 := dkwX0_who_2 ++ dktX0_who_3
def dkwX0_who_1 : List UInt8 := [184, 0, 214, 154, 0, 6, 18, 99, 172, 3, 62, 18, 249, 54, 4, 3, 54, 5, 21, 5, 42, 180, 0, 45]
abbrev dktX0_who_1 : List UInt8 := dkwX0_who_1 ++ dktX0_who_2
def dkwX0_who_0 : List UInt8 := [42, 182, 0, 183, 154, 0, 6, 18, 187, 172, 27, 133, 9, 20, 1, 2, 184, 0, 85, 153, 0, 10, 28]
abbrev dktX0_who_0 : List UInt8 := dkwX0_who_0 ++ dktX0_who_1
theorem dksX0_who_0 : cX0_who.data.toList.drop 0 = dktX0_who_0 := by decide +kernel
theorem dksX0_who_1 : cX0_who.data.toList.drop 23 = dktX0_who_1 := dk_seg dksX0_who_0 23 rfl rfl
theorem dksX0_who_2 : cX0_who.data.toList.drop 47 = dktX0_who_2 := dk_seg dksX0_who_1 24 rfl rfl
theorem dksX0_who_3 : cX0_who.data.toList.drop 71 = dktX0_who_3 := dk_seg dksX0_who_2 24 rfl rfl
theorem dksX0_who_4 : cX0_who.data.toList.drop 94 = dktX0_who_4 := dk_seg dksX0_who_3 23 rfl rfl
theorem dksX0_who_5 : cX0_who.data.toList.drop 116 = dktX0_who_5 := dk_seg dksX0_who_4 22 rfl rfl
theorem dksX0_who_6 : cX0_who.data.toList.drop 140 = dktX0_who_6 := dk_seg dksX0_who_5 24 rfl rfl
theorem dX0_who_0 : decode cX0_who 0 = .ok (.aload_n 0, 1) := dk_42 (dk_at dksX0_who_0 0 rfl rfl)
theorem dX0_who_1 : decode cX0_who 1 = .ok (.invokevirtual 183, 3) := dk_182 0 183 (dk_at dksX0_who_0 1 rfl rfl)
theorem dX0_who_4 : decode cX0_who 4 = .ok (.ifCond .ne 6, 3) := dk_154 0 6 (dk_at dksX0_who_0 4 rfl rfl)
theorem dX0_who_7 : decode cX0_who 7 = .ok (.ldc 187, 2) := dk_18 187 (dk_at dksX0_who_0 7 rfl rfl)
theorem dX0_who_9 : decode cX0_who 9 = .ok (.ireturn, 1) := dk_172 (dk_at dksX0_who_0 9 rfl rfl)
theorem dX0_who_10 : decode cX0_who 10 = .ok (.iload_n 1, 1) := dk_27 (dk_at dksX0_who_0 10 rfl rfl)
theorem dX0_who_11 : decode cX0_who 11 = .ok (.i2l, 1) := dk_133 (dk_at dksX0_who_0 11 rfl rfl)
theorem dX0_who_12 : decode cX0_who 12 = .ok (.lconst 0, 1) := dk_9 (dk_at dksX0_who_0 12 rfl rfl)
theorem dX0_who_13 : decode cX0_who 13 = .ok (.ldc2_w 258, 3) := dk_20 1 2 (dk_at dksX0_who_0 13 rfl rfl)
theorem dX0_who_16 : decode cX0_who 16 = .ok (.invokestatic 85, 3) := dk_184 0 85 (dk_at dksX0_who_0 16 rfl rfl)
theorem dX0_who_19 : decode cX0_who 19 = .ok (.ifCond .eq 10, 3) := dk_153 0 10 (dk_at dksX0_who_0 19 rfl rfl)
theorem dX0_who_22 : decode cX0_who 22 = .ok (.iload_n 2, 1) := dk_28 (dk_at dksX0_who_0 22 rfl rfl)
theorem dX0_who_23 : decode cX0_who 23 = .ok (.invokestatic 214, 3) := dk_184 0 214 (dk_at dksX0_who_1 0 rfl rfl)
theorem dX0_who_26 : decode cX0_who 26 = .ok (.ifCond .ne 6, 3) := dk_154 0 6 (dk_at dksX0_who_1 3 rfl rfl)
theorem dX0_who_29 : decode cX0_who 29 = .ok (.ldc 99, 2) := dk_18 99 (dk_at dksX0_who_1 6 rfl rfl)
theorem dX0_who_31 : decode cX0_who 31 = .ok (.ireturn, 1) := dk_172 (dk_at dksX0_who_1 8 rfl rfl)
theorem dX0_who_32 : decode cX0_who 32 = .ok (.iconst 0, 1) := dk_3 (dk_at dksX0_who_1 9 rfl rfl)
theorem dX0_who_33 : decode cX0_who 33 = .ok (.istore_n 3, 1) := dk_62 (dk_at dksX0_who_1 10 rfl rfl)
theorem dX0_who_34 : decode cX0_who 34 = .ok (.ldc 249, 2) := dk_18 249 (dk_at dksX0_who_1 11 rfl rfl)
theorem dX0_who_36 : decode cX0_who 36 = .ok (.istore 4, 2) := dk_54 4 (dk_at dksX0_who_1 13 rfl rfl)
theorem dX0_who_38 : decode cX0_who 38 = .ok (.iconst 0, 1) := dk_3 (dk_at dksX0_who_1 15 rfl rfl)
theorem dX0_who_39 : decode cX0_who 39 = .ok (.istore 5, 2) := dk_54 5 (dk_at dksX0_who_1 16 rfl rfl)
theorem dX0_who_41 : decode cX0_who 41 = .ok (.iload 5, 2) := dk_21 5 (dk_at dksX0_who_1 18 rfl rfl)
theorem dX0_who_43 : decode cX0_who 43 = .ok (.aload_n 0, 1) := dk_42 (dk_at dksX0_who_1 20 rfl rfl)
theorem dX0_who_44 : decode cX0_who 44 = .ok (.getfield 45, 3) := dk_180 0 45 (dk_at dksX0_who_1 21 rfl rfl)
theorem dX0_who_47 : decode cX0_who 47 = .ok (.invokevirtual 194, 3) := dk_182 0 194 (dk_at dksX0_who_2 0 rfl rfl)
theorem dX0_who_50 : decode cX0_who 50 = .ok (.if_icmp .gt 82, 3) := dk_163 0 82 (dk_at dksX0_who_2 3 rfl rfl)
theorem dX0_who_53 : decode cX0_who 53 = .ok (.aload_n 0, 1) := dk_42 (dk_at dksX0_who_2 6 rfl rfl)
theorem dX0_who_54 : decode cX0_who 54 = .ok (.getfield 49, 3) := dk_180 0 49 (dk_at dksX0_who_2 7 rfl rfl)
theorem dX0_who_57 : decode cX0_who 57 = .ok (.aload_n 0, 1) := dk_42 (dk_at dksX0_who_2 10 rfl rfl)
theorem dX0_who_58 : decode cX0_who 58 = .ok (.getfield 45, 3) := dk_180 0 45 (dk_at dksX0_who_2 11 rfl rfl)
theorem dX0_who_61 : decode cX0_who 61 = .ok (.invokevirtual 160, 3) := dk_182 0 160 (dk_at dksX0_who_2 14 rfl rfl)
theorem dX0_who_64 : decode cX0_who 64 = .ok (.invokevirtual 260, 3) := dk_182 1 4 (dk_at dksX0_who_2 17 rfl rfl)
theorem dX0_who_67 : decode cX0_who 67 = .ok (.pop, 1) := dk_87 (dk_at dksX0_who_2 20 rfl rfl)
theorem dX0_who_68 : decode cX0_who 68 = .ok (.iconst 0, 1) := dk_3 (dk_at dksX0_who_2 21 rfl rfl)
theorem dX0_who_69 : decode cX0_who 69 = .ok (.istore 6, 2) := dk_54 6 (dk_at dksX0_who_2 22 rfl rfl)
theorem dX0_who_71 : decode cX0_who 71 = .ok (.iload 6, 2) := dk_21 6 (dk_at dksX0_who_3 0 rfl rfl)
theorem dX0_who_73 : decode cX0_who 73 = .ok (.iload_n 1, 1) := dk_27 (dk_at dksX0_who_3 2 rfl rfl)
theorem dX0_who_74 : decode cX0_who 74 = .ok (.if_icmp .ge 19, 3) := dk_162 0 19 (dk_at dksX0_who_3 3 rfl rfl)
theorem dX0_who_77 : decode cX0_who 77 = .ok (.aload_n 0, 1) := dk_42 (dk_at dksX0_who_3 6 rfl rfl)
theorem dX0_who_78 : decode cX0_who 78 = .ok (.getfield 49, 3) := dk_180 0 49 (dk_at dksX0_who_3 7 rfl rfl)
theorem dX0_who_81 : decode cX0_who 81 = .ok (.iload 5, 2) := dk_21 5 (dk_at dksX0_who_3 10 rfl rfl)
theorem dX0_who_83 : decode cX0_who 83 = .ok (.invokevirtual 196, 3) := dk_182 0 196 (dk_at dksX0_who_3 12 rfl rfl)
theorem dX0_who_86 : decode cX0_who 86 = .ok (.pop, 1) := dk_87 (dk_at dksX0_who_3 15 rfl rfl)
theorem dX0_who_87 : decode cX0_who 87 = .ok (.iinc 6 1, 3) := dk_132 6 1 (dk_at dksX0_who_3 16 rfl rfl)
theorem dX0_who_90 : decode cX0_who 90 = .ok (.goto (-19), 3) := dk_167 255 237 (dk_at dksX0_who_3 19 rfl rfl)
theorem dX0_who_93 : decode cX0_who 93 = .ok (.aload_n 0, 1) := dk_42 (dk_at dksX0_who_3 22 rfl rfl)
theorem dX0_who_94 : decode cX0_who 94 = .ok (.getfield 49, 3) := dk_180 0 49 (dk_at dksX0_who_4 0 rfl rfl)
theorem dX0_who_97 : decode cX0_who 97 = .ok (.aload_n 0, 1) := dk_42 (dk_at dksX0_who_4 3 rfl rfl)
theorem dX0_who_98 : decode cX0_who 98 = .ok (.getfield 45, 3) := dk_180 0 45 (dk_at dksX0_who_4 4 rfl rfl)
theorem dX0_who_101 : decode cX0_who 101 = .ok (.invokevirtual 264, 3) := dk_182 1 8 (dk_at dksX0_who_4 7 rfl rfl)
theorem dX0_who_104 : decode cX0_who 104 = .ok (.ifCond .ne 6, 3) := dk_154 0 6 (dk_at dksX0_who_4 10 rfl rfl)
theorem dX0_who_107 : decode cX0_who 107 = .ok (.goto 19, 3) := dk_167 0 19 (dk_at dksX0_who_4 13 rfl rfl)
theorem dX0_who_110 : decode cX0_who 110 = .ok (.iload_n 3, 1) := dk_29 (dk_at dksX0_who_4 16 rfl rfl)
theorem dX0_who_111 : decode cX0_who 111 = .ok (.ifCond .ne 8, 3) := dk_154 0 8 (dk_at dksX0_who_4 17 rfl rfl)
theorem dX0_who_114 : decode cX0_who 114 = .ok (.iload 5, 2) := dk_21 5 (dk_at dksX0_who_4 20 rfl rfl)
theorem dX0_who_116 : decode cX0_who 116 = .ok (.goto 5, 3) := dk_167 0 5 (dk_at dksX0_who_5 0 rfl rfl)
theorem dX0_who_119 : decode cX0_who 119 = .ok (.iload 4, 2) := dk_21 4 (dk_at dksX0_who_5 3 rfl rfl)
theorem dX0_who_121 : decode cX0_who 121 = .ok (.istore 4, 2) := dk_54 4 (dk_at dksX0_who_5 5 rfl rfl)
theorem dX0_who_123 : decode cX0_who 123 = .ok (.iinc 3 1, 3) := dk_132 3 1 (dk_at dksX0_who_5 7 rfl rfl)
theorem dX0_who_126 : decode cX0_who 126 = .ok (.iinc 5 1, 3) := dk_132 5 1 (dk_at dksX0_who_5 10 rfl rfl)
theorem dX0_who_129 : decode cX0_who 129 = .ok (.goto (-88), 3) := dk_167 255 168 (dk_at dksX0_who_5 13 rfl rfl)
theorem dX0_who_132 : decode cX0_who 132 = .ok (.iload_n 2, 1) := dk_28 (dk_at dksX0_who_5 16 rfl rfl)
theorem dX0_who_133 : decode cX0_who 133 = .ok (.ifCond .ne 7, 3) := dk_154 0 7 (dk_at dksX0_who_5 17 rfl rfl)
theorem dX0_who_136 : decode cX0_who 136 = .ok (.iload_n 3, 1) := dk_29 (dk_at dksX0_who_5 20 rfl rfl)
theorem dX0_who_137 : decode cX0_who 137 = .ok (.goto 5, 3) := dk_167 0 5 (dk_at dksX0_who_5 21 rfl rfl)
theorem dX0_who_140 : decode cX0_who 140 = .ok (.iload 4, 2) := dk_21 4 (dk_at dksX0_who_6 0 rfl rfl)
theorem dX0_who_142 : decode cX0_who 142 = .ok (.ireturn, 1) := dk_172 (dk_at dksX0_who_6 2 rfl rfl)
abbrev cX0_dare : ByteArray := prog_1_method_42_code
def yX0_dare : MethodName := ⟨RX0, "dare", "(II)I"⟩
def dkwX0_dare_2 : List UInt8 := [6, 184, 1, 15, 54, 4, 28, 154, 0, 7, 29, 167, 0, 5, 21, 4, 29, 21, 4, 184, 1, 26, 108, 172]
abbrev dktX0_dare_2 : List UInt8 := dkwX0_dare_2 ++ []
def dkwX0_dare_1 : List UInt8 := [184, 0, 214, 154, 0, 6, 18, 99, 172, 42, 27, 42, 180, 0, 45, 180, 0, 217, 182, 1, 21, 62, 16, 100]
abbrev dktX0_dare_1 : List UInt8 := dkwX0_dare_1 ++ dktX0_dare_2
def dkwX0_dare_0 : List UInt8 := [42, 182, 0, 183, 154, 0, 6, 18, 187, 172, 27, 133, 9, 20, 1, 24, 184, 0, 85, 153, 0, 10, 28]
abbrev dktX0_dare_0 : List UInt8 := dkwX0_dare_0 ++ dktX0_dare_1
theorem dksX0_dare_0 : cX0_dare.data.toList.drop 0 = dktX0_dare_0 := by decide +kernel
theorem dksX0_dare_1 : cX0_dare.data.toList.drop 23 = dktX0_dare_1 := dk_seg dksX0_dare_0 23 rfl rfl
theorem dksX0_dare_2 : cX0_dare.data.toList.drop 47 = dktX0_dare_2 := dk_seg dksX0_dare_1 24 rfl rfl
theorem dX0_dare_0 : decode cX0_dare 0 = .ok (.aload_n 0, 1) := dk_42 (dk_at dksX0_dare_0 0 rfl rfl)
theorem dX0_dare_1 : decode cX0_dare 1 = .ok (.invokevirtual 183, 3) := dk_182 0 183 (dk_at dksX0_dare_0 1 rfl rfl)
theorem dX0_dare_4 : decode cX0_dare 4 = .ok (.ifCond .ne 6, 3) := dk_154 0 6 (dk_at dksX0_dare_0 4 rfl rfl)
theorem dX0_dare_7 : decode cX0_dare 7 = .ok (.ldc 187, 2) := dk_18 187 (dk_at dksX0_dare_0 7 rfl rfl)
theorem dX0_dare_9 : decode cX0_dare 9 = .ok (.ireturn, 1) := dk_172 (dk_at dksX0_dare_0 9 rfl rfl)
theorem dX0_dare_10 : decode cX0_dare 10 = .ok (.iload_n 1, 1) := dk_27 (dk_at dksX0_dare_0 10 rfl rfl)
theorem dX0_dare_11 : decode cX0_dare 11 = .ok (.i2l, 1) := dk_133 (dk_at dksX0_dare_0 11 rfl rfl)
theorem dX0_dare_12 : decode cX0_dare 12 = .ok (.lconst 0, 1) := dk_9 (dk_at dksX0_dare_0 12 rfl rfl)
theorem dX0_dare_13 : decode cX0_dare 13 = .ok (.ldc2_w 280, 3) := dk_20 1 24 (dk_at dksX0_dare_0 13 rfl rfl)
theorem dX0_dare_16 : decode cX0_dare 16 = .ok (.invokestatic 85, 3) := dk_184 0 85 (dk_at dksX0_dare_0 16 rfl rfl)
theorem dX0_dare_19 : decode cX0_dare 19 = .ok (.ifCond .eq 10, 3) := dk_153 0 10 (dk_at dksX0_dare_0 19 rfl rfl)
theorem dX0_dare_22 : decode cX0_dare 22 = .ok (.iload_n 2, 1) := dk_28 (dk_at dksX0_dare_0 22 rfl rfl)
theorem dX0_dare_23 : decode cX0_dare 23 = .ok (.invokestatic 214, 3) := dk_184 0 214 (dk_at dksX0_dare_1 0 rfl rfl)
theorem dX0_dare_26 : decode cX0_dare 26 = .ok (.ifCond .ne 6, 3) := dk_154 0 6 (dk_at dksX0_dare_1 3 rfl rfl)
theorem dX0_dare_29 : decode cX0_dare 29 = .ok (.ldc 99, 2) := dk_18 99 (dk_at dksX0_dare_1 6 rfl rfl)
theorem dX0_dare_31 : decode cX0_dare 31 = .ok (.ireturn, 1) := dk_172 (dk_at dksX0_dare_1 8 rfl rfl)
theorem dX0_dare_32 : decode cX0_dare 32 = .ok (.aload_n 0, 1) := dk_42 (dk_at dksX0_dare_1 9 rfl rfl)
theorem dX0_dare_33 : decode cX0_dare 33 = .ok (.iload_n 1, 1) := dk_27 (dk_at dksX0_dare_1 10 rfl rfl)
theorem dX0_dare_34 : decode cX0_dare 34 = .ok (.aload_n 0, 1) := dk_42 (dk_at dksX0_dare_1 11 rfl rfl)
theorem dX0_dare_35 : decode cX0_dare 35 = .ok (.getfield 45, 3) := dk_180 0 45 (dk_at dksX0_dare_1 12 rfl rfl)
theorem dX0_dare_38 : decode cX0_dare 38 = .ok (.getfield 217, 3) := dk_180 0 217 (dk_at dksX0_dare_1 15 rfl rfl)
theorem dX0_dare_41 : decode cX0_dare 41 = .ok (.invokevirtual 277, 3) := dk_182 1 21 (dk_at dksX0_dare_1 18 rfl rfl)
theorem dX0_dare_44 : decode cX0_dare 44 = .ok (.istore_n 3, 1) := dk_62 (dk_at dksX0_dare_1 21 rfl rfl)
theorem dX0_dare_45 : decode cX0_dare 45 = .ok (.bipush 100, 2) := dk_16 100 (dk_at dksX0_dare_1 22 rfl rfl)
theorem dX0_dare_47 : decode cX0_dare 47 = .ok (.iconst 3, 1) := dk_6 (dk_at dksX0_dare_2 0 rfl rfl)
theorem dX0_dare_48 : decode cX0_dare 48 = .ok (.invokestatic 271, 3) := dk_184 1 15 (dk_at dksX0_dare_2 1 rfl rfl)
theorem dX0_dare_51 : decode cX0_dare 51 = .ok (.istore 4, 2) := dk_54 4 (dk_at dksX0_dare_2 4 rfl rfl)
theorem dX0_dare_53 : decode cX0_dare 53 = .ok (.iload_n 2, 1) := dk_28 (dk_at dksX0_dare_2 6 rfl rfl)
theorem dX0_dare_54 : decode cX0_dare 54 = .ok (.ifCond .ne 7, 3) := dk_154 0 7 (dk_at dksX0_dare_2 7 rfl rfl)
theorem dX0_dare_57 : decode cX0_dare 57 = .ok (.iload_n 3, 1) := dk_29 (dk_at dksX0_dare_2 10 rfl rfl)
theorem dX0_dare_58 : decode cX0_dare 58 = .ok (.goto 5, 3) := dk_167 0 5 (dk_at dksX0_dare_2 11 rfl rfl)
theorem dX0_dare_61 : decode cX0_dare 61 = .ok (.iload 4, 2) := dk_21 4 (dk_at dksX0_dare_2 14 rfl rfl)
theorem dX0_dare_63 : decode cX0_dare 63 = .ok (.iload_n 3, 1) := dk_29 (dk_at dksX0_dare_2 16 rfl rfl)
theorem dX0_dare_64 : decode cX0_dare 64 = .ok (.iload 4, 2) := dk_21 4 (dk_at dksX0_dare_2 17 rfl rfl)
theorem dX0_dare_66 : decode cX0_dare 66 = .ok (.invokestatic 282, 3) := dk_184 1 26 (dk_at dksX0_dare_2 19 rfl rfl)
theorem dX0_dare_69 : decode cX0_dare 69 = .ok (.idiv, 1) := dk_108 (dk_at dksX0_dare_2 22 rfl rfl)
theorem dX0_dare_70 : decode cX0_dare 70 = .ok (.ireturn, 1) := dk_172 (dk_at dksX0_dare_2 23 rfl rfl)
abbrev cX0_dareOf : ByteArray := prog_1_method_40_code
def yX0_dareOf : MethodName := ⟨RX0, "dareOf", "(II)I"⟩
def dkwX0_dareOf_1 : List UInt8 := [28, 27, 104, 29, 104, 42, 180, 0, 45, 180, 1, 18, 16, 100, 6, 184, 1, 15, 29, 100, 104, 100, 172]
abbrev dktX0_dareOf_1 : List UInt8 := dkwX0_dareOf_1 ++ []
def dkwX0_dareOf_0 : List UInt8 := [16, 100, 42, 180, 0, 45, 180, 1, 12, 100, 27, 184, 1, 15, 16, 100, 6, 27, 100, 184, 1, 15, 104, 62]
abbrev dktX0_dareOf_0 : List UInt8 := dkwX0_dareOf_0 ++ dktX0_dareOf_1
theorem dksX0_dareOf_0 : cX0_dareOf.data.toList.drop 0 = dktX0_dareOf_0 := by decide +kernel
theorem dksX0_dareOf_1 : cX0_dareOf.data.toList.drop 24 = dktX0_dareOf_1 := dk_seg dksX0_dareOf_0 24 rfl rfl
theorem dX0_dareOf_0 : decode cX0_dareOf 0 = .ok (.bipush 100, 2) := dk_16 100 (dk_at dksX0_dareOf_0 0 rfl rfl)
theorem dX0_dareOf_2 : decode cX0_dareOf 2 = .ok (.aload_n 0, 1) := dk_42 (dk_at dksX0_dareOf_0 2 rfl rfl)
theorem dX0_dareOf_3 : decode cX0_dareOf 3 = .ok (.getfield 45, 3) := dk_180 0 45 (dk_at dksX0_dareOf_0 3 rfl rfl)
theorem dX0_dareOf_6 : decode cX0_dareOf 6 = .ok (.getfield 268, 3) := dk_180 1 12 (dk_at dksX0_dareOf_0 6 rfl rfl)
theorem dX0_dareOf_9 : decode cX0_dareOf 9 = .ok (.isub, 1) := dk_100 (dk_at dksX0_dareOf_0 9 rfl rfl)
theorem dX0_dareOf_10 : decode cX0_dareOf 10 = .ok (.iload_n 1, 1) := dk_27 (dk_at dksX0_dareOf_0 10 rfl rfl)
theorem dX0_dareOf_11 : decode cX0_dareOf 11 = .ok (.invokestatic 271, 3) := dk_184 1 15 (dk_at dksX0_dareOf_0 11 rfl rfl)
theorem dX0_dareOf_14 : decode cX0_dareOf 14 = .ok (.bipush 100, 2) := dk_16 100 (dk_at dksX0_dareOf_0 14 rfl rfl)
theorem dX0_dareOf_16 : decode cX0_dareOf 16 = .ok (.iconst 3, 1) := dk_6 (dk_at dksX0_dareOf_0 16 rfl rfl)
theorem dX0_dareOf_17 : decode cX0_dareOf 17 = .ok (.iload_n 1, 1) := dk_27 (dk_at dksX0_dareOf_0 17 rfl rfl)
theorem dX0_dareOf_18 : decode cX0_dareOf 18 = .ok (.isub, 1) := dk_100 (dk_at dksX0_dareOf_0 18 rfl rfl)
theorem dX0_dareOf_19 : decode cX0_dareOf 19 = .ok (.invokestatic 271, 3) := dk_184 1 15 (dk_at dksX0_dareOf_0 19 rfl rfl)
theorem dX0_dareOf_22 : decode cX0_dareOf 22 = .ok (.imul, 1) := dk_104 (dk_at dksX0_dareOf_0 22 rfl rfl)
theorem dX0_dareOf_23 : decode cX0_dareOf 23 = .ok (.istore_n 3, 1) := dk_62 (dk_at dksX0_dareOf_0 23 rfl rfl)
theorem dX0_dareOf_24 : decode cX0_dareOf 24 = .ok (.iload_n 2, 1) := dk_28 (dk_at dksX0_dareOf_1 0 rfl rfl)
theorem dX0_dareOf_25 : decode cX0_dareOf 25 = .ok (.iload_n 1, 1) := dk_27 (dk_at dksX0_dareOf_1 1 rfl rfl)
theorem dX0_dareOf_26 : decode cX0_dareOf 26 = .ok (.imul, 1) := dk_104 (dk_at dksX0_dareOf_1 2 rfl rfl)
theorem dX0_dareOf_27 : decode cX0_dareOf 27 = .ok (.iload_n 3, 1) := dk_29 (dk_at dksX0_dareOf_1 3 rfl rfl)
theorem dX0_dareOf_28 : decode cX0_dareOf 28 = .ok (.imul, 1) := dk_104 (dk_at dksX0_dareOf_1 4 rfl rfl)
theorem dX0_dareOf_29 : decode cX0_dareOf 29 = .ok (.aload_n 0, 1) := dk_42 (dk_at dksX0_dareOf_1 5 rfl rfl)
theorem dX0_dareOf_30 : decode cX0_dareOf 30 = .ok (.getfield 45, 3) := dk_180 0 45 (dk_at dksX0_dareOf_1 6 rfl rfl)
theorem dX0_dareOf_33 : decode cX0_dareOf 33 = .ok (.getfield 274, 3) := dk_180 1 18 (dk_at dksX0_dareOf_1 9 rfl rfl)
theorem dX0_dareOf_36 : decode cX0_dareOf 36 = .ok (.bipush 100, 2) := dk_16 100 (dk_at dksX0_dareOf_1 12 rfl rfl)
theorem dX0_dareOf_38 : decode cX0_dareOf 38 = .ok (.iconst 3, 1) := dk_6 (dk_at dksX0_dareOf_1 14 rfl rfl)
theorem dX0_dareOf_39 : decode cX0_dareOf 39 = .ok (.invokestatic 271, 3) := dk_184 1 15 (dk_at dksX0_dareOf_1 15 rfl rfl)
theorem dX0_dareOf_42 : decode cX0_dareOf 42 = .ok (.iload_n 3, 1) := dk_29 (dk_at dksX0_dareOf_1 18 rfl rfl)
theorem dX0_dareOf_43 : decode cX0_dareOf 43 = .ok (.isub, 1) := dk_100 (dk_at dksX0_dareOf_1 19 rfl rfl)
theorem dX0_dareOf_44 : decode cX0_dareOf 44 = .ok (.imul, 1) := dk_104 (dk_at dksX0_dareOf_1 20 rfl rfl)
theorem dX0_dareOf_45 : decode cX0_dareOf 45 = .ok (.isub, 1) := dk_100 (dk_at dksX0_dareOf_1 21 rfl rfl)
theorem dX0_dareOf_46 : decode cX0_dareOf 46 = .ok (.ireturn, 1) := dk_172 (dk_at dksX0_dareOf_1 22 rfl rfl)
abbrev cX0_power : ByteArray := prog_1_method_39_code
def yX0_power : MethodName := ⟨RX0, "power", "(II)I"⟩
def dkwX0_power_0 : List UInt8 := [4, 61, 3, 62, 29, 27, 162, 0, 13, 28, 26, 104, 61, 132, 3, 1, 167, 255, 244, 28, 172]
abbrev dktX0_power_0 : List UInt8 := dkwX0_power_0 ++ []
theorem dksX0_power_0 : cX0_power.data.toList.drop 0 = dktX0_power_0 := by decide +kernel
theorem dX0_power_0 : decode cX0_power 0 = .ok (.iconst 1, 1) := dk_4 (dk_at dksX0_power_0 0 rfl rfl)
theorem dX0_power_1 : decode cX0_power 1 = .ok (.istore_n 2, 1) := dk_61 (dk_at dksX0_power_0 1 rfl rfl)
theorem dX0_power_2 : decode cX0_power 2 = .ok (.iconst 0, 1) := dk_3 (dk_at dksX0_power_0 2 rfl rfl)
theorem dX0_power_3 : decode cX0_power 3 = .ok (.istore_n 3, 1) := dk_62 (dk_at dksX0_power_0 3 rfl rfl)
theorem dX0_power_4 : decode cX0_power 4 = .ok (.iload_n 3, 1) := dk_29 (dk_at dksX0_power_0 4 rfl rfl)
theorem dX0_power_5 : decode cX0_power 5 = .ok (.iload_n 1, 1) := dk_27 (dk_at dksX0_power_0 5 rfl rfl)
theorem dX0_power_6 : decode cX0_power 6 = .ok (.if_icmp .ge 13, 3) := dk_162 0 13 (dk_at dksX0_power_0 6 rfl rfl)
theorem dX0_power_9 : decode cX0_power 9 = .ok (.iload_n 2, 1) := dk_28 (dk_at dksX0_power_0 9 rfl rfl)
theorem dX0_power_10 : decode cX0_power 10 = .ok (.iload_n 0, 1) := dk_26 (dk_at dksX0_power_0 10 rfl rfl)
theorem dX0_power_11 : decode cX0_power 11 = .ok (.imul, 1) := dk_104 (dk_at dksX0_power_0 11 rfl rfl)
theorem dX0_power_12 : decode cX0_power 12 = .ok (.istore_n 2, 1) := dk_61 (dk_at dksX0_power_0 12 rfl rfl)
theorem dX0_power_13 : decode cX0_power 13 = .ok (.iinc 3 1, 3) := dk_132 3 1 (dk_at dksX0_power_0 13 rfl rfl)
theorem dX0_power_16 : decode cX0_power 16 = .ok (.goto (-12), 3) := dk_167 255 244 (dk_at dksX0_power_0 16 rfl rfl)
theorem dX0_power_19 : decode cX0_power 19 = .ok (.iload_n 2, 1) := dk_28 (dk_at dksX0_power_0 19 rfl rfl)
theorem dX0_power_20 : decode cX0_power 20 = .ok (.ireturn, 1) := dk_172 (dk_at dksX0_power_0 20 rfl rfl)
abbrev cX0_common : ByteArray := prog_1_method_3_code
def yX0_common : MethodName := ⟨RX0, "common", "(II)I"⟩
def dkwX0_common_1 : List UInt8 := [28, 172]
abbrev dktX0_common_1 : List UInt8 := dkwX0_common_1 ++ []
def dkwX0_common_0 : List UInt8 := [26, 184, 0, 1, 61, 27, 62, 29, 153, 0, 16, 28, 29, 112, 54, 4, 29, 61, 21, 4, 62, 167, 255, 242]
abbrev dktX0_common_0 : List UInt8 := dkwX0_common_0 ++ dktX0_common_1
theorem dksX0_common_0 : cX0_common.data.toList.drop 0 = dktX0_common_0 := by decide +kernel
theorem dksX0_common_1 : cX0_common.data.toList.drop 24 = dktX0_common_1 := dk_seg dksX0_common_0 24 rfl rfl
theorem dX0_common_0 : decode cX0_common 0 = .ok (.iload_n 0, 1) := dk_26 (dk_at dksX0_common_0 0 rfl rfl)
theorem dX0_common_1 : decode cX0_common 1 = .ok (.invokestatic 1, 3) := dk_184 0 1 (dk_at dksX0_common_0 1 rfl rfl)
theorem dX0_common_4 : decode cX0_common 4 = .ok (.istore_n 2, 1) := dk_61 (dk_at dksX0_common_0 4 rfl rfl)
theorem dX0_common_5 : decode cX0_common 5 = .ok (.iload_n 1, 1) := dk_27 (dk_at dksX0_common_0 5 rfl rfl)
theorem dX0_common_6 : decode cX0_common 6 = .ok (.istore_n 3, 1) := dk_62 (dk_at dksX0_common_0 6 rfl rfl)
theorem dX0_common_7 : decode cX0_common 7 = .ok (.iload_n 3, 1) := dk_29 (dk_at dksX0_common_0 7 rfl rfl)
theorem dX0_common_8 : decode cX0_common 8 = .ok (.ifCond .eq 16, 3) := dk_153 0 16 (dk_at dksX0_common_0 8 rfl rfl)
theorem dX0_common_11 : decode cX0_common 11 = .ok (.iload_n 2, 1) := dk_28 (dk_at dksX0_common_0 11 rfl rfl)
theorem dX0_common_12 : decode cX0_common 12 = .ok (.iload_n 3, 1) := dk_29 (dk_at dksX0_common_0 12 rfl rfl)
theorem dX0_common_13 : decode cX0_common 13 = .ok (.irem, 1) := dk_112 (dk_at dksX0_common_0 13 rfl rfl)
theorem dX0_common_14 : decode cX0_common 14 = .ok (.istore 4, 2) := dk_54 4 (dk_at dksX0_common_0 14 rfl rfl)
theorem dX0_common_16 : decode cX0_common 16 = .ok (.iload_n 3, 1) := dk_29 (dk_at dksX0_common_0 16 rfl rfl)
theorem dX0_common_17 : decode cX0_common 17 = .ok (.istore_n 2, 1) := dk_61 (dk_at dksX0_common_0 17 rfl rfl)
theorem dX0_common_18 : decode cX0_common 18 = .ok (.iload 4, 2) := dk_21 4 (dk_at dksX0_common_0 18 rfl rfl)
theorem dX0_common_20 : decode cX0_common 20 = .ok (.istore_n 3, 1) := dk_62 (dk_at dksX0_common_0 20 rfl rfl)
theorem dX0_common_21 : decode cX0_common 21 = .ok (.goto (-14), 3) := dk_167 255 242 (dk_at dksX0_common_0 21 rfl rfl)
theorem dX0_common_24 : decode cX0_common 24 = .ok (.iload_n 2, 1) := dk_28 (dk_at dksX0_common_1 0 rfl rfl)
theorem dX0_common_25 : decode cX0_common 25 = .ok (.ireturn, 1) := dk_172 (dk_at dksX0_common_1 1 rfl rfl)
abbrev cX0_best : ByteArray := prog_1_method_43_code
def yX0_best : MethodName := ⟨RX0, "best", "(I)I"⟩
def dkwX0_best_2 : List UInt8 := [29, 182, 1, 29, 154, 0, 7, 29, 167, 0, 4, 28, 61, 132, 3, 1, 167, 255, 233, 28, 172]
abbrev dktX0_best_2 : List UInt8 := dkwX0_best_2 ++ []
def dkwX0_best_1 : List UInt8 := [42, 42, 180, 0, 45, 180, 0, 217, 182, 1, 29, 172, 18, 249, 61, 3, 62, 29, 16, 20, 163, 0, 23, 42]
abbrev dktX0_best_1 : List UInt8 := dkwX0_best_1 ++ dktX0_best_2
def dkwX0_best_0 : List UInt8 := [42, 182, 0, 183, 154, 0, 6, 18, 187, 172, 27, 184, 0, 214, 154, 0, 6, 18, 99, 172, 27, 154, 0, 15]
abbrev dktX0_best_0 : List UInt8 := dkwX0_best_0 ++ dktX0_best_1
theorem dksX0_best_0 : cX0_best.data.toList.drop 0 = dktX0_best_0 := by decide +kernel
theorem dksX0_best_1 : cX0_best.data.toList.drop 24 = dktX0_best_1 := dk_seg dksX0_best_0 24 rfl rfl
theorem dksX0_best_2 : cX0_best.data.toList.drop 48 = dktX0_best_2 := dk_seg dksX0_best_1 24 rfl rfl
theorem dX0_best_0 : decode cX0_best 0 = .ok (.aload_n 0, 1) := dk_42 (dk_at dksX0_best_0 0 rfl rfl)
theorem dX0_best_1 : decode cX0_best 1 = .ok (.invokevirtual 183, 3) := dk_182 0 183 (dk_at dksX0_best_0 1 rfl rfl)
theorem dX0_best_4 : decode cX0_best 4 = .ok (.ifCond .ne 6, 3) := dk_154 0 6 (dk_at dksX0_best_0 4 rfl rfl)
theorem dX0_best_7 : decode cX0_best 7 = .ok (.ldc 187, 2) := dk_18 187 (dk_at dksX0_best_0 7 rfl rfl)
theorem dX0_best_9 : decode cX0_best 9 = .ok (.ireturn, 1) := dk_172 (dk_at dksX0_best_0 9 rfl rfl)
theorem dX0_best_10 : decode cX0_best 10 = .ok (.iload_n 1, 1) := dk_27 (dk_at dksX0_best_0 10 rfl rfl)
theorem dX0_best_11 : decode cX0_best 11 = .ok (.invokestatic 214, 3) := dk_184 0 214 (dk_at dksX0_best_0 11 rfl rfl)
theorem dX0_best_14 : decode cX0_best 14 = .ok (.ifCond .ne 6, 3) := dk_154 0 6 (dk_at dksX0_best_0 14 rfl rfl)
theorem dX0_best_17 : decode cX0_best 17 = .ok (.ldc 99, 2) := dk_18 99 (dk_at dksX0_best_0 17 rfl rfl)
theorem dX0_best_19 : decode cX0_best 19 = .ok (.ireturn, 1) := dk_172 (dk_at dksX0_best_0 19 rfl rfl)
theorem dX0_best_20 : decode cX0_best 20 = .ok (.iload_n 1, 1) := dk_27 (dk_at dksX0_best_0 20 rfl rfl)
theorem dX0_best_21 : decode cX0_best 21 = .ok (.ifCond .ne 15, 3) := dk_154 0 15 (dk_at dksX0_best_0 21 rfl rfl)
theorem dX0_best_24 : decode cX0_best 24 = .ok (.aload_n 0, 1) := dk_42 (dk_at dksX0_best_1 0 rfl rfl)
theorem dX0_best_25 : decode cX0_best 25 = .ok (.aload_n 0, 1) := dk_42 (dk_at dksX0_best_1 1 rfl rfl)
theorem dX0_best_26 : decode cX0_best 26 = .ok (.getfield 45, 3) := dk_180 0 45 (dk_at dksX0_best_1 2 rfl rfl)
theorem dX0_best_29 : decode cX0_best 29 = .ok (.getfield 217, 3) := dk_180 0 217 (dk_at dksX0_best_1 5 rfl rfl)
theorem dX0_best_32 : decode cX0_best 32 = .ok (.invokevirtual 285, 3) := dk_182 1 29 (dk_at dksX0_best_1 8 rfl rfl)
theorem dX0_best_35 : decode cX0_best 35 = .ok (.ireturn, 1) := dk_172 (dk_at dksX0_best_1 11 rfl rfl)
theorem dX0_best_36 : decode cX0_best 36 = .ok (.ldc 249, 2) := dk_18 249 (dk_at dksX0_best_1 12 rfl rfl)
theorem dX0_best_38 : decode cX0_best 38 = .ok (.istore_n 2, 1) := dk_61 (dk_at dksX0_best_1 14 rfl rfl)
theorem dX0_best_39 : decode cX0_best 39 = .ok (.iconst 0, 1) := dk_3 (dk_at dksX0_best_1 15 rfl rfl)
theorem dX0_best_40 : decode cX0_best 40 = .ok (.istore_n 3, 1) := dk_62 (dk_at dksX0_best_1 16 rfl rfl)
theorem dX0_best_41 : decode cX0_best 41 = .ok (.iload_n 3, 1) := dk_29 (dk_at dksX0_best_1 17 rfl rfl)
theorem dX0_best_42 : decode cX0_best 42 = .ok (.bipush 20, 2) := dk_16 20 (dk_at dksX0_best_1 18 rfl rfl)
theorem dX0_best_44 : decode cX0_best 44 = .ok (.if_icmp .gt 23, 3) := dk_163 0 23 (dk_at dksX0_best_1 20 rfl rfl)
theorem dX0_best_47 : decode cX0_best 47 = .ok (.aload_n 0, 1) := dk_42 (dk_at dksX0_best_1 23 rfl rfl)
theorem dX0_best_48 : decode cX0_best 48 = .ok (.iload_n 3, 1) := dk_29 (dk_at dksX0_best_2 0 rfl rfl)
theorem dX0_best_49 : decode cX0_best 49 = .ok (.invokevirtual 285, 3) := dk_182 1 29 (dk_at dksX0_best_2 1 rfl rfl)
theorem dX0_best_52 : decode cX0_best 52 = .ok (.ifCond .ne 7, 3) := dk_154 0 7 (dk_at dksX0_best_2 4 rfl rfl)
theorem dX0_best_55 : decode cX0_best 55 = .ok (.iload_n 3, 1) := dk_29 (dk_at dksX0_best_2 7 rfl rfl)
theorem dX0_best_56 : decode cX0_best 56 = .ok (.goto 4, 3) := dk_167 0 4 (dk_at dksX0_best_2 8 rfl rfl)
theorem dX0_best_59 : decode cX0_best 59 = .ok (.iload_n 2, 1) := dk_28 (dk_at dksX0_best_2 11 rfl rfl)
theorem dX0_best_60 : decode cX0_best 60 = .ok (.istore_n 2, 1) := dk_61 (dk_at dksX0_best_2 12 rfl rfl)
theorem dX0_best_61 : decode cX0_best 61 = .ok (.iinc 3 1, 3) := dk_132 3 1 (dk_at dksX0_best_2 13 rfl rfl)
theorem dX0_best_64 : decode cX0_best 64 = .ok (.goto (-23), 3) := dk_167 255 233 (dk_at dksX0_best_2 16 rfl rfl)
theorem dX0_best_67 : decode cX0_best 67 = .ok (.iload_n 2, 1) := dk_28 (dk_at dksX0_best_2 19 rfl rfl)
theorem dX0_best_68 : decode cX0_best 68 = .ok (.ireturn, 1) := dk_172 (dk_at dksX0_best_2 20 rfl rfl)
abbrev cX0_bestBy : ByteArray := prog_1_method_41_code
def yX0_bestBy : MethodName := ⟨RX0, "bestBy", "(I)I"⟩
def dkwX0_bestBy_1 : List UInt8 := [29, 167, 0, 4, 28, 61, 132, 3, 1, 167, 255, 227, 28, 172]
abbrev dktX0_bestBy_1 : List UInt8 := dkwX0_bestBy_1 ++ []
def dkwX0_bestBy_0 : List UInt8 := [3, 61, 4, 62, 29, 6, 163, 0, 30, 42, 29, 27, 182, 1, 21, 42, 28, 27, 182, 1, 21, 164, 0, 7]
abbrev dktX0_bestBy_0 : List UInt8 := dkwX0_bestBy_0 ++ dktX0_bestBy_1
theorem dksX0_bestBy_0 : cX0_bestBy.data.toList.drop 0 = dktX0_bestBy_0 := by decide +kernel
theorem dksX0_bestBy_1 : cX0_bestBy.data.toList.drop 24 = dktX0_bestBy_1 := dk_seg dksX0_bestBy_0 24 rfl rfl
theorem dX0_bestBy_0 : decode cX0_bestBy 0 = .ok (.iconst 0, 1) := dk_3 (dk_at dksX0_bestBy_0 0 rfl rfl)
theorem dX0_bestBy_1 : decode cX0_bestBy 1 = .ok (.istore_n 2, 1) := dk_61 (dk_at dksX0_bestBy_0 1 rfl rfl)
theorem dX0_bestBy_2 : decode cX0_bestBy 2 = .ok (.iconst 1, 1) := dk_4 (dk_at dksX0_bestBy_0 2 rfl rfl)
theorem dX0_bestBy_3 : decode cX0_bestBy 3 = .ok (.istore_n 3, 1) := dk_62 (dk_at dksX0_bestBy_0 3 rfl rfl)
theorem dX0_bestBy_4 : decode cX0_bestBy 4 = .ok (.iload_n 3, 1) := dk_29 (dk_at dksX0_bestBy_0 4 rfl rfl)
theorem dX0_bestBy_5 : decode cX0_bestBy 5 = .ok (.iconst 3, 1) := dk_6 (dk_at dksX0_bestBy_0 5 rfl rfl)
theorem dX0_bestBy_6 : decode cX0_bestBy 6 = .ok (.if_icmp .gt 30, 3) := dk_163 0 30 (dk_at dksX0_bestBy_0 6 rfl rfl)
theorem dX0_bestBy_9 : decode cX0_bestBy 9 = .ok (.aload_n 0, 1) := dk_42 (dk_at dksX0_bestBy_0 9 rfl rfl)
theorem dX0_bestBy_10 : decode cX0_bestBy 10 = .ok (.iload_n 3, 1) := dk_29 (dk_at dksX0_bestBy_0 10 rfl rfl)
theorem dX0_bestBy_11 : decode cX0_bestBy 11 = .ok (.iload_n 1, 1) := dk_27 (dk_at dksX0_bestBy_0 11 rfl rfl)
theorem dX0_bestBy_12 : decode cX0_bestBy 12 = .ok (.invokevirtual 277, 3) := dk_182 1 21 (dk_at dksX0_bestBy_0 12 rfl rfl)
theorem dX0_bestBy_15 : decode cX0_bestBy 15 = .ok (.aload_n 0, 1) := dk_42 (dk_at dksX0_bestBy_0 15 rfl rfl)
theorem dX0_bestBy_16 : decode cX0_bestBy 16 = .ok (.iload_n 2, 1) := dk_28 (dk_at dksX0_bestBy_0 16 rfl rfl)
theorem dX0_bestBy_17 : decode cX0_bestBy 17 = .ok (.iload_n 1, 1) := dk_27 (dk_at dksX0_bestBy_0 17 rfl rfl)
theorem dX0_bestBy_18 : decode cX0_bestBy 18 = .ok (.invokevirtual 277, 3) := dk_182 1 21 (dk_at dksX0_bestBy_0 18 rfl rfl)
theorem dX0_bestBy_21 : decode cX0_bestBy 21 = .ok (.if_icmp .le 7, 3) := dk_164 0 7 (dk_at dksX0_bestBy_0 21 rfl rfl)
theorem dX0_bestBy_24 : decode cX0_bestBy 24 = .ok (.iload_n 3, 1) := dk_29 (dk_at dksX0_bestBy_1 0 rfl rfl)
theorem dX0_bestBy_25 : decode cX0_bestBy 25 = .ok (.goto 4, 3) := dk_167 0 4 (dk_at dksX0_bestBy_1 1 rfl rfl)
theorem dX0_bestBy_28 : decode cX0_bestBy 28 = .ok (.iload_n 2, 1) := dk_28 (dk_at dksX0_bestBy_1 4 rfl rfl)
theorem dX0_bestBy_29 : decode cX0_bestBy 29 = .ok (.istore_n 2, 1) := dk_61 (dk_at dksX0_bestBy_1 5 rfl rfl)
theorem dX0_bestBy_30 : decode cX0_bestBy 30 = .ok (.iinc 3 1, 3) := dk_132 3 1 (dk_at dksX0_bestBy_1 6 rfl rfl)
theorem dX0_bestBy_33 : decode cX0_bestBy 33 = .ok (.goto (-29), 3) := dk_167 255 227 (dk_at dksX0_bestBy_1 9 rfl rfl)
theorem dX0_bestBy_36 : decode cX0_bestBy 36 = .ok (.iload_n 2, 1) := dk_28 (dk_at dksX0_bestBy_1 12 rfl rfl)
theorem dX0_bestBy_37 : decode cX0_bestBy 37 = .ok (.ireturn, 1) := dk_172 (dk_at dksX0_bestBy_1 13 rfl rfl)
abbrev cX0_image : ByteArray := prog_1_method_44_code
def yX0_image : MethodName := ⟨RX0, "image", "(I)I"⟩
def dkwX0_image_2 : List UInt8 := [180, 0, 56, 27, 50, 42, 180, 0, 45, 182, 0, 160, 87, 4, 172]
abbrev dktX0_image_2 : List UInt8 := dkwX0_image_2 ++ []
def dkwX0_image_1 : List UInt8 := [180, 0, 56, 27, 50, 199, 0, 16, 42, 180, 0, 56, 27, 187, 0, 42, 89, 183, 0, 44, 83, 42]
abbrev dktX0_image_1 : List UInt8 := dkwX0_image_1 ++ dktX0_image_2
def dkwX0_image_0 : List UInt8 := [27, 133, 9, 10, 184, 0, 85, 154, 0, 6, 18, 99, 172, 42, 182, 0, 183, 154, 0, 6, 18, 187, 172, 42]
abbrev dktX0_image_0 : List UInt8 := dkwX0_image_0 ++ dktX0_image_1
theorem dksX0_image_0 : cX0_image.data.toList.drop 0 = dktX0_image_0 := by decide +kernel
theorem dksX0_image_1 : cX0_image.data.toList.drop 24 = dktX0_image_1 := dk_seg dksX0_image_0 24 rfl rfl
theorem dksX0_image_2 : cX0_image.data.toList.drop 46 = dktX0_image_2 := dk_seg dksX0_image_1 22 rfl rfl
theorem dX0_image_0 : decode cX0_image 0 = .ok (.iload_n 1, 1) := dk_27 (dk_at dksX0_image_0 0 rfl rfl)
theorem dX0_image_1 : decode cX0_image 1 = .ok (.i2l, 1) := dk_133 (dk_at dksX0_image_0 1 rfl rfl)
theorem dX0_image_2 : decode cX0_image 2 = .ok (.lconst 0, 1) := dk_9 (dk_at dksX0_image_0 2 rfl rfl)
theorem dX0_image_3 : decode cX0_image 3 = .ok (.lconst 1, 1) := dk_10 (dk_at dksX0_image_0 3 rfl rfl)
theorem dX0_image_4 : decode cX0_image 4 = .ok (.invokestatic 85, 3) := dk_184 0 85 (dk_at dksX0_image_0 4 rfl rfl)
theorem dX0_image_7 : decode cX0_image 7 = .ok (.ifCond .ne 6, 3) := dk_154 0 6 (dk_at dksX0_image_0 7 rfl rfl)
theorem dX0_image_10 : decode cX0_image 10 = .ok (.ldc 99, 2) := dk_18 99 (dk_at dksX0_image_0 10 rfl rfl)
theorem dX0_image_12 : decode cX0_image 12 = .ok (.ireturn, 1) := dk_172 (dk_at dksX0_image_0 12 rfl rfl)
theorem dX0_image_13 : decode cX0_image 13 = .ok (.aload_n 0, 1) := dk_42 (dk_at dksX0_image_0 13 rfl rfl)
theorem dX0_image_14 : decode cX0_image 14 = .ok (.invokevirtual 183, 3) := dk_182 0 183 (dk_at dksX0_image_0 14 rfl rfl)
theorem dX0_image_17 : decode cX0_image 17 = .ok (.ifCond .ne 6, 3) := dk_154 0 6 (dk_at dksX0_image_0 17 rfl rfl)
theorem dX0_image_20 : decode cX0_image 20 = .ok (.ldc 187, 2) := dk_18 187 (dk_at dksX0_image_0 20 rfl rfl)
theorem dX0_image_22 : decode cX0_image 22 = .ok (.ireturn, 1) := dk_172 (dk_at dksX0_image_0 22 rfl rfl)
theorem dX0_image_23 : decode cX0_image 23 = .ok (.aload_n 0, 1) := dk_42 (dk_at dksX0_image_0 23 rfl rfl)
theorem dX0_image_24 : decode cX0_image 24 = .ok (.getfield 56, 3) := dk_180 0 56 (dk_at dksX0_image_1 0 rfl rfl)
theorem dX0_image_27 : decode cX0_image 27 = .ok (.iload_n 1, 1) := dk_27 (dk_at dksX0_image_1 3 rfl rfl)
theorem dX0_image_28 : decode cX0_image 28 = .ok (.aaload, 1) := dk_50 (dk_at dksX0_image_1 4 rfl rfl)
theorem dX0_image_29 : decode cX0_image 29 = .ok (.ifnonnull 16, 3) := dk_199 0 16 (dk_at dksX0_image_1 5 rfl rfl)
theorem dX0_image_32 : decode cX0_image 32 = .ok (.aload_n 0, 1) := dk_42 (dk_at dksX0_image_1 8 rfl rfl)
theorem dX0_image_33 : decode cX0_image 33 = .ok (.getfield 56, 3) := dk_180 0 56 (dk_at dksX0_image_1 9 rfl rfl)
theorem dX0_image_36 : decode cX0_image 36 = .ok (.iload_n 1, 1) := dk_27 (dk_at dksX0_image_1 12 rfl rfl)
theorem dX0_image_37 : decode cX0_image 37 = .ok (.new 42, 3) := dk_187 0 42 (dk_at dksX0_image_1 13 rfl rfl)
theorem dX0_image_40 : decode cX0_image 40 = .ok (.dup, 1) := dk_89 (dk_at dksX0_image_1 16 rfl rfl)
theorem dX0_image_41 : decode cX0_image 41 = .ok (.invokespecial 44, 3) := dk_183 0 44 (dk_at dksX0_image_1 17 rfl rfl)
theorem dX0_image_44 : decode cX0_image 44 = .ok (.aastore, 1) := dk_83 (dk_at dksX0_image_1 20 rfl rfl)
theorem dX0_image_45 : decode cX0_image 45 = .ok (.aload_n 0, 1) := dk_42 (dk_at dksX0_image_1 21 rfl rfl)
theorem dX0_image_46 : decode cX0_image 46 = .ok (.getfield 56, 3) := dk_180 0 56 (dk_at dksX0_image_2 0 rfl rfl)
theorem dX0_image_49 : decode cX0_image 49 = .ok (.iload_n 1, 1) := dk_27 (dk_at dksX0_image_2 3 rfl rfl)
theorem dX0_image_50 : decode cX0_image 50 = .ok (.aaload, 1) := dk_50 (dk_at dksX0_image_2 4 rfl rfl)
theorem dX0_image_51 : decode cX0_image 51 = .ok (.aload_n 0, 1) := dk_42 (dk_at dksX0_image_2 5 rfl rfl)
theorem dX0_image_52 : decode cX0_image 52 = .ok (.getfield 45, 3) := dk_180 0 45 (dk_at dksX0_image_2 6 rfl rfl)
theorem dX0_image_55 : decode cX0_image 55 = .ok (.invokevirtual 160, 3) := dk_182 0 160 (dk_at dksX0_image_2 9 rfl rfl)
theorem dX0_image_58 : decode cX0_image 58 = .ok (.pop, 1) := dk_87 (dk_at dksX0_image_2 12 rfl rfl)
theorem dX0_image_59 : decode cX0_image 59 = .ok (.iconst 1, 1) := dk_4 (dk_at dksX0_image_2 13 rfl rfl)
theorem dX0_image_60 : decode cX0_image 60 = .ok (.ireturn, 1) := dk_172 (dk_at dksX0_image_2 14 rfl rfl)
abbrev cX0_restore : ByteArray := prog_1_method_45_code
def yX0_restore : MethodName := ⟨RX0, "restore", "(I)I"⟩
def dkwX0_restore_1 : List UInt8 := [172, 42, 180, 0, 45, 42, 180, 0, 56, 27, 50, 182, 0, 160, 87, 42, 3, 181, 0, 164, 4, 172]
abbrev dktX0_restore_1 : List UInt8 := dkwX0_restore_1 ++ []
def dkwX0_restore_0 : List UInt8 := [27, 133, 9, 10, 184, 0, 85, 154, 0, 6, 18, 99, 172, 42, 180, 0, 56, 27, 50, 199, 0, 6, 18, 187]
abbrev dktX0_restore_0 : List UInt8 := dkwX0_restore_0 ++ dktX0_restore_1
theorem dksX0_restore_0 : cX0_restore.data.toList.drop 0 = dktX0_restore_0 := by decide +kernel
theorem dksX0_restore_1 : cX0_restore.data.toList.drop 24 = dktX0_restore_1 := dk_seg dksX0_restore_0 24 rfl rfl
theorem dX0_restore_0 : decode cX0_restore 0 = .ok (.iload_n 1, 1) := dk_27 (dk_at dksX0_restore_0 0 rfl rfl)
theorem dX0_restore_1 : decode cX0_restore 1 = .ok (.i2l, 1) := dk_133 (dk_at dksX0_restore_0 1 rfl rfl)
theorem dX0_restore_2 : decode cX0_restore 2 = .ok (.lconst 0, 1) := dk_9 (dk_at dksX0_restore_0 2 rfl rfl)
theorem dX0_restore_3 : decode cX0_restore 3 = .ok (.lconst 1, 1) := dk_10 (dk_at dksX0_restore_0 3 rfl rfl)
theorem dX0_restore_4 : decode cX0_restore 4 = .ok (.invokestatic 85, 3) := dk_184 0 85 (dk_at dksX0_restore_0 4 rfl rfl)
theorem dX0_restore_7 : decode cX0_restore 7 = .ok (.ifCond .ne 6, 3) := dk_154 0 6 (dk_at dksX0_restore_0 7 rfl rfl)
theorem dX0_restore_10 : decode cX0_restore 10 = .ok (.ldc 99, 2) := dk_18 99 (dk_at dksX0_restore_0 10 rfl rfl)
theorem dX0_restore_12 : decode cX0_restore 12 = .ok (.ireturn, 1) := dk_172 (dk_at dksX0_restore_0 12 rfl rfl)
theorem dX0_restore_13 : decode cX0_restore 13 = .ok (.aload_n 0, 1) := dk_42 (dk_at dksX0_restore_0 13 rfl rfl)
theorem dX0_restore_14 : decode cX0_restore 14 = .ok (.getfield 56, 3) := dk_180 0 56 (dk_at dksX0_restore_0 14 rfl rfl)
theorem dX0_restore_17 : decode cX0_restore 17 = .ok (.iload_n 1, 1) := dk_27 (dk_at dksX0_restore_0 17 rfl rfl)
theorem dX0_restore_18 : decode cX0_restore 18 = .ok (.aaload, 1) := dk_50 (dk_at dksX0_restore_0 18 rfl rfl)
theorem dX0_restore_19 : decode cX0_restore 19 = .ok (.ifnonnull 6, 3) := dk_199 0 6 (dk_at dksX0_restore_0 19 rfl rfl)
theorem dX0_restore_22 : decode cX0_restore 22 = .ok (.ldc 187, 2) := dk_18 187 (dk_at dksX0_restore_0 22 rfl rfl)
theorem dX0_restore_24 : decode cX0_restore 24 = .ok (.ireturn, 1) := dk_172 (dk_at dksX0_restore_1 0 rfl rfl)
theorem dX0_restore_25 : decode cX0_restore 25 = .ok (.aload_n 0, 1) := dk_42 (dk_at dksX0_restore_1 1 rfl rfl)
theorem dX0_restore_26 : decode cX0_restore 26 = .ok (.getfield 45, 3) := dk_180 0 45 (dk_at dksX0_restore_1 2 rfl rfl)
theorem dX0_restore_29 : decode cX0_restore 29 = .ok (.aload_n 0, 1) := dk_42 (dk_at dksX0_restore_1 5 rfl rfl)
theorem dX0_restore_30 : decode cX0_restore 30 = .ok (.getfield 56, 3) := dk_180 0 56 (dk_at dksX0_restore_1 6 rfl rfl)
theorem dX0_restore_33 : decode cX0_restore 33 = .ok (.iload_n 1, 1) := dk_27 (dk_at dksX0_restore_1 9 rfl rfl)
theorem dX0_restore_34 : decode cX0_restore 34 = .ok (.aaload, 1) := dk_50 (dk_at dksX0_restore_1 10 rfl rfl)
theorem dX0_restore_35 : decode cX0_restore 35 = .ok (.invokevirtual 160, 3) := dk_182 0 160 (dk_at dksX0_restore_1 11 rfl rfl)
theorem dX0_restore_38 : decode cX0_restore 38 = .ok (.pop, 1) := dk_87 (dk_at dksX0_restore_1 14 rfl rfl)
theorem dX0_restore_39 : decode cX0_restore 39 = .ok (.aload_n 0, 1) := dk_42 (dk_at dksX0_restore_1 15 rfl rfl)
theorem dX0_restore_40 : decode cX0_restore 40 = .ok (.iconst 0, 1) := dk_3 (dk_at dksX0_restore_1 16 rfl rfl)
theorem dX0_restore_41 : decode cX0_restore 41 = .ok (.putfield 164, 3) := dk_181 0 164 (dk_at dksX0_restore_1 17 rfl rfl)
theorem dX0_restore_44 : decode cX0_restore 44 = .ok (.iconst 1, 1) := dk_4 (dk_at dksX0_restore_1 20 rfl rfl)
theorem dX0_restore_45 : decode cX0_restore 45 = .ok (.ireturn, 1) := dk_172 (dk_at dksX0_restore_1 21 rfl rfl)
abbrev cX0_kind : ByteArray := prog_1_method_46_code
def yX0_kind : MethodName := ⟨RX0, "kind", "(I)I"⟩
def dkwX0_kind_1 : List UInt8 := [182, 1, 41, 167, 0, 5, 18, 99, 172]
abbrev dktX0_kind_1 : List UInt8 := dkwX0_kind_1 ++ []
def dkwX0_kind_0 : List UInt8 := [42, 27, 182, 1, 32, 153, 0, 25, 42, 180, 0, 45, 180, 0, 173, 27, 185, 1, 35, 2, 0, 192, 1, 39]
abbrev dktX0_kind_0 : List UInt8 := dkwX0_kind_0 ++ dktX0_kind_1
theorem dksX0_kind_0 : cX0_kind.data.toList.drop 0 = dktX0_kind_0 := by decide +kernel
theorem dksX0_kind_1 : cX0_kind.data.toList.drop 24 = dktX0_kind_1 := dk_seg dksX0_kind_0 24 rfl rfl
theorem dX0_kind_0 : decode cX0_kind 0 = .ok (.aload_n 0, 1) := dk_42 (dk_at dksX0_kind_0 0 rfl rfl)
theorem dX0_kind_1 : decode cX0_kind 1 = .ok (.iload_n 1, 1) := dk_27 (dk_at dksX0_kind_0 1 rfl rfl)
theorem dX0_kind_2 : decode cX0_kind 2 = .ok (.invokevirtual 288, 3) := dk_182 1 32 (dk_at dksX0_kind_0 2 rfl rfl)
theorem dX0_kind_5 : decode cX0_kind 5 = .ok (.ifCond .eq 25, 3) := dk_153 0 25 (dk_at dksX0_kind_0 5 rfl rfl)
theorem dX0_kind_8 : decode cX0_kind 8 = .ok (.aload_n 0, 1) := dk_42 (dk_at dksX0_kind_0 8 rfl rfl)
theorem dX0_kind_9 : decode cX0_kind 9 = .ok (.getfield 45, 3) := dk_180 0 45 (dk_at dksX0_kind_0 9 rfl rfl)
theorem dX0_kind_12 : decode cX0_kind 12 = .ok (.getfield 173, 3) := dk_180 0 173 (dk_at dksX0_kind_0 12 rfl rfl)
theorem dX0_kind_15 : decode cX0_kind 15 = .ok (.iload_n 1, 1) := dk_27 (dk_at dksX0_kind_0 15 rfl rfl)
theorem dX0_kind_16 : decode cX0_kind 16 = .ok (.invokeinterface 291 2, 5) := by decide +kernel
theorem dX0_kind_21 : decode cX0_kind 21 = .ok (.checkcast 295, 3) := dk_192 1 39 (dk_at dksX0_kind_0 21 rfl rfl)
theorem dX0_kind_24 : decode cX0_kind 24 = .ok (.invokevirtual 297, 3) := dk_182 1 41 (dk_at dksX0_kind_1 0 rfl rfl)
theorem dX0_kind_27 : decode cX0_kind 27 = .ok (.goto 5, 3) := dk_167 0 5 (dk_at dksX0_kind_1 3 rfl rfl)
theorem dX0_kind_30 : decode cX0_kind 30 = .ok (.ldc 99, 2) := dk_18 99 (dk_at dksX0_kind_1 6 rfl rfl)
theorem dX0_kind_32 : decode cX0_kind 32 = .ok (.ireturn, 1) := dk_172 (dk_at dksX0_kind_1 8 rfl rfl)
abbrev cX0_isMover : ByteArray := prog_1_method_20_code
def yX0_isMover : MethodName := ⟨RX0, "isMover", "(I)Z"⟩
def dkwX0_isMover_0 : List UInt8 := [27, 133, 9, 42, 180, 0, 45, 180, 0, 173, 185, 0, 177, 1, 0, 4, 100, 133, 184, 0, 85, 172]
abbrev dktX0_isMover_0 : List UInt8 := dkwX0_isMover_0 ++ []
theorem dksX0_isMover_0 : cX0_isMover.data.toList.drop 0 = dktX0_isMover_0 := by decide +kernel
theorem dX0_isMover_0 : decode cX0_isMover 0 = .ok (.iload_n 1, 1) := dk_27 (dk_at dksX0_isMover_0 0 rfl rfl)
theorem dX0_isMover_1 : decode cX0_isMover 1 = .ok (.i2l, 1) := dk_133 (dk_at dksX0_isMover_0 1 rfl rfl)
theorem dX0_isMover_2 : decode cX0_isMover 2 = .ok (.lconst 0, 1) := dk_9 (dk_at dksX0_isMover_0 2 rfl rfl)
theorem dX0_isMover_3 : decode cX0_isMover 3 = .ok (.aload_n 0, 1) := dk_42 (dk_at dksX0_isMover_0 3 rfl rfl)
theorem dX0_isMover_4 : decode cX0_isMover 4 = .ok (.getfield 45, 3) := dk_180 0 45 (dk_at dksX0_isMover_0 4 rfl rfl)
theorem dX0_isMover_7 : decode cX0_isMover 7 = .ok (.getfield 173, 3) := dk_180 0 173 (dk_at dksX0_isMover_0 7 rfl rfl)
theorem dX0_isMover_10 : decode cX0_isMover 10 = .ok (.invokeinterface 177 1, 5) := by decide +kernel
theorem dX0_isMover_15 : decode cX0_isMover 15 = .ok (.iconst 1, 1) := dk_4 (dk_at dksX0_isMover_0 15 rfl rfl)
theorem dX0_isMover_16 : decode cX0_isMover 16 = .ok (.isub, 1) := dk_100 (dk_at dksX0_isMover_0 16 rfl rfl)
theorem dX0_isMover_17 : decode cX0_isMover 17 = .ok (.i2l, 1) := dk_133 (dk_at dksX0_isMover_0 17 rfl rfl)
theorem dX0_isMover_18 : decode cX0_isMover 18 = .ok (.invokestatic 85, 3) := dk_184 0 85 (dk_at dksX0_isMover_0 18 rfl rfl)
theorem dX0_isMover_21 : decode cX0_isMover 21 = .ok (.ireturn, 1) := dk_172 (dk_at dksX0_isMover_0 21 rfl rfl)
abbrev cX0_as : ByteArray := prog_1_method_47_code
def yX0_as : MethodName := ⟨RX0, "as", "(II)I"⟩
def dkwX0_as_5 : List UInt8 := [183, 0, 80, 191, 78, 42, 45, 182, 0, 106, 172]
abbrev dktX0_as_5 : List UInt8 := dkwX0_as_5 ++ []
def dkwX0_as_4 : List UInt8 := [45, 192, 0, 22, 58, 4, 42, 25, 4, 182, 1, 45, 182, 0, 103, 172, 58, 4, 187, 0, 71, 89, 6]
abbrev dktX0_as_4 : List UInt8 := dkwX0_as_4 ++ dktX0_as_5
def dkwX0_as_3 : List UInt8 := [28, 6, 160, 0, 10, 45, 192, 0, 16, 167, 0, 19, 28, 7, 160, 0, 10, 45, 192, 0, 19, 167, 0, 7]
abbrev dktX0_as_3 : List UInt8 := dkwX0_as_3 ++ dktX0_as_4
def dkwX0_as_2 : List UInt8 := [28, 4, 160, 0, 10, 45, 192, 0, 7, 167, 0, 43, 28, 5, 160, 0, 10, 45, 192, 0, 13, 167, 0, 31]
abbrev dktX0_as_2 : List UInt8 := dkwX0_as_2 ++ dktX0_as_3
def dkwX0_as_1 : List UInt8 := [180, 0, 45, 180, 0, 173, 27, 185, 1, 35, 2, 0, 192, 1, 39, 78, 28, 154, 0, 7, 45, 167, 0, 55]
abbrev dktX0_as_1 : List UInt8 := dkwX0_as_1 ++ dktX0_as_2
def dkwX0_as_0 : List UInt8 := [42, 27, 182, 1, 32, 153, 0, 15, 28, 133, 9, 20, 1, 43, 184, 0, 85, 154, 0, 6, 18, 99, 172, 42]
abbrev dktX0_as_0 : List UInt8 := dkwX0_as_0 ++ dktX0_as_1
theorem dksX0_as_0 : cX0_as.data.toList.drop 0 = dktX0_as_0 := by decide +kernel
theorem dksX0_as_1 : cX0_as.data.toList.drop 24 = dktX0_as_1 := dk_seg dksX0_as_0 24 rfl rfl
theorem dksX0_as_2 : cX0_as.data.toList.drop 48 = dktX0_as_2 := dk_seg dksX0_as_1 24 rfl rfl
theorem dksX0_as_3 : cX0_as.data.toList.drop 72 = dktX0_as_3 := dk_seg dksX0_as_2 24 rfl rfl
theorem dksX0_as_4 : cX0_as.data.toList.drop 96 = dktX0_as_4 := dk_seg dksX0_as_3 24 rfl rfl
theorem dksX0_as_5 : cX0_as.data.toList.drop 119 = dktX0_as_5 := dk_seg dksX0_as_4 23 rfl rfl
theorem dX0_as_0 : decode cX0_as 0 = .ok (.aload_n 0, 1) := dk_42 (dk_at dksX0_as_0 0 rfl rfl)
theorem dX0_as_1 : decode cX0_as 1 = .ok (.iload_n 1, 1) := dk_27 (dk_at dksX0_as_0 1 rfl rfl)
theorem dX0_as_2 : decode cX0_as 2 = .ok (.invokevirtual 288, 3) := dk_182 1 32 (dk_at dksX0_as_0 2 rfl rfl)
theorem dX0_as_5 : decode cX0_as 5 = .ok (.ifCond .eq 15, 3) := dk_153 0 15 (dk_at dksX0_as_0 5 rfl rfl)
theorem dX0_as_8 : decode cX0_as 8 = .ok (.iload_n 2, 1) := dk_28 (dk_at dksX0_as_0 8 rfl rfl)
theorem dX0_as_9 : decode cX0_as 9 = .ok (.i2l, 1) := dk_133 (dk_at dksX0_as_0 9 rfl rfl)
theorem dX0_as_10 : decode cX0_as 10 = .ok (.lconst 0, 1) := dk_9 (dk_at dksX0_as_0 10 rfl rfl)
theorem dX0_as_11 : decode cX0_as 11 = .ok (.ldc2_w 299, 3) := dk_20 1 43 (dk_at dksX0_as_0 11 rfl rfl)
theorem dX0_as_14 : decode cX0_as 14 = .ok (.invokestatic 85, 3) := dk_184 0 85 (dk_at dksX0_as_0 14 rfl rfl)
theorem dX0_as_17 : decode cX0_as 17 = .ok (.ifCond .ne 6, 3) := dk_154 0 6 (dk_at dksX0_as_0 17 rfl rfl)
theorem dX0_as_20 : decode cX0_as 20 = .ok (.ldc 99, 2) := dk_18 99 (dk_at dksX0_as_0 20 rfl rfl)
theorem dX0_as_22 : decode cX0_as 22 = .ok (.ireturn, 1) := dk_172 (dk_at dksX0_as_0 22 rfl rfl)
theorem dX0_as_23 : decode cX0_as 23 = .ok (.aload_n 0, 1) := dk_42 (dk_at dksX0_as_0 23 rfl rfl)
theorem dX0_as_24 : decode cX0_as 24 = .ok (.getfield 45, 3) := dk_180 0 45 (dk_at dksX0_as_1 0 rfl rfl)
theorem dX0_as_27 : decode cX0_as 27 = .ok (.getfield 173, 3) := dk_180 0 173 (dk_at dksX0_as_1 3 rfl rfl)
theorem dX0_as_30 : decode cX0_as 30 = .ok (.iload_n 1, 1) := dk_27 (dk_at dksX0_as_1 6 rfl rfl)
theorem dX0_as_31 : decode cX0_as 31 = .ok (.invokeinterface 291 2, 5) := by decide +kernel
theorem dX0_as_36 : decode cX0_as 36 = .ok (.checkcast 295, 3) := dk_192 1 39 (dk_at dksX0_as_1 12 rfl rfl)
theorem dX0_as_39 : decode cX0_as 39 = .ok (.astore_n 3, 1) := dk_78 (dk_at dksX0_as_1 15 rfl rfl)
theorem dX0_as_40 : decode cX0_as 40 = .ok (.iload_n 2, 1) := dk_28 (dk_at dksX0_as_1 16 rfl rfl)
theorem dX0_as_41 : decode cX0_as 41 = .ok (.ifCond .ne 7, 3) := dk_154 0 7 (dk_at dksX0_as_1 17 rfl rfl)
theorem dX0_as_44 : decode cX0_as 44 = .ok (.aload_n 3, 1) := dk_45 (dk_at dksX0_as_1 20 rfl rfl)
theorem dX0_as_45 : decode cX0_as 45 = .ok (.goto 55, 3) := dk_167 0 55 (dk_at dksX0_as_1 21 rfl rfl)
theorem dX0_as_48 : decode cX0_as 48 = .ok (.iload_n 2, 1) := dk_28 (dk_at dksX0_as_2 0 rfl rfl)
theorem dX0_as_49 : decode cX0_as 49 = .ok (.iconst 1, 1) := dk_4 (dk_at dksX0_as_2 1 rfl rfl)
theorem dX0_as_50 : decode cX0_as 50 = .ok (.if_icmp .ne 10, 3) := dk_160 0 10 (dk_at dksX0_as_2 2 rfl rfl)
theorem dX0_as_53 : decode cX0_as 53 = .ok (.aload_n 3, 1) := dk_45 (dk_at dksX0_as_2 5 rfl rfl)
theorem dX0_as_54 : decode cX0_as 54 = .ok (.checkcast 7, 3) := dk_192 0 7 (dk_at dksX0_as_2 6 rfl rfl)
theorem dX0_as_57 : decode cX0_as 57 = .ok (.goto 43, 3) := dk_167 0 43 (dk_at dksX0_as_2 9 rfl rfl)
theorem dX0_as_60 : decode cX0_as 60 = .ok (.iload_n 2, 1) := dk_28 (dk_at dksX0_as_2 12 rfl rfl)
theorem dX0_as_61 : decode cX0_as 61 = .ok (.iconst 2, 1) := dk_5 (dk_at dksX0_as_2 13 rfl rfl)
theorem dX0_as_62 : decode cX0_as 62 = .ok (.if_icmp .ne 10, 3) := dk_160 0 10 (dk_at dksX0_as_2 14 rfl rfl)
theorem dX0_as_65 : decode cX0_as 65 = .ok (.aload_n 3, 1) := dk_45 (dk_at dksX0_as_2 17 rfl rfl)
theorem dX0_as_66 : decode cX0_as 66 = .ok (.checkcast 13, 3) := dk_192 0 13 (dk_at dksX0_as_2 18 rfl rfl)
theorem dX0_as_69 : decode cX0_as 69 = .ok (.goto 31, 3) := dk_167 0 31 (dk_at dksX0_as_2 21 rfl rfl)
theorem dX0_as_72 : decode cX0_as 72 = .ok (.iload_n 2, 1) := dk_28 (dk_at dksX0_as_3 0 rfl rfl)
theorem dX0_as_73 : decode cX0_as 73 = .ok (.iconst 3, 1) := dk_6 (dk_at dksX0_as_3 1 rfl rfl)
theorem dX0_as_74 : decode cX0_as 74 = .ok (.if_icmp .ne 10, 3) := dk_160 0 10 (dk_at dksX0_as_3 2 rfl rfl)
theorem dX0_as_77 : decode cX0_as 77 = .ok (.aload_n 3, 1) := dk_45 (dk_at dksX0_as_3 5 rfl rfl)
theorem dX0_as_78 : decode cX0_as 78 = .ok (.checkcast 16, 3) := dk_192 0 16 (dk_at dksX0_as_3 6 rfl rfl)
theorem dX0_as_81 : decode cX0_as 81 = .ok (.goto 19, 3) := dk_167 0 19 (dk_at dksX0_as_3 9 rfl rfl)
theorem dX0_as_84 : decode cX0_as 84 = .ok (.iload_n 2, 1) := dk_28 (dk_at dksX0_as_3 12 rfl rfl)
theorem dX0_as_85 : decode cX0_as 85 = .ok (.iconst 4, 1) := dk_7 (dk_at dksX0_as_3 13 rfl rfl)
theorem dX0_as_86 : decode cX0_as 86 = .ok (.if_icmp .ne 10, 3) := dk_160 0 10 (dk_at dksX0_as_3 14 rfl rfl)
theorem dX0_as_89 : decode cX0_as 89 = .ok (.aload_n 3, 1) := dk_45 (dk_at dksX0_as_3 17 rfl rfl)
theorem dX0_as_90 : decode cX0_as 90 = .ok (.checkcast 19, 3) := dk_192 0 19 (dk_at dksX0_as_3 18 rfl rfl)
theorem dX0_as_93 : decode cX0_as 93 = .ok (.goto 7, 3) := dk_167 0 7 (dk_at dksX0_as_3 21 rfl rfl)
theorem dX0_as_96 : decode cX0_as 96 = .ok (.aload_n 3, 1) := dk_45 (dk_at dksX0_as_4 0 rfl rfl)
theorem dX0_as_97 : decode cX0_as 97 = .ok (.checkcast 22, 3) := dk_192 0 22 (dk_at dksX0_as_4 1 rfl rfl)
theorem dX0_as_100 : decode cX0_as 100 = .ok (.astore 4, 2) := dk_58 4 (dk_at dksX0_as_4 4 rfl rfl)
theorem dX0_as_102 : decode cX0_as 102 = .ok (.aload_n 0, 1) := dk_42 (dk_at dksX0_as_4 6 rfl rfl)
theorem dX0_as_103 : decode cX0_as 103 = .ok (.aload 4, 2) := dk_25 4 (dk_at dksX0_as_4 7 rfl rfl)
theorem dX0_as_105 : decode cX0_as 105 = .ok (.invokevirtual 301, 3) := dk_182 1 45 (dk_at dksX0_as_4 9 rfl rfl)
theorem dX0_as_108 : decode cX0_as 108 = .ok (.invokevirtual 103, 3) := dk_182 0 103 (dk_at dksX0_as_4 12 rfl rfl)
theorem dX0_as_111 : decode cX0_as 111 = .ok (.ireturn, 1) := dk_172 (dk_at dksX0_as_4 15 rfl rfl)
theorem dX0_as_112 : decode cX0_as 112 = .ok (.astore 4, 2) := dk_58 4 (dk_at dksX0_as_4 16 rfl rfl)
theorem dX0_as_114 : decode cX0_as 114 = .ok (.new 71, 3) := dk_187 0 71 (dk_at dksX0_as_4 18 rfl rfl)
theorem dX0_as_117 : decode cX0_as 117 = .ok (.dup, 1) := dk_89 (dk_at dksX0_as_4 21 rfl rfl)
theorem dX0_as_118 : decode cX0_as 118 = .ok (.iconst 3, 1) := dk_6 (dk_at dksX0_as_4 22 rfl rfl)
theorem dX0_as_119 : decode cX0_as 119 = .ok (.invokespecial 80, 3) := dk_183 0 80 (dk_at dksX0_as_5 0 rfl rfl)
theorem dX0_as_122 : decode cX0_as 122 = .ok (.athrow, 1) := dk_191 (dk_at dksX0_as_5 3 rfl rfl)
theorem dX0_as_123 : decode cX0_as 123 = .ok (.astore_n 3, 1) := dk_78 (dk_at dksX0_as_5 4 rfl rfl)
theorem dX0_as_124 : decode cX0_as 124 = .ok (.aload_n 0, 1) := dk_42 (dk_at dksX0_as_5 5 rfl rfl)
theorem dX0_as_125 : decode cX0_as 125 = .ok (.aload_n 3, 1) := dk_45 (dk_at dksX0_as_5 6 rfl rfl)
theorem dX0_as_126 : decode cX0_as 126 = .ok (.invokevirtual 106, 3) := dk_182 0 106 (dk_at dksX0_as_5 7 rfl rfl)
theorem dX0_as_129 : decode cX0_as 129 = .ok (.ireturn, 1) := dk_172 (dk_at dksX0_as_5 10 rfl rfl)
abbrev cX0_ask : ByteArray := prog_1_method_48_code
def yX0_ask : MethodName := ⟨RX0, "ask", "(II)I"⟩
def dkwX0_ask_3 : List UInt8 := [180, 0, 45, 182, 1, 52, 172]
abbrev dktX0_ask_3 : List UInt8 := dkwX0_ask_3 ++ []
def dkwX0_ask_2 : List UInt8 := [154, 0, 18, 45, 42, 180, 0, 62, 42, 180, 0, 45, 182, 1, 49, 167, 0, 15, 45, 42, 180, 0, 62, 42]
abbrev dktX0_ask_2 : List UInt8 := dkwX0_ask_2 ++ dktX0_ask_3
def dkwX0_ask_1 : List UInt8 := [183, 0, 61, 181, 0, 62, 42, 180, 0, 45, 180, 0, 173, 27, 185, 1, 35, 2, 0, 192, 1, 39, 78, 28]
abbrev dktX0_ask_1 : List UInt8 := dkwX0_ask_1 ++ dktX0_ask_2
def dkwX0_ask_0 : List UInt8 := [42, 27, 182, 1, 32, 153, 0, 10, 28, 184, 0, 214, 154, 0, 6, 18, 99, 172, 42, 187, 0, 59, 89]
abbrev dktX0_ask_0 : List UInt8 := dkwX0_ask_0 ++ dktX0_ask_1
theorem dksX0_ask_0 : cX0_ask.data.toList.drop 0 = dktX0_ask_0 := by decide +kernel
theorem dksX0_ask_1 : cX0_ask.data.toList.drop 23 = dktX0_ask_1 := dk_seg dksX0_ask_0 23 rfl rfl
theorem dksX0_ask_2 : cX0_ask.data.toList.drop 47 = dktX0_ask_2 := dk_seg dksX0_ask_1 24 rfl rfl
theorem dksX0_ask_3 : cX0_ask.data.toList.drop 71 = dktX0_ask_3 := dk_seg dksX0_ask_2 24 rfl rfl
theorem dX0_ask_0 : decode cX0_ask 0 = .ok (.aload_n 0, 1) := dk_42 (dk_at dksX0_ask_0 0 rfl rfl)
theorem dX0_ask_1 : decode cX0_ask 1 = .ok (.iload_n 1, 1) := dk_27 (dk_at dksX0_ask_0 1 rfl rfl)
theorem dX0_ask_2 : decode cX0_ask 2 = .ok (.invokevirtual 288, 3) := dk_182 1 32 (dk_at dksX0_ask_0 2 rfl rfl)
theorem dX0_ask_5 : decode cX0_ask 5 = .ok (.ifCond .eq 10, 3) := dk_153 0 10 (dk_at dksX0_ask_0 5 rfl rfl)
theorem dX0_ask_8 : decode cX0_ask 8 = .ok (.iload_n 2, 1) := dk_28 (dk_at dksX0_ask_0 8 rfl rfl)
theorem dX0_ask_9 : decode cX0_ask 9 = .ok (.invokestatic 214, 3) := dk_184 0 214 (dk_at dksX0_ask_0 9 rfl rfl)
theorem dX0_ask_12 : decode cX0_ask 12 = .ok (.ifCond .ne 6, 3) := dk_154 0 6 (dk_at dksX0_ask_0 12 rfl rfl)
theorem dX0_ask_15 : decode cX0_ask 15 = .ok (.ldc 99, 2) := dk_18 99 (dk_at dksX0_ask_0 15 rfl rfl)
theorem dX0_ask_17 : decode cX0_ask 17 = .ok (.ireturn, 1) := dk_172 (dk_at dksX0_ask_0 17 rfl rfl)
theorem dX0_ask_18 : decode cX0_ask 18 = .ok (.aload_n 0, 1) := dk_42 (dk_at dksX0_ask_0 18 rfl rfl)
theorem dX0_ask_19 : decode cX0_ask 19 = .ok (.new 59, 3) := dk_187 0 59 (dk_at dksX0_ask_0 19 rfl rfl)
theorem dX0_ask_22 : decode cX0_ask 22 = .ok (.dup, 1) := dk_89 (dk_at dksX0_ask_0 22 rfl rfl)
theorem dX0_ask_23 : decode cX0_ask 23 = .ok (.invokespecial 61, 3) := dk_183 0 61 (dk_at dksX0_ask_1 0 rfl rfl)
theorem dX0_ask_26 : decode cX0_ask 26 = .ok (.putfield 62, 3) := dk_181 0 62 (dk_at dksX0_ask_1 3 rfl rfl)
theorem dX0_ask_29 : decode cX0_ask 29 = .ok (.aload_n 0, 1) := dk_42 (dk_at dksX0_ask_1 6 rfl rfl)
theorem dX0_ask_30 : decode cX0_ask 30 = .ok (.getfield 45, 3) := dk_180 0 45 (dk_at dksX0_ask_1 7 rfl rfl)
theorem dX0_ask_33 : decode cX0_ask 33 = .ok (.getfield 173, 3) := dk_180 0 173 (dk_at dksX0_ask_1 10 rfl rfl)
theorem dX0_ask_36 : decode cX0_ask 36 = .ok (.iload_n 1, 1) := dk_27 (dk_at dksX0_ask_1 13 rfl rfl)
theorem dX0_ask_37 : decode cX0_ask 37 = .ok (.invokeinterface 291 2, 5) := by decide +kernel
theorem dX0_ask_42 : decode cX0_ask 42 = .ok (.checkcast 295, 3) := dk_192 1 39 (dk_at dksX0_ask_1 19 rfl rfl)
theorem dX0_ask_45 : decode cX0_ask 45 = .ok (.astore_n 3, 1) := dk_78 (dk_at dksX0_ask_1 22 rfl rfl)
theorem dX0_ask_46 : decode cX0_ask 46 = .ok (.iload_n 2, 1) := dk_28 (dk_at dksX0_ask_1 23 rfl rfl)
theorem dX0_ask_47 : decode cX0_ask 47 = .ok (.ifCond .ne 18, 3) := dk_154 0 18 (dk_at dksX0_ask_2 0 rfl rfl)
theorem dX0_ask_50 : decode cX0_ask 50 = .ok (.aload_n 3, 1) := dk_45 (dk_at dksX0_ask_2 3 rfl rfl)
theorem dX0_ask_51 : decode cX0_ask 51 = .ok (.aload_n 0, 1) := dk_42 (dk_at dksX0_ask_2 4 rfl rfl)
theorem dX0_ask_52 : decode cX0_ask 52 = .ok (.getfield 62, 3) := dk_180 0 62 (dk_at dksX0_ask_2 5 rfl rfl)
theorem dX0_ask_55 : decode cX0_ask 55 = .ok (.aload_n 0, 1) := dk_42 (dk_at dksX0_ask_2 8 rfl rfl)
theorem dX0_ask_56 : decode cX0_ask 56 = .ok (.getfield 45, 3) := dk_180 0 45 (dk_at dksX0_ask_2 9 rfl rfl)
theorem dX0_ask_59 : decode cX0_ask 59 = .ok (.invokevirtual 305, 3) := dk_182 1 49 (dk_at dksX0_ask_2 12 rfl rfl)
theorem dX0_ask_62 : decode cX0_ask 62 = .ok (.goto 15, 3) := dk_167 0 15 (dk_at dksX0_ask_2 15 rfl rfl)
theorem dX0_ask_65 : decode cX0_ask 65 = .ok (.aload_n 3, 1) := dk_45 (dk_at dksX0_ask_2 18 rfl rfl)
theorem dX0_ask_66 : decode cX0_ask 66 = .ok (.aload_n 0, 1) := dk_42 (dk_at dksX0_ask_2 19 rfl rfl)
theorem dX0_ask_67 : decode cX0_ask 67 = .ok (.getfield 62, 3) := dk_180 0 62 (dk_at dksX0_ask_2 20 rfl rfl)
theorem dX0_ask_70 : decode cX0_ask 70 = .ok (.aload_n 0, 1) := dk_42 (dk_at dksX0_ask_2 23 rfl rfl)
theorem dX0_ask_71 : decode cX0_ask 71 = .ok (.getfield 45, 3) := dk_180 0 45 (dk_at dksX0_ask_3 0 rfl rfl)
theorem dX0_ask_74 : decode cX0_ask 74 = .ok (.invokevirtual 308, 3) := dk_182 1 52 (dk_at dksX0_ask_3 3 rfl rfl)
theorem dX0_ask_77 : decode cX0_ask 77 = .ok (.ireturn, 1) := dk_172 (dk_at dksX0_ask_3 6 rfl rfl)
abbrev cX0_trace : ByteArray := prog_1_method_49_code
def yX0_trace : MethodName := ⟨RX0, "trace", "(I)I"⟩
def dkwX0_trace_1 : List UInt8 := [180, 1, 58, 27, 46, 167, 0, 5, 18, 249, 172]
abbrev dktX0_trace_1 : List UInt8 := dkwX0_trace_1 ++ []
def dkwX0_trace_0 : List UInt8 := [27, 133, 9, 42, 180, 0, 62, 180, 1, 55, 4, 100, 133, 184, 0, 85, 153, 0, 15, 42, 180, 0, 62]
abbrev dktX0_trace_0 : List UInt8 := dkwX0_trace_0 ++ dktX0_trace_1
theorem dksX0_trace_0 : cX0_trace.data.toList.drop 0 = dktX0_trace_0 := by decide +kernel
theorem dksX0_trace_1 : cX0_trace.data.toList.drop 23 = dktX0_trace_1 := dk_seg dksX0_trace_0 23 rfl rfl
theorem dX0_trace_0 : decode cX0_trace 0 = .ok (.iload_n 1, 1) := dk_27 (dk_at dksX0_trace_0 0 rfl rfl)
theorem dX0_trace_1 : decode cX0_trace 1 = .ok (.i2l, 1) := dk_133 (dk_at dksX0_trace_0 1 rfl rfl)
theorem dX0_trace_2 : decode cX0_trace 2 = .ok (.lconst 0, 1) := dk_9 (dk_at dksX0_trace_0 2 rfl rfl)
theorem dX0_trace_3 : decode cX0_trace 3 = .ok (.aload_n 0, 1) := dk_42 (dk_at dksX0_trace_0 3 rfl rfl)
theorem dX0_trace_4 : decode cX0_trace 4 = .ok (.getfield 62, 3) := dk_180 0 62 (dk_at dksX0_trace_0 4 rfl rfl)
theorem dX0_trace_7 : decode cX0_trace 7 = .ok (.getfield 311, 3) := dk_180 1 55 (dk_at dksX0_trace_0 7 rfl rfl)
theorem dX0_trace_10 : decode cX0_trace 10 = .ok (.iconst 1, 1) := dk_4 (dk_at dksX0_trace_0 10 rfl rfl)
theorem dX0_trace_11 : decode cX0_trace 11 = .ok (.isub, 1) := dk_100 (dk_at dksX0_trace_0 11 rfl rfl)
theorem dX0_trace_12 : decode cX0_trace 12 = .ok (.i2l, 1) := dk_133 (dk_at dksX0_trace_0 12 rfl rfl)
theorem dX0_trace_13 : decode cX0_trace 13 = .ok (.invokestatic 85, 3) := dk_184 0 85 (dk_at dksX0_trace_0 13 rfl rfl)
theorem dX0_trace_16 : decode cX0_trace 16 = .ok (.ifCond .eq 15, 3) := dk_153 0 15 (dk_at dksX0_trace_0 16 rfl rfl)
theorem dX0_trace_19 : decode cX0_trace 19 = .ok (.aload_n 0, 1) := dk_42 (dk_at dksX0_trace_0 19 rfl rfl)
theorem dX0_trace_20 : decode cX0_trace 20 = .ok (.getfield 62, 3) := dk_180 0 62 (dk_at dksX0_trace_0 20 rfl rfl)
theorem dX0_trace_23 : decode cX0_trace 23 = .ok (.getfield 314, 3) := dk_180 1 58 (dk_at dksX0_trace_1 0 rfl rfl)
theorem dX0_trace_26 : decode cX0_trace 26 = .ok (.iload_n 1, 1) := dk_27 (dk_at dksX0_trace_1 3 rfl rfl)
theorem dX0_trace_27 : decode cX0_trace 27 = .ok (.iaload, 1) := dk_46 (dk_at dksX0_trace_1 4 rfl rfl)
theorem dX0_trace_28 : decode cX0_trace 28 = .ok (.goto 5, 3) := dk_167 0 5 (dk_at dksX0_trace_1 5 rfl rfl)
theorem dX0_trace_31 : decode cX0_trace 31 = .ok (.ldc 249, 2) := dk_18 249 (dk_at dksX0_trace_1 8 rfl rfl)
theorem dX0_trace_33 : decode cX0_trace 33 = .ok (.ireturn, 1) := dk_172 (dk_at dksX0_trace_1 10 rfl rfl)
abbrev cX0_count : ByteArray := prog_1_method_50_code
def yX0_count : MethodName := ⟨RX0, "count", "(I)I"⟩
def dkwX0_count_5 : List UInt8 := [180, 0, 220, 172, 42, 180, 0, 133, 172, 18, 99, 172]
abbrev dktX0_count_5 : List UInt8 := dkwX0_count_5 ++ []
def dkwX0_count_4 : List UInt8 := [185, 0, 177, 1, 0, 172, 42, 180, 0, 45, 180, 0, 188, 172, 42, 180, 0, 164, 172, 42, 180, 0, 45]
abbrev dktX0_count_4 : List UInt8 := dkwX0_count_4 ++ dktX0_count_5
def dkwX0_count_3 : List UInt8 := [61, 132, 3, 1, 167, 255, 230, 28, 172, 42, 180, 0, 45, 180, 0, 167, 172, 42, 180, 0, 45, 180, 0, 173]
abbrev dktX0_count_3 : List UInt8 := dkwX0_count_3 ++ dktX0_count_4
def dkwX0_count_2 : List UInt8 := [3, 62, 29, 16, 8, 162, 0, 26, 28, 42, 180, 0, 34, 29, 50, 199, 0, 7, 3, 167, 0, 4, 4, 96]
abbrev dktX0_count_2 : List UInt8 := dkwX0_count_2 ++ dktX0_count_3
def dkwX0_count_1 : List UInt8 := [170, 0, 0, 0, 121, 0, 0, 0, 0, 0, 0, 0, 6, 0, 0, 0, 41, 0, 0, 0, 74, 0, 0, 0, 82, 0, 0, 0, 95, 0, 0, 0, 103, 0, 0, 0, 108, 0, 0, 0, 116]
abbrev dktX0_count_1 : List UInt8 := dkwX0_count_1 ++ dktX0_count_2
def dkwX0_count_0 : List UInt8 := [3, 61, 27]
abbrev dktX0_count_0 : List UInt8 := dkwX0_count_0 ++ dktX0_count_1
theorem dksX0_count_0 : cX0_count.data.toList.drop 0 = dktX0_count_0 := by decide +kernel
theorem dksX0_count_1 : cX0_count.data.toList.drop 3 = dktX0_count_1 := dk_seg dksX0_count_0 3 rfl rfl
theorem dksX0_count_2 : cX0_count.data.toList.drop 44 = dktX0_count_2 := dk_seg dksX0_count_1 41 rfl rfl
theorem dksX0_count_3 : cX0_count.data.toList.drop 68 = dktX0_count_3 := dk_seg dksX0_count_2 24 rfl rfl
theorem dksX0_count_4 : cX0_count.data.toList.drop 92 = dktX0_count_4 := dk_seg dksX0_count_3 24 rfl rfl
theorem dksX0_count_5 : cX0_count.data.toList.drop 115 = dktX0_count_5 := dk_seg dksX0_count_4 23 rfl rfl
theorem dX0_count_0 : decode cX0_count 0 = .ok (.iconst 0, 1) := dk_3 (dk_at dksX0_count_0 0 rfl rfl)
theorem dX0_count_1 : decode cX0_count 1 = .ok (.istore_n 2, 1) := dk_61 (dk_at dksX0_count_0 1 rfl rfl)
theorem dX0_count_2 : decode cX0_count 2 = .ok (.iload_n 1, 1) := dk_27 (dk_at dksX0_count_0 2 rfl rfl)
theorem dX0_count_3 : decode cX0_count 3 = .ok (.tableswitch 121 0 6 #[41, 74, 82, 95, 103, 108, 116], 41) := by decide +kernel
theorem dX0_count_44 : decode cX0_count 44 = .ok (.iconst 0, 1) := dk_3 (dk_at dksX0_count_2 0 rfl rfl)
theorem dX0_count_45 : decode cX0_count 45 = .ok (.istore_n 3, 1) := dk_62 (dk_at dksX0_count_2 1 rfl rfl)
theorem dX0_count_46 : decode cX0_count 46 = .ok (.iload_n 3, 1) := dk_29 (dk_at dksX0_count_2 2 rfl rfl)
theorem dX0_count_47 : decode cX0_count 47 = .ok (.bipush 8, 2) := dk_16 8 (dk_at dksX0_count_2 3 rfl rfl)
theorem dX0_count_49 : decode cX0_count 49 = .ok (.if_icmp .ge 26, 3) := dk_162 0 26 (dk_at dksX0_count_2 5 rfl rfl)
theorem dX0_count_52 : decode cX0_count 52 = .ok (.iload_n 2, 1) := dk_28 (dk_at dksX0_count_2 8 rfl rfl)
theorem dX0_count_53 : decode cX0_count 53 = .ok (.aload_n 0, 1) := dk_42 (dk_at dksX0_count_2 9 rfl rfl)
theorem dX0_count_54 : decode cX0_count 54 = .ok (.getfield 34, 3) := dk_180 0 34 (dk_at dksX0_count_2 10 rfl rfl)
theorem dX0_count_57 : decode cX0_count 57 = .ok (.iload_n 3, 1) := dk_29 (dk_at dksX0_count_2 13 rfl rfl)
theorem dX0_count_58 : decode cX0_count 58 = .ok (.aaload, 1) := dk_50 (dk_at dksX0_count_2 14 rfl rfl)
theorem dX0_count_59 : decode cX0_count 59 = .ok (.ifnonnull 7, 3) := dk_199 0 7 (dk_at dksX0_count_2 15 rfl rfl)
theorem dX0_count_62 : decode cX0_count 62 = .ok (.iconst 0, 1) := dk_3 (dk_at dksX0_count_2 18 rfl rfl)
theorem dX0_count_63 : decode cX0_count 63 = .ok (.goto 4, 3) := dk_167 0 4 (dk_at dksX0_count_2 19 rfl rfl)
theorem dX0_count_66 : decode cX0_count 66 = .ok (.iconst 1, 1) := dk_4 (dk_at dksX0_count_2 22 rfl rfl)
theorem dX0_count_67 : decode cX0_count 67 = .ok (.iadd, 1) := dk_96 (dk_at dksX0_count_2 23 rfl rfl)
theorem dX0_count_68 : decode cX0_count 68 = .ok (.istore_n 2, 1) := dk_61 (dk_at dksX0_count_3 0 rfl rfl)
theorem dX0_count_69 : decode cX0_count 69 = .ok (.iinc 3 1, 3) := dk_132 3 1 (dk_at dksX0_count_3 1 rfl rfl)
theorem dX0_count_72 : decode cX0_count 72 = .ok (.goto (-26), 3) := dk_167 255 230 (dk_at dksX0_count_3 4 rfl rfl)
theorem dX0_count_75 : decode cX0_count 75 = .ok (.iload_n 2, 1) := dk_28 (dk_at dksX0_count_3 7 rfl rfl)
theorem dX0_count_76 : decode cX0_count 76 = .ok (.ireturn, 1) := dk_172 (dk_at dksX0_count_3 8 rfl rfl)
theorem dX0_count_77 : decode cX0_count 77 = .ok (.aload_n 0, 1) := dk_42 (dk_at dksX0_count_3 9 rfl rfl)
theorem dX0_count_78 : decode cX0_count 78 = .ok (.getfield 45, 3) := dk_180 0 45 (dk_at dksX0_count_3 10 rfl rfl)
theorem dX0_count_81 : decode cX0_count 81 = .ok (.getfield 167, 3) := dk_180 0 167 (dk_at dksX0_count_3 13 rfl rfl)
theorem dX0_count_84 : decode cX0_count 84 = .ok (.ireturn, 1) := dk_172 (dk_at dksX0_count_3 16 rfl rfl)
theorem dX0_count_85 : decode cX0_count 85 = .ok (.aload_n 0, 1) := dk_42 (dk_at dksX0_count_3 17 rfl rfl)
theorem dX0_count_86 : decode cX0_count 86 = .ok (.getfield 45, 3) := dk_180 0 45 (dk_at dksX0_count_3 18 rfl rfl)
theorem dX0_count_89 : decode cX0_count 89 = .ok (.getfield 173, 3) := dk_180 0 173 (dk_at dksX0_count_3 21 rfl rfl)
theorem dX0_count_92 : decode cX0_count 92 = .ok (.invokeinterface 177 1, 5) := by decide +kernel
theorem dX0_count_97 : decode cX0_count 97 = .ok (.ireturn, 1) := dk_172 (dk_at dksX0_count_4 5 rfl rfl)
theorem dX0_count_98 : decode cX0_count 98 = .ok (.aload_n 0, 1) := dk_42 (dk_at dksX0_count_4 6 rfl rfl)
theorem dX0_count_99 : decode cX0_count 99 = .ok (.getfield 45, 3) := dk_180 0 45 (dk_at dksX0_count_4 7 rfl rfl)
theorem dX0_count_102 : decode cX0_count 102 = .ok (.getfield 188, 3) := dk_180 0 188 (dk_at dksX0_count_4 10 rfl rfl)
theorem dX0_count_105 : decode cX0_count 105 = .ok (.ireturn, 1) := dk_172 (dk_at dksX0_count_4 13 rfl rfl)
theorem dX0_count_106 : decode cX0_count 106 = .ok (.aload_n 0, 1) := dk_42 (dk_at dksX0_count_4 14 rfl rfl)
theorem dX0_count_107 : decode cX0_count 107 = .ok (.getfield 164, 3) := dk_180 0 164 (dk_at dksX0_count_4 15 rfl rfl)
theorem dX0_count_110 : decode cX0_count 110 = .ok (.ireturn, 1) := dk_172 (dk_at dksX0_count_4 18 rfl rfl)
theorem dX0_count_111 : decode cX0_count 111 = .ok (.aload_n 0, 1) := dk_42 (dk_at dksX0_count_4 19 rfl rfl)
theorem dX0_count_112 : decode cX0_count 112 = .ok (.getfield 45, 3) := dk_180 0 45 (dk_at dksX0_count_4 20 rfl rfl)
theorem dX0_count_115 : decode cX0_count 115 = .ok (.getfield 220, 3) := dk_180 0 220 (dk_at dksX0_count_5 0 rfl rfl)
theorem dX0_count_118 : decode cX0_count 118 = .ok (.ireturn, 1) := dk_172 (dk_at dksX0_count_5 3 rfl rfl)
theorem dX0_count_119 : decode cX0_count 119 = .ok (.aload_n 0, 1) := dk_42 (dk_at dksX0_count_5 4 rfl rfl)
theorem dX0_count_120 : decode cX0_count 120 = .ok (.getfield 133, 3) := dk_180 0 133 (dk_at dksX0_count_5 5 rfl rfl)
theorem dX0_count_123 : decode cX0_count 123 = .ok (.ireturn, 1) := dk_172 (dk_at dksX0_count_5 8 rfl rfl)
theorem dX0_count_124 : decode cX0_count 124 = .ok (.ldc 99, 2) := dk_18 99 (dk_at dksX0_count_5 9 rfl rfl)
theorem dX0_count_126 : decode cX0_count 126 = .ok (.ireturn, 1) := dk_172 (dk_at dksX0_count_5 11 rfl rfl)
abbrev cX0_status : ByteArray := prog_1_method_51_code
def yX0_status : MethodName := ⟨RX0, "status", "()I"⟩
theorem dX0_status_0 : decode cX0_status 0 = .ok (.aload_n 0, 1) := by decide +kernel
theorem dX0_status_1 : decode cX0_status 1 = .ok (.getfield 76, 3) := by decide +kernel
theorem dX0_status_4 : decode cX0_status 4 = .ok (.ireturn, 1) := by decide +kernel
theorem q63 : (Jvm.Cond.initialized "NightStones") ∈ lw_all := lw_g (lw_at lw_m1 1 rfl) rfl
theorem q99 : (Jvm.Cond.instantiable "NightStones" (12 : Nat)) ∈ lw_all := lw_g (lw_at lw_m1 37 rfl) rfl
theorem q101 : (Jvm.Cond.instanceMethod ({ cls := "NightStones", name := "<init>", desc := "()V" } : Jvm.MethodName)) ∈ lw_all := lw_g (lw_at lw_m1 39 rfl) rfl
theorem q102 : (Jvm.Cond.code ({ cls := "NightStones", name := "<init>", desc := "()V" } : Jvm.MethodName) prog_1_method_5_code (1 : Nat) (Option.none : Option Jvm.ClassFile.FieldType)) ∈ lw_all := lw_g (lw_at lw_m1 40 rfl) rfl
theorem q103 : (Jvm.Cond.methodLink "NightStones" (25 : Nat) ({ cls := "java/lang/Object", name := "<init>", desc := "()V" } : Jvm.MethodName)) ∈ lw_all := lw_g (lw_at lw_m1 41 rfl) rfl
theorem q106 : (Jvm.Cond.classLink "NightStones" (32 : Nat) "NightStones$Row") ∈ lw_all := lw_g (lw_at lw_m1 44 rfl) rfl
theorem q108 : (Jvm.Cond.classLink "NightStones" (42 : Nat) "NightStones$Road") ∈ lw_all := lw_g (lw_at lw_m1 46 rfl) rfl
theorem q110 : (Jvm.Cond.methodLinkNest "NightStones" (44 : Nat) ({ cls := "NightStones$Road", name := "<init>", desc := "()V" } : Jvm.MethodName) "NightStones") ∈ lw_tbl := lw_at lw_m1 48 rfl
theorem q144 : (Jvm.Cond.fieldLink "NightStones" (170 : Nat) "NightStones$Road" "length" "I") ∈ lw_all := lw_g (lw_at lw_m1 82 rfl) rfl
theorem q147 : (Jvm.Cond.fieldLink "NightStones" (217 : Nat) "NightStones$Road" "fee" "I") ∈ lw_all := lw_g (lw_at lw_m1 85 rfl) rfl
theorem q150 : (Jvm.Cond.fieldLink "NightStones" (268 : Nat) "NightStones$Road" "seen" "I") ∈ lw_all := lw_g (lw_at lw_m1 88 rfl) rfl
theorem q153 : (Jvm.Cond.fieldLink "NightStones" (274 : Nat) "NightStones$Road" "fine" "I") ∈ lw_all := lw_g (lw_at lw_m1 91 rfl) rfl
theorem q156 : (Jvm.Cond.fieldLink "NightStones" (167 : Nat) "NightStones$Road" "stones" "I") ∈ lw_all := lw_g (lw_at lw_m1 94 rfl) rfl
theorem q159 : (Jvm.Cond.fieldLink "NightStones" (211 : Nat) "NightStones$Road" "says" "[I") ∈ lw_all := lw_g (lw_at lw_m1 97 rfl) rfl
theorem q162 : (Jvm.Cond.fieldLink "NightStones" (205 : Nat) "NightStones$Road" "at" "[I") ∈ lw_all := lw_g (lw_at lw_m1 100 rfl) rfl
theorem q165 : (Jvm.Cond.fieldLink "NightStones" (208 : Nat) "NightStones$Road" "home" "[I") ∈ lw_all := lw_g (lw_at lw_m1 103 rfl) rfl
theorem q168 : (Jvm.Cond.fieldLink "NightStones" (173 : Nat) "NightStones$Road" "movers" "Ljava/util/List;") ∈ lw_all := lw_g (lw_at lw_m1 106 rfl) rfl
theorem q170 : (Jvm.Cond.fieldLink "NightStones" (188 : Nat) "NightStones$Road" "night" "I") ∈ lw_all := lw_g (lw_at lw_m1 108 rfl) rfl
theorem q172 : (Jvm.Cond.fieldLink "NightStones" (243 : Nat) "NightStones$Road" "time" "[I") ∈ lw_all := lw_g (lw_at lw_m1 110 rfl) rfl
theorem q174 : (Jvm.Cond.fieldLink "NightStones" (220 : Nat) "NightStones$Road" "times" "I") ∈ lw_all := lw_g (lw_at lw_m1 112 rfl) rfl
theorem q204 : (Jvm.Cond.classLink "NightStones" (59 : Nat) "NightStones$Trail") ∈ lw_all := lw_g (lw_at lw_m1 142 rfl) rfl
theorem q206 : (Jvm.Cond.methodLinkNest "NightStones" (61 : Nat) ({ cls := "NightStones$Trail", name := "<init>", desc := "()V" } : Jvm.MethodName) "NightStones") ∈ lw_tbl := lw_at lw_m1 144 rfl
theorem q211 : (Jvm.Cond.fieldLinkNest "NightStones" (314 : Nat) "NightStones$Trail" "body" "[I" "NightStones") ∈ lw_tbl := lw_at lw_m1 149 rfl
theorem q213 : (Jvm.Cond.fieldLinkNest "NightStones" (311 : Nat) "NightStones$Trail" "many" "I" "NightStones") ∈ lw_tbl := lw_at lw_m1 151 rfl
theorem q219 : (Jvm.Cond.fieldLink "NightStones" (34 : Nat) "NightStones" "rows" "[LNightStones$Row;") ∈ lw_all := lw_g (lw_at lw_m1 157 rfl) rfl
theorem q220 : (Jvm.Cond.fieldLink "NightStones" (38 : Nat) "NightStones" "tape" "[B") ∈ lw_all := lw_g (lw_at lw_m1 158 rfl) rfl
theorem q221 : (Jvm.Cond.fieldLink "NightStones" (133 : Nat) "NightStones" "taped" "I") ∈ lw_all := lw_g (lw_at lw_m1 159 rfl) rfl
theorem q222 : (Jvm.Cond.fieldLink "NightStones" (150 : Nat) "NightStones" "faultKind" "I") ∈ lw_all := lw_g (lw_at lw_m1 160 rfl) rfl
theorem q223 : (Jvm.Cond.fieldLink "NightStones" (45 : Nat) "NightStones" "road" "LNightStones$Road;") ∈ lw_all := lw_g (lw_at lw_m1 161 rfl) rfl
theorem q224 : (Jvm.Cond.fieldLink "NightStones" (49 : Nat) "NightStones" "trial" "LNightStones$Road;") ∈ lw_all := lw_g (lw_at lw_m1 162 rfl) rfl
theorem q225 : (Jvm.Cond.fieldLink "NightStones" (52 : Nat) "NightStones" "past" "[LNightStones$Road;") ∈ lw_all := lw_g (lw_at lw_m1 163 rfl) rfl
theorem q226 : (Jvm.Cond.fieldLink "NightStones" (164 : Nat) "NightStones" "acts" "I") ∈ lw_all := lw_g (lw_at lw_m1 164 rfl) rfl
theorem q227 : (Jvm.Cond.fieldLink "NightStones" (56 : Nat) "NightStones" "images" "[LNightStones$Road;") ∈ lw_all := lw_g (lw_at lw_m1 165 rfl) rfl
theorem q228 : (Jvm.Cond.fieldLink "NightStones" (62 : Nat) "NightStones" "trail" "LNightStones$Trail;") ∈ lw_all := lw_g (lw_at lw_m1 166 rfl) rfl
theorem q229 : (Jvm.Cond.fieldLink "NightStones" (76 : Nat) "NightStones" "status" "I") ∈ lw_all := lw_g (lw_at lw_m1 167 rfl) rfl
theorem q230 : (Jvm.Cond.fieldLink "NightStones" (66 : Nat) "NightStones" "most" "[I") ∈ lw_all := lw_g (lw_at lw_m1 168 rfl) rfl
theorem q231 : (Jvm.Cond.laysFinal "NightStones" "NightStones" "rows" "[LNightStones$Row;") ∈ lw_all := lw_g (lw_at lw_m1 169 rfl) rfl
theorem q232 : (Jvm.Cond.soleField "NightStones" "rows") ∈ lw_all := lw_g (lw_at lw_m1 170 rfl) rfl
theorem q233 : (Jvm.Cond.laysFinal "NightStones" "NightStones" "tape" "[B") ∈ lw_all := lw_g (lw_at lw_m1 171 rfl) rfl
theorem q234 : (Jvm.Cond.soleField "NightStones" "tape") ∈ lw_all := lw_g (lw_at lw_m1 172 rfl) rfl
theorem q235 : (Jvm.Cond.lays "NightStones" "NightStones" "taped" "I") ∈ lw_all := lw_g (lw_at lw_m1 173 rfl) rfl
theorem q236 : (Jvm.Cond.soleField "NightStones" "taped") ∈ lw_all := lw_g (lw_at lw_m1 174 rfl) rfl
theorem q237 : (Jvm.Cond.lays "NightStones" "NightStones" "faultKind" "I") ∈ lw_all := lw_g (lw_at lw_m1 175 rfl) rfl
theorem q238 : (Jvm.Cond.soleField "NightStones" "faultKind") ∈ lw_all := lw_g (lw_at lw_m1 176 rfl) rfl
theorem q239 : (Jvm.Cond.laysFinal "NightStones" "NightStones" "road" "LNightStones$Road;") ∈ lw_all := lw_g (lw_at lw_m1 177 rfl) rfl
theorem q240 : (Jvm.Cond.soleField "NightStones" "road") ∈ lw_all := lw_g (lw_at lw_m1 178 rfl) rfl
theorem q241 : (Jvm.Cond.laysFinal "NightStones" "NightStones" "trial" "LNightStones$Road;") ∈ lw_all := lw_g (lw_at lw_m1 179 rfl) rfl
theorem q242 : (Jvm.Cond.soleField "NightStones" "trial") ∈ lw_all := lw_g (lw_at lw_m1 180 rfl) rfl
theorem q243 : (Jvm.Cond.laysFinal "NightStones" "NightStones" "past" "[LNightStones$Road;") ∈ lw_all := lw_g (lw_at lw_m1 181 rfl) rfl
theorem q244 : (Jvm.Cond.soleField "NightStones" "past") ∈ lw_all := lw_g (lw_at lw_m1 182 rfl) rfl
theorem q245 : (Jvm.Cond.lays "NightStones" "NightStones" "acts" "I") ∈ lw_all := lw_g (lw_at lw_m1 183 rfl) rfl
theorem q246 : (Jvm.Cond.soleField "NightStones" "acts") ∈ lw_all := lw_g (lw_at lw_m1 184 rfl) rfl
theorem q247 : (Jvm.Cond.laysFinal "NightStones" "NightStones" "images" "[LNightStones$Road;") ∈ lw_all := lw_g (lw_at lw_m1 185 rfl) rfl
theorem q248 : (Jvm.Cond.soleField "NightStones" "images") ∈ lw_all := lw_g (lw_at lw_m1 186 rfl) rfl
theorem q249 : (Jvm.Cond.lays "NightStones" "NightStones" "trail" "LNightStones$Trail;") ∈ lw_all := lw_g (lw_at lw_m1 187 rfl) rfl
theorem q250 : (Jvm.Cond.soleField "NightStones" "trail") ∈ lw_all := lw_g (lw_at lw_m1 188 rfl) rfl
theorem q251 : (Jvm.Cond.lays "NightStones" "NightStones" "status" "I") ∈ lw_all := lw_g (lw_at lw_m1 189 rfl) rfl
theorem q252 : (Jvm.Cond.soleField "NightStones" "status") ∈ lw_all := lw_g (lw_at lw_m1 190 rfl) rfl
theorem q253 : (Jvm.Cond.laysFinal "NightStones" "NightStones" "most" "[I") ∈ lw_all := lw_g (lw_at lw_m1 191 rfl) rfl
theorem q254 : (Jvm.Cond.soleField "NightStones" "most") ∈ lw_all := lw_g (lw_at lw_m1 192 rfl) rfl
theorem q255 : (Jvm.Cond.superclass "NightStones" "java/lang/Object") ∈ lw_all := lw_g (lw_at lw_m1 193 rfl) rfl
theorem q257 : (Jvm.Cond.instanceMethod ({ cls := "NightStones", name := "row", desc := "(III)I" } : Jvm.MethodName)) ∈ lw_all := lw_g (lw_at lw_m1 195 rfl) rfl
theorem q258 : (Jvm.Cond.selects "NightStones" ({ cls := "NightStones", name := "row", desc := "(III)I" } : Jvm.MethodName) ({ cls := "NightStones", name := "row", desc := "(III)I" } : Jvm.MethodName)) ∈ lw_all := lw_g (lw_at lw_m1 196 rfl) rfl
theorem q259 : (Jvm.Cond.codeWith ({ cls := "NightStones", name := "row", desc := "(III)I" } : Jvm.MethodName) prog_1_method_11_code (5 : Nat) (Option.some Jvm.ClassFile.FieldType.int) [((28 : Nat), (61 : Nat), (62 : Nat), (71 : Nat))]) ∈ lw_all := lw_g (lw_at lw_m1 197 rfl) rfl
theorem q260 : (Jvm.Cond.classLink "NightStones" (71 : Nat) "NightStones$Finding") ∈ lw_all := lw_g (lw_at lw_m1 198 rfl) rfl
theorem q261 : (Jvm.Cond.methodLink "NightStones" (93 : Nat) ({ cls := "NightStones", name := "isRow", desc := "(I)Z" } : Jvm.MethodName)) ∈ lw_all := lw_g (lw_at lw_m1 199 rfl) rfl
theorem q262 : (Jvm.Cond.static ({ cls := "NightStones", name := "isRow", desc := "(I)Z" } : Jvm.MethodName)) ∈ lw_all := lw_g (lw_at lw_m1 200 rfl) rfl
theorem q263 : (Jvm.Cond.code ({ cls := "NightStones", name := "isRow", desc := "(I)Z" } : Jvm.MethodName) prog_1_method_9_code (1 : Nat) (Option.some Jvm.ClassFile.FieldType.boolean)) ∈ lw_all := lw_g (lw_at lw_m1 201 rfl) rfl
theorem q264 : (Jvm.Cond.constantLong "NightStones" (83 : Nat) (7 : Int64)) ∈ lw_all := lw_g (lw_at lw_m1 202 rfl) rfl
theorem q265 : (Jvm.Cond.methodLink "NightStones" (85 : Nat) ({ cls := "NightStones", name := "isIn", desc := "(JJJ)Z" } : Jvm.MethodName)) ∈ lw_all := lw_g (lw_at lw_m1 203 rfl) rfl
theorem q266 : (Jvm.Cond.static ({ cls := "NightStones", name := "isIn", desc := "(JJJ)Z" } : Jvm.MethodName)) ∈ lw_all := lw_g (lw_at lw_m1 204 rfl) rfl
theorem q267 : (Jvm.Cond.code ({ cls := "NightStones", name := "isIn", desc := "(JJJ)Z" } : Jvm.MethodName) prog_1_method_1_code (6 : Nat) (Option.some Jvm.ClassFile.FieldType.boolean)) ∈ lw_all := lw_g (lw_at lw_m1 205 rfl) rfl
theorem q268 : (Jvm.Cond.constantLong "NightStones" (97 : Nat) (2 : Int64)) ∈ lw_all := lw_g (lw_at lw_m1 206 rfl) rfl
theorem q269 : (Jvm.Cond.constant "NightStones" (99 : Nat) (-1000001 : Int32)) ∈ lw_all := lw_g (lw_at lw_m1 207 rfl) rfl
theorem q270 : (Jvm.Cond.methodLink "NightStones" (89 : Nat) ({ cls := "NightStones", name := "must", desc := "(ZI)V" } : Jvm.MethodName)) ∈ lw_all := lw_g (lw_at lw_m1 208 rfl) rfl
theorem q271 : (Jvm.Cond.static ({ cls := "NightStones", name := "must", desc := "(ZI)V" } : Jvm.MethodName)) ∈ lw_all := lw_g (lw_at lw_m1 209 rfl) rfl
theorem q272 : (Jvm.Cond.code ({ cls := "NightStones", name := "must", desc := "(ZI)V" } : Jvm.MethodName) prog_1_method_8_code (2 : Nat) (Option.none : Option Jvm.ClassFile.FieldType)) ∈ lw_all := lw_g (lw_at lw_m1 210 rfl) rfl
theorem q312 : (Jvm.Cond.methodLink "NightStones" (80 : Nat) ({ cls := "NightStones$Finding", name := "<init>", desc := "(I)V" } : Jvm.MethodName)) ∈ lw_all := lw_g (lw_at lw_m2 10 rfl) rfl
theorem q322 : (Jvm.Cond.fieldLink "NightStones" (70 : Nat) "NightStones$Finding" "number" "I") ∈ lw_all := lw_g (lw_at lw_m2 20 rfl) rfl
theorem q339 : (Jvm.Cond.methodLink "NightStones" (100 : Nat) ({ cls := "NightStones$Row", name := "<init>", desc := "(II)V" } : Jvm.MethodName)) ∈ lw_all := lw_g (lw_at lw_m2 37 rfl) rfl
theorem q344 : (Jvm.Cond.fieldLink "NightStones" (120 : Nat) "NightStones$Row" "lane" "I") ∈ lw_all := lw_g (lw_at lw_m2 42 rfl) rfl
theorem q346 : (Jvm.Cond.fieldLink "NightStones" (114 : Nat) "NightStones$Row" "items" "[I") ∈ lw_all := lw_g (lw_at lw_m2 44 rfl) rfl
theorem q352 : (Jvm.Cond.methodLink "NightStones" (103 : Nat) ({ cls := "NightStones", name := "well", desc := "(I)I" } : Jvm.MethodName)) ∈ lw_all := lw_g (lw_at lw_m2 50 rfl) rfl
theorem q353 : (Jvm.Cond.privateMethod ({ cls := "NightStones", name := "well", desc := "(I)I" } : Jvm.MethodName)) ∈ lw_tbl := lw_at lw_m2 51 rfl
theorem q354 : (Jvm.Cond.instanceMethod ({ cls := "NightStones", name := "well", desc := "(I)I" } : Jvm.MethodName)) ∈ lw_all := lw_g (lw_at lw_m2 52 rfl) rfl
theorem q355 : (Jvm.Cond.code ({ cls := "NightStones", name := "well", desc := "(I)I" } : Jvm.MethodName) prog_1_method_7_code (2 : Nat) (Option.some Jvm.ClassFile.FieldType.int)) ∈ lw_all := lw_g (lw_at lw_m2 53 rfl) rfl
theorem q356 : (Jvm.Cond.methodLink "NightStones" (106 : Nat) ({ cls := "NightStones", name := "found", desc := "(LNightStones$Finding;)I" } : Jvm.MethodName)) ∈ lw_all := lw_g (lw_at lw_m2 54 rfl) rfl
theorem q357 : (Jvm.Cond.privateMethod ({ cls := "NightStones", name := "found", desc := "(LNightStones$Finding;)I" } : Jvm.MethodName)) ∈ lw_tbl := lw_at lw_m2 55 rfl
theorem q358 : (Jvm.Cond.instanceMethod ({ cls := "NightStones", name := "found", desc := "(LNightStones$Finding;)I" } : Jvm.MethodName)) ∈ lw_all := lw_g (lw_at lw_m2 56 rfl) rfl
theorem q359 : (Jvm.Cond.code ({ cls := "NightStones", name := "found", desc := "(LNightStones$Finding;)I" } : Jvm.MethodName) prog_1_method_6_code (2 : Nat) (Option.some Jvm.ClassFile.FieldType.int)) ∈ lw_all := lw_g (lw_at lw_m2 57 rfl) rfl
theorem q360 : (Jvm.Cond.constant "NightStones" (79 : Nat) (-1000010 : Int32)) ∈ lw_all := lw_g (lw_at lw_m2 58 rfl) rfl
theorem q362 : (Jvm.Cond.instanceMethod ({ cls := "NightStones", name := "set", desc := "(III)I" } : Jvm.MethodName)) ∈ lw_all := lw_g (lw_at lw_m2 60 rfl) rfl
theorem q363 : (Jvm.Cond.selects "NightStones" ({ cls := "NightStones", name := "set", desc := "(III)I" } : Jvm.MethodName) ({ cls := "NightStones", name := "set", desc := "(III)I" } : Jvm.MethodName)) ∈ lw_all := lw_g (lw_at lw_m2 61 rfl) rfl
theorem q364 : (Jvm.Cond.codeWith ({ cls := "NightStones", name := "set", desc := "(III)I" } : Jvm.MethodName) prog_1_method_12_code (5 : Nat) (Option.some Jvm.ClassFile.FieldType.int) [((10 : Nat), (60 : Nat), (61 : Nat), (71 : Nat))]) ∈ lw_all := lw_g (lw_at lw_m2 62 rfl) rfl
theorem q365 : (Jvm.Cond.methodLink "NightStones" (110 : Nat) ({ cls := "NightStones", name := "rowAt", desc := "(I)LNightStones$Row;" } : Jvm.MethodName)) ∈ lw_all := lw_g (lw_at lw_m2 63 rfl) rfl
theorem q366 : (Jvm.Cond.privateMethod ({ cls := "NightStones", name := "rowAt", desc := "(I)LNightStones$Row;" } : Jvm.MethodName)) ∈ lw_tbl := lw_at lw_m2 64 rfl
theorem q367 : (Jvm.Cond.instanceMethod ({ cls := "NightStones", name := "rowAt", desc := "(I)LNightStones$Row;" } : Jvm.MethodName)) ∈ lw_all := lw_g (lw_at lw_m2 65 rfl) rfl
theorem q368 : (Jvm.Cond.code ({ cls := "NightStones", name := "rowAt", desc := "(I)LNightStones$Row;" } : Jvm.MethodName) prog_1_method_10_code (2 : Nat) (Option.some (Jvm.ClassFile.FieldType.object "NightStones$Row"))) ∈ lw_all := lw_g (lw_at lw_m2 66 rfl) rfl
theorem q369 : (Jvm.Cond.methodLink "NightStones" (117 : Nat) ({ cls := "NightStones$Row", name := "cut", desc := "(I)I" } : Jvm.MethodName)) ∈ lw_all := lw_g (lw_at lw_m2 67 rfl) rfl
theorem q374 : (Jvm.Cond.instanceMethod ({ cls := "NightStones", name := "copy", desc := "(IIIII)I" } : Jvm.MethodName)) ∈ lw_all := lw_g (lw_at lw_m2 72 rfl) rfl
theorem q375 : (Jvm.Cond.selects "NightStones" ({ cls := "NightStones", name := "copy", desc := "(IIIII)I" } : Jvm.MethodName) ({ cls := "NightStones", name := "copy", desc := "(IIIII)I" } : Jvm.MethodName)) ∈ lw_all := lw_g (lw_at lw_m2 73 rfl) rfl
theorem q376 : (Jvm.Cond.codeWith ({ cls := "NightStones", name := "copy", desc := "(IIIII)I" } : Jvm.MethodName) prog_1_method_13_code (9 : Nat) (Option.some Jvm.ClassFile.FieldType.int) [((53 : Nat), (71 : Nat), (74 : Nat), (129 : Nat)), ((17 : Nat), (91 : Nat), (92 : Nat), (71 : Nat))]) ∈ lw_all := lw_g (lw_at lw_m2 74 rfl) rfl
theorem q377 : (Jvm.Cond.classLink "NightStones" (129 : Nat) "java/lang/IndexOutOfBoundsException") ∈ lw_all := lw_g (lw_at lw_m2 75 rfl) rfl
theorem q411 : (Jvm.Cond.methodLink "NightStones" (123 : Nat) ({ cls := "java/lang/System", name := "arraycopy", desc := "(Ljava/lang/Object;ILjava/lang/Object;II)V" } : Jvm.MethodName)) ∈ lw_all := lw_g (lw_at lw_m2 109 rfl) rfl
theorem q415 : (Jvm.Cond.instanceMethod ({ cls := "NightStones", name := "drop", desc := "(I)I" } : Jvm.MethodName)) ∈ lw_all := lw_g (lw_at lw_m2 113 rfl) rfl
theorem q416 : (Jvm.Cond.selects "NightStones" ({ cls := "NightStones", name := "drop", desc := "(I)I" } : Jvm.MethodName) ({ cls := "NightStones", name := "drop", desc := "(I)I" } : Jvm.MethodName)) ∈ lw_all := lw_g (lw_at lw_m2 114 rfl) rfl
theorem q417 : (Jvm.Cond.codeWith ({ cls := "NightStones", name := "drop", desc := "(I)I" } : Jvm.MethodName) prog_1_method_14_code (3 : Nat) (Option.some Jvm.ClassFile.FieldType.int) [((10 : Nat), (32 : Nat), (33 : Nat), (71 : Nat))]) ∈ lw_all := lw_g (lw_at lw_m2 115 rfl) rfl
theorem q419 : (Jvm.Cond.instanceMethod ({ cls := "NightStones", name := "feed", desc := "(JI)I" } : Jvm.MethodName)) ∈ lw_all := lw_g (lw_at lw_m2 117 rfl) rfl
theorem q420 : (Jvm.Cond.selects "NightStones" ({ cls := "NightStones", name := "feed", desc := "(JI)I" } : Jvm.MethodName) ({ cls := "NightStones", name := "feed", desc := "(JI)I" } : Jvm.MethodName)) ∈ lw_all := lw_g (lw_at lw_m2 118 rfl) rfl
theorem q421 : (Jvm.Cond.code ({ cls := "NightStones", name := "feed", desc := "(JI)I" } : Jvm.MethodName) prog_1_method_15_code (5 : Nat) (Option.some Jvm.ClassFile.FieldType.int)) ∈ lw_all := lw_g (lw_at lw_m2 119 rfl) rfl
theorem q422 : (Jvm.Cond.constantLong "NightStones" (131 : Nat) (8 : Int64)) ∈ lw_all := lw_g (lw_at lw_m2 120 rfl) rfl
theorem q423 : (Jvm.Cond.constant "NightStones" (136 : Nat) (-1000003 : Int32)) ∈ lw_all := lw_g (lw_at lw_m2 121 rfl) rfl
theorem q425 : (Jvm.Cond.instanceMethod ({ cls := "NightStones", name := "road", desc := "()I" } : Jvm.MethodName)) ∈ lw_all := lw_g (lw_at lw_m2 123 rfl) rfl
theorem q426 : (Jvm.Cond.selects "NightStones" ({ cls := "NightStones", name := "road", desc := "()I" } : Jvm.MethodName) ({ cls := "NightStones", name := "road", desc := "()I" } : Jvm.MethodName)) ∈ lw_all := lw_g (lw_at lw_m2 124 rfl) rfl
theorem q427 : (Jvm.Cond.codeWith ({ cls := "NightStones", name := "road", desc := "()I" } : Jvm.MethodName) prog_1_method_16_code (3 : Nat) (Option.some Jvm.ClassFile.FieldType.int) [((21 : Nat), (25 : Nat), (28 : Nat), (145 : Nat))]) ∈ lw_all := lw_g (lw_at lw_m2 125 rfl) rfl
theorem q428 : (Jvm.Cond.classLink "NightStones" (145 : Nat) "NightStones$Fault") ∈ lw_all := lw_g (lw_at lw_m2 126 rfl) rfl
theorem q429 : (Jvm.Cond.classLink "NightStones" (137 : Nat) "NightStones$Reader") ∈ lw_all := lw_g (lw_at lw_m2 127 rfl) rfl
theorem q431 : (Jvm.Cond.methodLink "NightStones" (139 : Nat) ({ cls := "NightStones$Reader", name := "<init>", desc := "([BI)V" } : Jvm.MethodName)) ∈ lw_all := lw_g (lw_at lw_m2 129 rfl) rfl
theorem q446 : (Jvm.Cond.fieldLink "NightStones" (157 : Nat) "NightStones$Reader" "made" "LNightStones$Road;") ∈ lw_all := lw_g (lw_at lw_m2 144 rfl) rfl
theorem q464 : (Jvm.Cond.methodLink "NightStones" (142 : Nat) ({ cls := "NightStones$Reader", name := "all", desc := "()V" } : Jvm.MethodName)) ∈ lw_all := lw_g (lw_at lw_m2 162 rfl) rfl
theorem q693 : (Jvm.Cond.fieldLink "NightStones" (147 : Nat) "NightStones$Fault" "kind" "I") ∈ lw_all := lw_g (lw_at lw_m3 151 rfl) rfl
theorem q695 : (Jvm.Cond.fieldLink "NightStones" (154 : Nat) "NightStones$Fault" "place" "I") ∈ lw_all := lw_g (lw_at lw_m3 153 rfl) rfl
theorem q731 : (Jvm.Cond.laysStatic "NightStones" "SORT" "[Ljava/lang/String;") ∈ lw_tbl := lw_at lw_m3 189 rfl
theorem q733 : (Jvm.Cond.static ({ cls := "NightStones", name := "moverBy", desc := "(IIIZI)LNightStones$Mover;" } : Jvm.MethodName)) ∈ lw_all := lw_g (lw_at lw_m3 191 rfl) rfl
theorem q734 : (Jvm.Cond.code ({ cls := "NightStones", name := "moverBy", desc := "(IIIZI)LNightStones$Mover;" } : Jvm.MethodName) prog_1_method_4_code (5 : Nat) (Option.some (Jvm.ClassFile.FieldType.object "NightStones$Mover"))) ∈ lw_all := lw_g (lw_at lw_m3 192 rfl) rfl
theorem q735 : (Jvm.Cond.classLink "NightStones" (7 : Nat) "NightStones$Inn") ∈ lw_all := lw_g (lw_at lw_m3 193 rfl) rfl
theorem q737 : (Jvm.Cond.methodLink "NightStones" (9 : Nat) ({ cls := "NightStones$Inn", name := "<init>", desc := "(IIZI)V" } : Jvm.MethodName)) ∈ lw_all := lw_g (lw_at lw_m3 195 rfl) rfl
theorem q764 : (Jvm.Cond.classLink "NightStones" (13 : Nat) "NightStones$Carter") ∈ lw_all := lw_g (lw_at lw_m3 222 rfl) rfl
theorem q766 : (Jvm.Cond.methodLink "NightStones" (15 : Nat) ({ cls := "NightStones$Carter", name := "<init>", desc := "(IIZI)V" } : Jvm.MethodName)) ∈ lw_all := lw_g (lw_at lw_m3 224 rfl) rfl
theorem q775 : (Jvm.Cond.classLink "NightStones" (16 : Nat) "NightStones$Parish") ∈ lw_all := lw_g (lw_at lw_m3 233 rfl) rfl
theorem q777 : (Jvm.Cond.methodLink "NightStones" (18 : Nat) ({ cls := "NightStones$Parish", name := "<init>", desc := "(IIZI)V" } : Jvm.MethodName)) ∈ lw_all := lw_g (lw_at lw_m3 235 rfl) rfl
theorem q786 : (Jvm.Cond.classLink "NightStones" (19 : Nat) "NightStones$Thief") ∈ lw_all := lw_g (lw_at lw_m4 4 rfl) rfl
theorem q788 : (Jvm.Cond.methodLink "NightStones" (21 : Nat) ({ cls := "NightStones$Thief", name := "<init>", desc := "(IIZI)V" } : Jvm.MethodName)) ∈ lw_all := lw_g (lw_at lw_m4 6 rfl) rfl
theorem q797 : (Jvm.Cond.classLink "NightStones" (22 : Nat) "NightStones$Priest") ∈ lw_all := lw_g (lw_at lw_m4 15 rfl) rfl
theorem q799 : (Jvm.Cond.methodLink "NightStones" (24 : Nat) ({ cls := "NightStones$Priest", name := "<init>", desc := "(IIZI)V" } : Jvm.MethodName)) ∈ lw_all := lw_g (lw_at lw_m4 17 rfl) rfl
theorem q836 : (Jvm.Cond.selects "NightStones" ({ cls := "java/lang/Object", name := "getClass", desc := "()Ljava/lang/Class;" } : Jvm.MethodName) ({ cls := "java/lang/Object", name := "getClass", desc := "()Ljava/lang/Class;" } : Jvm.MethodName)) ∈ lw_all := lw_g (lw_at lw_m4 54 rfl) rfl
theorem q868 : (Jvm.Cond.constant "NightStones" (153 : Nat) (-1000100 : Int32)) ∈ lw_all := lw_g (lw_at lw_m4 86 rfl) rfl
theorem q869 : (Jvm.Cond.methodLink "NightStones" (160 : Nat) ({ cls := "NightStones$Road", name := "become", desc := "(LNightStones$Road;)LNightStones$Road;" } : Jvm.MethodName)) ∈ lw_all := lw_g (lw_at lw_m4 87 rfl) rfl
theorem q874 : (Jvm.Cond.instanceMethod ({ cls := "NightStones", name := "fault", desc := "()I" } : Jvm.MethodName)) ∈ lw_all := lw_g (lw_at lw_m4 92 rfl) rfl
theorem q875 : (Jvm.Cond.selects "NightStones" ({ cls := "NightStones", name := "fault", desc := "()I" } : Jvm.MethodName) ({ cls := "NightStones", name := "fault", desc := "()I" } : Jvm.MethodName)) ∈ lw_all := lw_g (lw_at lw_m4 93 rfl) rfl
theorem q876 : (Jvm.Cond.code ({ cls := "NightStones", name := "fault", desc := "()I" } : Jvm.MethodName) prog_1_method_17_code (1 : Nat) (Option.some Jvm.ClassFile.FieldType.int)) ∈ lw_all := lw_g (lw_at lw_m4 94 rfl) rfl
theorem q878 : (Jvm.Cond.instanceMethod ({ cls := "NightStones", name := "night", desc := "()I" } : Jvm.MethodName)) ∈ lw_all := lw_g (lw_at lw_m4 96 rfl) rfl
theorem q879 : (Jvm.Cond.selects "NightStones" ({ cls := "NightStones", name := "night", desc := "()I" } : Jvm.MethodName) ({ cls := "NightStones", name := "night", desc := "()I" } : Jvm.MethodName)) ∈ lw_all := lw_g (lw_at lw_m4 97 rfl) rfl
theorem q880 : (Jvm.Cond.code ({ cls := "NightStones", name := "night", desc := "()I" } : Jvm.MethodName) prog_1_method_23_code (1 : Nat) (Option.some Jvm.ClassFile.FieldType.int)) ∈ lw_all := lw_g (lw_at lw_m4 98 rfl) rfl
theorem q881 : (Jvm.Cond.methodLink "NightStones" (183 : Nat) ({ cls := "NightStones", name := "isRoad", desc := "()Z" } : Jvm.MethodName)) ∈ lw_all := lw_g (lw_at lw_m4 99 rfl) rfl
theorem q882 : (Jvm.Cond.privateMethod ({ cls := "NightStones", name := "isRoad", desc := "()Z" } : Jvm.MethodName)) ∈ lw_tbl := lw_at lw_m4 100 rfl
theorem q883 : (Jvm.Cond.instanceMethod ({ cls := "NightStones", name := "isRoad", desc := "()Z" } : Jvm.MethodName)) ∈ lw_all := lw_g (lw_at lw_m4 101 rfl) rfl
theorem q884 : (Jvm.Cond.code ({ cls := "NightStones", name := "isRoad", desc := "()Z" } : Jvm.MethodName) prog_1_method_18_code (1 : Nat) (Option.some Jvm.ClassFile.FieldType.boolean)) ∈ lw_all := lw_g (lw_at lw_m4 102 rfl) rfl
theorem q885 : (Jvm.Cond.constant "NightStones" (187 : Nat) (-1000002 : Int32)) ∈ lw_all := lw_g (lw_at lw_m4 103 rfl) rfl
theorem q886 : (Jvm.Cond.methodLink "NightStones" (191 : Nat) ({ cls := "NightStones", name := "keep", desc := "()V" } : Jvm.MethodName)) ∈ lw_all := lw_g (lw_at lw_m4 104 rfl) rfl
theorem q887 : (Jvm.Cond.privateMethod ({ cls := "NightStones", name := "keep", desc := "()V" } : Jvm.MethodName)) ∈ lw_tbl := lw_at lw_m4 105 rfl
theorem q888 : (Jvm.Cond.instanceMethod ({ cls := "NightStones", name := "keep", desc := "()V" } : Jvm.MethodName)) ∈ lw_all := lw_g (lw_at lw_m4 106 rfl) rfl
theorem q889 : (Jvm.Cond.code ({ cls := "NightStones", name := "keep", desc := "()V" } : Jvm.MethodName) prog_1_method_22_code (3 : Nat) (Option.none : Option Jvm.ClassFile.FieldType)) ∈ lw_all := lw_g (lw_at lw_m4 107 rfl) rfl
theorem q890 : (Jvm.Cond.methodLink "NightStones" (194 : Nat) ({ cls := "NightStones$Road", name := "all", desc := "()I" } : Jvm.MethodName)) ∈ lw_all := lw_g (lw_at lw_m4 108 rfl) rfl
theorem q896 : (Jvm.Cond.methodLink "NightStones" (196 : Nat) ({ cls := "NightStones$Road", name := "pass", desc := "(I)I" } : Jvm.MethodName)) ∈ lw_all := lw_g (lw_at lw_m4 114 rfl) rfl
theorem q919 : (Jvm.Cond.static ({ cls := "NightStones", name := "has", desc := "(II)Z" } : Jvm.MethodName)) ∈ lw_all := lw_g (lw_at lw_m4 137 rfl) rfl
theorem q920 : (Jvm.Cond.code ({ cls := "NightStones", name := "has", desc := "(II)Z" } : Jvm.MethodName) prog_1_method_2_code (2 : Nat) (Option.some Jvm.ClassFile.FieldType.boolean)) ∈ lw_all := lw_g (lw_at lw_m4 138 rfl) rfl
theorem q971 : (Jvm.Cond.instanceMethod ({ cls := "NightStones", name := "prove", desc := "(I)I" } : Jvm.MethodName)) ∈ lw_all := lw_g (lw_at lw_m4 189 rfl) rfl
theorem q972 : (Jvm.Cond.selects "NightStones" ({ cls := "NightStones", name := "prove", desc := "(I)I" } : Jvm.MethodName) ({ cls := "NightStones", name := "prove", desc := "(I)I" } : Jvm.MethodName)) ∈ lw_all := lw_g (lw_at lw_m4 190 rfl) rfl
theorem q973 : (Jvm.Cond.code ({ cls := "NightStones", name := "prove", desc := "(I)I" } : Jvm.MethodName) prog_1_method_24_code (3 : Nat) (Option.some Jvm.ClassFile.FieldType.int)) ∈ lw_all := lw_g (lw_at lw_m4 191 rfl) rfl
theorem q974 : (Jvm.Cond.methodLink "NightStones" (199 : Nat) ({ cls := "NightStones", name := "isStone", desc := "(I)Z" } : Jvm.MethodName)) ∈ lw_all := lw_g (lw_at lw_m4 192 rfl) rfl
theorem q975 : (Jvm.Cond.privateMethod ({ cls := "NightStones", name := "isStone", desc := "(I)Z" } : Jvm.MethodName)) ∈ lw_tbl := lw_at lw_m4 193 rfl
theorem q976 : (Jvm.Cond.instanceMethod ({ cls := "NightStones", name := "isStone", desc := "(I)Z" } : Jvm.MethodName)) ∈ lw_all := lw_g (lw_at lw_m4 194 rfl) rfl
theorem q977 : (Jvm.Cond.code ({ cls := "NightStones", name := "isStone", desc := "(I)Z" } : Jvm.MethodName) prog_1_method_19_code (2 : Nat) (Option.some Jvm.ClassFile.FieldType.boolean)) ∈ lw_all := lw_g (lw_at lw_m4 195 rfl) rfl
theorem q978 : (Jvm.Cond.methodLink "NightStones" (202 : Nat) ({ cls := "NightStones$Road", name := "canGoHome", desc := "(I)Z" } : Jvm.MethodName)) ∈ lw_all := lw_g (lw_at lw_m4 196 rfl) rfl
theorem q984 : (Jvm.Cond.methodLink "NightStones" (1 : Nat) ({ cls := "java/lang/Math", name := "abs", desc := "(I)I" } : Jvm.MethodName)) ∈ lw_all := lw_g (lw_at lw_m4 202 rfl) rfl
theorem q988 : (Jvm.Cond.instanceMethod ({ cls := "NightStones", name := "undo", desc := "()I" } : Jvm.MethodName)) ∈ lw_all := lw_g (lw_at lw_m4 206 rfl) rfl
theorem q989 : (Jvm.Cond.selects "NightStones" ({ cls := "NightStones", name := "undo", desc := "()I" } : Jvm.MethodName) ({ cls := "NightStones", name := "undo", desc := "()I" } : Jvm.MethodName)) ∈ lw_all := lw_g (lw_at lw_m4 207 rfl) rfl
theorem q990 : (Jvm.Cond.code ({ cls := "NightStones", name := "undo", desc := "()I" } : Jvm.MethodName) prog_1_method_25_code (1 : Nat) (Option.some Jvm.ClassFile.FieldType.int)) ∈ lw_all := lw_g (lw_at lw_m4 208 rfl) rfl
theorem q992 : (Jvm.Cond.instanceMethod ({ cls := "NightStones", name := "stone", desc := "(II)I" } : Jvm.MethodName)) ∈ lw_all := lw_g (lw_at lw_m4 210 rfl) rfl
theorem q993 : (Jvm.Cond.selects "NightStones" ({ cls := "NightStones", name := "stone", desc := "(II)I" } : Jvm.MethodName) ({ cls := "NightStones", name := "stone", desc := "(II)I" } : Jvm.MethodName)) ∈ lw_all := lw_g (lw_at lw_m4 211 rfl) rfl
theorem q994 : (Jvm.Cond.code ({ cls := "NightStones", name := "stone", desc := "(II)I" } : Jvm.MethodName) prog_1_method_26_code (3 : Nat) (Option.some Jvm.ClassFile.FieldType.int)) ∈ lw_all := lw_g (lw_at lw_m4 212 rfl) rfl
theorem q996 : (Jvm.Cond.instanceMethod ({ cls := "NightStones", name := "carry", desc := "(III)I" } : Jvm.MethodName)) ∈ lw_all := lw_g (lw_at lw_m4 214 rfl) rfl
theorem q997 : (Jvm.Cond.selects "NightStones" ({ cls := "NightStones", name := "carry", desc := "(III)I" } : Jvm.MethodName) ({ cls := "NightStones", name := "carry", desc := "(III)I" } : Jvm.MethodName)) ∈ lw_all := lw_g (lw_at lw_m4 215 rfl) rfl
theorem q998 : (Jvm.Cond.code ({ cls := "NightStones", name := "carry", desc := "(III)I" } : Jvm.MethodName) prog_1_method_27_code (4 : Nat) (Option.some Jvm.ClassFile.FieldType.int)) ∈ lw_all := lw_g (lw_at lw_m4 216 rfl) rfl
theorem q999 : (Jvm.Cond.methodLink "NightStones" (214 : Nat) ({ cls := "NightStones", name := "isHalf", desc := "(I)Z" } : Jvm.MethodName)) ∈ lw_all := lw_g (lw_at lw_m4 217 rfl) rfl
theorem q1000 : (Jvm.Cond.static ({ cls := "NightStones", name := "isHalf", desc := "(I)Z" } : Jvm.MethodName)) ∈ lw_all := lw_g (lw_at lw_m4 218 rfl) rfl
theorem q1001 : (Jvm.Cond.code ({ cls := "NightStones", name := "isHalf", desc := "(I)Z" } : Jvm.MethodName) prog_1_method_21_code (1 : Nat) (Option.some Jvm.ClassFile.FieldType.boolean)) ∈ lw_all := lw_g (lw_at lw_m4 219 rfl) rfl
theorem q1003 : (Jvm.Cond.instanceMethod ({ cls := "NightStones", name := "time", desc := "(IIII)I" } : Jvm.MethodName)) ∈ lw_all := lw_g (lw_at lw_m4 221 rfl) rfl
theorem q1004 : (Jvm.Cond.selects "NightStones" ({ cls := "NightStones", name := "time", desc := "(IIII)I" } : Jvm.MethodName) ({ cls := "NightStones", name := "time", desc := "(IIII)I" } : Jvm.MethodName)) ∈ lw_all := lw_g (lw_at lw_m4 222 rfl) rfl
theorem q1005 : (Jvm.Cond.code ({ cls := "NightStones", name := "time", desc := "(IIII)I" } : Jvm.MethodName) prog_1_method_28_code (5 : Nat) (Option.some Jvm.ClassFile.FieldType.int)) ∈ lw_all := lw_g (lw_at lw_m4 223 rfl) rfl
theorem q1006 : (Jvm.Cond.methodLink "NightStones" (223 : Nat) ({ cls := "NightStones$Road", name := "addTime", desc := "(IIII)Z" } : Jvm.MethodName)) ∈ lw_all := lw_g (lw_at lw_m4 224 rfl) rfl
theorem q1013 : (Jvm.Cond.instanceMethod ({ cls := "NightStones", name := "times", desc := "(III)I" } : Jvm.MethodName)) ∈ lw_all := lw_g (lw_at lw_m4 231 rfl) rfl
theorem q1014 : (Jvm.Cond.selects "NightStones" ({ cls := "NightStones", name := "times", desc := "(III)I" } : Jvm.MethodName) ({ cls := "NightStones", name := "times", desc := "(III)I" } : Jvm.MethodName)) ∈ lw_all := lw_g (lw_at lw_m4 232 rfl) rfl
theorem q1015 : (Jvm.Cond.codeWith ({ cls := "NightStones", name := "times", desc := "(III)I" } : Jvm.MethodName) prog_1_method_29_code (6 : Nat) (Option.some Jvm.ClassFile.FieldType.int) [((32 : Nat), (121 : Nat), (214 : Nat), (71 : Nat)), ((122 : Nat), (144 : Nat), (214 : Nat), (71 : Nat)), ((145 : Nat), (213 : Nat), (214 : Nat), (71 : Nat))]) ∈ lw_all := lw_g (lw_at lw_m4 233 rfl) rfl
theorem q1016 : (Jvm.Cond.constantLong "NightStones" (227 : Nat) (10 : Int64)) ∈ lw_all := lw_g (lw_at lw_m4 234 rfl) rfl
theorem q1017 : (Jvm.Cond.methodLink "NightStones" (229 : Nat) ({ cls := "NightStones$Row", name := "row", desc := "(II)[I" } : Jvm.MethodName)) ∈ lw_all := lw_g (lw_at lw_m4 235 rfl) rfl
theorem q1024 : (Jvm.Cond.instanceMethod ({ cls := "NightStones", name := "forget", desc := "()I" } : Jvm.MethodName)) ∈ lw_all := lw_g (lw_at lw_m5 2 rfl) rfl
theorem q1025 : (Jvm.Cond.selects "NightStones" ({ cls := "NightStones", name := "forget", desc := "()I" } : Jvm.MethodName) ({ cls := "NightStones", name := "forget", desc := "()I" } : Jvm.MethodName)) ∈ lw_all := lw_g (lw_at lw_m5 3 rfl) rfl
theorem q1026 : (Jvm.Cond.code ({ cls := "NightStones", name := "forget", desc := "()I" } : Jvm.MethodName) prog_1_method_30_code (2 : Nat) (Option.some Jvm.ClassFile.FieldType.int)) ∈ lw_all := lw_g (lw_at lw_m5 4 rfl) rfl
theorem q1028 : (Jvm.Cond.instanceMethod ({ cls := "NightStones", name := "ends", desc := "(III)I" } : Jvm.MethodName)) ∈ lw_all := lw_g (lw_at lw_m5 6 rfl) rfl
theorem q1029 : (Jvm.Cond.selects "NightStones" ({ cls := "NightStones", name := "ends", desc := "(III)I" } : Jvm.MethodName) ({ cls := "NightStones", name := "ends", desc := "(III)I" } : Jvm.MethodName)) ∈ lw_all := lw_g (lw_at lw_m5 7 rfl) rfl
theorem q1030 : (Jvm.Cond.code ({ cls := "NightStones", name := "ends", desc := "(III)I" } : Jvm.MethodName) prog_1_method_34_code (4 : Nat) (Option.some Jvm.ClassFile.FieldType.int)) ∈ lw_all := lw_g (lw_at lw_m5 8 rfl) rfl
theorem q1031 : (Jvm.Cond.methodLink "NightStones" (246 : Nat) ({ cls := "NightStones", name := "measure", desc := "()Z" } : Jvm.MethodName)) ∈ lw_all := lw_g (lw_at lw_m5 9 rfl) rfl
theorem q1032 : (Jvm.Cond.privateMethod ({ cls := "NightStones", name := "measure", desc := "()Z" } : Jvm.MethodName)) ∈ lw_tbl := lw_at lw_m5 10 rfl
theorem q1033 : (Jvm.Cond.instanceMethod ({ cls := "NightStones", name := "measure", desc := "()Z" } : Jvm.MethodName)) ∈ lw_all := lw_g (lw_at lw_m5 11 rfl) rfl
theorem q1034 : (Jvm.Cond.code ({ cls := "NightStones", name := "measure", desc := "()Z" } : Jvm.MethodName) prog_1_method_33_code (5 : Nat) (Option.some Jvm.ClassFile.FieldType.boolean)) ∈ lw_all := lw_g (lw_at lw_m5 12 rfl) rfl
theorem q1035 : (Jvm.Cond.methodLink "NightStones" (233 : Nat) ({ cls := "NightStones", name := "at", desc := "(II)I" } : Jvm.MethodName)) ∈ lw_all := lw_g (lw_at lw_m5 13 rfl) rfl
theorem q1036 : (Jvm.Cond.privateMethod ({ cls := "NightStones", name := "at", desc := "(II)I" } : Jvm.MethodName)) ∈ lw_tbl := lw_at lw_m5 14 rfl
theorem q1037 : (Jvm.Cond.instanceMethod ({ cls := "NightStones", name := "at", desc := "(II)I" } : Jvm.MethodName)) ∈ lw_all := lw_g (lw_at lw_m5 15 rfl) rfl
theorem q1038 : (Jvm.Cond.code ({ cls := "NightStones", name := "at", desc := "(II)I" } : Jvm.MethodName) prog_1_method_31_code (3 : Nat) (Option.some Jvm.ClassFile.FieldType.int)) ∈ lw_all := lw_g (lw_at lw_m5 16 rfl) rfl
theorem q1039 : (Jvm.Cond.methodLink "NightStones" (239 : Nat) ({ cls := "NightStones", name := "lessen", desc := "(III)V" } : Jvm.MethodName)) ∈ lw_all := lw_g (lw_at lw_m5 17 rfl) rfl
theorem q1040 : (Jvm.Cond.privateMethod ({ cls := "NightStones", name := "lessen", desc := "(III)V" } : Jvm.MethodName)) ∈ lw_tbl := lw_at lw_m5 18 rfl
theorem q1041 : (Jvm.Cond.instanceMethod ({ cls := "NightStones", name := "lessen", desc := "(III)V" } : Jvm.MethodName)) ∈ lw_all := lw_g (lw_at lw_m5 19 rfl) rfl
theorem q1042 : (Jvm.Cond.code ({ cls := "NightStones", name := "lessen", desc := "(III)V" } : Jvm.MethodName) prog_1_method_32_code (4 : Nat) (Option.none : Option Jvm.ClassFile.FieldType)) ∈ lw_all := lw_g (lw_at lw_m5 20 rfl) rfl
theorem q1043 : (Jvm.Cond.methodLink "NightStones" (236 : Nat) ({ cls := "java/lang/Math", name := "min", desc := "(II)I" } : Jvm.MethodName)) ∈ lw_all := lw_g (lw_at lw_m5 21 rfl) rfl
theorem q1044 : (Jvm.Cond.constant "NightStones" (249 : Nat) (-1000000 : Int32)) ∈ lw_all := lw_g (lw_at lw_m5 22 rfl) rfl
theorem q1046 : (Jvm.Cond.instanceMethod ({ cls := "NightStones", name := "widest", desc := "()I" } : Jvm.MethodName)) ∈ lw_all := lw_g (lw_at lw_m5 24 rfl) rfl
theorem q1047 : (Jvm.Cond.selects "NightStones" ({ cls := "NightStones", name := "widest", desc := "()I" } : Jvm.MethodName) ({ cls := "NightStones", name := "widest", desc := "()I" } : Jvm.MethodName)) ∈ lw_all := lw_g (lw_at lw_m5 25 rfl) rfl
theorem q1048 : (Jvm.Cond.code ({ cls := "NightStones", name := "widest", desc := "()I" } : Jvm.MethodName) prog_1_method_35_code (6 : Nat) (Option.some Jvm.ClassFile.FieldType.int)) ∈ lw_all := lw_g (lw_at lw_m5 26 rfl) rfl
theorem q1049 : (Jvm.Cond.methodLink "NightStones" (250 : Nat) ({ cls := "java/lang/Math", name := "max", desc := "(II)I" } : Jvm.MethodName)) ∈ lw_all := lw_g (lw_at lw_m5 27 rfl) rfl
theorem q1051 : (Jvm.Cond.instanceMethod ({ cls := "NightStones", name := "rest", desc := "()I" } : Jvm.MethodName)) ∈ lw_all := lw_g (lw_at lw_m5 29 rfl) rfl
theorem q1052 : (Jvm.Cond.selects "NightStones" ({ cls := "NightStones", name := "rest", desc := "()I" } : Jvm.MethodName) ({ cls := "NightStones", name := "rest", desc := "()I" } : Jvm.MethodName)) ∈ lw_all := lw_g (lw_at lw_m5 30 rfl) rfl
theorem q1053 : (Jvm.Cond.code ({ cls := "NightStones", name := "rest", desc := "()I" } : Jvm.MethodName) prog_1_method_36_code (4 : Nat) (Option.some Jvm.ClassFile.FieldType.int)) ∈ lw_all := lw_g (lw_at lw_m5 31 rfl) rfl
theorem q1055 : (Jvm.Cond.instanceMethod ({ cls := "NightStones", name := "moved", desc := "(I)I" } : Jvm.MethodName)) ∈ lw_all := lw_g (lw_at lw_m5 33 rfl) rfl
theorem q1056 : (Jvm.Cond.selects "NightStones" ({ cls := "NightStones", name := "moved", desc := "(I)I" } : Jvm.MethodName) ({ cls := "NightStones", name := "moved", desc := "(I)I" } : Jvm.MethodName)) ∈ lw_all := lw_g (lw_at lw_m5 34 rfl) rfl
theorem q1057 : (Jvm.Cond.code ({ cls := "NightStones", name := "moved", desc := "(I)I" } : Jvm.MethodName) prog_1_method_37_code (8 : Nat) (Option.some Jvm.ClassFile.FieldType.int)) ∈ lw_all := lw_g (lw_at lw_m5 35 rfl) rfl
theorem q1058 : (Jvm.Cond.methodLink "NightStones" (253 : Nat) ({ cls := "java/lang/Integer", name := "bitCount", desc := "(I)I" } : Jvm.MethodName)) ∈ lw_all := lw_g (lw_at lw_m5 36 rfl) rfl
theorem q1065 : (Jvm.Cond.instanceMethod ({ cls := "NightStones", name := "who", desc := "(II)I" } : Jvm.MethodName)) ∈ lw_all := lw_g (lw_at lw_m5 43 rfl) rfl
theorem q1066 : (Jvm.Cond.selects "NightStones" ({ cls := "NightStones", name := "who", desc := "(II)I" } : Jvm.MethodName) ({ cls := "NightStones", name := "who", desc := "(II)I" } : Jvm.MethodName)) ∈ lw_all := lw_g (lw_at lw_m5 44 rfl) rfl
theorem q1067 : (Jvm.Cond.code ({ cls := "NightStones", name := "who", desc := "(II)I" } : Jvm.MethodName) prog_1_method_38_code (7 : Nat) (Option.some Jvm.ClassFile.FieldType.int)) ∈ lw_all := lw_g (lw_at lw_m5 45 rfl) rfl
theorem q1068 : (Jvm.Cond.constantLong "NightStones" (258 : Nat) (9 : Int64)) ∈ lw_all := lw_g (lw_at lw_m5 46 rfl) rfl
theorem q1069 : (Jvm.Cond.methodLink "NightStones" (260 : Nat) ({ cls := "NightStones$Road", name := "goHome", desc := "()LNightStones$Road;" } : Jvm.MethodName)) ∈ lw_all := lw_g (lw_at lw_m5 47 rfl) rfl
theorem q1070 : (Jvm.Cond.methodLink "NightStones" (264 : Nat) ({ cls := "NightStones$Road", name := "standsAs", desc := "(LNightStones$Road;)Z" } : Jvm.MethodName)) ∈ lw_all := lw_g (lw_at lw_m5 48 rfl) rfl
theorem q1075 : (Jvm.Cond.instanceMethod ({ cls := "NightStones", name := "dare", desc := "(II)I" } : Jvm.MethodName)) ∈ lw_all := lw_g (lw_at lw_m5 53 rfl) rfl
theorem q1076 : (Jvm.Cond.selects "NightStones" ({ cls := "NightStones", name := "dare", desc := "(II)I" } : Jvm.MethodName) ({ cls := "NightStones", name := "dare", desc := "(II)I" } : Jvm.MethodName)) ∈ lw_all := lw_g (lw_at lw_m5 54 rfl) rfl
theorem q1077 : (Jvm.Cond.code ({ cls := "NightStones", name := "dare", desc := "(II)I" } : Jvm.MethodName) prog_1_method_42_code (5 : Nat) (Option.some Jvm.ClassFile.FieldType.int)) ∈ lw_all := lw_g (lw_at lw_m5 55 rfl) rfl
theorem q1078 : (Jvm.Cond.constantLong "NightStones" (280 : Nat) (3 : Int64)) ∈ lw_all := lw_g (lw_at lw_m5 56 rfl) rfl
theorem q1079 : (Jvm.Cond.methodLink "NightStones" (277 : Nat) ({ cls := "NightStones", name := "dareOf", desc := "(II)I" } : Jvm.MethodName)) ∈ lw_all := lw_g (lw_at lw_m5 57 rfl) rfl
theorem q1080 : (Jvm.Cond.privateMethod ({ cls := "NightStones", name := "dareOf", desc := "(II)I" } : Jvm.MethodName)) ∈ lw_tbl := lw_at lw_m5 58 rfl
theorem q1081 : (Jvm.Cond.instanceMethod ({ cls := "NightStones", name := "dareOf", desc := "(II)I" } : Jvm.MethodName)) ∈ lw_all := lw_g (lw_at lw_m5 59 rfl) rfl
theorem q1082 : (Jvm.Cond.code ({ cls := "NightStones", name := "dareOf", desc := "(II)I" } : Jvm.MethodName) prog_1_method_40_code (4 : Nat) (Option.some Jvm.ClassFile.FieldType.int)) ∈ lw_all := lw_g (lw_at lw_m5 60 rfl) rfl
theorem q1083 : (Jvm.Cond.methodLink "NightStones" (271 : Nat) ({ cls := "NightStones", name := "power", desc := "(II)I" } : Jvm.MethodName)) ∈ lw_all := lw_g (lw_at lw_m5 61 rfl) rfl
theorem q1084 : (Jvm.Cond.static ({ cls := "NightStones", name := "power", desc := "(II)I" } : Jvm.MethodName)) ∈ lw_all := lw_g (lw_at lw_m5 62 rfl) rfl
theorem q1085 : (Jvm.Cond.code ({ cls := "NightStones", name := "power", desc := "(II)I" } : Jvm.MethodName) prog_1_method_39_code (4 : Nat) (Option.some Jvm.ClassFile.FieldType.int)) ∈ lw_all := lw_g (lw_at lw_m5 63 rfl) rfl
theorem q1086 : (Jvm.Cond.methodLink "NightStones" (282 : Nat) ({ cls := "NightStones", name := "common", desc := "(II)I" } : Jvm.MethodName)) ∈ lw_all := lw_g (lw_at lw_m5 64 rfl) rfl
theorem q1087 : (Jvm.Cond.static ({ cls := "NightStones", name := "common", desc := "(II)I" } : Jvm.MethodName)) ∈ lw_all := lw_g (lw_at lw_m5 65 rfl) rfl
theorem q1088 : (Jvm.Cond.code ({ cls := "NightStones", name := "common", desc := "(II)I" } : Jvm.MethodName) prog_1_method_3_code (5 : Nat) (Option.some Jvm.ClassFile.FieldType.int)) ∈ lw_all := lw_g (lw_at lw_m5 66 rfl) rfl
theorem q1090 : (Jvm.Cond.instanceMethod ({ cls := "NightStones", name := "best", desc := "(I)I" } : Jvm.MethodName)) ∈ lw_all := lw_g (lw_at lw_m5 68 rfl) rfl
theorem q1091 : (Jvm.Cond.selects "NightStones" ({ cls := "NightStones", name := "best", desc := "(I)I" } : Jvm.MethodName) ({ cls := "NightStones", name := "best", desc := "(I)I" } : Jvm.MethodName)) ∈ lw_all := lw_g (lw_at lw_m5 69 rfl) rfl
theorem q1092 : (Jvm.Cond.code ({ cls := "NightStones", name := "best", desc := "(I)I" } : Jvm.MethodName) prog_1_method_43_code (4 : Nat) (Option.some Jvm.ClassFile.FieldType.int)) ∈ lw_all := lw_g (lw_at lw_m5 70 rfl) rfl
theorem q1093 : (Jvm.Cond.methodLink "NightStones" (285 : Nat) ({ cls := "NightStones", name := "bestBy", desc := "(I)I" } : Jvm.MethodName)) ∈ lw_all := lw_g (lw_at lw_m5 71 rfl) rfl
theorem q1094 : (Jvm.Cond.privateMethod ({ cls := "NightStones", name := "bestBy", desc := "(I)I" } : Jvm.MethodName)) ∈ lw_tbl := lw_at lw_m5 72 rfl
theorem q1095 : (Jvm.Cond.instanceMethod ({ cls := "NightStones", name := "bestBy", desc := "(I)I" } : Jvm.MethodName)) ∈ lw_all := lw_g (lw_at lw_m5 73 rfl) rfl
theorem q1096 : (Jvm.Cond.code ({ cls := "NightStones", name := "bestBy", desc := "(I)I" } : Jvm.MethodName) prog_1_method_41_code (4 : Nat) (Option.some Jvm.ClassFile.FieldType.int)) ∈ lw_all := lw_g (lw_at lw_m5 74 rfl) rfl
theorem q1098 : (Jvm.Cond.instanceMethod ({ cls := "NightStones", name := "image", desc := "(I)I" } : Jvm.MethodName)) ∈ lw_all := lw_g (lw_at lw_m5 76 rfl) rfl
theorem q1099 : (Jvm.Cond.selects "NightStones" ({ cls := "NightStones", name := "image", desc := "(I)I" } : Jvm.MethodName) ({ cls := "NightStones", name := "image", desc := "(I)I" } : Jvm.MethodName)) ∈ lw_all := lw_g (lw_at lw_m5 77 rfl) rfl
theorem q1100 : (Jvm.Cond.code ({ cls := "NightStones", name := "image", desc := "(I)I" } : Jvm.MethodName) prog_1_method_44_code (2 : Nat) (Option.some Jvm.ClassFile.FieldType.int)) ∈ lw_all := lw_g (lw_at lw_m5 78 rfl) rfl
theorem q1102 : (Jvm.Cond.instanceMethod ({ cls := "NightStones", name := "restore", desc := "(I)I" } : Jvm.MethodName)) ∈ lw_all := lw_g (lw_at lw_m5 80 rfl) rfl
theorem q1103 : (Jvm.Cond.selects "NightStones" ({ cls := "NightStones", name := "restore", desc := "(I)I" } : Jvm.MethodName) ({ cls := "NightStones", name := "restore", desc := "(I)I" } : Jvm.MethodName)) ∈ lw_all := lw_g (lw_at lw_m5 81 rfl) rfl
theorem q1104 : (Jvm.Cond.code ({ cls := "NightStones", name := "restore", desc := "(I)I" } : Jvm.MethodName) prog_1_method_45_code (2 : Nat) (Option.some Jvm.ClassFile.FieldType.int)) ∈ lw_all := lw_g (lw_at lw_m5 82 rfl) rfl
theorem q1106 : (Jvm.Cond.instanceMethod ({ cls := "NightStones", name := "kind", desc := "(I)I" } : Jvm.MethodName)) ∈ lw_all := lw_g (lw_at lw_m5 84 rfl) rfl
theorem q1107 : (Jvm.Cond.selects "NightStones" ({ cls := "NightStones", name := "kind", desc := "(I)I" } : Jvm.MethodName) ({ cls := "NightStones", name := "kind", desc := "(I)I" } : Jvm.MethodName)) ∈ lw_all := lw_g (lw_at lw_m5 85 rfl) rfl
theorem q1108 : (Jvm.Cond.code ({ cls := "NightStones", name := "kind", desc := "(I)I" } : Jvm.MethodName) prog_1_method_46_code (2 : Nat) (Option.some Jvm.ClassFile.FieldType.int)) ∈ lw_all := lw_g (lw_at lw_m5 86 rfl) rfl
theorem q1109 : (Jvm.Cond.methodLink "NightStones" (288 : Nat) ({ cls := "NightStones", name := "isMover", desc := "(I)Z" } : Jvm.MethodName)) ∈ lw_all := lw_g (lw_at lw_m5 87 rfl) rfl
theorem q1110 : (Jvm.Cond.privateMethod ({ cls := "NightStones", name := "isMover", desc := "(I)Z" } : Jvm.MethodName)) ∈ lw_tbl := lw_at lw_m5 88 rfl
theorem q1111 : (Jvm.Cond.instanceMethod ({ cls := "NightStones", name := "isMover", desc := "(I)Z" } : Jvm.MethodName)) ∈ lw_all := lw_g (lw_at lw_m5 89 rfl) rfl
theorem q1112 : (Jvm.Cond.code ({ cls := "NightStones", name := "isMover", desc := "(I)Z" } : Jvm.MethodName) prog_1_method_20_code (2 : Nat) (Option.some Jvm.ClassFile.FieldType.boolean)) ∈ lw_all := lw_g (lw_at lw_m5 90 rfl) rfl
theorem q1113 : (Jvm.Cond.interfaceEntry "NightStones" (177 : Nat)) ∈ lw_tbl := lw_at lw_m5 91 rfl
theorem q1114 : (Jvm.Cond.methodLink "NightStones" (177 : Nat) ({ cls := "java/util/List", name := "size", desc := "()I" } : Jvm.MethodName)) ∈ lw_all := lw_g (lw_at lw_m5 92 rfl) rfl
theorem q1115 : (Jvm.Cond.interfaceEntry "NightStones" (291 : Nat)) ∈ lw_tbl := lw_at lw_m5 93 rfl
theorem q1116 : (Jvm.Cond.methodLink "NightStones" (291 : Nat) ({ cls := "java/util/List", name := "get", desc := "(I)Ljava/lang/Object;" } : Jvm.MethodName)) ∈ lw_all := lw_g (lw_at lw_m5 94 rfl) rfl
theorem q1117 : (Jvm.Cond.classLink "NightStones" (295 : Nat) "NightStones$Mover") ∈ lw_all := lw_g (lw_at lw_m5 95 rfl) rfl
theorem q1118 : (Jvm.Cond.methodLink "NightStones" (297 : Nat) ({ cls := "NightStones$Mover", name := "kind", desc := "()I" } : Jvm.MethodName)) ∈ lw_all := lw_g (lw_at lw_m5 96 rfl) rfl
theorem q1137 : (Jvm.Cond.instanceMethod ({ cls := "NightStones", name := "as", desc := "(II)I" } : Jvm.MethodName)) ∈ lw_all := lw_g (lw_at lw_m5 115 rfl) rfl
theorem q1138 : (Jvm.Cond.selects "NightStones" ({ cls := "NightStones", name := "as", desc := "(II)I" } : Jvm.MethodName) ({ cls := "NightStones", name := "as", desc := "(II)I" } : Jvm.MethodName)) ∈ lw_all := lw_g (lw_at lw_m5 116 rfl) rfl
theorem q1139 : (Jvm.Cond.codeWith ({ cls := "NightStones", name := "as", desc := "(II)I" } : Jvm.MethodName) prog_1_method_47_code (5 : Nat) (Option.some Jvm.ClassFile.FieldType.int) [((40 : Nat), (111 : Nat), (112 : Nat), (303 : Nat)), ((23 : Nat), (111 : Nat), (123 : Nat), (71 : Nat)), ((112 : Nat), (123 : Nat), (123 : Nat), (71 : Nat))]) ∈ lw_all := lw_g (lw_at lw_m5 117 rfl) rfl
theorem q1140 : (Jvm.Cond.classLink "NightStones" (303 : Nat) "java/lang/ClassCastException") ∈ lw_all := lw_g (lw_at lw_m5 118 rfl) rfl
theorem q1154 : (Jvm.Cond.constantLong "NightStones" (299 : Nat) (5 : Int64)) ∈ lw_all := lw_g (lw_at lw_m5 132 rfl) rfl
theorem q1155 : (Jvm.Cond.methodLink "NightStones" (301 : Nat) ({ cls := "NightStones$Mover", name := "number", desc := "()I" } : Jvm.MethodName)) ∈ lw_all := lw_g (lw_at lw_m5 133 rfl) rfl
theorem q1165 : (Jvm.Cond.instanceMethod ({ cls := "NightStones", name := "ask", desc := "(II)I" } : Jvm.MethodName)) ∈ lw_all := lw_g (lw_at lw_m5 143 rfl) rfl
theorem q1166 : (Jvm.Cond.selects "NightStones" ({ cls := "NightStones", name := "ask", desc := "(II)I" } : Jvm.MethodName) ({ cls := "NightStones", name := "ask", desc := "(II)I" } : Jvm.MethodName)) ∈ lw_all := lw_g (lw_at lw_m5 144 rfl) rfl
theorem q1167 : (Jvm.Cond.code ({ cls := "NightStones", name := "ask", desc := "(II)I" } : Jvm.MethodName) prog_1_method_48_code (4 : Nat) (Option.some Jvm.ClassFile.FieldType.int)) ∈ lw_all := lw_g (lw_at lw_m5 145 rfl) rfl
theorem q1168 : (Jvm.Cond.methodLink "NightStones" (305 : Nat) ({ cls := "NightStones$Mover", name := "size", desc := "(LNightStones$Trail;LNightStones$Road;)I" } : Jvm.MethodName)) ∈ lw_all := lw_g (lw_at lw_m5 146 rfl) rfl
theorem q1245 : (Jvm.Cond.instanceMethod ({ cls := "NightStones", name := "trace", desc := "(I)I" } : Jvm.MethodName)) ∈ lw_all := lw_g (lw_at lw_m5 223 rfl) rfl
theorem q1246 : (Jvm.Cond.selects "NightStones" ({ cls := "NightStones", name := "trace", desc := "(I)I" } : Jvm.MethodName) ({ cls := "NightStones", name := "trace", desc := "(I)I" } : Jvm.MethodName)) ∈ lw_all := lw_g (lw_at lw_m5 224 rfl) rfl
theorem q1247 : (Jvm.Cond.code ({ cls := "NightStones", name := "trace", desc := "(I)I" } : Jvm.MethodName) prog_1_method_49_code (2 : Nat) (Option.some Jvm.ClassFile.FieldType.int)) ∈ lw_all := lw_g (lw_at lw_m5 225 rfl) rfl
theorem q1249 : (Jvm.Cond.instanceMethod ({ cls := "NightStones", name := "count", desc := "(I)I" } : Jvm.MethodName)) ∈ lw_all := lw_g (lw_at lw_m5 227 rfl) rfl
theorem q1250 : (Jvm.Cond.selects "NightStones" ({ cls := "NightStones", name := "count", desc := "(I)I" } : Jvm.MethodName) ({ cls := "NightStones", name := "count", desc := "(I)I" } : Jvm.MethodName)) ∈ lw_all := lw_g (lw_at lw_m5 228 rfl) rfl
theorem q1251 : (Jvm.Cond.code ({ cls := "NightStones", name := "count", desc := "(I)I" } : Jvm.MethodName) prog_1_method_50_code (4 : Nat) (Option.some Jvm.ClassFile.FieldType.int)) ∈ lw_all := lw_g (lw_at lw_m5 229 rfl) rfl
theorem q1253 : (Jvm.Cond.instanceMethod ({ cls := "NightStones", name := "status", desc := "()I" } : Jvm.MethodName)) ∈ lw_all := lw_g (lw_at lw_m5 231 rfl) rfl
theorem q1254 : (Jvm.Cond.selects "NightStones" ({ cls := "NightStones", name := "status", desc := "()I" } : Jvm.MethodName) ({ cls := "NightStones", name := "status", desc := "()I" } : Jvm.MethodName)) ∈ lw_all := lw_g (lw_at lw_m5 232 rfl) rfl
theorem q1255 : (Jvm.Cond.code ({ cls := "NightStones", name := "status", desc := "()I" } : Jvm.MethodName) prog_1_method_51_code (1 : Nat) (Option.some Jvm.ClassFile.FieldType.int)) ∈ lw_all := lw_g (lw_at lw_m5 233 rfl) rfl
theorem q1678 : (Jvm.Cond.castable "NightStones" "java/lang/Object") ∈ lw_tbl := lw_at lw_m7 176 rfl
theorem q1704 : (Jvm.Cond.stringRef "NightStones" (319 : Nat) "inn") ∈ lw_tbl := lw_at lw_m7 202 rfl
theorem q1705 : (Jvm.Cond.stringRef "NightStones" (321 : Nat) "carter") ∈ lw_tbl := lw_at lw_m7 203 rfl
theorem q1706 : (Jvm.Cond.stringRef "NightStones" (323 : Nat) "parish") ∈ lw_tbl := lw_at lw_m7 204 rfl
theorem q1707 : (Jvm.Cond.stringRef "NightStones" (325 : Nat) "thief") ∈ lw_tbl := lw_at lw_m7 205 rfl
theorem q1708 : (Jvm.Cond.stringRef "NightStones" (327 : Nat) "priest") ∈ lw_tbl := lw_at lw_m7 206 rfl
theorem in_X0 : ∀ w ∈ wsX00, w ∈ lw_all := lw_in wsX00 [231, 233, 235, 237, 239, 241, 243, 245, 247, 249, 251, 253] (by decide +kernel) (by decide +kernel)
