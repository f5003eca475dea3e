/-! NightStonesModel -/
set_option maxRecDepth 100000
def RX3 : String := "NightStonesModel"
def TX3 : u_T := fun k => match k with
  | 0 => ("NightStonesModel", "thrown", "I", false)
  | 1 => ("NightStonesModel", "status", "I", false)
  | 2 => ("NightStonesModel", "lane", "[I", true)
  | 3 => ("NightStonesModel", "many", "[I", true)
  | 4 => ("NightStonesModel", "item", "[I", true)
  | 5 => ("NightStonesModel", "road", "[I", true)
  | 6 => ("NightStonesModel", "fresh", "[I", true)
  | 7 => ("NightStonesModel", "was", "[I", true)
  | 8 => ("NightStonesModel", "acts", "I", false)
  | 9 => ("NightStonesModel", "tape", "[I", true)
  | 10 => ("NightStonesModel", "taped", "I", false)
  | 11 => ("NightStonesModel", "latest", "I", false)
  | 12 => ("NightStonesModel", "length", "I", false)
  | 13 => ("NightStonesModel", "cursor", "I", false)
  | 14 => ("NightStonesModel", "token", "I", false)
  | 15 => ("NightStonesModel", "start", "I", false)
  | 16 => ("NightStonesModel", "till", "I", false)
  | 17 => ("NightStonesModel", "fault", "I", false)
  | 18 => ("NightStonesModel", "faultAt", "I", false)
  | 19 => ("NightStonesModel", "where", "[I", true)
  | 20 => ("NightStonesModel", "most", "[I", true)
  | 21 => ("NightStonesModel", "before", "[I", true)
  | 22 => ("NightStonesModel", "isKept", "[Z", true)
  | 23 => ("NightStonesModel", "kept", "[I", true)
  | 24 => ("NightStonesModel", "trace", "[I", true)
  | _ => ("NightStonesModel", "traced", "I", false)
def tyX3 : Nat → FieldType := fun k => match k with
  | 0 => .int
  | 1 => .int
  | 2 => .array .int
  | 3 => .array .int
  | 4 => .array .int
  | 5 => .array .int
  | 6 => .array .int
  | 7 => .array .int
  | 8 => .int
  | 9 => .array .int
  | 10 => .int
  | 11 => .int
  | 12 => .int
  | 13 => .int
  | 14 => .int
  | 15 => .int
  | 16 => .int
  | 17 => .int
  | 18 => .int
  | 19 => .array .int
  | 20 => .array .int
  | 21 => .array .int
  | 22 => .array .boolean
  | 23 => .array .int
  | 24 => .array .int
  | _ => .int
abbrev wsX30 : List Cond := u_ws RX3 TX3 26
set_option maxRecDepth 100000 in
theorem nmX3 : ∀ a, a < 26 → ∀ b, b < 26 → a ≠ b → (TX3 a).2.1 ≠ (TX3 b).2.1 := by decide +kernel
set_option maxRecDepth 100000 in
theorem tyX3_ok : ∀ k, k < 26 → parseFieldDescriptor (TX3 k).2.2.1 = some (tyX3 k) := by decide +kernel
abbrev cX3_init : ByteArray := prog_16_method_1_code
def yX3_init : MethodName := ⟨RX3, "<init>", "()V"⟩
def dkwX3_init_6 : List UInt8 := [181, 0, 47, 177]
abbrev dktX3_init_6 : List UInt8 := dkwX3_init_6 ++ []
def dkwX3_init_5 : List UInt8 := [181, 0, 37, 42, 5, 188, 4, 181, 0, 40, 42, 17, 0, 188, 188, 10, 181, 0, 44, 42, 16, 16, 188, 10]
abbrev dktX3_init_5 : List UInt8 := dkwX3_init_5 ++ dktX3_init_6
def dkwX3_init_4 : List UInt8 := [181, 0, 28, 42, 16, 6, 188, 10, 181, 0, 31, 42, 16, 49, 188, 10, 181, 0, 34, 42, 16, 6, 188, 10]
abbrev dktX3_init_4 : List UInt8 := dkwX3_init_4 ++ dktX3_init_5
def dkwX3_init_3 : List UInt8 := [42, 16, 94, 188, 10, 181, 0, 22, 42, 17, 0, 168, 188, 10, 181, 0, 25, 42, 17, 1, 144, 188, 10]
abbrev dktX3_init_3 : List UInt8 := dkwX3_init_3 ++ dktX3_init_4
def dkwX3_init_2 : List UInt8 := [16, 8, 188, 10, 181, 0, 13, 42, 17, 1, 64, 188, 10, 181, 0, 16, 42, 16, 94, 188, 10, 181, 0, 19]
abbrev dktX3_init_2 : List UInt8 := dkwX3_init_2 ++ dktX3_init_3
def dkwX3_init_1 : List UInt8 := [79, 89, 7, 2, 79, 89, 8, 2, 79, 89, 16, 6, 2, 79, 89, 16, 7, 2, 79, 181, 0, 7, 42]
abbrev dktX3_init_1 : List UInt8 := dkwX3_init_1 ++ dktX3_init_2
def dkwX3_init_0 : List UInt8 := [42, 183, 0, 1, 42, 16, 8, 188, 10, 89, 3, 2, 79, 89, 4, 2, 79, 89, 5, 2, 79, 89, 6, 2]
abbrev dktX3_init_0 : List UInt8 := dkwX3_init_0 ++ dktX3_init_1
theorem dksX3_init_0 : cX3_init.data.toList.drop 0 = dktX3_init_0 := by decide +kernel
theorem dksX3_init_1 : cX3_init.data.toList.drop 24 = dktX3_init_1 := dk_seg dksX3_init_0 24 rfl rfl
theorem dksX3_init_2 : cX3_init.data.toList.drop 47 = dktX3_init_2 := dk_seg dksX3_init_1 23 rfl rfl
theorem dksX3_init_3 : cX3_init.data.toList.drop 71 = dktX3_init_3 := dk_seg dksX3_init_2 24 rfl rfl
theorem dksX3_init_4 : cX3_init.data.toList.drop 94 = dktX3_init_4 := dk_seg dksX3_init_3 23 rfl rfl
theorem dksX3_init_5 : cX3_init.data.toList.drop 118 = dktX3_init_5 := dk_seg dksX3_init_4 24 rfl rfl
theorem dksX3_init_6 : cX3_init.data.toList.drop 142 = dktX3_init_6 := dk_seg dksX3_init_5 24 rfl rfl
theorem dX3_init_0 : decode cX3_init 0 = .ok (.aload_n 0, 1) := dk_42 (dk_at dksX3_init_0 0 rfl rfl)
theorem dX3_init_1 : decode cX3_init 1 = .ok (.invokespecial 1, 3) := dk_183 0 1 (dk_at dksX3_init_0 1 rfl rfl)
theorem dX3_init_4 : decode cX3_init 4 = .ok (.aload_n 0, 1) := dk_42 (dk_at dksX3_init_0 4 rfl rfl)
theorem dX3_init_5 : decode cX3_init 5 = .ok (.bipush 8, 2) := dk_16 8 (dk_at dksX3_init_0 5 rfl rfl)
theorem dX3_init_7 : decode cX3_init 7 = .ok (.newarray .int, 2) := dk_188_10 (dk_at dksX3_init_0 7 rfl rfl)
theorem dX3_init_9 : decode cX3_init 9 = .ok (.dup, 1) := dk_89 (dk_at dksX3_init_0 9 rfl rfl)
theorem dX3_init_10 : decode cX3_init 10 = .ok (.iconst 0, 1) := dk_3 (dk_at dksX3_init_0 10 rfl rfl)
theorem dX3_init_11 : decode cX3_init 11 = .ok (.iconst (-1), 1) := dk_2 (dk_at dksX3_init_0 11 rfl rfl)
theorem dX3_init_12 : decode cX3_init 12 = .ok (.iastore, 1) := dk_79 (dk_at dksX3_init_0 12 rfl rfl)
theorem dX3_init_13 : decode cX3_init 13 = .ok (.dup, 1) := dk_89 (dk_at dksX3_init_0 13 rfl rfl)
theorem dX3_init_14 : decode cX3_init 14 = .ok (.iconst 1, 1) := dk_4 (dk_at dksX3_init_0 14 rfl rfl)
theorem dX3_init_15 : decode cX3_init 15 = .ok (.iconst (-1), 1) := dk_2 (dk_at dksX3_init_0 15 rfl rfl)
theorem dX3_init_16 : decode cX3_init 16 = .ok (.iastore, 1) := dk_79 (dk_at dksX3_init_0 16 rfl rfl)
theorem dX3_init_17 : decode cX3_init 17 = .ok (.dup, 1) := dk_89 (dk_at dksX3_init_0 17 rfl rfl)
theorem dX3_init_18 : decode cX3_init 18 = .ok (.iconst 2, 1) := dk_5 (dk_at dksX3_init_0 18 rfl rfl)
theorem dX3_init_19 : decode cX3_init 19 = .ok (.iconst (-1), 1) := dk_2 (dk_at dksX3_init_0 19 rfl rfl)
theorem dX3_init_20 : decode cX3_init 20 = .ok (.iastore, 1) := dk_79 (dk_at dksX3_init_0 20 rfl rfl)
theorem dX3_init_21 : decode cX3_init 21 = .ok (.dup, 1) := dk_89 (dk_at dksX3_init_0 21 rfl rfl)
theorem dX3_init_22 : decode cX3_init 22 = .ok (.iconst 3, 1) := dk_6 (dk_at dksX3_init_0 22 rfl rfl)
theorem dX3_init_23 : decode cX3_init 23 = .ok (.iconst (-1), 1) := dk_2 (dk_at dksX3_init_0 23 rfl rfl)
theorem dX3_init_24 : decode cX3_init 24 = .ok (.iastore, 1) := dk_79 (dk_at dksX3_init_1 0 rfl rfl)
theorem dX3_init_25 : decode cX3_init 25 = .ok (.dup, 1) := dk_89 (dk_at dksX3_init_1 1 rfl rfl)
theorem dX3_init_26 : decode cX3_init 26 = .ok (.iconst 4, 1) := dk_7 (dk_at dksX3_init_1 2 rfl rfl)
theorem dX3_init_27 : decode cX3_init 27 = .ok (.iconst (-1), 1) := dk_2 (dk_at dksX3_init_1 3 rfl rfl)
theorem dX3_init_28 : decode cX3_init 28 = .ok (.iastore, 1) := dk_79 (dk_at dksX3_init_1 4 rfl rfl)
theorem dX3_init_29 : decode cX3_init 29 = .ok (.dup, 1) := dk_89 (dk_at dksX3_init_1 5 rfl rfl)
theorem dX3_init_30 : decode cX3_init 30 = .ok (.iconst 5, 1) := dk_8 (dk_at dksX3_init_1 6 rfl rfl)
theorem dX3_init_31 : decode cX3_init 31 = .ok (.iconst (-1), 1) := dk_2 (dk_at dksX3_init_1 7 rfl rfl)
theorem dX3_init_32 : decode cX3_init 32 = .ok (.iastore, 1) := dk_79 (dk_at dksX3_init_1 8 rfl rfl)
theorem dX3_init_33 : decode cX3_init 33 = .ok (.dup, 1) := dk_89 (dk_at dksX3_init_1 9 rfl rfl)
theorem dX3_init_34 : decode cX3_init 34 = .ok (.bipush 6, 2) := dk_16 6 (dk_at dksX3_init_1 10 rfl rfl)
theorem dX3_init_36 : decode cX3_init 36 = .ok (.iconst (-1), 1) := dk_2 (dk_at dksX3_init_1 12 rfl rfl)
theorem dX3_init_37 : decode cX3_init 37 = .ok (.iastore, 1) := dk_79 (dk_at dksX3_init_1 13 rfl rfl)
theorem dX3_init_38 : decode cX3_init 38 = .ok (.dup, 1) := dk_89 (dk_at dksX3_init_1 14 rfl rfl)
theorem dX3_init_39 : decode cX3_init 39 = .ok (.bipush 7, 2) := dk_16 7 (dk_at dksX3_init_1 15 rfl rfl)
theorem dX3_init_41 : decode cX3_init 41 = .ok (.iconst (-1), 1) := dk_2 (dk_at dksX3_init_1 17 rfl rfl)
theorem dX3_init_42 : decode cX3_init 42 = .ok (.iastore, 1) := dk_79 (dk_at dksX3_init_1 18 rfl rfl)
theorem dX3_init_43 : decode cX3_init 43 = .ok (.putfield 7, 3) := dk_181 0 7 (dk_at dksX3_init_1 19 rfl rfl)
theorem dX3_init_46 : decode cX3_init 46 = .ok (.aload_n 0, 1) := dk_42 (dk_at dksX3_init_1 22 rfl rfl)
theorem dX3_init_47 : decode cX3_init 47 = .ok (.bipush 8, 2) := dk_16 8 (dk_at dksX3_init_2 0 rfl rfl)
theorem dX3_init_49 : decode cX3_init 49 = .ok (.newarray .int, 2) := dk_188_10 (dk_at dksX3_init_2 2 rfl rfl)
theorem dX3_init_51 : decode cX3_init 51 = .ok (.putfield 13, 3) := dk_181 0 13 (dk_at dksX3_init_2 4 rfl rfl)
theorem dX3_init_54 : decode cX3_init 54 = .ok (.aload_n 0, 1) := dk_42 (dk_at dksX3_init_2 7 rfl rfl)
theorem dX3_init_55 : decode cX3_init 55 = .ok (.sipush 320, 3) := dk_17 1 64 (dk_at dksX3_init_2 8 rfl rfl)
theorem dX3_init_58 : decode cX3_init 58 = .ok (.newarray .int, 2) := dk_188_10 (dk_at dksX3_init_2 11 rfl rfl)
theorem dX3_init_60 : decode cX3_init 60 = .ok (.putfield 16, 3) := dk_181 0 16 (dk_at dksX3_init_2 13 rfl rfl)
theorem dX3_init_63 : decode cX3_init 63 = .ok (.aload_n 0, 1) := dk_42 (dk_at dksX3_init_2 16 rfl rfl)
theorem dX3_init_64 : decode cX3_init 64 = .ok (.bipush 94, 2) := dk_16 94 (dk_at dksX3_init_2 17 rfl rfl)
theorem dX3_init_66 : decode cX3_init 66 = .ok (.newarray .int, 2) := dk_188_10 (dk_at dksX3_init_2 19 rfl rfl)
theorem dX3_init_68 : decode cX3_init 68 = .ok (.putfield 19, 3) := dk_181 0 19 (dk_at dksX3_init_2 21 rfl rfl)
theorem dX3_init_71 : decode cX3_init 71 = .ok (.aload_n 0, 1) := dk_42 (dk_at dksX3_init_3 0 rfl rfl)
theorem dX3_init_72 : decode cX3_init 72 = .ok (.bipush 94, 2) := dk_16 94 (dk_at dksX3_init_3 1 rfl rfl)
theorem dX3_init_74 : decode cX3_init 74 = .ok (.newarray .int, 2) := dk_188_10 (dk_at dksX3_init_3 3 rfl rfl)
theorem dX3_init_76 : decode cX3_init 76 = .ok (.putfield 22, 3) := dk_181 0 22 (dk_at dksX3_init_3 5 rfl rfl)
theorem dX3_init_79 : decode cX3_init 79 = .ok (.aload_n 0, 1) := dk_42 (dk_at dksX3_init_3 8 rfl rfl)
theorem dX3_init_80 : decode cX3_init 80 = .ok (.sipush 168, 3) := dk_17 0 168 (dk_at dksX3_init_3 9 rfl rfl)
theorem dX3_init_83 : decode cX3_init 83 = .ok (.newarray .int, 2) := dk_188_10 (dk_at dksX3_init_3 12 rfl rfl)
theorem dX3_init_85 : decode cX3_init 85 = .ok (.putfield 25, 3) := dk_181 0 25 (dk_at dksX3_init_3 14 rfl rfl)
theorem dX3_init_88 : decode cX3_init 88 = .ok (.aload_n 0, 1) := dk_42 (dk_at dksX3_init_3 17 rfl rfl)
theorem dX3_init_89 : decode cX3_init 89 = .ok (.sipush 400, 3) := dk_17 1 144 (dk_at dksX3_init_3 18 rfl rfl)
theorem dX3_init_92 : decode cX3_init 92 = .ok (.newarray .int, 2) := dk_188_10 (dk_at dksX3_init_3 21 rfl rfl)
theorem dX3_init_94 : decode cX3_init 94 = .ok (.putfield 28, 3) := dk_181 0 28 (dk_at dksX3_init_4 0 rfl rfl)
theorem dX3_init_97 : decode cX3_init 97 = .ok (.aload_n 0, 1) := dk_42 (dk_at dksX3_init_4 3 rfl rfl)
theorem dX3_init_98 : decode cX3_init 98 = .ok (.bipush 6, 2) := dk_16 6 (dk_at dksX3_init_4 4 rfl rfl)
theorem dX3_init_100 : decode cX3_init 100 = .ok (.newarray .int, 2) := dk_188_10 (dk_at dksX3_init_4 6 rfl rfl)
theorem dX3_init_102 : decode cX3_init 102 = .ok (.putfield 31, 3) := dk_181 0 31 (dk_at dksX3_init_4 8 rfl rfl)
theorem dX3_init_105 : decode cX3_init 105 = .ok (.aload_n 0, 1) := dk_42 (dk_at dksX3_init_4 11 rfl rfl)
theorem dX3_init_106 : decode cX3_init 106 = .ok (.bipush 49, 2) := dk_16 49 (dk_at dksX3_init_4 12 rfl rfl)
theorem dX3_init_108 : decode cX3_init 108 = .ok (.newarray .int, 2) := dk_188_10 (dk_at dksX3_init_4 14 rfl rfl)
theorem dX3_init_110 : decode cX3_init 110 = .ok (.putfield 34, 3) := dk_181 0 34 (dk_at dksX3_init_4 16 rfl rfl)
theorem dX3_init_113 : decode cX3_init 113 = .ok (.aload_n 0, 1) := dk_42 (dk_at dksX3_init_4 19 rfl rfl)
theorem dX3_init_114 : decode cX3_init 114 = .ok (.bipush 6, 2) := dk_16 6 (dk_at dksX3_init_4 20 rfl rfl)
theorem dX3_init_116 : decode cX3_init 116 = .ok (.newarray .int, 2) := dk_188_10 (dk_at dksX3_init_4 22 rfl rfl)
theorem dX3_init_118 : decode cX3_init 118 = .ok (.putfield 37, 3) := dk_181 0 37 (dk_at dksX3_init_5 0 rfl rfl)
theorem dX3_init_121 : decode cX3_init 121 = .ok (.aload_n 0, 1) := dk_42 (dk_at dksX3_init_5 3 rfl rfl)
theorem dX3_init_122 : decode cX3_init 122 = .ok (.iconst 2, 1) := dk_5 (dk_at dksX3_init_5 4 rfl rfl)
theorem dX3_init_123 : decode cX3_init 123 = .ok (.newarray .boolean, 2) := dk_188_4 (dk_at dksX3_init_5 5 rfl rfl)
theorem dX3_init_125 : decode cX3_init 125 = .ok (.putfield 40, 3) := dk_181 0 40 (dk_at dksX3_init_5 7 rfl rfl)
theorem dX3_init_128 : decode cX3_init 128 = .ok (.aload_n 0, 1) := dk_42 (dk_at dksX3_init_5 10 rfl rfl)
theorem dX3_init_129 : decode cX3_init 129 = .ok (.sipush 188, 3) := dk_17 0 188 (dk_at dksX3_init_5 11 rfl rfl)
theorem dX3_init_132 : decode cX3_init 132 = .ok (.newarray .int, 2) := dk_188_10 (dk_at dksX3_init_5 14 rfl rfl)
theorem dX3_init_134 : decode cX3_init 134 = .ok (.putfield 44, 3) := dk_181 0 44 (dk_at dksX3_init_5 16 rfl rfl)
theorem dX3_init_137 : decode cX3_init 137 = .ok (.aload_n 0, 1) := dk_42 (dk_at dksX3_init_5 19 rfl rfl)
theorem dX3_init_138 : decode cX3_init 138 = .ok (.bipush 16, 2) := dk_16 16 (dk_at dksX3_init_5 20 rfl rfl)
theorem dX3_init_140 : decode cX3_init 140 = .ok (.newarray .int, 2) := dk_188_10 (dk_at dksX3_init_5 22 rfl rfl)
theorem dX3_init_142 : decode cX3_init 142 = .ok (.putfield 47, 3) := dk_181 0 47 (dk_at dksX3_init_6 0 rfl rfl)
theorem dX3_init_145 : decode cX3_init 145 = .ok (.return_, 1) := dk_177 (dk_at dksX3_init_6 3 rfl rfl)
abbrev cX3_row : ByteArray := prog_16_method_6_code
def yX3_row : MethodName := ⟨RX3, "row", "(III)I"⟩
def dkwX3_row_3 : List UInt8 := [42, 180, 0, 16, 16, 40, 27, 104, 21, 4, 96, 3, 79, 132, 4, 1, 167, 255, 233, 29, 172]
abbrev dktX3_row_3 : List UInt8 := dkwX3_row_3 ++ []
def dkwX3_row_2 : List UInt8 := [42, 180, 0, 7, 27, 28, 79, 42, 180, 0, 13, 27, 29, 79, 3, 54, 4, 21, 4, 16, 40, 162, 0, 22]
abbrev dktX3_row_2 : List UInt8 := dkwX3_row_2 ++ dktX3_row_3
def dkwX3_row_1 : List UInt8 := [29, 16, 40, 164, 0, 6, 18, 70, 172, 42, 3, 181, 0, 54, 29, 156, 0, 9, 42, 7, 182, 0, 71, 172]
abbrev dktX3_row_1 : List UInt8 := dkwX3_row_1 ++ dktX3_row_2
def dkwX3_row_0 : List UInt8 := [42, 3, 181, 0, 50, 27, 184, 0, 64, 153, 0, 21, 28, 133, 9, 20, 0, 68, 184, 0, 60, 153, 0, 9]
abbrev dktX3_row_0 : List UInt8 := dkwX3_row_0 ++ dktX3_row_1
theorem dksX3_row_0 : cX3_row.data.toList.drop 0 = dktX3_row_0 := by decide +kernel
theorem dksX3_row_1 : cX3_row.data.toList.drop 24 = dktX3_row_1 := dk_seg dksX3_row_0 24 rfl rfl
theorem dksX3_row_2 : cX3_row.data.toList.drop 48 = dktX3_row_2 := dk_seg dksX3_row_1 24 rfl rfl
theorem dksX3_row_3 : cX3_row.data.toList.drop 72 = dktX3_row_3 := dk_seg dksX3_row_2 24 rfl rfl
theorem dX3_row_0 : decode cX3_row 0 = .ok (.aload_n 0, 1) := dk_42 (dk_at dksX3_row_0 0 rfl rfl)
theorem dX3_row_1 : decode cX3_row 1 = .ok (.iconst 0, 1) := dk_3 (dk_at dksX3_row_0 1 rfl rfl)
theorem dX3_row_2 : decode cX3_row 2 = .ok (.putfield 50, 3) := dk_181 0 50 (dk_at dksX3_row_0 2 rfl rfl)
theorem dX3_row_5 : decode cX3_row 5 = .ok (.iload_n 1, 1) := dk_27 (dk_at dksX3_row_0 5 rfl rfl)
theorem dX3_row_6 : decode cX3_row 6 = .ok (.invokestatic 64, 3) := dk_184 0 64 (dk_at dksX3_row_0 6 rfl rfl)
theorem dX3_row_9 : decode cX3_row 9 = .ok (.ifCond .eq 21, 3) := dk_153 0 21 (dk_at dksX3_row_0 9 rfl rfl)
theorem dX3_row_12 : decode cX3_row 12 = .ok (.iload_n 2, 1) := dk_28 (dk_at dksX3_row_0 12 rfl rfl)
theorem dX3_row_13 : decode cX3_row 13 = .ok (.i2l, 1) := dk_133 (dk_at dksX3_row_0 13 rfl rfl)
theorem dX3_row_14 : decode cX3_row 14 = .ok (.lconst 0, 1) := dk_9 (dk_at dksX3_row_0 14 rfl rfl)
theorem dX3_row_15 : decode cX3_row 15 = .ok (.ldc2_w 68, 3) := dk_20 0 68 (dk_at dksX3_row_0 15 rfl rfl)
theorem dX3_row_18 : decode cX3_row 18 = .ok (.invokestatic 60, 3) := dk_184 0 60 (dk_at dksX3_row_0 18 rfl rfl)
theorem dX3_row_21 : decode cX3_row 21 = .ok (.ifCond .eq 9, 3) := dk_153 0 9 (dk_at dksX3_row_0 21 rfl rfl)
theorem dX3_row_24 : decode cX3_row 24 = .ok (.iload_n 3, 1) := dk_29 (dk_at dksX3_row_1 0 rfl rfl)
theorem dX3_row_25 : decode cX3_row 25 = .ok (.bipush 40, 2) := dk_16 40 (dk_at dksX3_row_1 1 rfl rfl)
theorem dX3_row_27 : decode cX3_row 27 = .ok (.if_icmp .le 6, 3) := dk_164 0 6 (dk_at dksX3_row_1 3 rfl rfl)
theorem dX3_row_30 : decode cX3_row 30 = .ok (.ldc 70, 2) := dk_18 70 (dk_at dksX3_row_1 6 rfl rfl)
theorem dX3_row_32 : decode cX3_row 32 = .ok (.ireturn, 1) := dk_172 (dk_at dksX3_row_1 8 rfl rfl)
theorem dX3_row_33 : decode cX3_row 33 = .ok (.aload_n 0, 1) := dk_42 (dk_at dksX3_row_1 9 rfl rfl)
theorem dX3_row_34 : decode cX3_row 34 = .ok (.iconst 0, 1) := dk_3 (dk_at dksX3_row_1 10 rfl rfl)
theorem dX3_row_35 : decode cX3_row 35 = .ok (.putfield 54, 3) := dk_181 0 54 (dk_at dksX3_row_1 11 rfl rfl)
theorem dX3_row_38 : decode cX3_row 38 = .ok (.iload_n 3, 1) := dk_29 (dk_at dksX3_row_1 14 rfl rfl)
theorem dX3_row_39 : decode cX3_row 39 = .ok (.ifCond .ge 9, 3) := dk_156 0 9 (dk_at dksX3_row_1 15 rfl rfl)
theorem dX3_row_42 : decode cX3_row 42 = .ok (.aload_n 0, 1) := dk_42 (dk_at dksX3_row_1 18 rfl rfl)
theorem dX3_row_43 : decode cX3_row 43 = .ok (.iconst 4, 1) := dk_7 (dk_at dksX3_row_1 19 rfl rfl)
theorem dX3_row_44 : decode cX3_row 44 = .ok (.invokevirtual 71, 3) := dk_182 0 71 (dk_at dksX3_row_1 20 rfl rfl)
theorem dX3_row_47 : decode cX3_row 47 = .ok (.ireturn, 1) := dk_172 (dk_at dksX3_row_1 23 rfl rfl)
theorem dX3_row_48 : decode cX3_row 48 = .ok (.aload_n 0, 1) := dk_42 (dk_at dksX3_row_2 0 rfl rfl)
theorem dX3_row_49 : decode cX3_row 49 = .ok (.getfield 7, 3) := dk_180 0 7 (dk_at dksX3_row_2 1 rfl rfl)
theorem dX3_row_52 : decode cX3_row 52 = .ok (.iload_n 1, 1) := dk_27 (dk_at dksX3_row_2 4 rfl rfl)
theorem dX3_row_53 : decode cX3_row 53 = .ok (.iload_n 2, 1) := dk_28 (dk_at dksX3_row_2 5 rfl rfl)
theorem dX3_row_54 : decode cX3_row 54 = .ok (.iastore, 1) := dk_79 (dk_at dksX3_row_2 6 rfl rfl)
theorem dX3_row_55 : decode cX3_row 55 = .ok (.aload_n 0, 1) := dk_42 (dk_at dksX3_row_2 7 rfl rfl)
theorem dX3_row_56 : decode cX3_row 56 = .ok (.getfield 13, 3) := dk_180 0 13 (dk_at dksX3_row_2 8 rfl rfl)
theorem dX3_row_59 : decode cX3_row 59 = .ok (.iload_n 1, 1) := dk_27 (dk_at dksX3_row_2 11 rfl rfl)
theorem dX3_row_60 : decode cX3_row 60 = .ok (.iload_n 3, 1) := dk_29 (dk_at dksX3_row_2 12 rfl rfl)
theorem dX3_row_61 : decode cX3_row 61 = .ok (.iastore, 1) := dk_79 (dk_at dksX3_row_2 13 rfl rfl)
theorem dX3_row_62 : decode cX3_row 62 = .ok (.iconst 0, 1) := dk_3 (dk_at dksX3_row_2 14 rfl rfl)
theorem dX3_row_63 : decode cX3_row 63 = .ok (.istore 4, 2) := dk_54 4 (dk_at dksX3_row_2 15 rfl rfl)
theorem dX3_row_65 : decode cX3_row 65 = .ok (.iload 4, 2) := dk_21 4 (dk_at dksX3_row_2 17 rfl rfl)
theorem dX3_row_67 : decode cX3_row 67 = .ok (.bipush 40, 2) := dk_16 40 (dk_at dksX3_row_2 19 rfl rfl)
theorem dX3_row_69 : decode cX3_row 69 = .ok (.if_icmp .ge 22, 3) := dk_162 0 22 (dk_at dksX3_row_2 21 rfl rfl)
theorem dX3_row_72 : decode cX3_row 72 = .ok (.aload_n 0, 1) := dk_42 (dk_at dksX3_row_3 0 rfl rfl)
theorem dX3_row_73 : decode cX3_row 73 = .ok (.getfield 16, 3) := dk_180 0 16 (dk_at dksX3_row_3 1 rfl rfl)
theorem dX3_row_76 : decode cX3_row 76 = .ok (.bipush 40, 2) := dk_16 40 (dk_at dksX3_row_3 4 rfl rfl)
theorem dX3_row_78 : decode cX3_row 78 = .ok (.iload_n 1, 1) := dk_27 (dk_at dksX3_row_3 6 rfl rfl)
theorem dX3_row_79 : decode cX3_row 79 = .ok (.imul, 1) := dk_104 (dk_at dksX3_row_3 7 rfl rfl)
theorem dX3_row_80 : decode cX3_row 80 = .ok (.iload 4, 2) := dk_21 4 (dk_at dksX3_row_3 8 rfl rfl)
theorem dX3_row_82 : decode cX3_row 82 = .ok (.iadd, 1) := dk_96 (dk_at dksX3_row_3 10 rfl rfl)
theorem dX3_row_83 : decode cX3_row 83 = .ok (.iconst 0, 1) := dk_3 (dk_at dksX3_row_3 11 rfl rfl)
theorem dX3_row_84 : decode cX3_row 84 = .ok (.iastore, 1) := dk_79 (dk_at dksX3_row_3 12 rfl rfl)
theorem dX3_row_85 : decode cX3_row 85 = .ok (.iinc 4 1, 3) := dk_132 4 1 (dk_at dksX3_row_3 13 rfl rfl)
theorem dX3_row_88 : decode cX3_row 88 = .ok (.goto (-23), 3) := dk_167 255 233 (dk_at dksX3_row_3 16 rfl rfl)
theorem dX3_row_91 : decode cX3_row 91 = .ok (.iload_n 3, 1) := dk_29 (dk_at dksX3_row_3 19 rfl rfl)
theorem dX3_row_92 : decode cX3_row 92 = .ok (.ireturn, 1) := dk_172 (dk_at dksX3_row_3 20 rfl rfl)
abbrev cX3_isRow : ByteArray := prog_16_method_5_code
def yX3_isRow : MethodName := ⟨RX3, "isRow", "(I)Z"⟩
def dkwX3_isRow_0 : List UInt8 := [26, 133, 9, 20, 0, 58, 184, 0, 60, 172]
abbrev dktX3_isRow_0 : List UInt8 := dkwX3_isRow_0 ++ []
theorem dksX3_isRow_0 : cX3_isRow.data.toList.drop 0 = dktX3_isRow_0 := by decide +kernel
theorem dX3_isRow_0 : decode cX3_isRow 0 = .ok (.iload_n 0, 1) := dk_26 (dk_at dksX3_isRow_0 0 rfl rfl)
theorem dX3_isRow_1 : decode cX3_isRow 1 = .ok (.i2l, 1) := dk_133 (dk_at dksX3_isRow_0 1 rfl rfl)
theorem dX3_isRow_2 : decode cX3_isRow 2 = .ok (.lconst 0, 1) := dk_9 (dk_at dksX3_isRow_0 2 rfl rfl)
theorem dX3_isRow_3 : decode cX3_isRow 3 = .ok (.ldc2_w 58, 3) := dk_20 0 58 (dk_at dksX3_isRow_0 3 rfl rfl)
theorem dX3_isRow_6 : decode cX3_isRow 6 = .ok (.invokestatic 60, 3) := dk_184 0 60 (dk_at dksX3_isRow_0 6 rfl rfl)
theorem dX3_isRow_9 : decode cX3_isRow 9 = .ok (.ireturn, 1) := dk_172 (dk_at dksX3_isRow_0 9 rfl rfl)
abbrev cX3_in : ByteArray := prog_16_method_3_code
def yX3_in : MethodName := ⟨RX3, "in", "(JJJ)Z"⟩
def dkwX3_in_0 : List UInt8 := [30, 32, 148, 155, 0, 14, 30, 22, 4, 148, 157, 0, 7, 4, 167, 0, 4, 3, 172]
abbrev dktX3_in_0 : List UInt8 := dkwX3_in_0 ++ []
theorem dksX3_in_0 : cX3_in.data.toList.drop 0 = dktX3_in_0 := by decide +kernel
theorem dX3_in_0 : decode cX3_in 0 = .ok (.lload_n 0, 1) := dk_30 (dk_at dksX3_in_0 0 rfl rfl)
theorem dX3_in_1 : decode cX3_in 1 = .ok (.lload_n 2, 1) := dk_32 (dk_at dksX3_in_0 1 rfl rfl)
theorem dX3_in_2 : decode cX3_in 2 = .ok (.lcmp, 1) := dk_148 (dk_at dksX3_in_0 2 rfl rfl)
theorem dX3_in_3 : decode cX3_in 3 = .ok (.ifCond .lt 14, 3) := dk_155 0 14 (dk_at dksX3_in_0 3 rfl rfl)
theorem dX3_in_6 : decode cX3_in 6 = .ok (.lload_n 0, 1) := dk_30 (dk_at dksX3_in_0 6 rfl rfl)
theorem dX3_in_7 : decode cX3_in 7 = .ok (.lload 4, 2) := dk_22 4 (dk_at dksX3_in_0 7 rfl rfl)
theorem dX3_in_9 : decode cX3_in 9 = .ok (.lcmp, 1) := dk_148 (dk_at dksX3_in_0 9 rfl rfl)
theorem dX3_in_10 : decode cX3_in 10 = .ok (.ifCond .gt 7, 3) := dk_157 0 7 (dk_at dksX3_in_0 10 rfl rfl)
theorem dX3_in_13 : decode cX3_in 13 = .ok (.iconst 1, 1) := dk_4 (dk_at dksX3_in_0 13 rfl rfl)
theorem dX3_in_14 : decode cX3_in 14 = .ok (.goto 4, 3) := dk_167 0 4 (dk_at dksX3_in_0 14 rfl rfl)
theorem dX3_in_17 : decode cX3_in 17 = .ok (.iconst 0, 1) := dk_3 (dk_at dksX3_in_0 17 rfl rfl)
theorem dX3_in_18 : decode cX3_in 18 = .ok (.ireturn, 1) := dk_172 (dk_at dksX3_in_0 18 rfl rfl)
abbrev cX3_finding : ByteArray := prog_16_method_4_code
def yX3_finding : MethodName := ⟨RX3, "finding", "(I)I"⟩
def dkwX3_finding_0 : List UInt8 := [42, 27, 181, 0, 54, 18, 57, 27, 100, 172]
abbrev dktX3_finding_0 : List UInt8 := dkwX3_finding_0 ++ []
theorem dksX3_finding_0 : cX3_finding.data.toList.drop 0 = dktX3_finding_0 := by decide +kernel
theorem dX3_finding_0 : decode cX3_finding 0 = .ok (.aload_n 0, 1) := dk_42 (dk_at dksX3_finding_0 0 rfl rfl)
theorem dX3_finding_1 : decode cX3_finding 1 = .ok (.iload_n 1, 1) := dk_27 (dk_at dksX3_finding_0 1 rfl rfl)
theorem dX3_finding_2 : decode cX3_finding 2 = .ok (.putfield 54, 3) := dk_181 0 54 (dk_at dksX3_finding_0 2 rfl rfl)
theorem dX3_finding_5 : decode cX3_finding 5 = .ok (.ldc 57, 2) := dk_18 57 (dk_at dksX3_finding_0 5 rfl rfl)
theorem dX3_finding_7 : decode cX3_finding 7 = .ok (.iload_n 1, 1) := dk_27 (dk_at dksX3_finding_0 7 rfl rfl)
theorem dX3_finding_8 : decode cX3_finding 8 = .ok (.isub, 1) := dk_100 (dk_at dksX3_finding_0 8 rfl rfl)
theorem dX3_finding_9 : decode cX3_finding 9 = .ok (.ireturn, 1) := dk_172 (dk_at dksX3_finding_0 9 rfl rfl)
abbrev cX3_set : ByteArray := prog_16_method_7_code
def yX3_set : MethodName := ⟨RX3, "set", "(III)I"⟩
def dkwX3_set_4 : List UInt8 := [147, 167, 0, 4, 29, 79, 42, 180, 0, 16, 16, 40, 27, 104, 28, 96, 46, 172]
abbrev dktX3_set_4 : List UInt8 := dkwX3_set_4 ++ []
def dkwX3_set_3 : List UInt8 := [180, 0, 7, 27, 46, 154, 0, 8, 29, 145, 167, 0, 19, 42, 180, 0, 7, 27, 46, 4, 160, 0, 8, 29]
abbrev dktX3_set_3 : List UInt8 := dkwX3_set_3 ++ dktX3_set_4
def dkwX3_set_2 : List UInt8 := [184, 0, 60, 154, 0, 9, 42, 5, 182, 0, 71, 172, 42, 180, 0, 16, 16, 40, 27, 104, 28, 96, 42]
abbrev dktX3_set_2 : List UInt8 := dkwX3_set_2 ++ dktX3_set_3
def dkwX3_set_1 : List UInt8 := [27, 46, 156, 0, 9, 42, 4, 182, 0, 71, 172, 28, 133, 9, 42, 180, 0, 13, 27, 46, 4, 100, 133]
abbrev dktX3_set_1 : List UInt8 := dkwX3_set_1 ++ dktX3_set_2
def dkwX3_set_0 : List UInt8 := [42, 3, 181, 0, 50, 27, 184, 0, 64, 154, 0, 6, 18, 70, 172, 42, 3, 181, 0, 54, 42, 180, 0, 7]
abbrev dktX3_set_0 : List UInt8 := dkwX3_set_0 ++ dktX3_set_1
theorem dksX3_set_0 : cX3_set.data.toList.drop 0 = dktX3_set_0 := by decide +kernel
theorem dksX3_set_1 : cX3_set.data.toList.drop 24 = dktX3_set_1 := dk_seg dksX3_set_0 24 rfl rfl
theorem dksX3_set_2 : cX3_set.data.toList.drop 47 = dktX3_set_2 := dk_seg dksX3_set_1 23 rfl rfl
theorem dksX3_set_3 : cX3_set.data.toList.drop 70 = dktX3_set_3 := dk_seg dksX3_set_2 23 rfl rfl
theorem dksX3_set_4 : cX3_set.data.toList.drop 94 = dktX3_set_4 := dk_seg dksX3_set_3 24 rfl rfl
theorem dX3_set_0 : decode cX3_set 0 = .ok (.aload_n 0, 1) := dk_42 (dk_at dksX3_set_0 0 rfl rfl)
theorem dX3_set_1 : decode cX3_set 1 = .ok (.iconst 0, 1) := dk_3 (dk_at dksX3_set_0 1 rfl rfl)
theorem dX3_set_2 : decode cX3_set 2 = .ok (.putfield 50, 3) := dk_181 0 50 (dk_at dksX3_set_0 2 rfl rfl)
theorem dX3_set_5 : decode cX3_set 5 = .ok (.iload_n 1, 1) := dk_27 (dk_at dksX3_set_0 5 rfl rfl)
theorem dX3_set_6 : decode cX3_set 6 = .ok (.invokestatic 64, 3) := dk_184 0 64 (dk_at dksX3_set_0 6 rfl rfl)
theorem dX3_set_9 : decode cX3_set 9 = .ok (.ifCond .ne 6, 3) := dk_154 0 6 (dk_at dksX3_set_0 9 rfl rfl)
theorem dX3_set_12 : decode cX3_set 12 = .ok (.ldc 70, 2) := dk_18 70 (dk_at dksX3_set_0 12 rfl rfl)
theorem dX3_set_14 : decode cX3_set 14 = .ok (.ireturn, 1) := dk_172 (dk_at dksX3_set_0 14 rfl rfl)
theorem dX3_set_15 : decode cX3_set 15 = .ok (.aload_n 0, 1) := dk_42 (dk_at dksX3_set_0 15 rfl rfl)
theorem dX3_set_16 : decode cX3_set 16 = .ok (.iconst 0, 1) := dk_3 (dk_at dksX3_set_0 16 rfl rfl)
theorem dX3_set_17 : decode cX3_set 17 = .ok (.putfield 54, 3) := dk_181 0 54 (dk_at dksX3_set_0 17 rfl rfl)
theorem dX3_set_20 : decode cX3_set 20 = .ok (.aload_n 0, 1) := dk_42 (dk_at dksX3_set_0 20 rfl rfl)
theorem dX3_set_21 : decode cX3_set 21 = .ok (.getfield 7, 3) := dk_180 0 7 (dk_at dksX3_set_0 21 rfl rfl)
theorem dX3_set_24 : decode cX3_set 24 = .ok (.iload_n 1, 1) := dk_27 (dk_at dksX3_set_1 0 rfl rfl)
theorem dX3_set_25 : decode cX3_set 25 = .ok (.iaload, 1) := dk_46 (dk_at dksX3_set_1 1 rfl rfl)
theorem dX3_set_26 : decode cX3_set 26 = .ok (.ifCond .ge 9, 3) := dk_156 0 9 (dk_at dksX3_set_1 2 rfl rfl)
theorem dX3_set_29 : decode cX3_set 29 = .ok (.aload_n 0, 1) := dk_42 (dk_at dksX3_set_1 5 rfl rfl)
theorem dX3_set_30 : decode cX3_set 30 = .ok (.iconst 1, 1) := dk_4 (dk_at dksX3_set_1 6 rfl rfl)
theorem dX3_set_31 : decode cX3_set 31 = .ok (.invokevirtual 71, 3) := dk_182 0 71 (dk_at dksX3_set_1 7 rfl rfl)
theorem dX3_set_34 : decode cX3_set 34 = .ok (.ireturn, 1) := dk_172 (dk_at dksX3_set_1 10 rfl rfl)
theorem dX3_set_35 : decode cX3_set 35 = .ok (.iload_n 2, 1) := dk_28 (dk_at dksX3_set_1 11 rfl rfl)
theorem dX3_set_36 : decode cX3_set 36 = .ok (.i2l, 1) := dk_133 (dk_at dksX3_set_1 12 rfl rfl)
theorem dX3_set_37 : decode cX3_set 37 = .ok (.lconst 0, 1) := dk_9 (dk_at dksX3_set_1 13 rfl rfl)
theorem dX3_set_38 : decode cX3_set 38 = .ok (.aload_n 0, 1) := dk_42 (dk_at dksX3_set_1 14 rfl rfl)
theorem dX3_set_39 : decode cX3_set 39 = .ok (.getfield 13, 3) := dk_180 0 13 (dk_at dksX3_set_1 15 rfl rfl)
theorem dX3_set_42 : decode cX3_set 42 = .ok (.iload_n 1, 1) := dk_27 (dk_at dksX3_set_1 18 rfl rfl)
theorem dX3_set_43 : decode cX3_set 43 = .ok (.iaload, 1) := dk_46 (dk_at dksX3_set_1 19 rfl rfl)
theorem dX3_set_44 : decode cX3_set 44 = .ok (.iconst 1, 1) := dk_4 (dk_at dksX3_set_1 20 rfl rfl)
theorem dX3_set_45 : decode cX3_set 45 = .ok (.isub, 1) := dk_100 (dk_at dksX3_set_1 21 rfl rfl)
theorem dX3_set_46 : decode cX3_set 46 = .ok (.i2l, 1) := dk_133 (dk_at dksX3_set_1 22 rfl rfl)
theorem dX3_set_47 : decode cX3_set 47 = .ok (.invokestatic 60, 3) := dk_184 0 60 (dk_at dksX3_set_2 0 rfl rfl)
theorem dX3_set_50 : decode cX3_set 50 = .ok (.ifCond .ne 9, 3) := dk_154 0 9 (dk_at dksX3_set_2 3 rfl rfl)
theorem dX3_set_53 : decode cX3_set 53 = .ok (.aload_n 0, 1) := dk_42 (dk_at dksX3_set_2 6 rfl rfl)
theorem dX3_set_54 : decode cX3_set 54 = .ok (.iconst 2, 1) := dk_5 (dk_at dksX3_set_2 7 rfl rfl)
theorem dX3_set_55 : decode cX3_set 55 = .ok (.invokevirtual 71, 3) := dk_182 0 71 (dk_at dksX3_set_2 8 rfl rfl)
theorem dX3_set_58 : decode cX3_set 58 = .ok (.ireturn, 1) := dk_172 (dk_at dksX3_set_2 11 rfl rfl)
theorem dX3_set_59 : decode cX3_set 59 = .ok (.aload_n 0, 1) := dk_42 (dk_at dksX3_set_2 12 rfl rfl)
theorem dX3_set_60 : decode cX3_set 60 = .ok (.getfield 16, 3) := dk_180 0 16 (dk_at dksX3_set_2 13 rfl rfl)
theorem dX3_set_63 : decode cX3_set 63 = .ok (.bipush 40, 2) := dk_16 40 (dk_at dksX3_set_2 16 rfl rfl)
theorem dX3_set_65 : decode cX3_set 65 = .ok (.iload_n 1, 1) := dk_27 (dk_at dksX3_set_2 18 rfl rfl)
theorem dX3_set_66 : decode cX3_set 66 = .ok (.imul, 1) := dk_104 (dk_at dksX3_set_2 19 rfl rfl)
theorem dX3_set_67 : decode cX3_set 67 = .ok (.iload_n 2, 1) := dk_28 (dk_at dksX3_set_2 20 rfl rfl)
theorem dX3_set_68 : decode cX3_set 68 = .ok (.iadd, 1) := dk_96 (dk_at dksX3_set_2 21 rfl rfl)
theorem dX3_set_69 : decode cX3_set 69 = .ok (.aload_n 0, 1) := dk_42 (dk_at dksX3_set_2 22 rfl rfl)
theorem dX3_set_70 : decode cX3_set 70 = .ok (.getfield 7, 3) := dk_180 0 7 (dk_at dksX3_set_3 0 rfl rfl)
theorem dX3_set_73 : decode cX3_set 73 = .ok (.iload_n 1, 1) := dk_27 (dk_at dksX3_set_3 3 rfl rfl)
theorem dX3_set_74 : decode cX3_set 74 = .ok (.iaload, 1) := dk_46 (dk_at dksX3_set_3 4 rfl rfl)
theorem dX3_set_75 : decode cX3_set 75 = .ok (.ifCond .ne 8, 3) := dk_154 0 8 (dk_at dksX3_set_3 5 rfl rfl)
theorem dX3_set_78 : decode cX3_set 78 = .ok (.iload_n 3, 1) := dk_29 (dk_at dksX3_set_3 8 rfl rfl)
theorem dX3_set_79 : decode cX3_set 79 = .ok (.i2b, 1) := dk_145 (dk_at dksX3_set_3 9 rfl rfl)
theorem dX3_set_80 : decode cX3_set 80 = .ok (.goto 19, 3) := dk_167 0 19 (dk_at dksX3_set_3 10 rfl rfl)
theorem dX3_set_83 : decode cX3_set 83 = .ok (.aload_n 0, 1) := dk_42 (dk_at dksX3_set_3 13 rfl rfl)
theorem dX3_set_84 : decode cX3_set 84 = .ok (.getfield 7, 3) := dk_180 0 7 (dk_at dksX3_set_3 14 rfl rfl)
theorem dX3_set_87 : decode cX3_set 87 = .ok (.iload_n 1, 1) := dk_27 (dk_at dksX3_set_3 17 rfl rfl)
theorem dX3_set_88 : decode cX3_set 88 = .ok (.iaload, 1) := dk_46 (dk_at dksX3_set_3 18 rfl rfl)
theorem dX3_set_89 : decode cX3_set 89 = .ok (.iconst 1, 1) := dk_4 (dk_at dksX3_set_3 19 rfl rfl)
theorem dX3_set_90 : decode cX3_set 90 = .ok (.if_icmp .ne 8, 3) := dk_160 0 8 (dk_at dksX3_set_3 20 rfl rfl)
theorem dX3_set_93 : decode cX3_set 93 = .ok (.iload_n 3, 1) := dk_29 (dk_at dksX3_set_3 23 rfl rfl)
theorem dX3_set_94 : decode cX3_set 94 = .ok (.i2s, 1) := dk_147 (dk_at dksX3_set_4 0 rfl rfl)
theorem dX3_set_95 : decode cX3_set 95 = .ok (.goto 4, 3) := dk_167 0 4 (dk_at dksX3_set_4 1 rfl rfl)
theorem dX3_set_98 : decode cX3_set 98 = .ok (.iload_n 3, 1) := dk_29 (dk_at dksX3_set_4 4 rfl rfl)
theorem dX3_set_99 : decode cX3_set 99 = .ok (.iastore, 1) := dk_79 (dk_at dksX3_set_4 5 rfl rfl)
theorem dX3_set_100 : decode cX3_set 100 = .ok (.aload_n 0, 1) := dk_42 (dk_at dksX3_set_4 6 rfl rfl)
theorem dX3_set_101 : decode cX3_set 101 = .ok (.getfield 16, 3) := dk_180 0 16 (dk_at dksX3_set_4 7 rfl rfl)
theorem dX3_set_104 : decode cX3_set 104 = .ok (.bipush 40, 2) := dk_16 40 (dk_at dksX3_set_4 10 rfl rfl)
theorem dX3_set_106 : decode cX3_set 106 = .ok (.iload_n 1, 1) := dk_27 (dk_at dksX3_set_4 12 rfl rfl)
theorem dX3_set_107 : decode cX3_set 107 = .ok (.imul, 1) := dk_104 (dk_at dksX3_set_4 13 rfl rfl)
theorem dX3_set_108 : decode cX3_set 108 = .ok (.iload_n 2, 1) := dk_28 (dk_at dksX3_set_4 14 rfl rfl)
theorem dX3_set_109 : decode cX3_set 109 = .ok (.iadd, 1) := dk_96 (dk_at dksX3_set_4 15 rfl rfl)
theorem dX3_set_110 : decode cX3_set 110 = .ok (.iaload, 1) := dk_46 (dk_at dksX3_set_4 16 rfl rfl)
theorem dX3_set_111 : decode cX3_set 111 = .ok (.ireturn, 1) := dk_172 (dk_at dksX3_set_4 17 rfl rfl)
abbrev cX3_copy : ByteArray := prog_16_method_8_code
def yX3_copy : MethodName := ⟨RX3, "copy", "(IIIII)I"⟩
def dkwX3_copy_8 : List UInt8 := [16, 40, 27, 104, 28, 96, 21, 8, 96, 46, 79, 132, 7, 1, 167, 255, 198, 21, 5, 172]
abbrev dktX3_copy_8 : List UInt8 := dkwX3_copy_8 ++ []
def dkwX3_copy_7 : List UInt8 := [21, 7, 100, 54, 8, 42, 180, 0, 16, 16, 40, 29, 104, 21, 4, 96, 21, 8, 96, 42, 180, 0, 16]
abbrev dktX3_copy_7 : List UInt8 := dkwX3_copy_7 ++ dktX3_copy_8
def dkwX3_copy_6 : List UInt8 := [54, 7, 21, 7, 21, 5, 162, 0, 57, 21, 6, 153, 0, 8, 21, 7, 167, 0, 10, 21, 5, 4, 100]
abbrev dktX3_copy_6 : List UInt8 := dkwX3_copy_6 ++ dktX3_copy_7
def dkwX3_copy_5 : List UInt8 := [148, 158, 0, 9, 42, 5, 182, 0, 71, 172, 28, 21, 4, 161, 0, 7, 4, 167, 0, 4, 3, 54, 6, 3]
abbrev dktX3_copy_5 : List UInt8 := dkwX3_copy_5 ++ dktX3_copy_6
def dkwX3_copy_4 : List UInt8 := [180, 0, 13, 27, 46, 133, 148, 157, 0, 21, 21, 4, 133, 21, 5, 133, 97, 42, 180, 0, 13, 29, 46, 133]
abbrev dktX3_copy_4 : List UInt8 := dkwX3_copy_4 ++ dktX3_copy_5
def dkwX3_copy_3 : List UInt8 := [172, 28, 155, 0, 48, 21, 4, 155, 0, 43, 21, 5, 155, 0, 38, 28, 133, 21, 5, 133, 97, 42]
abbrev dktX3_copy_3 : List UInt8 := dkwX3_copy_3 ++ dktX3_copy_4
def dkwX3_copy_2 : List UInt8 := [182, 0, 71, 172, 42, 180, 0, 7, 27, 46, 42, 180, 0, 7, 29, 46, 159, 0, 9, 42, 8, 182, 0, 71]
abbrev dktX3_copy_2 : List UInt8 := dkwX3_copy_2 ++ dktX3_copy_3
def dkwX3_copy_1 : List UInt8 := [181, 0, 54, 42, 180, 0, 7, 27, 46, 155, 0, 12, 42, 180, 0, 7, 29, 46, 156, 0, 9, 42, 4]
abbrev dktX3_copy_1 : List UInt8 := dkwX3_copy_1 ++ dktX3_copy_2
def dkwX3_copy_0 : List UInt8 := [42, 3, 181, 0, 50, 27, 184, 0, 64, 153, 0, 10, 29, 184, 0, 64, 154, 0, 6, 18, 70, 172, 42, 3]
abbrev dktX3_copy_0 : List UInt8 := dkwX3_copy_0 ++ dktX3_copy_1
theorem dksX3_copy_0 : cX3_copy.data.toList.drop 0 = dktX3_copy_0 := by decide +kernel
theorem dksX3_copy_1 : cX3_copy.data.toList.drop 24 = dktX3_copy_1 := dk_seg dksX3_copy_0 24 rfl rfl
theorem dksX3_copy_2 : cX3_copy.data.toList.drop 47 = dktX3_copy_2 := dk_seg dksX3_copy_1 23 rfl rfl
theorem dksX3_copy_3 : cX3_copy.data.toList.drop 71 = dktX3_copy_3 := dk_seg dksX3_copy_2 24 rfl rfl
theorem dksX3_copy_4 : cX3_copy.data.toList.drop 93 = dktX3_copy_4 := dk_seg dksX3_copy_3 22 rfl rfl
theorem dksX3_copy_5 : cX3_copy.data.toList.drop 117 = dktX3_copy_5 := dk_seg dksX3_copy_4 24 rfl rfl
theorem dksX3_copy_6 : cX3_copy.data.toList.drop 141 = dktX3_copy_6 := dk_seg dksX3_copy_5 24 rfl rfl
theorem dksX3_copy_7 : cX3_copy.data.toList.drop 164 = dktX3_copy_7 := dk_seg dksX3_copy_6 23 rfl rfl
theorem dksX3_copy_8 : cX3_copy.data.toList.drop 187 = dktX3_copy_8 := dk_seg dksX3_copy_7 23 rfl rfl
theorem dX3_copy_0 : decode cX3_copy 0 = .ok (.aload_n 0, 1) := dk_42 (dk_at dksX3_copy_0 0 rfl rfl)
theorem dX3_copy_1 : decode cX3_copy 1 = .ok (.iconst 0, 1) := dk_3 (dk_at dksX3_copy_0 1 rfl rfl)
theorem dX3_copy_2 : decode cX3_copy 2 = .ok (.putfield 50, 3) := dk_181 0 50 (dk_at dksX3_copy_0 2 rfl rfl)
theorem dX3_copy_5 : decode cX3_copy 5 = .ok (.iload_n 1, 1) := dk_27 (dk_at dksX3_copy_0 5 rfl rfl)
theorem dX3_copy_6 : decode cX3_copy 6 = .ok (.invokestatic 64, 3) := dk_184 0 64 (dk_at dksX3_copy_0 6 rfl rfl)
theorem dX3_copy_9 : decode cX3_copy 9 = .ok (.ifCond .eq 10, 3) := dk_153 0 10 (dk_at dksX3_copy_0 9 rfl rfl)
theorem dX3_copy_12 : decode cX3_copy 12 = .ok (.iload_n 3, 1) := dk_29 (dk_at dksX3_copy_0 12 rfl rfl)
theorem dX3_copy_13 : decode cX3_copy 13 = .ok (.invokestatic 64, 3) := dk_184 0 64 (dk_at dksX3_copy_0 13 rfl rfl)
theorem dX3_copy_16 : decode cX3_copy 16 = .ok (.ifCond .ne 6, 3) := dk_154 0 6 (dk_at dksX3_copy_0 16 rfl rfl)
theorem dX3_copy_19 : decode cX3_copy 19 = .ok (.ldc 70, 2) := dk_18 70 (dk_at dksX3_copy_0 19 rfl rfl)
theorem dX3_copy_21 : decode cX3_copy 21 = .ok (.ireturn, 1) := dk_172 (dk_at dksX3_copy_0 21 rfl rfl)
theorem dX3_copy_22 : decode cX3_copy 22 = .ok (.aload_n 0, 1) := dk_42 (dk_at dksX3_copy_0 22 rfl rfl)
theorem dX3_copy_23 : decode cX3_copy 23 = .ok (.iconst 0, 1) := dk_3 (dk_at dksX3_copy_0 23 rfl rfl)
theorem dX3_copy_24 : decode cX3_copy 24 = .ok (.putfield 54, 3) := dk_181 0 54 (dk_at dksX3_copy_1 0 rfl rfl)
theorem dX3_copy_27 : decode cX3_copy 27 = .ok (.aload_n 0, 1) := dk_42 (dk_at dksX3_copy_1 3 rfl rfl)
theorem dX3_copy_28 : decode cX3_copy 28 = .ok (.getfield 7, 3) := dk_180 0 7 (dk_at dksX3_copy_1 4 rfl rfl)
theorem dX3_copy_31 : decode cX3_copy 31 = .ok (.iload_n 1, 1) := dk_27 (dk_at dksX3_copy_1 7 rfl rfl)
theorem dX3_copy_32 : decode cX3_copy 32 = .ok (.iaload, 1) := dk_46 (dk_at dksX3_copy_1 8 rfl rfl)
theorem dX3_copy_33 : decode cX3_copy 33 = .ok (.ifCond .lt 12, 3) := dk_155 0 12 (dk_at dksX3_copy_1 9 rfl rfl)
theorem dX3_copy_36 : decode cX3_copy 36 = .ok (.aload_n 0, 1) := dk_42 (dk_at dksX3_copy_1 12 rfl rfl)
theorem dX3_copy_37 : decode cX3_copy 37 = .ok (.getfield 7, 3) := dk_180 0 7 (dk_at dksX3_copy_1 13 rfl rfl)
theorem dX3_copy_40 : decode cX3_copy 40 = .ok (.iload_n 3, 1) := dk_29 (dk_at dksX3_copy_1 16 rfl rfl)
theorem dX3_copy_41 : decode cX3_copy 41 = .ok (.iaload, 1) := dk_46 (dk_at dksX3_copy_1 17 rfl rfl)
theorem dX3_copy_42 : decode cX3_copy 42 = .ok (.ifCond .ge 9, 3) := dk_156 0 9 (dk_at dksX3_copy_1 18 rfl rfl)
theorem dX3_copy_45 : decode cX3_copy 45 = .ok (.aload_n 0, 1) := dk_42 (dk_at dksX3_copy_1 21 rfl rfl)
theorem dX3_copy_46 : decode cX3_copy 46 = .ok (.iconst 1, 1) := dk_4 (dk_at dksX3_copy_1 22 rfl rfl)
theorem dX3_copy_47 : decode cX3_copy 47 = .ok (.invokevirtual 71, 3) := dk_182 0 71 (dk_at dksX3_copy_2 0 rfl rfl)
theorem dX3_copy_50 : decode cX3_copy 50 = .ok (.ireturn, 1) := dk_172 (dk_at dksX3_copy_2 3 rfl rfl)
theorem dX3_copy_51 : decode cX3_copy 51 = .ok (.aload_n 0, 1) := dk_42 (dk_at dksX3_copy_2 4 rfl rfl)
theorem dX3_copy_52 : decode cX3_copy 52 = .ok (.getfield 7, 3) := dk_180 0 7 (dk_at dksX3_copy_2 5 rfl rfl)
theorem dX3_copy_55 : decode cX3_copy 55 = .ok (.iload_n 1, 1) := dk_27 (dk_at dksX3_copy_2 8 rfl rfl)
theorem dX3_copy_56 : decode cX3_copy 56 = .ok (.iaload, 1) := dk_46 (dk_at dksX3_copy_2 9 rfl rfl)
theorem dX3_copy_57 : decode cX3_copy 57 = .ok (.aload_n 0, 1) := dk_42 (dk_at dksX3_copy_2 10 rfl rfl)
theorem dX3_copy_58 : decode cX3_copy 58 = .ok (.getfield 7, 3) := dk_180 0 7 (dk_at dksX3_copy_2 11 rfl rfl)
theorem dX3_copy_61 : decode cX3_copy 61 = .ok (.iload_n 3, 1) := dk_29 (dk_at dksX3_copy_2 14 rfl rfl)
theorem dX3_copy_62 : decode cX3_copy 62 = .ok (.iaload, 1) := dk_46 (dk_at dksX3_copy_2 15 rfl rfl)
theorem dX3_copy_63 : decode cX3_copy 63 = .ok (.if_icmp .eq 9, 3) := dk_159 0 9 (dk_at dksX3_copy_2 16 rfl rfl)
theorem dX3_copy_66 : decode cX3_copy 66 = .ok (.aload_n 0, 1) := dk_42 (dk_at dksX3_copy_2 19 rfl rfl)
theorem dX3_copy_67 : decode cX3_copy 67 = .ok (.iconst 5, 1) := dk_8 (dk_at dksX3_copy_2 20 rfl rfl)
theorem dX3_copy_68 : decode cX3_copy 68 = .ok (.invokevirtual 71, 3) := dk_182 0 71 (dk_at dksX3_copy_2 21 rfl rfl)
theorem dX3_copy_71 : decode cX3_copy 71 = .ok (.ireturn, 1) := dk_172 (dk_at dksX3_copy_3 0 rfl rfl)
theorem dX3_copy_72 : decode cX3_copy 72 = .ok (.iload_n 2, 1) := dk_28 (dk_at dksX3_copy_3 1 rfl rfl)
theorem dX3_copy_73 : decode cX3_copy 73 = .ok (.ifCond .lt 48, 3) := dk_155 0 48 (dk_at dksX3_copy_3 2 rfl rfl)
theorem dX3_copy_76 : decode cX3_copy 76 = .ok (.iload 4, 2) := dk_21 4 (dk_at dksX3_copy_3 5 rfl rfl)
theorem dX3_copy_78 : decode cX3_copy 78 = .ok (.ifCond .lt 43, 3) := dk_155 0 43 (dk_at dksX3_copy_3 7 rfl rfl)
theorem dX3_copy_81 : decode cX3_copy 81 = .ok (.iload 5, 2) := dk_21 5 (dk_at dksX3_copy_3 10 rfl rfl)
theorem dX3_copy_83 : decode cX3_copy 83 = .ok (.ifCond .lt 38, 3) := dk_155 0 38 (dk_at dksX3_copy_3 12 rfl rfl)
theorem dX3_copy_86 : decode cX3_copy 86 = .ok (.iload_n 2, 1) := dk_28 (dk_at dksX3_copy_3 15 rfl rfl)
theorem dX3_copy_87 : decode cX3_copy 87 = .ok (.i2l, 1) := dk_133 (dk_at dksX3_copy_3 16 rfl rfl)
theorem dX3_copy_88 : decode cX3_copy 88 = .ok (.iload 5, 2) := dk_21 5 (dk_at dksX3_copy_3 17 rfl rfl)
theorem dX3_copy_90 : decode cX3_copy 90 = .ok (.i2l, 1) := dk_133 (dk_at dksX3_copy_3 19 rfl rfl)
theorem dX3_copy_91 : decode cX3_copy 91 = .ok (.ladd, 1) := dk_97 (dk_at dksX3_copy_3 20 rfl rfl)
theorem dX3_copy_92 : decode cX3_copy 92 = .ok (.aload_n 0, 1) := dk_42 (dk_at dksX3_copy_3 21 rfl rfl)
theorem dX3_copy_93 : decode cX3_copy 93 = .ok (.getfield 13, 3) := dk_180 0 13 (dk_at dksX3_copy_4 0 rfl rfl)
theorem dX3_copy_96 : decode cX3_copy 96 = .ok (.iload_n 1, 1) := dk_27 (dk_at dksX3_copy_4 3 rfl rfl)
theorem dX3_copy_97 : decode cX3_copy 97 = .ok (.iaload, 1) := dk_46 (dk_at dksX3_copy_4 4 rfl rfl)
theorem dX3_copy_98 : decode cX3_copy 98 = .ok (.i2l, 1) := dk_133 (dk_at dksX3_copy_4 5 rfl rfl)
theorem dX3_copy_99 : decode cX3_copy 99 = .ok (.lcmp, 1) := dk_148 (dk_at dksX3_copy_4 6 rfl rfl)
theorem dX3_copy_100 : decode cX3_copy 100 = .ok (.ifCond .gt 21, 3) := dk_157 0 21 (dk_at dksX3_copy_4 7 rfl rfl)
theorem dX3_copy_103 : decode cX3_copy 103 = .ok (.iload 4, 2) := dk_21 4 (dk_at dksX3_copy_4 10 rfl rfl)
theorem dX3_copy_105 : decode cX3_copy 105 = .ok (.i2l, 1) := dk_133 (dk_at dksX3_copy_4 12 rfl rfl)
theorem dX3_copy_106 : decode cX3_copy 106 = .ok (.iload 5, 2) := dk_21 5 (dk_at dksX3_copy_4 13 rfl rfl)
theorem dX3_copy_108 : decode cX3_copy 108 = .ok (.i2l, 1) := dk_133 (dk_at dksX3_copy_4 15 rfl rfl)
theorem dX3_copy_109 : decode cX3_copy 109 = .ok (.ladd, 1) := dk_97 (dk_at dksX3_copy_4 16 rfl rfl)
theorem dX3_copy_110 : decode cX3_copy 110 = .ok (.aload_n 0, 1) := dk_42 (dk_at dksX3_copy_4 17 rfl rfl)
theorem dX3_copy_111 : decode cX3_copy 111 = .ok (.getfield 13, 3) := dk_180 0 13 (dk_at dksX3_copy_4 18 rfl rfl)
theorem dX3_copy_114 : decode cX3_copy 114 = .ok (.iload_n 3, 1) := dk_29 (dk_at dksX3_copy_4 21 rfl rfl)
theorem dX3_copy_115 : decode cX3_copy 115 = .ok (.iaload, 1) := dk_46 (dk_at dksX3_copy_4 22 rfl rfl)
theorem dX3_copy_116 : decode cX3_copy 116 = .ok (.i2l, 1) := dk_133 (dk_at dksX3_copy_4 23 rfl rfl)
theorem dX3_copy_117 : decode cX3_copy 117 = .ok (.lcmp, 1) := dk_148 (dk_at dksX3_copy_5 0 rfl rfl)
theorem dX3_copy_118 : decode cX3_copy 118 = .ok (.ifCond .le 9, 3) := dk_158 0 9 (dk_at dksX3_copy_5 1 rfl rfl)
theorem dX3_copy_121 : decode cX3_copy 121 = .ok (.aload_n 0, 1) := dk_42 (dk_at dksX3_copy_5 4 rfl rfl)
theorem dX3_copy_122 : decode cX3_copy 122 = .ok (.iconst 2, 1) := dk_5 (dk_at dksX3_copy_5 5 rfl rfl)
theorem dX3_copy_123 : decode cX3_copy 123 = .ok (.invokevirtual 71, 3) := dk_182 0 71 (dk_at dksX3_copy_5 6 rfl rfl)
theorem dX3_copy_126 : decode cX3_copy 126 = .ok (.ireturn, 1) := dk_172 (dk_at dksX3_copy_5 9 rfl rfl)
theorem dX3_copy_127 : decode cX3_copy 127 = .ok (.iload_n 2, 1) := dk_28 (dk_at dksX3_copy_5 10 rfl rfl)
theorem dX3_copy_128 : decode cX3_copy 128 = .ok (.iload 4, 2) := dk_21 4 (dk_at dksX3_copy_5 11 rfl rfl)
theorem dX3_copy_130 : decode cX3_copy 130 = .ok (.if_icmp .lt 7, 3) := dk_161 0 7 (dk_at dksX3_copy_5 13 rfl rfl)
theorem dX3_copy_133 : decode cX3_copy 133 = .ok (.iconst 1, 1) := dk_4 (dk_at dksX3_copy_5 16 rfl rfl)
theorem dX3_copy_134 : decode cX3_copy 134 = .ok (.goto 4, 3) := dk_167 0 4 (dk_at dksX3_copy_5 17 rfl rfl)
theorem dX3_copy_137 : decode cX3_copy 137 = .ok (.iconst 0, 1) := dk_3 (dk_at dksX3_copy_5 20 rfl rfl)
theorem dX3_copy_138 : decode cX3_copy 138 = .ok (.istore 6, 2) := dk_54 6 (dk_at dksX3_copy_5 21 rfl rfl)
theorem dX3_copy_140 : decode cX3_copy 140 = .ok (.iconst 0, 1) := dk_3 (dk_at dksX3_copy_5 23 rfl rfl)
theorem dX3_copy_141 : decode cX3_copy 141 = .ok (.istore 7, 2) := dk_54 7 (dk_at dksX3_copy_6 0 rfl rfl)
theorem dX3_copy_143 : decode cX3_copy 143 = .ok (.iload 7, 2) := dk_21 7 (dk_at dksX3_copy_6 2 rfl rfl)
theorem dX3_copy_145 : decode cX3_copy 145 = .ok (.iload 5, 2) := dk_21 5 (dk_at dksX3_copy_6 4 rfl rfl)
theorem dX3_copy_147 : decode cX3_copy 147 = .ok (.if_icmp .ge 57, 3) := dk_162 0 57 (dk_at dksX3_copy_6 6 rfl rfl)
theorem dX3_copy_150 : decode cX3_copy 150 = .ok (.iload 6, 2) := dk_21 6 (dk_at dksX3_copy_6 9 rfl rfl)
theorem dX3_copy_152 : decode cX3_copy 152 = .ok (.ifCond .eq 8, 3) := dk_153 0 8 (dk_at dksX3_copy_6 11 rfl rfl)
theorem dX3_copy_155 : decode cX3_copy 155 = .ok (.iload 7, 2) := dk_21 7 (dk_at dksX3_copy_6 14 rfl rfl)
theorem dX3_copy_157 : decode cX3_copy 157 = .ok (.goto 10, 3) := dk_167 0 10 (dk_at dksX3_copy_6 16 rfl rfl)
theorem dX3_copy_160 : decode cX3_copy 160 = .ok (.iload 5, 2) := dk_21 5 (dk_at dksX3_copy_6 19 rfl rfl)
theorem dX3_copy_162 : decode cX3_copy 162 = .ok (.iconst 1, 1) := dk_4 (dk_at dksX3_copy_6 21 rfl rfl)
theorem dX3_copy_163 : decode cX3_copy 163 = .ok (.isub, 1) := dk_100 (dk_at dksX3_copy_6 22 rfl rfl)
theorem dX3_copy_164 : decode cX3_copy 164 = .ok (.iload 7, 2) := dk_21 7 (dk_at dksX3_copy_7 0 rfl rfl)
theorem dX3_copy_166 : decode cX3_copy 166 = .ok (.isub, 1) := dk_100 (dk_at dksX3_copy_7 2 rfl rfl)
theorem dX3_copy_167 : decode cX3_copy 167 = .ok (.istore 8, 2) := dk_54 8 (dk_at dksX3_copy_7 3 rfl rfl)
theorem dX3_copy_169 : decode cX3_copy 169 = .ok (.aload_n 0, 1) := dk_42 (dk_at dksX3_copy_7 5 rfl rfl)
theorem dX3_copy_170 : decode cX3_copy 170 = .ok (.getfield 16, 3) := dk_180 0 16 (dk_at dksX3_copy_7 6 rfl rfl)
theorem dX3_copy_173 : decode cX3_copy 173 = .ok (.bipush 40, 2) := dk_16 40 (dk_at dksX3_copy_7 9 rfl rfl)
theorem dX3_copy_175 : decode cX3_copy 175 = .ok (.iload_n 3, 1) := dk_29 (dk_at dksX3_copy_7 11 rfl rfl)
theorem dX3_copy_176 : decode cX3_copy 176 = .ok (.imul, 1) := dk_104 (dk_at dksX3_copy_7 12 rfl rfl)
theorem dX3_copy_177 : decode cX3_copy 177 = .ok (.iload 4, 2) := dk_21 4 (dk_at dksX3_copy_7 13 rfl rfl)
theorem dX3_copy_179 : decode cX3_copy 179 = .ok (.iadd, 1) := dk_96 (dk_at dksX3_copy_7 15 rfl rfl)
theorem dX3_copy_180 : decode cX3_copy 180 = .ok (.iload 8, 2) := dk_21 8 (dk_at dksX3_copy_7 16 rfl rfl)
theorem dX3_copy_182 : decode cX3_copy 182 = .ok (.iadd, 1) := dk_96 (dk_at dksX3_copy_7 18 rfl rfl)
theorem dX3_copy_183 : decode cX3_copy 183 = .ok (.aload_n 0, 1) := dk_42 (dk_at dksX3_copy_7 19 rfl rfl)
theorem dX3_copy_184 : decode cX3_copy 184 = .ok (.getfield 16, 3) := dk_180 0 16 (dk_at dksX3_copy_7 20 rfl rfl)
theorem dX3_copy_187 : decode cX3_copy 187 = .ok (.bipush 40, 2) := dk_16 40 (dk_at dksX3_copy_8 0 rfl rfl)
theorem dX3_copy_189 : decode cX3_copy 189 = .ok (.iload_n 1, 1) := dk_27 (dk_at dksX3_copy_8 2 rfl rfl)
theorem dX3_copy_190 : decode cX3_copy 190 = .ok (.imul, 1) := dk_104 (dk_at dksX3_copy_8 3 rfl rfl)
theorem dX3_copy_191 : decode cX3_copy 191 = .ok (.iload_n 2, 1) := dk_28 (dk_at dksX3_copy_8 4 rfl rfl)
theorem dX3_copy_192 : decode cX3_copy 192 = .ok (.iadd, 1) := dk_96 (dk_at dksX3_copy_8 5 rfl rfl)
theorem dX3_copy_193 : decode cX3_copy 193 = .ok (.iload 8, 2) := dk_21 8 (dk_at dksX3_copy_8 6 rfl rfl)
theorem dX3_copy_195 : decode cX3_copy 195 = .ok (.iadd, 1) := dk_96 (dk_at dksX3_copy_8 8 rfl rfl)
theorem dX3_copy_196 : decode cX3_copy 196 = .ok (.iaload, 1) := dk_46 (dk_at dksX3_copy_8 9 rfl rfl)
theorem dX3_copy_197 : decode cX3_copy 197 = .ok (.iastore, 1) := dk_79 (dk_at dksX3_copy_8 10 rfl rfl)
theorem dX3_copy_198 : decode cX3_copy 198 = .ok (.iinc 7 1, 3) := dk_132 7 1 (dk_at dksX3_copy_8 11 rfl rfl)
theorem dX3_copy_201 : decode cX3_copy 201 = .ok (.goto (-58), 3) := dk_167 255 198 (dk_at dksX3_copy_8 14 rfl rfl)
theorem dX3_copy_204 : decode cX3_copy 204 = .ok (.iload 5, 2) := dk_21 5 (dk_at dksX3_copy_8 17 rfl rfl)
theorem dX3_copy_206 : decode cX3_copy 206 = .ok (.ireturn, 1) := dk_172 (dk_at dksX3_copy_8 19 rfl rfl)
abbrev cX3_drop : ByteArray := prog_16_method_9_code
def yX3_drop : MethodName := ⟨RX3, "drop", "(I)I"⟩
def dkwX3_drop_2 : List UInt8 := [172]
abbrev dktX3_drop_2 : List UInt8 := dkwX3_drop_2 ++ []
def dkwX3_drop_1 : List UInt8 := [27, 46, 156, 0, 9, 42, 4, 182, 0, 71, 172, 42, 180, 0, 7, 27, 2, 79, 42, 180, 0, 13, 27, 46]
abbrev dktX3_drop_1 : List UInt8 := dkwX3_drop_1 ++ dktX3_drop_2
def dkwX3_drop_0 : List UInt8 := [42, 3, 181, 0, 50, 27, 184, 0, 64, 154, 0, 6, 18, 70, 172, 42, 3, 181, 0, 54, 42, 180, 0, 7]
abbrev dktX3_drop_0 : List UInt8 := dkwX3_drop_0 ++ dktX3_drop_1
theorem dksX3_drop_0 : cX3_drop.data.toList.drop 0 = dktX3_drop_0 := by decide +kernel
theorem dksX3_drop_1 : cX3_drop.data.toList.drop 24 = dktX3_drop_1 := dk_seg dksX3_drop_0 24 rfl rfl
theorem dksX3_drop_2 : cX3_drop.data.toList.drop 48 = dktX3_drop_2 := dk_seg dksX3_drop_1 24 rfl rfl
theorem dX3_drop_0 : decode cX3_drop 0 = .ok (.aload_n 0, 1) := dk_42 (dk_at dksX3_drop_0 0 rfl rfl)
theorem dX3_drop_1 : decode cX3_drop 1 = .ok (.iconst 0, 1) := dk_3 (dk_at dksX3_drop_0 1 rfl rfl)
theorem dX3_drop_2 : decode cX3_drop 2 = .ok (.putfield 50, 3) := dk_181 0 50 (dk_at dksX3_drop_0 2 rfl rfl)
theorem dX3_drop_5 : decode cX3_drop 5 = .ok (.iload_n 1, 1) := dk_27 (dk_at dksX3_drop_0 5 rfl rfl)
theorem dX3_drop_6 : decode cX3_drop 6 = .ok (.invokestatic 64, 3) := dk_184 0 64 (dk_at dksX3_drop_0 6 rfl rfl)
theorem dX3_drop_9 : decode cX3_drop 9 = .ok (.ifCond .ne 6, 3) := dk_154 0 6 (dk_at dksX3_drop_0 9 rfl rfl)
theorem dX3_drop_12 : decode cX3_drop 12 = .ok (.ldc 70, 2) := dk_18 70 (dk_at dksX3_drop_0 12 rfl rfl)
theorem dX3_drop_14 : decode cX3_drop 14 = .ok (.ireturn, 1) := dk_172 (dk_at dksX3_drop_0 14 rfl rfl)
theorem dX3_drop_15 : decode cX3_drop 15 = .ok (.aload_n 0, 1) := dk_42 (dk_at dksX3_drop_0 15 rfl rfl)
theorem dX3_drop_16 : decode cX3_drop 16 = .ok (.iconst 0, 1) := dk_3 (dk_at dksX3_drop_0 16 rfl rfl)
theorem dX3_drop_17 : decode cX3_drop 17 = .ok (.putfield 54, 3) := dk_181 0 54 (dk_at dksX3_drop_0 17 rfl rfl)
theorem dX3_drop_20 : decode cX3_drop 20 = .ok (.aload_n 0, 1) := dk_42 (dk_at dksX3_drop_0 20 rfl rfl)
theorem dX3_drop_21 : decode cX3_drop 21 = .ok (.getfield 7, 3) := dk_180 0 7 (dk_at dksX3_drop_0 21 rfl rfl)
theorem dX3_drop_24 : decode cX3_drop 24 = .ok (.iload_n 1, 1) := dk_27 (dk_at dksX3_drop_1 0 rfl rfl)
theorem dX3_drop_25 : decode cX3_drop 25 = .ok (.iaload, 1) := dk_46 (dk_at dksX3_drop_1 1 rfl rfl)
theorem dX3_drop_26 : decode cX3_drop 26 = .ok (.ifCond .ge 9, 3) := dk_156 0 9 (dk_at dksX3_drop_1 2 rfl rfl)
theorem dX3_drop_29 : decode cX3_drop 29 = .ok (.aload_n 0, 1) := dk_42 (dk_at dksX3_drop_1 5 rfl rfl)
theorem dX3_drop_30 : decode cX3_drop 30 = .ok (.iconst 1, 1) := dk_4 (dk_at dksX3_drop_1 6 rfl rfl)
theorem dX3_drop_31 : decode cX3_drop 31 = .ok (.invokevirtual 71, 3) := dk_182 0 71 (dk_at dksX3_drop_1 7 rfl rfl)
theorem dX3_drop_34 : decode cX3_drop 34 = .ok (.ireturn, 1) := dk_172 (dk_at dksX3_drop_1 10 rfl rfl)
theorem dX3_drop_35 : decode cX3_drop 35 = .ok (.aload_n 0, 1) := dk_42 (dk_at dksX3_drop_1 11 rfl rfl)
theorem dX3_drop_36 : decode cX3_drop 36 = .ok (.getfield 7, 3) := dk_180 0 7 (dk_at dksX3_drop_1 12 rfl rfl)
theorem dX3_drop_39 : decode cX3_drop 39 = .ok (.iload_n 1, 1) := dk_27 (dk_at dksX3_drop_1 15 rfl rfl)
theorem dX3_drop_40 : decode cX3_drop 40 = .ok (.iconst (-1), 1) := dk_2 (dk_at dksX3_drop_1 16 rfl rfl)
theorem dX3_drop_41 : decode cX3_drop 41 = .ok (.iastore, 1) := dk_79 (dk_at dksX3_drop_1 17 rfl rfl)
theorem dX3_drop_42 : decode cX3_drop 42 = .ok (.aload_n 0, 1) := dk_42 (dk_at dksX3_drop_1 18 rfl rfl)
theorem dX3_drop_43 : decode cX3_drop 43 = .ok (.getfield 13, 3) := dk_180 0 13 (dk_at dksX3_drop_1 19 rfl rfl)
theorem dX3_drop_46 : decode cX3_drop 46 = .ok (.iload_n 1, 1) := dk_27 (dk_at dksX3_drop_1 22 rfl rfl)
theorem dX3_drop_47 : decode cX3_drop 47 = .ok (.iaload, 1) := dk_46 (dk_at dksX3_drop_1 23 rfl rfl)
theorem dX3_drop_48 : decode cX3_drop 48 = .ok (.ireturn, 1) := dk_172 (dk_at dksX3_drop_2 0 rfl rfl)
abbrev cX3_feed : ByteArray := prog_16_method_10_code
def yX3_feed : MethodName := ⟨RX3, "feed", "(JI)I"⟩
def dkwX3_feed_3 : List UInt8 := [180, 0, 77, 4, 96, 181, 0, 77, 132, 4, 255, 167, 255, 217, 42, 180, 0, 77, 172]
abbrev dktX3_feed_3 : List UInt8 := dkwX3_feed_3 ++ []
def dkwX3_feed_2 : List UInt8 := [180, 0, 28, 42, 180, 0, 77, 31, 16, 8, 21, 4, 104, 123, 20, 0, 81, 127, 136, 79, 42, 89]
abbrev dktX3_feed_2 : List UInt8 := dkwX3_feed_2 ++ dktX3_feed_3
def dkwX3_feed_1 : List UInt8 := [29, 96, 17, 1, 144, 164, 0, 6, 18, 80, 172, 29, 4, 100, 54, 4, 21, 4, 155, 0, 40, 42]
abbrev dktX3_feed_1 : List UInt8 := dkwX3_feed_1 ++ dktX3_feed_2
def dkwX3_feed_0 : List UInt8 := [42, 3, 181, 0, 50, 29, 133, 10, 20, 0, 75, 184, 0, 60, 154, 0, 6, 18, 70, 172, 42, 180, 0, 77]
abbrev dktX3_feed_0 : List UInt8 := dkwX3_feed_0 ++ dktX3_feed_1
theorem dksX3_feed_0 : cX3_feed.data.toList.drop 0 = dktX3_feed_0 := by decide +kernel
theorem dksX3_feed_1 : cX3_feed.data.toList.drop 24 = dktX3_feed_1 := dk_seg dksX3_feed_0 24 rfl rfl
theorem dksX3_feed_2 : cX3_feed.data.toList.drop 46 = dktX3_feed_2 := dk_seg dksX3_feed_1 22 rfl rfl
theorem dksX3_feed_3 : cX3_feed.data.toList.drop 68 = dktX3_feed_3 := dk_seg dksX3_feed_2 22 rfl rfl
theorem dX3_feed_0 : decode cX3_feed 0 = .ok (.aload_n 0, 1) := dk_42 (dk_at dksX3_feed_0 0 rfl rfl)
theorem dX3_feed_1 : decode cX3_feed 1 = .ok (.iconst 0, 1) := dk_3 (dk_at dksX3_feed_0 1 rfl rfl)
theorem dX3_feed_2 : decode cX3_feed 2 = .ok (.putfield 50, 3) := dk_181 0 50 (dk_at dksX3_feed_0 2 rfl rfl)
theorem dX3_feed_5 : decode cX3_feed 5 = .ok (.iload_n 3, 1) := dk_29 (dk_at dksX3_feed_0 5 rfl rfl)
theorem dX3_feed_6 : decode cX3_feed 6 = .ok (.i2l, 1) := dk_133 (dk_at dksX3_feed_0 6 rfl rfl)
theorem dX3_feed_7 : decode cX3_feed 7 = .ok (.lconst 1, 1) := dk_10 (dk_at dksX3_feed_0 7 rfl rfl)
theorem dX3_feed_8 : decode cX3_feed 8 = .ok (.ldc2_w 75, 3) := dk_20 0 75 (dk_at dksX3_feed_0 8 rfl rfl)
theorem dX3_feed_11 : decode cX3_feed 11 = .ok (.invokestatic 60, 3) := dk_184 0 60 (dk_at dksX3_feed_0 11 rfl rfl)
theorem dX3_feed_14 : decode cX3_feed 14 = .ok (.ifCond .ne 6, 3) := dk_154 0 6 (dk_at dksX3_feed_0 14 rfl rfl)
theorem dX3_feed_17 : decode cX3_feed 17 = .ok (.ldc 70, 2) := dk_18 70 (dk_at dksX3_feed_0 17 rfl rfl)
theorem dX3_feed_19 : decode cX3_feed 19 = .ok (.ireturn, 1) := dk_172 (dk_at dksX3_feed_0 19 rfl rfl)
theorem dX3_feed_20 : decode cX3_feed 20 = .ok (.aload_n 0, 1) := dk_42 (dk_at dksX3_feed_0 20 rfl rfl)
theorem dX3_feed_21 : decode cX3_feed 21 = .ok (.getfield 77, 3) := dk_180 0 77 (dk_at dksX3_feed_0 21 rfl rfl)
theorem dX3_feed_24 : decode cX3_feed 24 = .ok (.iload_n 3, 1) := dk_29 (dk_at dksX3_feed_1 0 rfl rfl)
theorem dX3_feed_25 : decode cX3_feed 25 = .ok (.iadd, 1) := dk_96 (dk_at dksX3_feed_1 1 rfl rfl)
theorem dX3_feed_26 : decode cX3_feed 26 = .ok (.sipush 400, 3) := dk_17 1 144 (dk_at dksX3_feed_1 2 rfl rfl)
theorem dX3_feed_29 : decode cX3_feed 29 = .ok (.if_icmp .le 6, 3) := dk_164 0 6 (dk_at dksX3_feed_1 5 rfl rfl)
theorem dX3_feed_32 : decode cX3_feed 32 = .ok (.ldc 80, 2) := dk_18 80 (dk_at dksX3_feed_1 8 rfl rfl)
theorem dX3_feed_34 : decode cX3_feed 34 = .ok (.ireturn, 1) := dk_172 (dk_at dksX3_feed_1 10 rfl rfl)
theorem dX3_feed_35 : decode cX3_feed 35 = .ok (.iload_n 3, 1) := dk_29 (dk_at dksX3_feed_1 11 rfl rfl)
theorem dX3_feed_36 : decode cX3_feed 36 = .ok (.iconst 1, 1) := dk_4 (dk_at dksX3_feed_1 12 rfl rfl)
theorem dX3_feed_37 : decode cX3_feed 37 = .ok (.isub, 1) := dk_100 (dk_at dksX3_feed_1 13 rfl rfl)
theorem dX3_feed_38 : decode cX3_feed 38 = .ok (.istore 4, 2) := dk_54 4 (dk_at dksX3_feed_1 14 rfl rfl)
theorem dX3_feed_40 : decode cX3_feed 40 = .ok (.iload 4, 2) := dk_21 4 (dk_at dksX3_feed_1 16 rfl rfl)
theorem dX3_feed_42 : decode cX3_feed 42 = .ok (.ifCond .lt 40, 3) := dk_155 0 40 (dk_at dksX3_feed_1 18 rfl rfl)
theorem dX3_feed_45 : decode cX3_feed 45 = .ok (.aload_n 0, 1) := dk_42 (dk_at dksX3_feed_1 21 rfl rfl)
theorem dX3_feed_46 : decode cX3_feed 46 = .ok (.getfield 28, 3) := dk_180 0 28 (dk_at dksX3_feed_2 0 rfl rfl)
theorem dX3_feed_49 : decode cX3_feed 49 = .ok (.aload_n 0, 1) := dk_42 (dk_at dksX3_feed_2 3 rfl rfl)
theorem dX3_feed_50 : decode cX3_feed 50 = .ok (.getfield 77, 3) := dk_180 0 77 (dk_at dksX3_feed_2 4 rfl rfl)
theorem dX3_feed_53 : decode cX3_feed 53 = .ok (.lload_n 1, 1) := dk_31 (dk_at dksX3_feed_2 7 rfl rfl)
theorem dX3_feed_54 : decode cX3_feed 54 = .ok (.bipush 8, 2) := dk_16 8 (dk_at dksX3_feed_2 8 rfl rfl)
theorem dX3_feed_56 : decode cX3_feed 56 = .ok (.iload 4, 2) := dk_21 4 (dk_at dksX3_feed_2 10 rfl rfl)
theorem dX3_feed_58 : decode cX3_feed 58 = .ok (.imul, 1) := dk_104 (dk_at dksX3_feed_2 12 rfl rfl)
theorem dX3_feed_59 : decode cX3_feed 59 = .ok (.lshr, 1) := dk_123 (dk_at dksX3_feed_2 13 rfl rfl)
theorem dX3_feed_60 : decode cX3_feed 60 = .ok (.ldc2_w 81, 3) := dk_20 0 81 (dk_at dksX3_feed_2 14 rfl rfl)
theorem dX3_feed_63 : decode cX3_feed 63 = .ok (.land, 1) := dk_127 (dk_at dksX3_feed_2 17 rfl rfl)
theorem dX3_feed_64 : decode cX3_feed 64 = .ok (.l2i, 1) := dk_136 (dk_at dksX3_feed_2 18 rfl rfl)
theorem dX3_feed_65 : decode cX3_feed 65 = .ok (.iastore, 1) := dk_79 (dk_at dksX3_feed_2 19 rfl rfl)
theorem dX3_feed_66 : decode cX3_feed 66 = .ok (.aload_n 0, 1) := dk_42 (dk_at dksX3_feed_2 20 rfl rfl)
theorem dX3_feed_67 : decode cX3_feed 67 = .ok (.dup, 1) := dk_89 (dk_at dksX3_feed_2 21 rfl rfl)
theorem dX3_feed_68 : decode cX3_feed 68 = .ok (.getfield 77, 3) := dk_180 0 77 (dk_at dksX3_feed_3 0 rfl rfl)
theorem dX3_feed_71 : decode cX3_feed 71 = .ok (.iconst 1, 1) := dk_4 (dk_at dksX3_feed_3 3 rfl rfl)
theorem dX3_feed_72 : decode cX3_feed 72 = .ok (.iadd, 1) := dk_96 (dk_at dksX3_feed_3 4 rfl rfl)
theorem dX3_feed_73 : decode cX3_feed 73 = .ok (.putfield 77, 3) := dk_181 0 77 (dk_at dksX3_feed_3 5 rfl rfl)
theorem dX3_feed_76 : decode cX3_feed 76 = .ok (.iinc 4 (-1), 3) := dk_132 4 255 (dk_at dksX3_feed_3 8 rfl rfl)
theorem dX3_feed_79 : decode cX3_feed 79 = .ok (.goto (-39), 3) := dk_167 255 217 (dk_at dksX3_feed_3 11 rfl rfl)
theorem dX3_feed_82 : decode cX3_feed 82 = .ok (.aload_n 0, 1) := dk_42 (dk_at dksX3_feed_3 14 rfl rfl)
theorem dX3_feed_83 : decode cX3_feed 83 = .ok (.getfield 77, 3) := dk_180 0 77 (dk_at dksX3_feed_3 15 rfl rfl)
theorem dX3_feed_86 : decode cX3_feed 86 = .ok (.ireturn, 1) := dk_172 (dk_at dksX3_feed_3 18 rfl rfl)
abbrev cX3_road : ByteArray := prog_16_method_26_code
def yX3_road : MethodName := ⟨RX3, "road", "()I"⟩
def dkwX3_road_9 : List UInt8 := [132, 1, 1, 167, 255, 235, 42, 180, 0, 19, 7, 46, 172]
abbrev dktX3_road_9 : List UInt8 := dkwX3_road_9 ++ []
def dkwX3_road_8 : List UInt8 := [181, 0, 177, 3, 60, 27, 16, 94, 162, 0, 21, 42, 180, 0, 19, 27, 42, 180, 0, 22, 27, 46, 79]
abbrev dktX3_road_8 : List UInt8 := dkwX3_road_8 ++ dktX3_road_9
def dkwX3_road_7 : List UInt8 := [180, 0, 108, 158, 0, 19, 42, 42, 180, 0, 108, 181, 0, 173, 18, 176, 42, 180, 0, 114, 100, 172, 42, 3]
abbrev dktX3_road_7 : List UInt8 := dkwX3_road_7 ++ dktX3_road_8
def dkwX3_road_6 : List UInt8 := [167, 255, 241, 42, 180, 0, 108, 154, 0, 16, 42, 180, 0, 96, 4, 159, 0, 8, 42, 4, 182, 0, 117, 42]
abbrev dktX3_road_6 : List UInt8 := dkwX3_road_6 ++ dktX3_road_7
def dkwX3_road_5 : List UInt8 := [42, 182, 0, 165, 167, 255, 241, 42, 182, 0, 150, 20, 0, 168, 148, 154, 0, 10, 42, 182, 0, 170]
abbrev dktX3_road_5 : List UInt8 := dkwX3_road_5 ++ dktX3_road_6
def dkwX3_road_4 : List UInt8 := [6, 42, 3, 16, 99, 182, 0, 143, 79, 42, 182, 0, 147, 42, 182, 0, 150, 20, 0, 163, 148, 154, 0, 10]
abbrev dktX3_road_4 : List UInt8 := dkwX3_road_4 ++ dktX3_road_5
def dkwX3_road_3 : List UInt8 := [3, 16, 20, 182, 0, 143, 79, 42, 180, 0, 22, 5, 42, 3, 16, 100, 182, 0, 143, 79, 42, 180, 0, 22]
abbrev dktX3_road_3 : List UInt8 := dkwX3_road_3 ++ dktX3_road_4
def dkwX3_road_2 : List UInt8 := [182, 0, 125, 42, 180, 0, 22, 3, 42, 16, 10, 17, 0, 200, 182, 0, 143, 79, 42, 180, 0, 22, 4, 42]
abbrev dktX3_road_2 : List UInt8 := dkwX3_road_2 ++ dktX3_road_3
def dkwX3_road_1 : List UInt8 := [132, 1, 1, 167, 255, 240, 42, 42, 182, 0, 150, 20, 0, 161, 148, 154, 0, 7, 4, 167, 0, 4, 3]
abbrev dktX3_road_1 : List UInt8 := dkwX3_road_1 ++ dktX3_road_2
def dkwX3_road_0 : List UInt8 := [42, 3, 181, 0, 50, 42, 182, 0, 158, 3, 60, 27, 16, 94, 162, 0, 16, 42, 180, 0, 22, 27, 3, 79]
abbrev dktX3_road_0 : List UInt8 := dkwX3_road_0 ++ dktX3_road_1
theorem dksX3_road_0 : cX3_road.data.toList.drop 0 = dktX3_road_0 := by decide +kernel
theorem dksX3_road_1 : cX3_road.data.toList.drop 24 = dktX3_road_1 := dk_seg dksX3_road_0 24 rfl rfl
theorem dksX3_road_2 : cX3_road.data.toList.drop 47 = dktX3_road_2 := dk_seg dksX3_road_1 23 rfl rfl
theorem dksX3_road_3 : cX3_road.data.toList.drop 71 = dktX3_road_3 := dk_seg dksX3_road_2 24 rfl rfl
theorem dksX3_road_4 : cX3_road.data.toList.drop 95 = dktX3_road_4 := dk_seg dksX3_road_3 24 rfl rfl
theorem dksX3_road_5 : cX3_road.data.toList.drop 119 = dktX3_road_5 := dk_seg dksX3_road_4 24 rfl rfl
theorem dksX3_road_6 : cX3_road.data.toList.drop 141 = dktX3_road_6 := dk_seg dksX3_road_5 22 rfl rfl
theorem dksX3_road_7 : cX3_road.data.toList.drop 165 = dktX3_road_7 := dk_seg dksX3_road_6 24 rfl rfl
theorem dksX3_road_8 : cX3_road.data.toList.drop 189 = dktX3_road_8 := dk_seg dksX3_road_7 24 rfl rfl
theorem dksX3_road_9 : cX3_road.data.toList.drop 212 = dktX3_road_9 := dk_seg dksX3_road_8 23 rfl rfl
theorem dX3_road_0 : decode cX3_road 0 = .ok (.aload_n 0, 1) := dk_42 (dk_at dksX3_road_0 0 rfl rfl)
theorem dX3_road_1 : decode cX3_road 1 = .ok (.iconst 0, 1) := dk_3 (dk_at dksX3_road_0 1 rfl rfl)
theorem dX3_road_2 : decode cX3_road 2 = .ok (.putfield 50, 3) := dk_181 0 50 (dk_at dksX3_road_0 2 rfl rfl)
theorem dX3_road_5 : decode cX3_road 5 = .ok (.aload_n 0, 1) := dk_42 (dk_at dksX3_road_0 5 rfl rfl)
theorem dX3_road_6 : decode cX3_road 6 = .ok (.invokevirtual 158, 3) := dk_182 0 158 (dk_at dksX3_road_0 6 rfl rfl)
theorem dX3_road_9 : decode cX3_road 9 = .ok (.iconst 0, 1) := dk_3 (dk_at dksX3_road_0 9 rfl rfl)
theorem dX3_road_10 : decode cX3_road 10 = .ok (.istore_n 1, 1) := dk_60 (dk_at dksX3_road_0 10 rfl rfl)
theorem dX3_road_11 : decode cX3_road 11 = .ok (.iload_n 1, 1) := dk_27 (dk_at dksX3_road_0 11 rfl rfl)
theorem dX3_road_12 : decode cX3_road 12 = .ok (.bipush 94, 2) := dk_16 94 (dk_at dksX3_road_0 12 rfl rfl)
theorem dX3_road_14 : decode cX3_road 14 = .ok (.if_icmp .ge 16, 3) := dk_162 0 16 (dk_at dksX3_road_0 14 rfl rfl)
theorem dX3_road_17 : decode cX3_road 17 = .ok (.aload_n 0, 1) := dk_42 (dk_at dksX3_road_0 17 rfl rfl)
theorem dX3_road_18 : decode cX3_road 18 = .ok (.getfield 22, 3) := dk_180 0 22 (dk_at dksX3_road_0 18 rfl rfl)
theorem dX3_road_21 : decode cX3_road 21 = .ok (.iload_n 1, 1) := dk_27 (dk_at dksX3_road_0 21 rfl rfl)
theorem dX3_road_22 : decode cX3_road 22 = .ok (.iconst 0, 1) := dk_3 (dk_at dksX3_road_0 22 rfl rfl)
theorem dX3_road_23 : decode cX3_road 23 = .ok (.iastore, 1) := dk_79 (dk_at dksX3_road_0 23 rfl rfl)
theorem dX3_road_24 : decode cX3_road 24 = .ok (.iinc 1 1, 3) := dk_132 1 1 (dk_at dksX3_road_1 0 rfl rfl)
theorem dX3_road_27 : decode cX3_road 27 = .ok (.goto (-16), 3) := dk_167 255 240 (dk_at dksX3_road_1 3 rfl rfl)
theorem dX3_road_30 : decode cX3_road 30 = .ok (.aload_n 0, 1) := dk_42 (dk_at dksX3_road_1 6 rfl rfl)
theorem dX3_road_31 : decode cX3_road 31 = .ok (.aload_n 0, 1) := dk_42 (dk_at dksX3_road_1 7 rfl rfl)
theorem dX3_road_32 : decode cX3_road 32 = .ok (.invokevirtual 150, 3) := dk_182 0 150 (dk_at dksX3_road_1 8 rfl rfl)
theorem dX3_road_35 : decode cX3_road 35 = .ok (.ldc2_w 161, 3) := dk_20 0 161 (dk_at dksX3_road_1 11 rfl rfl)
theorem dX3_road_38 : decode cX3_road 38 = .ok (.lcmp, 1) := dk_148 (dk_at dksX3_road_1 14 rfl rfl)
theorem dX3_road_39 : decode cX3_road 39 = .ok (.ifCond .ne 7, 3) := dk_154 0 7 (dk_at dksX3_road_1 15 rfl rfl)
theorem dX3_road_42 : decode cX3_road 42 = .ok (.iconst 1, 1) := dk_4 (dk_at dksX3_road_1 18 rfl rfl)
theorem dX3_road_43 : decode cX3_road 43 = .ok (.goto 4, 3) := dk_167 0 4 (dk_at dksX3_road_1 19 rfl rfl)
theorem dX3_road_46 : decode cX3_road 46 = .ok (.iconst 0, 1) := dk_3 (dk_at dksX3_road_1 22 rfl rfl)
theorem dX3_road_47 : decode cX3_road 47 = .ok (.invokevirtual 125, 3) := dk_182 0 125 (dk_at dksX3_road_2 0 rfl rfl)
theorem dX3_road_50 : decode cX3_road 50 = .ok (.aload_n 0, 1) := dk_42 (dk_at dksX3_road_2 3 rfl rfl)
theorem dX3_road_51 : decode cX3_road 51 = .ok (.getfield 22, 3) := dk_180 0 22 (dk_at dksX3_road_2 4 rfl rfl)
theorem dX3_road_54 : decode cX3_road 54 = .ok (.iconst 0, 1) := dk_3 (dk_at dksX3_road_2 7 rfl rfl)
theorem dX3_road_55 : decode cX3_road 55 = .ok (.aload_n 0, 1) := dk_42 (dk_at dksX3_road_2 8 rfl rfl)
theorem dX3_road_56 : decode cX3_road 56 = .ok (.bipush 10, 2) := dk_16 10 (dk_at dksX3_road_2 9 rfl rfl)
theorem dX3_road_58 : decode cX3_road 58 = .ok (.sipush 200, 3) := dk_17 0 200 (dk_at dksX3_road_2 11 rfl rfl)
theorem dX3_road_61 : decode cX3_road 61 = .ok (.invokevirtual 143, 3) := dk_182 0 143 (dk_at dksX3_road_2 14 rfl rfl)
theorem dX3_road_64 : decode cX3_road 64 = .ok (.iastore, 1) := dk_79 (dk_at dksX3_road_2 17 rfl rfl)
theorem dX3_road_65 : decode cX3_road 65 = .ok (.aload_n 0, 1) := dk_42 (dk_at dksX3_road_2 18 rfl rfl)
theorem dX3_road_66 : decode cX3_road 66 = .ok (.getfield 22, 3) := dk_180 0 22 (dk_at dksX3_road_2 19 rfl rfl)
theorem dX3_road_69 : decode cX3_road 69 = .ok (.iconst 1, 1) := dk_4 (dk_at dksX3_road_2 22 rfl rfl)
theorem dX3_road_70 : decode cX3_road 70 = .ok (.aload_n 0, 1) := dk_42 (dk_at dksX3_road_2 23 rfl rfl)
theorem dX3_road_71 : decode cX3_road 71 = .ok (.iconst 0, 1) := dk_3 (dk_at dksX3_road_3 0 rfl rfl)
theorem dX3_road_72 : decode cX3_road 72 = .ok (.bipush 20, 2) := dk_16 20 (dk_at dksX3_road_3 1 rfl rfl)
theorem dX3_road_74 : decode cX3_road 74 = .ok (.invokevirtual 143, 3) := dk_182 0 143 (dk_at dksX3_road_3 3 rfl rfl)
theorem dX3_road_77 : decode cX3_road 77 = .ok (.iastore, 1) := dk_79 (dk_at dksX3_road_3 6 rfl rfl)
theorem dX3_road_78 : decode cX3_road 78 = .ok (.aload_n 0, 1) := dk_42 (dk_at dksX3_road_3 7 rfl rfl)
theorem dX3_road_79 : decode cX3_road 79 = .ok (.getfield 22, 3) := dk_180 0 22 (dk_at dksX3_road_3 8 rfl rfl)
theorem dX3_road_82 : decode cX3_road 82 = .ok (.iconst 2, 1) := dk_5 (dk_at dksX3_road_3 11 rfl rfl)
theorem dX3_road_83 : decode cX3_road 83 = .ok (.aload_n 0, 1) := dk_42 (dk_at dksX3_road_3 12 rfl rfl)
theorem dX3_road_84 : decode cX3_road 84 = .ok (.iconst 0, 1) := dk_3 (dk_at dksX3_road_3 13 rfl rfl)
theorem dX3_road_85 : decode cX3_road 85 = .ok (.bipush 100, 2) := dk_16 100 (dk_at dksX3_road_3 14 rfl rfl)
theorem dX3_road_87 : decode cX3_road 87 = .ok (.invokevirtual 143, 3) := dk_182 0 143 (dk_at dksX3_road_3 16 rfl rfl)
theorem dX3_road_90 : decode cX3_road 90 = .ok (.iastore, 1) := dk_79 (dk_at dksX3_road_3 19 rfl rfl)
theorem dX3_road_91 : decode cX3_road 91 = .ok (.aload_n 0, 1) := dk_42 (dk_at dksX3_road_3 20 rfl rfl)
theorem dX3_road_92 : decode cX3_road 92 = .ok (.getfield 22, 3) := dk_180 0 22 (dk_at dksX3_road_3 21 rfl rfl)
theorem dX3_road_95 : decode cX3_road 95 = .ok (.iconst 3, 1) := dk_6 (dk_at dksX3_road_4 0 rfl rfl)
theorem dX3_road_96 : decode cX3_road 96 = .ok (.aload_n 0, 1) := dk_42 (dk_at dksX3_road_4 1 rfl rfl)
theorem dX3_road_97 : decode cX3_road 97 = .ok (.iconst 0, 1) := dk_3 (dk_at dksX3_road_4 2 rfl rfl)
theorem dX3_road_98 : decode cX3_road 98 = .ok (.bipush 99, 2) := dk_16 99 (dk_at dksX3_road_4 3 rfl rfl)
theorem dX3_road_100 : decode cX3_road 100 = .ok (.invokevirtual 143, 3) := dk_182 0 143 (dk_at dksX3_road_4 5 rfl rfl)
theorem dX3_road_103 : decode cX3_road 103 = .ok (.iastore, 1) := dk_79 (dk_at dksX3_road_4 8 rfl rfl)
theorem dX3_road_104 : decode cX3_road 104 = .ok (.aload_n 0, 1) := dk_42 (dk_at dksX3_road_4 9 rfl rfl)
theorem dX3_road_105 : decode cX3_road 105 = .ok (.invokevirtual 147, 3) := dk_182 0 147 (dk_at dksX3_road_4 10 rfl rfl)
theorem dX3_road_108 : decode cX3_road 108 = .ok (.aload_n 0, 1) := dk_42 (dk_at dksX3_road_4 13 rfl rfl)
theorem dX3_road_109 : decode cX3_road 109 = .ok (.invokevirtual 150, 3) := dk_182 0 150 (dk_at dksX3_road_4 14 rfl rfl)
theorem dX3_road_112 : decode cX3_road 112 = .ok (.ldc2_w 163, 3) := dk_20 0 163 (dk_at dksX3_road_4 17 rfl rfl)
theorem dX3_road_115 : decode cX3_road 115 = .ok (.lcmp, 1) := dk_148 (dk_at dksX3_road_4 20 rfl rfl)
theorem dX3_road_116 : decode cX3_road 116 = .ok (.ifCond .ne 10, 3) := dk_154 0 10 (dk_at dksX3_road_4 21 rfl rfl)
theorem dX3_road_119 : decode cX3_road 119 = .ok (.aload_n 0, 1) := dk_42 (dk_at dksX3_road_5 0 rfl rfl)
theorem dX3_road_120 : decode cX3_road 120 = .ok (.invokevirtual 165, 3) := dk_182 0 165 (dk_at dksX3_road_5 1 rfl rfl)
theorem dX3_road_123 : decode cX3_road 123 = .ok (.goto (-15), 3) := dk_167 255 241 (dk_at dksX3_road_5 4 rfl rfl)
theorem dX3_road_126 : decode cX3_road 126 = .ok (.aload_n 0, 1) := dk_42 (dk_at dksX3_road_5 7 rfl rfl)
theorem dX3_road_127 : decode cX3_road 127 = .ok (.invokevirtual 150, 3) := dk_182 0 150 (dk_at dksX3_road_5 8 rfl rfl)
theorem dX3_road_130 : decode cX3_road 130 = .ok (.ldc2_w 168, 3) := dk_20 0 168 (dk_at dksX3_road_5 11 rfl rfl)
theorem dX3_road_133 : decode cX3_road 133 = .ok (.lcmp, 1) := dk_148 (dk_at dksX3_road_5 14 rfl rfl)
theorem dX3_road_134 : decode cX3_road 134 = .ok (.ifCond .ne 10, 3) := dk_154 0 10 (dk_at dksX3_road_5 15 rfl rfl)
theorem dX3_road_137 : decode cX3_road 137 = .ok (.aload_n 0, 1) := dk_42 (dk_at dksX3_road_5 18 rfl rfl)
theorem dX3_road_138 : decode cX3_road 138 = .ok (.invokevirtual 170, 3) := dk_182 0 170 (dk_at dksX3_road_5 19 rfl rfl)
theorem dX3_road_141 : decode cX3_road 141 = .ok (.goto (-15), 3) := dk_167 255 241 (dk_at dksX3_road_6 0 rfl rfl)
theorem dX3_road_144 : decode cX3_road 144 = .ok (.aload_n 0, 1) := dk_42 (dk_at dksX3_road_6 3 rfl rfl)
theorem dX3_road_145 : decode cX3_road 145 = .ok (.getfield 108, 3) := dk_180 0 108 (dk_at dksX3_road_6 4 rfl rfl)
theorem dX3_road_148 : decode cX3_road 148 = .ok (.ifCond .ne 16, 3) := dk_154 0 16 (dk_at dksX3_road_6 7 rfl rfl)
theorem dX3_road_151 : decode cX3_road 151 = .ok (.aload_n 0, 1) := dk_42 (dk_at dksX3_road_6 10 rfl rfl)
theorem dX3_road_152 : decode cX3_road 152 = .ok (.getfield 96, 3) := dk_180 0 96 (dk_at dksX3_road_6 11 rfl rfl)
theorem dX3_road_155 : decode cX3_road 155 = .ok (.iconst 1, 1) := dk_4 (dk_at dksX3_road_6 14 rfl rfl)
theorem dX3_road_156 : decode cX3_road 156 = .ok (.if_icmp .eq 8, 3) := dk_159 0 8 (dk_at dksX3_road_6 15 rfl rfl)
theorem dX3_road_159 : decode cX3_road 159 = .ok (.aload_n 0, 1) := dk_42 (dk_at dksX3_road_6 18 rfl rfl)
theorem dX3_road_160 : decode cX3_road 160 = .ok (.iconst 1, 1) := dk_4 (dk_at dksX3_road_6 19 rfl rfl)
theorem dX3_road_161 : decode cX3_road 161 = .ok (.invokevirtual 117, 3) := dk_182 0 117 (dk_at dksX3_road_6 20 rfl rfl)
theorem dX3_road_164 : decode cX3_road 164 = .ok (.aload_n 0, 1) := dk_42 (dk_at dksX3_road_6 23 rfl rfl)
theorem dX3_road_165 : decode cX3_road 165 = .ok (.getfield 108, 3) := dk_180 0 108 (dk_at dksX3_road_7 0 rfl rfl)
theorem dX3_road_168 : decode cX3_road 168 = .ok (.ifCond .le 19, 3) := dk_158 0 19 (dk_at dksX3_road_7 3 rfl rfl)
theorem dX3_road_171 : decode cX3_road 171 = .ok (.aload_n 0, 1) := dk_42 (dk_at dksX3_road_7 6 rfl rfl)
theorem dX3_road_172 : decode cX3_road 172 = .ok (.aload_n 0, 1) := dk_42 (dk_at dksX3_road_7 7 rfl rfl)
theorem dX3_road_173 : decode cX3_road 173 = .ok (.getfield 108, 3) := dk_180 0 108 (dk_at dksX3_road_7 8 rfl rfl)
theorem dX3_road_176 : decode cX3_road 176 = .ok (.putfield 173, 3) := dk_181 0 173 (dk_at dksX3_road_7 11 rfl rfl)
theorem dX3_road_179 : decode cX3_road 179 = .ok (.ldc 176, 2) := dk_18 176 (dk_at dksX3_road_7 14 rfl rfl)
theorem dX3_road_181 : decode cX3_road 181 = .ok (.aload_n 0, 1) := dk_42 (dk_at dksX3_road_7 16 rfl rfl)
theorem dX3_road_182 : decode cX3_road 182 = .ok (.getfield 114, 3) := dk_180 0 114 (dk_at dksX3_road_7 17 rfl rfl)
theorem dX3_road_185 : decode cX3_road 185 = .ok (.isub, 1) := dk_100 (dk_at dksX3_road_7 20 rfl rfl)
theorem dX3_road_186 : decode cX3_road 186 = .ok (.ireturn, 1) := dk_172 (dk_at dksX3_road_7 21 rfl rfl)
theorem dX3_road_187 : decode cX3_road 187 = .ok (.aload_n 0, 1) := dk_42 (dk_at dksX3_road_7 22 rfl rfl)
theorem dX3_road_188 : decode cX3_road 188 = .ok (.iconst 0, 1) := dk_3 (dk_at dksX3_road_7 23 rfl rfl)
theorem dX3_road_189 : decode cX3_road 189 = .ok (.putfield 177, 3) := dk_181 0 177 (dk_at dksX3_road_8 0 rfl rfl)
theorem dX3_road_192 : decode cX3_road 192 = .ok (.iconst 0, 1) := dk_3 (dk_at dksX3_road_8 3 rfl rfl)
theorem dX3_road_193 : decode cX3_road 193 = .ok (.istore_n 1, 1) := dk_60 (dk_at dksX3_road_8 4 rfl rfl)
theorem dX3_road_194 : decode cX3_road 194 = .ok (.iload_n 1, 1) := dk_27 (dk_at dksX3_road_8 5 rfl rfl)
theorem dX3_road_195 : decode cX3_road 195 = .ok (.bipush 94, 2) := dk_16 94 (dk_at dksX3_road_8 6 rfl rfl)
theorem dX3_road_197 : decode cX3_road 197 = .ok (.if_icmp .ge 21, 3) := dk_162 0 21 (dk_at dksX3_road_8 8 rfl rfl)
theorem dX3_road_200 : decode cX3_road 200 = .ok (.aload_n 0, 1) := dk_42 (dk_at dksX3_road_8 11 rfl rfl)
theorem dX3_road_201 : decode cX3_road 201 = .ok (.getfield 19, 3) := dk_180 0 19 (dk_at dksX3_road_8 12 rfl rfl)
theorem dX3_road_204 : decode cX3_road 204 = .ok (.iload_n 1, 1) := dk_27 (dk_at dksX3_road_8 15 rfl rfl)
theorem dX3_road_205 : decode cX3_road 205 = .ok (.aload_n 0, 1) := dk_42 (dk_at dksX3_road_8 16 rfl rfl)
theorem dX3_road_206 : decode cX3_road 206 = .ok (.getfield 22, 3) := dk_180 0 22 (dk_at dksX3_road_8 17 rfl rfl)
theorem dX3_road_209 : decode cX3_road 209 = .ok (.iload_n 1, 1) := dk_27 (dk_at dksX3_road_8 20 rfl rfl)
theorem dX3_road_210 : decode cX3_road 210 = .ok (.iaload, 1) := dk_46 (dk_at dksX3_road_8 21 rfl rfl)
theorem dX3_road_211 : decode cX3_road 211 = .ok (.iastore, 1) := dk_79 (dk_at dksX3_road_8 22 rfl rfl)
theorem dX3_road_212 : decode cX3_road 212 = .ok (.iinc 1 1, 3) := dk_132 1 1 (dk_at dksX3_road_9 0 rfl rfl)
theorem dX3_road_215 : decode cX3_road 215 = .ok (.goto (-21), 3) := dk_167 255 235 (dk_at dksX3_road_9 3 rfl rfl)
theorem dX3_road_218 : decode cX3_road 218 = .ok (.aload_n 0, 1) := dk_42 (dk_at dksX3_road_9 6 rfl rfl)
theorem dX3_road_219 : decode cX3_road 219 = .ok (.getfield 19, 3) := dk_180 0 19 (dk_at dksX3_road_9 7 rfl rfl)
theorem dX3_road_222 : decode cX3_road 222 = .ok (.iconst 4, 1) := dk_7 (dk_at dksX3_road_9 10 rfl rfl)
theorem dX3_road_223 : decode cX3_road 223 = .ok (.iaload, 1) := dk_46 (dk_at dksX3_road_9 11 rfl rfl)
theorem dX3_road_224 : decode cX3_road 224 = .ok (.ireturn, 1) := dk_172 (dk_at dksX3_road_9 12 rfl rfl)
abbrev cX3_begin : ByteArray := prog_16_method_15_code
def yX3_begin : MethodName := ⟨RX3, "begin", "()V"⟩
def dkwX3_begin_1 : List UInt8 := [182, 0, 111, 177]
abbrev dktX3_begin_1 : List UInt8 := dkwX3_begin_1 ++ []
def dkwX3_begin_0 : List UInt8 := [42, 42, 180, 0, 77, 181, 0, 83, 42, 3, 181, 0, 77, 42, 3, 181, 0, 87, 42, 3, 181, 0, 108, 42]
abbrev dktX3_begin_0 : List UInt8 := dkwX3_begin_0 ++ dktX3_begin_1
theorem dksX3_begin_0 : cX3_begin.data.toList.drop 0 = dktX3_begin_0 := by decide +kernel
theorem dksX3_begin_1 : cX3_begin.data.toList.drop 24 = dktX3_begin_1 := dk_seg dksX3_begin_0 24 rfl rfl
theorem dX3_begin_0 : decode cX3_begin 0 = .ok (.aload_n 0, 1) := dk_42 (dk_at dksX3_begin_0 0 rfl rfl)
theorem dX3_begin_1 : decode cX3_begin 1 = .ok (.aload_n 0, 1) := dk_42 (dk_at dksX3_begin_0 1 rfl rfl)
theorem dX3_begin_2 : decode cX3_begin 2 = .ok (.getfield 77, 3) := dk_180 0 77 (dk_at dksX3_begin_0 2 rfl rfl)
theorem dX3_begin_5 : decode cX3_begin 5 = .ok (.putfield 83, 3) := dk_181 0 83 (dk_at dksX3_begin_0 5 rfl rfl)
theorem dX3_begin_8 : decode cX3_begin 8 = .ok (.aload_n 0, 1) := dk_42 (dk_at dksX3_begin_0 8 rfl rfl)
theorem dX3_begin_9 : decode cX3_begin 9 = .ok (.iconst 0, 1) := dk_3 (dk_at dksX3_begin_0 9 rfl rfl)
theorem dX3_begin_10 : decode cX3_begin 10 = .ok (.putfield 77, 3) := dk_181 0 77 (dk_at dksX3_begin_0 10 rfl rfl)
theorem dX3_begin_13 : decode cX3_begin 13 = .ok (.aload_n 0, 1) := dk_42 (dk_at dksX3_begin_0 13 rfl rfl)
theorem dX3_begin_14 : decode cX3_begin 14 = .ok (.iconst 0, 1) := dk_3 (dk_at dksX3_begin_0 14 rfl rfl)
theorem dX3_begin_15 : decode cX3_begin 15 = .ok (.putfield 87, 3) := dk_181 0 87 (dk_at dksX3_begin_0 15 rfl rfl)
theorem dX3_begin_18 : decode cX3_begin 18 = .ok (.aload_n 0, 1) := dk_42 (dk_at dksX3_begin_0 18 rfl rfl)
theorem dX3_begin_19 : decode cX3_begin 19 = .ok (.iconst 0, 1) := dk_3 (dk_at dksX3_begin_0 19 rfl rfl)
theorem dX3_begin_20 : decode cX3_begin 20 = .ok (.putfield 108, 3) := dk_181 0 108 (dk_at dksX3_begin_0 20 rfl rfl)
theorem dX3_begin_23 : decode cX3_begin 23 = .ok (.aload_n 0, 1) := dk_42 (dk_at dksX3_begin_0 23 rfl rfl)
theorem dX3_begin_24 : decode cX3_begin 24 = .ok (.invokevirtual 111, 3) := dk_182 0 111 (dk_at dksX3_begin_1 0 rfl rfl)
theorem dX3_begin_27 : decode cX3_begin 27 = .ok (.return_, 1) := dk_177 (dk_at dksX3_begin_1 3 rfl rfl)
abbrev cX3_next : ByteArray := prog_16_method_14_code
def yX3_next : MethodName := ⟨RX3, "next", "()V"⟩
def dkwX3_next_8 : List UInt8 := [7, 167, 0, 4, 3, 181, 0, 96, 42, 42, 180, 0, 87, 181, 0, 105, 177]
abbrev dktX3_next_8 : List UInt8 := dkwX3_next_8 ++ []
def dkwX3_next_7 : List UInt8 := [6, 181, 0, 96, 167, 0, 28, 42, 89, 180, 0, 87, 4, 96, 181, 0, 87, 42, 27, 16, 59, 160, 0, 7]
abbrev dktX3_next_7 : List UInt8 := dkwX3_next_7 ++ dktX3_next_8
def dkwX3_next_6 : List UInt8 := [181, 0, 87, 167, 255, 232, 42, 42, 180, 0, 87, 42, 180, 0, 93, 100, 6, 164, 0, 7, 3, 167, 0, 4]
abbrev dktX3_next_6 : List UInt8 := dkwX3_next_6 ++ dktX3_next_7
def dkwX3_next_5 : List UInt8 := [153, 0, 55, 42, 42, 180, 0, 87, 182, 0, 90, 184, 0, 102, 153, 0, 16, 42, 89, 180, 0, 87, 4, 96]
abbrev dktX3_next_5 : List UInt8 := dkwX3_next_5 ++ dktX3_next_6
def dkwX3_next_4 : List UInt8 := [180, 0, 87, 4, 96, 181, 0, 87, 167, 255, 232, 42, 5, 181, 0, 96, 167, 0, 87, 27, 184, 0, 102]
abbrev dktX3_next_4 : List UInt8 := dkwX3_next_4 ++ dktX3_next_5
def dkwX3_next_3 : List UInt8 := [184, 0, 99, 153, 0, 38, 42, 42, 180, 0, 87, 182, 0, 90, 184, 0, 99, 153, 0, 16, 42, 89]
abbrev dktX3_next_3 : List UInt8 := dkwX3_next_3 ++ dktX3_next_4
def dkwX3_next_2 : List UInt8 := [42, 42, 180, 0, 87, 182, 0, 90, 60, 27, 18, 86, 160, 0, 11, 42, 4, 181, 0, 96, 167, 0, 129, 27]
abbrev dktX3_next_2 : List UInt8 := dkwX3_next_2 ++ dktX3_next_3
def dkwX3_next_1 : List UInt8 := [160, 0, 16, 42, 89, 180, 0, 87, 4, 96, 181, 0, 87, 167, 255, 220, 42, 42, 180, 0, 87, 181, 0, 93]
abbrev dktX3_next_1 : List UInt8 := dkwX3_next_1 ++ dktX3_next_2
def dkwX3_next_0 : List UInt8 := [42, 42, 180, 0, 87, 182, 0, 90, 16, 32, 159, 0, 16, 42, 42, 180, 0, 87, 182, 0, 90, 16, 10]
abbrev dktX3_next_0 : List UInt8 := dkwX3_next_0 ++ dktX3_next_1
theorem dksX3_next_0 : cX3_next.data.toList.drop 0 = dktX3_next_0 := by decide +kernel
theorem dksX3_next_1 : cX3_next.data.toList.drop 23 = dktX3_next_1 := dk_seg dksX3_next_0 23 rfl rfl
theorem dksX3_next_2 : cX3_next.data.toList.drop 47 = dktX3_next_2 := dk_seg dksX3_next_1 24 rfl rfl
theorem dksX3_next_3 : cX3_next.data.toList.drop 71 = dktX3_next_3 := dk_seg dksX3_next_2 24 rfl rfl
theorem dksX3_next_4 : cX3_next.data.toList.drop 93 = dktX3_next_4 := dk_seg dksX3_next_3 22 rfl rfl
theorem dksX3_next_5 : cX3_next.data.toList.drop 116 = dktX3_next_5 := dk_seg dksX3_next_4 23 rfl rfl
theorem dksX3_next_6 : cX3_next.data.toList.drop 140 = dktX3_next_6 := dk_seg dksX3_next_5 24 rfl rfl
theorem dksX3_next_7 : cX3_next.data.toList.drop 164 = dktX3_next_7 := dk_seg dksX3_next_6 24 rfl rfl
theorem dksX3_next_8 : cX3_next.data.toList.drop 188 = dktX3_next_8 := dk_seg dksX3_next_7 24 rfl rfl
theorem dX3_next_0 : decode cX3_next 0 = .ok (.aload_n 0, 1) := dk_42 (dk_at dksX3_next_0 0 rfl rfl)
theorem dX3_next_1 : decode cX3_next 1 = .ok (.aload_n 0, 1) := dk_42 (dk_at dksX3_next_0 1 rfl rfl)
theorem dX3_next_2 : decode cX3_next 2 = .ok (.getfield 87, 3) := dk_180 0 87 (dk_at dksX3_next_0 2 rfl rfl)
theorem dX3_next_5 : decode cX3_next 5 = .ok (.invokevirtual 90, 3) := dk_182 0 90 (dk_at dksX3_next_0 5 rfl rfl)
theorem dX3_next_8 : decode cX3_next 8 = .ok (.bipush 32, 2) := dk_16 32 (dk_at dksX3_next_0 8 rfl rfl)
theorem dX3_next_10 : decode cX3_next 10 = .ok (.if_icmp .eq 16, 3) := dk_159 0 16 (dk_at dksX3_next_0 10 rfl rfl)
theorem dX3_next_13 : decode cX3_next 13 = .ok (.aload_n 0, 1) := dk_42 (dk_at dksX3_next_0 13 rfl rfl)
theorem dX3_next_14 : decode cX3_next 14 = .ok (.aload_n 0, 1) := dk_42 (dk_at dksX3_next_0 14 rfl rfl)
theorem dX3_next_15 : decode cX3_next 15 = .ok (.getfield 87, 3) := dk_180 0 87 (dk_at dksX3_next_0 15 rfl rfl)
theorem dX3_next_18 : decode cX3_next 18 = .ok (.invokevirtual 90, 3) := dk_182 0 90 (dk_at dksX3_next_0 18 rfl rfl)
theorem dX3_next_21 : decode cX3_next 21 = .ok (.bipush 10, 2) := dk_16 10 (dk_at dksX3_next_0 21 rfl rfl)
theorem dX3_next_23 : decode cX3_next 23 = .ok (.if_icmp .ne 16, 3) := dk_160 0 16 (dk_at dksX3_next_1 0 rfl rfl)
theorem dX3_next_26 : decode cX3_next 26 = .ok (.aload_n 0, 1) := dk_42 (dk_at dksX3_next_1 3 rfl rfl)
theorem dX3_next_27 : decode cX3_next 27 = .ok (.dup, 1) := dk_89 (dk_at dksX3_next_1 4 rfl rfl)
theorem dX3_next_28 : decode cX3_next 28 = .ok (.getfield 87, 3) := dk_180 0 87 (dk_at dksX3_next_1 5 rfl rfl)
theorem dX3_next_31 : decode cX3_next 31 = .ok (.iconst 1, 1) := dk_4 (dk_at dksX3_next_1 8 rfl rfl)
theorem dX3_next_32 : decode cX3_next 32 = .ok (.iadd, 1) := dk_96 (dk_at dksX3_next_1 9 rfl rfl)
theorem dX3_next_33 : decode cX3_next 33 = .ok (.putfield 87, 3) := dk_181 0 87 (dk_at dksX3_next_1 10 rfl rfl)
theorem dX3_next_36 : decode cX3_next 36 = .ok (.goto (-36), 3) := dk_167 255 220 (dk_at dksX3_next_1 13 rfl rfl)
theorem dX3_next_39 : decode cX3_next 39 = .ok (.aload_n 0, 1) := dk_42 (dk_at dksX3_next_1 16 rfl rfl)
theorem dX3_next_40 : decode cX3_next 40 = .ok (.aload_n 0, 1) := dk_42 (dk_at dksX3_next_1 17 rfl rfl)
theorem dX3_next_41 : decode cX3_next 41 = .ok (.getfield 87, 3) := dk_180 0 87 (dk_at dksX3_next_1 18 rfl rfl)
theorem dX3_next_44 : decode cX3_next 44 = .ok (.putfield 93, 3) := dk_181 0 93 (dk_at dksX3_next_1 21 rfl rfl)
theorem dX3_next_47 : decode cX3_next 47 = .ok (.aload_n 0, 1) := dk_42 (dk_at dksX3_next_2 0 rfl rfl)
theorem dX3_next_48 : decode cX3_next 48 = .ok (.aload_n 0, 1) := dk_42 (dk_at dksX3_next_2 1 rfl rfl)
theorem dX3_next_49 : decode cX3_next 49 = .ok (.getfield 87, 3) := dk_180 0 87 (dk_at dksX3_next_2 2 rfl rfl)
theorem dX3_next_52 : decode cX3_next 52 = .ok (.invokevirtual 90, 3) := dk_182 0 90 (dk_at dksX3_next_2 5 rfl rfl)
theorem dX3_next_55 : decode cX3_next 55 = .ok (.istore_n 1, 1) := dk_60 (dk_at dksX3_next_2 8 rfl rfl)
theorem dX3_next_56 : decode cX3_next 56 = .ok (.iload_n 1, 1) := dk_27 (dk_at dksX3_next_2 9 rfl rfl)
theorem dX3_next_57 : decode cX3_next 57 = .ok (.ldc 86, 2) := dk_18 86 (dk_at dksX3_next_2 10 rfl rfl)
theorem dX3_next_59 : decode cX3_next 59 = .ok (.if_icmp .ne 11, 3) := dk_160 0 11 (dk_at dksX3_next_2 12 rfl rfl)
theorem dX3_next_62 : decode cX3_next 62 = .ok (.aload_n 0, 1) := dk_42 (dk_at dksX3_next_2 15 rfl rfl)
theorem dX3_next_63 : decode cX3_next 63 = .ok (.iconst 1, 1) := dk_4 (dk_at dksX3_next_2 16 rfl rfl)
theorem dX3_next_64 : decode cX3_next 64 = .ok (.putfield 96, 3) := dk_181 0 96 (dk_at dksX3_next_2 17 rfl rfl)
theorem dX3_next_67 : decode cX3_next 67 = .ok (.goto 129, 3) := dk_167 0 129 (dk_at dksX3_next_2 20 rfl rfl)
theorem dX3_next_70 : decode cX3_next 70 = .ok (.iload_n 1, 1) := dk_27 (dk_at dksX3_next_2 23 rfl rfl)
theorem dX3_next_71 : decode cX3_next 71 = .ok (.invokestatic 99, 3) := dk_184 0 99 (dk_at dksX3_next_3 0 rfl rfl)
theorem dX3_next_74 : decode cX3_next 74 = .ok (.ifCond .eq 38, 3) := dk_153 0 38 (dk_at dksX3_next_3 3 rfl rfl)
theorem dX3_next_77 : decode cX3_next 77 = .ok (.aload_n 0, 1) := dk_42 (dk_at dksX3_next_3 6 rfl rfl)
theorem dX3_next_78 : decode cX3_next 78 = .ok (.aload_n 0, 1) := dk_42 (dk_at dksX3_next_3 7 rfl rfl)
theorem dX3_next_79 : decode cX3_next 79 = .ok (.getfield 87, 3) := dk_180 0 87 (dk_at dksX3_next_3 8 rfl rfl)
theorem dX3_next_82 : decode cX3_next 82 = .ok (.invokevirtual 90, 3) := dk_182 0 90 (dk_at dksX3_next_3 11 rfl rfl)
theorem dX3_next_85 : decode cX3_next 85 = .ok (.invokestatic 99, 3) := dk_184 0 99 (dk_at dksX3_next_3 14 rfl rfl)
theorem dX3_next_88 : decode cX3_next 88 = .ok (.ifCond .eq 16, 3) := dk_153 0 16 (dk_at dksX3_next_3 17 rfl rfl)
theorem dX3_next_91 : decode cX3_next 91 = .ok (.aload_n 0, 1) := dk_42 (dk_at dksX3_next_3 20 rfl rfl)
theorem dX3_next_92 : decode cX3_next 92 = .ok (.dup, 1) := dk_89 (dk_at dksX3_next_3 21 rfl rfl)
theorem dX3_next_93 : decode cX3_next 93 = .ok (.getfield 87, 3) := dk_180 0 87 (dk_at dksX3_next_4 0 rfl rfl)
theorem dX3_next_96 : decode cX3_next 96 = .ok (.iconst 1, 1) := dk_4 (dk_at dksX3_next_4 3 rfl rfl)
theorem dX3_next_97 : decode cX3_next 97 = .ok (.iadd, 1) := dk_96 (dk_at dksX3_next_4 4 rfl rfl)
theorem dX3_next_98 : decode cX3_next 98 = .ok (.putfield 87, 3) := dk_181 0 87 (dk_at dksX3_next_4 5 rfl rfl)
theorem dX3_next_101 : decode cX3_next 101 = .ok (.goto (-24), 3) := dk_167 255 232 (dk_at dksX3_next_4 8 rfl rfl)
theorem dX3_next_104 : decode cX3_next 104 = .ok (.aload_n 0, 1) := dk_42 (dk_at dksX3_next_4 11 rfl rfl)
theorem dX3_next_105 : decode cX3_next 105 = .ok (.iconst 2, 1) := dk_5 (dk_at dksX3_next_4 12 rfl rfl)
theorem dX3_next_106 : decode cX3_next 106 = .ok (.putfield 96, 3) := dk_181 0 96 (dk_at dksX3_next_4 13 rfl rfl)
theorem dX3_next_109 : decode cX3_next 109 = .ok (.goto 87, 3) := dk_167 0 87 (dk_at dksX3_next_4 16 rfl rfl)
theorem dX3_next_112 : decode cX3_next 112 = .ok (.iload_n 1, 1) := dk_27 (dk_at dksX3_next_4 19 rfl rfl)
theorem dX3_next_113 : decode cX3_next 113 = .ok (.invokestatic 102, 3) := dk_184 0 102 (dk_at dksX3_next_4 20 rfl rfl)
theorem dX3_next_116 : decode cX3_next 116 = .ok (.ifCond .eq 55, 3) := dk_153 0 55 (dk_at dksX3_next_5 0 rfl rfl)
theorem dX3_next_119 : decode cX3_next 119 = .ok (.aload_n 0, 1) := dk_42 (dk_at dksX3_next_5 3 rfl rfl)
theorem dX3_next_120 : decode cX3_next 120 = .ok (.aload_n 0, 1) := dk_42 (dk_at dksX3_next_5 4 rfl rfl)
theorem dX3_next_121 : decode cX3_next 121 = .ok (.getfield 87, 3) := dk_180 0 87 (dk_at dksX3_next_5 5 rfl rfl)
theorem dX3_next_124 : decode cX3_next 124 = .ok (.invokevirtual 90, 3) := dk_182 0 90 (dk_at dksX3_next_5 8 rfl rfl)
theorem dX3_next_127 : decode cX3_next 127 = .ok (.invokestatic 102, 3) := dk_184 0 102 (dk_at dksX3_next_5 11 rfl rfl)
theorem dX3_next_130 : decode cX3_next 130 = .ok (.ifCond .eq 16, 3) := dk_153 0 16 (dk_at dksX3_next_5 14 rfl rfl)
theorem dX3_next_133 : decode cX3_next 133 = .ok (.aload_n 0, 1) := dk_42 (dk_at dksX3_next_5 17 rfl rfl)
theorem dX3_next_134 : decode cX3_next 134 = .ok (.dup, 1) := dk_89 (dk_at dksX3_next_5 18 rfl rfl)
theorem dX3_next_135 : decode cX3_next 135 = .ok (.getfield 87, 3) := dk_180 0 87 (dk_at dksX3_next_5 19 rfl rfl)
theorem dX3_next_138 : decode cX3_next 138 = .ok (.iconst 1, 1) := dk_4 (dk_at dksX3_next_5 22 rfl rfl)
theorem dX3_next_139 : decode cX3_next 139 = .ok (.iadd, 1) := dk_96 (dk_at dksX3_next_5 23 rfl rfl)
theorem dX3_next_140 : decode cX3_next 140 = .ok (.putfield 87, 3) := dk_181 0 87 (dk_at dksX3_next_6 0 rfl rfl)
theorem dX3_next_143 : decode cX3_next 143 = .ok (.goto (-24), 3) := dk_167 255 232 (dk_at dksX3_next_6 3 rfl rfl)
theorem dX3_next_146 : decode cX3_next 146 = .ok (.aload_n 0, 1) := dk_42 (dk_at dksX3_next_6 6 rfl rfl)
theorem dX3_next_147 : decode cX3_next 147 = .ok (.aload_n 0, 1) := dk_42 (dk_at dksX3_next_6 7 rfl rfl)
theorem dX3_next_148 : decode cX3_next 148 = .ok (.getfield 87, 3) := dk_180 0 87 (dk_at dksX3_next_6 8 rfl rfl)
theorem dX3_next_151 : decode cX3_next 151 = .ok (.aload_n 0, 1) := dk_42 (dk_at dksX3_next_6 11 rfl rfl)
theorem dX3_next_152 : decode cX3_next 152 = .ok (.getfield 93, 3) := dk_180 0 93 (dk_at dksX3_next_6 12 rfl rfl)
theorem dX3_next_155 : decode cX3_next 155 = .ok (.isub, 1) := dk_100 (dk_at dksX3_next_6 15 rfl rfl)
theorem dX3_next_156 : decode cX3_next 156 = .ok (.iconst 3, 1) := dk_6 (dk_at dksX3_next_6 16 rfl rfl)
theorem dX3_next_157 : decode cX3_next 157 = .ok (.if_icmp .le 7, 3) := dk_164 0 7 (dk_at dksX3_next_6 17 rfl rfl)
theorem dX3_next_160 : decode cX3_next 160 = .ok (.iconst 0, 1) := dk_3 (dk_at dksX3_next_6 20 rfl rfl)
theorem dX3_next_161 : decode cX3_next 161 = .ok (.goto 4, 3) := dk_167 0 4 (dk_at dksX3_next_6 21 rfl rfl)
theorem dX3_next_164 : decode cX3_next 164 = .ok (.iconst 3, 1) := dk_6 (dk_at dksX3_next_7 0 rfl rfl)
theorem dX3_next_165 : decode cX3_next 165 = .ok (.putfield 96, 3) := dk_181 0 96 (dk_at dksX3_next_7 1 rfl rfl)
theorem dX3_next_168 : decode cX3_next 168 = .ok (.goto 28, 3) := dk_167 0 28 (dk_at dksX3_next_7 4 rfl rfl)
theorem dX3_next_171 : decode cX3_next 171 = .ok (.aload_n 0, 1) := dk_42 (dk_at dksX3_next_7 7 rfl rfl)
theorem dX3_next_172 : decode cX3_next 172 = .ok (.dup, 1) := dk_89 (dk_at dksX3_next_7 8 rfl rfl)
theorem dX3_next_173 : decode cX3_next 173 = .ok (.getfield 87, 3) := dk_180 0 87 (dk_at dksX3_next_7 9 rfl rfl)
theorem dX3_next_176 : decode cX3_next 176 = .ok (.iconst 1, 1) := dk_4 (dk_at dksX3_next_7 12 rfl rfl)
theorem dX3_next_177 : decode cX3_next 177 = .ok (.iadd, 1) := dk_96 (dk_at dksX3_next_7 13 rfl rfl)
theorem dX3_next_178 : decode cX3_next 178 = .ok (.putfield 87, 3) := dk_181 0 87 (dk_at dksX3_next_7 14 rfl rfl)
theorem dX3_next_181 : decode cX3_next 181 = .ok (.aload_n 0, 1) := dk_42 (dk_at dksX3_next_7 17 rfl rfl)
theorem dX3_next_182 : decode cX3_next 182 = .ok (.iload_n 1, 1) := dk_27 (dk_at dksX3_next_7 18 rfl rfl)
theorem dX3_next_183 : decode cX3_next 183 = .ok (.bipush 59, 2) := dk_16 59 (dk_at dksX3_next_7 19 rfl rfl)
theorem dX3_next_185 : decode cX3_next 185 = .ok (.if_icmp .ne 7, 3) := dk_160 0 7 (dk_at dksX3_next_7 21 rfl rfl)
theorem dX3_next_188 : decode cX3_next 188 = .ok (.iconst 4, 1) := dk_7 (dk_at dksX3_next_8 0 rfl rfl)
theorem dX3_next_189 : decode cX3_next 189 = .ok (.goto 4, 3) := dk_167 0 4 (dk_at dksX3_next_8 1 rfl rfl)
theorem dX3_next_192 : decode cX3_next 192 = .ok (.iconst 0, 1) := dk_3 (dk_at dksX3_next_8 4 rfl rfl)
theorem dX3_next_193 : decode cX3_next 193 = .ok (.putfield 96, 3) := dk_181 0 96 (dk_at dksX3_next_8 5 rfl rfl)
theorem dX3_next_196 : decode cX3_next 196 = .ok (.aload_n 0, 1) := dk_42 (dk_at dksX3_next_8 8 rfl rfl)
theorem dX3_next_197 : decode cX3_next 197 = .ok (.aload_n 0, 1) := dk_42 (dk_at dksX3_next_8 9 rfl rfl)
theorem dX3_next_198 : decode cX3_next 198 = .ok (.getfield 87, 3) := dk_180 0 87 (dk_at dksX3_next_8 10 rfl rfl)
theorem dX3_next_201 : decode cX3_next 201 = .ok (.putfield 105, 3) := dk_181 0 105 (dk_at dksX3_next_8 13 rfl rfl)
theorem dX3_next_204 : decode cX3_next 204 = .ok (.return_, 1) := dk_177 (dk_at dksX3_next_8 16 rfl rfl)
abbrev cX3_byteAt : ByteArray := prog_16_method_11_code
def yX3_byteAt : MethodName := ⟨RX3, "byteAt", "(I)I"⟩
def dkwX3_byteAt_0 : List UInt8 := [27, 42, 180, 0, 83, 162, 0, 12, 42, 180, 0, 28, 27, 46, 167, 0, 5, 18, 86, 172]
abbrev dktX3_byteAt_0 : List UInt8 := dkwX3_byteAt_0 ++ []
theorem dksX3_byteAt_0 : cX3_byteAt.data.toList.drop 0 = dktX3_byteAt_0 := by decide +kernel
theorem dX3_byteAt_0 : decode cX3_byteAt 0 = .ok (.iload_n 1, 1) := dk_27 (dk_at dksX3_byteAt_0 0 rfl rfl)
theorem dX3_byteAt_1 : decode cX3_byteAt 1 = .ok (.aload_n 0, 1) := dk_42 (dk_at dksX3_byteAt_0 1 rfl rfl)
theorem dX3_byteAt_2 : decode cX3_byteAt 2 = .ok (.getfield 83, 3) := dk_180 0 83 (dk_at dksX3_byteAt_0 2 rfl rfl)
theorem dX3_byteAt_5 : decode cX3_byteAt 5 = .ok (.if_icmp .ge 12, 3) := dk_162 0 12 (dk_at dksX3_byteAt_0 5 rfl rfl)
theorem dX3_byteAt_8 : decode cX3_byteAt 8 = .ok (.aload_n 0, 1) := dk_42 (dk_at dksX3_byteAt_0 8 rfl rfl)
theorem dX3_byteAt_9 : decode cX3_byteAt 9 = .ok (.getfield 28, 3) := dk_180 0 28 (dk_at dksX3_byteAt_0 9 rfl rfl)
theorem dX3_byteAt_12 : decode cX3_byteAt 12 = .ok (.iload_n 1, 1) := dk_27 (dk_at dksX3_byteAt_0 12 rfl rfl)
theorem dX3_byteAt_13 : decode cX3_byteAt 13 = .ok (.iaload, 1) := dk_46 (dk_at dksX3_byteAt_0 13 rfl rfl)
theorem dX3_byteAt_14 : decode cX3_byteAt 14 = .ok (.goto 5, 3) := dk_167 0 5 (dk_at dksX3_byteAt_0 14 rfl rfl)
theorem dX3_byteAt_17 : decode cX3_byteAt 17 = .ok (.ldc 86, 2) := dk_18 86 (dk_at dksX3_byteAt_0 17 rfl rfl)
theorem dX3_byteAt_19 : decode cX3_byteAt 19 = .ok (.ireturn, 1) := dk_172 (dk_at dksX3_byteAt_0 19 rfl rfl)
abbrev cX3_isLetter : ByteArray := prog_16_method_12_code
def yX3_isLetter : MethodName := ⟨RX3, "isLetter", "(I)Z"⟩
def dkwX3_isLetter_0 : List UInt8 := [26, 16, 97, 161, 0, 13, 26, 16, 122, 163, 0, 7, 4, 167, 0, 4, 3, 172]
abbrev dktX3_isLetter_0 : List UInt8 := dkwX3_isLetter_0 ++ []
theorem dksX3_isLetter_0 : cX3_isLetter.data.toList.drop 0 = dktX3_isLetter_0 := by decide +kernel
theorem dX3_isLetter_0 : decode cX3_isLetter 0 = .ok (.iload_n 0, 1) := dk_26 (dk_at dksX3_isLetter_0 0 rfl rfl)
theorem dX3_isLetter_1 : decode cX3_isLetter 1 = .ok (.bipush 97, 2) := dk_16 97 (dk_at dksX3_isLetter_0 1 rfl rfl)
theorem dX3_isLetter_3 : decode cX3_isLetter 3 = .ok (.if_icmp .lt 13, 3) := dk_161 0 13 (dk_at dksX3_isLetter_0 3 rfl rfl)
theorem dX3_isLetter_6 : decode cX3_isLetter 6 = .ok (.iload_n 0, 1) := dk_26 (dk_at dksX3_isLetter_0 6 rfl rfl)
theorem dX3_isLetter_7 : decode cX3_isLetter 7 = .ok (.bipush 122, 2) := dk_16 122 (dk_at dksX3_isLetter_0 7 rfl rfl)
theorem dX3_isLetter_9 : decode cX3_isLetter 9 = .ok (.if_icmp .gt 7, 3) := dk_163 0 7 (dk_at dksX3_isLetter_0 9 rfl rfl)
theorem dX3_isLetter_12 : decode cX3_isLetter 12 = .ok (.iconst 1, 1) := dk_4 (dk_at dksX3_isLetter_0 12 rfl rfl)
theorem dX3_isLetter_13 : decode cX3_isLetter 13 = .ok (.goto 4, 3) := dk_167 0 4 (dk_at dksX3_isLetter_0 13 rfl rfl)
theorem dX3_isLetter_16 : decode cX3_isLetter 16 = .ok (.iconst 0, 1) := dk_3 (dk_at dksX3_isLetter_0 16 rfl rfl)
theorem dX3_isLetter_17 : decode cX3_isLetter 17 = .ok (.ireturn, 1) := dk_172 (dk_at dksX3_isLetter_0 17 rfl rfl)
abbrev cX3_isFigure : ByteArray := prog_16_method_13_code
def yX3_isFigure : MethodName := ⟨RX3, "isFigure", "(I)Z"⟩
def dkwX3_isFigure_0 : List UInt8 := [26, 16, 48, 161, 0, 13, 26, 16, 57, 163, 0, 7, 4, 167, 0, 4, 3, 172]
abbrev dktX3_isFigure_0 : List UInt8 := dkwX3_isFigure_0 ++ []
theorem dksX3_isFigure_0 : cX3_isFigure.data.toList.drop 0 = dktX3_isFigure_0 := by decide +kernel
theorem dX3_isFigure_0 : decode cX3_isFigure 0 = .ok (.iload_n 0, 1) := dk_26 (dk_at dksX3_isFigure_0 0 rfl rfl)
theorem dX3_isFigure_1 : decode cX3_isFigure 1 = .ok (.bipush 48, 2) := dk_16 48 (dk_at dksX3_isFigure_0 1 rfl rfl)
theorem dX3_isFigure_3 : decode cX3_isFigure 3 = .ok (.if_icmp .lt 13, 3) := dk_161 0 13 (dk_at dksX3_isFigure_0 3 rfl rfl)
theorem dX3_isFigure_6 : decode cX3_isFigure 6 = .ok (.iload_n 0, 1) := dk_26 (dk_at dksX3_isFigure_0 6 rfl rfl)
theorem dX3_isFigure_7 : decode cX3_isFigure 7 = .ok (.bipush 57, 2) := dk_16 57 (dk_at dksX3_isFigure_0 7 rfl rfl)
theorem dX3_isFigure_9 : decode cX3_isFigure 9 = .ok (.if_icmp .gt 7, 3) := dk_163 0 7 (dk_at dksX3_isFigure_0 9 rfl rfl)
theorem dX3_isFigure_12 : decode cX3_isFigure 12 = .ok (.iconst 1, 1) := dk_4 (dk_at dksX3_isFigure_0 12 rfl rfl)
theorem dX3_isFigure_13 : decode cX3_isFigure 13 = .ok (.goto 4, 3) := dk_167 0 4 (dk_at dksX3_isFigure_0 13 rfl rfl)
theorem dX3_isFigure_16 : decode cX3_isFigure 16 = .ok (.iconst 0, 1) := dk_3 (dk_at dksX3_isFigure_0 16 rfl rfl)
theorem dX3_isFigure_17 : decode cX3_isFigure 17 = .ok (.ireturn, 1) := dk_172 (dk_at dksX3_isFigure_0 17 rfl rfl)
abbrev cX3_name : ByteArray := prog_16_method_18_code
def yX3_name : MethodName := ⟨RX3, "name", "()J"⟩
def dkwX3_name_2 : List UInt8 := [129, 64, 132, 3, 1, 167, 255, 210, 42, 180, 0, 108, 154, 0, 7, 31, 167, 0, 4, 9, 173]
abbrev dktX3_name_2 : List UInt8 := dkwX3_name_2 ++ []
def dkwX3_name_1 : List UInt8 := [180, 0, 105, 42, 180, 0, 93, 100, 16, 8, 162, 0, 22, 31, 16, 8, 121, 42, 180, 0, 28, 29, 46, 133]
abbrev dktX3_name_1 : List UInt8 := dkwX3_name_1 ++ dktX3_name_2
def dkwX3_name_0 : List UInt8 := [9, 64, 42, 180, 0, 93, 62, 29, 42, 180, 0, 105, 162, 0, 44, 42, 180, 0, 96, 5, 160, 0, 36, 42]
abbrev dktX3_name_0 : List UInt8 := dkwX3_name_0 ++ dktX3_name_1
theorem dksX3_name_0 : cX3_name.data.toList.drop 0 = dktX3_name_0 := by decide +kernel
theorem dksX3_name_1 : cX3_name.data.toList.drop 24 = dktX3_name_1 := dk_seg dksX3_name_0 24 rfl rfl
theorem dksX3_name_2 : cX3_name.data.toList.drop 48 = dktX3_name_2 := dk_seg dksX3_name_1 24 rfl rfl
theorem dX3_name_0 : decode cX3_name 0 = .ok (.lconst 0, 1) := dk_9 (dk_at dksX3_name_0 0 rfl rfl)
theorem dX3_name_1 : decode cX3_name 1 = .ok (.lstore_n 1, 1) := dk_64 (dk_at dksX3_name_0 1 rfl rfl)
theorem dX3_name_2 : decode cX3_name 2 = .ok (.aload_n 0, 1) := dk_42 (dk_at dksX3_name_0 2 rfl rfl)
theorem dX3_name_3 : decode cX3_name 3 = .ok (.getfield 93, 3) := dk_180 0 93 (dk_at dksX3_name_0 3 rfl rfl)
theorem dX3_name_6 : decode cX3_name 6 = .ok (.istore_n 3, 1) := dk_62 (dk_at dksX3_name_0 6 rfl rfl)
theorem dX3_name_7 : decode cX3_name 7 = .ok (.iload_n 3, 1) := dk_29 (dk_at dksX3_name_0 7 rfl rfl)
theorem dX3_name_8 : decode cX3_name 8 = .ok (.aload_n 0, 1) := dk_42 (dk_at dksX3_name_0 8 rfl rfl)
theorem dX3_name_9 : decode cX3_name 9 = .ok (.getfield 105, 3) := dk_180 0 105 (dk_at dksX3_name_0 9 rfl rfl)
theorem dX3_name_12 : decode cX3_name 12 = .ok (.if_icmp .ge 44, 3) := dk_162 0 44 (dk_at dksX3_name_0 12 rfl rfl)
theorem dX3_name_15 : decode cX3_name 15 = .ok (.aload_n 0, 1) := dk_42 (dk_at dksX3_name_0 15 rfl rfl)
theorem dX3_name_16 : decode cX3_name 16 = .ok (.getfield 96, 3) := dk_180 0 96 (dk_at dksX3_name_0 16 rfl rfl)
theorem dX3_name_19 : decode cX3_name 19 = .ok (.iconst 2, 1) := dk_5 (dk_at dksX3_name_0 19 rfl rfl)
theorem dX3_name_20 : decode cX3_name 20 = .ok (.if_icmp .ne 36, 3) := dk_160 0 36 (dk_at dksX3_name_0 20 rfl rfl)
theorem dX3_name_23 : decode cX3_name 23 = .ok (.aload_n 0, 1) := dk_42 (dk_at dksX3_name_0 23 rfl rfl)
theorem dX3_name_24 : decode cX3_name 24 = .ok (.getfield 105, 3) := dk_180 0 105 (dk_at dksX3_name_1 0 rfl rfl)
theorem dX3_name_27 : decode cX3_name 27 = .ok (.aload_n 0, 1) := dk_42 (dk_at dksX3_name_1 3 rfl rfl)
theorem dX3_name_28 : decode cX3_name 28 = .ok (.getfield 93, 3) := dk_180 0 93 (dk_at dksX3_name_1 4 rfl rfl)
theorem dX3_name_31 : decode cX3_name 31 = .ok (.isub, 1) := dk_100 (dk_at dksX3_name_1 7 rfl rfl)
theorem dX3_name_32 : decode cX3_name 32 = .ok (.bipush 8, 2) := dk_16 8 (dk_at dksX3_name_1 8 rfl rfl)
theorem dX3_name_34 : decode cX3_name 34 = .ok (.if_icmp .ge 22, 3) := dk_162 0 22 (dk_at dksX3_name_1 10 rfl rfl)
theorem dX3_name_37 : decode cX3_name 37 = .ok (.lload_n 1, 1) := dk_31 (dk_at dksX3_name_1 13 rfl rfl)
theorem dX3_name_38 : decode cX3_name 38 = .ok (.bipush 8, 2) := dk_16 8 (dk_at dksX3_name_1 14 rfl rfl)
theorem dX3_name_40 : decode cX3_name 40 = .ok (.lshl, 1) := dk_121 (dk_at dksX3_name_1 16 rfl rfl)
theorem dX3_name_41 : decode cX3_name 41 = .ok (.aload_n 0, 1) := dk_42 (dk_at dksX3_name_1 17 rfl rfl)
theorem dX3_name_42 : decode cX3_name 42 = .ok (.getfield 28, 3) := dk_180 0 28 (dk_at dksX3_name_1 18 rfl rfl)
theorem dX3_name_45 : decode cX3_name 45 = .ok (.iload_n 3, 1) := dk_29 (dk_at dksX3_name_1 21 rfl rfl)
theorem dX3_name_46 : decode cX3_name 46 = .ok (.iaload, 1) := dk_46 (dk_at dksX3_name_1 22 rfl rfl)
theorem dX3_name_47 : decode cX3_name 47 = .ok (.i2l, 1) := dk_133 (dk_at dksX3_name_1 23 rfl rfl)
theorem dX3_name_48 : decode cX3_name 48 = .ok (.lor, 1) := dk_129 (dk_at dksX3_name_2 0 rfl rfl)
theorem dX3_name_49 : decode cX3_name 49 = .ok (.lstore_n 1, 1) := dk_64 (dk_at dksX3_name_2 1 rfl rfl)
theorem dX3_name_50 : decode cX3_name 50 = .ok (.iinc 3 1, 3) := dk_132 3 1 (dk_at dksX3_name_2 2 rfl rfl)
theorem dX3_name_53 : decode cX3_name 53 = .ok (.goto (-46), 3) := dk_167 255 210 (dk_at dksX3_name_2 5 rfl rfl)
theorem dX3_name_56 : decode cX3_name 56 = .ok (.aload_n 0, 1) := dk_42 (dk_at dksX3_name_2 8 rfl rfl)
theorem dX3_name_57 : decode cX3_name 57 = .ok (.getfield 108, 3) := dk_180 0 108 (dk_at dksX3_name_2 9 rfl rfl)
theorem dX3_name_60 : decode cX3_name 60 = .ok (.ifCond .ne 7, 3) := dk_154 0 7 (dk_at dksX3_name_2 12 rfl rfl)
theorem dX3_name_63 : decode cX3_name 63 = .ok (.lload_n 1, 1) := dk_31 (dk_at dksX3_name_2 15 rfl rfl)
theorem dX3_name_64 : decode cX3_name 64 = .ok (.goto 4, 3) := dk_167 0 4 (dk_at dksX3_name_2 16 rfl rfl)
theorem dX3_name_67 : decode cX3_name 67 = .ok (.lconst 0, 1) := dk_9 (dk_at dksX3_name_2 19 rfl rfl)
theorem dX3_name_68 : decode cX3_name 68 = .ok (.lreturn, 1) := dk_173 (dk_at dksX3_name_2 20 rfl rfl)
abbrev cX3_must : ByteArray := prog_16_method_17_code
def yX3_must : MethodName := ⟨RX3, "must", "(Z)V"⟩
def dkwX3_must_0 : List UInt8 := [27, 154, 0, 8, 42, 4, 182, 0, 117, 42, 180, 0, 108, 154, 0, 7, 42, 182, 0, 111, 177]
abbrev dktX3_must_0 : List UInt8 := dkwX3_must_0 ++ []
theorem dksX3_must_0 : cX3_must.data.toList.drop 0 = dktX3_must_0 := by decide +kernel
theorem dX3_must_0 : decode cX3_must 0 = .ok (.iload_n 1, 1) := dk_27 (dk_at dksX3_must_0 0 rfl rfl)
theorem dX3_must_1 : decode cX3_must 1 = .ok (.ifCond .ne 8, 3) := dk_154 0 8 (dk_at dksX3_must_0 1 rfl rfl)
theorem dX3_must_4 : decode cX3_must 4 = .ok (.aload_n 0, 1) := dk_42 (dk_at dksX3_must_0 4 rfl rfl)
theorem dX3_must_5 : decode cX3_must 5 = .ok (.iconst 1, 1) := dk_4 (dk_at dksX3_must_0 5 rfl rfl)
theorem dX3_must_6 : decode cX3_must 6 = .ok (.invokevirtual 117, 3) := dk_182 0 117 (dk_at dksX3_must_0 6 rfl rfl)
theorem dX3_must_9 : decode cX3_must 9 = .ok (.aload_n 0, 1) := dk_42 (dk_at dksX3_must_0 9 rfl rfl)
theorem dX3_must_10 : decode cX3_must 10 = .ok (.getfield 108, 3) := dk_180 0 108 (dk_at dksX3_must_0 10 rfl rfl)
theorem dX3_must_13 : decode cX3_must 13 = .ok (.ifCond .ne 7, 3) := dk_154 0 7 (dk_at dksX3_must_0 13 rfl rfl)
theorem dX3_must_16 : decode cX3_must 16 = .ok (.aload_n 0, 1) := dk_42 (dk_at dksX3_must_0 16 rfl rfl)
theorem dX3_must_17 : decode cX3_must 17 = .ok (.invokevirtual 111, 3) := dk_182 0 111 (dk_at dksX3_must_0 17 rfl rfl)
theorem dX3_must_20 : decode cX3_must 20 = .ok (.return_, 1) := dk_177 (dk_at dksX3_must_0 20 rfl rfl)
abbrev cX3_bad : ByteArray := prog_16_method_16_code
def yX3_bad : MethodName := ⟨RX3, "bad", "(I)V"⟩
def dkwX3_bad_0 : List UInt8 := [42, 180, 0, 108, 154, 0, 16, 42, 27, 181, 0, 108, 42, 42, 180, 0, 93, 181, 0, 114, 177]
abbrev dktX3_bad_0 : List UInt8 := dkwX3_bad_0 ++ []
theorem dksX3_bad_0 : cX3_bad.data.toList.drop 0 = dktX3_bad_0 := by decide +kernel
theorem dX3_bad_0 : decode cX3_bad 0 = .ok (.aload_n 0, 1) := dk_42 (dk_at dksX3_bad_0 0 rfl rfl)
theorem dX3_bad_1 : decode cX3_bad 1 = .ok (.getfield 108, 3) := dk_180 0 108 (dk_at dksX3_bad_0 1 rfl rfl)
theorem dX3_bad_4 : decode cX3_bad 4 = .ok (.ifCond .ne 16, 3) := dk_154 0 16 (dk_at dksX3_bad_0 4 rfl rfl)
theorem dX3_bad_7 : decode cX3_bad 7 = .ok (.aload_n 0, 1) := dk_42 (dk_at dksX3_bad_0 7 rfl rfl)
theorem dX3_bad_8 : decode cX3_bad 8 = .ok (.iload_n 1, 1) := dk_27 (dk_at dksX3_bad_0 8 rfl rfl)
theorem dX3_bad_9 : decode cX3_bad 9 = .ok (.putfield 108, 3) := dk_181 0 108 (dk_at dksX3_bad_0 9 rfl rfl)
theorem dX3_bad_12 : decode cX3_bad 12 = .ok (.aload_n 0, 1) := dk_42 (dk_at dksX3_bad_0 12 rfl rfl)
theorem dX3_bad_13 : decode cX3_bad 13 = .ok (.aload_n 0, 1) := dk_42 (dk_at dksX3_bad_0 13 rfl rfl)
theorem dX3_bad_14 : decode cX3_bad 14 = .ok (.getfield 93, 3) := dk_180 0 93 (dk_at dksX3_bad_0 14 rfl rfl)
theorem dX3_bad_17 : decode cX3_bad 17 = .ok (.putfield 114, 3) := dk_181 0 114 (dk_at dksX3_bad_0 17 rfl rfl)
theorem dX3_bad_20 : decode cX3_bad 20 = .ok (.return_, 1) := dk_177 (dk_at dksX3_bad_0 20 rfl rfl)
abbrev cX3_number : ByteArray := prog_16_method_20_code
def yX3_number : MethodName := ⟨RX3, "number", "(II)I"⟩
def dkwX3_number_2 : List UInt8 := [4, 167, 0, 4, 3, 182, 0, 125, 29, 172]
abbrev dktX3_number_2 : List UInt8 := dkwX3_number_2 ++ []
def dkwX3_number_1 : List UInt8 := [27, 133, 28, 133, 184, 0, 60, 154, 0, 8, 42, 5, 182, 0, 117, 42, 42, 180, 0, 96, 6, 160, 0, 7]
abbrev dktX3_number_1 : List UInt8 := dkwX3_number_1 ++ dktX3_number_2
def dkwX3_number_0 : List UInt8 := [42, 180, 0, 108, 158, 0, 5, 3, 172, 42, 182, 0, 121, 62, 42, 180, 0, 96, 6, 160, 0, 20, 29, 133]
abbrev dktX3_number_0 : List UInt8 := dkwX3_number_0 ++ dktX3_number_1
theorem dksX3_number_0 : cX3_number.data.toList.drop 0 = dktX3_number_0 := by decide +kernel
theorem dksX3_number_1 : cX3_number.data.toList.drop 24 = dktX3_number_1 := dk_seg dksX3_number_0 24 rfl rfl
theorem dksX3_number_2 : cX3_number.data.toList.drop 48 = dktX3_number_2 := dk_seg dksX3_number_1 24 rfl rfl
theorem dX3_number_0 : decode cX3_number 0 = .ok (.aload_n 0, 1) := dk_42 (dk_at dksX3_number_0 0 rfl rfl)
theorem dX3_number_1 : decode cX3_number 1 = .ok (.getfield 108, 3) := dk_180 0 108 (dk_at dksX3_number_0 1 rfl rfl)
theorem dX3_number_4 : decode cX3_number 4 = .ok (.ifCond .le 5, 3) := dk_158 0 5 (dk_at dksX3_number_0 4 rfl rfl)
theorem dX3_number_7 : decode cX3_number 7 = .ok (.iconst 0, 1) := dk_3 (dk_at dksX3_number_0 7 rfl rfl)
theorem dX3_number_8 : decode cX3_number 8 = .ok (.ireturn, 1) := dk_172 (dk_at dksX3_number_0 8 rfl rfl)
theorem dX3_number_9 : decode cX3_number 9 = .ok (.aload_n 0, 1) := dk_42 (dk_at dksX3_number_0 9 rfl rfl)
theorem dX3_number_10 : decode cX3_number 10 = .ok (.invokevirtual 121, 3) := dk_182 0 121 (dk_at dksX3_number_0 10 rfl rfl)
theorem dX3_number_13 : decode cX3_number 13 = .ok (.istore_n 3, 1) := dk_62 (dk_at dksX3_number_0 13 rfl rfl)
theorem dX3_number_14 : decode cX3_number 14 = .ok (.aload_n 0, 1) := dk_42 (dk_at dksX3_number_0 14 rfl rfl)
theorem dX3_number_15 : decode cX3_number 15 = .ok (.getfield 96, 3) := dk_180 0 96 (dk_at dksX3_number_0 15 rfl rfl)
theorem dX3_number_18 : decode cX3_number 18 = .ok (.iconst 3, 1) := dk_6 (dk_at dksX3_number_0 18 rfl rfl)
theorem dX3_number_19 : decode cX3_number 19 = .ok (.if_icmp .ne 20, 3) := dk_160 0 20 (dk_at dksX3_number_0 19 rfl rfl)
theorem dX3_number_22 : decode cX3_number 22 = .ok (.iload_n 3, 1) := dk_29 (dk_at dksX3_number_0 22 rfl rfl)
theorem dX3_number_23 : decode cX3_number 23 = .ok (.i2l, 1) := dk_133 (dk_at dksX3_number_0 23 rfl rfl)
theorem dX3_number_24 : decode cX3_number 24 = .ok (.iload_n 1, 1) := dk_27 (dk_at dksX3_number_1 0 rfl rfl)
theorem dX3_number_25 : decode cX3_number 25 = .ok (.i2l, 1) := dk_133 (dk_at dksX3_number_1 1 rfl rfl)
theorem dX3_number_26 : decode cX3_number 26 = .ok (.iload_n 2, 1) := dk_28 (dk_at dksX3_number_1 2 rfl rfl)
theorem dX3_number_27 : decode cX3_number 27 = .ok (.i2l, 1) := dk_133 (dk_at dksX3_number_1 3 rfl rfl)
theorem dX3_number_28 : decode cX3_number 28 = .ok (.invokestatic 60, 3) := dk_184 0 60 (dk_at dksX3_number_1 4 rfl rfl)
theorem dX3_number_31 : decode cX3_number 31 = .ok (.ifCond .ne 8, 3) := dk_154 0 8 (dk_at dksX3_number_1 7 rfl rfl)
theorem dX3_number_34 : decode cX3_number 34 = .ok (.aload_n 0, 1) := dk_42 (dk_at dksX3_number_1 10 rfl rfl)
theorem dX3_number_35 : decode cX3_number 35 = .ok (.iconst 2, 1) := dk_5 (dk_at dksX3_number_1 11 rfl rfl)
theorem dX3_number_36 : decode cX3_number 36 = .ok (.invokevirtual 117, 3) := dk_182 0 117 (dk_at dksX3_number_1 12 rfl rfl)
theorem dX3_number_39 : decode cX3_number 39 = .ok (.aload_n 0, 1) := dk_42 (dk_at dksX3_number_1 15 rfl rfl)
theorem dX3_number_40 : decode cX3_number 40 = .ok (.aload_n 0, 1) := dk_42 (dk_at dksX3_number_1 16 rfl rfl)
theorem dX3_number_41 : decode cX3_number 41 = .ok (.getfield 96, 3) := dk_180 0 96 (dk_at dksX3_number_1 17 rfl rfl)
theorem dX3_number_44 : decode cX3_number 44 = .ok (.iconst 3, 1) := dk_6 (dk_at dksX3_number_1 20 rfl rfl)
theorem dX3_number_45 : decode cX3_number 45 = .ok (.if_icmp .ne 7, 3) := dk_160 0 7 (dk_at dksX3_number_1 21 rfl rfl)
theorem dX3_number_48 : decode cX3_number 48 = .ok (.iconst 1, 1) := dk_4 (dk_at dksX3_number_2 0 rfl rfl)
theorem dX3_number_49 : decode cX3_number 49 = .ok (.goto 4, 3) := dk_167 0 4 (dk_at dksX3_number_2 1 rfl rfl)
theorem dX3_number_52 : decode cX3_number 52 = .ok (.iconst 0, 1) := dk_3 (dk_at dksX3_number_2 4 rfl rfl)
theorem dX3_number_53 : decode cX3_number 53 = .ok (.invokevirtual 125, 3) := dk_182 0 125 (dk_at dksX3_number_2 5 rfl rfl)
theorem dX3_number_56 : decode cX3_number 56 = .ok (.iload_n 3, 1) := dk_29 (dk_at dksX3_number_2 8 rfl rfl)
theorem dX3_number_57 : decode cX3_number 57 = .ok (.ireturn, 1) := dk_172 (dk_at dksX3_number_2 9 rfl rfl)
abbrev cX3_figures : ByteArray := prog_16_method_19_code
def yX3_figures : MethodName := ⟨RX3, "figures", "()I"⟩
def dkwX3_figures_1 : List UInt8 := [16, 10, 27, 104, 42, 180, 0, 28, 28, 46, 96, 16, 48, 100, 60, 132, 2, 1, 167, 255, 222, 27, 172]
abbrev dktX3_figures_1 : List UInt8 := dkwX3_figures_1 ++ []
def dkwX3_figures_0 : List UInt8 := [3, 60, 42, 180, 0, 93, 61, 28, 42, 180, 0, 105, 162, 0, 32, 42, 180, 0, 96, 6, 160, 0, 24]
abbrev dktX3_figures_0 : List UInt8 := dkwX3_figures_0 ++ dktX3_figures_1
theorem dksX3_figures_0 : cX3_figures.data.toList.drop 0 = dktX3_figures_0 := by decide +kernel
theorem dksX3_figures_1 : cX3_figures.data.toList.drop 23 = dktX3_figures_1 := dk_seg dksX3_figures_0 23 rfl rfl
theorem dX3_figures_0 : decode cX3_figures 0 = .ok (.iconst 0, 1) := dk_3 (dk_at dksX3_figures_0 0 rfl rfl)
theorem dX3_figures_1 : decode cX3_figures 1 = .ok (.istore_n 1, 1) := dk_60 (dk_at dksX3_figures_0 1 rfl rfl)
theorem dX3_figures_2 : decode cX3_figures 2 = .ok (.aload_n 0, 1) := dk_42 (dk_at dksX3_figures_0 2 rfl rfl)
theorem dX3_figures_3 : decode cX3_figures 3 = .ok (.getfield 93, 3) := dk_180 0 93 (dk_at dksX3_figures_0 3 rfl rfl)
theorem dX3_figures_6 : decode cX3_figures 6 = .ok (.istore_n 2, 1) := dk_61 (dk_at dksX3_figures_0 6 rfl rfl)
theorem dX3_figures_7 : decode cX3_figures 7 = .ok (.iload_n 2, 1) := dk_28 (dk_at dksX3_figures_0 7 rfl rfl)
theorem dX3_figures_8 : decode cX3_figures 8 = .ok (.aload_n 0, 1) := dk_42 (dk_at dksX3_figures_0 8 rfl rfl)
theorem dX3_figures_9 : decode cX3_figures 9 = .ok (.getfield 105, 3) := dk_180 0 105 (dk_at dksX3_figures_0 9 rfl rfl)
theorem dX3_figures_12 : decode cX3_figures 12 = .ok (.if_icmp .ge 32, 3) := dk_162 0 32 (dk_at dksX3_figures_0 12 rfl rfl)
theorem dX3_figures_15 : decode cX3_figures 15 = .ok (.aload_n 0, 1) := dk_42 (dk_at dksX3_figures_0 15 rfl rfl)
theorem dX3_figures_16 : decode cX3_figures 16 = .ok (.getfield 96, 3) := dk_180 0 96 (dk_at dksX3_figures_0 16 rfl rfl)
theorem dX3_figures_19 : decode cX3_figures 19 = .ok (.iconst 3, 1) := dk_6 (dk_at dksX3_figures_0 19 rfl rfl)
theorem dX3_figures_20 : decode cX3_figures 20 = .ok (.if_icmp .ne 24, 3) := dk_160 0 24 (dk_at dksX3_figures_0 20 rfl rfl)
theorem dX3_figures_23 : decode cX3_figures 23 = .ok (.bipush 10, 2) := dk_16 10 (dk_at dksX3_figures_1 0 rfl rfl)
theorem dX3_figures_25 : decode cX3_figures 25 = .ok (.iload_n 1, 1) := dk_27 (dk_at dksX3_figures_1 2 rfl rfl)
theorem dX3_figures_26 : decode cX3_figures 26 = .ok (.imul, 1) := dk_104 (dk_at dksX3_figures_1 3 rfl rfl)
theorem dX3_figures_27 : decode cX3_figures 27 = .ok (.aload_n 0, 1) := dk_42 (dk_at dksX3_figures_1 4 rfl rfl)
theorem dX3_figures_28 : decode cX3_figures 28 = .ok (.getfield 28, 3) := dk_180 0 28 (dk_at dksX3_figures_1 5 rfl rfl)
theorem dX3_figures_31 : decode cX3_figures 31 = .ok (.iload_n 2, 1) := dk_28 (dk_at dksX3_figures_1 8 rfl rfl)
theorem dX3_figures_32 : decode cX3_figures 32 = .ok (.iaload, 1) := dk_46 (dk_at dksX3_figures_1 9 rfl rfl)
theorem dX3_figures_33 : decode cX3_figures 33 = .ok (.iadd, 1) := dk_96 (dk_at dksX3_figures_1 10 rfl rfl)
theorem dX3_figures_34 : decode cX3_figures 34 = .ok (.bipush 48, 2) := dk_16 48 (dk_at dksX3_figures_1 11 rfl rfl)
theorem dX3_figures_36 : decode cX3_figures 36 = .ok (.isub, 1) := dk_100 (dk_at dksX3_figures_1 13 rfl rfl)
theorem dX3_figures_37 : decode cX3_figures 37 = .ok (.istore_n 1, 1) := dk_60 (dk_at dksX3_figures_1 14 rfl rfl)
theorem dX3_figures_38 : decode cX3_figures 38 = .ok (.iinc 2 1, 3) := dk_132 2 1 (dk_at dksX3_figures_1 15 rfl rfl)
theorem dX3_figures_41 : decode cX3_figures 41 = .ok (.goto (-34), 3) := dk_167 255 222 (dk_at dksX3_figures_1 18 rfl rfl)
theorem dX3_figures_44 : decode cX3_figures 44 = .ok (.iload_n 1, 1) := dk_27 (dk_at dksX3_figures_1 21 rfl rfl)
theorem dX3_figures_45 : decode cX3_figures 45 = .ok (.ireturn, 1) := dk_172 (dk_at dksX3_figures_1 22 rfl rfl)
abbrev cX3_mustEnd : ByteArray := prog_16_method_22_code
def yX3_mustEnd : MethodName := ⟨RX3, "mustEnd", "()V"⟩
def dkwX3_mustEnd_1 : List UInt8 := [177]
abbrev dktX3_mustEnd_1 : List UInt8 := dkwX3_mustEnd_1 ++ []
def dkwX3_mustEnd_0 : List UInt8 := [42, 180, 0, 108, 154, 0, 20, 42, 42, 180, 0, 96, 7, 160, 0, 7, 4, 167, 0, 4, 3, 182, 0, 125]
abbrev dktX3_mustEnd_0 : List UInt8 := dkwX3_mustEnd_0 ++ dktX3_mustEnd_1
theorem dksX3_mustEnd_0 : cX3_mustEnd.data.toList.drop 0 = dktX3_mustEnd_0 := by decide +kernel
theorem dksX3_mustEnd_1 : cX3_mustEnd.data.toList.drop 24 = dktX3_mustEnd_1 := dk_seg dksX3_mustEnd_0 24 rfl rfl
theorem dX3_mustEnd_0 : decode cX3_mustEnd 0 = .ok (.aload_n 0, 1) := dk_42 (dk_at dksX3_mustEnd_0 0 rfl rfl)
theorem dX3_mustEnd_1 : decode cX3_mustEnd 1 = .ok (.getfield 108, 3) := dk_180 0 108 (dk_at dksX3_mustEnd_0 1 rfl rfl)
theorem dX3_mustEnd_4 : decode cX3_mustEnd 4 = .ok (.ifCond .ne 20, 3) := dk_154 0 20 (dk_at dksX3_mustEnd_0 4 rfl rfl)
theorem dX3_mustEnd_7 : decode cX3_mustEnd 7 = .ok (.aload_n 0, 1) := dk_42 (dk_at dksX3_mustEnd_0 7 rfl rfl)
theorem dX3_mustEnd_8 : decode cX3_mustEnd 8 = .ok (.aload_n 0, 1) := dk_42 (dk_at dksX3_mustEnd_0 8 rfl rfl)
theorem dX3_mustEnd_9 : decode cX3_mustEnd 9 = .ok (.getfield 96, 3) := dk_180 0 96 (dk_at dksX3_mustEnd_0 9 rfl rfl)
theorem dX3_mustEnd_12 : decode cX3_mustEnd 12 = .ok (.iconst 4, 1) := dk_7 (dk_at dksX3_mustEnd_0 12 rfl rfl)
theorem dX3_mustEnd_13 : decode cX3_mustEnd 13 = .ok (.if_icmp .ne 7, 3) := dk_160 0 7 (dk_at dksX3_mustEnd_0 13 rfl rfl)
theorem dX3_mustEnd_16 : decode cX3_mustEnd 16 = .ok (.iconst 1, 1) := dk_4 (dk_at dksX3_mustEnd_0 16 rfl rfl)
theorem dX3_mustEnd_17 : decode cX3_mustEnd 17 = .ok (.goto 4, 3) := dk_167 0 4 (dk_at dksX3_mustEnd_0 17 rfl rfl)
theorem dX3_mustEnd_20 : decode cX3_mustEnd 20 = .ok (.iconst 0, 1) := dk_3 (dk_at dksX3_mustEnd_0 20 rfl rfl)
theorem dX3_mustEnd_21 : decode cX3_mustEnd 21 = .ok (.invokevirtual 125, 3) := dk_182 0 125 (dk_at dksX3_mustEnd_0 21 rfl rfl)
theorem dX3_mustEnd_24 : decode cX3_mustEnd 24 = .ok (.return_, 1) := dk_177 (dk_at dksX3_mustEnd_1 0 rfl rfl)
abbrev cX3_readStone : ByteArray := prog_16_method_24_code
def yX3_readStone : MethodName := ⟨RX3, "readStone", "()V"⟩
def dkwX3_readStone_5 : List UInt8 := [79, 177]
abbrev dktX3_readStone_5 : List UInt8 := dkwX3_readStone_5 ++ []
def dkwX3_readStone_4 : List UInt8 := [79, 42, 180, 0, 22, 16, 8, 6, 27, 104, 96, 5, 96, 29, 79, 42, 180, 0, 22, 7, 92, 46, 4, 96]
abbrev dktX3_readStone_4 : List UInt8 := dkwX3_readStone_4 ++ dktX3_readStone_5
def dkwX3_readStone_3 : List UInt8 := [180, 0, 22, 16, 8, 6, 27, 104, 96, 28, 79, 42, 180, 0, 22, 16, 8, 6, 27, 104, 96, 4, 96, 29]
abbrev dktX3_readStone_3 : List UInt8 := dkwX3_readStone_3 ++ dktX3_readStone_4
def dkwX3_readStone_2 : List UInt8 := [96, 42, 180, 0, 22, 3, 46, 182, 0, 143, 62, 42, 182, 0, 147, 42, 180, 0, 108, 154, 0, 53, 42]
abbrev dktX3_readStone_2 : List UInt8 := dkwX3_readStone_2 ++ dktX3_readStone_3
def dkwX3_readStone_1 : List UInt8 := [27, 154, 0, 7, 3, 167, 0, 20, 42, 180, 0, 22, 16, 8, 6, 27, 4, 100, 104, 96, 4, 96, 46, 4]
abbrev dktX3_readStone_1 : List UInt8 := dkwX3_readStone_1 ++ dktX3_readStone_2
def dkwX3_readStone_0 : List UInt8 := [42, 7, 16, 6, 182, 0, 139, 42, 180, 0, 22, 7, 46, 60, 42, 3, 17, 0, 200, 182, 0, 143, 61, 42]
abbrev dktX3_readStone_0 : List UInt8 := dkwX3_readStone_0 ++ dktX3_readStone_1
theorem dksX3_readStone_0 : cX3_readStone.data.toList.drop 0 = dktX3_readStone_0 := by decide +kernel
theorem dksX3_readStone_1 : cX3_readStone.data.toList.drop 24 = dktX3_readStone_1 := dk_seg dksX3_readStone_0 24 rfl rfl
theorem dksX3_readStone_2 : cX3_readStone.data.toList.drop 48 = dktX3_readStone_2 := dk_seg dksX3_readStone_1 24 rfl rfl
theorem dksX3_readStone_3 : cX3_readStone.data.toList.drop 71 = dktX3_readStone_3 := dk_seg dksX3_readStone_2 23 rfl rfl
theorem dksX3_readStone_4 : cX3_readStone.data.toList.drop 95 = dktX3_readStone_4 := dk_seg dksX3_readStone_3 24 rfl rfl
theorem dksX3_readStone_5 : cX3_readStone.data.toList.drop 119 = dktX3_readStone_5 := dk_seg dksX3_readStone_4 24 rfl rfl
theorem dX3_readStone_0 : decode cX3_readStone 0 = .ok (.aload_n 0, 1) := dk_42 (dk_at dksX3_readStone_0 0 rfl rfl)
theorem dX3_readStone_1 : decode cX3_readStone 1 = .ok (.iconst 4, 1) := dk_7 (dk_at dksX3_readStone_0 1 rfl rfl)
theorem dX3_readStone_2 : decode cX3_readStone 2 = .ok (.bipush 6, 2) := dk_16 6 (dk_at dksX3_readStone_0 2 rfl rfl)
theorem dX3_readStone_4 : decode cX3_readStone 4 = .ok (.invokevirtual 139, 3) := dk_182 0 139 (dk_at dksX3_readStone_0 4 rfl rfl)
theorem dX3_readStone_7 : decode cX3_readStone 7 = .ok (.aload_n 0, 1) := dk_42 (dk_at dksX3_readStone_0 7 rfl rfl)
theorem dX3_readStone_8 : decode cX3_readStone 8 = .ok (.getfield 22, 3) := dk_180 0 22 (dk_at dksX3_readStone_0 8 rfl rfl)
theorem dX3_readStone_11 : decode cX3_readStone 11 = .ok (.iconst 4, 1) := dk_7 (dk_at dksX3_readStone_0 11 rfl rfl)
theorem dX3_readStone_12 : decode cX3_readStone 12 = .ok (.iaload, 1) := dk_46 (dk_at dksX3_readStone_0 12 rfl rfl)
theorem dX3_readStone_13 : decode cX3_readStone 13 = .ok (.istore_n 1, 1) := dk_60 (dk_at dksX3_readStone_0 13 rfl rfl)
theorem dX3_readStone_14 : decode cX3_readStone 14 = .ok (.aload_n 0, 1) := dk_42 (dk_at dksX3_readStone_0 14 rfl rfl)
theorem dX3_readStone_15 : decode cX3_readStone 15 = .ok (.iconst 0, 1) := dk_3 (dk_at dksX3_readStone_0 15 rfl rfl)
theorem dX3_readStone_16 : decode cX3_readStone 16 = .ok (.sipush 200, 3) := dk_17 0 200 (dk_at dksX3_readStone_0 16 rfl rfl)
theorem dX3_readStone_19 : decode cX3_readStone 19 = .ok (.invokevirtual 143, 3) := dk_182 0 143 (dk_at dksX3_readStone_0 19 rfl rfl)
theorem dX3_readStone_22 : decode cX3_readStone 22 = .ok (.istore_n 2, 1) := dk_61 (dk_at dksX3_readStone_0 22 rfl rfl)
theorem dX3_readStone_23 : decode cX3_readStone 23 = .ok (.aload_n 0, 1) := dk_42 (dk_at dksX3_readStone_0 23 rfl rfl)
theorem dX3_readStone_24 : decode cX3_readStone 24 = .ok (.iload_n 1, 1) := dk_27 (dk_at dksX3_readStone_1 0 rfl rfl)
theorem dX3_readStone_25 : decode cX3_readStone 25 = .ok (.ifCond .ne 7, 3) := dk_154 0 7 (dk_at dksX3_readStone_1 1 rfl rfl)
theorem dX3_readStone_28 : decode cX3_readStone 28 = .ok (.iconst 0, 1) := dk_3 (dk_at dksX3_readStone_1 4 rfl rfl)
theorem dX3_readStone_29 : decode cX3_readStone 29 = .ok (.goto 20, 3) := dk_167 0 20 (dk_at dksX3_readStone_1 5 rfl rfl)
theorem dX3_readStone_32 : decode cX3_readStone 32 = .ok (.aload_n 0, 1) := dk_42 (dk_at dksX3_readStone_1 8 rfl rfl)
theorem dX3_readStone_33 : decode cX3_readStone 33 = .ok (.getfield 22, 3) := dk_180 0 22 (dk_at dksX3_readStone_1 9 rfl rfl)
theorem dX3_readStone_36 : decode cX3_readStone 36 = .ok (.bipush 8, 2) := dk_16 8 (dk_at dksX3_readStone_1 12 rfl rfl)
theorem dX3_readStone_38 : decode cX3_readStone 38 = .ok (.iconst 3, 1) := dk_6 (dk_at dksX3_readStone_1 14 rfl rfl)
theorem dX3_readStone_39 : decode cX3_readStone 39 = .ok (.iload_n 1, 1) := dk_27 (dk_at dksX3_readStone_1 15 rfl rfl)
theorem dX3_readStone_40 : decode cX3_readStone 40 = .ok (.iconst 1, 1) := dk_4 (dk_at dksX3_readStone_1 16 rfl rfl)
theorem dX3_readStone_41 : decode cX3_readStone 41 = .ok (.isub, 1) := dk_100 (dk_at dksX3_readStone_1 17 rfl rfl)
theorem dX3_readStone_42 : decode cX3_readStone 42 = .ok (.imul, 1) := dk_104 (dk_at dksX3_readStone_1 18 rfl rfl)
theorem dX3_readStone_43 : decode cX3_readStone 43 = .ok (.iadd, 1) := dk_96 (dk_at dksX3_readStone_1 19 rfl rfl)
theorem dX3_readStone_44 : decode cX3_readStone 44 = .ok (.iconst 1, 1) := dk_4 (dk_at dksX3_readStone_1 20 rfl rfl)
theorem dX3_readStone_45 : decode cX3_readStone 45 = .ok (.iadd, 1) := dk_96 (dk_at dksX3_readStone_1 21 rfl rfl)
theorem dX3_readStone_46 : decode cX3_readStone 46 = .ok (.iaload, 1) := dk_46 (dk_at dksX3_readStone_1 22 rfl rfl)
theorem dX3_readStone_47 : decode cX3_readStone 47 = .ok (.iconst 1, 1) := dk_4 (dk_at dksX3_readStone_1 23 rfl rfl)
theorem dX3_readStone_48 : decode cX3_readStone 48 = .ok (.iadd, 1) := dk_96 (dk_at dksX3_readStone_2 0 rfl rfl)
theorem dX3_readStone_49 : decode cX3_readStone 49 = .ok (.aload_n 0, 1) := dk_42 (dk_at dksX3_readStone_2 1 rfl rfl)
theorem dX3_readStone_50 : decode cX3_readStone 50 = .ok (.getfield 22, 3) := dk_180 0 22 (dk_at dksX3_readStone_2 2 rfl rfl)
theorem dX3_readStone_53 : decode cX3_readStone 53 = .ok (.iconst 0, 1) := dk_3 (dk_at dksX3_readStone_2 5 rfl rfl)
theorem dX3_readStone_54 : decode cX3_readStone 54 = .ok (.iaload, 1) := dk_46 (dk_at dksX3_readStone_2 6 rfl rfl)
theorem dX3_readStone_55 : decode cX3_readStone 55 = .ok (.invokevirtual 143, 3) := dk_182 0 143 (dk_at dksX3_readStone_2 7 rfl rfl)
theorem dX3_readStone_58 : decode cX3_readStone 58 = .ok (.istore_n 3, 1) := dk_62 (dk_at dksX3_readStone_2 10 rfl rfl)
theorem dX3_readStone_59 : decode cX3_readStone 59 = .ok (.aload_n 0, 1) := dk_42 (dk_at dksX3_readStone_2 11 rfl rfl)
theorem dX3_readStone_60 : decode cX3_readStone 60 = .ok (.invokevirtual 147, 3) := dk_182 0 147 (dk_at dksX3_readStone_2 12 rfl rfl)
theorem dX3_readStone_63 : decode cX3_readStone 63 = .ok (.aload_n 0, 1) := dk_42 (dk_at dksX3_readStone_2 15 rfl rfl)
theorem dX3_readStone_64 : decode cX3_readStone 64 = .ok (.getfield 108, 3) := dk_180 0 108 (dk_at dksX3_readStone_2 16 rfl rfl)
theorem dX3_readStone_67 : decode cX3_readStone 67 = .ok (.ifCond .ne 53, 3) := dk_154 0 53 (dk_at dksX3_readStone_2 19 rfl rfl)
theorem dX3_readStone_70 : decode cX3_readStone 70 = .ok (.aload_n 0, 1) := dk_42 (dk_at dksX3_readStone_2 22 rfl rfl)
theorem dX3_readStone_71 : decode cX3_readStone 71 = .ok (.getfield 22, 3) := dk_180 0 22 (dk_at dksX3_readStone_3 0 rfl rfl)
theorem dX3_readStone_74 : decode cX3_readStone 74 = .ok (.bipush 8, 2) := dk_16 8 (dk_at dksX3_readStone_3 3 rfl rfl)
theorem dX3_readStone_76 : decode cX3_readStone 76 = .ok (.iconst 3, 1) := dk_6 (dk_at dksX3_readStone_3 5 rfl rfl)
theorem dX3_readStone_77 : decode cX3_readStone 77 = .ok (.iload_n 1, 1) := dk_27 (dk_at dksX3_readStone_3 6 rfl rfl)
theorem dX3_readStone_78 : decode cX3_readStone 78 = .ok (.imul, 1) := dk_104 (dk_at dksX3_readStone_3 7 rfl rfl)
theorem dX3_readStone_79 : decode cX3_readStone 79 = .ok (.iadd, 1) := dk_96 (dk_at dksX3_readStone_3 8 rfl rfl)
theorem dX3_readStone_80 : decode cX3_readStone 80 = .ok (.iload_n 2, 1) := dk_28 (dk_at dksX3_readStone_3 9 rfl rfl)
theorem dX3_readStone_81 : decode cX3_readStone 81 = .ok (.iastore, 1) := dk_79 (dk_at dksX3_readStone_3 10 rfl rfl)
theorem dX3_readStone_82 : decode cX3_readStone 82 = .ok (.aload_n 0, 1) := dk_42 (dk_at dksX3_readStone_3 11 rfl rfl)
theorem dX3_readStone_83 : decode cX3_readStone 83 = .ok (.getfield 22, 3) := dk_180 0 22 (dk_at dksX3_readStone_3 12 rfl rfl)
theorem dX3_readStone_86 : decode cX3_readStone 86 = .ok (.bipush 8, 2) := dk_16 8 (dk_at dksX3_readStone_3 15 rfl rfl)
theorem dX3_readStone_88 : decode cX3_readStone 88 = .ok (.iconst 3, 1) := dk_6 (dk_at dksX3_readStone_3 17 rfl rfl)
theorem dX3_readStone_89 : decode cX3_readStone 89 = .ok (.iload_n 1, 1) := dk_27 (dk_at dksX3_readStone_3 18 rfl rfl)
theorem dX3_readStone_90 : decode cX3_readStone 90 = .ok (.imul, 1) := dk_104 (dk_at dksX3_readStone_3 19 rfl rfl)
theorem dX3_readStone_91 : decode cX3_readStone 91 = .ok (.iadd, 1) := dk_96 (dk_at dksX3_readStone_3 20 rfl rfl)
theorem dX3_readStone_92 : decode cX3_readStone 92 = .ok (.iconst 1, 1) := dk_4 (dk_at dksX3_readStone_3 21 rfl rfl)
theorem dX3_readStone_93 : decode cX3_readStone 93 = .ok (.iadd, 1) := dk_96 (dk_at dksX3_readStone_3 22 rfl rfl)
theorem dX3_readStone_94 : decode cX3_readStone 94 = .ok (.iload_n 3, 1) := dk_29 (dk_at dksX3_readStone_3 23 rfl rfl)
theorem dX3_readStone_95 : decode cX3_readStone 95 = .ok (.iastore, 1) := dk_79 (dk_at dksX3_readStone_4 0 rfl rfl)
theorem dX3_readStone_96 : decode cX3_readStone 96 = .ok (.aload_n 0, 1) := dk_42 (dk_at dksX3_readStone_4 1 rfl rfl)
theorem dX3_readStone_97 : decode cX3_readStone 97 = .ok (.getfield 22, 3) := dk_180 0 22 (dk_at dksX3_readStone_4 2 rfl rfl)
theorem dX3_readStone_100 : decode cX3_readStone 100 = .ok (.bipush 8, 2) := dk_16 8 (dk_at dksX3_readStone_4 5 rfl rfl)
theorem dX3_readStone_102 : decode cX3_readStone 102 = .ok (.iconst 3, 1) := dk_6 (dk_at dksX3_readStone_4 7 rfl rfl)
theorem dX3_readStone_103 : decode cX3_readStone 103 = .ok (.iload_n 1, 1) := dk_27 (dk_at dksX3_readStone_4 8 rfl rfl)
theorem dX3_readStone_104 : decode cX3_readStone 104 = .ok (.imul, 1) := dk_104 (dk_at dksX3_readStone_4 9 rfl rfl)
theorem dX3_readStone_105 : decode cX3_readStone 105 = .ok (.iadd, 1) := dk_96 (dk_at dksX3_readStone_4 10 rfl rfl)
theorem dX3_readStone_106 : decode cX3_readStone 106 = .ok (.iconst 2, 1) := dk_5 (dk_at dksX3_readStone_4 11 rfl rfl)
theorem dX3_readStone_107 : decode cX3_readStone 107 = .ok (.iadd, 1) := dk_96 (dk_at dksX3_readStone_4 12 rfl rfl)
theorem dX3_readStone_108 : decode cX3_readStone 108 = .ok (.iload_n 3, 1) := dk_29 (dk_at dksX3_readStone_4 13 rfl rfl)
theorem dX3_readStone_109 : decode cX3_readStone 109 = .ok (.iastore, 1) := dk_79 (dk_at dksX3_readStone_4 14 rfl rfl)
theorem dX3_readStone_110 : decode cX3_readStone 110 = .ok (.aload_n 0, 1) := dk_42 (dk_at dksX3_readStone_4 15 rfl rfl)
theorem dX3_readStone_111 : decode cX3_readStone 111 = .ok (.getfield 22, 3) := dk_180 0 22 (dk_at dksX3_readStone_4 16 rfl rfl)
theorem dX3_readStone_114 : decode cX3_readStone 114 = .ok (.iconst 4, 1) := dk_7 (dk_at dksX3_readStone_4 19 rfl rfl)
theorem dX3_readStone_115 : decode cX3_readStone 115 = .ok (.dup2, 1) := dk_92 (dk_at dksX3_readStone_4 20 rfl rfl)
theorem dX3_readStone_116 : decode cX3_readStone 116 = .ok (.iaload, 1) := dk_46 (dk_at dksX3_readStone_4 21 rfl rfl)
theorem dX3_readStone_117 : decode cX3_readStone 117 = .ok (.iconst 1, 1) := dk_4 (dk_at dksX3_readStone_4 22 rfl rfl)
theorem dX3_readStone_118 : decode cX3_readStone 118 = .ok (.iadd, 1) := dk_96 (dk_at dksX3_readStone_4 23 rfl rfl)
theorem dX3_readStone_119 : decode cX3_readStone 119 = .ok (.iastore, 1) := dk_79 (dk_at dksX3_readStone_5 0 rfl rfl)
theorem dX3_readStone_120 : decode cX3_readStone 120 = .ok (.return_, 1) := dk_177 (dk_at dksX3_readStone_5 1 rfl rfl)
abbrev cX3_begins : ByteArray := prog_16_method_23_code
def yX3_begins : MethodName := ⟨RX3, "begins", "(II)V"⟩
def dkwX3_begins_0 : List UInt8 := [42, 180, 0, 22, 27, 46, 28, 160, 0, 8, 42, 6, 182, 0, 117, 42, 4, 182, 0, 125, 177]
abbrev dktX3_begins_0 : List UInt8 := dkwX3_begins_0 ++ []
theorem dksX3_begins_0 : cX3_begins.data.toList.drop 0 = dktX3_begins_0 := by decide +kernel
theorem dX3_begins_0 : decode cX3_begins 0 = .ok (.aload_n 0, 1) := dk_42 (dk_at dksX3_begins_0 0 rfl rfl)
theorem dX3_begins_1 : decode cX3_begins 1 = .ok (.getfield 22, 3) := dk_180 0 22 (dk_at dksX3_begins_0 1 rfl rfl)
theorem dX3_begins_4 : decode cX3_begins 4 = .ok (.iload_n 1, 1) := dk_27 (dk_at dksX3_begins_0 4 rfl rfl)
theorem dX3_begins_5 : decode cX3_begins 5 = .ok (.iaload, 1) := dk_46 (dk_at dksX3_begins_0 5 rfl rfl)
theorem dX3_begins_6 : decode cX3_begins 6 = .ok (.iload_n 2, 1) := dk_28 (dk_at dksX3_begins_0 6 rfl rfl)
theorem dX3_begins_7 : decode cX3_begins 7 = .ok (.if_icmp .ne 8, 3) := dk_160 0 8 (dk_at dksX3_begins_0 7 rfl rfl)
theorem dX3_begins_10 : decode cX3_begins 10 = .ok (.aload_n 0, 1) := dk_42 (dk_at dksX3_begins_0 10 rfl rfl)
theorem dX3_begins_11 : decode cX3_begins 11 = .ok (.iconst 3, 1) := dk_6 (dk_at dksX3_begins_0 11 rfl rfl)
theorem dX3_begins_12 : decode cX3_begins 12 = .ok (.invokevirtual 117, 3) := dk_182 0 117 (dk_at dksX3_begins_0 12 rfl rfl)
theorem dX3_begins_15 : decode cX3_begins 15 = .ok (.aload_n 0, 1) := dk_42 (dk_at dksX3_begins_0 15 rfl rfl)
theorem dX3_begins_16 : decode cX3_begins 16 = .ok (.iconst 1, 1) := dk_4 (dk_at dksX3_begins_0 16 rfl rfl)
theorem dX3_begins_17 : decode cX3_begins 17 = .ok (.invokevirtual 125, 3) := dk_182 0 125 (dk_at dksX3_begins_0 17 rfl rfl)
theorem dX3_begins_20 : decode cX3_begins 20 = .ok (.return_, 1) := dk_177 (dk_at dksX3_begins_0 20 rfl rfl)
abbrev cX3_readMover : ByteArray := prog_16_method_25_code
def yX3_readMover : MethodName := ⟨RX3, "readMover", "()V"⟩
def dkwX3_readMover_5 : List UInt8 := [42, 180, 0, 22, 21, 5, 6, 96, 21, 4, 79, 42, 180, 0, 22, 8, 92, 46, 4, 96, 79, 177]
abbrev dktX3_readMover_5 : List UInt8 := dkwX3_readMover_5 ++ []
def dkwX3_readMover_4 : List UInt8 := [21, 5, 27, 79, 42, 180, 0, 22, 21, 5, 4, 96, 28, 79, 42, 180, 0, 22, 21, 5, 5, 96, 29, 79]
abbrev dktX3_readMover_4 : List UInt8 := dkwX3_readMover_4 ++ dktX3_readMover_5
def dkwX3_readMover_3 : List UInt8 := [180, 0, 108, 154, 0, 65, 16, 26, 7, 42, 180, 0, 22, 8, 46, 104, 96, 54, 5, 42, 180, 0, 22]
abbrev dktX3_readMover_3 : List UInt8 := dkwX3_readMover_3 ++ dktX3_readMover_4
def dkwX3_readMover_2 : List UInt8 := [182, 0, 143, 61, 42, 3, 4, 182, 0, 143, 62, 42, 4, 8, 182, 0, 143, 54, 4, 42, 182, 0, 147, 42]
abbrev dktX3_readMover_2 : List UInt8 := dkwX3_readMover_2 ++ dktX3_readMover_3
def dkwX3_readMover_1 : List UInt8 := [18, 86, 159, 0, 7, 4, 167, 0, 4, 3, 182, 0, 125, 42, 3, 42, 180, 0, 22, 7, 46, 4, 100]
abbrev dktX3_readMover_1 : List UInt8 := dkwX3_readMover_1 ++ dktX3_readMover_2
def dkwX3_readMover_0 : List UInt8 := [42, 8, 8, 182, 0, 139, 42, 182, 0, 150, 184, 0, 154, 60, 42, 180, 0, 108, 154, 0, 18, 42, 27]
abbrev dktX3_readMover_0 : List UInt8 := dkwX3_readMover_0 ++ dktX3_readMover_1
theorem dksX3_readMover_0 : cX3_readMover.data.toList.drop 0 = dktX3_readMover_0 := by decide +kernel
theorem dksX3_readMover_1 : cX3_readMover.data.toList.drop 23 = dktX3_readMover_1 := dk_seg dksX3_readMover_0 23 rfl rfl
theorem dksX3_readMover_2 : cX3_readMover.data.toList.drop 46 = dktX3_readMover_2 := dk_seg dksX3_readMover_1 23 rfl rfl
theorem dksX3_readMover_3 : cX3_readMover.data.toList.drop 70 = dktX3_readMover_3 := dk_seg dksX3_readMover_2 24 rfl rfl
theorem dksX3_readMover_4 : cX3_readMover.data.toList.drop 93 = dktX3_readMover_4 := dk_seg dksX3_readMover_3 23 rfl rfl
theorem dksX3_readMover_5 : cX3_readMover.data.toList.drop 117 = dktX3_readMover_5 := dk_seg dksX3_readMover_4 24 rfl rfl
theorem dX3_readMover_0 : decode cX3_readMover 0 = .ok (.aload_n 0, 1) := dk_42 (dk_at dksX3_readMover_0 0 rfl rfl)
theorem dX3_readMover_1 : decode cX3_readMover 1 = .ok (.iconst 5, 1) := dk_8 (dk_at dksX3_readMover_0 1 rfl rfl)
theorem dX3_readMover_2 : decode cX3_readMover 2 = .ok (.iconst 5, 1) := dk_8 (dk_at dksX3_readMover_0 2 rfl rfl)
theorem dX3_readMover_3 : decode cX3_readMover 3 = .ok (.invokevirtual 139, 3) := dk_182 0 139 (dk_at dksX3_readMover_0 3 rfl rfl)
theorem dX3_readMover_6 : decode cX3_readMover 6 = .ok (.aload_n 0, 1) := dk_42 (dk_at dksX3_readMover_0 6 rfl rfl)
theorem dX3_readMover_7 : decode cX3_readMover 7 = .ok (.invokevirtual 150, 3) := dk_182 0 150 (dk_at dksX3_readMover_0 7 rfl rfl)
theorem dX3_readMover_10 : decode cX3_readMover 10 = .ok (.invokestatic 154, 3) := dk_184 0 154 (dk_at dksX3_readMover_0 10 rfl rfl)
theorem dX3_readMover_13 : decode cX3_readMover 13 = .ok (.istore_n 1, 1) := dk_60 (dk_at dksX3_readMover_0 13 rfl rfl)
theorem dX3_readMover_14 : decode cX3_readMover 14 = .ok (.aload_n 0, 1) := dk_42 (dk_at dksX3_readMover_0 14 rfl rfl)
theorem dX3_readMover_15 : decode cX3_readMover 15 = .ok (.getfield 108, 3) := dk_180 0 108 (dk_at dksX3_readMover_0 15 rfl rfl)
theorem dX3_readMover_18 : decode cX3_readMover 18 = .ok (.ifCond .ne 18, 3) := dk_154 0 18 (dk_at dksX3_readMover_0 18 rfl rfl)
theorem dX3_readMover_21 : decode cX3_readMover 21 = .ok (.aload_n 0, 1) := dk_42 (dk_at dksX3_readMover_0 21 rfl rfl)
theorem dX3_readMover_22 : decode cX3_readMover 22 = .ok (.iload_n 1, 1) := dk_27 (dk_at dksX3_readMover_0 22 rfl rfl)
theorem dX3_readMover_23 : decode cX3_readMover 23 = .ok (.ldc 86, 2) := dk_18 86 (dk_at dksX3_readMover_1 0 rfl rfl)
theorem dX3_readMover_25 : decode cX3_readMover 25 = .ok (.if_icmp .eq 7, 3) := dk_159 0 7 (dk_at dksX3_readMover_1 2 rfl rfl)
theorem dX3_readMover_28 : decode cX3_readMover 28 = .ok (.iconst 1, 1) := dk_4 (dk_at dksX3_readMover_1 5 rfl rfl)
theorem dX3_readMover_29 : decode cX3_readMover 29 = .ok (.goto 4, 3) := dk_167 0 4 (dk_at dksX3_readMover_1 6 rfl rfl)
theorem dX3_readMover_32 : decode cX3_readMover 32 = .ok (.iconst 0, 1) := dk_3 (dk_at dksX3_readMover_1 9 rfl rfl)
theorem dX3_readMover_33 : decode cX3_readMover 33 = .ok (.invokevirtual 125, 3) := dk_182 0 125 (dk_at dksX3_readMover_1 10 rfl rfl)
theorem dX3_readMover_36 : decode cX3_readMover 36 = .ok (.aload_n 0, 1) := dk_42 (dk_at dksX3_readMover_1 13 rfl rfl)
theorem dX3_readMover_37 : decode cX3_readMover 37 = .ok (.iconst 0, 1) := dk_3 (dk_at dksX3_readMover_1 14 rfl rfl)
theorem dX3_readMover_38 : decode cX3_readMover 38 = .ok (.aload_n 0, 1) := dk_42 (dk_at dksX3_readMover_1 15 rfl rfl)
theorem dX3_readMover_39 : decode cX3_readMover 39 = .ok (.getfield 22, 3) := dk_180 0 22 (dk_at dksX3_readMover_1 16 rfl rfl)
theorem dX3_readMover_42 : decode cX3_readMover 42 = .ok (.iconst 4, 1) := dk_7 (dk_at dksX3_readMover_1 19 rfl rfl)
theorem dX3_readMover_43 : decode cX3_readMover 43 = .ok (.iaload, 1) := dk_46 (dk_at dksX3_readMover_1 20 rfl rfl)
theorem dX3_readMover_44 : decode cX3_readMover 44 = .ok (.iconst 1, 1) := dk_4 (dk_at dksX3_readMover_1 21 rfl rfl)
theorem dX3_readMover_45 : decode cX3_readMover 45 = .ok (.isub, 1) := dk_100 (dk_at dksX3_readMover_1 22 rfl rfl)
theorem dX3_readMover_46 : decode cX3_readMover 46 = .ok (.invokevirtual 143, 3) := dk_182 0 143 (dk_at dksX3_readMover_2 0 rfl rfl)
theorem dX3_readMover_49 : decode cX3_readMover 49 = .ok (.istore_n 2, 1) := dk_61 (dk_at dksX3_readMover_2 3 rfl rfl)
theorem dX3_readMover_50 : decode cX3_readMover 50 = .ok (.aload_n 0, 1) := dk_42 (dk_at dksX3_readMover_2 4 rfl rfl)
theorem dX3_readMover_51 : decode cX3_readMover 51 = .ok (.iconst 0, 1) := dk_3 (dk_at dksX3_readMover_2 5 rfl rfl)
theorem dX3_readMover_52 : decode cX3_readMover 52 = .ok (.iconst 1, 1) := dk_4 (dk_at dksX3_readMover_2 6 rfl rfl)
theorem dX3_readMover_53 : decode cX3_readMover 53 = .ok (.invokevirtual 143, 3) := dk_182 0 143 (dk_at dksX3_readMover_2 7 rfl rfl)
theorem dX3_readMover_56 : decode cX3_readMover 56 = .ok (.istore_n 3, 1) := dk_62 (dk_at dksX3_readMover_2 10 rfl rfl)
theorem dX3_readMover_57 : decode cX3_readMover 57 = .ok (.aload_n 0, 1) := dk_42 (dk_at dksX3_readMover_2 11 rfl rfl)
theorem dX3_readMover_58 : decode cX3_readMover 58 = .ok (.iconst 1, 1) := dk_4 (dk_at dksX3_readMover_2 12 rfl rfl)
theorem dX3_readMover_59 : decode cX3_readMover 59 = .ok (.iconst 5, 1) := dk_8 (dk_at dksX3_readMover_2 13 rfl rfl)
theorem dX3_readMover_60 : decode cX3_readMover 60 = .ok (.invokevirtual 143, 3) := dk_182 0 143 (dk_at dksX3_readMover_2 14 rfl rfl)
theorem dX3_readMover_63 : decode cX3_readMover 63 = .ok (.istore 4, 2) := dk_54 4 (dk_at dksX3_readMover_2 17 rfl rfl)
theorem dX3_readMover_65 : decode cX3_readMover 65 = .ok (.aload_n 0, 1) := dk_42 (dk_at dksX3_readMover_2 19 rfl rfl)
theorem dX3_readMover_66 : decode cX3_readMover 66 = .ok (.invokevirtual 147, 3) := dk_182 0 147 (dk_at dksX3_readMover_2 20 rfl rfl)
theorem dX3_readMover_69 : decode cX3_readMover 69 = .ok (.aload_n 0, 1) := dk_42 (dk_at dksX3_readMover_2 23 rfl rfl)
theorem dX3_readMover_70 : decode cX3_readMover 70 = .ok (.getfield 108, 3) := dk_180 0 108 (dk_at dksX3_readMover_3 0 rfl rfl)
theorem dX3_readMover_73 : decode cX3_readMover 73 = .ok (.ifCond .ne 65, 3) := dk_154 0 65 (dk_at dksX3_readMover_3 3 rfl rfl)
theorem dX3_readMover_76 : decode cX3_readMover 76 = .ok (.bipush 26, 2) := dk_16 26 (dk_at dksX3_readMover_3 6 rfl rfl)
theorem dX3_readMover_78 : decode cX3_readMover 78 = .ok (.iconst 4, 1) := dk_7 (dk_at dksX3_readMover_3 8 rfl rfl)
theorem dX3_readMover_79 : decode cX3_readMover 79 = .ok (.aload_n 0, 1) := dk_42 (dk_at dksX3_readMover_3 9 rfl rfl)
theorem dX3_readMover_80 : decode cX3_readMover 80 = .ok (.getfield 22, 3) := dk_180 0 22 (dk_at dksX3_readMover_3 10 rfl rfl)
theorem dX3_readMover_83 : decode cX3_readMover 83 = .ok (.iconst 5, 1) := dk_8 (dk_at dksX3_readMover_3 13 rfl rfl)
theorem dX3_readMover_84 : decode cX3_readMover 84 = .ok (.iaload, 1) := dk_46 (dk_at dksX3_readMover_3 14 rfl rfl)
theorem dX3_readMover_85 : decode cX3_readMover 85 = .ok (.imul, 1) := dk_104 (dk_at dksX3_readMover_3 15 rfl rfl)
theorem dX3_readMover_86 : decode cX3_readMover 86 = .ok (.iadd, 1) := dk_96 (dk_at dksX3_readMover_3 16 rfl rfl)
theorem dX3_readMover_87 : decode cX3_readMover 87 = .ok (.istore 5, 2) := dk_54 5 (dk_at dksX3_readMover_3 17 rfl rfl)
theorem dX3_readMover_89 : decode cX3_readMover 89 = .ok (.aload_n 0, 1) := dk_42 (dk_at dksX3_readMover_3 19 rfl rfl)
theorem dX3_readMover_90 : decode cX3_readMover 90 = .ok (.getfield 22, 3) := dk_180 0 22 (dk_at dksX3_readMover_3 20 rfl rfl)
theorem dX3_readMover_93 : decode cX3_readMover 93 = .ok (.iload 5, 2) := dk_21 5 (dk_at dksX3_readMover_4 0 rfl rfl)
theorem dX3_readMover_95 : decode cX3_readMover 95 = .ok (.iload_n 1, 1) := dk_27 (dk_at dksX3_readMover_4 2 rfl rfl)
theorem dX3_readMover_96 : decode cX3_readMover 96 = .ok (.iastore, 1) := dk_79 (dk_at dksX3_readMover_4 3 rfl rfl)
theorem dX3_readMover_97 : decode cX3_readMover 97 = .ok (.aload_n 0, 1) := dk_42 (dk_at dksX3_readMover_4 4 rfl rfl)
theorem dX3_readMover_98 : decode cX3_readMover 98 = .ok (.getfield 22, 3) := dk_180 0 22 (dk_at dksX3_readMover_4 5 rfl rfl)
theorem dX3_readMover_101 : decode cX3_readMover 101 = .ok (.iload 5, 2) := dk_21 5 (dk_at dksX3_readMover_4 8 rfl rfl)
theorem dX3_readMover_103 : decode cX3_readMover 103 = .ok (.iconst 1, 1) := dk_4 (dk_at dksX3_readMover_4 10 rfl rfl)
theorem dX3_readMover_104 : decode cX3_readMover 104 = .ok (.iadd, 1) := dk_96 (dk_at dksX3_readMover_4 11 rfl rfl)
theorem dX3_readMover_105 : decode cX3_readMover 105 = .ok (.iload_n 2, 1) := dk_28 (dk_at dksX3_readMover_4 12 rfl rfl)
theorem dX3_readMover_106 : decode cX3_readMover 106 = .ok (.iastore, 1) := dk_79 (dk_at dksX3_readMover_4 13 rfl rfl)
theorem dX3_readMover_107 : decode cX3_readMover 107 = .ok (.aload_n 0, 1) := dk_42 (dk_at dksX3_readMover_4 14 rfl rfl)
theorem dX3_readMover_108 : decode cX3_readMover 108 = .ok (.getfield 22, 3) := dk_180 0 22 (dk_at dksX3_readMover_4 15 rfl rfl)
theorem dX3_readMover_111 : decode cX3_readMover 111 = .ok (.iload 5, 2) := dk_21 5 (dk_at dksX3_readMover_4 18 rfl rfl)
theorem dX3_readMover_113 : decode cX3_readMover 113 = .ok (.iconst 2, 1) := dk_5 (dk_at dksX3_readMover_4 20 rfl rfl)
theorem dX3_readMover_114 : decode cX3_readMover 114 = .ok (.iadd, 1) := dk_96 (dk_at dksX3_readMover_4 21 rfl rfl)
theorem dX3_readMover_115 : decode cX3_readMover 115 = .ok (.iload_n 3, 1) := dk_29 (dk_at dksX3_readMover_4 22 rfl rfl)
theorem dX3_readMover_116 : decode cX3_readMover 116 = .ok (.iastore, 1) := dk_79 (dk_at dksX3_readMover_4 23 rfl rfl)
theorem dX3_readMover_117 : decode cX3_readMover 117 = .ok (.aload_n 0, 1) := dk_42 (dk_at dksX3_readMover_5 0 rfl rfl)
theorem dX3_readMover_118 : decode cX3_readMover 118 = .ok (.getfield 22, 3) := dk_180 0 22 (dk_at dksX3_readMover_5 1 rfl rfl)
theorem dX3_readMover_121 : decode cX3_readMover 121 = .ok (.iload 5, 2) := dk_21 5 (dk_at dksX3_readMover_5 4 rfl rfl)
theorem dX3_readMover_123 : decode cX3_readMover 123 = .ok (.iconst 3, 1) := dk_6 (dk_at dksX3_readMover_5 6 rfl rfl)
theorem dX3_readMover_124 : decode cX3_readMover 124 = .ok (.iadd, 1) := dk_96 (dk_at dksX3_readMover_5 7 rfl rfl)
theorem dX3_readMover_125 : decode cX3_readMover 125 = .ok (.iload 4, 2) := dk_21 4 (dk_at dksX3_readMover_5 8 rfl rfl)
theorem dX3_readMover_127 : decode cX3_readMover 127 = .ok (.iastore, 1) := dk_79 (dk_at dksX3_readMover_5 10 rfl rfl)
theorem dX3_readMover_128 : decode cX3_readMover 128 = .ok (.aload_n 0, 1) := dk_42 (dk_at dksX3_readMover_5 11 rfl rfl)
theorem dX3_readMover_129 : decode cX3_readMover 129 = .ok (.getfield 22, 3) := dk_180 0 22 (dk_at dksX3_readMover_5 12 rfl rfl)
theorem dX3_readMover_132 : decode cX3_readMover 132 = .ok (.iconst 5, 1) := dk_8 (dk_at dksX3_readMover_5 15 rfl rfl)
theorem dX3_readMover_133 : decode cX3_readMover 133 = .ok (.dup2, 1) := dk_92 (dk_at dksX3_readMover_5 16 rfl rfl)
theorem dX3_readMover_134 : decode cX3_readMover 134 = .ok (.iaload, 1) := dk_46 (dk_at dksX3_readMover_5 17 rfl rfl)
theorem dX3_readMover_135 : decode cX3_readMover 135 = .ok (.iconst 1, 1) := dk_4 (dk_at dksX3_readMover_5 18 rfl rfl)
theorem dX3_readMover_136 : decode cX3_readMover 136 = .ok (.iadd, 1) := dk_96 (dk_at dksX3_readMover_5 19 rfl rfl)
theorem dX3_readMover_137 : decode cX3_readMover 137 = .ok (.iastore, 1) := dk_79 (dk_at dksX3_readMover_5 20 rfl rfl)
theorem dX3_readMover_138 : decode cX3_readMover 138 = .ok (.return_, 1) := dk_177 (dk_at dksX3_readMover_5 21 rfl rfl)
abbrev cX3_kindBy : ByteArray := prog_16_method_21_code
def yX3_kindBy : MethodName := ⟨RX3, "kindBy", "(J)I"⟩
def dkwX3_kindBy_2 : List UInt8 := [30, 20, 0, 137, 148, 154, 0, 7, 8, 167, 0, 5, 18, 86, 172]
abbrev dktX3_kindBy_2 : List UInt8 := dkwX3_kindBy_2 ++ []
def dkwX3_kindBy_1 : List UInt8 := [30, 20, 0, 133, 148, 154, 0, 7, 6, 167, 0, 29, 30, 20, 0, 135, 148, 154, 0, 7, 7, 167, 0, 17]
abbrev dktX3_kindBy_1 : List UInt8 := dkwX3_kindBy_1 ++ dktX3_kindBy_2
def dkwX3_kindBy_0 : List UInt8 := [30, 20, 0, 129, 148, 154, 0, 7, 4, 167, 0, 53, 30, 20, 0, 131, 148, 154, 0, 7, 5, 167, 0, 41]
abbrev dktX3_kindBy_0 : List UInt8 := dkwX3_kindBy_0 ++ dktX3_kindBy_1
theorem dksX3_kindBy_0 : cX3_kindBy.data.toList.drop 0 = dktX3_kindBy_0 := by decide +kernel
theorem dksX3_kindBy_1 : cX3_kindBy.data.toList.drop 24 = dktX3_kindBy_1 := dk_seg dksX3_kindBy_0 24 rfl rfl
theorem dksX3_kindBy_2 : cX3_kindBy.data.toList.drop 48 = dktX3_kindBy_2 := dk_seg dksX3_kindBy_1 24 rfl rfl
theorem dX3_kindBy_0 : decode cX3_kindBy 0 = .ok (.lload_n 0, 1) := dk_30 (dk_at dksX3_kindBy_0 0 rfl rfl)
theorem dX3_kindBy_1 : decode cX3_kindBy 1 = .ok (.ldc2_w 129, 3) := dk_20 0 129 (dk_at dksX3_kindBy_0 1 rfl rfl)
theorem dX3_kindBy_4 : decode cX3_kindBy 4 = .ok (.lcmp, 1) := dk_148 (dk_at dksX3_kindBy_0 4 rfl rfl)
theorem dX3_kindBy_5 : decode cX3_kindBy 5 = .ok (.ifCond .ne 7, 3) := dk_154 0 7 (dk_at dksX3_kindBy_0 5 rfl rfl)
theorem dX3_kindBy_8 : decode cX3_kindBy 8 = .ok (.iconst 1, 1) := dk_4 (dk_at dksX3_kindBy_0 8 rfl rfl)
theorem dX3_kindBy_9 : decode cX3_kindBy 9 = .ok (.goto 53, 3) := dk_167 0 53 (dk_at dksX3_kindBy_0 9 rfl rfl)
theorem dX3_kindBy_12 : decode cX3_kindBy 12 = .ok (.lload_n 0, 1) := dk_30 (dk_at dksX3_kindBy_0 12 rfl rfl)
theorem dX3_kindBy_13 : decode cX3_kindBy 13 = .ok (.ldc2_w 131, 3) := dk_20 0 131 (dk_at dksX3_kindBy_0 13 rfl rfl)
theorem dX3_kindBy_16 : decode cX3_kindBy 16 = .ok (.lcmp, 1) := dk_148 (dk_at dksX3_kindBy_0 16 rfl rfl)
theorem dX3_kindBy_17 : decode cX3_kindBy 17 = .ok (.ifCond .ne 7, 3) := dk_154 0 7 (dk_at dksX3_kindBy_0 17 rfl rfl)
theorem dX3_kindBy_20 : decode cX3_kindBy 20 = .ok (.iconst 2, 1) := dk_5 (dk_at dksX3_kindBy_0 20 rfl rfl)
theorem dX3_kindBy_21 : decode cX3_kindBy 21 = .ok (.goto 41, 3) := dk_167 0 41 (dk_at dksX3_kindBy_0 21 rfl rfl)
theorem dX3_kindBy_24 : decode cX3_kindBy 24 = .ok (.lload_n 0, 1) := dk_30 (dk_at dksX3_kindBy_1 0 rfl rfl)
theorem dX3_kindBy_25 : decode cX3_kindBy 25 = .ok (.ldc2_w 133, 3) := dk_20 0 133 (dk_at dksX3_kindBy_1 1 rfl rfl)
theorem dX3_kindBy_28 : decode cX3_kindBy 28 = .ok (.lcmp, 1) := dk_148 (dk_at dksX3_kindBy_1 4 rfl rfl)
theorem dX3_kindBy_29 : decode cX3_kindBy 29 = .ok (.ifCond .ne 7, 3) := dk_154 0 7 (dk_at dksX3_kindBy_1 5 rfl rfl)
theorem dX3_kindBy_32 : decode cX3_kindBy 32 = .ok (.iconst 3, 1) := dk_6 (dk_at dksX3_kindBy_1 8 rfl rfl)
theorem dX3_kindBy_33 : decode cX3_kindBy 33 = .ok (.goto 29, 3) := dk_167 0 29 (dk_at dksX3_kindBy_1 9 rfl rfl)
theorem dX3_kindBy_36 : decode cX3_kindBy 36 = .ok (.lload_n 0, 1) := dk_30 (dk_at dksX3_kindBy_1 12 rfl rfl)
theorem dX3_kindBy_37 : decode cX3_kindBy 37 = .ok (.ldc2_w 135, 3) := dk_20 0 135 (dk_at dksX3_kindBy_1 13 rfl rfl)
theorem dX3_kindBy_40 : decode cX3_kindBy 40 = .ok (.lcmp, 1) := dk_148 (dk_at dksX3_kindBy_1 16 rfl rfl)
theorem dX3_kindBy_41 : decode cX3_kindBy 41 = .ok (.ifCond .ne 7, 3) := dk_154 0 7 (dk_at dksX3_kindBy_1 17 rfl rfl)
theorem dX3_kindBy_44 : decode cX3_kindBy 44 = .ok (.iconst 4, 1) := dk_7 (dk_at dksX3_kindBy_1 20 rfl rfl)
theorem dX3_kindBy_45 : decode cX3_kindBy 45 = .ok (.goto 17, 3) := dk_167 0 17 (dk_at dksX3_kindBy_1 21 rfl rfl)
theorem dX3_kindBy_48 : decode cX3_kindBy 48 = .ok (.lload_n 0, 1) := dk_30 (dk_at dksX3_kindBy_2 0 rfl rfl)
theorem dX3_kindBy_49 : decode cX3_kindBy 49 = .ok (.ldc2_w 137, 3) := dk_20 0 137 (dk_at dksX3_kindBy_2 1 rfl rfl)
theorem dX3_kindBy_52 : decode cX3_kindBy 52 = .ok (.lcmp, 1) := dk_148 (dk_at dksX3_kindBy_2 4 rfl rfl)
theorem dX3_kindBy_53 : decode cX3_kindBy 53 = .ok (.ifCond .ne 7, 3) := dk_154 0 7 (dk_at dksX3_kindBy_2 5 rfl rfl)
theorem dX3_kindBy_56 : decode cX3_kindBy 56 = .ok (.iconst 5, 1) := dk_8 (dk_at dksX3_kindBy_2 8 rfl rfl)
theorem dX3_kindBy_57 : decode cX3_kindBy 57 = .ok (.goto 5, 3) := dk_167 0 5 (dk_at dksX3_kindBy_2 9 rfl rfl)
theorem dX3_kindBy_60 : decode cX3_kindBy 60 = .ok (.ldc 86, 2) := dk_18 86 (dk_at dksX3_kindBy_2 12 rfl rfl)
theorem dX3_kindBy_62 : decode cX3_kindBy 62 = .ok (.ireturn, 1) := dk_172 (dk_at dksX3_kindBy_2 14 rfl rfl)
abbrev cX3_fault : ByteArray := prog_16_method_27_code
def yX3_fault : MethodName := ⟨RX3, "fault", "()I"⟩
def dkwX3_fault_0 : List UInt8 := [42, 3, 181, 0, 50, 42, 180, 0, 173, 172]
abbrev dktX3_fault_0 : List UInt8 := dkwX3_fault_0 ++ []
theorem dksX3_fault_0 : cX3_fault.data.toList.drop 0 = dktX3_fault_0 := by decide +kernel
theorem dX3_fault_0 : decode cX3_fault 0 = .ok (.aload_n 0, 1) := dk_42 (dk_at dksX3_fault_0 0 rfl rfl)
theorem dX3_fault_1 : decode cX3_fault 1 = .ok (.iconst 0, 1) := dk_3 (dk_at dksX3_fault_0 1 rfl rfl)
theorem dX3_fault_2 : decode cX3_fault 2 = .ok (.putfield 50, 3) := dk_181 0 50 (dk_at dksX3_fault_0 2 rfl rfl)
theorem dX3_fault_5 : decode cX3_fault 5 = .ok (.aload_n 0, 1) := dk_42 (dk_at dksX3_fault_0 5 rfl rfl)
theorem dX3_fault_6 : decode cX3_fault 6 = .ok (.getfield 173, 3) := dk_180 0 173 (dk_at dksX3_fault_0 6 rfl rfl)
theorem dX3_fault_9 : decode cX3_fault 9 = .ok (.ireturn, 1) := dk_172 (dk_at dksX3_fault_0 9 rfl rfl)
abbrev cX3_night : ByteArray := prog_16_method_38_code
def yX3_night : MethodName := ⟨RX3, "night", "()I"⟩
def dkwX3_night_5 : List UInt8 := [42, 180, 0, 19, 16, 6, 92, 46, 4, 96, 79, 27, 172]
abbrev dktX3_night_5 : List UInt8 := dkwX3_night_5 ++ []
def dkwX3_night_4 : List UInt8 := [180, 0, 19, 16, 8, 6, 28, 104, 96, 4, 96, 42, 180, 0, 31, 28, 46, 79, 132, 2, 1, 167, 255, 199]
abbrev dktX3_night_4 : List UInt8 := dkwX3_night_4 ++ dktX3_night_5
def dkwX3_night_3 : List UInt8 := [180, 0, 31, 28, 46, 42, 28, 4, 182, 0, 180, 159, 0, 9, 4, 28, 120, 167, 0, 4, 3, 128, 60, 42]
abbrev dktX3_night_3 : List UInt8 := dkwX3_night_3 ++ dktX3_night_4
def dkwX3_night_2 : List UInt8 := [16, 6, 46, 16, 31, 182, 0, 203, 3, 60, 3, 61, 28, 42, 180, 0, 19, 7, 46, 162, 0, 53, 27, 42]
abbrev dktX3_night_2 : List UInt8 := dkwX3_night_2 ++ dktX3_night_3
def dkwX3_night_1 : List UInt8 := [17, 39, 15, 160, 0, 6, 18, 80, 172, 42, 182, 0, 197, 42, 4, 182, 0, 200, 42, 42, 180, 0, 19]
abbrev dktX3_night_1 : List UInt8 := dkwX3_night_1 ++ dktX3_night_2
def dkwX3_night_0 : List UInt8 := [42, 3, 181, 0, 50, 42, 182, 0, 192, 154, 0, 6, 18, 196, 172, 42, 180, 0, 19, 16, 6, 46]
abbrev dktX3_night_0 : List UInt8 := dkwX3_night_0 ++ dktX3_night_1
theorem dksX3_night_0 : cX3_night.data.toList.drop 0 = dktX3_night_0 := by decide +kernel
theorem dksX3_night_1 : cX3_night.data.toList.drop 22 = dktX3_night_1 := dk_seg dksX3_night_0 22 rfl rfl
theorem dksX3_night_2 : cX3_night.data.toList.drop 45 = dktX3_night_2 := dk_seg dksX3_night_1 23 rfl rfl
theorem dksX3_night_3 : cX3_night.data.toList.drop 69 = dktX3_night_3 := dk_seg dksX3_night_2 24 rfl rfl
theorem dksX3_night_4 : cX3_night.data.toList.drop 93 = dktX3_night_4 := dk_seg dksX3_night_3 24 rfl rfl
theorem dksX3_night_5 : cX3_night.data.toList.drop 117 = dktX3_night_5 := dk_seg dksX3_night_4 24 rfl rfl
theorem dX3_night_0 : decode cX3_night 0 = .ok (.aload_n 0, 1) := dk_42 (dk_at dksX3_night_0 0 rfl rfl)
theorem dX3_night_1 : decode cX3_night 1 = .ok (.iconst 0, 1) := dk_3 (dk_at dksX3_night_0 1 rfl rfl)
theorem dX3_night_2 : decode cX3_night 2 = .ok (.putfield 50, 3) := dk_181 0 50 (dk_at dksX3_night_0 2 rfl rfl)
theorem dX3_night_5 : decode cX3_night 5 = .ok (.aload_n 0, 1) := dk_42 (dk_at dksX3_night_0 5 rfl rfl)
theorem dX3_night_6 : decode cX3_night 6 = .ok (.invokevirtual 192, 3) := dk_182 0 192 (dk_at dksX3_night_0 6 rfl rfl)
theorem dX3_night_9 : decode cX3_night 9 = .ok (.ifCond .ne 6, 3) := dk_154 0 6 (dk_at dksX3_night_0 9 rfl rfl)
theorem dX3_night_12 : decode cX3_night 12 = .ok (.ldc 196, 2) := dk_18 196 (dk_at dksX3_night_0 12 rfl rfl)
theorem dX3_night_14 : decode cX3_night 14 = .ok (.ireturn, 1) := dk_172 (dk_at dksX3_night_0 14 rfl rfl)
theorem dX3_night_15 : decode cX3_night 15 = .ok (.aload_n 0, 1) := dk_42 (dk_at dksX3_night_0 15 rfl rfl)
theorem dX3_night_16 : decode cX3_night 16 = .ok (.getfield 19, 3) := dk_180 0 19 (dk_at dksX3_night_0 16 rfl rfl)
theorem dX3_night_19 : decode cX3_night 19 = .ok (.bipush 6, 2) := dk_16 6 (dk_at dksX3_night_0 19 rfl rfl)
theorem dX3_night_21 : decode cX3_night 21 = .ok (.iaload, 1) := dk_46 (dk_at dksX3_night_0 21 rfl rfl)
theorem dX3_night_22 : decode cX3_night 22 = .ok (.sipush 9999, 3) := dk_17 39 15 (dk_at dksX3_night_1 0 rfl rfl)
theorem dX3_night_25 : decode cX3_night 25 = .ok (.if_icmp .ne 6, 3) := dk_160 0 6 (dk_at dksX3_night_1 3 rfl rfl)
theorem dX3_night_28 : decode cX3_night 28 = .ok (.ldc 80, 2) := dk_18 80 (dk_at dksX3_night_1 6 rfl rfl)
theorem dX3_night_30 : decode cX3_night 30 = .ok (.ireturn, 1) := dk_172 (dk_at dksX3_night_1 8 rfl rfl)
theorem dX3_night_31 : decode cX3_night 31 = .ok (.aload_n 0, 1) := dk_42 (dk_at dksX3_night_1 9 rfl rfl)
theorem dX3_night_32 : decode cX3_night 32 = .ok (.invokevirtual 197, 3) := dk_182 0 197 (dk_at dksX3_night_1 10 rfl rfl)
theorem dX3_night_35 : decode cX3_night 35 = .ok (.aload_n 0, 1) := dk_42 (dk_at dksX3_night_1 13 rfl rfl)
theorem dX3_night_36 : decode cX3_night 36 = .ok (.iconst 1, 1) := dk_4 (dk_at dksX3_night_1 14 rfl rfl)
theorem dX3_night_37 : decode cX3_night 37 = .ok (.invokevirtual 200, 3) := dk_182 0 200 (dk_at dksX3_night_1 15 rfl rfl)
theorem dX3_night_40 : decode cX3_night 40 = .ok (.aload_n 0, 1) := dk_42 (dk_at dksX3_night_1 18 rfl rfl)
theorem dX3_night_41 : decode cX3_night 41 = .ok (.aload_n 0, 1) := dk_42 (dk_at dksX3_night_1 19 rfl rfl)
theorem dX3_night_42 : decode cX3_night 42 = .ok (.getfield 19, 3) := dk_180 0 19 (dk_at dksX3_night_1 20 rfl rfl)
theorem dX3_night_45 : decode cX3_night 45 = .ok (.bipush 6, 2) := dk_16 6 (dk_at dksX3_night_2 0 rfl rfl)
theorem dX3_night_47 : decode cX3_night 47 = .ok (.iaload, 1) := dk_46 (dk_at dksX3_night_2 2 rfl rfl)
theorem dX3_night_48 : decode cX3_night 48 = .ok (.bipush 31, 2) := dk_16 31 (dk_at dksX3_night_2 3 rfl rfl)
theorem dX3_night_50 : decode cX3_night 50 = .ok (.invokevirtual 203, 3) := dk_182 0 203 (dk_at dksX3_night_2 5 rfl rfl)
theorem dX3_night_53 : decode cX3_night 53 = .ok (.iconst 0, 1) := dk_3 (dk_at dksX3_night_2 8 rfl rfl)
theorem dX3_night_54 : decode cX3_night 54 = .ok (.istore_n 1, 1) := dk_60 (dk_at dksX3_night_2 9 rfl rfl)
theorem dX3_night_55 : decode cX3_night 55 = .ok (.iconst 0, 1) := dk_3 (dk_at dksX3_night_2 10 rfl rfl)
theorem dX3_night_56 : decode cX3_night 56 = .ok (.istore_n 2, 1) := dk_61 (dk_at dksX3_night_2 11 rfl rfl)
theorem dX3_night_57 : decode cX3_night 57 = .ok (.iload_n 2, 1) := dk_28 (dk_at dksX3_night_2 12 rfl rfl)
theorem dX3_night_58 : decode cX3_night 58 = .ok (.aload_n 0, 1) := dk_42 (dk_at dksX3_night_2 13 rfl rfl)
theorem dX3_night_59 : decode cX3_night 59 = .ok (.getfield 19, 3) := dk_180 0 19 (dk_at dksX3_night_2 14 rfl rfl)
theorem dX3_night_62 : decode cX3_night 62 = .ok (.iconst 4, 1) := dk_7 (dk_at dksX3_night_2 17 rfl rfl)
theorem dX3_night_63 : decode cX3_night 63 = .ok (.iaload, 1) := dk_46 (dk_at dksX3_night_2 18 rfl rfl)
theorem dX3_night_64 : decode cX3_night 64 = .ok (.if_icmp .ge 53, 3) := dk_162 0 53 (dk_at dksX3_night_2 19 rfl rfl)
theorem dX3_night_67 : decode cX3_night 67 = .ok (.iload_n 1, 1) := dk_27 (dk_at dksX3_night_2 22 rfl rfl)
theorem dX3_night_68 : decode cX3_night 68 = .ok (.aload_n 0, 1) := dk_42 (dk_at dksX3_night_2 23 rfl rfl)
theorem dX3_night_69 : decode cX3_night 69 = .ok (.getfield 31, 3) := dk_180 0 31 (dk_at dksX3_night_3 0 rfl rfl)
theorem dX3_night_72 : decode cX3_night 72 = .ok (.iload_n 2, 1) := dk_28 (dk_at dksX3_night_3 3 rfl rfl)
theorem dX3_night_73 : decode cX3_night 73 = .ok (.iaload, 1) := dk_46 (dk_at dksX3_night_3 4 rfl rfl)
theorem dX3_night_74 : decode cX3_night 74 = .ok (.aload_n 0, 1) := dk_42 (dk_at dksX3_night_3 5 rfl rfl)
theorem dX3_night_75 : decode cX3_night 75 = .ok (.iload_n 2, 1) := dk_28 (dk_at dksX3_night_3 6 rfl rfl)
theorem dX3_night_76 : decode cX3_night 76 = .ok (.iconst 1, 1) := dk_4 (dk_at dksX3_night_3 7 rfl rfl)
theorem dX3_night_77 : decode cX3_night 77 = .ok (.invokevirtual 180, 3) := dk_182 0 180 (dk_at dksX3_night_3 8 rfl rfl)
theorem dX3_night_80 : decode cX3_night 80 = .ok (.if_icmp .eq 9, 3) := dk_159 0 9 (dk_at dksX3_night_3 11 rfl rfl)
theorem dX3_night_83 : decode cX3_night 83 = .ok (.iconst 1, 1) := dk_4 (dk_at dksX3_night_3 14 rfl rfl)
theorem dX3_night_84 : decode cX3_night 84 = .ok (.iload_n 2, 1) := dk_28 (dk_at dksX3_night_3 15 rfl rfl)
theorem dX3_night_85 : decode cX3_night 85 = .ok (.ishl, 1) := dk_120 (dk_at dksX3_night_3 16 rfl rfl)
theorem dX3_night_86 : decode cX3_night 86 = .ok (.goto 4, 3) := dk_167 0 4 (dk_at dksX3_night_3 17 rfl rfl)
theorem dX3_night_89 : decode cX3_night 89 = .ok (.iconst 0, 1) := dk_3 (dk_at dksX3_night_3 20 rfl rfl)
theorem dX3_night_90 : decode cX3_night 90 = .ok (.ior, 1) := dk_128 (dk_at dksX3_night_3 21 rfl rfl)
theorem dX3_night_91 : decode cX3_night 91 = .ok (.istore_n 1, 1) := dk_60 (dk_at dksX3_night_3 22 rfl rfl)
theorem dX3_night_92 : decode cX3_night 92 = .ok (.aload_n 0, 1) := dk_42 (dk_at dksX3_night_3 23 rfl rfl)
theorem dX3_night_93 : decode cX3_night 93 = .ok (.getfield 19, 3) := dk_180 0 19 (dk_at dksX3_night_4 0 rfl rfl)
theorem dX3_night_96 : decode cX3_night 96 = .ok (.bipush 8, 2) := dk_16 8 (dk_at dksX3_night_4 3 rfl rfl)
theorem dX3_night_98 : decode cX3_night 98 = .ok (.iconst 3, 1) := dk_6 (dk_at dksX3_night_4 5 rfl rfl)
theorem dX3_night_99 : decode cX3_night 99 = .ok (.iload_n 2, 1) := dk_28 (dk_at dksX3_night_4 6 rfl rfl)
theorem dX3_night_100 : decode cX3_night 100 = .ok (.imul, 1) := dk_104 (dk_at dksX3_night_4 7 rfl rfl)
theorem dX3_night_101 : decode cX3_night 101 = .ok (.iadd, 1) := dk_96 (dk_at dksX3_night_4 8 rfl rfl)
theorem dX3_night_102 : decode cX3_night 102 = .ok (.iconst 1, 1) := dk_4 (dk_at dksX3_night_4 9 rfl rfl)
theorem dX3_night_103 : decode cX3_night 103 = .ok (.iadd, 1) := dk_96 (dk_at dksX3_night_4 10 rfl rfl)
theorem dX3_night_104 : decode cX3_night 104 = .ok (.aload_n 0, 1) := dk_42 (dk_at dksX3_night_4 11 rfl rfl)
theorem dX3_night_105 : decode cX3_night 105 = .ok (.getfield 31, 3) := dk_180 0 31 (dk_at dksX3_night_4 12 rfl rfl)
theorem dX3_night_108 : decode cX3_night 108 = .ok (.iload_n 2, 1) := dk_28 (dk_at dksX3_night_4 15 rfl rfl)
theorem dX3_night_109 : decode cX3_night 109 = .ok (.iaload, 1) := dk_46 (dk_at dksX3_night_4 16 rfl rfl)
theorem dX3_night_110 : decode cX3_night 110 = .ok (.iastore, 1) := dk_79 (dk_at dksX3_night_4 17 rfl rfl)
theorem dX3_night_111 : decode cX3_night 111 = .ok (.iinc 2 1, 3) := dk_132 2 1 (dk_at dksX3_night_4 18 rfl rfl)
theorem dX3_night_114 : decode cX3_night 114 = .ok (.goto (-57), 3) := dk_167 255 199 (dk_at dksX3_night_4 21 rfl rfl)
theorem dX3_night_117 : decode cX3_night 117 = .ok (.aload_n 0, 1) := dk_42 (dk_at dksX3_night_5 0 rfl rfl)
theorem dX3_night_118 : decode cX3_night 118 = .ok (.getfield 19, 3) := dk_180 0 19 (dk_at dksX3_night_5 1 rfl rfl)
theorem dX3_night_121 : decode cX3_night 121 = .ok (.bipush 6, 2) := dk_16 6 (dk_at dksX3_night_5 4 rfl rfl)
theorem dX3_night_123 : decode cX3_night 123 = .ok (.dup2, 1) := dk_92 (dk_at dksX3_night_5 6 rfl rfl)
theorem dX3_night_124 : decode cX3_night 124 = .ok (.iaload, 1) := dk_46 (dk_at dksX3_night_5 7 rfl rfl)
theorem dX3_night_125 : decode cX3_night 125 = .ok (.iconst 1, 1) := dk_4 (dk_at dksX3_night_5 8 rfl rfl)
theorem dX3_night_126 : decode cX3_night 126 = .ok (.iadd, 1) := dk_96 (dk_at dksX3_night_5 9 rfl rfl)
theorem dX3_night_127 : decode cX3_night 127 = .ok (.iastore, 1) := dk_79 (dk_at dksX3_night_5 10 rfl rfl)
theorem dX3_night_128 : decode cX3_night 128 = .ok (.iload_n 1, 1) := dk_27 (dk_at dksX3_night_5 11 rfl rfl)
theorem dX3_night_129 : decode cX3_night 129 = .ok (.ireturn, 1) := dk_172 (dk_at dksX3_night_5 12 rfl rfl)
abbrev cX3_isThere : ByteArray := prog_16_method_28_code
def yX3_isThere : MethodName := ⟨RX3, "isThere", "()Z"⟩
def dkwX3_isThere_0 : List UInt8 := [42, 180, 0, 19, 3, 46, 158, 0, 7, 4, 167, 0, 4, 3, 172]
abbrev dktX3_isThere_0 : List UInt8 := dkwX3_isThere_0 ++ []
theorem dksX3_isThere_0 : cX3_isThere.data.toList.drop 0 = dktX3_isThere_0 := by decide +kernel
theorem dX3_isThere_0 : decode cX3_isThere 0 = .ok (.aload_n 0, 1) := dk_42 (dk_at dksX3_isThere_0 0 rfl rfl)
theorem dX3_isThere_1 : decode cX3_isThere 1 = .ok (.getfield 19, 3) := dk_180 0 19 (dk_at dksX3_isThere_0 1 rfl rfl)
theorem dX3_isThere_4 : decode cX3_isThere 4 = .ok (.iconst 0, 1) := dk_3 (dk_at dksX3_isThere_0 4 rfl rfl)
theorem dX3_isThere_5 : decode cX3_isThere 5 = .ok (.iaload, 1) := dk_46 (dk_at dksX3_isThere_0 5 rfl rfl)
theorem dX3_isThere_6 : decode cX3_isThere 6 = .ok (.ifCond .le 7, 3) := dk_158 0 7 (dk_at dksX3_isThere_0 6 rfl rfl)
theorem dX3_isThere_9 : decode cX3_isThere 9 = .ok (.iconst 1, 1) := dk_4 (dk_at dksX3_isThere_0 9 rfl rfl)
theorem dX3_isThere_10 : decode cX3_isThere 10 = .ok (.goto 4, 3) := dk_167 0 4 (dk_at dksX3_isThere_0 10 rfl rfl)
theorem dX3_isThere_13 : decode cX3_isThere 13 = .ok (.iconst 0, 1) := dk_3 (dk_at dksX3_isThere_0 13 rfl rfl)
theorem dX3_isThere_14 : decode cX3_isThere 14 = .ok (.ireturn, 1) := dk_172 (dk_at dksX3_isThere_0 14 rfl rfl)
abbrev cX3_keep : ByteArray := prog_16_method_37_code
def yX3_keep : MethodName := ⟨RX3, "keep", "()V"⟩
def dkwX3_keep_4 : List UInt8 := [16, 6, 96, 42, 180, 0, 19, 16, 6, 46, 79, 42, 89, 180, 0, 177, 4, 96, 181, 0, 177, 177]
abbrev dktX3_keep_4 : List UInt8 := dkwX3_keep_4 ++ []
def dkwX3_keep_3 : List UInt8 := [42, 27, 4, 182, 0, 180, 79, 132, 1, 1, 167, 255, 227, 42, 180, 0, 25, 16, 7, 42, 180, 0, 177, 104]
abbrev dktX3_keep_3 : List UInt8 := dkwX3_keep_3 ++ dktX3_keep_4
def dkwX3_keep_2 : List UInt8 := [181, 0, 177, 3, 60, 27, 16, 6, 162, 0, 29, 42, 180, 0, 25, 16, 7, 42, 180, 0, 177, 104, 27, 96]
abbrev dktX3_keep_2 : List UInt8 := dkwX3_keep_2 ++ dktX3_keep_3
def dkwX3_keep_1 : List UInt8 := [180, 0, 25, 27, 16, 7, 96, 46, 79, 132, 1, 1, 167, 255, 231, 42, 89, 180, 0, 177, 4, 100]
abbrev dktX3_keep_1 : List UInt8 := dkwX3_keep_1 ++ dktX3_keep_2
def dkwX3_keep_0 : List UInt8 := [42, 180, 0, 177, 16, 24, 160, 0, 43, 3, 60, 27, 17, 0, 161, 162, 0, 24, 42, 180, 0, 25, 27, 42]
abbrev dktX3_keep_0 : List UInt8 := dkwX3_keep_0 ++ dktX3_keep_1
theorem dksX3_keep_0 : cX3_keep.data.toList.drop 0 = dktX3_keep_0 := by decide +kernel
theorem dksX3_keep_1 : cX3_keep.data.toList.drop 24 = dktX3_keep_1 := dk_seg dksX3_keep_0 24 rfl rfl
theorem dksX3_keep_2 : cX3_keep.data.toList.drop 46 = dktX3_keep_2 := dk_seg dksX3_keep_1 22 rfl rfl
theorem dksX3_keep_3 : cX3_keep.data.toList.drop 70 = dktX3_keep_3 := dk_seg dksX3_keep_2 24 rfl rfl
theorem dksX3_keep_4 : cX3_keep.data.toList.drop 94 = dktX3_keep_4 := dk_seg dksX3_keep_3 24 rfl rfl
theorem dX3_keep_0 : decode cX3_keep 0 = .ok (.aload_n 0, 1) := dk_42 (dk_at dksX3_keep_0 0 rfl rfl)
theorem dX3_keep_1 : decode cX3_keep 1 = .ok (.getfield 177, 3) := dk_180 0 177 (dk_at dksX3_keep_0 1 rfl rfl)
theorem dX3_keep_4 : decode cX3_keep 4 = .ok (.bipush 24, 2) := dk_16 24 (dk_at dksX3_keep_0 4 rfl rfl)
theorem dX3_keep_6 : decode cX3_keep 6 = .ok (.if_icmp .ne 43, 3) := dk_160 0 43 (dk_at dksX3_keep_0 6 rfl rfl)
theorem dX3_keep_9 : decode cX3_keep 9 = .ok (.iconst 0, 1) := dk_3 (dk_at dksX3_keep_0 9 rfl rfl)
theorem dX3_keep_10 : decode cX3_keep 10 = .ok (.istore_n 1, 1) := dk_60 (dk_at dksX3_keep_0 10 rfl rfl)
theorem dX3_keep_11 : decode cX3_keep 11 = .ok (.iload_n 1, 1) := dk_27 (dk_at dksX3_keep_0 11 rfl rfl)
theorem dX3_keep_12 : decode cX3_keep 12 = .ok (.sipush 161, 3) := dk_17 0 161 (dk_at dksX3_keep_0 12 rfl rfl)
theorem dX3_keep_15 : decode cX3_keep 15 = .ok (.if_icmp .ge 24, 3) := dk_162 0 24 (dk_at dksX3_keep_0 15 rfl rfl)
theorem dX3_keep_18 : decode cX3_keep 18 = .ok (.aload_n 0, 1) := dk_42 (dk_at dksX3_keep_0 18 rfl rfl)
theorem dX3_keep_19 : decode cX3_keep 19 = .ok (.getfield 25, 3) := dk_180 0 25 (dk_at dksX3_keep_0 19 rfl rfl)
theorem dX3_keep_22 : decode cX3_keep 22 = .ok (.iload_n 1, 1) := dk_27 (dk_at dksX3_keep_0 22 rfl rfl)
theorem dX3_keep_23 : decode cX3_keep 23 = .ok (.aload_n 0, 1) := dk_42 (dk_at dksX3_keep_0 23 rfl rfl)
theorem dX3_keep_24 : decode cX3_keep 24 = .ok (.getfield 25, 3) := dk_180 0 25 (dk_at dksX3_keep_1 0 rfl rfl)
theorem dX3_keep_27 : decode cX3_keep 27 = .ok (.iload_n 1, 1) := dk_27 (dk_at dksX3_keep_1 3 rfl rfl)
theorem dX3_keep_28 : decode cX3_keep 28 = .ok (.bipush 7, 2) := dk_16 7 (dk_at dksX3_keep_1 4 rfl rfl)
theorem dX3_keep_30 : decode cX3_keep 30 = .ok (.iadd, 1) := dk_96 (dk_at dksX3_keep_1 6 rfl rfl)
theorem dX3_keep_31 : decode cX3_keep 31 = .ok (.iaload, 1) := dk_46 (dk_at dksX3_keep_1 7 rfl rfl)
theorem dX3_keep_32 : decode cX3_keep 32 = .ok (.iastore, 1) := dk_79 (dk_at dksX3_keep_1 8 rfl rfl)
theorem dX3_keep_33 : decode cX3_keep 33 = .ok (.iinc 1 1, 3) := dk_132 1 1 (dk_at dksX3_keep_1 9 rfl rfl)
theorem dX3_keep_36 : decode cX3_keep 36 = .ok (.goto (-25), 3) := dk_167 255 231 (dk_at dksX3_keep_1 12 rfl rfl)
theorem dX3_keep_39 : decode cX3_keep 39 = .ok (.aload_n 0, 1) := dk_42 (dk_at dksX3_keep_1 15 rfl rfl)
theorem dX3_keep_40 : decode cX3_keep 40 = .ok (.dup, 1) := dk_89 (dk_at dksX3_keep_1 16 rfl rfl)
theorem dX3_keep_41 : decode cX3_keep 41 = .ok (.getfield 177, 3) := dk_180 0 177 (dk_at dksX3_keep_1 17 rfl rfl)
theorem dX3_keep_44 : decode cX3_keep 44 = .ok (.iconst 1, 1) := dk_4 (dk_at dksX3_keep_1 20 rfl rfl)
theorem dX3_keep_45 : decode cX3_keep 45 = .ok (.isub, 1) := dk_100 (dk_at dksX3_keep_1 21 rfl rfl)
theorem dX3_keep_46 : decode cX3_keep 46 = .ok (.putfield 177, 3) := dk_181 0 177 (dk_at dksX3_keep_2 0 rfl rfl)
theorem dX3_keep_49 : decode cX3_keep 49 = .ok (.iconst 0, 1) := dk_3 (dk_at dksX3_keep_2 3 rfl rfl)
theorem dX3_keep_50 : decode cX3_keep 50 = .ok (.istore_n 1, 1) := dk_60 (dk_at dksX3_keep_2 4 rfl rfl)
theorem dX3_keep_51 : decode cX3_keep 51 = .ok (.iload_n 1, 1) := dk_27 (dk_at dksX3_keep_2 5 rfl rfl)
theorem dX3_keep_52 : decode cX3_keep 52 = .ok (.bipush 6, 2) := dk_16 6 (dk_at dksX3_keep_2 6 rfl rfl)
theorem dX3_keep_54 : decode cX3_keep 54 = .ok (.if_icmp .ge 29, 3) := dk_162 0 29 (dk_at dksX3_keep_2 8 rfl rfl)
theorem dX3_keep_57 : decode cX3_keep 57 = .ok (.aload_n 0, 1) := dk_42 (dk_at dksX3_keep_2 11 rfl rfl)
theorem dX3_keep_58 : decode cX3_keep 58 = .ok (.getfield 25, 3) := dk_180 0 25 (dk_at dksX3_keep_2 12 rfl rfl)
theorem dX3_keep_61 : decode cX3_keep 61 = .ok (.bipush 7, 2) := dk_16 7 (dk_at dksX3_keep_2 15 rfl rfl)
theorem dX3_keep_63 : decode cX3_keep 63 = .ok (.aload_n 0, 1) := dk_42 (dk_at dksX3_keep_2 17 rfl rfl)
theorem dX3_keep_64 : decode cX3_keep 64 = .ok (.getfield 177, 3) := dk_180 0 177 (dk_at dksX3_keep_2 18 rfl rfl)
theorem dX3_keep_67 : decode cX3_keep 67 = .ok (.imul, 1) := dk_104 (dk_at dksX3_keep_2 21 rfl rfl)
theorem dX3_keep_68 : decode cX3_keep 68 = .ok (.iload_n 1, 1) := dk_27 (dk_at dksX3_keep_2 22 rfl rfl)
theorem dX3_keep_69 : decode cX3_keep 69 = .ok (.iadd, 1) := dk_96 (dk_at dksX3_keep_2 23 rfl rfl)
theorem dX3_keep_70 : decode cX3_keep 70 = .ok (.aload_n 0, 1) := dk_42 (dk_at dksX3_keep_3 0 rfl rfl)
theorem dX3_keep_71 : decode cX3_keep 71 = .ok (.iload_n 1, 1) := dk_27 (dk_at dksX3_keep_3 1 rfl rfl)
theorem dX3_keep_72 : decode cX3_keep 72 = .ok (.iconst 1, 1) := dk_4 (dk_at dksX3_keep_3 2 rfl rfl)
theorem dX3_keep_73 : decode cX3_keep 73 = .ok (.invokevirtual 180, 3) := dk_182 0 180 (dk_at dksX3_keep_3 3 rfl rfl)
theorem dX3_keep_76 : decode cX3_keep 76 = .ok (.iastore, 1) := dk_79 (dk_at dksX3_keep_3 6 rfl rfl)
theorem dX3_keep_77 : decode cX3_keep 77 = .ok (.iinc 1 1, 3) := dk_132 1 1 (dk_at dksX3_keep_3 7 rfl rfl)
theorem dX3_keep_80 : decode cX3_keep 80 = .ok (.goto (-29), 3) := dk_167 255 227 (dk_at dksX3_keep_3 10 rfl rfl)
theorem dX3_keep_83 : decode cX3_keep 83 = .ok (.aload_n 0, 1) := dk_42 (dk_at dksX3_keep_3 13 rfl rfl)
theorem dX3_keep_84 : decode cX3_keep 84 = .ok (.getfield 25, 3) := dk_180 0 25 (dk_at dksX3_keep_3 14 rfl rfl)
theorem dX3_keep_87 : decode cX3_keep 87 = .ok (.bipush 7, 2) := dk_16 7 (dk_at dksX3_keep_3 17 rfl rfl)
theorem dX3_keep_89 : decode cX3_keep 89 = .ok (.aload_n 0, 1) := dk_42 (dk_at dksX3_keep_3 19 rfl rfl)
theorem dX3_keep_90 : decode cX3_keep 90 = .ok (.getfield 177, 3) := dk_180 0 177 (dk_at dksX3_keep_3 20 rfl rfl)
theorem dX3_keep_93 : decode cX3_keep 93 = .ok (.imul, 1) := dk_104 (dk_at dksX3_keep_3 23 rfl rfl)
theorem dX3_keep_94 : decode cX3_keep 94 = .ok (.bipush 6, 2) := dk_16 6 (dk_at dksX3_keep_4 0 rfl rfl)
theorem dX3_keep_96 : decode cX3_keep 96 = .ok (.iadd, 1) := dk_96 (dk_at dksX3_keep_4 2 rfl rfl)
theorem dX3_keep_97 : decode cX3_keep 97 = .ok (.aload_n 0, 1) := dk_42 (dk_at dksX3_keep_4 3 rfl rfl)
theorem dX3_keep_98 : decode cX3_keep 98 = .ok (.getfield 19, 3) := dk_180 0 19 (dk_at dksX3_keep_4 4 rfl rfl)
theorem dX3_keep_101 : decode cX3_keep 101 = .ok (.bipush 6, 2) := dk_16 6 (dk_at dksX3_keep_4 7 rfl rfl)
theorem dX3_keep_103 : decode cX3_keep 103 = .ok (.iaload, 1) := dk_46 (dk_at dksX3_keep_4 9 rfl rfl)
theorem dX3_keep_104 : decode cX3_keep 104 = .ok (.iastore, 1) := dk_79 (dk_at dksX3_keep_4 10 rfl rfl)
theorem dX3_keep_105 : decode cX3_keep 105 = .ok (.aload_n 0, 1) := dk_42 (dk_at dksX3_keep_4 11 rfl rfl)
theorem dX3_keep_106 : decode cX3_keep 106 = .ok (.dup, 1) := dk_89 (dk_at dksX3_keep_4 12 rfl rfl)
theorem dX3_keep_107 : decode cX3_keep 107 = .ok (.getfield 177, 3) := dk_180 0 177 (dk_at dksX3_keep_4 13 rfl rfl)
theorem dX3_keep_110 : decode cX3_keep 110 = .ok (.iconst 1, 1) := dk_4 (dk_at dksX3_keep_4 16 rfl rfl)
theorem dX3_keep_111 : decode cX3_keep 111 = .ok (.iadd, 1) := dk_96 (dk_at dksX3_keep_4 17 rfl rfl)
theorem dX3_keep_112 : decode cX3_keep 112 = .ok (.putfield 177, 3) := dk_181 0 177 (dk_at dksX3_keep_4 18 rfl rfl)
theorem dX3_keep_115 : decode cX3_keep 115 = .ok (.return_, 1) := dk_177 (dk_at dksX3_keep_4 21 rfl rfl)
abbrev cX3_stoneOf : ByteArray := prog_16_method_31_code
def yX3_stoneOf : MethodName := ⟨RX3, "stoneOf", "(II)I"⟩
def dkwX3_stoneOf_0 : List UInt8 := [42, 180, 0, 19, 16, 8, 6, 27, 104, 96, 28, 96, 46, 172]
abbrev dktX3_stoneOf_0 : List UInt8 := dkwX3_stoneOf_0 ++ []
theorem dksX3_stoneOf_0 : cX3_stoneOf.data.toList.drop 0 = dktX3_stoneOf_0 := by decide +kernel
theorem dX3_stoneOf_0 : decode cX3_stoneOf 0 = .ok (.aload_n 0, 1) := dk_42 (dk_at dksX3_stoneOf_0 0 rfl rfl)
theorem dX3_stoneOf_1 : decode cX3_stoneOf 1 = .ok (.getfield 19, 3) := dk_180 0 19 (dk_at dksX3_stoneOf_0 1 rfl rfl)
theorem dX3_stoneOf_4 : decode cX3_stoneOf 4 = .ok (.bipush 8, 2) := dk_16 8 (dk_at dksX3_stoneOf_0 4 rfl rfl)
theorem dX3_stoneOf_6 : decode cX3_stoneOf 6 = .ok (.iconst 3, 1) := dk_6 (dk_at dksX3_stoneOf_0 6 rfl rfl)
theorem dX3_stoneOf_7 : decode cX3_stoneOf 7 = .ok (.iload_n 1, 1) := dk_27 (dk_at dksX3_stoneOf_0 7 rfl rfl)
theorem dX3_stoneOf_8 : decode cX3_stoneOf 8 = .ok (.imul, 1) := dk_104 (dk_at dksX3_stoneOf_0 8 rfl rfl)
theorem dX3_stoneOf_9 : decode cX3_stoneOf 9 = .ok (.iadd, 1) := dk_96 (dk_at dksX3_stoneOf_0 9 rfl rfl)
theorem dX3_stoneOf_10 : decode cX3_stoneOf 10 = .ok (.iload_n 2, 1) := dk_28 (dk_at dksX3_stoneOf_0 10 rfl rfl)
theorem dX3_stoneOf_11 : decode cX3_stoneOf 11 = .ok (.iadd, 1) := dk_96 (dk_at dksX3_stoneOf_0 11 rfl rfl)
theorem dX3_stoneOf_12 : decode cX3_stoneOf 12 = .ok (.iaload, 1) := dk_46 (dk_at dksX3_stoneOf_0 12 rfl rfl)
theorem dX3_stoneOf_13 : decode cX3_stoneOf 13 = .ok (.ireturn, 1) := dk_172 (dk_at dksX3_stoneOf_0 13 rfl rfl)
abbrev cX3_layNow : ByteArray := prog_16_method_33_code
def yX3_layNow : MethodName := ⟨RX3, "layNow", "(I)V"⟩
def dkwX3_layNow_1 : List UInt8 := [132, 2, 1, 167, 255, 231, 177]
abbrev dktX3_layNow_1 : List UInt8 := dkwX3_layNow_1 ++ []
def dkwX3_layNow_0 : List UInt8 := [3, 61, 28, 42, 180, 0, 19, 7, 46, 162, 0, 21, 42, 180, 0, 31, 28, 42, 28, 27, 182, 0, 180, 79]
abbrev dktX3_layNow_0 : List UInt8 := dkwX3_layNow_0 ++ dktX3_layNow_1
theorem dksX3_layNow_0 : cX3_layNow.data.toList.drop 0 = dktX3_layNow_0 := by decide +kernel
theorem dksX3_layNow_1 : cX3_layNow.data.toList.drop 24 = dktX3_layNow_1 := dk_seg dksX3_layNow_0 24 rfl rfl
theorem dX3_layNow_0 : decode cX3_layNow 0 = .ok (.iconst 0, 1) := dk_3 (dk_at dksX3_layNow_0 0 rfl rfl)
theorem dX3_layNow_1 : decode cX3_layNow 1 = .ok (.istore_n 2, 1) := dk_61 (dk_at dksX3_layNow_0 1 rfl rfl)
theorem dX3_layNow_2 : decode cX3_layNow 2 = .ok (.iload_n 2, 1) := dk_28 (dk_at dksX3_layNow_0 2 rfl rfl)
theorem dX3_layNow_3 : decode cX3_layNow 3 = .ok (.aload_n 0, 1) := dk_42 (dk_at dksX3_layNow_0 3 rfl rfl)
theorem dX3_layNow_4 : decode cX3_layNow 4 = .ok (.getfield 19, 3) := dk_180 0 19 (dk_at dksX3_layNow_0 4 rfl rfl)
theorem dX3_layNow_7 : decode cX3_layNow 7 = .ok (.iconst 4, 1) := dk_7 (dk_at dksX3_layNow_0 7 rfl rfl)
theorem dX3_layNow_8 : decode cX3_layNow 8 = .ok (.iaload, 1) := dk_46 (dk_at dksX3_layNow_0 8 rfl rfl)
theorem dX3_layNow_9 : decode cX3_layNow 9 = .ok (.if_icmp .ge 21, 3) := dk_162 0 21 (dk_at dksX3_layNow_0 9 rfl rfl)
theorem dX3_layNow_12 : decode cX3_layNow 12 = .ok (.aload_n 0, 1) := dk_42 (dk_at dksX3_layNow_0 12 rfl rfl)
theorem dX3_layNow_13 : decode cX3_layNow 13 = .ok (.getfield 31, 3) := dk_180 0 31 (dk_at dksX3_layNow_0 13 rfl rfl)
theorem dX3_layNow_16 : decode cX3_layNow 16 = .ok (.iload_n 2, 1) := dk_28 (dk_at dksX3_layNow_0 16 rfl rfl)
theorem dX3_layNow_17 : decode cX3_layNow 17 = .ok (.aload_n 0, 1) := dk_42 (dk_at dksX3_layNow_0 17 rfl rfl)
theorem dX3_layNow_18 : decode cX3_layNow 18 = .ok (.iload_n 2, 1) := dk_28 (dk_at dksX3_layNow_0 18 rfl rfl)
theorem dX3_layNow_19 : decode cX3_layNow 19 = .ok (.iload_n 1, 1) := dk_27 (dk_at dksX3_layNow_0 19 rfl rfl)
theorem dX3_layNow_20 : decode cX3_layNow 20 = .ok (.invokevirtual 180, 3) := dk_182 0 180 (dk_at dksX3_layNow_0 20 rfl rfl)
theorem dX3_layNow_23 : decode cX3_layNow 23 = .ok (.iastore, 1) := dk_79 (dk_at dksX3_layNow_0 23 rfl rfl)
theorem dX3_layNow_24 : decode cX3_layNow 24 = .ok (.iinc 2 1, 3) := dk_132 2 1 (dk_at dksX3_layNow_1 0 rfl rfl)
theorem dX3_layNow_27 : decode cX3_layNow 27 = .ok (.goto (-25), 3) := dk_167 255 231 (dk_at dksX3_layNow_1 3 rfl rfl)
theorem dX3_layNow_30 : decode cX3_layNow 30 = .ok (.return_, 1) := dk_177 (dk_at dksX3_layNow_1 6 rfl rfl)
abbrev cX3_goNight : ByteArray := prog_16_method_36_code
def yX3_goNight : MethodName := ⟨RX3, "goNight", "(II)V"⟩
def dkwX3_goNight_1 : List UInt8 := [182, 0, 189, 132, 3, 1, 167, 255, 228, 177]
abbrev dktX3_goNight_1 : List UInt8 := dkwX3_goNight_1 ++ []
def dkwX3_goNight_0 : List UInt8 := [3, 62, 29, 42, 180, 0, 19, 8, 46, 162, 0, 24, 28, 29, 122, 4, 126, 4, 160, 0, 9, 42, 29, 27]
abbrev dktX3_goNight_0 : List UInt8 := dkwX3_goNight_0 ++ dktX3_goNight_1
theorem dksX3_goNight_0 : cX3_goNight.data.toList.drop 0 = dktX3_goNight_0 := by decide +kernel
theorem dksX3_goNight_1 : cX3_goNight.data.toList.drop 24 = dktX3_goNight_1 := dk_seg dksX3_goNight_0 24 rfl rfl
theorem dX3_goNight_0 : decode cX3_goNight 0 = .ok (.iconst 0, 1) := dk_3 (dk_at dksX3_goNight_0 0 rfl rfl)
theorem dX3_goNight_1 : decode cX3_goNight 1 = .ok (.istore_n 3, 1) := dk_62 (dk_at dksX3_goNight_0 1 rfl rfl)
theorem dX3_goNight_2 : decode cX3_goNight 2 = .ok (.iload_n 3, 1) := dk_29 (dk_at dksX3_goNight_0 2 rfl rfl)
theorem dX3_goNight_3 : decode cX3_goNight 3 = .ok (.aload_n 0, 1) := dk_42 (dk_at dksX3_goNight_0 3 rfl rfl)
theorem dX3_goNight_4 : decode cX3_goNight 4 = .ok (.getfield 19, 3) := dk_180 0 19 (dk_at dksX3_goNight_0 4 rfl rfl)
theorem dX3_goNight_7 : decode cX3_goNight 7 = .ok (.iconst 5, 1) := dk_8 (dk_at dksX3_goNight_0 7 rfl rfl)
theorem dX3_goNight_8 : decode cX3_goNight 8 = .ok (.iaload, 1) := dk_46 (dk_at dksX3_goNight_0 8 rfl rfl)
theorem dX3_goNight_9 : decode cX3_goNight 9 = .ok (.if_icmp .ge 24, 3) := dk_162 0 24 (dk_at dksX3_goNight_0 9 rfl rfl)
theorem dX3_goNight_12 : decode cX3_goNight 12 = .ok (.iload_n 2, 1) := dk_28 (dk_at dksX3_goNight_0 12 rfl rfl)
theorem dX3_goNight_13 : decode cX3_goNight 13 = .ok (.iload_n 3, 1) := dk_29 (dk_at dksX3_goNight_0 13 rfl rfl)
theorem dX3_goNight_14 : decode cX3_goNight 14 = .ok (.ishr, 1) := dk_122 (dk_at dksX3_goNight_0 14 rfl rfl)
theorem dX3_goNight_15 : decode cX3_goNight 15 = .ok (.iconst 1, 1) := dk_4 (dk_at dksX3_goNight_0 15 rfl rfl)
theorem dX3_goNight_16 : decode cX3_goNight 16 = .ok (.iand, 1) := dk_126 (dk_at dksX3_goNight_0 16 rfl rfl)
theorem dX3_goNight_17 : decode cX3_goNight 17 = .ok (.iconst 1, 1) := dk_4 (dk_at dksX3_goNight_0 17 rfl rfl)
theorem dX3_goNight_18 : decode cX3_goNight 18 = .ok (.if_icmp .ne 9, 3) := dk_160 0 9 (dk_at dksX3_goNight_0 18 rfl rfl)
theorem dX3_goNight_21 : decode cX3_goNight 21 = .ok (.aload_n 0, 1) := dk_42 (dk_at dksX3_goNight_0 21 rfl rfl)
theorem dX3_goNight_22 : decode cX3_goNight 22 = .ok (.iload_n 3, 1) := dk_29 (dk_at dksX3_goNight_0 22 rfl rfl)
theorem dX3_goNight_23 : decode cX3_goNight 23 = .ok (.iload_n 1, 1) := dk_27 (dk_at dksX3_goNight_0 23 rfl rfl)
theorem dX3_goNight_24 : decode cX3_goNight 24 = .ok (.invokevirtual 189, 3) := dk_182 0 189 (dk_at dksX3_goNight_1 0 rfl rfl)
theorem dX3_goNight_27 : decode cX3_goNight 27 = .ok (.iinc 3 1, 3) := dk_132 3 1 (dk_at dksX3_goNight_1 3 rfl rfl)
theorem dX3_goNight_30 : decode cX3_goNight 30 = .ok (.goto (-28), 3) := dk_167 255 228 (dk_at dksX3_goNight_1 6 rfl rfl)
theorem dX3_goNight_33 : decode cX3_goNight 33 = .ok (.return_, 1) := dk_177 (dk_at dksX3_goNight_1 9 rfl rfl)
abbrev cX3_pushes : ByteArray := prog_16_method_35_code
def yX3_pushes : MethodName := ⟨RX3, "pushes", "(II)V"⟩
def dkwX3_pushes_7 : List UInt8 := [167, 255, 219, 177]
abbrev dktX3_pushes_7 : List UInt8 := dkwX3_pushes_7 ++ []
def dkwX3_pushes_6 : List UInt8 := [46, 21, 6, 96, 182, 0, 186, 153, 0, 20, 42, 180, 0, 31, 29, 92, 46, 21, 6, 96, 79, 132, 8, 1]
abbrev dktX3_pushes_6 : List UInt8 := dkwX3_pushes_6 ++ dktX3_pushes_7
def dkwX3_pushes_5 : List UInt8 := [42, 27, 6, 182, 0, 183, 54, 7, 3, 54, 8, 21, 8, 21, 7, 162, 0, 36, 42, 42, 180, 0, 31, 29]
abbrev dktX3_pushes_5 : List UInt8 := dkwX3_pushes_5 ++ dktX3_pushes_6
def dkwX3_pushes_4 : List UInt8 := [167, 0, 5, 21, 6, 54, 6, 21, 4, 5, 160, 0, 14, 5, 42, 27, 6, 182, 0, 183, 104, 167, 0, 9]
abbrev dktX3_pushes_4 : List UInt8 := dkwX3_pushes_4 ++ dktX3_pushes_5
def dkwX3_pushes_3 : List UInt8 := [160, 0, 7, 4, 167, 0, 4, 2, 54, 6, 21, 4, 7, 160, 0, 14, 21, 5, 153, 0, 9, 21, 6, 116]
abbrev dktX3_pushes_3 : List UInt8 := dkwX3_pushes_3 ++ dktX3_pushes_4
def dkwX3_pushes_2 : List UInt8 := [180, 0, 31, 29, 46, 42, 29, 5, 182, 0, 180, 159, 0, 4, 177, 42, 27, 5, 182, 0, 183, 4]
abbrev dktX3_pushes_2 : List UInt8 := dkwX3_pushes_2 ++ dktX3_pushes_3
def dkwX3_pushes_1 : List UInt8 := [167, 0, 4, 3, 54, 5, 21, 4, 6, 160, 0, 8, 21, 5, 154, 0, 24, 21, 4, 8, 160, 0, 19, 42]
abbrev dktX3_pushes_1 : List UInt8 := dkwX3_pushes_1 ++ dktX3_pushes_2
def dkwX3_pushes_0 : List UInt8 := [42, 27, 4, 182, 0, 183, 62, 42, 27, 3, 182, 0, 183, 54, 4, 28, 5, 112, 4, 160, 0, 7, 4]
abbrev dktX3_pushes_0 : List UInt8 := dkwX3_pushes_0 ++ dktX3_pushes_1
theorem dksX3_pushes_0 : cX3_pushes.data.toList.drop 0 = dktX3_pushes_0 := by decide +kernel
theorem dksX3_pushes_1 : cX3_pushes.data.toList.drop 23 = dktX3_pushes_1 := dk_seg dksX3_pushes_0 23 rfl rfl
theorem dksX3_pushes_2 : cX3_pushes.data.toList.drop 47 = dktX3_pushes_2 := dk_seg dksX3_pushes_1 24 rfl rfl
theorem dksX3_pushes_3 : cX3_pushes.data.toList.drop 69 = dktX3_pushes_3 := dk_seg dksX3_pushes_2 22 rfl rfl
theorem dksX3_pushes_4 : cX3_pushes.data.toList.drop 93 = dktX3_pushes_4 := dk_seg dksX3_pushes_3 24 rfl rfl
theorem dksX3_pushes_5 : cX3_pushes.data.toList.drop 117 = dktX3_pushes_5 := dk_seg dksX3_pushes_4 24 rfl rfl
theorem dksX3_pushes_6 : cX3_pushes.data.toList.drop 141 = dktX3_pushes_6 := dk_seg dksX3_pushes_5 24 rfl rfl
theorem dksX3_pushes_7 : cX3_pushes.data.toList.drop 165 = dktX3_pushes_7 := dk_seg dksX3_pushes_6 24 rfl rfl
theorem dX3_pushes_0 : decode cX3_pushes 0 = .ok (.aload_n 0, 1) := dk_42 (dk_at dksX3_pushes_0 0 rfl rfl)
theorem dX3_pushes_1 : decode cX3_pushes 1 = .ok (.iload_n 1, 1) := dk_27 (dk_at dksX3_pushes_0 1 rfl rfl)
theorem dX3_pushes_2 : decode cX3_pushes 2 = .ok (.iconst 1, 1) := dk_4 (dk_at dksX3_pushes_0 2 rfl rfl)
theorem dX3_pushes_3 : decode cX3_pushes 3 = .ok (.invokevirtual 183, 3) := dk_182 0 183 (dk_at dksX3_pushes_0 3 rfl rfl)
theorem dX3_pushes_6 : decode cX3_pushes 6 = .ok (.istore_n 3, 1) := dk_62 (dk_at dksX3_pushes_0 6 rfl rfl)
theorem dX3_pushes_7 : decode cX3_pushes 7 = .ok (.aload_n 0, 1) := dk_42 (dk_at dksX3_pushes_0 7 rfl rfl)
theorem dX3_pushes_8 : decode cX3_pushes 8 = .ok (.iload_n 1, 1) := dk_27 (dk_at dksX3_pushes_0 8 rfl rfl)
theorem dX3_pushes_9 : decode cX3_pushes 9 = .ok (.iconst 0, 1) := dk_3 (dk_at dksX3_pushes_0 9 rfl rfl)
theorem dX3_pushes_10 : decode cX3_pushes 10 = .ok (.invokevirtual 183, 3) := dk_182 0 183 (dk_at dksX3_pushes_0 10 rfl rfl)
theorem dX3_pushes_13 : decode cX3_pushes 13 = .ok (.istore 4, 2) := dk_54 4 (dk_at dksX3_pushes_0 13 rfl rfl)
theorem dX3_pushes_15 : decode cX3_pushes 15 = .ok (.iload_n 2, 1) := dk_28 (dk_at dksX3_pushes_0 15 rfl rfl)
theorem dX3_pushes_16 : decode cX3_pushes 16 = .ok (.iconst 2, 1) := dk_5 (dk_at dksX3_pushes_0 16 rfl rfl)
theorem dX3_pushes_17 : decode cX3_pushes 17 = .ok (.irem, 1) := dk_112 (dk_at dksX3_pushes_0 17 rfl rfl)
theorem dX3_pushes_18 : decode cX3_pushes 18 = .ok (.iconst 1, 1) := dk_4 (dk_at dksX3_pushes_0 18 rfl rfl)
theorem dX3_pushes_19 : decode cX3_pushes 19 = .ok (.if_icmp .ne 7, 3) := dk_160 0 7 (dk_at dksX3_pushes_0 19 rfl rfl)
theorem dX3_pushes_22 : decode cX3_pushes 22 = .ok (.iconst 1, 1) := dk_4 (dk_at dksX3_pushes_0 22 rfl rfl)
theorem dX3_pushes_23 : decode cX3_pushes 23 = .ok (.goto 4, 3) := dk_167 0 4 (dk_at dksX3_pushes_1 0 rfl rfl)
theorem dX3_pushes_26 : decode cX3_pushes 26 = .ok (.iconst 0, 1) := dk_3 (dk_at dksX3_pushes_1 3 rfl rfl)
theorem dX3_pushes_27 : decode cX3_pushes 27 = .ok (.istore 5, 2) := dk_54 5 (dk_at dksX3_pushes_1 4 rfl rfl)
theorem dX3_pushes_29 : decode cX3_pushes 29 = .ok (.iload 4, 2) := dk_21 4 (dk_at dksX3_pushes_1 6 rfl rfl)
theorem dX3_pushes_31 : decode cX3_pushes 31 = .ok (.iconst 3, 1) := dk_6 (dk_at dksX3_pushes_1 8 rfl rfl)
theorem dX3_pushes_32 : decode cX3_pushes 32 = .ok (.if_icmp .ne 8, 3) := dk_160 0 8 (dk_at dksX3_pushes_1 9 rfl rfl)
theorem dX3_pushes_35 : decode cX3_pushes 35 = .ok (.iload 5, 2) := dk_21 5 (dk_at dksX3_pushes_1 12 rfl rfl)
theorem dX3_pushes_37 : decode cX3_pushes 37 = .ok (.ifCond .ne 24, 3) := dk_154 0 24 (dk_at dksX3_pushes_1 14 rfl rfl)
theorem dX3_pushes_40 : decode cX3_pushes 40 = .ok (.iload 4, 2) := dk_21 4 (dk_at dksX3_pushes_1 17 rfl rfl)
theorem dX3_pushes_42 : decode cX3_pushes 42 = .ok (.iconst 5, 1) := dk_8 (dk_at dksX3_pushes_1 19 rfl rfl)
theorem dX3_pushes_43 : decode cX3_pushes 43 = .ok (.if_icmp .ne 19, 3) := dk_160 0 19 (dk_at dksX3_pushes_1 20 rfl rfl)
theorem dX3_pushes_46 : decode cX3_pushes 46 = .ok (.aload_n 0, 1) := dk_42 (dk_at dksX3_pushes_1 23 rfl rfl)
theorem dX3_pushes_47 : decode cX3_pushes 47 = .ok (.getfield 31, 3) := dk_180 0 31 (dk_at dksX3_pushes_2 0 rfl rfl)
theorem dX3_pushes_50 : decode cX3_pushes 50 = .ok (.iload_n 3, 1) := dk_29 (dk_at dksX3_pushes_2 3 rfl rfl)
theorem dX3_pushes_51 : decode cX3_pushes 51 = .ok (.iaload, 1) := dk_46 (dk_at dksX3_pushes_2 4 rfl rfl)
theorem dX3_pushes_52 : decode cX3_pushes 52 = .ok (.aload_n 0, 1) := dk_42 (dk_at dksX3_pushes_2 5 rfl rfl)
theorem dX3_pushes_53 : decode cX3_pushes 53 = .ok (.iload_n 3, 1) := dk_29 (dk_at dksX3_pushes_2 6 rfl rfl)
theorem dX3_pushes_54 : decode cX3_pushes 54 = .ok (.iconst 2, 1) := dk_5 (dk_at dksX3_pushes_2 7 rfl rfl)
theorem dX3_pushes_55 : decode cX3_pushes 55 = .ok (.invokevirtual 180, 3) := dk_182 0 180 (dk_at dksX3_pushes_2 8 rfl rfl)
theorem dX3_pushes_58 : decode cX3_pushes 58 = .ok (.if_icmp .eq 4, 3) := dk_159 0 4 (dk_at dksX3_pushes_2 11 rfl rfl)
theorem dX3_pushes_61 : decode cX3_pushes 61 = .ok (.return_, 1) := dk_177 (dk_at dksX3_pushes_2 14 rfl rfl)
theorem dX3_pushes_62 : decode cX3_pushes 62 = .ok (.aload_n 0, 1) := dk_42 (dk_at dksX3_pushes_2 15 rfl rfl)
theorem dX3_pushes_63 : decode cX3_pushes 63 = .ok (.iload_n 1, 1) := dk_27 (dk_at dksX3_pushes_2 16 rfl rfl)
theorem dX3_pushes_64 : decode cX3_pushes 64 = .ok (.iconst 2, 1) := dk_5 (dk_at dksX3_pushes_2 17 rfl rfl)
theorem dX3_pushes_65 : decode cX3_pushes 65 = .ok (.invokevirtual 183, 3) := dk_182 0 183 (dk_at dksX3_pushes_2 18 rfl rfl)
theorem dX3_pushes_68 : decode cX3_pushes 68 = .ok (.iconst 1, 1) := dk_4 (dk_at dksX3_pushes_2 21 rfl rfl)
theorem dX3_pushes_69 : decode cX3_pushes 69 = .ok (.if_icmp .ne 7, 3) := dk_160 0 7 (dk_at dksX3_pushes_3 0 rfl rfl)
theorem dX3_pushes_72 : decode cX3_pushes 72 = .ok (.iconst 1, 1) := dk_4 (dk_at dksX3_pushes_3 3 rfl rfl)
theorem dX3_pushes_73 : decode cX3_pushes 73 = .ok (.goto 4, 3) := dk_167 0 4 (dk_at dksX3_pushes_3 4 rfl rfl)
theorem dX3_pushes_76 : decode cX3_pushes 76 = .ok (.iconst (-1), 1) := dk_2 (dk_at dksX3_pushes_3 7 rfl rfl)
theorem dX3_pushes_77 : decode cX3_pushes 77 = .ok (.istore 6, 2) := dk_54 6 (dk_at dksX3_pushes_3 8 rfl rfl)
theorem dX3_pushes_79 : decode cX3_pushes 79 = .ok (.iload 4, 2) := dk_21 4 (dk_at dksX3_pushes_3 10 rfl rfl)
theorem dX3_pushes_81 : decode cX3_pushes 81 = .ok (.iconst 4, 1) := dk_7 (dk_at dksX3_pushes_3 12 rfl rfl)
theorem dX3_pushes_82 : decode cX3_pushes 82 = .ok (.if_icmp .ne 14, 3) := dk_160 0 14 (dk_at dksX3_pushes_3 13 rfl rfl)
theorem dX3_pushes_85 : decode cX3_pushes 85 = .ok (.iload 5, 2) := dk_21 5 (dk_at dksX3_pushes_3 16 rfl rfl)
theorem dX3_pushes_87 : decode cX3_pushes 87 = .ok (.ifCond .eq 9, 3) := dk_153 0 9 (dk_at dksX3_pushes_3 18 rfl rfl)
theorem dX3_pushes_90 : decode cX3_pushes 90 = .ok (.iload 6, 2) := dk_21 6 (dk_at dksX3_pushes_3 21 rfl rfl)
theorem dX3_pushes_92 : decode cX3_pushes 92 = .ok (.ineg, 1) := dk_116 (dk_at dksX3_pushes_3 23 rfl rfl)
theorem dX3_pushes_93 : decode cX3_pushes 93 = .ok (.goto 5, 3) := dk_167 0 5 (dk_at dksX3_pushes_4 0 rfl rfl)
theorem dX3_pushes_96 : decode cX3_pushes 96 = .ok (.iload 6, 2) := dk_21 6 (dk_at dksX3_pushes_4 3 rfl rfl)
theorem dX3_pushes_98 : decode cX3_pushes 98 = .ok (.istore 6, 2) := dk_54 6 (dk_at dksX3_pushes_4 5 rfl rfl)
theorem dX3_pushes_100 : decode cX3_pushes 100 = .ok (.iload 4, 2) := dk_21 4 (dk_at dksX3_pushes_4 7 rfl rfl)
theorem dX3_pushes_102 : decode cX3_pushes 102 = .ok (.iconst 2, 1) := dk_5 (dk_at dksX3_pushes_4 9 rfl rfl)
theorem dX3_pushes_103 : decode cX3_pushes 103 = .ok (.if_icmp .ne 14, 3) := dk_160 0 14 (dk_at dksX3_pushes_4 10 rfl rfl)
theorem dX3_pushes_106 : decode cX3_pushes 106 = .ok (.iconst 2, 1) := dk_5 (dk_at dksX3_pushes_4 13 rfl rfl)
theorem dX3_pushes_107 : decode cX3_pushes 107 = .ok (.aload_n 0, 1) := dk_42 (dk_at dksX3_pushes_4 14 rfl rfl)
theorem dX3_pushes_108 : decode cX3_pushes 108 = .ok (.iload_n 1, 1) := dk_27 (dk_at dksX3_pushes_4 15 rfl rfl)
theorem dX3_pushes_109 : decode cX3_pushes 109 = .ok (.iconst 3, 1) := dk_6 (dk_at dksX3_pushes_4 16 rfl rfl)
theorem dX3_pushes_110 : decode cX3_pushes 110 = .ok (.invokevirtual 183, 3) := dk_182 0 183 (dk_at dksX3_pushes_4 17 rfl rfl)
theorem dX3_pushes_113 : decode cX3_pushes 113 = .ok (.imul, 1) := dk_104 (dk_at dksX3_pushes_4 20 rfl rfl)
theorem dX3_pushes_114 : decode cX3_pushes 114 = .ok (.goto 9, 3) := dk_167 0 9 (dk_at dksX3_pushes_4 21 rfl rfl)
theorem dX3_pushes_117 : decode cX3_pushes 117 = .ok (.aload_n 0, 1) := dk_42 (dk_at dksX3_pushes_5 0 rfl rfl)
theorem dX3_pushes_118 : decode cX3_pushes 118 = .ok (.iload_n 1, 1) := dk_27 (dk_at dksX3_pushes_5 1 rfl rfl)
theorem dX3_pushes_119 : decode cX3_pushes 119 = .ok (.iconst 3, 1) := dk_6 (dk_at dksX3_pushes_5 2 rfl rfl)
theorem dX3_pushes_120 : decode cX3_pushes 120 = .ok (.invokevirtual 183, 3) := dk_182 0 183 (dk_at dksX3_pushes_5 3 rfl rfl)
theorem dX3_pushes_123 : decode cX3_pushes 123 = .ok (.istore 7, 2) := dk_54 7 (dk_at dksX3_pushes_5 6 rfl rfl)
theorem dX3_pushes_125 : decode cX3_pushes 125 = .ok (.iconst 0, 1) := dk_3 (dk_at dksX3_pushes_5 8 rfl rfl)
theorem dX3_pushes_126 : decode cX3_pushes 126 = .ok (.istore 8, 2) := dk_54 8 (dk_at dksX3_pushes_5 9 rfl rfl)
theorem dX3_pushes_128 : decode cX3_pushes 128 = .ok (.iload 8, 2) := dk_21 8 (dk_at dksX3_pushes_5 11 rfl rfl)
theorem dX3_pushes_130 : decode cX3_pushes 130 = .ok (.iload 7, 2) := dk_21 7 (dk_at dksX3_pushes_5 13 rfl rfl)
theorem dX3_pushes_132 : decode cX3_pushes 132 = .ok (.if_icmp .ge 36, 3) := dk_162 0 36 (dk_at dksX3_pushes_5 15 rfl rfl)
theorem dX3_pushes_135 : decode cX3_pushes 135 = .ok (.aload_n 0, 1) := dk_42 (dk_at dksX3_pushes_5 18 rfl rfl)
theorem dX3_pushes_136 : decode cX3_pushes 136 = .ok (.aload_n 0, 1) := dk_42 (dk_at dksX3_pushes_5 19 rfl rfl)
theorem dX3_pushes_137 : decode cX3_pushes 137 = .ok (.getfield 31, 3) := dk_180 0 31 (dk_at dksX3_pushes_5 20 rfl rfl)
theorem dX3_pushes_140 : decode cX3_pushes 140 = .ok (.iload_n 3, 1) := dk_29 (dk_at dksX3_pushes_5 23 rfl rfl)
theorem dX3_pushes_141 : decode cX3_pushes 141 = .ok (.iaload, 1) := dk_46 (dk_at dksX3_pushes_6 0 rfl rfl)
theorem dX3_pushes_142 : decode cX3_pushes 142 = .ok (.iload 6, 2) := dk_21 6 (dk_at dksX3_pushes_6 1 rfl rfl)
theorem dX3_pushes_144 : decode cX3_pushes 144 = .ok (.iadd, 1) := dk_96 (dk_at dksX3_pushes_6 3 rfl rfl)
theorem dX3_pushes_145 : decode cX3_pushes 145 = .ok (.invokevirtual 186, 3) := dk_182 0 186 (dk_at dksX3_pushes_6 4 rfl rfl)
theorem dX3_pushes_148 : decode cX3_pushes 148 = .ok (.ifCond .eq 20, 3) := dk_153 0 20 (dk_at dksX3_pushes_6 7 rfl rfl)
theorem dX3_pushes_151 : decode cX3_pushes 151 = .ok (.aload_n 0, 1) := dk_42 (dk_at dksX3_pushes_6 10 rfl rfl)
theorem dX3_pushes_152 : decode cX3_pushes 152 = .ok (.getfield 31, 3) := dk_180 0 31 (dk_at dksX3_pushes_6 11 rfl rfl)
theorem dX3_pushes_155 : decode cX3_pushes 155 = .ok (.iload_n 3, 1) := dk_29 (dk_at dksX3_pushes_6 14 rfl rfl)
theorem dX3_pushes_156 : decode cX3_pushes 156 = .ok (.dup2, 1) := dk_92 (dk_at dksX3_pushes_6 15 rfl rfl)
theorem dX3_pushes_157 : decode cX3_pushes 157 = .ok (.iaload, 1) := dk_46 (dk_at dksX3_pushes_6 16 rfl rfl)
theorem dX3_pushes_158 : decode cX3_pushes 158 = .ok (.iload 6, 2) := dk_21 6 (dk_at dksX3_pushes_6 17 rfl rfl)
theorem dX3_pushes_160 : decode cX3_pushes 160 = .ok (.iadd, 1) := dk_96 (dk_at dksX3_pushes_6 19 rfl rfl)
theorem dX3_pushes_161 : decode cX3_pushes 161 = .ok (.iastore, 1) := dk_79 (dk_at dksX3_pushes_6 20 rfl rfl)
theorem dX3_pushes_162 : decode cX3_pushes 162 = .ok (.iinc 8 1, 3) := dk_132 8 1 (dk_at dksX3_pushes_6 21 rfl rfl)
theorem dX3_pushes_165 : decode cX3_pushes 165 = .ok (.goto (-37), 3) := dk_167 255 219 (dk_at dksX3_pushes_7 0 rfl rfl)
theorem dX3_pushes_168 : decode cX3_pushes 168 = .ok (.return_, 1) := dk_177 (dk_at dksX3_pushes_7 3 rfl rfl)
abbrev cX3_of : ByteArray := prog_16_method_32_code
def yX3_of : MethodName := ⟨RX3, "of", "(II)I"⟩
def dkwX3_of_0 : List UInt8 := [42, 180, 0, 19, 16, 26, 7, 27, 104, 96, 28, 96, 46, 172]
abbrev dktX3_of_0 : List UInt8 := dkwX3_of_0 ++ []
theorem dksX3_of_0 : cX3_of.data.toList.drop 0 = dktX3_of_0 := by decide +kernel
theorem dX3_of_0 : decode cX3_of 0 = .ok (.aload_n 0, 1) := dk_42 (dk_at dksX3_of_0 0 rfl rfl)
theorem dX3_of_1 : decode cX3_of 1 = .ok (.getfield 19, 3) := dk_180 0 19 (dk_at dksX3_of_0 1 rfl rfl)
theorem dX3_of_4 : decode cX3_of 4 = .ok (.bipush 26, 2) := dk_16 26 (dk_at dksX3_of_0 4 rfl rfl)
theorem dX3_of_6 : decode cX3_of 6 = .ok (.iconst 4, 1) := dk_7 (dk_at dksX3_of_0 6 rfl rfl)
theorem dX3_of_7 : decode cX3_of 7 = .ok (.iload_n 1, 1) := dk_27 (dk_at dksX3_of_0 7 rfl rfl)
theorem dX3_of_8 : decode cX3_of 8 = .ok (.imul, 1) := dk_104 (dk_at dksX3_of_0 8 rfl rfl)
theorem dX3_of_9 : decode cX3_of 9 = .ok (.iadd, 1) := dk_96 (dk_at dksX3_of_0 9 rfl rfl)
theorem dX3_of_10 : decode cX3_of 10 = .ok (.iload_n 2, 1) := dk_28 (dk_at dksX3_of_0 10 rfl rfl)
theorem dX3_of_11 : decode cX3_of 11 = .ok (.iadd, 1) := dk_96 (dk_at dksX3_of_0 11 rfl rfl)
theorem dX3_of_12 : decode cX3_of 12 = .ok (.iaload, 1) := dk_46 (dk_at dksX3_of_0 12 rfl rfl)
theorem dX3_of_13 : decode cX3_of 13 = .ok (.ireturn, 1) := dk_172 (dk_at dksX3_of_0 13 rfl rfl)
abbrev cX3_isFree : ByteArray := prog_16_method_34_code
def yX3_isFree : MethodName := ⟨RX3, "isFree", "(I)Z"⟩
def dkwX3_isFree_2 : List UInt8 := [167, 0, 4, 3, 61, 132, 3, 1, 167, 255, 223, 28, 172]
abbrev dktX3_isFree_2 : List UInt8 := dkwX3_isFree_2 ++ []
def dkwX3_isFree_1 : List UInt8 := [180, 0, 19, 7, 46, 162, 0, 29, 28, 153, 0, 17, 42, 180, 0, 31, 29, 46, 27, 159, 0, 7, 4]
abbrev dktX3_isFree_1 : List UInt8 := dkwX3_isFree_1 ++ dktX3_isFree_2
def dkwX3_isFree_0 : List UInt8 := [27, 155, 0, 17, 27, 42, 180, 0, 19, 3, 46, 163, 0, 7, 4, 167, 0, 4, 3, 61, 3, 62, 29, 42]
abbrev dktX3_isFree_0 : List UInt8 := dkwX3_isFree_0 ++ dktX3_isFree_1
theorem dksX3_isFree_0 : cX3_isFree.data.toList.drop 0 = dktX3_isFree_0 := by decide +kernel
theorem dksX3_isFree_1 : cX3_isFree.data.toList.drop 24 = dktX3_isFree_1 := dk_seg dksX3_isFree_0 24 rfl rfl
theorem dksX3_isFree_2 : cX3_isFree.data.toList.drop 47 = dktX3_isFree_2 := dk_seg dksX3_isFree_1 23 rfl rfl
theorem dX3_isFree_0 : decode cX3_isFree 0 = .ok (.iload_n 1, 1) := dk_27 (dk_at dksX3_isFree_0 0 rfl rfl)
theorem dX3_isFree_1 : decode cX3_isFree 1 = .ok (.ifCond .lt 17, 3) := dk_155 0 17 (dk_at dksX3_isFree_0 1 rfl rfl)
theorem dX3_isFree_4 : decode cX3_isFree 4 = .ok (.iload_n 1, 1) := dk_27 (dk_at dksX3_isFree_0 4 rfl rfl)
theorem dX3_isFree_5 : decode cX3_isFree 5 = .ok (.aload_n 0, 1) := dk_42 (dk_at dksX3_isFree_0 5 rfl rfl)
theorem dX3_isFree_6 : decode cX3_isFree 6 = .ok (.getfield 19, 3) := dk_180 0 19 (dk_at dksX3_isFree_0 6 rfl rfl)
theorem dX3_isFree_9 : decode cX3_isFree 9 = .ok (.iconst 0, 1) := dk_3 (dk_at dksX3_isFree_0 9 rfl rfl)
theorem dX3_isFree_10 : decode cX3_isFree 10 = .ok (.iaload, 1) := dk_46 (dk_at dksX3_isFree_0 10 rfl rfl)
theorem dX3_isFree_11 : decode cX3_isFree 11 = .ok (.if_icmp .gt 7, 3) := dk_163 0 7 (dk_at dksX3_isFree_0 11 rfl rfl)
theorem dX3_isFree_14 : decode cX3_isFree 14 = .ok (.iconst 1, 1) := dk_4 (dk_at dksX3_isFree_0 14 rfl rfl)
theorem dX3_isFree_15 : decode cX3_isFree 15 = .ok (.goto 4, 3) := dk_167 0 4 (dk_at dksX3_isFree_0 15 rfl rfl)
theorem dX3_isFree_18 : decode cX3_isFree 18 = .ok (.iconst 0, 1) := dk_3 (dk_at dksX3_isFree_0 18 rfl rfl)
theorem dX3_isFree_19 : decode cX3_isFree 19 = .ok (.istore_n 2, 1) := dk_61 (dk_at dksX3_isFree_0 19 rfl rfl)
theorem dX3_isFree_20 : decode cX3_isFree 20 = .ok (.iconst 0, 1) := dk_3 (dk_at dksX3_isFree_0 20 rfl rfl)
theorem dX3_isFree_21 : decode cX3_isFree 21 = .ok (.istore_n 3, 1) := dk_62 (dk_at dksX3_isFree_0 21 rfl rfl)
theorem dX3_isFree_22 : decode cX3_isFree 22 = .ok (.iload_n 3, 1) := dk_29 (dk_at dksX3_isFree_0 22 rfl rfl)
theorem dX3_isFree_23 : decode cX3_isFree 23 = .ok (.aload_n 0, 1) := dk_42 (dk_at dksX3_isFree_0 23 rfl rfl)
theorem dX3_isFree_24 : decode cX3_isFree 24 = .ok (.getfield 19, 3) := dk_180 0 19 (dk_at dksX3_isFree_1 0 rfl rfl)
theorem dX3_isFree_27 : decode cX3_isFree 27 = .ok (.iconst 4, 1) := dk_7 (dk_at dksX3_isFree_1 3 rfl rfl)
theorem dX3_isFree_28 : decode cX3_isFree 28 = .ok (.iaload, 1) := dk_46 (dk_at dksX3_isFree_1 4 rfl rfl)
theorem dX3_isFree_29 : decode cX3_isFree 29 = .ok (.if_icmp .ge 29, 3) := dk_162 0 29 (dk_at dksX3_isFree_1 5 rfl rfl)
theorem dX3_isFree_32 : decode cX3_isFree 32 = .ok (.iload_n 2, 1) := dk_28 (dk_at dksX3_isFree_1 8 rfl rfl)
theorem dX3_isFree_33 : decode cX3_isFree 33 = .ok (.ifCond .eq 17, 3) := dk_153 0 17 (dk_at dksX3_isFree_1 9 rfl rfl)
theorem dX3_isFree_36 : decode cX3_isFree 36 = .ok (.aload_n 0, 1) := dk_42 (dk_at dksX3_isFree_1 12 rfl rfl)
theorem dX3_isFree_37 : decode cX3_isFree 37 = .ok (.getfield 31, 3) := dk_180 0 31 (dk_at dksX3_isFree_1 13 rfl rfl)
theorem dX3_isFree_40 : decode cX3_isFree 40 = .ok (.iload_n 3, 1) := dk_29 (dk_at dksX3_isFree_1 16 rfl rfl)
theorem dX3_isFree_41 : decode cX3_isFree 41 = .ok (.iaload, 1) := dk_46 (dk_at dksX3_isFree_1 17 rfl rfl)
theorem dX3_isFree_42 : decode cX3_isFree 42 = .ok (.iload_n 1, 1) := dk_27 (dk_at dksX3_isFree_1 18 rfl rfl)
theorem dX3_isFree_43 : decode cX3_isFree 43 = .ok (.if_icmp .eq 7, 3) := dk_159 0 7 (dk_at dksX3_isFree_1 19 rfl rfl)
theorem dX3_isFree_46 : decode cX3_isFree 46 = .ok (.iconst 1, 1) := dk_4 (dk_at dksX3_isFree_1 22 rfl rfl)
theorem dX3_isFree_47 : decode cX3_isFree 47 = .ok (.goto 4, 3) := dk_167 0 4 (dk_at dksX3_isFree_2 0 rfl rfl)
theorem dX3_isFree_50 : decode cX3_isFree 50 = .ok (.iconst 0, 1) := dk_3 (dk_at dksX3_isFree_2 3 rfl rfl)
theorem dX3_isFree_51 : decode cX3_isFree 51 = .ok (.istore_n 2, 1) := dk_61 (dk_at dksX3_isFree_2 4 rfl rfl)
theorem dX3_isFree_52 : decode cX3_isFree 52 = .ok (.iinc 3 1, 3) := dk_132 3 1 (dk_at dksX3_isFree_2 5 rfl rfl)
theorem dX3_isFree_55 : decode cX3_isFree 55 = .ok (.goto (-33), 3) := dk_167 255 223 (dk_at dksX3_isFree_2 8 rfl rfl)
theorem dX3_isFree_58 : decode cX3_isFree 58 = .ok (.iload_n 2, 1) := dk_28 (dk_at dksX3_isFree_2 11 rfl rfl)
theorem dX3_isFree_59 : decode cX3_isFree 59 = .ok (.ireturn, 1) := dk_172 (dk_at dksX3_isFree_2 12 rfl rfl)
abbrev cX3_prove : ByteArray := prog_16_method_39_code
def yX3_prove : MethodName := ⟨RX3, "prove", "(I)I"⟩
def dkwX3_prove_5 : List UInt8 := [180, 0, 19, 16, 8, 6, 27, 104, 96, 4, 96, 29, 79, 21, 5, 21, 4, 100, 172]
abbrev dktX3_prove_5 : List UInt8 := dkwX3_prove_5 ++ []
def dkwX3_prove_4 : List UInt8 := [18, 196, 172, 132, 6, 1, 167, 255, 213, 28, 29, 160, 0, 6, 18, 196, 172, 42, 182, 0, 197, 42]
abbrev dktX3_prove_4 : List UInt8 := dkwX3_prove_4 ++ dktX3_prove_5
def dkwX3_prove_3 : List UInt8 := [159, 0, 26, 42, 21, 6, 4, 182, 0, 180, 133, 21, 4, 133, 21, 5, 133, 184, 0, 60, 153, 0, 6]
abbrev dktX3_prove_3 : List UInt8 := dkwX3_prove_3 ++ dktX3_prove_4
def dkwX3_prove_2 : List UInt8 := [167, 0, 4, 28, 54, 5, 3, 54, 6, 21, 6, 42, 180, 0, 19, 7, 46, 162, 0, 38, 21, 6, 27]
abbrev dktX3_prove_2 : List UInt8 := dkwX3_prove_2 ++ dktX3_prove_3
def dkwX3_prove_1 : List UInt8 := [27, 5, 182, 0, 180, 62, 28, 29, 162, 0, 7, 28, 167, 0, 4, 29, 54, 4, 28, 29, 162, 0, 7, 29]
abbrev dktX3_prove_1 : List UInt8 := dkwX3_prove_1 ++ dktX3_prove_2
def dkwX3_prove_0 : List UInt8 := [42, 3, 181, 0, 50, 42, 27, 182, 0, 206, 154, 0, 6, 18, 70, 172, 42, 27, 4, 182, 0, 180, 61, 42]
abbrev dktX3_prove_0 : List UInt8 := dkwX3_prove_0 ++ dktX3_prove_1
theorem dksX3_prove_0 : cX3_prove.data.toList.drop 0 = dktX3_prove_0 := by decide +kernel
theorem dksX3_prove_1 : cX3_prove.data.toList.drop 24 = dktX3_prove_1 := dk_seg dksX3_prove_0 24 rfl rfl
theorem dksX3_prove_2 : cX3_prove.data.toList.drop 48 = dktX3_prove_2 := dk_seg dksX3_prove_1 24 rfl rfl
theorem dksX3_prove_3 : cX3_prove.data.toList.drop 71 = dktX3_prove_3 := dk_seg dksX3_prove_2 23 rfl rfl
theorem dksX3_prove_4 : cX3_prove.data.toList.drop 94 = dktX3_prove_4 := dk_seg dksX3_prove_3 23 rfl rfl
theorem dksX3_prove_5 : cX3_prove.data.toList.drop 116 = dktX3_prove_5 := dk_seg dksX3_prove_4 22 rfl rfl
theorem dX3_prove_0 : decode cX3_prove 0 = .ok (.aload_n 0, 1) := dk_42 (dk_at dksX3_prove_0 0 rfl rfl)
theorem dX3_prove_1 : decode cX3_prove 1 = .ok (.iconst 0, 1) := dk_3 (dk_at dksX3_prove_0 1 rfl rfl)
theorem dX3_prove_2 : decode cX3_prove 2 = .ok (.putfield 50, 3) := dk_181 0 50 (dk_at dksX3_prove_0 2 rfl rfl)
theorem dX3_prove_5 : decode cX3_prove 5 = .ok (.aload_n 0, 1) := dk_42 (dk_at dksX3_prove_0 5 rfl rfl)
theorem dX3_prove_6 : decode cX3_prove 6 = .ok (.iload_n 1, 1) := dk_27 (dk_at dksX3_prove_0 6 rfl rfl)
theorem dX3_prove_7 : decode cX3_prove 7 = .ok (.invokevirtual 206, 3) := dk_182 0 206 (dk_at dksX3_prove_0 7 rfl rfl)
theorem dX3_prove_10 : decode cX3_prove 10 = .ok (.ifCond .ne 6, 3) := dk_154 0 6 (dk_at dksX3_prove_0 10 rfl rfl)
theorem dX3_prove_13 : decode cX3_prove 13 = .ok (.ldc 70, 2) := dk_18 70 (dk_at dksX3_prove_0 13 rfl rfl)
theorem dX3_prove_15 : decode cX3_prove 15 = .ok (.ireturn, 1) := dk_172 (dk_at dksX3_prove_0 15 rfl rfl)
theorem dX3_prove_16 : decode cX3_prove 16 = .ok (.aload_n 0, 1) := dk_42 (dk_at dksX3_prove_0 16 rfl rfl)
theorem dX3_prove_17 : decode cX3_prove 17 = .ok (.iload_n 1, 1) := dk_27 (dk_at dksX3_prove_0 17 rfl rfl)
theorem dX3_prove_18 : decode cX3_prove 18 = .ok (.iconst 1, 1) := dk_4 (dk_at dksX3_prove_0 18 rfl rfl)
theorem dX3_prove_19 : decode cX3_prove 19 = .ok (.invokevirtual 180, 3) := dk_182 0 180 (dk_at dksX3_prove_0 19 rfl rfl)
theorem dX3_prove_22 : decode cX3_prove 22 = .ok (.istore_n 2, 1) := dk_61 (dk_at dksX3_prove_0 22 rfl rfl)
theorem dX3_prove_23 : decode cX3_prove 23 = .ok (.aload_n 0, 1) := dk_42 (dk_at dksX3_prove_0 23 rfl rfl)
theorem dX3_prove_24 : decode cX3_prove 24 = .ok (.iload_n 1, 1) := dk_27 (dk_at dksX3_prove_1 0 rfl rfl)
theorem dX3_prove_25 : decode cX3_prove 25 = .ok (.iconst 2, 1) := dk_5 (dk_at dksX3_prove_1 1 rfl rfl)
theorem dX3_prove_26 : decode cX3_prove 26 = .ok (.invokevirtual 180, 3) := dk_182 0 180 (dk_at dksX3_prove_1 2 rfl rfl)
theorem dX3_prove_29 : decode cX3_prove 29 = .ok (.istore_n 3, 1) := dk_62 (dk_at dksX3_prove_1 5 rfl rfl)
theorem dX3_prove_30 : decode cX3_prove 30 = .ok (.iload_n 2, 1) := dk_28 (dk_at dksX3_prove_1 6 rfl rfl)
theorem dX3_prove_31 : decode cX3_prove 31 = .ok (.iload_n 3, 1) := dk_29 (dk_at dksX3_prove_1 7 rfl rfl)
theorem dX3_prove_32 : decode cX3_prove 32 = .ok (.if_icmp .ge 7, 3) := dk_162 0 7 (dk_at dksX3_prove_1 8 rfl rfl)
theorem dX3_prove_35 : decode cX3_prove 35 = .ok (.iload_n 2, 1) := dk_28 (dk_at dksX3_prove_1 11 rfl rfl)
theorem dX3_prove_36 : decode cX3_prove 36 = .ok (.goto 4, 3) := dk_167 0 4 (dk_at dksX3_prove_1 12 rfl rfl)
theorem dX3_prove_39 : decode cX3_prove 39 = .ok (.iload_n 3, 1) := dk_29 (dk_at dksX3_prove_1 15 rfl rfl)
theorem dX3_prove_40 : decode cX3_prove 40 = .ok (.istore 4, 2) := dk_54 4 (dk_at dksX3_prove_1 16 rfl rfl)
theorem dX3_prove_42 : decode cX3_prove 42 = .ok (.iload_n 2, 1) := dk_28 (dk_at dksX3_prove_1 18 rfl rfl)
theorem dX3_prove_43 : decode cX3_prove 43 = .ok (.iload_n 3, 1) := dk_29 (dk_at dksX3_prove_1 19 rfl rfl)
theorem dX3_prove_44 : decode cX3_prove 44 = .ok (.if_icmp .ge 7, 3) := dk_162 0 7 (dk_at dksX3_prove_1 20 rfl rfl)
theorem dX3_prove_47 : decode cX3_prove 47 = .ok (.iload_n 3, 1) := dk_29 (dk_at dksX3_prove_1 23 rfl rfl)
theorem dX3_prove_48 : decode cX3_prove 48 = .ok (.goto 4, 3) := dk_167 0 4 (dk_at dksX3_prove_2 0 rfl rfl)
theorem dX3_prove_51 : decode cX3_prove 51 = .ok (.iload_n 2, 1) := dk_28 (dk_at dksX3_prove_2 3 rfl rfl)
theorem dX3_prove_52 : decode cX3_prove 52 = .ok (.istore 5, 2) := dk_54 5 (dk_at dksX3_prove_2 4 rfl rfl)
theorem dX3_prove_54 : decode cX3_prove 54 = .ok (.iconst 0, 1) := dk_3 (dk_at dksX3_prove_2 6 rfl rfl)
theorem dX3_prove_55 : decode cX3_prove 55 = .ok (.istore 6, 2) := dk_54 6 (dk_at dksX3_prove_2 7 rfl rfl)
theorem dX3_prove_57 : decode cX3_prove 57 = .ok (.iload 6, 2) := dk_21 6 (dk_at dksX3_prove_2 9 rfl rfl)
theorem dX3_prove_59 : decode cX3_prove 59 = .ok (.aload_n 0, 1) := dk_42 (dk_at dksX3_prove_2 11 rfl rfl)
theorem dX3_prove_60 : decode cX3_prove 60 = .ok (.getfield 19, 3) := dk_180 0 19 (dk_at dksX3_prove_2 12 rfl rfl)
theorem dX3_prove_63 : decode cX3_prove 63 = .ok (.iconst 4, 1) := dk_7 (dk_at dksX3_prove_2 15 rfl rfl)
theorem dX3_prove_64 : decode cX3_prove 64 = .ok (.iaload, 1) := dk_46 (dk_at dksX3_prove_2 16 rfl rfl)
theorem dX3_prove_65 : decode cX3_prove 65 = .ok (.if_icmp .ge 38, 3) := dk_162 0 38 (dk_at dksX3_prove_2 17 rfl rfl)
theorem dX3_prove_68 : decode cX3_prove 68 = .ok (.iload 6, 2) := dk_21 6 (dk_at dksX3_prove_2 20 rfl rfl)
theorem dX3_prove_70 : decode cX3_prove 70 = .ok (.iload_n 1, 1) := dk_27 (dk_at dksX3_prove_2 22 rfl rfl)
theorem dX3_prove_71 : decode cX3_prove 71 = .ok (.if_icmp .eq 26, 3) := dk_159 0 26 (dk_at dksX3_prove_3 0 rfl rfl)
theorem dX3_prove_74 : decode cX3_prove 74 = .ok (.aload_n 0, 1) := dk_42 (dk_at dksX3_prove_3 3 rfl rfl)
theorem dX3_prove_75 : decode cX3_prove 75 = .ok (.iload 6, 2) := dk_21 6 (dk_at dksX3_prove_3 4 rfl rfl)
theorem dX3_prove_77 : decode cX3_prove 77 = .ok (.iconst 1, 1) := dk_4 (dk_at dksX3_prove_3 6 rfl rfl)
theorem dX3_prove_78 : decode cX3_prove 78 = .ok (.invokevirtual 180, 3) := dk_182 0 180 (dk_at dksX3_prove_3 7 rfl rfl)
theorem dX3_prove_81 : decode cX3_prove 81 = .ok (.i2l, 1) := dk_133 (dk_at dksX3_prove_3 10 rfl rfl)
theorem dX3_prove_82 : decode cX3_prove 82 = .ok (.iload 4, 2) := dk_21 4 (dk_at dksX3_prove_3 11 rfl rfl)
theorem dX3_prove_84 : decode cX3_prove 84 = .ok (.i2l, 1) := dk_133 (dk_at dksX3_prove_3 13 rfl rfl)
theorem dX3_prove_85 : decode cX3_prove 85 = .ok (.iload 5, 2) := dk_21 5 (dk_at dksX3_prove_3 14 rfl rfl)
theorem dX3_prove_87 : decode cX3_prove 87 = .ok (.i2l, 1) := dk_133 (dk_at dksX3_prove_3 16 rfl rfl)
theorem dX3_prove_88 : decode cX3_prove 88 = .ok (.invokestatic 60, 3) := dk_184 0 60 (dk_at dksX3_prove_3 17 rfl rfl)
theorem dX3_prove_91 : decode cX3_prove 91 = .ok (.ifCond .eq 6, 3) := dk_153 0 6 (dk_at dksX3_prove_3 20 rfl rfl)
theorem dX3_prove_94 : decode cX3_prove 94 = .ok (.ldc 196, 2) := dk_18 196 (dk_at dksX3_prove_4 0 rfl rfl)
theorem dX3_prove_96 : decode cX3_prove 96 = .ok (.ireturn, 1) := dk_172 (dk_at dksX3_prove_4 2 rfl rfl)
theorem dX3_prove_97 : decode cX3_prove 97 = .ok (.iinc 6 1, 3) := dk_132 6 1 (dk_at dksX3_prove_4 3 rfl rfl)
theorem dX3_prove_100 : decode cX3_prove 100 = .ok (.goto (-43), 3) := dk_167 255 213 (dk_at dksX3_prove_4 6 rfl rfl)
theorem dX3_prove_103 : decode cX3_prove 103 = .ok (.iload_n 2, 1) := dk_28 (dk_at dksX3_prove_4 9 rfl rfl)
theorem dX3_prove_104 : decode cX3_prove 104 = .ok (.iload_n 3, 1) := dk_29 (dk_at dksX3_prove_4 10 rfl rfl)
theorem dX3_prove_105 : decode cX3_prove 105 = .ok (.if_icmp .ne 6, 3) := dk_160 0 6 (dk_at dksX3_prove_4 11 rfl rfl)
theorem dX3_prove_108 : decode cX3_prove 108 = .ok (.ldc 196, 2) := dk_18 196 (dk_at dksX3_prove_4 14 rfl rfl)
theorem dX3_prove_110 : decode cX3_prove 110 = .ok (.ireturn, 1) := dk_172 (dk_at dksX3_prove_4 16 rfl rfl)
theorem dX3_prove_111 : decode cX3_prove 111 = .ok (.aload_n 0, 1) := dk_42 (dk_at dksX3_prove_4 17 rfl rfl)
theorem dX3_prove_112 : decode cX3_prove 112 = .ok (.invokevirtual 197, 3) := dk_182 0 197 (dk_at dksX3_prove_4 18 rfl rfl)
theorem dX3_prove_115 : decode cX3_prove 115 = .ok (.aload_n 0, 1) := dk_42 (dk_at dksX3_prove_4 21 rfl rfl)
theorem dX3_prove_116 : decode cX3_prove 116 = .ok (.getfield 19, 3) := dk_180 0 19 (dk_at dksX3_prove_5 0 rfl rfl)
theorem dX3_prove_119 : decode cX3_prove 119 = .ok (.bipush 8, 2) := dk_16 8 (dk_at dksX3_prove_5 3 rfl rfl)
theorem dX3_prove_121 : decode cX3_prove 121 = .ok (.iconst 3, 1) := dk_6 (dk_at dksX3_prove_5 5 rfl rfl)
theorem dX3_prove_122 : decode cX3_prove 122 = .ok (.iload_n 1, 1) := dk_27 (dk_at dksX3_prove_5 6 rfl rfl)
theorem dX3_prove_123 : decode cX3_prove 123 = .ok (.imul, 1) := dk_104 (dk_at dksX3_prove_5 7 rfl rfl)
theorem dX3_prove_124 : decode cX3_prove 124 = .ok (.iadd, 1) := dk_96 (dk_at dksX3_prove_5 8 rfl rfl)
theorem dX3_prove_125 : decode cX3_prove 125 = .ok (.iconst 1, 1) := dk_4 (dk_at dksX3_prove_5 9 rfl rfl)
theorem dX3_prove_126 : decode cX3_prove 126 = .ok (.iadd, 1) := dk_96 (dk_at dksX3_prove_5 10 rfl rfl)
theorem dX3_prove_127 : decode cX3_prove 127 = .ok (.iload_n 3, 1) := dk_29 (dk_at dksX3_prove_5 11 rfl rfl)
theorem dX3_prove_128 : decode cX3_prove 128 = .ok (.iastore, 1) := dk_79 (dk_at dksX3_prove_5 12 rfl rfl)
theorem dX3_prove_129 : decode cX3_prove 129 = .ok (.iload 5, 2) := dk_21 5 (dk_at dksX3_prove_5 13 rfl rfl)
theorem dX3_prove_131 : decode cX3_prove 131 = .ok (.iload 4, 2) := dk_21 4 (dk_at dksX3_prove_5 15 rfl rfl)
theorem dX3_prove_133 : decode cX3_prove 133 = .ok (.isub, 1) := dk_100 (dk_at dksX3_prove_5 17 rfl rfl)
theorem dX3_prove_134 : decode cX3_prove 134 = .ok (.ireturn, 1) := dk_172 (dk_at dksX3_prove_5 18 rfl rfl)
abbrev cX3_isStone : ByteArray := prog_16_method_29_code
def yX3_isStone : MethodName := ⟨RX3, "isStone", "(I)Z"⟩
def dkwX3_isStone_0 : List UInt8 := [27, 133, 9, 42, 180, 0, 19, 7, 46, 4, 100, 133, 184, 0, 60, 172]
abbrev dktX3_isStone_0 : List UInt8 := dkwX3_isStone_0 ++ []
theorem dksX3_isStone_0 : cX3_isStone.data.toList.drop 0 = dktX3_isStone_0 := by decide +kernel
theorem dX3_isStone_0 : decode cX3_isStone 0 = .ok (.iload_n 1, 1) := dk_27 (dk_at dksX3_isStone_0 0 rfl rfl)
theorem dX3_isStone_1 : decode cX3_isStone 1 = .ok (.i2l, 1) := dk_133 (dk_at dksX3_isStone_0 1 rfl rfl)
theorem dX3_isStone_2 : decode cX3_isStone 2 = .ok (.lconst 0, 1) := dk_9 (dk_at dksX3_isStone_0 2 rfl rfl)
theorem dX3_isStone_3 : decode cX3_isStone 3 = .ok (.aload_n 0, 1) := dk_42 (dk_at dksX3_isStone_0 3 rfl rfl)
theorem dX3_isStone_4 : decode cX3_isStone 4 = .ok (.getfield 19, 3) := dk_180 0 19 (dk_at dksX3_isStone_0 4 rfl rfl)
theorem dX3_isStone_7 : decode cX3_isStone 7 = .ok (.iconst 4, 1) := dk_7 (dk_at dksX3_isStone_0 7 rfl rfl)
theorem dX3_isStone_8 : decode cX3_isStone 8 = .ok (.iaload, 1) := dk_46 (dk_at dksX3_isStone_0 8 rfl rfl)
theorem dX3_isStone_9 : decode cX3_isStone 9 = .ok (.iconst 1, 1) := dk_4 (dk_at dksX3_isStone_0 9 rfl rfl)
theorem dX3_isStone_10 : decode cX3_isStone 10 = .ok (.isub, 1) := dk_100 (dk_at dksX3_isStone_0 10 rfl rfl)
theorem dX3_isStone_11 : decode cX3_isStone 11 = .ok (.i2l, 1) := dk_133 (dk_at dksX3_isStone_0 11 rfl rfl)
theorem dX3_isStone_12 : decode cX3_isStone 12 = .ok (.invokestatic 60, 3) := dk_184 0 60 (dk_at dksX3_isStone_0 12 rfl rfl)
theorem dX3_isStone_15 : decode cX3_isStone 15 = .ok (.ireturn, 1) := dk_172 (dk_at dksX3_isStone_0 15 rfl rfl)
abbrev cX3_undo : ByteArray := prog_16_method_40_code
def yX3_undo : MethodName := ⟨RX3, "undo", "()I"⟩
def dkwX3_undo_3 : List UInt8 := [16, 6, 42, 180, 0, 25, 16, 7, 42, 180, 0, 177, 104, 16, 6, 96, 46, 79, 42, 180, 0, 177, 172]
abbrev dktX3_undo_3 : List UInt8 := dkwX3_undo_3 ++ []
def dkwX3_undo_2 : List UInt8 := [180, 0, 25, 16, 7, 42, 180, 0, 177, 104, 27, 96, 46, 79, 132, 1, 1, 167, 255, 220, 42, 180, 0, 19]
abbrev dktX3_undo_2 : List UInt8 := dkwX3_undo_2 ++ dktX3_undo_3
def dkwX3_undo_1 : List UInt8 := [181, 0, 177, 3, 60, 27, 16, 6, 162, 0, 36, 42, 180, 0, 19, 16, 8, 6, 27, 104, 96, 4, 96, 42]
abbrev dktX3_undo_1 : List UInt8 := dkwX3_undo_1 ++ dktX3_undo_2
def dkwX3_undo_0 : List UInt8 := [42, 3, 181, 0, 50, 42, 180, 0, 177, 154, 0, 6, 18, 196, 172, 42, 89, 180, 0, 177, 4, 100]
abbrev dktX3_undo_0 : List UInt8 := dkwX3_undo_0 ++ dktX3_undo_1
theorem dksX3_undo_0 : cX3_undo.data.toList.drop 0 = dktX3_undo_0 := by decide +kernel
theorem dksX3_undo_1 : cX3_undo.data.toList.drop 22 = dktX3_undo_1 := dk_seg dksX3_undo_0 22 rfl rfl
theorem dksX3_undo_2 : cX3_undo.data.toList.drop 46 = dktX3_undo_2 := dk_seg dksX3_undo_1 24 rfl rfl
theorem dksX3_undo_3 : cX3_undo.data.toList.drop 70 = dktX3_undo_3 := dk_seg dksX3_undo_2 24 rfl rfl
theorem dX3_undo_0 : decode cX3_undo 0 = .ok (.aload_n 0, 1) := dk_42 (dk_at dksX3_undo_0 0 rfl rfl)
theorem dX3_undo_1 : decode cX3_undo 1 = .ok (.iconst 0, 1) := dk_3 (dk_at dksX3_undo_0 1 rfl rfl)
theorem dX3_undo_2 : decode cX3_undo 2 = .ok (.putfield 50, 3) := dk_181 0 50 (dk_at dksX3_undo_0 2 rfl rfl)
theorem dX3_undo_5 : decode cX3_undo 5 = .ok (.aload_n 0, 1) := dk_42 (dk_at dksX3_undo_0 5 rfl rfl)
theorem dX3_undo_6 : decode cX3_undo 6 = .ok (.getfield 177, 3) := dk_180 0 177 (dk_at dksX3_undo_0 6 rfl rfl)
theorem dX3_undo_9 : decode cX3_undo 9 = .ok (.ifCond .ne 6, 3) := dk_154 0 6 (dk_at dksX3_undo_0 9 rfl rfl)
theorem dX3_undo_12 : decode cX3_undo 12 = .ok (.ldc 196, 2) := dk_18 196 (dk_at dksX3_undo_0 12 rfl rfl)
theorem dX3_undo_14 : decode cX3_undo 14 = .ok (.ireturn, 1) := dk_172 (dk_at dksX3_undo_0 14 rfl rfl)
theorem dX3_undo_15 : decode cX3_undo 15 = .ok (.aload_n 0, 1) := dk_42 (dk_at dksX3_undo_0 15 rfl rfl)
theorem dX3_undo_16 : decode cX3_undo 16 = .ok (.dup, 1) := dk_89 (dk_at dksX3_undo_0 16 rfl rfl)
theorem dX3_undo_17 : decode cX3_undo 17 = .ok (.getfield 177, 3) := dk_180 0 177 (dk_at dksX3_undo_0 17 rfl rfl)
theorem dX3_undo_20 : decode cX3_undo 20 = .ok (.iconst 1, 1) := dk_4 (dk_at dksX3_undo_0 20 rfl rfl)
theorem dX3_undo_21 : decode cX3_undo 21 = .ok (.isub, 1) := dk_100 (dk_at dksX3_undo_0 21 rfl rfl)
theorem dX3_undo_22 : decode cX3_undo 22 = .ok (.putfield 177, 3) := dk_181 0 177 (dk_at dksX3_undo_1 0 rfl rfl)
theorem dX3_undo_25 : decode cX3_undo 25 = .ok (.iconst 0, 1) := dk_3 (dk_at dksX3_undo_1 3 rfl rfl)
theorem dX3_undo_26 : decode cX3_undo 26 = .ok (.istore_n 1, 1) := dk_60 (dk_at dksX3_undo_1 4 rfl rfl)
theorem dX3_undo_27 : decode cX3_undo 27 = .ok (.iload_n 1, 1) := dk_27 (dk_at dksX3_undo_1 5 rfl rfl)
theorem dX3_undo_28 : decode cX3_undo 28 = .ok (.bipush 6, 2) := dk_16 6 (dk_at dksX3_undo_1 6 rfl rfl)
theorem dX3_undo_30 : decode cX3_undo 30 = .ok (.if_icmp .ge 36, 3) := dk_162 0 36 (dk_at dksX3_undo_1 8 rfl rfl)
theorem dX3_undo_33 : decode cX3_undo 33 = .ok (.aload_n 0, 1) := dk_42 (dk_at dksX3_undo_1 11 rfl rfl)
theorem dX3_undo_34 : decode cX3_undo 34 = .ok (.getfield 19, 3) := dk_180 0 19 (dk_at dksX3_undo_1 12 rfl rfl)
theorem dX3_undo_37 : decode cX3_undo 37 = .ok (.bipush 8, 2) := dk_16 8 (dk_at dksX3_undo_1 15 rfl rfl)
theorem dX3_undo_39 : decode cX3_undo 39 = .ok (.iconst 3, 1) := dk_6 (dk_at dksX3_undo_1 17 rfl rfl)
theorem dX3_undo_40 : decode cX3_undo 40 = .ok (.iload_n 1, 1) := dk_27 (dk_at dksX3_undo_1 18 rfl rfl)
theorem dX3_undo_41 : decode cX3_undo 41 = .ok (.imul, 1) := dk_104 (dk_at dksX3_undo_1 19 rfl rfl)
theorem dX3_undo_42 : decode cX3_undo 42 = .ok (.iadd, 1) := dk_96 (dk_at dksX3_undo_1 20 rfl rfl)
theorem dX3_undo_43 : decode cX3_undo 43 = .ok (.iconst 1, 1) := dk_4 (dk_at dksX3_undo_1 21 rfl rfl)
theorem dX3_undo_44 : decode cX3_undo 44 = .ok (.iadd, 1) := dk_96 (dk_at dksX3_undo_1 22 rfl rfl)
theorem dX3_undo_45 : decode cX3_undo 45 = .ok (.aload_n 0, 1) := dk_42 (dk_at dksX3_undo_1 23 rfl rfl)
theorem dX3_undo_46 : decode cX3_undo 46 = .ok (.getfield 25, 3) := dk_180 0 25 (dk_at dksX3_undo_2 0 rfl rfl)
theorem dX3_undo_49 : decode cX3_undo 49 = .ok (.bipush 7, 2) := dk_16 7 (dk_at dksX3_undo_2 3 rfl rfl)
theorem dX3_undo_51 : decode cX3_undo 51 = .ok (.aload_n 0, 1) := dk_42 (dk_at dksX3_undo_2 5 rfl rfl)
theorem dX3_undo_52 : decode cX3_undo 52 = .ok (.getfield 177, 3) := dk_180 0 177 (dk_at dksX3_undo_2 6 rfl rfl)
theorem dX3_undo_55 : decode cX3_undo 55 = .ok (.imul, 1) := dk_104 (dk_at dksX3_undo_2 9 rfl rfl)
theorem dX3_undo_56 : decode cX3_undo 56 = .ok (.iload_n 1, 1) := dk_27 (dk_at dksX3_undo_2 10 rfl rfl)
theorem dX3_undo_57 : decode cX3_undo 57 = .ok (.iadd, 1) := dk_96 (dk_at dksX3_undo_2 11 rfl rfl)
theorem dX3_undo_58 : decode cX3_undo 58 = .ok (.iaload, 1) := dk_46 (dk_at dksX3_undo_2 12 rfl rfl)
theorem dX3_undo_59 : decode cX3_undo 59 = .ok (.iastore, 1) := dk_79 (dk_at dksX3_undo_2 13 rfl rfl)
theorem dX3_undo_60 : decode cX3_undo 60 = .ok (.iinc 1 1, 3) := dk_132 1 1 (dk_at dksX3_undo_2 14 rfl rfl)
theorem dX3_undo_63 : decode cX3_undo 63 = .ok (.goto (-36), 3) := dk_167 255 220 (dk_at dksX3_undo_2 17 rfl rfl)
theorem dX3_undo_66 : decode cX3_undo 66 = .ok (.aload_n 0, 1) := dk_42 (dk_at dksX3_undo_2 20 rfl rfl)
theorem dX3_undo_67 : decode cX3_undo 67 = .ok (.getfield 19, 3) := dk_180 0 19 (dk_at dksX3_undo_2 21 rfl rfl)
theorem dX3_undo_70 : decode cX3_undo 70 = .ok (.bipush 6, 2) := dk_16 6 (dk_at dksX3_undo_3 0 rfl rfl)
theorem dX3_undo_72 : decode cX3_undo 72 = .ok (.aload_n 0, 1) := dk_42 (dk_at dksX3_undo_3 2 rfl rfl)
theorem dX3_undo_73 : decode cX3_undo 73 = .ok (.getfield 25, 3) := dk_180 0 25 (dk_at dksX3_undo_3 3 rfl rfl)
theorem dX3_undo_76 : decode cX3_undo 76 = .ok (.bipush 7, 2) := dk_16 7 (dk_at dksX3_undo_3 6 rfl rfl)
theorem dX3_undo_78 : decode cX3_undo 78 = .ok (.aload_n 0, 1) := dk_42 (dk_at dksX3_undo_3 8 rfl rfl)
theorem dX3_undo_79 : decode cX3_undo 79 = .ok (.getfield 177, 3) := dk_180 0 177 (dk_at dksX3_undo_3 9 rfl rfl)
theorem dX3_undo_82 : decode cX3_undo 82 = .ok (.imul, 1) := dk_104 (dk_at dksX3_undo_3 12 rfl rfl)
theorem dX3_undo_83 : decode cX3_undo 83 = .ok (.bipush 6, 2) := dk_16 6 (dk_at dksX3_undo_3 13 rfl rfl)
theorem dX3_undo_85 : decode cX3_undo 85 = .ok (.iadd, 1) := dk_96 (dk_at dksX3_undo_3 15 rfl rfl)
theorem dX3_undo_86 : decode cX3_undo 86 = .ok (.iaload, 1) := dk_46 (dk_at dksX3_undo_3 16 rfl rfl)
theorem dX3_undo_87 : decode cX3_undo 87 = .ok (.iastore, 1) := dk_79 (dk_at dksX3_undo_3 17 rfl rfl)
theorem dX3_undo_88 : decode cX3_undo 88 = .ok (.aload_n 0, 1) := dk_42 (dk_at dksX3_undo_3 18 rfl rfl)
theorem dX3_undo_89 : decode cX3_undo 89 = .ok (.getfield 177, 3) := dk_180 0 177 (dk_at dksX3_undo_3 19 rfl rfl)
theorem dX3_undo_92 : decode cX3_undo 92 = .ok (.ireturn, 1) := dk_172 (dk_at dksX3_undo_3 22 rfl rfl)
abbrev cX3_stone : ByteArray := prog_16_method_41_code
def yX3_stone : MethodName := ⟨RX3, "stone", "(II)I"⟩
def dkwX3_stone_1 : List UInt8 := [153, 0, 12, 42, 27, 28, 182, 0, 180, 167, 0, 5, 18, 70, 172]
abbrev dktX3_stone_1 : List UInt8 := dkwX3_stone_1 ++ []
def dkwX3_stone_0 : List UInt8 := [42, 3, 181, 0, 50, 42, 27, 182, 0, 206, 153, 0, 24, 28, 133, 9, 20, 0, 68, 184, 0, 60]
abbrev dktX3_stone_0 : List UInt8 := dkwX3_stone_0 ++ dktX3_stone_1
theorem dksX3_stone_0 : cX3_stone.data.toList.drop 0 = dktX3_stone_0 := by decide +kernel
theorem dksX3_stone_1 : cX3_stone.data.toList.drop 22 = dktX3_stone_1 := dk_seg dksX3_stone_0 22 rfl rfl
theorem dX3_stone_0 : decode cX3_stone 0 = .ok (.aload_n 0, 1) := dk_42 (dk_at dksX3_stone_0 0 rfl rfl)
theorem dX3_stone_1 : decode cX3_stone 1 = .ok (.iconst 0, 1) := dk_3 (dk_at dksX3_stone_0 1 rfl rfl)
theorem dX3_stone_2 : decode cX3_stone 2 = .ok (.putfield 50, 3) := dk_181 0 50 (dk_at dksX3_stone_0 2 rfl rfl)
theorem dX3_stone_5 : decode cX3_stone 5 = .ok (.aload_n 0, 1) := dk_42 (dk_at dksX3_stone_0 5 rfl rfl)
theorem dX3_stone_6 : decode cX3_stone 6 = .ok (.iload_n 1, 1) := dk_27 (dk_at dksX3_stone_0 6 rfl rfl)
theorem dX3_stone_7 : decode cX3_stone 7 = .ok (.invokevirtual 206, 3) := dk_182 0 206 (dk_at dksX3_stone_0 7 rfl rfl)
theorem dX3_stone_10 : decode cX3_stone 10 = .ok (.ifCond .eq 24, 3) := dk_153 0 24 (dk_at dksX3_stone_0 10 rfl rfl)
theorem dX3_stone_13 : decode cX3_stone 13 = .ok (.iload_n 2, 1) := dk_28 (dk_at dksX3_stone_0 13 rfl rfl)
theorem dX3_stone_14 : decode cX3_stone 14 = .ok (.i2l, 1) := dk_133 (dk_at dksX3_stone_0 14 rfl rfl)
theorem dX3_stone_15 : decode cX3_stone 15 = .ok (.lconst 0, 1) := dk_9 (dk_at dksX3_stone_0 15 rfl rfl)
theorem dX3_stone_16 : decode cX3_stone 16 = .ok (.ldc2_w 68, 3) := dk_20 0 68 (dk_at dksX3_stone_0 16 rfl rfl)
theorem dX3_stone_19 : decode cX3_stone 19 = .ok (.invokestatic 60, 3) := dk_184 0 60 (dk_at dksX3_stone_0 19 rfl rfl)
theorem dX3_stone_22 : decode cX3_stone 22 = .ok (.ifCond .eq 12, 3) := dk_153 0 12 (dk_at dksX3_stone_1 0 rfl rfl)
theorem dX3_stone_25 : decode cX3_stone 25 = .ok (.aload_n 0, 1) := dk_42 (dk_at dksX3_stone_1 3 rfl rfl)
theorem dX3_stone_26 : decode cX3_stone 26 = .ok (.iload_n 1, 1) := dk_27 (dk_at dksX3_stone_1 4 rfl rfl)
theorem dX3_stone_27 : decode cX3_stone 27 = .ok (.iload_n 2, 1) := dk_28 (dk_at dksX3_stone_1 5 rfl rfl)
theorem dX3_stone_28 : decode cX3_stone 28 = .ok (.invokevirtual 180, 3) := dk_182 0 180 (dk_at dksX3_stone_1 6 rfl rfl)
theorem dX3_stone_31 : decode cX3_stone 31 = .ok (.goto 5, 3) := dk_167 0 5 (dk_at dksX3_stone_1 9 rfl rfl)
theorem dX3_stone_34 : decode cX3_stone 34 = .ok (.ldc 70, 2) := dk_18 70 (dk_at dksX3_stone_1 12 rfl rfl)
theorem dX3_stone_36 : decode cX3_stone 36 = .ok (.ireturn, 1) := dk_172 (dk_at dksX3_stone_1 14 rfl rfl)
abbrev cX3_carry : ByteArray := prog_16_method_43_code
def yX3_carry : MethodName := ⟨RX3, "carry", "(III)I"⟩
def dkwX3_carry_3 : List UInt8 := [4, 182, 0, 180, 184, 0, 209, 172]
abbrev dktX3_carry_3 : List UInt8 := dkwX3_carry_3 ++ []
def dkwX3_carry_2 : List UInt8 := [182, 0, 180, 42, 28, 3, 182, 0, 180, 184, 0, 209, 104, 167, 0, 18, 42, 27, 4, 182, 0, 180, 42, 28]
abbrev dktX3_carry_2 : List UInt8 := dkwX3_carry_2 ++ dktX3_carry_3
def dkwX3_carry_1 : List UInt8 := [10, 184, 0, 60, 154, 0, 6, 18, 70, 172, 29, 154, 0, 28, 42, 180, 0, 19, 4, 46, 42, 27, 3]
abbrev dktX3_carry_1 : List UInt8 := dkwX3_carry_1 ++ dktX3_carry_2
def dkwX3_carry_0 : List UInt8 := [42, 3, 181, 0, 50, 42, 27, 182, 0, 206, 153, 0, 21, 42, 28, 182, 0, 206, 153, 0, 13, 29, 133, 9]
abbrev dktX3_carry_0 : List UInt8 := dkwX3_carry_0 ++ dktX3_carry_1
theorem dksX3_carry_0 : cX3_carry.data.toList.drop 0 = dktX3_carry_0 := by decide +kernel
theorem dksX3_carry_1 : cX3_carry.data.toList.drop 24 = dktX3_carry_1 := dk_seg dksX3_carry_0 24 rfl rfl
theorem dksX3_carry_2 : cX3_carry.data.toList.drop 47 = dktX3_carry_2 := dk_seg dksX3_carry_1 23 rfl rfl
theorem dksX3_carry_3 : cX3_carry.data.toList.drop 71 = dktX3_carry_3 := dk_seg dksX3_carry_2 24 rfl rfl
theorem dX3_carry_0 : decode cX3_carry 0 = .ok (.aload_n 0, 1) := dk_42 (dk_at dksX3_carry_0 0 rfl rfl)
theorem dX3_carry_1 : decode cX3_carry 1 = .ok (.iconst 0, 1) := dk_3 (dk_at dksX3_carry_0 1 rfl rfl)
theorem dX3_carry_2 : decode cX3_carry 2 = .ok (.putfield 50, 3) := dk_181 0 50 (dk_at dksX3_carry_0 2 rfl rfl)
theorem dX3_carry_5 : decode cX3_carry 5 = .ok (.aload_n 0, 1) := dk_42 (dk_at dksX3_carry_0 5 rfl rfl)
theorem dX3_carry_6 : decode cX3_carry 6 = .ok (.iload_n 1, 1) := dk_27 (dk_at dksX3_carry_0 6 rfl rfl)
theorem dX3_carry_7 : decode cX3_carry 7 = .ok (.invokevirtual 206, 3) := dk_182 0 206 (dk_at dksX3_carry_0 7 rfl rfl)
theorem dX3_carry_10 : decode cX3_carry 10 = .ok (.ifCond .eq 21, 3) := dk_153 0 21 (dk_at dksX3_carry_0 10 rfl rfl)
theorem dX3_carry_13 : decode cX3_carry 13 = .ok (.aload_n 0, 1) := dk_42 (dk_at dksX3_carry_0 13 rfl rfl)
theorem dX3_carry_14 : decode cX3_carry 14 = .ok (.iload_n 2, 1) := dk_28 (dk_at dksX3_carry_0 14 rfl rfl)
theorem dX3_carry_15 : decode cX3_carry 15 = .ok (.invokevirtual 206, 3) := dk_182 0 206 (dk_at dksX3_carry_0 15 rfl rfl)
theorem dX3_carry_18 : decode cX3_carry 18 = .ok (.ifCond .eq 13, 3) := dk_153 0 13 (dk_at dksX3_carry_0 18 rfl rfl)
theorem dX3_carry_21 : decode cX3_carry 21 = .ok (.iload_n 3, 1) := dk_29 (dk_at dksX3_carry_0 21 rfl rfl)
theorem dX3_carry_22 : decode cX3_carry 22 = .ok (.i2l, 1) := dk_133 (dk_at dksX3_carry_0 22 rfl rfl)
theorem dX3_carry_23 : decode cX3_carry 23 = .ok (.lconst 0, 1) := dk_9 (dk_at dksX3_carry_0 23 rfl rfl)
theorem dX3_carry_24 : decode cX3_carry 24 = .ok (.lconst 1, 1) := dk_10 (dk_at dksX3_carry_1 0 rfl rfl)
theorem dX3_carry_25 : decode cX3_carry 25 = .ok (.invokestatic 60, 3) := dk_184 0 60 (dk_at dksX3_carry_1 1 rfl rfl)
theorem dX3_carry_28 : decode cX3_carry 28 = .ok (.ifCond .ne 6, 3) := dk_154 0 6 (dk_at dksX3_carry_1 4 rfl rfl)
theorem dX3_carry_31 : decode cX3_carry 31 = .ok (.ldc 70, 2) := dk_18 70 (dk_at dksX3_carry_1 7 rfl rfl)
theorem dX3_carry_33 : decode cX3_carry 33 = .ok (.ireturn, 1) := dk_172 (dk_at dksX3_carry_1 9 rfl rfl)
theorem dX3_carry_34 : decode cX3_carry 34 = .ok (.iload_n 3, 1) := dk_29 (dk_at dksX3_carry_1 10 rfl rfl)
theorem dX3_carry_35 : decode cX3_carry 35 = .ok (.ifCond .ne 28, 3) := dk_154 0 28 (dk_at dksX3_carry_1 11 rfl rfl)
theorem dX3_carry_38 : decode cX3_carry 38 = .ok (.aload_n 0, 1) := dk_42 (dk_at dksX3_carry_1 14 rfl rfl)
theorem dX3_carry_39 : decode cX3_carry 39 = .ok (.getfield 19, 3) := dk_180 0 19 (dk_at dksX3_carry_1 15 rfl rfl)
theorem dX3_carry_42 : decode cX3_carry 42 = .ok (.iconst 1, 1) := dk_4 (dk_at dksX3_carry_1 18 rfl rfl)
theorem dX3_carry_43 : decode cX3_carry 43 = .ok (.iaload, 1) := dk_46 (dk_at dksX3_carry_1 19 rfl rfl)
theorem dX3_carry_44 : decode cX3_carry 44 = .ok (.aload_n 0, 1) := dk_42 (dk_at dksX3_carry_1 20 rfl rfl)
theorem dX3_carry_45 : decode cX3_carry 45 = .ok (.iload_n 1, 1) := dk_27 (dk_at dksX3_carry_1 21 rfl rfl)
theorem dX3_carry_46 : decode cX3_carry 46 = .ok (.iconst 0, 1) := dk_3 (dk_at dksX3_carry_1 22 rfl rfl)
theorem dX3_carry_47 : decode cX3_carry 47 = .ok (.invokevirtual 180, 3) := dk_182 0 180 (dk_at dksX3_carry_2 0 rfl rfl)
theorem dX3_carry_50 : decode cX3_carry 50 = .ok (.aload_n 0, 1) := dk_42 (dk_at dksX3_carry_2 3 rfl rfl)
theorem dX3_carry_51 : decode cX3_carry 51 = .ok (.iload_n 2, 1) := dk_28 (dk_at dksX3_carry_2 4 rfl rfl)
theorem dX3_carry_52 : decode cX3_carry 52 = .ok (.iconst 0, 1) := dk_3 (dk_at dksX3_carry_2 5 rfl rfl)
theorem dX3_carry_53 : decode cX3_carry 53 = .ok (.invokevirtual 180, 3) := dk_182 0 180 (dk_at dksX3_carry_2 6 rfl rfl)
theorem dX3_carry_56 : decode cX3_carry 56 = .ok (.invokestatic 209, 3) := dk_184 0 209 (dk_at dksX3_carry_2 9 rfl rfl)
theorem dX3_carry_59 : decode cX3_carry 59 = .ok (.imul, 1) := dk_104 (dk_at dksX3_carry_2 12 rfl rfl)
theorem dX3_carry_60 : decode cX3_carry 60 = .ok (.goto 18, 3) := dk_167 0 18 (dk_at dksX3_carry_2 13 rfl rfl)
theorem dX3_carry_63 : decode cX3_carry 63 = .ok (.aload_n 0, 1) := dk_42 (dk_at dksX3_carry_2 16 rfl rfl)
theorem dX3_carry_64 : decode cX3_carry 64 = .ok (.iload_n 1, 1) := dk_27 (dk_at dksX3_carry_2 17 rfl rfl)
theorem dX3_carry_65 : decode cX3_carry 65 = .ok (.iconst 1, 1) := dk_4 (dk_at dksX3_carry_2 18 rfl rfl)
theorem dX3_carry_66 : decode cX3_carry 66 = .ok (.invokevirtual 180, 3) := dk_182 0 180 (dk_at dksX3_carry_2 19 rfl rfl)
theorem dX3_carry_69 : decode cX3_carry 69 = .ok (.aload_n 0, 1) := dk_42 (dk_at dksX3_carry_2 22 rfl rfl)
theorem dX3_carry_70 : decode cX3_carry 70 = .ok (.iload_n 2, 1) := dk_28 (dk_at dksX3_carry_2 23 rfl rfl)
theorem dX3_carry_71 : decode cX3_carry 71 = .ok (.iconst 1, 1) := dk_4 (dk_at dksX3_carry_3 0 rfl rfl)
theorem dX3_carry_72 : decode cX3_carry 72 = .ok (.invokevirtual 180, 3) := dk_182 0 180 (dk_at dksX3_carry_3 1 rfl rfl)
theorem dX3_carry_75 : decode cX3_carry 75 = .ok (.invokestatic 209, 3) := dk_184 0 209 (dk_at dksX3_carry_3 4 rfl rfl)
theorem dX3_carry_78 : decode cX3_carry 78 = .ok (.ireturn, 1) := dk_172 (dk_at dksX3_carry_3 7 rfl rfl)
abbrev cX3_apart : ByteArray := prog_16_method_42_code
def yX3_apart : MethodName := ⟨RX3, "apart", "(II)I"⟩
def dkwX3_apart_0 : List UInt8 := [26, 27, 162, 0, 9, 27, 26, 100, 167, 0, 6, 26, 27, 100, 172]
abbrev dktX3_apart_0 : List UInt8 := dkwX3_apart_0 ++ []
theorem dksX3_apart_0 : cX3_apart.data.toList.drop 0 = dktX3_apart_0 := by decide +kernel
theorem dX3_apart_0 : decode cX3_apart 0 = .ok (.iload_n 0, 1) := dk_26 (dk_at dksX3_apart_0 0 rfl rfl)
theorem dX3_apart_1 : decode cX3_apart 1 = .ok (.iload_n 1, 1) := dk_27 (dk_at dksX3_apart_0 1 rfl rfl)
theorem dX3_apart_2 : decode cX3_apart 2 = .ok (.if_icmp .ge 9, 3) := dk_162 0 9 (dk_at dksX3_apart_0 2 rfl rfl)
theorem dX3_apart_5 : decode cX3_apart 5 = .ok (.iload_n 1, 1) := dk_27 (dk_at dksX3_apart_0 5 rfl rfl)
theorem dX3_apart_6 : decode cX3_apart 6 = .ok (.iload_n 0, 1) := dk_26 (dk_at dksX3_apart_0 6 rfl rfl)
theorem dX3_apart_7 : decode cX3_apart 7 = .ok (.isub, 1) := dk_100 (dk_at dksX3_apart_0 7 rfl rfl)
theorem dX3_apart_8 : decode cX3_apart 8 = .ok (.goto 6, 3) := dk_167 0 6 (dk_at dksX3_apart_0 8 rfl rfl)
theorem dX3_apart_11 : decode cX3_apart 11 = .ok (.iload_n 0, 1) := dk_26 (dk_at dksX3_apart_0 11 rfl rfl)
theorem dX3_apart_12 : decode cX3_apart 12 = .ok (.iload_n 1, 1) := dk_27 (dk_at dksX3_apart_0 12 rfl rfl)
theorem dX3_apart_13 : decode cX3_apart 13 = .ok (.isub, 1) := dk_100 (dk_at dksX3_apart_0 13 rfl rfl)
theorem dX3_apart_14 : decode cX3_apart 14 = .ok (.ireturn, 1) := dk_172 (dk_at dksX3_apart_0 14 rfl rfl)
abbrev cX3_time : ByteArray := prog_16_method_46_code
def yX3_time : MethodName := ⟨RX3, "time", "(IIII)I"⟩
def dkwX3_time_2 : List UInt8 := [16, 7, 46, 172]
abbrev dktX3_time_2 : List UInt8 := dkwX3_time_2 ++ []
def dkwX3_time_1 : List UInt8 := [16, 7, 46, 16, 12, 160, 0, 6, 18, 80, 172, 42, 27, 28, 29, 21, 4, 182, 0, 220, 42, 180, 0, 19]
abbrev dktX3_time_1 : List UInt8 := dkwX3_time_1 ++ dktX3_time_2
def dkwX3_time_0 : List UInt8 := [42, 3, 181, 0, 50, 42, 27, 28, 29, 21, 4, 182, 0, 216, 154, 0, 6, 18, 70, 172, 42, 180, 0, 19]
abbrev dktX3_time_0 : List UInt8 := dkwX3_time_0 ++ dktX3_time_1
theorem dksX3_time_0 : cX3_time.data.toList.drop 0 = dktX3_time_0 := by decide +kernel
theorem dksX3_time_1 : cX3_time.data.toList.drop 24 = dktX3_time_1 := dk_seg dksX3_time_0 24 rfl rfl
theorem dksX3_time_2 : cX3_time.data.toList.drop 48 = dktX3_time_2 := dk_seg dksX3_time_1 24 rfl rfl
theorem dX3_time_0 : decode cX3_time 0 = .ok (.aload_n 0, 1) := dk_42 (dk_at dksX3_time_0 0 rfl rfl)
theorem dX3_time_1 : decode cX3_time 1 = .ok (.iconst 0, 1) := dk_3 (dk_at dksX3_time_0 1 rfl rfl)
theorem dX3_time_2 : decode cX3_time 2 = .ok (.putfield 50, 3) := dk_181 0 50 (dk_at dksX3_time_0 2 rfl rfl)
theorem dX3_time_5 : decode cX3_time 5 = .ok (.aload_n 0, 1) := dk_42 (dk_at dksX3_time_0 5 rfl rfl)
theorem dX3_time_6 : decode cX3_time 6 = .ok (.iload_n 1, 1) := dk_27 (dk_at dksX3_time_0 6 rfl rfl)
theorem dX3_time_7 : decode cX3_time 7 = .ok (.iload_n 2, 1) := dk_28 (dk_at dksX3_time_0 7 rfl rfl)
theorem dX3_time_8 : decode cX3_time 8 = .ok (.iload_n 3, 1) := dk_29 (dk_at dksX3_time_0 8 rfl rfl)
theorem dX3_time_9 : decode cX3_time 9 = .ok (.iload 4, 2) := dk_21 4 (dk_at dksX3_time_0 9 rfl rfl)
theorem dX3_time_11 : decode cX3_time 11 = .ok (.invokevirtual 216, 3) := dk_182 0 216 (dk_at dksX3_time_0 11 rfl rfl)
theorem dX3_time_14 : decode cX3_time 14 = .ok (.ifCond .ne 6, 3) := dk_154 0 6 (dk_at dksX3_time_0 14 rfl rfl)
theorem dX3_time_17 : decode cX3_time 17 = .ok (.ldc 70, 2) := dk_18 70 (dk_at dksX3_time_0 17 rfl rfl)
theorem dX3_time_19 : decode cX3_time 19 = .ok (.ireturn, 1) := dk_172 (dk_at dksX3_time_0 19 rfl rfl)
theorem dX3_time_20 : decode cX3_time 20 = .ok (.aload_n 0, 1) := dk_42 (dk_at dksX3_time_0 20 rfl rfl)
theorem dX3_time_21 : decode cX3_time 21 = .ok (.getfield 19, 3) := dk_180 0 19 (dk_at dksX3_time_0 21 rfl rfl)
theorem dX3_time_24 : decode cX3_time 24 = .ok (.bipush 7, 2) := dk_16 7 (dk_at dksX3_time_1 0 rfl rfl)
theorem dX3_time_26 : decode cX3_time 26 = .ok (.iaload, 1) := dk_46 (dk_at dksX3_time_1 2 rfl rfl)
theorem dX3_time_27 : decode cX3_time 27 = .ok (.bipush 12, 2) := dk_16 12 (dk_at dksX3_time_1 3 rfl rfl)
theorem dX3_time_29 : decode cX3_time 29 = .ok (.if_icmp .ne 6, 3) := dk_160 0 6 (dk_at dksX3_time_1 5 rfl rfl)
theorem dX3_time_32 : decode cX3_time 32 = .ok (.ldc 80, 2) := dk_18 80 (dk_at dksX3_time_1 8 rfl rfl)
theorem dX3_time_34 : decode cX3_time 34 = .ok (.ireturn, 1) := dk_172 (dk_at dksX3_time_1 10 rfl rfl)
theorem dX3_time_35 : decode cX3_time 35 = .ok (.aload_n 0, 1) := dk_42 (dk_at dksX3_time_1 11 rfl rfl)
theorem dX3_time_36 : decode cX3_time 36 = .ok (.iload_n 1, 1) := dk_27 (dk_at dksX3_time_1 12 rfl rfl)
theorem dX3_time_37 : decode cX3_time 37 = .ok (.iload_n 2, 1) := dk_28 (dk_at dksX3_time_1 13 rfl rfl)
theorem dX3_time_38 : decode cX3_time 38 = .ok (.iload_n 3, 1) := dk_29 (dk_at dksX3_time_1 14 rfl rfl)
theorem dX3_time_39 : decode cX3_time 39 = .ok (.iload 4, 2) := dk_21 4 (dk_at dksX3_time_1 15 rfl rfl)
theorem dX3_time_41 : decode cX3_time 41 = .ok (.invokevirtual 220, 3) := dk_182 0 220 (dk_at dksX3_time_1 17 rfl rfl)
theorem dX3_time_44 : decode cX3_time 44 = .ok (.aload_n 0, 1) := dk_42 (dk_at dksX3_time_1 20 rfl rfl)
theorem dX3_time_45 : decode cX3_time 45 = .ok (.getfield 19, 3) := dk_180 0 19 (dk_at dksX3_time_1 21 rfl rfl)
theorem dX3_time_48 : decode cX3_time 48 = .ok (.bipush 7, 2) := dk_16 7 (dk_at dksX3_time_2 0 rfl rfl)
theorem dX3_time_50 : decode cX3_time 50 = .ok (.iaload, 1) := dk_46 (dk_at dksX3_time_2 2 rfl rfl)
theorem dX3_time_51 : decode cX3_time 51 = .ok (.ireturn, 1) := dk_172 (dk_at dksX3_time_2 3 rfl rfl)
abbrev cX3_isTime : ByteArray := prog_16_method_44_code
def yX3_isTime : MethodName := ⟨RX3, "isTime", "(IIII)Z"⟩
def dkwX3_isTime_2 : List UInt8 := [167, 0, 4, 3, 172]
abbrev dktX3_isTime_2 : List UInt8 := dkwX3_isTime_2 ++ []
def dkwX3_isTime_1 : List UInt8 := [20, 0, 212, 184, 0, 60, 153, 0, 20, 21, 4, 133, 9, 20, 0, 214, 184, 0, 60, 153, 0, 7, 4]
abbrev dktX3_isTime_1 : List UInt8 := dkwX3_isTime_1 ++ dktX3_isTime_2
def dkwX3_isTime_0 : List UInt8 := [42, 27, 182, 0, 206, 153, 0, 45, 42, 28, 182, 0, 206, 153, 0, 37, 27, 28, 162, 0, 32, 29, 133, 10]
abbrev dktX3_isTime_0 : List UInt8 := dkwX3_isTime_0 ++ dktX3_isTime_1
theorem dksX3_isTime_0 : cX3_isTime.data.toList.drop 0 = dktX3_isTime_0 := by decide +kernel
theorem dksX3_isTime_1 : cX3_isTime.data.toList.drop 24 = dktX3_isTime_1 := dk_seg dksX3_isTime_0 24 rfl rfl
theorem dksX3_isTime_2 : cX3_isTime.data.toList.drop 47 = dktX3_isTime_2 := dk_seg dksX3_isTime_1 23 rfl rfl
theorem dX3_isTime_0 : decode cX3_isTime 0 = .ok (.aload_n 0, 1) := dk_42 (dk_at dksX3_isTime_0 0 rfl rfl)
theorem dX3_isTime_1 : decode cX3_isTime 1 = .ok (.iload_n 1, 1) := dk_27 (dk_at dksX3_isTime_0 1 rfl rfl)
theorem dX3_isTime_2 : decode cX3_isTime 2 = .ok (.invokevirtual 206, 3) := dk_182 0 206 (dk_at dksX3_isTime_0 2 rfl rfl)
theorem dX3_isTime_5 : decode cX3_isTime 5 = .ok (.ifCond .eq 45, 3) := dk_153 0 45 (dk_at dksX3_isTime_0 5 rfl rfl)
theorem dX3_isTime_8 : decode cX3_isTime 8 = .ok (.aload_n 0, 1) := dk_42 (dk_at dksX3_isTime_0 8 rfl rfl)
theorem dX3_isTime_9 : decode cX3_isTime 9 = .ok (.iload_n 2, 1) := dk_28 (dk_at dksX3_isTime_0 9 rfl rfl)
theorem dX3_isTime_10 : decode cX3_isTime 10 = .ok (.invokevirtual 206, 3) := dk_182 0 206 (dk_at dksX3_isTime_0 10 rfl rfl)
theorem dX3_isTime_13 : decode cX3_isTime 13 = .ok (.ifCond .eq 37, 3) := dk_153 0 37 (dk_at dksX3_isTime_0 13 rfl rfl)
theorem dX3_isTime_16 : decode cX3_isTime 16 = .ok (.iload_n 1, 1) := dk_27 (dk_at dksX3_isTime_0 16 rfl rfl)
theorem dX3_isTime_17 : decode cX3_isTime 17 = .ok (.iload_n 2, 1) := dk_28 (dk_at dksX3_isTime_0 17 rfl rfl)
theorem dX3_isTime_18 : decode cX3_isTime 18 = .ok (.if_icmp .ge 32, 3) := dk_162 0 32 (dk_at dksX3_isTime_0 18 rfl rfl)
theorem dX3_isTime_21 : decode cX3_isTime 21 = .ok (.iload_n 3, 1) := dk_29 (dk_at dksX3_isTime_0 21 rfl rfl)
theorem dX3_isTime_22 : decode cX3_isTime 22 = .ok (.i2l, 1) := dk_133 (dk_at dksX3_isTime_0 22 rfl rfl)
theorem dX3_isTime_23 : decode cX3_isTime 23 = .ok (.lconst 1, 1) := dk_10 (dk_at dksX3_isTime_0 23 rfl rfl)
theorem dX3_isTime_24 : decode cX3_isTime 24 = .ok (.ldc2_w 212, 3) := dk_20 0 212 (dk_at dksX3_isTime_1 0 rfl rfl)
theorem dX3_isTime_27 : decode cX3_isTime 27 = .ok (.invokestatic 60, 3) := dk_184 0 60 (dk_at dksX3_isTime_1 3 rfl rfl)
theorem dX3_isTime_30 : decode cX3_isTime 30 = .ok (.ifCond .eq 20, 3) := dk_153 0 20 (dk_at dksX3_isTime_1 6 rfl rfl)
theorem dX3_isTime_33 : decode cX3_isTime 33 = .ok (.iload 4, 2) := dk_21 4 (dk_at dksX3_isTime_1 9 rfl rfl)
theorem dX3_isTime_35 : decode cX3_isTime 35 = .ok (.i2l, 1) := dk_133 (dk_at dksX3_isTime_1 11 rfl rfl)
theorem dX3_isTime_36 : decode cX3_isTime 36 = .ok (.lconst 0, 1) := dk_9 (dk_at dksX3_isTime_1 12 rfl rfl)
theorem dX3_isTime_37 : decode cX3_isTime 37 = .ok (.ldc2_w 214, 3) := dk_20 0 214 (dk_at dksX3_isTime_1 13 rfl rfl)
theorem dX3_isTime_40 : decode cX3_isTime 40 = .ok (.invokestatic 60, 3) := dk_184 0 60 (dk_at dksX3_isTime_1 16 rfl rfl)
theorem dX3_isTime_43 : decode cX3_isTime 43 = .ok (.ifCond .eq 7, 3) := dk_153 0 7 (dk_at dksX3_isTime_1 19 rfl rfl)
theorem dX3_isTime_46 : decode cX3_isTime 46 = .ok (.iconst 1, 1) := dk_4 (dk_at dksX3_isTime_1 22 rfl rfl)
theorem dX3_isTime_47 : decode cX3_isTime 47 = .ok (.goto 4, 3) := dk_167 0 4 (dk_at dksX3_isTime_2 0 rfl rfl)
theorem dX3_isTime_50 : decode cX3_isTime 50 = .ok (.iconst 0, 1) := dk_3 (dk_at dksX3_isTime_2 3 rfl rfl)
theorem dX3_isTime_51 : decode cX3_isTime 51 = .ok (.ireturn, 1) := dk_172 (dk_at dksX3_isTime_2 4 rfl rfl)
abbrev cX3_addTime : ByteArray := prog_16_method_45_code
def yX3_addTime : MethodName := ⟨RX3, "addTime", "(IIII)V"⟩
def dkwX3_addTime_2 : List UInt8 := [21, 5, 6, 96, 21, 4, 79, 42, 180, 0, 19, 16, 7, 92, 46, 4, 96, 79, 177]
abbrev dktX3_addTime_2 : List UInt8 := dkwX3_addTime_2 ++ []
def dkwX3_addTime_1 : List UInt8 := [180, 0, 19, 21, 5, 4, 96, 28, 79, 42, 180, 0, 19, 21, 5, 5, 96, 29, 79, 42, 180, 0, 19]
abbrev dktX3_addTime_1 : List UInt8 := dkwX3_addTime_1 ++ dktX3_addTime_2
def dkwX3_addTime_0 : List UInt8 := [16, 46, 7, 42, 180, 0, 19, 16, 7, 46, 104, 96, 54, 5, 42, 180, 0, 19, 21, 5, 27, 79, 42]
abbrev dktX3_addTime_0 : List UInt8 := dkwX3_addTime_0 ++ dktX3_addTime_1
theorem dksX3_addTime_0 : cX3_addTime.data.toList.drop 0 = dktX3_addTime_0 := by decide +kernel
theorem dksX3_addTime_1 : cX3_addTime.data.toList.drop 23 = dktX3_addTime_1 := dk_seg dksX3_addTime_0 23 rfl rfl
theorem dksX3_addTime_2 : cX3_addTime.data.toList.drop 46 = dktX3_addTime_2 := dk_seg dksX3_addTime_1 23 rfl rfl
theorem dX3_addTime_0 : decode cX3_addTime 0 = .ok (.bipush 46, 2) := dk_16 46 (dk_at dksX3_addTime_0 0 rfl rfl)
theorem dX3_addTime_2 : decode cX3_addTime 2 = .ok (.iconst 4, 1) := dk_7 (dk_at dksX3_addTime_0 2 rfl rfl)
theorem dX3_addTime_3 : decode cX3_addTime 3 = .ok (.aload_n 0, 1) := dk_42 (dk_at dksX3_addTime_0 3 rfl rfl)
theorem dX3_addTime_4 : decode cX3_addTime 4 = .ok (.getfield 19, 3) := dk_180 0 19 (dk_at dksX3_addTime_0 4 rfl rfl)
theorem dX3_addTime_7 : decode cX3_addTime 7 = .ok (.bipush 7, 2) := dk_16 7 (dk_at dksX3_addTime_0 7 rfl rfl)
theorem dX3_addTime_9 : decode cX3_addTime 9 = .ok (.iaload, 1) := dk_46 (dk_at dksX3_addTime_0 9 rfl rfl)
theorem dX3_addTime_10 : decode cX3_addTime 10 = .ok (.imul, 1) := dk_104 (dk_at dksX3_addTime_0 10 rfl rfl)
theorem dX3_addTime_11 : decode cX3_addTime 11 = .ok (.iadd, 1) := dk_96 (dk_at dksX3_addTime_0 11 rfl rfl)
theorem dX3_addTime_12 : decode cX3_addTime 12 = .ok (.istore 5, 2) := dk_54 5 (dk_at dksX3_addTime_0 12 rfl rfl)
theorem dX3_addTime_14 : decode cX3_addTime 14 = .ok (.aload_n 0, 1) := dk_42 (dk_at dksX3_addTime_0 14 rfl rfl)
theorem dX3_addTime_15 : decode cX3_addTime 15 = .ok (.getfield 19, 3) := dk_180 0 19 (dk_at dksX3_addTime_0 15 rfl rfl)
theorem dX3_addTime_18 : decode cX3_addTime 18 = .ok (.iload 5, 2) := dk_21 5 (dk_at dksX3_addTime_0 18 rfl rfl)
theorem dX3_addTime_20 : decode cX3_addTime 20 = .ok (.iload_n 1, 1) := dk_27 (dk_at dksX3_addTime_0 20 rfl rfl)
theorem dX3_addTime_21 : decode cX3_addTime 21 = .ok (.iastore, 1) := dk_79 (dk_at dksX3_addTime_0 21 rfl rfl)
theorem dX3_addTime_22 : decode cX3_addTime 22 = .ok (.aload_n 0, 1) := dk_42 (dk_at dksX3_addTime_0 22 rfl rfl)
theorem dX3_addTime_23 : decode cX3_addTime 23 = .ok (.getfield 19, 3) := dk_180 0 19 (dk_at dksX3_addTime_1 0 rfl rfl)
theorem dX3_addTime_26 : decode cX3_addTime 26 = .ok (.iload 5, 2) := dk_21 5 (dk_at dksX3_addTime_1 3 rfl rfl)
theorem dX3_addTime_28 : decode cX3_addTime 28 = .ok (.iconst 1, 1) := dk_4 (dk_at dksX3_addTime_1 5 rfl rfl)
theorem dX3_addTime_29 : decode cX3_addTime 29 = .ok (.iadd, 1) := dk_96 (dk_at dksX3_addTime_1 6 rfl rfl)
theorem dX3_addTime_30 : decode cX3_addTime 30 = .ok (.iload_n 2, 1) := dk_28 (dk_at dksX3_addTime_1 7 rfl rfl)
theorem dX3_addTime_31 : decode cX3_addTime 31 = .ok (.iastore, 1) := dk_79 (dk_at dksX3_addTime_1 8 rfl rfl)
theorem dX3_addTime_32 : decode cX3_addTime 32 = .ok (.aload_n 0, 1) := dk_42 (dk_at dksX3_addTime_1 9 rfl rfl)
theorem dX3_addTime_33 : decode cX3_addTime 33 = .ok (.getfield 19, 3) := dk_180 0 19 (dk_at dksX3_addTime_1 10 rfl rfl)
theorem dX3_addTime_36 : decode cX3_addTime 36 = .ok (.iload 5, 2) := dk_21 5 (dk_at dksX3_addTime_1 13 rfl rfl)
theorem dX3_addTime_38 : decode cX3_addTime 38 = .ok (.iconst 2, 1) := dk_5 (dk_at dksX3_addTime_1 15 rfl rfl)
theorem dX3_addTime_39 : decode cX3_addTime 39 = .ok (.iadd, 1) := dk_96 (dk_at dksX3_addTime_1 16 rfl rfl)
theorem dX3_addTime_40 : decode cX3_addTime 40 = .ok (.iload_n 3, 1) := dk_29 (dk_at dksX3_addTime_1 17 rfl rfl)
theorem dX3_addTime_41 : decode cX3_addTime 41 = .ok (.iastore, 1) := dk_79 (dk_at dksX3_addTime_1 18 rfl rfl)
theorem dX3_addTime_42 : decode cX3_addTime 42 = .ok (.aload_n 0, 1) := dk_42 (dk_at dksX3_addTime_1 19 rfl rfl)
theorem dX3_addTime_43 : decode cX3_addTime 43 = .ok (.getfield 19, 3) := dk_180 0 19 (dk_at dksX3_addTime_1 20 rfl rfl)
theorem dX3_addTime_46 : decode cX3_addTime 46 = .ok (.iload 5, 2) := dk_21 5 (dk_at dksX3_addTime_2 0 rfl rfl)
theorem dX3_addTime_48 : decode cX3_addTime 48 = .ok (.iconst 3, 1) := dk_6 (dk_at dksX3_addTime_2 2 rfl rfl)
theorem dX3_addTime_49 : decode cX3_addTime 49 = .ok (.iadd, 1) := dk_96 (dk_at dksX3_addTime_2 3 rfl rfl)
theorem dX3_addTime_50 : decode cX3_addTime 50 = .ok (.iload 4, 2) := dk_21 4 (dk_at dksX3_addTime_2 4 rfl rfl)
theorem dX3_addTime_52 : decode cX3_addTime 52 = .ok (.iastore, 1) := dk_79 (dk_at dksX3_addTime_2 6 rfl rfl)
theorem dX3_addTime_53 : decode cX3_addTime 53 = .ok (.aload_n 0, 1) := dk_42 (dk_at dksX3_addTime_2 7 rfl rfl)
theorem dX3_addTime_54 : decode cX3_addTime 54 = .ok (.getfield 19, 3) := dk_180 0 19 (dk_at dksX3_addTime_2 8 rfl rfl)
theorem dX3_addTime_57 : decode cX3_addTime 57 = .ok (.bipush 7, 2) := dk_16 7 (dk_at dksX3_addTime_2 11 rfl rfl)
theorem dX3_addTime_59 : decode cX3_addTime 59 = .ok (.dup2, 1) := dk_92 (dk_at dksX3_addTime_2 13 rfl rfl)
theorem dX3_addTime_60 : decode cX3_addTime 60 = .ok (.iaload, 1) := dk_46 (dk_at dksX3_addTime_2 14 rfl rfl)
theorem dX3_addTime_61 : decode cX3_addTime 61 = .ok (.iconst 1, 1) := dk_4 (dk_at dksX3_addTime_2 15 rfl rfl)
theorem dX3_addTime_62 : decode cX3_addTime 62 = .ok (.iadd, 1) := dk_96 (dk_at dksX3_addTime_2 16 rfl rfl)
theorem dX3_addTime_63 : decode cX3_addTime 63 = .ok (.iastore, 1) := dk_79 (dk_at dksX3_addTime_2 17 rfl rfl)
theorem dX3_addTime_64 : decode cX3_addTime 64 = .ok (.return_, 1) := dk_177 (dk_at dksX3_addTime_2 18 rfl rfl)
abbrev cX3_times : ByteArray := prog_16_method_47_code
def yX3_times : MethodName := ⟨RX3, "times", "(III)I"⟩
def dkwX3_times_11 : List UInt8 := [132, 5, 1, 167, 255, 189, 42, 180, 0, 19, 16, 7, 46, 172]
abbrev dktX3_times_11 : List UInt8 := dkwX3_times_11 ++ []
def dkwX3_times_10 : List UInt8 := [21, 5, 104, 96, 5, 96, 46, 42, 180, 0, 16, 21, 4, 7, 21, 5, 104, 96, 6, 96, 46, 182, 0, 220]
abbrev dktX3_times_10 : List UInt8 := dkwX3_times_10 ++ dktX3_times_11
def dkwX3_times_9 : List UInt8 := [96, 46, 42, 180, 0, 16, 21, 4, 7, 21, 5, 104, 96, 4, 96, 46, 42, 180, 0, 16, 21, 4, 7]
abbrev dktX3_times_9 : List UInt8 := dkwX3_times_9 ++ dktX3_times_10
def dkwX3_times_8 : List UInt8 := [3, 181, 0, 54, 3, 54, 5, 21, 5, 29, 162, 0, 67, 42, 42, 180, 0, 16, 21, 4, 7, 21, 5, 104]
abbrev dktX3_times_8 : List UInt8 := dkwX3_times_8 ++ dktX3_times_9
def dkwX3_times_7 : List UInt8 := [132, 5, 1, 167, 255, 183, 42, 180, 0, 19, 16, 7, 46, 29, 96, 16, 12, 164, 0, 6, 18, 80, 172, 42]
abbrev dktX3_times_7 : List UInt8 := dkwX3_times_7 ++ dktX3_times_8
def dkwX3_times_6 : List UInt8 := [180, 0, 16, 21, 4, 7, 21, 5, 104, 96, 6, 96, 46, 182, 0, 216, 154, 0, 6, 18, 70, 172]
abbrev dktX3_times_6 : List UInt8 := dkwX3_times_6 ++ dktX3_times_7
def dkwX3_times_5 : List UInt8 := [21, 5, 104, 96, 4, 96, 46, 42, 180, 0, 16, 21, 4, 7, 21, 5, 104, 96, 5, 96, 46, 42]
abbrev dktX3_times_5 : List UInt8 := dkwX3_times_5 ++ dktX3_times_6
def dkwX3_times_4 : List UInt8 := [162, 0, 73, 42, 42, 180, 0, 16, 21, 4, 7, 21, 5, 104, 96, 46, 42, 180, 0, 16, 21, 4, 7]
abbrev dktX3_times_4 : List UInt8 := dkwX3_times_4 ++ dktX3_times_5
def dkwX3_times_3 : List UInt8 := [158, 0, 9, 42, 5, 182, 0, 71, 172, 16, 40, 27, 104, 28, 96, 54, 4, 3, 54, 5, 21, 5, 29]
abbrev dktX3_times_3 : List UInt8 := dkwX3_times_3 ++ dktX3_times_4
def dkwX3_times_2 : List UInt8 := [182, 0, 71, 172, 28, 155, 0, 21, 28, 133, 7, 29, 104, 133, 97, 42, 180, 0, 13, 27, 46, 133, 148]
abbrev dktX3_times_2 : List UInt8 := dkwX3_times_2 ++ dktX3_times_3
def dkwX3_times_1 : List UInt8 := [10, 20, 0, 224, 184, 0, 60, 154, 0, 6, 18, 70, 172, 42, 180, 0, 7, 27, 46, 156, 0, 9, 42, 4]
abbrev dktX3_times_1 : List UInt8 := dkwX3_times_1 ++ dktX3_times_2
def dkwX3_times_0 : List UInt8 := [42, 3, 181, 0, 50, 42, 182, 0, 192, 154, 0, 6, 18, 196, 172, 27, 184, 0, 64, 153, 0, 15, 29, 133]
abbrev dktX3_times_0 : List UInt8 := dkwX3_times_0 ++ dktX3_times_1
theorem dksX3_times_0 : cX3_times.data.toList.drop 0 = dktX3_times_0 := by decide +kernel
theorem dksX3_times_1 : cX3_times.data.toList.drop 24 = dktX3_times_1 := dk_seg dksX3_times_0 24 rfl rfl
theorem dksX3_times_2 : cX3_times.data.toList.drop 48 = dktX3_times_2 := dk_seg dksX3_times_1 24 rfl rfl
theorem dksX3_times_3 : cX3_times.data.toList.drop 71 = dktX3_times_3 := dk_seg dksX3_times_2 23 rfl rfl
theorem dksX3_times_4 : cX3_times.data.toList.drop 94 = dktX3_times_4 := dk_seg dksX3_times_3 23 rfl rfl
theorem dksX3_times_5 : cX3_times.data.toList.drop 117 = dktX3_times_5 := dk_seg dksX3_times_4 23 rfl rfl
theorem dksX3_times_6 : cX3_times.data.toList.drop 139 = dktX3_times_6 := dk_seg dksX3_times_5 22 rfl rfl
theorem dksX3_times_7 : cX3_times.data.toList.drop 161 = dktX3_times_7 := dk_seg dksX3_times_6 22 rfl rfl
theorem dksX3_times_8 : cX3_times.data.toList.drop 185 = dktX3_times_8 := dk_seg dksX3_times_7 24 rfl rfl
theorem dksX3_times_9 : cX3_times.data.toList.drop 209 = dktX3_times_9 := dk_seg dksX3_times_8 24 rfl rfl
theorem dksX3_times_10 : cX3_times.data.toList.drop 232 = dktX3_times_10 := dk_seg dksX3_times_9 23 rfl rfl
theorem dksX3_times_11 : cX3_times.data.toList.drop 256 = dktX3_times_11 := dk_seg dksX3_times_10 24 rfl rfl
theorem dX3_times_0 : decode cX3_times 0 = .ok (.aload_n 0, 1) := dk_42 (dk_at dksX3_times_0 0 rfl rfl)
theorem dX3_times_1 : decode cX3_times 1 = .ok (.iconst 0, 1) := dk_3 (dk_at dksX3_times_0 1 rfl rfl)
theorem dX3_times_2 : decode cX3_times 2 = .ok (.putfield 50, 3) := dk_181 0 50 (dk_at dksX3_times_0 2 rfl rfl)
theorem dX3_times_5 : decode cX3_times 5 = .ok (.aload_n 0, 1) := dk_42 (dk_at dksX3_times_0 5 rfl rfl)
theorem dX3_times_6 : decode cX3_times 6 = .ok (.invokevirtual 192, 3) := dk_182 0 192 (dk_at dksX3_times_0 6 rfl rfl)
theorem dX3_times_9 : decode cX3_times 9 = .ok (.ifCond .ne 6, 3) := dk_154 0 6 (dk_at dksX3_times_0 9 rfl rfl)
theorem dX3_times_12 : decode cX3_times 12 = .ok (.ldc 196, 2) := dk_18 196 (dk_at dksX3_times_0 12 rfl rfl)
theorem dX3_times_14 : decode cX3_times 14 = .ok (.ireturn, 1) := dk_172 (dk_at dksX3_times_0 14 rfl rfl)
theorem dX3_times_15 : decode cX3_times 15 = .ok (.iload_n 1, 1) := dk_27 (dk_at dksX3_times_0 15 rfl rfl)
theorem dX3_times_16 : decode cX3_times 16 = .ok (.invokestatic 64, 3) := dk_184 0 64 (dk_at dksX3_times_0 16 rfl rfl)
theorem dX3_times_19 : decode cX3_times 19 = .ok (.ifCond .eq 15, 3) := dk_153 0 15 (dk_at dksX3_times_0 19 rfl rfl)
theorem dX3_times_22 : decode cX3_times 22 = .ok (.iload_n 3, 1) := dk_29 (dk_at dksX3_times_0 22 rfl rfl)
theorem dX3_times_23 : decode cX3_times 23 = .ok (.i2l, 1) := dk_133 (dk_at dksX3_times_0 23 rfl rfl)
theorem dX3_times_24 : decode cX3_times 24 = .ok (.lconst 1, 1) := dk_10 (dk_at dksX3_times_1 0 rfl rfl)
theorem dX3_times_25 : decode cX3_times 25 = .ok (.ldc2_w 224, 3) := dk_20 0 224 (dk_at dksX3_times_1 1 rfl rfl)
theorem dX3_times_28 : decode cX3_times 28 = .ok (.invokestatic 60, 3) := dk_184 0 60 (dk_at dksX3_times_1 4 rfl rfl)
theorem dX3_times_31 : decode cX3_times 31 = .ok (.ifCond .ne 6, 3) := dk_154 0 6 (dk_at dksX3_times_1 7 rfl rfl)
theorem dX3_times_34 : decode cX3_times 34 = .ok (.ldc 70, 2) := dk_18 70 (dk_at dksX3_times_1 10 rfl rfl)
theorem dX3_times_36 : decode cX3_times 36 = .ok (.ireturn, 1) := dk_172 (dk_at dksX3_times_1 12 rfl rfl)
theorem dX3_times_37 : decode cX3_times 37 = .ok (.aload_n 0, 1) := dk_42 (dk_at dksX3_times_1 13 rfl rfl)
theorem dX3_times_38 : decode cX3_times 38 = .ok (.getfield 7, 3) := dk_180 0 7 (dk_at dksX3_times_1 14 rfl rfl)
theorem dX3_times_41 : decode cX3_times 41 = .ok (.iload_n 1, 1) := dk_27 (dk_at dksX3_times_1 17 rfl rfl)
theorem dX3_times_42 : decode cX3_times 42 = .ok (.iaload, 1) := dk_46 (dk_at dksX3_times_1 18 rfl rfl)
theorem dX3_times_43 : decode cX3_times 43 = .ok (.ifCond .ge 9, 3) := dk_156 0 9 (dk_at dksX3_times_1 19 rfl rfl)
theorem dX3_times_46 : decode cX3_times 46 = .ok (.aload_n 0, 1) := dk_42 (dk_at dksX3_times_1 22 rfl rfl)
theorem dX3_times_47 : decode cX3_times 47 = .ok (.iconst 1, 1) := dk_4 (dk_at dksX3_times_1 23 rfl rfl)
theorem dX3_times_48 : decode cX3_times 48 = .ok (.invokevirtual 71, 3) := dk_182 0 71 (dk_at dksX3_times_2 0 rfl rfl)
theorem dX3_times_51 : decode cX3_times 51 = .ok (.ireturn, 1) := dk_172 (dk_at dksX3_times_2 3 rfl rfl)
theorem dX3_times_52 : decode cX3_times 52 = .ok (.iload_n 2, 1) := dk_28 (dk_at dksX3_times_2 4 rfl rfl)
theorem dX3_times_53 : decode cX3_times 53 = .ok (.ifCond .lt 21, 3) := dk_155 0 21 (dk_at dksX3_times_2 5 rfl rfl)
theorem dX3_times_56 : decode cX3_times 56 = .ok (.iload_n 2, 1) := dk_28 (dk_at dksX3_times_2 8 rfl rfl)
theorem dX3_times_57 : decode cX3_times 57 = .ok (.i2l, 1) := dk_133 (dk_at dksX3_times_2 9 rfl rfl)
theorem dX3_times_58 : decode cX3_times 58 = .ok (.iconst 4, 1) := dk_7 (dk_at dksX3_times_2 10 rfl rfl)
theorem dX3_times_59 : decode cX3_times 59 = .ok (.iload_n 3, 1) := dk_29 (dk_at dksX3_times_2 11 rfl rfl)
theorem dX3_times_60 : decode cX3_times 60 = .ok (.imul, 1) := dk_104 (dk_at dksX3_times_2 12 rfl rfl)
theorem dX3_times_61 : decode cX3_times 61 = .ok (.i2l, 1) := dk_133 (dk_at dksX3_times_2 13 rfl rfl)
theorem dX3_times_62 : decode cX3_times 62 = .ok (.ladd, 1) := dk_97 (dk_at dksX3_times_2 14 rfl rfl)
theorem dX3_times_63 : decode cX3_times 63 = .ok (.aload_n 0, 1) := dk_42 (dk_at dksX3_times_2 15 rfl rfl)
theorem dX3_times_64 : decode cX3_times 64 = .ok (.getfield 13, 3) := dk_180 0 13 (dk_at dksX3_times_2 16 rfl rfl)
theorem dX3_times_67 : decode cX3_times 67 = .ok (.iload_n 1, 1) := dk_27 (dk_at dksX3_times_2 19 rfl rfl)
theorem dX3_times_68 : decode cX3_times 68 = .ok (.iaload, 1) := dk_46 (dk_at dksX3_times_2 20 rfl rfl)
theorem dX3_times_69 : decode cX3_times 69 = .ok (.i2l, 1) := dk_133 (dk_at dksX3_times_2 21 rfl rfl)
theorem dX3_times_70 : decode cX3_times 70 = .ok (.lcmp, 1) := dk_148 (dk_at dksX3_times_2 22 rfl rfl)
theorem dX3_times_71 : decode cX3_times 71 = .ok (.ifCond .le 9, 3) := dk_158 0 9 (dk_at dksX3_times_3 0 rfl rfl)
theorem dX3_times_74 : decode cX3_times 74 = .ok (.aload_n 0, 1) := dk_42 (dk_at dksX3_times_3 3 rfl rfl)
theorem dX3_times_75 : decode cX3_times 75 = .ok (.iconst 2, 1) := dk_5 (dk_at dksX3_times_3 4 rfl rfl)
theorem dX3_times_76 : decode cX3_times 76 = .ok (.invokevirtual 71, 3) := dk_182 0 71 (dk_at dksX3_times_3 5 rfl rfl)
theorem dX3_times_79 : decode cX3_times 79 = .ok (.ireturn, 1) := dk_172 (dk_at dksX3_times_3 8 rfl rfl)
theorem dX3_times_80 : decode cX3_times 80 = .ok (.bipush 40, 2) := dk_16 40 (dk_at dksX3_times_3 9 rfl rfl)
theorem dX3_times_82 : decode cX3_times 82 = .ok (.iload_n 1, 1) := dk_27 (dk_at dksX3_times_3 11 rfl rfl)
theorem dX3_times_83 : decode cX3_times 83 = .ok (.imul, 1) := dk_104 (dk_at dksX3_times_3 12 rfl rfl)
theorem dX3_times_84 : decode cX3_times 84 = .ok (.iload_n 2, 1) := dk_28 (dk_at dksX3_times_3 13 rfl rfl)
theorem dX3_times_85 : decode cX3_times 85 = .ok (.iadd, 1) := dk_96 (dk_at dksX3_times_3 14 rfl rfl)
theorem dX3_times_86 : decode cX3_times 86 = .ok (.istore 4, 2) := dk_54 4 (dk_at dksX3_times_3 15 rfl rfl)
theorem dX3_times_88 : decode cX3_times 88 = .ok (.iconst 0, 1) := dk_3 (dk_at dksX3_times_3 17 rfl rfl)
theorem dX3_times_89 : decode cX3_times 89 = .ok (.istore 5, 2) := dk_54 5 (dk_at dksX3_times_3 18 rfl rfl)
theorem dX3_times_91 : decode cX3_times 91 = .ok (.iload 5, 2) := dk_21 5 (dk_at dksX3_times_3 20 rfl rfl)
theorem dX3_times_93 : decode cX3_times 93 = .ok (.iload_n 3, 1) := dk_29 (dk_at dksX3_times_3 22 rfl rfl)
theorem dX3_times_94 : decode cX3_times 94 = .ok (.if_icmp .ge 73, 3) := dk_162 0 73 (dk_at dksX3_times_4 0 rfl rfl)
theorem dX3_times_97 : decode cX3_times 97 = .ok (.aload_n 0, 1) := dk_42 (dk_at dksX3_times_4 3 rfl rfl)
theorem dX3_times_98 : decode cX3_times 98 = .ok (.aload_n 0, 1) := dk_42 (dk_at dksX3_times_4 4 rfl rfl)
theorem dX3_times_99 : decode cX3_times 99 = .ok (.getfield 16, 3) := dk_180 0 16 (dk_at dksX3_times_4 5 rfl rfl)
theorem dX3_times_102 : decode cX3_times 102 = .ok (.iload 4, 2) := dk_21 4 (dk_at dksX3_times_4 8 rfl rfl)
theorem dX3_times_104 : decode cX3_times 104 = .ok (.iconst 4, 1) := dk_7 (dk_at dksX3_times_4 10 rfl rfl)
theorem dX3_times_105 : decode cX3_times 105 = .ok (.iload 5, 2) := dk_21 5 (dk_at dksX3_times_4 11 rfl rfl)
theorem dX3_times_107 : decode cX3_times 107 = .ok (.imul, 1) := dk_104 (dk_at dksX3_times_4 13 rfl rfl)
theorem dX3_times_108 : decode cX3_times 108 = .ok (.iadd, 1) := dk_96 (dk_at dksX3_times_4 14 rfl rfl)
theorem dX3_times_109 : decode cX3_times 109 = .ok (.iaload, 1) := dk_46 (dk_at dksX3_times_4 15 rfl rfl)
theorem dX3_times_110 : decode cX3_times 110 = .ok (.aload_n 0, 1) := dk_42 (dk_at dksX3_times_4 16 rfl rfl)
theorem dX3_times_111 : decode cX3_times 111 = .ok (.getfield 16, 3) := dk_180 0 16 (dk_at dksX3_times_4 17 rfl rfl)
theorem dX3_times_114 : decode cX3_times 114 = .ok (.iload 4, 2) := dk_21 4 (dk_at dksX3_times_4 20 rfl rfl)
theorem dX3_times_116 : decode cX3_times 116 = .ok (.iconst 4, 1) := dk_7 (dk_at dksX3_times_4 22 rfl rfl)
theorem dX3_times_117 : decode cX3_times 117 = .ok (.iload 5, 2) := dk_21 5 (dk_at dksX3_times_5 0 rfl rfl)
theorem dX3_times_119 : decode cX3_times 119 = .ok (.imul, 1) := dk_104 (dk_at dksX3_times_5 2 rfl rfl)
theorem dX3_times_120 : decode cX3_times 120 = .ok (.iadd, 1) := dk_96 (dk_at dksX3_times_5 3 rfl rfl)
theorem dX3_times_121 : decode cX3_times 121 = .ok (.iconst 1, 1) := dk_4 (dk_at dksX3_times_5 4 rfl rfl)
theorem dX3_times_122 : decode cX3_times 122 = .ok (.iadd, 1) := dk_96 (dk_at dksX3_times_5 5 rfl rfl)
theorem dX3_times_123 : decode cX3_times 123 = .ok (.iaload, 1) := dk_46 (dk_at dksX3_times_5 6 rfl rfl)
theorem dX3_times_124 : decode cX3_times 124 = .ok (.aload_n 0, 1) := dk_42 (dk_at dksX3_times_5 7 rfl rfl)
theorem dX3_times_125 : decode cX3_times 125 = .ok (.getfield 16, 3) := dk_180 0 16 (dk_at dksX3_times_5 8 rfl rfl)
theorem dX3_times_128 : decode cX3_times 128 = .ok (.iload 4, 2) := dk_21 4 (dk_at dksX3_times_5 11 rfl rfl)
theorem dX3_times_130 : decode cX3_times 130 = .ok (.iconst 4, 1) := dk_7 (dk_at dksX3_times_5 13 rfl rfl)
theorem dX3_times_131 : decode cX3_times 131 = .ok (.iload 5, 2) := dk_21 5 (dk_at dksX3_times_5 14 rfl rfl)
theorem dX3_times_133 : decode cX3_times 133 = .ok (.imul, 1) := dk_104 (dk_at dksX3_times_5 16 rfl rfl)
theorem dX3_times_134 : decode cX3_times 134 = .ok (.iadd, 1) := dk_96 (dk_at dksX3_times_5 17 rfl rfl)
theorem dX3_times_135 : decode cX3_times 135 = .ok (.iconst 2, 1) := dk_5 (dk_at dksX3_times_5 18 rfl rfl)
theorem dX3_times_136 : decode cX3_times 136 = .ok (.iadd, 1) := dk_96 (dk_at dksX3_times_5 19 rfl rfl)
theorem dX3_times_137 : decode cX3_times 137 = .ok (.iaload, 1) := dk_46 (dk_at dksX3_times_5 20 rfl rfl)
theorem dX3_times_138 : decode cX3_times 138 = .ok (.aload_n 0, 1) := dk_42 (dk_at dksX3_times_5 21 rfl rfl)
theorem dX3_times_139 : decode cX3_times 139 = .ok (.getfield 16, 3) := dk_180 0 16 (dk_at dksX3_times_6 0 rfl rfl)
theorem dX3_times_142 : decode cX3_times 142 = .ok (.iload 4, 2) := dk_21 4 (dk_at dksX3_times_6 3 rfl rfl)
theorem dX3_times_144 : decode cX3_times 144 = .ok (.iconst 4, 1) := dk_7 (dk_at dksX3_times_6 5 rfl rfl)
theorem dX3_times_145 : decode cX3_times 145 = .ok (.iload 5, 2) := dk_21 5 (dk_at dksX3_times_6 6 rfl rfl)
theorem dX3_times_147 : decode cX3_times 147 = .ok (.imul, 1) := dk_104 (dk_at dksX3_times_6 8 rfl rfl)
theorem dX3_times_148 : decode cX3_times 148 = .ok (.iadd, 1) := dk_96 (dk_at dksX3_times_6 9 rfl rfl)
theorem dX3_times_149 : decode cX3_times 149 = .ok (.iconst 3, 1) := dk_6 (dk_at dksX3_times_6 10 rfl rfl)
theorem dX3_times_150 : decode cX3_times 150 = .ok (.iadd, 1) := dk_96 (dk_at dksX3_times_6 11 rfl rfl)
theorem dX3_times_151 : decode cX3_times 151 = .ok (.iaload, 1) := dk_46 (dk_at dksX3_times_6 12 rfl rfl)
theorem dX3_times_152 : decode cX3_times 152 = .ok (.invokevirtual 216, 3) := dk_182 0 216 (dk_at dksX3_times_6 13 rfl rfl)
theorem dX3_times_155 : decode cX3_times 155 = .ok (.ifCond .ne 6, 3) := dk_154 0 6 (dk_at dksX3_times_6 16 rfl rfl)
theorem dX3_times_158 : decode cX3_times 158 = .ok (.ldc 70, 2) := dk_18 70 (dk_at dksX3_times_6 19 rfl rfl)
theorem dX3_times_160 : decode cX3_times 160 = .ok (.ireturn, 1) := dk_172 (dk_at dksX3_times_6 21 rfl rfl)
theorem dX3_times_161 : decode cX3_times 161 = .ok (.iinc 5 1, 3) := dk_132 5 1 (dk_at dksX3_times_7 0 rfl rfl)
theorem dX3_times_164 : decode cX3_times 164 = .ok (.goto (-73), 3) := dk_167 255 183 (dk_at dksX3_times_7 3 rfl rfl)
theorem dX3_times_167 : decode cX3_times 167 = .ok (.aload_n 0, 1) := dk_42 (dk_at dksX3_times_7 6 rfl rfl)
theorem dX3_times_168 : decode cX3_times 168 = .ok (.getfield 19, 3) := dk_180 0 19 (dk_at dksX3_times_7 7 rfl rfl)
theorem dX3_times_171 : decode cX3_times 171 = .ok (.bipush 7, 2) := dk_16 7 (dk_at dksX3_times_7 10 rfl rfl)
theorem dX3_times_173 : decode cX3_times 173 = .ok (.iaload, 1) := dk_46 (dk_at dksX3_times_7 12 rfl rfl)
theorem dX3_times_174 : decode cX3_times 174 = .ok (.iload_n 3, 1) := dk_29 (dk_at dksX3_times_7 13 rfl rfl)
theorem dX3_times_175 : decode cX3_times 175 = .ok (.iadd, 1) := dk_96 (dk_at dksX3_times_7 14 rfl rfl)
theorem dX3_times_176 : decode cX3_times 176 = .ok (.bipush 12, 2) := dk_16 12 (dk_at dksX3_times_7 15 rfl rfl)
theorem dX3_times_178 : decode cX3_times 178 = .ok (.if_icmp .le 6, 3) := dk_164 0 6 (dk_at dksX3_times_7 17 rfl rfl)
theorem dX3_times_181 : decode cX3_times 181 = .ok (.ldc 80, 2) := dk_18 80 (dk_at dksX3_times_7 20 rfl rfl)
theorem dX3_times_183 : decode cX3_times 183 = .ok (.ireturn, 1) := dk_172 (dk_at dksX3_times_7 22 rfl rfl)
theorem dX3_times_184 : decode cX3_times 184 = .ok (.aload_n 0, 1) := dk_42 (dk_at dksX3_times_7 23 rfl rfl)
theorem dX3_times_185 : decode cX3_times 185 = .ok (.iconst 0, 1) := dk_3 (dk_at dksX3_times_8 0 rfl rfl)
theorem dX3_times_186 : decode cX3_times 186 = .ok (.putfield 54, 3) := dk_181 0 54 (dk_at dksX3_times_8 1 rfl rfl)
theorem dX3_times_189 : decode cX3_times 189 = .ok (.iconst 0, 1) := dk_3 (dk_at dksX3_times_8 4 rfl rfl)
theorem dX3_times_190 : decode cX3_times 190 = .ok (.istore 5, 2) := dk_54 5 (dk_at dksX3_times_8 5 rfl rfl)
theorem dX3_times_192 : decode cX3_times 192 = .ok (.iload 5, 2) := dk_21 5 (dk_at dksX3_times_8 7 rfl rfl)
theorem dX3_times_194 : decode cX3_times 194 = .ok (.iload_n 3, 1) := dk_29 (dk_at dksX3_times_8 9 rfl rfl)
theorem dX3_times_195 : decode cX3_times 195 = .ok (.if_icmp .ge 67, 3) := dk_162 0 67 (dk_at dksX3_times_8 10 rfl rfl)
theorem dX3_times_198 : decode cX3_times 198 = .ok (.aload_n 0, 1) := dk_42 (dk_at dksX3_times_8 13 rfl rfl)
theorem dX3_times_199 : decode cX3_times 199 = .ok (.aload_n 0, 1) := dk_42 (dk_at dksX3_times_8 14 rfl rfl)
theorem dX3_times_200 : decode cX3_times 200 = .ok (.getfield 16, 3) := dk_180 0 16 (dk_at dksX3_times_8 15 rfl rfl)
theorem dX3_times_203 : decode cX3_times 203 = .ok (.iload 4, 2) := dk_21 4 (dk_at dksX3_times_8 18 rfl rfl)
theorem dX3_times_205 : decode cX3_times 205 = .ok (.iconst 4, 1) := dk_7 (dk_at dksX3_times_8 20 rfl rfl)
theorem dX3_times_206 : decode cX3_times 206 = .ok (.iload 5, 2) := dk_21 5 (dk_at dksX3_times_8 21 rfl rfl)
theorem dX3_times_208 : decode cX3_times 208 = .ok (.imul, 1) := dk_104 (dk_at dksX3_times_8 23 rfl rfl)
theorem dX3_times_209 : decode cX3_times 209 = .ok (.iadd, 1) := dk_96 (dk_at dksX3_times_9 0 rfl rfl)
theorem dX3_times_210 : decode cX3_times 210 = .ok (.iaload, 1) := dk_46 (dk_at dksX3_times_9 1 rfl rfl)
theorem dX3_times_211 : decode cX3_times 211 = .ok (.aload_n 0, 1) := dk_42 (dk_at dksX3_times_9 2 rfl rfl)
theorem dX3_times_212 : decode cX3_times 212 = .ok (.getfield 16, 3) := dk_180 0 16 (dk_at dksX3_times_9 3 rfl rfl)
theorem dX3_times_215 : decode cX3_times 215 = .ok (.iload 4, 2) := dk_21 4 (dk_at dksX3_times_9 6 rfl rfl)
theorem dX3_times_217 : decode cX3_times 217 = .ok (.iconst 4, 1) := dk_7 (dk_at dksX3_times_9 8 rfl rfl)
theorem dX3_times_218 : decode cX3_times 218 = .ok (.iload 5, 2) := dk_21 5 (dk_at dksX3_times_9 9 rfl rfl)
theorem dX3_times_220 : decode cX3_times 220 = .ok (.imul, 1) := dk_104 (dk_at dksX3_times_9 11 rfl rfl)
theorem dX3_times_221 : decode cX3_times 221 = .ok (.iadd, 1) := dk_96 (dk_at dksX3_times_9 12 rfl rfl)
theorem dX3_times_222 : decode cX3_times 222 = .ok (.iconst 1, 1) := dk_4 (dk_at dksX3_times_9 13 rfl rfl)
theorem dX3_times_223 : decode cX3_times 223 = .ok (.iadd, 1) := dk_96 (dk_at dksX3_times_9 14 rfl rfl)
theorem dX3_times_224 : decode cX3_times 224 = .ok (.iaload, 1) := dk_46 (dk_at dksX3_times_9 15 rfl rfl)
theorem dX3_times_225 : decode cX3_times 225 = .ok (.aload_n 0, 1) := dk_42 (dk_at dksX3_times_9 16 rfl rfl)
theorem dX3_times_226 : decode cX3_times 226 = .ok (.getfield 16, 3) := dk_180 0 16 (dk_at dksX3_times_9 17 rfl rfl)
theorem dX3_times_229 : decode cX3_times 229 = .ok (.iload 4, 2) := dk_21 4 (dk_at dksX3_times_9 20 rfl rfl)
theorem dX3_times_231 : decode cX3_times 231 = .ok (.iconst 4, 1) := dk_7 (dk_at dksX3_times_9 22 rfl rfl)
theorem dX3_times_232 : decode cX3_times 232 = .ok (.iload 5, 2) := dk_21 5 (dk_at dksX3_times_10 0 rfl rfl)
theorem dX3_times_234 : decode cX3_times 234 = .ok (.imul, 1) := dk_104 (dk_at dksX3_times_10 2 rfl rfl)
theorem dX3_times_235 : decode cX3_times 235 = .ok (.iadd, 1) := dk_96 (dk_at dksX3_times_10 3 rfl rfl)
theorem dX3_times_236 : decode cX3_times 236 = .ok (.iconst 2, 1) := dk_5 (dk_at dksX3_times_10 4 rfl rfl)
theorem dX3_times_237 : decode cX3_times 237 = .ok (.iadd, 1) := dk_96 (dk_at dksX3_times_10 5 rfl rfl)
theorem dX3_times_238 : decode cX3_times 238 = .ok (.iaload, 1) := dk_46 (dk_at dksX3_times_10 6 rfl rfl)
theorem dX3_times_239 : decode cX3_times 239 = .ok (.aload_n 0, 1) := dk_42 (dk_at dksX3_times_10 7 rfl rfl)
theorem dX3_times_240 : decode cX3_times 240 = .ok (.getfield 16, 3) := dk_180 0 16 (dk_at dksX3_times_10 8 rfl rfl)
theorem dX3_times_243 : decode cX3_times 243 = .ok (.iload 4, 2) := dk_21 4 (dk_at dksX3_times_10 11 rfl rfl)
theorem dX3_times_245 : decode cX3_times 245 = .ok (.iconst 4, 1) := dk_7 (dk_at dksX3_times_10 13 rfl rfl)
theorem dX3_times_246 : decode cX3_times 246 = .ok (.iload 5, 2) := dk_21 5 (dk_at dksX3_times_10 14 rfl rfl)
theorem dX3_times_248 : decode cX3_times 248 = .ok (.imul, 1) := dk_104 (dk_at dksX3_times_10 16 rfl rfl)
theorem dX3_times_249 : decode cX3_times 249 = .ok (.iadd, 1) := dk_96 (dk_at dksX3_times_10 17 rfl rfl)
theorem dX3_times_250 : decode cX3_times 250 = .ok (.iconst 3, 1) := dk_6 (dk_at dksX3_times_10 18 rfl rfl)
theorem dX3_times_251 : decode cX3_times 251 = .ok (.iadd, 1) := dk_96 (dk_at dksX3_times_10 19 rfl rfl)
theorem dX3_times_252 : decode cX3_times 252 = .ok (.iaload, 1) := dk_46 (dk_at dksX3_times_10 20 rfl rfl)
theorem dX3_times_253 : decode cX3_times 253 = .ok (.invokevirtual 220, 3) := dk_182 0 220 (dk_at dksX3_times_10 21 rfl rfl)
theorem dX3_times_256 : decode cX3_times 256 = .ok (.iinc 5 1, 3) := dk_132 5 1 (dk_at dksX3_times_11 0 rfl rfl)
theorem dX3_times_259 : decode cX3_times 259 = .ok (.goto (-67), 3) := dk_167 255 189 (dk_at dksX3_times_11 3 rfl rfl)
theorem dX3_times_262 : decode cX3_times 262 = .ok (.aload_n 0, 1) := dk_42 (dk_at dksX3_times_11 6 rfl rfl)
theorem dX3_times_263 : decode cX3_times 263 = .ok (.getfield 19, 3) := dk_180 0 19 (dk_at dksX3_times_11 7 rfl rfl)
theorem dX3_times_266 : decode cX3_times 266 = .ok (.bipush 7, 2) := dk_16 7 (dk_at dksX3_times_11 10 rfl rfl)
theorem dX3_times_268 : decode cX3_times 268 = .ok (.iaload, 1) := dk_46 (dk_at dksX3_times_11 12 rfl rfl)
theorem dX3_times_269 : decode cX3_times 269 = .ok (.ireturn, 1) := dk_172 (dk_at dksX3_times_11 13 rfl rfl)
abbrev cX3_forget : ByteArray := prog_16_method_48_code
def yX3_forget : MethodName := ⟨RX3, "forget", "()I"⟩
def dkwX3_forget_0 : List UInt8 := [42, 3, 181, 0, 50, 42, 180, 0, 19, 16, 7, 46, 60, 42, 180, 0, 19, 16, 7, 3, 79, 27, 172]
abbrev dktX3_forget_0 : List UInt8 := dkwX3_forget_0 ++ []
theorem dksX3_forget_0 : cX3_forget.data.toList.drop 0 = dktX3_forget_0 := by decide +kernel
theorem dX3_forget_0 : decode cX3_forget 0 = .ok (.aload_n 0, 1) := dk_42 (dk_at dksX3_forget_0 0 rfl rfl)
theorem dX3_forget_1 : decode cX3_forget 1 = .ok (.iconst 0, 1) := dk_3 (dk_at dksX3_forget_0 1 rfl rfl)
theorem dX3_forget_2 : decode cX3_forget 2 = .ok (.putfield 50, 3) := dk_181 0 50 (dk_at dksX3_forget_0 2 rfl rfl)
theorem dX3_forget_5 : decode cX3_forget 5 = .ok (.aload_n 0, 1) := dk_42 (dk_at dksX3_forget_0 5 rfl rfl)
theorem dX3_forget_6 : decode cX3_forget 6 = .ok (.getfield 19, 3) := dk_180 0 19 (dk_at dksX3_forget_0 6 rfl rfl)
theorem dX3_forget_9 : decode cX3_forget 9 = .ok (.bipush 7, 2) := dk_16 7 (dk_at dksX3_forget_0 9 rfl rfl)
theorem dX3_forget_11 : decode cX3_forget 11 = .ok (.iaload, 1) := dk_46 (dk_at dksX3_forget_0 11 rfl rfl)
theorem dX3_forget_12 : decode cX3_forget 12 = .ok (.istore_n 1, 1) := dk_60 (dk_at dksX3_forget_0 12 rfl rfl)
theorem dX3_forget_13 : decode cX3_forget 13 = .ok (.aload_n 0, 1) := dk_42 (dk_at dksX3_forget_0 13 rfl rfl)
theorem dX3_forget_14 : decode cX3_forget 14 = .ok (.getfield 19, 3) := dk_180 0 19 (dk_at dksX3_forget_0 14 rfl rfl)
theorem dX3_forget_17 : decode cX3_forget 17 = .ok (.bipush 7, 2) := dk_16 7 (dk_at dksX3_forget_0 17 rfl rfl)
theorem dX3_forget_19 : decode cX3_forget 19 = .ok (.iconst 0, 1) := dk_3 (dk_at dksX3_forget_0 19 rfl rfl)
theorem dX3_forget_20 : decode cX3_forget 20 = .ok (.iastore, 1) := dk_79 (dk_at dksX3_forget_0 20 rfl rfl)
theorem dX3_forget_21 : decode cX3_forget 21 = .ok (.iload_n 1, 1) := dk_27 (dk_at dksX3_forget_0 21 rfl rfl)
theorem dX3_forget_22 : decode cX3_forget 22 = .ok (.ireturn, 1) := dk_172 (dk_at dksX3_forget_0 22 rfl rfl)
abbrev cX3_ends : ByteArray := prog_16_method_51_code
def yX3_ends : MethodName := ⟨RX3, "ends", "(III)I"⟩
def dkwX3_ends_3 : List UInt8 := [180, 0, 34, 16, 7, 27, 104, 28, 96, 46, 172]
abbrev dktX3_ends_3 : List UInt8 := dkwX3_ends_3 ++ []
def dkwX3_ends_2 : List UInt8 := [18, 86, 172, 29, 154, 0, 18, 42, 180, 0, 34, 16, 7, 28, 104, 27, 96, 46, 116, 167, 0, 14, 42]
abbrev dktX3_ends_2 : List UInt8 := dkwX3_ends_2 ++ dktX3_ends_3
def dkwX3_ends_1 : List UInt8 := [162, 0, 13, 29, 133, 9, 10, 184, 0, 60, 154, 0, 6, 18, 70, 172, 42, 182, 0, 231, 154, 0, 6]
abbrev dktX3_ends_1 : List UInt8 := dkwX3_ends_1 ++ dktX3_ends_2
def dkwX3_ends_0 : List UInt8 := [42, 3, 181, 0, 50, 42, 27, 182, 0, 206, 153, 0, 26, 42, 28, 182, 0, 206, 153, 0, 18, 27, 28]
abbrev dktX3_ends_0 : List UInt8 := dkwX3_ends_0 ++ dktX3_ends_1
theorem dksX3_ends_0 : cX3_ends.data.toList.drop 0 = dktX3_ends_0 := by decide +kernel
theorem dksX3_ends_1 : cX3_ends.data.toList.drop 23 = dktX3_ends_1 := dk_seg dksX3_ends_0 23 rfl rfl
theorem dksX3_ends_2 : cX3_ends.data.toList.drop 46 = dktX3_ends_2 := dk_seg dksX3_ends_1 23 rfl rfl
theorem dksX3_ends_3 : cX3_ends.data.toList.drop 69 = dktX3_ends_3 := dk_seg dksX3_ends_2 23 rfl rfl
theorem dX3_ends_0 : decode cX3_ends 0 = .ok (.aload_n 0, 1) := dk_42 (dk_at dksX3_ends_0 0 rfl rfl)
theorem dX3_ends_1 : decode cX3_ends 1 = .ok (.iconst 0, 1) := dk_3 (dk_at dksX3_ends_0 1 rfl rfl)
theorem dX3_ends_2 : decode cX3_ends 2 = .ok (.putfield 50, 3) := dk_181 0 50 (dk_at dksX3_ends_0 2 rfl rfl)
theorem dX3_ends_5 : decode cX3_ends 5 = .ok (.aload_n 0, 1) := dk_42 (dk_at dksX3_ends_0 5 rfl rfl)
theorem dX3_ends_6 : decode cX3_ends 6 = .ok (.iload_n 1, 1) := dk_27 (dk_at dksX3_ends_0 6 rfl rfl)
theorem dX3_ends_7 : decode cX3_ends 7 = .ok (.invokevirtual 206, 3) := dk_182 0 206 (dk_at dksX3_ends_0 7 rfl rfl)
theorem dX3_ends_10 : decode cX3_ends 10 = .ok (.ifCond .eq 26, 3) := dk_153 0 26 (dk_at dksX3_ends_0 10 rfl rfl)
theorem dX3_ends_13 : decode cX3_ends 13 = .ok (.aload_n 0, 1) := dk_42 (dk_at dksX3_ends_0 13 rfl rfl)
theorem dX3_ends_14 : decode cX3_ends 14 = .ok (.iload_n 2, 1) := dk_28 (dk_at dksX3_ends_0 14 rfl rfl)
theorem dX3_ends_15 : decode cX3_ends 15 = .ok (.invokevirtual 206, 3) := dk_182 0 206 (dk_at dksX3_ends_0 15 rfl rfl)
theorem dX3_ends_18 : decode cX3_ends 18 = .ok (.ifCond .eq 18, 3) := dk_153 0 18 (dk_at dksX3_ends_0 18 rfl rfl)
theorem dX3_ends_21 : decode cX3_ends 21 = .ok (.iload_n 1, 1) := dk_27 (dk_at dksX3_ends_0 21 rfl rfl)
theorem dX3_ends_22 : decode cX3_ends 22 = .ok (.iload_n 2, 1) := dk_28 (dk_at dksX3_ends_0 22 rfl rfl)
theorem dX3_ends_23 : decode cX3_ends 23 = .ok (.if_icmp .ge 13, 3) := dk_162 0 13 (dk_at dksX3_ends_1 0 rfl rfl)
theorem dX3_ends_26 : decode cX3_ends 26 = .ok (.iload_n 3, 1) := dk_29 (dk_at dksX3_ends_1 3 rfl rfl)
theorem dX3_ends_27 : decode cX3_ends 27 = .ok (.i2l, 1) := dk_133 (dk_at dksX3_ends_1 4 rfl rfl)
theorem dX3_ends_28 : decode cX3_ends 28 = .ok (.lconst 0, 1) := dk_9 (dk_at dksX3_ends_1 5 rfl rfl)
theorem dX3_ends_29 : decode cX3_ends 29 = .ok (.lconst 1, 1) := dk_10 (dk_at dksX3_ends_1 6 rfl rfl)
theorem dX3_ends_30 : decode cX3_ends 30 = .ok (.invokestatic 60, 3) := dk_184 0 60 (dk_at dksX3_ends_1 7 rfl rfl)
theorem dX3_ends_33 : decode cX3_ends 33 = .ok (.ifCond .ne 6, 3) := dk_154 0 6 (dk_at dksX3_ends_1 10 rfl rfl)
theorem dX3_ends_36 : decode cX3_ends 36 = .ok (.ldc 70, 2) := dk_18 70 (dk_at dksX3_ends_1 13 rfl rfl)
theorem dX3_ends_38 : decode cX3_ends 38 = .ok (.ireturn, 1) := dk_172 (dk_at dksX3_ends_1 15 rfl rfl)
theorem dX3_ends_39 : decode cX3_ends 39 = .ok (.aload_n 0, 1) := dk_42 (dk_at dksX3_ends_1 16 rfl rfl)
theorem dX3_ends_40 : decode cX3_ends 40 = .ok (.invokevirtual 231, 3) := dk_182 0 231 (dk_at dksX3_ends_1 17 rfl rfl)
theorem dX3_ends_43 : decode cX3_ends 43 = .ok (.ifCond .ne 6, 3) := dk_154 0 6 (dk_at dksX3_ends_1 20 rfl rfl)
theorem dX3_ends_46 : decode cX3_ends 46 = .ok (.ldc 86, 2) := dk_18 86 (dk_at dksX3_ends_2 0 rfl rfl)
theorem dX3_ends_48 : decode cX3_ends 48 = .ok (.ireturn, 1) := dk_172 (dk_at dksX3_ends_2 2 rfl rfl)
theorem dX3_ends_49 : decode cX3_ends 49 = .ok (.iload_n 3, 1) := dk_29 (dk_at dksX3_ends_2 3 rfl rfl)
theorem dX3_ends_50 : decode cX3_ends 50 = .ok (.ifCond .ne 18, 3) := dk_154 0 18 (dk_at dksX3_ends_2 4 rfl rfl)
theorem dX3_ends_53 : decode cX3_ends 53 = .ok (.aload_n 0, 1) := dk_42 (dk_at dksX3_ends_2 7 rfl rfl)
theorem dX3_ends_54 : decode cX3_ends 54 = .ok (.getfield 34, 3) := dk_180 0 34 (dk_at dksX3_ends_2 8 rfl rfl)
theorem dX3_ends_57 : decode cX3_ends 57 = .ok (.bipush 7, 2) := dk_16 7 (dk_at dksX3_ends_2 11 rfl rfl)
theorem dX3_ends_59 : decode cX3_ends 59 = .ok (.iload_n 2, 1) := dk_28 (dk_at dksX3_ends_2 13 rfl rfl)
theorem dX3_ends_60 : decode cX3_ends 60 = .ok (.imul, 1) := dk_104 (dk_at dksX3_ends_2 14 rfl rfl)
theorem dX3_ends_61 : decode cX3_ends 61 = .ok (.iload_n 1, 1) := dk_27 (dk_at dksX3_ends_2 15 rfl rfl)
theorem dX3_ends_62 : decode cX3_ends 62 = .ok (.iadd, 1) := dk_96 (dk_at dksX3_ends_2 16 rfl rfl)
theorem dX3_ends_63 : decode cX3_ends 63 = .ok (.iaload, 1) := dk_46 (dk_at dksX3_ends_2 17 rfl rfl)
theorem dX3_ends_64 : decode cX3_ends 64 = .ok (.ineg, 1) := dk_116 (dk_at dksX3_ends_2 18 rfl rfl)
theorem dX3_ends_65 : decode cX3_ends 65 = .ok (.goto 14, 3) := dk_167 0 14 (dk_at dksX3_ends_2 19 rfl rfl)
theorem dX3_ends_68 : decode cX3_ends 68 = .ok (.aload_n 0, 1) := dk_42 (dk_at dksX3_ends_2 22 rfl rfl)
theorem dX3_ends_69 : decode cX3_ends 69 = .ok (.getfield 34, 3) := dk_180 0 34 (dk_at dksX3_ends_3 0 rfl rfl)
theorem dX3_ends_72 : decode cX3_ends 72 = .ok (.bipush 7, 2) := dk_16 7 (dk_at dksX3_ends_3 3 rfl rfl)
theorem dX3_ends_74 : decode cX3_ends 74 = .ok (.iload_n 1, 1) := dk_27 (dk_at dksX3_ends_3 5 rfl rfl)
theorem dX3_ends_75 : decode cX3_ends 75 = .ok (.imul, 1) := dk_104 (dk_at dksX3_ends_3 6 rfl rfl)
theorem dX3_ends_76 : decode cX3_ends 76 = .ok (.iload_n 2, 1) := dk_28 (dk_at dksX3_ends_3 7 rfl rfl)
theorem dX3_ends_77 : decode cX3_ends 77 = .ok (.iadd, 1) := dk_96 (dk_at dksX3_ends_3 8 rfl rfl)
theorem dX3_ends_78 : decode cX3_ends 78 = .ok (.iaload, 1) := dk_46 (dk_at dksX3_ends_3 9 rfl rfl)
theorem dX3_ends_79 : decode cX3_ends 79 = .ok (.ireturn, 1) := dk_172 (dk_at dksX3_ends_3 10 rfl rfl)
abbrev cX3_layMost : ByteArray := prog_16_method_50_code
def yX3_layMost : MethodName := ⟨RX3, "layMost", "()Z"⟩
def dkwX3_layMost_14 : List UInt8 := [167, 255, 225, 28, 172]
abbrev dktX3_layMost_14 : List UInt8 := dkwX3_layMost_14 ++ []
def dkwX3_layMost_13 : List UInt8 := [153, 0, 19, 42, 180, 0, 34, 16, 8, 29, 104, 46, 155, 0, 7, 4, 167, 0, 4, 3, 61, 132, 3, 1]
abbrev dktX3_layMost_13 : List UInt8 := dkwX3_layMost_13 ++ dktX3_layMost_14
def dkwX3_layMost_12 : List UInt8 := [132, 3, 1, 167, 255, 167, 132, 2, 1, 167, 255, 153, 4, 61, 3, 62, 29, 16, 7, 162, 0, 31, 28]
abbrev dktX3_layMost_12 : List UInt8 := dkwX3_layMost_12 ++ dktX3_layMost_13
def dkwX3_layMost_11 : List UInt8 := [42, 180, 0, 34, 16, 7, 28, 104, 21, 4, 96, 46, 96, 182, 0, 227, 132, 4, 1, 167, 255, 182]
abbrev dktX3_layMost_11 : List UInt8 := dkwX3_layMost_11 ++ dktX3_layMost_12
def dkwX3_layMost_10 : List UInt8 := [21, 4, 96, 46, 18, 226, 162, 0, 34, 42, 29, 21, 4, 42, 180, 0, 34, 16, 7, 29, 104, 28, 96, 46]
abbrev dktX3_layMost_10 : List UInt8 := dkwX3_layMost_10 ++ dktX3_layMost_11
def dkwX3_layMost_9 : List UInt8 := [180, 0, 34, 16, 7, 29, 104, 28, 96, 46, 18, 226, 162, 0, 51, 42, 180, 0, 34, 16, 7, 28, 104]
abbrev dktX3_layMost_9 : List UInt8 := dkwX3_layMost_9 ++ dktX3_layMost_10
def dkwX3_layMost_8 : List UInt8 := [16, 7, 162, 0, 103, 3, 62, 29, 16, 7, 162, 0, 89, 3, 54, 4, 21, 4, 16, 7, 162, 0, 73, 42]
abbrev dktX3_layMost_8 : List UInt8 := dkwX3_layMost_8 ++ dktX3_layMost_9
def dkwX3_layMost_7 : List UInt8 := [180, 0, 19, 29, 46, 21, 4, 116, 21, 5, 104, 182, 0, 227, 132, 2, 1, 167, 255, 163, 3, 61, 28]
abbrev dktX3_layMost_7 : List UInt8 := dkwX3_layMost_7 ++ dktX3_layMost_8
def dkwX3_layMost_6 : List UInt8 := [21, 4, 21, 5, 104, 21, 4, 96, 4, 100, 182, 0, 227, 42, 42, 180, 0, 19, 29, 4, 96, 46, 42]
abbrev dktX3_layMost_6 : List UInt8 := dkwX3_layMost_6 ++ dktX3_layMost_7
def dkwX3_layMost_5 : List UInt8 := [180, 0, 19, 29, 6, 96, 46, 54, 5, 42, 42, 180, 0, 19, 29, 46, 42, 180, 0, 19, 29, 4, 96, 46]
abbrev dktX3_layMost_5 : List UInt8 := dkwX3_layMost_5 ++ dktX3_layMost_6
def dkwX3_layMost_4 : List UInt8 := [46, 162, 0, 88, 16, 46, 7, 28, 104, 96, 62, 42, 180, 0, 19, 29, 5, 96, 46, 54, 4, 42]
abbrev dktX3_layMost_4 : List UInt8 := dkwX3_layMost_4 ++ dktX3_layMost_5
def dkwX3_layMost_3 : List UInt8 := [42, 28, 28, 4, 100, 2, 182, 0, 227, 132, 2, 1, 167, 255, 214, 3, 61, 28, 42, 180, 0, 19, 16, 7]
abbrev dktX3_layMost_3 : List UInt8 := dkwX3_layMost_3 ++ dktX3_layMost_4
def dkwX3_layMost_2 : List UInt8 := [16, 6, 28, 42, 180, 0, 19, 3, 46, 182, 0, 227, 42, 28, 16, 6, 3, 182, 0, 227, 28, 158, 0, 12]
abbrev dktX3_layMost_2 : List UInt8 := dkwX3_layMost_2 ++ dktX3_layMost_3
def dkwX3_layMost_1 : List UInt8 := [18, 226, 79, 132, 1, 1, 167, 255, 228, 42, 180, 0, 19, 7, 46, 60, 3, 61, 28, 27, 162, 0, 43, 42]
abbrev dktX3_layMost_1 : List UInt8 := dkwX3_layMost_1 ++ dktX3_layMost_2
def dkwX3_layMost_0 : List UInt8 := [3, 60, 27, 16, 49, 162, 0, 28, 42, 180, 0, 34, 27, 27, 16, 8, 112, 154, 0, 7, 3, 167, 0, 5]
abbrev dktX3_layMost_0 : List UInt8 := dkwX3_layMost_0 ++ dktX3_layMost_1
theorem dksX3_layMost_0 : cX3_layMost.data.toList.drop 0 = dktX3_layMost_0 := by decide +kernel
theorem dksX3_layMost_1 : cX3_layMost.data.toList.drop 24 = dktX3_layMost_1 := dk_seg dksX3_layMost_0 24 rfl rfl
theorem dksX3_layMost_2 : cX3_layMost.data.toList.drop 48 = dktX3_layMost_2 := dk_seg dksX3_layMost_1 24 rfl rfl
theorem dksX3_layMost_3 : cX3_layMost.data.toList.drop 72 = dktX3_layMost_3 := dk_seg dksX3_layMost_2 24 rfl rfl
theorem dksX3_layMost_4 : cX3_layMost.data.toList.drop 96 = dktX3_layMost_4 := dk_seg dksX3_layMost_3 24 rfl rfl
theorem dksX3_layMost_5 : cX3_layMost.data.toList.drop 118 = dktX3_layMost_5 := dk_seg dksX3_layMost_4 22 rfl rfl
theorem dksX3_layMost_6 : cX3_layMost.data.toList.drop 142 = dktX3_layMost_6 := dk_seg dksX3_layMost_5 24 rfl rfl
theorem dksX3_layMost_7 : cX3_layMost.data.toList.drop 165 = dktX3_layMost_7 := dk_seg dksX3_layMost_6 23 rfl rfl
theorem dksX3_layMost_8 : cX3_layMost.data.toList.drop 188 = dktX3_layMost_8 := dk_seg dksX3_layMost_7 23 rfl rfl
theorem dksX3_layMost_9 : cX3_layMost.data.toList.drop 212 = dktX3_layMost_9 := dk_seg dksX3_layMost_8 24 rfl rfl
theorem dksX3_layMost_10 : cX3_layMost.data.toList.drop 235 = dktX3_layMost_10 := dk_seg dksX3_layMost_9 23 rfl rfl
theorem dksX3_layMost_11 : cX3_layMost.data.toList.drop 259 = dktX3_layMost_11 := dk_seg dksX3_layMost_10 24 rfl rfl
theorem dksX3_layMost_12 : cX3_layMost.data.toList.drop 281 = dktX3_layMost_12 := dk_seg dksX3_layMost_11 22 rfl rfl
theorem dksX3_layMost_13 : cX3_layMost.data.toList.drop 304 = dktX3_layMost_13 := dk_seg dksX3_layMost_12 23 rfl rfl
theorem dksX3_layMost_14 : cX3_layMost.data.toList.drop 328 = dktX3_layMost_14 := dk_seg dksX3_layMost_13 24 rfl rfl
theorem dX3_layMost_0 : decode cX3_layMost 0 = .ok (.iconst 0, 1) := dk_3 (dk_at dksX3_layMost_0 0 rfl rfl)
theorem dX3_layMost_1 : decode cX3_layMost 1 = .ok (.istore_n 1, 1) := dk_60 (dk_at dksX3_layMost_0 1 rfl rfl)
theorem dX3_layMost_2 : decode cX3_layMost 2 = .ok (.iload_n 1, 1) := dk_27 (dk_at dksX3_layMost_0 2 rfl rfl)
theorem dX3_layMost_3 : decode cX3_layMost 3 = .ok (.bipush 49, 2) := dk_16 49 (dk_at dksX3_layMost_0 3 rfl rfl)
theorem dX3_layMost_5 : decode cX3_layMost 5 = .ok (.if_icmp .ge 28, 3) := dk_162 0 28 (dk_at dksX3_layMost_0 5 rfl rfl)
theorem dX3_layMost_8 : decode cX3_layMost 8 = .ok (.aload_n 0, 1) := dk_42 (dk_at dksX3_layMost_0 8 rfl rfl)
theorem dX3_layMost_9 : decode cX3_layMost 9 = .ok (.getfield 34, 3) := dk_180 0 34 (dk_at dksX3_layMost_0 9 rfl rfl)
theorem dX3_layMost_12 : decode cX3_layMost 12 = .ok (.iload_n 1, 1) := dk_27 (dk_at dksX3_layMost_0 12 rfl rfl)
theorem dX3_layMost_13 : decode cX3_layMost 13 = .ok (.iload_n 1, 1) := dk_27 (dk_at dksX3_layMost_0 13 rfl rfl)
theorem dX3_layMost_14 : decode cX3_layMost 14 = .ok (.bipush 8, 2) := dk_16 8 (dk_at dksX3_layMost_0 14 rfl rfl)
theorem dX3_layMost_16 : decode cX3_layMost 16 = .ok (.irem, 1) := dk_112 (dk_at dksX3_layMost_0 16 rfl rfl)
theorem dX3_layMost_17 : decode cX3_layMost 17 = .ok (.ifCond .ne 7, 3) := dk_154 0 7 (dk_at dksX3_layMost_0 17 rfl rfl)
theorem dX3_layMost_20 : decode cX3_layMost 20 = .ok (.iconst 0, 1) := dk_3 (dk_at dksX3_layMost_0 20 rfl rfl)
theorem dX3_layMost_21 : decode cX3_layMost 21 = .ok (.goto 5, 3) := dk_167 0 5 (dk_at dksX3_layMost_0 21 rfl rfl)
theorem dX3_layMost_24 : decode cX3_layMost 24 = .ok (.ldc 226, 2) := dk_18 226 (dk_at dksX3_layMost_1 0 rfl rfl)
theorem dX3_layMost_26 : decode cX3_layMost 26 = .ok (.iastore, 1) := dk_79 (dk_at dksX3_layMost_1 2 rfl rfl)
theorem dX3_layMost_27 : decode cX3_layMost 27 = .ok (.iinc 1 1, 3) := dk_132 1 1 (dk_at dksX3_layMost_1 3 rfl rfl)
theorem dX3_layMost_30 : decode cX3_layMost 30 = .ok (.goto (-28), 3) := dk_167 255 228 (dk_at dksX3_layMost_1 6 rfl rfl)
theorem dX3_layMost_33 : decode cX3_layMost 33 = .ok (.aload_n 0, 1) := dk_42 (dk_at dksX3_layMost_1 9 rfl rfl)
theorem dX3_layMost_34 : decode cX3_layMost 34 = .ok (.getfield 19, 3) := dk_180 0 19 (dk_at dksX3_layMost_1 10 rfl rfl)
theorem dX3_layMost_37 : decode cX3_layMost 37 = .ok (.iconst 4, 1) := dk_7 (dk_at dksX3_layMost_1 13 rfl rfl)
theorem dX3_layMost_38 : decode cX3_layMost 38 = .ok (.iaload, 1) := dk_46 (dk_at dksX3_layMost_1 14 rfl rfl)
theorem dX3_layMost_39 : decode cX3_layMost 39 = .ok (.istore_n 1, 1) := dk_60 (dk_at dksX3_layMost_1 15 rfl rfl)
theorem dX3_layMost_40 : decode cX3_layMost 40 = .ok (.iconst 0, 1) := dk_3 (dk_at dksX3_layMost_1 16 rfl rfl)
theorem dX3_layMost_41 : decode cX3_layMost 41 = .ok (.istore_n 2, 1) := dk_61 (dk_at dksX3_layMost_1 17 rfl rfl)
theorem dX3_layMost_42 : decode cX3_layMost 42 = .ok (.iload_n 2, 1) := dk_28 (dk_at dksX3_layMost_1 18 rfl rfl)
theorem dX3_layMost_43 : decode cX3_layMost 43 = .ok (.iload_n 1, 1) := dk_27 (dk_at dksX3_layMost_1 19 rfl rfl)
theorem dX3_layMost_44 : decode cX3_layMost 44 = .ok (.if_icmp .ge 43, 3) := dk_162 0 43 (dk_at dksX3_layMost_1 20 rfl rfl)
theorem dX3_layMost_47 : decode cX3_layMost 47 = .ok (.aload_n 0, 1) := dk_42 (dk_at dksX3_layMost_1 23 rfl rfl)
theorem dX3_layMost_48 : decode cX3_layMost 48 = .ok (.bipush 6, 2) := dk_16 6 (dk_at dksX3_layMost_2 0 rfl rfl)
theorem dX3_layMost_50 : decode cX3_layMost 50 = .ok (.iload_n 2, 1) := dk_28 (dk_at dksX3_layMost_2 2 rfl rfl)
theorem dX3_layMost_51 : decode cX3_layMost 51 = .ok (.aload_n 0, 1) := dk_42 (dk_at dksX3_layMost_2 3 rfl rfl)
theorem dX3_layMost_52 : decode cX3_layMost 52 = .ok (.getfield 19, 3) := dk_180 0 19 (dk_at dksX3_layMost_2 4 rfl rfl)
theorem dX3_layMost_55 : decode cX3_layMost 55 = .ok (.iconst 0, 1) := dk_3 (dk_at dksX3_layMost_2 7 rfl rfl)
theorem dX3_layMost_56 : decode cX3_layMost 56 = .ok (.iaload, 1) := dk_46 (dk_at dksX3_layMost_2 8 rfl rfl)
theorem dX3_layMost_57 : decode cX3_layMost 57 = .ok (.invokevirtual 227, 3) := dk_182 0 227 (dk_at dksX3_layMost_2 9 rfl rfl)
theorem dX3_layMost_60 : decode cX3_layMost 60 = .ok (.aload_n 0, 1) := dk_42 (dk_at dksX3_layMost_2 12 rfl rfl)
theorem dX3_layMost_61 : decode cX3_layMost 61 = .ok (.iload_n 2, 1) := dk_28 (dk_at dksX3_layMost_2 13 rfl rfl)
theorem dX3_layMost_62 : decode cX3_layMost 62 = .ok (.bipush 6, 2) := dk_16 6 (dk_at dksX3_layMost_2 14 rfl rfl)
theorem dX3_layMost_64 : decode cX3_layMost 64 = .ok (.iconst 0, 1) := dk_3 (dk_at dksX3_layMost_2 16 rfl rfl)
theorem dX3_layMost_65 : decode cX3_layMost 65 = .ok (.invokevirtual 227, 3) := dk_182 0 227 (dk_at dksX3_layMost_2 17 rfl rfl)
theorem dX3_layMost_68 : decode cX3_layMost 68 = .ok (.iload_n 2, 1) := dk_28 (dk_at dksX3_layMost_2 20 rfl rfl)
theorem dX3_layMost_69 : decode cX3_layMost 69 = .ok (.ifCond .le 12, 3) := dk_158 0 12 (dk_at dksX3_layMost_2 21 rfl rfl)
theorem dX3_layMost_72 : decode cX3_layMost 72 = .ok (.aload_n 0, 1) := dk_42 (dk_at dksX3_layMost_3 0 rfl rfl)
theorem dX3_layMost_73 : decode cX3_layMost 73 = .ok (.iload_n 2, 1) := dk_28 (dk_at dksX3_layMost_3 1 rfl rfl)
theorem dX3_layMost_74 : decode cX3_layMost 74 = .ok (.iload_n 2, 1) := dk_28 (dk_at dksX3_layMost_3 2 rfl rfl)
theorem dX3_layMost_75 : decode cX3_layMost 75 = .ok (.iconst 1, 1) := dk_4 (dk_at dksX3_layMost_3 3 rfl rfl)
theorem dX3_layMost_76 : decode cX3_layMost 76 = .ok (.isub, 1) := dk_100 (dk_at dksX3_layMost_3 4 rfl rfl)
theorem dX3_layMost_77 : decode cX3_layMost 77 = .ok (.iconst (-1), 1) := dk_2 (dk_at dksX3_layMost_3 5 rfl rfl)
theorem dX3_layMost_78 : decode cX3_layMost 78 = .ok (.invokevirtual 227, 3) := dk_182 0 227 (dk_at dksX3_layMost_3 6 rfl rfl)
theorem dX3_layMost_81 : decode cX3_layMost 81 = .ok (.iinc 2 1, 3) := dk_132 2 1 (dk_at dksX3_layMost_3 9 rfl rfl)
theorem dX3_layMost_84 : decode cX3_layMost 84 = .ok (.goto (-42), 3) := dk_167 255 214 (dk_at dksX3_layMost_3 12 rfl rfl)
theorem dX3_layMost_87 : decode cX3_layMost 87 = .ok (.iconst 0, 1) := dk_3 (dk_at dksX3_layMost_3 15 rfl rfl)
theorem dX3_layMost_88 : decode cX3_layMost 88 = .ok (.istore_n 2, 1) := dk_61 (dk_at dksX3_layMost_3 16 rfl rfl)
theorem dX3_layMost_89 : decode cX3_layMost 89 = .ok (.iload_n 2, 1) := dk_28 (dk_at dksX3_layMost_3 17 rfl rfl)
theorem dX3_layMost_90 : decode cX3_layMost 90 = .ok (.aload_n 0, 1) := dk_42 (dk_at dksX3_layMost_3 18 rfl rfl)
theorem dX3_layMost_91 : decode cX3_layMost 91 = .ok (.getfield 19, 3) := dk_180 0 19 (dk_at dksX3_layMost_3 19 rfl rfl)
theorem dX3_layMost_94 : decode cX3_layMost 94 = .ok (.bipush 7, 2) := dk_16 7 (dk_at dksX3_layMost_3 22 rfl rfl)
theorem dX3_layMost_96 : decode cX3_layMost 96 = .ok (.iaload, 1) := dk_46 (dk_at dksX3_layMost_4 0 rfl rfl)
theorem dX3_layMost_97 : decode cX3_layMost 97 = .ok (.if_icmp .ge 88, 3) := dk_162 0 88 (dk_at dksX3_layMost_4 1 rfl rfl)
theorem dX3_layMost_100 : decode cX3_layMost 100 = .ok (.bipush 46, 2) := dk_16 46 (dk_at dksX3_layMost_4 4 rfl rfl)
theorem dX3_layMost_102 : decode cX3_layMost 102 = .ok (.iconst 4, 1) := dk_7 (dk_at dksX3_layMost_4 6 rfl rfl)
theorem dX3_layMost_103 : decode cX3_layMost 103 = .ok (.iload_n 2, 1) := dk_28 (dk_at dksX3_layMost_4 7 rfl rfl)
theorem dX3_layMost_104 : decode cX3_layMost 104 = .ok (.imul, 1) := dk_104 (dk_at dksX3_layMost_4 8 rfl rfl)
theorem dX3_layMost_105 : decode cX3_layMost 105 = .ok (.iadd, 1) := dk_96 (dk_at dksX3_layMost_4 9 rfl rfl)
theorem dX3_layMost_106 : decode cX3_layMost 106 = .ok (.istore_n 3, 1) := dk_62 (dk_at dksX3_layMost_4 10 rfl rfl)
theorem dX3_layMost_107 : decode cX3_layMost 107 = .ok (.aload_n 0, 1) := dk_42 (dk_at dksX3_layMost_4 11 rfl rfl)
theorem dX3_layMost_108 : decode cX3_layMost 108 = .ok (.getfield 19, 3) := dk_180 0 19 (dk_at dksX3_layMost_4 12 rfl rfl)
theorem dX3_layMost_111 : decode cX3_layMost 111 = .ok (.iload_n 3, 1) := dk_29 (dk_at dksX3_layMost_4 15 rfl rfl)
theorem dX3_layMost_112 : decode cX3_layMost 112 = .ok (.iconst 2, 1) := dk_5 (dk_at dksX3_layMost_4 16 rfl rfl)
theorem dX3_layMost_113 : decode cX3_layMost 113 = .ok (.iadd, 1) := dk_96 (dk_at dksX3_layMost_4 17 rfl rfl)
theorem dX3_layMost_114 : decode cX3_layMost 114 = .ok (.iaload, 1) := dk_46 (dk_at dksX3_layMost_4 18 rfl rfl)
theorem dX3_layMost_115 : decode cX3_layMost 115 = .ok (.istore 4, 2) := dk_54 4 (dk_at dksX3_layMost_4 19 rfl rfl)
theorem dX3_layMost_117 : decode cX3_layMost 117 = .ok (.aload_n 0, 1) := dk_42 (dk_at dksX3_layMost_4 21 rfl rfl)
theorem dX3_layMost_118 : decode cX3_layMost 118 = .ok (.getfield 19, 3) := dk_180 0 19 (dk_at dksX3_layMost_5 0 rfl rfl)
theorem dX3_layMost_121 : decode cX3_layMost 121 = .ok (.iload_n 3, 1) := dk_29 (dk_at dksX3_layMost_5 3 rfl rfl)
theorem dX3_layMost_122 : decode cX3_layMost 122 = .ok (.iconst 3, 1) := dk_6 (dk_at dksX3_layMost_5 4 rfl rfl)
theorem dX3_layMost_123 : decode cX3_layMost 123 = .ok (.iadd, 1) := dk_96 (dk_at dksX3_layMost_5 5 rfl rfl)
theorem dX3_layMost_124 : decode cX3_layMost 124 = .ok (.iaload, 1) := dk_46 (dk_at dksX3_layMost_5 6 rfl rfl)
theorem dX3_layMost_125 : decode cX3_layMost 125 = .ok (.istore 5, 2) := dk_54 5 (dk_at dksX3_layMost_5 7 rfl rfl)
theorem dX3_layMost_127 : decode cX3_layMost 127 = .ok (.aload_n 0, 1) := dk_42 (dk_at dksX3_layMost_5 9 rfl rfl)
theorem dX3_layMost_128 : decode cX3_layMost 128 = .ok (.aload_n 0, 1) := dk_42 (dk_at dksX3_layMost_5 10 rfl rfl)
theorem dX3_layMost_129 : decode cX3_layMost 129 = .ok (.getfield 19, 3) := dk_180 0 19 (dk_at dksX3_layMost_5 11 rfl rfl)
theorem dX3_layMost_132 : decode cX3_layMost 132 = .ok (.iload_n 3, 1) := dk_29 (dk_at dksX3_layMost_5 14 rfl rfl)
theorem dX3_layMost_133 : decode cX3_layMost 133 = .ok (.iaload, 1) := dk_46 (dk_at dksX3_layMost_5 15 rfl rfl)
theorem dX3_layMost_134 : decode cX3_layMost 134 = .ok (.aload_n 0, 1) := dk_42 (dk_at dksX3_layMost_5 16 rfl rfl)
theorem dX3_layMost_135 : decode cX3_layMost 135 = .ok (.getfield 19, 3) := dk_180 0 19 (dk_at dksX3_layMost_5 17 rfl rfl)
theorem dX3_layMost_138 : decode cX3_layMost 138 = .ok (.iload_n 3, 1) := dk_29 (dk_at dksX3_layMost_5 20 rfl rfl)
theorem dX3_layMost_139 : decode cX3_layMost 139 = .ok (.iconst 1, 1) := dk_4 (dk_at dksX3_layMost_5 21 rfl rfl)
theorem dX3_layMost_140 : decode cX3_layMost 140 = .ok (.iadd, 1) := dk_96 (dk_at dksX3_layMost_5 22 rfl rfl)
theorem dX3_layMost_141 : decode cX3_layMost 141 = .ok (.iaload, 1) := dk_46 (dk_at dksX3_layMost_5 23 rfl rfl)
theorem dX3_layMost_142 : decode cX3_layMost 142 = .ok (.iload 4, 2) := dk_21 4 (dk_at dksX3_layMost_6 0 rfl rfl)
theorem dX3_layMost_144 : decode cX3_layMost 144 = .ok (.iload 5, 2) := dk_21 5 (dk_at dksX3_layMost_6 2 rfl rfl)
theorem dX3_layMost_146 : decode cX3_layMost 146 = .ok (.imul, 1) := dk_104 (dk_at dksX3_layMost_6 4 rfl rfl)
theorem dX3_layMost_147 : decode cX3_layMost 147 = .ok (.iload 4, 2) := dk_21 4 (dk_at dksX3_layMost_6 5 rfl rfl)
theorem dX3_layMost_149 : decode cX3_layMost 149 = .ok (.iadd, 1) := dk_96 (dk_at dksX3_layMost_6 7 rfl rfl)
theorem dX3_layMost_150 : decode cX3_layMost 150 = .ok (.iconst 1, 1) := dk_4 (dk_at dksX3_layMost_6 8 rfl rfl)
theorem dX3_layMost_151 : decode cX3_layMost 151 = .ok (.isub, 1) := dk_100 (dk_at dksX3_layMost_6 9 rfl rfl)
theorem dX3_layMost_152 : decode cX3_layMost 152 = .ok (.invokevirtual 227, 3) := dk_182 0 227 (dk_at dksX3_layMost_6 10 rfl rfl)
theorem dX3_layMost_155 : decode cX3_layMost 155 = .ok (.aload_n 0, 1) := dk_42 (dk_at dksX3_layMost_6 13 rfl rfl)
theorem dX3_layMost_156 : decode cX3_layMost 156 = .ok (.aload_n 0, 1) := dk_42 (dk_at dksX3_layMost_6 14 rfl rfl)
theorem dX3_layMost_157 : decode cX3_layMost 157 = .ok (.getfield 19, 3) := dk_180 0 19 (dk_at dksX3_layMost_6 15 rfl rfl)
theorem dX3_layMost_160 : decode cX3_layMost 160 = .ok (.iload_n 3, 1) := dk_29 (dk_at dksX3_layMost_6 18 rfl rfl)
theorem dX3_layMost_161 : decode cX3_layMost 161 = .ok (.iconst 1, 1) := dk_4 (dk_at dksX3_layMost_6 19 rfl rfl)
theorem dX3_layMost_162 : decode cX3_layMost 162 = .ok (.iadd, 1) := dk_96 (dk_at dksX3_layMost_6 20 rfl rfl)
theorem dX3_layMost_163 : decode cX3_layMost 163 = .ok (.iaload, 1) := dk_46 (dk_at dksX3_layMost_6 21 rfl rfl)
theorem dX3_layMost_164 : decode cX3_layMost 164 = .ok (.aload_n 0, 1) := dk_42 (dk_at dksX3_layMost_6 22 rfl rfl)
theorem dX3_layMost_165 : decode cX3_layMost 165 = .ok (.getfield 19, 3) := dk_180 0 19 (dk_at dksX3_layMost_7 0 rfl rfl)
theorem dX3_layMost_168 : decode cX3_layMost 168 = .ok (.iload_n 3, 1) := dk_29 (dk_at dksX3_layMost_7 3 rfl rfl)
theorem dX3_layMost_169 : decode cX3_layMost 169 = .ok (.iaload, 1) := dk_46 (dk_at dksX3_layMost_7 4 rfl rfl)
theorem dX3_layMost_170 : decode cX3_layMost 170 = .ok (.iload 4, 2) := dk_21 4 (dk_at dksX3_layMost_7 5 rfl rfl)
theorem dX3_layMost_172 : decode cX3_layMost 172 = .ok (.ineg, 1) := dk_116 (dk_at dksX3_layMost_7 7 rfl rfl)
theorem dX3_layMost_173 : decode cX3_layMost 173 = .ok (.iload 5, 2) := dk_21 5 (dk_at dksX3_layMost_7 8 rfl rfl)
theorem dX3_layMost_175 : decode cX3_layMost 175 = .ok (.imul, 1) := dk_104 (dk_at dksX3_layMost_7 10 rfl rfl)
theorem dX3_layMost_176 : decode cX3_layMost 176 = .ok (.invokevirtual 227, 3) := dk_182 0 227 (dk_at dksX3_layMost_7 11 rfl rfl)
theorem dX3_layMost_179 : decode cX3_layMost 179 = .ok (.iinc 2 1, 3) := dk_132 2 1 (dk_at dksX3_layMost_7 14 rfl rfl)
theorem dX3_layMost_182 : decode cX3_layMost 182 = .ok (.goto (-93), 3) := dk_167 255 163 (dk_at dksX3_layMost_7 17 rfl rfl)
theorem dX3_layMost_185 : decode cX3_layMost 185 = .ok (.iconst 0, 1) := dk_3 (dk_at dksX3_layMost_7 20 rfl rfl)
theorem dX3_layMost_186 : decode cX3_layMost 186 = .ok (.istore_n 2, 1) := dk_61 (dk_at dksX3_layMost_7 21 rfl rfl)
theorem dX3_layMost_187 : decode cX3_layMost 187 = .ok (.iload_n 2, 1) := dk_28 (dk_at dksX3_layMost_7 22 rfl rfl)
theorem dX3_layMost_188 : decode cX3_layMost 188 = .ok (.bipush 7, 2) := dk_16 7 (dk_at dksX3_layMost_8 0 rfl rfl)
theorem dX3_layMost_190 : decode cX3_layMost 190 = .ok (.if_icmp .ge 103, 3) := dk_162 0 103 (dk_at dksX3_layMost_8 2 rfl rfl)
theorem dX3_layMost_193 : decode cX3_layMost 193 = .ok (.iconst 0, 1) := dk_3 (dk_at dksX3_layMost_8 5 rfl rfl)
theorem dX3_layMost_194 : decode cX3_layMost 194 = .ok (.istore_n 3, 1) := dk_62 (dk_at dksX3_layMost_8 6 rfl rfl)
theorem dX3_layMost_195 : decode cX3_layMost 195 = .ok (.iload_n 3, 1) := dk_29 (dk_at dksX3_layMost_8 7 rfl rfl)
theorem dX3_layMost_196 : decode cX3_layMost 196 = .ok (.bipush 7, 2) := dk_16 7 (dk_at dksX3_layMost_8 8 rfl rfl)
theorem dX3_layMost_198 : decode cX3_layMost 198 = .ok (.if_icmp .ge 89, 3) := dk_162 0 89 (dk_at dksX3_layMost_8 10 rfl rfl)
theorem dX3_layMost_201 : decode cX3_layMost 201 = .ok (.iconst 0, 1) := dk_3 (dk_at dksX3_layMost_8 13 rfl rfl)
theorem dX3_layMost_202 : decode cX3_layMost 202 = .ok (.istore 4, 2) := dk_54 4 (dk_at dksX3_layMost_8 14 rfl rfl)
theorem dX3_layMost_204 : decode cX3_layMost 204 = .ok (.iload 4, 2) := dk_21 4 (dk_at dksX3_layMost_8 16 rfl rfl)
theorem dX3_layMost_206 : decode cX3_layMost 206 = .ok (.bipush 7, 2) := dk_16 7 (dk_at dksX3_layMost_8 18 rfl rfl)
theorem dX3_layMost_208 : decode cX3_layMost 208 = .ok (.if_icmp .ge 73, 3) := dk_162 0 73 (dk_at dksX3_layMost_8 20 rfl rfl)
theorem dX3_layMost_211 : decode cX3_layMost 211 = .ok (.aload_n 0, 1) := dk_42 (dk_at dksX3_layMost_8 23 rfl rfl)
theorem dX3_layMost_212 : decode cX3_layMost 212 = .ok (.getfield 34, 3) := dk_180 0 34 (dk_at dksX3_layMost_9 0 rfl rfl)
theorem dX3_layMost_215 : decode cX3_layMost 215 = .ok (.bipush 7, 2) := dk_16 7 (dk_at dksX3_layMost_9 3 rfl rfl)
theorem dX3_layMost_217 : decode cX3_layMost 217 = .ok (.iload_n 3, 1) := dk_29 (dk_at dksX3_layMost_9 5 rfl rfl)
theorem dX3_layMost_218 : decode cX3_layMost 218 = .ok (.imul, 1) := dk_104 (dk_at dksX3_layMost_9 6 rfl rfl)
theorem dX3_layMost_219 : decode cX3_layMost 219 = .ok (.iload_n 2, 1) := dk_28 (dk_at dksX3_layMost_9 7 rfl rfl)
theorem dX3_layMost_220 : decode cX3_layMost 220 = .ok (.iadd, 1) := dk_96 (dk_at dksX3_layMost_9 8 rfl rfl)
theorem dX3_layMost_221 : decode cX3_layMost 221 = .ok (.iaload, 1) := dk_46 (dk_at dksX3_layMost_9 9 rfl rfl)
theorem dX3_layMost_222 : decode cX3_layMost 222 = .ok (.ldc 226, 2) := dk_18 226 (dk_at dksX3_layMost_9 10 rfl rfl)
theorem dX3_layMost_224 : decode cX3_layMost 224 = .ok (.if_icmp .ge 51, 3) := dk_162 0 51 (dk_at dksX3_layMost_9 12 rfl rfl)
theorem dX3_layMost_227 : decode cX3_layMost 227 = .ok (.aload_n 0, 1) := dk_42 (dk_at dksX3_layMost_9 15 rfl rfl)
theorem dX3_layMost_228 : decode cX3_layMost 228 = .ok (.getfield 34, 3) := dk_180 0 34 (dk_at dksX3_layMost_9 16 rfl rfl)
theorem dX3_layMost_231 : decode cX3_layMost 231 = .ok (.bipush 7, 2) := dk_16 7 (dk_at dksX3_layMost_9 19 rfl rfl)
theorem dX3_layMost_233 : decode cX3_layMost 233 = .ok (.iload_n 2, 1) := dk_28 (dk_at dksX3_layMost_9 21 rfl rfl)
theorem dX3_layMost_234 : decode cX3_layMost 234 = .ok (.imul, 1) := dk_104 (dk_at dksX3_layMost_9 22 rfl rfl)
theorem dX3_layMost_235 : decode cX3_layMost 235 = .ok (.iload 4, 2) := dk_21 4 (dk_at dksX3_layMost_10 0 rfl rfl)
theorem dX3_layMost_237 : decode cX3_layMost 237 = .ok (.iadd, 1) := dk_96 (dk_at dksX3_layMost_10 2 rfl rfl)
theorem dX3_layMost_238 : decode cX3_layMost 238 = .ok (.iaload, 1) := dk_46 (dk_at dksX3_layMost_10 3 rfl rfl)
theorem dX3_layMost_239 : decode cX3_layMost 239 = .ok (.ldc 226, 2) := dk_18 226 (dk_at dksX3_layMost_10 4 rfl rfl)
theorem dX3_layMost_241 : decode cX3_layMost 241 = .ok (.if_icmp .ge 34, 3) := dk_162 0 34 (dk_at dksX3_layMost_10 6 rfl rfl)
theorem dX3_layMost_244 : decode cX3_layMost 244 = .ok (.aload_n 0, 1) := dk_42 (dk_at dksX3_layMost_10 9 rfl rfl)
theorem dX3_layMost_245 : decode cX3_layMost 245 = .ok (.iload_n 3, 1) := dk_29 (dk_at dksX3_layMost_10 10 rfl rfl)
theorem dX3_layMost_246 : decode cX3_layMost 246 = .ok (.iload 4, 2) := dk_21 4 (dk_at dksX3_layMost_10 11 rfl rfl)
theorem dX3_layMost_248 : decode cX3_layMost 248 = .ok (.aload_n 0, 1) := dk_42 (dk_at dksX3_layMost_10 13 rfl rfl)
theorem dX3_layMost_249 : decode cX3_layMost 249 = .ok (.getfield 34, 3) := dk_180 0 34 (dk_at dksX3_layMost_10 14 rfl rfl)
theorem dX3_layMost_252 : decode cX3_layMost 252 = .ok (.bipush 7, 2) := dk_16 7 (dk_at dksX3_layMost_10 17 rfl rfl)
theorem dX3_layMost_254 : decode cX3_layMost 254 = .ok (.iload_n 3, 1) := dk_29 (dk_at dksX3_layMost_10 19 rfl rfl)
theorem dX3_layMost_255 : decode cX3_layMost 255 = .ok (.imul, 1) := dk_104 (dk_at dksX3_layMost_10 20 rfl rfl)
theorem dX3_layMost_256 : decode cX3_layMost 256 = .ok (.iload_n 2, 1) := dk_28 (dk_at dksX3_layMost_10 21 rfl rfl)
theorem dX3_layMost_257 : decode cX3_layMost 257 = .ok (.iadd, 1) := dk_96 (dk_at dksX3_layMost_10 22 rfl rfl)
theorem dX3_layMost_258 : decode cX3_layMost 258 = .ok (.iaload, 1) := dk_46 (dk_at dksX3_layMost_10 23 rfl rfl)
theorem dX3_layMost_259 : decode cX3_layMost 259 = .ok (.aload_n 0, 1) := dk_42 (dk_at dksX3_layMost_11 0 rfl rfl)
theorem dX3_layMost_260 : decode cX3_layMost 260 = .ok (.getfield 34, 3) := dk_180 0 34 (dk_at dksX3_layMost_11 1 rfl rfl)
theorem dX3_layMost_263 : decode cX3_layMost 263 = .ok (.bipush 7, 2) := dk_16 7 (dk_at dksX3_layMost_11 4 rfl rfl)
theorem dX3_layMost_265 : decode cX3_layMost 265 = .ok (.iload_n 2, 1) := dk_28 (dk_at dksX3_layMost_11 6 rfl rfl)
theorem dX3_layMost_266 : decode cX3_layMost 266 = .ok (.imul, 1) := dk_104 (dk_at dksX3_layMost_11 7 rfl rfl)
theorem dX3_layMost_267 : decode cX3_layMost 267 = .ok (.iload 4, 2) := dk_21 4 (dk_at dksX3_layMost_11 8 rfl rfl)
theorem dX3_layMost_269 : decode cX3_layMost 269 = .ok (.iadd, 1) := dk_96 (dk_at dksX3_layMost_11 10 rfl rfl)
theorem dX3_layMost_270 : decode cX3_layMost 270 = .ok (.iaload, 1) := dk_46 (dk_at dksX3_layMost_11 11 rfl rfl)
theorem dX3_layMost_271 : decode cX3_layMost 271 = .ok (.iadd, 1) := dk_96 (dk_at dksX3_layMost_11 12 rfl rfl)
theorem dX3_layMost_272 : decode cX3_layMost 272 = .ok (.invokevirtual 227, 3) := dk_182 0 227 (dk_at dksX3_layMost_11 13 rfl rfl)
theorem dX3_layMost_275 : decode cX3_layMost 275 = .ok (.iinc 4 1, 3) := dk_132 4 1 (dk_at dksX3_layMost_11 16 rfl rfl)
theorem dX3_layMost_278 : decode cX3_layMost 278 = .ok (.goto (-74), 3) := dk_167 255 182 (dk_at dksX3_layMost_11 19 rfl rfl)
theorem dX3_layMost_281 : decode cX3_layMost 281 = .ok (.iinc 3 1, 3) := dk_132 3 1 (dk_at dksX3_layMost_12 0 rfl rfl)
theorem dX3_layMost_284 : decode cX3_layMost 284 = .ok (.goto (-89), 3) := dk_167 255 167 (dk_at dksX3_layMost_12 3 rfl rfl)
theorem dX3_layMost_287 : decode cX3_layMost 287 = .ok (.iinc 2 1, 3) := dk_132 2 1 (dk_at dksX3_layMost_12 6 rfl rfl)
theorem dX3_layMost_290 : decode cX3_layMost 290 = .ok (.goto (-103), 3) := dk_167 255 153 (dk_at dksX3_layMost_12 9 rfl rfl)
theorem dX3_layMost_293 : decode cX3_layMost 293 = .ok (.iconst 1, 1) := dk_4 (dk_at dksX3_layMost_12 12 rfl rfl)
theorem dX3_layMost_294 : decode cX3_layMost 294 = .ok (.istore_n 2, 1) := dk_61 (dk_at dksX3_layMost_12 13 rfl rfl)
theorem dX3_layMost_295 : decode cX3_layMost 295 = .ok (.iconst 0, 1) := dk_3 (dk_at dksX3_layMost_12 14 rfl rfl)
theorem dX3_layMost_296 : decode cX3_layMost 296 = .ok (.istore_n 3, 1) := dk_62 (dk_at dksX3_layMost_12 15 rfl rfl)
theorem dX3_layMost_297 : decode cX3_layMost 297 = .ok (.iload_n 3, 1) := dk_29 (dk_at dksX3_layMost_12 16 rfl rfl)
theorem dX3_layMost_298 : decode cX3_layMost 298 = .ok (.bipush 7, 2) := dk_16 7 (dk_at dksX3_layMost_12 17 rfl rfl)
theorem dX3_layMost_300 : decode cX3_layMost 300 = .ok (.if_icmp .ge 31, 3) := dk_162 0 31 (dk_at dksX3_layMost_12 19 rfl rfl)
theorem dX3_layMost_303 : decode cX3_layMost 303 = .ok (.iload_n 2, 1) := dk_28 (dk_at dksX3_layMost_12 22 rfl rfl)
theorem dX3_layMost_304 : decode cX3_layMost 304 = .ok (.ifCond .eq 19, 3) := dk_153 0 19 (dk_at dksX3_layMost_13 0 rfl rfl)
theorem dX3_layMost_307 : decode cX3_layMost 307 = .ok (.aload_n 0, 1) := dk_42 (dk_at dksX3_layMost_13 3 rfl rfl)
theorem dX3_layMost_308 : decode cX3_layMost 308 = .ok (.getfield 34, 3) := dk_180 0 34 (dk_at dksX3_layMost_13 4 rfl rfl)
theorem dX3_layMost_311 : decode cX3_layMost 311 = .ok (.bipush 8, 2) := dk_16 8 (dk_at dksX3_layMost_13 7 rfl rfl)
theorem dX3_layMost_313 : decode cX3_layMost 313 = .ok (.iload_n 3, 1) := dk_29 (dk_at dksX3_layMost_13 9 rfl rfl)
theorem dX3_layMost_314 : decode cX3_layMost 314 = .ok (.imul, 1) := dk_104 (dk_at dksX3_layMost_13 10 rfl rfl)
theorem dX3_layMost_315 : decode cX3_layMost 315 = .ok (.iaload, 1) := dk_46 (dk_at dksX3_layMost_13 11 rfl rfl)
theorem dX3_layMost_316 : decode cX3_layMost 316 = .ok (.ifCond .lt 7, 3) := dk_155 0 7 (dk_at dksX3_layMost_13 12 rfl rfl)
theorem dX3_layMost_319 : decode cX3_layMost 319 = .ok (.iconst 1, 1) := dk_4 (dk_at dksX3_layMost_13 15 rfl rfl)
theorem dX3_layMost_320 : decode cX3_layMost 320 = .ok (.goto 4, 3) := dk_167 0 4 (dk_at dksX3_layMost_13 16 rfl rfl)
theorem dX3_layMost_323 : decode cX3_layMost 323 = .ok (.iconst 0, 1) := dk_3 (dk_at dksX3_layMost_13 19 rfl rfl)
theorem dX3_layMost_324 : decode cX3_layMost 324 = .ok (.istore_n 2, 1) := dk_61 (dk_at dksX3_layMost_13 20 rfl rfl)
theorem dX3_layMost_325 : decode cX3_layMost 325 = .ok (.iinc 3 1, 3) := dk_132 3 1 (dk_at dksX3_layMost_13 21 rfl rfl)
theorem dX3_layMost_328 : decode cX3_layMost 328 = .ok (.goto (-31), 3) := dk_167 255 225 (dk_at dksX3_layMost_14 0 rfl rfl)
theorem dX3_layMost_331 : decode cX3_layMost 331 = .ok (.iload_n 2, 1) := dk_28 (dk_at dksX3_layMost_14 3 rfl rfl)
theorem dX3_layMost_332 : decode cX3_layMost 332 = .ok (.ireturn, 1) := dk_172 (dk_at dksX3_layMost_14 4 rfl rfl)
abbrev cX3_atMost : ByteArray := prog_16_method_49_code
def yX3_atMost : MethodName := ⟨RX3, "atMost", "(III)V"⟩
def dkwX3_atMost_1 : List UInt8 := [162, 0, 7, 29, 167, 0, 14, 42, 180, 0, 34, 16, 7, 27, 104, 28, 96, 46, 79, 177]
abbrev dktX3_atMost_1 : List UInt8 := dkwX3_atMost_1 ++ []
def dkwX3_atMost_0 : List UInt8 := [42, 180, 0, 34, 16, 7, 27, 104, 28, 96, 29, 42, 180, 0, 34, 16, 7, 27, 104, 28, 96, 46]
abbrev dktX3_atMost_0 : List UInt8 := dkwX3_atMost_0 ++ dktX3_atMost_1
theorem dksX3_atMost_0 : cX3_atMost.data.toList.drop 0 = dktX3_atMost_0 := by decide +kernel
theorem dksX3_atMost_1 : cX3_atMost.data.toList.drop 22 = dktX3_atMost_1 := dk_seg dksX3_atMost_0 22 rfl rfl
theorem dX3_atMost_0 : decode cX3_atMost 0 = .ok (.aload_n 0, 1) := dk_42 (dk_at dksX3_atMost_0 0 rfl rfl)
theorem dX3_atMost_1 : decode cX3_atMost 1 = .ok (.getfield 34, 3) := dk_180 0 34 (dk_at dksX3_atMost_0 1 rfl rfl)
theorem dX3_atMost_4 : decode cX3_atMost 4 = .ok (.bipush 7, 2) := dk_16 7 (dk_at dksX3_atMost_0 4 rfl rfl)
theorem dX3_atMost_6 : decode cX3_atMost 6 = .ok (.iload_n 1, 1) := dk_27 (dk_at dksX3_atMost_0 6 rfl rfl)
theorem dX3_atMost_7 : decode cX3_atMost 7 = .ok (.imul, 1) := dk_104 (dk_at dksX3_atMost_0 7 rfl rfl)
theorem dX3_atMost_8 : decode cX3_atMost 8 = .ok (.iload_n 2, 1) := dk_28 (dk_at dksX3_atMost_0 8 rfl rfl)
theorem dX3_atMost_9 : decode cX3_atMost 9 = .ok (.iadd, 1) := dk_96 (dk_at dksX3_atMost_0 9 rfl rfl)
theorem dX3_atMost_10 : decode cX3_atMost 10 = .ok (.iload_n 3, 1) := dk_29 (dk_at dksX3_atMost_0 10 rfl rfl)
theorem dX3_atMost_11 : decode cX3_atMost 11 = .ok (.aload_n 0, 1) := dk_42 (dk_at dksX3_atMost_0 11 rfl rfl)
theorem dX3_atMost_12 : decode cX3_atMost 12 = .ok (.getfield 34, 3) := dk_180 0 34 (dk_at dksX3_atMost_0 12 rfl rfl)
theorem dX3_atMost_15 : decode cX3_atMost 15 = .ok (.bipush 7, 2) := dk_16 7 (dk_at dksX3_atMost_0 15 rfl rfl)
theorem dX3_atMost_17 : decode cX3_atMost 17 = .ok (.iload_n 1, 1) := dk_27 (dk_at dksX3_atMost_0 17 rfl rfl)
theorem dX3_atMost_18 : decode cX3_atMost 18 = .ok (.imul, 1) := dk_104 (dk_at dksX3_atMost_0 18 rfl rfl)
theorem dX3_atMost_19 : decode cX3_atMost 19 = .ok (.iload_n 2, 1) := dk_28 (dk_at dksX3_atMost_0 19 rfl rfl)
theorem dX3_atMost_20 : decode cX3_atMost 20 = .ok (.iadd, 1) := dk_96 (dk_at dksX3_atMost_0 20 rfl rfl)
theorem dX3_atMost_21 : decode cX3_atMost 21 = .ok (.iaload, 1) := dk_46 (dk_at dksX3_atMost_0 21 rfl rfl)
theorem dX3_atMost_22 : decode cX3_atMost 22 = .ok (.if_icmp .ge 7, 3) := dk_162 0 7 (dk_at dksX3_atMost_1 0 rfl rfl)
theorem dX3_atMost_25 : decode cX3_atMost 25 = .ok (.iload_n 3, 1) := dk_29 (dk_at dksX3_atMost_1 3 rfl rfl)
theorem dX3_atMost_26 : decode cX3_atMost 26 = .ok (.goto 14, 3) := dk_167 0 14 (dk_at dksX3_atMost_1 4 rfl rfl)
theorem dX3_atMost_29 : decode cX3_atMost 29 = .ok (.aload_n 0, 1) := dk_42 (dk_at dksX3_atMost_1 7 rfl rfl)
theorem dX3_atMost_30 : decode cX3_atMost 30 = .ok (.getfield 34, 3) := dk_180 0 34 (dk_at dksX3_atMost_1 8 rfl rfl)
theorem dX3_atMost_33 : decode cX3_atMost 33 = .ok (.bipush 7, 2) := dk_16 7 (dk_at dksX3_atMost_1 11 rfl rfl)
theorem dX3_atMost_35 : decode cX3_atMost 35 = .ok (.iload_n 1, 1) := dk_27 (dk_at dksX3_atMost_1 13 rfl rfl)
theorem dX3_atMost_36 : decode cX3_atMost 36 = .ok (.imul, 1) := dk_104 (dk_at dksX3_atMost_1 14 rfl rfl)
theorem dX3_atMost_37 : decode cX3_atMost 37 = .ok (.iload_n 2, 1) := dk_28 (dk_at dksX3_atMost_1 15 rfl rfl)
theorem dX3_atMost_38 : decode cX3_atMost 38 = .ok (.iadd, 1) := dk_96 (dk_at dksX3_atMost_1 16 rfl rfl)
theorem dX3_atMost_39 : decode cX3_atMost 39 = .ok (.iaload, 1) := dk_46 (dk_at dksX3_atMost_1 17 rfl rfl)
theorem dX3_atMost_40 : decode cX3_atMost 40 = .ok (.iastore, 1) := dk_79 (dk_at dksX3_atMost_1 18 rfl rfl)
theorem dX3_atMost_41 : decode cX3_atMost 41 = .ok (.return_, 1) := dk_177 (dk_at dksX3_atMost_1 19 rfl rfl)
abbrev cX3_widest : ByteArray := prog_16_method_52_code
def yX3_widest : MethodName := ⟨RX3, "widest", "()I"⟩
def dkwX3_widest_5 : List UInt8 := [167, 255, 184, 132, 3, 1, 167, 255, 163, 27, 172]
abbrev dktX3_widest_5 : List UInt8 := dkwX3_widest_5 ++ []
def dkwX3_widest_4 : List UInt8 := [21, 4, 96, 167, 0, 4, 27, 60, 21, 5, 28, 164, 0, 8, 21, 5, 167, 0, 4, 28, 61, 132, 4, 1]
abbrev dktX3_widest_4 : List UInt8 := dkwX3_widest_4 ++ dktX3_widest_5
def dkwX3_widest_3 : List UInt8 := [180, 0, 34, 16, 7, 21, 4, 104, 29, 96, 46, 96, 54, 5, 21, 5, 28, 164, 0, 13, 16, 6, 29, 104]
abbrev dktX3_widest_3 : List UInt8 := dkwX3_widest_3 ++ dktX3_widest_4
def dkwX3_widest_2 : List UInt8 := [21, 4, 42, 180, 0, 19, 7, 46, 162, 0, 67, 42, 180, 0, 34, 16, 7, 29, 104, 21, 4, 96, 46, 42]
abbrev dktX3_widest_2 : List UInt8 := dkwX3_widest_2 ++ dktX3_widest_3
def dkwX3_widest_1 : List UInt8 := [172, 18, 86, 60, 2, 61, 3, 62, 29, 42, 180, 0, 19, 7, 46, 162, 0, 89, 29, 4, 96, 54, 4]
abbrev dktX3_widest_1 : List UInt8 := dkwX3_widest_1 ++ dktX3_widest_2
def dkwX3_widest_0 : List UInt8 := [42, 3, 181, 0, 50, 42, 182, 0, 192, 154, 0, 6, 18, 196, 172, 42, 182, 0, 231, 154, 0, 6, 18, 86]
abbrev dktX3_widest_0 : List UInt8 := dkwX3_widest_0 ++ dktX3_widest_1
theorem dksX3_widest_0 : cX3_widest.data.toList.drop 0 = dktX3_widest_0 := by decide +kernel
theorem dksX3_widest_1 : cX3_widest.data.toList.drop 24 = dktX3_widest_1 := dk_seg dksX3_widest_0 24 rfl rfl
theorem dksX3_widest_2 : cX3_widest.data.toList.drop 47 = dktX3_widest_2 := dk_seg dksX3_widest_1 23 rfl rfl
theorem dksX3_widest_3 : cX3_widest.data.toList.drop 71 = dktX3_widest_3 := dk_seg dksX3_widest_2 24 rfl rfl
theorem dksX3_widest_4 : cX3_widest.data.toList.drop 95 = dktX3_widest_4 := dk_seg dksX3_widest_3 24 rfl rfl
theorem dksX3_widest_5 : cX3_widest.data.toList.drop 119 = dktX3_widest_5 := dk_seg dksX3_widest_4 24 rfl rfl
theorem dX3_widest_0 : decode cX3_widest 0 = .ok (.aload_n 0, 1) := dk_42 (dk_at dksX3_widest_0 0 rfl rfl)
theorem dX3_widest_1 : decode cX3_widest 1 = .ok (.iconst 0, 1) := dk_3 (dk_at dksX3_widest_0 1 rfl rfl)
theorem dX3_widest_2 : decode cX3_widest 2 = .ok (.putfield 50, 3) := dk_181 0 50 (dk_at dksX3_widest_0 2 rfl rfl)
theorem dX3_widest_5 : decode cX3_widest 5 = .ok (.aload_n 0, 1) := dk_42 (dk_at dksX3_widest_0 5 rfl rfl)
theorem dX3_widest_6 : decode cX3_widest 6 = .ok (.invokevirtual 192, 3) := dk_182 0 192 (dk_at dksX3_widest_0 6 rfl rfl)
theorem dX3_widest_9 : decode cX3_widest 9 = .ok (.ifCond .ne 6, 3) := dk_154 0 6 (dk_at dksX3_widest_0 9 rfl rfl)
theorem dX3_widest_12 : decode cX3_widest 12 = .ok (.ldc 196, 2) := dk_18 196 (dk_at dksX3_widest_0 12 rfl rfl)
theorem dX3_widest_14 : decode cX3_widest 14 = .ok (.ireturn, 1) := dk_172 (dk_at dksX3_widest_0 14 rfl rfl)
theorem dX3_widest_15 : decode cX3_widest 15 = .ok (.aload_n 0, 1) := dk_42 (dk_at dksX3_widest_0 15 rfl rfl)
theorem dX3_widest_16 : decode cX3_widest 16 = .ok (.invokevirtual 231, 3) := dk_182 0 231 (dk_at dksX3_widest_0 16 rfl rfl)
theorem dX3_widest_19 : decode cX3_widest 19 = .ok (.ifCond .ne 6, 3) := dk_154 0 6 (dk_at dksX3_widest_0 19 rfl rfl)
theorem dX3_widest_22 : decode cX3_widest 22 = .ok (.ldc 86, 2) := dk_18 86 (dk_at dksX3_widest_0 22 rfl rfl)
theorem dX3_widest_24 : decode cX3_widest 24 = .ok (.ireturn, 1) := dk_172 (dk_at dksX3_widest_1 0 rfl rfl)
theorem dX3_widest_25 : decode cX3_widest 25 = .ok (.ldc 86, 2) := dk_18 86 (dk_at dksX3_widest_1 1 rfl rfl)
theorem dX3_widest_27 : decode cX3_widest 27 = .ok (.istore_n 1, 1) := dk_60 (dk_at dksX3_widest_1 3 rfl rfl)
theorem dX3_widest_28 : decode cX3_widest 28 = .ok (.iconst (-1), 1) := dk_2 (dk_at dksX3_widest_1 4 rfl rfl)
theorem dX3_widest_29 : decode cX3_widest 29 = .ok (.istore_n 2, 1) := dk_61 (dk_at dksX3_widest_1 5 rfl rfl)
theorem dX3_widest_30 : decode cX3_widest 30 = .ok (.iconst 0, 1) := dk_3 (dk_at dksX3_widest_1 6 rfl rfl)
theorem dX3_widest_31 : decode cX3_widest 31 = .ok (.istore_n 3, 1) := dk_62 (dk_at dksX3_widest_1 7 rfl rfl)
theorem dX3_widest_32 : decode cX3_widest 32 = .ok (.iload_n 3, 1) := dk_29 (dk_at dksX3_widest_1 8 rfl rfl)
theorem dX3_widest_33 : decode cX3_widest 33 = .ok (.aload_n 0, 1) := dk_42 (dk_at dksX3_widest_1 9 rfl rfl)
theorem dX3_widest_34 : decode cX3_widest 34 = .ok (.getfield 19, 3) := dk_180 0 19 (dk_at dksX3_widest_1 10 rfl rfl)
theorem dX3_widest_37 : decode cX3_widest 37 = .ok (.iconst 4, 1) := dk_7 (dk_at dksX3_widest_1 13 rfl rfl)
theorem dX3_widest_38 : decode cX3_widest 38 = .ok (.iaload, 1) := dk_46 (dk_at dksX3_widest_1 14 rfl rfl)
theorem dX3_widest_39 : decode cX3_widest 39 = .ok (.if_icmp .ge 89, 3) := dk_162 0 89 (dk_at dksX3_widest_1 15 rfl rfl)
theorem dX3_widest_42 : decode cX3_widest 42 = .ok (.iload_n 3, 1) := dk_29 (dk_at dksX3_widest_1 18 rfl rfl)
theorem dX3_widest_43 : decode cX3_widest 43 = .ok (.iconst 1, 1) := dk_4 (dk_at dksX3_widest_1 19 rfl rfl)
theorem dX3_widest_44 : decode cX3_widest 44 = .ok (.iadd, 1) := dk_96 (dk_at dksX3_widest_1 20 rfl rfl)
theorem dX3_widest_45 : decode cX3_widest 45 = .ok (.istore 4, 2) := dk_54 4 (dk_at dksX3_widest_1 21 rfl rfl)
theorem dX3_widest_47 : decode cX3_widest 47 = .ok (.iload 4, 2) := dk_21 4 (dk_at dksX3_widest_2 0 rfl rfl)
theorem dX3_widest_49 : decode cX3_widest 49 = .ok (.aload_n 0, 1) := dk_42 (dk_at dksX3_widest_2 2 rfl rfl)
theorem dX3_widest_50 : decode cX3_widest 50 = .ok (.getfield 19, 3) := dk_180 0 19 (dk_at dksX3_widest_2 3 rfl rfl)
theorem dX3_widest_53 : decode cX3_widest 53 = .ok (.iconst 4, 1) := dk_7 (dk_at dksX3_widest_2 6 rfl rfl)
theorem dX3_widest_54 : decode cX3_widest 54 = .ok (.iaload, 1) := dk_46 (dk_at dksX3_widest_2 7 rfl rfl)
theorem dX3_widest_55 : decode cX3_widest 55 = .ok (.if_icmp .ge 67, 3) := dk_162 0 67 (dk_at dksX3_widest_2 8 rfl rfl)
theorem dX3_widest_58 : decode cX3_widest 58 = .ok (.aload_n 0, 1) := dk_42 (dk_at dksX3_widest_2 11 rfl rfl)
theorem dX3_widest_59 : decode cX3_widest 59 = .ok (.getfield 34, 3) := dk_180 0 34 (dk_at dksX3_widest_2 12 rfl rfl)
theorem dX3_widest_62 : decode cX3_widest 62 = .ok (.bipush 7, 2) := dk_16 7 (dk_at dksX3_widest_2 15 rfl rfl)
theorem dX3_widest_64 : decode cX3_widest 64 = .ok (.iload_n 3, 1) := dk_29 (dk_at dksX3_widest_2 17 rfl rfl)
theorem dX3_widest_65 : decode cX3_widest 65 = .ok (.imul, 1) := dk_104 (dk_at dksX3_widest_2 18 rfl rfl)
theorem dX3_widest_66 : decode cX3_widest 66 = .ok (.iload 4, 2) := dk_21 4 (dk_at dksX3_widest_2 19 rfl rfl)
theorem dX3_widest_68 : decode cX3_widest 68 = .ok (.iadd, 1) := dk_96 (dk_at dksX3_widest_2 21 rfl rfl)
theorem dX3_widest_69 : decode cX3_widest 69 = .ok (.iaload, 1) := dk_46 (dk_at dksX3_widest_2 22 rfl rfl)
theorem dX3_widest_70 : decode cX3_widest 70 = .ok (.aload_n 0, 1) := dk_42 (dk_at dksX3_widest_2 23 rfl rfl)
theorem dX3_widest_71 : decode cX3_widest 71 = .ok (.getfield 34, 3) := dk_180 0 34 (dk_at dksX3_widest_3 0 rfl rfl)
theorem dX3_widest_74 : decode cX3_widest 74 = .ok (.bipush 7, 2) := dk_16 7 (dk_at dksX3_widest_3 3 rfl rfl)
theorem dX3_widest_76 : decode cX3_widest 76 = .ok (.iload 4, 2) := dk_21 4 (dk_at dksX3_widest_3 5 rfl rfl)
theorem dX3_widest_78 : decode cX3_widest 78 = .ok (.imul, 1) := dk_104 (dk_at dksX3_widest_3 7 rfl rfl)
theorem dX3_widest_79 : decode cX3_widest 79 = .ok (.iload_n 3, 1) := dk_29 (dk_at dksX3_widest_3 8 rfl rfl)
theorem dX3_widest_80 : decode cX3_widest 80 = .ok (.iadd, 1) := dk_96 (dk_at dksX3_widest_3 9 rfl rfl)
theorem dX3_widest_81 : decode cX3_widest 81 = .ok (.iaload, 1) := dk_46 (dk_at dksX3_widest_3 10 rfl rfl)
theorem dX3_widest_82 : decode cX3_widest 82 = .ok (.iadd, 1) := dk_96 (dk_at dksX3_widest_3 11 rfl rfl)
theorem dX3_widest_83 : decode cX3_widest 83 = .ok (.istore 5, 2) := dk_54 5 (dk_at dksX3_widest_3 12 rfl rfl)
theorem dX3_widest_85 : decode cX3_widest 85 = .ok (.iload 5, 2) := dk_21 5 (dk_at dksX3_widest_3 14 rfl rfl)
theorem dX3_widest_87 : decode cX3_widest 87 = .ok (.iload_n 2, 1) := dk_28 (dk_at dksX3_widest_3 16 rfl rfl)
theorem dX3_widest_88 : decode cX3_widest 88 = .ok (.if_icmp .le 13, 3) := dk_164 0 13 (dk_at dksX3_widest_3 17 rfl rfl)
theorem dX3_widest_91 : decode cX3_widest 91 = .ok (.bipush 6, 2) := dk_16 6 (dk_at dksX3_widest_3 20 rfl rfl)
theorem dX3_widest_93 : decode cX3_widest 93 = .ok (.iload_n 3, 1) := dk_29 (dk_at dksX3_widest_3 22 rfl rfl)
theorem dX3_widest_94 : decode cX3_widest 94 = .ok (.imul, 1) := dk_104 (dk_at dksX3_widest_3 23 rfl rfl)
theorem dX3_widest_95 : decode cX3_widest 95 = .ok (.iload 4, 2) := dk_21 4 (dk_at dksX3_widest_4 0 rfl rfl)
theorem dX3_widest_97 : decode cX3_widest 97 = .ok (.iadd, 1) := dk_96 (dk_at dksX3_widest_4 2 rfl rfl)
theorem dX3_widest_98 : decode cX3_widest 98 = .ok (.goto 4, 3) := dk_167 0 4 (dk_at dksX3_widest_4 3 rfl rfl)
theorem dX3_widest_101 : decode cX3_widest 101 = .ok (.iload_n 1, 1) := dk_27 (dk_at dksX3_widest_4 6 rfl rfl)
theorem dX3_widest_102 : decode cX3_widest 102 = .ok (.istore_n 1, 1) := dk_60 (dk_at dksX3_widest_4 7 rfl rfl)
theorem dX3_widest_103 : decode cX3_widest 103 = .ok (.iload 5, 2) := dk_21 5 (dk_at dksX3_widest_4 8 rfl rfl)
theorem dX3_widest_105 : decode cX3_widest 105 = .ok (.iload_n 2, 1) := dk_28 (dk_at dksX3_widest_4 10 rfl rfl)
theorem dX3_widest_106 : decode cX3_widest 106 = .ok (.if_icmp .le 8, 3) := dk_164 0 8 (dk_at dksX3_widest_4 11 rfl rfl)
theorem dX3_widest_109 : decode cX3_widest 109 = .ok (.iload 5, 2) := dk_21 5 (dk_at dksX3_widest_4 14 rfl rfl)
theorem dX3_widest_111 : decode cX3_widest 111 = .ok (.goto 4, 3) := dk_167 0 4 (dk_at dksX3_widest_4 16 rfl rfl)
theorem dX3_widest_114 : decode cX3_widest 114 = .ok (.iload_n 2, 1) := dk_28 (dk_at dksX3_widest_4 19 rfl rfl)
theorem dX3_widest_115 : decode cX3_widest 115 = .ok (.istore_n 2, 1) := dk_61 (dk_at dksX3_widest_4 20 rfl rfl)
theorem dX3_widest_116 : decode cX3_widest 116 = .ok (.iinc 4 1, 3) := dk_132 4 1 (dk_at dksX3_widest_4 21 rfl rfl)
theorem dX3_widest_119 : decode cX3_widest 119 = .ok (.goto (-72), 3) := dk_167 255 184 (dk_at dksX3_widest_5 0 rfl rfl)
theorem dX3_widest_122 : decode cX3_widest 122 = .ok (.iinc 3 1, 3) := dk_132 3 1 (dk_at dksX3_widest_5 3 rfl rfl)
theorem dX3_widest_125 : decode cX3_widest 125 = .ok (.goto (-93), 3) := dk_167 255 163 (dk_at dksX3_widest_5 6 rfl rfl)
theorem dX3_widest_128 : decode cX3_widest 128 = .ok (.iload_n 1, 1) := dk_27 (dk_at dksX3_widest_5 9 rfl rfl)
theorem dX3_widest_129 : decode cX3_widest 129 = .ok (.ireturn, 1) := dk_172 (dk_at dksX3_widest_5 10 rfl rfl)
abbrev cX3_rest : ByteArray := prog_16_method_54_code
def yX3_rest : MethodName := ⟨RX3, "rest", "()I"⟩
def dkwX3_rest_2 : List UInt8 := [96, 167, 0, 4, 3, 60, 27, 5, 160, 0, 7, 28, 4, 100, 172, 132, 2, 1, 167, 255, 214, 18, 86, 172]
abbrev dktX3_rest_2 : List UInt8 := dkwX3_rest_2 ++ []
def dkwX3_rest_1 : List UInt8 := [28, 16, 61, 163, 0, 42, 42, 42, 180, 0, 19, 16, 6, 46, 28, 96, 182, 0, 234, 153, 0, 9, 27, 4]
abbrev dktX3_rest_1 : List UInt8 := dkwX3_rest_1 ++ dktX3_rest_2
def dkwX3_rest_0 : List UInt8 := [42, 3, 181, 0, 50, 42, 182, 0, 192, 154, 0, 6, 18, 196, 172, 42, 4, 182, 0, 200, 3, 60, 3, 61]
abbrev dktX3_rest_0 : List UInt8 := dkwX3_rest_0 ++ dktX3_rest_1
theorem dksX3_rest_0 : cX3_rest.data.toList.drop 0 = dktX3_rest_0 := by decide +kernel
theorem dksX3_rest_1 : cX3_rest.data.toList.drop 24 = dktX3_rest_1 := dk_seg dksX3_rest_0 24 rfl rfl
theorem dksX3_rest_2 : cX3_rest.data.toList.drop 48 = dktX3_rest_2 := dk_seg dksX3_rest_1 24 rfl rfl
theorem dX3_rest_0 : decode cX3_rest 0 = .ok (.aload_n 0, 1) := dk_42 (dk_at dksX3_rest_0 0 rfl rfl)
theorem dX3_rest_1 : decode cX3_rest 1 = .ok (.iconst 0, 1) := dk_3 (dk_at dksX3_rest_0 1 rfl rfl)
theorem dX3_rest_2 : decode cX3_rest 2 = .ok (.putfield 50, 3) := dk_181 0 50 (dk_at dksX3_rest_0 2 rfl rfl)
theorem dX3_rest_5 : decode cX3_rest 5 = .ok (.aload_n 0, 1) := dk_42 (dk_at dksX3_rest_0 5 rfl rfl)
theorem dX3_rest_6 : decode cX3_rest 6 = .ok (.invokevirtual 192, 3) := dk_182 0 192 (dk_at dksX3_rest_0 6 rfl rfl)
theorem dX3_rest_9 : decode cX3_rest 9 = .ok (.ifCond .ne 6, 3) := dk_154 0 6 (dk_at dksX3_rest_0 9 rfl rfl)
theorem dX3_rest_12 : decode cX3_rest 12 = .ok (.ldc 196, 2) := dk_18 196 (dk_at dksX3_rest_0 12 rfl rfl)
theorem dX3_rest_14 : decode cX3_rest 14 = .ok (.ireturn, 1) := dk_172 (dk_at dksX3_rest_0 14 rfl rfl)
theorem dX3_rest_15 : decode cX3_rest 15 = .ok (.aload_n 0, 1) := dk_42 (dk_at dksX3_rest_0 15 rfl rfl)
theorem dX3_rest_16 : decode cX3_rest 16 = .ok (.iconst 1, 1) := dk_4 (dk_at dksX3_rest_0 16 rfl rfl)
theorem dX3_rest_17 : decode cX3_rest 17 = .ok (.invokevirtual 200, 3) := dk_182 0 200 (dk_at dksX3_rest_0 17 rfl rfl)
theorem dX3_rest_20 : decode cX3_rest 20 = .ok (.iconst 0, 1) := dk_3 (dk_at dksX3_rest_0 20 rfl rfl)
theorem dX3_rest_21 : decode cX3_rest 21 = .ok (.istore_n 1, 1) := dk_60 (dk_at dksX3_rest_0 21 rfl rfl)
theorem dX3_rest_22 : decode cX3_rest 22 = .ok (.iconst 0, 1) := dk_3 (dk_at dksX3_rest_0 22 rfl rfl)
theorem dX3_rest_23 : decode cX3_rest 23 = .ok (.istore_n 2, 1) := dk_61 (dk_at dksX3_rest_0 23 rfl rfl)
theorem dX3_rest_24 : decode cX3_rest 24 = .ok (.iload_n 2, 1) := dk_28 (dk_at dksX3_rest_1 0 rfl rfl)
theorem dX3_rest_25 : decode cX3_rest 25 = .ok (.bipush 61, 2) := dk_16 61 (dk_at dksX3_rest_1 1 rfl rfl)
theorem dX3_rest_27 : decode cX3_rest 27 = .ok (.if_icmp .gt 42, 3) := dk_163 0 42 (dk_at dksX3_rest_1 3 rfl rfl)
theorem dX3_rest_30 : decode cX3_rest 30 = .ok (.aload_n 0, 1) := dk_42 (dk_at dksX3_rest_1 6 rfl rfl)
theorem dX3_rest_31 : decode cX3_rest 31 = .ok (.aload_n 0, 1) := dk_42 (dk_at dksX3_rest_1 7 rfl rfl)
theorem dX3_rest_32 : decode cX3_rest 32 = .ok (.getfield 19, 3) := dk_180 0 19 (dk_at dksX3_rest_1 8 rfl rfl)
theorem dX3_rest_35 : decode cX3_rest 35 = .ok (.bipush 6, 2) := dk_16 6 (dk_at dksX3_rest_1 11 rfl rfl)
theorem dX3_rest_37 : decode cX3_rest 37 = .ok (.iaload, 1) := dk_46 (dk_at dksX3_rest_1 13 rfl rfl)
theorem dX3_rest_38 : decode cX3_rest 38 = .ok (.iload_n 2, 1) := dk_28 (dk_at dksX3_rest_1 14 rfl rfl)
theorem dX3_rest_39 : decode cX3_rest 39 = .ok (.iadd, 1) := dk_96 (dk_at dksX3_rest_1 15 rfl rfl)
theorem dX3_rest_40 : decode cX3_rest 40 = .ok (.invokevirtual 234, 3) := dk_182 0 234 (dk_at dksX3_rest_1 16 rfl rfl)
theorem dX3_rest_43 : decode cX3_rest 43 = .ok (.ifCond .eq 9, 3) := dk_153 0 9 (dk_at dksX3_rest_1 19 rfl rfl)
theorem dX3_rest_46 : decode cX3_rest 46 = .ok (.iload_n 1, 1) := dk_27 (dk_at dksX3_rest_1 22 rfl rfl)
theorem dX3_rest_47 : decode cX3_rest 47 = .ok (.iconst 1, 1) := dk_4 (dk_at dksX3_rest_1 23 rfl rfl)
theorem dX3_rest_48 : decode cX3_rest 48 = .ok (.iadd, 1) := dk_96 (dk_at dksX3_rest_2 0 rfl rfl)
theorem dX3_rest_49 : decode cX3_rest 49 = .ok (.goto 4, 3) := dk_167 0 4 (dk_at dksX3_rest_2 1 rfl rfl)
theorem dX3_rest_52 : decode cX3_rest 52 = .ok (.iconst 0, 1) := dk_3 (dk_at dksX3_rest_2 4 rfl rfl)
theorem dX3_rest_53 : decode cX3_rest 53 = .ok (.istore_n 1, 1) := dk_60 (dk_at dksX3_rest_2 5 rfl rfl)
theorem dX3_rest_54 : decode cX3_rest 54 = .ok (.iload_n 1, 1) := dk_27 (dk_at dksX3_rest_2 6 rfl rfl)
theorem dX3_rest_55 : decode cX3_rest 55 = .ok (.iconst 2, 1) := dk_5 (dk_at dksX3_rest_2 7 rfl rfl)
theorem dX3_rest_56 : decode cX3_rest 56 = .ok (.if_icmp .ne 7, 3) := dk_160 0 7 (dk_at dksX3_rest_2 8 rfl rfl)
theorem dX3_rest_59 : decode cX3_rest 59 = .ok (.iload_n 2, 1) := dk_28 (dk_at dksX3_rest_2 11 rfl rfl)
theorem dX3_rest_60 : decode cX3_rest 60 = .ok (.iconst 1, 1) := dk_4 (dk_at dksX3_rest_2 12 rfl rfl)
theorem dX3_rest_61 : decode cX3_rest 61 = .ok (.isub, 1) := dk_100 (dk_at dksX3_rest_2 13 rfl rfl)
theorem dX3_rest_62 : decode cX3_rest 62 = .ok (.ireturn, 1) := dk_172 (dk_at dksX3_rest_2 14 rfl rfl)
theorem dX3_rest_63 : decode cX3_rest 63 = .ok (.iinc 2 1, 3) := dk_132 2 1 (dk_at dksX3_rest_2 15 rfl rfl)
theorem dX3_rest_66 : decode cX3_rest 66 = .ok (.goto (-42), 3) := dk_167 255 214 (dk_at dksX3_rest_2 18 rfl rfl)
theorem dX3_rest_69 : decode cX3_rest 69 = .ok (.ldc 86, 2) := dk_18 86 (dk_at dksX3_rest_2 21 rfl rfl)
theorem dX3_rest_71 : decode cX3_rest 71 = .ok (.ireturn, 1) := dk_172 (dk_at dksX3_rest_2 23 rfl rfl)
abbrev cX3_rests : ByteArray := prog_16_method_53_code
def yX3_rests : MethodName := ⟨RX3, "rests", "(I)Z"⟩
def dkwX3_rests_3 : List UInt8 := [61, 132, 3, 1, 167, 255, 218, 28, 172]
abbrev dktX3_rests_3 : List UInt8 := dkwX3_rests_3 ++ []
def dkwX3_rests_2 : List UInt8 := [28, 153, 0, 22, 42, 180, 0, 31, 29, 46, 42, 180, 0, 37, 29, 46, 160, 0, 7, 4, 167, 0, 4, 3]
abbrev dktX3_rests_2 : List UInt8 := dkwX3_rests_2 ++ dktX3_rests_3
def dkwX3_rests_1 : List UInt8 := [167, 255, 235, 42, 27, 16, 31, 182, 0, 203, 4, 61, 3, 62, 29, 42, 180, 0, 19, 7, 46, 162, 0, 34]
abbrev dktX3_rests_1 : List UInt8 := dkwX3_rests_1 ++ dktX3_rests_2
def dkwX3_rests_0 : List UInt8 := [3, 61, 28, 16, 6, 162, 0, 21, 42, 180, 0, 37, 28, 42, 180, 0, 31, 28, 46, 79, 132, 2, 1]
abbrev dktX3_rests_0 : List UInt8 := dkwX3_rests_0 ++ dktX3_rests_1
theorem dksX3_rests_0 : cX3_rests.data.toList.drop 0 = dktX3_rests_0 := by decide +kernel
theorem dksX3_rests_1 : cX3_rests.data.toList.drop 23 = dktX3_rests_1 := dk_seg dksX3_rests_0 23 rfl rfl
theorem dksX3_rests_2 : cX3_rests.data.toList.drop 47 = dktX3_rests_2 := dk_seg dksX3_rests_1 24 rfl rfl
theorem dksX3_rests_3 : cX3_rests.data.toList.drop 71 = dktX3_rests_3 := dk_seg dksX3_rests_2 24 rfl rfl
theorem dX3_rests_0 : decode cX3_rests 0 = .ok (.iconst 0, 1) := dk_3 (dk_at dksX3_rests_0 0 rfl rfl)
theorem dX3_rests_1 : decode cX3_rests 1 = .ok (.istore_n 2, 1) := dk_61 (dk_at dksX3_rests_0 1 rfl rfl)
theorem dX3_rests_2 : decode cX3_rests 2 = .ok (.iload_n 2, 1) := dk_28 (dk_at dksX3_rests_0 2 rfl rfl)
theorem dX3_rests_3 : decode cX3_rests 3 = .ok (.bipush 6, 2) := dk_16 6 (dk_at dksX3_rests_0 3 rfl rfl)
theorem dX3_rests_5 : decode cX3_rests 5 = .ok (.if_icmp .ge 21, 3) := dk_162 0 21 (dk_at dksX3_rests_0 5 rfl rfl)
theorem dX3_rests_8 : decode cX3_rests 8 = .ok (.aload_n 0, 1) := dk_42 (dk_at dksX3_rests_0 8 rfl rfl)
theorem dX3_rests_9 : decode cX3_rests 9 = .ok (.getfield 37, 3) := dk_180 0 37 (dk_at dksX3_rests_0 9 rfl rfl)
theorem dX3_rests_12 : decode cX3_rests 12 = .ok (.iload_n 2, 1) := dk_28 (dk_at dksX3_rests_0 12 rfl rfl)
theorem dX3_rests_13 : decode cX3_rests 13 = .ok (.aload_n 0, 1) := dk_42 (dk_at dksX3_rests_0 13 rfl rfl)
theorem dX3_rests_14 : decode cX3_rests 14 = .ok (.getfield 31, 3) := dk_180 0 31 (dk_at dksX3_rests_0 14 rfl rfl)
theorem dX3_rests_17 : decode cX3_rests 17 = .ok (.iload_n 2, 1) := dk_28 (dk_at dksX3_rests_0 17 rfl rfl)
theorem dX3_rests_18 : decode cX3_rests 18 = .ok (.iaload, 1) := dk_46 (dk_at dksX3_rests_0 18 rfl rfl)
theorem dX3_rests_19 : decode cX3_rests 19 = .ok (.iastore, 1) := dk_79 (dk_at dksX3_rests_0 19 rfl rfl)
theorem dX3_rests_20 : decode cX3_rests 20 = .ok (.iinc 2 1, 3) := dk_132 2 1 (dk_at dksX3_rests_0 20 rfl rfl)
theorem dX3_rests_23 : decode cX3_rests 23 = .ok (.goto (-21), 3) := dk_167 255 235 (dk_at dksX3_rests_1 0 rfl rfl)
theorem dX3_rests_26 : decode cX3_rests 26 = .ok (.aload_n 0, 1) := dk_42 (dk_at dksX3_rests_1 3 rfl rfl)
theorem dX3_rests_27 : decode cX3_rests 27 = .ok (.iload_n 1, 1) := dk_27 (dk_at dksX3_rests_1 4 rfl rfl)
theorem dX3_rests_28 : decode cX3_rests 28 = .ok (.bipush 31, 2) := dk_16 31 (dk_at dksX3_rests_1 5 rfl rfl)
theorem dX3_rests_30 : decode cX3_rests 30 = .ok (.invokevirtual 203, 3) := dk_182 0 203 (dk_at dksX3_rests_1 7 rfl rfl)
theorem dX3_rests_33 : decode cX3_rests 33 = .ok (.iconst 1, 1) := dk_4 (dk_at dksX3_rests_1 10 rfl rfl)
theorem dX3_rests_34 : decode cX3_rests 34 = .ok (.istore_n 2, 1) := dk_61 (dk_at dksX3_rests_1 11 rfl rfl)
theorem dX3_rests_35 : decode cX3_rests 35 = .ok (.iconst 0, 1) := dk_3 (dk_at dksX3_rests_1 12 rfl rfl)
theorem dX3_rests_36 : decode cX3_rests 36 = .ok (.istore_n 3, 1) := dk_62 (dk_at dksX3_rests_1 13 rfl rfl)
theorem dX3_rests_37 : decode cX3_rests 37 = .ok (.iload_n 3, 1) := dk_29 (dk_at dksX3_rests_1 14 rfl rfl)
theorem dX3_rests_38 : decode cX3_rests 38 = .ok (.aload_n 0, 1) := dk_42 (dk_at dksX3_rests_1 15 rfl rfl)
theorem dX3_rests_39 : decode cX3_rests 39 = .ok (.getfield 19, 3) := dk_180 0 19 (dk_at dksX3_rests_1 16 rfl rfl)
theorem dX3_rests_42 : decode cX3_rests 42 = .ok (.iconst 4, 1) := dk_7 (dk_at dksX3_rests_1 19 rfl rfl)
theorem dX3_rests_43 : decode cX3_rests 43 = .ok (.iaload, 1) := dk_46 (dk_at dksX3_rests_1 20 rfl rfl)
theorem dX3_rests_44 : decode cX3_rests 44 = .ok (.if_icmp .ge 34, 3) := dk_162 0 34 (dk_at dksX3_rests_1 21 rfl rfl)
theorem dX3_rests_47 : decode cX3_rests 47 = .ok (.iload_n 2, 1) := dk_28 (dk_at dksX3_rests_2 0 rfl rfl)
theorem dX3_rests_48 : decode cX3_rests 48 = .ok (.ifCond .eq 22, 3) := dk_153 0 22 (dk_at dksX3_rests_2 1 rfl rfl)
theorem dX3_rests_51 : decode cX3_rests 51 = .ok (.aload_n 0, 1) := dk_42 (dk_at dksX3_rests_2 4 rfl rfl)
theorem dX3_rests_52 : decode cX3_rests 52 = .ok (.getfield 31, 3) := dk_180 0 31 (dk_at dksX3_rests_2 5 rfl rfl)
theorem dX3_rests_55 : decode cX3_rests 55 = .ok (.iload_n 3, 1) := dk_29 (dk_at dksX3_rests_2 8 rfl rfl)
theorem dX3_rests_56 : decode cX3_rests 56 = .ok (.iaload, 1) := dk_46 (dk_at dksX3_rests_2 9 rfl rfl)
theorem dX3_rests_57 : decode cX3_rests 57 = .ok (.aload_n 0, 1) := dk_42 (dk_at dksX3_rests_2 10 rfl rfl)
theorem dX3_rests_58 : decode cX3_rests 58 = .ok (.getfield 37, 3) := dk_180 0 37 (dk_at dksX3_rests_2 11 rfl rfl)
theorem dX3_rests_61 : decode cX3_rests 61 = .ok (.iload_n 3, 1) := dk_29 (dk_at dksX3_rests_2 14 rfl rfl)
theorem dX3_rests_62 : decode cX3_rests 62 = .ok (.iaload, 1) := dk_46 (dk_at dksX3_rests_2 15 rfl rfl)
theorem dX3_rests_63 : decode cX3_rests 63 = .ok (.if_icmp .ne 7, 3) := dk_160 0 7 (dk_at dksX3_rests_2 16 rfl rfl)
theorem dX3_rests_66 : decode cX3_rests 66 = .ok (.iconst 1, 1) := dk_4 (dk_at dksX3_rests_2 19 rfl rfl)
theorem dX3_rests_67 : decode cX3_rests 67 = .ok (.goto 4, 3) := dk_167 0 4 (dk_at dksX3_rests_2 20 rfl rfl)
theorem dX3_rests_70 : decode cX3_rests 70 = .ok (.iconst 0, 1) := dk_3 (dk_at dksX3_rests_2 23 rfl rfl)
theorem dX3_rests_71 : decode cX3_rests 71 = .ok (.istore_n 2, 1) := dk_61 (dk_at dksX3_rests_3 0 rfl rfl)
theorem dX3_rests_72 : decode cX3_rests 72 = .ok (.iinc 3 1, 3) := dk_132 3 1 (dk_at dksX3_rests_3 1 rfl rfl)
theorem dX3_rests_75 : decode cX3_rests 75 = .ok (.goto (-38), 3) := dk_167 255 218 (dk_at dksX3_rests_3 4 rfl rfl)
theorem dX3_rests_78 : decode cX3_rests 78 = .ok (.iload_n 2, 1) := dk_28 (dk_at dksX3_rests_3 7 rfl rfl)
theorem dX3_rests_79 : decode cX3_rests 79 = .ok (.ireturn, 1) := dk_172 (dk_at dksX3_rests_3 8 rfl rfl)
abbrev cX3_moved : ByteArray := prog_16_method_55_code
def yX3_moved : MethodName := ⟨RX3, "moved", "(I)I"⟩
def dkwX3_moved_9 : List UInt8 := [167, 0, 5, 21, 4, 172]
abbrev dktX3_moved_9 : List UInt8 := dkwX3_moved_9 ++ []
def dkwX3_moved_8 : List UInt8 := [153, 0, 8, 21, 6, 167, 0, 5, 21, 4, 54, 4, 132, 5, 1, 167, 255, 101, 27, 154, 0, 7, 29]
abbrev dktX3_moved_8 : List UInt8 := dkwX3_moved_8 ++ dktX3_moved_9
def dkwX3_moved_7 : List UInt8 := [162, 0, 7, 4, 167, 0, 4, 3, 54, 8, 21, 8, 153, 0, 8, 21, 7, 167, 0, 4, 29, 62, 21, 8]
abbrev dktX3_moved_7 : List UInt8 := dkwX3_moved_7 ++ dktX3_moved_8
def dkwX3_moved_6 : List UInt8 := [54, 7, 132, 8, 1, 167, 255, 174, 21, 7, 29, 161, 0, 16, 21, 7, 29, 160, 0, 14, 21, 6, 21, 4]
abbrev dktX3_moved_6 : List UInt8 := dkwX3_moved_6 ++ dktX3_moved_7
def dkwX3_moved_5 : List UInt8 := [21, 8, 120, 167, 0, 4, 3, 128, 54, 6, 21, 7, 21, 9, 153, 0, 7, 4, 167, 0, 4, 3, 96]
abbrev dktX3_moved_5 : List UInt8 := dkwX3_moved_5 ++ dktX3_moved_6
def dkwX3_moved_4 : List UInt8 := [3, 182, 0, 180, 100, 159, 0, 7, 4, 167, 0, 4, 3, 54, 9, 21, 6, 21, 9, 153, 0, 10, 4]
abbrev dktX3_moved_4 : List UInt8 := dkwX3_moved_4 ++ dktX3_moved_5
def dkwX3_moved_3 : List UInt8 := [21, 8, 4, 182, 0, 180, 42, 21, 8, 3, 182, 0, 180, 100, 42, 21, 5, 4, 182, 0, 180, 42, 21, 5]
abbrev dktX3_moved_3 : List UInt8 := dkwX3_moved_3 ++ dktX3_moved_4
def dkwX3_moved_2 : List UInt8 := [54, 5, 21, 5, 28, 162, 0, 155, 3, 54, 6, 3, 54, 7, 3, 54, 8, 21, 8, 28, 162, 0, 82, 42]
abbrev dktX3_moved_2 : List UInt8 := dkwX3_moved_2 ++ dktX3_moved_3
def dkwX3_moved_1 : List UInt8 := [154, 0, 6, 18, 70, 172, 42, 180, 0, 19, 7, 46, 61, 28, 62, 4, 28, 120, 4, 100, 54, 4, 3]
abbrev dktX3_moved_1 : List UInt8 := dkwX3_moved_1 ++ dktX3_moved_2
def dkwX3_moved_0 : List UInt8 := [42, 3, 181, 0, 50, 42, 182, 0, 192, 154, 0, 6, 18, 196, 172, 27, 133, 9, 10, 184, 0, 60]
abbrev dktX3_moved_0 : List UInt8 := dkwX3_moved_0 ++ dktX3_moved_1
theorem dksX3_moved_0 : cX3_moved.data.toList.drop 0 = dktX3_moved_0 := by decide +kernel
theorem dksX3_moved_1 : cX3_moved.data.toList.drop 22 = dktX3_moved_1 := dk_seg dksX3_moved_0 22 rfl rfl
theorem dksX3_moved_2 : cX3_moved.data.toList.drop 45 = dktX3_moved_2 := dk_seg dksX3_moved_1 23 rfl rfl
theorem dksX3_moved_3 : cX3_moved.data.toList.drop 69 = dktX3_moved_3 := dk_seg dksX3_moved_2 24 rfl rfl
theorem dksX3_moved_4 : cX3_moved.data.toList.drop 93 = dktX3_moved_4 := dk_seg dksX3_moved_3 24 rfl rfl
theorem dksX3_moved_5 : cX3_moved.data.toList.drop 116 = dktX3_moved_5 := dk_seg dksX3_moved_4 23 rfl rfl
theorem dksX3_moved_6 : cX3_moved.data.toList.drop 139 = dktX3_moved_6 := dk_seg dksX3_moved_5 23 rfl rfl
theorem dksX3_moved_7 : cX3_moved.data.toList.drop 163 = dktX3_moved_7 := dk_seg dksX3_moved_6 24 rfl rfl
theorem dksX3_moved_8 : cX3_moved.data.toList.drop 187 = dktX3_moved_8 := dk_seg dksX3_moved_7 24 rfl rfl
theorem dksX3_moved_9 : cX3_moved.data.toList.drop 210 = dktX3_moved_9 := dk_seg dksX3_moved_8 23 rfl rfl
theorem dX3_moved_0 : decode cX3_moved 0 = .ok (.aload_n 0, 1) := dk_42 (dk_at dksX3_moved_0 0 rfl rfl)
theorem dX3_moved_1 : decode cX3_moved 1 = .ok (.iconst 0, 1) := dk_3 (dk_at dksX3_moved_0 1 rfl rfl)
theorem dX3_moved_2 : decode cX3_moved 2 = .ok (.putfield 50, 3) := dk_181 0 50 (dk_at dksX3_moved_0 2 rfl rfl)
theorem dX3_moved_5 : decode cX3_moved 5 = .ok (.aload_n 0, 1) := dk_42 (dk_at dksX3_moved_0 5 rfl rfl)
theorem dX3_moved_6 : decode cX3_moved 6 = .ok (.invokevirtual 192, 3) := dk_182 0 192 (dk_at dksX3_moved_0 6 rfl rfl)
theorem dX3_moved_9 : decode cX3_moved 9 = .ok (.ifCond .ne 6, 3) := dk_154 0 6 (dk_at dksX3_moved_0 9 rfl rfl)
theorem dX3_moved_12 : decode cX3_moved 12 = .ok (.ldc 196, 2) := dk_18 196 (dk_at dksX3_moved_0 12 rfl rfl)
theorem dX3_moved_14 : decode cX3_moved 14 = .ok (.ireturn, 1) := dk_172 (dk_at dksX3_moved_0 14 rfl rfl)
theorem dX3_moved_15 : decode cX3_moved 15 = .ok (.iload_n 1, 1) := dk_27 (dk_at dksX3_moved_0 15 rfl rfl)
theorem dX3_moved_16 : decode cX3_moved 16 = .ok (.i2l, 1) := dk_133 (dk_at dksX3_moved_0 16 rfl rfl)
theorem dX3_moved_17 : decode cX3_moved 17 = .ok (.lconst 0, 1) := dk_9 (dk_at dksX3_moved_0 17 rfl rfl)
theorem dX3_moved_18 : decode cX3_moved 18 = .ok (.lconst 1, 1) := dk_10 (dk_at dksX3_moved_0 18 rfl rfl)
theorem dX3_moved_19 : decode cX3_moved 19 = .ok (.invokestatic 60, 3) := dk_184 0 60 (dk_at dksX3_moved_0 19 rfl rfl)
theorem dX3_moved_22 : decode cX3_moved 22 = .ok (.ifCond .ne 6, 3) := dk_154 0 6 (dk_at dksX3_moved_1 0 rfl rfl)
theorem dX3_moved_25 : decode cX3_moved 25 = .ok (.ldc 70, 2) := dk_18 70 (dk_at dksX3_moved_1 3 rfl rfl)
theorem dX3_moved_27 : decode cX3_moved 27 = .ok (.ireturn, 1) := dk_172 (dk_at dksX3_moved_1 5 rfl rfl)
theorem dX3_moved_28 : decode cX3_moved 28 = .ok (.aload_n 0, 1) := dk_42 (dk_at dksX3_moved_1 6 rfl rfl)
theorem dX3_moved_29 : decode cX3_moved 29 = .ok (.getfield 19, 3) := dk_180 0 19 (dk_at dksX3_moved_1 7 rfl rfl)
theorem dX3_moved_32 : decode cX3_moved 32 = .ok (.iconst 4, 1) := dk_7 (dk_at dksX3_moved_1 10 rfl rfl)
theorem dX3_moved_33 : decode cX3_moved 33 = .ok (.iaload, 1) := dk_46 (dk_at dksX3_moved_1 11 rfl rfl)
theorem dX3_moved_34 : decode cX3_moved 34 = .ok (.istore_n 2, 1) := dk_61 (dk_at dksX3_moved_1 12 rfl rfl)
theorem dX3_moved_35 : decode cX3_moved 35 = .ok (.iload_n 2, 1) := dk_28 (dk_at dksX3_moved_1 13 rfl rfl)
theorem dX3_moved_36 : decode cX3_moved 36 = .ok (.istore_n 3, 1) := dk_62 (dk_at dksX3_moved_1 14 rfl rfl)
theorem dX3_moved_37 : decode cX3_moved 37 = .ok (.iconst 1, 1) := dk_4 (dk_at dksX3_moved_1 15 rfl rfl)
theorem dX3_moved_38 : decode cX3_moved 38 = .ok (.iload_n 2, 1) := dk_28 (dk_at dksX3_moved_1 16 rfl rfl)
theorem dX3_moved_39 : decode cX3_moved 39 = .ok (.ishl, 1) := dk_120 (dk_at dksX3_moved_1 17 rfl rfl)
theorem dX3_moved_40 : decode cX3_moved 40 = .ok (.iconst 1, 1) := dk_4 (dk_at dksX3_moved_1 18 rfl rfl)
theorem dX3_moved_41 : decode cX3_moved 41 = .ok (.isub, 1) := dk_100 (dk_at dksX3_moved_1 19 rfl rfl)
theorem dX3_moved_42 : decode cX3_moved 42 = .ok (.istore 4, 2) := dk_54 4 (dk_at dksX3_moved_1 20 rfl rfl)
theorem dX3_moved_44 : decode cX3_moved 44 = .ok (.iconst 0, 1) := dk_3 (dk_at dksX3_moved_1 22 rfl rfl)
theorem dX3_moved_45 : decode cX3_moved 45 = .ok (.istore 5, 2) := dk_54 5 (dk_at dksX3_moved_2 0 rfl rfl)
theorem dX3_moved_47 : decode cX3_moved 47 = .ok (.iload 5, 2) := dk_21 5 (dk_at dksX3_moved_2 2 rfl rfl)
theorem dX3_moved_49 : decode cX3_moved 49 = .ok (.iload_n 2, 1) := dk_28 (dk_at dksX3_moved_2 4 rfl rfl)
theorem dX3_moved_50 : decode cX3_moved 50 = .ok (.if_icmp .ge 155, 3) := dk_162 0 155 (dk_at dksX3_moved_2 5 rfl rfl)
theorem dX3_moved_53 : decode cX3_moved 53 = .ok (.iconst 0, 1) := dk_3 (dk_at dksX3_moved_2 8 rfl rfl)
theorem dX3_moved_54 : decode cX3_moved 54 = .ok (.istore 6, 2) := dk_54 6 (dk_at dksX3_moved_2 9 rfl rfl)
theorem dX3_moved_56 : decode cX3_moved 56 = .ok (.iconst 0, 1) := dk_3 (dk_at dksX3_moved_2 11 rfl rfl)
theorem dX3_moved_57 : decode cX3_moved 57 = .ok (.istore 7, 2) := dk_54 7 (dk_at dksX3_moved_2 12 rfl rfl)
theorem dX3_moved_59 : decode cX3_moved 59 = .ok (.iconst 0, 1) := dk_3 (dk_at dksX3_moved_2 14 rfl rfl)
theorem dX3_moved_60 : decode cX3_moved 60 = .ok (.istore 8, 2) := dk_54 8 (dk_at dksX3_moved_2 15 rfl rfl)
theorem dX3_moved_62 : decode cX3_moved 62 = .ok (.iload 8, 2) := dk_21 8 (dk_at dksX3_moved_2 17 rfl rfl)
theorem dX3_moved_64 : decode cX3_moved 64 = .ok (.iload_n 2, 1) := dk_28 (dk_at dksX3_moved_2 19 rfl rfl)
theorem dX3_moved_65 : decode cX3_moved 65 = .ok (.if_icmp .ge 82, 3) := dk_162 0 82 (dk_at dksX3_moved_2 20 rfl rfl)
theorem dX3_moved_68 : decode cX3_moved 68 = .ok (.aload_n 0, 1) := dk_42 (dk_at dksX3_moved_2 23 rfl rfl)
theorem dX3_moved_69 : decode cX3_moved 69 = .ok (.iload 8, 2) := dk_21 8 (dk_at dksX3_moved_3 0 rfl rfl)
theorem dX3_moved_71 : decode cX3_moved 71 = .ok (.iconst 1, 1) := dk_4 (dk_at dksX3_moved_3 2 rfl rfl)
theorem dX3_moved_72 : decode cX3_moved 72 = .ok (.invokevirtual 180, 3) := dk_182 0 180 (dk_at dksX3_moved_3 3 rfl rfl)
theorem dX3_moved_75 : decode cX3_moved 75 = .ok (.aload_n 0, 1) := dk_42 (dk_at dksX3_moved_3 6 rfl rfl)
theorem dX3_moved_76 : decode cX3_moved 76 = .ok (.iload 8, 2) := dk_21 8 (dk_at dksX3_moved_3 7 rfl rfl)
theorem dX3_moved_78 : decode cX3_moved 78 = .ok (.iconst 0, 1) := dk_3 (dk_at dksX3_moved_3 9 rfl rfl)
theorem dX3_moved_79 : decode cX3_moved 79 = .ok (.invokevirtual 180, 3) := dk_182 0 180 (dk_at dksX3_moved_3 10 rfl rfl)
theorem dX3_moved_82 : decode cX3_moved 82 = .ok (.isub, 1) := dk_100 (dk_at dksX3_moved_3 13 rfl rfl)
theorem dX3_moved_83 : decode cX3_moved 83 = .ok (.aload_n 0, 1) := dk_42 (dk_at dksX3_moved_3 14 rfl rfl)
theorem dX3_moved_84 : decode cX3_moved 84 = .ok (.iload 5, 2) := dk_21 5 (dk_at dksX3_moved_3 15 rfl rfl)
theorem dX3_moved_86 : decode cX3_moved 86 = .ok (.iconst 1, 1) := dk_4 (dk_at dksX3_moved_3 17 rfl rfl)
theorem dX3_moved_87 : decode cX3_moved 87 = .ok (.invokevirtual 180, 3) := dk_182 0 180 (dk_at dksX3_moved_3 18 rfl rfl)
theorem dX3_moved_90 : decode cX3_moved 90 = .ok (.aload_n 0, 1) := dk_42 (dk_at dksX3_moved_3 21 rfl rfl)
theorem dX3_moved_91 : decode cX3_moved 91 = .ok (.iload 5, 2) := dk_21 5 (dk_at dksX3_moved_3 22 rfl rfl)
theorem dX3_moved_93 : decode cX3_moved 93 = .ok (.iconst 0, 1) := dk_3 (dk_at dksX3_moved_4 0 rfl rfl)
theorem dX3_moved_94 : decode cX3_moved 94 = .ok (.invokevirtual 180, 3) := dk_182 0 180 (dk_at dksX3_moved_4 1 rfl rfl)
theorem dX3_moved_97 : decode cX3_moved 97 = .ok (.isub, 1) := dk_100 (dk_at dksX3_moved_4 4 rfl rfl)
theorem dX3_moved_98 : decode cX3_moved 98 = .ok (.if_icmp .eq 7, 3) := dk_159 0 7 (dk_at dksX3_moved_4 5 rfl rfl)
theorem dX3_moved_101 : decode cX3_moved 101 = .ok (.iconst 1, 1) := dk_4 (dk_at dksX3_moved_4 8 rfl rfl)
theorem dX3_moved_102 : decode cX3_moved 102 = .ok (.goto 4, 3) := dk_167 0 4 (dk_at dksX3_moved_4 9 rfl rfl)
theorem dX3_moved_105 : decode cX3_moved 105 = .ok (.iconst 0, 1) := dk_3 (dk_at dksX3_moved_4 12 rfl rfl)
theorem dX3_moved_106 : decode cX3_moved 106 = .ok (.istore 9, 2) := dk_54 9 (dk_at dksX3_moved_4 13 rfl rfl)
theorem dX3_moved_108 : decode cX3_moved 108 = .ok (.iload 6, 2) := dk_21 6 (dk_at dksX3_moved_4 15 rfl rfl)
theorem dX3_moved_110 : decode cX3_moved 110 = .ok (.iload 9, 2) := dk_21 9 (dk_at dksX3_moved_4 17 rfl rfl)
theorem dX3_moved_112 : decode cX3_moved 112 = .ok (.ifCond .eq 10, 3) := dk_153 0 10 (dk_at dksX3_moved_4 19 rfl rfl)
theorem dX3_moved_115 : decode cX3_moved 115 = .ok (.iconst 1, 1) := dk_4 (dk_at dksX3_moved_4 22 rfl rfl)
theorem dX3_moved_116 : decode cX3_moved 116 = .ok (.iload 8, 2) := dk_21 8 (dk_at dksX3_moved_5 0 rfl rfl)
theorem dX3_moved_118 : decode cX3_moved 118 = .ok (.ishl, 1) := dk_120 (dk_at dksX3_moved_5 2 rfl rfl)
theorem dX3_moved_119 : decode cX3_moved 119 = .ok (.goto 4, 3) := dk_167 0 4 (dk_at dksX3_moved_5 3 rfl rfl)
theorem dX3_moved_122 : decode cX3_moved 122 = .ok (.iconst 0, 1) := dk_3 (dk_at dksX3_moved_5 6 rfl rfl)
theorem dX3_moved_123 : decode cX3_moved 123 = .ok (.ior, 1) := dk_128 (dk_at dksX3_moved_5 7 rfl rfl)
theorem dX3_moved_124 : decode cX3_moved 124 = .ok (.istore 6, 2) := dk_54 6 (dk_at dksX3_moved_5 8 rfl rfl)
theorem dX3_moved_126 : decode cX3_moved 126 = .ok (.iload 7, 2) := dk_21 7 (dk_at dksX3_moved_5 10 rfl rfl)
theorem dX3_moved_128 : decode cX3_moved 128 = .ok (.iload 9, 2) := dk_21 9 (dk_at dksX3_moved_5 12 rfl rfl)
theorem dX3_moved_130 : decode cX3_moved 130 = .ok (.ifCond .eq 7, 3) := dk_153 0 7 (dk_at dksX3_moved_5 14 rfl rfl)
theorem dX3_moved_133 : decode cX3_moved 133 = .ok (.iconst 1, 1) := dk_4 (dk_at dksX3_moved_5 17 rfl rfl)
theorem dX3_moved_134 : decode cX3_moved 134 = .ok (.goto 4, 3) := dk_167 0 4 (dk_at dksX3_moved_5 18 rfl rfl)
theorem dX3_moved_137 : decode cX3_moved 137 = .ok (.iconst 0, 1) := dk_3 (dk_at dksX3_moved_5 21 rfl rfl)
theorem dX3_moved_138 : decode cX3_moved 138 = .ok (.iadd, 1) := dk_96 (dk_at dksX3_moved_5 22 rfl rfl)
theorem dX3_moved_139 : decode cX3_moved 139 = .ok (.istore 7, 2) := dk_54 7 (dk_at dksX3_moved_6 0 rfl rfl)
theorem dX3_moved_141 : decode cX3_moved 141 = .ok (.iinc 8 1, 3) := dk_132 8 1 (dk_at dksX3_moved_6 2 rfl rfl)
theorem dX3_moved_144 : decode cX3_moved 144 = .ok (.goto (-82), 3) := dk_167 255 174 (dk_at dksX3_moved_6 5 rfl rfl)
theorem dX3_moved_147 : decode cX3_moved 147 = .ok (.iload 7, 2) := dk_21 7 (dk_at dksX3_moved_6 8 rfl rfl)
theorem dX3_moved_149 : decode cX3_moved 149 = .ok (.iload_n 3, 1) := dk_29 (dk_at dksX3_moved_6 10 rfl rfl)
theorem dX3_moved_150 : decode cX3_moved 150 = .ok (.if_icmp .lt 16, 3) := dk_161 0 16 (dk_at dksX3_moved_6 11 rfl rfl)
theorem dX3_moved_153 : decode cX3_moved 153 = .ok (.iload 7, 2) := dk_21 7 (dk_at dksX3_moved_6 14 rfl rfl)
theorem dX3_moved_155 : decode cX3_moved 155 = .ok (.iload_n 3, 1) := dk_29 (dk_at dksX3_moved_6 16 rfl rfl)
theorem dX3_moved_156 : decode cX3_moved 156 = .ok (.if_icmp .ne 14, 3) := dk_160 0 14 (dk_at dksX3_moved_6 17 rfl rfl)
theorem dX3_moved_159 : decode cX3_moved 159 = .ok (.iload 6, 2) := dk_21 6 (dk_at dksX3_moved_6 20 rfl rfl)
theorem dX3_moved_161 : decode cX3_moved 161 = .ok (.iload 4, 2) := dk_21 4 (dk_at dksX3_moved_6 22 rfl rfl)
theorem dX3_moved_163 : decode cX3_moved 163 = .ok (.if_icmp .ge 7, 3) := dk_162 0 7 (dk_at dksX3_moved_7 0 rfl rfl)
theorem dX3_moved_166 : decode cX3_moved 166 = .ok (.iconst 1, 1) := dk_4 (dk_at dksX3_moved_7 3 rfl rfl)
theorem dX3_moved_167 : decode cX3_moved 167 = .ok (.goto 4, 3) := dk_167 0 4 (dk_at dksX3_moved_7 4 rfl rfl)
theorem dX3_moved_170 : decode cX3_moved 170 = .ok (.iconst 0, 1) := dk_3 (dk_at dksX3_moved_7 7 rfl rfl)
theorem dX3_moved_171 : decode cX3_moved 171 = .ok (.istore 8, 2) := dk_54 8 (dk_at dksX3_moved_7 8 rfl rfl)
theorem dX3_moved_173 : decode cX3_moved 173 = .ok (.iload 8, 2) := dk_21 8 (dk_at dksX3_moved_7 10 rfl rfl)
theorem dX3_moved_175 : decode cX3_moved 175 = .ok (.ifCond .eq 8, 3) := dk_153 0 8 (dk_at dksX3_moved_7 12 rfl rfl)
theorem dX3_moved_178 : decode cX3_moved 178 = .ok (.iload 7, 2) := dk_21 7 (dk_at dksX3_moved_7 15 rfl rfl)
theorem dX3_moved_180 : decode cX3_moved 180 = .ok (.goto 4, 3) := dk_167 0 4 (dk_at dksX3_moved_7 17 rfl rfl)
theorem dX3_moved_183 : decode cX3_moved 183 = .ok (.iload_n 3, 1) := dk_29 (dk_at dksX3_moved_7 20 rfl rfl)
theorem dX3_moved_184 : decode cX3_moved 184 = .ok (.istore_n 3, 1) := dk_62 (dk_at dksX3_moved_7 21 rfl rfl)
theorem dX3_moved_185 : decode cX3_moved 185 = .ok (.iload 8, 2) := dk_21 8 (dk_at dksX3_moved_7 22 rfl rfl)
theorem dX3_moved_187 : decode cX3_moved 187 = .ok (.ifCond .eq 8, 3) := dk_153 0 8 (dk_at dksX3_moved_8 0 rfl rfl)
theorem dX3_moved_190 : decode cX3_moved 190 = .ok (.iload 6, 2) := dk_21 6 (dk_at dksX3_moved_8 3 rfl rfl)
theorem dX3_moved_192 : decode cX3_moved 192 = .ok (.goto 5, 3) := dk_167 0 5 (dk_at dksX3_moved_8 5 rfl rfl)
theorem dX3_moved_195 : decode cX3_moved 195 = .ok (.iload 4, 2) := dk_21 4 (dk_at dksX3_moved_8 8 rfl rfl)
theorem dX3_moved_197 : decode cX3_moved 197 = .ok (.istore 4, 2) := dk_54 4 (dk_at dksX3_moved_8 10 rfl rfl)
theorem dX3_moved_199 : decode cX3_moved 199 = .ok (.iinc 5 1, 3) := dk_132 5 1 (dk_at dksX3_moved_8 12 rfl rfl)
theorem dX3_moved_202 : decode cX3_moved 202 = .ok (.goto (-155), 3) := dk_167 255 101 (dk_at dksX3_moved_8 15 rfl rfl)
theorem dX3_moved_205 : decode cX3_moved 205 = .ok (.iload_n 1, 1) := dk_27 (dk_at dksX3_moved_8 18 rfl rfl)
theorem dX3_moved_206 : decode cX3_moved 206 = .ok (.ifCond .ne 7, 3) := dk_154 0 7 (dk_at dksX3_moved_8 19 rfl rfl)
theorem dX3_moved_209 : decode cX3_moved 209 = .ok (.iload_n 3, 1) := dk_29 (dk_at dksX3_moved_8 22 rfl rfl)
theorem dX3_moved_210 : decode cX3_moved 210 = .ok (.goto 5, 3) := dk_167 0 5 (dk_at dksX3_moved_9 0 rfl rfl)
theorem dX3_moved_213 : decode cX3_moved 213 = .ok (.iload 4, 2) := dk_21 4 (dk_at dksX3_moved_9 3 rfl rfl)
theorem dX3_moved_215 : decode cX3_moved 215 = .ok (.ireturn, 1) := dk_172 (dk_at dksX3_moved_9 5 rfl rfl)
abbrev cX3_who : ByteArray := prog_16_method_57_code
def yX3_who : MethodName := ⟨RX3, "who", "(II)I"⟩
def dkwX3_who_4 : List UInt8 := [21, 4, 172]
abbrev dktX3_who_4 : List UInt8 := dkwX3_who_4 ++ []
def dkwX3_who_3 : List UInt8 := [153, 0, 10, 132, 3, 1, 21, 5, 54, 4, 132, 5, 255, 167, 255, 231, 28, 154, 0, 7, 29, 167, 0, 5]
abbrev dktX3_who_3 : List UInt8 := dkwX3_who_3 ++ dktX3_who_4
def dkwX3_who_2 : List UInt8 := [180, 0, 19, 8, 46, 120, 4, 100, 54, 5, 21, 5, 155, 0, 26, 42, 27, 21, 5, 182, 0, 239]
abbrev dktX3_who_2 : List UInt8 := dkwX3_who_2 ++ dktX3_who_3
def dkwX3_who_1 : List UInt8 := [153, 0, 13, 28, 133, 9, 10, 184, 0, 60, 154, 0, 6, 18, 70, 172, 3, 62, 18, 86, 54, 4, 4, 42]
abbrev dktX3_who_1 : List UInt8 := dkwX3_who_1 ++ dktX3_who_2
def dkwX3_who_0 : List UInt8 := [42, 3, 181, 0, 50, 42, 182, 0, 192, 154, 0, 6, 18, 196, 172, 27, 133, 9, 20, 0, 237, 184, 0, 60]
abbrev dktX3_who_0 : List UInt8 := dkwX3_who_0 ++ dktX3_who_1
theorem dksX3_who_0 : cX3_who.data.toList.drop 0 = dktX3_who_0 := by decide +kernel
theorem dksX3_who_1 : cX3_who.data.toList.drop 24 = dktX3_who_1 := dk_seg dksX3_who_0 24 rfl rfl
theorem dksX3_who_2 : cX3_who.data.toList.drop 48 = dktX3_who_2 := dk_seg dksX3_who_1 24 rfl rfl
theorem dksX3_who_3 : cX3_who.data.toList.drop 70 = dktX3_who_3 := dk_seg dksX3_who_2 22 rfl rfl
theorem dksX3_who_4 : cX3_who.data.toList.drop 94 = dktX3_who_4 := dk_seg dksX3_who_3 24 rfl rfl
theorem dX3_who_0 : decode cX3_who 0 = .ok (.aload_n 0, 1) := dk_42 (dk_at dksX3_who_0 0 rfl rfl)
theorem dX3_who_1 : decode cX3_who 1 = .ok (.iconst 0, 1) := dk_3 (dk_at dksX3_who_0 1 rfl rfl)
theorem dX3_who_2 : decode cX3_who 2 = .ok (.putfield 50, 3) := dk_181 0 50 (dk_at dksX3_who_0 2 rfl rfl)
theorem dX3_who_5 : decode cX3_who 5 = .ok (.aload_n 0, 1) := dk_42 (dk_at dksX3_who_0 5 rfl rfl)
theorem dX3_who_6 : decode cX3_who 6 = .ok (.invokevirtual 192, 3) := dk_182 0 192 (dk_at dksX3_who_0 6 rfl rfl)
theorem dX3_who_9 : decode cX3_who 9 = .ok (.ifCond .ne 6, 3) := dk_154 0 6 (dk_at dksX3_who_0 9 rfl rfl)
theorem dX3_who_12 : decode cX3_who 12 = .ok (.ldc 196, 2) := dk_18 196 (dk_at dksX3_who_0 12 rfl rfl)
theorem dX3_who_14 : decode cX3_who 14 = .ok (.ireturn, 1) := dk_172 (dk_at dksX3_who_0 14 rfl rfl)
theorem dX3_who_15 : decode cX3_who 15 = .ok (.iload_n 1, 1) := dk_27 (dk_at dksX3_who_0 15 rfl rfl)
theorem dX3_who_16 : decode cX3_who 16 = .ok (.i2l, 1) := dk_133 (dk_at dksX3_who_0 16 rfl rfl)
theorem dX3_who_17 : decode cX3_who 17 = .ok (.lconst 0, 1) := dk_9 (dk_at dksX3_who_0 17 rfl rfl)
theorem dX3_who_18 : decode cX3_who 18 = .ok (.ldc2_w 237, 3) := dk_20 0 237 (dk_at dksX3_who_0 18 rfl rfl)
theorem dX3_who_21 : decode cX3_who 21 = .ok (.invokestatic 60, 3) := dk_184 0 60 (dk_at dksX3_who_0 21 rfl rfl)
theorem dX3_who_24 : decode cX3_who 24 = .ok (.ifCond .eq 13, 3) := dk_153 0 13 (dk_at dksX3_who_1 0 rfl rfl)
theorem dX3_who_27 : decode cX3_who 27 = .ok (.iload_n 2, 1) := dk_28 (dk_at dksX3_who_1 3 rfl rfl)
theorem dX3_who_28 : decode cX3_who 28 = .ok (.i2l, 1) := dk_133 (dk_at dksX3_who_1 4 rfl rfl)
theorem dX3_who_29 : decode cX3_who 29 = .ok (.lconst 0, 1) := dk_9 (dk_at dksX3_who_1 5 rfl rfl)
theorem dX3_who_30 : decode cX3_who 30 = .ok (.lconst 1, 1) := dk_10 (dk_at dksX3_who_1 6 rfl rfl)
theorem dX3_who_31 : decode cX3_who 31 = .ok (.invokestatic 60, 3) := dk_184 0 60 (dk_at dksX3_who_1 7 rfl rfl)
theorem dX3_who_34 : decode cX3_who 34 = .ok (.ifCond .ne 6, 3) := dk_154 0 6 (dk_at dksX3_who_1 10 rfl rfl)
theorem dX3_who_37 : decode cX3_who 37 = .ok (.ldc 70, 2) := dk_18 70 (dk_at dksX3_who_1 13 rfl rfl)
theorem dX3_who_39 : decode cX3_who 39 = .ok (.ireturn, 1) := dk_172 (dk_at dksX3_who_1 15 rfl rfl)
theorem dX3_who_40 : decode cX3_who 40 = .ok (.iconst 0, 1) := dk_3 (dk_at dksX3_who_1 16 rfl rfl)
theorem dX3_who_41 : decode cX3_who 41 = .ok (.istore_n 3, 1) := dk_62 (dk_at dksX3_who_1 17 rfl rfl)
theorem dX3_who_42 : decode cX3_who 42 = .ok (.ldc 86, 2) := dk_18 86 (dk_at dksX3_who_1 18 rfl rfl)
theorem dX3_who_44 : decode cX3_who 44 = .ok (.istore 4, 2) := dk_54 4 (dk_at dksX3_who_1 20 rfl rfl)
theorem dX3_who_46 : decode cX3_who 46 = .ok (.iconst 1, 1) := dk_4 (dk_at dksX3_who_1 22 rfl rfl)
theorem dX3_who_47 : decode cX3_who 47 = .ok (.aload_n 0, 1) := dk_42 (dk_at dksX3_who_1 23 rfl rfl)
theorem dX3_who_48 : decode cX3_who 48 = .ok (.getfield 19, 3) := dk_180 0 19 (dk_at dksX3_who_2 0 rfl rfl)
theorem dX3_who_51 : decode cX3_who 51 = .ok (.iconst 5, 1) := dk_8 (dk_at dksX3_who_2 3 rfl rfl)
theorem dX3_who_52 : decode cX3_who 52 = .ok (.iaload, 1) := dk_46 (dk_at dksX3_who_2 4 rfl rfl)
theorem dX3_who_53 : decode cX3_who 53 = .ok (.ishl, 1) := dk_120 (dk_at dksX3_who_2 5 rfl rfl)
theorem dX3_who_54 : decode cX3_who 54 = .ok (.iconst 1, 1) := dk_4 (dk_at dksX3_who_2 6 rfl rfl)
theorem dX3_who_55 : decode cX3_who 55 = .ok (.isub, 1) := dk_100 (dk_at dksX3_who_2 7 rfl rfl)
theorem dX3_who_56 : decode cX3_who 56 = .ok (.istore 5, 2) := dk_54 5 (dk_at dksX3_who_2 8 rfl rfl)
theorem dX3_who_58 : decode cX3_who 58 = .ok (.iload 5, 2) := dk_21 5 (dk_at dksX3_who_2 10 rfl rfl)
theorem dX3_who_60 : decode cX3_who 60 = .ok (.ifCond .lt 26, 3) := dk_155 0 26 (dk_at dksX3_who_2 12 rfl rfl)
theorem dX3_who_63 : decode cX3_who 63 = .ok (.aload_n 0, 1) := dk_42 (dk_at dksX3_who_2 15 rfl rfl)
theorem dX3_who_64 : decode cX3_who 64 = .ok (.iload_n 1, 1) := dk_27 (dk_at dksX3_who_2 16 rfl rfl)
theorem dX3_who_65 : decode cX3_who 65 = .ok (.iload 5, 2) := dk_21 5 (dk_at dksX3_who_2 17 rfl rfl)
theorem dX3_who_67 : decode cX3_who 67 = .ok (.invokevirtual 239, 3) := dk_182 0 239 (dk_at dksX3_who_2 19 rfl rfl)
theorem dX3_who_70 : decode cX3_who 70 = .ok (.ifCond .eq 10, 3) := dk_153 0 10 (dk_at dksX3_who_3 0 rfl rfl)
theorem dX3_who_73 : decode cX3_who 73 = .ok (.iinc 3 1, 3) := dk_132 3 1 (dk_at dksX3_who_3 3 rfl rfl)
theorem dX3_who_76 : decode cX3_who 76 = .ok (.iload 5, 2) := dk_21 5 (dk_at dksX3_who_3 6 rfl rfl)
theorem dX3_who_78 : decode cX3_who 78 = .ok (.istore 4, 2) := dk_54 4 (dk_at dksX3_who_3 8 rfl rfl)
theorem dX3_who_80 : decode cX3_who 80 = .ok (.iinc 5 (-1), 3) := dk_132 5 255 (dk_at dksX3_who_3 10 rfl rfl)
theorem dX3_who_83 : decode cX3_who 83 = .ok (.goto (-25), 3) := dk_167 255 231 (dk_at dksX3_who_3 13 rfl rfl)
theorem dX3_who_86 : decode cX3_who 86 = .ok (.iload_n 2, 1) := dk_28 (dk_at dksX3_who_3 16 rfl rfl)
theorem dX3_who_87 : decode cX3_who 87 = .ok (.ifCond .ne 7, 3) := dk_154 0 7 (dk_at dksX3_who_3 17 rfl rfl)
theorem dX3_who_90 : decode cX3_who 90 = .ok (.iload_n 3, 1) := dk_29 (dk_at dksX3_who_3 20 rfl rfl)
theorem dX3_who_91 : decode cX3_who 91 = .ok (.goto 5, 3) := dk_167 0 5 (dk_at dksX3_who_3 21 rfl rfl)
theorem dX3_who_94 : decode cX3_who 94 = .ok (.iload 4, 2) := dk_21 4 (dk_at dksX3_who_4 0 rfl rfl)
theorem dX3_who_96 : decode cX3_who 96 = .ok (.ireturn, 1) := dk_172 (dk_at dksX3_who_4 2 rfl rfl)
abbrev cX3_standsBy : ByteArray := prog_16_method_56_code
def yX3_standsBy : MethodName := ⟨RX3, "standsBy", "(II)Z"⟩
def dkwX3_standsBy_3 : List UInt8 := [167, 255, 215, 29, 172]
abbrev dktX3_standsBy_3 : List UInt8 := dkwX3_standsBy_3 ++ []
def dkwX3_standsBy_2 : List UInt8 := [21, 4, 46, 42, 21, 4, 4, 182, 0, 180, 160, 0, 7, 4, 167, 0, 4, 3, 62, 132, 4, 1]
abbrev dktX3_standsBy_2 : List UInt8 := dkwX3_standsBy_2 ++ dktX3_standsBy_3
def dkwX3_standsBy_1 : List UInt8 := [4, 62, 3, 54, 4, 21, 4, 42, 180, 0, 19, 7, 46, 162, 0, 36, 29, 153, 0, 24, 42, 180, 0, 31]
abbrev dktX3_standsBy_1 : List UInt8 := dkwX3_standsBy_1 ++ dktX3_standsBy_2
def dkwX3_standsBy_0 : List UInt8 := [42, 5, 182, 0, 200, 3, 62, 29, 27, 162, 0, 15, 42, 29, 28, 182, 0, 203, 132, 3, 1, 167, 255, 242]
abbrev dktX3_standsBy_0 : List UInt8 := dkwX3_standsBy_0 ++ dktX3_standsBy_1
theorem dksX3_standsBy_0 : cX3_standsBy.data.toList.drop 0 = dktX3_standsBy_0 := by decide +kernel
theorem dksX3_standsBy_1 : cX3_standsBy.data.toList.drop 24 = dktX3_standsBy_1 := dk_seg dksX3_standsBy_0 24 rfl rfl
theorem dksX3_standsBy_2 : cX3_standsBy.data.toList.drop 48 = dktX3_standsBy_2 := dk_seg dksX3_standsBy_1 24 rfl rfl
theorem dksX3_standsBy_3 : cX3_standsBy.data.toList.drop 70 = dktX3_standsBy_3 := dk_seg dksX3_standsBy_2 22 rfl rfl
theorem dX3_standsBy_0 : decode cX3_standsBy 0 = .ok (.aload_n 0, 1) := dk_42 (dk_at dksX3_standsBy_0 0 rfl rfl)
theorem dX3_standsBy_1 : decode cX3_standsBy 1 = .ok (.iconst 2, 1) := dk_5 (dk_at dksX3_standsBy_0 1 rfl rfl)
theorem dX3_standsBy_2 : decode cX3_standsBy 2 = .ok (.invokevirtual 200, 3) := dk_182 0 200 (dk_at dksX3_standsBy_0 2 rfl rfl)
theorem dX3_standsBy_5 : decode cX3_standsBy 5 = .ok (.iconst 0, 1) := dk_3 (dk_at dksX3_standsBy_0 5 rfl rfl)
theorem dX3_standsBy_6 : decode cX3_standsBy 6 = .ok (.istore_n 3, 1) := dk_62 (dk_at dksX3_standsBy_0 6 rfl rfl)
theorem dX3_standsBy_7 : decode cX3_standsBy 7 = .ok (.iload_n 3, 1) := dk_29 (dk_at dksX3_standsBy_0 7 rfl rfl)
theorem dX3_standsBy_8 : decode cX3_standsBy 8 = .ok (.iload_n 1, 1) := dk_27 (dk_at dksX3_standsBy_0 8 rfl rfl)
theorem dX3_standsBy_9 : decode cX3_standsBy 9 = .ok (.if_icmp .ge 15, 3) := dk_162 0 15 (dk_at dksX3_standsBy_0 9 rfl rfl)
theorem dX3_standsBy_12 : decode cX3_standsBy 12 = .ok (.aload_n 0, 1) := dk_42 (dk_at dksX3_standsBy_0 12 rfl rfl)
theorem dX3_standsBy_13 : decode cX3_standsBy 13 = .ok (.iload_n 3, 1) := dk_29 (dk_at dksX3_standsBy_0 13 rfl rfl)
theorem dX3_standsBy_14 : decode cX3_standsBy 14 = .ok (.iload_n 2, 1) := dk_28 (dk_at dksX3_standsBy_0 14 rfl rfl)
theorem dX3_standsBy_15 : decode cX3_standsBy 15 = .ok (.invokevirtual 203, 3) := dk_182 0 203 (dk_at dksX3_standsBy_0 15 rfl rfl)
theorem dX3_standsBy_18 : decode cX3_standsBy 18 = .ok (.iinc 3 1, 3) := dk_132 3 1 (dk_at dksX3_standsBy_0 18 rfl rfl)
theorem dX3_standsBy_21 : decode cX3_standsBy 21 = .ok (.goto (-14), 3) := dk_167 255 242 (dk_at dksX3_standsBy_0 21 rfl rfl)
theorem dX3_standsBy_24 : decode cX3_standsBy 24 = .ok (.iconst 1, 1) := dk_4 (dk_at dksX3_standsBy_1 0 rfl rfl)
theorem dX3_standsBy_25 : decode cX3_standsBy 25 = .ok (.istore_n 3, 1) := dk_62 (dk_at dksX3_standsBy_1 1 rfl rfl)
theorem dX3_standsBy_26 : decode cX3_standsBy 26 = .ok (.iconst 0, 1) := dk_3 (dk_at dksX3_standsBy_1 2 rfl rfl)
theorem dX3_standsBy_27 : decode cX3_standsBy 27 = .ok (.istore 4, 2) := dk_54 4 (dk_at dksX3_standsBy_1 3 rfl rfl)
theorem dX3_standsBy_29 : decode cX3_standsBy 29 = .ok (.iload 4, 2) := dk_21 4 (dk_at dksX3_standsBy_1 5 rfl rfl)
theorem dX3_standsBy_31 : decode cX3_standsBy 31 = .ok (.aload_n 0, 1) := dk_42 (dk_at dksX3_standsBy_1 7 rfl rfl)
theorem dX3_standsBy_32 : decode cX3_standsBy 32 = .ok (.getfield 19, 3) := dk_180 0 19 (dk_at dksX3_standsBy_1 8 rfl rfl)
theorem dX3_standsBy_35 : decode cX3_standsBy 35 = .ok (.iconst 4, 1) := dk_7 (dk_at dksX3_standsBy_1 11 rfl rfl)
theorem dX3_standsBy_36 : decode cX3_standsBy 36 = .ok (.iaload, 1) := dk_46 (dk_at dksX3_standsBy_1 12 rfl rfl)
theorem dX3_standsBy_37 : decode cX3_standsBy 37 = .ok (.if_icmp .ge 36, 3) := dk_162 0 36 (dk_at dksX3_standsBy_1 13 rfl rfl)
theorem dX3_standsBy_40 : decode cX3_standsBy 40 = .ok (.iload_n 3, 1) := dk_29 (dk_at dksX3_standsBy_1 16 rfl rfl)
theorem dX3_standsBy_41 : decode cX3_standsBy 41 = .ok (.ifCond .eq 24, 3) := dk_153 0 24 (dk_at dksX3_standsBy_1 17 rfl rfl)
theorem dX3_standsBy_44 : decode cX3_standsBy 44 = .ok (.aload_n 0, 1) := dk_42 (dk_at dksX3_standsBy_1 20 rfl rfl)
theorem dX3_standsBy_45 : decode cX3_standsBy 45 = .ok (.getfield 31, 3) := dk_180 0 31 (dk_at dksX3_standsBy_1 21 rfl rfl)
theorem dX3_standsBy_48 : decode cX3_standsBy 48 = .ok (.iload 4, 2) := dk_21 4 (dk_at dksX3_standsBy_2 0 rfl rfl)
theorem dX3_standsBy_50 : decode cX3_standsBy 50 = .ok (.iaload, 1) := dk_46 (dk_at dksX3_standsBy_2 2 rfl rfl)
theorem dX3_standsBy_51 : decode cX3_standsBy 51 = .ok (.aload_n 0, 1) := dk_42 (dk_at dksX3_standsBy_2 3 rfl rfl)
theorem dX3_standsBy_52 : decode cX3_standsBy 52 = .ok (.iload 4, 2) := dk_21 4 (dk_at dksX3_standsBy_2 4 rfl rfl)
theorem dX3_standsBy_54 : decode cX3_standsBy 54 = .ok (.iconst 1, 1) := dk_4 (dk_at dksX3_standsBy_2 6 rfl rfl)
theorem dX3_standsBy_55 : decode cX3_standsBy 55 = .ok (.invokevirtual 180, 3) := dk_182 0 180 (dk_at dksX3_standsBy_2 7 rfl rfl)
theorem dX3_standsBy_58 : decode cX3_standsBy 58 = .ok (.if_icmp .ne 7, 3) := dk_160 0 7 (dk_at dksX3_standsBy_2 10 rfl rfl)
theorem dX3_standsBy_61 : decode cX3_standsBy 61 = .ok (.iconst 1, 1) := dk_4 (dk_at dksX3_standsBy_2 13 rfl rfl)
theorem dX3_standsBy_62 : decode cX3_standsBy 62 = .ok (.goto 4, 3) := dk_167 0 4 (dk_at dksX3_standsBy_2 14 rfl rfl)
theorem dX3_standsBy_65 : decode cX3_standsBy 65 = .ok (.iconst 0, 1) := dk_3 (dk_at dksX3_standsBy_2 17 rfl rfl)
theorem dX3_standsBy_66 : decode cX3_standsBy 66 = .ok (.istore_n 3, 1) := dk_62 (dk_at dksX3_standsBy_2 18 rfl rfl)
theorem dX3_standsBy_67 : decode cX3_standsBy 67 = .ok (.iinc 4 1, 3) := dk_132 4 1 (dk_at dksX3_standsBy_2 19 rfl rfl)
theorem dX3_standsBy_70 : decode cX3_standsBy 70 = .ok (.goto (-41), 3) := dk_167 255 215 (dk_at dksX3_standsBy_3 0 rfl rfl)
theorem dX3_standsBy_73 : decode cX3_standsBy 73 = .ok (.iload_n 3, 1) := dk_29 (dk_at dksX3_standsBy_3 3 rfl rfl)
theorem dX3_standsBy_74 : decode cX3_standsBy 74 = .ok (.ireturn, 1) := dk_172 (dk_at dksX3_standsBy_3 4 rfl rfl)
abbrev cX3_dare : ByteArray := prog_16_method_60_code
def yX3_dare : MethodName := ⟨RX3, "dare", "(II)I"⟩
def dkwX3_dare_4 : List UInt8 := [154, 0, 7, 29, 167, 0, 5, 18, 246, 21, 4, 108, 172]
abbrev dktX3_dare_4 : List UInt8 := dkwX3_dare_4 ++ []
def dkwX3_dare_3 : List UInt8 := [153, 0, 21, 21, 4, 21, 5, 112, 54, 6, 21, 5, 54, 4, 21, 6, 54, 5, 167, 255, 236, 28]
abbrev dktX3_dare_3 : List UInt8 := dkwX3_dare_3 ++ dktX3_dare_4
def dkwX3_dare_2 : List UInt8 := [182, 0, 249, 62, 29, 156, 0, 8, 29, 116, 167, 0, 4, 29, 54, 4, 18, 246, 54, 5, 21, 5]
abbrev dktX3_dare_2 : List UInt8 := dkwX3_dare_2 ++ dktX3_dare_3
def dkwX3_dare_1 : List UInt8 := [153, 0, 13, 28, 133, 9, 10, 184, 0, 60, 154, 0, 6, 18, 70, 172, 42, 27, 42, 180, 0, 19, 4, 46]
abbrev dktX3_dare_1 : List UInt8 := dkwX3_dare_1 ++ dktX3_dare_2
def dkwX3_dare_0 : List UInt8 := [42, 3, 181, 0, 50, 42, 182, 0, 192, 154, 0, 6, 18, 196, 172, 27, 133, 9, 20, 0, 247, 184, 0, 60]
abbrev dktX3_dare_0 : List UInt8 := dkwX3_dare_0 ++ dktX3_dare_1
theorem dksX3_dare_0 : cX3_dare.data.toList.drop 0 = dktX3_dare_0 := by decide +kernel
theorem dksX3_dare_1 : cX3_dare.data.toList.drop 24 = dktX3_dare_1 := dk_seg dksX3_dare_0 24 rfl rfl
theorem dksX3_dare_2 : cX3_dare.data.toList.drop 48 = dktX3_dare_2 := dk_seg dksX3_dare_1 24 rfl rfl
theorem dksX3_dare_3 : cX3_dare.data.toList.drop 70 = dktX3_dare_3 := dk_seg dksX3_dare_2 22 rfl rfl
theorem dksX3_dare_4 : cX3_dare.data.toList.drop 92 = dktX3_dare_4 := dk_seg dksX3_dare_3 22 rfl rfl
theorem dX3_dare_0 : decode cX3_dare 0 = .ok (.aload_n 0, 1) := dk_42 (dk_at dksX3_dare_0 0 rfl rfl)
theorem dX3_dare_1 : decode cX3_dare 1 = .ok (.iconst 0, 1) := dk_3 (dk_at dksX3_dare_0 1 rfl rfl)
theorem dX3_dare_2 : decode cX3_dare 2 = .ok (.putfield 50, 3) := dk_181 0 50 (dk_at dksX3_dare_0 2 rfl rfl)
theorem dX3_dare_5 : decode cX3_dare 5 = .ok (.aload_n 0, 1) := dk_42 (dk_at dksX3_dare_0 5 rfl rfl)
theorem dX3_dare_6 : decode cX3_dare 6 = .ok (.invokevirtual 192, 3) := dk_182 0 192 (dk_at dksX3_dare_0 6 rfl rfl)
theorem dX3_dare_9 : decode cX3_dare 9 = .ok (.ifCond .ne 6, 3) := dk_154 0 6 (dk_at dksX3_dare_0 9 rfl rfl)
theorem dX3_dare_12 : decode cX3_dare 12 = .ok (.ldc 196, 2) := dk_18 196 (dk_at dksX3_dare_0 12 rfl rfl)
theorem dX3_dare_14 : decode cX3_dare 14 = .ok (.ireturn, 1) := dk_172 (dk_at dksX3_dare_0 14 rfl rfl)
theorem dX3_dare_15 : decode cX3_dare 15 = .ok (.iload_n 1, 1) := dk_27 (dk_at dksX3_dare_0 15 rfl rfl)
theorem dX3_dare_16 : decode cX3_dare 16 = .ok (.i2l, 1) := dk_133 (dk_at dksX3_dare_0 16 rfl rfl)
theorem dX3_dare_17 : decode cX3_dare 17 = .ok (.lconst 0, 1) := dk_9 (dk_at dksX3_dare_0 17 rfl rfl)
theorem dX3_dare_18 : decode cX3_dare 18 = .ok (.ldc2_w 247, 3) := dk_20 0 247 (dk_at dksX3_dare_0 18 rfl rfl)
theorem dX3_dare_21 : decode cX3_dare 21 = .ok (.invokestatic 60, 3) := dk_184 0 60 (dk_at dksX3_dare_0 21 rfl rfl)
theorem dX3_dare_24 : decode cX3_dare 24 = .ok (.ifCond .eq 13, 3) := dk_153 0 13 (dk_at dksX3_dare_1 0 rfl rfl)
theorem dX3_dare_27 : decode cX3_dare 27 = .ok (.iload_n 2, 1) := dk_28 (dk_at dksX3_dare_1 3 rfl rfl)
theorem dX3_dare_28 : decode cX3_dare 28 = .ok (.i2l, 1) := dk_133 (dk_at dksX3_dare_1 4 rfl rfl)
theorem dX3_dare_29 : decode cX3_dare 29 = .ok (.lconst 0, 1) := dk_9 (dk_at dksX3_dare_1 5 rfl rfl)
theorem dX3_dare_30 : decode cX3_dare 30 = .ok (.lconst 1, 1) := dk_10 (dk_at dksX3_dare_1 6 rfl rfl)
theorem dX3_dare_31 : decode cX3_dare 31 = .ok (.invokestatic 60, 3) := dk_184 0 60 (dk_at dksX3_dare_1 7 rfl rfl)
theorem dX3_dare_34 : decode cX3_dare 34 = .ok (.ifCond .ne 6, 3) := dk_154 0 6 (dk_at dksX3_dare_1 10 rfl rfl)
theorem dX3_dare_37 : decode cX3_dare 37 = .ok (.ldc 70, 2) := dk_18 70 (dk_at dksX3_dare_1 13 rfl rfl)
theorem dX3_dare_39 : decode cX3_dare 39 = .ok (.ireturn, 1) := dk_172 (dk_at dksX3_dare_1 15 rfl rfl)
theorem dX3_dare_40 : decode cX3_dare 40 = .ok (.aload_n 0, 1) := dk_42 (dk_at dksX3_dare_1 16 rfl rfl)
theorem dX3_dare_41 : decode cX3_dare 41 = .ok (.iload_n 1, 1) := dk_27 (dk_at dksX3_dare_1 17 rfl rfl)
theorem dX3_dare_42 : decode cX3_dare 42 = .ok (.aload_n 0, 1) := dk_42 (dk_at dksX3_dare_1 18 rfl rfl)
theorem dX3_dare_43 : decode cX3_dare 43 = .ok (.getfield 19, 3) := dk_180 0 19 (dk_at dksX3_dare_1 19 rfl rfl)
theorem dX3_dare_46 : decode cX3_dare 46 = .ok (.iconst 1, 1) := dk_4 (dk_at dksX3_dare_1 22 rfl rfl)
theorem dX3_dare_47 : decode cX3_dare 47 = .ok (.iaload, 1) := dk_46 (dk_at dksX3_dare_1 23 rfl rfl)
theorem dX3_dare_48 : decode cX3_dare 48 = .ok (.invokevirtual 249, 3) := dk_182 0 249 (dk_at dksX3_dare_2 0 rfl rfl)
theorem dX3_dare_51 : decode cX3_dare 51 = .ok (.istore_n 3, 1) := dk_62 (dk_at dksX3_dare_2 3 rfl rfl)
theorem dX3_dare_52 : decode cX3_dare 52 = .ok (.iload_n 3, 1) := dk_29 (dk_at dksX3_dare_2 4 rfl rfl)
theorem dX3_dare_53 : decode cX3_dare 53 = .ok (.ifCond .ge 8, 3) := dk_156 0 8 (dk_at dksX3_dare_2 5 rfl rfl)
theorem dX3_dare_56 : decode cX3_dare 56 = .ok (.iload_n 3, 1) := dk_29 (dk_at dksX3_dare_2 8 rfl rfl)
theorem dX3_dare_57 : decode cX3_dare 57 = .ok (.ineg, 1) := dk_116 (dk_at dksX3_dare_2 9 rfl rfl)
theorem dX3_dare_58 : decode cX3_dare 58 = .ok (.goto 4, 3) := dk_167 0 4 (dk_at dksX3_dare_2 10 rfl rfl)
theorem dX3_dare_61 : decode cX3_dare 61 = .ok (.iload_n 3, 1) := dk_29 (dk_at dksX3_dare_2 13 rfl rfl)
theorem dX3_dare_62 : decode cX3_dare 62 = .ok (.istore 4, 2) := dk_54 4 (dk_at dksX3_dare_2 14 rfl rfl)
theorem dX3_dare_64 : decode cX3_dare 64 = .ok (.ldc 246, 2) := dk_18 246 (dk_at dksX3_dare_2 16 rfl rfl)
theorem dX3_dare_66 : decode cX3_dare 66 = .ok (.istore 5, 2) := dk_54 5 (dk_at dksX3_dare_2 18 rfl rfl)
theorem dX3_dare_68 : decode cX3_dare 68 = .ok (.iload 5, 2) := dk_21 5 (dk_at dksX3_dare_2 20 rfl rfl)
theorem dX3_dare_70 : decode cX3_dare 70 = .ok (.ifCond .eq 21, 3) := dk_153 0 21 (dk_at dksX3_dare_3 0 rfl rfl)
theorem dX3_dare_73 : decode cX3_dare 73 = .ok (.iload 4, 2) := dk_21 4 (dk_at dksX3_dare_3 3 rfl rfl)
theorem dX3_dare_75 : decode cX3_dare 75 = .ok (.iload 5, 2) := dk_21 5 (dk_at dksX3_dare_3 5 rfl rfl)
theorem dX3_dare_77 : decode cX3_dare 77 = .ok (.irem, 1) := dk_112 (dk_at dksX3_dare_3 7 rfl rfl)
theorem dX3_dare_78 : decode cX3_dare 78 = .ok (.istore 6, 2) := dk_54 6 (dk_at dksX3_dare_3 8 rfl rfl)
theorem dX3_dare_80 : decode cX3_dare 80 = .ok (.iload 5, 2) := dk_21 5 (dk_at dksX3_dare_3 10 rfl rfl)
theorem dX3_dare_82 : decode cX3_dare 82 = .ok (.istore 4, 2) := dk_54 4 (dk_at dksX3_dare_3 12 rfl rfl)
theorem dX3_dare_84 : decode cX3_dare 84 = .ok (.iload 6, 2) := dk_21 6 (dk_at dksX3_dare_3 14 rfl rfl)
theorem dX3_dare_86 : decode cX3_dare 86 = .ok (.istore 5, 2) := dk_54 5 (dk_at dksX3_dare_3 16 rfl rfl)
theorem dX3_dare_88 : decode cX3_dare 88 = .ok (.goto (-20), 3) := dk_167 255 236 (dk_at dksX3_dare_3 18 rfl rfl)
theorem dX3_dare_91 : decode cX3_dare 91 = .ok (.iload_n 2, 1) := dk_28 (dk_at dksX3_dare_3 21 rfl rfl)
theorem dX3_dare_92 : decode cX3_dare 92 = .ok (.ifCond .ne 7, 3) := dk_154 0 7 (dk_at dksX3_dare_4 0 rfl rfl)
theorem dX3_dare_95 : decode cX3_dare 95 = .ok (.iload_n 3, 1) := dk_29 (dk_at dksX3_dare_4 3 rfl rfl)
theorem dX3_dare_96 : decode cX3_dare 96 = .ok (.goto 5, 3) := dk_167 0 5 (dk_at dksX3_dare_4 4 rfl rfl)
theorem dX3_dare_99 : decode cX3_dare 99 = .ok (.ldc 246, 2) := dk_18 246 (dk_at dksX3_dare_4 7 rfl rfl)
theorem dX3_dare_101 : decode cX3_dare 101 = .ok (.iload 4, 2) := dk_21 4 (dk_at dksX3_dare_4 9 rfl rfl)
theorem dX3_dare_103 : decode cX3_dare 103 = .ok (.idiv, 1) := dk_108 (dk_at dksX3_dare_4 11 rfl rfl)
theorem dX3_dare_104 : decode cX3_dare 104 = .ok (.ireturn, 1) := dk_172 (dk_at dksX3_dare_4 12 rfl rfl)
abbrev cX3_brings : ByteArray := prog_16_method_59_code
def yX3_brings : MethodName := ⟨RX3, "brings", "(II)I"⟩
def dkwX3_brings_1 : List UInt8 := [28, 104, 27, 104, 18, 246, 29, 100, 42, 180, 0, 19, 6, 46, 104, 100, 172]
abbrev dktX3_brings_1 : List UInt8 := dkwX3_brings_1 ++ []
def dkwX3_brings_0 : List UInt8 := [16, 100, 42, 180, 0, 19, 5, 46, 100, 27, 184, 0, 243, 16, 100, 6, 27, 100, 184, 0, 243, 104, 62, 29]
abbrev dktX3_brings_0 : List UInt8 := dkwX3_brings_0 ++ dktX3_brings_1
theorem dksX3_brings_0 : cX3_brings.data.toList.drop 0 = dktX3_brings_0 := by decide +kernel
theorem dksX3_brings_1 : cX3_brings.data.toList.drop 24 = dktX3_brings_1 := dk_seg dksX3_brings_0 24 rfl rfl
theorem dX3_brings_0 : decode cX3_brings 0 = .ok (.bipush 100, 2) := dk_16 100 (dk_at dksX3_brings_0 0 rfl rfl)
theorem dX3_brings_2 : decode cX3_brings 2 = .ok (.aload_n 0, 1) := dk_42 (dk_at dksX3_brings_0 2 rfl rfl)
theorem dX3_brings_3 : decode cX3_brings 3 = .ok (.getfield 19, 3) := dk_180 0 19 (dk_at dksX3_brings_0 3 rfl rfl)
theorem dX3_brings_6 : decode cX3_brings 6 = .ok (.iconst 2, 1) := dk_5 (dk_at dksX3_brings_0 6 rfl rfl)
theorem dX3_brings_7 : decode cX3_brings 7 = .ok (.iaload, 1) := dk_46 (dk_at dksX3_brings_0 7 rfl rfl)
theorem dX3_brings_8 : decode cX3_brings 8 = .ok (.isub, 1) := dk_100 (dk_at dksX3_brings_0 8 rfl rfl)
theorem dX3_brings_9 : decode cX3_brings 9 = .ok (.iload_n 1, 1) := dk_27 (dk_at dksX3_brings_0 9 rfl rfl)
theorem dX3_brings_10 : decode cX3_brings 10 = .ok (.invokestatic 243, 3) := dk_184 0 243 (dk_at dksX3_brings_0 10 rfl rfl)
theorem dX3_brings_13 : decode cX3_brings 13 = .ok (.bipush 100, 2) := dk_16 100 (dk_at dksX3_brings_0 13 rfl rfl)
theorem dX3_brings_15 : decode cX3_brings 15 = .ok (.iconst 3, 1) := dk_6 (dk_at dksX3_brings_0 15 rfl rfl)
theorem dX3_brings_16 : decode cX3_brings 16 = .ok (.iload_n 1, 1) := dk_27 (dk_at dksX3_brings_0 16 rfl rfl)
theorem dX3_brings_17 : decode cX3_brings 17 = .ok (.isub, 1) := dk_100 (dk_at dksX3_brings_0 17 rfl rfl)
theorem dX3_brings_18 : decode cX3_brings 18 = .ok (.invokestatic 243, 3) := dk_184 0 243 (dk_at dksX3_brings_0 18 rfl rfl)
theorem dX3_brings_21 : decode cX3_brings 21 = .ok (.imul, 1) := dk_104 (dk_at dksX3_brings_0 21 rfl rfl)
theorem dX3_brings_22 : decode cX3_brings 22 = .ok (.istore_n 3, 1) := dk_62 (dk_at dksX3_brings_0 22 rfl rfl)
theorem dX3_brings_23 : decode cX3_brings 23 = .ok (.iload_n 3, 1) := dk_29 (dk_at dksX3_brings_0 23 rfl rfl)
theorem dX3_brings_24 : decode cX3_brings 24 = .ok (.iload_n 2, 1) := dk_28 (dk_at dksX3_brings_1 0 rfl rfl)
theorem dX3_brings_25 : decode cX3_brings 25 = .ok (.imul, 1) := dk_104 (dk_at dksX3_brings_1 1 rfl rfl)
theorem dX3_brings_26 : decode cX3_brings 26 = .ok (.iload_n 1, 1) := dk_27 (dk_at dksX3_brings_1 2 rfl rfl)
theorem dX3_brings_27 : decode cX3_brings 27 = .ok (.imul, 1) := dk_104 (dk_at dksX3_brings_1 3 rfl rfl)
theorem dX3_brings_28 : decode cX3_brings 28 = .ok (.ldc 246, 2) := dk_18 246 (dk_at dksX3_brings_1 4 rfl rfl)
theorem dX3_brings_30 : decode cX3_brings 30 = .ok (.iload_n 3, 1) := dk_29 (dk_at dksX3_brings_1 6 rfl rfl)
theorem dX3_brings_31 : decode cX3_brings 31 = .ok (.isub, 1) := dk_100 (dk_at dksX3_brings_1 7 rfl rfl)
theorem dX3_brings_32 : decode cX3_brings 32 = .ok (.aload_n 0, 1) := dk_42 (dk_at dksX3_brings_1 8 rfl rfl)
theorem dX3_brings_33 : decode cX3_brings 33 = .ok (.getfield 19, 3) := dk_180 0 19 (dk_at dksX3_brings_1 9 rfl rfl)
theorem dX3_brings_36 : decode cX3_brings 36 = .ok (.iconst 3, 1) := dk_6 (dk_at dksX3_brings_1 12 rfl rfl)
theorem dX3_brings_37 : decode cX3_brings 37 = .ok (.iaload, 1) := dk_46 (dk_at dksX3_brings_1 13 rfl rfl)
theorem dX3_brings_38 : decode cX3_brings 38 = .ok (.imul, 1) := dk_104 (dk_at dksX3_brings_1 14 rfl rfl)
theorem dX3_brings_39 : decode cX3_brings 39 = .ok (.isub, 1) := dk_100 (dk_at dksX3_brings_1 15 rfl rfl)
theorem dX3_brings_40 : decode cX3_brings 40 = .ok (.ireturn, 1) := dk_172 (dk_at dksX3_brings_1 16 rfl rfl)
abbrev cX3_timesOf : ByteArray := prog_16_method_58_code
def yX3_timesOf : MethodName := ⟨RX3, "timesOf", "(II)I"⟩
def dkwX3_timesOf_0 : List UInt8 := [4, 61, 3, 62, 29, 27, 162, 0, 13, 28, 26, 104, 61, 132, 3, 1, 167, 255, 244, 28, 172]
abbrev dktX3_timesOf_0 : List UInt8 := dkwX3_timesOf_0 ++ []
theorem dksX3_timesOf_0 : cX3_timesOf.data.toList.drop 0 = dktX3_timesOf_0 := by decide +kernel
theorem dX3_timesOf_0 : decode cX3_timesOf 0 = .ok (.iconst 1, 1) := dk_4 (dk_at dksX3_timesOf_0 0 rfl rfl)
theorem dX3_timesOf_1 : decode cX3_timesOf 1 = .ok (.istore_n 2, 1) := dk_61 (dk_at dksX3_timesOf_0 1 rfl rfl)
theorem dX3_timesOf_2 : decode cX3_timesOf 2 = .ok (.iconst 0, 1) := dk_3 (dk_at dksX3_timesOf_0 2 rfl rfl)
theorem dX3_timesOf_3 : decode cX3_timesOf 3 = .ok (.istore_n 3, 1) := dk_62 (dk_at dksX3_timesOf_0 3 rfl rfl)
theorem dX3_timesOf_4 : decode cX3_timesOf 4 = .ok (.iload_n 3, 1) := dk_29 (dk_at dksX3_timesOf_0 4 rfl rfl)
theorem dX3_timesOf_5 : decode cX3_timesOf 5 = .ok (.iload_n 1, 1) := dk_27 (dk_at dksX3_timesOf_0 5 rfl rfl)
theorem dX3_timesOf_6 : decode cX3_timesOf 6 = .ok (.if_icmp .ge 13, 3) := dk_162 0 13 (dk_at dksX3_timesOf_0 6 rfl rfl)
theorem dX3_timesOf_9 : decode cX3_timesOf 9 = .ok (.iload_n 2, 1) := dk_28 (dk_at dksX3_timesOf_0 9 rfl rfl)
theorem dX3_timesOf_10 : decode cX3_timesOf 10 = .ok (.iload_n 0, 1) := dk_26 (dk_at dksX3_timesOf_0 10 rfl rfl)
theorem dX3_timesOf_11 : decode cX3_timesOf 11 = .ok (.imul, 1) := dk_104 (dk_at dksX3_timesOf_0 11 rfl rfl)
theorem dX3_timesOf_12 : decode cX3_timesOf 12 = .ok (.istore_n 2, 1) := dk_61 (dk_at dksX3_timesOf_0 12 rfl rfl)
theorem dX3_timesOf_13 : decode cX3_timesOf 13 = .ok (.iinc 3 1, 3) := dk_132 3 1 (dk_at dksX3_timesOf_0 13 rfl rfl)
theorem dX3_timesOf_16 : decode cX3_timesOf 16 = .ok (.goto (-12), 3) := dk_167 255 244 (dk_at dksX3_timesOf_0 16 rfl rfl)
theorem dX3_timesOf_19 : decode cX3_timesOf 19 = .ok (.iload_n 2, 1) := dk_28 (dk_at dksX3_timesOf_0 19 rfl rfl)
theorem dX3_timesOf_20 : decode cX3_timesOf 20 = .ok (.ireturn, 1) := dk_172 (dk_at dksX3_timesOf_0 20 rfl rfl)
abbrev cX3_best : ByteArray := prog_16_method_62_code
def yX3_best : MethodName := ⟨RX3, "best", "(I)I"⟩
def dkwX3_best_2 : List UInt8 := [42, 28, 182, 0, 252, 158, 0, 9, 132, 2, 255, 167, 255, 245, 28, 172]
abbrev dktX3_best_2 : List UInt8 := dkwX3_best_2 ++ []
def dkwX3_best_1 : List UInt8 := [154, 0, 6, 18, 70, 172, 27, 154, 0, 14, 42, 42, 180, 0, 19, 4, 46, 182, 0, 252, 172, 16, 20, 61]
abbrev dktX3_best_1 : List UInt8 := dkwX3_best_1 ++ dktX3_best_2
def dkwX3_best_0 : List UInt8 := [42, 3, 181, 0, 50, 42, 182, 0, 192, 154, 0, 6, 18, 196, 172, 27, 133, 9, 10, 184, 0, 60]
abbrev dktX3_best_0 : List UInt8 := dkwX3_best_0 ++ dktX3_best_1
theorem dksX3_best_0 : cX3_best.data.toList.drop 0 = dktX3_best_0 := by decide +kernel
theorem dksX3_best_1 : cX3_best.data.toList.drop 22 = dktX3_best_1 := dk_seg dksX3_best_0 22 rfl rfl
theorem dksX3_best_2 : cX3_best.data.toList.drop 46 = dktX3_best_2 := dk_seg dksX3_best_1 24 rfl rfl
theorem dX3_best_0 : decode cX3_best 0 = .ok (.aload_n 0, 1) := dk_42 (dk_at dksX3_best_0 0 rfl rfl)
theorem dX3_best_1 : decode cX3_best 1 = .ok (.iconst 0, 1) := dk_3 (dk_at dksX3_best_0 1 rfl rfl)
theorem dX3_best_2 : decode cX3_best 2 = .ok (.putfield 50, 3) := dk_181 0 50 (dk_at dksX3_best_0 2 rfl rfl)
theorem dX3_best_5 : decode cX3_best 5 = .ok (.aload_n 0, 1) := dk_42 (dk_at dksX3_best_0 5 rfl rfl)
theorem dX3_best_6 : decode cX3_best 6 = .ok (.invokevirtual 192, 3) := dk_182 0 192 (dk_at dksX3_best_0 6 rfl rfl)
theorem dX3_best_9 : decode cX3_best 9 = .ok (.ifCond .ne 6, 3) := dk_154 0 6 (dk_at dksX3_best_0 9 rfl rfl)
theorem dX3_best_12 : decode cX3_best 12 = .ok (.ldc 196, 2) := dk_18 196 (dk_at dksX3_best_0 12 rfl rfl)
theorem dX3_best_14 : decode cX3_best 14 = .ok (.ireturn, 1) := dk_172 (dk_at dksX3_best_0 14 rfl rfl)
theorem dX3_best_15 : decode cX3_best 15 = .ok (.iload_n 1, 1) := dk_27 (dk_at dksX3_best_0 15 rfl rfl)
theorem dX3_best_16 : decode cX3_best 16 = .ok (.i2l, 1) := dk_133 (dk_at dksX3_best_0 16 rfl rfl)
theorem dX3_best_17 : decode cX3_best 17 = .ok (.lconst 0, 1) := dk_9 (dk_at dksX3_best_0 17 rfl rfl)
theorem dX3_best_18 : decode cX3_best 18 = .ok (.lconst 1, 1) := dk_10 (dk_at dksX3_best_0 18 rfl rfl)
theorem dX3_best_19 : decode cX3_best 19 = .ok (.invokestatic 60, 3) := dk_184 0 60 (dk_at dksX3_best_0 19 rfl rfl)
theorem dX3_best_22 : decode cX3_best 22 = .ok (.ifCond .ne 6, 3) := dk_154 0 6 (dk_at dksX3_best_1 0 rfl rfl)
theorem dX3_best_25 : decode cX3_best 25 = .ok (.ldc 70, 2) := dk_18 70 (dk_at dksX3_best_1 3 rfl rfl)
theorem dX3_best_27 : decode cX3_best 27 = .ok (.ireturn, 1) := dk_172 (dk_at dksX3_best_1 5 rfl rfl)
theorem dX3_best_28 : decode cX3_best 28 = .ok (.iload_n 1, 1) := dk_27 (dk_at dksX3_best_1 6 rfl rfl)
theorem dX3_best_29 : decode cX3_best 29 = .ok (.ifCond .ne 14, 3) := dk_154 0 14 (dk_at dksX3_best_1 7 rfl rfl)
theorem dX3_best_32 : decode cX3_best 32 = .ok (.aload_n 0, 1) := dk_42 (dk_at dksX3_best_1 10 rfl rfl)
theorem dX3_best_33 : decode cX3_best 33 = .ok (.aload_n 0, 1) := dk_42 (dk_at dksX3_best_1 11 rfl rfl)
theorem dX3_best_34 : decode cX3_best 34 = .ok (.getfield 19, 3) := dk_180 0 19 (dk_at dksX3_best_1 12 rfl rfl)
theorem dX3_best_37 : decode cX3_best 37 = .ok (.iconst 1, 1) := dk_4 (dk_at dksX3_best_1 15 rfl rfl)
theorem dX3_best_38 : decode cX3_best 38 = .ok (.iaload, 1) := dk_46 (dk_at dksX3_best_1 16 rfl rfl)
theorem dX3_best_39 : decode cX3_best 39 = .ok (.invokevirtual 252, 3) := dk_182 0 252 (dk_at dksX3_best_1 17 rfl rfl)
theorem dX3_best_42 : decode cX3_best 42 = .ok (.ireturn, 1) := dk_172 (dk_at dksX3_best_1 20 rfl rfl)
theorem dX3_best_43 : decode cX3_best 43 = .ok (.bipush 20, 2) := dk_16 20 (dk_at dksX3_best_1 21 rfl rfl)
theorem dX3_best_45 : decode cX3_best 45 = .ok (.istore_n 2, 1) := dk_61 (dk_at dksX3_best_1 23 rfl rfl)
theorem dX3_best_46 : decode cX3_best 46 = .ok (.aload_n 0, 1) := dk_42 (dk_at dksX3_best_2 0 rfl rfl)
theorem dX3_best_47 : decode cX3_best 47 = .ok (.iload_n 2, 1) := dk_28 (dk_at dksX3_best_2 1 rfl rfl)
theorem dX3_best_48 : decode cX3_best 48 = .ok (.invokevirtual 252, 3) := dk_182 0 252 (dk_at dksX3_best_2 2 rfl rfl)
theorem dX3_best_51 : decode cX3_best 51 = .ok (.ifCond .le 9, 3) := dk_158 0 9 (dk_at dksX3_best_2 5 rfl rfl)
theorem dX3_best_54 : decode cX3_best 54 = .ok (.iinc 2 (-1), 3) := dk_132 2 255 (dk_at dksX3_best_2 8 rfl rfl)
theorem dX3_best_57 : decode cX3_best 57 = .ok (.goto (-11), 3) := dk_167 255 245 (dk_at dksX3_best_2 11 rfl rfl)
theorem dX3_best_60 : decode cX3_best 60 = .ok (.iload_n 2, 1) := dk_28 (dk_at dksX3_best_2 14 rfl rfl)
theorem dX3_best_61 : decode cX3_best 61 = .ok (.ireturn, 1) := dk_172 (dk_at dksX3_best_2 15 rfl rfl)
abbrev cX3_bestBy : ByteArray := prog_16_method_61_code
def yX3_bestBy : MethodName := ⟨RX3, "bestBy", "(I)I"⟩
def dkwX3_bestBy_1 : List UInt8 := [29, 167, 0, 4, 28, 61, 132, 3, 1, 167, 255, 227, 28, 172]
abbrev dktX3_bestBy_1 : List UInt8 := dkwX3_bestBy_1 ++ []
def dkwX3_bestBy_0 : List UInt8 := [3, 61, 4, 62, 29, 6, 163, 0, 30, 42, 29, 27, 182, 0, 249, 42, 28, 27, 182, 0, 249, 164, 0, 7]
abbrev dktX3_bestBy_0 : List UInt8 := dkwX3_bestBy_0 ++ dktX3_bestBy_1
theorem dksX3_bestBy_0 : cX3_bestBy.data.toList.drop 0 = dktX3_bestBy_0 := by decide +kernel
theorem dksX3_bestBy_1 : cX3_bestBy.data.toList.drop 24 = dktX3_bestBy_1 := dk_seg dksX3_bestBy_0 24 rfl rfl
theorem dX3_bestBy_0 : decode cX3_bestBy 0 = .ok (.iconst 0, 1) := dk_3 (dk_at dksX3_bestBy_0 0 rfl rfl)
theorem dX3_bestBy_1 : decode cX3_bestBy 1 = .ok (.istore_n 2, 1) := dk_61 (dk_at dksX3_bestBy_0 1 rfl rfl)
theorem dX3_bestBy_2 : decode cX3_bestBy 2 = .ok (.iconst 1, 1) := dk_4 (dk_at dksX3_bestBy_0 2 rfl rfl)
theorem dX3_bestBy_3 : decode cX3_bestBy 3 = .ok (.istore_n 3, 1) := dk_62 (dk_at dksX3_bestBy_0 3 rfl rfl)
theorem dX3_bestBy_4 : decode cX3_bestBy 4 = .ok (.iload_n 3, 1) := dk_29 (dk_at dksX3_bestBy_0 4 rfl rfl)
theorem dX3_bestBy_5 : decode cX3_bestBy 5 = .ok (.iconst 3, 1) := dk_6 (dk_at dksX3_bestBy_0 5 rfl rfl)
theorem dX3_bestBy_6 : decode cX3_bestBy 6 = .ok (.if_icmp .gt 30, 3) := dk_163 0 30 (dk_at dksX3_bestBy_0 6 rfl rfl)
theorem dX3_bestBy_9 : decode cX3_bestBy 9 = .ok (.aload_n 0, 1) := dk_42 (dk_at dksX3_bestBy_0 9 rfl rfl)
theorem dX3_bestBy_10 : decode cX3_bestBy 10 = .ok (.iload_n 3, 1) := dk_29 (dk_at dksX3_bestBy_0 10 rfl rfl)
theorem dX3_bestBy_11 : decode cX3_bestBy 11 = .ok (.iload_n 1, 1) := dk_27 (dk_at dksX3_bestBy_0 11 rfl rfl)
theorem dX3_bestBy_12 : decode cX3_bestBy 12 = .ok (.invokevirtual 249, 3) := dk_182 0 249 (dk_at dksX3_bestBy_0 12 rfl rfl)
theorem dX3_bestBy_15 : decode cX3_bestBy 15 = .ok (.aload_n 0, 1) := dk_42 (dk_at dksX3_bestBy_0 15 rfl rfl)
theorem dX3_bestBy_16 : decode cX3_bestBy 16 = .ok (.iload_n 2, 1) := dk_28 (dk_at dksX3_bestBy_0 16 rfl rfl)
theorem dX3_bestBy_17 : decode cX3_bestBy 17 = .ok (.iload_n 1, 1) := dk_27 (dk_at dksX3_bestBy_0 17 rfl rfl)
theorem dX3_bestBy_18 : decode cX3_bestBy 18 = .ok (.invokevirtual 249, 3) := dk_182 0 249 (dk_at dksX3_bestBy_0 18 rfl rfl)
theorem dX3_bestBy_21 : decode cX3_bestBy 21 = .ok (.if_icmp .le 7, 3) := dk_164 0 7 (dk_at dksX3_bestBy_0 21 rfl rfl)
theorem dX3_bestBy_24 : decode cX3_bestBy 24 = .ok (.iload_n 3, 1) := dk_29 (dk_at dksX3_bestBy_1 0 rfl rfl)
theorem dX3_bestBy_25 : decode cX3_bestBy 25 = .ok (.goto 4, 3) := dk_167 0 4 (dk_at dksX3_bestBy_1 1 rfl rfl)
theorem dX3_bestBy_28 : decode cX3_bestBy 28 = .ok (.iload_n 2, 1) := dk_28 (dk_at dksX3_bestBy_1 4 rfl rfl)
theorem dX3_bestBy_29 : decode cX3_bestBy 29 = .ok (.istore_n 2, 1) := dk_61 (dk_at dksX3_bestBy_1 5 rfl rfl)
theorem dX3_bestBy_30 : decode cX3_bestBy 30 = .ok (.iinc 3 1, 3) := dk_132 3 1 (dk_at dksX3_bestBy_1 6 rfl rfl)
theorem dX3_bestBy_33 : decode cX3_bestBy 33 = .ok (.goto (-29), 3) := dk_167 255 227 (dk_at dksX3_bestBy_1 9 rfl rfl)
theorem dX3_bestBy_36 : decode cX3_bestBy 36 = .ok (.iload_n 2, 1) := dk_28 (dk_at dksX3_bestBy_1 12 rfl rfl)
theorem dX3_bestBy_37 : decode cX3_bestBy 37 = .ok (.ireturn, 1) := dk_172 (dk_at dksX3_bestBy_1 13 rfl rfl)
abbrev cX3_image : ByteArray := prog_16_method_63_code
def yX3_image : MethodName := ⟨RX3, "image", "(I)I"⟩
def dkwX3_image_2 : List UInt8 := [42, 180, 0, 19, 28, 46, 79, 132, 2, 1, 167, 255, 230, 42, 180, 0, 40, 27, 4, 84, 4, 172]
abbrev dktX3_image_2 : List UInt8 := dkwX3_image_2 ++ []
def dkwX3_image_1 : List UInt8 := [154, 0, 6, 18, 196, 172, 3, 61, 28, 16, 94, 162, 0, 26, 42, 180, 0, 44, 16, 94, 27, 104, 28, 96]
abbrev dktX3_image_1 : List UInt8 := dkwX3_image_1 ++ dktX3_image_2
def dkwX3_image_0 : List UInt8 := [42, 3, 181, 0, 50, 27, 133, 9, 10, 184, 0, 60, 154, 0, 6, 18, 70, 172, 42, 182, 0, 192]
abbrev dktX3_image_0 : List UInt8 := dkwX3_image_0 ++ dktX3_image_1
theorem dksX3_image_0 : cX3_image.data.toList.drop 0 = dktX3_image_0 := by decide +kernel
theorem dksX3_image_1 : cX3_image.data.toList.drop 22 = dktX3_image_1 := dk_seg dksX3_image_0 22 rfl rfl
theorem dksX3_image_2 : cX3_image.data.toList.drop 46 = dktX3_image_2 := dk_seg dksX3_image_1 24 rfl rfl
theorem dX3_image_0 : decode cX3_image 0 = .ok (.aload_n 0, 1) := dk_42 (dk_at dksX3_image_0 0 rfl rfl)
theorem dX3_image_1 : decode cX3_image 1 = .ok (.iconst 0, 1) := dk_3 (dk_at dksX3_image_0 1 rfl rfl)
theorem dX3_image_2 : decode cX3_image 2 = .ok (.putfield 50, 3) := dk_181 0 50 (dk_at dksX3_image_0 2 rfl rfl)
theorem dX3_image_5 : decode cX3_image 5 = .ok (.iload_n 1, 1) := dk_27 (dk_at dksX3_image_0 5 rfl rfl)
theorem dX3_image_6 : decode cX3_image 6 = .ok (.i2l, 1) := dk_133 (dk_at dksX3_image_0 6 rfl rfl)
theorem dX3_image_7 : decode cX3_image 7 = .ok (.lconst 0, 1) := dk_9 (dk_at dksX3_image_0 7 rfl rfl)
theorem dX3_image_8 : decode cX3_image 8 = .ok (.lconst 1, 1) := dk_10 (dk_at dksX3_image_0 8 rfl rfl)
theorem dX3_image_9 : decode cX3_image 9 = .ok (.invokestatic 60, 3) := dk_184 0 60 (dk_at dksX3_image_0 9 rfl rfl)
theorem dX3_image_12 : decode cX3_image 12 = .ok (.ifCond .ne 6, 3) := dk_154 0 6 (dk_at dksX3_image_0 12 rfl rfl)
theorem dX3_image_15 : decode cX3_image 15 = .ok (.ldc 70, 2) := dk_18 70 (dk_at dksX3_image_0 15 rfl rfl)
theorem dX3_image_17 : decode cX3_image 17 = .ok (.ireturn, 1) := dk_172 (dk_at dksX3_image_0 17 rfl rfl)
theorem dX3_image_18 : decode cX3_image 18 = .ok (.aload_n 0, 1) := dk_42 (dk_at dksX3_image_0 18 rfl rfl)
theorem dX3_image_19 : decode cX3_image 19 = .ok (.invokevirtual 192, 3) := dk_182 0 192 (dk_at dksX3_image_0 19 rfl rfl)
theorem dX3_image_22 : decode cX3_image 22 = .ok (.ifCond .ne 6, 3) := dk_154 0 6 (dk_at dksX3_image_1 0 rfl rfl)
theorem dX3_image_25 : decode cX3_image 25 = .ok (.ldc 196, 2) := dk_18 196 (dk_at dksX3_image_1 3 rfl rfl)
theorem dX3_image_27 : decode cX3_image 27 = .ok (.ireturn, 1) := dk_172 (dk_at dksX3_image_1 5 rfl rfl)
theorem dX3_image_28 : decode cX3_image 28 = .ok (.iconst 0, 1) := dk_3 (dk_at dksX3_image_1 6 rfl rfl)
theorem dX3_image_29 : decode cX3_image 29 = .ok (.istore_n 2, 1) := dk_61 (dk_at dksX3_image_1 7 rfl rfl)
theorem dX3_image_30 : decode cX3_image 30 = .ok (.iload_n 2, 1) := dk_28 (dk_at dksX3_image_1 8 rfl rfl)
theorem dX3_image_31 : decode cX3_image 31 = .ok (.bipush 94, 2) := dk_16 94 (dk_at dksX3_image_1 9 rfl rfl)
theorem dX3_image_33 : decode cX3_image 33 = .ok (.if_icmp .ge 26, 3) := dk_162 0 26 (dk_at dksX3_image_1 11 rfl rfl)
theorem dX3_image_36 : decode cX3_image 36 = .ok (.aload_n 0, 1) := dk_42 (dk_at dksX3_image_1 14 rfl rfl)
theorem dX3_image_37 : decode cX3_image 37 = .ok (.getfield 44, 3) := dk_180 0 44 (dk_at dksX3_image_1 15 rfl rfl)
theorem dX3_image_40 : decode cX3_image 40 = .ok (.bipush 94, 2) := dk_16 94 (dk_at dksX3_image_1 18 rfl rfl)
theorem dX3_image_42 : decode cX3_image 42 = .ok (.iload_n 1, 1) := dk_27 (dk_at dksX3_image_1 20 rfl rfl)
theorem dX3_image_43 : decode cX3_image 43 = .ok (.imul, 1) := dk_104 (dk_at dksX3_image_1 21 rfl rfl)
theorem dX3_image_44 : decode cX3_image 44 = .ok (.iload_n 2, 1) := dk_28 (dk_at dksX3_image_1 22 rfl rfl)
theorem dX3_image_45 : decode cX3_image 45 = .ok (.iadd, 1) := dk_96 (dk_at dksX3_image_1 23 rfl rfl)
theorem dX3_image_46 : decode cX3_image 46 = .ok (.aload_n 0, 1) := dk_42 (dk_at dksX3_image_2 0 rfl rfl)
theorem dX3_image_47 : decode cX3_image 47 = .ok (.getfield 19, 3) := dk_180 0 19 (dk_at dksX3_image_2 1 rfl rfl)
theorem dX3_image_50 : decode cX3_image 50 = .ok (.iload_n 2, 1) := dk_28 (dk_at dksX3_image_2 4 rfl rfl)
theorem dX3_image_51 : decode cX3_image 51 = .ok (.iaload, 1) := dk_46 (dk_at dksX3_image_2 5 rfl rfl)
theorem dX3_image_52 : decode cX3_image 52 = .ok (.iastore, 1) := dk_79 (dk_at dksX3_image_2 6 rfl rfl)
theorem dX3_image_53 : decode cX3_image 53 = .ok (.iinc 2 1, 3) := dk_132 2 1 (dk_at dksX3_image_2 7 rfl rfl)
theorem dX3_image_56 : decode cX3_image 56 = .ok (.goto (-26), 3) := dk_167 255 230 (dk_at dksX3_image_2 10 rfl rfl)
theorem dX3_image_59 : decode cX3_image 59 = .ok (.aload_n 0, 1) := dk_42 (dk_at dksX3_image_2 13 rfl rfl)
theorem dX3_image_60 : decode cX3_image 60 = .ok (.getfield 40, 3) := dk_180 0 40 (dk_at dksX3_image_2 14 rfl rfl)
theorem dX3_image_63 : decode cX3_image 63 = .ok (.iload_n 1, 1) := dk_27 (dk_at dksX3_image_2 17 rfl rfl)
theorem dX3_image_64 : decode cX3_image 64 = .ok (.iconst 1, 1) := dk_4 (dk_at dksX3_image_2 18 rfl rfl)
theorem dX3_image_65 : decode cX3_image 65 = .ok (.bastore, 1) := dk_84 (dk_at dksX3_image_2 19 rfl rfl)
theorem dX3_image_66 : decode cX3_image 66 = .ok (.iconst 1, 1) := dk_4 (dk_at dksX3_image_2 20 rfl rfl)
theorem dX3_image_67 : decode cX3_image 67 = .ok (.ireturn, 1) := dk_172 (dk_at dksX3_image_2 21 rfl rfl)
abbrev cX3_restore : ByteArray := prog_16_method_64_code
def yX3_restore : MethodName := ⟨RX3, "restore", "(I)I"⟩
def dkwX3_restore_2 : List UInt8 := [16, 94, 27, 104, 28, 96, 46, 79, 132, 2, 1, 167, 255, 230, 42, 3, 181, 0, 177, 4, 172]
abbrev dktX3_restore_2 : List UInt8 := dkwX3_restore_2 ++ []
def dkwX3_restore_1 : List UInt8 := [154, 0, 6, 18, 196, 172, 3, 61, 28, 16, 94, 162, 0, 26, 42, 180, 0, 19, 28, 42, 180, 0, 44]
abbrev dktX3_restore_1 : List UInt8 := dkwX3_restore_1 ++ dktX3_restore_2
def dkwX3_restore_0 : List UInt8 := [42, 3, 181, 0, 50, 27, 133, 9, 10, 184, 0, 60, 154, 0, 6, 18, 70, 172, 42, 180, 0, 40, 27, 51]
abbrev dktX3_restore_0 : List UInt8 := dkwX3_restore_0 ++ dktX3_restore_1
theorem dksX3_restore_0 : cX3_restore.data.toList.drop 0 = dktX3_restore_0 := by decide +kernel
theorem dksX3_restore_1 : cX3_restore.data.toList.drop 24 = dktX3_restore_1 := dk_seg dksX3_restore_0 24 rfl rfl
theorem dksX3_restore_2 : cX3_restore.data.toList.drop 47 = dktX3_restore_2 := dk_seg dksX3_restore_1 23 rfl rfl
theorem dX3_restore_0 : decode cX3_restore 0 = .ok (.aload_n 0, 1) := dk_42 (dk_at dksX3_restore_0 0 rfl rfl)
theorem dX3_restore_1 : decode cX3_restore 1 = .ok (.iconst 0, 1) := dk_3 (dk_at dksX3_restore_0 1 rfl rfl)
theorem dX3_restore_2 : decode cX3_restore 2 = .ok (.putfield 50, 3) := dk_181 0 50 (dk_at dksX3_restore_0 2 rfl rfl)
theorem dX3_restore_5 : decode cX3_restore 5 = .ok (.iload_n 1, 1) := dk_27 (dk_at dksX3_restore_0 5 rfl rfl)
theorem dX3_restore_6 : decode cX3_restore 6 = .ok (.i2l, 1) := dk_133 (dk_at dksX3_restore_0 6 rfl rfl)
theorem dX3_restore_7 : decode cX3_restore 7 = .ok (.lconst 0, 1) := dk_9 (dk_at dksX3_restore_0 7 rfl rfl)
theorem dX3_restore_8 : decode cX3_restore 8 = .ok (.lconst 1, 1) := dk_10 (dk_at dksX3_restore_0 8 rfl rfl)
theorem dX3_restore_9 : decode cX3_restore 9 = .ok (.invokestatic 60, 3) := dk_184 0 60 (dk_at dksX3_restore_0 9 rfl rfl)
theorem dX3_restore_12 : decode cX3_restore 12 = .ok (.ifCond .ne 6, 3) := dk_154 0 6 (dk_at dksX3_restore_0 12 rfl rfl)
theorem dX3_restore_15 : decode cX3_restore 15 = .ok (.ldc 70, 2) := dk_18 70 (dk_at dksX3_restore_0 15 rfl rfl)
theorem dX3_restore_17 : decode cX3_restore 17 = .ok (.ireturn, 1) := dk_172 (dk_at dksX3_restore_0 17 rfl rfl)
theorem dX3_restore_18 : decode cX3_restore 18 = .ok (.aload_n 0, 1) := dk_42 (dk_at dksX3_restore_0 18 rfl rfl)
theorem dX3_restore_19 : decode cX3_restore 19 = .ok (.getfield 40, 3) := dk_180 0 40 (dk_at dksX3_restore_0 19 rfl rfl)
theorem dX3_restore_22 : decode cX3_restore 22 = .ok (.iload_n 1, 1) := dk_27 (dk_at dksX3_restore_0 22 rfl rfl)
theorem dX3_restore_23 : decode cX3_restore 23 = .ok (.baload, 1) := dk_51 (dk_at dksX3_restore_0 23 rfl rfl)
theorem dX3_restore_24 : decode cX3_restore 24 = .ok (.ifCond .ne 6, 3) := dk_154 0 6 (dk_at dksX3_restore_1 0 rfl rfl)
theorem dX3_restore_27 : decode cX3_restore 27 = .ok (.ldc 196, 2) := dk_18 196 (dk_at dksX3_restore_1 3 rfl rfl)
theorem dX3_restore_29 : decode cX3_restore 29 = .ok (.ireturn, 1) := dk_172 (dk_at dksX3_restore_1 5 rfl rfl)
theorem dX3_restore_30 : decode cX3_restore 30 = .ok (.iconst 0, 1) := dk_3 (dk_at dksX3_restore_1 6 rfl rfl)
theorem dX3_restore_31 : decode cX3_restore 31 = .ok (.istore_n 2, 1) := dk_61 (dk_at dksX3_restore_1 7 rfl rfl)
theorem dX3_restore_32 : decode cX3_restore 32 = .ok (.iload_n 2, 1) := dk_28 (dk_at dksX3_restore_1 8 rfl rfl)
theorem dX3_restore_33 : decode cX3_restore 33 = .ok (.bipush 94, 2) := dk_16 94 (dk_at dksX3_restore_1 9 rfl rfl)
theorem dX3_restore_35 : decode cX3_restore 35 = .ok (.if_icmp .ge 26, 3) := dk_162 0 26 (dk_at dksX3_restore_1 11 rfl rfl)
theorem dX3_restore_38 : decode cX3_restore 38 = .ok (.aload_n 0, 1) := dk_42 (dk_at dksX3_restore_1 14 rfl rfl)
theorem dX3_restore_39 : decode cX3_restore 39 = .ok (.getfield 19, 3) := dk_180 0 19 (dk_at dksX3_restore_1 15 rfl rfl)
theorem dX3_restore_42 : decode cX3_restore 42 = .ok (.iload_n 2, 1) := dk_28 (dk_at dksX3_restore_1 18 rfl rfl)
theorem dX3_restore_43 : decode cX3_restore 43 = .ok (.aload_n 0, 1) := dk_42 (dk_at dksX3_restore_1 19 rfl rfl)
theorem dX3_restore_44 : decode cX3_restore 44 = .ok (.getfield 44, 3) := dk_180 0 44 (dk_at dksX3_restore_1 20 rfl rfl)
theorem dX3_restore_47 : decode cX3_restore 47 = .ok (.bipush 94, 2) := dk_16 94 (dk_at dksX3_restore_2 0 rfl rfl)
theorem dX3_restore_49 : decode cX3_restore 49 = .ok (.iload_n 1, 1) := dk_27 (dk_at dksX3_restore_2 2 rfl rfl)
theorem dX3_restore_50 : decode cX3_restore 50 = .ok (.imul, 1) := dk_104 (dk_at dksX3_restore_2 3 rfl rfl)
theorem dX3_restore_51 : decode cX3_restore 51 = .ok (.iload_n 2, 1) := dk_28 (dk_at dksX3_restore_2 4 rfl rfl)
theorem dX3_restore_52 : decode cX3_restore 52 = .ok (.iadd, 1) := dk_96 (dk_at dksX3_restore_2 5 rfl rfl)
theorem dX3_restore_53 : decode cX3_restore 53 = .ok (.iaload, 1) := dk_46 (dk_at dksX3_restore_2 6 rfl rfl)
theorem dX3_restore_54 : decode cX3_restore 54 = .ok (.iastore, 1) := dk_79 (dk_at dksX3_restore_2 7 rfl rfl)
theorem dX3_restore_55 : decode cX3_restore 55 = .ok (.iinc 2 1, 3) := dk_132 2 1 (dk_at dksX3_restore_2 8 rfl rfl)
theorem dX3_restore_58 : decode cX3_restore 58 = .ok (.goto (-26), 3) := dk_167 255 230 (dk_at dksX3_restore_2 11 rfl rfl)
theorem dX3_restore_61 : decode cX3_restore 61 = .ok (.aload_n 0, 1) := dk_42 (dk_at dksX3_restore_2 14 rfl rfl)
theorem dX3_restore_62 : decode cX3_restore 62 = .ok (.iconst 0, 1) := dk_3 (dk_at dksX3_restore_2 15 rfl rfl)
theorem dX3_restore_63 : decode cX3_restore 63 = .ok (.putfield 177, 3) := dk_181 0 177 (dk_at dksX3_restore_2 16 rfl rfl)
theorem dX3_restore_66 : decode cX3_restore 66 = .ok (.iconst 1, 1) := dk_4 (dk_at dksX3_restore_2 19 rfl rfl)
theorem dX3_restore_67 : decode cX3_restore 67 = .ok (.ireturn, 1) := dk_172 (dk_at dksX3_restore_2 20 rfl rfl)
abbrev cX3_kind : ByteArray := prog_16_method_66_code
def yX3_kind : MethodName := ⟨RX3, "kind", "(I)I"⟩
def dkwX3_kind_1 : List UInt8 := [172]
abbrev dktX3_kind_1 : List UInt8 := dkwX3_kind_1 ++ []
def dkwX3_kind_0 : List UInt8 := [42, 3, 181, 0, 50, 42, 27, 182, 0, 255, 153, 0, 12, 42, 27, 3, 182, 0, 183, 167, 0, 5, 18, 70]
abbrev dktX3_kind_0 : List UInt8 := dkwX3_kind_0 ++ dktX3_kind_1
theorem dksX3_kind_0 : cX3_kind.data.toList.drop 0 = dktX3_kind_0 := by decide +kernel
theorem dksX3_kind_1 : cX3_kind.data.toList.drop 24 = dktX3_kind_1 := dk_seg dksX3_kind_0 24 rfl rfl
theorem dX3_kind_0 : decode cX3_kind 0 = .ok (.aload_n 0, 1) := dk_42 (dk_at dksX3_kind_0 0 rfl rfl)
theorem dX3_kind_1 : decode cX3_kind 1 = .ok (.iconst 0, 1) := dk_3 (dk_at dksX3_kind_0 1 rfl rfl)
theorem dX3_kind_2 : decode cX3_kind 2 = .ok (.putfield 50, 3) := dk_181 0 50 (dk_at dksX3_kind_0 2 rfl rfl)
theorem dX3_kind_5 : decode cX3_kind 5 = .ok (.aload_n 0, 1) := dk_42 (dk_at dksX3_kind_0 5 rfl rfl)
theorem dX3_kind_6 : decode cX3_kind 6 = .ok (.iload_n 1, 1) := dk_27 (dk_at dksX3_kind_0 6 rfl rfl)
theorem dX3_kind_7 : decode cX3_kind 7 = .ok (.invokevirtual 255, 3) := dk_182 0 255 (dk_at dksX3_kind_0 7 rfl rfl)
theorem dX3_kind_10 : decode cX3_kind 10 = .ok (.ifCond .eq 12, 3) := dk_153 0 12 (dk_at dksX3_kind_0 10 rfl rfl)
theorem dX3_kind_13 : decode cX3_kind 13 = .ok (.aload_n 0, 1) := dk_42 (dk_at dksX3_kind_0 13 rfl rfl)
theorem dX3_kind_14 : decode cX3_kind 14 = .ok (.iload_n 1, 1) := dk_27 (dk_at dksX3_kind_0 14 rfl rfl)
theorem dX3_kind_15 : decode cX3_kind 15 = .ok (.iconst 0, 1) := dk_3 (dk_at dksX3_kind_0 15 rfl rfl)
theorem dX3_kind_16 : decode cX3_kind 16 = .ok (.invokevirtual 183, 3) := dk_182 0 183 (dk_at dksX3_kind_0 16 rfl rfl)
theorem dX3_kind_19 : decode cX3_kind 19 = .ok (.goto 5, 3) := dk_167 0 5 (dk_at dksX3_kind_0 19 rfl rfl)
theorem dX3_kind_22 : decode cX3_kind 22 = .ok (.ldc 70, 2) := dk_18 70 (dk_at dksX3_kind_0 22 rfl rfl)
theorem dX3_kind_24 : decode cX3_kind 24 = .ok (.ireturn, 1) := dk_172 (dk_at dksX3_kind_1 0 rfl rfl)
abbrev cX3_isMover : ByteArray := prog_16_method_30_code
def yX3_isMover : MethodName := ⟨RX3, "isMover", "(I)Z"⟩
def dkwX3_isMover_0 : List UInt8 := [27, 133, 9, 42, 180, 0, 19, 8, 46, 4, 100, 133, 184, 0, 60, 172]
abbrev dktX3_isMover_0 : List UInt8 := dkwX3_isMover_0 ++ []
theorem dksX3_isMover_0 : cX3_isMover.data.toList.drop 0 = dktX3_isMover_0 := by decide +kernel
theorem dX3_isMover_0 : decode cX3_isMover 0 = .ok (.iload_n 1, 1) := dk_27 (dk_at dksX3_isMover_0 0 rfl rfl)
theorem dX3_isMover_1 : decode cX3_isMover 1 = .ok (.i2l, 1) := dk_133 (dk_at dksX3_isMover_0 1 rfl rfl)
theorem dX3_isMover_2 : decode cX3_isMover 2 = .ok (.lconst 0, 1) := dk_9 (dk_at dksX3_isMover_0 2 rfl rfl)
theorem dX3_isMover_3 : decode cX3_isMover 3 = .ok (.aload_n 0, 1) := dk_42 (dk_at dksX3_isMover_0 3 rfl rfl)
theorem dX3_isMover_4 : decode cX3_isMover 4 = .ok (.getfield 19, 3) := dk_180 0 19 (dk_at dksX3_isMover_0 4 rfl rfl)
theorem dX3_isMover_7 : decode cX3_isMover 7 = .ok (.iconst 5, 1) := dk_8 (dk_at dksX3_isMover_0 7 rfl rfl)
theorem dX3_isMover_8 : decode cX3_isMover 8 = .ok (.iaload, 1) := dk_46 (dk_at dksX3_isMover_0 8 rfl rfl)
theorem dX3_isMover_9 : decode cX3_isMover 9 = .ok (.iconst 1, 1) := dk_4 (dk_at dksX3_isMover_0 9 rfl rfl)
theorem dX3_isMover_10 : decode cX3_isMover 10 = .ok (.isub, 1) := dk_100 (dk_at dksX3_isMover_0 10 rfl rfl)
theorem dX3_isMover_11 : decode cX3_isMover 11 = .ok (.i2l, 1) := dk_133 (dk_at dksX3_isMover_0 11 rfl rfl)
theorem dX3_isMover_12 : decode cX3_isMover 12 = .ok (.invokestatic 60, 3) := dk_184 0 60 (dk_at dksX3_isMover_0 12 rfl rfl)
theorem dX3_isMover_15 : decode cX3_isMover 15 = .ok (.ireturn, 1) := dk_172 (dk_at dksX3_isMover_0 15 rfl rfl)
abbrev cX3_as : ByteArray := prog_16_method_67_code
def yX3_as : MethodName := ⟨RX3, "as", "(II)I"⟩
def dkwX3_as_2 : List UInt8 := [27, 167, 0, 8, 42, 6, 182, 0, 71, 172]
abbrev dktX3_as_2 : List UInt8 := dkwX3_as_2 ++ []
def dkwX3_as_1 : List UInt8 := [154, 0, 6, 18, 70, 172, 42, 3, 181, 0, 54, 42, 27, 3, 182, 0, 183, 28, 184, 1, 4, 153, 0, 7]
abbrev dktX3_as_1 : List UInt8 := dkwX3_as_1 ++ dktX3_as_2
def dkwX3_as_0 : List UInt8 := [42, 3, 181, 0, 50, 42, 27, 182, 0, 255, 153, 0, 15, 28, 133, 9, 20, 1, 2, 184, 0, 60]
abbrev dktX3_as_0 : List UInt8 := dkwX3_as_0 ++ dktX3_as_1
theorem dksX3_as_0 : cX3_as.data.toList.drop 0 = dktX3_as_0 := by decide +kernel
theorem dksX3_as_1 : cX3_as.data.toList.drop 22 = dktX3_as_1 := dk_seg dksX3_as_0 22 rfl rfl
theorem dksX3_as_2 : cX3_as.data.toList.drop 46 = dktX3_as_2 := dk_seg dksX3_as_1 24 rfl rfl
theorem dX3_as_0 : decode cX3_as 0 = .ok (.aload_n 0, 1) := dk_42 (dk_at dksX3_as_0 0 rfl rfl)
theorem dX3_as_1 : decode cX3_as 1 = .ok (.iconst 0, 1) := dk_3 (dk_at dksX3_as_0 1 rfl rfl)
theorem dX3_as_2 : decode cX3_as 2 = .ok (.putfield 50, 3) := dk_181 0 50 (dk_at dksX3_as_0 2 rfl rfl)
theorem dX3_as_5 : decode cX3_as 5 = .ok (.aload_n 0, 1) := dk_42 (dk_at dksX3_as_0 5 rfl rfl)
theorem dX3_as_6 : decode cX3_as 6 = .ok (.iload_n 1, 1) := dk_27 (dk_at dksX3_as_0 6 rfl rfl)
theorem dX3_as_7 : decode cX3_as 7 = .ok (.invokevirtual 255, 3) := dk_182 0 255 (dk_at dksX3_as_0 7 rfl rfl)
theorem dX3_as_10 : decode cX3_as 10 = .ok (.ifCond .eq 15, 3) := dk_153 0 15 (dk_at dksX3_as_0 10 rfl rfl)
theorem dX3_as_13 : decode cX3_as 13 = .ok (.iload_n 2, 1) := dk_28 (dk_at dksX3_as_0 13 rfl rfl)
theorem dX3_as_14 : decode cX3_as 14 = .ok (.i2l, 1) := dk_133 (dk_at dksX3_as_0 14 rfl rfl)
theorem dX3_as_15 : decode cX3_as 15 = .ok (.lconst 0, 1) := dk_9 (dk_at dksX3_as_0 15 rfl rfl)
theorem dX3_as_16 : decode cX3_as 16 = .ok (.ldc2_w 258, 3) := dk_20 1 2 (dk_at dksX3_as_0 16 rfl rfl)
theorem dX3_as_19 : decode cX3_as 19 = .ok (.invokestatic 60, 3) := dk_184 0 60 (dk_at dksX3_as_0 19 rfl rfl)
theorem dX3_as_22 : decode cX3_as 22 = .ok (.ifCond .ne 6, 3) := dk_154 0 6 (dk_at dksX3_as_1 0 rfl rfl)
theorem dX3_as_25 : decode cX3_as 25 = .ok (.ldc 70, 2) := dk_18 70 (dk_at dksX3_as_1 3 rfl rfl)
theorem dX3_as_27 : decode cX3_as 27 = .ok (.ireturn, 1) := dk_172 (dk_at dksX3_as_1 5 rfl rfl)
theorem dX3_as_28 : decode cX3_as 28 = .ok (.aload_n 0, 1) := dk_42 (dk_at dksX3_as_1 6 rfl rfl)
theorem dX3_as_29 : decode cX3_as 29 = .ok (.iconst 0, 1) := dk_3 (dk_at dksX3_as_1 7 rfl rfl)
theorem dX3_as_30 : decode cX3_as 30 = .ok (.putfield 54, 3) := dk_181 0 54 (dk_at dksX3_as_1 8 rfl rfl)
theorem dX3_as_33 : decode cX3_as 33 = .ok (.aload_n 0, 1) := dk_42 (dk_at dksX3_as_1 11 rfl rfl)
theorem dX3_as_34 : decode cX3_as 34 = .ok (.iload_n 1, 1) := dk_27 (dk_at dksX3_as_1 12 rfl rfl)
theorem dX3_as_35 : decode cX3_as 35 = .ok (.iconst 0, 1) := dk_3 (dk_at dksX3_as_1 13 rfl rfl)
theorem dX3_as_36 : decode cX3_as 36 = .ok (.invokevirtual 183, 3) := dk_182 0 183 (dk_at dksX3_as_1 14 rfl rfl)
theorem dX3_as_39 : decode cX3_as 39 = .ok (.iload_n 2, 1) := dk_28 (dk_at dksX3_as_1 17 rfl rfl)
theorem dX3_as_40 : decode cX3_as 40 = .ok (.invokestatic 260, 3) := dk_184 1 4 (dk_at dksX3_as_1 18 rfl rfl)
theorem dX3_as_43 : decode cX3_as 43 = .ok (.ifCond .eq 7, 3) := dk_153 0 7 (dk_at dksX3_as_1 21 rfl rfl)
theorem dX3_as_46 : decode cX3_as 46 = .ok (.iload_n 1, 1) := dk_27 (dk_at dksX3_as_2 0 rfl rfl)
theorem dX3_as_47 : decode cX3_as 47 = .ok (.goto 8, 3) := dk_167 0 8 (dk_at dksX3_as_2 1 rfl rfl)
theorem dX3_as_50 : decode cX3_as 50 = .ok (.aload_n 0, 1) := dk_42 (dk_at dksX3_as_2 4 rfl rfl)
theorem dX3_as_51 : decode cX3_as 51 = .ok (.iconst 3, 1) := dk_6 (dk_at dksX3_as_2 5 rfl rfl)
theorem dX3_as_52 : decode cX3_as 52 = .ok (.invokevirtual 71, 3) := dk_182 0 71 (dk_at dksX3_as_2 6 rfl rfl)
theorem dX3_as_55 : decode cX3_as 55 = .ok (.ireturn, 1) := dk_172 (dk_at dksX3_as_2 9 rfl rfl)
abbrev cX3_isOf : ByteArray := prog_16_method_65_code
def yX3_isOf : MethodName := ⟨RX3, "isOf", "(II)Z"⟩
def dkwX3_isOf_1 : List UInt8 := [26, 8, 160, 0, 7, 4, 167, 0, 4, 3, 172]
abbrev dktX3_isOf_1 : List UInt8 := dkwX3_isOf_1 ++ []
def dkwX3_isOf_0 : List UInt8 := [27, 153, 0, 28, 26, 27, 159, 0, 23, 27, 4, 160, 0, 8, 26, 7, 161, 0, 13, 27, 7, 160, 0, 12]
abbrev dktX3_isOf_0 : List UInt8 := dkwX3_isOf_0 ++ dktX3_isOf_1
theorem dksX3_isOf_0 : cX3_isOf.data.toList.drop 0 = dktX3_isOf_0 := by decide +kernel
theorem dksX3_isOf_1 : cX3_isOf.data.toList.drop 24 = dktX3_isOf_1 := dk_seg dksX3_isOf_0 24 rfl rfl
theorem dX3_isOf_0 : decode cX3_isOf 0 = .ok (.iload_n 1, 1) := dk_27 (dk_at dksX3_isOf_0 0 rfl rfl)
theorem dX3_isOf_1 : decode cX3_isOf 1 = .ok (.ifCond .eq 28, 3) := dk_153 0 28 (dk_at dksX3_isOf_0 1 rfl rfl)
theorem dX3_isOf_4 : decode cX3_isOf 4 = .ok (.iload_n 0, 1) := dk_26 (dk_at dksX3_isOf_0 4 rfl rfl)
theorem dX3_isOf_5 : decode cX3_isOf 5 = .ok (.iload_n 1, 1) := dk_27 (dk_at dksX3_isOf_0 5 rfl rfl)
theorem dX3_isOf_6 : decode cX3_isOf 6 = .ok (.if_icmp .eq 23, 3) := dk_159 0 23 (dk_at dksX3_isOf_0 6 rfl rfl)
theorem dX3_isOf_9 : decode cX3_isOf 9 = .ok (.iload_n 1, 1) := dk_27 (dk_at dksX3_isOf_0 9 rfl rfl)
theorem dX3_isOf_10 : decode cX3_isOf 10 = .ok (.iconst 1, 1) := dk_4 (dk_at dksX3_isOf_0 10 rfl rfl)
theorem dX3_isOf_11 : decode cX3_isOf 11 = .ok (.if_icmp .ne 8, 3) := dk_160 0 8 (dk_at dksX3_isOf_0 11 rfl rfl)
theorem dX3_isOf_14 : decode cX3_isOf 14 = .ok (.iload_n 0, 1) := dk_26 (dk_at dksX3_isOf_0 14 rfl rfl)
theorem dX3_isOf_15 : decode cX3_isOf 15 = .ok (.iconst 4, 1) := dk_7 (dk_at dksX3_isOf_0 15 rfl rfl)
theorem dX3_isOf_16 : decode cX3_isOf 16 = .ok (.if_icmp .lt 13, 3) := dk_161 0 13 (dk_at dksX3_isOf_0 16 rfl rfl)
theorem dX3_isOf_19 : decode cX3_isOf 19 = .ok (.iload_n 1, 1) := dk_27 (dk_at dksX3_isOf_0 19 rfl rfl)
theorem dX3_isOf_20 : decode cX3_isOf 20 = .ok (.iconst 4, 1) := dk_7 (dk_at dksX3_isOf_0 20 rfl rfl)
theorem dX3_isOf_21 : decode cX3_isOf 21 = .ok (.if_icmp .ne 12, 3) := dk_160 0 12 (dk_at dksX3_isOf_0 21 rfl rfl)
theorem dX3_isOf_24 : decode cX3_isOf 24 = .ok (.iload_n 0, 1) := dk_26 (dk_at dksX3_isOf_1 0 rfl rfl)
theorem dX3_isOf_25 : decode cX3_isOf 25 = .ok (.iconst 5, 1) := dk_8 (dk_at dksX3_isOf_1 1 rfl rfl)
theorem dX3_isOf_26 : decode cX3_isOf 26 = .ok (.if_icmp .ne 7, 3) := dk_160 0 7 (dk_at dksX3_isOf_1 2 rfl rfl)
theorem dX3_isOf_29 : decode cX3_isOf 29 = .ok (.iconst 1, 1) := dk_4 (dk_at dksX3_isOf_1 5 rfl rfl)
theorem dX3_isOf_30 : decode cX3_isOf 30 = .ok (.goto 4, 3) := dk_167 0 4 (dk_at dksX3_isOf_1 6 rfl rfl)
theorem dX3_isOf_33 : decode cX3_isOf 33 = .ok (.iconst 0, 1) := dk_3 (dk_at dksX3_isOf_1 9 rfl rfl)
theorem dX3_isOf_34 : decode cX3_isOf 34 = .ok (.ireturn, 1) := dk_172 (dk_at dksX3_isOf_1 10 rfl rfl)
abbrev cX3_ask : ByteArray := prog_16_method_73_code
def yX3_ask : MethodName := ⟨RX3, "ask", "(II)I"⟩
def dkwX3_ask_2 : List UInt8 := [182, 1, 19, 172]
abbrev dktX3_ask_2 : List UInt8 := dkwX3_ask_2 ++ []
def dkwX3_ask_1 : List UInt8 := [18, 70, 172, 42, 3, 181, 1, 7, 28, 154, 0, 11, 42, 27, 182, 1, 22, 167, 0, 8, 42, 27]
abbrev dktX3_ask_1 : List UInt8 := dkwX3_ask_1 ++ dktX3_ask_2
def dkwX3_ask_0 : List UInt8 := [42, 3, 181, 0, 50, 42, 27, 182, 0, 255, 153, 0, 13, 28, 133, 9, 10, 184, 0, 60, 154, 0, 6]
abbrev dktX3_ask_0 : List UInt8 := dkwX3_ask_0 ++ dktX3_ask_1
theorem dksX3_ask_0 : cX3_ask.data.toList.drop 0 = dktX3_ask_0 := by decide +kernel
theorem dksX3_ask_1 : cX3_ask.data.toList.drop 23 = dktX3_ask_1 := dk_seg dksX3_ask_0 23 rfl rfl
theorem dksX3_ask_2 : cX3_ask.data.toList.drop 45 = dktX3_ask_2 := dk_seg dksX3_ask_1 22 rfl rfl
theorem dX3_ask_0 : decode cX3_ask 0 = .ok (.aload_n 0, 1) := dk_42 (dk_at dksX3_ask_0 0 rfl rfl)
theorem dX3_ask_1 : decode cX3_ask 1 = .ok (.iconst 0, 1) := dk_3 (dk_at dksX3_ask_0 1 rfl rfl)
theorem dX3_ask_2 : decode cX3_ask 2 = .ok (.putfield 50, 3) := dk_181 0 50 (dk_at dksX3_ask_0 2 rfl rfl)
theorem dX3_ask_5 : decode cX3_ask 5 = .ok (.aload_n 0, 1) := dk_42 (dk_at dksX3_ask_0 5 rfl rfl)
theorem dX3_ask_6 : decode cX3_ask 6 = .ok (.iload_n 1, 1) := dk_27 (dk_at dksX3_ask_0 6 rfl rfl)
theorem dX3_ask_7 : decode cX3_ask 7 = .ok (.invokevirtual 255, 3) := dk_182 0 255 (dk_at dksX3_ask_0 7 rfl rfl)
theorem dX3_ask_10 : decode cX3_ask 10 = .ok (.ifCond .eq 13, 3) := dk_153 0 13 (dk_at dksX3_ask_0 10 rfl rfl)
theorem dX3_ask_13 : decode cX3_ask 13 = .ok (.iload_n 2, 1) := dk_28 (dk_at dksX3_ask_0 13 rfl rfl)
theorem dX3_ask_14 : decode cX3_ask 14 = .ok (.i2l, 1) := dk_133 (dk_at dksX3_ask_0 14 rfl rfl)
theorem dX3_ask_15 : decode cX3_ask 15 = .ok (.lconst 0, 1) := dk_9 (dk_at dksX3_ask_0 15 rfl rfl)
theorem dX3_ask_16 : decode cX3_ask 16 = .ok (.lconst 1, 1) := dk_10 (dk_at dksX3_ask_0 16 rfl rfl)
theorem dX3_ask_17 : decode cX3_ask 17 = .ok (.invokestatic 60, 3) := dk_184 0 60 (dk_at dksX3_ask_0 17 rfl rfl)
theorem dX3_ask_20 : decode cX3_ask 20 = .ok (.ifCond .ne 6, 3) := dk_154 0 6 (dk_at dksX3_ask_0 20 rfl rfl)
theorem dX3_ask_23 : decode cX3_ask 23 = .ok (.ldc 70, 2) := dk_18 70 (dk_at dksX3_ask_1 0 rfl rfl)
theorem dX3_ask_25 : decode cX3_ask 25 = .ok (.ireturn, 1) := dk_172 (dk_at dksX3_ask_1 2 rfl rfl)
theorem dX3_ask_26 : decode cX3_ask 26 = .ok (.aload_n 0, 1) := dk_42 (dk_at dksX3_ask_1 3 rfl rfl)
theorem dX3_ask_27 : decode cX3_ask 27 = .ok (.iconst 0, 1) := dk_3 (dk_at dksX3_ask_1 4 rfl rfl)
theorem dX3_ask_28 : decode cX3_ask 28 = .ok (.putfield 263, 3) := dk_181 1 7 (dk_at dksX3_ask_1 5 rfl rfl)
theorem dX3_ask_31 : decode cX3_ask 31 = .ok (.iload_n 2, 1) := dk_28 (dk_at dksX3_ask_1 8 rfl rfl)
theorem dX3_ask_32 : decode cX3_ask 32 = .ok (.ifCond .ne 11, 3) := dk_154 0 11 (dk_at dksX3_ask_1 9 rfl rfl)
theorem dX3_ask_35 : decode cX3_ask 35 = .ok (.aload_n 0, 1) := dk_42 (dk_at dksX3_ask_1 12 rfl rfl)
theorem dX3_ask_36 : decode cX3_ask 36 = .ok (.iload_n 1, 1) := dk_27 (dk_at dksX3_ask_1 13 rfl rfl)
theorem dX3_ask_37 : decode cX3_ask 37 = .ok (.invokevirtual 278, 3) := dk_182 1 22 (dk_at dksX3_ask_1 14 rfl rfl)
theorem dX3_ask_40 : decode cX3_ask 40 = .ok (.goto 8, 3) := dk_167 0 8 (dk_at dksX3_ask_1 17 rfl rfl)
theorem dX3_ask_43 : decode cX3_ask 43 = .ok (.aload_n 0, 1) := dk_42 (dk_at dksX3_ask_1 20 rfl rfl)
theorem dX3_ask_44 : decode cX3_ask 44 = .ok (.iload_n 1, 1) := dk_27 (dk_at dksX3_ask_1 21 rfl rfl)
theorem dX3_ask_45 : decode cX3_ask 45 = .ok (.invokevirtual 275, 3) := dk_182 1 19 (dk_at dksX3_ask_2 0 rfl rfl)
theorem dX3_ask_48 : decode cX3_ask 48 = .ok (.ireturn, 1) := dk_172 (dk_at dksX3_ask_2 3 rfl rfl)
abbrev cX3_sizeOf : ByteArray := prog_16_method_72_code
def yX3_sizeOf : MethodName := ⟨RX3, "sizeOf", "(I)I"⟩
def dkwX3_sizeOf_2 : List UInt8 := [62, 28, 5, 160, 0, 8, 29, 116, 167, 0, 4, 29, 172]
abbrev dktX3_sizeOf_2 : List UInt8 := dkwX3_sizeOf_2 ++ []
def dkwX3_sizeOf_1 : List UInt8 := [16, 12, 182, 1, 10, 42, 16, 11, 182, 1, 10, 42, 27, 182, 1, 13, 62, 29, 42, 27, 182, 1, 19, 96]
abbrev dktX3_sizeOf_1 : List UInt8 := dkwX3_sizeOf_1 ++ dktX3_sizeOf_2
def dkwX3_sizeOf_0 : List UInt8 := [42, 27, 3, 182, 0, 183, 61, 28, 7, 161, 0, 9, 42, 27, 182, 1, 16, 172, 28, 5, 160, 0, 9, 42]
abbrev dktX3_sizeOf_0 : List UInt8 := dkwX3_sizeOf_0 ++ dktX3_sizeOf_1
theorem dksX3_sizeOf_0 : cX3_sizeOf.data.toList.drop 0 = dktX3_sizeOf_0 := by decide +kernel
theorem dksX3_sizeOf_1 : cX3_sizeOf.data.toList.drop 24 = dktX3_sizeOf_1 := dk_seg dksX3_sizeOf_0 24 rfl rfl
theorem dksX3_sizeOf_2 : cX3_sizeOf.data.toList.drop 48 = dktX3_sizeOf_2 := dk_seg dksX3_sizeOf_1 24 rfl rfl
theorem dX3_sizeOf_0 : decode cX3_sizeOf 0 = .ok (.aload_n 0, 1) := dk_42 (dk_at dksX3_sizeOf_0 0 rfl rfl)
theorem dX3_sizeOf_1 : decode cX3_sizeOf 1 = .ok (.iload_n 1, 1) := dk_27 (dk_at dksX3_sizeOf_0 1 rfl rfl)
theorem dX3_sizeOf_2 : decode cX3_sizeOf 2 = .ok (.iconst 0, 1) := dk_3 (dk_at dksX3_sizeOf_0 2 rfl rfl)
theorem dX3_sizeOf_3 : decode cX3_sizeOf 3 = .ok (.invokevirtual 183, 3) := dk_182 0 183 (dk_at dksX3_sizeOf_0 3 rfl rfl)
theorem dX3_sizeOf_6 : decode cX3_sizeOf 6 = .ok (.istore_n 2, 1) := dk_61 (dk_at dksX3_sizeOf_0 6 rfl rfl)
theorem dX3_sizeOf_7 : decode cX3_sizeOf 7 = .ok (.iload_n 2, 1) := dk_28 (dk_at dksX3_sizeOf_0 7 rfl rfl)
theorem dX3_sizeOf_8 : decode cX3_sizeOf 8 = .ok (.iconst 4, 1) := dk_7 (dk_at dksX3_sizeOf_0 8 rfl rfl)
theorem dX3_sizeOf_9 : decode cX3_sizeOf 9 = .ok (.if_icmp .lt 9, 3) := dk_161 0 9 (dk_at dksX3_sizeOf_0 9 rfl rfl)
theorem dX3_sizeOf_12 : decode cX3_sizeOf 12 = .ok (.aload_n 0, 1) := dk_42 (dk_at dksX3_sizeOf_0 12 rfl rfl)
theorem dX3_sizeOf_13 : decode cX3_sizeOf 13 = .ok (.iload_n 1, 1) := dk_27 (dk_at dksX3_sizeOf_0 13 rfl rfl)
theorem dX3_sizeOf_14 : decode cX3_sizeOf 14 = .ok (.invokevirtual 272, 3) := dk_182 1 16 (dk_at dksX3_sizeOf_0 14 rfl rfl)
theorem dX3_sizeOf_17 : decode cX3_sizeOf 17 = .ok (.ireturn, 1) := dk_172 (dk_at dksX3_sizeOf_0 17 rfl rfl)
theorem dX3_sizeOf_18 : decode cX3_sizeOf 18 = .ok (.iload_n 2, 1) := dk_28 (dk_at dksX3_sizeOf_0 18 rfl rfl)
theorem dX3_sizeOf_19 : decode cX3_sizeOf 19 = .ok (.iconst 2, 1) := dk_5 (dk_at dksX3_sizeOf_0 19 rfl rfl)
theorem dX3_sizeOf_20 : decode cX3_sizeOf 20 = .ok (.if_icmp .ne 9, 3) := dk_160 0 9 (dk_at dksX3_sizeOf_0 20 rfl rfl)
theorem dX3_sizeOf_23 : decode cX3_sizeOf 23 = .ok (.aload_n 0, 1) := dk_42 (dk_at dksX3_sizeOf_0 23 rfl rfl)
theorem dX3_sizeOf_24 : decode cX3_sizeOf 24 = .ok (.bipush 12, 2) := dk_16 12 (dk_at dksX3_sizeOf_1 0 rfl rfl)
theorem dX3_sizeOf_26 : decode cX3_sizeOf 26 = .ok (.invokevirtual 266, 3) := dk_182 1 10 (dk_at dksX3_sizeOf_1 2 rfl rfl)
theorem dX3_sizeOf_29 : decode cX3_sizeOf 29 = .ok (.aload_n 0, 1) := dk_42 (dk_at dksX3_sizeOf_1 5 rfl rfl)
theorem dX3_sizeOf_30 : decode cX3_sizeOf 30 = .ok (.bipush 11, 2) := dk_16 11 (dk_at dksX3_sizeOf_1 6 rfl rfl)
theorem dX3_sizeOf_32 : decode cX3_sizeOf 32 = .ok (.invokevirtual 266, 3) := dk_182 1 10 (dk_at dksX3_sizeOf_1 8 rfl rfl)
theorem dX3_sizeOf_35 : decode cX3_sizeOf 35 = .ok (.aload_n 0, 1) := dk_42 (dk_at dksX3_sizeOf_1 11 rfl rfl)
theorem dX3_sizeOf_36 : decode cX3_sizeOf 36 = .ok (.iload_n 1, 1) := dk_27 (dk_at dksX3_sizeOf_1 12 rfl rfl)
theorem dX3_sizeOf_37 : decode cX3_sizeOf 37 = .ok (.invokevirtual 269, 3) := dk_182 1 13 (dk_at dksX3_sizeOf_1 13 rfl rfl)
theorem dX3_sizeOf_40 : decode cX3_sizeOf 40 = .ok (.istore_n 3, 1) := dk_62 (dk_at dksX3_sizeOf_1 16 rfl rfl)
theorem dX3_sizeOf_41 : decode cX3_sizeOf 41 = .ok (.iload_n 3, 1) := dk_29 (dk_at dksX3_sizeOf_1 17 rfl rfl)
theorem dX3_sizeOf_42 : decode cX3_sizeOf 42 = .ok (.aload_n 0, 1) := dk_42 (dk_at dksX3_sizeOf_1 18 rfl rfl)
theorem dX3_sizeOf_43 : decode cX3_sizeOf 43 = .ok (.iload_n 1, 1) := dk_27 (dk_at dksX3_sizeOf_1 19 rfl rfl)
theorem dX3_sizeOf_44 : decode cX3_sizeOf 44 = .ok (.invokevirtual 275, 3) := dk_182 1 19 (dk_at dksX3_sizeOf_1 20 rfl rfl)
theorem dX3_sizeOf_47 : decode cX3_sizeOf 47 = .ok (.iadd, 1) := dk_96 (dk_at dksX3_sizeOf_1 23 rfl rfl)
theorem dX3_sizeOf_48 : decode cX3_sizeOf 48 = .ok (.istore_n 3, 1) := dk_62 (dk_at dksX3_sizeOf_2 0 rfl rfl)
theorem dX3_sizeOf_49 : decode cX3_sizeOf 49 = .ok (.iload_n 2, 1) := dk_28 (dk_at dksX3_sizeOf_2 1 rfl rfl)
theorem dX3_sizeOf_50 : decode cX3_sizeOf 50 = .ok (.iconst 2, 1) := dk_5 (dk_at dksX3_sizeOf_2 2 rfl rfl)
theorem dX3_sizeOf_51 : decode cX3_sizeOf 51 = .ok (.if_icmp .ne 8, 3) := dk_160 0 8 (dk_at dksX3_sizeOf_2 3 rfl rfl)
theorem dX3_sizeOf_54 : decode cX3_sizeOf 54 = .ok (.iload_n 3, 1) := dk_29 (dk_at dksX3_sizeOf_2 6 rfl rfl)
theorem dX3_sizeOf_55 : decode cX3_sizeOf 55 = .ok (.ineg, 1) := dk_116 (dk_at dksX3_sizeOf_2 7 rfl rfl)
theorem dX3_sizeOf_56 : decode cX3_sizeOf 56 = .ok (.goto 4, 3) := dk_167 0 4 (dk_at dksX3_sizeOf_2 8 rfl rfl)
theorem dX3_sizeOf_59 : decode cX3_sizeOf 59 = .ok (.iload_n 3, 1) := dk_29 (dk_at dksX3_sizeOf_2 11 rfl rfl)
theorem dX3_sizeOf_60 : decode cX3_sizeOf 60 = .ok (.ireturn, 1) := dk_172 (dk_at dksX3_sizeOf_2 12 rfl rfl)
abbrev cX3_thiefSize : ByteArray := prog_16_method_70_code
def yX3_thiefSize : MethodName := ⟨RX3, "thiefSize", "(I)I"⟩
def dkwX3_thiefSize_2 : List UInt8 := [172]
abbrev dktX3_thiefSize_2 : List UInt8 := dkwX3_thiefSize_2 ++ []
def dkwX3_thiefSize_1 : List UInt8 := [182, 1, 13, 16, 100, 100, 61, 42, 27, 3, 182, 0, 183, 8, 160, 0, 9, 5, 28, 104, 167, 0, 4, 28]
abbrev dktX3_thiefSize_1 : List UInt8 := dkwX3_thiefSize_1 ++ dktX3_thiefSize_2
def dkwX3_thiefSize_0 : List UInt8 := [42, 27, 3, 182, 0, 183, 8, 160, 0, 9, 42, 16, 14, 182, 1, 10, 42, 16, 13, 182, 1, 10, 42, 27]
abbrev dktX3_thiefSize_0 : List UInt8 := dkwX3_thiefSize_0 ++ dktX3_thiefSize_1
theorem dksX3_thiefSize_0 : cX3_thiefSize.data.toList.drop 0 = dktX3_thiefSize_0 := by decide +kernel
theorem dksX3_thiefSize_1 : cX3_thiefSize.data.toList.drop 24 = dktX3_thiefSize_1 := dk_seg dksX3_thiefSize_0 24 rfl rfl
theorem dksX3_thiefSize_2 : cX3_thiefSize.data.toList.drop 48 = dktX3_thiefSize_2 := dk_seg dksX3_thiefSize_1 24 rfl rfl
theorem dX3_thiefSize_0 : decode cX3_thiefSize 0 = .ok (.aload_n 0, 1) := dk_42 (dk_at dksX3_thiefSize_0 0 rfl rfl)
theorem dX3_thiefSize_1 : decode cX3_thiefSize 1 = .ok (.iload_n 1, 1) := dk_27 (dk_at dksX3_thiefSize_0 1 rfl rfl)
theorem dX3_thiefSize_2 : decode cX3_thiefSize 2 = .ok (.iconst 0, 1) := dk_3 (dk_at dksX3_thiefSize_0 2 rfl rfl)
theorem dX3_thiefSize_3 : decode cX3_thiefSize 3 = .ok (.invokevirtual 183, 3) := dk_182 0 183 (dk_at dksX3_thiefSize_0 3 rfl rfl)
theorem dX3_thiefSize_6 : decode cX3_thiefSize 6 = .ok (.iconst 5, 1) := dk_8 (dk_at dksX3_thiefSize_0 6 rfl rfl)
theorem dX3_thiefSize_7 : decode cX3_thiefSize 7 = .ok (.if_icmp .ne 9, 3) := dk_160 0 9 (dk_at dksX3_thiefSize_0 7 rfl rfl)
theorem dX3_thiefSize_10 : decode cX3_thiefSize 10 = .ok (.aload_n 0, 1) := dk_42 (dk_at dksX3_thiefSize_0 10 rfl rfl)
theorem dX3_thiefSize_11 : decode cX3_thiefSize 11 = .ok (.bipush 14, 2) := dk_16 14 (dk_at dksX3_thiefSize_0 11 rfl rfl)
theorem dX3_thiefSize_13 : decode cX3_thiefSize 13 = .ok (.invokevirtual 266, 3) := dk_182 1 10 (dk_at dksX3_thiefSize_0 13 rfl rfl)
theorem dX3_thiefSize_16 : decode cX3_thiefSize 16 = .ok (.aload_n 0, 1) := dk_42 (dk_at dksX3_thiefSize_0 16 rfl rfl)
theorem dX3_thiefSize_17 : decode cX3_thiefSize 17 = .ok (.bipush 13, 2) := dk_16 13 (dk_at dksX3_thiefSize_0 17 rfl rfl)
theorem dX3_thiefSize_19 : decode cX3_thiefSize 19 = .ok (.invokevirtual 266, 3) := dk_182 1 10 (dk_at dksX3_thiefSize_0 19 rfl rfl)
theorem dX3_thiefSize_22 : decode cX3_thiefSize 22 = .ok (.aload_n 0, 1) := dk_42 (dk_at dksX3_thiefSize_0 22 rfl rfl)
theorem dX3_thiefSize_23 : decode cX3_thiefSize 23 = .ok (.iload_n 1, 1) := dk_27 (dk_at dksX3_thiefSize_0 23 rfl rfl)
theorem dX3_thiefSize_24 : decode cX3_thiefSize 24 = .ok (.invokevirtual 269, 3) := dk_182 1 13 (dk_at dksX3_thiefSize_1 0 rfl rfl)
theorem dX3_thiefSize_27 : decode cX3_thiefSize 27 = .ok (.bipush 100, 2) := dk_16 100 (dk_at dksX3_thiefSize_1 3 rfl rfl)
theorem dX3_thiefSize_29 : decode cX3_thiefSize 29 = .ok (.isub, 1) := dk_100 (dk_at dksX3_thiefSize_1 5 rfl rfl)
theorem dX3_thiefSize_30 : decode cX3_thiefSize 30 = .ok (.istore_n 2, 1) := dk_61 (dk_at dksX3_thiefSize_1 6 rfl rfl)
theorem dX3_thiefSize_31 : decode cX3_thiefSize 31 = .ok (.aload_n 0, 1) := dk_42 (dk_at dksX3_thiefSize_1 7 rfl rfl)
theorem dX3_thiefSize_32 : decode cX3_thiefSize 32 = .ok (.iload_n 1, 1) := dk_27 (dk_at dksX3_thiefSize_1 8 rfl rfl)
theorem dX3_thiefSize_33 : decode cX3_thiefSize 33 = .ok (.iconst 0, 1) := dk_3 (dk_at dksX3_thiefSize_1 9 rfl rfl)
theorem dX3_thiefSize_34 : decode cX3_thiefSize 34 = .ok (.invokevirtual 183, 3) := dk_182 0 183 (dk_at dksX3_thiefSize_1 10 rfl rfl)
theorem dX3_thiefSize_37 : decode cX3_thiefSize 37 = .ok (.iconst 5, 1) := dk_8 (dk_at dksX3_thiefSize_1 13 rfl rfl)
theorem dX3_thiefSize_38 : decode cX3_thiefSize 38 = .ok (.if_icmp .ne 9, 3) := dk_160 0 9 (dk_at dksX3_thiefSize_1 14 rfl rfl)
theorem dX3_thiefSize_41 : decode cX3_thiefSize 41 = .ok (.iconst 2, 1) := dk_5 (dk_at dksX3_thiefSize_1 17 rfl rfl)
theorem dX3_thiefSize_42 : decode cX3_thiefSize 42 = .ok (.iload_n 2, 1) := dk_28 (dk_at dksX3_thiefSize_1 18 rfl rfl)
theorem dX3_thiefSize_43 : decode cX3_thiefSize 43 = .ok (.imul, 1) := dk_104 (dk_at dksX3_thiefSize_1 19 rfl rfl)
theorem dX3_thiefSize_44 : decode cX3_thiefSize 44 = .ok (.goto 4, 3) := dk_167 0 4 (dk_at dksX3_thiefSize_1 20 rfl rfl)
theorem dX3_thiefSize_47 : decode cX3_thiefSize 47 = .ok (.iload_n 2, 1) := dk_28 (dk_at dksX3_thiefSize_1 23 rfl rfl)
theorem dX3_thiefSize_48 : decode cX3_thiefSize 48 = .ok (.ireturn, 1) := dk_172 (dk_at dksX3_thiefSize_2 0 rfl rfl)
abbrev cX3_began : ByteArray := prog_16_method_68_code
def yX3_began : MethodName := ⟨RX3, "began", "(I)V"⟩
def dkwX3_began_1 : List UInt8 := [4, 96, 181, 1, 7, 177]
abbrev dktX3_began_1 : List UInt8 := dkwX3_began_1 ++ []
def dkwX3_began_0 : List UInt8 := [42, 180, 1, 7, 16, 16, 162, 0, 23, 42, 180, 0, 47, 42, 180, 1, 7, 27, 79, 42, 89, 180, 1, 7]
abbrev dktX3_began_0 : List UInt8 := dkwX3_began_0 ++ dktX3_began_1
theorem dksX3_began_0 : cX3_began.data.toList.drop 0 = dktX3_began_0 := by decide +kernel
theorem dksX3_began_1 : cX3_began.data.toList.drop 24 = dktX3_began_1 := dk_seg dksX3_began_0 24 rfl rfl
theorem dX3_began_0 : decode cX3_began 0 = .ok (.aload_n 0, 1) := dk_42 (dk_at dksX3_began_0 0 rfl rfl)
theorem dX3_began_1 : decode cX3_began 1 = .ok (.getfield 263, 3) := dk_180 1 7 (dk_at dksX3_began_0 1 rfl rfl)
theorem dX3_began_4 : decode cX3_began 4 = .ok (.bipush 16, 2) := dk_16 16 (dk_at dksX3_began_0 4 rfl rfl)
theorem dX3_began_6 : decode cX3_began 6 = .ok (.if_icmp .ge 23, 3) := dk_162 0 23 (dk_at dksX3_began_0 6 rfl rfl)
theorem dX3_began_9 : decode cX3_began 9 = .ok (.aload_n 0, 1) := dk_42 (dk_at dksX3_began_0 9 rfl rfl)
theorem dX3_began_10 : decode cX3_began 10 = .ok (.getfield 47, 3) := dk_180 0 47 (dk_at dksX3_began_0 10 rfl rfl)
theorem dX3_began_13 : decode cX3_began 13 = .ok (.aload_n 0, 1) := dk_42 (dk_at dksX3_began_0 13 rfl rfl)
theorem dX3_began_14 : decode cX3_began 14 = .ok (.getfield 263, 3) := dk_180 1 7 (dk_at dksX3_began_0 14 rfl rfl)
theorem dX3_began_17 : decode cX3_began 17 = .ok (.iload_n 1, 1) := dk_27 (dk_at dksX3_began_0 17 rfl rfl)
theorem dX3_began_18 : decode cX3_began 18 = .ok (.iastore, 1) := dk_79 (dk_at dksX3_began_0 18 rfl rfl)
theorem dX3_began_19 : decode cX3_began 19 = .ok (.aload_n 0, 1) := dk_42 (dk_at dksX3_began_0 19 rfl rfl)
theorem dX3_began_20 : decode cX3_began 20 = .ok (.dup, 1) := dk_89 (dk_at dksX3_began_0 20 rfl rfl)
theorem dX3_began_21 : decode cX3_began 21 = .ok (.getfield 263, 3) := dk_180 1 7 (dk_at dksX3_began_0 21 rfl rfl)
theorem dX3_began_24 : decode cX3_began 24 = .ok (.iconst 1, 1) := dk_4 (dk_at dksX3_began_1 0 rfl rfl)
theorem dX3_began_25 : decode cX3_began 25 = .ok (.iadd, 1) := dk_96 (dk_at dksX3_began_1 1 rfl rfl)
theorem dX3_began_26 : decode cX3_began 26 = .ok (.putfield 263, 3) := dk_181 1 7 (dk_at dksX3_began_1 2 rfl rfl)
theorem dX3_began_29 : decode cX3_began 29 = .ok (.return_, 1) := dk_177 (dk_at dksX3_began_1 5 rfl rfl)
abbrev cX3_plainSize : ByteArray := prog_16_method_69_code
def yX3_plainSize : MethodName := ⟨RX3, "plainSize", "(I)I"⟩
def dkwX3_plainSize_0 : List UInt8 := [42, 16, 10, 182, 1, 10, 42, 27, 6, 182, 0, 183, 172]
abbrev dktX3_plainSize_0 : List UInt8 := dkwX3_plainSize_0 ++ []
theorem dksX3_plainSize_0 : cX3_plainSize.data.toList.drop 0 = dktX3_plainSize_0 := by decide +kernel
theorem dX3_plainSize_0 : decode cX3_plainSize 0 = .ok (.aload_n 0, 1) := dk_42 (dk_at dksX3_plainSize_0 0 rfl rfl)
theorem dX3_plainSize_1 : decode cX3_plainSize 1 = .ok (.bipush 10, 2) := dk_16 10 (dk_at dksX3_plainSize_0 1 rfl rfl)
theorem dX3_plainSize_3 : decode cX3_plainSize 3 = .ok (.invokevirtual 266, 3) := dk_182 1 10 (dk_at dksX3_plainSize_0 3 rfl rfl)
theorem dX3_plainSize_6 : decode cX3_plainSize 6 = .ok (.aload_n 0, 1) := dk_42 (dk_at dksX3_plainSize_0 6 rfl rfl)
theorem dX3_plainSize_7 : decode cX3_plainSize 7 = .ok (.iload_n 1, 1) := dk_27 (dk_at dksX3_plainSize_0 7 rfl rfl)
theorem dX3_plainSize_8 : decode cX3_plainSize 8 = .ok (.iconst 3, 1) := dk_6 (dk_at dksX3_plainSize_0 8 rfl rfl)
theorem dX3_plainSize_9 : decode cX3_plainSize 9 = .ok (.invokevirtual 183, 3) := dk_182 0 183 (dk_at dksX3_plainSize_0 9 rfl rfl)
theorem dX3_plainSize_12 : decode cX3_plainSize 12 = .ok (.ireturn, 1) := dk_172 (dk_at dksX3_plainSize_0 12 rfl rfl)
abbrev cX3_markOf : ByteArray := prog_16_method_71_code
def yX3_markOf : MethodName := ⟨RX3, "markOf", "(I)I"⟩
def dkwX3_markOf_4 : List UInt8 := [17, 3, 232, 100, 167, 0, 6, 5, 29, 104, 172]
abbrev dktX3_markOf_4 : List UInt8 := dkwX3_markOf_4 ++ []
def dkwX3_markOf_3 : List UInt8 := [182, 0, 183, 4, 182, 0, 180, 96, 62, 28, 4, 160, 0, 7, 29, 167, 0, 19, 28, 6, 160, 0, 11, 29]
abbrev dktX3_markOf_3 : List UInt8 := dkwX3_markOf_3 ++ dktX3_markOf_4
def dkwX3_markOf_2 : List UInt8 := [16, 24, 182, 1, 10, 42, 16, 21, 182, 1, 10, 42, 16, 20, 182, 1, 10, 27, 42, 42, 27, 4]
abbrev dktX3_markOf_2 : List UInt8 := dkwX3_markOf_2 ++ dktX3_markOf_3
def dkwX3_markOf_1 : List UInt8 := [27, 42, 27, 182, 1, 16, 100, 172, 28, 4, 159, 0, 19, 42, 28, 6, 160, 0, 8, 16, 22, 167, 0, 5]
abbrev dktX3_markOf_1 : List UInt8 := dkwX3_markOf_1 ++ dktX3_markOf_2
def dkwX3_markOf_0 : List UInt8 := [42, 27, 3, 182, 0, 183, 61, 28, 7, 161, 0, 23, 42, 16, 23, 182, 1, 10, 42, 16, 20, 182, 1, 10]
abbrev dktX3_markOf_0 : List UInt8 := dkwX3_markOf_0 ++ dktX3_markOf_1
theorem dksX3_markOf_0 : cX3_markOf.data.toList.drop 0 = dktX3_markOf_0 := by decide +kernel
theorem dksX3_markOf_1 : cX3_markOf.data.toList.drop 24 = dktX3_markOf_1 := dk_seg dksX3_markOf_0 24 rfl rfl
theorem dksX3_markOf_2 : cX3_markOf.data.toList.drop 48 = dktX3_markOf_2 := dk_seg dksX3_markOf_1 24 rfl rfl
theorem dksX3_markOf_3 : cX3_markOf.data.toList.drop 70 = dktX3_markOf_3 := dk_seg dksX3_markOf_2 22 rfl rfl
theorem dksX3_markOf_4 : cX3_markOf.data.toList.drop 94 = dktX3_markOf_4 := dk_seg dksX3_markOf_3 24 rfl rfl
theorem dX3_markOf_0 : decode cX3_markOf 0 = .ok (.aload_n 0, 1) := dk_42 (dk_at dksX3_markOf_0 0 rfl rfl)
theorem dX3_markOf_1 : decode cX3_markOf 1 = .ok (.iload_n 1, 1) := dk_27 (dk_at dksX3_markOf_0 1 rfl rfl)
theorem dX3_markOf_2 : decode cX3_markOf 2 = .ok (.iconst 0, 1) := dk_3 (dk_at dksX3_markOf_0 2 rfl rfl)
theorem dX3_markOf_3 : decode cX3_markOf 3 = .ok (.invokevirtual 183, 3) := dk_182 0 183 (dk_at dksX3_markOf_0 3 rfl rfl)
theorem dX3_markOf_6 : decode cX3_markOf 6 = .ok (.istore_n 2, 1) := dk_61 (dk_at dksX3_markOf_0 6 rfl rfl)
theorem dX3_markOf_7 : decode cX3_markOf 7 = .ok (.iload_n 2, 1) := dk_28 (dk_at dksX3_markOf_0 7 rfl rfl)
theorem dX3_markOf_8 : decode cX3_markOf 8 = .ok (.iconst 4, 1) := dk_7 (dk_at dksX3_markOf_0 8 rfl rfl)
theorem dX3_markOf_9 : decode cX3_markOf 9 = .ok (.if_icmp .lt 23, 3) := dk_161 0 23 (dk_at dksX3_markOf_0 9 rfl rfl)
theorem dX3_markOf_12 : decode cX3_markOf 12 = .ok (.aload_n 0, 1) := dk_42 (dk_at dksX3_markOf_0 12 rfl rfl)
theorem dX3_markOf_13 : decode cX3_markOf 13 = .ok (.bipush 23, 2) := dk_16 23 (dk_at dksX3_markOf_0 13 rfl rfl)
theorem dX3_markOf_15 : decode cX3_markOf 15 = .ok (.invokevirtual 266, 3) := dk_182 1 10 (dk_at dksX3_markOf_0 15 rfl rfl)
theorem dX3_markOf_18 : decode cX3_markOf 18 = .ok (.aload_n 0, 1) := dk_42 (dk_at dksX3_markOf_0 18 rfl rfl)
theorem dX3_markOf_19 : decode cX3_markOf 19 = .ok (.bipush 20, 2) := dk_16 20 (dk_at dksX3_markOf_0 19 rfl rfl)
theorem dX3_markOf_21 : decode cX3_markOf 21 = .ok (.invokevirtual 266, 3) := dk_182 1 10 (dk_at dksX3_markOf_0 21 rfl rfl)
theorem dX3_markOf_24 : decode cX3_markOf 24 = .ok (.iload_n 1, 1) := dk_27 (dk_at dksX3_markOf_1 0 rfl rfl)
theorem dX3_markOf_25 : decode cX3_markOf 25 = .ok (.aload_n 0, 1) := dk_42 (dk_at dksX3_markOf_1 1 rfl rfl)
theorem dX3_markOf_26 : decode cX3_markOf 26 = .ok (.iload_n 1, 1) := dk_27 (dk_at dksX3_markOf_1 2 rfl rfl)
theorem dX3_markOf_27 : decode cX3_markOf 27 = .ok (.invokevirtual 272, 3) := dk_182 1 16 (dk_at dksX3_markOf_1 3 rfl rfl)
theorem dX3_markOf_30 : decode cX3_markOf 30 = .ok (.isub, 1) := dk_100 (dk_at dksX3_markOf_1 6 rfl rfl)
theorem dX3_markOf_31 : decode cX3_markOf 31 = .ok (.ireturn, 1) := dk_172 (dk_at dksX3_markOf_1 7 rfl rfl)
theorem dX3_markOf_32 : decode cX3_markOf 32 = .ok (.iload_n 2, 1) := dk_28 (dk_at dksX3_markOf_1 8 rfl rfl)
theorem dX3_markOf_33 : decode cX3_markOf 33 = .ok (.iconst 1, 1) := dk_4 (dk_at dksX3_markOf_1 9 rfl rfl)
theorem dX3_markOf_34 : decode cX3_markOf 34 = .ok (.if_icmp .eq 19, 3) := dk_159 0 19 (dk_at dksX3_markOf_1 10 rfl rfl)
theorem dX3_markOf_37 : decode cX3_markOf 37 = .ok (.aload_n 0, 1) := dk_42 (dk_at dksX3_markOf_1 13 rfl rfl)
theorem dX3_markOf_38 : decode cX3_markOf 38 = .ok (.iload_n 2, 1) := dk_28 (dk_at dksX3_markOf_1 14 rfl rfl)
theorem dX3_markOf_39 : decode cX3_markOf 39 = .ok (.iconst 3, 1) := dk_6 (dk_at dksX3_markOf_1 15 rfl rfl)
theorem dX3_markOf_40 : decode cX3_markOf 40 = .ok (.if_icmp .ne 8, 3) := dk_160 0 8 (dk_at dksX3_markOf_1 16 rfl rfl)
theorem dX3_markOf_43 : decode cX3_markOf 43 = .ok (.bipush 22, 2) := dk_16 22 (dk_at dksX3_markOf_1 19 rfl rfl)
theorem dX3_markOf_45 : decode cX3_markOf 45 = .ok (.goto 5, 3) := dk_167 0 5 (dk_at dksX3_markOf_1 21 rfl rfl)
theorem dX3_markOf_48 : decode cX3_markOf 48 = .ok (.bipush 24, 2) := dk_16 24 (dk_at dksX3_markOf_2 0 rfl rfl)
theorem dX3_markOf_50 : decode cX3_markOf 50 = .ok (.invokevirtual 266, 3) := dk_182 1 10 (dk_at dksX3_markOf_2 2 rfl rfl)
theorem dX3_markOf_53 : decode cX3_markOf 53 = .ok (.aload_n 0, 1) := dk_42 (dk_at dksX3_markOf_2 5 rfl rfl)
theorem dX3_markOf_54 : decode cX3_markOf 54 = .ok (.bipush 21, 2) := dk_16 21 (dk_at dksX3_markOf_2 6 rfl rfl)
theorem dX3_markOf_56 : decode cX3_markOf 56 = .ok (.invokevirtual 266, 3) := dk_182 1 10 (dk_at dksX3_markOf_2 8 rfl rfl)
theorem dX3_markOf_59 : decode cX3_markOf 59 = .ok (.aload_n 0, 1) := dk_42 (dk_at dksX3_markOf_2 11 rfl rfl)
theorem dX3_markOf_60 : decode cX3_markOf 60 = .ok (.bipush 20, 2) := dk_16 20 (dk_at dksX3_markOf_2 12 rfl rfl)
theorem dX3_markOf_62 : decode cX3_markOf 62 = .ok (.invokevirtual 266, 3) := dk_182 1 10 (dk_at dksX3_markOf_2 14 rfl rfl)
theorem dX3_markOf_65 : decode cX3_markOf 65 = .ok (.iload_n 1, 1) := dk_27 (dk_at dksX3_markOf_2 17 rfl rfl)
theorem dX3_markOf_66 : decode cX3_markOf 66 = .ok (.aload_n 0, 1) := dk_42 (dk_at dksX3_markOf_2 18 rfl rfl)
theorem dX3_markOf_67 : decode cX3_markOf 67 = .ok (.aload_n 0, 1) := dk_42 (dk_at dksX3_markOf_2 19 rfl rfl)
theorem dX3_markOf_68 : decode cX3_markOf 68 = .ok (.iload_n 1, 1) := dk_27 (dk_at dksX3_markOf_2 20 rfl rfl)
theorem dX3_markOf_69 : decode cX3_markOf 69 = .ok (.iconst 1, 1) := dk_4 (dk_at dksX3_markOf_2 21 rfl rfl)
theorem dX3_markOf_70 : decode cX3_markOf 70 = .ok (.invokevirtual 183, 3) := dk_182 0 183 (dk_at dksX3_markOf_3 0 rfl rfl)
theorem dX3_markOf_73 : decode cX3_markOf 73 = .ok (.iconst 1, 1) := dk_4 (dk_at dksX3_markOf_3 3 rfl rfl)
theorem dX3_markOf_74 : decode cX3_markOf 74 = .ok (.invokevirtual 180, 3) := dk_182 0 180 (dk_at dksX3_markOf_3 4 rfl rfl)
theorem dX3_markOf_77 : decode cX3_markOf 77 = .ok (.iadd, 1) := dk_96 (dk_at dksX3_markOf_3 7 rfl rfl)
theorem dX3_markOf_78 : decode cX3_markOf 78 = .ok (.istore_n 3, 1) := dk_62 (dk_at dksX3_markOf_3 8 rfl rfl)
theorem dX3_markOf_79 : decode cX3_markOf 79 = .ok (.iload_n 2, 1) := dk_28 (dk_at dksX3_markOf_3 9 rfl rfl)
theorem dX3_markOf_80 : decode cX3_markOf 80 = .ok (.iconst 1, 1) := dk_4 (dk_at dksX3_markOf_3 10 rfl rfl)
theorem dX3_markOf_81 : decode cX3_markOf 81 = .ok (.if_icmp .ne 7, 3) := dk_160 0 7 (dk_at dksX3_markOf_3 11 rfl rfl)
theorem dX3_markOf_84 : decode cX3_markOf 84 = .ok (.iload_n 3, 1) := dk_29 (dk_at dksX3_markOf_3 14 rfl rfl)
theorem dX3_markOf_85 : decode cX3_markOf 85 = .ok (.goto 19, 3) := dk_167 0 19 (dk_at dksX3_markOf_3 15 rfl rfl)
theorem dX3_markOf_88 : decode cX3_markOf 88 = .ok (.iload_n 2, 1) := dk_28 (dk_at dksX3_markOf_3 18 rfl rfl)
theorem dX3_markOf_89 : decode cX3_markOf 89 = .ok (.iconst 3, 1) := dk_6 (dk_at dksX3_markOf_3 19 rfl rfl)
theorem dX3_markOf_90 : decode cX3_markOf 90 = .ok (.if_icmp .ne 11, 3) := dk_160 0 11 (dk_at dksX3_markOf_3 20 rfl rfl)
theorem dX3_markOf_93 : decode cX3_markOf 93 = .ok (.iload_n 3, 1) := dk_29 (dk_at dksX3_markOf_3 23 rfl rfl)
theorem dX3_markOf_94 : decode cX3_markOf 94 = .ok (.sipush 1000, 3) := dk_17 3 232 (dk_at dksX3_markOf_4 0 rfl rfl)
theorem dX3_markOf_97 : decode cX3_markOf 97 = .ok (.isub, 1) := dk_100 (dk_at dksX3_markOf_4 3 rfl rfl)
theorem dX3_markOf_98 : decode cX3_markOf 98 = .ok (.goto 6, 3) := dk_167 0 6 (dk_at dksX3_markOf_4 4 rfl rfl)
theorem dX3_markOf_101 : decode cX3_markOf 101 = .ok (.iconst 2, 1) := dk_5 (dk_at dksX3_markOf_4 7 rfl rfl)
theorem dX3_markOf_102 : decode cX3_markOf 102 = .ok (.iload_n 3, 1) := dk_29 (dk_at dksX3_markOf_4 8 rfl rfl)
theorem dX3_markOf_103 : decode cX3_markOf 103 = .ok (.imul, 1) := dk_104 (dk_at dksX3_markOf_4 9 rfl rfl)
theorem dX3_markOf_104 : decode cX3_markOf 104 = .ok (.ireturn, 1) := dk_172 (dk_at dksX3_markOf_4 10 rfl rfl)
abbrev cX3_trace : ByteArray := prog_16_method_74_code
def yX3_trace : MethodName := ⟨RX3, "trace", "(I)I"⟩
def dkwX3_trace_1 : List UInt8 := [180, 0, 47, 27, 46, 167, 0, 5, 18, 86, 172]
abbrev dktX3_trace_1 : List UInt8 := dkwX3_trace_1 ++ []
def dkwX3_trace_0 : List UInt8 := [42, 3, 181, 0, 50, 27, 133, 9, 42, 180, 1, 7, 4, 100, 133, 184, 0, 60, 153, 0, 12, 42]
abbrev dktX3_trace_0 : List UInt8 := dkwX3_trace_0 ++ dktX3_trace_1
theorem dksX3_trace_0 : cX3_trace.data.toList.drop 0 = dktX3_trace_0 := by decide +kernel
theorem dksX3_trace_1 : cX3_trace.data.toList.drop 22 = dktX3_trace_1 := dk_seg dksX3_trace_0 22 rfl rfl
theorem dX3_trace_0 : decode cX3_trace 0 = .ok (.aload_n 0, 1) := dk_42 (dk_at dksX3_trace_0 0 rfl rfl)
theorem dX3_trace_1 : decode cX3_trace 1 = .ok (.iconst 0, 1) := dk_3 (dk_at dksX3_trace_0 1 rfl rfl)
theorem dX3_trace_2 : decode cX3_trace 2 = .ok (.putfield 50, 3) := dk_181 0 50 (dk_at dksX3_trace_0 2 rfl rfl)
theorem dX3_trace_5 : decode cX3_trace 5 = .ok (.iload_n 1, 1) := dk_27 (dk_at dksX3_trace_0 5 rfl rfl)
theorem dX3_trace_6 : decode cX3_trace 6 = .ok (.i2l, 1) := dk_133 (dk_at dksX3_trace_0 6 rfl rfl)
theorem dX3_trace_7 : decode cX3_trace 7 = .ok (.lconst 0, 1) := dk_9 (dk_at dksX3_trace_0 7 rfl rfl)
theorem dX3_trace_8 : decode cX3_trace 8 = .ok (.aload_n 0, 1) := dk_42 (dk_at dksX3_trace_0 8 rfl rfl)
theorem dX3_trace_9 : decode cX3_trace 9 = .ok (.getfield 263, 3) := dk_180 1 7 (dk_at dksX3_trace_0 9 rfl rfl)
theorem dX3_trace_12 : decode cX3_trace 12 = .ok (.iconst 1, 1) := dk_4 (dk_at dksX3_trace_0 12 rfl rfl)
theorem dX3_trace_13 : decode cX3_trace 13 = .ok (.isub, 1) := dk_100 (dk_at dksX3_trace_0 13 rfl rfl)
theorem dX3_trace_14 : decode cX3_trace 14 = .ok (.i2l, 1) := dk_133 (dk_at dksX3_trace_0 14 rfl rfl)
theorem dX3_trace_15 : decode cX3_trace 15 = .ok (.invokestatic 60, 3) := dk_184 0 60 (dk_at dksX3_trace_0 15 rfl rfl)
theorem dX3_trace_18 : decode cX3_trace 18 = .ok (.ifCond .eq 12, 3) := dk_153 0 12 (dk_at dksX3_trace_0 18 rfl rfl)
theorem dX3_trace_21 : decode cX3_trace 21 = .ok (.aload_n 0, 1) := dk_42 (dk_at dksX3_trace_0 21 rfl rfl)
theorem dX3_trace_22 : decode cX3_trace 22 = .ok (.getfield 47, 3) := dk_180 0 47 (dk_at dksX3_trace_1 0 rfl rfl)
theorem dX3_trace_25 : decode cX3_trace 25 = .ok (.iload_n 1, 1) := dk_27 (dk_at dksX3_trace_1 3 rfl rfl)
theorem dX3_trace_26 : decode cX3_trace 26 = .ok (.iaload, 1) := dk_46 (dk_at dksX3_trace_1 4 rfl rfl)
theorem dX3_trace_27 : decode cX3_trace 27 = .ok (.goto 5, 3) := dk_167 0 5 (dk_at dksX3_trace_1 5 rfl rfl)
theorem dX3_trace_30 : decode cX3_trace 30 = .ok (.ldc 86, 2) := dk_18 86 (dk_at dksX3_trace_1 8 rfl rfl)
theorem dX3_trace_32 : decode cX3_trace 32 = .ok (.ireturn, 1) := dk_172 (dk_at dksX3_trace_1 10 rfl rfl)
abbrev cX3_count : ByteArray := prog_16_method_75_code
def yX3_count : MethodName := ⟨RX3, "count", "(I)I"⟩
def dkwX3_count_5 : List UInt8 := [172, 18, 70, 172]
abbrev dktX3_count_5 : List UInt8 := dkwX3_count_5 ++ []
def dkwX3_count_4 : List UInt8 := [180, 0, 19, 16, 6, 46, 172, 42, 180, 0, 177, 172, 42, 180, 0, 19, 16, 7, 46, 172, 42, 180, 0, 77]
abbrev dktX3_count_4 : List UInt8 := dkwX3_count_4 ++ dktX3_count_5
def dkwX3_count_3 : List UInt8 := [61, 132, 3, 1, 167, 255, 230, 28, 172, 42, 180, 0, 19, 7, 46, 172, 42, 180, 0, 19, 8, 46, 172, 42]
abbrev dktX3_count_3 : List UInt8 := dkwX3_count_3 ++ dktX3_count_4
def dkwX3_count_2 : List UInt8 := [3, 62, 29, 16, 8, 162, 0, 26, 28, 42, 180, 0, 7, 29, 46, 155, 0, 7, 4, 167, 0, 4, 3, 96]
abbrev dktX3_count_2 : List UInt8 := dkwX3_count_2 ++ dktX3_count_3
def dkwX3_count_1 : List UInt8 := [170, 0, 0, 0, 0, 0, 0, 117, 0, 0, 0, 0, 0, 0, 0, 6, 0, 0, 0, 44, 0, 0, 0, 77, 0, 0, 0, 84, 0, 0, 0, 91, 0, 0, 0, 99, 0, 0, 0, 104, 0, 0, 0, 112]
abbrev dktX3_count_1 : List UInt8 := dkwX3_count_1 ++ dktX3_count_2
def dkwX3_count_0 : List UInt8 := [42, 3, 181, 0, 50, 3, 61, 27]
abbrev dktX3_count_0 : List UInt8 := dkwX3_count_0 ++ dktX3_count_1
theorem dksX3_count_0 : cX3_count.data.toList.drop 0 = dktX3_count_0 := by decide +kernel
theorem dksX3_count_1 : cX3_count.data.toList.drop 8 = dktX3_count_1 := dk_seg dksX3_count_0 8 rfl rfl
theorem dksX3_count_2 : cX3_count.data.toList.drop 52 = dktX3_count_2 := dk_seg dksX3_count_1 44 rfl rfl
theorem dksX3_count_3 : cX3_count.data.toList.drop 76 = dktX3_count_3 := dk_seg dksX3_count_2 24 rfl rfl
theorem dksX3_count_4 : cX3_count.data.toList.drop 100 = dktX3_count_4 := dk_seg dksX3_count_3 24 rfl rfl
theorem dksX3_count_5 : cX3_count.data.toList.drop 124 = dktX3_count_5 := dk_seg dksX3_count_4 24 rfl rfl
theorem dX3_count_0 : decode cX3_count 0 = .ok (.aload_n 0, 1) := dk_42 (dk_at dksX3_count_0 0 rfl rfl)
theorem dX3_count_1 : decode cX3_count 1 = .ok (.iconst 0, 1) := dk_3 (dk_at dksX3_count_0 1 rfl rfl)
theorem dX3_count_2 : decode cX3_count 2 = .ok (.putfield 50, 3) := dk_181 0 50 (dk_at dksX3_count_0 2 rfl rfl)
theorem dX3_count_5 : decode cX3_count 5 = .ok (.iconst 0, 1) := dk_3 (dk_at dksX3_count_0 5 rfl rfl)
theorem dX3_count_6 : decode cX3_count 6 = .ok (.istore_n 2, 1) := dk_61 (dk_at dksX3_count_0 6 rfl rfl)
theorem dX3_count_7 : decode cX3_count 7 = .ok (.iload_n 1, 1) := dk_27 (dk_at dksX3_count_0 7 rfl rfl)
theorem dX3_count_8 : decode cX3_count 8 = .ok (.tableswitch 117 0 6 #[44, 77, 84, 91, 99, 104, 112], 44) := by decide +kernel
theorem dX3_count_52 : decode cX3_count 52 = .ok (.iconst 0, 1) := dk_3 (dk_at dksX3_count_2 0 rfl rfl)
theorem dX3_count_53 : decode cX3_count 53 = .ok (.istore_n 3, 1) := dk_62 (dk_at dksX3_count_2 1 rfl rfl)
theorem dX3_count_54 : decode cX3_count 54 = .ok (.iload_n 3, 1) := dk_29 (dk_at dksX3_count_2 2 rfl rfl)
theorem dX3_count_55 : decode cX3_count 55 = .ok (.bipush 8, 2) := dk_16 8 (dk_at dksX3_count_2 3 rfl rfl)
theorem dX3_count_57 : decode cX3_count 57 = .ok (.if_icmp .ge 26, 3) := dk_162 0 26 (dk_at dksX3_count_2 5 rfl rfl)
theorem dX3_count_60 : decode cX3_count 60 = .ok (.iload_n 2, 1) := dk_28 (dk_at dksX3_count_2 8 rfl rfl)
theorem dX3_count_61 : decode cX3_count 61 = .ok (.aload_n 0, 1) := dk_42 (dk_at dksX3_count_2 9 rfl rfl)
theorem dX3_count_62 : decode cX3_count 62 = .ok (.getfield 7, 3) := dk_180 0 7 (dk_at dksX3_count_2 10 rfl rfl)
theorem dX3_count_65 : decode cX3_count 65 = .ok (.iload_n 3, 1) := dk_29 (dk_at dksX3_count_2 13 rfl rfl)
theorem dX3_count_66 : decode cX3_count 66 = .ok (.iaload, 1) := dk_46 (dk_at dksX3_count_2 14 rfl rfl)
theorem dX3_count_67 : decode cX3_count 67 = .ok (.ifCond .lt 7, 3) := dk_155 0 7 (dk_at dksX3_count_2 15 rfl rfl)
theorem dX3_count_70 : decode cX3_count 70 = .ok (.iconst 1, 1) := dk_4 (dk_at dksX3_count_2 18 rfl rfl)
theorem dX3_count_71 : decode cX3_count 71 = .ok (.goto 4, 3) := dk_167 0 4 (dk_at dksX3_count_2 19 rfl rfl)
theorem dX3_count_74 : decode cX3_count 74 = .ok (.iconst 0, 1) := dk_3 (dk_at dksX3_count_2 22 rfl rfl)
theorem dX3_count_75 : decode cX3_count 75 = .ok (.iadd, 1) := dk_96 (dk_at dksX3_count_2 23 rfl rfl)
theorem dX3_count_76 : decode cX3_count 76 = .ok (.istore_n 2, 1) := dk_61 (dk_at dksX3_count_3 0 rfl rfl)
theorem dX3_count_77 : decode cX3_count 77 = .ok (.iinc 3 1, 3) := dk_132 3 1 (dk_at dksX3_count_3 1 rfl rfl)
theorem dX3_count_80 : decode cX3_count 80 = .ok (.goto (-26), 3) := dk_167 255 230 (dk_at dksX3_count_3 4 rfl rfl)
theorem dX3_count_83 : decode cX3_count 83 = .ok (.iload_n 2, 1) := dk_28 (dk_at dksX3_count_3 7 rfl rfl)
theorem dX3_count_84 : decode cX3_count 84 = .ok (.ireturn, 1) := dk_172 (dk_at dksX3_count_3 8 rfl rfl)
theorem dX3_count_85 : decode cX3_count 85 = .ok (.aload_n 0, 1) := dk_42 (dk_at dksX3_count_3 9 rfl rfl)
theorem dX3_count_86 : decode cX3_count 86 = .ok (.getfield 19, 3) := dk_180 0 19 (dk_at dksX3_count_3 10 rfl rfl)
theorem dX3_count_89 : decode cX3_count 89 = .ok (.iconst 4, 1) := dk_7 (dk_at dksX3_count_3 13 rfl rfl)
theorem dX3_count_90 : decode cX3_count 90 = .ok (.iaload, 1) := dk_46 (dk_at dksX3_count_3 14 rfl rfl)
theorem dX3_count_91 : decode cX3_count 91 = .ok (.ireturn, 1) := dk_172 (dk_at dksX3_count_3 15 rfl rfl)
theorem dX3_count_92 : decode cX3_count 92 = .ok (.aload_n 0, 1) := dk_42 (dk_at dksX3_count_3 16 rfl rfl)
theorem dX3_count_93 : decode cX3_count 93 = .ok (.getfield 19, 3) := dk_180 0 19 (dk_at dksX3_count_3 17 rfl rfl)
theorem dX3_count_96 : decode cX3_count 96 = .ok (.iconst 5, 1) := dk_8 (dk_at dksX3_count_3 20 rfl rfl)
theorem dX3_count_97 : decode cX3_count 97 = .ok (.iaload, 1) := dk_46 (dk_at dksX3_count_3 21 rfl rfl)
theorem dX3_count_98 : decode cX3_count 98 = .ok (.ireturn, 1) := dk_172 (dk_at dksX3_count_3 22 rfl rfl)
theorem dX3_count_99 : decode cX3_count 99 = .ok (.aload_n 0, 1) := dk_42 (dk_at dksX3_count_3 23 rfl rfl)
theorem dX3_count_100 : decode cX3_count 100 = .ok (.getfield 19, 3) := dk_180 0 19 (dk_at dksX3_count_4 0 rfl rfl)
theorem dX3_count_103 : decode cX3_count 103 = .ok (.bipush 6, 2) := dk_16 6 (dk_at dksX3_count_4 3 rfl rfl)
theorem dX3_count_105 : decode cX3_count 105 = .ok (.iaload, 1) := dk_46 (dk_at dksX3_count_4 5 rfl rfl)
theorem dX3_count_106 : decode cX3_count 106 = .ok (.ireturn, 1) := dk_172 (dk_at dksX3_count_4 6 rfl rfl)
theorem dX3_count_107 : decode cX3_count 107 = .ok (.aload_n 0, 1) := dk_42 (dk_at dksX3_count_4 7 rfl rfl)
theorem dX3_count_108 : decode cX3_count 108 = .ok (.getfield 177, 3) := dk_180 0 177 (dk_at dksX3_count_4 8 rfl rfl)
theorem dX3_count_111 : decode cX3_count 111 = .ok (.ireturn, 1) := dk_172 (dk_at dksX3_count_4 11 rfl rfl)
theorem dX3_count_112 : decode cX3_count 112 = .ok (.aload_n 0, 1) := dk_42 (dk_at dksX3_count_4 12 rfl rfl)
theorem dX3_count_113 : decode cX3_count 113 = .ok (.getfield 19, 3) := dk_180 0 19 (dk_at dksX3_count_4 13 rfl rfl)
theorem dX3_count_116 : decode cX3_count 116 = .ok (.bipush 7, 2) := dk_16 7 (dk_at dksX3_count_4 16 rfl rfl)
theorem dX3_count_118 : decode cX3_count 118 = .ok (.iaload, 1) := dk_46 (dk_at dksX3_count_4 18 rfl rfl)
theorem dX3_count_119 : decode cX3_count 119 = .ok (.ireturn, 1) := dk_172 (dk_at dksX3_count_4 19 rfl rfl)
theorem dX3_count_120 : decode cX3_count 120 = .ok (.aload_n 0, 1) := dk_42 (dk_at dksX3_count_4 20 rfl rfl)
theorem dX3_count_121 : decode cX3_count 121 = .ok (.getfield 77, 3) := dk_180 0 77 (dk_at dksX3_count_4 21 rfl rfl)
theorem dX3_count_124 : decode cX3_count 124 = .ok (.ireturn, 1) := dk_172 (dk_at dksX3_count_5 0 rfl rfl)
theorem dX3_count_125 : decode cX3_count 125 = .ok (.ldc 70, 2) := dk_18 70 (dk_at dksX3_count_5 1 rfl rfl)
theorem dX3_count_127 : decode cX3_count 127 = .ok (.ireturn, 1) := dk_172 (dk_at dksX3_count_5 3 rfl rfl)
abbrev cX3_status : ByteArray := prog_16_method_76_code
def yX3_status : MethodName := ⟨RX3, "status", "()I"⟩
def dkwX3_status_0 : List UInt8 := [42, 3, 181, 0, 50, 42, 180, 0, 54, 172]
abbrev dktX3_status_0 : List UInt8 := dkwX3_status_0 ++ []
theorem dksX3_status_0 : cX3_status.data.toList.drop 0 = dktX3_status_0 := by decide +kernel
theorem dX3_status_0 : decode cX3_status 0 = .ok (.aload_n 0, 1) := dk_42 (dk_at dksX3_status_0 0 rfl rfl)
theorem dX3_status_1 : decode cX3_status 1 = .ok (.iconst 0, 1) := dk_3 (dk_at dksX3_status_0 1 rfl rfl)
theorem dX3_status_2 : decode cX3_status 2 = .ok (.putfield 50, 3) := dk_181 0 50 (dk_at dksX3_status_0 2 rfl rfl)
theorem dX3_status_5 : decode cX3_status 5 = .ok (.aload_n 0, 1) := dk_42 (dk_at dksX3_status_0 5 rfl rfl)
theorem dX3_status_6 : decode cX3_status 6 = .ok (.getfield 54, 3) := dk_180 0 54 (dk_at dksX3_status_0 6 rfl rfl)
theorem dX3_status_9 : decode cX3_status 9 = .ok (.ireturn, 1) := dk_172 (dk_at dksX3_status_0 9 rfl rfl)
theorem q69 : (Jvm.Cond.initialized "NightStonesModel") ∈ lw_all := lw_g (lw_at lw_m1 7 rfl) rfl
theorem q848 : (Jvm.Cond.selects "NightStonesModel" ({ cls := "java/lang/Object", name := "getClass", desc := "()Ljava/lang/Class;" } : Jvm.MethodName) ({ cls := "java/lang/Object", name := "getClass", desc := "()Ljava/lang/Class;" } : Jvm.MethodName)) ∈ lw_all := lw_g (lw_at lw_m4 66 rfl) rfl
theorem q1257 : (Jvm.Cond.instantiable "NightStonesModel" (26 : Nat)) ∈ lw_all := lw_g (lw_at lw_m5 235 rfl) rfl
theorem q1259 : (Jvm.Cond.instanceMethod ({ cls := "NightStonesModel", name := "<init>", desc := "()V" } : Jvm.MethodName)) ∈ lw_all := lw_g (lw_at lw_m5 237 rfl) rfl
theorem q1260 : (Jvm.Cond.code ({ cls := "NightStonesModel", name := "<init>", desc := "()V" } : Jvm.MethodName) prog_16_method_1_code (1 : Nat) (Option.none : Option Jvm.ClassFile.FieldType)) ∈ lw_all := lw_g (lw_at lw_m5 238 rfl) rfl
theorem q1261 : (Jvm.Cond.methodLink "NightStonesModel" (1 : Nat) ({ cls := "java/lang/Object", name := "<init>", desc := "()V" } : Jvm.MethodName)) ∈ lw_all := lw_g (lw_at lw_m5 239 rfl) rfl
theorem q1262 : (Jvm.Cond.fieldLink "NightStonesModel" (50 : Nat) "NightStonesModel" "thrown" "I") ∈ lw_all := lw_g (lw_at lw_m6 0 rfl) rfl
theorem q1263 : (Jvm.Cond.fieldLink "NightStonesModel" (54 : Nat) "NightStonesModel" "status" "I") ∈ lw_all := lw_g (lw_at lw_m6 1 rfl) rfl
theorem q1264 : (Jvm.Cond.fieldLink "NightStonesModel" (7 : Nat) "NightStonesModel" "lane" "[I") ∈ lw_all := lw_g (lw_at lw_m6 2 rfl) rfl
theorem q1265 : (Jvm.Cond.fieldLink "NightStonesModel" (13 : Nat) "NightStonesModel" "many" "[I") ∈ lw_all := lw_g (lw_at lw_m6 3 rfl) rfl
theorem q1266 : (Jvm.Cond.fieldLink "NightStonesModel" (16 : Nat) "NightStonesModel" "item" "[I") ∈ lw_all := lw_g (lw_at lw_m6 4 rfl) rfl
theorem q1267 : (Jvm.Cond.fieldLink "NightStonesModel" (19 : Nat) "NightStonesModel" "road" "[I") ∈ lw_all := lw_g (lw_at lw_m6 5 rfl) rfl
theorem q1268 : (Jvm.Cond.fieldLink "NightStonesModel" (22 : Nat) "NightStonesModel" "fresh" "[I") ∈ lw_all := lw_g (lw_at lw_m6 6 rfl) rfl
theorem q1269 : (Jvm.Cond.fieldLink "NightStonesModel" (25 : Nat) "NightStonesModel" "was" "[I") ∈ lw_all := lw_g (lw_at lw_m6 7 rfl) rfl
theorem q1270 : (Jvm.Cond.fieldLink "NightStonesModel" (177 : Nat) "NightStonesModel" "acts" "I") ∈ lw_all := lw_g (lw_at lw_m6 8 rfl) rfl
theorem q1271 : (Jvm.Cond.fieldLink "NightStonesModel" (28 : Nat) "NightStonesModel" "tape" "[I") ∈ lw_all := lw_g (lw_at lw_m6 9 rfl) rfl
theorem q1272 : (Jvm.Cond.fieldLink "NightStonesModel" (77 : Nat) "NightStonesModel" "taped" "I") ∈ lw_all := lw_g (lw_at lw_m6 10 rfl) rfl
theorem q1273 : (Jvm.Cond.fieldLink "NightStonesModel" (173 : Nat) "NightStonesModel" "latest" "I") ∈ lw_all := lw_g (lw_at lw_m6 11 rfl) rfl
theorem q1274 : (Jvm.Cond.fieldLink "NightStonesModel" (83 : Nat) "NightStonesModel" "length" "I") ∈ lw_all := lw_g (lw_at lw_m6 12 rfl) rfl
theorem q1275 : (Jvm.Cond.fieldLink "NightStonesModel" (87 : Nat) "NightStonesModel" "cursor" "I") ∈ lw_all := lw_g (lw_at lw_m6 13 rfl) rfl
theorem q1276 : (Jvm.Cond.fieldLink "NightStonesModel" (96 : Nat) "NightStonesModel" "token" "I") ∈ lw_all := lw_g (lw_at lw_m6 14 rfl) rfl
theorem q1277 : (Jvm.Cond.fieldLink "NightStonesModel" (93 : Nat) "NightStonesModel" "start" "I") ∈ lw_all := lw_g (lw_at lw_m6 15 rfl) rfl
theorem q1278 : (Jvm.Cond.fieldLink "NightStonesModel" (105 : Nat) "NightStonesModel" "till" "I") ∈ lw_all := lw_g (lw_at lw_m6 16 rfl) rfl
theorem q1279 : (Jvm.Cond.fieldLink "NightStonesModel" (108 : Nat) "NightStonesModel" "fault" "I") ∈ lw_all := lw_g (lw_at lw_m6 17 rfl) rfl
theorem q1280 : (Jvm.Cond.fieldLink "NightStonesModel" (114 : Nat) "NightStonesModel" "faultAt" "I") ∈ lw_all := lw_g (lw_at lw_m6 18 rfl) rfl
theorem q1281 : (Jvm.Cond.fieldLink "NightStonesModel" (31 : Nat) "NightStonesModel" "where" "[I") ∈ lw_all := lw_g (lw_at lw_m6 19 rfl) rfl
theorem q1282 : (Jvm.Cond.fieldLink "NightStonesModel" (34 : Nat) "NightStonesModel" "most" "[I") ∈ lw_all := lw_g (lw_at lw_m6 20 rfl) rfl
theorem q1283 : (Jvm.Cond.fieldLink "NightStonesModel" (37 : Nat) "NightStonesModel" "before" "[I") ∈ lw_all := lw_g (lw_at lw_m6 21 rfl) rfl
theorem q1284 : (Jvm.Cond.fieldLink "NightStonesModel" (40 : Nat) "NightStonesModel" "isKept" "[Z") ∈ lw_all := lw_g (lw_at lw_m6 22 rfl) rfl
theorem q1285 : (Jvm.Cond.fieldLink "NightStonesModel" (44 : Nat) "NightStonesModel" "kept" "[I") ∈ lw_all := lw_g (lw_at lw_m6 23 rfl) rfl
theorem q1286 : (Jvm.Cond.fieldLink "NightStonesModel" (47 : Nat) "NightStonesModel" "trace" "[I") ∈ lw_all := lw_g (lw_at lw_m6 24 rfl) rfl
theorem q1287 : (Jvm.Cond.fieldLink "NightStonesModel" (263 : Nat) "NightStonesModel" "traced" "I") ∈ lw_all := lw_g (lw_at lw_m6 25 rfl) rfl
theorem q1288 : (Jvm.Cond.lays "NightStonesModel" "NightStonesModel" "thrown" "I") ∈ lw_all := lw_g (lw_at lw_m6 26 rfl) rfl
theorem q1289 : (Jvm.Cond.soleField "NightStonesModel" "thrown") ∈ lw_all := lw_g (lw_at lw_m6 27 rfl) rfl
theorem q1290 : (Jvm.Cond.lays "NightStonesModel" "NightStonesModel" "status" "I") ∈ lw_all := lw_g (lw_at lw_m6 28 rfl) rfl
theorem q1291 : (Jvm.Cond.soleField "NightStonesModel" "status") ∈ lw_all := lw_g (lw_at lw_m6 29 rfl) rfl
theorem q1292 : (Jvm.Cond.laysFinal "NightStonesModel" "NightStonesModel" "lane" "[I") ∈ lw_all := lw_g (lw_at lw_m6 30 rfl) rfl
theorem q1293 : (Jvm.Cond.soleField "NightStonesModel" "lane") ∈ lw_all := lw_g (lw_at lw_m6 31 rfl) rfl
theorem q1294 : (Jvm.Cond.laysFinal "NightStonesModel" "NightStonesModel" "many" "[I") ∈ lw_all := lw_g (lw_at lw_m6 32 rfl) rfl
theorem q1295 : (Jvm.Cond.soleField "NightStonesModel" "many") ∈ lw_all := lw_g (lw_at lw_m6 33 rfl) rfl
theorem q1296 : (Jvm.Cond.laysFinal "NightStonesModel" "NightStonesModel" "item" "[I") ∈ lw_all := lw_g (lw_at lw_m6 34 rfl) rfl
theorem q1297 : (Jvm.Cond.soleField "NightStonesModel" "item") ∈ lw_all := lw_g (lw_at lw_m6 35 rfl) rfl
theorem q1298 : (Jvm.Cond.laysFinal "NightStonesModel" "NightStonesModel" "road" "[I") ∈ lw_all := lw_g (lw_at lw_m6 36 rfl) rfl
theorem q1299 : (Jvm.Cond.soleField "NightStonesModel" "road") ∈ lw_all := lw_g (lw_at lw_m6 37 rfl) rfl
theorem q1300 : (Jvm.Cond.laysFinal "NightStonesModel" "NightStonesModel" "fresh" "[I") ∈ lw_all := lw_g (lw_at lw_m6 38 rfl) rfl
theorem q1301 : (Jvm.Cond.soleField "NightStonesModel" "fresh") ∈ lw_all := lw_g (lw_at lw_m6 39 rfl) rfl
theorem q1302 : (Jvm.Cond.laysFinal "NightStonesModel" "NightStonesModel" "was" "[I") ∈ lw_all := lw_g (lw_at lw_m6 40 rfl) rfl
theorem q1303 : (Jvm.Cond.soleField "NightStonesModel" "was") ∈ lw_all := lw_g (lw_at lw_m6 41 rfl) rfl
theorem q1304 : (Jvm.Cond.lays "NightStonesModel" "NightStonesModel" "acts" "I") ∈ lw_all := lw_g (lw_at lw_m6 42 rfl) rfl
theorem q1305 : (Jvm.Cond.soleField "NightStonesModel" "acts") ∈ lw_all := lw_g (lw_at lw_m6 43 rfl) rfl
theorem q1306 : (Jvm.Cond.laysFinal "NightStonesModel" "NightStonesModel" "tape" "[I") ∈ lw_all := lw_g (lw_at lw_m6 44 rfl) rfl
theorem q1307 : (Jvm.Cond.soleField "NightStonesModel" "tape") ∈ lw_all := lw_g (lw_at lw_m6 45 rfl) rfl
theorem q1308 : (Jvm.Cond.lays "NightStonesModel" "NightStonesModel" "taped" "I") ∈ lw_all := lw_g (lw_at lw_m6 46 rfl) rfl
theorem q1309 : (Jvm.Cond.soleField "NightStonesModel" "taped") ∈ lw_all := lw_g (lw_at lw_m6 47 rfl) rfl
theorem q1310 : (Jvm.Cond.lays "NightStonesModel" "NightStonesModel" "latest" "I") ∈ lw_all := lw_g (lw_at lw_m6 48 rfl) rfl
theorem q1311 : (Jvm.Cond.soleField "NightStonesModel" "latest") ∈ lw_all := lw_g (lw_at lw_m6 49 rfl) rfl
theorem q1312 : (Jvm.Cond.lays "NightStonesModel" "NightStonesModel" "length" "I") ∈ lw_all := lw_g (lw_at lw_m6 50 rfl) rfl
theorem q1313 : (Jvm.Cond.soleField "NightStonesModel" "length") ∈ lw_all := lw_g (lw_at lw_m6 51 rfl) rfl
theorem q1314 : (Jvm.Cond.lays "NightStonesModel" "NightStonesModel" "cursor" "I") ∈ lw_all := lw_g (lw_at lw_m6 52 rfl) rfl
theorem q1315 : (Jvm.Cond.soleField "NightStonesModel" "cursor") ∈ lw_all := lw_g (lw_at lw_m6 53 rfl) rfl
theorem q1316 : (Jvm.Cond.lays "NightStonesModel" "NightStonesModel" "token" "I") ∈ lw_all := lw_g (lw_at lw_m6 54 rfl) rfl
theorem q1317 : (Jvm.Cond.soleField "NightStonesModel" "token") ∈ lw_all := lw_g (lw_at lw_m6 55 rfl) rfl
theorem q1318 : (Jvm.Cond.lays "NightStonesModel" "NightStonesModel" "start" "I") ∈ lw_all := lw_g (lw_at lw_m6 56 rfl) rfl
theorem q1319 : (Jvm.Cond.soleField "NightStonesModel" "start") ∈ lw_all := lw_g (lw_at lw_m6 57 rfl) rfl
theorem q1320 : (Jvm.Cond.lays "NightStonesModel" "NightStonesModel" "till" "I") ∈ lw_all := lw_g (lw_at lw_m6 58 rfl) rfl
theorem q1321 : (Jvm.Cond.soleField "NightStonesModel" "till") ∈ lw_all := lw_g (lw_at lw_m6 59 rfl) rfl
theorem q1322 : (Jvm.Cond.lays "NightStonesModel" "NightStonesModel" "fault" "I") ∈ lw_all := lw_g (lw_at lw_m6 60 rfl) rfl
theorem q1323 : (Jvm.Cond.soleField "NightStonesModel" "fault") ∈ lw_all := lw_g (lw_at lw_m6 61 rfl) rfl
theorem q1324 : (Jvm.Cond.lays "NightStonesModel" "NightStonesModel" "faultAt" "I") ∈ lw_all := lw_g (lw_at lw_m6 62 rfl) rfl
theorem q1325 : (Jvm.Cond.soleField "NightStonesModel" "faultAt") ∈ lw_all := lw_g (lw_at lw_m6 63 rfl) rfl
theorem q1326 : (Jvm.Cond.laysFinal "NightStonesModel" "NightStonesModel" "where" "[I") ∈ lw_all := lw_g (lw_at lw_m6 64 rfl) rfl
theorem q1327 : (Jvm.Cond.soleField "NightStonesModel" "where") ∈ lw_all := lw_g (lw_at lw_m6 65 rfl) rfl
theorem q1328 : (Jvm.Cond.laysFinal "NightStonesModel" "NightStonesModel" "most" "[I") ∈ lw_all := lw_g (lw_at lw_m6 66 rfl) rfl
theorem q1329 : (Jvm.Cond.soleField "NightStonesModel" "most") ∈ lw_all := lw_g (lw_at lw_m6 67 rfl) rfl
theorem q1330 : (Jvm.Cond.laysFinal "NightStonesModel" "NightStonesModel" "before" "[I") ∈ lw_all := lw_g (lw_at lw_m6 68 rfl) rfl
theorem q1331 : (Jvm.Cond.soleField "NightStonesModel" "before") ∈ lw_all := lw_g (lw_at lw_m6 69 rfl) rfl
theorem q1332 : (Jvm.Cond.laysFinal "NightStonesModel" "NightStonesModel" "isKept" "[Z") ∈ lw_all := lw_g (lw_at lw_m6 70 rfl) rfl
theorem q1333 : (Jvm.Cond.soleField "NightStonesModel" "isKept") ∈ lw_all := lw_g (lw_at lw_m6 71 rfl) rfl
theorem q1334 : (Jvm.Cond.laysFinal "NightStonesModel" "NightStonesModel" "kept" "[I") ∈ lw_all := lw_g (lw_at lw_m6 72 rfl) rfl
theorem q1335 : (Jvm.Cond.soleField "NightStonesModel" "kept") ∈ lw_all := lw_g (lw_at lw_m6 73 rfl) rfl
theorem q1336 : (Jvm.Cond.laysFinal "NightStonesModel" "NightStonesModel" "trace" "[I") ∈ lw_all := lw_g (lw_at lw_m6 74 rfl) rfl
theorem q1337 : (Jvm.Cond.soleField "NightStonesModel" "trace") ∈ lw_all := lw_g (lw_at lw_m6 75 rfl) rfl
theorem q1338 : (Jvm.Cond.lays "NightStonesModel" "NightStonesModel" "traced" "I") ∈ lw_all := lw_g (lw_at lw_m6 76 rfl) rfl
theorem q1339 : (Jvm.Cond.soleField "NightStonesModel" "traced") ∈ lw_all := lw_g (lw_at lw_m6 77 rfl) rfl
theorem q1340 : (Jvm.Cond.superclass "NightStonesModel" "java/lang/Object") ∈ lw_all := lw_g (lw_at lw_m6 78 rfl) rfl
theorem q1343 : (Jvm.Cond.instanceMethod ({ cls := "NightStonesModel", name := "row", desc := "(III)I" } : Jvm.MethodName)) ∈ lw_all := lw_g (lw_at lw_m6 81 rfl) rfl
theorem q1344 : (Jvm.Cond.selects "NightStonesModel" ({ cls := "NightStonesModel", name := "row", desc := "(III)I" } : Jvm.MethodName) ({ cls := "NightStonesModel", name := "row", desc := "(III)I" } : Jvm.MethodName)) ∈ lw_all := lw_g (lw_at lw_m6 82 rfl) rfl
theorem q1345 : (Jvm.Cond.code ({ cls := "NightStonesModel", name := "row", desc := "(III)I" } : Jvm.MethodName) prog_16_method_6_code (5 : Nat) (Option.some Jvm.ClassFile.FieldType.int)) ∈ lw_all := lw_g (lw_at lw_m6 83 rfl) rfl
theorem q1346 : (Jvm.Cond.methodLink "NightStonesModel" (64 : Nat) ({ cls := "NightStonesModel", name := "isRow", desc := "(I)Z" } : Jvm.MethodName)) ∈ lw_all := lw_g (lw_at lw_m6 84 rfl) rfl
theorem q1347 : (Jvm.Cond.static ({ cls := "NightStonesModel", name := "isRow", desc := "(I)Z" } : Jvm.MethodName)) ∈ lw_all := lw_g (lw_at lw_m6 85 rfl) rfl
theorem q1348 : (Jvm.Cond.code ({ cls := "NightStonesModel", name := "isRow", desc := "(I)Z" } : Jvm.MethodName) prog_16_method_5_code (1 : Nat) (Option.some Jvm.ClassFile.FieldType.boolean)) ∈ lw_all := lw_g (lw_at lw_m6 86 rfl) rfl
theorem q1349 : (Jvm.Cond.constantLong "NightStonesModel" (58 : Nat) (7 : Int64)) ∈ lw_all := lw_g (lw_at lw_m6 87 rfl) rfl
theorem q1350 : (Jvm.Cond.methodLink "NightStonesModel" (60 : Nat) ({ cls := "NightStonesModel", name := "in", desc := "(JJJ)Z" } : Jvm.MethodName)) ∈ lw_all := lw_g (lw_at lw_m6 88 rfl) rfl
theorem q1351 : (Jvm.Cond.static ({ cls := "NightStonesModel", name := "in", desc := "(JJJ)Z" } : Jvm.MethodName)) ∈ lw_all := lw_g (lw_at lw_m6 89 rfl) rfl
theorem q1352 : (Jvm.Cond.code ({ cls := "NightStonesModel", name := "in", desc := "(JJJ)Z" } : Jvm.MethodName) prog_16_method_3_code (6 : Nat) (Option.some Jvm.ClassFile.FieldType.boolean)) ∈ lw_all := lw_g (lw_at lw_m6 90 rfl) rfl
theorem q1353 : (Jvm.Cond.constantLong "NightStonesModel" (68 : Nat) (2 : Int64)) ∈ lw_all := lw_g (lw_at lw_m6 91 rfl) rfl
theorem q1354 : (Jvm.Cond.constant "NightStonesModel" (70 : Nat) (-1000001 : Int32)) ∈ lw_all := lw_g (lw_at lw_m6 92 rfl) rfl
theorem q1355 : (Jvm.Cond.methodLink "NightStonesModel" (71 : Nat) ({ cls := "NightStonesModel", name := "finding", desc := "(I)I" } : Jvm.MethodName)) ∈ lw_all := lw_g (lw_at lw_m6 93 rfl) rfl
theorem q1356 : (Jvm.Cond.privateMethod ({ cls := "NightStonesModel", name := "finding", desc := "(I)I" } : Jvm.MethodName)) ∈ lw_tbl := lw_at lw_m6 94 rfl
theorem q1357 : (Jvm.Cond.instanceMethod ({ cls := "NightStonesModel", name := "finding", desc := "(I)I" } : Jvm.MethodName)) ∈ lw_all := lw_g (lw_at lw_m6 95 rfl) rfl
theorem q1358 : (Jvm.Cond.code ({ cls := "NightStonesModel", name := "finding", desc := "(I)I" } : Jvm.MethodName) prog_16_method_4_code (2 : Nat) (Option.some Jvm.ClassFile.FieldType.int)) ∈ lw_all := lw_g (lw_at lw_m6 96 rfl) rfl
theorem q1359 : (Jvm.Cond.constant "NightStonesModel" (57 : Nat) (-1000010 : Int32)) ∈ lw_all := lw_g (lw_at lw_m6 97 rfl) rfl
theorem q1361 : (Jvm.Cond.instanceMethod ({ cls := "NightStonesModel", name := "set", desc := "(III)I" } : Jvm.MethodName)) ∈ lw_all := lw_g (lw_at lw_m6 99 rfl) rfl
theorem q1362 : (Jvm.Cond.selects "NightStonesModel" ({ cls := "NightStonesModel", name := "set", desc := "(III)I" } : Jvm.MethodName) ({ cls := "NightStonesModel", name := "set", desc := "(III)I" } : Jvm.MethodName)) ∈ lw_all := lw_g (lw_at lw_m6 100 rfl) rfl
theorem q1363 : (Jvm.Cond.code ({ cls := "NightStonesModel", name := "set", desc := "(III)I" } : Jvm.MethodName) prog_16_method_7_code (4 : Nat) (Option.some Jvm.ClassFile.FieldType.int)) ∈ lw_all := lw_g (lw_at lw_m6 101 rfl) rfl
theorem q1365 : (Jvm.Cond.instanceMethod ({ cls := "NightStonesModel", name := "copy", desc := "(IIIII)I" } : Jvm.MethodName)) ∈ lw_all := lw_g (lw_at lw_m6 103 rfl) rfl
theorem q1366 : (Jvm.Cond.selects "NightStonesModel" ({ cls := "NightStonesModel", name := "copy", desc := "(IIIII)I" } : Jvm.MethodName) ({ cls := "NightStonesModel", name := "copy", desc := "(IIIII)I" } : Jvm.MethodName)) ∈ lw_all := lw_g (lw_at lw_m6 104 rfl) rfl
theorem q1367 : (Jvm.Cond.code ({ cls := "NightStonesModel", name := "copy", desc := "(IIIII)I" } : Jvm.MethodName) prog_16_method_8_code (9 : Nat) (Option.some Jvm.ClassFile.FieldType.int)) ∈ lw_all := lw_g (lw_at lw_m6 105 rfl) rfl
theorem q1369 : (Jvm.Cond.instanceMethod ({ cls := "NightStonesModel", name := "drop", desc := "(I)I" } : Jvm.MethodName)) ∈ lw_all := lw_g (lw_at lw_m6 107 rfl) rfl
theorem q1370 : (Jvm.Cond.selects "NightStonesModel" ({ cls := "NightStonesModel", name := "drop", desc := "(I)I" } : Jvm.MethodName) ({ cls := "NightStonesModel", name := "drop", desc := "(I)I" } : Jvm.MethodName)) ∈ lw_all := lw_g (lw_at lw_m6 108 rfl) rfl
theorem q1371 : (Jvm.Cond.code ({ cls := "NightStonesModel", name := "drop", desc := "(I)I" } : Jvm.MethodName) prog_16_method_9_code (2 : Nat) (Option.some Jvm.ClassFile.FieldType.int)) ∈ lw_all := lw_g (lw_at lw_m6 109 rfl) rfl
theorem q1373 : (Jvm.Cond.instanceMethod ({ cls := "NightStonesModel", name := "feed", desc := "(JI)I" } : Jvm.MethodName)) ∈ lw_all := lw_g (lw_at lw_m6 111 rfl) rfl
theorem q1374 : (Jvm.Cond.selects "NightStonesModel" ({ cls := "NightStonesModel", name := "feed", desc := "(JI)I" } : Jvm.MethodName) ({ cls := "NightStonesModel", name := "feed", desc := "(JI)I" } : Jvm.MethodName)) ∈ lw_all := lw_g (lw_at lw_m6 112 rfl) rfl
theorem q1375 : (Jvm.Cond.code ({ cls := "NightStonesModel", name := "feed", desc := "(JI)I" } : Jvm.MethodName) prog_16_method_10_code (5 : Nat) (Option.some Jvm.ClassFile.FieldType.int)) ∈ lw_all := lw_g (lw_at lw_m6 113 rfl) rfl
theorem q1376 : (Jvm.Cond.constantLong "NightStonesModel" (75 : Nat) (8 : Int64)) ∈ lw_all := lw_g (lw_at lw_m6 114 rfl) rfl
theorem q1377 : (Jvm.Cond.constant "NightStonesModel" (80 : Nat) (-1000003 : Int32)) ∈ lw_all := lw_g (lw_at lw_m6 115 rfl) rfl
theorem q1378 : (Jvm.Cond.constantLong "NightStonesModel" (81 : Nat) (255 : Int64)) ∈ lw_all := lw_g (lw_at lw_m6 116 rfl) rfl
theorem q1380 : (Jvm.Cond.instanceMethod ({ cls := "NightStonesModel", name := "road", desc := "()I" } : Jvm.MethodName)) ∈ lw_all := lw_g (lw_at lw_m6 118 rfl) rfl
theorem q1381 : (Jvm.Cond.selects "NightStonesModel" ({ cls := "NightStonesModel", name := "road", desc := "()I" } : Jvm.MethodName) ({ cls := "NightStonesModel", name := "road", desc := "()I" } : Jvm.MethodName)) ∈ lw_all := lw_g (lw_at lw_m6 119 rfl) rfl
theorem q1382 : (Jvm.Cond.code ({ cls := "NightStonesModel", name := "road", desc := "()I" } : Jvm.MethodName) prog_16_method_26_code (2 : Nat) (Option.some Jvm.ClassFile.FieldType.int)) ∈ lw_all := lw_g (lw_at lw_m6 120 rfl) rfl
theorem q1383 : (Jvm.Cond.methodLink "NightStonesModel" (158 : Nat) ({ cls := "NightStonesModel", name := "begin", desc := "()V" } : Jvm.MethodName)) ∈ lw_all := lw_g (lw_at lw_m6 121 rfl) rfl
theorem q1384 : (Jvm.Cond.privateMethod ({ cls := "NightStonesModel", name := "begin", desc := "()V" } : Jvm.MethodName)) ∈ lw_tbl := lw_at lw_m6 122 rfl
theorem q1385 : (Jvm.Cond.instanceMethod ({ cls := "NightStonesModel", name := "begin", desc := "()V" } : Jvm.MethodName)) ∈ lw_all := lw_g (lw_at lw_m6 123 rfl) rfl
theorem q1386 : (Jvm.Cond.code ({ cls := "NightStonesModel", name := "begin", desc := "()V" } : Jvm.MethodName) prog_16_method_15_code (1 : Nat) (Option.none : Option Jvm.ClassFile.FieldType)) ∈ lw_all := lw_g (lw_at lw_m6 124 rfl) rfl
theorem q1387 : (Jvm.Cond.methodLink "NightStonesModel" (111 : Nat) ({ cls := "NightStonesModel", name := "next", desc := "()V" } : Jvm.MethodName)) ∈ lw_all := lw_g (lw_at lw_m6 125 rfl) rfl
theorem q1388 : (Jvm.Cond.privateMethod ({ cls := "NightStonesModel", name := "next", desc := "()V" } : Jvm.MethodName)) ∈ lw_tbl := lw_at lw_m6 126 rfl
theorem q1389 : (Jvm.Cond.instanceMethod ({ cls := "NightStonesModel", name := "next", desc := "()V" } : Jvm.MethodName)) ∈ lw_all := lw_g (lw_at lw_m6 127 rfl) rfl
theorem q1390 : (Jvm.Cond.code ({ cls := "NightStonesModel", name := "next", desc := "()V" } : Jvm.MethodName) prog_16_method_14_code (2 : Nat) (Option.none : Option Jvm.ClassFile.FieldType)) ∈ lw_all := lw_g (lw_at lw_m6 128 rfl) rfl
theorem q1391 : (Jvm.Cond.methodLink "NightStonesModel" (90 : Nat) ({ cls := "NightStonesModel", name := "byteAt", desc := "(I)I" } : Jvm.MethodName)) ∈ lw_all := lw_g (lw_at lw_m6 129 rfl) rfl
theorem q1392 : (Jvm.Cond.privateMethod ({ cls := "NightStonesModel", name := "byteAt", desc := "(I)I" } : Jvm.MethodName)) ∈ lw_tbl := lw_at lw_m6 130 rfl
theorem q1393 : (Jvm.Cond.instanceMethod ({ cls := "NightStonesModel", name := "byteAt", desc := "(I)I" } : Jvm.MethodName)) ∈ lw_all := lw_g (lw_at lw_m6 131 rfl) rfl
theorem q1394 : (Jvm.Cond.code ({ cls := "NightStonesModel", name := "byteAt", desc := "(I)I" } : Jvm.MethodName) prog_16_method_11_code (2 : Nat) (Option.some Jvm.ClassFile.FieldType.int)) ∈ lw_all := lw_g (lw_at lw_m6 132 rfl) rfl
theorem q1395 : (Jvm.Cond.constant "NightStonesModel" (86 : Nat) (-1000000 : Int32)) ∈ lw_all := lw_g (lw_at lw_m6 133 rfl) rfl
theorem q1396 : (Jvm.Cond.methodLink "NightStonesModel" (99 : Nat) ({ cls := "NightStonesModel", name := "isLetter", desc := "(I)Z" } : Jvm.MethodName)) ∈ lw_all := lw_g (lw_at lw_m6 134 rfl) rfl
theorem q1397 : (Jvm.Cond.static ({ cls := "NightStonesModel", name := "isLetter", desc := "(I)Z" } : Jvm.MethodName)) ∈ lw_all := lw_g (lw_at lw_m6 135 rfl) rfl
theorem q1398 : (Jvm.Cond.code ({ cls := "NightStonesModel", name := "isLetter", desc := "(I)Z" } : Jvm.MethodName) prog_16_method_12_code (1 : Nat) (Option.some Jvm.ClassFile.FieldType.boolean)) ∈ lw_all := lw_g (lw_at lw_m6 136 rfl) rfl
theorem q1399 : (Jvm.Cond.methodLink "NightStonesModel" (102 : Nat) ({ cls := "NightStonesModel", name := "isFigure", desc := "(I)Z" } : Jvm.MethodName)) ∈ lw_all := lw_g (lw_at lw_m6 137 rfl) rfl
theorem q1400 : (Jvm.Cond.static ({ cls := "NightStonesModel", name := "isFigure", desc := "(I)Z" } : Jvm.MethodName)) ∈ lw_all := lw_g (lw_at lw_m6 138 rfl) rfl
theorem q1401 : (Jvm.Cond.code ({ cls := "NightStonesModel", name := "isFigure", desc := "(I)Z" } : Jvm.MethodName) prog_16_method_13_code (1 : Nat) (Option.some Jvm.ClassFile.FieldType.boolean)) ∈ lw_all := lw_g (lw_at lw_m6 139 rfl) rfl
theorem q1402 : (Jvm.Cond.methodLink "NightStonesModel" (150 : Nat) ({ cls := "NightStonesModel", name := "name", desc := "()J" } : Jvm.MethodName)) ∈ lw_all := lw_g (lw_at lw_m6 140 rfl) rfl
theorem q1403 : (Jvm.Cond.privateMethod ({ cls := "NightStonesModel", name := "name", desc := "()J" } : Jvm.MethodName)) ∈ lw_tbl := lw_at lw_m6 141 rfl
theorem q1404 : (Jvm.Cond.instanceMethod ({ cls := "NightStonesModel", name := "name", desc := "()J" } : Jvm.MethodName)) ∈ lw_all := lw_g (lw_at lw_m6 142 rfl) rfl
theorem q1405 : (Jvm.Cond.code ({ cls := "NightStonesModel", name := "name", desc := "()J" } : Jvm.MethodName) prog_16_method_18_code (4 : Nat) (Option.some Jvm.ClassFile.FieldType.long)) ∈ lw_all := lw_g (lw_at lw_m6 143 rfl) rfl
theorem q1406 : (Jvm.Cond.constantLong "NightStonesModel" (161 : Nat) (7102839 : Int64)) ∈ lw_all := lw_g (lw_at lw_m6 144 rfl) rfl
theorem q1407 : (Jvm.Cond.methodLink "NightStonesModel" (125 : Nat) ({ cls := "NightStonesModel", name := "must", desc := "(Z)V" } : Jvm.MethodName)) ∈ lw_all := lw_g (lw_at lw_m6 145 rfl) rfl
theorem q1408 : (Jvm.Cond.privateMethod ({ cls := "NightStonesModel", name := "must", desc := "(Z)V" } : Jvm.MethodName)) ∈ lw_tbl := lw_at lw_m6 146 rfl
theorem q1409 : (Jvm.Cond.instanceMethod ({ cls := "NightStonesModel", name := "must", desc := "(Z)V" } : Jvm.MethodName)) ∈ lw_all := lw_g (lw_at lw_m6 147 rfl) rfl
theorem q1410 : (Jvm.Cond.code ({ cls := "NightStonesModel", name := "must", desc := "(Z)V" } : Jvm.MethodName) prog_16_method_17_code (2 : Nat) (Option.none : Option Jvm.ClassFile.FieldType)) ∈ lw_all := lw_g (lw_at lw_m6 148 rfl) rfl
theorem q1411 : (Jvm.Cond.methodLink "NightStonesModel" (117 : Nat) ({ cls := "NightStonesModel", name := "bad", desc := "(I)V" } : Jvm.MethodName)) ∈ lw_all := lw_g (lw_at lw_m6 149 rfl) rfl
theorem q1412 : (Jvm.Cond.privateMethod ({ cls := "NightStonesModel", name := "bad", desc := "(I)V" } : Jvm.MethodName)) ∈ lw_tbl := lw_at lw_m6 150 rfl
theorem q1413 : (Jvm.Cond.instanceMethod ({ cls := "NightStonesModel", name := "bad", desc := "(I)V" } : Jvm.MethodName)) ∈ lw_all := lw_g (lw_at lw_m6 151 rfl) rfl
theorem q1414 : (Jvm.Cond.code ({ cls := "NightStonesModel", name := "bad", desc := "(I)V" } : Jvm.MethodName) prog_16_method_16_code (2 : Nat) (Option.none : Option Jvm.ClassFile.FieldType)) ∈ lw_all := lw_g (lw_at lw_m6 152 rfl) rfl
theorem q1415 : (Jvm.Cond.methodLink "NightStonesModel" (143 : Nat) ({ cls := "NightStonesModel", name := "number", desc := "(II)I" } : Jvm.MethodName)) ∈ lw_all := lw_g (lw_at lw_m6 153 rfl) rfl
theorem q1416 : (Jvm.Cond.privateMethod ({ cls := "NightStonesModel", name := "number", desc := "(II)I" } : Jvm.MethodName)) ∈ lw_tbl := lw_at lw_m6 154 rfl
theorem q1417 : (Jvm.Cond.instanceMethod ({ cls := "NightStonesModel", name := "number", desc := "(II)I" } : Jvm.MethodName)) ∈ lw_all := lw_g (lw_at lw_m6 155 rfl) rfl
theorem q1418 : (Jvm.Cond.code ({ cls := "NightStonesModel", name := "number", desc := "(II)I" } : Jvm.MethodName) prog_16_method_20_code (4 : Nat) (Option.some Jvm.ClassFile.FieldType.int)) ∈ lw_all := lw_g (lw_at lw_m6 156 rfl) rfl
theorem q1419 : (Jvm.Cond.methodLink "NightStonesModel" (121 : Nat) ({ cls := "NightStonesModel", name := "figures", desc := "()I" } : Jvm.MethodName)) ∈ lw_all := lw_g (lw_at lw_m6 157 rfl) rfl
theorem q1420 : (Jvm.Cond.privateMethod ({ cls := "NightStonesModel", name := "figures", desc := "()I" } : Jvm.MethodName)) ∈ lw_tbl := lw_at lw_m6 158 rfl
theorem q1421 : (Jvm.Cond.instanceMethod ({ cls := "NightStonesModel", name := "figures", desc := "()I" } : Jvm.MethodName)) ∈ lw_all := lw_g (lw_at lw_m6 159 rfl) rfl
theorem q1422 : (Jvm.Cond.code ({ cls := "NightStonesModel", name := "figures", desc := "()I" } : Jvm.MethodName) prog_16_method_19_code (3 : Nat) (Option.some Jvm.ClassFile.FieldType.int)) ∈ lw_all := lw_g (lw_at lw_m6 160 rfl) rfl
theorem q1423 : (Jvm.Cond.methodLink "NightStonesModel" (147 : Nat) ({ cls := "NightStonesModel", name := "mustEnd", desc := "()V" } : Jvm.MethodName)) ∈ lw_all := lw_g (lw_at lw_m6 161 rfl) rfl
theorem q1424 : (Jvm.Cond.privateMethod ({ cls := "NightStonesModel", name := "mustEnd", desc := "()V" } : Jvm.MethodName)) ∈ lw_tbl := lw_at lw_m6 162 rfl
theorem q1425 : (Jvm.Cond.instanceMethod ({ cls := "NightStonesModel", name := "mustEnd", desc := "()V" } : Jvm.MethodName)) ∈ lw_all := lw_g (lw_at lw_m6 163 rfl) rfl
theorem q1426 : (Jvm.Cond.code ({ cls := "NightStonesModel", name := "mustEnd", desc := "()V" } : Jvm.MethodName) prog_16_method_22_code (1 : Nat) (Option.none : Option Jvm.ClassFile.FieldType)) ∈ lw_all := lw_g (lw_at lw_m6 164 rfl) rfl
theorem q1427 : (Jvm.Cond.constantLong "NightStonesModel" (163 : Nat) (495874698853 : Int64)) ∈ lw_all := lw_g (lw_at lw_m6 165 rfl) rfl
theorem q1428 : (Jvm.Cond.methodLink "NightStonesModel" (165 : Nat) ({ cls := "NightStonesModel", name := "readStone", desc := "()V" } : Jvm.MethodName)) ∈ lw_all := lw_g (lw_at lw_m6 166 rfl) rfl
theorem q1429 : (Jvm.Cond.privateMethod ({ cls := "NightStonesModel", name := "readStone", desc := "()V" } : Jvm.MethodName)) ∈ lw_tbl := lw_at lw_m6 167 rfl
theorem q1430 : (Jvm.Cond.instanceMethod ({ cls := "NightStonesModel", name := "readStone", desc := "()V" } : Jvm.MethodName)) ∈ lw_all := lw_g (lw_at lw_m6 168 rfl) rfl
theorem q1431 : (Jvm.Cond.code ({ cls := "NightStonesModel", name := "readStone", desc := "()V" } : Jvm.MethodName) prog_16_method_24_code (4 : Nat) (Option.none : Option Jvm.ClassFile.FieldType)) ∈ lw_all := lw_g (lw_at lw_m6 169 rfl) rfl
theorem q1432 : (Jvm.Cond.methodLink "NightStonesModel" (139 : Nat) ({ cls := "NightStonesModel", name := "begins", desc := "(II)V" } : Jvm.MethodName)) ∈ lw_all := lw_g (lw_at lw_m6 170 rfl) rfl
theorem q1433 : (Jvm.Cond.privateMethod ({ cls := "NightStonesModel", name := "begins", desc := "(II)V" } : Jvm.MethodName)) ∈ lw_tbl := lw_at lw_m6 171 rfl
theorem q1434 : (Jvm.Cond.instanceMethod ({ cls := "NightStonesModel", name := "begins", desc := "(II)V" } : Jvm.MethodName)) ∈ lw_all := lw_g (lw_at lw_m6 172 rfl) rfl
theorem q1435 : (Jvm.Cond.code ({ cls := "NightStonesModel", name := "begins", desc := "(II)V" } : Jvm.MethodName) prog_16_method_23_code (3 : Nat) (Option.none : Option Jvm.ClassFile.FieldType)) ∈ lw_all := lw_g (lw_at lw_m6 173 rfl) rfl
theorem q1436 : (Jvm.Cond.constantLong "NightStonesModel" (168 : Nat) (470021465458 : Int64)) ∈ lw_all := lw_g (lw_at lw_m6 174 rfl) rfl
theorem q1437 : (Jvm.Cond.methodLink "NightStonesModel" (170 : Nat) ({ cls := "NightStonesModel", name := "readMover", desc := "()V" } : Jvm.MethodName)) ∈ lw_all := lw_g (lw_at lw_m6 175 rfl) rfl
theorem q1438 : (Jvm.Cond.privateMethod ({ cls := "NightStonesModel", name := "readMover", desc := "()V" } : Jvm.MethodName)) ∈ lw_tbl := lw_at lw_m6 176 rfl
theorem q1439 : (Jvm.Cond.instanceMethod ({ cls := "NightStonesModel", name := "readMover", desc := "()V" } : Jvm.MethodName)) ∈ lw_all := lw_g (lw_at lw_m6 177 rfl) rfl
theorem q1440 : (Jvm.Cond.code ({ cls := "NightStonesModel", name := "readMover", desc := "()V" } : Jvm.MethodName) prog_16_method_25_code (6 : Nat) (Option.none : Option Jvm.ClassFile.FieldType)) ∈ lw_all := lw_g (lw_at lw_m6 178 rfl) rfl
theorem q1441 : (Jvm.Cond.methodLink "NightStonesModel" (154 : Nat) ({ cls := "NightStonesModel", name := "kindBy", desc := "(J)I" } : Jvm.MethodName)) ∈ lw_all := lw_g (lw_at lw_m6 179 rfl) rfl
theorem q1442 : (Jvm.Cond.static ({ cls := "NightStonesModel", name := "kindBy", desc := "(J)I" } : Jvm.MethodName)) ∈ lw_all := lw_g (lw_at lw_m6 180 rfl) rfl
theorem q1443 : (Jvm.Cond.code ({ cls := "NightStonesModel", name := "kindBy", desc := "(J)I" } : Jvm.MethodName) prog_16_method_21_code (2 : Nat) (Option.some Jvm.ClassFile.FieldType.int)) ∈ lw_all := lw_g (lw_at lw_m6 181 rfl) rfl
theorem q1444 : (Jvm.Cond.constantLong "NightStonesModel" (129 : Nat) (6909550 : Int64)) ∈ lw_all := lw_g (lw_at lw_m6 182 rfl) rfl
theorem q1445 : (Jvm.Cond.constantLong "NightStonesModel" (131 : Nat) (109270183208306 : Int64)) ∈ lw_all := lw_g (lw_at lw_m6 183 rfl) rfl
theorem q1446 : (Jvm.Cond.constantLong "NightStonesModel" (133 : Nat) (123563833652072 : Int64)) ∈ lw_all := lw_g (lw_at lw_m6 184 rfl) rfl
theorem q1447 : (Jvm.Cond.constantLong "NightStonesModel" (135 : Nat) (499967944038 : Int64)) ∈ lw_all := lw_g (lw_at lw_m6 185 rfl) rfl
theorem q1448 : (Jvm.Cond.constantLong "NightStonesModel" (137 : Nat) (123636696839028 : Int64)) ∈ lw_all := lw_g (lw_at lw_m6 186 rfl) rfl
theorem q1449 : (Jvm.Cond.constant "NightStonesModel" (176 : Nat) (-1000100 : Int32)) ∈ lw_all := lw_g (lw_at lw_m6 187 rfl) rfl
theorem q1451 : (Jvm.Cond.instanceMethod ({ cls := "NightStonesModel", name := "fault", desc := "()I" } : Jvm.MethodName)) ∈ lw_all := lw_g (lw_at lw_m6 189 rfl) rfl
theorem q1452 : (Jvm.Cond.selects "NightStonesModel" ({ cls := "NightStonesModel", name := "fault", desc := "()I" } : Jvm.MethodName) ({ cls := "NightStonesModel", name := "fault", desc := "()I" } : Jvm.MethodName)) ∈ lw_all := lw_g (lw_at lw_m6 190 rfl) rfl
theorem q1453 : (Jvm.Cond.code ({ cls := "NightStonesModel", name := "fault", desc := "()I" } : Jvm.MethodName) prog_16_method_27_code (1 : Nat) (Option.some Jvm.ClassFile.FieldType.int)) ∈ lw_all := lw_g (lw_at lw_m6 191 rfl) rfl
theorem q1455 : (Jvm.Cond.instanceMethod ({ cls := "NightStonesModel", name := "night", desc := "()I" } : Jvm.MethodName)) ∈ lw_all := lw_g (lw_at lw_m6 193 rfl) rfl
theorem q1456 : (Jvm.Cond.selects "NightStonesModel" ({ cls := "NightStonesModel", name := "night", desc := "()I" } : Jvm.MethodName) ({ cls := "NightStonesModel", name := "night", desc := "()I" } : Jvm.MethodName)) ∈ lw_all := lw_g (lw_at lw_m6 194 rfl) rfl
theorem q1457 : (Jvm.Cond.code ({ cls := "NightStonesModel", name := "night", desc := "()I" } : Jvm.MethodName) prog_16_method_38_code (3 : Nat) (Option.some Jvm.ClassFile.FieldType.int)) ∈ lw_all := lw_g (lw_at lw_m6 195 rfl) rfl
theorem q1458 : (Jvm.Cond.methodLink "NightStonesModel" (192 : Nat) ({ cls := "NightStonesModel", name := "isThere", desc := "()Z" } : Jvm.MethodName)) ∈ lw_all := lw_g (lw_at lw_m6 196 rfl) rfl
theorem q1459 : (Jvm.Cond.privateMethod ({ cls := "NightStonesModel", name := "isThere", desc := "()Z" } : Jvm.MethodName)) ∈ lw_tbl := lw_at lw_m6 197 rfl
theorem q1460 : (Jvm.Cond.instanceMethod ({ cls := "NightStonesModel", name := "isThere", desc := "()Z" } : Jvm.MethodName)) ∈ lw_all := lw_g (lw_at lw_m6 198 rfl) rfl
theorem q1461 : (Jvm.Cond.code ({ cls := "NightStonesModel", name := "isThere", desc := "()Z" } : Jvm.MethodName) prog_16_method_28_code (1 : Nat) (Option.some Jvm.ClassFile.FieldType.boolean)) ∈ lw_all := lw_g (lw_at lw_m6 199 rfl) rfl
theorem q1462 : (Jvm.Cond.constant "NightStonesModel" (196 : Nat) (-1000002 : Int32)) ∈ lw_all := lw_g (lw_at lw_m6 200 rfl) rfl
theorem q1463 : (Jvm.Cond.methodLink "NightStonesModel" (197 : Nat) ({ cls := "NightStonesModel", name := "keep", desc := "()V" } : Jvm.MethodName)) ∈ lw_all := lw_g (lw_at lw_m6 201 rfl) rfl
theorem q1464 : (Jvm.Cond.privateMethod ({ cls := "NightStonesModel", name := "keep", desc := "()V" } : Jvm.MethodName)) ∈ lw_tbl := lw_at lw_m6 202 rfl
theorem q1465 : (Jvm.Cond.instanceMethod ({ cls := "NightStonesModel", name := "keep", desc := "()V" } : Jvm.MethodName)) ∈ lw_all := lw_g (lw_at lw_m6 203 rfl) rfl
theorem q1466 : (Jvm.Cond.code ({ cls := "NightStonesModel", name := "keep", desc := "()V" } : Jvm.MethodName) prog_16_method_37_code (2 : Nat) (Option.none : Option Jvm.ClassFile.FieldType)) ∈ lw_all := lw_g (lw_at lw_m6 204 rfl) rfl
theorem q1467 : (Jvm.Cond.methodLink "NightStonesModel" (180 : Nat) ({ cls := "NightStonesModel", name := "stoneOf", desc := "(II)I" } : Jvm.MethodName)) ∈ lw_all := lw_g (lw_at lw_m6 205 rfl) rfl
theorem q1468 : (Jvm.Cond.privateMethod ({ cls := "NightStonesModel", name := "stoneOf", desc := "(II)I" } : Jvm.MethodName)) ∈ lw_tbl := lw_at lw_m6 206 rfl
theorem q1469 : (Jvm.Cond.instanceMethod ({ cls := "NightStonesModel", name := "stoneOf", desc := "(II)I" } : Jvm.MethodName)) ∈ lw_all := lw_g (lw_at lw_m6 207 rfl) rfl
theorem q1470 : (Jvm.Cond.code ({ cls := "NightStonesModel", name := "stoneOf", desc := "(II)I" } : Jvm.MethodName) prog_16_method_31_code (3 : Nat) (Option.some Jvm.ClassFile.FieldType.int)) ∈ lw_all := lw_g (lw_at lw_m6 208 rfl) rfl
theorem q1471 : (Jvm.Cond.methodLink "NightStonesModel" (200 : Nat) ({ cls := "NightStonesModel", name := "layNow", desc := "(I)V" } : Jvm.MethodName)) ∈ lw_all := lw_g (lw_at lw_m6 209 rfl) rfl
theorem q1472 : (Jvm.Cond.privateMethod ({ cls := "NightStonesModel", name := "layNow", desc := "(I)V" } : Jvm.MethodName)) ∈ lw_tbl := lw_at lw_m6 210 rfl
theorem q1473 : (Jvm.Cond.instanceMethod ({ cls := "NightStonesModel", name := "layNow", desc := "(I)V" } : Jvm.MethodName)) ∈ lw_all := lw_g (lw_at lw_m6 211 rfl) rfl
theorem q1474 : (Jvm.Cond.code ({ cls := "NightStonesModel", name := "layNow", desc := "(I)V" } : Jvm.MethodName) prog_16_method_33_code (3 : Nat) (Option.none : Option Jvm.ClassFile.FieldType)) ∈ lw_all := lw_g (lw_at lw_m6 212 rfl) rfl
theorem q1475 : (Jvm.Cond.methodLink "NightStonesModel" (203 : Nat) ({ cls := "NightStonesModel", name := "goNight", desc := "(II)V" } : Jvm.MethodName)) ∈ lw_all := lw_g (lw_at lw_m6 213 rfl) rfl
theorem q1476 : (Jvm.Cond.privateMethod ({ cls := "NightStonesModel", name := "goNight", desc := "(II)V" } : Jvm.MethodName)) ∈ lw_tbl := lw_at lw_m6 214 rfl
theorem q1477 : (Jvm.Cond.instanceMethod ({ cls := "NightStonesModel", name := "goNight", desc := "(II)V" } : Jvm.MethodName)) ∈ lw_all := lw_g (lw_at lw_m6 215 rfl) rfl
theorem q1478 : (Jvm.Cond.code ({ cls := "NightStonesModel", name := "goNight", desc := "(II)V" } : Jvm.MethodName) prog_16_method_36_code (4 : Nat) (Option.none : Option Jvm.ClassFile.FieldType)) ∈ lw_all := lw_g (lw_at lw_m6 216 rfl) rfl
theorem q1479 : (Jvm.Cond.methodLink "NightStonesModel" (189 : Nat) ({ cls := "NightStonesModel", name := "pushes", desc := "(II)V" } : Jvm.MethodName)) ∈ lw_all := lw_g (lw_at lw_m6 217 rfl) rfl
theorem q1480 : (Jvm.Cond.privateMethod ({ cls := "NightStonesModel", name := "pushes", desc := "(II)V" } : Jvm.MethodName)) ∈ lw_tbl := lw_at lw_m6 218 rfl
theorem q1481 : (Jvm.Cond.instanceMethod ({ cls := "NightStonesModel", name := "pushes", desc := "(II)V" } : Jvm.MethodName)) ∈ lw_all := lw_g (lw_at lw_m6 219 rfl) rfl
theorem q1482 : (Jvm.Cond.code ({ cls := "NightStonesModel", name := "pushes", desc := "(II)V" } : Jvm.MethodName) prog_16_method_35_code (9 : Nat) (Option.none : Option Jvm.ClassFile.FieldType)) ∈ lw_all := lw_g (lw_at lw_m6 220 rfl) rfl
theorem q1483 : (Jvm.Cond.methodLink "NightStonesModel" (183 : Nat) ({ cls := "NightStonesModel", name := "of", desc := "(II)I" } : Jvm.MethodName)) ∈ lw_all := lw_g (lw_at lw_m6 221 rfl) rfl
theorem q1484 : (Jvm.Cond.privateMethod ({ cls := "NightStonesModel", name := "of", desc := "(II)I" } : Jvm.MethodName)) ∈ lw_tbl := lw_at lw_m6 222 rfl
theorem q1485 : (Jvm.Cond.instanceMethod ({ cls := "NightStonesModel", name := "of", desc := "(II)I" } : Jvm.MethodName)) ∈ lw_all := lw_g (lw_at lw_m6 223 rfl) rfl
theorem q1486 : (Jvm.Cond.code ({ cls := "NightStonesModel", name := "of", desc := "(II)I" } : Jvm.MethodName) prog_16_method_32_code (3 : Nat) (Option.some Jvm.ClassFile.FieldType.int)) ∈ lw_all := lw_g (lw_at lw_m6 224 rfl) rfl
theorem q1487 : (Jvm.Cond.methodLink "NightStonesModel" (186 : Nat) ({ cls := "NightStonesModel", name := "isFree", desc := "(I)Z" } : Jvm.MethodName)) ∈ lw_all := lw_g (lw_at lw_m6 225 rfl) rfl
theorem q1488 : (Jvm.Cond.privateMethod ({ cls := "NightStonesModel", name := "isFree", desc := "(I)Z" } : Jvm.MethodName)) ∈ lw_tbl := lw_at lw_m6 226 rfl
theorem q1489 : (Jvm.Cond.instanceMethod ({ cls := "NightStonesModel", name := "isFree", desc := "(I)Z" } : Jvm.MethodName)) ∈ lw_all := lw_g (lw_at lw_m6 227 rfl) rfl
theorem q1490 : (Jvm.Cond.code ({ cls := "NightStonesModel", name := "isFree", desc := "(I)Z" } : Jvm.MethodName) prog_16_method_34_code (4 : Nat) (Option.some Jvm.ClassFile.FieldType.boolean)) ∈ lw_all := lw_g (lw_at lw_m6 228 rfl) rfl
theorem q1492 : (Jvm.Cond.instanceMethod ({ cls := "NightStonesModel", name := "prove", desc := "(I)I" } : Jvm.MethodName)) ∈ lw_all := lw_g (lw_at lw_m6 230 rfl) rfl
theorem q1493 : (Jvm.Cond.selects "NightStonesModel" ({ cls := "NightStonesModel", name := "prove", desc := "(I)I" } : Jvm.MethodName) ({ cls := "NightStonesModel", name := "prove", desc := "(I)I" } : Jvm.MethodName)) ∈ lw_all := lw_g (lw_at lw_m6 231 rfl) rfl
theorem q1494 : (Jvm.Cond.code ({ cls := "NightStonesModel", name := "prove", desc := "(I)I" } : Jvm.MethodName) prog_16_method_39_code (7 : Nat) (Option.some Jvm.ClassFile.FieldType.int)) ∈ lw_all := lw_g (lw_at lw_m6 232 rfl) rfl
theorem q1495 : (Jvm.Cond.methodLink "NightStonesModel" (206 : Nat) ({ cls := "NightStonesModel", name := "isStone", desc := "(I)Z" } : Jvm.MethodName)) ∈ lw_all := lw_g (lw_at lw_m6 233 rfl) rfl
theorem q1496 : (Jvm.Cond.privateMethod ({ cls := "NightStonesModel", name := "isStone", desc := "(I)Z" } : Jvm.MethodName)) ∈ lw_tbl := lw_at lw_m6 234 rfl
theorem q1497 : (Jvm.Cond.instanceMethod ({ cls := "NightStonesModel", name := "isStone", desc := "(I)Z" } : Jvm.MethodName)) ∈ lw_all := lw_g (lw_at lw_m6 235 rfl) rfl
theorem q1498 : (Jvm.Cond.code ({ cls := "NightStonesModel", name := "isStone", desc := "(I)Z" } : Jvm.MethodName) prog_16_method_29_code (2 : Nat) (Option.some Jvm.ClassFile.FieldType.boolean)) ∈ lw_all := lw_g (lw_at lw_m6 236 rfl) rfl
theorem q1500 : (Jvm.Cond.instanceMethod ({ cls := "NightStonesModel", name := "undo", desc := "()I" } : Jvm.MethodName)) ∈ lw_all := lw_g (lw_at lw_m6 238 rfl) rfl
theorem q1501 : (Jvm.Cond.selects "NightStonesModel" ({ cls := "NightStonesModel", name := "undo", desc := "()I" } : Jvm.MethodName) ({ cls := "NightStonesModel", name := "undo", desc := "()I" } : Jvm.MethodName)) ∈ lw_all := lw_g (lw_at lw_m6 239 rfl) rfl
theorem q1502 : (Jvm.Cond.code ({ cls := "NightStonesModel", name := "undo", desc := "()I" } : Jvm.MethodName) prog_16_method_40_code (2 : Nat) (Option.some Jvm.ClassFile.FieldType.int)) ∈ lw_all := lw_g (lw_at lw_m7 0 rfl) rfl
theorem q1504 : (Jvm.Cond.instanceMethod ({ cls := "NightStonesModel", name := "stone", desc := "(II)I" } : Jvm.MethodName)) ∈ lw_all := lw_g (lw_at lw_m7 2 rfl) rfl
theorem q1505 : (Jvm.Cond.selects "NightStonesModel" ({ cls := "NightStonesModel", name := "stone", desc := "(II)I" } : Jvm.MethodName) ({ cls := "NightStonesModel", name := "stone", desc := "(II)I" } : Jvm.MethodName)) ∈ lw_all := lw_g (lw_at lw_m7 3 rfl) rfl
theorem q1506 : (Jvm.Cond.code ({ cls := "NightStonesModel", name := "stone", desc := "(II)I" } : Jvm.MethodName) prog_16_method_41_code (3 : Nat) (Option.some Jvm.ClassFile.FieldType.int)) ∈ lw_all := lw_g (lw_at lw_m7 4 rfl) rfl
theorem q1508 : (Jvm.Cond.instanceMethod ({ cls := "NightStonesModel", name := "carry", desc := "(III)I" } : Jvm.MethodName)) ∈ lw_all := lw_g (lw_at lw_m7 6 rfl) rfl
theorem q1509 : (Jvm.Cond.selects "NightStonesModel" ({ cls := "NightStonesModel", name := "carry", desc := "(III)I" } : Jvm.MethodName) ({ cls := "NightStonesModel", name := "carry", desc := "(III)I" } : Jvm.MethodName)) ∈ lw_all := lw_g (lw_at lw_m7 7 rfl) rfl
theorem q1510 : (Jvm.Cond.code ({ cls := "NightStonesModel", name := "carry", desc := "(III)I" } : Jvm.MethodName) prog_16_method_43_code (4 : Nat) (Option.some Jvm.ClassFile.FieldType.int)) ∈ lw_all := lw_g (lw_at lw_m7 8 rfl) rfl
theorem q1511 : (Jvm.Cond.methodLink "NightStonesModel" (209 : Nat) ({ cls := "NightStonesModel", name := "apart", desc := "(II)I" } : Jvm.MethodName)) ∈ lw_all := lw_g (lw_at lw_m7 9 rfl) rfl
theorem q1512 : (Jvm.Cond.static ({ cls := "NightStonesModel", name := "apart", desc := "(II)I" } : Jvm.MethodName)) ∈ lw_all := lw_g (lw_at lw_m7 10 rfl) rfl
theorem q1513 : (Jvm.Cond.code ({ cls := "NightStonesModel", name := "apart", desc := "(II)I" } : Jvm.MethodName) prog_16_method_42_code (2 : Nat) (Option.some Jvm.ClassFile.FieldType.int)) ∈ lw_all := lw_g (lw_at lw_m7 11 rfl) rfl
theorem q1515 : (Jvm.Cond.instanceMethod ({ cls := "NightStonesModel", name := "time", desc := "(IIII)I" } : Jvm.MethodName)) ∈ lw_all := lw_g (lw_at lw_m7 13 rfl) rfl
theorem q1516 : (Jvm.Cond.selects "NightStonesModel" ({ cls := "NightStonesModel", name := "time", desc := "(IIII)I" } : Jvm.MethodName) ({ cls := "NightStonesModel", name := "time", desc := "(IIII)I" } : Jvm.MethodName)) ∈ lw_all := lw_g (lw_at lw_m7 14 rfl) rfl
theorem q1517 : (Jvm.Cond.code ({ cls := "NightStonesModel", name := "time", desc := "(IIII)I" } : Jvm.MethodName) prog_16_method_46_code (5 : Nat) (Option.some Jvm.ClassFile.FieldType.int)) ∈ lw_all := lw_g (lw_at lw_m7 15 rfl) rfl
theorem q1518 : (Jvm.Cond.methodLink "NightStonesModel" (216 : Nat) ({ cls := "NightStonesModel", name := "isTime", desc := "(IIII)Z" } : Jvm.MethodName)) ∈ lw_all := lw_g (lw_at lw_m7 16 rfl) rfl
theorem q1519 : (Jvm.Cond.privateMethod ({ cls := "NightStonesModel", name := "isTime", desc := "(IIII)Z" } : Jvm.MethodName)) ∈ lw_tbl := lw_at lw_m7 17 rfl
theorem q1520 : (Jvm.Cond.instanceMethod ({ cls := "NightStonesModel", name := "isTime", desc := "(IIII)Z" } : Jvm.MethodName)) ∈ lw_all := lw_g (lw_at lw_m7 18 rfl) rfl
theorem q1521 : (Jvm.Cond.code ({ cls := "NightStonesModel", name := "isTime", desc := "(IIII)Z" } : Jvm.MethodName) prog_16_method_44_code (5 : Nat) (Option.some Jvm.ClassFile.FieldType.boolean)) ∈ lw_all := lw_g (lw_at lw_m7 19 rfl) rfl
theorem q1522 : (Jvm.Cond.constantLong "NightStonesModel" (212 : Nat) (20 : Int64)) ∈ lw_all := lw_g (lw_at lw_m7 20 rfl) rfl
theorem q1523 : (Jvm.Cond.constantLong "NightStonesModel" (214 : Nat) (99 : Int64)) ∈ lw_all := lw_g (lw_at lw_m7 21 rfl) rfl
theorem q1524 : (Jvm.Cond.methodLink "NightStonesModel" (220 : Nat) ({ cls := "NightStonesModel", name := "addTime", desc := "(IIII)V" } : Jvm.MethodName)) ∈ lw_all := lw_g (lw_at lw_m7 22 rfl) rfl
theorem q1525 : (Jvm.Cond.privateMethod ({ cls := "NightStonesModel", name := "addTime", desc := "(IIII)V" } : Jvm.MethodName)) ∈ lw_tbl := lw_at lw_m7 23 rfl
theorem q1526 : (Jvm.Cond.instanceMethod ({ cls := "NightStonesModel", name := "addTime", desc := "(IIII)V" } : Jvm.MethodName)) ∈ lw_all := lw_g (lw_at lw_m7 24 rfl) rfl
theorem q1527 : (Jvm.Cond.code ({ cls := "NightStonesModel", name := "addTime", desc := "(IIII)V" } : Jvm.MethodName) prog_16_method_45_code (6 : Nat) (Option.none : Option Jvm.ClassFile.FieldType)) ∈ lw_all := lw_g (lw_at lw_m7 25 rfl) rfl
theorem q1529 : (Jvm.Cond.instanceMethod ({ cls := "NightStonesModel", name := "times", desc := "(III)I" } : Jvm.MethodName)) ∈ lw_all := lw_g (lw_at lw_m7 27 rfl) rfl
theorem q1530 : (Jvm.Cond.selects "NightStonesModel" ({ cls := "NightStonesModel", name := "times", desc := "(III)I" } : Jvm.MethodName) ({ cls := "NightStonesModel", name := "times", desc := "(III)I" } : Jvm.MethodName)) ∈ lw_all := lw_g (lw_at lw_m7 28 rfl) rfl
theorem q1531 : (Jvm.Cond.code ({ cls := "NightStonesModel", name := "times", desc := "(III)I" } : Jvm.MethodName) prog_16_method_47_code (6 : Nat) (Option.some Jvm.ClassFile.FieldType.int)) ∈ lw_all := lw_g (lw_at lw_m7 29 rfl) rfl
theorem q1532 : (Jvm.Cond.constantLong "NightStonesModel" (224 : Nat) (10 : Int64)) ∈ lw_all := lw_g (lw_at lw_m7 30 rfl) rfl
theorem q1534 : (Jvm.Cond.instanceMethod ({ cls := "NightStonesModel", name := "forget", desc := "()I" } : Jvm.MethodName)) ∈ lw_all := lw_g (lw_at lw_m7 32 rfl) rfl
theorem q1535 : (Jvm.Cond.selects "NightStonesModel" ({ cls := "NightStonesModel", name := "forget", desc := "()I" } : Jvm.MethodName) ({ cls := "NightStonesModel", name := "forget", desc := "()I" } : Jvm.MethodName)) ∈ lw_all := lw_g (lw_at lw_m7 33 rfl) rfl
theorem q1536 : (Jvm.Cond.code ({ cls := "NightStonesModel", name := "forget", desc := "()I" } : Jvm.MethodName) prog_16_method_48_code (2 : Nat) (Option.some Jvm.ClassFile.FieldType.int)) ∈ lw_all := lw_g (lw_at lw_m7 34 rfl) rfl
theorem q1538 : (Jvm.Cond.instanceMethod ({ cls := "NightStonesModel", name := "ends", desc := "(III)I" } : Jvm.MethodName)) ∈ lw_all := lw_g (lw_at lw_m7 36 rfl) rfl
theorem q1539 : (Jvm.Cond.selects "NightStonesModel" ({ cls := "NightStonesModel", name := "ends", desc := "(III)I" } : Jvm.MethodName) ({ cls := "NightStonesModel", name := "ends", desc := "(III)I" } : Jvm.MethodName)) ∈ lw_all := lw_g (lw_at lw_m7 37 rfl) rfl
theorem q1540 : (Jvm.Cond.code ({ cls := "NightStonesModel", name := "ends", desc := "(III)I" } : Jvm.MethodName) prog_16_method_51_code (4 : Nat) (Option.some Jvm.ClassFile.FieldType.int)) ∈ lw_all := lw_g (lw_at lw_m7 38 rfl) rfl
theorem q1541 : (Jvm.Cond.methodLink "NightStonesModel" (231 : Nat) ({ cls := "NightStonesModel", name := "layMost", desc := "()Z" } : Jvm.MethodName)) ∈ lw_all := lw_g (lw_at lw_m7 39 rfl) rfl
theorem q1542 : (Jvm.Cond.privateMethod ({ cls := "NightStonesModel", name := "layMost", desc := "()Z" } : Jvm.MethodName)) ∈ lw_tbl := lw_at lw_m7 40 rfl
theorem q1543 : (Jvm.Cond.instanceMethod ({ cls := "NightStonesModel", name := "layMost", desc := "()Z" } : Jvm.MethodName)) ∈ lw_all := lw_g (lw_at lw_m7 41 rfl) rfl
theorem q1544 : (Jvm.Cond.code ({ cls := "NightStonesModel", name := "layMost", desc := "()Z" } : Jvm.MethodName) prog_16_method_50_code (6 : Nat) (Option.some Jvm.ClassFile.FieldType.boolean)) ∈ lw_all := lw_g (lw_at lw_m7 42 rfl) rfl
theorem q1545 : (Jvm.Cond.constant "NightStonesModel" (226 : Nat) (100000 : Int32)) ∈ lw_all := lw_g (lw_at lw_m7 43 rfl) rfl
theorem q1546 : (Jvm.Cond.methodLink "NightStonesModel" (227 : Nat) ({ cls := "NightStonesModel", name := "atMost", desc := "(III)V" } : Jvm.MethodName)) ∈ lw_all := lw_g (lw_at lw_m7 44 rfl) rfl
theorem q1547 : (Jvm.Cond.privateMethod ({ cls := "NightStonesModel", name := "atMost", desc := "(III)V" } : Jvm.MethodName)) ∈ lw_tbl := lw_at lw_m7 45 rfl
theorem q1548 : (Jvm.Cond.instanceMethod ({ cls := "NightStonesModel", name := "atMost", desc := "(III)V" } : Jvm.MethodName)) ∈ lw_all := lw_g (lw_at lw_m7 46 rfl) rfl
theorem q1549 : (Jvm.Cond.code ({ cls := "NightStonesModel", name := "atMost", desc := "(III)V" } : Jvm.MethodName) prog_16_method_49_code (4 : Nat) (Option.none : Option Jvm.ClassFile.FieldType)) ∈ lw_all := lw_g (lw_at lw_m7 47 rfl) rfl
theorem q1551 : (Jvm.Cond.instanceMethod ({ cls := "NightStonesModel", name := "widest", desc := "()I" } : Jvm.MethodName)) ∈ lw_all := lw_g (lw_at lw_m7 49 rfl) rfl
theorem q1552 : (Jvm.Cond.selects "NightStonesModel" ({ cls := "NightStonesModel", name := "widest", desc := "()I" } : Jvm.MethodName) ({ cls := "NightStonesModel", name := "widest", desc := "()I" } : Jvm.MethodName)) ∈ lw_all := lw_g (lw_at lw_m7 50 rfl) rfl
theorem q1553 : (Jvm.Cond.code ({ cls := "NightStonesModel", name := "widest", desc := "()I" } : Jvm.MethodName) prog_16_method_52_code (6 : Nat) (Option.some Jvm.ClassFile.FieldType.int)) ∈ lw_all := lw_g (lw_at lw_m7 51 rfl) rfl
theorem q1555 : (Jvm.Cond.instanceMethod ({ cls := "NightStonesModel", name := "rest", desc := "()I" } : Jvm.MethodName)) ∈ lw_all := lw_g (lw_at lw_m7 53 rfl) rfl
theorem q1556 : (Jvm.Cond.selects "NightStonesModel" ({ cls := "NightStonesModel", name := "rest", desc := "()I" } : Jvm.MethodName) ({ cls := "NightStonesModel", name := "rest", desc := "()I" } : Jvm.MethodName)) ∈ lw_all := lw_g (lw_at lw_m7 54 rfl) rfl
theorem q1557 : (Jvm.Cond.code ({ cls := "NightStonesModel", name := "rest", desc := "()I" } : Jvm.MethodName) prog_16_method_54_code (3 : Nat) (Option.some Jvm.ClassFile.FieldType.int)) ∈ lw_all := lw_g (lw_at lw_m7 55 rfl) rfl
theorem q1558 : (Jvm.Cond.methodLink "NightStonesModel" (234 : Nat) ({ cls := "NightStonesModel", name := "rests", desc := "(I)Z" } : Jvm.MethodName)) ∈ lw_all := lw_g (lw_at lw_m7 56 rfl) rfl
theorem q1559 : (Jvm.Cond.privateMethod ({ cls := "NightStonesModel", name := "rests", desc := "(I)Z" } : Jvm.MethodName)) ∈ lw_tbl := lw_at lw_m7 57 rfl
theorem q1560 : (Jvm.Cond.instanceMethod ({ cls := "NightStonesModel", name := "rests", desc := "(I)Z" } : Jvm.MethodName)) ∈ lw_all := lw_g (lw_at lw_m7 58 rfl) rfl
theorem q1561 : (Jvm.Cond.code ({ cls := "NightStonesModel", name := "rests", desc := "(I)Z" } : Jvm.MethodName) prog_16_method_53_code (4 : Nat) (Option.some Jvm.ClassFile.FieldType.boolean)) ∈ lw_all := lw_g (lw_at lw_m7 59 rfl) rfl
theorem q1563 : (Jvm.Cond.instanceMethod ({ cls := "NightStonesModel", name := "moved", desc := "(I)I" } : Jvm.MethodName)) ∈ lw_all := lw_g (lw_at lw_m7 61 rfl) rfl
theorem q1564 : (Jvm.Cond.selects "NightStonesModel" ({ cls := "NightStonesModel", name := "moved", desc := "(I)I" } : Jvm.MethodName) ({ cls := "NightStonesModel", name := "moved", desc := "(I)I" } : Jvm.MethodName)) ∈ lw_all := lw_g (lw_at lw_m7 62 rfl) rfl
theorem q1565 : (Jvm.Cond.code ({ cls := "NightStonesModel", name := "moved", desc := "(I)I" } : Jvm.MethodName) prog_16_method_55_code (10 : Nat) (Option.some Jvm.ClassFile.FieldType.int)) ∈ lw_all := lw_g (lw_at lw_m7 63 rfl) rfl
theorem q1567 : (Jvm.Cond.instanceMethod ({ cls := "NightStonesModel", name := "who", desc := "(II)I" } : Jvm.MethodName)) ∈ lw_all := lw_g (lw_at lw_m7 65 rfl) rfl
theorem q1568 : (Jvm.Cond.selects "NightStonesModel" ({ cls := "NightStonesModel", name := "who", desc := "(II)I" } : Jvm.MethodName) ({ cls := "NightStonesModel", name := "who", desc := "(II)I" } : Jvm.MethodName)) ∈ lw_all := lw_g (lw_at lw_m7 66 rfl) rfl
theorem q1569 : (Jvm.Cond.code ({ cls := "NightStonesModel", name := "who", desc := "(II)I" } : Jvm.MethodName) prog_16_method_57_code (6 : Nat) (Option.some Jvm.ClassFile.FieldType.int)) ∈ lw_all := lw_g (lw_at lw_m7 67 rfl) rfl
theorem q1570 : (Jvm.Cond.constantLong "NightStonesModel" (237 : Nat) (9 : Int64)) ∈ lw_all := lw_g (lw_at lw_m7 68 rfl) rfl
theorem q1571 : (Jvm.Cond.methodLink "NightStonesModel" (239 : Nat) ({ cls := "NightStonesModel", name := "standsBy", desc := "(II)Z" } : Jvm.MethodName)) ∈ lw_all := lw_g (lw_at lw_m7 69 rfl) rfl
theorem q1572 : (Jvm.Cond.privateMethod ({ cls := "NightStonesModel", name := "standsBy", desc := "(II)Z" } : Jvm.MethodName)) ∈ lw_tbl := lw_at lw_m7 70 rfl
theorem q1573 : (Jvm.Cond.instanceMethod ({ cls := "NightStonesModel", name := "standsBy", desc := "(II)Z" } : Jvm.MethodName)) ∈ lw_all := lw_g (lw_at lw_m7 71 rfl) rfl
theorem q1574 : (Jvm.Cond.code ({ cls := "NightStonesModel", name := "standsBy", desc := "(II)Z" } : Jvm.MethodName) prog_16_method_56_code (5 : Nat) (Option.some Jvm.ClassFile.FieldType.boolean)) ∈ lw_all := lw_g (lw_at lw_m7 72 rfl) rfl
theorem q1576 : (Jvm.Cond.instanceMethod ({ cls := "NightStonesModel", name := "dare", desc := "(II)I" } : Jvm.MethodName)) ∈ lw_all := lw_g (lw_at lw_m7 74 rfl) rfl
theorem q1577 : (Jvm.Cond.selects "NightStonesModel" ({ cls := "NightStonesModel", name := "dare", desc := "(II)I" } : Jvm.MethodName) ({ cls := "NightStonesModel", name := "dare", desc := "(II)I" } : Jvm.MethodName)) ∈ lw_all := lw_g (lw_at lw_m7 75 rfl) rfl
theorem q1578 : (Jvm.Cond.code ({ cls := "NightStonesModel", name := "dare", desc := "(II)I" } : Jvm.MethodName) prog_16_method_60_code (7 : Nat) (Option.some Jvm.ClassFile.FieldType.int)) ∈ lw_all := lw_g (lw_at lw_m7 76 rfl) rfl
theorem q1579 : (Jvm.Cond.constantLong "NightStonesModel" (247 : Nat) (3 : Int64)) ∈ lw_all := lw_g (lw_at lw_m7 77 rfl) rfl
theorem q1580 : (Jvm.Cond.methodLink "NightStonesModel" (249 : Nat) ({ cls := "NightStonesModel", name := "brings", desc := "(II)I" } : Jvm.MethodName)) ∈ lw_all := lw_g (lw_at lw_m7 78 rfl) rfl
theorem q1581 : (Jvm.Cond.privateMethod ({ cls := "NightStonesModel", name := "brings", desc := "(II)I" } : Jvm.MethodName)) ∈ lw_tbl := lw_at lw_m7 79 rfl
theorem q1582 : (Jvm.Cond.instanceMethod ({ cls := "NightStonesModel", name := "brings", desc := "(II)I" } : Jvm.MethodName)) ∈ lw_all := lw_g (lw_at lw_m7 80 rfl) rfl
theorem q1583 : (Jvm.Cond.code ({ cls := "NightStonesModel", name := "brings", desc := "(II)I" } : Jvm.MethodName) prog_16_method_59_code (4 : Nat) (Option.some Jvm.ClassFile.FieldType.int)) ∈ lw_all := lw_g (lw_at lw_m7 81 rfl) rfl
theorem q1584 : (Jvm.Cond.methodLink "NightStonesModel" (243 : Nat) ({ cls := "NightStonesModel", name := "timesOf", desc := "(II)I" } : Jvm.MethodName)) ∈ lw_all := lw_g (lw_at lw_m7 82 rfl) rfl
theorem q1585 : (Jvm.Cond.static ({ cls := "NightStonesModel", name := "timesOf", desc := "(II)I" } : Jvm.MethodName)) ∈ lw_all := lw_g (lw_at lw_m7 83 rfl) rfl
theorem q1586 : (Jvm.Cond.code ({ cls := "NightStonesModel", name := "timesOf", desc := "(II)I" } : Jvm.MethodName) prog_16_method_58_code (4 : Nat) (Option.some Jvm.ClassFile.FieldType.int)) ∈ lw_all := lw_g (lw_at lw_m7 84 rfl) rfl
theorem q1587 : (Jvm.Cond.constant "NightStonesModel" (246 : Nat) (1000000 : Int32)) ∈ lw_all := lw_g (lw_at lw_m7 85 rfl) rfl
theorem q1589 : (Jvm.Cond.instanceMethod ({ cls := "NightStonesModel", name := "best", desc := "(I)I" } : Jvm.MethodName)) ∈ lw_all := lw_g (lw_at lw_m7 87 rfl) rfl
theorem q1590 : (Jvm.Cond.selects "NightStonesModel" ({ cls := "NightStonesModel", name := "best", desc := "(I)I" } : Jvm.MethodName) ({ cls := "NightStonesModel", name := "best", desc := "(I)I" } : Jvm.MethodName)) ∈ lw_all := lw_g (lw_at lw_m7 88 rfl) rfl
theorem q1591 : (Jvm.Cond.code ({ cls := "NightStonesModel", name := "best", desc := "(I)I" } : Jvm.MethodName) prog_16_method_62_code (3 : Nat) (Option.some Jvm.ClassFile.FieldType.int)) ∈ lw_all := lw_g (lw_at lw_m7 89 rfl) rfl
theorem q1592 : (Jvm.Cond.methodLink "NightStonesModel" (252 : Nat) ({ cls := "NightStonesModel", name := "bestBy", desc := "(I)I" } : Jvm.MethodName)) ∈ lw_all := lw_g (lw_at lw_m7 90 rfl) rfl
theorem q1593 : (Jvm.Cond.privateMethod ({ cls := "NightStonesModel", name := "bestBy", desc := "(I)I" } : Jvm.MethodName)) ∈ lw_tbl := lw_at lw_m7 91 rfl
theorem q1594 : (Jvm.Cond.instanceMethod ({ cls := "NightStonesModel", name := "bestBy", desc := "(I)I" } : Jvm.MethodName)) ∈ lw_all := lw_g (lw_at lw_m7 92 rfl) rfl
theorem q1595 : (Jvm.Cond.code ({ cls := "NightStonesModel", name := "bestBy", desc := "(I)I" } : Jvm.MethodName) prog_16_method_61_code (4 : Nat) (Option.some Jvm.ClassFile.FieldType.int)) ∈ lw_all := lw_g (lw_at lw_m7 93 rfl) rfl
theorem q1597 : (Jvm.Cond.instanceMethod ({ cls := "NightStonesModel", name := "image", desc := "(I)I" } : Jvm.MethodName)) ∈ lw_all := lw_g (lw_at lw_m7 95 rfl) rfl
theorem q1598 : (Jvm.Cond.selects "NightStonesModel" ({ cls := "NightStonesModel", name := "image", desc := "(I)I" } : Jvm.MethodName) ({ cls := "NightStonesModel", name := "image", desc := "(I)I" } : Jvm.MethodName)) ∈ lw_all := lw_g (lw_at lw_m7 96 rfl) rfl
theorem q1599 : (Jvm.Cond.code ({ cls := "NightStonesModel", name := "image", desc := "(I)I" } : Jvm.MethodName) prog_16_method_63_code (3 : Nat) (Option.some Jvm.ClassFile.FieldType.int)) ∈ lw_all := lw_g (lw_at lw_m7 97 rfl) rfl
theorem q1601 : (Jvm.Cond.instanceMethod ({ cls := "NightStonesModel", name := "restore", desc := "(I)I" } : Jvm.MethodName)) ∈ lw_all := lw_g (lw_at lw_m7 99 rfl) rfl
theorem q1602 : (Jvm.Cond.selects "NightStonesModel" ({ cls := "NightStonesModel", name := "restore", desc := "(I)I" } : Jvm.MethodName) ({ cls := "NightStonesModel", name := "restore", desc := "(I)I" } : Jvm.MethodName)) ∈ lw_all := lw_g (lw_at lw_m7 100 rfl) rfl
theorem q1603 : (Jvm.Cond.code ({ cls := "NightStonesModel", name := "restore", desc := "(I)I" } : Jvm.MethodName) prog_16_method_64_code (3 : Nat) (Option.some Jvm.ClassFile.FieldType.int)) ∈ lw_all := lw_g (lw_at lw_m7 101 rfl) rfl
theorem q1605 : (Jvm.Cond.instanceMethod ({ cls := "NightStonesModel", name := "kind", desc := "(I)I" } : Jvm.MethodName)) ∈ lw_all := lw_g (lw_at lw_m7 103 rfl) rfl
theorem q1606 : (Jvm.Cond.selects "NightStonesModel" ({ cls := "NightStonesModel", name := "kind", desc := "(I)I" } : Jvm.MethodName) ({ cls := "NightStonesModel", name := "kind", desc := "(I)I" } : Jvm.MethodName)) ∈ lw_all := lw_g (lw_at lw_m7 104 rfl) rfl
theorem q1607 : (Jvm.Cond.code ({ cls := "NightStonesModel", name := "kind", desc := "(I)I" } : Jvm.MethodName) prog_16_method_66_code (2 : Nat) (Option.some Jvm.ClassFile.FieldType.int)) ∈ lw_all := lw_g (lw_at lw_m7 105 rfl) rfl
theorem q1608 : (Jvm.Cond.methodLink "NightStonesModel" (255 : Nat) ({ cls := "NightStonesModel", name := "isMover", desc := "(I)Z" } : Jvm.MethodName)) ∈ lw_all := lw_g (lw_at lw_m7 106 rfl) rfl
theorem q1609 : (Jvm.Cond.privateMethod ({ cls := "NightStonesModel", name := "isMover", desc := "(I)Z" } : Jvm.MethodName)) ∈ lw_tbl := lw_at lw_m7 107 rfl
theorem q1610 : (Jvm.Cond.instanceMethod ({ cls := "NightStonesModel", name := "isMover", desc := "(I)Z" } : Jvm.MethodName)) ∈ lw_all := lw_g (lw_at lw_m7 108 rfl) rfl
theorem q1611 : (Jvm.Cond.code ({ cls := "NightStonesModel", name := "isMover", desc := "(I)Z" } : Jvm.MethodName) prog_16_method_30_code (2 : Nat) (Option.some Jvm.ClassFile.FieldType.boolean)) ∈ lw_all := lw_g (lw_at lw_m7 109 rfl) rfl
theorem q1613 : (Jvm.Cond.instanceMethod ({ cls := "NightStonesModel", name := "as", desc := "(II)I" } : Jvm.MethodName)) ∈ lw_all := lw_g (lw_at lw_m7 111 rfl) rfl
theorem q1614 : (Jvm.Cond.selects "NightStonesModel" ({ cls := "NightStonesModel", name := "as", desc := "(II)I" } : Jvm.MethodName) ({ cls := "NightStonesModel", name := "as", desc := "(II)I" } : Jvm.MethodName)) ∈ lw_all := lw_g (lw_at lw_m7 112 rfl) rfl
theorem q1615 : (Jvm.Cond.code ({ cls := "NightStonesModel", name := "as", desc := "(II)I" } : Jvm.MethodName) prog_16_method_67_code (3 : Nat) (Option.some Jvm.ClassFile.FieldType.int)) ∈ lw_all := lw_g (lw_at lw_m7 113 rfl) rfl
theorem q1616 : (Jvm.Cond.constantLong "NightStonesModel" (258 : Nat) (5 : Int64)) ∈ lw_all := lw_g (lw_at lw_m7 114 rfl) rfl
theorem q1617 : (Jvm.Cond.methodLink "NightStonesModel" (260 : Nat) ({ cls := "NightStonesModel", name := "isOf", desc := "(II)Z" } : Jvm.MethodName)) ∈ lw_all := lw_g (lw_at lw_m7 115 rfl) rfl
theorem q1618 : (Jvm.Cond.static ({ cls := "NightStonesModel", name := "isOf", desc := "(II)Z" } : Jvm.MethodName)) ∈ lw_all := lw_g (lw_at lw_m7 116 rfl) rfl
theorem q1619 : (Jvm.Cond.code ({ cls := "NightStonesModel", name := "isOf", desc := "(II)Z" } : Jvm.MethodName) prog_16_method_65_code (2 : Nat) (Option.some Jvm.ClassFile.FieldType.boolean)) ∈ lw_all := lw_g (lw_at lw_m7 117 rfl) rfl
theorem q1621 : (Jvm.Cond.instanceMethod ({ cls := "NightStonesModel", name := "ask", desc := "(II)I" } : Jvm.MethodName)) ∈ lw_all := lw_g (lw_at lw_m7 119 rfl) rfl
theorem q1622 : (Jvm.Cond.selects "NightStonesModel" ({ cls := "NightStonesModel", name := "ask", desc := "(II)I" } : Jvm.MethodName) ({ cls := "NightStonesModel", name := "ask", desc := "(II)I" } : Jvm.MethodName)) ∈ lw_all := lw_g (lw_at lw_m7 120 rfl) rfl
theorem q1623 : (Jvm.Cond.code ({ cls := "NightStonesModel", name := "ask", desc := "(II)I" } : Jvm.MethodName) prog_16_method_73_code (3 : Nat) (Option.some Jvm.ClassFile.FieldType.int)) ∈ lw_all := lw_g (lw_at lw_m7 121 rfl) rfl
theorem q1624 : (Jvm.Cond.methodLink "NightStonesModel" (278 : Nat) ({ cls := "NightStonesModel", name := "sizeOf", desc := "(I)I" } : Jvm.MethodName)) ∈ lw_all := lw_g (lw_at lw_m7 122 rfl) rfl
theorem q1625 : (Jvm.Cond.privateMethod ({ cls := "NightStonesModel", name := "sizeOf", desc := "(I)I" } : Jvm.MethodName)) ∈ lw_tbl := lw_at lw_m7 123 rfl
theorem q1626 : (Jvm.Cond.instanceMethod ({ cls := "NightStonesModel", name := "sizeOf", desc := "(I)I" } : Jvm.MethodName)) ∈ lw_all := lw_g (lw_at lw_m7 124 rfl) rfl
theorem q1627 : (Jvm.Cond.code ({ cls := "NightStonesModel", name := "sizeOf", desc := "(I)I" } : Jvm.MethodName) prog_16_method_72_code (4 : Nat) (Option.some Jvm.ClassFile.FieldType.int)) ∈ lw_all := lw_g (lw_at lw_m7 125 rfl) rfl
theorem q1628 : (Jvm.Cond.methodLink "NightStonesModel" (272 : Nat) ({ cls := "NightStonesModel", name := "thiefSize", desc := "(I)I" } : Jvm.MethodName)) ∈ lw_all := lw_g (lw_at lw_m7 126 rfl) rfl
theorem q1629 : (Jvm.Cond.privateMethod ({ cls := "NightStonesModel", name := "thiefSize", desc := "(I)I" } : Jvm.MethodName)) ∈ lw_tbl := lw_at lw_m7 127 rfl
theorem q1630 : (Jvm.Cond.instanceMethod ({ cls := "NightStonesModel", name := "thiefSize", desc := "(I)I" } : Jvm.MethodName)) ∈ lw_all := lw_g (lw_at lw_m7 128 rfl) rfl
theorem q1631 : (Jvm.Cond.code ({ cls := "NightStonesModel", name := "thiefSize", desc := "(I)I" } : Jvm.MethodName) prog_16_method_70_code (3 : Nat) (Option.some Jvm.ClassFile.FieldType.int)) ∈ lw_all := lw_g (lw_at lw_m7 129 rfl) rfl
theorem q1632 : (Jvm.Cond.methodLink "NightStonesModel" (266 : Nat) ({ cls := "NightStonesModel", name := "began", desc := "(I)V" } : Jvm.MethodName)) ∈ lw_all := lw_g (lw_at lw_m7 130 rfl) rfl
theorem q1633 : (Jvm.Cond.privateMethod ({ cls := "NightStonesModel", name := "began", desc := "(I)V" } : Jvm.MethodName)) ∈ lw_tbl := lw_at lw_m7 131 rfl
theorem q1634 : (Jvm.Cond.instanceMethod ({ cls := "NightStonesModel", name := "began", desc := "(I)V" } : Jvm.MethodName)) ∈ lw_all := lw_g (lw_at lw_m7 132 rfl) rfl
theorem q1635 : (Jvm.Cond.code ({ cls := "NightStonesModel", name := "began", desc := "(I)V" } : Jvm.MethodName) prog_16_method_68_code (2 : Nat) (Option.none : Option Jvm.ClassFile.FieldType)) ∈ lw_all := lw_g (lw_at lw_m7 133 rfl) rfl
theorem q1636 : (Jvm.Cond.methodLink "NightStonesModel" (269 : Nat) ({ cls := "NightStonesModel", name := "plainSize", desc := "(I)I" } : Jvm.MethodName)) ∈ lw_all := lw_g (lw_at lw_m7 134 rfl) rfl
theorem q1637 : (Jvm.Cond.privateMethod ({ cls := "NightStonesModel", name := "plainSize", desc := "(I)I" } : Jvm.MethodName)) ∈ lw_tbl := lw_at lw_m7 135 rfl
theorem q1638 : (Jvm.Cond.instanceMethod ({ cls := "NightStonesModel", name := "plainSize", desc := "(I)I" } : Jvm.MethodName)) ∈ lw_all := lw_g (lw_at lw_m7 136 rfl) rfl
theorem q1639 : (Jvm.Cond.code ({ cls := "NightStonesModel", name := "plainSize", desc := "(I)I" } : Jvm.MethodName) prog_16_method_69_code (2 : Nat) (Option.some Jvm.ClassFile.FieldType.int)) ∈ lw_all := lw_g (lw_at lw_m7 137 rfl) rfl
theorem q1640 : (Jvm.Cond.methodLink "NightStonesModel" (275 : Nat) ({ cls := "NightStonesModel", name := "markOf", desc := "(I)I" } : Jvm.MethodName)) ∈ lw_all := lw_g (lw_at lw_m7 138 rfl) rfl
theorem q1641 : (Jvm.Cond.privateMethod ({ cls := "NightStonesModel", name := "markOf", desc := "(I)I" } : Jvm.MethodName)) ∈ lw_tbl := lw_at lw_m7 139 rfl
theorem q1642 : (Jvm.Cond.instanceMethod ({ cls := "NightStonesModel", name := "markOf", desc := "(I)I" } : Jvm.MethodName)) ∈ lw_all := lw_g (lw_at lw_m7 140 rfl) rfl
theorem q1643 : (Jvm.Cond.code ({ cls := "NightStonesModel", name := "markOf", desc := "(I)I" } : Jvm.MethodName) prog_16_method_71_code (4 : Nat) (Option.some Jvm.ClassFile.FieldType.int)) ∈ lw_all := lw_g (lw_at lw_m7 141 rfl) rfl
theorem q1645 : (Jvm.Cond.instanceMethod ({ cls := "NightStonesModel", name := "trace", desc := "(I)I" } : Jvm.MethodName)) ∈ lw_all := lw_g (lw_at lw_m7 143 rfl) rfl
theorem q1646 : (Jvm.Cond.selects "NightStonesModel" ({ cls := "NightStonesModel", name := "trace", desc := "(I)I" } : Jvm.MethodName) ({ cls := "NightStonesModel", name := "trace", desc := "(I)I" } : Jvm.MethodName)) ∈ lw_all := lw_g (lw_at lw_m7 144 rfl) rfl
theorem q1647 : (Jvm.Cond.code ({ cls := "NightStonesModel", name := "trace", desc := "(I)I" } : Jvm.MethodName) prog_16_method_74_code (2 : Nat) (Option.some Jvm.ClassFile.FieldType.int)) ∈ lw_all := lw_g (lw_at lw_m7 145 rfl) rfl
theorem q1649 : (Jvm.Cond.instanceMethod ({ cls := "NightStonesModel", name := "count", desc := "(I)I" } : Jvm.MethodName)) ∈ lw_all := lw_g (lw_at lw_m7 147 rfl) rfl
theorem q1650 : (Jvm.Cond.selects "NightStonesModel" ({ cls := "NightStonesModel", name := "count", desc := "(I)I" } : Jvm.MethodName) ({ cls := "NightStonesModel", name := "count", desc := "(I)I" } : Jvm.MethodName)) ∈ lw_all := lw_g (lw_at lw_m7 148 rfl) rfl
theorem q1651 : (Jvm.Cond.code ({ cls := "NightStonesModel", name := "count", desc := "(I)I" } : Jvm.MethodName) prog_16_method_75_code (4 : Nat) (Option.some Jvm.ClassFile.FieldType.int)) ∈ lw_all := lw_g (lw_at lw_m7 149 rfl) rfl
theorem q1653 : (Jvm.Cond.instanceMethod ({ cls := "NightStonesModel", name := "status", desc := "()I" } : Jvm.MethodName)) ∈ lw_all := lw_g (lw_at lw_m7 151 rfl) rfl
theorem q1654 : (Jvm.Cond.selects "NightStonesModel" ({ cls := "NightStonesModel", name := "status", desc := "()I" } : Jvm.MethodName) ({ cls := "NightStonesModel", name := "status", desc := "()I" } : Jvm.MethodName)) ∈ lw_all := lw_g (lw_at lw_m7 152 rfl) rfl
theorem q1655 : (Jvm.Cond.code ({ cls := "NightStonesModel", name := "status", desc := "()I" } : Jvm.MethodName) prog_16_method_76_code (1 : Nat) (Option.some Jvm.ClassFile.FieldType.int)) ∈ lw_all := lw_g (lw_at lw_m7 153 rfl) rfl
theorem q1681 : (Jvm.Cond.castable "NightStonesModel" "java/lang/Object") ∈ lw_tbl := lw_at lw_m7 179 rfl
theorem in_X3 : ∀ w ∈ wsX30, w ∈ lw_all := lw_in wsX30 [1288, 1290, 1292, 1294, 1296, 1298, 1300, 1302, 1304, 1306, 1308, 1310, 1312, 1314, 1316, 1318, 1320, 1322, 1324, 1326, 1328, 1330, 1332, 1334, 1336, 1338] (by decide +kernel) (by decide +kernel)
