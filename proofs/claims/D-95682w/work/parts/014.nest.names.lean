/-! NightStones$Road -/
set_option maxRecDepth 100000
def RX1 : String := "NightStones$Road"
def TX1 : u_T := fun k => match k with
  | 0 => ("NightStones$Road", "length", "I", false)
  | 1 => ("NightStones$Road", "fee", "I", false)
  | 2 => ("NightStones$Road", "seen", "I", false)
  | 3 => ("NightStones$Road", "fine", "I", false)
  | 4 => ("NightStones$Road", "stones", "I", false)
  | 5 => ("NightStones$Road", "says", "[I", true)
  | 6 => ("NightStones$Road", "at", "[I", true)
  | 7 => ("NightStones$Road", "home", "[I", true)
  | 8 => ("NightStones$Road", "movers", "Ljava/util/List;", false)
  | 9 => ("NightStones$Road", "night", "I", false)
  | 10 => ("NightStones$Road", "time", "[I", true)
  | 11 => ("NightStones$Road", "times", "I", false)
  | _ => ("NightStones$Road", "was", "[I", true)
def tyX1 : Nat → FieldType := fun k => match k with
  | 0 => .int
  | 1 => .int
  | 2 => .int
  | 3 => .int
  | 4 => .int
  | 5 => .array .int
  | 6 => .array .int
  | 7 => .array .int
  | 8 => .object "java/util/List"
  | 9 => .int
  | 10 => .array .int
  | 11 => .int
  | _ => .array .int
abbrev wsX10 : List Cond := u_ws RX1 TX1 13
set_option maxRecDepth 100000 in
theorem nmX1 : ∀ a, a < 13 → ∀ b, b < 13 → a ≠ b → (TX1 a).2.1 ≠ (TX1 b).2.1 := by decide +kernel
set_option maxRecDepth 100000 in
theorem tyX1_ok : ∀ k, k < 13 → parseFieldDescriptor (TX1 k).2.2.1 = some (tyX1 k) := by decide +kernel
abbrev cX1_init : ByteArray := prog_11_method_1_code
def yX1_init : MethodName := ⟨RX1, "<init>", "()V"⟩
def dkwX1_init_2 : List UInt8 := [42, 16, 6, 188, 10, 181, 0, 31, 177]
abbrev dktX1_init_2 : List UInt8 := dkwX1_init_2 ++ []
def dkwX1_init_1 : List UInt8 := [188, 10, 181, 0, 18, 42, 187, 0, 21, 89, 183, 0, 23, 181, 0, 24, 42, 16, 48, 188, 10, 181, 0, 28]
abbrev dktX1_init_1 : List UInt8 := dkwX1_init_1 ++ dktX1_init_2
def dkwX1_init_0 : List UInt8 := [42, 183, 0, 3, 42, 16, 6, 188, 10, 181, 0, 9, 42, 16, 6, 188, 10, 181, 0, 15, 42, 16, 6]
abbrev dktX1_init_0 : List UInt8 := dkwX1_init_0 ++ dktX1_init_1
theorem dksX1_init_0 : cX1_init.data.toList.drop 0 = dktX1_init_0 := by decide +kernel
theorem dksX1_init_1 : cX1_init.data.toList.drop 23 = dktX1_init_1 := dk_seg dksX1_init_0 23 rfl rfl
theorem dksX1_init_2 : cX1_init.data.toList.drop 47 = dktX1_init_2 := dk_seg dksX1_init_1 24 rfl rfl
theorem dX1_init_0 : decode cX1_init 0 = .ok (.aload_n 0, 1) := dk_42 (dk_at dksX1_init_0 0 rfl rfl)
theorem dX1_init_1 : decode cX1_init 1 = .ok (.invokespecial 3, 3) := dk_183 0 3 (dk_at dksX1_init_0 1 rfl rfl)
theorem dX1_init_4 : decode cX1_init 4 = .ok (.aload_n 0, 1) := dk_42 (dk_at dksX1_init_0 4 rfl rfl)
theorem dX1_init_5 : decode cX1_init 5 = .ok (.bipush 6, 2) := dk_16 6 (dk_at dksX1_init_0 5 rfl rfl)
theorem dX1_init_7 : decode cX1_init 7 = .ok (.newarray .int, 2) := dk_188_10 (dk_at dksX1_init_0 7 rfl rfl)
theorem dX1_init_9 : decode cX1_init 9 = .ok (.putfield 9, 3) := dk_181 0 9 (dk_at dksX1_init_0 9 rfl rfl)
theorem dX1_init_12 : decode cX1_init 12 = .ok (.aload_n 0, 1) := dk_42 (dk_at dksX1_init_0 12 rfl rfl)
theorem dX1_init_13 : decode cX1_init 13 = .ok (.bipush 6, 2) := dk_16 6 (dk_at dksX1_init_0 13 rfl rfl)
theorem dX1_init_15 : decode cX1_init 15 = .ok (.newarray .int, 2) := dk_188_10 (dk_at dksX1_init_0 15 rfl rfl)
theorem dX1_init_17 : decode cX1_init 17 = .ok (.putfield 15, 3) := dk_181 0 15 (dk_at dksX1_init_0 17 rfl rfl)
theorem dX1_init_20 : decode cX1_init 20 = .ok (.aload_n 0, 1) := dk_42 (dk_at dksX1_init_0 20 rfl rfl)
theorem dX1_init_21 : decode cX1_init 21 = .ok (.bipush 6, 2) := dk_16 6 (dk_at dksX1_init_0 21 rfl rfl)
theorem dX1_init_23 : decode cX1_init 23 = .ok (.newarray .int, 2) := dk_188_10 (dk_at dksX1_init_1 0 rfl rfl)
theorem dX1_init_25 : decode cX1_init 25 = .ok (.putfield 18, 3) := dk_181 0 18 (dk_at dksX1_init_1 2 rfl rfl)
theorem dX1_init_28 : decode cX1_init 28 = .ok (.aload_n 0, 1) := dk_42 (dk_at dksX1_init_1 5 rfl rfl)
theorem dX1_init_29 : decode cX1_init 29 = .ok (.new 21, 3) := dk_187 0 21 (dk_at dksX1_init_1 6 rfl rfl)
theorem dX1_init_32 : decode cX1_init 32 = .ok (.dup, 1) := dk_89 (dk_at dksX1_init_1 9 rfl rfl)
theorem dX1_init_33 : decode cX1_init 33 = .ok (.invokespecial 23, 3) := dk_183 0 23 (dk_at dksX1_init_1 10 rfl rfl)
theorem dX1_init_36 : decode cX1_init 36 = .ok (.putfield 24, 3) := dk_181 0 24 (dk_at dksX1_init_1 13 rfl rfl)
theorem dX1_init_39 : decode cX1_init 39 = .ok (.aload_n 0, 1) := dk_42 (dk_at dksX1_init_1 16 rfl rfl)
theorem dX1_init_40 : decode cX1_init 40 = .ok (.bipush 48, 2) := dk_16 48 (dk_at dksX1_init_1 17 rfl rfl)
theorem dX1_init_42 : decode cX1_init 42 = .ok (.newarray .int, 2) := dk_188_10 (dk_at dksX1_init_1 19 rfl rfl)
theorem dX1_init_44 : decode cX1_init 44 = .ok (.putfield 28, 3) := dk_181 0 28 (dk_at dksX1_init_1 21 rfl rfl)
theorem dX1_init_47 : decode cX1_init 47 = .ok (.aload_n 0, 1) := dk_42 (dk_at dksX1_init_2 0 rfl rfl)
theorem dX1_init_48 : decode cX1_init 48 = .ok (.bipush 6, 2) := dk_16 6 (dk_at dksX1_init_2 1 rfl rfl)
theorem dX1_init_50 : decode cX1_init 50 = .ok (.newarray .int, 2) := dk_188_10 (dk_at dksX1_init_2 3 rfl rfl)
theorem dX1_init_52 : decode cX1_init 52 = .ok (.putfield 31, 3) := dk_181 0 31 (dk_at dksX1_init_2 5 rfl rfl)
theorem dX1_init_55 : decode cX1_init 55 = .ok (.return_, 1) := dk_177 (dk_at dksX1_init_2 8 rfl rfl)
abbrev cX1_goHome : ByteArray := prog_11_method_3_code
def yX1_goHome : MethodName := ⟨RX1, "goHome", "()LNightStones$Road;"⟩
def dkwX1_goHome_0 : List UInt8 := [42, 3, 181, 0, 50, 42, 180, 0, 18, 3, 42, 180, 0, 15, 3, 16, 6, 184, 0, 56, 42, 176]
abbrev dktX1_goHome_0 : List UInt8 := dkwX1_goHome_0 ++ []
theorem dksX1_goHome_0 : cX1_goHome.data.toList.drop 0 = dktX1_goHome_0 := by decide +kernel
theorem dX1_goHome_0 : decode cX1_goHome 0 = .ok (.aload_n 0, 1) := dk_42 (dk_at dksX1_goHome_0 0 rfl rfl)
theorem dX1_goHome_1 : decode cX1_goHome 1 = .ok (.iconst 0, 1) := dk_3 (dk_at dksX1_goHome_0 1 rfl rfl)
theorem dX1_goHome_2 : decode cX1_goHome 2 = .ok (.putfield 50, 3) := dk_181 0 50 (dk_at dksX1_goHome_0 2 rfl rfl)
theorem dX1_goHome_5 : decode cX1_goHome 5 = .ok (.aload_n 0, 1) := dk_42 (dk_at dksX1_goHome_0 5 rfl rfl)
theorem dX1_goHome_6 : decode cX1_goHome 6 = .ok (.getfield 18, 3) := dk_180 0 18 (dk_at dksX1_goHome_0 6 rfl rfl)
theorem dX1_goHome_9 : decode cX1_goHome 9 = .ok (.iconst 0, 1) := dk_3 (dk_at dksX1_goHome_0 9 rfl rfl)
theorem dX1_goHome_10 : decode cX1_goHome 10 = .ok (.aload_n 0, 1) := dk_42 (dk_at dksX1_goHome_0 10 rfl rfl)
theorem dX1_goHome_11 : decode cX1_goHome 11 = .ok (.getfield 15, 3) := dk_180 0 15 (dk_at dksX1_goHome_0 11 rfl rfl)
theorem dX1_goHome_14 : decode cX1_goHome 14 = .ok (.iconst 0, 1) := dk_3 (dk_at dksX1_goHome_0 14 rfl rfl)
theorem dX1_goHome_15 : decode cX1_goHome 15 = .ok (.bipush 6, 2) := dk_16 6 (dk_at dksX1_goHome_0 15 rfl rfl)
theorem dX1_goHome_17 : decode cX1_goHome 17 = .ok (.invokestatic 56, 3) := dk_184 0 56 (dk_at dksX1_goHome_0 17 rfl rfl)
theorem dX1_goHome_20 : decode cX1_goHome 20 = .ok (.aload_n 0, 1) := dk_42 (dk_at dksX1_goHome_0 20 rfl rfl)
theorem dX1_goHome_21 : decode cX1_goHome 21 = .ok (.areturn, 1) := dk_176 (dk_at dksX1_goHome_0 21 rfl rfl)
abbrev cX1_become : ByteArray := prog_11_method_2_code
def yX1_become : MethodName := ⟨RX1, "become", "(LNightStones$Road;)LNightStones$Road;"⟩
def dkwX1_become_5 : List UInt8 := [3, 42, 180, 0, 28, 190, 184, 0, 56, 42, 176]
abbrev dktX1_become_5 : List UInt8 := dkwX1_become_5 ++ []
def dkwX1_become_4 : List UInt8 := [43, 180, 0, 18, 3, 42, 180, 0, 18, 3, 16, 6, 184, 0, 56, 43, 180, 0, 28, 3, 42, 180, 0, 28]
abbrev dktX1_become_4 : List UInt8 := dkwX1_become_4 ++ dktX1_become_5
def dkwX1_become_3 : List UInt8 := [180, 0, 9, 3, 16, 6, 184, 0, 56, 43, 180, 0, 15, 3, 42, 180, 0, 15, 3, 16, 6, 184, 0, 56]
abbrev dktX1_become_3 : List UInt8 := dkwX1_become_3 ++ dktX1_become_4
def dkwX1_become_2 : List UInt8 := [42, 43, 180, 0, 50, 181, 0, 50, 42, 43, 180, 0, 53, 181, 0, 53, 43, 180, 0, 9, 3, 42]
abbrev dktX1_become_2 : List UInt8 := dkwX1_become_2 ++ dktX1_become_3
def dkwX1_become_1 : List UInt8 := [42, 43, 180, 0, 44, 181, 0, 44, 42, 43, 180, 0, 47, 181, 0, 47, 42, 43, 180, 0, 24, 181, 0, 24]
abbrev dktX1_become_1 : List UInt8 := dkwX1_become_1 ++ dktX1_become_2
def dkwX1_become_0 : List UInt8 := [42, 43, 180, 0, 34, 181, 0, 34, 42, 43, 180, 0, 38, 181, 0, 38, 42, 43, 180, 0, 41, 181, 0, 41]
abbrev dktX1_become_0 : List UInt8 := dkwX1_become_0 ++ dktX1_become_1
theorem dksX1_become_0 : cX1_become.data.toList.drop 0 = dktX1_become_0 := by decide +kernel
theorem dksX1_become_1 : cX1_become.data.toList.drop 24 = dktX1_become_1 := dk_seg dksX1_become_0 24 rfl rfl
theorem dksX1_become_2 : cX1_become.data.toList.drop 48 = dktX1_become_2 := dk_seg dksX1_become_1 24 rfl rfl
theorem dksX1_become_3 : cX1_become.data.toList.drop 70 = dktX1_become_3 := dk_seg dksX1_become_2 22 rfl rfl
theorem dksX1_become_4 : cX1_become.data.toList.drop 94 = dktX1_become_4 := dk_seg dksX1_become_3 24 rfl rfl
theorem dksX1_become_5 : cX1_become.data.toList.drop 118 = dktX1_become_5 := dk_seg dksX1_become_4 24 rfl rfl
theorem dX1_become_0 : decode cX1_become 0 = .ok (.aload_n 0, 1) := dk_42 (dk_at dksX1_become_0 0 rfl rfl)
theorem dX1_become_1 : decode cX1_become 1 = .ok (.aload_n 1, 1) := dk_43 (dk_at dksX1_become_0 1 rfl rfl)
theorem dX1_become_2 : decode cX1_become 2 = .ok (.getfield 34, 3) := dk_180 0 34 (dk_at dksX1_become_0 2 rfl rfl)
theorem dX1_become_5 : decode cX1_become 5 = .ok (.putfield 34, 3) := dk_181 0 34 (dk_at dksX1_become_0 5 rfl rfl)
theorem dX1_become_8 : decode cX1_become 8 = .ok (.aload_n 0, 1) := dk_42 (dk_at dksX1_become_0 8 rfl rfl)
theorem dX1_become_9 : decode cX1_become 9 = .ok (.aload_n 1, 1) := dk_43 (dk_at dksX1_become_0 9 rfl rfl)
theorem dX1_become_10 : decode cX1_become 10 = .ok (.getfield 38, 3) := dk_180 0 38 (dk_at dksX1_become_0 10 rfl rfl)
theorem dX1_become_13 : decode cX1_become 13 = .ok (.putfield 38, 3) := dk_181 0 38 (dk_at dksX1_become_0 13 rfl rfl)
theorem dX1_become_16 : decode cX1_become 16 = .ok (.aload_n 0, 1) := dk_42 (dk_at dksX1_become_0 16 rfl rfl)
theorem dX1_become_17 : decode cX1_become 17 = .ok (.aload_n 1, 1) := dk_43 (dk_at dksX1_become_0 17 rfl rfl)
theorem dX1_become_18 : decode cX1_become 18 = .ok (.getfield 41, 3) := dk_180 0 41 (dk_at dksX1_become_0 18 rfl rfl)
theorem dX1_become_21 : decode cX1_become 21 = .ok (.putfield 41, 3) := dk_181 0 41 (dk_at dksX1_become_0 21 rfl rfl)
theorem dX1_become_24 : decode cX1_become 24 = .ok (.aload_n 0, 1) := dk_42 (dk_at dksX1_become_1 0 rfl rfl)
theorem dX1_become_25 : decode cX1_become 25 = .ok (.aload_n 1, 1) := dk_43 (dk_at dksX1_become_1 1 rfl rfl)
theorem dX1_become_26 : decode cX1_become 26 = .ok (.getfield 44, 3) := dk_180 0 44 (dk_at dksX1_become_1 2 rfl rfl)
theorem dX1_become_29 : decode cX1_become 29 = .ok (.putfield 44, 3) := dk_181 0 44 (dk_at dksX1_become_1 5 rfl rfl)
theorem dX1_become_32 : decode cX1_become 32 = .ok (.aload_n 0, 1) := dk_42 (dk_at dksX1_become_1 8 rfl rfl)
theorem dX1_become_33 : decode cX1_become 33 = .ok (.aload_n 1, 1) := dk_43 (dk_at dksX1_become_1 9 rfl rfl)
theorem dX1_become_34 : decode cX1_become 34 = .ok (.getfield 47, 3) := dk_180 0 47 (dk_at dksX1_become_1 10 rfl rfl)
theorem dX1_become_37 : decode cX1_become 37 = .ok (.putfield 47, 3) := dk_181 0 47 (dk_at dksX1_become_1 13 rfl rfl)
theorem dX1_become_40 : decode cX1_become 40 = .ok (.aload_n 0, 1) := dk_42 (dk_at dksX1_become_1 16 rfl rfl)
theorem dX1_become_41 : decode cX1_become 41 = .ok (.aload_n 1, 1) := dk_43 (dk_at dksX1_become_1 17 rfl rfl)
theorem dX1_become_42 : decode cX1_become 42 = .ok (.getfield 24, 3) := dk_180 0 24 (dk_at dksX1_become_1 18 rfl rfl)
theorem dX1_become_45 : decode cX1_become 45 = .ok (.putfield 24, 3) := dk_181 0 24 (dk_at dksX1_become_1 21 rfl rfl)
theorem dX1_become_48 : decode cX1_become 48 = .ok (.aload_n 0, 1) := dk_42 (dk_at dksX1_become_2 0 rfl rfl)
theorem dX1_become_49 : decode cX1_become 49 = .ok (.aload_n 1, 1) := dk_43 (dk_at dksX1_become_2 1 rfl rfl)
theorem dX1_become_50 : decode cX1_become 50 = .ok (.getfield 50, 3) := dk_180 0 50 (dk_at dksX1_become_2 2 rfl rfl)
theorem dX1_become_53 : decode cX1_become 53 = .ok (.putfield 50, 3) := dk_181 0 50 (dk_at dksX1_become_2 5 rfl rfl)
theorem dX1_become_56 : decode cX1_become 56 = .ok (.aload_n 0, 1) := dk_42 (dk_at dksX1_become_2 8 rfl rfl)
theorem dX1_become_57 : decode cX1_become 57 = .ok (.aload_n 1, 1) := dk_43 (dk_at dksX1_become_2 9 rfl rfl)
theorem dX1_become_58 : decode cX1_become 58 = .ok (.getfield 53, 3) := dk_180 0 53 (dk_at dksX1_become_2 10 rfl rfl)
theorem dX1_become_61 : decode cX1_become 61 = .ok (.putfield 53, 3) := dk_181 0 53 (dk_at dksX1_become_2 13 rfl rfl)
theorem dX1_become_64 : decode cX1_become 64 = .ok (.aload_n 1, 1) := dk_43 (dk_at dksX1_become_2 16 rfl rfl)
theorem dX1_become_65 : decode cX1_become 65 = .ok (.getfield 9, 3) := dk_180 0 9 (dk_at dksX1_become_2 17 rfl rfl)
theorem dX1_become_68 : decode cX1_become 68 = .ok (.iconst 0, 1) := dk_3 (dk_at dksX1_become_2 20 rfl rfl)
theorem dX1_become_69 : decode cX1_become 69 = .ok (.aload_n 0, 1) := dk_42 (dk_at dksX1_become_2 21 rfl rfl)
theorem dX1_become_70 : decode cX1_become 70 = .ok (.getfield 9, 3) := dk_180 0 9 (dk_at dksX1_become_3 0 rfl rfl)
theorem dX1_become_73 : decode cX1_become 73 = .ok (.iconst 0, 1) := dk_3 (dk_at dksX1_become_3 3 rfl rfl)
theorem dX1_become_74 : decode cX1_become 74 = .ok (.bipush 6, 2) := dk_16 6 (dk_at dksX1_become_3 4 rfl rfl)
theorem dX1_become_76 : decode cX1_become 76 = .ok (.invokestatic 56, 3) := dk_184 0 56 (dk_at dksX1_become_3 6 rfl rfl)
theorem dX1_become_79 : decode cX1_become 79 = .ok (.aload_n 1, 1) := dk_43 (dk_at dksX1_become_3 9 rfl rfl)
theorem dX1_become_80 : decode cX1_become 80 = .ok (.getfield 15, 3) := dk_180 0 15 (dk_at dksX1_become_3 10 rfl rfl)
theorem dX1_become_83 : decode cX1_become 83 = .ok (.iconst 0, 1) := dk_3 (dk_at dksX1_become_3 13 rfl rfl)
theorem dX1_become_84 : decode cX1_become 84 = .ok (.aload_n 0, 1) := dk_42 (dk_at dksX1_become_3 14 rfl rfl)
theorem dX1_become_85 : decode cX1_become 85 = .ok (.getfield 15, 3) := dk_180 0 15 (dk_at dksX1_become_3 15 rfl rfl)
theorem dX1_become_88 : decode cX1_become 88 = .ok (.iconst 0, 1) := dk_3 (dk_at dksX1_become_3 18 rfl rfl)
theorem dX1_become_89 : decode cX1_become 89 = .ok (.bipush 6, 2) := dk_16 6 (dk_at dksX1_become_3 19 rfl rfl)
theorem dX1_become_91 : decode cX1_become 91 = .ok (.invokestatic 56, 3) := dk_184 0 56 (dk_at dksX1_become_3 21 rfl rfl)
theorem dX1_become_94 : decode cX1_become 94 = .ok (.aload_n 1, 1) := dk_43 (dk_at dksX1_become_4 0 rfl rfl)
theorem dX1_become_95 : decode cX1_become 95 = .ok (.getfield 18, 3) := dk_180 0 18 (dk_at dksX1_become_4 1 rfl rfl)
theorem dX1_become_98 : decode cX1_become 98 = .ok (.iconst 0, 1) := dk_3 (dk_at dksX1_become_4 4 rfl rfl)
theorem dX1_become_99 : decode cX1_become 99 = .ok (.aload_n 0, 1) := dk_42 (dk_at dksX1_become_4 5 rfl rfl)
theorem dX1_become_100 : decode cX1_become 100 = .ok (.getfield 18, 3) := dk_180 0 18 (dk_at dksX1_become_4 6 rfl rfl)
theorem dX1_become_103 : decode cX1_become 103 = .ok (.iconst 0, 1) := dk_3 (dk_at dksX1_become_4 9 rfl rfl)
theorem dX1_become_104 : decode cX1_become 104 = .ok (.bipush 6, 2) := dk_16 6 (dk_at dksX1_become_4 10 rfl rfl)
theorem dX1_become_106 : decode cX1_become 106 = .ok (.invokestatic 56, 3) := dk_184 0 56 (dk_at dksX1_become_4 12 rfl rfl)
theorem dX1_become_109 : decode cX1_become 109 = .ok (.aload_n 1, 1) := dk_43 (dk_at dksX1_become_4 15 rfl rfl)
theorem dX1_become_110 : decode cX1_become 110 = .ok (.getfield 28, 3) := dk_180 0 28 (dk_at dksX1_become_4 16 rfl rfl)
theorem dX1_become_113 : decode cX1_become 113 = .ok (.iconst 0, 1) := dk_3 (dk_at dksX1_become_4 19 rfl rfl)
theorem dX1_become_114 : decode cX1_become 114 = .ok (.aload_n 0, 1) := dk_42 (dk_at dksX1_become_4 20 rfl rfl)
theorem dX1_become_115 : decode cX1_become 115 = .ok (.getfield 28, 3) := dk_180 0 28 (dk_at dksX1_become_4 21 rfl rfl)
theorem dX1_become_118 : decode cX1_become 118 = .ok (.iconst 0, 1) := dk_3 (dk_at dksX1_become_5 0 rfl rfl)
theorem dX1_become_119 : decode cX1_become 119 = .ok (.aload_n 0, 1) := dk_42 (dk_at dksX1_become_5 1 rfl rfl)
theorem dX1_become_120 : decode cX1_become 120 = .ok (.getfield 28, 3) := dk_180 0 28 (dk_at dksX1_become_5 2 rfl rfl)
theorem dX1_become_123 : decode cX1_become 123 = .ok (.arraylength, 1) := dk_190 (dk_at dksX1_become_5 5 rfl rfl)
theorem dX1_become_124 : decode cX1_become 124 = .ok (.invokestatic 56, 3) := dk_184 0 56 (dk_at dksX1_become_5 6 rfl rfl)
theorem dX1_become_127 : decode cX1_become 127 = .ok (.aload_n 0, 1) := dk_42 (dk_at dksX1_become_5 9 rfl rfl)
theorem dX1_become_128 : decode cX1_become 128 = .ok (.areturn, 1) := dk_176 (dk_at dksX1_become_5 10 rfl rfl)
abbrev cX1_all : ByteArray := prog_11_method_7_code
def yX1_all : MethodName := ⟨RX1, "all", "()I"⟩
def dkwX1_all_0 : List UInt8 := [4, 42, 180, 0, 24, 185, 0, 82, 1, 0, 120, 4, 100, 172]
abbrev dktX1_all_0 : List UInt8 := dkwX1_all_0 ++ []
theorem dksX1_all_0 : cX1_all.data.toList.drop 0 = dktX1_all_0 := by decide +kernel
theorem dX1_all_0 : decode cX1_all 0 = .ok (.iconst 1, 1) := dk_4 (dk_at dksX1_all_0 0 rfl rfl)
theorem dX1_all_1 : decode cX1_all 1 = .ok (.aload_n 0, 1) := dk_42 (dk_at dksX1_all_0 1 rfl rfl)
theorem dX1_all_2 : decode cX1_all 2 = .ok (.getfield 24, 3) := dk_180 0 24 (dk_at dksX1_all_0 2 rfl rfl)
theorem dX1_all_5 : decode cX1_all 5 = .ok (.invokeinterface 82 1, 5) := by decide +kernel
theorem dX1_all_10 : decode cX1_all 10 = .ok (.ishl, 1) := dk_120 (dk_at dksX1_all_0 10 rfl rfl)
theorem dX1_all_11 : decode cX1_all 11 = .ok (.iconst 1, 1) := dk_4 (dk_at dksX1_all_0 11 rfl rfl)
theorem dX1_all_12 : decode cX1_all 12 = .ok (.isub, 1) := dk_100 (dk_at dksX1_all_0 12 rfl rfl)
theorem dX1_all_13 : decode cX1_all 13 = .ok (.ireturn, 1) := dk_172 (dk_at dksX1_all_0 13 rfl rfl)
abbrev cX1_pass : ByteArray := prog_11_method_6_code
def yX1_pass : MethodName := ⟨RX1, "pass", "(I)I"⟩
def dkwX1_pass_6 : List UInt8 := [120, 167, 0, 4, 3, 128, 61, 132, 3, 1, 167, 255, 220, 28, 172]
abbrev dktX1_pass_6 : List UInt8 := dkwX1_pass_6 ++ []
def dkwX1_pass_5 : List UInt8 := [180, 0, 47, 162, 0, 34, 28, 42, 180, 0, 15, 29, 46, 42, 180, 0, 31, 29, 46, 159, 0, 9, 4, 29]
abbrev dktX1_pass_5 : List UInt8 := dkwX1_pass_5 ++ dktX1_pass_6
def dkwX1_pass_4 : List UInt8 := [132, 2, 1, 167, 255, 176, 42, 89, 180, 0, 50, 4, 96, 181, 0, 50, 3, 61, 3, 62, 29, 42]
abbrev dktX1_pass_4 : List UInt8 := dkwX1_pass_4 ++ dktX1_pass_5
def dkwX1_pass_3 : List UInt8 := [45, 180, 0, 76, 46, 160, 0, 7, 4, 167, 0, 4, 3, 182, 0, 95, 153, 0, 8, 42, 45, 182, 0, 99]
abbrev dktX1_pass_3 : List UInt8 := dkwX1_pass_3 ++ dktX1_pass_4
def dkwX1_pass_2 : List UInt8 := [184, 0, 91, 153, 0, 45, 45, 42, 180, 0, 50, 42, 180, 0, 15, 45, 180, 0, 76, 46, 42, 180, 0, 18]
abbrev dktX1_pass_2 : List UInt8 := dkwX1_pass_2 ++ dktX1_pass_3
def dkwX1_pass_1 : List UInt8 := [185, 0, 82, 1, 0, 162, 0, 73, 42, 180, 0, 24, 28, 185, 0, 87, 2, 0, 192, 0, 67, 78, 27, 28]
abbrev dktX1_pass_1 : List UInt8 := dkwX1_pass_1 ++ dktX1_pass_2
def dkwX1_pass_0 : List UInt8 := [42, 180, 0, 15, 3, 42, 180, 0, 31, 3, 42, 180, 0, 47, 184, 0, 56, 3, 61, 28, 42, 180, 0, 24]
abbrev dktX1_pass_0 : List UInt8 := dkwX1_pass_0 ++ dktX1_pass_1
theorem dksX1_pass_0 : cX1_pass.data.toList.drop 0 = dktX1_pass_0 := by decide +kernel
theorem dksX1_pass_1 : cX1_pass.data.toList.drop 24 = dktX1_pass_1 := dk_seg dksX1_pass_0 24 rfl rfl
theorem dksX1_pass_2 : cX1_pass.data.toList.drop 48 = dktX1_pass_2 := dk_seg dksX1_pass_1 24 rfl rfl
theorem dksX1_pass_3 : cX1_pass.data.toList.drop 72 = dktX1_pass_3 := dk_seg dksX1_pass_2 24 rfl rfl
theorem dksX1_pass_4 : cX1_pass.data.toList.drop 96 = dktX1_pass_4 := dk_seg dksX1_pass_3 24 rfl rfl
theorem dksX1_pass_5 : cX1_pass.data.toList.drop 118 = dktX1_pass_5 := dk_seg dksX1_pass_4 22 rfl rfl
theorem dksX1_pass_6 : cX1_pass.data.toList.drop 142 = dktX1_pass_6 := dk_seg dksX1_pass_5 24 rfl rfl
theorem dX1_pass_0 : decode cX1_pass 0 = .ok (.aload_n 0, 1) := dk_42 (dk_at dksX1_pass_0 0 rfl rfl)
theorem dX1_pass_1 : decode cX1_pass 1 = .ok (.getfield 15, 3) := dk_180 0 15 (dk_at dksX1_pass_0 1 rfl rfl)
theorem dX1_pass_4 : decode cX1_pass 4 = .ok (.iconst 0, 1) := dk_3 (dk_at dksX1_pass_0 4 rfl rfl)
theorem dX1_pass_5 : decode cX1_pass 5 = .ok (.aload_n 0, 1) := dk_42 (dk_at dksX1_pass_0 5 rfl rfl)
theorem dX1_pass_6 : decode cX1_pass 6 = .ok (.getfield 31, 3) := dk_180 0 31 (dk_at dksX1_pass_0 6 rfl rfl)
theorem dX1_pass_9 : decode cX1_pass 9 = .ok (.iconst 0, 1) := dk_3 (dk_at dksX1_pass_0 9 rfl rfl)
theorem dX1_pass_10 : decode cX1_pass 10 = .ok (.aload_n 0, 1) := dk_42 (dk_at dksX1_pass_0 10 rfl rfl)
theorem dX1_pass_11 : decode cX1_pass 11 = .ok (.getfield 47, 3) := dk_180 0 47 (dk_at dksX1_pass_0 11 rfl rfl)
theorem dX1_pass_14 : decode cX1_pass 14 = .ok (.invokestatic 56, 3) := dk_184 0 56 (dk_at dksX1_pass_0 14 rfl rfl)
theorem dX1_pass_17 : decode cX1_pass 17 = .ok (.iconst 0, 1) := dk_3 (dk_at dksX1_pass_0 17 rfl rfl)
theorem dX1_pass_18 : decode cX1_pass 18 = .ok (.istore_n 2, 1) := dk_61 (dk_at dksX1_pass_0 18 rfl rfl)
theorem dX1_pass_19 : decode cX1_pass 19 = .ok (.iload_n 2, 1) := dk_28 (dk_at dksX1_pass_0 19 rfl rfl)
theorem dX1_pass_20 : decode cX1_pass 20 = .ok (.aload_n 0, 1) := dk_42 (dk_at dksX1_pass_0 20 rfl rfl)
theorem dX1_pass_21 : decode cX1_pass 21 = .ok (.getfield 24, 3) := dk_180 0 24 (dk_at dksX1_pass_0 21 rfl rfl)
theorem dX1_pass_24 : decode cX1_pass 24 = .ok (.invokeinterface 82 1, 5) := by decide +kernel
theorem dX1_pass_29 : decode cX1_pass 29 = .ok (.if_icmp .ge 73, 3) := dk_162 0 73 (dk_at dksX1_pass_1 5 rfl rfl)
theorem dX1_pass_32 : decode cX1_pass 32 = .ok (.aload_n 0, 1) := dk_42 (dk_at dksX1_pass_1 8 rfl rfl)
theorem dX1_pass_33 : decode cX1_pass 33 = .ok (.getfield 24, 3) := dk_180 0 24 (dk_at dksX1_pass_1 9 rfl rfl)
theorem dX1_pass_36 : decode cX1_pass 36 = .ok (.iload_n 2, 1) := dk_28 (dk_at dksX1_pass_1 12 rfl rfl)
theorem dX1_pass_37 : decode cX1_pass 37 = .ok (.invokeinterface 87 2, 5) := by decide +kernel
theorem dX1_pass_42 : decode cX1_pass 42 = .ok (.checkcast 67, 3) := dk_192 0 67 (dk_at dksX1_pass_1 18 rfl rfl)
theorem dX1_pass_45 : decode cX1_pass 45 = .ok (.astore_n 3, 1) := dk_78 (dk_at dksX1_pass_1 21 rfl rfl)
theorem dX1_pass_46 : decode cX1_pass 46 = .ok (.iload_n 1, 1) := dk_27 (dk_at dksX1_pass_1 22 rfl rfl)
theorem dX1_pass_47 : decode cX1_pass 47 = .ok (.iload_n 2, 1) := dk_28 (dk_at dksX1_pass_1 23 rfl rfl)
theorem dX1_pass_48 : decode cX1_pass 48 = .ok (.invokestatic 91, 3) := dk_184 0 91 (dk_at dksX1_pass_2 0 rfl rfl)
theorem dX1_pass_51 : decode cX1_pass 51 = .ok (.ifCond .eq 45, 3) := dk_153 0 45 (dk_at dksX1_pass_2 3 rfl rfl)
theorem dX1_pass_54 : decode cX1_pass 54 = .ok (.aload_n 3, 1) := dk_45 (dk_at dksX1_pass_2 6 rfl rfl)
theorem dX1_pass_55 : decode cX1_pass 55 = .ok (.aload_n 0, 1) := dk_42 (dk_at dksX1_pass_2 7 rfl rfl)
theorem dX1_pass_56 : decode cX1_pass 56 = .ok (.getfield 50, 3) := dk_180 0 50 (dk_at dksX1_pass_2 8 rfl rfl)
theorem dX1_pass_59 : decode cX1_pass 59 = .ok (.aload_n 0, 1) := dk_42 (dk_at dksX1_pass_2 11 rfl rfl)
theorem dX1_pass_60 : decode cX1_pass 60 = .ok (.getfield 15, 3) := dk_180 0 15 (dk_at dksX1_pass_2 12 rfl rfl)
theorem dX1_pass_63 : decode cX1_pass 63 = .ok (.aload_n 3, 1) := dk_45 (dk_at dksX1_pass_2 15 rfl rfl)
theorem dX1_pass_64 : decode cX1_pass 64 = .ok (.getfield 76, 3) := dk_180 0 76 (dk_at dksX1_pass_2 16 rfl rfl)
theorem dX1_pass_67 : decode cX1_pass 67 = .ok (.iaload, 1) := dk_46 (dk_at dksX1_pass_2 19 rfl rfl)
theorem dX1_pass_68 : decode cX1_pass 68 = .ok (.aload_n 0, 1) := dk_42 (dk_at dksX1_pass_2 20 rfl rfl)
theorem dX1_pass_69 : decode cX1_pass 69 = .ok (.getfield 18, 3) := dk_180 0 18 (dk_at dksX1_pass_2 21 rfl rfl)
theorem dX1_pass_72 : decode cX1_pass 72 = .ok (.aload_n 3, 1) := dk_45 (dk_at dksX1_pass_3 0 rfl rfl)
theorem dX1_pass_73 : decode cX1_pass 73 = .ok (.getfield 76, 3) := dk_180 0 76 (dk_at dksX1_pass_3 1 rfl rfl)
theorem dX1_pass_76 : decode cX1_pass 76 = .ok (.iaload, 1) := dk_46 (dk_at dksX1_pass_3 4 rfl rfl)
theorem dX1_pass_77 : decode cX1_pass 77 = .ok (.if_icmp .ne 7, 3) := dk_160 0 7 (dk_at dksX1_pass_3 5 rfl rfl)
theorem dX1_pass_80 : decode cX1_pass 80 = .ok (.iconst 1, 1) := dk_4 (dk_at dksX1_pass_3 8 rfl rfl)
theorem dX1_pass_81 : decode cX1_pass 81 = .ok (.goto 4, 3) := dk_167 0 4 (dk_at dksX1_pass_3 9 rfl rfl)
theorem dX1_pass_84 : decode cX1_pass 84 = .ok (.iconst 0, 1) := dk_3 (dk_at dksX1_pass_3 12 rfl rfl)
theorem dX1_pass_85 : decode cX1_pass 85 = .ok (.invokevirtual 95, 3) := dk_182 0 95 (dk_at dksX1_pass_3 13 rfl rfl)
theorem dX1_pass_88 : decode cX1_pass 88 = .ok (.ifCond .eq 8, 3) := dk_153 0 8 (dk_at dksX1_pass_3 16 rfl rfl)
theorem dX1_pass_91 : decode cX1_pass 91 = .ok (.aload_n 0, 1) := dk_42 (dk_at dksX1_pass_3 19 rfl rfl)
theorem dX1_pass_92 : decode cX1_pass 92 = .ok (.aload_n 3, 1) := dk_45 (dk_at dksX1_pass_3 20 rfl rfl)
theorem dX1_pass_93 : decode cX1_pass 93 = .ok (.invokevirtual 99, 3) := dk_182 0 99 (dk_at dksX1_pass_3 21 rfl rfl)
theorem dX1_pass_96 : decode cX1_pass 96 = .ok (.iinc 2 1, 3) := dk_132 2 1 (dk_at dksX1_pass_4 0 rfl rfl)
theorem dX1_pass_99 : decode cX1_pass 99 = .ok (.goto (-80), 3) := dk_167 255 176 (dk_at dksX1_pass_4 3 rfl rfl)
theorem dX1_pass_102 : decode cX1_pass 102 = .ok (.aload_n 0, 1) := dk_42 (dk_at dksX1_pass_4 6 rfl rfl)
theorem dX1_pass_103 : decode cX1_pass 103 = .ok (.dup, 1) := dk_89 (dk_at dksX1_pass_4 7 rfl rfl)
theorem dX1_pass_104 : decode cX1_pass 104 = .ok (.getfield 50, 3) := dk_180 0 50 (dk_at dksX1_pass_4 8 rfl rfl)
theorem dX1_pass_107 : decode cX1_pass 107 = .ok (.iconst 1, 1) := dk_4 (dk_at dksX1_pass_4 11 rfl rfl)
theorem dX1_pass_108 : decode cX1_pass 108 = .ok (.iadd, 1) := dk_96 (dk_at dksX1_pass_4 12 rfl rfl)
theorem dX1_pass_109 : decode cX1_pass 109 = .ok (.putfield 50, 3) := dk_181 0 50 (dk_at dksX1_pass_4 13 rfl rfl)
theorem dX1_pass_112 : decode cX1_pass 112 = .ok (.iconst 0, 1) := dk_3 (dk_at dksX1_pass_4 16 rfl rfl)
theorem dX1_pass_113 : decode cX1_pass 113 = .ok (.istore_n 2, 1) := dk_61 (dk_at dksX1_pass_4 17 rfl rfl)
theorem dX1_pass_114 : decode cX1_pass 114 = .ok (.iconst 0, 1) := dk_3 (dk_at dksX1_pass_4 18 rfl rfl)
theorem dX1_pass_115 : decode cX1_pass 115 = .ok (.istore_n 3, 1) := dk_62 (dk_at dksX1_pass_4 19 rfl rfl)
theorem dX1_pass_116 : decode cX1_pass 116 = .ok (.iload_n 3, 1) := dk_29 (dk_at dksX1_pass_4 20 rfl rfl)
theorem dX1_pass_117 : decode cX1_pass 117 = .ok (.aload_n 0, 1) := dk_42 (dk_at dksX1_pass_4 21 rfl rfl)
theorem dX1_pass_118 : decode cX1_pass 118 = .ok (.getfield 47, 3) := dk_180 0 47 (dk_at dksX1_pass_5 0 rfl rfl)
theorem dX1_pass_121 : decode cX1_pass 121 = .ok (.if_icmp .ge 34, 3) := dk_162 0 34 (dk_at dksX1_pass_5 3 rfl rfl)
theorem dX1_pass_124 : decode cX1_pass 124 = .ok (.iload_n 2, 1) := dk_28 (dk_at dksX1_pass_5 6 rfl rfl)
theorem dX1_pass_125 : decode cX1_pass 125 = .ok (.aload_n 0, 1) := dk_42 (dk_at dksX1_pass_5 7 rfl rfl)
theorem dX1_pass_126 : decode cX1_pass 126 = .ok (.getfield 15, 3) := dk_180 0 15 (dk_at dksX1_pass_5 8 rfl rfl)
theorem dX1_pass_129 : decode cX1_pass 129 = .ok (.iload_n 3, 1) := dk_29 (dk_at dksX1_pass_5 11 rfl rfl)
theorem dX1_pass_130 : decode cX1_pass 130 = .ok (.iaload, 1) := dk_46 (dk_at dksX1_pass_5 12 rfl rfl)
theorem dX1_pass_131 : decode cX1_pass 131 = .ok (.aload_n 0, 1) := dk_42 (dk_at dksX1_pass_5 13 rfl rfl)
theorem dX1_pass_132 : decode cX1_pass 132 = .ok (.getfield 31, 3) := dk_180 0 31 (dk_at dksX1_pass_5 14 rfl rfl)
theorem dX1_pass_135 : decode cX1_pass 135 = .ok (.iload_n 3, 1) := dk_29 (dk_at dksX1_pass_5 17 rfl rfl)
theorem dX1_pass_136 : decode cX1_pass 136 = .ok (.iaload, 1) := dk_46 (dk_at dksX1_pass_5 18 rfl rfl)
theorem dX1_pass_137 : decode cX1_pass 137 = .ok (.if_icmp .eq 9, 3) := dk_159 0 9 (dk_at dksX1_pass_5 19 rfl rfl)
theorem dX1_pass_140 : decode cX1_pass 140 = .ok (.iconst 1, 1) := dk_4 (dk_at dksX1_pass_5 22 rfl rfl)
theorem dX1_pass_141 : decode cX1_pass 141 = .ok (.iload_n 3, 1) := dk_29 (dk_at dksX1_pass_5 23 rfl rfl)
theorem dX1_pass_142 : decode cX1_pass 142 = .ok (.ishl, 1) := dk_120 (dk_at dksX1_pass_6 0 rfl rfl)
theorem dX1_pass_143 : decode cX1_pass 143 = .ok (.goto 4, 3) := dk_167 0 4 (dk_at dksX1_pass_6 1 rfl rfl)
theorem dX1_pass_146 : decode cX1_pass 146 = .ok (.iconst 0, 1) := dk_3 (dk_at dksX1_pass_6 4 rfl rfl)
theorem dX1_pass_147 : decode cX1_pass 147 = .ok (.ior, 1) := dk_128 (dk_at dksX1_pass_6 5 rfl rfl)
theorem dX1_pass_148 : decode cX1_pass 148 = .ok (.istore_n 2, 1) := dk_61 (dk_at dksX1_pass_6 6 rfl rfl)
theorem dX1_pass_149 : decode cX1_pass 149 = .ok (.iinc 3 1, 3) := dk_132 3 1 (dk_at dksX1_pass_6 7 rfl rfl)
theorem dX1_pass_152 : decode cX1_pass 152 = .ok (.goto (-36), 3) := dk_167 255 220 (dk_at dksX1_pass_6 10 rfl rfl)
theorem dX1_pass_155 : decode cX1_pass 155 = .ok (.iload_n 2, 1) := dk_28 (dk_at dksX1_pass_6 13 rfl rfl)
theorem dX1_pass_156 : decode cX1_pass 156 = .ok (.ireturn, 1) := dk_172 (dk_at dksX1_pass_6 14 rfl rfl)
abbrev cX1_push : ByteArray := prog_11_method_5_code
def yX1_push : MethodName := ⟨RX1, "push", "(LNightStones$Mover;)V"⟩
def dkwX1_push_2 : List UInt8 := [180, 0, 15, 43, 180, 0, 76, 92, 46, 28, 96, 79, 132, 3, 1, 167, 255, 214, 177]
abbrev dktX1_push_2 : List UInt8 := dkwX1_push_2 ++ []
def dkwX1_push_1 : List UInt8 := [162, 0, 40, 42, 42, 180, 0, 15, 43, 180, 0, 76, 46, 28, 96, 182, 0, 79, 153, 0, 22, 42]
abbrev dktX1_push_1 : List UInt8 := dkwX1_push_1 ++ dktX1_push_2
def dkwX1_push_0 : List UInt8 := [43, 42, 180, 0, 50, 182, 0, 66, 153, 0, 7, 4, 167, 0, 4, 2, 61, 3, 62, 29, 43, 182, 0, 72]
abbrev dktX1_push_0 : List UInt8 := dkwX1_push_0 ++ dktX1_push_1
theorem dksX1_push_0 : cX1_push.data.toList.drop 0 = dktX1_push_0 := by decide +kernel
theorem dksX1_push_1 : cX1_push.data.toList.drop 24 = dktX1_push_1 := dk_seg dksX1_push_0 24 rfl rfl
theorem dksX1_push_2 : cX1_push.data.toList.drop 46 = dktX1_push_2 := dk_seg dksX1_push_1 22 rfl rfl
theorem dX1_push_0 : decode cX1_push 0 = .ok (.aload_n 1, 1) := dk_43 (dk_at dksX1_push_0 0 rfl rfl)
theorem dX1_push_1 : decode cX1_push 1 = .ok (.aload_n 0, 1) := dk_42 (dk_at dksX1_push_0 1 rfl rfl)
theorem dX1_push_2 : decode cX1_push 2 = .ok (.getfield 50, 3) := dk_180 0 50 (dk_at dksX1_push_0 2 rfl rfl)
theorem dX1_push_5 : decode cX1_push 5 = .ok (.invokevirtual 66, 3) := dk_182 0 66 (dk_at dksX1_push_0 5 rfl rfl)
theorem dX1_push_8 : decode cX1_push 8 = .ok (.ifCond .eq 7, 3) := dk_153 0 7 (dk_at dksX1_push_0 8 rfl rfl)
theorem dX1_push_11 : decode cX1_push 11 = .ok (.iconst 1, 1) := dk_4 (dk_at dksX1_push_0 11 rfl rfl)
theorem dX1_push_12 : decode cX1_push 12 = .ok (.goto 4, 3) := dk_167 0 4 (dk_at dksX1_push_0 12 rfl rfl)
theorem dX1_push_15 : decode cX1_push 15 = .ok (.iconst (-1), 1) := dk_2 (dk_at dksX1_push_0 15 rfl rfl)
theorem dX1_push_16 : decode cX1_push 16 = .ok (.istore_n 2, 1) := dk_61 (dk_at dksX1_push_0 16 rfl rfl)
theorem dX1_push_17 : decode cX1_push 17 = .ok (.iconst 0, 1) := dk_3 (dk_at dksX1_push_0 17 rfl rfl)
theorem dX1_push_18 : decode cX1_push 18 = .ok (.istore_n 3, 1) := dk_62 (dk_at dksX1_push_0 18 rfl rfl)
theorem dX1_push_19 : decode cX1_push 19 = .ok (.iload_n 3, 1) := dk_29 (dk_at dksX1_push_0 19 rfl rfl)
theorem dX1_push_20 : decode cX1_push 20 = .ok (.aload_n 1, 1) := dk_43 (dk_at dksX1_push_0 20 rfl rfl)
theorem dX1_push_21 : decode cX1_push 21 = .ok (.invokevirtual 72, 3) := dk_182 0 72 (dk_at dksX1_push_0 21 rfl rfl)
theorem dX1_push_24 : decode cX1_push 24 = .ok (.if_icmp .ge 40, 3) := dk_162 0 40 (dk_at dksX1_push_1 0 rfl rfl)
theorem dX1_push_27 : decode cX1_push 27 = .ok (.aload_n 0, 1) := dk_42 (dk_at dksX1_push_1 3 rfl rfl)
theorem dX1_push_28 : decode cX1_push 28 = .ok (.aload_n 0, 1) := dk_42 (dk_at dksX1_push_1 4 rfl rfl)
theorem dX1_push_29 : decode cX1_push 29 = .ok (.getfield 15, 3) := dk_180 0 15 (dk_at dksX1_push_1 5 rfl rfl)
theorem dX1_push_32 : decode cX1_push 32 = .ok (.aload_n 1, 1) := dk_43 (dk_at dksX1_push_1 8 rfl rfl)
theorem dX1_push_33 : decode cX1_push 33 = .ok (.getfield 76, 3) := dk_180 0 76 (dk_at dksX1_push_1 9 rfl rfl)
theorem dX1_push_36 : decode cX1_push 36 = .ok (.iaload, 1) := dk_46 (dk_at dksX1_push_1 12 rfl rfl)
theorem dX1_push_37 : decode cX1_push 37 = .ok (.iload_n 2, 1) := dk_28 (dk_at dksX1_push_1 13 rfl rfl)
theorem dX1_push_38 : decode cX1_push 38 = .ok (.iadd, 1) := dk_96 (dk_at dksX1_push_1 14 rfl rfl)
theorem dX1_push_39 : decode cX1_push 39 = .ok (.invokevirtual 79, 3) := dk_182 0 79 (dk_at dksX1_push_1 15 rfl rfl)
theorem dX1_push_42 : decode cX1_push 42 = .ok (.ifCond .eq 22, 3) := dk_153 0 22 (dk_at dksX1_push_1 18 rfl rfl)
theorem dX1_push_45 : decode cX1_push 45 = .ok (.aload_n 0, 1) := dk_42 (dk_at dksX1_push_1 21 rfl rfl)
theorem dX1_push_46 : decode cX1_push 46 = .ok (.getfield 15, 3) := dk_180 0 15 (dk_at dksX1_push_2 0 rfl rfl)
theorem dX1_push_49 : decode cX1_push 49 = .ok (.aload_n 1, 1) := dk_43 (dk_at dksX1_push_2 3 rfl rfl)
theorem dX1_push_50 : decode cX1_push 50 = .ok (.getfield 76, 3) := dk_180 0 76 (dk_at dksX1_push_2 4 rfl rfl)
theorem dX1_push_53 : decode cX1_push 53 = .ok (.dup2, 1) := dk_92 (dk_at dksX1_push_2 7 rfl rfl)
theorem dX1_push_54 : decode cX1_push 54 = .ok (.iaload, 1) := dk_46 (dk_at dksX1_push_2 8 rfl rfl)
theorem dX1_push_55 : decode cX1_push 55 = .ok (.iload_n 2, 1) := dk_28 (dk_at dksX1_push_2 9 rfl rfl)
theorem dX1_push_56 : decode cX1_push 56 = .ok (.iadd, 1) := dk_96 (dk_at dksX1_push_2 10 rfl rfl)
theorem dX1_push_57 : decode cX1_push 57 = .ok (.iastore, 1) := dk_79 (dk_at dksX1_push_2 11 rfl rfl)
theorem dX1_push_58 : decode cX1_push 58 = .ok (.iinc 3 1, 3) := dk_132 3 1 (dk_at dksX1_push_2 12 rfl rfl)
theorem dX1_push_61 : decode cX1_push 61 = .ok (.goto (-42), 3) := dk_167 255 214 (dk_at dksX1_push_2 15 rfl rfl)
theorem dX1_push_64 : decode cX1_push 64 = .ok (.return_, 1) := dk_177 (dk_at dksX1_push_2 18 rfl rfl)
abbrev cX1_isFree : ByteArray := prog_11_method_4_code
def yX1_isFree : MethodName := ⟨RX1, "isFree", "(I)Z"⟩
def dkwX1_isFree_1 : List UInt8 := [180, 0, 15, 29, 46, 27, 159, 0, 7, 4, 167, 0, 4, 3, 126, 61, 132, 3, 1, 167, 255, 227, 28, 172]
abbrev dktX1_isFree_1 : List UInt8 := dkwX1_isFree_1 ++ []
def dkwX1_isFree_0 : List UInt8 := [27, 133, 9, 42, 180, 0, 34, 133, 184, 0, 62, 61, 3, 62, 29, 42, 180, 0, 47, 162, 0, 27, 28, 42]
abbrev dktX1_isFree_0 : List UInt8 := dkwX1_isFree_0 ++ dktX1_isFree_1
theorem dksX1_isFree_0 : cX1_isFree.data.toList.drop 0 = dktX1_isFree_0 := by decide +kernel
theorem dksX1_isFree_1 : cX1_isFree.data.toList.drop 24 = dktX1_isFree_1 := dk_seg dksX1_isFree_0 24 rfl rfl
theorem dX1_isFree_0 : decode cX1_isFree 0 = .ok (.iload_n 1, 1) := dk_27 (dk_at dksX1_isFree_0 0 rfl rfl)
theorem dX1_isFree_1 : decode cX1_isFree 1 = .ok (.i2l, 1) := dk_133 (dk_at dksX1_isFree_0 1 rfl rfl)
theorem dX1_isFree_2 : decode cX1_isFree 2 = .ok (.lconst 0, 1) := dk_9 (dk_at dksX1_isFree_0 2 rfl rfl)
theorem dX1_isFree_3 : decode cX1_isFree 3 = .ok (.aload_n 0, 1) := dk_42 (dk_at dksX1_isFree_0 3 rfl rfl)
theorem dX1_isFree_4 : decode cX1_isFree 4 = .ok (.getfield 34, 3) := dk_180 0 34 (dk_at dksX1_isFree_0 4 rfl rfl)
theorem dX1_isFree_7 : decode cX1_isFree 7 = .ok (.i2l, 1) := dk_133 (dk_at dksX1_isFree_0 7 rfl rfl)
theorem dX1_isFree_8 : decode cX1_isFree 8 = .ok (.invokestatic 62, 3) := dk_184 0 62 (dk_at dksX1_isFree_0 8 rfl rfl)
theorem dX1_isFree_11 : decode cX1_isFree 11 = .ok (.istore_n 2, 1) := dk_61 (dk_at dksX1_isFree_0 11 rfl rfl)
theorem dX1_isFree_12 : decode cX1_isFree 12 = .ok (.iconst 0, 1) := dk_3 (dk_at dksX1_isFree_0 12 rfl rfl)
theorem dX1_isFree_13 : decode cX1_isFree 13 = .ok (.istore_n 3, 1) := dk_62 (dk_at dksX1_isFree_0 13 rfl rfl)
theorem dX1_isFree_14 : decode cX1_isFree 14 = .ok (.iload_n 3, 1) := dk_29 (dk_at dksX1_isFree_0 14 rfl rfl)
theorem dX1_isFree_15 : decode cX1_isFree 15 = .ok (.aload_n 0, 1) := dk_42 (dk_at dksX1_isFree_0 15 rfl rfl)
theorem dX1_isFree_16 : decode cX1_isFree 16 = .ok (.getfield 47, 3) := dk_180 0 47 (dk_at dksX1_isFree_0 16 rfl rfl)
theorem dX1_isFree_19 : decode cX1_isFree 19 = .ok (.if_icmp .ge 27, 3) := dk_162 0 27 (dk_at dksX1_isFree_0 19 rfl rfl)
theorem dX1_isFree_22 : decode cX1_isFree 22 = .ok (.iload_n 2, 1) := dk_28 (dk_at dksX1_isFree_0 22 rfl rfl)
theorem dX1_isFree_23 : decode cX1_isFree 23 = .ok (.aload_n 0, 1) := dk_42 (dk_at dksX1_isFree_0 23 rfl rfl)
theorem dX1_isFree_24 : decode cX1_isFree 24 = .ok (.getfield 15, 3) := dk_180 0 15 (dk_at dksX1_isFree_1 0 rfl rfl)
theorem dX1_isFree_27 : decode cX1_isFree 27 = .ok (.iload_n 3, 1) := dk_29 (dk_at dksX1_isFree_1 3 rfl rfl)
theorem dX1_isFree_28 : decode cX1_isFree 28 = .ok (.iaload, 1) := dk_46 (dk_at dksX1_isFree_1 4 rfl rfl)
theorem dX1_isFree_29 : decode cX1_isFree 29 = .ok (.iload_n 1, 1) := dk_27 (dk_at dksX1_isFree_1 5 rfl rfl)
theorem dX1_isFree_30 : decode cX1_isFree 30 = .ok (.if_icmp .eq 7, 3) := dk_159 0 7 (dk_at dksX1_isFree_1 6 rfl rfl)
theorem dX1_isFree_33 : decode cX1_isFree 33 = .ok (.iconst 1, 1) := dk_4 (dk_at dksX1_isFree_1 9 rfl rfl)
theorem dX1_isFree_34 : decode cX1_isFree 34 = .ok (.goto 4, 3) := dk_167 0 4 (dk_at dksX1_isFree_1 10 rfl rfl)
theorem dX1_isFree_37 : decode cX1_isFree 37 = .ok (.iconst 0, 1) := dk_3 (dk_at dksX1_isFree_1 13 rfl rfl)
theorem dX1_isFree_38 : decode cX1_isFree 38 = .ok (.iand, 1) := dk_126 (dk_at dksX1_isFree_1 14 rfl rfl)
theorem dX1_isFree_39 : decode cX1_isFree 39 = .ok (.istore_n 2, 1) := dk_61 (dk_at dksX1_isFree_1 15 rfl rfl)
theorem dX1_isFree_40 : decode cX1_isFree 40 = .ok (.iinc 3 1, 3) := dk_132 3 1 (dk_at dksX1_isFree_1 16 rfl rfl)
theorem dX1_isFree_43 : decode cX1_isFree 43 = .ok (.goto (-29), 3) := dk_167 255 227 (dk_at dksX1_isFree_1 19 rfl rfl)
theorem dX1_isFree_46 : decode cX1_isFree 46 = .ok (.iload_n 2, 1) := dk_28 (dk_at dksX1_isFree_1 22 rfl rfl)
theorem dX1_isFree_47 : decode cX1_isFree 47 = .ok (.ireturn, 1) := dk_172 (dk_at dksX1_isFree_1 23 rfl rfl)
abbrev cX1_canGoHome : ByteArray := prog_11_method_9_code
def yX1_canGoHome : MethodName := ⟨RX1, "canGoHome", "(I)Z"⟩
def dkwX1_canGoHome_4 : List UInt8 := [167, 0, 4, 3, 126, 54, 4, 132, 5, 1, 167, 255, 210, 21, 4, 172]
abbrev dktX1_canGoHome_4 : List UInt8 := dkwX1_canGoHome_4 ++ []
def dkwX1_canGoHome_3 : List UInt8 := [159, 0, 21, 42, 180, 0, 15, 21, 5, 46, 133, 28, 133, 29, 133, 184, 0, 62, 154, 0, 7, 4]
abbrev dktX1_canGoHome_3 : List UInt8 := dkwX1_canGoHome_3 ++ dktX1_canGoHome_4
def dkwX1_canGoHome_2 : List UInt8 := [4, 167, 0, 4, 3, 54, 4, 3, 54, 5, 21, 5, 42, 180, 0, 47, 162, 0, 43, 21, 4, 21, 5, 27]
abbrev dktX1_canGoHome_2 : List UInt8 := dkwX1_canGoHome_2 ++ dktX1_canGoHome_3
def dkwX1_canGoHome_1 : List UInt8 := [180, 0, 18, 27, 46, 184, 0, 109, 62, 42, 180, 0, 15, 27, 46, 42, 180, 0, 18, 27, 46, 159, 0, 7]
abbrev dktX1_canGoHome_1 : List UInt8 := dkwX1_canGoHome_1 ++ dktX1_canGoHome_2
def dkwX1_canGoHome_0 : List UInt8 := [42, 180, 0, 15, 27, 46, 42, 180, 0, 18, 27, 46, 184, 0, 103, 61, 42, 180, 0, 15, 27, 46, 42]
abbrev dktX1_canGoHome_0 : List UInt8 := dkwX1_canGoHome_0 ++ dktX1_canGoHome_1
theorem dksX1_canGoHome_0 : cX1_canGoHome.data.toList.drop 0 = dktX1_canGoHome_0 := by decide +kernel
theorem dksX1_canGoHome_1 : cX1_canGoHome.data.toList.drop 23 = dktX1_canGoHome_1 := dk_seg dksX1_canGoHome_0 23 rfl rfl
theorem dksX1_canGoHome_2 : cX1_canGoHome.data.toList.drop 47 = dktX1_canGoHome_2 := dk_seg dksX1_canGoHome_1 24 rfl rfl
theorem dksX1_canGoHome_3 : cX1_canGoHome.data.toList.drop 71 = dktX1_canGoHome_3 := dk_seg dksX1_canGoHome_2 24 rfl rfl
theorem dksX1_canGoHome_4 : cX1_canGoHome.data.toList.drop 93 = dktX1_canGoHome_4 := dk_seg dksX1_canGoHome_3 22 rfl rfl
theorem dX1_canGoHome_0 : decode cX1_canGoHome 0 = .ok (.aload_n 0, 1) := dk_42 (dk_at dksX1_canGoHome_0 0 rfl rfl)
theorem dX1_canGoHome_1 : decode cX1_canGoHome 1 = .ok (.getfield 15, 3) := dk_180 0 15 (dk_at dksX1_canGoHome_0 1 rfl rfl)
theorem dX1_canGoHome_4 : decode cX1_canGoHome 4 = .ok (.iload_n 1, 1) := dk_27 (dk_at dksX1_canGoHome_0 4 rfl rfl)
theorem dX1_canGoHome_5 : decode cX1_canGoHome 5 = .ok (.iaload, 1) := dk_46 (dk_at dksX1_canGoHome_0 5 rfl rfl)
theorem dX1_canGoHome_6 : decode cX1_canGoHome 6 = .ok (.aload_n 0, 1) := dk_42 (dk_at dksX1_canGoHome_0 6 rfl rfl)
theorem dX1_canGoHome_7 : decode cX1_canGoHome 7 = .ok (.getfield 18, 3) := dk_180 0 18 (dk_at dksX1_canGoHome_0 7 rfl rfl)
theorem dX1_canGoHome_10 : decode cX1_canGoHome 10 = .ok (.iload_n 1, 1) := dk_27 (dk_at dksX1_canGoHome_0 10 rfl rfl)
theorem dX1_canGoHome_11 : decode cX1_canGoHome 11 = .ok (.iaload, 1) := dk_46 (dk_at dksX1_canGoHome_0 11 rfl rfl)
theorem dX1_canGoHome_12 : decode cX1_canGoHome 12 = .ok (.invokestatic 103, 3) := dk_184 0 103 (dk_at dksX1_canGoHome_0 12 rfl rfl)
theorem dX1_canGoHome_15 : decode cX1_canGoHome 15 = .ok (.istore_n 2, 1) := dk_61 (dk_at dksX1_canGoHome_0 15 rfl rfl)
theorem dX1_canGoHome_16 : decode cX1_canGoHome 16 = .ok (.aload_n 0, 1) := dk_42 (dk_at dksX1_canGoHome_0 16 rfl rfl)
theorem dX1_canGoHome_17 : decode cX1_canGoHome 17 = .ok (.getfield 15, 3) := dk_180 0 15 (dk_at dksX1_canGoHome_0 17 rfl rfl)
theorem dX1_canGoHome_20 : decode cX1_canGoHome 20 = .ok (.iload_n 1, 1) := dk_27 (dk_at dksX1_canGoHome_0 20 rfl rfl)
theorem dX1_canGoHome_21 : decode cX1_canGoHome 21 = .ok (.iaload, 1) := dk_46 (dk_at dksX1_canGoHome_0 21 rfl rfl)
theorem dX1_canGoHome_22 : decode cX1_canGoHome 22 = .ok (.aload_n 0, 1) := dk_42 (dk_at dksX1_canGoHome_0 22 rfl rfl)
theorem dX1_canGoHome_23 : decode cX1_canGoHome 23 = .ok (.getfield 18, 3) := dk_180 0 18 (dk_at dksX1_canGoHome_1 0 rfl rfl)
theorem dX1_canGoHome_26 : decode cX1_canGoHome 26 = .ok (.iload_n 1, 1) := dk_27 (dk_at dksX1_canGoHome_1 3 rfl rfl)
theorem dX1_canGoHome_27 : decode cX1_canGoHome 27 = .ok (.iaload, 1) := dk_46 (dk_at dksX1_canGoHome_1 4 rfl rfl)
theorem dX1_canGoHome_28 : decode cX1_canGoHome 28 = .ok (.invokestatic 109, 3) := dk_184 0 109 (dk_at dksX1_canGoHome_1 5 rfl rfl)
theorem dX1_canGoHome_31 : decode cX1_canGoHome 31 = .ok (.istore_n 3, 1) := dk_62 (dk_at dksX1_canGoHome_1 8 rfl rfl)
theorem dX1_canGoHome_32 : decode cX1_canGoHome 32 = .ok (.aload_n 0, 1) := dk_42 (dk_at dksX1_canGoHome_1 9 rfl rfl)
theorem dX1_canGoHome_33 : decode cX1_canGoHome 33 = .ok (.getfield 15, 3) := dk_180 0 15 (dk_at dksX1_canGoHome_1 10 rfl rfl)
theorem dX1_canGoHome_36 : decode cX1_canGoHome 36 = .ok (.iload_n 1, 1) := dk_27 (dk_at dksX1_canGoHome_1 13 rfl rfl)
theorem dX1_canGoHome_37 : decode cX1_canGoHome 37 = .ok (.iaload, 1) := dk_46 (dk_at dksX1_canGoHome_1 14 rfl rfl)
theorem dX1_canGoHome_38 : decode cX1_canGoHome 38 = .ok (.aload_n 0, 1) := dk_42 (dk_at dksX1_canGoHome_1 15 rfl rfl)
theorem dX1_canGoHome_39 : decode cX1_canGoHome 39 = .ok (.getfield 18, 3) := dk_180 0 18 (dk_at dksX1_canGoHome_1 16 rfl rfl)
theorem dX1_canGoHome_42 : decode cX1_canGoHome 42 = .ok (.iload_n 1, 1) := dk_27 (dk_at dksX1_canGoHome_1 19 rfl rfl)
theorem dX1_canGoHome_43 : decode cX1_canGoHome 43 = .ok (.iaload, 1) := dk_46 (dk_at dksX1_canGoHome_1 20 rfl rfl)
theorem dX1_canGoHome_44 : decode cX1_canGoHome 44 = .ok (.if_icmp .eq 7, 3) := dk_159 0 7 (dk_at dksX1_canGoHome_1 21 rfl rfl)
theorem dX1_canGoHome_47 : decode cX1_canGoHome 47 = .ok (.iconst 1, 1) := dk_4 (dk_at dksX1_canGoHome_2 0 rfl rfl)
theorem dX1_canGoHome_48 : decode cX1_canGoHome 48 = .ok (.goto 4, 3) := dk_167 0 4 (dk_at dksX1_canGoHome_2 1 rfl rfl)
theorem dX1_canGoHome_51 : decode cX1_canGoHome 51 = .ok (.iconst 0, 1) := dk_3 (dk_at dksX1_canGoHome_2 4 rfl rfl)
theorem dX1_canGoHome_52 : decode cX1_canGoHome 52 = .ok (.istore 4, 2) := dk_54 4 (dk_at dksX1_canGoHome_2 5 rfl rfl)
theorem dX1_canGoHome_54 : decode cX1_canGoHome 54 = .ok (.iconst 0, 1) := dk_3 (dk_at dksX1_canGoHome_2 7 rfl rfl)
theorem dX1_canGoHome_55 : decode cX1_canGoHome 55 = .ok (.istore 5, 2) := dk_54 5 (dk_at dksX1_canGoHome_2 8 rfl rfl)
theorem dX1_canGoHome_57 : decode cX1_canGoHome 57 = .ok (.iload 5, 2) := dk_21 5 (dk_at dksX1_canGoHome_2 10 rfl rfl)
theorem dX1_canGoHome_59 : decode cX1_canGoHome 59 = .ok (.aload_n 0, 1) := dk_42 (dk_at dksX1_canGoHome_2 12 rfl rfl)
theorem dX1_canGoHome_60 : decode cX1_canGoHome 60 = .ok (.getfield 47, 3) := dk_180 0 47 (dk_at dksX1_canGoHome_2 13 rfl rfl)
theorem dX1_canGoHome_63 : decode cX1_canGoHome 63 = .ok (.if_icmp .ge 43, 3) := dk_162 0 43 (dk_at dksX1_canGoHome_2 16 rfl rfl)
theorem dX1_canGoHome_66 : decode cX1_canGoHome 66 = .ok (.iload 4, 2) := dk_21 4 (dk_at dksX1_canGoHome_2 19 rfl rfl)
theorem dX1_canGoHome_68 : decode cX1_canGoHome 68 = .ok (.iload 5, 2) := dk_21 5 (dk_at dksX1_canGoHome_2 21 rfl rfl)
theorem dX1_canGoHome_70 : decode cX1_canGoHome 70 = .ok (.iload_n 1, 1) := dk_27 (dk_at dksX1_canGoHome_2 23 rfl rfl)
theorem dX1_canGoHome_71 : decode cX1_canGoHome 71 = .ok (.if_icmp .eq 21, 3) := dk_159 0 21 (dk_at dksX1_canGoHome_3 0 rfl rfl)
theorem dX1_canGoHome_74 : decode cX1_canGoHome 74 = .ok (.aload_n 0, 1) := dk_42 (dk_at dksX1_canGoHome_3 3 rfl rfl)
theorem dX1_canGoHome_75 : decode cX1_canGoHome 75 = .ok (.getfield 15, 3) := dk_180 0 15 (dk_at dksX1_canGoHome_3 4 rfl rfl)
theorem dX1_canGoHome_78 : decode cX1_canGoHome 78 = .ok (.iload 5, 2) := dk_21 5 (dk_at dksX1_canGoHome_3 7 rfl rfl)
theorem dX1_canGoHome_80 : decode cX1_canGoHome 80 = .ok (.iaload, 1) := dk_46 (dk_at dksX1_canGoHome_3 9 rfl rfl)
theorem dX1_canGoHome_81 : decode cX1_canGoHome 81 = .ok (.i2l, 1) := dk_133 (dk_at dksX1_canGoHome_3 10 rfl rfl)
theorem dX1_canGoHome_82 : decode cX1_canGoHome 82 = .ok (.iload_n 2, 1) := dk_28 (dk_at dksX1_canGoHome_3 11 rfl rfl)
theorem dX1_canGoHome_83 : decode cX1_canGoHome 83 = .ok (.i2l, 1) := dk_133 (dk_at dksX1_canGoHome_3 12 rfl rfl)
theorem dX1_canGoHome_84 : decode cX1_canGoHome 84 = .ok (.iload_n 3, 1) := dk_29 (dk_at dksX1_canGoHome_3 13 rfl rfl)
theorem dX1_canGoHome_85 : decode cX1_canGoHome 85 = .ok (.i2l, 1) := dk_133 (dk_at dksX1_canGoHome_3 14 rfl rfl)
theorem dX1_canGoHome_86 : decode cX1_canGoHome 86 = .ok (.invokestatic 62, 3) := dk_184 0 62 (dk_at dksX1_canGoHome_3 15 rfl rfl)
theorem dX1_canGoHome_89 : decode cX1_canGoHome 89 = .ok (.ifCond .ne 7, 3) := dk_154 0 7 (dk_at dksX1_canGoHome_3 18 rfl rfl)
theorem dX1_canGoHome_92 : decode cX1_canGoHome 92 = .ok (.iconst 1, 1) := dk_4 (dk_at dksX1_canGoHome_3 21 rfl rfl)
theorem dX1_canGoHome_93 : decode cX1_canGoHome 93 = .ok (.goto 4, 3) := dk_167 0 4 (dk_at dksX1_canGoHome_4 0 rfl rfl)
theorem dX1_canGoHome_96 : decode cX1_canGoHome 96 = .ok (.iconst 0, 1) := dk_3 (dk_at dksX1_canGoHome_4 3 rfl rfl)
theorem dX1_canGoHome_97 : decode cX1_canGoHome 97 = .ok (.iand, 1) := dk_126 (dk_at dksX1_canGoHome_4 4 rfl rfl)
theorem dX1_canGoHome_98 : decode cX1_canGoHome 98 = .ok (.istore 4, 2) := dk_54 4 (dk_at dksX1_canGoHome_4 5 rfl rfl)
theorem dX1_canGoHome_100 : decode cX1_canGoHome 100 = .ok (.iinc 5 1, 3) := dk_132 5 1 (dk_at dksX1_canGoHome_4 7 rfl rfl)
theorem dX1_canGoHome_103 : decode cX1_canGoHome 103 = .ok (.goto (-46), 3) := dk_167 255 210 (dk_at dksX1_canGoHome_4 10 rfl rfl)
theorem dX1_canGoHome_106 : decode cX1_canGoHome 106 = .ok (.iload 4, 2) := dk_21 4 (dk_at dksX1_canGoHome_4 13 rfl rfl)
theorem dX1_canGoHome_108 : decode cX1_canGoHome 108 = .ok (.ireturn, 1) := dk_172 (dk_at dksX1_canGoHome_4 15 rfl rfl)
abbrev cX1_addTime : ByteArray := prog_11_method_10_code
def yX1_addTime : MethodName := ⟨RX1, "addTime", "(IIII)Z"⟩
def dkwX1_addTime_5 : List UInt8 := [89, 180, 0, 53, 4, 96, 181, 0, 53, 4, 172]
abbrev dktX1_addTime_5 : List UInt8 := dkwX1_addTime_5 ++ []
def dkwX1_addTime_4 : List UInt8 := [180, 0, 53, 104, 5, 96, 29, 79, 42, 180, 0, 28, 7, 42, 180, 0, 53, 104, 6, 96, 21, 4, 79, 42]
abbrev dktX1_addTime_4 : List UInt8 := dkwX1_addTime_4 ++ dktX1_addTime_5
def dkwX1_addTime_3 : List UInt8 := [104, 27, 79, 42, 180, 0, 28, 7, 42, 180, 0, 53, 104, 4, 96, 28, 79, 42, 180, 0, 28, 7, 42]
abbrev dktX1_addTime_3 : List UInt8 := dkwX1_addTime_3 ++ dktX1_addTime_4
def dkwX1_addTime_2 : List UInt8 := [21, 4, 133, 9, 20, 0, 114, 184, 0, 62, 154, 0, 5, 3, 172, 42, 180, 0, 28, 7, 42, 180, 0, 53]
abbrev dktX1_addTime_2 : List UInt8 := dkwX1_addTime_2 ++ dktX1_addTime_3
def dkwX1_addTime_1 : List UInt8 := [180, 0, 47, 4, 100, 133, 184, 0, 62, 153, 0, 28, 29, 133, 10, 20, 0, 112, 184, 0, 62, 153, 0, 16]
abbrev dktX1_addTime_1 : List UInt8 := dkwX1_addTime_1 ++ dktX1_addTime_2
def dkwX1_addTime_0 : List UInt8 := [27, 133, 9, 42, 180, 0, 47, 4, 100, 133, 184, 0, 62, 153, 0, 47, 28, 133, 27, 4, 96, 133, 42]
abbrev dktX1_addTime_0 : List UInt8 := dkwX1_addTime_0 ++ dktX1_addTime_1
theorem dksX1_addTime_0 : cX1_addTime.data.toList.drop 0 = dktX1_addTime_0 := by decide +kernel
theorem dksX1_addTime_1 : cX1_addTime.data.toList.drop 23 = dktX1_addTime_1 := dk_seg dksX1_addTime_0 23 rfl rfl
theorem dksX1_addTime_2 : cX1_addTime.data.toList.drop 47 = dktX1_addTime_2 := dk_seg dksX1_addTime_1 24 rfl rfl
theorem dksX1_addTime_3 : cX1_addTime.data.toList.drop 71 = dktX1_addTime_3 := dk_seg dksX1_addTime_2 24 rfl rfl
theorem dksX1_addTime_4 : cX1_addTime.data.toList.drop 94 = dktX1_addTime_4 := dk_seg dksX1_addTime_3 23 rfl rfl
theorem dksX1_addTime_5 : cX1_addTime.data.toList.drop 118 = dktX1_addTime_5 := dk_seg dksX1_addTime_4 24 rfl rfl
theorem dX1_addTime_0 : decode cX1_addTime 0 = .ok (.iload_n 1, 1) := dk_27 (dk_at dksX1_addTime_0 0 rfl rfl)
theorem dX1_addTime_1 : decode cX1_addTime 1 = .ok (.i2l, 1) := dk_133 (dk_at dksX1_addTime_0 1 rfl rfl)
theorem dX1_addTime_2 : decode cX1_addTime 2 = .ok (.lconst 0, 1) := dk_9 (dk_at dksX1_addTime_0 2 rfl rfl)
theorem dX1_addTime_3 : decode cX1_addTime 3 = .ok (.aload_n 0, 1) := dk_42 (dk_at dksX1_addTime_0 3 rfl rfl)
theorem dX1_addTime_4 : decode cX1_addTime 4 = .ok (.getfield 47, 3) := dk_180 0 47 (dk_at dksX1_addTime_0 4 rfl rfl)
theorem dX1_addTime_7 : decode cX1_addTime 7 = .ok (.iconst 1, 1) := dk_4 (dk_at dksX1_addTime_0 7 rfl rfl)
theorem dX1_addTime_8 : decode cX1_addTime 8 = .ok (.isub, 1) := dk_100 (dk_at dksX1_addTime_0 8 rfl rfl)
theorem dX1_addTime_9 : decode cX1_addTime 9 = .ok (.i2l, 1) := dk_133 (dk_at dksX1_addTime_0 9 rfl rfl)
theorem dX1_addTime_10 : decode cX1_addTime 10 = .ok (.invokestatic 62, 3) := dk_184 0 62 (dk_at dksX1_addTime_0 10 rfl rfl)
theorem dX1_addTime_13 : decode cX1_addTime 13 = .ok (.ifCond .eq 47, 3) := dk_153 0 47 (dk_at dksX1_addTime_0 13 rfl rfl)
theorem dX1_addTime_16 : decode cX1_addTime 16 = .ok (.iload_n 2, 1) := dk_28 (dk_at dksX1_addTime_0 16 rfl rfl)
theorem dX1_addTime_17 : decode cX1_addTime 17 = .ok (.i2l, 1) := dk_133 (dk_at dksX1_addTime_0 17 rfl rfl)
theorem dX1_addTime_18 : decode cX1_addTime 18 = .ok (.iload_n 1, 1) := dk_27 (dk_at dksX1_addTime_0 18 rfl rfl)
theorem dX1_addTime_19 : decode cX1_addTime 19 = .ok (.iconst 1, 1) := dk_4 (dk_at dksX1_addTime_0 19 rfl rfl)
theorem dX1_addTime_20 : decode cX1_addTime 20 = .ok (.iadd, 1) := dk_96 (dk_at dksX1_addTime_0 20 rfl rfl)
theorem dX1_addTime_21 : decode cX1_addTime 21 = .ok (.i2l, 1) := dk_133 (dk_at dksX1_addTime_0 21 rfl rfl)
theorem dX1_addTime_22 : decode cX1_addTime 22 = .ok (.aload_n 0, 1) := dk_42 (dk_at dksX1_addTime_0 22 rfl rfl)
theorem dX1_addTime_23 : decode cX1_addTime 23 = .ok (.getfield 47, 3) := dk_180 0 47 (dk_at dksX1_addTime_1 0 rfl rfl)
theorem dX1_addTime_26 : decode cX1_addTime 26 = .ok (.iconst 1, 1) := dk_4 (dk_at dksX1_addTime_1 3 rfl rfl)
theorem dX1_addTime_27 : decode cX1_addTime 27 = .ok (.isub, 1) := dk_100 (dk_at dksX1_addTime_1 4 rfl rfl)
theorem dX1_addTime_28 : decode cX1_addTime 28 = .ok (.i2l, 1) := dk_133 (dk_at dksX1_addTime_1 5 rfl rfl)
theorem dX1_addTime_29 : decode cX1_addTime 29 = .ok (.invokestatic 62, 3) := dk_184 0 62 (dk_at dksX1_addTime_1 6 rfl rfl)
theorem dX1_addTime_32 : decode cX1_addTime 32 = .ok (.ifCond .eq 28, 3) := dk_153 0 28 (dk_at dksX1_addTime_1 9 rfl rfl)
theorem dX1_addTime_35 : decode cX1_addTime 35 = .ok (.iload_n 3, 1) := dk_29 (dk_at dksX1_addTime_1 12 rfl rfl)
theorem dX1_addTime_36 : decode cX1_addTime 36 = .ok (.i2l, 1) := dk_133 (dk_at dksX1_addTime_1 13 rfl rfl)
theorem dX1_addTime_37 : decode cX1_addTime 37 = .ok (.lconst 1, 1) := dk_10 (dk_at dksX1_addTime_1 14 rfl rfl)
theorem dX1_addTime_38 : decode cX1_addTime 38 = .ok (.ldc2_w 112, 3) := dk_20 0 112 (dk_at dksX1_addTime_1 15 rfl rfl)
theorem dX1_addTime_41 : decode cX1_addTime 41 = .ok (.invokestatic 62, 3) := dk_184 0 62 (dk_at dksX1_addTime_1 18 rfl rfl)
theorem dX1_addTime_44 : decode cX1_addTime 44 = .ok (.ifCond .eq 16, 3) := dk_153 0 16 (dk_at dksX1_addTime_1 21 rfl rfl)
theorem dX1_addTime_47 : decode cX1_addTime 47 = .ok (.iload 4, 2) := dk_21 4 (dk_at dksX1_addTime_2 0 rfl rfl)
theorem dX1_addTime_49 : decode cX1_addTime 49 = .ok (.i2l, 1) := dk_133 (dk_at dksX1_addTime_2 2 rfl rfl)
theorem dX1_addTime_50 : decode cX1_addTime 50 = .ok (.lconst 0, 1) := dk_9 (dk_at dksX1_addTime_2 3 rfl rfl)
theorem dX1_addTime_51 : decode cX1_addTime 51 = .ok (.ldc2_w 114, 3) := dk_20 0 114 (dk_at dksX1_addTime_2 4 rfl rfl)
theorem dX1_addTime_54 : decode cX1_addTime 54 = .ok (.invokestatic 62, 3) := dk_184 0 62 (dk_at dksX1_addTime_2 7 rfl rfl)
theorem dX1_addTime_57 : decode cX1_addTime 57 = .ok (.ifCond .ne 5, 3) := dk_154 0 5 (dk_at dksX1_addTime_2 10 rfl rfl)
theorem dX1_addTime_60 : decode cX1_addTime 60 = .ok (.iconst 0, 1) := dk_3 (dk_at dksX1_addTime_2 13 rfl rfl)
theorem dX1_addTime_61 : decode cX1_addTime 61 = .ok (.ireturn, 1) := dk_172 (dk_at dksX1_addTime_2 14 rfl rfl)
theorem dX1_addTime_62 : decode cX1_addTime 62 = .ok (.aload_n 0, 1) := dk_42 (dk_at dksX1_addTime_2 15 rfl rfl)
theorem dX1_addTime_63 : decode cX1_addTime 63 = .ok (.getfield 28, 3) := dk_180 0 28 (dk_at dksX1_addTime_2 16 rfl rfl)
theorem dX1_addTime_66 : decode cX1_addTime 66 = .ok (.iconst 4, 1) := dk_7 (dk_at dksX1_addTime_2 19 rfl rfl)
theorem dX1_addTime_67 : decode cX1_addTime 67 = .ok (.aload_n 0, 1) := dk_42 (dk_at dksX1_addTime_2 20 rfl rfl)
theorem dX1_addTime_68 : decode cX1_addTime 68 = .ok (.getfield 53, 3) := dk_180 0 53 (dk_at dksX1_addTime_2 21 rfl rfl)
theorem dX1_addTime_71 : decode cX1_addTime 71 = .ok (.imul, 1) := dk_104 (dk_at dksX1_addTime_3 0 rfl rfl)
theorem dX1_addTime_72 : decode cX1_addTime 72 = .ok (.iload_n 1, 1) := dk_27 (dk_at dksX1_addTime_3 1 rfl rfl)
theorem dX1_addTime_73 : decode cX1_addTime 73 = .ok (.iastore, 1) := dk_79 (dk_at dksX1_addTime_3 2 rfl rfl)
theorem dX1_addTime_74 : decode cX1_addTime 74 = .ok (.aload_n 0, 1) := dk_42 (dk_at dksX1_addTime_3 3 rfl rfl)
theorem dX1_addTime_75 : decode cX1_addTime 75 = .ok (.getfield 28, 3) := dk_180 0 28 (dk_at dksX1_addTime_3 4 rfl rfl)
theorem dX1_addTime_78 : decode cX1_addTime 78 = .ok (.iconst 4, 1) := dk_7 (dk_at dksX1_addTime_3 7 rfl rfl)
theorem dX1_addTime_79 : decode cX1_addTime 79 = .ok (.aload_n 0, 1) := dk_42 (dk_at dksX1_addTime_3 8 rfl rfl)
theorem dX1_addTime_80 : decode cX1_addTime 80 = .ok (.getfield 53, 3) := dk_180 0 53 (dk_at dksX1_addTime_3 9 rfl rfl)
theorem dX1_addTime_83 : decode cX1_addTime 83 = .ok (.imul, 1) := dk_104 (dk_at dksX1_addTime_3 12 rfl rfl)
theorem dX1_addTime_84 : decode cX1_addTime 84 = .ok (.iconst 1, 1) := dk_4 (dk_at dksX1_addTime_3 13 rfl rfl)
theorem dX1_addTime_85 : decode cX1_addTime 85 = .ok (.iadd, 1) := dk_96 (dk_at dksX1_addTime_3 14 rfl rfl)
theorem dX1_addTime_86 : decode cX1_addTime 86 = .ok (.iload_n 2, 1) := dk_28 (dk_at dksX1_addTime_3 15 rfl rfl)
theorem dX1_addTime_87 : decode cX1_addTime 87 = .ok (.iastore, 1) := dk_79 (dk_at dksX1_addTime_3 16 rfl rfl)
theorem dX1_addTime_88 : decode cX1_addTime 88 = .ok (.aload_n 0, 1) := dk_42 (dk_at dksX1_addTime_3 17 rfl rfl)
theorem dX1_addTime_89 : decode cX1_addTime 89 = .ok (.getfield 28, 3) := dk_180 0 28 (dk_at dksX1_addTime_3 18 rfl rfl)
theorem dX1_addTime_92 : decode cX1_addTime 92 = .ok (.iconst 4, 1) := dk_7 (dk_at dksX1_addTime_3 21 rfl rfl)
theorem dX1_addTime_93 : decode cX1_addTime 93 = .ok (.aload_n 0, 1) := dk_42 (dk_at dksX1_addTime_3 22 rfl rfl)
theorem dX1_addTime_94 : decode cX1_addTime 94 = .ok (.getfield 53, 3) := dk_180 0 53 (dk_at dksX1_addTime_4 0 rfl rfl)
theorem dX1_addTime_97 : decode cX1_addTime 97 = .ok (.imul, 1) := dk_104 (dk_at dksX1_addTime_4 3 rfl rfl)
theorem dX1_addTime_98 : decode cX1_addTime 98 = .ok (.iconst 2, 1) := dk_5 (dk_at dksX1_addTime_4 4 rfl rfl)
theorem dX1_addTime_99 : decode cX1_addTime 99 = .ok (.iadd, 1) := dk_96 (dk_at dksX1_addTime_4 5 rfl rfl)
theorem dX1_addTime_100 : decode cX1_addTime 100 = .ok (.iload_n 3, 1) := dk_29 (dk_at dksX1_addTime_4 6 rfl rfl)
theorem dX1_addTime_101 : decode cX1_addTime 101 = .ok (.iastore, 1) := dk_79 (dk_at dksX1_addTime_4 7 rfl rfl)
theorem dX1_addTime_102 : decode cX1_addTime 102 = .ok (.aload_n 0, 1) := dk_42 (dk_at dksX1_addTime_4 8 rfl rfl)
theorem dX1_addTime_103 : decode cX1_addTime 103 = .ok (.getfield 28, 3) := dk_180 0 28 (dk_at dksX1_addTime_4 9 rfl rfl)
theorem dX1_addTime_106 : decode cX1_addTime 106 = .ok (.iconst 4, 1) := dk_7 (dk_at dksX1_addTime_4 12 rfl rfl)
theorem dX1_addTime_107 : decode cX1_addTime 107 = .ok (.aload_n 0, 1) := dk_42 (dk_at dksX1_addTime_4 13 rfl rfl)
theorem dX1_addTime_108 : decode cX1_addTime 108 = .ok (.getfield 53, 3) := dk_180 0 53 (dk_at dksX1_addTime_4 14 rfl rfl)
theorem dX1_addTime_111 : decode cX1_addTime 111 = .ok (.imul, 1) := dk_104 (dk_at dksX1_addTime_4 17 rfl rfl)
theorem dX1_addTime_112 : decode cX1_addTime 112 = .ok (.iconst 3, 1) := dk_6 (dk_at dksX1_addTime_4 18 rfl rfl)
theorem dX1_addTime_113 : decode cX1_addTime 113 = .ok (.iadd, 1) := dk_96 (dk_at dksX1_addTime_4 19 rfl rfl)
theorem dX1_addTime_114 : decode cX1_addTime 114 = .ok (.iload 4, 2) := dk_21 4 (dk_at dksX1_addTime_4 20 rfl rfl)
theorem dX1_addTime_116 : decode cX1_addTime 116 = .ok (.iastore, 1) := dk_79 (dk_at dksX1_addTime_4 22 rfl rfl)
theorem dX1_addTime_117 : decode cX1_addTime 117 = .ok (.aload_n 0, 1) := dk_42 (dk_at dksX1_addTime_4 23 rfl rfl)
theorem dX1_addTime_118 : decode cX1_addTime 118 = .ok (.dup, 1) := dk_89 (dk_at dksX1_addTime_5 0 rfl rfl)
theorem dX1_addTime_119 : decode cX1_addTime 119 = .ok (.getfield 53, 3) := dk_180 0 53 (dk_at dksX1_addTime_5 1 rfl rfl)
theorem dX1_addTime_122 : decode cX1_addTime 122 = .ok (.iconst 1, 1) := dk_4 (dk_at dksX1_addTime_5 4 rfl rfl)
theorem dX1_addTime_123 : decode cX1_addTime 123 = .ok (.iadd, 1) := dk_96 (dk_at dksX1_addTime_5 5 rfl rfl)
theorem dX1_addTime_124 : decode cX1_addTime 124 = .ok (.putfield 53, 3) := dk_181 0 53 (dk_at dksX1_addTime_5 6 rfl rfl)
theorem dX1_addTime_127 : decode cX1_addTime 127 = .ok (.iconst 1, 1) := dk_4 (dk_at dksX1_addTime_5 9 rfl rfl)
theorem dX1_addTime_128 : decode cX1_addTime 128 = .ok (.ireturn, 1) := dk_172 (dk_at dksX1_addTime_5 10 rfl rfl)
abbrev cX1_standsAs : ByteArray := prog_11_method_8_code
def yX1_standsAs : MethodName := ⟨RX1, "standsAs", "(LNightStones$Road;)Z"⟩
def dkwX1_standsAs_1 : List UInt8 := [46, 160, 0, 7, 4, 167, 0, 4, 3, 126, 61, 132, 3, 1, 167, 255, 222, 28, 172]
abbrev dktX1_standsAs_1 : List UInt8 := dkwX1_standsAs_1 ++ []
def dkwX1_standsAs_0 : List UInt8 := [4, 61, 3, 62, 29, 42, 180, 0, 47, 162, 0, 32, 28, 42, 180, 0, 15, 29, 46, 43, 180, 0, 15, 29]
abbrev dktX1_standsAs_0 : List UInt8 := dkwX1_standsAs_0 ++ dktX1_standsAs_1
theorem dksX1_standsAs_0 : cX1_standsAs.data.toList.drop 0 = dktX1_standsAs_0 := by decide +kernel
theorem dksX1_standsAs_1 : cX1_standsAs.data.toList.drop 24 = dktX1_standsAs_1 := dk_seg dksX1_standsAs_0 24 rfl rfl
theorem dX1_standsAs_0 : decode cX1_standsAs 0 = .ok (.iconst 1, 1) := dk_4 (dk_at dksX1_standsAs_0 0 rfl rfl)
theorem dX1_standsAs_1 : decode cX1_standsAs 1 = .ok (.istore_n 2, 1) := dk_61 (dk_at dksX1_standsAs_0 1 rfl rfl)
theorem dX1_standsAs_2 : decode cX1_standsAs 2 = .ok (.iconst 0, 1) := dk_3 (dk_at dksX1_standsAs_0 2 rfl rfl)
theorem dX1_standsAs_3 : decode cX1_standsAs 3 = .ok (.istore_n 3, 1) := dk_62 (dk_at dksX1_standsAs_0 3 rfl rfl)
theorem dX1_standsAs_4 : decode cX1_standsAs 4 = .ok (.iload_n 3, 1) := dk_29 (dk_at dksX1_standsAs_0 4 rfl rfl)
theorem dX1_standsAs_5 : decode cX1_standsAs 5 = .ok (.aload_n 0, 1) := dk_42 (dk_at dksX1_standsAs_0 5 rfl rfl)
theorem dX1_standsAs_6 : decode cX1_standsAs 6 = .ok (.getfield 47, 3) := dk_180 0 47 (dk_at dksX1_standsAs_0 6 rfl rfl)
theorem dX1_standsAs_9 : decode cX1_standsAs 9 = .ok (.if_icmp .ge 32, 3) := dk_162 0 32 (dk_at dksX1_standsAs_0 9 rfl rfl)
theorem dX1_standsAs_12 : decode cX1_standsAs 12 = .ok (.iload_n 2, 1) := dk_28 (dk_at dksX1_standsAs_0 12 rfl rfl)
theorem dX1_standsAs_13 : decode cX1_standsAs 13 = .ok (.aload_n 0, 1) := dk_42 (dk_at dksX1_standsAs_0 13 rfl rfl)
theorem dX1_standsAs_14 : decode cX1_standsAs 14 = .ok (.getfield 15, 3) := dk_180 0 15 (dk_at dksX1_standsAs_0 14 rfl rfl)
theorem dX1_standsAs_17 : decode cX1_standsAs 17 = .ok (.iload_n 3, 1) := dk_29 (dk_at dksX1_standsAs_0 17 rfl rfl)
theorem dX1_standsAs_18 : decode cX1_standsAs 18 = .ok (.iaload, 1) := dk_46 (dk_at dksX1_standsAs_0 18 rfl rfl)
theorem dX1_standsAs_19 : decode cX1_standsAs 19 = .ok (.aload_n 1, 1) := dk_43 (dk_at dksX1_standsAs_0 19 rfl rfl)
theorem dX1_standsAs_20 : decode cX1_standsAs 20 = .ok (.getfield 15, 3) := dk_180 0 15 (dk_at dksX1_standsAs_0 20 rfl rfl)
theorem dX1_standsAs_23 : decode cX1_standsAs 23 = .ok (.iload_n 3, 1) := dk_29 (dk_at dksX1_standsAs_0 23 rfl rfl)
theorem dX1_standsAs_24 : decode cX1_standsAs 24 = .ok (.iaload, 1) := dk_46 (dk_at dksX1_standsAs_1 0 rfl rfl)
theorem dX1_standsAs_25 : decode cX1_standsAs 25 = .ok (.if_icmp .ne 7, 3) := dk_160 0 7 (dk_at dksX1_standsAs_1 1 rfl rfl)
theorem dX1_standsAs_28 : decode cX1_standsAs 28 = .ok (.iconst 1, 1) := dk_4 (dk_at dksX1_standsAs_1 4 rfl rfl)
theorem dX1_standsAs_29 : decode cX1_standsAs 29 = .ok (.goto 4, 3) := dk_167 0 4 (dk_at dksX1_standsAs_1 5 rfl rfl)
theorem dX1_standsAs_32 : decode cX1_standsAs 32 = .ok (.iconst 0, 1) := dk_3 (dk_at dksX1_standsAs_1 8 rfl rfl)
theorem dX1_standsAs_33 : decode cX1_standsAs 33 = .ok (.iand, 1) := dk_126 (dk_at dksX1_standsAs_1 9 rfl rfl)
theorem dX1_standsAs_34 : decode cX1_standsAs 34 = .ok (.istore_n 2, 1) := dk_61 (dk_at dksX1_standsAs_1 10 rfl rfl)
theorem dX1_standsAs_35 : decode cX1_standsAs 35 = .ok (.iinc 3 1, 3) := dk_132 3 1 (dk_at dksX1_standsAs_1 11 rfl rfl)
theorem dX1_standsAs_38 : decode cX1_standsAs 38 = .ok (.goto (-34), 3) := dk_167 255 222 (dk_at dksX1_standsAs_1 14 rfl rfl)
theorem dX1_standsAs_41 : decode cX1_standsAs 41 = .ok (.iload_n 2, 1) := dk_28 (dk_at dksX1_standsAs_1 17 rfl rfl)
theorem dX1_standsAs_42 : decode cX1_standsAs 42 = .ok (.ireturn, 1) := dk_172 (dk_at dksX1_standsAs_1 18 rfl rfl)
theorem q64 : (Jvm.Cond.initialized "NightStones$Road") ∈ lw_all := lw_g (lw_at lw_m1 2 rfl) rfl
theorem q109 : (Jvm.Cond.instantiable "NightStones$Road" (13 : Nat)) ∈ lw_all := lw_g (lw_at lw_m1 47 rfl) rfl
theorem q111 : (Jvm.Cond.instanceMethod ({ cls := "NightStones$Road", name := "<init>", desc := "()V" } : Jvm.MethodName)) ∈ lw_all := lw_g (lw_at lw_m1 49 rfl) rfl
theorem q112 : (Jvm.Cond.code ({ cls := "NightStones$Road", name := "<init>", desc := "()V" } : Jvm.MethodName) prog_11_method_1_code (1 : Nat) (Option.none : Option Jvm.ClassFile.FieldType)) ∈ lw_all := lw_g (lw_at lw_m1 50 rfl) rfl
theorem q113 : (Jvm.Cond.methodLink "NightStones$Road" (3 : Nat) ({ cls := "java/lang/Object", name := "<init>", desc := "()V" } : Jvm.MethodName)) ∈ lw_all := lw_g (lw_at lw_m1 51 rfl) rfl
theorem q114 : (Jvm.Cond.classLink "NightStones$Road" (21 : Nat) "java/util/ArrayList") ∈ lw_all := lw_g (lw_at lw_m1 52 rfl) rfl
theorem q116 : (Jvm.Cond.methodLink "NightStones$Road" (23 : Nat) ({ cls := "java/util/ArrayList", name := "<init>", desc := "()V" } : Jvm.MethodName)) ∈ lw_all := lw_g (lw_at lw_m1 54 rfl) rfl
theorem q142 : (Jvm.Cond.fieldLink "NightStones$Road" (34 : Nat) "NightStones$Road" "length" "I") ∈ lw_all := lw_g (lw_at lw_m1 80 rfl) rfl
theorem q145 : (Jvm.Cond.fieldLink "NightStones$Road" (38 : Nat) "NightStones$Road" "fee" "I") ∈ lw_all := lw_g (lw_at lw_m1 83 rfl) rfl
theorem q148 : (Jvm.Cond.fieldLink "NightStones$Road" (41 : Nat) "NightStones$Road" "seen" "I") ∈ lw_all := lw_g (lw_at lw_m1 86 rfl) rfl
theorem q151 : (Jvm.Cond.fieldLink "NightStones$Road" (44 : Nat) "NightStones$Road" "fine" "I") ∈ lw_all := lw_g (lw_at lw_m1 89 rfl) rfl
theorem q154 : (Jvm.Cond.fieldLink "NightStones$Road" (47 : Nat) "NightStones$Road" "stones" "I") ∈ lw_all := lw_g (lw_at lw_m1 92 rfl) rfl
theorem q157 : (Jvm.Cond.fieldLink "NightStones$Road" (9 : Nat) "NightStones$Road" "says" "[I") ∈ lw_all := lw_g (lw_at lw_m1 95 rfl) rfl
theorem q160 : (Jvm.Cond.fieldLink "NightStones$Road" (15 : Nat) "NightStones$Road" "at" "[I") ∈ lw_all := lw_g (lw_at lw_m1 98 rfl) rfl
theorem q163 : (Jvm.Cond.fieldLink "NightStones$Road" (18 : Nat) "NightStones$Road" "home" "[I") ∈ lw_all := lw_g (lw_at lw_m1 101 rfl) rfl
theorem q166 : (Jvm.Cond.fieldLink "NightStones$Road" (24 : Nat) "NightStones$Road" "movers" "Ljava/util/List;") ∈ lw_all := lw_g (lw_at lw_m1 104 rfl) rfl
theorem q169 : (Jvm.Cond.fieldLink "NightStones$Road" (50 : Nat) "NightStones$Road" "night" "I") ∈ lw_all := lw_g (lw_at lw_m1 107 rfl) rfl
theorem q171 : (Jvm.Cond.fieldLink "NightStones$Road" (28 : Nat) "NightStones$Road" "time" "[I") ∈ lw_all := lw_g (lw_at lw_m1 109 rfl) rfl
theorem q173 : (Jvm.Cond.fieldLink "NightStones$Road" (53 : Nat) "NightStones$Road" "times" "I") ∈ lw_all := lw_g (lw_at lw_m1 111 rfl) rfl
theorem q175 : (Jvm.Cond.fieldLink "NightStones$Road" (31 : Nat) "NightStones$Road" "was" "[I") ∈ lw_all := lw_g (lw_at lw_m1 113 rfl) rfl
theorem q176 : (Jvm.Cond.lays "NightStones$Road" "NightStones$Road" "length" "I") ∈ lw_all := lw_g (lw_at lw_m1 114 rfl) rfl
theorem q177 : (Jvm.Cond.soleField "NightStones$Road" "length") ∈ lw_all := lw_g (lw_at lw_m1 115 rfl) rfl
theorem q178 : (Jvm.Cond.lays "NightStones$Road" "NightStones$Road" "fee" "I") ∈ lw_all := lw_g (lw_at lw_m1 116 rfl) rfl
theorem q179 : (Jvm.Cond.soleField "NightStones$Road" "fee") ∈ lw_all := lw_g (lw_at lw_m1 117 rfl) rfl
theorem q180 : (Jvm.Cond.lays "NightStones$Road" "NightStones$Road" "seen" "I") ∈ lw_all := lw_g (lw_at lw_m1 118 rfl) rfl
theorem q181 : (Jvm.Cond.soleField "NightStones$Road" "seen") ∈ lw_all := lw_g (lw_at lw_m1 119 rfl) rfl
theorem q182 : (Jvm.Cond.lays "NightStones$Road" "NightStones$Road" "fine" "I") ∈ lw_all := lw_g (lw_at lw_m1 120 rfl) rfl
theorem q183 : (Jvm.Cond.soleField "NightStones$Road" "fine") ∈ lw_all := lw_g (lw_at lw_m1 121 rfl) rfl
theorem q184 : (Jvm.Cond.lays "NightStones$Road" "NightStones$Road" "stones" "I") ∈ lw_all := lw_g (lw_at lw_m1 122 rfl) rfl
theorem q185 : (Jvm.Cond.soleField "NightStones$Road" "stones") ∈ lw_all := lw_g (lw_at lw_m1 123 rfl) rfl
theorem q186 : (Jvm.Cond.laysFinal "NightStones$Road" "NightStones$Road" "says" "[I") ∈ lw_all := lw_g (lw_at lw_m1 124 rfl) rfl
theorem q187 : (Jvm.Cond.soleField "NightStones$Road" "says") ∈ lw_all := lw_g (lw_at lw_m1 125 rfl) rfl
theorem q188 : (Jvm.Cond.laysFinal "NightStones$Road" "NightStones$Road" "at" "[I") ∈ lw_all := lw_g (lw_at lw_m1 126 rfl) rfl
theorem q189 : (Jvm.Cond.soleField "NightStones$Road" "at") ∈ lw_all := lw_g (lw_at lw_m1 127 rfl) rfl
theorem q190 : (Jvm.Cond.laysFinal "NightStones$Road" "NightStones$Road" "home" "[I") ∈ lw_all := lw_g (lw_at lw_m1 128 rfl) rfl
theorem q191 : (Jvm.Cond.soleField "NightStones$Road" "home") ∈ lw_all := lw_g (lw_at lw_m1 129 rfl) rfl
theorem q192 : (Jvm.Cond.lays "NightStones$Road" "NightStones$Road" "movers" "Ljava/util/List;") ∈ lw_all := lw_g (lw_at lw_m1 130 rfl) rfl
theorem q193 : (Jvm.Cond.soleField "NightStones$Road" "movers") ∈ lw_all := lw_g (lw_at lw_m1 131 rfl) rfl
theorem q194 : (Jvm.Cond.lays "NightStones$Road" "NightStones$Road" "night" "I") ∈ lw_all := lw_g (lw_at lw_m1 132 rfl) rfl
theorem q195 : (Jvm.Cond.soleField "NightStones$Road" "night") ∈ lw_all := lw_g (lw_at lw_m1 133 rfl) rfl
theorem q196 : (Jvm.Cond.laysFinal "NightStones$Road" "NightStones$Road" "time" "[I") ∈ lw_all := lw_g (lw_at lw_m1 134 rfl) rfl
theorem q197 : (Jvm.Cond.soleField "NightStones$Road" "time") ∈ lw_all := lw_g (lw_at lw_m1 135 rfl) rfl
theorem q198 : (Jvm.Cond.lays "NightStones$Road" "NightStones$Road" "times" "I") ∈ lw_all := lw_g (lw_at lw_m1 136 rfl) rfl
theorem q199 : (Jvm.Cond.soleField "NightStones$Road" "times") ∈ lw_all := lw_g (lw_at lw_m1 137 rfl) rfl
theorem q200 : (Jvm.Cond.laysFinal "NightStones$Road" "NightStones$Road" "was" "[I") ∈ lw_all := lw_g (lw_at lw_m1 138 rfl) rfl
theorem q201 : (Jvm.Cond.soleField "NightStones$Road" "was") ∈ lw_all := lw_g (lw_at lw_m1 139 rfl) rfl
theorem q202 : (Jvm.Cond.superclass "NightStones$Road" "java/lang/Object") ∈ lw_all := lw_g (lw_at lw_m1 140 rfl) rfl
theorem q748 : (Jvm.Cond.fieldLink "NightStones$Road" (76 : Nat) "NightStones$Mover" "stone" "I") ∈ lw_all := lw_g (lw_at lw_m3 206 rfl) rfl
theorem q844 : (Jvm.Cond.selects "NightStones$Road" ({ cls := "java/lang/Object", name := "getClass", desc := "()Ljava/lang/Class;" } : Jvm.MethodName) ({ cls := "java/lang/Object", name := "getClass", desc := "()Ljava/lang/Class;" } : Jvm.MethodName)) ∈ lw_all := lw_g (lw_at lw_m4 62 rfl) rfl
theorem q864 : (Jvm.Cond.instanceMethod ({ cls := "NightStones$Road", name := "goHome", desc := "()LNightStones$Road;" } : Jvm.MethodName)) ∈ lw_all := lw_g (lw_at lw_m4 82 rfl) rfl
theorem q865 : (Jvm.Cond.selects "NightStones$Road" ({ cls := "NightStones$Road", name := "goHome", desc := "()LNightStones$Road;" } : Jvm.MethodName) ({ cls := "NightStones$Road", name := "goHome", desc := "()LNightStones$Road;" } : Jvm.MethodName)) ∈ lw_all := lw_g (lw_at lw_m4 83 rfl) rfl
theorem q866 : (Jvm.Cond.code ({ cls := "NightStones$Road", name := "goHome", desc := "()LNightStones$Road;" } : Jvm.MethodName) prog_11_method_3_code (1 : Nat) (Option.some (Jvm.ClassFile.FieldType.object "NightStones$Road"))) ∈ lw_all := lw_g (lw_at lw_m4 84 rfl) rfl
theorem q867 : (Jvm.Cond.methodLink "NightStones$Road" (56 : Nat) ({ cls := "java/lang/System", name := "arraycopy", desc := "(Ljava/lang/Object;ILjava/lang/Object;II)V" } : Jvm.MethodName)) ∈ lw_all := lw_g (lw_at lw_m4 85 rfl) rfl
theorem q870 : (Jvm.Cond.instanceMethod ({ cls := "NightStones$Road", name := "become", desc := "(LNightStones$Road;)LNightStones$Road;" } : Jvm.MethodName)) ∈ lw_all := lw_g (lw_at lw_m4 88 rfl) rfl
theorem q871 : (Jvm.Cond.selects "NightStones$Road" ({ cls := "NightStones$Road", name := "become", desc := "(LNightStones$Road;)LNightStones$Road;" } : Jvm.MethodName) ({ cls := "NightStones$Road", name := "become", desc := "(LNightStones$Road;)LNightStones$Road;" } : Jvm.MethodName)) ∈ lw_all := lw_g (lw_at lw_m4 89 rfl) rfl
theorem q872 : (Jvm.Cond.code ({ cls := "NightStones$Road", name := "become", desc := "(LNightStones$Road;)LNightStones$Road;" } : Jvm.MethodName) prog_11_method_2_code (2 : Nat) (Option.some (Jvm.ClassFile.FieldType.object "NightStones$Road"))) ∈ lw_all := lw_g (lw_at lw_m4 90 rfl) rfl
theorem q891 : (Jvm.Cond.instanceMethod ({ cls := "NightStones$Road", name := "all", desc := "()I" } : Jvm.MethodName)) ∈ lw_all := lw_g (lw_at lw_m4 109 rfl) rfl
theorem q892 : (Jvm.Cond.selects "NightStones$Road" ({ cls := "NightStones$Road", name := "all", desc := "()I" } : Jvm.MethodName) ({ cls := "NightStones$Road", name := "all", desc := "()I" } : Jvm.MethodName)) ∈ lw_all := lw_g (lw_at lw_m4 110 rfl) rfl
theorem q893 : (Jvm.Cond.code ({ cls := "NightStones$Road", name := "all", desc := "()I" } : Jvm.MethodName) prog_11_method_7_code (1 : Nat) (Option.some Jvm.ClassFile.FieldType.int)) ∈ lw_all := lw_g (lw_at lw_m4 111 rfl) rfl
theorem q894 : (Jvm.Cond.interfaceEntry "NightStones$Road" (82 : Nat)) ∈ lw_tbl := lw_at lw_m4 112 rfl
theorem q895 : (Jvm.Cond.methodLink "NightStones$Road" (82 : Nat) ({ cls := "java/util/List", name := "size", desc := "()I" } : Jvm.MethodName)) ∈ lw_all := lw_g (lw_at lw_m4 113 rfl) rfl
theorem q897 : (Jvm.Cond.instanceMethod ({ cls := "NightStones$Road", name := "pass", desc := "(I)I" } : Jvm.MethodName)) ∈ lw_all := lw_g (lw_at lw_m4 115 rfl) rfl
theorem q898 : (Jvm.Cond.selects "NightStones$Road" ({ cls := "NightStones$Road", name := "pass", desc := "(I)I" } : Jvm.MethodName) ({ cls := "NightStones$Road", name := "pass", desc := "(I)I" } : Jvm.MethodName)) ∈ lw_all := lw_g (lw_at lw_m4 116 rfl) rfl
theorem q899 : (Jvm.Cond.code ({ cls := "NightStones$Road", name := "pass", desc := "(I)I" } : Jvm.MethodName) prog_11_method_6_code (4 : Nat) (Option.some Jvm.ClassFile.FieldType.int)) ∈ lw_all := lw_g (lw_at lw_m4 117 rfl) rfl
theorem q900 : (Jvm.Cond.interfaceEntry "NightStones$Road" (87 : Nat)) ∈ lw_tbl := lw_at lw_m4 118 rfl
theorem q901 : (Jvm.Cond.methodLink "NightStones$Road" (87 : Nat) ({ cls := "java/util/List", name := "get", desc := "(I)Ljava/lang/Object;" } : Jvm.MethodName)) ∈ lw_all := lw_g (lw_at lw_m4 119 rfl) rfl
theorem q917 : (Jvm.Cond.classLink "NightStones$Road" (67 : Nat) "NightStones$Mover") ∈ lw_all := lw_g (lw_at lw_m4 135 rfl) rfl
theorem q918 : (Jvm.Cond.methodLinkNest "NightStones$Road" (91 : Nat) ({ cls := "NightStones", name := "has", desc := "(II)Z" } : Jvm.MethodName) "NightStones") ∈ lw_tbl := lw_at lw_m4 136 rfl
theorem q921 : (Jvm.Cond.methodLink "NightStones$Road" (95 : Nat) ({ cls := "NightStones$Mover", name := "isOut", desc := "(IZ)Z" } : Jvm.MethodName)) ∈ lw_all := lw_g (lw_at lw_m4 139 rfl) rfl
theorem q934 : (Jvm.Cond.methodLink "NightStones$Road" (99 : Nat) ({ cls := "NightStones$Road", name := "push", desc := "(LNightStones$Mover;)V" } : Jvm.MethodName)) ∈ lw_all := lw_g (lw_at lw_m4 152 rfl) rfl
theorem q935 : (Jvm.Cond.privateMethod ({ cls := "NightStones$Road", name := "push", desc := "(LNightStones$Mover;)V" } : Jvm.MethodName)) ∈ lw_tbl := lw_at lw_m4 153 rfl
theorem q936 : (Jvm.Cond.instanceMethod ({ cls := "NightStones$Road", name := "push", desc := "(LNightStones$Mover;)V" } : Jvm.MethodName)) ∈ lw_all := lw_g (lw_at lw_m4 154 rfl) rfl
theorem q937 : (Jvm.Cond.code ({ cls := "NightStones$Road", name := "push", desc := "(LNightStones$Mover;)V" } : Jvm.MethodName) prog_11_method_5_code (4 : Nat) (Option.none : Option Jvm.ClassFile.FieldType)) ∈ lw_all := lw_g (lw_at lw_m4 155 rfl) rfl
theorem q938 : (Jvm.Cond.methodLink "NightStones$Road" (66 : Nat) ({ cls := "NightStones$Mover", name := "goesOutward", desc := "(I)Z" } : Jvm.MethodName)) ∈ lw_all := lw_g (lw_at lw_m4 156 rfl) rfl
theorem q951 : (Jvm.Cond.methodLink "NightStones$Road" (72 : Nat) ({ cls := "NightStones$Mover", name := "yards", desc := "()I" } : Jvm.MethodName)) ∈ lw_all := lw_g (lw_at lw_m4 169 rfl) rfl
theorem q965 : (Jvm.Cond.methodLink "NightStones$Road" (79 : Nat) ({ cls := "NightStones$Road", name := "isFree", desc := "(I)Z" } : Jvm.MethodName)) ∈ lw_all := lw_g (lw_at lw_m4 183 rfl) rfl
theorem q966 : (Jvm.Cond.privateMethod ({ cls := "NightStones$Road", name := "isFree", desc := "(I)Z" } : Jvm.MethodName)) ∈ lw_tbl := lw_at lw_m4 184 rfl
theorem q967 : (Jvm.Cond.instanceMethod ({ cls := "NightStones$Road", name := "isFree", desc := "(I)Z" } : Jvm.MethodName)) ∈ lw_all := lw_g (lw_at lw_m4 185 rfl) rfl
theorem q968 : (Jvm.Cond.code ({ cls := "NightStones$Road", name := "isFree", desc := "(I)Z" } : Jvm.MethodName) prog_11_method_4_code (4 : Nat) (Option.some Jvm.ClassFile.FieldType.boolean)) ∈ lw_all := lw_g (lw_at lw_m4 186 rfl) rfl
theorem q969 : (Jvm.Cond.methodLinkNest "NightStones$Road" (62 : Nat) ({ cls := "NightStones", name := "isIn", desc := "(JJJ)Z" } : Jvm.MethodName) "NightStones") ∈ lw_tbl := lw_at lw_m4 187 rfl
theorem q979 : (Jvm.Cond.instanceMethod ({ cls := "NightStones$Road", name := "canGoHome", desc := "(I)Z" } : Jvm.MethodName)) ∈ lw_all := lw_g (lw_at lw_m4 197 rfl) rfl
theorem q980 : (Jvm.Cond.selects "NightStones$Road" ({ cls := "NightStones$Road", name := "canGoHome", desc := "(I)Z" } : Jvm.MethodName) ({ cls := "NightStones$Road", name := "canGoHome", desc := "(I)Z" } : Jvm.MethodName)) ∈ lw_all := lw_g (lw_at lw_m4 198 rfl) rfl
theorem q981 : (Jvm.Cond.code ({ cls := "NightStones$Road", name := "canGoHome", desc := "(I)Z" } : Jvm.MethodName) prog_11_method_9_code (6 : Nat) (Option.some Jvm.ClassFile.FieldType.boolean)) ∈ lw_all := lw_g (lw_at lw_m4 199 rfl) rfl
theorem q982 : (Jvm.Cond.methodLink "NightStones$Road" (103 : Nat) ({ cls := "java/lang/Math", name := "min", desc := "(II)I" } : Jvm.MethodName)) ∈ lw_all := lw_g (lw_at lw_m4 200 rfl) rfl
theorem q983 : (Jvm.Cond.methodLink "NightStones$Road" (109 : Nat) ({ cls := "java/lang/Math", name := "max", desc := "(II)I" } : Jvm.MethodName)) ∈ lw_all := lw_g (lw_at lw_m4 201 rfl) rfl
theorem q1007 : (Jvm.Cond.instanceMethod ({ cls := "NightStones$Road", name := "addTime", desc := "(IIII)Z" } : Jvm.MethodName)) ∈ lw_all := lw_g (lw_at lw_m4 225 rfl) rfl
theorem q1008 : (Jvm.Cond.selects "NightStones$Road" ({ cls := "NightStones$Road", name := "addTime", desc := "(IIII)Z" } : Jvm.MethodName) ({ cls := "NightStones$Road", name := "addTime", desc := "(IIII)Z" } : Jvm.MethodName)) ∈ lw_all := lw_g (lw_at lw_m4 226 rfl) rfl
theorem q1009 : (Jvm.Cond.code ({ cls := "NightStones$Road", name := "addTime", desc := "(IIII)Z" } : Jvm.MethodName) prog_11_method_10_code (5 : Nat) (Option.some Jvm.ClassFile.FieldType.boolean)) ∈ lw_all := lw_g (lw_at lw_m4 227 rfl) rfl
theorem q1010 : (Jvm.Cond.constantLong "NightStones$Road" (112 : Nat) (20 : Int64)) ∈ lw_all := lw_g (lw_at lw_m4 228 rfl) rfl
theorem q1011 : (Jvm.Cond.constantLong "NightStones$Road" (114 : Nat) (99 : Int64)) ∈ lw_all := lw_g (lw_at lw_m4 229 rfl) rfl
theorem q1071 : (Jvm.Cond.instanceMethod ({ cls := "NightStones$Road", name := "standsAs", desc := "(LNightStones$Road;)Z" } : Jvm.MethodName)) ∈ lw_all := lw_g (lw_at lw_m5 49 rfl) rfl
theorem q1072 : (Jvm.Cond.selects "NightStones$Road" ({ cls := "NightStones$Road", name := "standsAs", desc := "(LNightStones$Road;)Z" } : Jvm.MethodName) ({ cls := "NightStones$Road", name := "standsAs", desc := "(LNightStones$Road;)Z" } : Jvm.MethodName)) ∈ lw_all := lw_g (lw_at lw_m5 50 rfl) rfl
theorem q1073 : (Jvm.Cond.code ({ cls := "NightStones$Road", name := "standsAs", desc := "(LNightStones$Road;)Z" } : Jvm.MethodName) prog_11_method_8_code (4 : Nat) (Option.some Jvm.ClassFile.FieldType.boolean)) ∈ lw_all := lw_g (lw_at lw_m5 51 rfl) rfl
theorem q1676 : (Jvm.Cond.castable "NightStones$Road" "java/lang/Object") ∈ lw_tbl := lw_at lw_m7 174 rfl
theorem in_X1 : ∀ w ∈ wsX10, w ∈ lw_all := lw_in wsX10 [176, 178, 180, 182, 184, 186, 188, 190, 192, 194, 196, 198, 200] (by decide +kernel) (by decide +kernel)
/-! NightStones$Trail -/
set_option maxRecDepth 100000
def RX2 : String := "NightStones$Trail"
def TX2 : u_T := fun k => match k with
  | 0 => ("NightStones$Trail", "body", "[I", true)
  | _ => ("NightStones$Trail", "many", "I", false)
def tyX2 : Nat → FieldType := fun k => match k with
  | 0 => .array .int
  | _ => .int
abbrev wsX20 : List Cond := u_ws RX2 TX2 2
theorem nmX2 : ∀ a, a < 2 → ∀ b, b < 2 → a ≠ b → (TX2 a).2.1 ≠ (TX2 b).2.1 := by decide +kernel
theorem tyX2_ok : ∀ k, k < 2 → parseFieldDescriptor (TX2 k).2.2.1 = some (tyX2 k) := by decide +kernel
abbrev cX2_init : ByteArray := prog_14_method_1_code
def yX2_init : MethodName := ⟨RX2, "<init>", "()V"⟩
def dkwX2_init_0 : List UInt8 := [42, 183, 0, 3, 42, 16, 16, 188, 10, 181, 0, 9, 177]
abbrev dktX2_init_0 : List UInt8 := dkwX2_init_0 ++ []
theorem dksX2_init_0 : cX2_init.data.toList.drop 0 = dktX2_init_0 := by decide +kernel
theorem dX2_init_0 : decode cX2_init 0 = .ok (.aload_n 0, 1) := dk_42 (dk_at dksX2_init_0 0 rfl rfl)
theorem dX2_init_1 : decode cX2_init 1 = .ok (.invokespecial 3, 3) := dk_183 0 3 (dk_at dksX2_init_0 1 rfl rfl)
theorem dX2_init_4 : decode cX2_init 4 = .ok (.aload_n 0, 1) := dk_42 (dk_at dksX2_init_0 4 rfl rfl)
theorem dX2_init_5 : decode cX2_init 5 = .ok (.bipush 16, 2) := dk_16 16 (dk_at dksX2_init_0 5 rfl rfl)
theorem dX2_init_7 : decode cX2_init 7 = .ok (.newarray .int, 2) := dk_188_10 (dk_at dksX2_init_0 7 rfl rfl)
theorem dX2_init_9 : decode cX2_init 9 = .ok (.putfield 9, 3) := dk_181 0 9 (dk_at dksX2_init_0 9 rfl rfl)
theorem dX2_init_12 : decode cX2_init 12 = .ok (.return_, 1) := dk_177 (dk_at dksX2_init_0 12 rfl rfl)
abbrev cX2_begins : ByteArray := prog_14_method_2_code
def yX2_begins : MethodName := ⟨RX2, "begins", "(I)V"⟩
def dkwX2_begins_1 : List UInt8 := [27, 79, 177]
abbrev dktX2_begins_1 : List UInt8 := dkwX2_begins_1 ++ []
def dkwX2_begins_0 : List UInt8 := [42, 180, 0, 15, 16, 16, 162, 0, 20, 42, 180, 0, 9, 42, 89, 180, 0, 15, 90, 4, 96, 181, 0, 15]
abbrev dktX2_begins_0 : List UInt8 := dkwX2_begins_0 ++ dktX2_begins_1
theorem dksX2_begins_0 : cX2_begins.data.toList.drop 0 = dktX2_begins_0 := by decide +kernel
theorem dksX2_begins_1 : cX2_begins.data.toList.drop 24 = dktX2_begins_1 := dk_seg dksX2_begins_0 24 rfl rfl
theorem dX2_begins_0 : decode cX2_begins 0 = .ok (.aload_n 0, 1) := dk_42 (dk_at dksX2_begins_0 0 rfl rfl)
theorem dX2_begins_1 : decode cX2_begins 1 = .ok (.getfield 15, 3) := dk_180 0 15 (dk_at dksX2_begins_0 1 rfl rfl)
theorem dX2_begins_4 : decode cX2_begins 4 = .ok (.bipush 16, 2) := dk_16 16 (dk_at dksX2_begins_0 4 rfl rfl)
theorem dX2_begins_6 : decode cX2_begins 6 = .ok (.if_icmp .ge 20, 3) := dk_162 0 20 (dk_at dksX2_begins_0 6 rfl rfl)
theorem dX2_begins_9 : decode cX2_begins 9 = .ok (.aload_n 0, 1) := dk_42 (dk_at dksX2_begins_0 9 rfl rfl)
theorem dX2_begins_10 : decode cX2_begins 10 = .ok (.getfield 9, 3) := dk_180 0 9 (dk_at dksX2_begins_0 10 rfl rfl)
theorem dX2_begins_13 : decode cX2_begins 13 = .ok (.aload_n 0, 1) := dk_42 (dk_at dksX2_begins_0 13 rfl rfl)
theorem dX2_begins_14 : decode cX2_begins 14 = .ok (.dup, 1) := dk_89 (dk_at dksX2_begins_0 14 rfl rfl)
theorem dX2_begins_15 : decode cX2_begins 15 = .ok (.getfield 15, 3) := dk_180 0 15 (dk_at dksX2_begins_0 15 rfl rfl)
theorem dX2_begins_18 : decode cX2_begins 18 = .ok (.dup_x1, 1) := dk_90 (dk_at dksX2_begins_0 18 rfl rfl)
theorem dX2_begins_19 : decode cX2_begins 19 = .ok (.iconst 1, 1) := dk_4 (dk_at dksX2_begins_0 19 rfl rfl)
theorem dX2_begins_20 : decode cX2_begins 20 = .ok (.iadd, 1) := dk_96 (dk_at dksX2_begins_0 20 rfl rfl)
theorem dX2_begins_21 : decode cX2_begins 21 = .ok (.putfield 15, 3) := dk_181 0 15 (dk_at dksX2_begins_0 21 rfl rfl)
theorem dX2_begins_24 : decode cX2_begins 24 = .ok (.iload_n 1, 1) := dk_27 (dk_at dksX2_begins_1 0 rfl rfl)
theorem dX2_begins_25 : decode cX2_begins 25 = .ok (.iastore, 1) := dk_79 (dk_at dksX2_begins_1 1 rfl rfl)
theorem dX2_begins_26 : decode cX2_begins 26 = .ok (.return_, 1) := dk_177 (dk_at dksX2_begins_1 2 rfl rfl)
theorem q68 : (Jvm.Cond.initialized "NightStones$Trail") ∈ lw_all := lw_g (lw_at lw_m1 6 rfl) rfl
theorem q205 : (Jvm.Cond.instantiable "NightStones$Trail" (2 : Nat)) ∈ lw_all := lw_g (lw_at lw_m1 143 rfl) rfl
theorem q207 : (Jvm.Cond.instanceMethod ({ cls := "NightStones$Trail", name := "<init>", desc := "()V" } : Jvm.MethodName)) ∈ lw_all := lw_g (lw_at lw_m1 145 rfl) rfl
theorem q208 : (Jvm.Cond.code ({ cls := "NightStones$Trail", name := "<init>", desc := "()V" } : Jvm.MethodName) prog_14_method_1_code (1 : Nat) (Option.none : Option Jvm.ClassFile.FieldType)) ∈ lw_all := lw_g (lw_at lw_m1 146 rfl) rfl
theorem q209 : (Jvm.Cond.methodLink "NightStones$Trail" (3 : Nat) ({ cls := "java/lang/Object", name := "<init>", desc := "()V" } : Jvm.MethodName)) ∈ lw_all := lw_g (lw_at lw_m1 147 rfl) rfl
theorem q210 : (Jvm.Cond.fieldLink "NightStones$Trail" (9 : Nat) "NightStones$Trail" "body" "[I") ∈ lw_all := lw_g (lw_at lw_m1 148 rfl) rfl
theorem q212 : (Jvm.Cond.fieldLink "NightStones$Trail" (15 : Nat) "NightStones$Trail" "many" "I") ∈ lw_all := lw_g (lw_at lw_m1 150 rfl) rfl
theorem q214 : (Jvm.Cond.laysFinal "NightStones$Trail" "NightStones$Trail" "body" "[I") ∈ lw_all := lw_g (lw_at lw_m1 152 rfl) rfl
theorem q215 : (Jvm.Cond.soleField "NightStones$Trail" "body") ∈ lw_all := lw_g (lw_at lw_m1 153 rfl) rfl
theorem q216 : (Jvm.Cond.lays "NightStones$Trail" "NightStones$Trail" "many" "I") ∈ lw_all := lw_g (lw_at lw_m1 154 rfl) rfl
theorem q217 : (Jvm.Cond.soleField "NightStones$Trail" "many") ∈ lw_all := lw_g (lw_at lw_m1 155 rfl) rfl
theorem q218 : (Jvm.Cond.superclass "NightStones$Trail" "java/lang/Object") ∈ lw_all := lw_g (lw_at lw_m1 156 rfl) rfl
theorem q847 : (Jvm.Cond.selects "NightStones$Trail" ({ cls := "java/lang/Object", name := "getClass", desc := "()Ljava/lang/Class;" } : Jvm.MethodName) ({ cls := "java/lang/Object", name := "getClass", desc := "()Ljava/lang/Class;" } : Jvm.MethodName)) ∈ lw_all := lw_g (lw_at lw_m4 65 rfl) rfl
theorem q1175 : (Jvm.Cond.instanceMethod ({ cls := "NightStones$Trail", name := "begins", desc := "(I)V" } : Jvm.MethodName)) ∈ lw_all := lw_g (lw_at lw_m5 153 rfl) rfl
theorem q1176 : (Jvm.Cond.selects "NightStones$Trail" ({ cls := "NightStones$Trail", name := "begins", desc := "(I)V" } : Jvm.MethodName) ({ cls := "NightStones$Trail", name := "begins", desc := "(I)V" } : Jvm.MethodName)) ∈ lw_all := lw_g (lw_at lw_m5 154 rfl) rfl
theorem q1177 : (Jvm.Cond.code ({ cls := "NightStones$Trail", name := "begins", desc := "(I)V" } : Jvm.MethodName) prog_14_method_2_code (2 : Nat) (Option.none : Option Jvm.ClassFile.FieldType)) ∈ lw_all := lw_g (lw_at lw_m5 155 rfl) rfl
theorem q1680 : (Jvm.Cond.castable "NightStones$Trail" "java/lang/Object") ∈ lw_tbl := lw_at lw_m7 178 rfl
theorem in_X2 : ∀ w ∈ wsX20, w ∈ lw_all := lw_in wsX20 [214, 216] (by decide +kernel) (by decide +kernel)
/-! NightStones$Finding -/
set_option maxRecDepth 100000
def RX4 : String := "NightStones$Finding"
def TX4 : u_T := fun k => match k with
  | 0 => ("java/lang/Throwable", "cause", "Ljava/lang/Throwable;", false)
  | 1 => ("java/lang/Throwable", "stackTrace", "[Ljava/lang/StackTraceElement;", false)
  | 2 => ("java/lang/Throwable", "suppressedExceptions", "Ljava/util/List;", false)
  | 3 => ("java/lang/Throwable", "detailMessage", "Ljava/lang/String;", false)
  | 4 => ("java/lang/Throwable", "backtrace", "Ljava/lang/Object;", false)
  | 5 => ("java/lang/Throwable", "depth", "I", false)
  | _ => ("NightStones$Finding", "number", "I", true)
def tyX4 : Nat → FieldType := fun k => match k with
  | 0 => .object "java/lang/Throwable"
  | 1 => .array (.object "java/lang/StackTraceElement")
  | 2 => .object "java/util/List"
  | 3 => .object "java/lang/String"
  | 4 => .object "java/lang/Object"
  | 5 => .int
  | _ => .int
abbrev wsX40 : List Cond := u_ws RX4 TX4 7
theorem nmX4 : ∀ a, a < 7 → ∀ b, b < 7 → a ≠ b → (TX4 a).2.1 ≠ (TX4 b).2.1 := by decide +kernel
theorem tyX4_ok : ∀ k, k < 7 → parseFieldDescriptor (TX4 k).2.2.1 = some (tyX4 k) := by decide +kernel
abbrev cX4_init : ByteArray := prog_4_method_1_code
def yX4_init : MethodName := ⟨RX4, "<init>", "(I)V"⟩
def dkwX4_init_0 : List UInt8 := [42, 1, 1, 3, 3, 183, 0, 1, 42, 27, 181, 0, 7, 177]
abbrev dktX4_init_0 : List UInt8 := dkwX4_init_0 ++ []
theorem dksX4_init_0 : cX4_init.data.toList.drop 0 = dktX4_init_0 := by decide +kernel
theorem dX4_init_0 : decode cX4_init 0 = .ok (.aload_n 0, 1) := dk_42 (dk_at dksX4_init_0 0 rfl rfl)
theorem dX4_init_1 : decode cX4_init 1 = .ok (.aconst_null, 1) := dk_1 (dk_at dksX4_init_0 1 rfl rfl)
theorem dX4_init_2 : decode cX4_init 2 = .ok (.aconst_null, 1) := dk_1 (dk_at dksX4_init_0 2 rfl rfl)
theorem dX4_init_3 : decode cX4_init 3 = .ok (.iconst 0, 1) := dk_3 (dk_at dksX4_init_0 3 rfl rfl)
theorem dX4_init_4 : decode cX4_init 4 = .ok (.iconst 0, 1) := dk_3 (dk_at dksX4_init_0 4 rfl rfl)
theorem dX4_init_5 : decode cX4_init 5 = .ok (.invokespecial 1, 3) := dk_183 0 1 (dk_at dksX4_init_0 5 rfl rfl)
theorem dX4_init_8 : decode cX4_init 8 = .ok (.aload_n 0, 1) := dk_42 (dk_at dksX4_init_0 8 rfl rfl)
theorem dX4_init_9 : decode cX4_init 9 = .ok (.iload_n 1, 1) := dk_27 (dk_at dksX4_init_0 9 rfl rfl)
theorem dX4_init_10 : decode cX4_init 10 = .ok (.putfield 7, 3) := dk_181 0 7 (dk_at dksX4_init_0 10 rfl rfl)
theorem dX4_init_13 : decode cX4_init 13 = .ok (.return_, 1) := dk_177 (dk_at dksX4_init_0 13 rfl rfl)
theorem q72 : (Jvm.Cond.initialized "NightStones$Finding") ∈ lw_all := lw_g (lw_at lw_m1 10 rfl) rfl
theorem q273 : (Jvm.Cond.instantiable "NightStones$Finding" (7 : Nat)) ∈ lw_all := lw_g (lw_at lw_m1 211 rfl) rfl
theorem q274 : (Jvm.Cond.castable "NightStones$Finding" "NightStones$Finding") ∈ lw_tbl := lw_at lw_m1 212 rfl
theorem q279 : (Jvm.Cond.selects "NightStones$Finding" ({ cls := "java/lang/Throwable", name := "fillInStackTrace", desc := "(I)Ljava/lang/Throwable;" } : Jvm.MethodName) ({ cls := "java/lang/Throwable", name := "fillInStackTrace", desc := "(I)Ljava/lang/Throwable;" } : Jvm.MethodName)) ∈ lw_all := lw_g (lw_at lw_m1 217 rfl) rfl
theorem q280 : (Jvm.Cond.selects "NightStones$Finding" ({ cls := "java/lang/Throwable", name := "fillInStackTrace", desc := "()Ljava/lang/Throwable;" } : Jvm.MethodName) ({ cls := "java/lang/Throwable", name := "fillInStackTrace", desc := "()Ljava/lang/Throwable;" } : Jvm.MethodName)) ∈ lw_all := lw_g (lw_at lw_m1 218 rfl) rfl
theorem q281 : (Jvm.Cond.lays "NightStones$Finding" "java/lang/Throwable" "cause" "Ljava/lang/Throwable;") ∈ lw_all := lw_g (lw_at lw_m1 219 rfl) rfl
theorem q283 : (Jvm.Cond.lays "NightStones$Finding" "java/lang/Throwable" "stackTrace" "[Ljava/lang/StackTraceElement;") ∈ lw_all := lw_g (lw_at lw_m1 221 rfl) rfl
theorem q285 : (Jvm.Cond.lays "NightStones$Finding" "java/lang/Throwable" "suppressedExceptions" "Ljava/util/List;") ∈ lw_all := lw_g (lw_at lw_m1 223 rfl) rfl
theorem q287 : (Jvm.Cond.lays "NightStones$Finding" "java/lang/Throwable" "detailMessage" "Ljava/lang/String;") ∈ lw_all := lw_g (lw_at lw_m1 225 rfl) rfl
theorem q289 : (Jvm.Cond.lays "NightStones$Finding" "java/lang/Throwable" "backtrace" "Ljava/lang/Object;") ∈ lw_all := lw_g (lw_at lw_m1 227 rfl) rfl
theorem q313 : (Jvm.Cond.instanceMethod ({ cls := "NightStones$Finding", name := "<init>", desc := "(I)V" } : Jvm.MethodName)) ∈ lw_all := lw_g (lw_at lw_m2 11 rfl) rfl
theorem q314 : (Jvm.Cond.code ({ cls := "NightStones$Finding", name := "<init>", desc := "(I)V" } : Jvm.MethodName) prog_4_method_1_code (2 : Nat) (Option.none : Option Jvm.ClassFile.FieldType)) ∈ lw_all := lw_g (lw_at lw_m2 12 rfl) rfl
theorem q315 : (Jvm.Cond.methodLink "NightStones$Finding" (1 : Nat) ({ cls := "java/lang/Exception", name := "<init>", desc := "(Ljava/lang/String;Ljava/lang/Throwable;ZZ)V" } : Jvm.MethodName)) ∈ lw_all := lw_g (lw_at lw_m2 13 rfl) rfl
theorem q321 : (Jvm.Cond.fieldLink "NightStones$Finding" (7 : Nat) "NightStones$Finding" "number" "I") ∈ lw_all := lw_g (lw_at lw_m2 19 rfl) rfl
theorem q328 : (Jvm.Cond.laysFinal "NightStones$Finding" "NightStones$Finding" "number" "I") ∈ lw_all := lw_g (lw_at lw_m2 26 rfl) rfl
theorem q329 : (Jvm.Cond.soleField "NightStones$Finding" "number") ∈ lw_all := lw_g (lw_at lw_m2 27 rfl) rfl
theorem q334 : (Jvm.Cond.lays "NightStones$Finding" "java/lang/Throwable" "depth" "I") ∈ lw_all := lw_g (lw_at lw_m2 32 rfl) rfl
theorem q337 : (Jvm.Cond.superclass "NightStones$Finding" "java/lang/Exception") ∈ lw_all := lw_g (lw_at lw_m2 35 rfl) rfl
theorem q839 : (Jvm.Cond.selects "NightStones$Finding" ({ cls := "java/lang/Object", name := "getClass", desc := "()Ljava/lang/Class;" } : Jvm.MethodName) ({ cls := "java/lang/Object", name := "getClass", desc := "()Ljava/lang/Class;" } : Jvm.MethodName)) ∈ lw_all := lw_g (lw_at lw_m4 57 rfl) rfl
theorem q1682 : (Jvm.Cond.castable "NightStones$Finding" "java/lang/Object") ∈ lw_tbl := lw_at lw_m7 180 rfl
theorem in_X4 : ∀ w ∈ wsX40, w ∈ lw_all := lw_in wsX40 [281, 283, 285, 287, 289, 334, 328] (by decide +kernel) (by decide +kernel)
/-! NightStones$Row -/
set_option maxRecDepth 100000
def RX5 : String := "NightStones$Row"
def TX5 : u_T := fun k => match k with
  | 0 => ("NightStones$Row", "lane", "I", true)
  | _ => ("NightStones$Row", "items", "[I", true)
def tyX5 : Nat → FieldType := fun k => match k with
  | 0 => .int
  | _ => .array .int
abbrev wsX50 : List Cond := u_ws RX5 TX5 2
theorem nmX5 : ∀ a, a < 2 → ∀ b, b < 2 → a ≠ b → (TX5 a).2.1 ≠ (TX5 b).2.1 := by decide +kernel
theorem tyX5_ok : ∀ k, k < 2 → parseFieldDescriptor (TX5 k).2.2.1 = some (tyX5 k) := by decide +kernel
abbrev cX5_init : ByteArray := prog_12_method_1_code
def yX5_init : MethodName := ⟨RX5, "<init>", "(II)V"⟩
def dkwX5_init_0 : List UInt8 := [42, 183, 0, 3, 42, 27, 181, 0, 9, 42, 28, 188, 10, 181, 0, 15, 177]
abbrev dktX5_init_0 : List UInt8 := dkwX5_init_0 ++ []
theorem dksX5_init_0 : cX5_init.data.toList.drop 0 = dktX5_init_0 := by decide +kernel
theorem dX5_init_0 : decode cX5_init 0 = .ok (.aload_n 0, 1) := dk_42 (dk_at dksX5_init_0 0 rfl rfl)
theorem dX5_init_1 : decode cX5_init 1 = .ok (.invokespecial 3, 3) := dk_183 0 3 (dk_at dksX5_init_0 1 rfl rfl)
theorem dX5_init_4 : decode cX5_init 4 = .ok (.aload_n 0, 1) := dk_42 (dk_at dksX5_init_0 4 rfl rfl)
theorem dX5_init_5 : decode cX5_init 5 = .ok (.iload_n 1, 1) := dk_27 (dk_at dksX5_init_0 5 rfl rfl)
theorem dX5_init_6 : decode cX5_init 6 = .ok (.putfield 9, 3) := dk_181 0 9 (dk_at dksX5_init_0 6 rfl rfl)
theorem dX5_init_9 : decode cX5_init 9 = .ok (.aload_n 0, 1) := dk_42 (dk_at dksX5_init_0 9 rfl rfl)
theorem dX5_init_10 : decode cX5_init 10 = .ok (.iload_n 2, 1) := dk_28 (dk_at dksX5_init_0 10 rfl rfl)
theorem dX5_init_11 : decode cX5_init 11 = .ok (.newarray .int, 2) := dk_188_10 (dk_at dksX5_init_0 11 rfl rfl)
theorem dX5_init_13 : decode cX5_init 13 = .ok (.putfield 15, 3) := dk_181 0 15 (dk_at dksX5_init_0 13 rfl rfl)
theorem dX5_init_16 : decode cX5_init 16 = .ok (.return_, 1) := dk_177 (dk_at dksX5_init_0 16 rfl rfl)
abbrev cX5_cut : ByteArray := prog_12_method_2_code
def yX5_cut : MethodName := ⟨RX5, "cut", "(I)I"⟩
def dkwX5_cut_1 : List UInt8 := [167, 0, 4, 27, 172]
abbrev dktX5_cut_1 : List UInt8 := dkwX5_cut_1 ++ []
def dkwX5_cut_0 : List UInt8 := [42, 180, 0, 9, 154, 0, 8, 27, 145, 167, 0, 17, 42, 180, 0, 9, 4, 160, 0, 8, 27, 147]
abbrev dktX5_cut_0 : List UInt8 := dkwX5_cut_0 ++ dktX5_cut_1
theorem dksX5_cut_0 : cX5_cut.data.toList.drop 0 = dktX5_cut_0 := by decide +kernel
theorem dksX5_cut_1 : cX5_cut.data.toList.drop 22 = dktX5_cut_1 := dk_seg dksX5_cut_0 22 rfl rfl
theorem dX5_cut_0 : decode cX5_cut 0 = .ok (.aload_n 0, 1) := dk_42 (dk_at dksX5_cut_0 0 rfl rfl)
theorem dX5_cut_1 : decode cX5_cut 1 = .ok (.getfield 9, 3) := dk_180 0 9 (dk_at dksX5_cut_0 1 rfl rfl)
theorem dX5_cut_4 : decode cX5_cut 4 = .ok (.ifCond .ne 8, 3) := dk_154 0 8 (dk_at dksX5_cut_0 4 rfl rfl)
theorem dX5_cut_7 : decode cX5_cut 7 = .ok (.iload_n 1, 1) := dk_27 (dk_at dksX5_cut_0 7 rfl rfl)
theorem dX5_cut_8 : decode cX5_cut 8 = .ok (.i2b, 1) := dk_145 (dk_at dksX5_cut_0 8 rfl rfl)
theorem dX5_cut_9 : decode cX5_cut 9 = .ok (.goto 17, 3) := dk_167 0 17 (dk_at dksX5_cut_0 9 rfl rfl)
theorem dX5_cut_12 : decode cX5_cut 12 = .ok (.aload_n 0, 1) := dk_42 (dk_at dksX5_cut_0 12 rfl rfl)
theorem dX5_cut_13 : decode cX5_cut 13 = .ok (.getfield 9, 3) := dk_180 0 9 (dk_at dksX5_cut_0 13 rfl rfl)
theorem dX5_cut_16 : decode cX5_cut 16 = .ok (.iconst 1, 1) := dk_4 (dk_at dksX5_cut_0 16 rfl rfl)
theorem dX5_cut_17 : decode cX5_cut 17 = .ok (.if_icmp .ne 8, 3) := dk_160 0 8 (dk_at dksX5_cut_0 17 rfl rfl)
theorem dX5_cut_20 : decode cX5_cut 20 = .ok (.iload_n 1, 1) := dk_27 (dk_at dksX5_cut_0 20 rfl rfl)
theorem dX5_cut_21 : decode cX5_cut 21 = .ok (.i2s, 1) := dk_147 (dk_at dksX5_cut_0 21 rfl rfl)
theorem dX5_cut_22 : decode cX5_cut 22 = .ok (.goto 4, 3) := dk_167 0 4 (dk_at dksX5_cut_1 0 rfl rfl)
theorem dX5_cut_25 : decode cX5_cut 25 = .ok (.iload_n 1, 1) := dk_27 (dk_at dksX5_cut_1 3 rfl rfl)
theorem dX5_cut_26 : decode cX5_cut 26 = .ok (.ireturn, 1) := dk_172 (dk_at dksX5_cut_1 4 rfl rfl)
abbrev cX5_row : ByteArray := prog_12_method_3_code
def yX5_row : MethodName := ⟨RX5, "row", "(II)[I"⟩
def dkwX5_row_1 : List UInt8 := [5, 184, 0, 19, 28, 188, 10, 78, 42, 180, 0, 15, 27, 45, 3, 28, 184, 0, 23, 45, 176]
abbrev dktX5_row_1 : List UInt8 := dkwX5_row_1 ++ []
def dkwX5_row_0 : List UInt8 := [27, 155, 0, 22, 27, 133, 28, 133, 97, 42, 180, 0, 15, 190, 133, 148, 157, 0, 7, 4, 167, 0, 4, 3]
abbrev dktX5_row_0 : List UInt8 := dkwX5_row_0 ++ dktX5_row_1
theorem dksX5_row_0 : cX5_row.data.toList.drop 0 = dktX5_row_0 := by decide +kernel
theorem dksX5_row_1 : cX5_row.data.toList.drop 24 = dktX5_row_1 := dk_seg dksX5_row_0 24 rfl rfl
theorem dX5_row_0 : decode cX5_row 0 = .ok (.iload_n 1, 1) := dk_27 (dk_at dksX5_row_0 0 rfl rfl)
theorem dX5_row_1 : decode cX5_row 1 = .ok (.ifCond .lt 22, 3) := dk_155 0 22 (dk_at dksX5_row_0 1 rfl rfl)
theorem dX5_row_4 : decode cX5_row 4 = .ok (.iload_n 1, 1) := dk_27 (dk_at dksX5_row_0 4 rfl rfl)
theorem dX5_row_5 : decode cX5_row 5 = .ok (.i2l, 1) := dk_133 (dk_at dksX5_row_0 5 rfl rfl)
theorem dX5_row_6 : decode cX5_row 6 = .ok (.iload_n 2, 1) := dk_28 (dk_at dksX5_row_0 6 rfl rfl)
theorem dX5_row_7 : decode cX5_row 7 = .ok (.i2l, 1) := dk_133 (dk_at dksX5_row_0 7 rfl rfl)
theorem dX5_row_8 : decode cX5_row 8 = .ok (.ladd, 1) := dk_97 (dk_at dksX5_row_0 8 rfl rfl)
theorem dX5_row_9 : decode cX5_row 9 = .ok (.aload_n 0, 1) := dk_42 (dk_at dksX5_row_0 9 rfl rfl)
theorem dX5_row_10 : decode cX5_row 10 = .ok (.getfield 15, 3) := dk_180 0 15 (dk_at dksX5_row_0 10 rfl rfl)
theorem dX5_row_13 : decode cX5_row 13 = .ok (.arraylength, 1) := dk_190 (dk_at dksX5_row_0 13 rfl rfl)
theorem dX5_row_14 : decode cX5_row 14 = .ok (.i2l, 1) := dk_133 (dk_at dksX5_row_0 14 rfl rfl)
theorem dX5_row_15 : decode cX5_row 15 = .ok (.lcmp, 1) := dk_148 (dk_at dksX5_row_0 15 rfl rfl)
theorem dX5_row_16 : decode cX5_row 16 = .ok (.ifCond .gt 7, 3) := dk_157 0 7 (dk_at dksX5_row_0 16 rfl rfl)
theorem dX5_row_19 : decode cX5_row 19 = .ok (.iconst 1, 1) := dk_4 (dk_at dksX5_row_0 19 rfl rfl)
theorem dX5_row_20 : decode cX5_row 20 = .ok (.goto 4, 3) := dk_167 0 4 (dk_at dksX5_row_0 20 rfl rfl)
theorem dX5_row_23 : decode cX5_row 23 = .ok (.iconst 0, 1) := dk_3 (dk_at dksX5_row_0 23 rfl rfl)
theorem dX5_row_24 : decode cX5_row 24 = .ok (.iconst 2, 1) := dk_5 (dk_at dksX5_row_1 0 rfl rfl)
theorem dX5_row_25 : decode cX5_row 25 = .ok (.invokestatic 19, 3) := dk_184 0 19 (dk_at dksX5_row_1 1 rfl rfl)
theorem dX5_row_28 : decode cX5_row 28 = .ok (.iload_n 2, 1) := dk_28 (dk_at dksX5_row_1 4 rfl rfl)
theorem dX5_row_29 : decode cX5_row 29 = .ok (.newarray .int, 2) := dk_188_10 (dk_at dksX5_row_1 5 rfl rfl)
theorem dX5_row_31 : decode cX5_row 31 = .ok (.astore_n 3, 1) := dk_78 (dk_at dksX5_row_1 7 rfl rfl)
theorem dX5_row_32 : decode cX5_row 32 = .ok (.aload_n 0, 1) := dk_42 (dk_at dksX5_row_1 8 rfl rfl)
theorem dX5_row_33 : decode cX5_row 33 = .ok (.getfield 15, 3) := dk_180 0 15 (dk_at dksX5_row_1 9 rfl rfl)
theorem dX5_row_36 : decode cX5_row 36 = .ok (.iload_n 1, 1) := dk_27 (dk_at dksX5_row_1 12 rfl rfl)
theorem dX5_row_37 : decode cX5_row 37 = .ok (.aload_n 3, 1) := dk_45 (dk_at dksX5_row_1 13 rfl rfl)
theorem dX5_row_38 : decode cX5_row 38 = .ok (.iconst 0, 1) := dk_3 (dk_at dksX5_row_1 14 rfl rfl)
theorem dX5_row_39 : decode cX5_row 39 = .ok (.iload_n 2, 1) := dk_28 (dk_at dksX5_row_1 15 rfl rfl)
theorem dX5_row_40 : decode cX5_row 40 = .ok (.invokestatic 23, 3) := dk_184 0 23 (dk_at dksX5_row_1 16 rfl rfl)
theorem dX5_row_43 : decode cX5_row 43 = .ok (.aload_n 3, 1) := dk_45 (dk_at dksX5_row_1 19 rfl rfl)
theorem dX5_row_44 : decode cX5_row 44 = .ok (.areturn, 1) := dk_176 (dk_at dksX5_row_1 20 rfl rfl)
theorem q73 : (Jvm.Cond.initialized "NightStones$Row") ∈ lw_all := lw_g (lw_at lw_m1 11 rfl) rfl
theorem q338 : (Jvm.Cond.instantiable "NightStones$Row" (2 : Nat)) ∈ lw_all := lw_g (lw_at lw_m2 36 rfl) rfl
theorem q340 : (Jvm.Cond.instanceMethod ({ cls := "NightStones$Row", name := "<init>", desc := "(II)V" } : Jvm.MethodName)) ∈ lw_all := lw_g (lw_at lw_m2 38 rfl) rfl
theorem q341 : (Jvm.Cond.code ({ cls := "NightStones$Row", name := "<init>", desc := "(II)V" } : Jvm.MethodName) prog_12_method_1_code (3 : Nat) (Option.none : Option Jvm.ClassFile.FieldType)) ∈ lw_all := lw_g (lw_at lw_m2 39 rfl) rfl
theorem q342 : (Jvm.Cond.methodLink "NightStones$Row" (3 : Nat) ({ cls := "java/lang/Object", name := "<init>", desc := "()V" } : Jvm.MethodName)) ∈ lw_all := lw_g (lw_at lw_m2 40 rfl) rfl
theorem q343 : (Jvm.Cond.fieldLink "NightStones$Row" (9 : Nat) "NightStones$Row" "lane" "I") ∈ lw_all := lw_g (lw_at lw_m2 41 rfl) rfl
theorem q345 : (Jvm.Cond.fieldLink "NightStones$Row" (15 : Nat) "NightStones$Row" "items" "[I") ∈ lw_all := lw_g (lw_at lw_m2 43 rfl) rfl
theorem q347 : (Jvm.Cond.laysFinal "NightStones$Row" "NightStones$Row" "lane" "I") ∈ lw_all := lw_g (lw_at lw_m2 45 rfl) rfl
theorem q348 : (Jvm.Cond.soleField "NightStones$Row" "lane") ∈ lw_all := lw_g (lw_at lw_m2 46 rfl) rfl
theorem q349 : (Jvm.Cond.laysFinal "NightStones$Row" "NightStones$Row" "items" "[I") ∈ lw_all := lw_g (lw_at lw_m2 47 rfl) rfl
theorem q350 : (Jvm.Cond.soleField "NightStones$Row" "items") ∈ lw_all := lw_g (lw_at lw_m2 48 rfl) rfl
theorem q351 : (Jvm.Cond.superclass "NightStones$Row" "java/lang/Object") ∈ lw_all := lw_g (lw_at lw_m2 49 rfl) rfl
theorem q370 : (Jvm.Cond.instanceMethod ({ cls := "NightStones$Row", name := "cut", desc := "(I)I" } : Jvm.MethodName)) ∈ lw_all := lw_g (lw_at lw_m2 68 rfl) rfl
theorem q371 : (Jvm.Cond.selects "NightStones$Row" ({ cls := "NightStones$Row", name := "cut", desc := "(I)I" } : Jvm.MethodName) ({ cls := "NightStones$Row", name := "cut", desc := "(I)I" } : Jvm.MethodName)) ∈ lw_all := lw_g (lw_at lw_m2 69 rfl) rfl
theorem q372 : (Jvm.Cond.code ({ cls := "NightStones$Row", name := "cut", desc := "(I)I" } : Jvm.MethodName) prog_12_method_2_code (2 : Nat) (Option.some Jvm.ClassFile.FieldType.int)) ∈ lw_all := lw_g (lw_at lw_m2 70 rfl) rfl
theorem q845 : (Jvm.Cond.selects "NightStones$Row" ({ cls := "java/lang/Object", name := "getClass", desc := "()Ljava/lang/Class;" } : Jvm.MethodName) ({ cls := "java/lang/Object", name := "getClass", desc := "()Ljava/lang/Class;" } : Jvm.MethodName)) ∈ lw_all := lw_g (lw_at lw_m4 63 rfl) rfl
theorem q1018 : (Jvm.Cond.instanceMethod ({ cls := "NightStones$Row", name := "row", desc := "(II)[I" } : Jvm.MethodName)) ∈ lw_all := lw_g (lw_at lw_m4 236 rfl) rfl
theorem q1019 : (Jvm.Cond.selects "NightStones$Row" ({ cls := "NightStones$Row", name := "row", desc := "(II)[I" } : Jvm.MethodName) ({ cls := "NightStones$Row", name := "row", desc := "(II)[I" } : Jvm.MethodName)) ∈ lw_all := lw_g (lw_at lw_m4 237 rfl) rfl
theorem q1020 : (Jvm.Cond.code ({ cls := "NightStones$Row", name := "row", desc := "(II)[I" } : Jvm.MethodName) prog_12_method_3_code (4 : Nat) (Option.some (Jvm.ClassFile.FieldType.array Jvm.ClassFile.FieldType.int))) ∈ lw_all := lw_g (lw_at lw_m4 238 rfl) rfl
theorem q1021 : (Jvm.Cond.methodLinkNest "NightStones$Row" (19 : Nat) ({ cls := "NightStones", name := "must", desc := "(ZI)V" } : Jvm.MethodName) "NightStones") ∈ lw_tbl := lw_at lw_m4 239 rfl
theorem q1022 : (Jvm.Cond.methodLink "NightStones$Row" (23 : Nat) ({ cls := "java/lang/System", name := "arraycopy", desc := "(Ljava/lang/Object;ILjava/lang/Object;II)V" } : Jvm.MethodName)) ∈ lw_all := lw_g (lw_at lw_m5 0 rfl) rfl
theorem q1675 : (Jvm.Cond.castable "NightStones$Row" "java/lang/Object") ∈ lw_tbl := lw_at lw_m7 173 rfl
theorem in_X5 : ∀ w ∈ wsX50, w ∈ lw_all := lw_in wsX50 [347, 349] (by decide +kernel) (by decide +kernel)
/-! NightStones$Reader -/
set_option maxRecDepth 100000
def RX6 : String := "NightStones$Reader"
def TX6 : u_T := fun k => match k with
  | 0 => ("NightStones$Reader", "text", "[B", true)
  | 1 => ("NightStones$Reader", "size", "I", true)
  | 2 => ("NightStones$Reader", "at", "I", false)
  | 3 => ("NightStones$Reader", "token", "I", false)
  | 4 => ("NightStones$Reader", "from", "I", false)
  | 5 => ("NightStones$Reader", "number", "I", false)
  | 6 => ("NightStones$Reader", "name", "Ljava/lang/String;", false)
  | _ => ("NightStones$Reader", "made", "LNightStones$Road;", true)
def tyX6 : Nat → FieldType := fun k => match k with
  | 0 => .array .byte
  | 1 => .int
  | 2 => .int
  | 3 => .int
  | 4 => .int
  | 5 => .int
  | 6 => .object "java/lang/String"
  | _ => .object "NightStones$Road"
abbrev wsX60 : List Cond := u_ws RX6 TX6 8
theorem nmX6 : ∀ a, a < 8 → ∀ b, b < 8 → a ≠ b → (TX6 a).2.1 ≠ (TX6 b).2.1 := by decide +kernel
theorem tyX6_ok : ∀ k, k < 8 → parseFieldDescriptor (TX6 k).2.2.1 = some (tyX6 k) := by decide +kernel
abbrev cX6_init : ByteArray := prog_10_method_1_code
def yX6_init : MethodName := ⟨RX6, "<init>", "([BI)V"⟩
def dkwX6_init_1 : List UInt8 := [181, 0, 24, 42, 28, 181, 0, 28, 177]
abbrev dktX6_init_1 : List UInt8 := dkwX6_init_1 ++ []
def dkwX6_init_0 : List UInt8 := [42, 183, 0, 3, 42, 18, 9, 181, 0, 11, 42, 187, 0, 17, 89, 183, 0, 19, 181, 0, 20, 42, 43]
abbrev dktX6_init_0 : List UInt8 := dkwX6_init_0 ++ dktX6_init_1
theorem dksX6_init_0 : cX6_init.data.toList.drop 0 = dktX6_init_0 := by decide +kernel
theorem dksX6_init_1 : cX6_init.data.toList.drop 23 = dktX6_init_1 := dk_seg dksX6_init_0 23 rfl rfl
theorem dX6_init_0 : decode cX6_init 0 = .ok (.aload_n 0, 1) := dk_42 (dk_at dksX6_init_0 0 rfl rfl)
theorem dX6_init_1 : decode cX6_init 1 = .ok (.invokespecial 3, 3) := dk_183 0 3 (dk_at dksX6_init_0 1 rfl rfl)
theorem dX6_init_4 : decode cX6_init 4 = .ok (.aload_n 0, 1) := dk_42 (dk_at dksX6_init_0 4 rfl rfl)
theorem dX6_init_5 : decode cX6_init 5 = .ok (.ldc 9, 2) := dk_18 9 (dk_at dksX6_init_0 5 rfl rfl)
theorem dX6_init_7 : decode cX6_init 7 = .ok (.putfield 11, 3) := dk_181 0 11 (dk_at dksX6_init_0 7 rfl rfl)
theorem dX6_init_10 : decode cX6_init 10 = .ok (.aload_n 0, 1) := dk_42 (dk_at dksX6_init_0 10 rfl rfl)
theorem dX6_init_11 : decode cX6_init 11 = .ok (.new 17, 3) := dk_187 0 17 (dk_at dksX6_init_0 11 rfl rfl)
theorem dX6_init_14 : decode cX6_init 14 = .ok (.dup, 1) := dk_89 (dk_at dksX6_init_0 14 rfl rfl)
theorem dX6_init_15 : decode cX6_init 15 = .ok (.invokespecial 19, 3) := dk_183 0 19 (dk_at dksX6_init_0 15 rfl rfl)
theorem dX6_init_18 : decode cX6_init 18 = .ok (.putfield 20, 3) := dk_181 0 20 (dk_at dksX6_init_0 18 rfl rfl)
theorem dX6_init_21 : decode cX6_init 21 = .ok (.aload_n 0, 1) := dk_42 (dk_at dksX6_init_0 21 rfl rfl)
theorem dX6_init_22 : decode cX6_init 22 = .ok (.aload_n 1, 1) := dk_43 (dk_at dksX6_init_0 22 rfl rfl)
theorem dX6_init_23 : decode cX6_init 23 = .ok (.putfield 24, 3) := dk_181 0 24 (dk_at dksX6_init_1 0 rfl rfl)
theorem dX6_init_26 : decode cX6_init 26 = .ok (.aload_n 0, 1) := dk_42 (dk_at dksX6_init_1 3 rfl rfl)
theorem dX6_init_27 : decode cX6_init 27 = .ok (.iload_n 2, 1) := dk_28 (dk_at dksX6_init_1 4 rfl rfl)
theorem dX6_init_28 : decode cX6_init 28 = .ok (.putfield 28, 3) := dk_181 0 28 (dk_at dksX6_init_1 5 rfl rfl)
theorem dX6_init_31 : decode cX6_init 31 = .ok (.return_, 1) := dk_177 (dk_at dksX6_init_1 8 rfl rfl)
abbrev cX6_all : ByteArray := prog_10_method_9_code
def yX6_all : MethodName := ⟨RX6, "all", "()V"⟩
def dkwX6_all_9 : List UInt8 := [154, 0, 7, 4, 167, 0, 4, 3, 4, 182, 0, 83, 42, 180, 0, 20, 182, 0, 134, 87, 177]
abbrev dktX6_all_9 : List UInt8 := dkwX6_all_9 ++ []
def dkwX6_all_8 : List UInt8 := [167, 255, 151, 42, 18, 130, 182, 0, 92, 153, 0, 10, 42, 182, 0, 132, 167, 255, 243, 42, 42, 180, 0, 43]
abbrev dktX6_all_8 : List UInt8 := dkwX6_all_8 ++ dktX6_all_9
def dkwX6_all_7 : List UInt8 := [180, 0, 100, 182, 0, 96, 79, 42, 180, 0, 20, 89, 180, 0, 117, 4, 96, 181, 0, 117, 42, 182, 0, 112]
abbrev dktX6_all_7 : List UInt8 := dkwX6_all_7 ++ dktX6_all_8
def dkwX6_all_6 : List UInt8 := [154, 0, 7, 3, 167, 0, 16, 42, 180, 0, 20, 180, 0, 127, 27, 4, 100, 46, 4, 96, 42, 180, 0, 20]
abbrev dktX6_all_6 : List UInt8 := dkwX6_all_6 ++ dktX6_all_7
def dkwX6_all_5 : List UInt8 := [180, 0, 123, 27, 42, 3, 17, 0, 200, 182, 0, 96, 79, 42, 180, 0, 20, 180, 0, 127, 27, 42, 27]
abbrev dktX6_all_5 : List UInt8 := dkwX6_all_5 ++ dktX6_all_6
def dkwX6_all_4 : List UInt8 := [180, 0, 20, 180, 0, 117, 16, 6, 182, 0, 120, 42, 180, 0, 20, 180, 0, 117, 60, 42, 180, 0, 20]
abbrev dktX6_all_4 : List UInt8 := dkwX6_all_4 ++ dktX6_all_5
def dkwX6_all_3 : List UInt8 := [16, 99, 182, 0, 96, 181, 0, 109, 42, 182, 0, 112, 42, 18, 115, 182, 0, 92, 153, 0, 102, 42, 42]
abbrev dktX6_all_3 : List UInt8 := dkwX6_all_3 ++ dktX6_all_4
def dkwX6_all_2 : List UInt8 := [181, 0, 103, 42, 180, 0, 20, 42, 3, 16, 100, 182, 0, 96, 181, 0, 106, 42, 180, 0, 20, 42, 3]
abbrev dktX6_all_2 : List UInt8 := dkwX6_all_2 ++ dktX6_all_3
def dkwX6_all_1 : List UInt8 := [16, 10, 17, 0, 200, 182, 0, 96, 181, 0, 100, 42, 180, 0, 20, 42, 3, 16, 20, 182, 0, 96]
abbrev dktX6_all_1 : List UInt8 := dkwX6_all_1 ++ dktX6_all_2
def dkwX6_all_0 : List UInt8 := [42, 182, 0, 87, 42, 42, 18, 90, 182, 0, 92, 4, 182, 0, 83, 42, 182, 0, 87, 42, 180, 0, 20, 42]
abbrev dktX6_all_0 : List UInt8 := dkwX6_all_0 ++ dktX6_all_1
theorem dksX6_all_0 : cX6_all.data.toList.drop 0 = dktX6_all_0 := by decide +kernel
theorem dksX6_all_1 : cX6_all.data.toList.drop 24 = dktX6_all_1 := dk_seg dksX6_all_0 24 rfl rfl
theorem dksX6_all_2 : cX6_all.data.toList.drop 46 = dktX6_all_2 := dk_seg dksX6_all_1 22 rfl rfl
theorem dksX6_all_3 : cX6_all.data.toList.drop 69 = dktX6_all_3 := dk_seg dksX6_all_2 23 rfl rfl
theorem dksX6_all_4 : cX6_all.data.toList.drop 92 = dktX6_all_4 := dk_seg dksX6_all_3 23 rfl rfl
theorem dksX6_all_5 : cX6_all.data.toList.drop 115 = dktX6_all_5 := dk_seg dksX6_all_4 23 rfl rfl
theorem dksX6_all_6 : cX6_all.data.toList.drop 138 = dktX6_all_6 := dk_seg dksX6_all_5 23 rfl rfl
theorem dksX6_all_7 : cX6_all.data.toList.drop 162 = dktX6_all_7 := dk_seg dksX6_all_6 24 rfl rfl
theorem dksX6_all_8 : cX6_all.data.toList.drop 186 = dktX6_all_8 := dk_seg dksX6_all_7 24 rfl rfl
theorem dksX6_all_9 : cX6_all.data.toList.drop 210 = dktX6_all_9 := dk_seg dksX6_all_8 24 rfl rfl
theorem dX6_all_0 : decode cX6_all 0 = .ok (.aload_n 0, 1) := dk_42 (dk_at dksX6_all_0 0 rfl rfl)
theorem dX6_all_1 : decode cX6_all 1 = .ok (.invokevirtual 87, 3) := dk_182 0 87 (dk_at dksX6_all_0 1 rfl rfl)
theorem dX6_all_4 : decode cX6_all 4 = .ok (.aload_n 0, 1) := dk_42 (dk_at dksX6_all_0 4 rfl rfl)
theorem dX6_all_5 : decode cX6_all 5 = .ok (.aload_n 0, 1) := dk_42 (dk_at dksX6_all_0 5 rfl rfl)
theorem dX6_all_6 : decode cX6_all 6 = .ok (.ldc 90, 2) := dk_18 90 (dk_at dksX6_all_0 6 rfl rfl)
theorem dX6_all_8 : decode cX6_all 8 = .ok (.invokevirtual 92, 3) := dk_182 0 92 (dk_at dksX6_all_0 8 rfl rfl)
theorem dX6_all_11 : decode cX6_all 11 = .ok (.iconst 1, 1) := dk_4 (dk_at dksX6_all_0 11 rfl rfl)
theorem dX6_all_12 : decode cX6_all 12 = .ok (.invokevirtual 83, 3) := dk_182 0 83 (dk_at dksX6_all_0 12 rfl rfl)
theorem dX6_all_15 : decode cX6_all 15 = .ok (.aload_n 0, 1) := dk_42 (dk_at dksX6_all_0 15 rfl rfl)
theorem dX6_all_16 : decode cX6_all 16 = .ok (.invokevirtual 87, 3) := dk_182 0 87 (dk_at dksX6_all_0 16 rfl rfl)
theorem dX6_all_19 : decode cX6_all 19 = .ok (.aload_n 0, 1) := dk_42 (dk_at dksX6_all_0 19 rfl rfl)
theorem dX6_all_20 : decode cX6_all 20 = .ok (.getfield 20, 3) := dk_180 0 20 (dk_at dksX6_all_0 20 rfl rfl)
theorem dX6_all_23 : decode cX6_all 23 = .ok (.aload_n 0, 1) := dk_42 (dk_at dksX6_all_0 23 rfl rfl)
theorem dX6_all_24 : decode cX6_all 24 = .ok (.bipush 10, 2) := dk_16 10 (dk_at dksX6_all_1 0 rfl rfl)
theorem dX6_all_26 : decode cX6_all 26 = .ok (.sipush 200, 3) := dk_17 0 200 (dk_at dksX6_all_1 2 rfl rfl)
theorem dX6_all_29 : decode cX6_all 29 = .ok (.invokevirtual 96, 3) := dk_182 0 96 (dk_at dksX6_all_1 5 rfl rfl)
theorem dX6_all_32 : decode cX6_all 32 = .ok (.putfield 100, 3) := dk_181 0 100 (dk_at dksX6_all_1 8 rfl rfl)
theorem dX6_all_35 : decode cX6_all 35 = .ok (.aload_n 0, 1) := dk_42 (dk_at dksX6_all_1 11 rfl rfl)
theorem dX6_all_36 : decode cX6_all 36 = .ok (.getfield 20, 3) := dk_180 0 20 (dk_at dksX6_all_1 12 rfl rfl)
theorem dX6_all_39 : decode cX6_all 39 = .ok (.aload_n 0, 1) := dk_42 (dk_at dksX6_all_1 15 rfl rfl)
theorem dX6_all_40 : decode cX6_all 40 = .ok (.iconst 0, 1) := dk_3 (dk_at dksX6_all_1 16 rfl rfl)
theorem dX6_all_41 : decode cX6_all 41 = .ok (.bipush 20, 2) := dk_16 20 (dk_at dksX6_all_1 17 rfl rfl)
theorem dX6_all_43 : decode cX6_all 43 = .ok (.invokevirtual 96, 3) := dk_182 0 96 (dk_at dksX6_all_1 19 rfl rfl)
theorem dX6_all_46 : decode cX6_all 46 = .ok (.putfield 103, 3) := dk_181 0 103 (dk_at dksX6_all_2 0 rfl rfl)
theorem dX6_all_49 : decode cX6_all 49 = .ok (.aload_n 0, 1) := dk_42 (dk_at dksX6_all_2 3 rfl rfl)
theorem dX6_all_50 : decode cX6_all 50 = .ok (.getfield 20, 3) := dk_180 0 20 (dk_at dksX6_all_2 4 rfl rfl)
theorem dX6_all_53 : decode cX6_all 53 = .ok (.aload_n 0, 1) := dk_42 (dk_at dksX6_all_2 7 rfl rfl)
theorem dX6_all_54 : decode cX6_all 54 = .ok (.iconst 0, 1) := dk_3 (dk_at dksX6_all_2 8 rfl rfl)
theorem dX6_all_55 : decode cX6_all 55 = .ok (.bipush 100, 2) := dk_16 100 (dk_at dksX6_all_2 9 rfl rfl)
theorem dX6_all_57 : decode cX6_all 57 = .ok (.invokevirtual 96, 3) := dk_182 0 96 (dk_at dksX6_all_2 11 rfl rfl)
theorem dX6_all_60 : decode cX6_all 60 = .ok (.putfield 106, 3) := dk_181 0 106 (dk_at dksX6_all_2 14 rfl rfl)
theorem dX6_all_63 : decode cX6_all 63 = .ok (.aload_n 0, 1) := dk_42 (dk_at dksX6_all_2 17 rfl rfl)
theorem dX6_all_64 : decode cX6_all 64 = .ok (.getfield 20, 3) := dk_180 0 20 (dk_at dksX6_all_2 18 rfl rfl)
theorem dX6_all_67 : decode cX6_all 67 = .ok (.aload_n 0, 1) := dk_42 (dk_at dksX6_all_2 21 rfl rfl)
theorem dX6_all_68 : decode cX6_all 68 = .ok (.iconst 0, 1) := dk_3 (dk_at dksX6_all_2 22 rfl rfl)
theorem dX6_all_69 : decode cX6_all 69 = .ok (.bipush 99, 2) := dk_16 99 (dk_at dksX6_all_3 0 rfl rfl)
theorem dX6_all_71 : decode cX6_all 71 = .ok (.invokevirtual 96, 3) := dk_182 0 96 (dk_at dksX6_all_3 2 rfl rfl)
theorem dX6_all_74 : decode cX6_all 74 = .ok (.putfield 109, 3) := dk_181 0 109 (dk_at dksX6_all_3 5 rfl rfl)
theorem dX6_all_77 : decode cX6_all 77 = .ok (.aload_n 0, 1) := dk_42 (dk_at dksX6_all_3 8 rfl rfl)
theorem dX6_all_78 : decode cX6_all 78 = .ok (.invokevirtual 112, 3) := dk_182 0 112 (dk_at dksX6_all_3 9 rfl rfl)
theorem dX6_all_81 : decode cX6_all 81 = .ok (.aload_n 0, 1) := dk_42 (dk_at dksX6_all_3 12 rfl rfl)
theorem dX6_all_82 : decode cX6_all 82 = .ok (.ldc 115, 2) := dk_18 115 (dk_at dksX6_all_3 13 rfl rfl)
theorem dX6_all_84 : decode cX6_all 84 = .ok (.invokevirtual 92, 3) := dk_182 0 92 (dk_at dksX6_all_3 15 rfl rfl)
theorem dX6_all_87 : decode cX6_all 87 = .ok (.ifCond .eq 102, 3) := dk_153 0 102 (dk_at dksX6_all_3 18 rfl rfl)
theorem dX6_all_90 : decode cX6_all 90 = .ok (.aload_n 0, 1) := dk_42 (dk_at dksX6_all_3 21 rfl rfl)
theorem dX6_all_91 : decode cX6_all 91 = .ok (.aload_n 0, 1) := dk_42 (dk_at dksX6_all_3 22 rfl rfl)
theorem dX6_all_92 : decode cX6_all 92 = .ok (.getfield 20, 3) := dk_180 0 20 (dk_at dksX6_all_4 0 rfl rfl)
theorem dX6_all_95 : decode cX6_all 95 = .ok (.getfield 117, 3) := dk_180 0 117 (dk_at dksX6_all_4 3 rfl rfl)
theorem dX6_all_98 : decode cX6_all 98 = .ok (.bipush 6, 2) := dk_16 6 (dk_at dksX6_all_4 6 rfl rfl)
theorem dX6_all_100 : decode cX6_all 100 = .ok (.invokevirtual 120, 3) := dk_182 0 120 (dk_at dksX6_all_4 8 rfl rfl)
theorem dX6_all_103 : decode cX6_all 103 = .ok (.aload_n 0, 1) := dk_42 (dk_at dksX6_all_4 11 rfl rfl)
theorem dX6_all_104 : decode cX6_all 104 = .ok (.getfield 20, 3) := dk_180 0 20 (dk_at dksX6_all_4 12 rfl rfl)
theorem dX6_all_107 : decode cX6_all 107 = .ok (.getfield 117, 3) := dk_180 0 117 (dk_at dksX6_all_4 15 rfl rfl)
theorem dX6_all_110 : decode cX6_all 110 = .ok (.istore_n 1, 1) := dk_60 (dk_at dksX6_all_4 18 rfl rfl)
theorem dX6_all_111 : decode cX6_all 111 = .ok (.aload_n 0, 1) := dk_42 (dk_at dksX6_all_4 19 rfl rfl)
theorem dX6_all_112 : decode cX6_all 112 = .ok (.getfield 20, 3) := dk_180 0 20 (dk_at dksX6_all_4 20 rfl rfl)
theorem dX6_all_115 : decode cX6_all 115 = .ok (.getfield 123, 3) := dk_180 0 123 (dk_at dksX6_all_5 0 rfl rfl)
theorem dX6_all_118 : decode cX6_all 118 = .ok (.iload_n 1, 1) := dk_27 (dk_at dksX6_all_5 3 rfl rfl)
theorem dX6_all_119 : decode cX6_all 119 = .ok (.aload_n 0, 1) := dk_42 (dk_at dksX6_all_5 4 rfl rfl)
theorem dX6_all_120 : decode cX6_all 120 = .ok (.iconst 0, 1) := dk_3 (dk_at dksX6_all_5 5 rfl rfl)
theorem dX6_all_121 : decode cX6_all 121 = .ok (.sipush 200, 3) := dk_17 0 200 (dk_at dksX6_all_5 6 rfl rfl)
theorem dX6_all_124 : decode cX6_all 124 = .ok (.invokevirtual 96, 3) := dk_182 0 96 (dk_at dksX6_all_5 9 rfl rfl)
theorem dX6_all_127 : decode cX6_all 127 = .ok (.iastore, 1) := dk_79 (dk_at dksX6_all_5 12 rfl rfl)
theorem dX6_all_128 : decode cX6_all 128 = .ok (.aload_n 0, 1) := dk_42 (dk_at dksX6_all_5 13 rfl rfl)
theorem dX6_all_129 : decode cX6_all 129 = .ok (.getfield 20, 3) := dk_180 0 20 (dk_at dksX6_all_5 14 rfl rfl)
theorem dX6_all_132 : decode cX6_all 132 = .ok (.getfield 127, 3) := dk_180 0 127 (dk_at dksX6_all_5 17 rfl rfl)
theorem dX6_all_135 : decode cX6_all 135 = .ok (.iload_n 1, 1) := dk_27 (dk_at dksX6_all_5 20 rfl rfl)
theorem dX6_all_136 : decode cX6_all 136 = .ok (.aload_n 0, 1) := dk_42 (dk_at dksX6_all_5 21 rfl rfl)
theorem dX6_all_137 : decode cX6_all 137 = .ok (.iload_n 1, 1) := dk_27 (dk_at dksX6_all_5 22 rfl rfl)
theorem dX6_all_138 : decode cX6_all 138 = .ok (.ifCond .ne 7, 3) := dk_154 0 7 (dk_at dksX6_all_6 0 rfl rfl)
theorem dX6_all_141 : decode cX6_all 141 = .ok (.iconst 0, 1) := dk_3 (dk_at dksX6_all_6 3 rfl rfl)
theorem dX6_all_142 : decode cX6_all 142 = .ok (.goto 16, 3) := dk_167 0 16 (dk_at dksX6_all_6 4 rfl rfl)
theorem dX6_all_145 : decode cX6_all 145 = .ok (.aload_n 0, 1) := dk_42 (dk_at dksX6_all_6 7 rfl rfl)
theorem dX6_all_146 : decode cX6_all 146 = .ok (.getfield 20, 3) := dk_180 0 20 (dk_at dksX6_all_6 8 rfl rfl)
theorem dX6_all_149 : decode cX6_all 149 = .ok (.getfield 127, 3) := dk_180 0 127 (dk_at dksX6_all_6 11 rfl rfl)
theorem dX6_all_152 : decode cX6_all 152 = .ok (.iload_n 1, 1) := dk_27 (dk_at dksX6_all_6 14 rfl rfl)
theorem dX6_all_153 : decode cX6_all 153 = .ok (.iconst 1, 1) := dk_4 (dk_at dksX6_all_6 15 rfl rfl)
theorem dX6_all_154 : decode cX6_all 154 = .ok (.isub, 1) := dk_100 (dk_at dksX6_all_6 16 rfl rfl)
theorem dX6_all_155 : decode cX6_all 155 = .ok (.iaload, 1) := dk_46 (dk_at dksX6_all_6 17 rfl rfl)
theorem dX6_all_156 : decode cX6_all 156 = .ok (.iconst 1, 1) := dk_4 (dk_at dksX6_all_6 18 rfl rfl)
theorem dX6_all_157 : decode cX6_all 157 = .ok (.iadd, 1) := dk_96 (dk_at dksX6_all_6 19 rfl rfl)
theorem dX6_all_158 : decode cX6_all 158 = .ok (.aload_n 0, 1) := dk_42 (dk_at dksX6_all_6 20 rfl rfl)
theorem dX6_all_159 : decode cX6_all 159 = .ok (.getfield 20, 3) := dk_180 0 20 (dk_at dksX6_all_6 21 rfl rfl)
theorem dX6_all_162 : decode cX6_all 162 = .ok (.getfield 100, 3) := dk_180 0 100 (dk_at dksX6_all_7 0 rfl rfl)
theorem dX6_all_165 : decode cX6_all 165 = .ok (.invokevirtual 96, 3) := dk_182 0 96 (dk_at dksX6_all_7 3 rfl rfl)
theorem dX6_all_168 : decode cX6_all 168 = .ok (.iastore, 1) := dk_79 (dk_at dksX6_all_7 6 rfl rfl)
theorem dX6_all_169 : decode cX6_all 169 = .ok (.aload_n 0, 1) := dk_42 (dk_at dksX6_all_7 7 rfl rfl)
theorem dX6_all_170 : decode cX6_all 170 = .ok (.getfield 20, 3) := dk_180 0 20 (dk_at dksX6_all_7 8 rfl rfl)
theorem dX6_all_173 : decode cX6_all 173 = .ok (.dup, 1) := dk_89 (dk_at dksX6_all_7 11 rfl rfl)
theorem dX6_all_174 : decode cX6_all 174 = .ok (.getfield 117, 3) := dk_180 0 117 (dk_at dksX6_all_7 12 rfl rfl)
theorem dX6_all_177 : decode cX6_all 177 = .ok (.iconst 1, 1) := dk_4 (dk_at dksX6_all_7 15 rfl rfl)
theorem dX6_all_178 : decode cX6_all 178 = .ok (.iadd, 1) := dk_96 (dk_at dksX6_all_7 16 rfl rfl)
theorem dX6_all_179 : decode cX6_all 179 = .ok (.putfield 117, 3) := dk_181 0 117 (dk_at dksX6_all_7 17 rfl rfl)
theorem dX6_all_182 : decode cX6_all 182 = .ok (.aload_n 0, 1) := dk_42 (dk_at dksX6_all_7 20 rfl rfl)
theorem dX6_all_183 : decode cX6_all 183 = .ok (.invokevirtual 112, 3) := dk_182 0 112 (dk_at dksX6_all_7 21 rfl rfl)
theorem dX6_all_186 : decode cX6_all 186 = .ok (.goto (-105), 3) := dk_167 255 151 (dk_at dksX6_all_8 0 rfl rfl)
theorem dX6_all_189 : decode cX6_all 189 = .ok (.aload_n 0, 1) := dk_42 (dk_at dksX6_all_8 3 rfl rfl)
theorem dX6_all_190 : decode cX6_all 190 = .ok (.ldc 130, 2) := dk_18 130 (dk_at dksX6_all_8 4 rfl rfl)
theorem dX6_all_192 : decode cX6_all 192 = .ok (.invokevirtual 92, 3) := dk_182 0 92 (dk_at dksX6_all_8 6 rfl rfl)
theorem dX6_all_195 : decode cX6_all 195 = .ok (.ifCond .eq 10, 3) := dk_153 0 10 (dk_at dksX6_all_8 9 rfl rfl)
theorem dX6_all_198 : decode cX6_all 198 = .ok (.aload_n 0, 1) := dk_42 (dk_at dksX6_all_8 12 rfl rfl)
theorem dX6_all_199 : decode cX6_all 199 = .ok (.invokevirtual 132, 3) := dk_182 0 132 (dk_at dksX6_all_8 13 rfl rfl)
theorem dX6_all_202 : decode cX6_all 202 = .ok (.goto (-13), 3) := dk_167 255 243 (dk_at dksX6_all_8 16 rfl rfl)
theorem dX6_all_205 : decode cX6_all 205 = .ok (.aload_n 0, 1) := dk_42 (dk_at dksX6_all_8 19 rfl rfl)
theorem dX6_all_206 : decode cX6_all 206 = .ok (.aload_n 0, 1) := dk_42 (dk_at dksX6_all_8 20 rfl rfl)
theorem dX6_all_207 : decode cX6_all 207 = .ok (.getfield 43, 3) := dk_180 0 43 (dk_at dksX6_all_8 21 rfl rfl)
theorem dX6_all_210 : decode cX6_all 210 = .ok (.ifCond .ne 7, 3) := dk_154 0 7 (dk_at dksX6_all_9 0 rfl rfl)
theorem dX6_all_213 : decode cX6_all 213 = .ok (.iconst 1, 1) := dk_4 (dk_at dksX6_all_9 3 rfl rfl)
theorem dX6_all_214 : decode cX6_all 214 = .ok (.goto 4, 3) := dk_167 0 4 (dk_at dksX6_all_9 4 rfl rfl)
theorem dX6_all_217 : decode cX6_all 217 = .ok (.iconst 0, 1) := dk_3 (dk_at dksX6_all_9 7 rfl rfl)
theorem dX6_all_218 : decode cX6_all 218 = .ok (.iconst 1, 1) := dk_4 (dk_at dksX6_all_9 8 rfl rfl)
theorem dX6_all_219 : decode cX6_all 219 = .ok (.invokevirtual 83, 3) := dk_182 0 83 (dk_at dksX6_all_9 9 rfl rfl)
theorem dX6_all_222 : decode cX6_all 222 = .ok (.aload_n 0, 1) := dk_42 (dk_at dksX6_all_9 12 rfl rfl)
theorem dX6_all_223 : decode cX6_all 223 = .ok (.getfield 20, 3) := dk_180 0 20 (dk_at dksX6_all_9 13 rfl rfl)
theorem dX6_all_226 : decode cX6_all 226 = .ok (.invokevirtual 134, 3) := dk_182 0 134 (dk_at dksX6_all_9 16 rfl rfl)
theorem dX6_all_229 : decode cX6_all 229 = .ok (.pop, 1) := dk_87 (dk_at dksX6_all_9 19 rfl rfl)
theorem dX6_all_230 : decode cX6_all 230 = .ok (.return_, 1) := dk_177 (dk_at dksX6_all_9 20 rfl rfl)
abbrev cX6_next : ByteArray := prog_10_method_3_code
def yX6_next : MethodName := ⟨RX6, "next", "()V"⟩
def dkwX6_next_12 : List UInt8 := [167, 0, 4, 7, 181, 0, 43, 177]
abbrev dktX6_next_12 : List UInt8 := dkwX6_next_12 ++ []
def dkwX6_next_11 : List UInt8 := [181, 0, 43, 167, 0, 28, 42, 89, 180, 0, 32, 4, 96, 181, 0, 32, 42, 27, 16, 59, 160, 0, 7, 6]
abbrev dktX6_next_11 : List UInt8 := dkwX6_next_11 ++ dktX6_next_12
def dkwX6_next_10 : List UInt8 := [167, 255, 190, 42, 42, 180, 0, 32, 42, 180, 0, 40, 100, 6, 163, 0, 7, 5, 167, 0, 4, 7]
abbrev dktX6_next_10 : List UInt8 := dkwX6_next_10 ++ dktX6_next_11
def dkwX6_next_9 : List UInt8 := [16, 48, 100, 167, 0, 7, 42, 180, 0, 69, 181, 0, 69, 42, 89, 180, 0, 32, 4, 96, 181, 0, 32]
abbrev dktX6_next_9 : List UInt8 := dkwX6_next_9 ++ dktX6_next_10
def dkwX6_next_8 : List UInt8 := [180, 0, 32, 42, 180, 0, 40, 100, 6, 162, 0, 21, 16, 10, 42, 180, 0, 69, 104, 42, 182, 0, 36, 96]
abbrev dktX6_next_8 : List UInt8 := dkwX6_next_8 ++ dktX6_next_9
def dkwX6_next_7 : List UInt8 := [181, 0, 69, 42, 182, 0, 36, 133, 20, 0, 65, 20, 0, 67, 184, 0, 50, 153, 0, 55, 42, 42]
abbrev dktX6_next_7 : List UInt8 := dkwX6_next_7 ++ dktX6_next_8
def dkwX6_next_6 : List UInt8 := [181, 0, 43, 167, 0, 141, 27, 133, 20, 0, 65, 20, 0, 67, 184, 0, 50, 153, 0, 102, 42, 3]
abbrev dktX6_next_6 : List UInt8 := dkwX6_next_6 ++ dktX6_next_7
def dkwX6_next_5 : List UInt8 := [17, 0, 255, 126, 146, 182, 0, 57, 87, 167, 255, 213, 42, 44, 182, 0, 61, 181, 0, 11, 42, 4]
abbrev dktX6_next_5 : List UInt8 := dkwX6_next_5 ++ dktX6_next_6
def dkwX6_next_4 : List UInt8 := [184, 0, 50, 153, 0, 32, 44, 42, 180, 0, 24, 42, 89, 180, 0, 32, 90, 4, 96, 181, 0, 32, 51]
abbrev dktX6_next_4 : List UInt8 := dkwX6_next_4 ++ dktX6_next_5
def dkwX6_next_3 : List UInt8 := [153, 0, 73, 187, 0, 54, 89, 183, 0, 56, 77, 42, 182, 0, 36, 133, 20, 0, 46, 20, 0, 48]
abbrev dktX6_next_3 : List UInt8 := dkwX6_next_3 ++ dktX6_next_4
def dkwX6_next_2 : List UInt8 := [160, 0, 11, 42, 3, 181, 0, 43, 167, 0, 225, 27, 133, 20, 0, 46, 20, 0, 48, 184, 0, 50]
abbrev dktX6_next_2 : List UInt8 := dkwX6_next_2 ++ dktX6_next_3
def dkwX6_next_1 : List UInt8 := [96, 181, 0, 32, 167, 255, 228, 42, 42, 180, 0, 32, 181, 0, 40, 42, 182, 0, 36, 60, 27, 18, 35]
abbrev dktX6_next_1 : List UInt8 := dkwX6_next_1 ++ dktX6_next_2
def dkwX6_next_0 : List UInt8 := [42, 182, 0, 36, 16, 32, 159, 0, 12, 42, 182, 0, 36, 16, 10, 160, 0, 16, 42, 89, 180, 0, 32, 4]
abbrev dktX6_next_0 : List UInt8 := dkwX6_next_0 ++ dktX6_next_1
theorem dksX6_next_0 : cX6_next.data.toList.drop 0 = dktX6_next_0 := by decide +kernel
theorem dksX6_next_1 : cX6_next.data.toList.drop 24 = dktX6_next_1 := dk_seg dksX6_next_0 24 rfl rfl
theorem dksX6_next_2 : cX6_next.data.toList.drop 47 = dktX6_next_2 := dk_seg dksX6_next_1 23 rfl rfl
theorem dksX6_next_3 : cX6_next.data.toList.drop 69 = dktX6_next_3 := dk_seg dksX6_next_2 22 rfl rfl
theorem dksX6_next_4 : cX6_next.data.toList.drop 91 = dktX6_next_4 := dk_seg dksX6_next_3 22 rfl rfl
theorem dksX6_next_5 : cX6_next.data.toList.drop 114 = dktX6_next_5 := dk_seg dksX6_next_4 23 rfl rfl
theorem dksX6_next_6 : cX6_next.data.toList.drop 136 = dktX6_next_6 := dk_seg dksX6_next_5 22 rfl rfl
theorem dksX6_next_7 : cX6_next.data.toList.drop 158 = dktX6_next_7 := dk_seg dksX6_next_6 22 rfl rfl
theorem dksX6_next_8 : cX6_next.data.toList.drop 180 = dktX6_next_8 := dk_seg dksX6_next_7 22 rfl rfl
theorem dksX6_next_9 : cX6_next.data.toList.drop 204 = dktX6_next_9 := dk_seg dksX6_next_8 24 rfl rfl
theorem dksX6_next_10 : cX6_next.data.toList.drop 227 = dktX6_next_10 := dk_seg dksX6_next_9 23 rfl rfl
theorem dksX6_next_11 : cX6_next.data.toList.drop 249 = dktX6_next_11 := dk_seg dksX6_next_10 22 rfl rfl
theorem dksX6_next_12 : cX6_next.data.toList.drop 273 = dktX6_next_12 := dk_seg dksX6_next_11 24 rfl rfl
theorem dX6_next_0 : decode cX6_next 0 = .ok (.aload_n 0, 1) := dk_42 (dk_at dksX6_next_0 0 rfl rfl)
theorem dX6_next_1 : decode cX6_next 1 = .ok (.invokevirtual 36, 3) := dk_182 0 36 (dk_at dksX6_next_0 1 rfl rfl)
theorem dX6_next_4 : decode cX6_next 4 = .ok (.bipush 32, 2) := dk_16 32 (dk_at dksX6_next_0 4 rfl rfl)
theorem dX6_next_6 : decode cX6_next 6 = .ok (.if_icmp .eq 12, 3) := dk_159 0 12 (dk_at dksX6_next_0 6 rfl rfl)
theorem dX6_next_9 : decode cX6_next 9 = .ok (.aload_n 0, 1) := dk_42 (dk_at dksX6_next_0 9 rfl rfl)
theorem dX6_next_10 : decode cX6_next 10 = .ok (.invokevirtual 36, 3) := dk_182 0 36 (dk_at dksX6_next_0 10 rfl rfl)
theorem dX6_next_13 : decode cX6_next 13 = .ok (.bipush 10, 2) := dk_16 10 (dk_at dksX6_next_0 13 rfl rfl)
theorem dX6_next_15 : decode cX6_next 15 = .ok (.if_icmp .ne 16, 3) := dk_160 0 16 (dk_at dksX6_next_0 15 rfl rfl)
theorem dX6_next_18 : decode cX6_next 18 = .ok (.aload_n 0, 1) := dk_42 (dk_at dksX6_next_0 18 rfl rfl)
theorem dX6_next_19 : decode cX6_next 19 = .ok (.dup, 1) := dk_89 (dk_at dksX6_next_0 19 rfl rfl)
theorem dX6_next_20 : decode cX6_next 20 = .ok (.getfield 32, 3) := dk_180 0 32 (dk_at dksX6_next_0 20 rfl rfl)
theorem dX6_next_23 : decode cX6_next 23 = .ok (.iconst 1, 1) := dk_4 (dk_at dksX6_next_0 23 rfl rfl)
theorem dX6_next_24 : decode cX6_next 24 = .ok (.iadd, 1) := dk_96 (dk_at dksX6_next_1 0 rfl rfl)
theorem dX6_next_25 : decode cX6_next 25 = .ok (.putfield 32, 3) := dk_181 0 32 (dk_at dksX6_next_1 1 rfl rfl)
theorem dX6_next_28 : decode cX6_next 28 = .ok (.goto (-28), 3) := dk_167 255 228 (dk_at dksX6_next_1 4 rfl rfl)
theorem dX6_next_31 : decode cX6_next 31 = .ok (.aload_n 0, 1) := dk_42 (dk_at dksX6_next_1 7 rfl rfl)
theorem dX6_next_32 : decode cX6_next 32 = .ok (.aload_n 0, 1) := dk_42 (dk_at dksX6_next_1 8 rfl rfl)
theorem dX6_next_33 : decode cX6_next 33 = .ok (.getfield 32, 3) := dk_180 0 32 (dk_at dksX6_next_1 9 rfl rfl)
theorem dX6_next_36 : decode cX6_next 36 = .ok (.putfield 40, 3) := dk_181 0 40 (dk_at dksX6_next_1 12 rfl rfl)
theorem dX6_next_39 : decode cX6_next 39 = .ok (.aload_n 0, 1) := dk_42 (dk_at dksX6_next_1 15 rfl rfl)
theorem dX6_next_40 : decode cX6_next 40 = .ok (.invokevirtual 36, 3) := dk_182 0 36 (dk_at dksX6_next_1 16 rfl rfl)
theorem dX6_next_43 : decode cX6_next 43 = .ok (.istore_n 1, 1) := dk_60 (dk_at dksX6_next_1 19 rfl rfl)
theorem dX6_next_44 : decode cX6_next 44 = .ok (.iload_n 1, 1) := dk_27 (dk_at dksX6_next_1 20 rfl rfl)
theorem dX6_next_45 : decode cX6_next 45 = .ok (.ldc 35, 2) := dk_18 35 (dk_at dksX6_next_1 21 rfl rfl)
theorem dX6_next_47 : decode cX6_next 47 = .ok (.if_icmp .ne 11, 3) := dk_160 0 11 (dk_at dksX6_next_2 0 rfl rfl)
theorem dX6_next_50 : decode cX6_next 50 = .ok (.aload_n 0, 1) := dk_42 (dk_at dksX6_next_2 3 rfl rfl)
theorem dX6_next_51 : decode cX6_next 51 = .ok (.iconst 0, 1) := dk_3 (dk_at dksX6_next_2 4 rfl rfl)
theorem dX6_next_52 : decode cX6_next 52 = .ok (.putfield 43, 3) := dk_181 0 43 (dk_at dksX6_next_2 5 rfl rfl)
theorem dX6_next_55 : decode cX6_next 55 = .ok (.goto 225, 3) := dk_167 0 225 (dk_at dksX6_next_2 8 rfl rfl)
theorem dX6_next_58 : decode cX6_next 58 = .ok (.iload_n 1, 1) := dk_27 (dk_at dksX6_next_2 11 rfl rfl)
theorem dX6_next_59 : decode cX6_next 59 = .ok (.i2l, 1) := dk_133 (dk_at dksX6_next_2 12 rfl rfl)
theorem dX6_next_60 : decode cX6_next 60 = .ok (.ldc2_w 46, 3) := dk_20 0 46 (dk_at dksX6_next_2 13 rfl rfl)
theorem dX6_next_63 : decode cX6_next 63 = .ok (.ldc2_w 48, 3) := dk_20 0 48 (dk_at dksX6_next_2 16 rfl rfl)
theorem dX6_next_66 : decode cX6_next 66 = .ok (.invokestatic 50, 3) := dk_184 0 50 (dk_at dksX6_next_2 19 rfl rfl)
theorem dX6_next_69 : decode cX6_next 69 = .ok (.ifCond .eq 73, 3) := dk_153 0 73 (dk_at dksX6_next_3 0 rfl rfl)
theorem dX6_next_72 : decode cX6_next 72 = .ok (.new 54, 3) := dk_187 0 54 (dk_at dksX6_next_3 3 rfl rfl)
theorem dX6_next_75 : decode cX6_next 75 = .ok (.dup, 1) := dk_89 (dk_at dksX6_next_3 6 rfl rfl)
theorem dX6_next_76 : decode cX6_next 76 = .ok (.invokespecial 56, 3) := dk_183 0 56 (dk_at dksX6_next_3 7 rfl rfl)
theorem dX6_next_79 : decode cX6_next 79 = .ok (.astore_n 2, 1) := dk_77 (dk_at dksX6_next_3 10 rfl rfl)
theorem dX6_next_80 : decode cX6_next 80 = .ok (.aload_n 0, 1) := dk_42 (dk_at dksX6_next_3 11 rfl rfl)
theorem dX6_next_81 : decode cX6_next 81 = .ok (.invokevirtual 36, 3) := dk_182 0 36 (dk_at dksX6_next_3 12 rfl rfl)
theorem dX6_next_84 : decode cX6_next 84 = .ok (.i2l, 1) := dk_133 (dk_at dksX6_next_3 15 rfl rfl)
theorem dX6_next_85 : decode cX6_next 85 = .ok (.ldc2_w 46, 3) := dk_20 0 46 (dk_at dksX6_next_3 16 rfl rfl)
theorem dX6_next_88 : decode cX6_next 88 = .ok (.ldc2_w 48, 3) := dk_20 0 48 (dk_at dksX6_next_3 19 rfl rfl)
theorem dX6_next_91 : decode cX6_next 91 = .ok (.invokestatic 50, 3) := dk_184 0 50 (dk_at dksX6_next_4 0 rfl rfl)
theorem dX6_next_94 : decode cX6_next 94 = .ok (.ifCond .eq 32, 3) := dk_153 0 32 (dk_at dksX6_next_4 3 rfl rfl)
theorem dX6_next_97 : decode cX6_next 97 = .ok (.aload_n 2, 1) := dk_44 (dk_at dksX6_next_4 6 rfl rfl)
theorem dX6_next_98 : decode cX6_next 98 = .ok (.aload_n 0, 1) := dk_42 (dk_at dksX6_next_4 7 rfl rfl)
theorem dX6_next_99 : decode cX6_next 99 = .ok (.getfield 24, 3) := dk_180 0 24 (dk_at dksX6_next_4 8 rfl rfl)
theorem dX6_next_102 : decode cX6_next 102 = .ok (.aload_n 0, 1) := dk_42 (dk_at dksX6_next_4 11 rfl rfl)
theorem dX6_next_103 : decode cX6_next 103 = .ok (.dup, 1) := dk_89 (dk_at dksX6_next_4 12 rfl rfl)
theorem dX6_next_104 : decode cX6_next 104 = .ok (.getfield 32, 3) := dk_180 0 32 (dk_at dksX6_next_4 13 rfl rfl)
theorem dX6_next_107 : decode cX6_next 107 = .ok (.dup_x1, 1) := dk_90 (dk_at dksX6_next_4 16 rfl rfl)
theorem dX6_next_108 : decode cX6_next 108 = .ok (.iconst 1, 1) := dk_4 (dk_at dksX6_next_4 17 rfl rfl)
theorem dX6_next_109 : decode cX6_next 109 = .ok (.iadd, 1) := dk_96 (dk_at dksX6_next_4 18 rfl rfl)
theorem dX6_next_110 : decode cX6_next 110 = .ok (.putfield 32, 3) := dk_181 0 32 (dk_at dksX6_next_4 19 rfl rfl)
theorem dX6_next_113 : decode cX6_next 113 = .ok (.baload, 1) := dk_51 (dk_at dksX6_next_4 22 rfl rfl)
theorem dX6_next_114 : decode cX6_next 114 = .ok (.sipush 255, 3) := dk_17 0 255 (dk_at dksX6_next_5 0 rfl rfl)
theorem dX6_next_117 : decode cX6_next 117 = .ok (.iand, 1) := dk_126 (dk_at dksX6_next_5 3 rfl rfl)
theorem dX6_next_118 : decode cX6_next 118 = .ok (.i2c, 1) := dk_146 (dk_at dksX6_next_5 4 rfl rfl)
theorem dX6_next_119 : decode cX6_next 119 = .ok (.invokevirtual 57, 3) := dk_182 0 57 (dk_at dksX6_next_5 5 rfl rfl)
theorem dX6_next_122 : decode cX6_next 122 = .ok (.pop, 1) := dk_87 (dk_at dksX6_next_5 8 rfl rfl)
theorem dX6_next_123 : decode cX6_next 123 = .ok (.goto (-43), 3) := dk_167 255 213 (dk_at dksX6_next_5 9 rfl rfl)
theorem dX6_next_126 : decode cX6_next 126 = .ok (.aload_n 0, 1) := dk_42 (dk_at dksX6_next_5 12 rfl rfl)
theorem dX6_next_127 : decode cX6_next 127 = .ok (.aload_n 2, 1) := dk_44 (dk_at dksX6_next_5 13 rfl rfl)
theorem dX6_next_128 : decode cX6_next 128 = .ok (.invokevirtual 61, 3) := dk_182 0 61 (dk_at dksX6_next_5 14 rfl rfl)
theorem dX6_next_131 : decode cX6_next 131 = .ok (.putfield 11, 3) := dk_181 0 11 (dk_at dksX6_next_5 17 rfl rfl)
theorem dX6_next_134 : decode cX6_next 134 = .ok (.aload_n 0, 1) := dk_42 (dk_at dksX6_next_5 20 rfl rfl)
theorem dX6_next_135 : decode cX6_next 135 = .ok (.iconst 1, 1) := dk_4 (dk_at dksX6_next_5 21 rfl rfl)
theorem dX6_next_136 : decode cX6_next 136 = .ok (.putfield 43, 3) := dk_181 0 43 (dk_at dksX6_next_6 0 rfl rfl)
theorem dX6_next_139 : decode cX6_next 139 = .ok (.goto 141, 3) := dk_167 0 141 (dk_at dksX6_next_6 3 rfl rfl)
theorem dX6_next_142 : decode cX6_next 142 = .ok (.iload_n 1, 1) := dk_27 (dk_at dksX6_next_6 6 rfl rfl)
theorem dX6_next_143 : decode cX6_next 143 = .ok (.i2l, 1) := dk_133 (dk_at dksX6_next_6 7 rfl rfl)
theorem dX6_next_144 : decode cX6_next 144 = .ok (.ldc2_w 65, 3) := dk_20 0 65 (dk_at dksX6_next_6 8 rfl rfl)
theorem dX6_next_147 : decode cX6_next 147 = .ok (.ldc2_w 67, 3) := dk_20 0 67 (dk_at dksX6_next_6 11 rfl rfl)
theorem dX6_next_150 : decode cX6_next 150 = .ok (.invokestatic 50, 3) := dk_184 0 50 (dk_at dksX6_next_6 14 rfl rfl)
theorem dX6_next_153 : decode cX6_next 153 = .ok (.ifCond .eq 102, 3) := dk_153 0 102 (dk_at dksX6_next_6 17 rfl rfl)
theorem dX6_next_156 : decode cX6_next 156 = .ok (.aload_n 0, 1) := dk_42 (dk_at dksX6_next_6 20 rfl rfl)
theorem dX6_next_157 : decode cX6_next 157 = .ok (.iconst 0, 1) := dk_3 (dk_at dksX6_next_6 21 rfl rfl)
theorem dX6_next_158 : decode cX6_next 158 = .ok (.putfield 69, 3) := dk_181 0 69 (dk_at dksX6_next_7 0 rfl rfl)
theorem dX6_next_161 : decode cX6_next 161 = .ok (.aload_n 0, 1) := dk_42 (dk_at dksX6_next_7 3 rfl rfl)
theorem dX6_next_162 : decode cX6_next 162 = .ok (.invokevirtual 36, 3) := dk_182 0 36 (dk_at dksX6_next_7 4 rfl rfl)
theorem dX6_next_165 : decode cX6_next 165 = .ok (.i2l, 1) := dk_133 (dk_at dksX6_next_7 7 rfl rfl)
theorem dX6_next_166 : decode cX6_next 166 = .ok (.ldc2_w 65, 3) := dk_20 0 65 (dk_at dksX6_next_7 8 rfl rfl)
theorem dX6_next_169 : decode cX6_next 169 = .ok (.ldc2_w 67, 3) := dk_20 0 67 (dk_at dksX6_next_7 11 rfl rfl)
theorem dX6_next_172 : decode cX6_next 172 = .ok (.invokestatic 50, 3) := dk_184 0 50 (dk_at dksX6_next_7 14 rfl rfl)
theorem dX6_next_175 : decode cX6_next 175 = .ok (.ifCond .eq 55, 3) := dk_153 0 55 (dk_at dksX6_next_7 17 rfl rfl)
theorem dX6_next_178 : decode cX6_next 178 = .ok (.aload_n 0, 1) := dk_42 (dk_at dksX6_next_7 20 rfl rfl)
theorem dX6_next_179 : decode cX6_next 179 = .ok (.aload_n 0, 1) := dk_42 (dk_at dksX6_next_7 21 rfl rfl)
theorem dX6_next_180 : decode cX6_next 180 = .ok (.getfield 32, 3) := dk_180 0 32 (dk_at dksX6_next_8 0 rfl rfl)
theorem dX6_next_183 : decode cX6_next 183 = .ok (.aload_n 0, 1) := dk_42 (dk_at dksX6_next_8 3 rfl rfl)
theorem dX6_next_184 : decode cX6_next 184 = .ok (.getfield 40, 3) := dk_180 0 40 (dk_at dksX6_next_8 4 rfl rfl)
theorem dX6_next_187 : decode cX6_next 187 = .ok (.isub, 1) := dk_100 (dk_at dksX6_next_8 7 rfl rfl)
theorem dX6_next_188 : decode cX6_next 188 = .ok (.iconst 3, 1) := dk_6 (dk_at dksX6_next_8 8 rfl rfl)
theorem dX6_next_189 : decode cX6_next 189 = .ok (.if_icmp .ge 21, 3) := dk_162 0 21 (dk_at dksX6_next_8 9 rfl rfl)
theorem dX6_next_192 : decode cX6_next 192 = .ok (.bipush 10, 2) := dk_16 10 (dk_at dksX6_next_8 12 rfl rfl)
theorem dX6_next_194 : decode cX6_next 194 = .ok (.aload_n 0, 1) := dk_42 (dk_at dksX6_next_8 14 rfl rfl)
theorem dX6_next_195 : decode cX6_next 195 = .ok (.getfield 69, 3) := dk_180 0 69 (dk_at dksX6_next_8 15 rfl rfl)
theorem dX6_next_198 : decode cX6_next 198 = .ok (.imul, 1) := dk_104 (dk_at dksX6_next_8 18 rfl rfl)
theorem dX6_next_199 : decode cX6_next 199 = .ok (.aload_n 0, 1) := dk_42 (dk_at dksX6_next_8 19 rfl rfl)
theorem dX6_next_200 : decode cX6_next 200 = .ok (.invokevirtual 36, 3) := dk_182 0 36 (dk_at dksX6_next_8 20 rfl rfl)
theorem dX6_next_203 : decode cX6_next 203 = .ok (.iadd, 1) := dk_96 (dk_at dksX6_next_8 23 rfl rfl)
theorem dX6_next_204 : decode cX6_next 204 = .ok (.bipush 48, 2) := dk_16 48 (dk_at dksX6_next_9 0 rfl rfl)
theorem dX6_next_206 : decode cX6_next 206 = .ok (.isub, 1) := dk_100 (dk_at dksX6_next_9 2 rfl rfl)
theorem dX6_next_207 : decode cX6_next 207 = .ok (.goto 7, 3) := dk_167 0 7 (dk_at dksX6_next_9 3 rfl rfl)
theorem dX6_next_210 : decode cX6_next 210 = .ok (.aload_n 0, 1) := dk_42 (dk_at dksX6_next_9 6 rfl rfl)
theorem dX6_next_211 : decode cX6_next 211 = .ok (.getfield 69, 3) := dk_180 0 69 (dk_at dksX6_next_9 7 rfl rfl)
theorem dX6_next_214 : decode cX6_next 214 = .ok (.putfield 69, 3) := dk_181 0 69 (dk_at dksX6_next_9 10 rfl rfl)
theorem dX6_next_217 : decode cX6_next 217 = .ok (.aload_n 0, 1) := dk_42 (dk_at dksX6_next_9 13 rfl rfl)
theorem dX6_next_218 : decode cX6_next 218 = .ok (.dup, 1) := dk_89 (dk_at dksX6_next_9 14 rfl rfl)
theorem dX6_next_219 : decode cX6_next 219 = .ok (.getfield 32, 3) := dk_180 0 32 (dk_at dksX6_next_9 15 rfl rfl)
theorem dX6_next_222 : decode cX6_next 222 = .ok (.iconst 1, 1) := dk_4 (dk_at dksX6_next_9 18 rfl rfl)
theorem dX6_next_223 : decode cX6_next 223 = .ok (.iadd, 1) := dk_96 (dk_at dksX6_next_9 19 rfl rfl)
theorem dX6_next_224 : decode cX6_next 224 = .ok (.putfield 32, 3) := dk_181 0 32 (dk_at dksX6_next_9 20 rfl rfl)
theorem dX6_next_227 : decode cX6_next 227 = .ok (.goto (-66), 3) := dk_167 255 190 (dk_at dksX6_next_10 0 rfl rfl)
theorem dX6_next_230 : decode cX6_next 230 = .ok (.aload_n 0, 1) := dk_42 (dk_at dksX6_next_10 3 rfl rfl)
theorem dX6_next_231 : decode cX6_next 231 = .ok (.aload_n 0, 1) := dk_42 (dk_at dksX6_next_10 4 rfl rfl)
theorem dX6_next_232 : decode cX6_next 232 = .ok (.getfield 32, 3) := dk_180 0 32 (dk_at dksX6_next_10 5 rfl rfl)
theorem dX6_next_235 : decode cX6_next 235 = .ok (.aload_n 0, 1) := dk_42 (dk_at dksX6_next_10 8 rfl rfl)
theorem dX6_next_236 : decode cX6_next 236 = .ok (.getfield 40, 3) := dk_180 0 40 (dk_at dksX6_next_10 9 rfl rfl)
theorem dX6_next_239 : decode cX6_next 239 = .ok (.isub, 1) := dk_100 (dk_at dksX6_next_10 12 rfl rfl)
theorem dX6_next_240 : decode cX6_next 240 = .ok (.iconst 3, 1) := dk_6 (dk_at dksX6_next_10 13 rfl rfl)
theorem dX6_next_241 : decode cX6_next 241 = .ok (.if_icmp .gt 7, 3) := dk_163 0 7 (dk_at dksX6_next_10 14 rfl rfl)
theorem dX6_next_244 : decode cX6_next 244 = .ok (.iconst 2, 1) := dk_5 (dk_at dksX6_next_10 17 rfl rfl)
theorem dX6_next_245 : decode cX6_next 245 = .ok (.goto 4, 3) := dk_167 0 4 (dk_at dksX6_next_10 18 rfl rfl)
theorem dX6_next_248 : decode cX6_next 248 = .ok (.iconst 4, 1) := dk_7 (dk_at dksX6_next_10 21 rfl rfl)
theorem dX6_next_249 : decode cX6_next 249 = .ok (.putfield 43, 3) := dk_181 0 43 (dk_at dksX6_next_11 0 rfl rfl)
theorem dX6_next_252 : decode cX6_next 252 = .ok (.goto 28, 3) := dk_167 0 28 (dk_at dksX6_next_11 3 rfl rfl)
theorem dX6_next_255 : decode cX6_next 255 = .ok (.aload_n 0, 1) := dk_42 (dk_at dksX6_next_11 6 rfl rfl)
theorem dX6_next_256 : decode cX6_next 256 = .ok (.dup, 1) := dk_89 (dk_at dksX6_next_11 7 rfl rfl)
theorem dX6_next_257 : decode cX6_next 257 = .ok (.getfield 32, 3) := dk_180 0 32 (dk_at dksX6_next_11 8 rfl rfl)
theorem dX6_next_260 : decode cX6_next 260 = .ok (.iconst 1, 1) := dk_4 (dk_at dksX6_next_11 11 rfl rfl)
theorem dX6_next_261 : decode cX6_next 261 = .ok (.iadd, 1) := dk_96 (dk_at dksX6_next_11 12 rfl rfl)
theorem dX6_next_262 : decode cX6_next 262 = .ok (.putfield 32, 3) := dk_181 0 32 (dk_at dksX6_next_11 13 rfl rfl)
theorem dX6_next_265 : decode cX6_next 265 = .ok (.aload_n 0, 1) := dk_42 (dk_at dksX6_next_11 16 rfl rfl)
theorem dX6_next_266 : decode cX6_next 266 = .ok (.iload_n 1, 1) := dk_27 (dk_at dksX6_next_11 17 rfl rfl)
theorem dX6_next_267 : decode cX6_next 267 = .ok (.bipush 59, 2) := dk_16 59 (dk_at dksX6_next_11 18 rfl rfl)
theorem dX6_next_269 : decode cX6_next 269 = .ok (.if_icmp .ne 7, 3) := dk_160 0 7 (dk_at dksX6_next_11 20 rfl rfl)
theorem dX6_next_272 : decode cX6_next 272 = .ok (.iconst 3, 1) := dk_6 (dk_at dksX6_next_11 23 rfl rfl)
theorem dX6_next_273 : decode cX6_next 273 = .ok (.goto 4, 3) := dk_167 0 4 (dk_at dksX6_next_12 0 rfl rfl)
theorem dX6_next_276 : decode cX6_next 276 = .ok (.iconst 4, 1) := dk_7 (dk_at dksX6_next_12 3 rfl rfl)
theorem dX6_next_277 : decode cX6_next 277 = .ok (.putfield 43, 3) := dk_181 0 43 (dk_at dksX6_next_12 4 rfl rfl)
theorem dX6_next_280 : decode cX6_next 280 = .ok (.return_, 1) := dk_177 (dk_at dksX6_next_12 7 rfl rfl)
abbrev cX6_look : ByteArray := prog_10_method_2_code
def yX6_look : MethodName := ⟨RX6, "look", "()I"⟩
def dkwX6_look_1 : List UInt8 := [167, 0, 5, 18, 35, 172]
abbrev dktX6_look_1 : List UInt8 := dkwX6_look_1 ++ []
def dkwX6_look_0 : List UInt8 := [42, 180, 0, 32, 42, 180, 0, 28, 162, 0, 19, 42, 180, 0, 24, 42, 180, 0, 32, 51, 17, 0, 255, 126]
abbrev dktX6_look_0 : List UInt8 := dkwX6_look_0 ++ dktX6_look_1
theorem dksX6_look_0 : cX6_look.data.toList.drop 0 = dktX6_look_0 := by decide +kernel
theorem dksX6_look_1 : cX6_look.data.toList.drop 24 = dktX6_look_1 := dk_seg dksX6_look_0 24 rfl rfl
theorem dX6_look_0 : decode cX6_look 0 = .ok (.aload_n 0, 1) := dk_42 (dk_at dksX6_look_0 0 rfl rfl)
theorem dX6_look_1 : decode cX6_look 1 = .ok (.getfield 32, 3) := dk_180 0 32 (dk_at dksX6_look_0 1 rfl rfl)
theorem dX6_look_4 : decode cX6_look 4 = .ok (.aload_n 0, 1) := dk_42 (dk_at dksX6_look_0 4 rfl rfl)
theorem dX6_look_5 : decode cX6_look 5 = .ok (.getfield 28, 3) := dk_180 0 28 (dk_at dksX6_look_0 5 rfl rfl)
theorem dX6_look_8 : decode cX6_look 8 = .ok (.if_icmp .ge 19, 3) := dk_162 0 19 (dk_at dksX6_look_0 8 rfl rfl)
theorem dX6_look_11 : decode cX6_look 11 = .ok (.aload_n 0, 1) := dk_42 (dk_at dksX6_look_0 11 rfl rfl)
theorem dX6_look_12 : decode cX6_look 12 = .ok (.getfield 24, 3) := dk_180 0 24 (dk_at dksX6_look_0 12 rfl rfl)
theorem dX6_look_15 : decode cX6_look 15 = .ok (.aload_n 0, 1) := dk_42 (dk_at dksX6_look_0 15 rfl rfl)
theorem dX6_look_16 : decode cX6_look 16 = .ok (.getfield 32, 3) := dk_180 0 32 (dk_at dksX6_look_0 16 rfl rfl)
theorem dX6_look_19 : decode cX6_look 19 = .ok (.baload, 1) := dk_51 (dk_at dksX6_look_0 19 rfl rfl)
theorem dX6_look_20 : decode cX6_look 20 = .ok (.sipush 255, 3) := dk_17 0 255 (dk_at dksX6_look_0 20 rfl rfl)
theorem dX6_look_23 : decode cX6_look 23 = .ok (.iand, 1) := dk_126 (dk_at dksX6_look_0 23 rfl rfl)
theorem dX6_look_24 : decode cX6_look 24 = .ok (.goto 5, 3) := dk_167 0 5 (dk_at dksX6_look_1 0 rfl rfl)
theorem dX6_look_27 : decode cX6_look 27 = .ok (.ldc 35, 2) := dk_18 35 (dk_at dksX6_look_1 3 rfl rfl)
theorem dX6_look_29 : decode cX6_look 29 = .ok (.ireturn, 1) := dk_172 (dk_at dksX6_look_1 5 rfl rfl)
abbrev cX6_isWord : ByteArray := prog_10_method_5_code
def yX6_isWord : MethodName := ⟨RX6, "isWord", "(Ljava/lang/String;)Z"⟩
def dkwX6_isWord_1 : List UInt8 := [172]
abbrev dktX6_isWord_1 : List UInt8 := dkwX6_isWord_1 ++ []
def dkwX6_isWord_0 : List UInt8 := [42, 180, 0, 43, 4, 160, 0, 18, 42, 180, 0, 11, 43, 182, 0, 77, 153, 0, 7, 4, 167, 0, 4, 3]
abbrev dktX6_isWord_0 : List UInt8 := dkwX6_isWord_0 ++ dktX6_isWord_1
theorem dksX6_isWord_0 : cX6_isWord.data.toList.drop 0 = dktX6_isWord_0 := by decide +kernel
theorem dksX6_isWord_1 : cX6_isWord.data.toList.drop 24 = dktX6_isWord_1 := dk_seg dksX6_isWord_0 24 rfl rfl
theorem dX6_isWord_0 : decode cX6_isWord 0 = .ok (.aload_n 0, 1) := dk_42 (dk_at dksX6_isWord_0 0 rfl rfl)
theorem dX6_isWord_1 : decode cX6_isWord 1 = .ok (.getfield 43, 3) := dk_180 0 43 (dk_at dksX6_isWord_0 1 rfl rfl)
theorem dX6_isWord_4 : decode cX6_isWord 4 = .ok (.iconst 1, 1) := dk_4 (dk_at dksX6_isWord_0 4 rfl rfl)
theorem dX6_isWord_5 : decode cX6_isWord 5 = .ok (.if_icmp .ne 18, 3) := dk_160 0 18 (dk_at dksX6_isWord_0 5 rfl rfl)
theorem dX6_isWord_8 : decode cX6_isWord 8 = .ok (.aload_n 0, 1) := dk_42 (dk_at dksX6_isWord_0 8 rfl rfl)
theorem dX6_isWord_9 : decode cX6_isWord 9 = .ok (.getfield 11, 3) := dk_180 0 11 (dk_at dksX6_isWord_0 9 rfl rfl)
theorem dX6_isWord_12 : decode cX6_isWord 12 = .ok (.aload_n 1, 1) := dk_43 (dk_at dksX6_isWord_0 12 rfl rfl)
theorem dX6_isWord_13 : decode cX6_isWord 13 = .ok (.invokevirtual 77, 3) := dk_182 0 77 (dk_at dksX6_isWord_0 13 rfl rfl)
theorem dX6_isWord_16 : decode cX6_isWord 16 = .ok (.ifCond .eq 7, 3) := dk_153 0 7 (dk_at dksX6_isWord_0 16 rfl rfl)
theorem dX6_isWord_19 : decode cX6_isWord 19 = .ok (.iconst 1, 1) := dk_4 (dk_at dksX6_isWord_0 19 rfl rfl)
theorem dX6_isWord_20 : decode cX6_isWord 20 = .ok (.goto 4, 3) := dk_167 0 4 (dk_at dksX6_isWord_0 20 rfl rfl)
theorem dX6_isWord_23 : decode cX6_isWord 23 = .ok (.iconst 0, 1) := dk_3 (dk_at dksX6_isWord_0 23 rfl rfl)
theorem dX6_isWord_24 : decode cX6_isWord 24 = .ok (.ireturn, 1) := dk_172 (dk_at dksX6_isWord_1 0 rfl rfl)
abbrev cX6_must : ByteArray := prog_10_method_4_code
def yX6_must : MethodName := ⟨RX6, "must", "(ZI)V"⟩
def dkwX6_must_0 : List UInt8 := [27, 154, 0, 16, 187, 0, 72, 89, 28, 42, 180, 0, 40, 183, 0, 74, 191, 177]
abbrev dktX6_must_0 : List UInt8 := dkwX6_must_0 ++ []
theorem dksX6_must_0 : cX6_must.data.toList.drop 0 = dktX6_must_0 := by decide +kernel
theorem dX6_must_0 : decode cX6_must 0 = .ok (.iload_n 1, 1) := dk_27 (dk_at dksX6_must_0 0 rfl rfl)
theorem dX6_must_1 : decode cX6_must 1 = .ok (.ifCond .ne 16, 3) := dk_154 0 16 (dk_at dksX6_must_0 1 rfl rfl)
theorem dX6_must_4 : decode cX6_must 4 = .ok (.new 72, 3) := dk_187 0 72 (dk_at dksX6_must_0 4 rfl rfl)
theorem dX6_must_7 : decode cX6_must 7 = .ok (.dup, 1) := dk_89 (dk_at dksX6_must_0 7 rfl rfl)
theorem dX6_must_8 : decode cX6_must 8 = .ok (.iload_n 2, 1) := dk_28 (dk_at dksX6_must_0 8 rfl rfl)
theorem dX6_must_9 : decode cX6_must 9 = .ok (.aload_n 0, 1) := dk_42 (dk_at dksX6_must_0 9 rfl rfl)
theorem dX6_must_10 : decode cX6_must 10 = .ok (.getfield 40, 3) := dk_180 0 40 (dk_at dksX6_must_0 10 rfl rfl)
theorem dX6_must_13 : decode cX6_must 13 = .ok (.invokespecial 74, 3) := dk_183 0 74 (dk_at dksX6_must_0 13 rfl rfl)
theorem dX6_must_16 : decode cX6_must 16 = .ok (.athrow, 1) := dk_191 (dk_at dksX6_must_0 16 rfl rfl)
theorem dX6_must_17 : decode cX6_must 17 = .ok (.return_, 1) := dk_177 (dk_at dksX6_must_0 17 rfl rfl)
abbrev cX6_figure : ByteArray := prog_10_method_6_code
def yX6_figure : MethodName := ⟨RX6, "figure", "(II)I"⟩
def dkwX6_figure_1 : List UInt8 := [27, 133, 28, 133, 184, 0, 50, 5, 182, 0, 83, 42, 180, 0, 69, 62, 42, 182, 0, 87, 29, 172]
abbrev dktX6_figure_1 : List UInt8 := dkwX6_figure_1 ++ []
def dkwX6_figure_0 : List UInt8 := [42, 42, 180, 0, 43, 5, 160, 0, 7, 4, 167, 0, 4, 3, 4, 182, 0, 83, 42, 42, 180, 0, 69, 133]
abbrev dktX6_figure_0 : List UInt8 := dkwX6_figure_0 ++ dktX6_figure_1
theorem dksX6_figure_0 : cX6_figure.data.toList.drop 0 = dktX6_figure_0 := by decide +kernel
theorem dksX6_figure_1 : cX6_figure.data.toList.drop 24 = dktX6_figure_1 := dk_seg dksX6_figure_0 24 rfl rfl
theorem dX6_figure_0 : decode cX6_figure 0 = .ok (.aload_n 0, 1) := dk_42 (dk_at dksX6_figure_0 0 rfl rfl)
theorem dX6_figure_1 : decode cX6_figure 1 = .ok (.aload_n 0, 1) := dk_42 (dk_at dksX6_figure_0 1 rfl rfl)
theorem dX6_figure_2 : decode cX6_figure 2 = .ok (.getfield 43, 3) := dk_180 0 43 (dk_at dksX6_figure_0 2 rfl rfl)
theorem dX6_figure_5 : decode cX6_figure 5 = .ok (.iconst 2, 1) := dk_5 (dk_at dksX6_figure_0 5 rfl rfl)
theorem dX6_figure_6 : decode cX6_figure 6 = .ok (.if_icmp .ne 7, 3) := dk_160 0 7 (dk_at dksX6_figure_0 6 rfl rfl)
theorem dX6_figure_9 : decode cX6_figure 9 = .ok (.iconst 1, 1) := dk_4 (dk_at dksX6_figure_0 9 rfl rfl)
theorem dX6_figure_10 : decode cX6_figure 10 = .ok (.goto 4, 3) := dk_167 0 4 (dk_at dksX6_figure_0 10 rfl rfl)
theorem dX6_figure_13 : decode cX6_figure 13 = .ok (.iconst 0, 1) := dk_3 (dk_at dksX6_figure_0 13 rfl rfl)
theorem dX6_figure_14 : decode cX6_figure 14 = .ok (.iconst 1, 1) := dk_4 (dk_at dksX6_figure_0 14 rfl rfl)
theorem dX6_figure_15 : decode cX6_figure 15 = .ok (.invokevirtual 83, 3) := dk_182 0 83 (dk_at dksX6_figure_0 15 rfl rfl)
theorem dX6_figure_18 : decode cX6_figure 18 = .ok (.aload_n 0, 1) := dk_42 (dk_at dksX6_figure_0 18 rfl rfl)
theorem dX6_figure_19 : decode cX6_figure 19 = .ok (.aload_n 0, 1) := dk_42 (dk_at dksX6_figure_0 19 rfl rfl)
theorem dX6_figure_20 : decode cX6_figure 20 = .ok (.getfield 69, 3) := dk_180 0 69 (dk_at dksX6_figure_0 20 rfl rfl)
theorem dX6_figure_23 : decode cX6_figure 23 = .ok (.i2l, 1) := dk_133 (dk_at dksX6_figure_0 23 rfl rfl)
theorem dX6_figure_24 : decode cX6_figure 24 = .ok (.iload_n 1, 1) := dk_27 (dk_at dksX6_figure_1 0 rfl rfl)
theorem dX6_figure_25 : decode cX6_figure 25 = .ok (.i2l, 1) := dk_133 (dk_at dksX6_figure_1 1 rfl rfl)
theorem dX6_figure_26 : decode cX6_figure 26 = .ok (.iload_n 2, 1) := dk_28 (dk_at dksX6_figure_1 2 rfl rfl)
theorem dX6_figure_27 : decode cX6_figure 27 = .ok (.i2l, 1) := dk_133 (dk_at dksX6_figure_1 3 rfl rfl)
theorem dX6_figure_28 : decode cX6_figure 28 = .ok (.invokestatic 50, 3) := dk_184 0 50 (dk_at dksX6_figure_1 4 rfl rfl)
theorem dX6_figure_31 : decode cX6_figure 31 = .ok (.iconst 2, 1) := dk_5 (dk_at dksX6_figure_1 7 rfl rfl)
theorem dX6_figure_32 : decode cX6_figure 32 = .ok (.invokevirtual 83, 3) := dk_182 0 83 (dk_at dksX6_figure_1 8 rfl rfl)
theorem dX6_figure_35 : decode cX6_figure 35 = .ok (.aload_n 0, 1) := dk_42 (dk_at dksX6_figure_1 11 rfl rfl)
theorem dX6_figure_36 : decode cX6_figure 36 = .ok (.getfield 69, 3) := dk_180 0 69 (dk_at dksX6_figure_1 12 rfl rfl)
theorem dX6_figure_39 : decode cX6_figure 39 = .ok (.istore_n 3, 1) := dk_62 (dk_at dksX6_figure_1 15 rfl rfl)
theorem dX6_figure_40 : decode cX6_figure 40 = .ok (.aload_n 0, 1) := dk_42 (dk_at dksX6_figure_1 16 rfl rfl)
theorem dX6_figure_41 : decode cX6_figure 41 = .ok (.invokevirtual 87, 3) := dk_182 0 87 (dk_at dksX6_figure_1 17 rfl rfl)
theorem dX6_figure_44 : decode cX6_figure 44 = .ok (.iload_n 3, 1) := dk_29 (dk_at dksX6_figure_1 20 rfl rfl)
theorem dX6_figure_45 : decode cX6_figure 45 = .ok (.ireturn, 1) := dk_172 (dk_at dksX6_figure_1 21 rfl rfl)
abbrev cX6_sign : ByteArray := prog_10_method_7_code
def yX6_sign : MethodName := ⟨RX6, "sign", "()V"⟩
def dkwX6_sign_0 : List UInt8 := [42, 42, 180, 0, 43, 6, 160, 0, 7, 4, 167, 0, 4, 3, 4, 182, 0, 83, 42, 182, 0, 87, 177]
abbrev dktX6_sign_0 : List UInt8 := dkwX6_sign_0 ++ []
theorem dksX6_sign_0 : cX6_sign.data.toList.drop 0 = dktX6_sign_0 := by decide +kernel
theorem dX6_sign_0 : decode cX6_sign 0 = .ok (.aload_n 0, 1) := dk_42 (dk_at dksX6_sign_0 0 rfl rfl)
theorem dX6_sign_1 : decode cX6_sign 1 = .ok (.aload_n 0, 1) := dk_42 (dk_at dksX6_sign_0 1 rfl rfl)
theorem dX6_sign_2 : decode cX6_sign 2 = .ok (.getfield 43, 3) := dk_180 0 43 (dk_at dksX6_sign_0 2 rfl rfl)
theorem dX6_sign_5 : decode cX6_sign 5 = .ok (.iconst 3, 1) := dk_6 (dk_at dksX6_sign_0 5 rfl rfl)
theorem dX6_sign_6 : decode cX6_sign 6 = .ok (.if_icmp .ne 7, 3) := dk_160 0 7 (dk_at dksX6_sign_0 6 rfl rfl)
theorem dX6_sign_9 : decode cX6_sign 9 = .ok (.iconst 1, 1) := dk_4 (dk_at dksX6_sign_0 9 rfl rfl)
theorem dX6_sign_10 : decode cX6_sign 10 = .ok (.goto 4, 3) := dk_167 0 4 (dk_at dksX6_sign_0 10 rfl rfl)
theorem dX6_sign_13 : decode cX6_sign 13 = .ok (.iconst 0, 1) := dk_3 (dk_at dksX6_sign_0 13 rfl rfl)
theorem dX6_sign_14 : decode cX6_sign 14 = .ok (.iconst 1, 1) := dk_4 (dk_at dksX6_sign_0 14 rfl rfl)
theorem dX6_sign_15 : decode cX6_sign 15 = .ok (.invokevirtual 83, 3) := dk_182 0 83 (dk_at dksX6_sign_0 15 rfl rfl)
theorem dX6_sign_18 : decode cX6_sign 18 = .ok (.aload_n 0, 1) := dk_42 (dk_at dksX6_sign_0 18 rfl rfl)
theorem dX6_sign_19 : decode cX6_sign 19 = .ok (.invokevirtual 87, 3) := dk_182 0 87 (dk_at dksX6_sign_0 19 rfl rfl)
theorem dX6_sign_22 : decode cX6_sign 22 = .ok (.return_, 1) := dk_177 (dk_at dksX6_sign_0 22 rfl rfl)
abbrev cX6_begin : ByteArray := prog_10_method_8_code
def yX6_begin : MethodName := ⟨RX6, "begin", "(II)V"⟩
def dkwX6_begin_0 : List UInt8 := [42, 27, 28, 162, 0, 7, 4, 167, 0, 4, 3, 6, 182, 0, 83, 42, 182, 0, 87, 177]
abbrev dktX6_begin_0 : List UInt8 := dkwX6_begin_0 ++ []
theorem dksX6_begin_0 : cX6_begin.data.toList.drop 0 = dktX6_begin_0 := by decide +kernel
theorem dX6_begin_0 : decode cX6_begin 0 = .ok (.aload_n 0, 1) := dk_42 (dk_at dksX6_begin_0 0 rfl rfl)
theorem dX6_begin_1 : decode cX6_begin 1 = .ok (.iload_n 1, 1) := dk_27 (dk_at dksX6_begin_0 1 rfl rfl)
theorem dX6_begin_2 : decode cX6_begin 2 = .ok (.iload_n 2, 1) := dk_28 (dk_at dksX6_begin_0 2 rfl rfl)
theorem dX6_begin_3 : decode cX6_begin 3 = .ok (.if_icmp .ge 7, 3) := dk_162 0 7 (dk_at dksX6_begin_0 3 rfl rfl)
theorem dX6_begin_6 : decode cX6_begin 6 = .ok (.iconst 1, 1) := dk_4 (dk_at dksX6_begin_0 6 rfl rfl)
theorem dX6_begin_7 : decode cX6_begin 7 = .ok (.goto 4, 3) := dk_167 0 4 (dk_at dksX6_begin_0 7 rfl rfl)
theorem dX6_begin_10 : decode cX6_begin 10 = .ok (.iconst 0, 1) := dk_3 (dk_at dksX6_begin_0 10 rfl rfl)
theorem dX6_begin_11 : decode cX6_begin 11 = .ok (.iconst 3, 1) := dk_6 (dk_at dksX6_begin_0 11 rfl rfl)
theorem dX6_begin_12 : decode cX6_begin 12 = .ok (.invokevirtual 83, 3) := dk_182 0 83 (dk_at dksX6_begin_0 12 rfl rfl)
theorem dX6_begin_15 : decode cX6_begin 15 = .ok (.aload_n 0, 1) := dk_42 (dk_at dksX6_begin_0 15 rfl rfl)
theorem dX6_begin_16 : decode cX6_begin 16 = .ok (.invokevirtual 87, 3) := dk_182 0 87 (dk_at dksX6_begin_0 16 rfl rfl)
theorem dX6_begin_19 : decode cX6_begin 19 = .ok (.return_, 1) := dk_177 (dk_at dksX6_begin_0 19 rfl rfl)
abbrev cX6_mover : ByteArray := prog_10_method_10_code
def yX6_mover : MethodName := ⟨RX6, "mover", "()V"⟩
def dkwX6_mover_5 : List UInt8 := [4, 8, 182, 0, 96, 184, 0, 150, 185, 0, 154, 2, 0, 87, 42, 182, 0, 112, 177]
abbrev dktX6_mover_5 : List UInt8 := dkwX6_mover_5 ++ []
def dkwX6_mover_4 : List UInt8 := [4, 160, 0, 7, 4, 167, 0, 4, 3, 54, 4, 42, 180, 0, 20, 180, 0, 138, 28, 27, 29, 21, 4, 42]
abbrev dktX6_mover_4 : List UInt8 := dkwX6_mover_4 ++ dktX6_mover_5
def dkwX6_mover_3 : List UInt8 := [182, 0, 87, 42, 3, 42, 180, 0, 20, 180, 0, 117, 4, 100, 182, 0, 96, 62, 42, 3, 4, 182, 0, 96]
abbrev dktX6_mover_3 : List UInt8 := dkwX6_mover_3 ++ dktX6_mover_4
def dkwX6_mover_2 : List UInt8 := [167, 255, 233, 42, 28, 178, 0, 146, 190, 162, 0, 7, 4, 167, 0, 4, 3, 4, 182, 0, 83, 42]
abbrev dktX6_mover_2 : List UInt8 := dkwX6_mover_2 ++ dktX6_mover_3
def dkwX6_mover_1 : List UInt8 := [178, 0, 146, 190, 162, 0, 21, 42, 178, 0, 146, 28, 50, 182, 0, 92, 154, 0, 9, 132, 2, 1]
abbrev dktX6_mover_1 : List UInt8 := dkwX6_mover_1 ++ dktX6_mover_2
def dkwX6_mover_0 : List UInt8 := [42, 180, 0, 20, 180, 0, 138, 185, 0, 142, 1, 0, 60, 42, 27, 8, 182, 0, 120, 3, 61, 28]
abbrev dktX6_mover_0 : List UInt8 := dkwX6_mover_0 ++ dktX6_mover_1
theorem dksX6_mover_0 : cX6_mover.data.toList.drop 0 = dktX6_mover_0 := by decide +kernel
theorem dksX6_mover_1 : cX6_mover.data.toList.drop 22 = dktX6_mover_1 := dk_seg dksX6_mover_0 22 rfl rfl
theorem dksX6_mover_2 : cX6_mover.data.toList.drop 44 = dktX6_mover_2 := dk_seg dksX6_mover_1 22 rfl rfl
theorem dksX6_mover_3 : cX6_mover.data.toList.drop 66 = dktX6_mover_3 := dk_seg dksX6_mover_2 22 rfl rfl
theorem dksX6_mover_4 : cX6_mover.data.toList.drop 90 = dktX6_mover_4 := dk_seg dksX6_mover_3 24 rfl rfl
theorem dksX6_mover_5 : cX6_mover.data.toList.drop 114 = dktX6_mover_5 := dk_seg dksX6_mover_4 24 rfl rfl
theorem dX6_mover_0 : decode cX6_mover 0 = .ok (.aload_n 0, 1) := dk_42 (dk_at dksX6_mover_0 0 rfl rfl)
theorem dX6_mover_1 : decode cX6_mover 1 = .ok (.getfield 20, 3) := dk_180 0 20 (dk_at dksX6_mover_0 1 rfl rfl)
theorem dX6_mover_4 : decode cX6_mover 4 = .ok (.getfield 138, 3) := dk_180 0 138 (dk_at dksX6_mover_0 4 rfl rfl)
theorem dX6_mover_7 : decode cX6_mover 7 = .ok (.invokeinterface 142 1, 5) := by decide +kernel
theorem dX6_mover_12 : decode cX6_mover 12 = .ok (.istore_n 1, 1) := dk_60 (dk_at dksX6_mover_0 12 rfl rfl)
theorem dX6_mover_13 : decode cX6_mover 13 = .ok (.aload_n 0, 1) := dk_42 (dk_at dksX6_mover_0 13 rfl rfl)
theorem dX6_mover_14 : decode cX6_mover 14 = .ok (.iload_n 1, 1) := dk_27 (dk_at dksX6_mover_0 14 rfl rfl)
theorem dX6_mover_15 : decode cX6_mover 15 = .ok (.iconst 5, 1) := dk_8 (dk_at dksX6_mover_0 15 rfl rfl)
theorem dX6_mover_16 : decode cX6_mover 16 = .ok (.invokevirtual 120, 3) := dk_182 0 120 (dk_at dksX6_mover_0 16 rfl rfl)
theorem dX6_mover_19 : decode cX6_mover 19 = .ok (.iconst 0, 1) := dk_3 (dk_at dksX6_mover_0 19 rfl rfl)
theorem dX6_mover_20 : decode cX6_mover 20 = .ok (.istore_n 2, 1) := dk_61 (dk_at dksX6_mover_0 20 rfl rfl)
theorem dX6_mover_21 : decode cX6_mover 21 = .ok (.iload_n 2, 1) := dk_28 (dk_at dksX6_mover_0 21 rfl rfl)
theorem dX6_mover_22 : decode cX6_mover 22 = .ok (.getstatic 146, 3) := dk_178 0 146 (dk_at dksX6_mover_1 0 rfl rfl)
theorem dX6_mover_25 : decode cX6_mover 25 = .ok (.arraylength, 1) := dk_190 (dk_at dksX6_mover_1 3 rfl rfl)
theorem dX6_mover_26 : decode cX6_mover 26 = .ok (.if_icmp .ge 21, 3) := dk_162 0 21 (dk_at dksX6_mover_1 4 rfl rfl)
theorem dX6_mover_29 : decode cX6_mover 29 = .ok (.aload_n 0, 1) := dk_42 (dk_at dksX6_mover_1 7 rfl rfl)
theorem dX6_mover_30 : decode cX6_mover 30 = .ok (.getstatic 146, 3) := dk_178 0 146 (dk_at dksX6_mover_1 8 rfl rfl)
theorem dX6_mover_33 : decode cX6_mover 33 = .ok (.iload_n 2, 1) := dk_28 (dk_at dksX6_mover_1 11 rfl rfl)
theorem dX6_mover_34 : decode cX6_mover 34 = .ok (.aaload, 1) := dk_50 (dk_at dksX6_mover_1 12 rfl rfl)
theorem dX6_mover_35 : decode cX6_mover 35 = .ok (.invokevirtual 92, 3) := dk_182 0 92 (dk_at dksX6_mover_1 13 rfl rfl)
theorem dX6_mover_38 : decode cX6_mover 38 = .ok (.ifCond .ne 9, 3) := dk_154 0 9 (dk_at dksX6_mover_1 16 rfl rfl)
theorem dX6_mover_41 : decode cX6_mover 41 = .ok (.iinc 2 1, 3) := dk_132 2 1 (dk_at dksX6_mover_1 19 rfl rfl)
theorem dX6_mover_44 : decode cX6_mover 44 = .ok (.goto (-23), 3) := dk_167 255 233 (dk_at dksX6_mover_2 0 rfl rfl)
theorem dX6_mover_47 : decode cX6_mover 47 = .ok (.aload_n 0, 1) := dk_42 (dk_at dksX6_mover_2 3 rfl rfl)
theorem dX6_mover_48 : decode cX6_mover 48 = .ok (.iload_n 2, 1) := dk_28 (dk_at dksX6_mover_2 4 rfl rfl)
theorem dX6_mover_49 : decode cX6_mover 49 = .ok (.getstatic 146, 3) := dk_178 0 146 (dk_at dksX6_mover_2 5 rfl rfl)
theorem dX6_mover_52 : decode cX6_mover 52 = .ok (.arraylength, 1) := dk_190 (dk_at dksX6_mover_2 8 rfl rfl)
theorem dX6_mover_53 : decode cX6_mover 53 = .ok (.if_icmp .ge 7, 3) := dk_162 0 7 (dk_at dksX6_mover_2 9 rfl rfl)
theorem dX6_mover_56 : decode cX6_mover 56 = .ok (.iconst 1, 1) := dk_4 (dk_at dksX6_mover_2 12 rfl rfl)
theorem dX6_mover_57 : decode cX6_mover 57 = .ok (.goto 4, 3) := dk_167 0 4 (dk_at dksX6_mover_2 13 rfl rfl)
theorem dX6_mover_60 : decode cX6_mover 60 = .ok (.iconst 0, 1) := dk_3 (dk_at dksX6_mover_2 16 rfl rfl)
theorem dX6_mover_61 : decode cX6_mover 61 = .ok (.iconst 1, 1) := dk_4 (dk_at dksX6_mover_2 17 rfl rfl)
theorem dX6_mover_62 : decode cX6_mover 62 = .ok (.invokevirtual 83, 3) := dk_182 0 83 (dk_at dksX6_mover_2 18 rfl rfl)
theorem dX6_mover_65 : decode cX6_mover 65 = .ok (.aload_n 0, 1) := dk_42 (dk_at dksX6_mover_2 21 rfl rfl)
theorem dX6_mover_66 : decode cX6_mover 66 = .ok (.invokevirtual 87, 3) := dk_182 0 87 (dk_at dksX6_mover_3 0 rfl rfl)
theorem dX6_mover_69 : decode cX6_mover 69 = .ok (.aload_n 0, 1) := dk_42 (dk_at dksX6_mover_3 3 rfl rfl)
theorem dX6_mover_70 : decode cX6_mover 70 = .ok (.iconst 0, 1) := dk_3 (dk_at dksX6_mover_3 4 rfl rfl)
theorem dX6_mover_71 : decode cX6_mover 71 = .ok (.aload_n 0, 1) := dk_42 (dk_at dksX6_mover_3 5 rfl rfl)
theorem dX6_mover_72 : decode cX6_mover 72 = .ok (.getfield 20, 3) := dk_180 0 20 (dk_at dksX6_mover_3 6 rfl rfl)
theorem dX6_mover_75 : decode cX6_mover 75 = .ok (.getfield 117, 3) := dk_180 0 117 (dk_at dksX6_mover_3 9 rfl rfl)
theorem dX6_mover_78 : decode cX6_mover 78 = .ok (.iconst 1, 1) := dk_4 (dk_at dksX6_mover_3 12 rfl rfl)
theorem dX6_mover_79 : decode cX6_mover 79 = .ok (.isub, 1) := dk_100 (dk_at dksX6_mover_3 13 rfl rfl)
theorem dX6_mover_80 : decode cX6_mover 80 = .ok (.invokevirtual 96, 3) := dk_182 0 96 (dk_at dksX6_mover_3 14 rfl rfl)
theorem dX6_mover_83 : decode cX6_mover 83 = .ok (.istore_n 3, 1) := dk_62 (dk_at dksX6_mover_3 17 rfl rfl)
theorem dX6_mover_84 : decode cX6_mover 84 = .ok (.aload_n 0, 1) := dk_42 (dk_at dksX6_mover_3 18 rfl rfl)
theorem dX6_mover_85 : decode cX6_mover 85 = .ok (.iconst 0, 1) := dk_3 (dk_at dksX6_mover_3 19 rfl rfl)
theorem dX6_mover_86 : decode cX6_mover 86 = .ok (.iconst 1, 1) := dk_4 (dk_at dksX6_mover_3 20 rfl rfl)
theorem dX6_mover_87 : decode cX6_mover 87 = .ok (.invokevirtual 96, 3) := dk_182 0 96 (dk_at dksX6_mover_3 21 rfl rfl)
theorem dX6_mover_90 : decode cX6_mover 90 = .ok (.iconst 1, 1) := dk_4 (dk_at dksX6_mover_4 0 rfl rfl)
theorem dX6_mover_91 : decode cX6_mover 91 = .ok (.if_icmp .ne 7, 3) := dk_160 0 7 (dk_at dksX6_mover_4 1 rfl rfl)
theorem dX6_mover_94 : decode cX6_mover 94 = .ok (.iconst 1, 1) := dk_4 (dk_at dksX6_mover_4 4 rfl rfl)
theorem dX6_mover_95 : decode cX6_mover 95 = .ok (.goto 4, 3) := dk_167 0 4 (dk_at dksX6_mover_4 5 rfl rfl)
theorem dX6_mover_98 : decode cX6_mover 98 = .ok (.iconst 0, 1) := dk_3 (dk_at dksX6_mover_4 8 rfl rfl)
theorem dX6_mover_99 : decode cX6_mover 99 = .ok (.istore 4, 2) := dk_54 4 (dk_at dksX6_mover_4 9 rfl rfl)
theorem dX6_mover_101 : decode cX6_mover 101 = .ok (.aload_n 0, 1) := dk_42 (dk_at dksX6_mover_4 11 rfl rfl)
theorem dX6_mover_102 : decode cX6_mover 102 = .ok (.getfield 20, 3) := dk_180 0 20 (dk_at dksX6_mover_4 12 rfl rfl)
theorem dX6_mover_105 : decode cX6_mover 105 = .ok (.getfield 138, 3) := dk_180 0 138 (dk_at dksX6_mover_4 15 rfl rfl)
theorem dX6_mover_108 : decode cX6_mover 108 = .ok (.iload_n 2, 1) := dk_28 (dk_at dksX6_mover_4 18 rfl rfl)
theorem dX6_mover_109 : decode cX6_mover 109 = .ok (.iload_n 1, 1) := dk_27 (dk_at dksX6_mover_4 19 rfl rfl)
theorem dX6_mover_110 : decode cX6_mover 110 = .ok (.iload_n 3, 1) := dk_29 (dk_at dksX6_mover_4 20 rfl rfl)
theorem dX6_mover_111 : decode cX6_mover 111 = .ok (.iload 4, 2) := dk_21 4 (dk_at dksX6_mover_4 21 rfl rfl)
theorem dX6_mover_113 : decode cX6_mover 113 = .ok (.aload_n 0, 1) := dk_42 (dk_at dksX6_mover_4 23 rfl rfl)
theorem dX6_mover_114 : decode cX6_mover 114 = .ok (.iconst 1, 1) := dk_4 (dk_at dksX6_mover_5 0 rfl rfl)
theorem dX6_mover_115 : decode cX6_mover 115 = .ok (.iconst 5, 1) := dk_8 (dk_at dksX6_mover_5 1 rfl rfl)
theorem dX6_mover_116 : decode cX6_mover 116 = .ok (.invokevirtual 96, 3) := dk_182 0 96 (dk_at dksX6_mover_5 2 rfl rfl)
theorem dX6_mover_119 : decode cX6_mover 119 = .ok (.invokestatic 150, 3) := dk_184 0 150 (dk_at dksX6_mover_5 5 rfl rfl)
theorem dX6_mover_122 : decode cX6_mover 122 = .ok (.invokeinterface 154 2, 5) := by decide +kernel
theorem dX6_mover_127 : decode cX6_mover 127 = .ok (.pop, 1) := dk_87 (dk_at dksX6_mover_5 13 rfl rfl)
theorem dX6_mover_128 : decode cX6_mover 128 = .ok (.aload_n 0, 1) := dk_42 (dk_at dksX6_mover_5 14 rfl rfl)
theorem dX6_mover_129 : decode cX6_mover 129 = .ok (.invokevirtual 112, 3) := dk_182 0 112 (dk_at dksX6_mover_5 15 rfl rfl)
theorem dX6_mover_132 : decode cX6_mover 132 = .ok (.return_, 1) := dk_177 (dk_at dksX6_mover_5 18 rfl rfl)
theorem q79 : (Jvm.Cond.initialized "NightStones$Reader") ∈ lw_all := lw_g (lw_at lw_m1 17 rfl) rfl
theorem q143 : (Jvm.Cond.fieldLink "NightStones$Reader" (100 : Nat) "NightStones$Road" "length" "I") ∈ lw_all := lw_g (lw_at lw_m1 81 rfl) rfl
theorem q146 : (Jvm.Cond.fieldLink "NightStones$Reader" (103 : Nat) "NightStones$Road" "fee" "I") ∈ lw_all := lw_g (lw_at lw_m1 84 rfl) rfl
theorem q149 : (Jvm.Cond.fieldLink "NightStones$Reader" (106 : Nat) "NightStones$Road" "seen" "I") ∈ lw_all := lw_g (lw_at lw_m1 87 rfl) rfl
theorem q152 : (Jvm.Cond.fieldLink "NightStones$Reader" (109 : Nat) "NightStones$Road" "fine" "I") ∈ lw_all := lw_g (lw_at lw_m1 90 rfl) rfl
theorem q155 : (Jvm.Cond.fieldLink "NightStones$Reader" (117 : Nat) "NightStones$Road" "stones" "I") ∈ lw_all := lw_g (lw_at lw_m1 93 rfl) rfl
theorem q158 : (Jvm.Cond.fieldLink "NightStones$Reader" (123 : Nat) "NightStones$Road" "says" "[I") ∈ lw_all := lw_g (lw_at lw_m1 96 rfl) rfl
theorem q164 : (Jvm.Cond.fieldLink "NightStones$Reader" (127 : Nat) "NightStones$Road" "home" "[I") ∈ lw_all := lw_g (lw_at lw_m1 102 rfl) rfl
theorem q167 : (Jvm.Cond.fieldLink "NightStones$Reader" (138 : Nat) "NightStones$Road" "movers" "Ljava/util/List;") ∈ lw_all := lw_g (lw_at lw_m1 105 rfl) rfl
theorem q430 : (Jvm.Cond.instantiable "NightStones$Reader" (8 : Nat)) ∈ lw_all := lw_g (lw_at lw_m2 128 rfl) rfl
theorem q432 : (Jvm.Cond.instanceMethod ({ cls := "NightStones$Reader", name := "<init>", desc := "([BI)V" } : Jvm.MethodName)) ∈ lw_all := lw_g (lw_at lw_m2 130 rfl) rfl
theorem q433 : (Jvm.Cond.code ({ cls := "NightStones$Reader", name := "<init>", desc := "([BI)V" } : Jvm.MethodName) prog_10_method_1_code (3 : Nat) (Option.none : Option Jvm.ClassFile.FieldType)) ∈ lw_all := lw_g (lw_at lw_m2 131 rfl) rfl
theorem q434 : (Jvm.Cond.methodLink "NightStones$Reader" (3 : Nat) ({ cls := "java/lang/Object", name := "<init>", desc := "()V" } : Jvm.MethodName)) ∈ lw_all := lw_g (lw_at lw_m2 132 rfl) rfl
theorem q435 : (Jvm.Cond.stringRef "NightStones$Reader" (9 : Nat) "") ∈ lw_tbl := lw_at lw_m2 133 rfl
theorem q436 : (Jvm.Cond.classLink "NightStones$Reader" (17 : Nat) "NightStones$Road") ∈ lw_all := lw_g (lw_at lw_m2 134 rfl) rfl
theorem q437 : (Jvm.Cond.methodLinkNest "NightStones$Reader" (19 : Nat) ({ cls := "NightStones$Road", name := "<init>", desc := "()V" } : Jvm.MethodName) "NightStones") ∈ lw_tbl := lw_at lw_m2 135 rfl
theorem q438 : (Jvm.Cond.fieldLink "NightStones$Reader" (24 : Nat) "NightStones$Reader" "text" "[B") ∈ lw_all := lw_g (lw_at lw_m2 136 rfl) rfl
theorem q439 : (Jvm.Cond.fieldLink "NightStones$Reader" (28 : Nat) "NightStones$Reader" "size" "I") ∈ lw_all := lw_g (lw_at lw_m2 137 rfl) rfl
theorem q440 : (Jvm.Cond.fieldLink "NightStones$Reader" (32 : Nat) "NightStones$Reader" "at" "I") ∈ lw_all := lw_g (lw_at lw_m2 138 rfl) rfl
theorem q441 : (Jvm.Cond.fieldLink "NightStones$Reader" (43 : Nat) "NightStones$Reader" "token" "I") ∈ lw_all := lw_g (lw_at lw_m2 139 rfl) rfl
theorem q442 : (Jvm.Cond.fieldLink "NightStones$Reader" (40 : Nat) "NightStones$Reader" "from" "I") ∈ lw_all := lw_g (lw_at lw_m2 140 rfl) rfl
theorem q443 : (Jvm.Cond.fieldLink "NightStones$Reader" (69 : Nat) "NightStones$Reader" "number" "I") ∈ lw_all := lw_g (lw_at lw_m2 141 rfl) rfl
theorem q444 : (Jvm.Cond.fieldLink "NightStones$Reader" (11 : Nat) "NightStones$Reader" "name" "Ljava/lang/String;") ∈ lw_all := lw_g (lw_at lw_m2 142 rfl) rfl
theorem q445 : (Jvm.Cond.fieldLink "NightStones$Reader" (20 : Nat) "NightStones$Reader" "made" "LNightStones$Road;") ∈ lw_all := lw_g (lw_at lw_m2 143 rfl) rfl
theorem q447 : (Jvm.Cond.laysFinal "NightStones$Reader" "NightStones$Reader" "text" "[B") ∈ lw_all := lw_g (lw_at lw_m2 145 rfl) rfl
theorem q448 : (Jvm.Cond.soleField "NightStones$Reader" "text") ∈ lw_all := lw_g (lw_at lw_m2 146 rfl) rfl
theorem q449 : (Jvm.Cond.laysFinal "NightStones$Reader" "NightStones$Reader" "size" "I") ∈ lw_all := lw_g (lw_at lw_m2 147 rfl) rfl
theorem q450 : (Jvm.Cond.soleField "NightStones$Reader" "size") ∈ lw_all := lw_g (lw_at lw_m2 148 rfl) rfl
theorem q451 : (Jvm.Cond.lays "NightStones$Reader" "NightStones$Reader" "at" "I") ∈ lw_all := lw_g (lw_at lw_m2 149 rfl) rfl
theorem q452 : (Jvm.Cond.soleField "NightStones$Reader" "at") ∈ lw_all := lw_g (lw_at lw_m2 150 rfl) rfl
theorem q453 : (Jvm.Cond.lays "NightStones$Reader" "NightStones$Reader" "token" "I") ∈ lw_all := lw_g (lw_at lw_m2 151 rfl) rfl
theorem q454 : (Jvm.Cond.soleField "NightStones$Reader" "token") ∈ lw_all := lw_g (lw_at lw_m2 152 rfl) rfl
theorem q455 : (Jvm.Cond.lays "NightStones$Reader" "NightStones$Reader" "from" "I") ∈ lw_all := lw_g (lw_at lw_m2 153 rfl) rfl
theorem q456 : (Jvm.Cond.soleField "NightStones$Reader" "from") ∈ lw_all := lw_g (lw_at lw_m2 154 rfl) rfl
theorem q457 : (Jvm.Cond.lays "NightStones$Reader" "NightStones$Reader" "number" "I") ∈ lw_all := lw_g (lw_at lw_m2 155 rfl) rfl
theorem q458 : (Jvm.Cond.soleField "NightStones$Reader" "number") ∈ lw_all := lw_g (lw_at lw_m2 156 rfl) rfl
theorem q459 : (Jvm.Cond.lays "NightStones$Reader" "NightStones$Reader" "name" "Ljava/lang/String;") ∈ lw_all := lw_g (lw_at lw_m2 157 rfl) rfl
theorem q460 : (Jvm.Cond.soleField "NightStones$Reader" "name") ∈ lw_all := lw_g (lw_at lw_m2 158 rfl) rfl
theorem q461 : (Jvm.Cond.laysFinal "NightStones$Reader" "NightStones$Reader" "made" "LNightStones$Road;") ∈ lw_all := lw_g (lw_at lw_m2 159 rfl) rfl
theorem q462 : (Jvm.Cond.soleField "NightStones$Reader" "made") ∈ lw_all := lw_g (lw_at lw_m2 160 rfl) rfl
theorem q463 : (Jvm.Cond.superclass "NightStones$Reader" "java/lang/Object") ∈ lw_all := lw_g (lw_at lw_m2 161 rfl) rfl
theorem q465 : (Jvm.Cond.instanceMethod ({ cls := "NightStones$Reader", name := "all", desc := "()V" } : Jvm.MethodName)) ∈ lw_all := lw_g (lw_at lw_m2 163 rfl) rfl
theorem q466 : (Jvm.Cond.selects "NightStones$Reader" ({ cls := "NightStones$Reader", name := "all", desc := "()V" } : Jvm.MethodName) ({ cls := "NightStones$Reader", name := "all", desc := "()V" } : Jvm.MethodName)) ∈ lw_all := lw_g (lw_at lw_m2 164 rfl) rfl
theorem q467 : (Jvm.Cond.code ({ cls := "NightStones$Reader", name := "all", desc := "()V" } : Jvm.MethodName) prog_10_method_9_code (2 : Nat) (Option.none : Option Jvm.ClassFile.FieldType)) ∈ lw_all := lw_g (lw_at lw_m2 165 rfl) rfl
theorem q468 : (Jvm.Cond.methodLink "NightStones$Reader" (87 : Nat) ({ cls := "NightStones$Reader", name := "next", desc := "()V" } : Jvm.MethodName)) ∈ lw_all := lw_g (lw_at lw_m2 166 rfl) rfl
theorem q469 : (Jvm.Cond.privateMethod ({ cls := "NightStones$Reader", name := "next", desc := "()V" } : Jvm.MethodName)) ∈ lw_tbl := lw_at lw_m2 167 rfl
theorem q470 : (Jvm.Cond.instanceMethod ({ cls := "NightStones$Reader", name := "next", desc := "()V" } : Jvm.MethodName)) ∈ lw_all := lw_g (lw_at lw_m2 168 rfl) rfl
theorem q471 : (Jvm.Cond.code ({ cls := "NightStones$Reader", name := "next", desc := "()V" } : Jvm.MethodName) prog_10_method_3_code (3 : Nat) (Option.none : Option Jvm.ClassFile.FieldType)) ∈ lw_all := lw_g (lw_at lw_m2 169 rfl) rfl
theorem q472 : (Jvm.Cond.methodLink "NightStones$Reader" (36 : Nat) ({ cls := "NightStones$Reader", name := "look", desc := "()I" } : Jvm.MethodName)) ∈ lw_all := lw_g (lw_at lw_m2 170 rfl) rfl
theorem q473 : (Jvm.Cond.privateMethod ({ cls := "NightStones$Reader", name := "look", desc := "()I" } : Jvm.MethodName)) ∈ lw_tbl := lw_at lw_m2 171 rfl
theorem q474 : (Jvm.Cond.instanceMethod ({ cls := "NightStones$Reader", name := "look", desc := "()I" } : Jvm.MethodName)) ∈ lw_all := lw_g (lw_at lw_m2 172 rfl) rfl
theorem q475 : (Jvm.Cond.code ({ cls := "NightStones$Reader", name := "look", desc := "()I" } : Jvm.MethodName) prog_10_method_2_code (1 : Nat) (Option.some Jvm.ClassFile.FieldType.int)) ∈ lw_all := lw_g (lw_at lw_m2 173 rfl) rfl
theorem q476 : (Jvm.Cond.constant "NightStones$Reader" (35 : Nat) (-1000000 : Int32)) ∈ lw_all := lw_g (lw_at lw_m2 174 rfl) rfl
theorem q477 : (Jvm.Cond.constantLong "NightStones$Reader" (46 : Nat) (97 : Int64)) ∈ lw_all := lw_g (lw_at lw_m2 175 rfl) rfl
theorem q478 : (Jvm.Cond.constantLong "NightStones$Reader" (48 : Nat) (122 : Int64)) ∈ lw_all := lw_g (lw_at lw_m2 176 rfl) rfl
theorem q479 : (Jvm.Cond.methodLinkNest "NightStones$Reader" (50 : Nat) ({ cls := "NightStones", name := "isIn", desc := "(JJJ)Z" } : Jvm.MethodName) "NightStones") ∈ lw_tbl := lw_at lw_m2 177 rfl
theorem q480 : (Jvm.Cond.classLink "NightStones$Reader" (54 : Nat) "java/lang/StringBuilder") ∈ lw_all := lw_g (lw_at lw_m2 178 rfl) rfl
theorem q482 : (Jvm.Cond.methodLink "NightStones$Reader" (56 : Nat) ({ cls := "java/lang/StringBuilder", name := "<init>", desc := "()V" } : Jvm.MethodName)) ∈ lw_all := lw_g (lw_at lw_m2 180 rfl) rfl
theorem q511 : (Jvm.Cond.methodLink "NightStones$Reader" (57 : Nat) ({ cls := "java/lang/StringBuilder", name := "append", desc := "(C)Ljava/lang/StringBuilder;" } : Jvm.MethodName)) ∈ lw_all := lw_g (lw_at lw_m2 209 rfl) rfl
theorem q604 : (Jvm.Cond.methodLink "NightStones$Reader" (61 : Nat) ({ cls := "java/lang/StringBuilder", name := "toString", desc := "()Ljava/lang/String;" } : Jvm.MethodName)) ∈ lw_all := lw_g (lw_at lw_m3 62 rfl) rfl
theorem q660 : (Jvm.Cond.constantLong "NightStones$Reader" (65 : Nat) (48 : Int64)) ∈ lw_all := lw_g (lw_at lw_m3 118 rfl) rfl
theorem q661 : (Jvm.Cond.constantLong "NightStones$Reader" (67 : Nat) (57 : Int64)) ∈ lw_all := lw_g (lw_at lw_m3 119 rfl) rfl
theorem q662 : (Jvm.Cond.stringRef "NightStones$Reader" (90 : Nat) "law") ∈ lw_tbl := lw_at lw_m3 120 rfl
theorem q663 : (Jvm.Cond.methodLink "NightStones$Reader" (92 : Nat) ({ cls := "NightStones$Reader", name := "isWord", desc := "(Ljava/lang/String;)Z" } : Jvm.MethodName)) ∈ lw_all := lw_g (lw_at lw_m3 121 rfl) rfl
theorem q664 : (Jvm.Cond.privateMethod ({ cls := "NightStones$Reader", name := "isWord", desc := "(Ljava/lang/String;)Z" } : Jvm.MethodName)) ∈ lw_tbl := lw_at lw_m3 122 rfl
theorem q665 : (Jvm.Cond.instanceMethod ({ cls := "NightStones$Reader", name := "isWord", desc := "(Ljava/lang/String;)Z" } : Jvm.MethodName)) ∈ lw_all := lw_g (lw_at lw_m3 123 rfl) rfl
theorem q666 : (Jvm.Cond.code ({ cls := "NightStones$Reader", name := "isWord", desc := "(Ljava/lang/String;)Z" } : Jvm.MethodName) prog_10_method_5_code (2 : Nat) (Option.some Jvm.ClassFile.FieldType.boolean)) ∈ lw_all := lw_g (lw_at lw_m3 124 rfl) rfl
theorem q667 : (Jvm.Cond.methodLink "NightStones$Reader" (77 : Nat) ({ cls := "java/lang/String", name := "equals", desc := "(Ljava/lang/Object;)Z" } : Jvm.MethodName)) ∈ lw_all := lw_g (lw_at lw_m3 125 rfl) rfl
theorem q675 : (Jvm.Cond.methodLink "NightStones$Reader" (83 : Nat) ({ cls := "NightStones$Reader", name := "must", desc := "(ZI)V" } : Jvm.MethodName)) ∈ lw_all := lw_g (lw_at lw_m3 133 rfl) rfl
theorem q676 : (Jvm.Cond.privateMethod ({ cls := "NightStones$Reader", name := "must", desc := "(ZI)V" } : Jvm.MethodName)) ∈ lw_tbl := lw_at lw_m3 134 rfl
theorem q677 : (Jvm.Cond.instanceMethod ({ cls := "NightStones$Reader", name := "must", desc := "(ZI)V" } : Jvm.MethodName)) ∈ lw_all := lw_g (lw_at lw_m3 135 rfl) rfl
theorem q678 : (Jvm.Cond.code ({ cls := "NightStones$Reader", name := "must", desc := "(ZI)V" } : Jvm.MethodName) prog_10_method_4_code (3 : Nat) (Option.none : Option Jvm.ClassFile.FieldType)) ∈ lw_all := lw_g (lw_at lw_m3 136 rfl) rfl
theorem q679 : (Jvm.Cond.classLink "NightStones$Reader" (72 : Nat) "NightStones$Fault") ∈ lw_all := lw_g (lw_at lw_m3 137 rfl) rfl
theorem q688 : (Jvm.Cond.methodLink "NightStones$Reader" (74 : Nat) ({ cls := "NightStones$Fault", name := "<init>", desc := "(II)V" } : Jvm.MethodName)) ∈ lw_all := lw_g (lw_at lw_m3 146 rfl) rfl
theorem q702 : (Jvm.Cond.methodLink "NightStones$Reader" (96 : Nat) ({ cls := "NightStones$Reader", name := "figure", desc := "(II)I" } : Jvm.MethodName)) ∈ lw_all := lw_g (lw_at lw_m3 160 rfl) rfl
theorem q703 : (Jvm.Cond.privateMethod ({ cls := "NightStones$Reader", name := "figure", desc := "(II)I" } : Jvm.MethodName)) ∈ lw_tbl := lw_at lw_m3 161 rfl
theorem q704 : (Jvm.Cond.instanceMethod ({ cls := "NightStones$Reader", name := "figure", desc := "(II)I" } : Jvm.MethodName)) ∈ lw_all := lw_g (lw_at lw_m3 162 rfl) rfl
theorem q705 : (Jvm.Cond.code ({ cls := "NightStones$Reader", name := "figure", desc := "(II)I" } : Jvm.MethodName) prog_10_method_6_code (4 : Nat) (Option.some Jvm.ClassFile.FieldType.int)) ∈ lw_all := lw_g (lw_at lw_m3 163 rfl) rfl
theorem q706 : (Jvm.Cond.methodLink "NightStones$Reader" (112 : Nat) ({ cls := "NightStones$Reader", name := "sign", desc := "()V" } : Jvm.MethodName)) ∈ lw_all := lw_g (lw_at lw_m3 164 rfl) rfl
theorem q707 : (Jvm.Cond.privateMethod ({ cls := "NightStones$Reader", name := "sign", desc := "()V" } : Jvm.MethodName)) ∈ lw_tbl := lw_at lw_m3 165 rfl
theorem q708 : (Jvm.Cond.instanceMethod ({ cls := "NightStones$Reader", name := "sign", desc := "()V" } : Jvm.MethodName)) ∈ lw_all := lw_g (lw_at lw_m3 166 rfl) rfl
theorem q709 : (Jvm.Cond.code ({ cls := "NightStones$Reader", name := "sign", desc := "()V" } : Jvm.MethodName) prog_10_method_7_code (1 : Nat) (Option.none : Option Jvm.ClassFile.FieldType)) ∈ lw_all := lw_g (lw_at lw_m3 167 rfl) rfl
theorem q710 : (Jvm.Cond.stringRef "NightStones$Reader" (115 : Nat) "stone") ∈ lw_tbl := lw_at lw_m3 168 rfl
theorem q711 : (Jvm.Cond.methodLink "NightStones$Reader" (120 : Nat) ({ cls := "NightStones$Reader", name := "begin", desc := "(II)V" } : Jvm.MethodName)) ∈ lw_all := lw_g (lw_at lw_m3 169 rfl) rfl
theorem q712 : (Jvm.Cond.privateMethod ({ cls := "NightStones$Reader", name := "begin", desc := "(II)V" } : Jvm.MethodName)) ∈ lw_tbl := lw_at lw_m3 170 rfl
theorem q713 : (Jvm.Cond.instanceMethod ({ cls := "NightStones$Reader", name := "begin", desc := "(II)V" } : Jvm.MethodName)) ∈ lw_all := lw_g (lw_at lw_m3 171 rfl) rfl
theorem q714 : (Jvm.Cond.code ({ cls := "NightStones$Reader", name := "begin", desc := "(II)V" } : Jvm.MethodName) prog_10_method_8_code (3 : Nat) (Option.none : Option Jvm.ClassFile.FieldType)) ∈ lw_all := lw_g (lw_at lw_m3 172 rfl) rfl
theorem q715 : (Jvm.Cond.stringRef "NightStones$Reader" (130 : Nat) "mover") ∈ lw_tbl := lw_at lw_m3 173 rfl
theorem q716 : (Jvm.Cond.methodLink "NightStones$Reader" (132 : Nat) ({ cls := "NightStones$Reader", name := "mover", desc := "()V" } : Jvm.MethodName)) ∈ lw_all := lw_g (lw_at lw_m3 174 rfl) rfl
theorem q717 : (Jvm.Cond.privateMethod ({ cls := "NightStones$Reader", name := "mover", desc := "()V" } : Jvm.MethodName)) ∈ lw_tbl := lw_at lw_m3 175 rfl
theorem q718 : (Jvm.Cond.instanceMethod ({ cls := "NightStones$Reader", name := "mover", desc := "()V" } : Jvm.MethodName)) ∈ lw_all := lw_g (lw_at lw_m3 176 rfl) rfl
theorem q719 : (Jvm.Cond.code ({ cls := "NightStones$Reader", name := "mover", desc := "()V" } : Jvm.MethodName) prog_10_method_10_code (5 : Nat) (Option.none : Option Jvm.ClassFile.FieldType)) ∈ lw_all := lw_g (lw_at lw_m3 177 rfl) rfl
theorem q720 : (Jvm.Cond.interfaceEntry "NightStones$Reader" (142 : Nat)) ∈ lw_tbl := lw_at lw_m3 178 rfl
theorem q721 : (Jvm.Cond.methodLink "NightStones$Reader" (142 : Nat) ({ cls := "java/util/List", name := "size", desc := "()I" } : Jvm.MethodName)) ∈ lw_all := lw_g (lw_at lw_m3 179 rfl) rfl
theorem q730 : (Jvm.Cond.fieldLinkNest "NightStones$Reader" (146 : Nat) "NightStones" "SORT" "[Ljava/lang/String;" "NightStones") ∈ lw_tbl := lw_at lw_m3 188 rfl
theorem q732 : (Jvm.Cond.methodLinkNest "NightStones$Reader" (150 : Nat) ({ cls := "NightStones", name := "moverBy", desc := "(IIIZI)LNightStones$Mover;" } : Jvm.MethodName) "NightStones") ∈ lw_tbl := lw_at lw_m3 190 rfl
theorem q808 : (Jvm.Cond.interfaceEntry "NightStones$Reader" (154 : Nat)) ∈ lw_tbl := lw_at lw_m4 26 rfl
theorem q809 : (Jvm.Cond.methodLink "NightStones$Reader" (154 : Nat) ({ cls := "java/util/List", name := "add", desc := "(Ljava/lang/Object;)Z" } : Jvm.MethodName)) ∈ lw_all := lw_g (lw_at lw_m4 27 rfl) rfl
theorem q843 : (Jvm.Cond.selects "NightStones$Reader" ({ cls := "java/lang/Object", name := "getClass", desc := "()Ljava/lang/Class;" } : Jvm.MethodName) ({ cls := "java/lang/Object", name := "getClass", desc := "()Ljava/lang/Class;" } : Jvm.MethodName)) ∈ lw_all := lw_g (lw_at lw_m4 61 rfl) rfl
theorem q863 : (Jvm.Cond.methodLink "NightStones$Reader" (134 : Nat) ({ cls := "NightStones$Road", name := "goHome", desc := "()LNightStones$Road;" } : Jvm.MethodName)) ∈ lw_all := lw_g (lw_at lw_m4 81 rfl) rfl
theorem q1684 : (Jvm.Cond.castable "NightStones$Reader" "java/lang/Object") ∈ lw_tbl := lw_at lw_m7 182 rfl
theorem in_X6 : ∀ w ∈ wsX60, w ∈ lw_all := lw_in wsX60 [447, 449, 451, 453, 455, 457, 459, 461] (by decide +kernel) (by decide +kernel)
/-! NightStones$Fault -/
set_option maxRecDepth 100000
def RX7 : String := "NightStones$Fault"
def TX7 : u_T := fun k => match k with
  | 0 => ("java/lang/Throwable", "cause", "Ljava/lang/Throwable;", false)
  | 1 => ("java/lang/Throwable", "stackTrace", "[Ljava/lang/StackTraceElement;", false)
  | 2 => ("java/lang/Throwable", "suppressedExceptions", "Ljava/util/List;", false)
  | 3 => ("java/lang/Throwable", "detailMessage", "Ljava/lang/String;", false)
  | 4 => ("java/lang/Throwable", "backtrace", "Ljava/lang/Object;", false)
  | 5 => ("java/lang/Throwable", "depth", "I", false)
  | 6 => ("NightStones$Fault", "kind", "I", true)
  | _ => ("NightStones$Fault", "place", "I", true)
def tyX7 : Nat → FieldType := fun k => match k with
  | 0 => .object "java/lang/Throwable"
  | 1 => .array (.object "java/lang/StackTraceElement")
  | 2 => .object "java/util/List"
  | 3 => .object "java/lang/String"
  | 4 => .object "java/lang/Object"
  | 5 => .int
  | 6 => .int
  | _ => .int
abbrev wsX70 : List Cond := u_ws RX7 TX7 8
theorem nmX7 : ∀ a, a < 8 → ∀ b, b < 8 → a ≠ b → (TX7 a).2.1 ≠ (TX7 b).2.1 := by decide +kernel
theorem tyX7_ok : ∀ k, k < 8 → parseFieldDescriptor (TX7 k).2.2.1 = some (tyX7 k) := by decide +kernel
abbrev cX7_init : ByteArray := prog_3_method_1_code
def yX7_init : MethodName := ⟨RX7, "<init>", "(II)V"⟩
def dkwX7_init_0 : List UInt8 := [42, 1, 1, 3, 3, 183, 0, 1, 42, 27, 181, 0, 7, 42, 28, 181, 0, 13, 177]
abbrev dktX7_init_0 : List UInt8 := dkwX7_init_0 ++ []
theorem dksX7_init_0 : cX7_init.data.toList.drop 0 = dktX7_init_0 := by decide +kernel
theorem dX7_init_0 : decode cX7_init 0 = .ok (.aload_n 0, 1) := dk_42 (dk_at dksX7_init_0 0 rfl rfl)
theorem dX7_init_1 : decode cX7_init 1 = .ok (.aconst_null, 1) := dk_1 (dk_at dksX7_init_0 1 rfl rfl)
theorem dX7_init_2 : decode cX7_init 2 = .ok (.aconst_null, 1) := dk_1 (dk_at dksX7_init_0 2 rfl rfl)
theorem dX7_init_3 : decode cX7_init 3 = .ok (.iconst 0, 1) := dk_3 (dk_at dksX7_init_0 3 rfl rfl)
theorem dX7_init_4 : decode cX7_init 4 = .ok (.iconst 0, 1) := dk_3 (dk_at dksX7_init_0 4 rfl rfl)
theorem dX7_init_5 : decode cX7_init 5 = .ok (.invokespecial 1, 3) := dk_183 0 1 (dk_at dksX7_init_0 5 rfl rfl)
theorem dX7_init_8 : decode cX7_init 8 = .ok (.aload_n 0, 1) := dk_42 (dk_at dksX7_init_0 8 rfl rfl)
theorem dX7_init_9 : decode cX7_init 9 = .ok (.iload_n 1, 1) := dk_27 (dk_at dksX7_init_0 9 rfl rfl)
theorem dX7_init_10 : decode cX7_init 10 = .ok (.putfield 7, 3) := dk_181 0 7 (dk_at dksX7_init_0 10 rfl rfl)
theorem dX7_init_13 : decode cX7_init 13 = .ok (.aload_n 0, 1) := dk_42 (dk_at dksX7_init_0 13 rfl rfl)
theorem dX7_init_14 : decode cX7_init 14 = .ok (.iload_n 2, 1) := dk_28 (dk_at dksX7_init_0 14 rfl rfl)
theorem dX7_init_15 : decode cX7_init 15 = .ok (.putfield 13, 3) := dk_181 0 13 (dk_at dksX7_init_0 15 rfl rfl)
theorem dX7_init_18 : decode cX7_init 18 = .ok (.return_, 1) := dk_177 (dk_at dksX7_init_0 18 rfl rfl)
theorem q88 : (Jvm.Cond.initialized "NightStones$Fault") ∈ lw_all := lw_g (lw_at lw_m1 26 rfl) rfl
theorem q303 : (Jvm.Cond.selects "NightStones$Fault" ({ cls := "java/lang/Throwable", name := "fillInStackTrace", desc := "()Ljava/lang/Throwable;" } : Jvm.MethodName) ({ cls := "java/lang/Throwable", name := "fillInStackTrace", desc := "()Ljava/lang/Throwable;" } : Jvm.MethodName)) ∈ lw_all := lw_g (lw_at lw_m2 1 rfl) rfl
theorem q680 : (Jvm.Cond.instantiable "NightStones$Fault" (8 : Nat)) ∈ lw_all := lw_g (lw_at lw_m3 138 rfl) rfl
theorem q681 : (Jvm.Cond.castable "NightStones$Fault" "NightStones$Fault") ∈ lw_tbl := lw_at lw_m3 139 rfl
theorem q682 : (Jvm.Cond.selects "NightStones$Fault" ({ cls := "java/lang/Throwable", name := "fillInStackTrace", desc := "(I)Ljava/lang/Throwable;" } : Jvm.MethodName) ({ cls := "java/lang/Throwable", name := "fillInStackTrace", desc := "(I)Ljava/lang/Throwable;" } : Jvm.MethodName)) ∈ lw_all := lw_g (lw_at lw_m3 140 rfl) rfl
theorem q683 : (Jvm.Cond.lays "NightStones$Fault" "java/lang/Throwable" "cause" "Ljava/lang/Throwable;") ∈ lw_all := lw_g (lw_at lw_m3 141 rfl) rfl
theorem q684 : (Jvm.Cond.lays "NightStones$Fault" "java/lang/Throwable" "stackTrace" "[Ljava/lang/StackTraceElement;") ∈ lw_all := lw_g (lw_at lw_m3 142 rfl) rfl
theorem q685 : (Jvm.Cond.lays "NightStones$Fault" "java/lang/Throwable" "suppressedExceptions" "Ljava/util/List;") ∈ lw_all := lw_g (lw_at lw_m3 143 rfl) rfl
theorem q686 : (Jvm.Cond.lays "NightStones$Fault" "java/lang/Throwable" "detailMessage" "Ljava/lang/String;") ∈ lw_all := lw_g (lw_at lw_m3 144 rfl) rfl
theorem q687 : (Jvm.Cond.lays "NightStones$Fault" "java/lang/Throwable" "backtrace" "Ljava/lang/Object;") ∈ lw_all := lw_g (lw_at lw_m3 145 rfl) rfl
theorem q689 : (Jvm.Cond.instanceMethod ({ cls := "NightStones$Fault", name := "<init>", desc := "(II)V" } : Jvm.MethodName)) ∈ lw_all := lw_g (lw_at lw_m3 147 rfl) rfl
theorem q690 : (Jvm.Cond.code ({ cls := "NightStones$Fault", name := "<init>", desc := "(II)V" } : Jvm.MethodName) prog_3_method_1_code (3 : Nat) (Option.none : Option Jvm.ClassFile.FieldType)) ∈ lw_all := lw_g (lw_at lw_m3 148 rfl) rfl
theorem q691 : (Jvm.Cond.methodLink "NightStones$Fault" (1 : Nat) ({ cls := "java/lang/Exception", name := "<init>", desc := "(Ljava/lang/String;Ljava/lang/Throwable;ZZ)V" } : Jvm.MethodName)) ∈ lw_all := lw_g (lw_at lw_m3 149 rfl) rfl
theorem q692 : (Jvm.Cond.fieldLink "NightStones$Fault" (7 : Nat) "NightStones$Fault" "kind" "I") ∈ lw_all := lw_g (lw_at lw_m3 150 rfl) rfl
theorem q694 : (Jvm.Cond.fieldLink "NightStones$Fault" (13 : Nat) "NightStones$Fault" "place" "I") ∈ lw_all := lw_g (lw_at lw_m3 152 rfl) rfl
theorem q696 : (Jvm.Cond.laysFinal "NightStones$Fault" "NightStones$Fault" "kind" "I") ∈ lw_all := lw_g (lw_at lw_m3 154 rfl) rfl
theorem q697 : (Jvm.Cond.soleField "NightStones$Fault" "kind") ∈ lw_all := lw_g (lw_at lw_m3 155 rfl) rfl
theorem q698 : (Jvm.Cond.laysFinal "NightStones$Fault" "NightStones$Fault" "place" "I") ∈ lw_all := lw_g (lw_at lw_m3 156 rfl) rfl
theorem q699 : (Jvm.Cond.soleField "NightStones$Fault" "place") ∈ lw_all := lw_g (lw_at lw_m3 157 rfl) rfl
theorem q700 : (Jvm.Cond.lays "NightStones$Fault" "java/lang/Throwable" "depth" "I") ∈ lw_all := lw_g (lw_at lw_m3 158 rfl) rfl
theorem q701 : (Jvm.Cond.superclass "NightStones$Fault" "java/lang/Exception") ∈ lw_all := lw_g (lw_at lw_m3 159 rfl) rfl
theorem q838 : (Jvm.Cond.selects "NightStones$Fault" ({ cls := "java/lang/Object", name := "getClass", desc := "()Ljava/lang/Class;" } : Jvm.MethodName) ({ cls := "java/lang/Object", name := "getClass", desc := "()Ljava/lang/Class;" } : Jvm.MethodName)) ∈ lw_all := lw_g (lw_at lw_m4 56 rfl) rfl
theorem q1686 : (Jvm.Cond.castable "NightStones$Fault" "java/lang/Object") ∈ lw_tbl := lw_at lw_m7 184 rfl
theorem in_X7 : ∀ w ∈ wsX70, w ∈ lw_all := lw_in wsX70 [683, 684, 685, 686, 687, 700, 696, 698] (by decide +kernel) (by decide +kernel)
/-! NightStones$Mover -/
set_option maxRecDepth 100000
def RX8 : String := "NightStones$Mover"
abbrev cX8_init : ByteArray := prog_7_method_1_code
def yX8_init : MethodName := ⟨RX8, "<init>", "(IIZI)V"⟩
def dkwX8_init_1 : List UInt8 := [181, 0, 20, 177]
abbrev dktX8_init_1 : List UInt8 := dkwX8_init_1 ++ []
def dkwX8_init_0 : List UInt8 := [42, 183, 0, 1, 42, 27, 181, 0, 7, 42, 28, 181, 0, 13, 42, 29, 181, 0, 16, 42, 21, 4]
abbrev dktX8_init_0 : List UInt8 := dkwX8_init_0 ++ dktX8_init_1
theorem dksX8_init_0 : cX8_init.data.toList.drop 0 = dktX8_init_0 := by decide +kernel
theorem dksX8_init_1 : cX8_init.data.toList.drop 22 = dktX8_init_1 := dk_seg dksX8_init_0 22 rfl rfl
theorem dX8_init_0 : decode cX8_init 0 = .ok (.aload_n 0, 1) := dk_42 (dk_at dksX8_init_0 0 rfl rfl)
theorem dX8_init_1 : decode cX8_init 1 = .ok (.invokespecial 1, 3) := dk_183 0 1 (dk_at dksX8_init_0 1 rfl rfl)
theorem dX8_init_4 : decode cX8_init 4 = .ok (.aload_n 0, 1) := dk_42 (dk_at dksX8_init_0 4 rfl rfl)
theorem dX8_init_5 : decode cX8_init 5 = .ok (.iload_n 1, 1) := dk_27 (dk_at dksX8_init_0 5 rfl rfl)
theorem dX8_init_6 : decode cX8_init 6 = .ok (.putfield 7, 3) := dk_181 0 7 (dk_at dksX8_init_0 6 rfl rfl)
theorem dX8_init_9 : decode cX8_init 9 = .ok (.aload_n 0, 1) := dk_42 (dk_at dksX8_init_0 9 rfl rfl)
theorem dX8_init_10 : decode cX8_init 10 = .ok (.iload_n 2, 1) := dk_28 (dk_at dksX8_init_0 10 rfl rfl)
theorem dX8_init_11 : decode cX8_init 11 = .ok (.putfield 13, 3) := dk_181 0 13 (dk_at dksX8_init_0 11 rfl rfl)
theorem dX8_init_14 : decode cX8_init 14 = .ok (.aload_n 0, 1) := dk_42 (dk_at dksX8_init_0 14 rfl rfl)
theorem dX8_init_15 : decode cX8_init 15 = .ok (.iload_n 3, 1) := dk_29 (dk_at dksX8_init_0 15 rfl rfl)
theorem dX8_init_16 : decode cX8_init 16 = .ok (.putfield 16, 3) := dk_181 0 16 (dk_at dksX8_init_0 16 rfl rfl)
theorem dX8_init_19 : decode cX8_init 19 = .ok (.aload_n 0, 1) := dk_42 (dk_at dksX8_init_0 19 rfl rfl)
theorem dX8_init_20 : decode cX8_init 20 = .ok (.iload 4, 2) := dk_21 4 (dk_at dksX8_init_0 20 rfl rfl)
theorem dX8_init_22 : decode cX8_init 22 = .ok (.putfield 20, 3) := dk_181 0 20 (dk_at dksX8_init_1 0 rfl rfl)
theorem dX8_init_25 : decode cX8_init 25 = .ok (.return_, 1) := dk_177 (dk_at dksX8_init_1 3 rfl rfl)
abbrev cX8_isOut : ByteArray := prog_7_method_3_code
def yX8_isOut : MethodName := ⟨RX8, "isOut", "(IZ)Z"⟩
theorem dX8_isOut_0 : decode cX8_isOut 0 = .ok (.iconst 1, 1) := by decide +kernel
theorem dX8_isOut_1 : decode cX8_isOut 1 = .ok (.ireturn, 1) := by decide +kernel
abbrev cX8_goesOutward : ByteArray := prog_7_method_5_code
def yX8_goesOutward : MethodName := ⟨RX8, "goesOutward", "(I)Z"⟩
theorem dX8_goesOutward_0 : decode cX8_goesOutward 0 = .ok (.aload_n 0, 1) := by decide +kernel
theorem dX8_goesOutward_1 : decode cX8_goesOutward 1 = .ok (.getfield 16, 3) := by decide +kernel
theorem dX8_goesOutward_4 : decode cX8_goesOutward 4 = .ok (.ireturn, 1) := by decide +kernel
abbrev cX8_yards : ByteArray := prog_7_method_4_code
def yX8_yards : MethodName := ⟨RX8, "yards", "()I"⟩
theorem dX8_yards_0 : decode cX8_yards 0 = .ok (.aload_n 0, 1) := by decide +kernel
theorem dX8_yards_1 : decode cX8_yards 1 = .ok (.getfield 20, 3) := by decide +kernel
theorem dX8_yards_4 : decode cX8_yards 4 = .ok (.ireturn, 1) := by decide +kernel
abbrev cX8_number : ByteArray := prog_7_method_6_code
def yX8_number : MethodName := ⟨RX8, "number", "()I"⟩
theorem dX8_number_0 : decode cX8_number 0 = .ok (.aload_n 0, 1) := by decide +kernel
theorem dX8_number_1 : decode cX8_number 1 = .ok (.getfield 7, 3) := by decide +kernel
theorem dX8_number_4 : decode cX8_number 4 = .ok (.ireturn, 1) := by decide +kernel
abbrev cX8_size : ByteArray := prog_7_method_7_code
def yX8_size : MethodName := ⟨RX8, "size", "(LNightStones$Trail;LNightStones$Road;)I"⟩
def dkwX8_size_0 : List UInt8 := [43, 16, 10, 182, 0, 23, 42, 180, 0, 20, 172]
abbrev dktX8_size_0 : List UInt8 := dkwX8_size_0 ++ []
theorem dksX8_size_0 : cX8_size.data.toList.drop 0 = dktX8_size_0 := by decide +kernel
theorem dX8_size_0 : decode cX8_size 0 = .ok (.aload_n 1, 1) := dk_43 (dk_at dksX8_size_0 0 rfl rfl)
theorem dX8_size_1 : decode cX8_size 1 = .ok (.bipush 10, 2) := dk_16 10 (dk_at dksX8_size_0 1 rfl rfl)
theorem dX8_size_3 : decode cX8_size 3 = .ok (.invokevirtual 23, 3) := dk_182 0 23 (dk_at dksX8_size_0 3 rfl rfl)
theorem dX8_size_6 : decode cX8_size 6 = .ok (.aload_n 0, 1) := dk_42 (dk_at dksX8_size_0 6 rfl rfl)
theorem dX8_size_7 : decode cX8_size 7 = .ok (.getfield 20, 3) := dk_180 0 20 (dk_at dksX8_size_0 7 rfl rfl)
theorem dX8_size_10 : decode cX8_size 10 = .ok (.ireturn, 1) := dk_172 (dk_at dksX8_size_0 10 rfl rfl)
theorem q89 : (Jvm.Cond.initialized "NightStones$Mover") ∈ lw_all := lw_g (lw_at lw_m1 27 rfl) rfl
theorem q741 : (Jvm.Cond.instanceMethod ({ cls := "NightStones$Mover", name := "<init>", desc := "(IIZI)V" } : Jvm.MethodName)) ∈ lw_all := lw_g (lw_at lw_m3 199 rfl) rfl
theorem q742 : (Jvm.Cond.code ({ cls := "NightStones$Mover", name := "<init>", desc := "(IIZI)V" } : Jvm.MethodName) prog_7_method_1_code (5 : Nat) (Option.none : Option Jvm.ClassFile.FieldType)) ∈ lw_all := lw_g (lw_at lw_m3 200 rfl) rfl
theorem q743 : (Jvm.Cond.methodLink "NightStones$Mover" (1 : Nat) ({ cls := "java/lang/Object", name := "<init>", desc := "()V" } : Jvm.MethodName)) ∈ lw_all := lw_g (lw_at lw_m3 201 rfl) rfl
theorem q744 : (Jvm.Cond.fieldLink "NightStones$Mover" (7 : Nat) "NightStones$Mover" "number" "I") ∈ lw_all := lw_g (lw_at lw_m3 202 rfl) rfl
theorem q745 : (Jvm.Cond.fieldLink "NightStones$Mover" (13 : Nat) "NightStones$Mover" "stone" "I") ∈ lw_all := lw_g (lw_at lw_m3 203 rfl) rfl
theorem q749 : (Jvm.Cond.fieldLink "NightStones$Mover" (16 : Nat) "NightStones$Mover" "isOutward" "Z") ∈ lw_all := lw_g (lw_at lw_m3 207 rfl) rfl
theorem q754 : (Jvm.Cond.fieldLink "NightStones$Mover" (20 : Nat) "NightStones$Mover" "reach" "I") ∈ lw_all := lw_g (lw_at lw_m3 212 rfl) rfl
theorem q756 : (Jvm.Cond.soleField "NightStones$Mover" "number") ∈ lw_all := lw_g (lw_at lw_m3 214 rfl) rfl
theorem q758 : (Jvm.Cond.soleField "NightStones$Mover" "stone") ∈ lw_all := lw_g (lw_at lw_m3 216 rfl) rfl
theorem q760 : (Jvm.Cond.soleField "NightStones$Mover" "isOutward") ∈ lw_all := lw_g (lw_at lw_m3 218 rfl) rfl
theorem q762 : (Jvm.Cond.soleField "NightStones$Mover" "reach") ∈ lw_all := lw_g (lw_at lw_m3 220 rfl) rfl
theorem q922 : (Jvm.Cond.instanceMethod ({ cls := "NightStones$Mover", name := "isOut", desc := "(IZ)Z" } : Jvm.MethodName)) ∈ lw_all := lw_g (lw_at lw_m4 140 rfl) rfl
theorem q923 : (Jvm.Cond.sameMethod "NightStones$Mover" "NightStones$Mover" "isOut" "(IZ)Z") ∈ lw_all := lw_g (lw_at lw_m4 141 rfl) rfl
theorem q933 : (Jvm.Cond.code ({ cls := "NightStones$Mover", name := "isOut", desc := "(IZ)Z" } : Jvm.MethodName) prog_7_method_3_code (3 : Nat) (Option.some Jvm.ClassFile.FieldType.boolean)) ∈ lw_all := lw_g (lw_at lw_m4 151 rfl) rfl
theorem q939 : (Jvm.Cond.instanceMethod ({ cls := "NightStones$Mover", name := "goesOutward", desc := "(I)Z" } : Jvm.MethodName)) ∈ lw_all := lw_g (lw_at lw_m4 157 rfl) rfl
theorem q940 : (Jvm.Cond.sameMethod "NightStones$Mover" "NightStones$Mover" "goesOutward" "(I)Z") ∈ lw_all := lw_g (lw_at lw_m4 158 rfl) rfl
theorem q950 : (Jvm.Cond.code ({ cls := "NightStones$Mover", name := "goesOutward", desc := "(I)Z" } : Jvm.MethodName) prog_7_method_5_code (2 : Nat) (Option.some Jvm.ClassFile.FieldType.boolean)) ∈ lw_all := lw_g (lw_at lw_m4 168 rfl) rfl
theorem q952 : (Jvm.Cond.instanceMethod ({ cls := "NightStones$Mover", name := "yards", desc := "()I" } : Jvm.MethodName)) ∈ lw_all := lw_g (lw_at lw_m4 170 rfl) rfl
theorem q953 : (Jvm.Cond.sameMethod "NightStones$Mover" "NightStones$Mover" "yards" "()I") ∈ lw_all := lw_g (lw_at lw_m4 171 rfl) rfl
theorem q959 : (Jvm.Cond.declares ({ cls := "NightStones$Mover", name := "yards", desc := "()I" } : Jvm.MethodName)) ∈ lw_tbl := lw_at lw_m4 177 rfl
theorem q964 : (Jvm.Cond.code ({ cls := "NightStones$Mover", name := "yards", desc := "()I" } : Jvm.MethodName) prog_7_method_4_code (1 : Nat) (Option.some Jvm.ClassFile.FieldType.int)) ∈ lw_all := lw_g (lw_at lw_m4 182 rfl) rfl
theorem q1119 : (Jvm.Cond.declares ({ cls := "NightStones$Mover", name := "kind", desc := "()I" } : Jvm.MethodName)) ∈ lw_tbl := lw_at lw_m5 97 rfl
theorem q1120 : (Jvm.Cond.sameMethod "NightStones$Mover" "NightStones$Mover" "kind" "()I") ∈ lw_all := lw_g (lw_at lw_m5 98 rfl) rfl
theorem q1156 : (Jvm.Cond.instanceMethod ({ cls := "NightStones$Mover", name := "number", desc := "()I" } : Jvm.MethodName)) ∈ lw_all := lw_g (lw_at lw_m5 134 rfl) rfl
theorem q1157 : (Jvm.Cond.sameMethod "NightStones$Mover" "NightStones$Mover" "number" "()I") ∈ lw_all := lw_g (lw_at lw_m5 135 rfl) rfl
theorem q1163 : (Jvm.Cond.code ({ cls := "NightStones$Mover", name := "number", desc := "()I" } : Jvm.MethodName) prog_7_method_6_code (1 : Nat) (Option.some Jvm.ClassFile.FieldType.int)) ∈ lw_all := lw_g (lw_at lw_m5 141 rfl) rfl
theorem q1169 : (Jvm.Cond.instanceMethod ({ cls := "NightStones$Mover", name := "size", desc := "(LNightStones$Trail;LNightStones$Road;)I" } : Jvm.MethodName)) ∈ lw_all := lw_g (lw_at lw_m5 147 rfl) rfl
theorem q1170 : (Jvm.Cond.sameMethod "NightStones$Mover" "NightStones$Mover" "size" "(LNightStones$Trail;LNightStones$Road;)I") ∈ lw_all := lw_g (lw_at lw_m5 148 rfl) rfl
theorem q1197 : (Jvm.Cond.superclass "NightStones$Mover" "java/lang/Object") ∈ lw_all := lw_g (lw_at lw_m5 175 rfl) rfl
theorem q1209 : (Jvm.Cond.publicMethod ({ cls := "NightStones$Mover", name := "number", desc := "()I" } : Jvm.MethodName)) ∈ lw_tbl := lw_at lw_m5 187 rfl
theorem q1234 : (Jvm.Cond.code ({ cls := "NightStones$Mover", name := "size", desc := "(LNightStones$Trail;LNightStones$Road;)I" } : Jvm.MethodName) prog_7_method_7_code (3 : Nat) (Option.some Jvm.ClassFile.FieldType.int)) ∈ lw_all := lw_g (lw_at lw_m5 212 rfl) rfl
theorem q1235 : (Jvm.Cond.methodLink "NightStones$Mover" (23 : Nat) ({ cls := "NightStones$Trail", name := "begins", desc := "(I)V" } : Jvm.MethodName)) ∈ lw_all := lw_g (lw_at lw_m5 213 rfl) rfl
/-! NightStones$Inn -/
set_option maxRecDepth 100000
def RX9 : String := "NightStones$Inn"
def TX9 : u_T := fun k => match k with
  | 0 => ("NightStones$Mover", "number", "I", true)
  | 1 => ("NightStones$Mover", "stone", "I", true)
  | 2 => ("NightStones$Mover", "isOutward", "Z", true)
  | _ => ("NightStones$Mover", "reach", "I", true)
def tyX9 : Nat → FieldType := fun k => match k with
  | 0 => .int
  | 1 => .int
  | 2 => .boolean
  | _ => .int
abbrev wsX90 : List Cond := u_ws RX9 TX9 4
theorem nmX9 : ∀ a, a < 4 → ∀ b, b < 4 → a ≠ b → (TX9 a).2.1 ≠ (TX9 b).2.1 := by decide +kernel
theorem tyX9_ok : ∀ k, k < 4 → parseFieldDescriptor (TX9 k).2.2.1 = some (tyX9 k) := by decide +kernel
abbrev cX9_init : ByteArray := prog_5_method_1_code
def yX9_init : MethodName := ⟨RX9, "<init>", "(IIZI)V"⟩
def dkwX9_init_0 : List UInt8 := [42, 27, 28, 29, 21, 4, 183, 0, 3, 177]
abbrev dktX9_init_0 : List UInt8 := dkwX9_init_0 ++ []
theorem dksX9_init_0 : cX9_init.data.toList.drop 0 = dktX9_init_0 := by decide +kernel
theorem dX9_init_0 : decode cX9_init 0 = .ok (.aload_n 0, 1) := dk_42 (dk_at dksX9_init_0 0 rfl rfl)
theorem dX9_init_1 : decode cX9_init 1 = .ok (.iload_n 1, 1) := dk_27 (dk_at dksX9_init_0 1 rfl rfl)
theorem dX9_init_2 : decode cX9_init 2 = .ok (.iload_n 2, 1) := dk_28 (dk_at dksX9_init_0 2 rfl rfl)
theorem dX9_init_3 : decode cX9_init 3 = .ok (.iload_n 3, 1) := dk_29 (dk_at dksX9_init_0 3 rfl rfl)
theorem dX9_init_4 : decode cX9_init 4 = .ok (.iload 4, 2) := dk_21 4 (dk_at dksX9_init_0 4 rfl rfl)
theorem dX9_init_6 : decode cX9_init 6 = .ok (.invokespecial 3, 3) := dk_183 0 3 (dk_at dksX9_init_0 6 rfl rfl)
theorem dX9_init_9 : decode cX9_init 9 = .ok (.return_, 1) := dk_177 (dk_at dksX9_init_0 9 rfl rfl)
abbrev cX9_kind : ByteArray := prog_5_method_2_code
def yX9_kind : MethodName := ⟨RX9, "kind", "()I"⟩
theorem dX9_kind_0 : decode cX9_kind 0 = .ok (.iconst 1, 1) := by decide +kernel
theorem dX9_kind_1 : decode cX9_kind 1 = .ok (.ireturn, 1) := by decide +kernel
abbrev cX9_size : ByteArray := prog_5_method_3_code
def yX9_size : MethodName := ⟨RX9, "size", "(LNightStones$Trail;LNightStones$Road;)I"⟩
def dkwX9_size_0 : List UInt8 := [43, 16, 11, 182, 0, 9, 42, 43, 44, 183, 0, 15, 42, 43, 44, 182, 0, 19, 96, 172]
abbrev dktX9_size_0 : List UInt8 := dkwX9_size_0 ++ []
theorem dksX9_size_0 : cX9_size.data.toList.drop 0 = dktX9_size_0 := by decide +kernel
theorem dX9_size_0 : decode cX9_size 0 = .ok (.aload_n 1, 1) := dk_43 (dk_at dksX9_size_0 0 rfl rfl)
theorem dX9_size_1 : decode cX9_size 1 = .ok (.bipush 11, 2) := dk_16 11 (dk_at dksX9_size_0 1 rfl rfl)
theorem dX9_size_3 : decode cX9_size 3 = .ok (.invokevirtual 9, 3) := dk_182 0 9 (dk_at dksX9_size_0 3 rfl rfl)
theorem dX9_size_6 : decode cX9_size 6 = .ok (.aload_n 0, 1) := dk_42 (dk_at dksX9_size_0 6 rfl rfl)
theorem dX9_size_7 : decode cX9_size 7 = .ok (.aload_n 1, 1) := dk_43 (dk_at dksX9_size_0 7 rfl rfl)
theorem dX9_size_8 : decode cX9_size 8 = .ok (.aload_n 2, 1) := dk_44 (dk_at dksX9_size_0 8 rfl rfl)
theorem dX9_size_9 : decode cX9_size 9 = .ok (.invokespecial 15, 3) := dk_183 0 15 (dk_at dksX9_size_0 9 rfl rfl)
theorem dX9_size_12 : decode cX9_size 12 = .ok (.aload_n 0, 1) := dk_42 (dk_at dksX9_size_0 12 rfl rfl)
theorem dX9_size_13 : decode cX9_size 13 = .ok (.aload_n 1, 1) := dk_43 (dk_at dksX9_size_0 13 rfl rfl)
theorem dX9_size_14 : decode cX9_size 14 = .ok (.aload_n 2, 1) := dk_44 (dk_at dksX9_size_0 14 rfl rfl)
theorem dX9_size_15 : decode cX9_size 15 = .ok (.invokevirtual 19, 3) := dk_182 0 19 (dk_at dksX9_size_0 15 rfl rfl)
theorem dX9_size_18 : decode cX9_size 18 = .ok (.iadd, 1) := dk_96 (dk_at dksX9_size_0 18 rfl rfl)
theorem dX9_size_19 : decode cX9_size 19 = .ok (.ireturn, 1) := dk_172 (dk_at dksX9_size_0 19 rfl rfl)
abbrev cX9_mark : ByteArray := prog_5_method_4_code
def yX9_mark : MethodName := ⟨RX9, "mark", "(LNightStones$Trail;LNightStones$Road;)I"⟩
def dkwX9_mark_0 : List UInt8 := [43, 16, 21, 182, 0, 9, 42, 43, 44, 183, 0, 24, 44, 180, 0, 25, 42, 180, 0, 31, 46, 96, 172]
abbrev dktX9_mark_0 : List UInt8 := dkwX9_mark_0 ++ []
theorem dksX9_mark_0 : cX9_mark.data.toList.drop 0 = dktX9_mark_0 := by decide +kernel
theorem dX9_mark_0 : decode cX9_mark 0 = .ok (.aload_n 1, 1) := dk_43 (dk_at dksX9_mark_0 0 rfl rfl)
theorem dX9_mark_1 : decode cX9_mark 1 = .ok (.bipush 21, 2) := dk_16 21 (dk_at dksX9_mark_0 1 rfl rfl)
theorem dX9_mark_3 : decode cX9_mark 3 = .ok (.invokevirtual 9, 3) := dk_182 0 9 (dk_at dksX9_mark_0 3 rfl rfl)
theorem dX9_mark_6 : decode cX9_mark 6 = .ok (.aload_n 0, 1) := dk_42 (dk_at dksX9_mark_0 6 rfl rfl)
theorem dX9_mark_7 : decode cX9_mark 7 = .ok (.aload_n 1, 1) := dk_43 (dk_at dksX9_mark_0 7 rfl rfl)
theorem dX9_mark_8 : decode cX9_mark 8 = .ok (.aload_n 2, 1) := dk_44 (dk_at dksX9_mark_0 8 rfl rfl)
theorem dX9_mark_9 : decode cX9_mark 9 = .ok (.invokespecial 24, 3) := dk_183 0 24 (dk_at dksX9_mark_0 9 rfl rfl)
theorem dX9_mark_12 : decode cX9_mark 12 = .ok (.aload_n 2, 1) := dk_44 (dk_at dksX9_mark_0 12 rfl rfl)
theorem dX9_mark_13 : decode cX9_mark 13 = .ok (.getfield 25, 3) := dk_180 0 25 (dk_at dksX9_mark_0 13 rfl rfl)
theorem dX9_mark_16 : decode cX9_mark 16 = .ok (.aload_n 0, 1) := dk_42 (dk_at dksX9_mark_0 16 rfl rfl)
theorem dX9_mark_17 : decode cX9_mark 17 = .ok (.getfield 31, 3) := dk_180 0 31 (dk_at dksX9_mark_0 17 rfl rfl)
theorem dX9_mark_20 : decode cX9_mark 20 = .ok (.iaload, 1) := dk_46 (dk_at dksX9_mark_0 20 rfl rfl)
theorem dX9_mark_21 : decode cX9_mark 21 = .ok (.iadd, 1) := dk_96 (dk_at dksX9_mark_0 21 rfl rfl)
theorem dX9_mark_22 : decode cX9_mark 22 = .ok (.ireturn, 1) := dk_172 (dk_at dksX9_mark_0 22 rfl rfl)
theorem q90 : (Jvm.Cond.initialized "NightStones$Inn") ∈ lw_all := lw_g (lw_at lw_m1 28 rfl) rfl
theorem q161 : (Jvm.Cond.fieldLink "NightStones$Inn" (25 : Nat) "NightStones$Road" "at" "[I") ∈ lw_all := lw_g (lw_at lw_m1 99 rfl) rfl
theorem q736 : (Jvm.Cond.instantiable "NightStones$Inn" (4 : Nat)) ∈ lw_all := lw_g (lw_at lw_m3 194 rfl) rfl
theorem q738 : (Jvm.Cond.instanceMethod ({ cls := "NightStones$Inn", name := "<init>", desc := "(IIZI)V" } : Jvm.MethodName)) ∈ lw_all := lw_g (lw_at lw_m3 196 rfl) rfl
theorem q739 : (Jvm.Cond.code ({ cls := "NightStones$Inn", name := "<init>", desc := "(IIZI)V" } : Jvm.MethodName) prog_5_method_1_code (5 : Nat) (Option.none : Option Jvm.ClassFile.FieldType)) ∈ lw_all := lw_g (lw_at lw_m3 197 rfl) rfl
theorem q740 : (Jvm.Cond.methodLink "NightStones$Inn" (3 : Nat) ({ cls := "NightStones$Mover", name := "<init>", desc := "(IIZI)V" } : Jvm.MethodName)) ∈ lw_all := lw_g (lw_at lw_m3 198 rfl) rfl
theorem q746 : (Jvm.Cond.fieldLink "NightStones$Inn" (31 : Nat) "NightStones$Inn" "stone" "I") ∈ lw_all := lw_g (lw_at lw_m3 204 rfl) rfl
theorem q747 : (Jvm.Cond.sameField "NightStones$Inn" "NightStones$Mover" "stone" "I") ∈ lw_all := lw_g (lw_at lw_m3 205 rfl) rfl
theorem q755 : (Jvm.Cond.laysFinal "NightStones$Inn" "NightStones$Mover" "number" "I") ∈ lw_all := lw_g (lw_at lw_m3 213 rfl) rfl
theorem q757 : (Jvm.Cond.laysFinal "NightStones$Inn" "NightStones$Mover" "stone" "I") ∈ lw_all := lw_g (lw_at lw_m3 215 rfl) rfl
theorem q759 : (Jvm.Cond.laysFinal "NightStones$Inn" "NightStones$Mover" "isOutward" "Z") ∈ lw_all := lw_g (lw_at lw_m3 217 rfl) rfl
theorem q761 : (Jvm.Cond.laysFinal "NightStones$Inn" "NightStones$Mover" "reach" "I") ∈ lw_all := lw_g (lw_at lw_m3 219 rfl) rfl
theorem q763 : (Jvm.Cond.superclass "NightStones$Inn" "NightStones$Mover") ∈ lw_all := lw_g (lw_at lw_m3 221 rfl) rfl
theorem q840 : (Jvm.Cond.selects "NightStones$Inn" ({ cls := "java/lang/Object", name := "getClass", desc := "()Ljava/lang/Class;" } : Jvm.MethodName) ({ cls := "java/lang/Object", name := "getClass", desc := "()Ljava/lang/Class;" } : Jvm.MethodName)) ∈ lw_all := lw_g (lw_at lw_m4 58 rfl) rfl
theorem q925 : (Jvm.Cond.selects "NightStones$Inn" ({ cls := "NightStones$Mover", name := "isOut", desc := "(IZ)Z" } : Jvm.MethodName) ({ cls := "NightStones$Mover", name := "isOut", desc := "(IZ)Z" } : Jvm.MethodName)) ∈ lw_all := lw_g (lw_at lw_m4 143 rfl) rfl
theorem q942 : (Jvm.Cond.selects "NightStones$Inn" ({ cls := "NightStones$Mover", name := "goesOutward", desc := "(I)Z" } : Jvm.MethodName) ({ cls := "NightStones$Mover", name := "goesOutward", desc := "(I)Z" } : Jvm.MethodName)) ∈ lw_all := lw_g (lw_at lw_m4 160 rfl) rfl
theorem q958 : (Jvm.Cond.sameMethod "NightStones$Inn" "NightStones$Mover" "yards" "()I") ∈ lw_all := lw_g (lw_at lw_m4 176 rfl) rfl
theorem q960 : (Jvm.Cond.selects "NightStones$Inn" ({ cls := "NightStones$Mover", name := "yards", desc := "()I" } : Jvm.MethodName) ({ cls := "NightStones$Mover", name := "yards", desc := "()I" } : Jvm.MethodName)) ∈ lw_all := lw_g (lw_at lw_m4 178 rfl) rfl
theorem q1124 : (Jvm.Cond.selects "NightStones$Inn" ({ cls := "NightStones$Mover", name := "kind", desc := "()I" } : Jvm.MethodName) ({ cls := "NightStones$Inn", name := "kind", desc := "()I" } : Jvm.MethodName)) ∈ lw_all := lw_g (lw_at lw_m5 102 rfl) rfl
theorem q1125 : (Jvm.Cond.instanceMethod ({ cls := "NightStones$Inn", name := "kind", desc := "()I" } : Jvm.MethodName)) ∈ lw_all := lw_g (lw_at lw_m5 103 rfl) rfl
theorem q1126 : (Jvm.Cond.code ({ cls := "NightStones$Inn", name := "kind", desc := "()I" } : Jvm.MethodName) prog_5_method_2_code (1 : Nat) (Option.some Jvm.ClassFile.FieldType.int)) ∈ lw_all := lw_g (lw_at lw_m5 104 rfl) rfl
theorem q1159 : (Jvm.Cond.selects "NightStones$Inn" ({ cls := "NightStones$Mover", name := "number", desc := "()I" } : Jvm.MethodName) ({ cls := "NightStones$Mover", name := "number", desc := "()I" } : Jvm.MethodName)) ∈ lw_all := lw_g (lw_at lw_m5 137 rfl) rfl
theorem q1179 : (Jvm.Cond.instanceMethod ({ cls := "NightStones$Inn", name := "size", desc := "(LNightStones$Trail;LNightStones$Road;)I" } : Jvm.MethodName)) ∈ lw_all := lw_g (lw_at lw_m5 157 rfl) rfl
theorem q1180 : (Jvm.Cond.code ({ cls := "NightStones$Inn", name := "size", desc := "(LNightStones$Trail;LNightStones$Road;)I" } : Jvm.MethodName) prog_5_method_3_code (3 : Nat) (Option.some Jvm.ClassFile.FieldType.int)) ∈ lw_all := lw_g (lw_at lw_m5 158 rfl) rfl
theorem q1181 : (Jvm.Cond.methodLink "NightStones$Inn" (9 : Nat) ({ cls := "NightStones$Trail", name := "begins", desc := "(I)V" } : Jvm.MethodName)) ∈ lw_all := lw_g (lw_at lw_m5 159 rfl) rfl
theorem q1182 : (Jvm.Cond.methodLink "NightStones$Inn" (15 : Nat) ({ cls := "NightStones$Mover", name := "size", desc := "(LNightStones$Trail;LNightStones$Road;)I" } : Jvm.MethodName)) ∈ lw_all := lw_g (lw_at lw_m5 160 rfl) rfl
theorem q1183 : (Jvm.Cond.methodLink "NightStones$Inn" (19 : Nat) ({ cls := "NightStones$Inn", name := "mark", desc := "(LNightStones$Trail;LNightStones$Road;)I" } : Jvm.MethodName)) ∈ lw_all := lw_g (lw_at lw_m5 161 rfl) rfl
theorem q1184 : (Jvm.Cond.instanceMethod ({ cls := "NightStones$Inn", name := "mark", desc := "(LNightStones$Trail;LNightStones$Road;)I" } : Jvm.MethodName)) ∈ lw_all := lw_g (lw_at lw_m5 162 rfl) rfl
theorem q1185 : (Jvm.Cond.selects "NightStones$Inn" ({ cls := "NightStones$Inn", name := "mark", desc := "(LNightStones$Trail;LNightStones$Road;)I" } : Jvm.MethodName) ({ cls := "NightStones$Inn", name := "mark", desc := "(LNightStones$Trail;LNightStones$Road;)I" } : Jvm.MethodName)) ∈ lw_all := lw_g (lw_at lw_m5 163 rfl) rfl
theorem q1186 : (Jvm.Cond.sameMethod "NightStones$Inn" "NightStones$Inn" "mark" "(LNightStones$Trail;LNightStones$Road;)I") ∈ lw_all := lw_g (lw_at lw_m5 164 rfl) rfl
theorem q1196 : (Jvm.Cond.code ({ cls := "NightStones$Inn", name := "mark", desc := "(LNightStones$Trail;LNightStones$Road;)I" } : Jvm.MethodName) prog_5_method_4_code (3 : Nat) (Option.some Jvm.ClassFile.FieldType.int)) ∈ lw_all := lw_g (lw_at lw_m5 174 rfl) rfl
theorem q1210 : (Jvm.Cond.castable "NightStones$Inn" "NightStones$Marked") ∈ lw_tbl := lw_at lw_m5 188 rfl
theorem q1211 : (Jvm.Cond.selects "NightStones$Inn" ({ cls := "NightStones$Marked", name := "number", desc := "()I" } : Jvm.MethodName) ({ cls := "NightStones$Mover", name := "number", desc := "()I" } : Jvm.MethodName)) ∈ lw_all := lw_g (lw_at lw_m5 189 rfl) rfl
theorem q1212 : (Jvm.Cond.unhidden "NightStones$Inn" "number" "()I") ∈ lw_tbl := lw_at lw_m5 190 rfl
theorem q1222 : (Jvm.Cond.selects "NightStones$Inn" ({ cls := "NightStones$Mover", name := "size", desc := "(LNightStones$Trail;LNightStones$Road;)I" } : Jvm.MethodName) ({ cls := "NightStones$Inn", name := "size", desc := "(LNightStones$Trail;LNightStones$Road;)I" } : Jvm.MethodName)) ∈ lw_all := lw_g (lw_at lw_m5 200 rfl) rfl
theorem q1237 : (Jvm.Cond.selects "NightStones$Inn" ({ cls := "NightStones$Marked", name := "mark", desc := "(LNightStones$Trail;LNightStones$Road;)I" } : Jvm.MethodName) ({ cls := "NightStones$Inn", name := "mark", desc := "(LNightStones$Trail;LNightStones$Road;)I" } : Jvm.MethodName)) ∈ lw_all := lw_g (lw_at lw_m5 215 rfl) rfl
theorem q1662 : (Jvm.Cond.sameMethod "NightStones$Inn" "NightStones$Inn" "size" "(LNightStones$Trail;LNightStones$Road;)I") ∈ lw_all := lw_g (lw_at lw_m7 160 rfl) rfl
theorem q1668 : (Jvm.Cond.castable "NightStones$Inn" "NightStones$Mover") ∈ lw_tbl := lw_at lw_m7 166 rfl
theorem q1687 : (Jvm.Cond.castable "NightStones$Inn" "java/lang/Object") ∈ lw_tbl := lw_at lw_m7 185 rfl
theorem in_X9 : ∀ w ∈ wsX90, w ∈ lw_all := lw_in wsX90 [755, 757, 759, 761] (by decide +kernel) (by decide +kernel)
/-! NightStones$Carter -/
set_option maxRecDepth 100000
def RX10 : String := "NightStones$Carter"
def TX10 : u_T := fun k => match k with
  | 0 => ("NightStones$Mover", "number", "I", true)
  | 1 => ("NightStones$Mover", "stone", "I", true)
  | 2 => ("NightStones$Mover", "isOutward", "Z", true)
  | _ => ("NightStones$Mover", "reach", "I", true)
def tyX10 : Nat → FieldType := fun k => match k with
  | 0 => .int
  | 1 => .int
  | 2 => .boolean
  | _ => .int
abbrev wsX100 : List Cond := u_ws RX10 TX10 4
theorem nmX10 : ∀ a, a < 4 → ∀ b, b < 4 → a ≠ b → (TX10 a).2.1 ≠ (TX10 b).2.1 := by decide +kernel
theorem tyX10_ok : ∀ k, k < 4 → parseFieldDescriptor (TX10 k).2.2.1 = some (tyX10 k) := by decide +kernel
abbrev cX10_init : ByteArray := prog_2_method_1_code
def yX10_init : MethodName := ⟨RX10, "<init>", "(IIZI)V"⟩
def dkwX10_init_0 : List UInt8 := [42, 27, 28, 29, 21, 4, 183, 0, 3, 177]
abbrev dktX10_init_0 : List UInt8 := dkwX10_init_0 ++ []
theorem dksX10_init_0 : cX10_init.data.toList.drop 0 = dktX10_init_0 := by decide +kernel
theorem dX10_init_0 : decode cX10_init 0 = .ok (.aload_n 0, 1) := dk_42 (dk_at dksX10_init_0 0 rfl rfl)
theorem dX10_init_1 : decode cX10_init 1 = .ok (.iload_n 1, 1) := dk_27 (dk_at dksX10_init_0 1 rfl rfl)
theorem dX10_init_2 : decode cX10_init 2 = .ok (.iload_n 2, 1) := dk_28 (dk_at dksX10_init_0 2 rfl rfl)
theorem dX10_init_3 : decode cX10_init 3 = .ok (.iload_n 3, 1) := dk_29 (dk_at dksX10_init_0 3 rfl rfl)
theorem dX10_init_4 : decode cX10_init 4 = .ok (.iload 4, 2) := dk_21 4 (dk_at dksX10_init_0 4 rfl rfl)
theorem dX10_init_6 : decode cX10_init 6 = .ok (.invokespecial 3, 3) := dk_183 0 3 (dk_at dksX10_init_0 6 rfl rfl)
theorem dX10_init_9 : decode cX10_init 9 = .ok (.return_, 1) := dk_177 (dk_at dksX10_init_0 9 rfl rfl)
abbrev cX10_yards : ByteArray := prog_2_method_3_code
def yX10_yards : MethodName := ⟨RX10, "yards", "()I"⟩
def dkwX10_yards_0 : List UInt8 := [5, 42, 183, 0, 9, 104, 172]
abbrev dktX10_yards_0 : List UInt8 := dkwX10_yards_0 ++ []
theorem dksX10_yards_0 : cX10_yards.data.toList.drop 0 = dktX10_yards_0 := by decide +kernel
theorem dX10_yards_0 : decode cX10_yards 0 = .ok (.iconst 2, 1) := dk_5 (dk_at dksX10_yards_0 0 rfl rfl)
theorem dX10_yards_1 : decode cX10_yards 1 = .ok (.aload_n 0, 1) := dk_42 (dk_at dksX10_yards_0 1 rfl rfl)
theorem dX10_yards_2 : decode cX10_yards 2 = .ok (.invokespecial 9, 3) := dk_183 0 9 (dk_at dksX10_yards_0 2 rfl rfl)
theorem dX10_yards_5 : decode cX10_yards 5 = .ok (.imul, 1) := dk_104 (dk_at dksX10_yards_0 5 rfl rfl)
theorem dX10_yards_6 : decode cX10_yards 6 = .ok (.ireturn, 1) := dk_172 (dk_at dksX10_yards_0 6 rfl rfl)
abbrev cX10_kind : ByteArray := prog_2_method_2_code
def yX10_kind : MethodName := ⟨RX10, "kind", "()I"⟩
theorem dX10_kind_0 : decode cX10_kind 0 = .ok (.iconst 2, 1) := by decide +kernel
theorem dX10_kind_1 : decode cX10_kind 1 = .ok (.ireturn, 1) := by decide +kernel
abbrev cX10_size : ByteArray := prog_2_method_4_code
def yX10_size : MethodName := ⟨RX10, "size", "(LNightStones$Trail;LNightStones$Road;)I"⟩
def dkwX10_size_0 : List UInt8 := [43, 16, 12, 182, 0, 13, 42, 43, 44, 183, 0, 19, 116, 172]
abbrev dktX10_size_0 : List UInt8 := dkwX10_size_0 ++ []
theorem dksX10_size_0 : cX10_size.data.toList.drop 0 = dktX10_size_0 := by decide +kernel
theorem dX10_size_0 : decode cX10_size 0 = .ok (.aload_n 1, 1) := dk_43 (dk_at dksX10_size_0 0 rfl rfl)
theorem dX10_size_1 : decode cX10_size 1 = .ok (.bipush 12, 2) := dk_16 12 (dk_at dksX10_size_0 1 rfl rfl)
theorem dX10_size_3 : decode cX10_size 3 = .ok (.invokevirtual 13, 3) := dk_182 0 13 (dk_at dksX10_size_0 3 rfl rfl)
theorem dX10_size_6 : decode cX10_size 6 = .ok (.aload_n 0, 1) := dk_42 (dk_at dksX10_size_0 6 rfl rfl)
theorem dX10_size_7 : decode cX10_size 7 = .ok (.aload_n 1, 1) := dk_43 (dk_at dksX10_size_0 7 rfl rfl)
theorem dX10_size_8 : decode cX10_size 8 = .ok (.aload_n 2, 1) := dk_44 (dk_at dksX10_size_0 8 rfl rfl)
theorem dX10_size_9 : decode cX10_size 9 = .ok (.invokespecial 19, 3) := dk_183 0 19 (dk_at dksX10_size_0 9 rfl rfl)
theorem dX10_size_12 : decode cX10_size 12 = .ok (.ineg, 1) := dk_116 (dk_at dksX10_size_0 12 rfl rfl)
theorem dX10_size_13 : decode cX10_size 13 = .ok (.ireturn, 1) := dk_172 (dk_at dksX10_size_0 13 rfl rfl)
abbrev cX10_mark : ByteArray := prog_2_method_5_code
def yX10_mark : MethodName := ⟨RX10, "mark", "(LNightStones$Trail;LNightStones$Road;)I"⟩
def dkwX10_mark_0 : List UInt8 := [43, 16, 24, 182, 0, 13, 5, 42, 43, 44, 183, 0, 23, 104, 172]
abbrev dktX10_mark_0 : List UInt8 := dkwX10_mark_0 ++ []
theorem dksX10_mark_0 : cX10_mark.data.toList.drop 0 = dktX10_mark_0 := by decide +kernel
theorem dX10_mark_0 : decode cX10_mark 0 = .ok (.aload_n 1, 1) := dk_43 (dk_at dksX10_mark_0 0 rfl rfl)
theorem dX10_mark_1 : decode cX10_mark 1 = .ok (.bipush 24, 2) := dk_16 24 (dk_at dksX10_mark_0 1 rfl rfl)
theorem dX10_mark_3 : decode cX10_mark 3 = .ok (.invokevirtual 13, 3) := dk_182 0 13 (dk_at dksX10_mark_0 3 rfl rfl)
theorem dX10_mark_6 : decode cX10_mark 6 = .ok (.iconst 2, 1) := dk_5 (dk_at dksX10_mark_0 6 rfl rfl)
theorem dX10_mark_7 : decode cX10_mark 7 = .ok (.aload_n 0, 1) := dk_42 (dk_at dksX10_mark_0 7 rfl rfl)
theorem dX10_mark_8 : decode cX10_mark 8 = .ok (.aload_n 1, 1) := dk_43 (dk_at dksX10_mark_0 8 rfl rfl)
theorem dX10_mark_9 : decode cX10_mark 9 = .ok (.aload_n 2, 1) := dk_44 (dk_at dksX10_mark_0 9 rfl rfl)
theorem dX10_mark_10 : decode cX10_mark 10 = .ok (.invokespecial 23, 3) := dk_183 0 23 (dk_at dksX10_mark_0 10 rfl rfl)
theorem dX10_mark_13 : decode cX10_mark 13 = .ok (.imul, 1) := dk_104 (dk_at dksX10_mark_0 13 rfl rfl)
theorem dX10_mark_14 : decode cX10_mark 14 = .ok (.ireturn, 1) := dk_172 (dk_at dksX10_mark_0 14 rfl rfl)
theorem q91 : (Jvm.Cond.initialized "NightStones$Carter") ∈ lw_all := lw_g (lw_at lw_m1 29 rfl) rfl
theorem q765 : (Jvm.Cond.instantiable "NightStones$Carter" (4 : Nat)) ∈ lw_all := lw_g (lw_at lw_m3 223 rfl) rfl
theorem q767 : (Jvm.Cond.instanceMethod ({ cls := "NightStones$Carter", name := "<init>", desc := "(IIZI)V" } : Jvm.MethodName)) ∈ lw_all := lw_g (lw_at lw_m3 225 rfl) rfl
theorem q768 : (Jvm.Cond.code ({ cls := "NightStones$Carter", name := "<init>", desc := "(IIZI)V" } : Jvm.MethodName) prog_2_method_1_code (5 : Nat) (Option.none : Option Jvm.ClassFile.FieldType)) ∈ lw_all := lw_g (lw_at lw_m3 226 rfl) rfl
theorem q769 : (Jvm.Cond.methodLink "NightStones$Carter" (3 : Nat) ({ cls := "NightStones$Inn", name := "<init>", desc := "(IIZI)V" } : Jvm.MethodName)) ∈ lw_all := lw_g (lw_at lw_m3 227 rfl) rfl
theorem q770 : (Jvm.Cond.laysFinal "NightStones$Carter" "NightStones$Mover" "number" "I") ∈ lw_all := lw_g (lw_at lw_m3 228 rfl) rfl
theorem q771 : (Jvm.Cond.laysFinal "NightStones$Carter" "NightStones$Mover" "stone" "I") ∈ lw_all := lw_g (lw_at lw_m3 229 rfl) rfl
theorem q772 : (Jvm.Cond.laysFinal "NightStones$Carter" "NightStones$Mover" "isOutward" "Z") ∈ lw_all := lw_g (lw_at lw_m3 230 rfl) rfl
theorem q773 : (Jvm.Cond.laysFinal "NightStones$Carter" "NightStones$Mover" "reach" "I") ∈ lw_all := lw_g (lw_at lw_m3 231 rfl) rfl
theorem q774 : (Jvm.Cond.superclass "NightStones$Carter" "NightStones$Inn") ∈ lw_all := lw_g (lw_at lw_m3 232 rfl) rfl
theorem q837 : (Jvm.Cond.selects "NightStones$Carter" ({ cls := "java/lang/Object", name := "getClass", desc := "()Ljava/lang/Class;" } : Jvm.MethodName) ({ cls := "java/lang/Object", name := "getClass", desc := "()Ljava/lang/Class;" } : Jvm.MethodName)) ∈ lw_all := lw_g (lw_at lw_m4 55 rfl) rfl
theorem q924 : (Jvm.Cond.selects "NightStones$Carter" ({ cls := "NightStones$Mover", name := "isOut", desc := "(IZ)Z" } : Jvm.MethodName) ({ cls := "NightStones$Mover", name := "isOut", desc := "(IZ)Z" } : Jvm.MethodName)) ∈ lw_all := lw_g (lw_at lw_m4 142 rfl) rfl
theorem q941 : (Jvm.Cond.selects "NightStones$Carter" ({ cls := "NightStones$Mover", name := "goesOutward", desc := "(I)Z" } : Jvm.MethodName) ({ cls := "NightStones$Mover", name := "goesOutward", desc := "(I)Z" } : Jvm.MethodName)) ∈ lw_all := lw_g (lw_at lw_m4 159 rfl) rfl
theorem q954 : (Jvm.Cond.selects "NightStones$Carter" ({ cls := "NightStones$Mover", name := "yards", desc := "()I" } : Jvm.MethodName) ({ cls := "NightStones$Carter", name := "yards", desc := "()I" } : Jvm.MethodName)) ∈ lw_all := lw_g (lw_at lw_m4 172 rfl) rfl
theorem q955 : (Jvm.Cond.instanceMethod ({ cls := "NightStones$Carter", name := "yards", desc := "()I" } : Jvm.MethodName)) ∈ lw_all := lw_g (lw_at lw_m4 173 rfl) rfl
theorem q956 : (Jvm.Cond.code ({ cls := "NightStones$Carter", name := "yards", desc := "()I" } : Jvm.MethodName) prog_2_method_3_code (1 : Nat) (Option.some Jvm.ClassFile.FieldType.int)) ∈ lw_all := lw_g (lw_at lw_m4 174 rfl) rfl
theorem q957 : (Jvm.Cond.methodLink "NightStones$Carter" (9 : Nat) ({ cls := "NightStones$Inn", name := "yards", desc := "()I" } : Jvm.MethodName)) ∈ lw_all := lw_g (lw_at lw_m4 175 rfl) rfl
theorem q1121 : (Jvm.Cond.selects "NightStones$Carter" ({ cls := "NightStones$Mover", name := "kind", desc := "()I" } : Jvm.MethodName) ({ cls := "NightStones$Carter", name := "kind", desc := "()I" } : Jvm.MethodName)) ∈ lw_all := lw_g (lw_at lw_m5 99 rfl) rfl
theorem q1122 : (Jvm.Cond.instanceMethod ({ cls := "NightStones$Carter", name := "kind", desc := "()I" } : Jvm.MethodName)) ∈ lw_all := lw_g (lw_at lw_m5 100 rfl) rfl
theorem q1123 : (Jvm.Cond.code ({ cls := "NightStones$Carter", name := "kind", desc := "()I" } : Jvm.MethodName) prog_2_method_2_code (1 : Nat) (Option.some Jvm.ClassFile.FieldType.int)) ∈ lw_all := lw_g (lw_at lw_m5 101 rfl) rfl
theorem q1158 : (Jvm.Cond.selects "NightStones$Carter" ({ cls := "NightStones$Mover", name := "number", desc := "()I" } : Jvm.MethodName) ({ cls := "NightStones$Mover", name := "number", desc := "()I" } : Jvm.MethodName)) ∈ lw_all := lw_g (lw_at lw_m5 136 rfl) rfl
theorem q1171 : (Jvm.Cond.selects "NightStones$Carter" ({ cls := "NightStones$Mover", name := "size", desc := "(LNightStones$Trail;LNightStones$Road;)I" } : Jvm.MethodName) ({ cls := "NightStones$Carter", name := "size", desc := "(LNightStones$Trail;LNightStones$Road;)I" } : Jvm.MethodName)) ∈ lw_all := lw_g (lw_at lw_m5 149 rfl) rfl
theorem q1172 : (Jvm.Cond.instanceMethod ({ cls := "NightStones$Carter", name := "size", desc := "(LNightStones$Trail;LNightStones$Road;)I" } : Jvm.MethodName)) ∈ lw_all := lw_g (lw_at lw_m5 150 rfl) rfl
theorem q1173 : (Jvm.Cond.code ({ cls := "NightStones$Carter", name := "size", desc := "(LNightStones$Trail;LNightStones$Road;)I" } : Jvm.MethodName) prog_2_method_4_code (3 : Nat) (Option.some Jvm.ClassFile.FieldType.int)) ∈ lw_all := lw_g (lw_at lw_m5 151 rfl) rfl
theorem q1174 : (Jvm.Cond.methodLink "NightStones$Carter" (13 : Nat) ({ cls := "NightStones$Trail", name := "begins", desc := "(I)V" } : Jvm.MethodName)) ∈ lw_all := lw_g (lw_at lw_m5 152 rfl) rfl
theorem q1178 : (Jvm.Cond.methodLink "NightStones$Carter" (19 : Nat) ({ cls := "NightStones$Inn", name := "size", desc := "(LNightStones$Trail;LNightStones$Road;)I" } : Jvm.MethodName)) ∈ lw_all := lw_g (lw_at lw_m5 156 rfl) rfl
theorem q1187 : (Jvm.Cond.selects "NightStones$Carter" ({ cls := "NightStones$Inn", name := "mark", desc := "(LNightStones$Trail;LNightStones$Road;)I" } : Jvm.MethodName) ({ cls := "NightStones$Carter", name := "mark", desc := "(LNightStones$Trail;LNightStones$Road;)I" } : Jvm.MethodName)) ∈ lw_all := lw_g (lw_at lw_m5 165 rfl) rfl
theorem q1188 : (Jvm.Cond.instanceMethod ({ cls := "NightStones$Carter", name := "mark", desc := "(LNightStones$Trail;LNightStones$Road;)I" } : Jvm.MethodName)) ∈ lw_all := lw_g (lw_at lw_m5 166 rfl) rfl
theorem q1189 : (Jvm.Cond.code ({ cls := "NightStones$Carter", name := "mark", desc := "(LNightStones$Trail;LNightStones$Road;)I" } : Jvm.MethodName) prog_2_method_5_code (3 : Nat) (Option.some Jvm.ClassFile.FieldType.int)) ∈ lw_all := lw_g (lw_at lw_m5 167 rfl) rfl
theorem q1190 : (Jvm.Cond.methodLink "NightStones$Carter" (23 : Nat) ({ cls := "NightStones$Inn", name := "mark", desc := "(LNightStones$Trail;LNightStones$Road;)I" } : Jvm.MethodName)) ∈ lw_all := lw_g (lw_at lw_m5 168 rfl) rfl
theorem q1206 : (Jvm.Cond.castable "NightStones$Carter" "NightStones$Marked") ∈ lw_tbl := lw_at lw_m5 184 rfl
theorem q1207 : (Jvm.Cond.selects "NightStones$Carter" ({ cls := "NightStones$Marked", name := "number", desc := "()I" } : Jvm.MethodName) ({ cls := "NightStones$Mover", name := "number", desc := "()I" } : Jvm.MethodName)) ∈ lw_all := lw_g (lw_at lw_m5 185 rfl) rfl
theorem q1208 : (Jvm.Cond.unhidden "NightStones$Carter" "number" "()I") ∈ lw_tbl := lw_at lw_m5 186 rfl
theorem q1236 : (Jvm.Cond.selects "NightStones$Carter" ({ cls := "NightStones$Marked", name := "mark", desc := "(LNightStones$Trail;LNightStones$Road;)I" } : Jvm.MethodName) ({ cls := "NightStones$Carter", name := "mark", desc := "(LNightStones$Trail;LNightStones$Road;)I" } : Jvm.MethodName)) ∈ lw_all := lw_g (lw_at lw_m5 214 rfl) rfl
theorem q1667 : (Jvm.Cond.castable "NightStones$Carter" "NightStones$Mover") ∈ lw_tbl := lw_at lw_m7 165 rfl
theorem q1672 : (Jvm.Cond.castable "NightStones$Carter" "NightStones$Inn") ∈ lw_tbl := lw_at lw_m7 170 rfl
theorem q1688 : (Jvm.Cond.castable "NightStones$Carter" "java/lang/Object") ∈ lw_tbl := lw_at lw_m7 186 rfl
theorem in_X10 : ∀ w ∈ wsX100, w ∈ lw_all := lw_in wsX100 [770, 771, 772, 773] (by decide +kernel) (by decide +kernel)
/-! NightStones$Parish -/
set_option maxRecDepth 100000
def RX11 : String := "NightStones$Parish"
def TX11 : u_T := fun k => match k with
  | 0 => ("NightStones$Mover", "number", "I", true)
  | 1 => ("NightStones$Mover", "stone", "I", true)
  | 2 => ("NightStones$Mover", "isOutward", "Z", true)
  | _ => ("NightStones$Mover", "reach", "I", true)
def tyX11 : Nat → FieldType := fun k => match k with
  | 0 => .int
  | 1 => .int
  | 2 => .boolean
  | _ => .int
abbrev wsX110 : List Cond := u_ws RX11 TX11 4
theorem nmX11 : ∀ a, a < 4 → ∀ b, b < 4 → a ≠ b → (TX11 a).2.1 ≠ (TX11 b).2.1 := by decide +kernel
theorem tyX11_ok : ∀ k, k < 4 → parseFieldDescriptor (TX11 k).2.2.1 = some (tyX11 k) := by decide +kernel
abbrev cX11_init : ByteArray := prog_8_method_1_code
def yX11_init : MethodName := ⟨RX11, "<init>", "(IIZI)V"⟩
def dkwX11_init_0 : List UInt8 := [42, 27, 28, 29, 21, 4, 183, 0, 3, 177]
abbrev dktX11_init_0 : List UInt8 := dkwX11_init_0 ++ []
theorem dksX11_init_0 : cX11_init.data.toList.drop 0 = dktX11_init_0 := by decide +kernel
theorem dX11_init_0 : decode cX11_init 0 = .ok (.aload_n 0, 1) := dk_42 (dk_at dksX11_init_0 0 rfl rfl)
theorem dX11_init_1 : decode cX11_init 1 = .ok (.iload_n 1, 1) := dk_27 (dk_at dksX11_init_0 1 rfl rfl)
theorem dX11_init_2 : decode cX11_init 2 = .ok (.iload_n 2, 1) := dk_28 (dk_at dksX11_init_0 2 rfl rfl)
theorem dX11_init_3 : decode cX11_init 3 = .ok (.iload_n 3, 1) := dk_29 (dk_at dksX11_init_0 3 rfl rfl)
theorem dX11_init_4 : decode cX11_init 4 = .ok (.iload 4, 2) := dk_21 4 (dk_at dksX11_init_0 4 rfl rfl)
theorem dX11_init_6 : decode cX11_init 6 = .ok (.invokespecial 3, 3) := dk_183 0 3 (dk_at dksX11_init_0 6 rfl rfl)
theorem dX11_init_9 : decode cX11_init 9 = .ok (.return_, 1) := dk_177 (dk_at dksX11_init_0 9 rfl rfl)
abbrev cX11_isOut : ByteArray := prog_8_method_3_code
def yX11_isOut : MethodName := ⟨RX11, "isOut", "(IZ)Z"⟩
def dkwX11_isOut_0 : List UInt8 := [27, 5, 112, 154, 0, 7, 4, 167, 0, 4, 3, 172]
abbrev dktX11_isOut_0 : List UInt8 := dkwX11_isOut_0 ++ []
theorem dksX11_isOut_0 : cX11_isOut.data.toList.drop 0 = dktX11_isOut_0 := by decide +kernel
theorem dX11_isOut_0 : decode cX11_isOut 0 = .ok (.iload_n 1, 1) := dk_27 (dk_at dksX11_isOut_0 0 rfl rfl)
theorem dX11_isOut_1 : decode cX11_isOut 1 = .ok (.iconst 2, 1) := dk_5 (dk_at dksX11_isOut_0 1 rfl rfl)
theorem dX11_isOut_2 : decode cX11_isOut 2 = .ok (.irem, 1) := dk_112 (dk_at dksX11_isOut_0 2 rfl rfl)
theorem dX11_isOut_3 : decode cX11_isOut 3 = .ok (.ifCond .ne 7, 3) := dk_154 0 7 (dk_at dksX11_isOut_0 3 rfl rfl)
theorem dX11_isOut_6 : decode cX11_isOut 6 = .ok (.iconst 1, 1) := dk_4 (dk_at dksX11_isOut_0 6 rfl rfl)
theorem dX11_isOut_7 : decode cX11_isOut 7 = .ok (.goto 4, 3) := dk_167 0 4 (dk_at dksX11_isOut_0 7 rfl rfl)
theorem dX11_isOut_10 : decode cX11_isOut 10 = .ok (.iconst 0, 1) := dk_3 (dk_at dksX11_isOut_0 10 rfl rfl)
theorem dX11_isOut_11 : decode cX11_isOut 11 = .ok (.ireturn, 1) := dk_172 (dk_at dksX11_isOut_0 11 rfl rfl)
abbrev cX11_kind : ByteArray := prog_8_method_2_code
def yX11_kind : MethodName := ⟨RX11, "kind", "()I"⟩
theorem dX11_kind_0 : decode cX11_kind 0 = .ok (.iconst 3, 1) := by decide +kernel
theorem dX11_kind_1 : decode cX11_kind 1 = .ok (.ireturn, 1) := by decide +kernel
abbrev cX11_mark : ByteArray := prog_8_method_4_code
def yX11_mark : MethodName := ⟨RX11, "mark", "(LNightStones$Trail;LNightStones$Road;)I"⟩
def dkwX11_mark_0 : List UInt8 := [43, 16, 22, 182, 0, 9, 42, 43, 44, 183, 0, 15, 17, 3, 232, 100, 172]
abbrev dktX11_mark_0 : List UInt8 := dkwX11_mark_0 ++ []
theorem dksX11_mark_0 : cX11_mark.data.toList.drop 0 = dktX11_mark_0 := by decide +kernel
theorem dX11_mark_0 : decode cX11_mark 0 = .ok (.aload_n 1, 1) := dk_43 (dk_at dksX11_mark_0 0 rfl rfl)
theorem dX11_mark_1 : decode cX11_mark 1 = .ok (.bipush 22, 2) := dk_16 22 (dk_at dksX11_mark_0 1 rfl rfl)
theorem dX11_mark_3 : decode cX11_mark 3 = .ok (.invokevirtual 9, 3) := dk_182 0 9 (dk_at dksX11_mark_0 3 rfl rfl)
theorem dX11_mark_6 : decode cX11_mark 6 = .ok (.aload_n 0, 1) := dk_42 (dk_at dksX11_mark_0 6 rfl rfl)
theorem dX11_mark_7 : decode cX11_mark 7 = .ok (.aload_n 1, 1) := dk_43 (dk_at dksX11_mark_0 7 rfl rfl)
theorem dX11_mark_8 : decode cX11_mark 8 = .ok (.aload_n 2, 1) := dk_44 (dk_at dksX11_mark_0 8 rfl rfl)
theorem dX11_mark_9 : decode cX11_mark 9 = .ok (.invokespecial 15, 3) := dk_183 0 15 (dk_at dksX11_mark_0 9 rfl rfl)
theorem dX11_mark_12 : decode cX11_mark 12 = .ok (.sipush 1000, 3) := dk_17 3 232 (dk_at dksX11_mark_0 12 rfl rfl)
theorem dX11_mark_15 : decode cX11_mark 15 = .ok (.isub, 1) := dk_100 (dk_at dksX11_mark_0 15 rfl rfl)
theorem dX11_mark_16 : decode cX11_mark 16 = .ok (.ireturn, 1) := dk_172 (dk_at dksX11_mark_0 16 rfl rfl)
theorem q92 : (Jvm.Cond.initialized "NightStones$Parish") ∈ lw_all := lw_g (lw_at lw_m1 30 rfl) rfl
theorem q776 : (Jvm.Cond.instantiable "NightStones$Parish" (4 : Nat)) ∈ lw_all := lw_g (lw_at lw_m3 234 rfl) rfl
theorem q778 : (Jvm.Cond.instanceMethod ({ cls := "NightStones$Parish", name := "<init>", desc := "(IIZI)V" } : Jvm.MethodName)) ∈ lw_all := lw_g (lw_at lw_m3 236 rfl) rfl
theorem q779 : (Jvm.Cond.code ({ cls := "NightStones$Parish", name := "<init>", desc := "(IIZI)V" } : Jvm.MethodName) prog_8_method_1_code (5 : Nat) (Option.none : Option Jvm.ClassFile.FieldType)) ∈ lw_all := lw_g (lw_at lw_m3 237 rfl) rfl
theorem q780 : (Jvm.Cond.methodLink "NightStones$Parish" (3 : Nat) ({ cls := "NightStones$Inn", name := "<init>", desc := "(IIZI)V" } : Jvm.MethodName)) ∈ lw_all := lw_g (lw_at lw_m3 238 rfl) rfl
theorem q781 : (Jvm.Cond.laysFinal "NightStones$Parish" "NightStones$Mover" "number" "I") ∈ lw_all := lw_g (lw_at lw_m3 239 rfl) rfl
theorem q782 : (Jvm.Cond.laysFinal "NightStones$Parish" "NightStones$Mover" "stone" "I") ∈ lw_all := lw_g (lw_at lw_m4 0 rfl) rfl
theorem q783 : (Jvm.Cond.laysFinal "NightStones$Parish" "NightStones$Mover" "isOutward" "Z") ∈ lw_all := lw_g (lw_at lw_m4 1 rfl) rfl
theorem q784 : (Jvm.Cond.laysFinal "NightStones$Parish" "NightStones$Mover" "reach" "I") ∈ lw_all := lw_g (lw_at lw_m4 2 rfl) rfl
theorem q785 : (Jvm.Cond.superclass "NightStones$Parish" "NightStones$Inn") ∈ lw_all := lw_g (lw_at lw_m4 3 rfl) rfl
theorem q841 : (Jvm.Cond.selects "NightStones$Parish" ({ cls := "java/lang/Object", name := "getClass", desc := "()Ljava/lang/Class;" } : Jvm.MethodName) ({ cls := "java/lang/Object", name := "getClass", desc := "()Ljava/lang/Class;" } : Jvm.MethodName)) ∈ lw_all := lw_g (lw_at lw_m4 59 rfl) rfl
theorem q926 : (Jvm.Cond.selects "NightStones$Parish" ({ cls := "NightStones$Mover", name := "isOut", desc := "(IZ)Z" } : Jvm.MethodName) ({ cls := "NightStones$Parish", name := "isOut", desc := "(IZ)Z" } : Jvm.MethodName)) ∈ lw_all := lw_g (lw_at lw_m4 144 rfl) rfl
theorem q927 : (Jvm.Cond.instanceMethod ({ cls := "NightStones$Parish", name := "isOut", desc := "(IZ)Z" } : Jvm.MethodName)) ∈ lw_all := lw_g (lw_at lw_m4 145 rfl) rfl
theorem q928 : (Jvm.Cond.code ({ cls := "NightStones$Parish", name := "isOut", desc := "(IZ)Z" } : Jvm.MethodName) prog_8_method_3_code (3 : Nat) (Option.some Jvm.ClassFile.FieldType.boolean)) ∈ lw_all := lw_g (lw_at lw_m4 146 rfl) rfl
theorem q943 : (Jvm.Cond.selects "NightStones$Parish" ({ cls := "NightStones$Mover", name := "goesOutward", desc := "(I)Z" } : Jvm.MethodName) ({ cls := "NightStones$Mover", name := "goesOutward", desc := "(I)Z" } : Jvm.MethodName)) ∈ lw_all := lw_g (lw_at lw_m4 161 rfl) rfl
theorem q961 : (Jvm.Cond.selects "NightStones$Parish" ({ cls := "NightStones$Mover", name := "yards", desc := "()I" } : Jvm.MethodName) ({ cls := "NightStones$Mover", name := "yards", desc := "()I" } : Jvm.MethodName)) ∈ lw_all := lw_g (lw_at lw_m4 179 rfl) rfl
theorem q1127 : (Jvm.Cond.selects "NightStones$Parish" ({ cls := "NightStones$Mover", name := "kind", desc := "()I" } : Jvm.MethodName) ({ cls := "NightStones$Parish", name := "kind", desc := "()I" } : Jvm.MethodName)) ∈ lw_all := lw_g (lw_at lw_m5 105 rfl) rfl
theorem q1128 : (Jvm.Cond.instanceMethod ({ cls := "NightStones$Parish", name := "kind", desc := "()I" } : Jvm.MethodName)) ∈ lw_all := lw_g (lw_at lw_m5 106 rfl) rfl
theorem q1129 : (Jvm.Cond.code ({ cls := "NightStones$Parish", name := "kind", desc := "()I" } : Jvm.MethodName) prog_8_method_2_code (1 : Nat) (Option.some Jvm.ClassFile.FieldType.int)) ∈ lw_all := lw_g (lw_at lw_m5 107 rfl) rfl
theorem q1160 : (Jvm.Cond.selects "NightStones$Parish" ({ cls := "NightStones$Mover", name := "number", desc := "()I" } : Jvm.MethodName) ({ cls := "NightStones$Mover", name := "number", desc := "()I" } : Jvm.MethodName)) ∈ lw_all := lw_g (lw_at lw_m5 138 rfl) rfl
theorem q1191 : (Jvm.Cond.selects "NightStones$Parish" ({ cls := "NightStones$Inn", name := "mark", desc := "(LNightStones$Trail;LNightStones$Road;)I" } : Jvm.MethodName) ({ cls := "NightStones$Parish", name := "mark", desc := "(LNightStones$Trail;LNightStones$Road;)I" } : Jvm.MethodName)) ∈ lw_all := lw_g (lw_at lw_m5 169 rfl) rfl
theorem q1192 : (Jvm.Cond.instanceMethod ({ cls := "NightStones$Parish", name := "mark", desc := "(LNightStones$Trail;LNightStones$Road;)I" } : Jvm.MethodName)) ∈ lw_all := lw_g (lw_at lw_m5 170 rfl) rfl
theorem q1193 : (Jvm.Cond.code ({ cls := "NightStones$Parish", name := "mark", desc := "(LNightStones$Trail;LNightStones$Road;)I" } : Jvm.MethodName) prog_8_method_4_code (3 : Nat) (Option.some Jvm.ClassFile.FieldType.int)) ∈ lw_all := lw_g (lw_at lw_m5 171 rfl) rfl
theorem q1194 : (Jvm.Cond.methodLink "NightStones$Parish" (9 : Nat) ({ cls := "NightStones$Trail", name := "begins", desc := "(I)V" } : Jvm.MethodName)) ∈ lw_all := lw_g (lw_at lw_m5 172 rfl) rfl
theorem q1195 : (Jvm.Cond.methodLink "NightStones$Parish" (15 : Nat) ({ cls := "NightStones$Inn", name := "mark", desc := "(LNightStones$Trail;LNightStones$Road;)I" } : Jvm.MethodName)) ∈ lw_all := lw_g (lw_at lw_m5 173 rfl) rfl
theorem q1213 : (Jvm.Cond.castable "NightStones$Parish" "NightStones$Marked") ∈ lw_tbl := lw_at lw_m5 191 rfl
theorem q1214 : (Jvm.Cond.selects "NightStones$Parish" ({ cls := "NightStones$Marked", name := "number", desc := "()I" } : Jvm.MethodName) ({ cls := "NightStones$Mover", name := "number", desc := "()I" } : Jvm.MethodName)) ∈ lw_all := lw_g (lw_at lw_m5 192 rfl) rfl
theorem q1215 : (Jvm.Cond.unhidden "NightStones$Parish" "number" "()I") ∈ lw_tbl := lw_at lw_m5 193 rfl
theorem q1223 : (Jvm.Cond.selects "NightStones$Parish" ({ cls := "NightStones$Mover", name := "size", desc := "(LNightStones$Trail;LNightStones$Road;)I" } : Jvm.MethodName) ({ cls := "NightStones$Inn", name := "size", desc := "(LNightStones$Trail;LNightStones$Road;)I" } : Jvm.MethodName)) ∈ lw_all := lw_g (lw_at lw_m5 201 rfl) rfl
theorem q1238 : (Jvm.Cond.selects "NightStones$Parish" ({ cls := "NightStones$Marked", name := "mark", desc := "(LNightStones$Trail;LNightStones$Road;)I" } : Jvm.MethodName) ({ cls := "NightStones$Parish", name := "mark", desc := "(LNightStones$Trail;LNightStones$Road;)I" } : Jvm.MethodName)) ∈ lw_all := lw_g (lw_at lw_m5 216 rfl) rfl
theorem q1669 : (Jvm.Cond.castable "NightStones$Parish" "NightStones$Mover") ∈ lw_tbl := lw_at lw_m7 167 rfl
theorem q1673 : (Jvm.Cond.castable "NightStones$Parish" "NightStones$Inn") ∈ lw_tbl := lw_at lw_m7 171 rfl
theorem q1689 : (Jvm.Cond.castable "NightStones$Parish" "java/lang/Object") ∈ lw_tbl := lw_at lw_m7 187 rfl
theorem in_X11 : ∀ w ∈ wsX110, w ∈ lw_all := lw_in wsX110 [781, 782, 783, 784] (by decide +kernel) (by decide +kernel)
/-! NightStones$Thief -/
set_option maxRecDepth 100000
def RX12 : String := "NightStones$Thief"
def TX12 : u_T := fun k => match k with
  | 0 => ("NightStones$Mover", "number", "I", true)
  | 1 => ("NightStones$Mover", "stone", "I", true)
  | 2 => ("NightStones$Mover", "isOutward", "Z", true)
  | _ => ("NightStones$Mover", "reach", "I", true)
def tyX12 : Nat → FieldType := fun k => match k with
  | 0 => .int
  | 1 => .int
  | 2 => .boolean
  | _ => .int
abbrev wsX120 : List Cond := u_ws RX12 TX12 4
theorem nmX12 : ∀ a, a < 4 → ∀ b, b < 4 → a ≠ b → (TX12 a).2.1 ≠ (TX12 b).2.1 := by decide +kernel
theorem tyX12_ok : ∀ k, k < 4 → parseFieldDescriptor (TX12 k).2.2.1 = some (tyX12 k) := by decide +kernel
abbrev cX12_init : ByteArray := prog_13_method_1_code
def yX12_init : MethodName := ⟨RX12, "<init>", "(IIZI)V"⟩
def dkwX12_init_0 : List UInt8 := [42, 27, 28, 29, 21, 4, 183, 0, 3, 177]
abbrev dktX12_init_0 : List UInt8 := dkwX12_init_0 ++ []
theorem dksX12_init_0 : cX12_init.data.toList.drop 0 = dktX12_init_0 := by decide +kernel
theorem dX12_init_0 : decode cX12_init 0 = .ok (.aload_n 0, 1) := dk_42 (dk_at dksX12_init_0 0 rfl rfl)
theorem dX12_init_1 : decode cX12_init 1 = .ok (.iload_n 1, 1) := dk_27 (dk_at dksX12_init_0 1 rfl rfl)
theorem dX12_init_2 : decode cX12_init 2 = .ok (.iload_n 2, 1) := dk_28 (dk_at dksX12_init_0 2 rfl rfl)
theorem dX12_init_3 : decode cX12_init 3 = .ok (.iload_n 3, 1) := dk_29 (dk_at dksX12_init_0 3 rfl rfl)
theorem dX12_init_4 : decode cX12_init 4 = .ok (.iload 4, 2) := dk_21 4 (dk_at dksX12_init_0 4 rfl rfl)
theorem dX12_init_6 : decode cX12_init 6 = .ok (.invokespecial 3, 3) := dk_183 0 3 (dk_at dksX12_init_0 6 rfl rfl)
theorem dX12_init_9 : decode cX12_init 9 = .ok (.return_, 1) := dk_177 (dk_at dksX12_init_0 9 rfl rfl)
abbrev cX12_goesOutward : ByteArray := prog_13_method_3_code
def yX12_goesOutward : MethodName := ⟨RX12, "goesOutward", "(I)Z"⟩
def dkwX12_goesOutward_0 : List UInt8 := [42, 180, 0, 9, 27, 5, 112, 154, 0, 7, 4, 167, 0, 4, 3, 160, 0, 7, 4, 167, 0, 4, 3, 172]
abbrev dktX12_goesOutward_0 : List UInt8 := dkwX12_goesOutward_0 ++ []
theorem dksX12_goesOutward_0 : cX12_goesOutward.data.toList.drop 0 = dktX12_goesOutward_0 := by decide +kernel
theorem dX12_goesOutward_0 : decode cX12_goesOutward 0 = .ok (.aload_n 0, 1) := dk_42 (dk_at dksX12_goesOutward_0 0 rfl rfl)
theorem dX12_goesOutward_1 : decode cX12_goesOutward 1 = .ok (.getfield 9, 3) := dk_180 0 9 (dk_at dksX12_goesOutward_0 1 rfl rfl)
theorem dX12_goesOutward_4 : decode cX12_goesOutward 4 = .ok (.iload_n 1, 1) := dk_27 (dk_at dksX12_goesOutward_0 4 rfl rfl)
theorem dX12_goesOutward_5 : decode cX12_goesOutward 5 = .ok (.iconst 2, 1) := dk_5 (dk_at dksX12_goesOutward_0 5 rfl rfl)
theorem dX12_goesOutward_6 : decode cX12_goesOutward 6 = .ok (.irem, 1) := dk_112 (dk_at dksX12_goesOutward_0 6 rfl rfl)
theorem dX12_goesOutward_7 : decode cX12_goesOutward 7 = .ok (.ifCond .ne 7, 3) := dk_154 0 7 (dk_at dksX12_goesOutward_0 7 rfl rfl)
theorem dX12_goesOutward_10 : decode cX12_goesOutward 10 = .ok (.iconst 1, 1) := dk_4 (dk_at dksX12_goesOutward_0 10 rfl rfl)
theorem dX12_goesOutward_11 : decode cX12_goesOutward 11 = .ok (.goto 4, 3) := dk_167 0 4 (dk_at dksX12_goesOutward_0 11 rfl rfl)
theorem dX12_goesOutward_14 : decode cX12_goesOutward 14 = .ok (.iconst 0, 1) := dk_3 (dk_at dksX12_goesOutward_0 14 rfl rfl)
theorem dX12_goesOutward_15 : decode cX12_goesOutward 15 = .ok (.if_icmp .ne 7, 3) := dk_160 0 7 (dk_at dksX12_goesOutward_0 15 rfl rfl)
theorem dX12_goesOutward_18 : decode cX12_goesOutward 18 = .ok (.iconst 1, 1) := dk_4 (dk_at dksX12_goesOutward_0 18 rfl rfl)
theorem dX12_goesOutward_19 : decode cX12_goesOutward 19 = .ok (.goto 4, 3) := dk_167 0 4 (dk_at dksX12_goesOutward_0 19 rfl rfl)
theorem dX12_goesOutward_22 : decode cX12_goesOutward 22 = .ok (.iconst 0, 1) := dk_3 (dk_at dksX12_goesOutward_0 22 rfl rfl)
theorem dX12_goesOutward_23 : decode cX12_goesOutward 23 = .ok (.ireturn, 1) := dk_172 (dk_at dksX12_goesOutward_0 23 rfl rfl)
abbrev cX12_kind : ByteArray := prog_13_method_2_code
def yX12_kind : MethodName := ⟨RX12, "kind", "()I"⟩
theorem dX12_kind_0 : decode cX12_kind 0 = .ok (.iconst 4, 1) := by decide +kernel
theorem dX12_kind_1 : decode cX12_kind 1 = .ok (.ireturn, 1) := by decide +kernel
abbrev cX12_size : ByteArray := prog_13_method_4_code
def yX12_size : MethodName := ⟨RX12, "size", "(LNightStones$Trail;LNightStones$Road;)I"⟩
def dkwX12_size_0 : List UInt8 := [43, 16, 13, 182, 0, 15, 42, 43, 44, 183, 0, 21, 16, 100, 100, 172]
abbrev dktX12_size_0 : List UInt8 := dkwX12_size_0 ++ []
theorem dksX12_size_0 : cX12_size.data.toList.drop 0 = dktX12_size_0 := by decide +kernel
theorem dX12_size_0 : decode cX12_size 0 = .ok (.aload_n 1, 1) := dk_43 (dk_at dksX12_size_0 0 rfl rfl)
theorem dX12_size_1 : decode cX12_size 1 = .ok (.bipush 13, 2) := dk_16 13 (dk_at dksX12_size_0 1 rfl rfl)
theorem dX12_size_3 : decode cX12_size 3 = .ok (.invokevirtual 15, 3) := dk_182 0 15 (dk_at dksX12_size_0 3 rfl rfl)
theorem dX12_size_6 : decode cX12_size 6 = .ok (.aload_n 0, 1) := dk_42 (dk_at dksX12_size_0 6 rfl rfl)
theorem dX12_size_7 : decode cX12_size 7 = .ok (.aload_n 1, 1) := dk_43 (dk_at dksX12_size_0 7 rfl rfl)
theorem dX12_size_8 : decode cX12_size 8 = .ok (.aload_n 2, 1) := dk_44 (dk_at dksX12_size_0 8 rfl rfl)
theorem dX12_size_9 : decode cX12_size 9 = .ok (.invokespecial 21, 3) := dk_183 0 21 (dk_at dksX12_size_0 9 rfl rfl)
theorem dX12_size_12 : decode cX12_size 12 = .ok (.bipush 100, 2) := dk_16 100 (dk_at dksX12_size_0 12 rfl rfl)
theorem dX12_size_14 : decode cX12_size 14 = .ok (.isub, 1) := dk_100 (dk_at dksX12_size_0 14 rfl rfl)
theorem dX12_size_15 : decode cX12_size 15 = .ok (.ireturn, 1) := dk_172 (dk_at dksX12_size_0 15 rfl rfl)
abbrev cX12_mark : ByteArray := prog_13_method_5_code
def yX12_mark : MethodName := ⟨RX12, "mark", "(LNightStones$Trail;LNightStones$Road;)I"⟩
def dkwX12_mark_0 : List UInt8 := [43, 16, 23, 182, 0, 15, 42, 43, 44, 183, 0, 25, 42, 43, 44, 182, 0, 28, 100, 172]
abbrev dktX12_mark_0 : List UInt8 := dkwX12_mark_0 ++ []
theorem dksX12_mark_0 : cX12_mark.data.toList.drop 0 = dktX12_mark_0 := by decide +kernel
theorem dX12_mark_0 : decode cX12_mark 0 = .ok (.aload_n 1, 1) := dk_43 (dk_at dksX12_mark_0 0 rfl rfl)
theorem dX12_mark_1 : decode cX12_mark 1 = .ok (.bipush 23, 2) := dk_16 23 (dk_at dksX12_mark_0 1 rfl rfl)
theorem dX12_mark_3 : decode cX12_mark 3 = .ok (.invokevirtual 15, 3) := dk_182 0 15 (dk_at dksX12_mark_0 3 rfl rfl)
theorem dX12_mark_6 : decode cX12_mark 6 = .ok (.aload_n 0, 1) := dk_42 (dk_at dksX12_mark_0 6 rfl rfl)
theorem dX12_mark_7 : decode cX12_mark 7 = .ok (.aload_n 1, 1) := dk_43 (dk_at dksX12_mark_0 7 rfl rfl)
theorem dX12_mark_8 : decode cX12_mark 8 = .ok (.aload_n 2, 1) := dk_44 (dk_at dksX12_mark_0 8 rfl rfl)
theorem dX12_mark_9 : decode cX12_mark 9 = .ok (.invokespecial 25, 3) := dk_183 0 25 (dk_at dksX12_mark_0 9 rfl rfl)
theorem dX12_mark_12 : decode cX12_mark 12 = .ok (.aload_n 0, 1) := dk_42 (dk_at dksX12_mark_0 12 rfl rfl)
theorem dX12_mark_13 : decode cX12_mark 13 = .ok (.aload_n 1, 1) := dk_43 (dk_at dksX12_mark_0 13 rfl rfl)
theorem dX12_mark_14 : decode cX12_mark 14 = .ok (.aload_n 2, 1) := dk_44 (dk_at dksX12_mark_0 14 rfl rfl)
theorem dX12_mark_15 : decode cX12_mark 15 = .ok (.invokevirtual 28, 3) := dk_182 0 28 (dk_at dksX12_mark_0 15 rfl rfl)
theorem dX12_mark_18 : decode cX12_mark 18 = .ok (.isub, 1) := dk_100 (dk_at dksX12_mark_0 18 rfl rfl)
theorem dX12_mark_19 : decode cX12_mark 19 = .ok (.ireturn, 1) := dk_172 (dk_at dksX12_mark_0 19 rfl rfl)
theorem q93 : (Jvm.Cond.initialized "NightStones$Thief") ∈ lw_all := lw_g (lw_at lw_m1 31 rfl) rfl
theorem q750 : (Jvm.Cond.fieldLink "NightStones$Thief" (9 : Nat) "NightStones$Thief" "isOutward" "Z") ∈ lw_all := lw_g (lw_at lw_m3 208 rfl) rfl
theorem q751 : (Jvm.Cond.sameField "NightStones$Thief" "NightStones$Mover" "isOutward" "Z") ∈ lw_all := lw_g (lw_at lw_m3 209 rfl) rfl
theorem q787 : (Jvm.Cond.instantiable "NightStones$Thief" (4 : Nat)) ∈ lw_all := lw_g (lw_at lw_m4 5 rfl) rfl
theorem q789 : (Jvm.Cond.instanceMethod ({ cls := "NightStones$Thief", name := "<init>", desc := "(IIZI)V" } : Jvm.MethodName)) ∈ lw_all := lw_g (lw_at lw_m4 7 rfl) rfl
theorem q790 : (Jvm.Cond.code ({ cls := "NightStones$Thief", name := "<init>", desc := "(IIZI)V" } : Jvm.MethodName) prog_13_method_1_code (5 : Nat) (Option.none : Option Jvm.ClassFile.FieldType)) ∈ lw_all := lw_g (lw_at lw_m4 8 rfl) rfl
theorem q791 : (Jvm.Cond.methodLink "NightStones$Thief" (3 : Nat) ({ cls := "NightStones$Mover", name := "<init>", desc := "(IIZI)V" } : Jvm.MethodName)) ∈ lw_all := lw_g (lw_at lw_m4 9 rfl) rfl
theorem q792 : (Jvm.Cond.laysFinal "NightStones$Thief" "NightStones$Mover" "number" "I") ∈ lw_all := lw_g (lw_at lw_m4 10 rfl) rfl
theorem q793 : (Jvm.Cond.laysFinal "NightStones$Thief" "NightStones$Mover" "stone" "I") ∈ lw_all := lw_g (lw_at lw_m4 11 rfl) rfl
theorem q794 : (Jvm.Cond.laysFinal "NightStones$Thief" "NightStones$Mover" "isOutward" "Z") ∈ lw_all := lw_g (lw_at lw_m4 12 rfl) rfl
theorem q795 : (Jvm.Cond.laysFinal "NightStones$Thief" "NightStones$Mover" "reach" "I") ∈ lw_all := lw_g (lw_at lw_m4 13 rfl) rfl
theorem q796 : (Jvm.Cond.superclass "NightStones$Thief" "NightStones$Mover") ∈ lw_all := lw_g (lw_at lw_m4 14 rfl) rfl
theorem q846 : (Jvm.Cond.selects "NightStones$Thief" ({ cls := "java/lang/Object", name := "getClass", desc := "()Ljava/lang/Class;" } : Jvm.MethodName) ({ cls := "java/lang/Object", name := "getClass", desc := "()Ljava/lang/Class;" } : Jvm.MethodName)) ∈ lw_all := lw_g (lw_at lw_m4 64 rfl) rfl
theorem q932 : (Jvm.Cond.selects "NightStones$Thief" ({ cls := "NightStones$Mover", name := "isOut", desc := "(IZ)Z" } : Jvm.MethodName) ({ cls := "NightStones$Mover", name := "isOut", desc := "(IZ)Z" } : Jvm.MethodName)) ∈ lw_all := lw_g (lw_at lw_m4 150 rfl) rfl
theorem q947 : (Jvm.Cond.selects "NightStones$Thief" ({ cls := "NightStones$Mover", name := "goesOutward", desc := "(I)Z" } : Jvm.MethodName) ({ cls := "NightStones$Thief", name := "goesOutward", desc := "(I)Z" } : Jvm.MethodName)) ∈ lw_all := lw_g (lw_at lw_m4 165 rfl) rfl
theorem q948 : (Jvm.Cond.instanceMethod ({ cls := "NightStones$Thief", name := "goesOutward", desc := "(I)Z" } : Jvm.MethodName)) ∈ lw_all := lw_g (lw_at lw_m4 166 rfl) rfl
theorem q949 : (Jvm.Cond.code ({ cls := "NightStones$Thief", name := "goesOutward", desc := "(I)Z" } : Jvm.MethodName) prog_13_method_3_code (2 : Nat) (Option.some Jvm.ClassFile.FieldType.boolean)) ∈ lw_all := lw_g (lw_at lw_m4 167 rfl) rfl
theorem q963 : (Jvm.Cond.selects "NightStones$Thief" ({ cls := "NightStones$Mover", name := "yards", desc := "()I" } : Jvm.MethodName) ({ cls := "NightStones$Mover", name := "yards", desc := "()I" } : Jvm.MethodName)) ∈ lw_all := lw_g (lw_at lw_m4 181 rfl) rfl
theorem q1133 : (Jvm.Cond.selects "NightStones$Thief" ({ cls := "NightStones$Mover", name := "kind", desc := "()I" } : Jvm.MethodName) ({ cls := "NightStones$Thief", name := "kind", desc := "()I" } : Jvm.MethodName)) ∈ lw_all := lw_g (lw_at lw_m5 111 rfl) rfl
theorem q1134 : (Jvm.Cond.instanceMethod ({ cls := "NightStones$Thief", name := "kind", desc := "()I" } : Jvm.MethodName)) ∈ lw_all := lw_g (lw_at lw_m5 112 rfl) rfl
theorem q1135 : (Jvm.Cond.code ({ cls := "NightStones$Thief", name := "kind", desc := "()I" } : Jvm.MethodName) prog_13_method_2_code (1 : Nat) (Option.some Jvm.ClassFile.FieldType.int)) ∈ lw_all := lw_g (lw_at lw_m5 113 rfl) rfl
theorem q1162 : (Jvm.Cond.selects "NightStones$Thief" ({ cls := "NightStones$Mover", name := "number", desc := "()I" } : Jvm.MethodName) ({ cls := "NightStones$Mover", name := "number", desc := "()I" } : Jvm.MethodName)) ∈ lw_all := lw_g (lw_at lw_m5 140 rfl) rfl
theorem q1219 : (Jvm.Cond.castable "NightStones$Thief" "NightStones$Marked") ∈ lw_tbl := lw_at lw_m5 197 rfl
theorem q1220 : (Jvm.Cond.selects "NightStones$Thief" ({ cls := "NightStones$Marked", name := "number", desc := "()I" } : Jvm.MethodName) ({ cls := "NightStones$Mover", name := "number", desc := "()I" } : Jvm.MethodName)) ∈ lw_all := lw_g (lw_at lw_m5 198 rfl) rfl
theorem q1221 : (Jvm.Cond.unhidden "NightStones$Thief" "number" "()I") ∈ lw_tbl := lw_at lw_m5 199 rfl
theorem q1229 : (Jvm.Cond.instanceMethod ({ cls := "NightStones$Thief", name := "size", desc := "(LNightStones$Trail;LNightStones$Road;)I" } : Jvm.MethodName)) ∈ lw_all := lw_g (lw_at lw_m5 207 rfl) rfl
theorem q1230 : (Jvm.Cond.code ({ cls := "NightStones$Thief", name := "size", desc := "(LNightStones$Trail;LNightStones$Road;)I" } : Jvm.MethodName) prog_13_method_4_code (3 : Nat) (Option.some Jvm.ClassFile.FieldType.int)) ∈ lw_all := lw_g (lw_at lw_m5 208 rfl) rfl
theorem q1231 : (Jvm.Cond.methodLink "NightStones$Thief" (15 : Nat) ({ cls := "NightStones$Trail", name := "begins", desc := "(I)V" } : Jvm.MethodName)) ∈ lw_all := lw_g (lw_at lw_m5 209 rfl) rfl
theorem q1232 : (Jvm.Cond.methodLink "NightStones$Thief" (21 : Nat) ({ cls := "NightStones$Mover", name := "size", desc := "(LNightStones$Trail;LNightStones$Road;)I" } : Jvm.MethodName)) ∈ lw_all := lw_g (lw_at lw_m5 210 rfl) rfl
theorem q1233 : (Jvm.Cond.selects "NightStones$Thief" ({ cls := "NightStones$Mover", name := "size", desc := "(LNightStones$Trail;LNightStones$Road;)I" } : Jvm.MethodName) ({ cls := "NightStones$Thief", name := "size", desc := "(LNightStones$Trail;LNightStones$Road;)I" } : Jvm.MethodName)) ∈ lw_all := lw_g (lw_at lw_m5 211 rfl) rfl
theorem q1240 : (Jvm.Cond.instanceMethod ({ cls := "NightStones$Thief", name := "mark", desc := "(LNightStones$Trail;LNightStones$Road;)I" } : Jvm.MethodName)) ∈ lw_all := lw_g (lw_at lw_m5 218 rfl) rfl
theorem q1241 : (Jvm.Cond.code ({ cls := "NightStones$Thief", name := "mark", desc := "(LNightStones$Trail;LNightStones$Road;)I" } : Jvm.MethodName) prog_13_method_5_code (3 : Nat) (Option.some Jvm.ClassFile.FieldType.int)) ∈ lw_all := lw_g (lw_at lw_m5 219 rfl) rfl
theorem q1242 : (Jvm.Cond.methodLink "NightStones$Thief" (28 : Nat) ({ cls := "NightStones$Thief", name := "size", desc := "(LNightStones$Trail;LNightStones$Road;)I" } : Jvm.MethodName)) ∈ lw_all := lw_g (lw_at lw_m5 220 rfl) rfl
theorem q1243 : (Jvm.Cond.selects "NightStones$Thief" ({ cls := "NightStones$Marked", name := "mark", desc := "(LNightStones$Trail;LNightStones$Road;)I" } : Jvm.MethodName) ({ cls := "NightStones$Thief", name := "mark", desc := "(LNightStones$Trail;LNightStones$Road;)I" } : Jvm.MethodName)) ∈ lw_all := lw_g (lw_at lw_m5 221 rfl) rfl
theorem q1663 : (Jvm.Cond.sameMethod "NightStones$Thief" "NightStones$Thief" "size" "(LNightStones$Trail;LNightStones$Road;)I") ∈ lw_all := lw_g (lw_at lw_m7 161 rfl) rfl
theorem q1665 : (Jvm.Cond.selects "NightStones$Thief" ({ cls := "NightStones$Thief", name := "size", desc := "(LNightStones$Trail;LNightStones$Road;)I" } : Jvm.MethodName) ({ cls := "NightStones$Thief", name := "size", desc := "(LNightStones$Trail;LNightStones$Road;)I" } : Jvm.MethodName)) ∈ lw_all := lw_g (lw_at lw_m7 163 rfl) rfl
theorem q1671 : (Jvm.Cond.castable "NightStones$Thief" "NightStones$Mover") ∈ lw_tbl := lw_at lw_m7 169 rfl
theorem q1690 : (Jvm.Cond.castable "NightStones$Thief" "java/lang/Object") ∈ lw_tbl := lw_at lw_m7 188 rfl
theorem in_X12 : ∀ w ∈ wsX120, w ∈ lw_all := lw_in wsX120 [792, 793, 794, 795] (by decide +kernel) (by decide +kernel)
/-! NightStones$Priest -/
set_option maxRecDepth 100000
def RX13 : String := "NightStones$Priest"
def TX13 : u_T := fun k => match k with
  | 0 => ("NightStones$Mover", "number", "I", true)
  | 1 => ("NightStones$Mover", "stone", "I", true)
  | 2 => ("NightStones$Mover", "isOutward", "Z", true)
  | _ => ("NightStones$Mover", "reach", "I", true)
def tyX13 : Nat → FieldType := fun k => match k with
  | 0 => .int
  | 1 => .int
  | 2 => .boolean
  | _ => .int
abbrev wsX130 : List Cond := u_ws RX13 TX13 4
theorem nmX13 : ∀ a, a < 4 → ∀ b, b < 4 → a ≠ b → (TX13 a).2.1 ≠ (TX13 b).2.1 := by decide +kernel
theorem tyX13_ok : ∀ k, k < 4 → parseFieldDescriptor (TX13 k).2.2.1 = some (tyX13 k) := by decide +kernel
abbrev cX13_init : ByteArray := prog_9_method_1_code
def yX13_init : MethodName := ⟨RX13, "<init>", "(IIZI)V"⟩
def dkwX13_init_0 : List UInt8 := [42, 27, 28, 29, 21, 4, 183, 0, 3, 177]
abbrev dktX13_init_0 : List UInt8 := dkwX13_init_0 ++ []
theorem dksX13_init_0 : cX13_init.data.toList.drop 0 = dktX13_init_0 := by decide +kernel
theorem dX13_init_0 : decode cX13_init 0 = .ok (.aload_n 0, 1) := dk_42 (dk_at dksX13_init_0 0 rfl rfl)
theorem dX13_init_1 : decode cX13_init 1 = .ok (.iload_n 1, 1) := dk_27 (dk_at dksX13_init_0 1 rfl rfl)
theorem dX13_init_2 : decode cX13_init 2 = .ok (.iload_n 2, 1) := dk_28 (dk_at dksX13_init_0 2 rfl rfl)
theorem dX13_init_3 : decode cX13_init 3 = .ok (.iload_n 3, 1) := dk_29 (dk_at dksX13_init_0 3 rfl rfl)
theorem dX13_init_4 : decode cX13_init 4 = .ok (.iload 4, 2) := dk_21 4 (dk_at dksX13_init_0 4 rfl rfl)
theorem dX13_init_6 : decode cX13_init 6 = .ok (.invokespecial 3, 3) := dk_183 0 3 (dk_at dksX13_init_0 6 rfl rfl)
theorem dX13_init_9 : decode cX13_init 9 = .ok (.return_, 1) := dk_177 (dk_at dksX13_init_0 9 rfl rfl)
abbrev cX13_isOut : ByteArray := prog_9_method_3_code
def yX13_isOut : MethodName := ⟨RX13, "isOut", "(IZ)Z"⟩
theorem dX13_isOut_0 : decode cX13_isOut 0 = .ok (.iload_n 2, 1) := by decide +kernel
theorem dX13_isOut_1 : decode cX13_isOut 1 = .ok (.ireturn, 1) := by decide +kernel
abbrev cX13_goesOutward : ByteArray := prog_9_method_4_code
def yX13_goesOutward : MethodName := ⟨RX13, "goesOutward", "(I)Z"⟩
theorem dX13_goesOutward_0 : decode cX13_goesOutward 0 = .ok (.aload_n 0, 1) := by decide +kernel
theorem dX13_goesOutward_1 : decode cX13_goesOutward 1 = .ok (.getfield 9, 3) := by decide +kernel
theorem dX13_goesOutward_4 : decode cX13_goesOutward 4 = .ok (.ireturn, 1) := by decide +kernel
abbrev cX13_kind : ByteArray := prog_9_method_2_code
def yX13_kind : MethodName := ⟨RX13, "kind", "()I"⟩
theorem dX13_kind_0 : decode cX13_kind 0 = .ok (.iconst 5, 1) := by decide +kernel
theorem dX13_kind_1 : decode cX13_kind 1 = .ok (.ireturn, 1) := by decide +kernel
abbrev cX13_size : ByteArray := prog_9_method_5_code
def yX13_size : MethodName := ⟨RX13, "size", "(LNightStones$Trail;LNightStones$Road;)I"⟩
def dkwX13_size_0 : List UInt8 := [43, 16, 14, 182, 0, 15, 5, 42, 43, 44, 183, 0, 21, 104, 172]
abbrev dktX13_size_0 : List UInt8 := dkwX13_size_0 ++ []
theorem dksX13_size_0 : cX13_size.data.toList.drop 0 = dktX13_size_0 := by decide +kernel
theorem dX13_size_0 : decode cX13_size 0 = .ok (.aload_n 1, 1) := dk_43 (dk_at dksX13_size_0 0 rfl rfl)
theorem dX13_size_1 : decode cX13_size 1 = .ok (.bipush 14, 2) := dk_16 14 (dk_at dksX13_size_0 1 rfl rfl)
theorem dX13_size_3 : decode cX13_size 3 = .ok (.invokevirtual 15, 3) := dk_182 0 15 (dk_at dksX13_size_0 3 rfl rfl)
theorem dX13_size_6 : decode cX13_size 6 = .ok (.iconst 2, 1) := dk_5 (dk_at dksX13_size_0 6 rfl rfl)
theorem dX13_size_7 : decode cX13_size 7 = .ok (.aload_n 0, 1) := dk_42 (dk_at dksX13_size_0 7 rfl rfl)
theorem dX13_size_8 : decode cX13_size 8 = .ok (.aload_n 1, 1) := dk_43 (dk_at dksX13_size_0 8 rfl rfl)
theorem dX13_size_9 : decode cX13_size 9 = .ok (.aload_n 2, 1) := dk_44 (dk_at dksX13_size_0 9 rfl rfl)
theorem dX13_size_10 : decode cX13_size 10 = .ok (.invokespecial 21, 3) := dk_183 0 21 (dk_at dksX13_size_0 10 rfl rfl)
theorem dX13_size_13 : decode cX13_size 13 = .ok (.imul, 1) := dk_104 (dk_at dksX13_size_0 13 rfl rfl)
theorem dX13_size_14 : decode cX13_size 14 = .ok (.ireturn, 1) := dk_172 (dk_at dksX13_size_0 14 rfl rfl)
theorem q94 : (Jvm.Cond.initialized "NightStones$Priest") ∈ lw_all := lw_g (lw_at lw_m1 32 rfl) rfl
theorem q752 : (Jvm.Cond.fieldLink "NightStones$Priest" (9 : Nat) "NightStones$Priest" "isOutward" "Z") ∈ lw_all := lw_g (lw_at lw_m3 210 rfl) rfl
theorem q753 : (Jvm.Cond.sameField "NightStones$Priest" "NightStones$Mover" "isOutward" "Z") ∈ lw_all := lw_g (lw_at lw_m3 211 rfl) rfl
theorem q798 : (Jvm.Cond.instantiable "NightStones$Priest" (4 : Nat)) ∈ lw_all := lw_g (lw_at lw_m4 16 rfl) rfl
theorem q800 : (Jvm.Cond.instanceMethod ({ cls := "NightStones$Priest", name := "<init>", desc := "(IIZI)V" } : Jvm.MethodName)) ∈ lw_all := lw_g (lw_at lw_m4 18 rfl) rfl
theorem q801 : (Jvm.Cond.code ({ cls := "NightStones$Priest", name := "<init>", desc := "(IIZI)V" } : Jvm.MethodName) prog_9_method_1_code (5 : Nat) (Option.none : Option Jvm.ClassFile.FieldType)) ∈ lw_all := lw_g (lw_at lw_m4 19 rfl) rfl
theorem q802 : (Jvm.Cond.methodLink "NightStones$Priest" (3 : Nat) ({ cls := "NightStones$Thief", name := "<init>", desc := "(IIZI)V" } : Jvm.MethodName)) ∈ lw_all := lw_g (lw_at lw_m4 20 rfl) rfl
theorem q803 : (Jvm.Cond.laysFinal "NightStones$Priest" "NightStones$Mover" "number" "I") ∈ lw_all := lw_g (lw_at lw_m4 21 rfl) rfl
theorem q804 : (Jvm.Cond.laysFinal "NightStones$Priest" "NightStones$Mover" "stone" "I") ∈ lw_all := lw_g (lw_at lw_m4 22 rfl) rfl
theorem q805 : (Jvm.Cond.laysFinal "NightStones$Priest" "NightStones$Mover" "isOutward" "Z") ∈ lw_all := lw_g (lw_at lw_m4 23 rfl) rfl
theorem q806 : (Jvm.Cond.laysFinal "NightStones$Priest" "NightStones$Mover" "reach" "I") ∈ lw_all := lw_g (lw_at lw_m4 24 rfl) rfl
theorem q807 : (Jvm.Cond.superclass "NightStones$Priest" "NightStones$Thief") ∈ lw_all := lw_g (lw_at lw_m4 25 rfl) rfl
theorem q842 : (Jvm.Cond.selects "NightStones$Priest" ({ cls := "java/lang/Object", name := "getClass", desc := "()Ljava/lang/Class;" } : Jvm.MethodName) ({ cls := "java/lang/Object", name := "getClass", desc := "()Ljava/lang/Class;" } : Jvm.MethodName)) ∈ lw_all := lw_g (lw_at lw_m4 60 rfl) rfl
theorem q929 : (Jvm.Cond.selects "NightStones$Priest" ({ cls := "NightStones$Mover", name := "isOut", desc := "(IZ)Z" } : Jvm.MethodName) ({ cls := "NightStones$Priest", name := "isOut", desc := "(IZ)Z" } : Jvm.MethodName)) ∈ lw_all := lw_g (lw_at lw_m4 147 rfl) rfl
theorem q930 : (Jvm.Cond.instanceMethod ({ cls := "NightStones$Priest", name := "isOut", desc := "(IZ)Z" } : Jvm.MethodName)) ∈ lw_all := lw_g (lw_at lw_m4 148 rfl) rfl
theorem q931 : (Jvm.Cond.code ({ cls := "NightStones$Priest", name := "isOut", desc := "(IZ)Z" } : Jvm.MethodName) prog_9_method_3_code (3 : Nat) (Option.some Jvm.ClassFile.FieldType.boolean)) ∈ lw_all := lw_g (lw_at lw_m4 149 rfl) rfl
theorem q944 : (Jvm.Cond.selects "NightStones$Priest" ({ cls := "NightStones$Mover", name := "goesOutward", desc := "(I)Z" } : Jvm.MethodName) ({ cls := "NightStones$Priest", name := "goesOutward", desc := "(I)Z" } : Jvm.MethodName)) ∈ lw_all := lw_g (lw_at lw_m4 162 rfl) rfl
theorem q945 : (Jvm.Cond.instanceMethod ({ cls := "NightStones$Priest", name := "goesOutward", desc := "(I)Z" } : Jvm.MethodName)) ∈ lw_all := lw_g (lw_at lw_m4 163 rfl) rfl
theorem q946 : (Jvm.Cond.code ({ cls := "NightStones$Priest", name := "goesOutward", desc := "(I)Z" } : Jvm.MethodName) prog_9_method_4_code (2 : Nat) (Option.some Jvm.ClassFile.FieldType.boolean)) ∈ lw_all := lw_g (lw_at lw_m4 164 rfl) rfl
theorem q962 : (Jvm.Cond.selects "NightStones$Priest" ({ cls := "NightStones$Mover", name := "yards", desc := "()I" } : Jvm.MethodName) ({ cls := "NightStones$Mover", name := "yards", desc := "()I" } : Jvm.MethodName)) ∈ lw_all := lw_g (lw_at lw_m4 180 rfl) rfl
theorem q1130 : (Jvm.Cond.selects "NightStones$Priest" ({ cls := "NightStones$Mover", name := "kind", desc := "()I" } : Jvm.MethodName) ({ cls := "NightStones$Priest", name := "kind", desc := "()I" } : Jvm.MethodName)) ∈ lw_all := lw_g (lw_at lw_m5 108 rfl) rfl
theorem q1131 : (Jvm.Cond.instanceMethod ({ cls := "NightStones$Priest", name := "kind", desc := "()I" } : Jvm.MethodName)) ∈ lw_all := lw_g (lw_at lw_m5 109 rfl) rfl
theorem q1132 : (Jvm.Cond.code ({ cls := "NightStones$Priest", name := "kind", desc := "()I" } : Jvm.MethodName) prog_9_method_2_code (1 : Nat) (Option.some Jvm.ClassFile.FieldType.int)) ∈ lw_all := lw_g (lw_at lw_m5 110 rfl) rfl
theorem q1161 : (Jvm.Cond.selects "NightStones$Priest" ({ cls := "NightStones$Mover", name := "number", desc := "()I" } : Jvm.MethodName) ({ cls := "NightStones$Mover", name := "number", desc := "()I" } : Jvm.MethodName)) ∈ lw_all := lw_g (lw_at lw_m5 139 rfl) rfl
theorem q1216 : (Jvm.Cond.castable "NightStones$Priest" "NightStones$Marked") ∈ lw_tbl := lw_at lw_m5 194 rfl
theorem q1217 : (Jvm.Cond.selects "NightStones$Priest" ({ cls := "NightStones$Marked", name := "number", desc := "()I" } : Jvm.MethodName) ({ cls := "NightStones$Mover", name := "number", desc := "()I" } : Jvm.MethodName)) ∈ lw_all := lw_g (lw_at lw_m5 195 rfl) rfl
theorem q1218 : (Jvm.Cond.unhidden "NightStones$Priest" "number" "()I") ∈ lw_tbl := lw_at lw_m5 196 rfl
theorem q1224 : (Jvm.Cond.selects "NightStones$Priest" ({ cls := "NightStones$Mover", name := "size", desc := "(LNightStones$Trail;LNightStones$Road;)I" } : Jvm.MethodName) ({ cls := "NightStones$Priest", name := "size", desc := "(LNightStones$Trail;LNightStones$Road;)I" } : Jvm.MethodName)) ∈ lw_all := lw_g (lw_at lw_m5 202 rfl) rfl
theorem q1225 : (Jvm.Cond.instanceMethod ({ cls := "NightStones$Priest", name := "size", desc := "(LNightStones$Trail;LNightStones$Road;)I" } : Jvm.MethodName)) ∈ lw_all := lw_g (lw_at lw_m5 203 rfl) rfl
theorem q1226 : (Jvm.Cond.code ({ cls := "NightStones$Priest", name := "size", desc := "(LNightStones$Trail;LNightStones$Road;)I" } : Jvm.MethodName) prog_9_method_5_code (3 : Nat) (Option.some Jvm.ClassFile.FieldType.int)) ∈ lw_all := lw_g (lw_at lw_m5 204 rfl) rfl
theorem q1227 : (Jvm.Cond.methodLink "NightStones$Priest" (15 : Nat) ({ cls := "NightStones$Trail", name := "begins", desc := "(I)V" } : Jvm.MethodName)) ∈ lw_all := lw_g (lw_at lw_m5 205 rfl) rfl
theorem q1228 : (Jvm.Cond.methodLink "NightStones$Priest" (21 : Nat) ({ cls := "NightStones$Thief", name := "size", desc := "(LNightStones$Trail;LNightStones$Road;)I" } : Jvm.MethodName)) ∈ lw_all := lw_g (lw_at lw_m5 206 rfl) rfl
theorem q1239 : (Jvm.Cond.selects "NightStones$Priest" ({ cls := "NightStones$Marked", name := "mark", desc := "(LNightStones$Trail;LNightStones$Road;)I" } : Jvm.MethodName) ({ cls := "NightStones$Thief", name := "mark", desc := "(LNightStones$Trail;LNightStones$Road;)I" } : Jvm.MethodName)) ∈ lw_all := lw_g (lw_at lw_m5 217 rfl) rfl
theorem q1664 : (Jvm.Cond.selects "NightStones$Priest" ({ cls := "NightStones$Thief", name := "size", desc := "(LNightStones$Trail;LNightStones$Road;)I" } : Jvm.MethodName) ({ cls := "NightStones$Priest", name := "size", desc := "(LNightStones$Trail;LNightStones$Road;)I" } : Jvm.MethodName)) ∈ lw_all := lw_g (lw_at lw_m7 162 rfl) rfl
theorem q1670 : (Jvm.Cond.castable "NightStones$Priest" "NightStones$Mover") ∈ lw_tbl := lw_at lw_m7 168 rfl
theorem q1674 : (Jvm.Cond.castable "NightStones$Priest" "NightStones$Thief") ∈ lw_tbl := lw_at lw_m7 172 rfl
theorem q1691 : (Jvm.Cond.castable "NightStones$Priest" "java/lang/Object") ∈ lw_tbl := lw_at lw_m7 189 rfl
theorem in_X13 : ∀ w ∈ wsX130, w ∈ lw_all := lw_in wsX130 [803, 804, 805, 806] (by decide +kernel) (by decide +kernel)
/-! NightStones$Marked -/
set_option maxRecDepth 100000
def RX14 : String := "NightStones$Marked"
abbrev cX14_mark : ByteArray := prog_6_method_3_code
def yX14_mark : MethodName := ⟨RX14, "mark", "(LNightStones$Trail;LNightStones$Road;)I"⟩
def dkwX14_mark_0 : List UInt8 := [43, 16, 20, 182, 0, 1, 42, 185, 0, 7, 1, 0, 172]
abbrev dktX14_mark_0 : List UInt8 := dkwX14_mark_0 ++ []
theorem dksX14_mark_0 : cX14_mark.data.toList.drop 0 = dktX14_mark_0 := by decide +kernel
theorem dX14_mark_0 : decode cX14_mark 0 = .ok (.aload_n 1, 1) := dk_43 (dk_at dksX14_mark_0 0 rfl rfl)
theorem dX14_mark_1 : decode cX14_mark 1 = .ok (.bipush 20, 2) := dk_16 20 (dk_at dksX14_mark_0 1 rfl rfl)
theorem dX14_mark_3 : decode cX14_mark 3 = .ok (.invokevirtual 1, 3) := dk_182 0 1 (dk_at dksX14_mark_0 3 rfl rfl)
theorem dX14_mark_6 : decode cX14_mark 6 = .ok (.aload_n 0, 1) := dk_42 (dk_at dksX14_mark_0 6 rfl rfl)
theorem dX14_mark_7 : decode cX14_mark 7 = .ok (.invokeinterface 7 1, 5) := by decide +kernel
theorem dX14_mark_12 : decode cX14_mark 12 = .ok (.ireturn, 1) := dk_172 (dk_at dksX14_mark_0 12 rfl rfl)
theorem q1198 : (Jvm.Cond.declares ({ cls := "NightStones$Marked", name := "mark", desc := "(LNightStones$Trail;LNightStones$Road;)I" } : Jvm.MethodName)) ∈ lw_tbl := lw_at lw_m5 176 rfl
theorem q1199 : (Jvm.Cond.instanceMethod ({ cls := "NightStones$Marked", name := "mark", desc := "(LNightStones$Trail;LNightStones$Road;)I" } : Jvm.MethodName)) ∈ lw_all := lw_g (lw_at lw_m5 177 rfl) rfl
theorem q1200 : (Jvm.Cond.code ({ cls := "NightStones$Marked", name := "mark", desc := "(LNightStones$Trail;LNightStones$Road;)I" } : Jvm.MethodName) prog_6_method_3_code (3 : Nat) (Option.some Jvm.ClassFile.FieldType.int)) ∈ lw_all := lw_g (lw_at lw_m5 178 rfl) rfl
theorem q1201 : (Jvm.Cond.methodLink "NightStones$Marked" (1 : Nat) ({ cls := "NightStones$Trail", name := "begins", desc := "(I)V" } : Jvm.MethodName)) ∈ lw_all := lw_g (lw_at lw_m5 179 rfl) rfl
theorem q1202 : (Jvm.Cond.interfaceEntry "NightStones$Marked" (7 : Nat)) ∈ lw_tbl := lw_at lw_m5 180 rfl
theorem q1203 : (Jvm.Cond.methodLink "NightStones$Marked" (7 : Nat) ({ cls := "NightStones$Marked", name := "number", desc := "()I" } : Jvm.MethodName)) ∈ lw_all := lw_g (lw_at lw_m5 181 rfl) rfl
theorem q1204 : (Jvm.Cond.interfaceMethod "NightStones$Marked" "NightStones$Marked" "number" "()I") ∈ lw_tbl := lw_at lw_m5 182 rfl
theorem q1205 : (Jvm.Cond.declares ({ cls := "NightStones$Marked", name := "number", desc := "()I" } : Jvm.MethodName)) ∈ lw_tbl := lw_at lw_m5 183 rfl
