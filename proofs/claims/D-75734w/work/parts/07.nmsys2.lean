/-! TelescopeQueue$State -/
set_option maxRecDepth 100000
def RX2 : String := "TelescopeQueue$State"
def TX2 : u_T := fun k => match k with
  | 0 => ("TelescopeQueue$State", "scope", "LTelescopeQueue$Scope;", false)
  | 1 => ("TelescopeQueue$State", "rule", "LTelescopeQueue$Rule;", false)
  | 2 => ("TelescopeQueue$State", "alerts", "Ljava/util/List;", true)
  | 3 => ("TelescopeQueue$State", "granted", "[I", true)
  | 4 => ("TelescopeQueue$State", "used", "[I", true)
  | 5 => ("TelescopeQueue$State", "lost", "[I", true)
  | 6 => ("TelescopeQueue$State", "slewed", "[I", true)
  | 7 => ("TelescopeQueue$State", "visitState", "[I", true)
  | 8 => ("TelescopeQueue$State", "aborts", "[I", true)
  | 9 => ("TelescopeQueue$State", "startOf", "[I", true)
  | 10 => ("TelescopeQueue$State", "priority", "[I", true)
  | 11 => ("TelescopeQueue$State", "alertState", "[I", true)
  | 12 => ("TelescopeQueue$State", "alertStart", "[I", true)
  | 13 => ("TelescopeQueue$State", "totals", "[I", true)
  | 14 => ("TelescopeQueue$State", "log", "[I", true)
  | 15 => ("TelescopeQueue$State", "time", "I", false)
  | 16 => ("TelescopeQueue$State", "lon", "I", false)
  | 17 => ("TelescopeQueue$State", "lat", "I", false)
  | 18 => ("TelescopeQueue$State", "momentum", "I", false)
  | 19 => ("TelescopeQueue$State", "latest", "I", false)
  | 20 => ("TelescopeQueue$State", "cadence", "I", false)
  | 21 => ("TelescopeQueue$State", "policy", "I", false)
  | 22 => ("TelescopeQueue$State", "entries", "I", false)
  | 23 => ("TelescopeQueue$State", "tried", "LTelescopeQueue$Plan;", true)
  | 24 => ("TelescopeQueue$State", "best", "LTelescopeQueue$Plan;", true)
  | _ => ("TelescopeQueue$State", "broken", "LTelescopeQueue$Plan;", true)
def tyX2 : Nat → FieldType := fun k => match k with
  | 0 => .object "TelescopeQueue$Scope"
  | 1 => .object "TelescopeQueue$Rule"
  | 2 => .object "java/util/List"
  | 3 => .array .int
  | 4 => .array .int
  | 5 => .array .int
  | 6 => .array .int
  | 7 => .array .int
  | 8 => .array .int
  | 9 => .array .int
  | 10 => .array .int
  | 11 => .array .int
  | 12 => .array .int
  | 13 => .array .int
  | 14 => .array .int
  | 15 => .int
  | 16 => .int
  | 17 => .int
  | 18 => .int
  | 19 => .int
  | 20 => .int
  | 21 => .int
  | 22 => .int
  | 23 => .object "TelescopeQueue$Plan"
  | 24 => .object "TelescopeQueue$Plan"
  | _ => .object "TelescopeQueue$Plan"
abbrev wsX20 : List Cond := u_ws RX2 TX2 26
set_option maxRecDepth 100000 in
theorem nmX2 : ∀ a, a < 26 → ∀ b, b < 26 → a ≠ b → (TX2 a).2.1 ≠ (TX2 b).2.1 := by decide +kernel
set_option maxRecDepth 100000 in
theorem tyX2_ok : ∀ k, k < 26 → parseFieldDescriptor (TX2 k).2.2.1 = some (tyX2 k) := by decide +kernel
abbrev cX2_init : ByteArray := prog_17_method_1_code
def yX2_init : MethodName := ⟨RX2, "<init>", "(LTelescopeQueue$Scope;)V"⟩
def dkwX2_init_6 : List UInt8 := [181, 0, 74, 42, 187, 0, 67, 89, 183, 0, 69, 181, 0, 77, 42, 43, 181, 0, 80, 177]
abbrev dktX2_init_6 : List UInt8 := dkwX2_init_6 ++ []
def dkwX2_init_5 : List UInt8 := [181, 0, 64, 42, 187, 0, 67, 89, 183, 0, 69, 181, 0, 70, 42, 187, 0, 67, 89, 183, 0, 69]
abbrev dktX2_init_5 : List UInt8 := dkwX2_init_5 ++ dktX2_init_6
def dkwX2_init_4 : List UInt8 := [42, 16, 10, 188, 10, 181, 0, 58, 42, 16, 8, 188, 10, 181, 0, 61, 42, 17, 1, 144, 188, 10]
abbrev dktX2_init_4 : List UInt8 := dkwX2_init_4 ++ dktX2_init_5
def dkwX2_init_3 : List UInt8 := [42, 16, 20, 188, 10, 181, 0, 49, 42, 16, 20, 188, 10, 181, 0, 52, 42, 16, 10, 188, 10, 181, 0, 55]
abbrev dktX2_init_3 : List UInt8 := dkwX2_init_3 ++ dktX2_init_4
def dkwX2_init_2 : List UInt8 := [42, 16, 6, 188, 10, 181, 0, 40, 42, 16, 20, 188, 10, 181, 0, 43, 42, 16, 20, 188, 10, 181, 0, 46]
abbrev dktX2_init_2 : List UInt8 := dkwX2_init_2 ++ dktX2_init_3
def dkwX2_init_1 : List UInt8 := [42, 16, 6, 188, 10, 181, 0, 30, 42, 16, 6, 188, 10, 181, 0, 34, 42, 16, 6, 188, 10, 181, 0, 37]
abbrev dktX2_init_1 : List UInt8 := dkwX2_init_1 ++ dktX2_init_2
def dkwX2_init_0 : List UInt8 := [42, 183, 0, 3, 42, 3, 184, 0, 9, 181, 0, 15, 42, 187, 0, 21, 89, 7, 183, 0, 23, 181, 0, 26]
abbrev dktX2_init_0 : List UInt8 := dkwX2_init_0 ++ dktX2_init_1
theorem dksX2_init_0 : cX2_init.data.toList.drop 0 = dktX2_init_0 := by decide +kernel
theorem dksX2_init_1 : cX2_init.data.toList.drop 24 = dktX2_init_1 := dk_seg dksX2_init_0 24 rfl rfl
theorem dksX2_init_2 : cX2_init.data.toList.drop 48 = dktX2_init_2 := dk_seg dksX2_init_1 24 rfl rfl
theorem dksX2_init_3 : cX2_init.data.toList.drop 72 = dktX2_init_3 := dk_seg dksX2_init_2 24 rfl rfl
theorem dksX2_init_4 : cX2_init.data.toList.drop 96 = dktX2_init_4 := dk_seg dksX2_init_3 24 rfl rfl
theorem dksX2_init_5 : cX2_init.data.toList.drop 118 = dktX2_init_5 := dk_seg dksX2_init_4 22 rfl rfl
theorem dksX2_init_6 : cX2_init.data.toList.drop 140 = dktX2_init_6 := dk_seg dksX2_init_5 22 rfl rfl
theorem dX2_init_0 : decode cX2_init 0 = .ok (.aload_n 0, 1) := dk_42 (dk_at dksX2_init_0 0 rfl rfl)
theorem dX2_init_1 : decode cX2_init 1 = .ok (.invokespecial 3, 3) := dk_183 0 3 (dk_at dksX2_init_0 1 rfl rfl)
theorem dX2_init_4 : decode cX2_init 4 = .ok (.aload_n 0, 1) := dk_42 (dk_at dksX2_init_0 4 rfl rfl)
theorem dX2_init_5 : decode cX2_init 5 = .ok (.iconst 0, 1) := dk_3 (dk_at dksX2_init_0 5 rfl rfl)
theorem dX2_init_6 : decode cX2_init 6 = .ok (.invokestatic 9, 3) := dk_184 0 9 (dk_at dksX2_init_0 6 rfl rfl)
theorem dX2_init_9 : decode cX2_init 9 = .ok (.putfield 15, 3) := dk_181 0 15 (dk_at dksX2_init_0 9 rfl rfl)
theorem dX2_init_12 : decode cX2_init 12 = .ok (.aload_n 0, 1) := dk_42 (dk_at dksX2_init_0 12 rfl rfl)
theorem dX2_init_13 : decode cX2_init 13 = .ok (.new 21, 3) := dk_187 0 21 (dk_at dksX2_init_0 13 rfl rfl)
theorem dX2_init_16 : decode cX2_init 16 = .ok (.dup, 1) := dk_89 (dk_at dksX2_init_0 16 rfl rfl)
theorem dX2_init_17 : decode cX2_init 17 = .ok (.iconst 4, 1) := dk_7 (dk_at dksX2_init_0 17 rfl rfl)
theorem dX2_init_18 : decode cX2_init 18 = .ok (.invokespecial 23, 3) := dk_183 0 23 (dk_at dksX2_init_0 18 rfl rfl)
theorem dX2_init_21 : decode cX2_init 21 = .ok (.putfield 26, 3) := dk_181 0 26 (dk_at dksX2_init_0 21 rfl rfl)
theorem dX2_init_24 : decode cX2_init 24 = .ok (.aload_n 0, 1) := dk_42 (dk_at dksX2_init_1 0 rfl rfl)
theorem dX2_init_25 : decode cX2_init 25 = .ok (.bipush 6, 2) := dk_16 6 (dk_at dksX2_init_1 1 rfl rfl)
theorem dX2_init_27 : decode cX2_init 27 = .ok (.newarray .int, 2) := dk_188_10 (dk_at dksX2_init_1 3 rfl rfl)
theorem dX2_init_29 : decode cX2_init 29 = .ok (.putfield 30, 3) := dk_181 0 30 (dk_at dksX2_init_1 5 rfl rfl)
theorem dX2_init_32 : decode cX2_init 32 = .ok (.aload_n 0, 1) := dk_42 (dk_at dksX2_init_1 8 rfl rfl)
theorem dX2_init_33 : decode cX2_init 33 = .ok (.bipush 6, 2) := dk_16 6 (dk_at dksX2_init_1 9 rfl rfl)
theorem dX2_init_35 : decode cX2_init 35 = .ok (.newarray .int, 2) := dk_188_10 (dk_at dksX2_init_1 11 rfl rfl)
theorem dX2_init_37 : decode cX2_init 37 = .ok (.putfield 34, 3) := dk_181 0 34 (dk_at dksX2_init_1 13 rfl rfl)
theorem dX2_init_40 : decode cX2_init 40 = .ok (.aload_n 0, 1) := dk_42 (dk_at dksX2_init_1 16 rfl rfl)
theorem dX2_init_41 : decode cX2_init 41 = .ok (.bipush 6, 2) := dk_16 6 (dk_at dksX2_init_1 17 rfl rfl)
theorem dX2_init_43 : decode cX2_init 43 = .ok (.newarray .int, 2) := dk_188_10 (dk_at dksX2_init_1 19 rfl rfl)
theorem dX2_init_45 : decode cX2_init 45 = .ok (.putfield 37, 3) := dk_181 0 37 (dk_at dksX2_init_1 21 rfl rfl)
theorem dX2_init_48 : decode cX2_init 48 = .ok (.aload_n 0, 1) := dk_42 (dk_at dksX2_init_2 0 rfl rfl)
theorem dX2_init_49 : decode cX2_init 49 = .ok (.bipush 6, 2) := dk_16 6 (dk_at dksX2_init_2 1 rfl rfl)
theorem dX2_init_51 : decode cX2_init 51 = .ok (.newarray .int, 2) := dk_188_10 (dk_at dksX2_init_2 3 rfl rfl)
theorem dX2_init_53 : decode cX2_init 53 = .ok (.putfield 40, 3) := dk_181 0 40 (dk_at dksX2_init_2 5 rfl rfl)
theorem dX2_init_56 : decode cX2_init 56 = .ok (.aload_n 0, 1) := dk_42 (dk_at dksX2_init_2 8 rfl rfl)
theorem dX2_init_57 : decode cX2_init 57 = .ok (.bipush 20, 2) := dk_16 20 (dk_at dksX2_init_2 9 rfl rfl)
theorem dX2_init_59 : decode cX2_init 59 = .ok (.newarray .int, 2) := dk_188_10 (dk_at dksX2_init_2 11 rfl rfl)
theorem dX2_init_61 : decode cX2_init 61 = .ok (.putfield 43, 3) := dk_181 0 43 (dk_at dksX2_init_2 13 rfl rfl)
theorem dX2_init_64 : decode cX2_init 64 = .ok (.aload_n 0, 1) := dk_42 (dk_at dksX2_init_2 16 rfl rfl)
theorem dX2_init_65 : decode cX2_init 65 = .ok (.bipush 20, 2) := dk_16 20 (dk_at dksX2_init_2 17 rfl rfl)
theorem dX2_init_67 : decode cX2_init 67 = .ok (.newarray .int, 2) := dk_188_10 (dk_at dksX2_init_2 19 rfl rfl)
theorem dX2_init_69 : decode cX2_init 69 = .ok (.putfield 46, 3) := dk_181 0 46 (dk_at dksX2_init_2 21 rfl rfl)
theorem dX2_init_72 : decode cX2_init 72 = .ok (.aload_n 0, 1) := dk_42 (dk_at dksX2_init_3 0 rfl rfl)
theorem dX2_init_73 : decode cX2_init 73 = .ok (.bipush 20, 2) := dk_16 20 (dk_at dksX2_init_3 1 rfl rfl)
theorem dX2_init_75 : decode cX2_init 75 = .ok (.newarray .int, 2) := dk_188_10 (dk_at dksX2_init_3 3 rfl rfl)
theorem dX2_init_77 : decode cX2_init 77 = .ok (.putfield 49, 3) := dk_181 0 49 (dk_at dksX2_init_3 5 rfl rfl)
theorem dX2_init_80 : decode cX2_init 80 = .ok (.aload_n 0, 1) := dk_42 (dk_at dksX2_init_3 8 rfl rfl)
theorem dX2_init_81 : decode cX2_init 81 = .ok (.bipush 20, 2) := dk_16 20 (dk_at dksX2_init_3 9 rfl rfl)
theorem dX2_init_83 : decode cX2_init 83 = .ok (.newarray .int, 2) := dk_188_10 (dk_at dksX2_init_3 11 rfl rfl)
theorem dX2_init_85 : decode cX2_init 85 = .ok (.putfield 52, 3) := dk_181 0 52 (dk_at dksX2_init_3 13 rfl rfl)
theorem dX2_init_88 : decode cX2_init 88 = .ok (.aload_n 0, 1) := dk_42 (dk_at dksX2_init_3 16 rfl rfl)
theorem dX2_init_89 : decode cX2_init 89 = .ok (.bipush 10, 2) := dk_16 10 (dk_at dksX2_init_3 17 rfl rfl)
theorem dX2_init_91 : decode cX2_init 91 = .ok (.newarray .int, 2) := dk_188_10 (dk_at dksX2_init_3 19 rfl rfl)
theorem dX2_init_93 : decode cX2_init 93 = .ok (.putfield 55, 3) := dk_181 0 55 (dk_at dksX2_init_3 21 rfl rfl)
theorem dX2_init_96 : decode cX2_init 96 = .ok (.aload_n 0, 1) := dk_42 (dk_at dksX2_init_4 0 rfl rfl)
theorem dX2_init_97 : decode cX2_init 97 = .ok (.bipush 10, 2) := dk_16 10 (dk_at dksX2_init_4 1 rfl rfl)
theorem dX2_init_99 : decode cX2_init 99 = .ok (.newarray .int, 2) := dk_188_10 (dk_at dksX2_init_4 3 rfl rfl)
theorem dX2_init_101 : decode cX2_init 101 = .ok (.putfield 58, 3) := dk_181 0 58 (dk_at dksX2_init_4 5 rfl rfl)
theorem dX2_init_104 : decode cX2_init 104 = .ok (.aload_n 0, 1) := dk_42 (dk_at dksX2_init_4 8 rfl rfl)
theorem dX2_init_105 : decode cX2_init 105 = .ok (.bipush 8, 2) := dk_16 8 (dk_at dksX2_init_4 9 rfl rfl)
theorem dX2_init_107 : decode cX2_init 107 = .ok (.newarray .int, 2) := dk_188_10 (dk_at dksX2_init_4 11 rfl rfl)
theorem dX2_init_109 : decode cX2_init 109 = .ok (.putfield 61, 3) := dk_181 0 61 (dk_at dksX2_init_4 13 rfl rfl)
theorem dX2_init_112 : decode cX2_init 112 = .ok (.aload_n 0, 1) := dk_42 (dk_at dksX2_init_4 16 rfl rfl)
theorem dX2_init_113 : decode cX2_init 113 = .ok (.sipush 400, 3) := dk_17 1 144 (dk_at dksX2_init_4 17 rfl rfl)
theorem dX2_init_116 : decode cX2_init 116 = .ok (.newarray .int, 2) := dk_188_10 (dk_at dksX2_init_4 20 rfl rfl)
theorem dX2_init_118 : decode cX2_init 118 = .ok (.putfield 64, 3) := dk_181 0 64 (dk_at dksX2_init_5 0 rfl rfl)
theorem dX2_init_121 : decode cX2_init 121 = .ok (.aload_n 0, 1) := dk_42 (dk_at dksX2_init_5 3 rfl rfl)
theorem dX2_init_122 : decode cX2_init 122 = .ok (.new 67, 3) := dk_187 0 67 (dk_at dksX2_init_5 4 rfl rfl)
theorem dX2_init_125 : decode cX2_init 125 = .ok (.dup, 1) := dk_89 (dk_at dksX2_init_5 7 rfl rfl)
theorem dX2_init_126 : decode cX2_init 126 = .ok (.invokespecial 69, 3) := dk_183 0 69 (dk_at dksX2_init_5 8 rfl rfl)
theorem dX2_init_129 : decode cX2_init 129 = .ok (.putfield 70, 3) := dk_181 0 70 (dk_at dksX2_init_5 11 rfl rfl)
theorem dX2_init_132 : decode cX2_init 132 = .ok (.aload_n 0, 1) := dk_42 (dk_at dksX2_init_5 14 rfl rfl)
theorem dX2_init_133 : decode cX2_init 133 = .ok (.new 67, 3) := dk_187 0 67 (dk_at dksX2_init_5 15 rfl rfl)
theorem dX2_init_136 : decode cX2_init 136 = .ok (.dup, 1) := dk_89 (dk_at dksX2_init_5 18 rfl rfl)
theorem dX2_init_137 : decode cX2_init 137 = .ok (.invokespecial 69, 3) := dk_183 0 69 (dk_at dksX2_init_5 19 rfl rfl)
theorem dX2_init_140 : decode cX2_init 140 = .ok (.putfield 74, 3) := dk_181 0 74 (dk_at dksX2_init_6 0 rfl rfl)
theorem dX2_init_143 : decode cX2_init 143 = .ok (.aload_n 0, 1) := dk_42 (dk_at dksX2_init_6 3 rfl rfl)
theorem dX2_init_144 : decode cX2_init 144 = .ok (.new 67, 3) := dk_187 0 67 (dk_at dksX2_init_6 4 rfl rfl)
theorem dX2_init_147 : decode cX2_init 147 = .ok (.dup, 1) := dk_89 (dk_at dksX2_init_6 7 rfl rfl)
theorem dX2_init_148 : decode cX2_init 148 = .ok (.invokespecial 69, 3) := dk_183 0 69 (dk_at dksX2_init_6 8 rfl rfl)
theorem dX2_init_151 : decode cX2_init 151 = .ok (.putfield 77, 3) := dk_181 0 77 (dk_at dksX2_init_6 11 rfl rfl)
theorem dX2_init_154 : decode cX2_init 154 = .ok (.aload_n 0, 1) := dk_42 (dk_at dksX2_init_6 14 rfl rfl)
theorem dX2_init_155 : decode cX2_init 155 = .ok (.aload_n 1, 1) := dk_43 (dk_at dksX2_init_6 15 rfl rfl)
theorem dX2_init_156 : decode cX2_init 156 = .ok (.putfield 80, 3) := dk_181 0 80 (dk_at dksX2_init_6 16 rfl rfl)
theorem dX2_init_159 : decode cX2_init 159 = .ok (.return_, 1) := dk_177 (dk_at dksX2_init_6 19 rfl rfl)
abbrev cX2_begin : ByteArray := prog_17_method_2_code
def yX2_begin : MethodName := ⟨RX2, "begin", "()LTelescopeQueue$State;"⟩
def dkwX2_begin_5 : List UInt8 := [180, 0, 58, 27, 2, 79, 132, 1, 1, 167, 255, 240, 42, 176]
abbrev dktX2_begin_5 : List UInt8 := dkwX2_begin_5 ++ []
def dkwX2_begin_4 : List UInt8 := [42, 180, 0, 49, 27, 2, 79, 132, 1, 1, 167, 255, 205, 3, 60, 27, 16, 10, 162, 0, 16, 42]
abbrev dktX2_begin_4 : List UInt8 := dkwX2_begin_4 ++ dktX2_begin_5
def dkwX2_begin_3 : List UInt8 := [180, 0, 52, 27, 42, 180, 0, 80, 180, 0, 104, 27, 185, 0, 95, 2, 0, 192, 0, 107, 180, 0, 109, 79]
abbrev dktX2_begin_3 : List UInt8 := dkwX2_begin_3 ++ dktX2_begin_4
def dkwX2_begin_2 : List UInt8 := [167, 255, 212, 3, 60, 27, 42, 180, 0, 80, 180, 0, 104, 185, 0, 89, 1, 0, 162, 0, 41, 42]
abbrev dktX2_begin_2 : List UInt8 := dkwX2_begin_2 ++ dktX2_begin_3
def dkwX2_begin_1 : List UInt8 := [180, 0, 80, 180, 0, 84, 27, 185, 0, 95, 2, 0, 192, 0, 99, 180, 0, 101, 79, 132, 1, 1]
abbrev dktX2_begin_1 : List UInt8 := dkwX2_begin_1 ++ dktX2_begin_2
def dkwX2_begin_0 : List UInt8 := [3, 60, 27, 42, 180, 0, 80, 180, 0, 84, 185, 0, 89, 1, 0, 162, 0, 34, 42, 180, 0, 30, 27, 42]
abbrev dktX2_begin_0 : List UInt8 := dkwX2_begin_0 ++ dktX2_begin_1
theorem dksX2_begin_0 : cX2_begin.data.toList.drop 0 = dktX2_begin_0 := by decide +kernel
theorem dksX2_begin_1 : cX2_begin.data.toList.drop 24 = dktX2_begin_1 := dk_seg dksX2_begin_0 24 rfl rfl
theorem dksX2_begin_2 : cX2_begin.data.toList.drop 46 = dktX2_begin_2 := dk_seg dksX2_begin_1 22 rfl rfl
theorem dksX2_begin_3 : cX2_begin.data.toList.drop 68 = dktX2_begin_3 := dk_seg dksX2_begin_2 22 rfl rfl
theorem dksX2_begin_4 : cX2_begin.data.toList.drop 92 = dktX2_begin_4 := dk_seg dksX2_begin_3 24 rfl rfl
theorem dksX2_begin_5 : cX2_begin.data.toList.drop 114 = dktX2_begin_5 := dk_seg dksX2_begin_4 22 rfl rfl
theorem dX2_begin_0 : decode cX2_begin 0 = .ok (.iconst 0, 1) := dk_3 (dk_at dksX2_begin_0 0 rfl rfl)
theorem dX2_begin_1 : decode cX2_begin 1 = .ok (.istore_n 1, 1) := dk_60 (dk_at dksX2_begin_0 1 rfl rfl)
theorem dX2_begin_2 : decode cX2_begin 2 = .ok (.iload_n 1, 1) := dk_27 (dk_at dksX2_begin_0 2 rfl rfl)
theorem dX2_begin_3 : decode cX2_begin 3 = .ok (.aload_n 0, 1) := dk_42 (dk_at dksX2_begin_0 3 rfl rfl)
theorem dX2_begin_4 : decode cX2_begin 4 = .ok (.getfield 80, 3) := dk_180 0 80 (dk_at dksX2_begin_0 4 rfl rfl)
theorem dX2_begin_7 : decode cX2_begin 7 = .ok (.getfield 84, 3) := dk_180 0 84 (dk_at dksX2_begin_0 7 rfl rfl)
theorem dX2_begin_10 : decode cX2_begin 10 = .ok (.invokeinterface 89 1, 5) := by decide +kernel
theorem dX2_begin_15 : decode cX2_begin 15 = .ok (.if_icmp .ge 34, 3) := dk_162 0 34 (dk_at dksX2_begin_0 15 rfl rfl)
theorem dX2_begin_18 : decode cX2_begin 18 = .ok (.aload_n 0, 1) := dk_42 (dk_at dksX2_begin_0 18 rfl rfl)
theorem dX2_begin_19 : decode cX2_begin 19 = .ok (.getfield 30, 3) := dk_180 0 30 (dk_at dksX2_begin_0 19 rfl rfl)
theorem dX2_begin_22 : decode cX2_begin 22 = .ok (.iload_n 1, 1) := dk_27 (dk_at dksX2_begin_0 22 rfl rfl)
theorem dX2_begin_23 : decode cX2_begin 23 = .ok (.aload_n 0, 1) := dk_42 (dk_at dksX2_begin_0 23 rfl rfl)
theorem dX2_begin_24 : decode cX2_begin 24 = .ok (.getfield 80, 3) := dk_180 0 80 (dk_at dksX2_begin_1 0 rfl rfl)
theorem dX2_begin_27 : decode cX2_begin 27 = .ok (.getfield 84, 3) := dk_180 0 84 (dk_at dksX2_begin_1 3 rfl rfl)
theorem dX2_begin_30 : decode cX2_begin 30 = .ok (.iload_n 1, 1) := dk_27 (dk_at dksX2_begin_1 6 rfl rfl)
theorem dX2_begin_31 : decode cX2_begin 31 = .ok (.invokeinterface 95 2, 5) := by decide +kernel
theorem dX2_begin_36 : decode cX2_begin 36 = .ok (.checkcast 99, 3) := dk_192 0 99 (dk_at dksX2_begin_1 12 rfl rfl)
theorem dX2_begin_39 : decode cX2_begin 39 = .ok (.getfield 101, 3) := dk_180 0 101 (dk_at dksX2_begin_1 15 rfl rfl)
theorem dX2_begin_42 : decode cX2_begin 42 = .ok (.iastore, 1) := dk_79 (dk_at dksX2_begin_1 18 rfl rfl)
theorem dX2_begin_43 : decode cX2_begin 43 = .ok (.iinc 1 1, 3) := dk_132 1 1 (dk_at dksX2_begin_1 19 rfl rfl)
theorem dX2_begin_46 : decode cX2_begin 46 = .ok (.goto (-44), 3) := dk_167 255 212 (dk_at dksX2_begin_2 0 rfl rfl)
theorem dX2_begin_49 : decode cX2_begin 49 = .ok (.iconst 0, 1) := dk_3 (dk_at dksX2_begin_2 3 rfl rfl)
theorem dX2_begin_50 : decode cX2_begin 50 = .ok (.istore_n 1, 1) := dk_60 (dk_at dksX2_begin_2 4 rfl rfl)
theorem dX2_begin_51 : decode cX2_begin 51 = .ok (.iload_n 1, 1) := dk_27 (dk_at dksX2_begin_2 5 rfl rfl)
theorem dX2_begin_52 : decode cX2_begin 52 = .ok (.aload_n 0, 1) := dk_42 (dk_at dksX2_begin_2 6 rfl rfl)
theorem dX2_begin_53 : decode cX2_begin 53 = .ok (.getfield 80, 3) := dk_180 0 80 (dk_at dksX2_begin_2 7 rfl rfl)
theorem dX2_begin_56 : decode cX2_begin 56 = .ok (.getfield 104, 3) := dk_180 0 104 (dk_at dksX2_begin_2 10 rfl rfl)
theorem dX2_begin_59 : decode cX2_begin 59 = .ok (.invokeinterface 89 1, 5) := by decide +kernel
theorem dX2_begin_64 : decode cX2_begin 64 = .ok (.if_icmp .ge 41, 3) := dk_162 0 41 (dk_at dksX2_begin_2 18 rfl rfl)
theorem dX2_begin_67 : decode cX2_begin 67 = .ok (.aload_n 0, 1) := dk_42 (dk_at dksX2_begin_2 21 rfl rfl)
theorem dX2_begin_68 : decode cX2_begin 68 = .ok (.getfield 52, 3) := dk_180 0 52 (dk_at dksX2_begin_3 0 rfl rfl)
theorem dX2_begin_71 : decode cX2_begin 71 = .ok (.iload_n 1, 1) := dk_27 (dk_at dksX2_begin_3 3 rfl rfl)
theorem dX2_begin_72 : decode cX2_begin 72 = .ok (.aload_n 0, 1) := dk_42 (dk_at dksX2_begin_3 4 rfl rfl)
theorem dX2_begin_73 : decode cX2_begin 73 = .ok (.getfield 80, 3) := dk_180 0 80 (dk_at dksX2_begin_3 5 rfl rfl)
theorem dX2_begin_76 : decode cX2_begin 76 = .ok (.getfield 104, 3) := dk_180 0 104 (dk_at dksX2_begin_3 8 rfl rfl)
theorem dX2_begin_79 : decode cX2_begin 79 = .ok (.iload_n 1, 1) := dk_27 (dk_at dksX2_begin_3 11 rfl rfl)
theorem dX2_begin_80 : decode cX2_begin 80 = .ok (.invokeinterface 95 2, 5) := by decide +kernel
theorem dX2_begin_85 : decode cX2_begin 85 = .ok (.checkcast 107, 3) := dk_192 0 107 (dk_at dksX2_begin_3 17 rfl rfl)
theorem dX2_begin_88 : decode cX2_begin 88 = .ok (.getfield 109, 3) := dk_180 0 109 (dk_at dksX2_begin_3 20 rfl rfl)
theorem dX2_begin_91 : decode cX2_begin 91 = .ok (.iastore, 1) := dk_79 (dk_at dksX2_begin_3 23 rfl rfl)
theorem dX2_begin_92 : decode cX2_begin 92 = .ok (.aload_n 0, 1) := dk_42 (dk_at dksX2_begin_4 0 rfl rfl)
theorem dX2_begin_93 : decode cX2_begin 93 = .ok (.getfield 49, 3) := dk_180 0 49 (dk_at dksX2_begin_4 1 rfl rfl)
theorem dX2_begin_96 : decode cX2_begin 96 = .ok (.iload_n 1, 1) := dk_27 (dk_at dksX2_begin_4 4 rfl rfl)
theorem dX2_begin_97 : decode cX2_begin 97 = .ok (.iconst (-1), 1) := dk_2 (dk_at dksX2_begin_4 5 rfl rfl)
theorem dX2_begin_98 : decode cX2_begin 98 = .ok (.iastore, 1) := dk_79 (dk_at dksX2_begin_4 6 rfl rfl)
theorem dX2_begin_99 : decode cX2_begin 99 = .ok (.iinc 1 1, 3) := dk_132 1 1 (dk_at dksX2_begin_4 7 rfl rfl)
theorem dX2_begin_102 : decode cX2_begin 102 = .ok (.goto (-51), 3) := dk_167 255 205 (dk_at dksX2_begin_4 10 rfl rfl)
theorem dX2_begin_105 : decode cX2_begin 105 = .ok (.iconst 0, 1) := dk_3 (dk_at dksX2_begin_4 13 rfl rfl)
theorem dX2_begin_106 : decode cX2_begin 106 = .ok (.istore_n 1, 1) := dk_60 (dk_at dksX2_begin_4 14 rfl rfl)
theorem dX2_begin_107 : decode cX2_begin 107 = .ok (.iload_n 1, 1) := dk_27 (dk_at dksX2_begin_4 15 rfl rfl)
theorem dX2_begin_108 : decode cX2_begin 108 = .ok (.bipush 10, 2) := dk_16 10 (dk_at dksX2_begin_4 16 rfl rfl)
theorem dX2_begin_110 : decode cX2_begin 110 = .ok (.if_icmp .ge 16, 3) := dk_162 0 16 (dk_at dksX2_begin_4 18 rfl rfl)
theorem dX2_begin_113 : decode cX2_begin 113 = .ok (.aload_n 0, 1) := dk_42 (dk_at dksX2_begin_4 21 rfl rfl)
theorem dX2_begin_114 : decode cX2_begin 114 = .ok (.getfield 58, 3) := dk_180 0 58 (dk_at dksX2_begin_5 0 rfl rfl)
theorem dX2_begin_117 : decode cX2_begin 117 = .ok (.iload_n 1, 1) := dk_27 (dk_at dksX2_begin_5 3 rfl rfl)
theorem dX2_begin_118 : decode cX2_begin 118 = .ok (.iconst (-1), 1) := dk_2 (dk_at dksX2_begin_5 4 rfl rfl)
theorem dX2_begin_119 : decode cX2_begin 119 = .ok (.iastore, 1) := dk_79 (dk_at dksX2_begin_5 5 rfl rfl)
theorem dX2_begin_120 : decode cX2_begin 120 = .ok (.iinc 1 1, 3) := dk_132 1 1 (dk_at dksX2_begin_5 6 rfl rfl)
theorem dX2_begin_123 : decode cX2_begin 123 = .ok (.goto (-16), 3) := dk_167 255 240 (dk_at dksX2_begin_5 9 rfl rfl)
theorem dX2_begin_126 : decode cX2_begin 126 = .ok (.aload_n 0, 1) := dk_42 (dk_at dksX2_begin_5 12 rfl rfl)
theorem dX2_begin_127 : decode cX2_begin 127 = .ok (.areturn, 1) := dk_176 (dk_at dksX2_begin_5 13 rfl rfl)
abbrev cX2_left : ByteArray := prog_17_method_6_code
def yX2_left : MethodName := ⟨RX2, "left", "(I)I"⟩
def dkwX2_left_0 : List UInt8 := [42, 180, 0, 30, 27, 46, 42, 180, 0, 34, 27, 46, 100, 42, 180, 0, 37, 27, 46, 100, 172]
abbrev dktX2_left_0 : List UInt8 := dkwX2_left_0 ++ []
theorem dksX2_left_0 : cX2_left.data.toList.drop 0 = dktX2_left_0 := by decide +kernel
theorem dX2_left_0 : decode cX2_left 0 = .ok (.aload_n 0, 1) := dk_42 (dk_at dksX2_left_0 0 rfl rfl)
theorem dX2_left_1 : decode cX2_left 1 = .ok (.getfield 30, 3) := dk_180 0 30 (dk_at dksX2_left_0 1 rfl rfl)
theorem dX2_left_4 : decode cX2_left 4 = .ok (.iload_n 1, 1) := dk_27 (dk_at dksX2_left_0 4 rfl rfl)
theorem dX2_left_5 : decode cX2_left 5 = .ok (.iaload, 1) := dk_46 (dk_at dksX2_left_0 5 rfl rfl)
theorem dX2_left_6 : decode cX2_left 6 = .ok (.aload_n 0, 1) := dk_42 (dk_at dksX2_left_0 6 rfl rfl)
theorem dX2_left_7 : decode cX2_left 7 = .ok (.getfield 34, 3) := dk_180 0 34 (dk_at dksX2_left_0 7 rfl rfl)
theorem dX2_left_10 : decode cX2_left 10 = .ok (.iload_n 1, 1) := dk_27 (dk_at dksX2_left_0 10 rfl rfl)
theorem dX2_left_11 : decode cX2_left 11 = .ok (.iaload, 1) := dk_46 (dk_at dksX2_left_0 11 rfl rfl)
theorem dX2_left_12 : decode cX2_left 12 = .ok (.isub, 1) := dk_100 (dk_at dksX2_left_0 12 rfl rfl)
theorem dX2_left_13 : decode cX2_left 13 = .ok (.aload_n 0, 1) := dk_42 (dk_at dksX2_left_0 13 rfl rfl)
theorem dX2_left_14 : decode cX2_left 14 = .ok (.getfield 37, 3) := dk_180 0 37 (dk_at dksX2_left_0 14 rfl rfl)
theorem dX2_left_17 : decode cX2_left 17 = .ok (.iload_n 1, 1) := dk_27 (dk_at dksX2_left_0 17 rfl rfl)
theorem dX2_left_18 : decode cX2_left 18 = .ok (.iaload, 1) := dk_46 (dk_at dksX2_left_0 18 rfl rfl)
theorem dX2_left_19 : decode cX2_left 19 = .ok (.isub, 1) := dk_100 (dk_at dksX2_left_0 19 rfl rfl)
theorem dX2_left_20 : decode cX2_left 20 = .ok (.ireturn, 1) := dk_172 (dk_at dksX2_left_0 20 rfl rfl)
abbrev cX2_planVisit : ByteArray := prog_17_method_10_code
def yX2_planVisit : MethodName := ⟨RX2, "planVisit", "(I)LTelescopeQueue$Plan;"⟩
def dkwX2_planVisit_1 : List UInt8 := [180, 0, 43, 27, 46, 182, 0, 180, 176]
abbrev dktX2_planVisit_1 : List UInt8 := dkwX2_planVisit_1 ++ []
def dkwX2_planVisit_0 : List UInt8 := [42, 42, 180, 0, 70, 42, 180, 0, 80, 180, 0, 104, 27, 185, 0, 95, 2, 0, 192, 0, 168, 27, 42]
abbrev dktX2_planVisit_0 : List UInt8 := dkwX2_planVisit_0 ++ dktX2_planVisit_1
theorem dksX2_planVisit_0 : cX2_planVisit.data.toList.drop 0 = dktX2_planVisit_0 := by decide +kernel
theorem dksX2_planVisit_1 : cX2_planVisit.data.toList.drop 23 = dktX2_planVisit_1 := dk_seg dksX2_planVisit_0 23 rfl rfl
theorem dX2_planVisit_0 : decode cX2_planVisit 0 = .ok (.aload_n 0, 1) := dk_42 (dk_at dksX2_planVisit_0 0 rfl rfl)
theorem dX2_planVisit_1 : decode cX2_planVisit 1 = .ok (.aload_n 0, 1) := dk_42 (dk_at dksX2_planVisit_0 1 rfl rfl)
theorem dX2_planVisit_2 : decode cX2_planVisit 2 = .ok (.getfield 70, 3) := dk_180 0 70 (dk_at dksX2_planVisit_0 2 rfl rfl)
theorem dX2_planVisit_5 : decode cX2_planVisit 5 = .ok (.aload_n 0, 1) := dk_42 (dk_at dksX2_planVisit_0 5 rfl rfl)
theorem dX2_planVisit_6 : decode cX2_planVisit 6 = .ok (.getfield 80, 3) := dk_180 0 80 (dk_at dksX2_planVisit_0 6 rfl rfl)
theorem dX2_planVisit_9 : decode cX2_planVisit 9 = .ok (.getfield 104, 3) := dk_180 0 104 (dk_at dksX2_planVisit_0 9 rfl rfl)
theorem dX2_planVisit_12 : decode cX2_planVisit 12 = .ok (.iload_n 1, 1) := dk_27 (dk_at dksX2_planVisit_0 12 rfl rfl)
theorem dX2_planVisit_13 : decode cX2_planVisit 13 = .ok (.invokeinterface 95 2, 5) := by decide +kernel
theorem dX2_planVisit_18 : decode cX2_planVisit 18 = .ok (.checkcast 168, 3) := dk_192 0 168 (dk_at dksX2_planVisit_0 18 rfl rfl)
theorem dX2_planVisit_21 : decode cX2_planVisit 21 = .ok (.iload_n 1, 1) := dk_27 (dk_at dksX2_planVisit_0 21 rfl rfl)
theorem dX2_planVisit_22 : decode cX2_planVisit 22 = .ok (.aload_n 0, 1) := dk_42 (dk_at dksX2_planVisit_0 22 rfl rfl)
theorem dX2_planVisit_23 : decode cX2_planVisit 23 = .ok (.getfield 43, 3) := dk_180 0 43 (dk_at dksX2_planVisit_1 0 rfl rfl)
theorem dX2_planVisit_26 : decode cX2_planVisit 26 = .ok (.iload_n 1, 1) := dk_27 (dk_at dksX2_planVisit_1 3 rfl rfl)
theorem dX2_planVisit_27 : decode cX2_planVisit 27 = .ok (.iaload, 1) := dk_46 (dk_at dksX2_planVisit_1 4 rfl rfl)
theorem dX2_planVisit_28 : decode cX2_planVisit 28 = .ok (.invokevirtual 180, 3) := dk_182 0 180 (dk_at dksX2_planVisit_1 5 rfl rfl)
theorem dX2_planVisit_31 : decode cX2_planVisit 31 = .ok (.areturn, 1) := dk_176 (dk_at dksX2_planVisit_1 8 rfl rfl)
abbrev cX2_plan : ByteArray := prog_17_method_9_code
def yX2_plan : MethodName := ⟨RX2, "plan", "(LTelescopeQueue$Plan;LTelescopeQueue$Work;II)LTelescopeQueue$Plan;"⟩
def dkwX2_plan_2 : List UInt8 := [176]
abbrev dktX2_plan_2 : List UInt8 := dkwX2_plan_2 ++ []
def dkwX2_plan_1 : List UInt8 := [180, 0, 139, 42, 180, 0, 133, 42, 180, 0, 136, 42, 44, 185, 0, 167, 1, 0, 182, 0, 172, 182, 0, 176]
abbrev dktX2_plan_1 : List UInt8 := dkwX2_plan_1 ++ dktX2_plan_2
def dkwX2_plan_0 : List UInt8 := [43, 42, 180, 0, 80, 44, 29, 21, 4, 154, 0, 7, 4, 167, 0, 4, 3, 42, 180, 0, 130, 42]
abbrev dktX2_plan_0 : List UInt8 := dkwX2_plan_0 ++ dktX2_plan_1
theorem dksX2_plan_0 : cX2_plan.data.toList.drop 0 = dktX2_plan_0 := by decide +kernel
theorem dksX2_plan_1 : cX2_plan.data.toList.drop 22 = dktX2_plan_1 := dk_seg dksX2_plan_0 22 rfl rfl
theorem dksX2_plan_2 : cX2_plan.data.toList.drop 46 = dktX2_plan_2 := dk_seg dksX2_plan_1 24 rfl rfl
theorem dX2_plan_0 : decode cX2_plan 0 = .ok (.aload_n 1, 1) := dk_43 (dk_at dksX2_plan_0 0 rfl rfl)
theorem dX2_plan_1 : decode cX2_plan 1 = .ok (.aload_n 0, 1) := dk_42 (dk_at dksX2_plan_0 1 rfl rfl)
theorem dX2_plan_2 : decode cX2_plan 2 = .ok (.getfield 80, 3) := dk_180 0 80 (dk_at dksX2_plan_0 2 rfl rfl)
theorem dX2_plan_5 : decode cX2_plan 5 = .ok (.aload_n 2, 1) := dk_44 (dk_at dksX2_plan_0 5 rfl rfl)
theorem dX2_plan_6 : decode cX2_plan 6 = .ok (.iload_n 3, 1) := dk_29 (dk_at dksX2_plan_0 6 rfl rfl)
theorem dX2_plan_7 : decode cX2_plan 7 = .ok (.iload 4, 2) := dk_21 4 (dk_at dksX2_plan_0 7 rfl rfl)
theorem dX2_plan_9 : decode cX2_plan 9 = .ok (.ifCond .ne 7, 3) := dk_154 0 7 (dk_at dksX2_plan_0 9 rfl rfl)
theorem dX2_plan_12 : decode cX2_plan 12 = .ok (.iconst 1, 1) := dk_4 (dk_at dksX2_plan_0 12 rfl rfl)
theorem dX2_plan_13 : decode cX2_plan 13 = .ok (.goto 4, 3) := dk_167 0 4 (dk_at dksX2_plan_0 13 rfl rfl)
theorem dX2_plan_16 : decode cX2_plan 16 = .ok (.iconst 0, 1) := dk_3 (dk_at dksX2_plan_0 16 rfl rfl)
theorem dX2_plan_17 : decode cX2_plan 17 = .ok (.aload_n 0, 1) := dk_42 (dk_at dksX2_plan_0 17 rfl rfl)
theorem dX2_plan_18 : decode cX2_plan 18 = .ok (.getfield 130, 3) := dk_180 0 130 (dk_at dksX2_plan_0 18 rfl rfl)
theorem dX2_plan_21 : decode cX2_plan 21 = .ok (.aload_n 0, 1) := dk_42 (dk_at dksX2_plan_0 21 rfl rfl)
theorem dX2_plan_22 : decode cX2_plan 22 = .ok (.getfield 139, 3) := dk_180 0 139 (dk_at dksX2_plan_1 0 rfl rfl)
theorem dX2_plan_25 : decode cX2_plan 25 = .ok (.aload_n 0, 1) := dk_42 (dk_at dksX2_plan_1 3 rfl rfl)
theorem dX2_plan_26 : decode cX2_plan 26 = .ok (.getfield 133, 3) := dk_180 0 133 (dk_at dksX2_plan_1 4 rfl rfl)
theorem dX2_plan_29 : decode cX2_plan 29 = .ok (.aload_n 0, 1) := dk_42 (dk_at dksX2_plan_1 7 rfl rfl)
theorem dX2_plan_30 : decode cX2_plan 30 = .ok (.getfield 136, 3) := dk_180 0 136 (dk_at dksX2_plan_1 8 rfl rfl)
theorem dX2_plan_33 : decode cX2_plan 33 = .ok (.aload_n 0, 1) := dk_42 (dk_at dksX2_plan_1 11 rfl rfl)
theorem dX2_plan_34 : decode cX2_plan 34 = .ok (.aload_n 2, 1) := dk_44 (dk_at dksX2_plan_1 12 rfl rfl)
theorem dX2_plan_35 : decode cX2_plan 35 = .ok (.invokeinterface 167 1, 5) := by decide +kernel
theorem dX2_plan_40 : decode cX2_plan 40 = .ok (.invokevirtual 172, 3) := dk_182 0 172 (dk_at dksX2_plan_1 18 rfl rfl)
theorem dX2_plan_43 : decode cX2_plan 43 = .ok (.invokevirtual 176, 3) := dk_182 0 176 (dk_at dksX2_plan_1 21 rfl rfl)
theorem dX2_plan_46 : decode cX2_plan 46 = .ok (.areturn, 1) := dk_176 (dk_at dksX2_plan_2 0 rfl rfl)
abbrev cX2_choose : ByteArray := prog_17_method_13_code
def yX2_choose : MethodName := ⟨RX2, "choose", "()I"⟩
def dkwX2_choose_3 : List UInt8 := [42, 180, 0, 74, 42, 180, 0, 70, 182, 0, 197, 28, 60, 132, 2, 1, 167, 255, 172, 27, 172]
abbrev dktX2_choose_3 : List UInt8 := dkwX2_choose_3 ++ []
def dkwX2_choose_2 : List UInt8 := [42, 180, 0, 15, 42, 42, 180, 0, 70, 42, 180, 0, 74, 185, 0, 193, 4, 0, 154, 0, 6, 167, 0, 16]
abbrev dktX2_choose_2 : List UInt8 := dkwX2_choose_2 ++ dktX2_choose_3
def dkwX2_choose_1 : List UInt8 := [28, 46, 154, 0, 59, 42, 28, 182, 0, 185, 182, 0, 189, 154, 0, 6, 167, 0, 45, 27, 2, 159, 0, 27]
abbrev dktX2_choose_1 : List UInt8 := dkwX2_choose_1 ++ dktX2_choose_2
def dkwX2_choose_0 : List UInt8 := [2, 60, 3, 61, 28, 42, 180, 0, 80, 180, 0, 104, 185, 0, 89, 1, 0, 162, 0, 74, 42, 180, 0, 43]
abbrev dktX2_choose_0 : List UInt8 := dkwX2_choose_0 ++ dktX2_choose_1
theorem dksX2_choose_0 : cX2_choose.data.toList.drop 0 = dktX2_choose_0 := by decide +kernel
theorem dksX2_choose_1 : cX2_choose.data.toList.drop 24 = dktX2_choose_1 := dk_seg dksX2_choose_0 24 rfl rfl
theorem dksX2_choose_2 : cX2_choose.data.toList.drop 48 = dktX2_choose_2 := dk_seg dksX2_choose_1 24 rfl rfl
theorem dksX2_choose_3 : cX2_choose.data.toList.drop 72 = dktX2_choose_3 := dk_seg dksX2_choose_2 24 rfl rfl
theorem dX2_choose_0 : decode cX2_choose 0 = .ok (.iconst (-1), 1) := dk_2 (dk_at dksX2_choose_0 0 rfl rfl)
theorem dX2_choose_1 : decode cX2_choose 1 = .ok (.istore_n 1, 1) := dk_60 (dk_at dksX2_choose_0 1 rfl rfl)
theorem dX2_choose_2 : decode cX2_choose 2 = .ok (.iconst 0, 1) := dk_3 (dk_at dksX2_choose_0 2 rfl rfl)
theorem dX2_choose_3 : decode cX2_choose 3 = .ok (.istore_n 2, 1) := dk_61 (dk_at dksX2_choose_0 3 rfl rfl)
theorem dX2_choose_4 : decode cX2_choose 4 = .ok (.iload_n 2, 1) := dk_28 (dk_at dksX2_choose_0 4 rfl rfl)
theorem dX2_choose_5 : decode cX2_choose 5 = .ok (.aload_n 0, 1) := dk_42 (dk_at dksX2_choose_0 5 rfl rfl)
theorem dX2_choose_6 : decode cX2_choose 6 = .ok (.getfield 80, 3) := dk_180 0 80 (dk_at dksX2_choose_0 6 rfl rfl)
theorem dX2_choose_9 : decode cX2_choose 9 = .ok (.getfield 104, 3) := dk_180 0 104 (dk_at dksX2_choose_0 9 rfl rfl)
theorem dX2_choose_12 : decode cX2_choose 12 = .ok (.invokeinterface 89 1, 5) := by decide +kernel
theorem dX2_choose_17 : decode cX2_choose 17 = .ok (.if_icmp .ge 74, 3) := dk_162 0 74 (dk_at dksX2_choose_0 17 rfl rfl)
theorem dX2_choose_20 : decode cX2_choose 20 = .ok (.aload_n 0, 1) := dk_42 (dk_at dksX2_choose_0 20 rfl rfl)
theorem dX2_choose_21 : decode cX2_choose 21 = .ok (.getfield 43, 3) := dk_180 0 43 (dk_at dksX2_choose_0 21 rfl rfl)
theorem dX2_choose_24 : decode cX2_choose 24 = .ok (.iload_n 2, 1) := dk_28 (dk_at dksX2_choose_1 0 rfl rfl)
theorem dX2_choose_25 : decode cX2_choose 25 = .ok (.iaload, 1) := dk_46 (dk_at dksX2_choose_1 1 rfl rfl)
theorem dX2_choose_26 : decode cX2_choose 26 = .ok (.ifCond .ne 59, 3) := dk_154 0 59 (dk_at dksX2_choose_1 2 rfl rfl)
theorem dX2_choose_29 : decode cX2_choose 29 = .ok (.aload_n 0, 1) := dk_42 (dk_at dksX2_choose_1 5 rfl rfl)
theorem dX2_choose_30 : decode cX2_choose 30 = .ok (.iload_n 2, 1) := dk_28 (dk_at dksX2_choose_1 6 rfl rfl)
theorem dX2_choose_31 : decode cX2_choose 31 = .ok (.invokevirtual 185, 3) := dk_182 0 185 (dk_at dksX2_choose_1 7 rfl rfl)
theorem dX2_choose_34 : decode cX2_choose 34 = .ok (.invokevirtual 189, 3) := dk_182 0 189 (dk_at dksX2_choose_1 10 rfl rfl)
theorem dX2_choose_37 : decode cX2_choose 37 = .ok (.ifCond .ne 6, 3) := dk_154 0 6 (dk_at dksX2_choose_1 13 rfl rfl)
theorem dX2_choose_40 : decode cX2_choose 40 = .ok (.goto 45, 3) := dk_167 0 45 (dk_at dksX2_choose_1 16 rfl rfl)
theorem dX2_choose_43 : decode cX2_choose 43 = .ok (.iload_n 1, 1) := dk_27 (dk_at dksX2_choose_1 19 rfl rfl)
theorem dX2_choose_44 : decode cX2_choose 44 = .ok (.iconst (-1), 1) := dk_2 (dk_at dksX2_choose_1 20 rfl rfl)
theorem dX2_choose_45 : decode cX2_choose 45 = .ok (.if_icmp .eq 27, 3) := dk_159 0 27 (dk_at dksX2_choose_1 21 rfl rfl)
theorem dX2_choose_48 : decode cX2_choose 48 = .ok (.aload_n 0, 1) := dk_42 (dk_at dksX2_choose_2 0 rfl rfl)
theorem dX2_choose_49 : decode cX2_choose 49 = .ok (.getfield 15, 3) := dk_180 0 15 (dk_at dksX2_choose_2 1 rfl rfl)
theorem dX2_choose_52 : decode cX2_choose 52 = .ok (.aload_n 0, 1) := dk_42 (dk_at dksX2_choose_2 4 rfl rfl)
theorem dX2_choose_53 : decode cX2_choose 53 = .ok (.aload_n 0, 1) := dk_42 (dk_at dksX2_choose_2 5 rfl rfl)
theorem dX2_choose_54 : decode cX2_choose 54 = .ok (.getfield 70, 3) := dk_180 0 70 (dk_at dksX2_choose_2 6 rfl rfl)
theorem dX2_choose_57 : decode cX2_choose 57 = .ok (.aload_n 0, 1) := dk_42 (dk_at dksX2_choose_2 9 rfl rfl)
theorem dX2_choose_58 : decode cX2_choose 58 = .ok (.getfield 74, 3) := dk_180 0 74 (dk_at dksX2_choose_2 10 rfl rfl)
theorem dX2_choose_61 : decode cX2_choose 61 = .ok (.invokeinterface 193 4, 5) := by decide +kernel
theorem dX2_choose_66 : decode cX2_choose 66 = .ok (.ifCond .ne 6, 3) := dk_154 0 6 (dk_at dksX2_choose_2 18 rfl rfl)
theorem dX2_choose_69 : decode cX2_choose 69 = .ok (.goto 16, 3) := dk_167 0 16 (dk_at dksX2_choose_2 21 rfl rfl)
theorem dX2_choose_72 : decode cX2_choose 72 = .ok (.aload_n 0, 1) := dk_42 (dk_at dksX2_choose_3 0 rfl rfl)
theorem dX2_choose_73 : decode cX2_choose 73 = .ok (.getfield 74, 3) := dk_180 0 74 (dk_at dksX2_choose_3 1 rfl rfl)
theorem dX2_choose_76 : decode cX2_choose 76 = .ok (.aload_n 0, 1) := dk_42 (dk_at dksX2_choose_3 4 rfl rfl)
theorem dX2_choose_77 : decode cX2_choose 77 = .ok (.getfield 70, 3) := dk_180 0 70 (dk_at dksX2_choose_3 5 rfl rfl)
theorem dX2_choose_80 : decode cX2_choose 80 = .ok (.invokevirtual 197, 3) := dk_182 0 197 (dk_at dksX2_choose_3 8 rfl rfl)
theorem dX2_choose_83 : decode cX2_choose 83 = .ok (.iload_n 2, 1) := dk_28 (dk_at dksX2_choose_3 11 rfl rfl)
theorem dX2_choose_84 : decode cX2_choose 84 = .ok (.istore_n 1, 1) := dk_60 (dk_at dksX2_choose_3 12 rfl rfl)
theorem dX2_choose_85 : decode cX2_choose 85 = .ok (.iinc 2 1, 3) := dk_132 2 1 (dk_at dksX2_choose_3 13 rfl rfl)
theorem dX2_choose_88 : decode cX2_choose 88 = .ok (.goto (-84), 3) := dk_167 255 172 (dk_at dksX2_choose_3 16 rfl rfl)
theorem dX2_choose_91 : decode cX2_choose 91 = .ok (.iload_n 1, 1) := dk_27 (dk_at dksX2_choose_3 19 rfl rfl)
theorem dX2_choose_92 : decode cX2_choose 92 = .ok (.ireturn, 1) := dk_172 (dk_at dksX2_choose_3 20 rfl rfl)
abbrev cX2_divisor : ByteArray := prog_17_method_7_code
def yX2_divisor : MethodName := ⟨RX2, "divisor", "(I)I"⟩
def dkwX2_divisor_0 : List UInt8 := [4, 42, 180, 0, 30, 27, 46, 184, 0, 161, 172]
abbrev dktX2_divisor_0 : List UInt8 := dkwX2_divisor_0 ++ []
theorem dksX2_divisor_0 : cX2_divisor.data.toList.drop 0 = dktX2_divisor_0 := by decide +kernel
theorem dX2_divisor_0 : decode cX2_divisor 0 = .ok (.iconst 1, 1) := dk_4 (dk_at dksX2_divisor_0 0 rfl rfl)
theorem dX2_divisor_1 : decode cX2_divisor 1 = .ok (.aload_n 0, 1) := dk_42 (dk_at dksX2_divisor_0 1 rfl rfl)
theorem dX2_divisor_2 : decode cX2_divisor 2 = .ok (.getfield 30, 3) := dk_180 0 30 (dk_at dksX2_divisor_0 2 rfl rfl)
theorem dX2_divisor_5 : decode cX2_divisor 5 = .ok (.iload_n 1, 1) := dk_27 (dk_at dksX2_divisor_0 5 rfl rfl)
theorem dX2_divisor_6 : decode cX2_divisor 6 = .ok (.iaload, 1) := dk_46 (dk_at dksX2_divisor_0 6 rfl rfl)
theorem dX2_divisor_7 : decode cX2_divisor 7 = .ok (.invokestatic 161, 3) := dk_184 0 161 (dk_at dksX2_divisor_0 7 rfl rfl)
theorem dX2_divisor_10 : decode cX2_divisor 10 = .ok (.ireturn, 1) := dk_172 (dk_at dksX2_divisor_0 10 rfl rfl)
abbrev cX2_nextKind : ByteArray := prog_17_method_19_code
def yX2_nextKind : MethodName := ⟨RX2, "nextKind", "()I"⟩
def dkwX2_nextKind_2 : List UInt8 := [180, 0, 74, 182, 0, 248, 2, 160, 0, 7, 3, 167, 0, 4, 4, 172]
abbrev dktX2_nextKind_2 : List UInt8 := dkwX2_nextKind_2 ++ []
def dkwX2_nextKind_1 : List UInt8 := [5, 172, 42, 182, 0, 242, 153, 0, 5, 6, 172, 42, 182, 0, 245, 2, 160, 0, 5, 7, 172, 42, 42]
abbrev dktX2_nextKind_1 : List UInt8 := dkwX2_nextKind_1 ++ dktX2_nextKind_2
def dkwX2_nextKind_0 : List UInt8 := [42, 180, 0, 130, 42, 180, 0, 80, 180, 0, 236, 160, 0, 5, 2, 172, 42, 182, 0, 239, 2, 159, 0, 5]
abbrev dktX2_nextKind_0 : List UInt8 := dkwX2_nextKind_0 ++ dktX2_nextKind_1
theorem dksX2_nextKind_0 : cX2_nextKind.data.toList.drop 0 = dktX2_nextKind_0 := by decide +kernel
theorem dksX2_nextKind_1 : cX2_nextKind.data.toList.drop 24 = dktX2_nextKind_1 := dk_seg dksX2_nextKind_0 24 rfl rfl
theorem dksX2_nextKind_2 : cX2_nextKind.data.toList.drop 47 = dktX2_nextKind_2 := dk_seg dksX2_nextKind_1 23 rfl rfl
theorem dX2_nextKind_0 : decode cX2_nextKind 0 = .ok (.aload_n 0, 1) := dk_42 (dk_at dksX2_nextKind_0 0 rfl rfl)
theorem dX2_nextKind_1 : decode cX2_nextKind 1 = .ok (.getfield 130, 3) := dk_180 0 130 (dk_at dksX2_nextKind_0 1 rfl rfl)
theorem dX2_nextKind_4 : decode cX2_nextKind 4 = .ok (.aload_n 0, 1) := dk_42 (dk_at dksX2_nextKind_0 4 rfl rfl)
theorem dX2_nextKind_5 : decode cX2_nextKind 5 = .ok (.getfield 80, 3) := dk_180 0 80 (dk_at dksX2_nextKind_0 5 rfl rfl)
theorem dX2_nextKind_8 : decode cX2_nextKind 8 = .ok (.getfield 236, 3) := dk_180 0 236 (dk_at dksX2_nextKind_0 8 rfl rfl)
theorem dX2_nextKind_11 : decode cX2_nextKind 11 = .ok (.if_icmp .ne 5, 3) := dk_160 0 5 (dk_at dksX2_nextKind_0 11 rfl rfl)
theorem dX2_nextKind_14 : decode cX2_nextKind 14 = .ok (.iconst (-1), 1) := dk_2 (dk_at dksX2_nextKind_0 14 rfl rfl)
theorem dX2_nextKind_15 : decode cX2_nextKind 15 = .ok (.ireturn, 1) := dk_172 (dk_at dksX2_nextKind_0 15 rfl rfl)
theorem dX2_nextKind_16 : decode cX2_nextKind 16 = .ok (.aload_n 0, 1) := dk_42 (dk_at dksX2_nextKind_0 16 rfl rfl)
theorem dX2_nextKind_17 : decode cX2_nextKind 17 = .ok (.invokevirtual 239, 3) := dk_182 0 239 (dk_at dksX2_nextKind_0 17 rfl rfl)
theorem dX2_nextKind_20 : decode cX2_nextKind 20 = .ok (.iconst (-1), 1) := dk_2 (dk_at dksX2_nextKind_0 20 rfl rfl)
theorem dX2_nextKind_21 : decode cX2_nextKind 21 = .ok (.if_icmp .eq 5, 3) := dk_159 0 5 (dk_at dksX2_nextKind_0 21 rfl rfl)
theorem dX2_nextKind_24 : decode cX2_nextKind 24 = .ok (.iconst 2, 1) := dk_5 (dk_at dksX2_nextKind_1 0 rfl rfl)
theorem dX2_nextKind_25 : decode cX2_nextKind 25 = .ok (.ireturn, 1) := dk_172 (dk_at dksX2_nextKind_1 1 rfl rfl)
theorem dX2_nextKind_26 : decode cX2_nextKind 26 = .ok (.aload_n 0, 1) := dk_42 (dk_at dksX2_nextKind_1 2 rfl rfl)
theorem dX2_nextKind_27 : decode cX2_nextKind 27 = .ok (.invokevirtual 242, 3) := dk_182 0 242 (dk_at dksX2_nextKind_1 3 rfl rfl)
theorem dX2_nextKind_30 : decode cX2_nextKind 30 = .ok (.ifCond .eq 5, 3) := dk_153 0 5 (dk_at dksX2_nextKind_1 6 rfl rfl)
theorem dX2_nextKind_33 : decode cX2_nextKind 33 = .ok (.iconst 3, 1) := dk_6 (dk_at dksX2_nextKind_1 9 rfl rfl)
theorem dX2_nextKind_34 : decode cX2_nextKind 34 = .ok (.ireturn, 1) := dk_172 (dk_at dksX2_nextKind_1 10 rfl rfl)
theorem dX2_nextKind_35 : decode cX2_nextKind 35 = .ok (.aload_n 0, 1) := dk_42 (dk_at dksX2_nextKind_1 11 rfl rfl)
theorem dX2_nextKind_36 : decode cX2_nextKind 36 = .ok (.invokevirtual 245, 3) := dk_182 0 245 (dk_at dksX2_nextKind_1 12 rfl rfl)
theorem dX2_nextKind_39 : decode cX2_nextKind 39 = .ok (.iconst (-1), 1) := dk_2 (dk_at dksX2_nextKind_1 15 rfl rfl)
theorem dX2_nextKind_40 : decode cX2_nextKind 40 = .ok (.if_icmp .ne 5, 3) := dk_160 0 5 (dk_at dksX2_nextKind_1 16 rfl rfl)
theorem dX2_nextKind_43 : decode cX2_nextKind 43 = .ok (.iconst 4, 1) := dk_7 (dk_at dksX2_nextKind_1 19 rfl rfl)
theorem dX2_nextKind_44 : decode cX2_nextKind 44 = .ok (.ireturn, 1) := dk_172 (dk_at dksX2_nextKind_1 20 rfl rfl)
theorem dX2_nextKind_45 : decode cX2_nextKind 45 = .ok (.aload_n 0, 1) := dk_42 (dk_at dksX2_nextKind_1 21 rfl rfl)
theorem dX2_nextKind_46 : decode cX2_nextKind 46 = .ok (.aload_n 0, 1) := dk_42 (dk_at dksX2_nextKind_1 22 rfl rfl)
theorem dX2_nextKind_47 : decode cX2_nextKind 47 = .ok (.getfield 74, 3) := dk_180 0 74 (dk_at dksX2_nextKind_2 0 rfl rfl)
theorem dX2_nextKind_50 : decode cX2_nextKind 50 = .ok (.invokevirtual 248, 3) := dk_182 0 248 (dk_at dksX2_nextKind_2 3 rfl rfl)
theorem dX2_nextKind_53 : decode cX2_nextKind 53 = .ok (.iconst (-1), 1) := dk_2 (dk_at dksX2_nextKind_2 6 rfl rfl)
theorem dX2_nextKind_54 : decode cX2_nextKind 54 = .ok (.if_icmp .ne 7, 3) := dk_160 0 7 (dk_at dksX2_nextKind_2 7 rfl rfl)
theorem dX2_nextKind_57 : decode cX2_nextKind 57 = .ok (.iconst 0, 1) := dk_3 (dk_at dksX2_nextKind_2 10 rfl rfl)
theorem dX2_nextKind_58 : decode cX2_nextKind 58 = .ok (.goto 4, 3) := dk_167 0 4 (dk_at dksX2_nextKind_2 11 rfl rfl)
theorem dX2_nextKind_61 : decode cX2_nextKind 61 = .ok (.iconst 1, 1) := dk_4 (dk_at dksX2_nextKind_2 14 rfl rfl)
theorem dX2_nextKind_62 : decode cX2_nextKind 62 = .ok (.ireturn, 1) := dk_172 (dk_at dksX2_nextKind_2 15 rfl rfl)
abbrev cX2_chooseAlert : ByteArray := prog_17_method_15_code
def yX2_chooseAlert : MethodName := ⟨RX2, "chooseAlert", "()I"⟩
def dkwX2_chooseAlert_5 : List UInt8 := [60, 132, 2, 1, 167, 255, 143, 27, 172]
abbrev dktX2_chooseAlert_5 : List UInt8 := dkwX2_chooseAlert_5 ++ []
def dkwX2_chooseAlert_4 : List UInt8 := [192, 0, 120, 182, 0, 200, 161, 0, 6, 167, 0, 16, 42, 180, 0, 74, 42, 180, 0, 70, 182, 0, 197, 28]
abbrev dktX2_chooseAlert_4 : List UInt8 := dkwX2_chooseAlert_4 ++ dktX2_chooseAlert_5
def dkwX2_chooseAlert_3 : List UInt8 := [167, 0, 47, 27, 2, 159, 0, 29, 45, 182, 0, 200, 42, 180, 0, 26, 27, 185, 0, 95, 2, 0]
abbrev dktX2_chooseAlert_3 : List UInt8 := dkwX2_chooseAlert_3 ++ dktX2_chooseAlert_4
def dkwX2_chooseAlert_2 : List UInt8 := [180, 0, 130, 163, 0, 67, 42, 42, 180, 0, 70, 45, 28, 3, 182, 0, 180, 182, 0, 189, 154, 0, 6]
abbrev dktX2_chooseAlert_2 : List UInt8 := dkwX2_chooseAlert_2 ++ dktX2_chooseAlert_3
def dkwX2_chooseAlert_1 : List UInt8 := [185, 0, 95, 2, 0, 192, 0, 120, 78, 42, 28, 182, 0, 203, 153, 0, 78, 45, 180, 0, 207, 42]
abbrev dktX2_chooseAlert_1 : List UInt8 := dkwX2_chooseAlert_1 ++ dktX2_chooseAlert_2
def dkwX2_chooseAlert_0 : List UInt8 := [2, 60, 3, 61, 28, 42, 180, 0, 26, 185, 0, 89, 1, 0, 162, 0, 106, 42, 180, 0, 26, 28]
abbrev dktX2_chooseAlert_0 : List UInt8 := dkwX2_chooseAlert_0 ++ dktX2_chooseAlert_1
theorem dksX2_chooseAlert_0 : cX2_chooseAlert.data.toList.drop 0 = dktX2_chooseAlert_0 := by decide +kernel
theorem dksX2_chooseAlert_1 : cX2_chooseAlert.data.toList.drop 22 = dktX2_chooseAlert_1 := dk_seg dksX2_chooseAlert_0 22 rfl rfl
theorem dksX2_chooseAlert_2 : cX2_chooseAlert.data.toList.drop 44 = dktX2_chooseAlert_2 := dk_seg dksX2_chooseAlert_1 22 rfl rfl
theorem dksX2_chooseAlert_3 : cX2_chooseAlert.data.toList.drop 67 = dktX2_chooseAlert_3 := dk_seg dksX2_chooseAlert_2 23 rfl rfl
theorem dksX2_chooseAlert_4 : cX2_chooseAlert.data.toList.drop 89 = dktX2_chooseAlert_4 := dk_seg dksX2_chooseAlert_3 22 rfl rfl
theorem dksX2_chooseAlert_5 : cX2_chooseAlert.data.toList.drop 113 = dktX2_chooseAlert_5 := dk_seg dksX2_chooseAlert_4 24 rfl rfl
theorem dX2_chooseAlert_0 : decode cX2_chooseAlert 0 = .ok (.iconst (-1), 1) := dk_2 (dk_at dksX2_chooseAlert_0 0 rfl rfl)
theorem dX2_chooseAlert_1 : decode cX2_chooseAlert 1 = .ok (.istore_n 1, 1) := dk_60 (dk_at dksX2_chooseAlert_0 1 rfl rfl)
theorem dX2_chooseAlert_2 : decode cX2_chooseAlert 2 = .ok (.iconst 0, 1) := dk_3 (dk_at dksX2_chooseAlert_0 2 rfl rfl)
theorem dX2_chooseAlert_3 : decode cX2_chooseAlert 3 = .ok (.istore_n 2, 1) := dk_61 (dk_at dksX2_chooseAlert_0 3 rfl rfl)
theorem dX2_chooseAlert_4 : decode cX2_chooseAlert 4 = .ok (.iload_n 2, 1) := dk_28 (dk_at dksX2_chooseAlert_0 4 rfl rfl)
theorem dX2_chooseAlert_5 : decode cX2_chooseAlert 5 = .ok (.aload_n 0, 1) := dk_42 (dk_at dksX2_chooseAlert_0 5 rfl rfl)
theorem dX2_chooseAlert_6 : decode cX2_chooseAlert 6 = .ok (.getfield 26, 3) := dk_180 0 26 (dk_at dksX2_chooseAlert_0 6 rfl rfl)
theorem dX2_chooseAlert_9 : decode cX2_chooseAlert 9 = .ok (.invokeinterface 89 1, 5) := by decide +kernel
theorem dX2_chooseAlert_14 : decode cX2_chooseAlert 14 = .ok (.if_icmp .ge 106, 3) := dk_162 0 106 (dk_at dksX2_chooseAlert_0 14 rfl rfl)
theorem dX2_chooseAlert_17 : decode cX2_chooseAlert 17 = .ok (.aload_n 0, 1) := dk_42 (dk_at dksX2_chooseAlert_0 17 rfl rfl)
theorem dX2_chooseAlert_18 : decode cX2_chooseAlert 18 = .ok (.getfield 26, 3) := dk_180 0 26 (dk_at dksX2_chooseAlert_0 18 rfl rfl)
theorem dX2_chooseAlert_21 : decode cX2_chooseAlert 21 = .ok (.iload_n 2, 1) := dk_28 (dk_at dksX2_chooseAlert_0 21 rfl rfl)
theorem dX2_chooseAlert_22 : decode cX2_chooseAlert 22 = .ok (.invokeinterface 95 2, 5) := by decide +kernel
theorem dX2_chooseAlert_27 : decode cX2_chooseAlert 27 = .ok (.checkcast 120, 3) := dk_192 0 120 (dk_at dksX2_chooseAlert_1 5 rfl rfl)
theorem dX2_chooseAlert_30 : decode cX2_chooseAlert 30 = .ok (.astore_n 3, 1) := dk_78 (dk_at dksX2_chooseAlert_1 8 rfl rfl)
theorem dX2_chooseAlert_31 : decode cX2_chooseAlert 31 = .ok (.aload_n 0, 1) := dk_42 (dk_at dksX2_chooseAlert_1 9 rfl rfl)
theorem dX2_chooseAlert_32 : decode cX2_chooseAlert 32 = .ok (.iload_n 2, 1) := dk_28 (dk_at dksX2_chooseAlert_1 10 rfl rfl)
theorem dX2_chooseAlert_33 : decode cX2_chooseAlert 33 = .ok (.invokevirtual 203, 3) := dk_182 0 203 (dk_at dksX2_chooseAlert_1 11 rfl rfl)
theorem dX2_chooseAlert_36 : decode cX2_chooseAlert 36 = .ok (.ifCond .eq 78, 3) := dk_153 0 78 (dk_at dksX2_chooseAlert_1 14 rfl rfl)
theorem dX2_chooseAlert_39 : decode cX2_chooseAlert 39 = .ok (.aload_n 3, 1) := dk_45 (dk_at dksX2_chooseAlert_1 17 rfl rfl)
theorem dX2_chooseAlert_40 : decode cX2_chooseAlert 40 = .ok (.getfield 207, 3) := dk_180 0 207 (dk_at dksX2_chooseAlert_1 18 rfl rfl)
theorem dX2_chooseAlert_43 : decode cX2_chooseAlert 43 = .ok (.aload_n 0, 1) := dk_42 (dk_at dksX2_chooseAlert_1 21 rfl rfl)
theorem dX2_chooseAlert_44 : decode cX2_chooseAlert 44 = .ok (.getfield 130, 3) := dk_180 0 130 (dk_at dksX2_chooseAlert_2 0 rfl rfl)
theorem dX2_chooseAlert_47 : decode cX2_chooseAlert 47 = .ok (.if_icmp .gt 67, 3) := dk_163 0 67 (dk_at dksX2_chooseAlert_2 3 rfl rfl)
theorem dX2_chooseAlert_50 : decode cX2_chooseAlert 50 = .ok (.aload_n 0, 1) := dk_42 (dk_at dksX2_chooseAlert_2 6 rfl rfl)
theorem dX2_chooseAlert_51 : decode cX2_chooseAlert 51 = .ok (.aload_n 0, 1) := dk_42 (dk_at dksX2_chooseAlert_2 7 rfl rfl)
theorem dX2_chooseAlert_52 : decode cX2_chooseAlert 52 = .ok (.getfield 70, 3) := dk_180 0 70 (dk_at dksX2_chooseAlert_2 8 rfl rfl)
theorem dX2_chooseAlert_55 : decode cX2_chooseAlert 55 = .ok (.aload_n 3, 1) := dk_45 (dk_at dksX2_chooseAlert_2 11 rfl rfl)
theorem dX2_chooseAlert_56 : decode cX2_chooseAlert 56 = .ok (.iload_n 2, 1) := dk_28 (dk_at dksX2_chooseAlert_2 12 rfl rfl)
theorem dX2_chooseAlert_57 : decode cX2_chooseAlert 57 = .ok (.iconst 0, 1) := dk_3 (dk_at dksX2_chooseAlert_2 13 rfl rfl)
theorem dX2_chooseAlert_58 : decode cX2_chooseAlert 58 = .ok (.invokevirtual 180, 3) := dk_182 0 180 (dk_at dksX2_chooseAlert_2 14 rfl rfl)
theorem dX2_chooseAlert_61 : decode cX2_chooseAlert 61 = .ok (.invokevirtual 189, 3) := dk_182 0 189 (dk_at dksX2_chooseAlert_2 17 rfl rfl)
theorem dX2_chooseAlert_64 : decode cX2_chooseAlert 64 = .ok (.ifCond .ne 6, 3) := dk_154 0 6 (dk_at dksX2_chooseAlert_2 20 rfl rfl)
theorem dX2_chooseAlert_67 : decode cX2_chooseAlert 67 = .ok (.goto 47, 3) := dk_167 0 47 (dk_at dksX2_chooseAlert_3 0 rfl rfl)
theorem dX2_chooseAlert_70 : decode cX2_chooseAlert 70 = .ok (.iload_n 1, 1) := dk_27 (dk_at dksX2_chooseAlert_3 3 rfl rfl)
theorem dX2_chooseAlert_71 : decode cX2_chooseAlert 71 = .ok (.iconst (-1), 1) := dk_2 (dk_at dksX2_chooseAlert_3 4 rfl rfl)
theorem dX2_chooseAlert_72 : decode cX2_chooseAlert 72 = .ok (.if_icmp .eq 29, 3) := dk_159 0 29 (dk_at dksX2_chooseAlert_3 5 rfl rfl)
theorem dX2_chooseAlert_75 : decode cX2_chooseAlert 75 = .ok (.aload_n 3, 1) := dk_45 (dk_at dksX2_chooseAlert_3 8 rfl rfl)
theorem dX2_chooseAlert_76 : decode cX2_chooseAlert 76 = .ok (.invokevirtual 200, 3) := dk_182 0 200 (dk_at dksX2_chooseAlert_3 9 rfl rfl)
theorem dX2_chooseAlert_79 : decode cX2_chooseAlert 79 = .ok (.aload_n 0, 1) := dk_42 (dk_at dksX2_chooseAlert_3 12 rfl rfl)
theorem dX2_chooseAlert_80 : decode cX2_chooseAlert 80 = .ok (.getfield 26, 3) := dk_180 0 26 (dk_at dksX2_chooseAlert_3 13 rfl rfl)
theorem dX2_chooseAlert_83 : decode cX2_chooseAlert 83 = .ok (.iload_n 1, 1) := dk_27 (dk_at dksX2_chooseAlert_3 16 rfl rfl)
theorem dX2_chooseAlert_84 : decode cX2_chooseAlert 84 = .ok (.invokeinterface 95 2, 5) := by decide +kernel
theorem dX2_chooseAlert_89 : decode cX2_chooseAlert 89 = .ok (.checkcast 120, 3) := dk_192 0 120 (dk_at dksX2_chooseAlert_4 0 rfl rfl)
theorem dX2_chooseAlert_92 : decode cX2_chooseAlert 92 = .ok (.invokevirtual 200, 3) := dk_182 0 200 (dk_at dksX2_chooseAlert_4 3 rfl rfl)
theorem dX2_chooseAlert_95 : decode cX2_chooseAlert 95 = .ok (.if_icmp .lt 6, 3) := dk_161 0 6 (dk_at dksX2_chooseAlert_4 6 rfl rfl)
theorem dX2_chooseAlert_98 : decode cX2_chooseAlert 98 = .ok (.goto 16, 3) := dk_167 0 16 (dk_at dksX2_chooseAlert_4 9 rfl rfl)
theorem dX2_chooseAlert_101 : decode cX2_chooseAlert 101 = .ok (.aload_n 0, 1) := dk_42 (dk_at dksX2_chooseAlert_4 12 rfl rfl)
theorem dX2_chooseAlert_102 : decode cX2_chooseAlert 102 = .ok (.getfield 74, 3) := dk_180 0 74 (dk_at dksX2_chooseAlert_4 13 rfl rfl)
theorem dX2_chooseAlert_105 : decode cX2_chooseAlert 105 = .ok (.aload_n 0, 1) := dk_42 (dk_at dksX2_chooseAlert_4 16 rfl rfl)
theorem dX2_chooseAlert_106 : decode cX2_chooseAlert 106 = .ok (.getfield 70, 3) := dk_180 0 70 (dk_at dksX2_chooseAlert_4 17 rfl rfl)
theorem dX2_chooseAlert_109 : decode cX2_chooseAlert 109 = .ok (.invokevirtual 197, 3) := dk_182 0 197 (dk_at dksX2_chooseAlert_4 20 rfl rfl)
theorem dX2_chooseAlert_112 : decode cX2_chooseAlert 112 = .ok (.iload_n 2, 1) := dk_28 (dk_at dksX2_chooseAlert_4 23 rfl rfl)
theorem dX2_chooseAlert_113 : decode cX2_chooseAlert 113 = .ok (.istore_n 1, 1) := dk_60 (dk_at dksX2_chooseAlert_5 0 rfl rfl)
theorem dX2_chooseAlert_114 : decode cX2_chooseAlert 114 = .ok (.iinc 2 1, 3) := dk_132 2 1 (dk_at dksX2_chooseAlert_5 1 rfl rfl)
theorem dX2_chooseAlert_117 : decode cX2_chooseAlert 117 = .ok (.goto (-113), 3) := dk_167 255 143 (dk_at dksX2_chooseAlert_5 4 rfl rfl)
theorem dX2_chooseAlert_120 : decode cX2_chooseAlert 120 = .ok (.iload_n 1, 1) := dk_27 (dk_at dksX2_chooseAlert_5 7 rfl rfl)
theorem dX2_chooseAlert_121 : decode cX2_chooseAlert 121 = .ok (.ireturn, 1) := dk_172 (dk_at dksX2_chooseAlert_5 8 rfl rfl)
abbrev cX2_isOpen : ByteArray := prog_17_method_14_code
def yX2_isOpen : MethodName := ⟨RX2, "isOpen", "(I)Z"⟩
def dkwX2_isOpen_1 : List UInt8 := [182, 0, 200, 42, 180, 0, 130, 161, 0, 7, 4, 167, 0, 4, 3, 172]
abbrev dktX2_isOpen_1 : List UInt8 := dkwX2_isOpen_1 ++ []
def dkwX2_isOpen_0 : List UInt8 := [42, 180, 0, 55, 27, 46, 154, 0, 30, 42, 180, 0, 26, 27, 185, 0, 95, 2, 0, 192, 0, 120]
abbrev dktX2_isOpen_0 : List UInt8 := dkwX2_isOpen_0 ++ dktX2_isOpen_1
theorem dksX2_isOpen_0 : cX2_isOpen.data.toList.drop 0 = dktX2_isOpen_0 := by decide +kernel
theorem dksX2_isOpen_1 : cX2_isOpen.data.toList.drop 22 = dktX2_isOpen_1 := dk_seg dksX2_isOpen_0 22 rfl rfl
theorem dX2_isOpen_0 : decode cX2_isOpen 0 = .ok (.aload_n 0, 1) := dk_42 (dk_at dksX2_isOpen_0 0 rfl rfl)
theorem dX2_isOpen_1 : decode cX2_isOpen 1 = .ok (.getfield 55, 3) := dk_180 0 55 (dk_at dksX2_isOpen_0 1 rfl rfl)
theorem dX2_isOpen_4 : decode cX2_isOpen 4 = .ok (.iload_n 1, 1) := dk_27 (dk_at dksX2_isOpen_0 4 rfl rfl)
theorem dX2_isOpen_5 : decode cX2_isOpen 5 = .ok (.iaload, 1) := dk_46 (dk_at dksX2_isOpen_0 5 rfl rfl)
theorem dX2_isOpen_6 : decode cX2_isOpen 6 = .ok (.ifCond .ne 30, 3) := dk_154 0 30 (dk_at dksX2_isOpen_0 6 rfl rfl)
theorem dX2_isOpen_9 : decode cX2_isOpen 9 = .ok (.aload_n 0, 1) := dk_42 (dk_at dksX2_isOpen_0 9 rfl rfl)
theorem dX2_isOpen_10 : decode cX2_isOpen 10 = .ok (.getfield 26, 3) := dk_180 0 26 (dk_at dksX2_isOpen_0 10 rfl rfl)
theorem dX2_isOpen_13 : decode cX2_isOpen 13 = .ok (.iload_n 1, 1) := dk_27 (dk_at dksX2_isOpen_0 13 rfl rfl)
theorem dX2_isOpen_14 : decode cX2_isOpen 14 = .ok (.invokeinterface 95 2, 5) := by decide +kernel
theorem dX2_isOpen_19 : decode cX2_isOpen 19 = .ok (.checkcast 120, 3) := dk_192 0 120 (dk_at dksX2_isOpen_0 19 rfl rfl)
theorem dX2_isOpen_22 : decode cX2_isOpen 22 = .ok (.invokevirtual 200, 3) := dk_182 0 200 (dk_at dksX2_isOpen_1 0 rfl rfl)
theorem dX2_isOpen_25 : decode cX2_isOpen 25 = .ok (.aload_n 0, 1) := dk_42 (dk_at dksX2_isOpen_1 3 rfl rfl)
theorem dX2_isOpen_26 : decode cX2_isOpen 26 = .ok (.getfield 130, 3) := dk_180 0 130 (dk_at dksX2_isOpen_1 4 rfl rfl)
theorem dX2_isOpen_29 : decode cX2_isOpen 29 = .ok (.if_icmp .lt 7, 3) := dk_161 0 7 (dk_at dksX2_isOpen_1 7 rfl rfl)
theorem dX2_isOpen_32 : decode cX2_isOpen 32 = .ok (.iconst 1, 1) := dk_4 (dk_at dksX2_isOpen_1 10 rfl rfl)
theorem dX2_isOpen_33 : decode cX2_isOpen 33 = .ok (.goto 4, 3) := dk_167 0 4 (dk_at dksX2_isOpen_1 11 rfl rfl)
theorem dX2_isOpen_36 : decode cX2_isOpen 36 = .ok (.iconst 0, 1) := dk_3 (dk_at dksX2_isOpen_1 14 rfl rfl)
theorem dX2_isOpen_37 : decode cX2_isOpen 37 = .ok (.ireturn, 1) := dk_172 (dk_at dksX2_isOpen_1 15 rfl rfl)
abbrev cX2_isCalibrationDue : ByteArray := prog_17_method_18_code
def yX2_isCalibrationDue : MethodName := ⟨RX2, "isCalibrationDue", "()Z"⟩
def dkwX2_isCalibrationDue_1 : List UInt8 := [180, 0, 233, 96, 42, 180, 0, 80, 180, 0, 236, 163, 0, 7, 4, 167, 0, 4, 3, 172]
abbrev dktX2_isCalibrationDue_1 : List UInt8 := dkwX2_isCalibrationDue_1 ++ []
def dkwX2_isCalibrationDue_0 : List UInt8 := [42, 180, 0, 130, 42, 180, 0, 142, 100, 42, 180, 0, 145, 161, 0, 29, 42, 180, 0, 130, 42, 180, 0, 80]
abbrev dktX2_isCalibrationDue_0 : List UInt8 := dkwX2_isCalibrationDue_0 ++ dktX2_isCalibrationDue_1
theorem dksX2_isCalibrationDue_0 : cX2_isCalibrationDue.data.toList.drop 0 = dktX2_isCalibrationDue_0 := by decide +kernel
theorem dksX2_isCalibrationDue_1 : cX2_isCalibrationDue.data.toList.drop 24 = dktX2_isCalibrationDue_1 := dk_seg dksX2_isCalibrationDue_0 24 rfl rfl
theorem dX2_isCalibrationDue_0 : decode cX2_isCalibrationDue 0 = .ok (.aload_n 0, 1) := dk_42 (dk_at dksX2_isCalibrationDue_0 0 rfl rfl)
theorem dX2_isCalibrationDue_1 : decode cX2_isCalibrationDue 1 = .ok (.getfield 130, 3) := dk_180 0 130 (dk_at dksX2_isCalibrationDue_0 1 rfl rfl)
theorem dX2_isCalibrationDue_4 : decode cX2_isCalibrationDue 4 = .ok (.aload_n 0, 1) := dk_42 (dk_at dksX2_isCalibrationDue_0 4 rfl rfl)
theorem dX2_isCalibrationDue_5 : decode cX2_isCalibrationDue 5 = .ok (.getfield 142, 3) := dk_180 0 142 (dk_at dksX2_isCalibrationDue_0 5 rfl rfl)
theorem dX2_isCalibrationDue_8 : decode cX2_isCalibrationDue 8 = .ok (.isub, 1) := dk_100 (dk_at dksX2_isCalibrationDue_0 8 rfl rfl)
theorem dX2_isCalibrationDue_9 : decode cX2_isCalibrationDue 9 = .ok (.aload_n 0, 1) := dk_42 (dk_at dksX2_isCalibrationDue_0 9 rfl rfl)
theorem dX2_isCalibrationDue_10 : decode cX2_isCalibrationDue 10 = .ok (.getfield 145, 3) := dk_180 0 145 (dk_at dksX2_isCalibrationDue_0 10 rfl rfl)
theorem dX2_isCalibrationDue_13 : decode cX2_isCalibrationDue 13 = .ok (.if_icmp .lt 29, 3) := dk_161 0 29 (dk_at dksX2_isCalibrationDue_0 13 rfl rfl)
theorem dX2_isCalibrationDue_16 : decode cX2_isCalibrationDue 16 = .ok (.aload_n 0, 1) := dk_42 (dk_at dksX2_isCalibrationDue_0 16 rfl rfl)
theorem dX2_isCalibrationDue_17 : decode cX2_isCalibrationDue 17 = .ok (.getfield 130, 3) := dk_180 0 130 (dk_at dksX2_isCalibrationDue_0 17 rfl rfl)
theorem dX2_isCalibrationDue_20 : decode cX2_isCalibrationDue 20 = .ok (.aload_n 0, 1) := dk_42 (dk_at dksX2_isCalibrationDue_0 20 rfl rfl)
theorem dX2_isCalibrationDue_21 : decode cX2_isCalibrationDue 21 = .ok (.getfield 80, 3) := dk_180 0 80 (dk_at dksX2_isCalibrationDue_0 21 rfl rfl)
theorem dX2_isCalibrationDue_24 : decode cX2_isCalibrationDue 24 = .ok (.getfield 233, 3) := dk_180 0 233 (dk_at dksX2_isCalibrationDue_1 0 rfl rfl)
theorem dX2_isCalibrationDue_27 : decode cX2_isCalibrationDue 27 = .ok (.iadd, 1) := dk_96 (dk_at dksX2_isCalibrationDue_1 3 rfl rfl)
theorem dX2_isCalibrationDue_28 : decode cX2_isCalibrationDue 28 = .ok (.aload_n 0, 1) := dk_42 (dk_at dksX2_isCalibrationDue_1 4 rfl rfl)
theorem dX2_isCalibrationDue_29 : decode cX2_isCalibrationDue 29 = .ok (.getfield 80, 3) := dk_180 0 80 (dk_at dksX2_isCalibrationDue_1 5 rfl rfl)
theorem dX2_isCalibrationDue_32 : decode cX2_isCalibrationDue 32 = .ok (.getfield 236, 3) := dk_180 0 236 (dk_at dksX2_isCalibrationDue_1 8 rfl rfl)
theorem dX2_isCalibrationDue_35 : decode cX2_isCalibrationDue 35 = .ok (.if_icmp .gt 7, 3) := dk_163 0 7 (dk_at dksX2_isCalibrationDue_1 11 rfl rfl)
theorem dX2_isCalibrationDue_38 : decode cX2_isCalibrationDue 38 = .ok (.iconst 1, 1) := dk_4 (dk_at dksX2_isCalibrationDue_1 14 rfl rfl)
theorem dX2_isCalibrationDue_39 : decode cX2_isCalibrationDue 39 = .ok (.goto 4, 3) := dk_167 0 4 (dk_at dksX2_isCalibrationDue_1 15 rfl rfl)
theorem dX2_isCalibrationDue_42 : decode cX2_isCalibrationDue 42 = .ok (.iconst 0, 1) := dk_3 (dk_at dksX2_isCalibrationDue_1 18 rfl rfl)
theorem dX2_isCalibrationDue_43 : decode cX2_isCalibrationDue 43 = .ok (.ireturn, 1) := dk_172 (dk_at dksX2_isCalibrationDue_1 19 rfl rfl)
abbrev cX2_interrupting : ByteArray := prog_17_method_16_code
def yX2_interrupting : MethodName := ⟨RX2, "interrupting", "(LTelescopeQueue$Plan;)I"⟩
def dkwX2_interrupting_5 : List UInt8 := [167, 255, 144, 28, 172]
abbrev dktX2_interrupting_5 : List UInt8 := dkwX2_interrupting_5 ++ []
def dkwX2_interrupting_4 : List UInt8 := [161, 0, 6, 167, 0, 16, 42, 43, 25, 4, 29, 182, 0, 214, 153, 0, 5, 29, 61, 132, 3, 1]
abbrev dktX2_interrupting_4 : List UInt8 := dkwX2_interrupting_4 ++ dktX2_interrupting_5
def dkwX2_interrupting_3 : List UInt8 := [159, 0, 30, 25, 4, 180, 0, 207, 42, 180, 0, 26, 28, 185, 0, 95, 2, 0, 192, 0, 120, 180, 0, 207]
abbrev dktX2_interrupting_3 : List UInt8 := dkwX2_interrupting_3 ++ dktX2_interrupting_4
def dkwX2_interrupting_2 : List UInt8 := [43, 180, 0, 208, 164, 0, 63, 25, 4, 180, 0, 207, 43, 180, 0, 211, 161, 0, 6, 167, 0, 48, 28, 2]
abbrev dktX2_interrupting_2 : List UInt8 := dkwX2_interrupting_2 ++ dktX2_interrupting_3
def dkwX2_interrupting_1 : List UInt8 := [185, 0, 95, 2, 0, 192, 0, 120, 58, 4, 42, 180, 0, 55, 29, 46, 154, 0, 75, 25, 4, 180, 0, 207]
abbrev dktX2_interrupting_1 : List UInt8 := dkwX2_interrupting_1 ++ dktX2_interrupting_2
def dkwX2_interrupting_0 : List UInt8 := [2, 61, 3, 62, 29, 42, 180, 0, 26, 185, 0, 89, 1, 0, 162, 0, 105, 42, 180, 0, 26, 29]
abbrev dktX2_interrupting_0 : List UInt8 := dkwX2_interrupting_0 ++ dktX2_interrupting_1
theorem dksX2_interrupting_0 : cX2_interrupting.data.toList.drop 0 = dktX2_interrupting_0 := by decide +kernel
theorem dksX2_interrupting_1 : cX2_interrupting.data.toList.drop 22 = dktX2_interrupting_1 := dk_seg dksX2_interrupting_0 22 rfl rfl
theorem dksX2_interrupting_2 : cX2_interrupting.data.toList.drop 46 = dktX2_interrupting_2 := dk_seg dksX2_interrupting_1 24 rfl rfl
theorem dksX2_interrupting_3 : cX2_interrupting.data.toList.drop 70 = dktX2_interrupting_3 := dk_seg dksX2_interrupting_2 24 rfl rfl
theorem dksX2_interrupting_4 : cX2_interrupting.data.toList.drop 94 = dktX2_interrupting_4 := dk_seg dksX2_interrupting_3 24 rfl rfl
theorem dksX2_interrupting_5 : cX2_interrupting.data.toList.drop 116 = dktX2_interrupting_5 := dk_seg dksX2_interrupting_4 22 rfl rfl
theorem dX2_interrupting_0 : decode cX2_interrupting 0 = .ok (.iconst (-1), 1) := dk_2 (dk_at dksX2_interrupting_0 0 rfl rfl)
theorem dX2_interrupting_1 : decode cX2_interrupting 1 = .ok (.istore_n 2, 1) := dk_61 (dk_at dksX2_interrupting_0 1 rfl rfl)
theorem dX2_interrupting_2 : decode cX2_interrupting 2 = .ok (.iconst 0, 1) := dk_3 (dk_at dksX2_interrupting_0 2 rfl rfl)
theorem dX2_interrupting_3 : decode cX2_interrupting 3 = .ok (.istore_n 3, 1) := dk_62 (dk_at dksX2_interrupting_0 3 rfl rfl)
theorem dX2_interrupting_4 : decode cX2_interrupting 4 = .ok (.iload_n 3, 1) := dk_29 (dk_at dksX2_interrupting_0 4 rfl rfl)
theorem dX2_interrupting_5 : decode cX2_interrupting 5 = .ok (.aload_n 0, 1) := dk_42 (dk_at dksX2_interrupting_0 5 rfl rfl)
theorem dX2_interrupting_6 : decode cX2_interrupting 6 = .ok (.getfield 26, 3) := dk_180 0 26 (dk_at dksX2_interrupting_0 6 rfl rfl)
theorem dX2_interrupting_9 : decode cX2_interrupting 9 = .ok (.invokeinterface 89 1, 5) := by decide +kernel
theorem dX2_interrupting_14 : decode cX2_interrupting 14 = .ok (.if_icmp .ge 105, 3) := dk_162 0 105 (dk_at dksX2_interrupting_0 14 rfl rfl)
theorem dX2_interrupting_17 : decode cX2_interrupting 17 = .ok (.aload_n 0, 1) := dk_42 (dk_at dksX2_interrupting_0 17 rfl rfl)
theorem dX2_interrupting_18 : decode cX2_interrupting 18 = .ok (.getfield 26, 3) := dk_180 0 26 (dk_at dksX2_interrupting_0 18 rfl rfl)
theorem dX2_interrupting_21 : decode cX2_interrupting 21 = .ok (.iload_n 3, 1) := dk_29 (dk_at dksX2_interrupting_0 21 rfl rfl)
theorem dX2_interrupting_22 : decode cX2_interrupting 22 = .ok (.invokeinterface 95 2, 5) := by decide +kernel
theorem dX2_interrupting_27 : decode cX2_interrupting 27 = .ok (.checkcast 120, 3) := dk_192 0 120 (dk_at dksX2_interrupting_1 5 rfl rfl)
theorem dX2_interrupting_30 : decode cX2_interrupting 30 = .ok (.astore 4, 2) := dk_58 4 (dk_at dksX2_interrupting_1 8 rfl rfl)
theorem dX2_interrupting_32 : decode cX2_interrupting 32 = .ok (.aload_n 0, 1) := dk_42 (dk_at dksX2_interrupting_1 10 rfl rfl)
theorem dX2_interrupting_33 : decode cX2_interrupting 33 = .ok (.getfield 55, 3) := dk_180 0 55 (dk_at dksX2_interrupting_1 11 rfl rfl)
theorem dX2_interrupting_36 : decode cX2_interrupting 36 = .ok (.iload_n 3, 1) := dk_29 (dk_at dksX2_interrupting_1 14 rfl rfl)
theorem dX2_interrupting_37 : decode cX2_interrupting 37 = .ok (.iaload, 1) := dk_46 (dk_at dksX2_interrupting_1 15 rfl rfl)
theorem dX2_interrupting_38 : decode cX2_interrupting 38 = .ok (.ifCond .ne 75, 3) := dk_154 0 75 (dk_at dksX2_interrupting_1 16 rfl rfl)
theorem dX2_interrupting_41 : decode cX2_interrupting 41 = .ok (.aload 4, 2) := dk_25 4 (dk_at dksX2_interrupting_1 19 rfl rfl)
theorem dX2_interrupting_43 : decode cX2_interrupting 43 = .ok (.getfield 207, 3) := dk_180 0 207 (dk_at dksX2_interrupting_1 21 rfl rfl)
theorem dX2_interrupting_46 : decode cX2_interrupting 46 = .ok (.aload_n 1, 1) := dk_43 (dk_at dksX2_interrupting_2 0 rfl rfl)
theorem dX2_interrupting_47 : decode cX2_interrupting 47 = .ok (.getfield 208, 3) := dk_180 0 208 (dk_at dksX2_interrupting_2 1 rfl rfl)
theorem dX2_interrupting_50 : decode cX2_interrupting 50 = .ok (.if_icmp .le 63, 3) := dk_164 0 63 (dk_at dksX2_interrupting_2 4 rfl rfl)
theorem dX2_interrupting_53 : decode cX2_interrupting 53 = .ok (.aload 4, 2) := dk_25 4 (dk_at dksX2_interrupting_2 7 rfl rfl)
theorem dX2_interrupting_55 : decode cX2_interrupting 55 = .ok (.getfield 207, 3) := dk_180 0 207 (dk_at dksX2_interrupting_2 9 rfl rfl)
theorem dX2_interrupting_58 : decode cX2_interrupting 58 = .ok (.aload_n 1, 1) := dk_43 (dk_at dksX2_interrupting_2 12 rfl rfl)
theorem dX2_interrupting_59 : decode cX2_interrupting 59 = .ok (.getfield 211, 3) := dk_180 0 211 (dk_at dksX2_interrupting_2 13 rfl rfl)
theorem dX2_interrupting_62 : decode cX2_interrupting 62 = .ok (.if_icmp .lt 6, 3) := dk_161 0 6 (dk_at dksX2_interrupting_2 16 rfl rfl)
theorem dX2_interrupting_65 : decode cX2_interrupting 65 = .ok (.goto 48, 3) := dk_167 0 48 (dk_at dksX2_interrupting_2 19 rfl rfl)
theorem dX2_interrupting_68 : decode cX2_interrupting 68 = .ok (.iload_n 2, 1) := dk_28 (dk_at dksX2_interrupting_2 22 rfl rfl)
theorem dX2_interrupting_69 : decode cX2_interrupting 69 = .ok (.iconst (-1), 1) := dk_2 (dk_at dksX2_interrupting_2 23 rfl rfl)
theorem dX2_interrupting_70 : decode cX2_interrupting 70 = .ok (.if_icmp .eq 30, 3) := dk_159 0 30 (dk_at dksX2_interrupting_3 0 rfl rfl)
theorem dX2_interrupting_73 : decode cX2_interrupting 73 = .ok (.aload 4, 2) := dk_25 4 (dk_at dksX2_interrupting_3 3 rfl rfl)
theorem dX2_interrupting_75 : decode cX2_interrupting 75 = .ok (.getfield 207, 3) := dk_180 0 207 (dk_at dksX2_interrupting_3 5 rfl rfl)
theorem dX2_interrupting_78 : decode cX2_interrupting 78 = .ok (.aload_n 0, 1) := dk_42 (dk_at dksX2_interrupting_3 8 rfl rfl)
theorem dX2_interrupting_79 : decode cX2_interrupting 79 = .ok (.getfield 26, 3) := dk_180 0 26 (dk_at dksX2_interrupting_3 9 rfl rfl)
theorem dX2_interrupting_82 : decode cX2_interrupting 82 = .ok (.iload_n 2, 1) := dk_28 (dk_at dksX2_interrupting_3 12 rfl rfl)
theorem dX2_interrupting_83 : decode cX2_interrupting 83 = .ok (.invokeinterface 95 2, 5) := by decide +kernel
theorem dX2_interrupting_88 : decode cX2_interrupting 88 = .ok (.checkcast 120, 3) := dk_192 0 120 (dk_at dksX2_interrupting_3 18 rfl rfl)
theorem dX2_interrupting_91 : decode cX2_interrupting 91 = .ok (.getfield 207, 3) := dk_180 0 207 (dk_at dksX2_interrupting_3 21 rfl rfl)
theorem dX2_interrupting_94 : decode cX2_interrupting 94 = .ok (.if_icmp .lt 6, 3) := dk_161 0 6 (dk_at dksX2_interrupting_4 0 rfl rfl)
theorem dX2_interrupting_97 : decode cX2_interrupting 97 = .ok (.goto 16, 3) := dk_167 0 16 (dk_at dksX2_interrupting_4 3 rfl rfl)
theorem dX2_interrupting_100 : decode cX2_interrupting 100 = .ok (.aload_n 0, 1) := dk_42 (dk_at dksX2_interrupting_4 6 rfl rfl)
theorem dX2_interrupting_101 : decode cX2_interrupting 101 = .ok (.aload_n 1, 1) := dk_43 (dk_at dksX2_interrupting_4 7 rfl rfl)
theorem dX2_interrupting_102 : decode cX2_interrupting 102 = .ok (.aload 4, 2) := dk_25 4 (dk_at dksX2_interrupting_4 8 rfl rfl)
theorem dX2_interrupting_104 : decode cX2_interrupting 104 = .ok (.iload_n 3, 1) := dk_29 (dk_at dksX2_interrupting_4 10 rfl rfl)
theorem dX2_interrupting_105 : decode cX2_interrupting 105 = .ok (.invokevirtual 214, 3) := dk_182 0 214 (dk_at dksX2_interrupting_4 11 rfl rfl)
theorem dX2_interrupting_108 : decode cX2_interrupting 108 = .ok (.ifCond .eq 5, 3) := dk_153 0 5 (dk_at dksX2_interrupting_4 14 rfl rfl)
theorem dX2_interrupting_111 : decode cX2_interrupting 111 = .ok (.iload_n 3, 1) := dk_29 (dk_at dksX2_interrupting_4 17 rfl rfl)
theorem dX2_interrupting_112 : decode cX2_interrupting 112 = .ok (.istore_n 2, 1) := dk_61 (dk_at dksX2_interrupting_4 18 rfl rfl)
theorem dX2_interrupting_113 : decode cX2_interrupting 113 = .ok (.iinc 3 1, 3) := dk_132 3 1 (dk_at dksX2_interrupting_4 19 rfl rfl)
theorem dX2_interrupting_116 : decode cX2_interrupting 116 = .ok (.goto (-112), 3) := dk_167 255 144 (dk_at dksX2_interrupting_5 0 rfl rfl)
theorem dX2_interrupting_119 : decode cX2_interrupting 119 = .ok (.iload_n 2, 1) := dk_28 (dk_at dksX2_interrupting_5 3 rfl rfl)
theorem dX2_interrupting_120 : decode cX2_interrupting 120 = .ok (.ireturn, 1) := dk_172 (dk_at dksX2_interrupting_5 4 rfl rfl)
abbrev cX2_couldBegin : ByteArray := prog_17_method_17_code
def yX2_couldBegin : MethodName := ⟨RX2, "couldBegin", "(LTelescopeQueue$Plan;LTelescopeQueue$Alert;I)Z"⟩
def dkwX2_couldBegin_5 : List UInt8 := [182, 0, 189, 172]
abbrev dktX2_couldBegin_5 : List UInt8 := dkwX2_couldBegin_5 ++ []
def dkwX2_couldBegin_4 : List UInt8 := [180, 0, 221, 185, 0, 229, 1, 0, 43, 180, 0, 221, 185, 0, 231, 1, 0, 21, 6, 182, 0, 176]
abbrev dktX2_couldBegin_4 : List UInt8 := dkwX2_couldBegin_4 ++ dktX2_couldBegin_5
def dkwX2_couldBegin_3 : List UInt8 := [3, 100, 54, 6, 42, 180, 0, 77, 42, 180, 0, 80, 44, 29, 4, 44, 180, 0, 207, 21, 5, 43]
abbrev dktX2_couldBegin_3 : List UInt8 := dkwX2_couldBegin_3 ++ dktX2_couldBegin_4
def dkwX2_couldBegin_2 : List UInt8 := [182, 0, 172, 44, 182, 0, 228, 43, 180, 0, 221, 185, 0, 167, 1, 0, 160, 0, 8, 21, 4, 167, 0, 4]
abbrev dktX2_couldBegin_2 : List UInt8 := dkwX2_couldBegin_2 ++ dktX2_couldBegin_3
def dkwX2_couldBegin_1 : List UInt8 := [180, 0, 139, 43, 180, 0, 221, 21, 4, 185, 0, 225, 2, 0, 96, 54, 5, 42, 44, 182, 0, 228]
abbrev dktX2_couldBegin_1 : List UInt8 := dkwX2_couldBegin_1 ++ dktX2_couldBegin_2
def dkwX2_couldBegin_0 : List UInt8 := [44, 180, 0, 207, 43, 180, 0, 208, 100, 54, 4, 43, 180, 0, 218, 158, 0, 7, 3, 167, 0, 7, 42]
abbrev dktX2_couldBegin_0 : List UInt8 := dkwX2_couldBegin_0 ++ dktX2_couldBegin_1
theorem dksX2_couldBegin_0 : cX2_couldBegin.data.toList.drop 0 = dktX2_couldBegin_0 := by decide +kernel
theorem dksX2_couldBegin_1 : cX2_couldBegin.data.toList.drop 23 = dktX2_couldBegin_1 := dk_seg dksX2_couldBegin_0 23 rfl rfl
theorem dksX2_couldBegin_2 : cX2_couldBegin.data.toList.drop 45 = dktX2_couldBegin_2 := dk_seg dksX2_couldBegin_1 22 rfl rfl
theorem dksX2_couldBegin_3 : cX2_couldBegin.data.toList.drop 69 = dktX2_couldBegin_3 := dk_seg dksX2_couldBegin_2 24 rfl rfl
theorem dksX2_couldBegin_4 : cX2_couldBegin.data.toList.drop 91 = dktX2_couldBegin_4 := dk_seg dksX2_couldBegin_3 22 rfl rfl
theorem dksX2_couldBegin_5 : cX2_couldBegin.data.toList.drop 113 = dktX2_couldBegin_5 := dk_seg dksX2_couldBegin_4 22 rfl rfl
theorem dX2_couldBegin_0 : decode cX2_couldBegin 0 = .ok (.aload_n 2, 1) := dk_44 (dk_at dksX2_couldBegin_0 0 rfl rfl)
theorem dX2_couldBegin_1 : decode cX2_couldBegin 1 = .ok (.getfield 207, 3) := dk_180 0 207 (dk_at dksX2_couldBegin_0 1 rfl rfl)
theorem dX2_couldBegin_4 : decode cX2_couldBegin 4 = .ok (.aload_n 1, 1) := dk_43 (dk_at dksX2_couldBegin_0 4 rfl rfl)
theorem dX2_couldBegin_5 : decode cX2_couldBegin 5 = .ok (.getfield 208, 3) := dk_180 0 208 (dk_at dksX2_couldBegin_0 5 rfl rfl)
theorem dX2_couldBegin_8 : decode cX2_couldBegin 8 = .ok (.isub, 1) := dk_100 (dk_at dksX2_couldBegin_0 8 rfl rfl)
theorem dX2_couldBegin_9 : decode cX2_couldBegin 9 = .ok (.istore 4, 2) := dk_54 4 (dk_at dksX2_couldBegin_0 9 rfl rfl)
theorem dX2_couldBegin_11 : decode cX2_couldBegin 11 = .ok (.aload_n 1, 1) := dk_43 (dk_at dksX2_couldBegin_0 11 rfl rfl)
theorem dX2_couldBegin_12 : decode cX2_couldBegin 12 = .ok (.getfield 218, 3) := dk_180 0 218 (dk_at dksX2_couldBegin_0 12 rfl rfl)
theorem dX2_couldBegin_15 : decode cX2_couldBegin 15 = .ok (.ifCond .le 7, 3) := dk_158 0 7 (dk_at dksX2_couldBegin_0 15 rfl rfl)
theorem dX2_couldBegin_18 : decode cX2_couldBegin 18 = .ok (.iconst 0, 1) := dk_3 (dk_at dksX2_couldBegin_0 18 rfl rfl)
theorem dX2_couldBegin_19 : decode cX2_couldBegin 19 = .ok (.goto 7, 3) := dk_167 0 7 (dk_at dksX2_couldBegin_0 19 rfl rfl)
theorem dX2_couldBegin_22 : decode cX2_couldBegin 22 = .ok (.aload_n 0, 1) := dk_42 (dk_at dksX2_couldBegin_0 22 rfl rfl)
theorem dX2_couldBegin_23 : decode cX2_couldBegin 23 = .ok (.getfield 139, 3) := dk_180 0 139 (dk_at dksX2_couldBegin_1 0 rfl rfl)
theorem dX2_couldBegin_26 : decode cX2_couldBegin 26 = .ok (.aload_n 1, 1) := dk_43 (dk_at dksX2_couldBegin_1 3 rfl rfl)
theorem dX2_couldBegin_27 : decode cX2_couldBegin 27 = .ok (.getfield 221, 3) := dk_180 0 221 (dk_at dksX2_couldBegin_1 4 rfl rfl)
theorem dX2_couldBegin_30 : decode cX2_couldBegin 30 = .ok (.iload 4, 2) := dk_21 4 (dk_at dksX2_couldBegin_1 7 rfl rfl)
theorem dX2_couldBegin_32 : decode cX2_couldBegin 32 = .ok (.invokeinterface 225 2, 5) := by decide +kernel
theorem dX2_couldBegin_37 : decode cX2_couldBegin 37 = .ok (.iadd, 1) := dk_96 (dk_at dksX2_couldBegin_1 14 rfl rfl)
theorem dX2_couldBegin_38 : decode cX2_couldBegin 38 = .ok (.istore 5, 2) := dk_54 5 (dk_at dksX2_couldBegin_1 15 rfl rfl)
theorem dX2_couldBegin_40 : decode cX2_couldBegin 40 = .ok (.aload_n 0, 1) := dk_42 (dk_at dksX2_couldBegin_1 17 rfl rfl)
theorem dX2_couldBegin_41 : decode cX2_couldBegin 41 = .ok (.aload_n 2, 1) := dk_44 (dk_at dksX2_couldBegin_1 18 rfl rfl)
theorem dX2_couldBegin_42 : decode cX2_couldBegin 42 = .ok (.invokevirtual 228, 3) := dk_182 0 228 (dk_at dksX2_couldBegin_1 19 rfl rfl)
theorem dX2_couldBegin_45 : decode cX2_couldBegin 45 = .ok (.invokevirtual 172, 3) := dk_182 0 172 (dk_at dksX2_couldBegin_2 0 rfl rfl)
theorem dX2_couldBegin_48 : decode cX2_couldBegin 48 = .ok (.aload_n 2, 1) := dk_44 (dk_at dksX2_couldBegin_2 3 rfl rfl)
theorem dX2_couldBegin_49 : decode cX2_couldBegin 49 = .ok (.invokevirtual 228, 3) := dk_182 0 228 (dk_at dksX2_couldBegin_2 4 rfl rfl)
theorem dX2_couldBegin_52 : decode cX2_couldBegin 52 = .ok (.aload_n 1, 1) := dk_43 (dk_at dksX2_couldBegin_2 7 rfl rfl)
theorem dX2_couldBegin_53 : decode cX2_couldBegin 53 = .ok (.getfield 221, 3) := dk_180 0 221 (dk_at dksX2_couldBegin_2 8 rfl rfl)
theorem dX2_couldBegin_56 : decode cX2_couldBegin 56 = .ok (.invokeinterface 167 1, 5) := by decide +kernel
theorem dX2_couldBegin_61 : decode cX2_couldBegin 61 = .ok (.if_icmp .ne 8, 3) := dk_160 0 8 (dk_at dksX2_couldBegin_2 16 rfl rfl)
theorem dX2_couldBegin_64 : decode cX2_couldBegin 64 = .ok (.iload 4, 2) := dk_21 4 (dk_at dksX2_couldBegin_2 19 rfl rfl)
theorem dX2_couldBegin_66 : decode cX2_couldBegin 66 = .ok (.goto 4, 3) := dk_167 0 4 (dk_at dksX2_couldBegin_2 21 rfl rfl)
theorem dX2_couldBegin_69 : decode cX2_couldBegin 69 = .ok (.iconst 0, 1) := dk_3 (dk_at dksX2_couldBegin_3 0 rfl rfl)
theorem dX2_couldBegin_70 : decode cX2_couldBegin 70 = .ok (.isub, 1) := dk_100 (dk_at dksX2_couldBegin_3 1 rfl rfl)
theorem dX2_couldBegin_71 : decode cX2_couldBegin 71 = .ok (.istore 6, 2) := dk_54 6 (dk_at dksX2_couldBegin_3 2 rfl rfl)
theorem dX2_couldBegin_73 : decode cX2_couldBegin 73 = .ok (.aload_n 0, 1) := dk_42 (dk_at dksX2_couldBegin_3 4 rfl rfl)
theorem dX2_couldBegin_74 : decode cX2_couldBegin 74 = .ok (.getfield 77, 3) := dk_180 0 77 (dk_at dksX2_couldBegin_3 5 rfl rfl)
theorem dX2_couldBegin_77 : decode cX2_couldBegin 77 = .ok (.aload_n 0, 1) := dk_42 (dk_at dksX2_couldBegin_3 8 rfl rfl)
theorem dX2_couldBegin_78 : decode cX2_couldBegin 78 = .ok (.getfield 80, 3) := dk_180 0 80 (dk_at dksX2_couldBegin_3 9 rfl rfl)
theorem dX2_couldBegin_81 : decode cX2_couldBegin 81 = .ok (.aload_n 2, 1) := dk_44 (dk_at dksX2_couldBegin_3 12 rfl rfl)
theorem dX2_couldBegin_82 : decode cX2_couldBegin 82 = .ok (.iload_n 3, 1) := dk_29 (dk_at dksX2_couldBegin_3 13 rfl rfl)
theorem dX2_couldBegin_83 : decode cX2_couldBegin 83 = .ok (.iconst 1, 1) := dk_4 (dk_at dksX2_couldBegin_3 14 rfl rfl)
theorem dX2_couldBegin_84 : decode cX2_couldBegin 84 = .ok (.aload_n 2, 1) := dk_44 (dk_at dksX2_couldBegin_3 15 rfl rfl)
theorem dX2_couldBegin_85 : decode cX2_couldBegin 85 = .ok (.getfield 207, 3) := dk_180 0 207 (dk_at dksX2_couldBegin_3 16 rfl rfl)
theorem dX2_couldBegin_88 : decode cX2_couldBegin 88 = .ok (.iload 5, 2) := dk_21 5 (dk_at dksX2_couldBegin_3 19 rfl rfl)
theorem dX2_couldBegin_90 : decode cX2_couldBegin 90 = .ok (.aload_n 1, 1) := dk_43 (dk_at dksX2_couldBegin_3 21 rfl rfl)
theorem dX2_couldBegin_91 : decode cX2_couldBegin 91 = .ok (.getfield 221, 3) := dk_180 0 221 (dk_at dksX2_couldBegin_4 0 rfl rfl)
theorem dX2_couldBegin_94 : decode cX2_couldBegin 94 = .ok (.invokeinterface 229 1, 5) := by decide +kernel
theorem dX2_couldBegin_99 : decode cX2_couldBegin 99 = .ok (.aload_n 1, 1) := dk_43 (dk_at dksX2_couldBegin_4 8 rfl rfl)
theorem dX2_couldBegin_100 : decode cX2_couldBegin 100 = .ok (.getfield 221, 3) := dk_180 0 221 (dk_at dksX2_couldBegin_4 9 rfl rfl)
theorem dX2_couldBegin_103 : decode cX2_couldBegin 103 = .ok (.invokeinterface 231 1, 5) := by decide +kernel
theorem dX2_couldBegin_108 : decode cX2_couldBegin 108 = .ok (.iload 6, 2) := dk_21 6 (dk_at dksX2_couldBegin_4 17 rfl rfl)
theorem dX2_couldBegin_110 : decode cX2_couldBegin 110 = .ok (.invokevirtual 176, 3) := dk_182 0 176 (dk_at dksX2_couldBegin_4 19 rfl rfl)
theorem dX2_couldBegin_113 : decode cX2_couldBegin 113 = .ok (.invokevirtual 189, 3) := dk_182 0 189 (dk_at dksX2_couldBegin_5 0 rfl rfl)
theorem dX2_couldBegin_116 : decode cX2_couldBegin 116 = .ok (.ireturn, 1) := dk_172 (dk_at dksX2_couldBegin_5 3 rfl rfl)
abbrev cX2_planAlert : ByteArray := prog_17_method_12_code
def yX2_planAlert : MethodName := ⟨RX2, "planAlert", "(I)LTelescopeQueue$Plan;"⟩
def dkwX2_planAlert_1 : List UInt8 := [46, 182, 0, 180, 176]
abbrev dktX2_planAlert_1 : List UInt8 := dkwX2_planAlert_1 ++ []
def dkwX2_planAlert_0 : List UInt8 := [42, 42, 180, 0, 70, 42, 180, 0, 26, 27, 185, 0, 95, 2, 0, 192, 0, 168, 27, 42, 180, 0, 55, 27]
abbrev dktX2_planAlert_0 : List UInt8 := dkwX2_planAlert_0 ++ dktX2_planAlert_1
theorem dksX2_planAlert_0 : cX2_planAlert.data.toList.drop 0 = dktX2_planAlert_0 := by decide +kernel
theorem dksX2_planAlert_1 : cX2_planAlert.data.toList.drop 24 = dktX2_planAlert_1 := dk_seg dksX2_planAlert_0 24 rfl rfl
theorem dX2_planAlert_0 : decode cX2_planAlert 0 = .ok (.aload_n 0, 1) := dk_42 (dk_at dksX2_planAlert_0 0 rfl rfl)
theorem dX2_planAlert_1 : decode cX2_planAlert 1 = .ok (.aload_n 0, 1) := dk_42 (dk_at dksX2_planAlert_0 1 rfl rfl)
theorem dX2_planAlert_2 : decode cX2_planAlert 2 = .ok (.getfield 70, 3) := dk_180 0 70 (dk_at dksX2_planAlert_0 2 rfl rfl)
theorem dX2_planAlert_5 : decode cX2_planAlert 5 = .ok (.aload_n 0, 1) := dk_42 (dk_at dksX2_planAlert_0 5 rfl rfl)
theorem dX2_planAlert_6 : decode cX2_planAlert 6 = .ok (.getfield 26, 3) := dk_180 0 26 (dk_at dksX2_planAlert_0 6 rfl rfl)
theorem dX2_planAlert_9 : decode cX2_planAlert 9 = .ok (.iload_n 1, 1) := dk_27 (dk_at dksX2_planAlert_0 9 rfl rfl)
theorem dX2_planAlert_10 : decode cX2_planAlert 10 = .ok (.invokeinterface 95 2, 5) := by decide +kernel
theorem dX2_planAlert_15 : decode cX2_planAlert 15 = .ok (.checkcast 168, 3) := dk_192 0 168 (dk_at dksX2_planAlert_0 15 rfl rfl)
theorem dX2_planAlert_18 : decode cX2_planAlert 18 = .ok (.iload_n 1, 1) := dk_27 (dk_at dksX2_planAlert_0 18 rfl rfl)
theorem dX2_planAlert_19 : decode cX2_planAlert 19 = .ok (.aload_n 0, 1) := dk_42 (dk_at dksX2_planAlert_0 19 rfl rfl)
theorem dX2_planAlert_20 : decode cX2_planAlert 20 = .ok (.getfield 55, 3) := dk_180 0 55 (dk_at dksX2_planAlert_0 20 rfl rfl)
theorem dX2_planAlert_23 : decode cX2_planAlert 23 = .ok (.iload_n 1, 1) := dk_27 (dk_at dksX2_planAlert_0 23 rfl rfl)
theorem dX2_planAlert_24 : decode cX2_planAlert 24 = .ok (.iaload, 1) := dk_46 (dk_at dksX2_planAlert_1 0 rfl rfl)
theorem dX2_planAlert_25 : decode cX2_planAlert 25 = .ok (.invokevirtual 180, 3) := dk_182 0 180 (dk_at dksX2_planAlert_1 1 rfl rfl)
theorem dX2_planAlert_28 : decode cX2_planAlert 28 = .ok (.areturn, 1) := dk_176 (dk_at dksX2_planAlert_1 4 rfl rfl)
abbrev cX2_planAt : ByteArray := prog_17_method_11_code
def yX2_planAt : MethodName := ⟨RX2, "planAt", "(II)LTelescopeQueue$Plan;"⟩
def dkwX2_planAt_2 : List UInt8 := [42, 180, 0, 133, 42, 180, 0, 136, 42, 45, 182, 0, 184, 182, 0, 172, 182, 0, 176, 176]
abbrev dktX2_planAt_2 : List UInt8 := dkwX2_planAt_2 ++ []
def dkwX2_planAt_1 : List UInt8 := [180, 0, 80, 45, 27, 42, 180, 0, 43, 27, 46, 154, 0, 7, 4, 167, 0, 4, 3, 28, 42, 180, 0, 139]
abbrev dktX2_planAt_1 : List UInt8 := dkwX2_planAt_1 ++ dktX2_planAt_2
def dkwX2_planAt_0 : List UInt8 := [42, 180, 0, 80, 180, 0, 104, 27, 185, 0, 95, 2, 0, 192, 0, 107, 78, 42, 180, 0, 70, 42]
abbrev dktX2_planAt_0 : List UInt8 := dkwX2_planAt_0 ++ dktX2_planAt_1
theorem dksX2_planAt_0 : cX2_planAt.data.toList.drop 0 = dktX2_planAt_0 := by decide +kernel
theorem dksX2_planAt_1 : cX2_planAt.data.toList.drop 22 = dktX2_planAt_1 := dk_seg dksX2_planAt_0 22 rfl rfl
theorem dksX2_planAt_2 : cX2_planAt.data.toList.drop 46 = dktX2_planAt_2 := dk_seg dksX2_planAt_1 24 rfl rfl
theorem dX2_planAt_0 : decode cX2_planAt 0 = .ok (.aload_n 0, 1) := dk_42 (dk_at dksX2_planAt_0 0 rfl rfl)
theorem dX2_planAt_1 : decode cX2_planAt 1 = .ok (.getfield 80, 3) := dk_180 0 80 (dk_at dksX2_planAt_0 1 rfl rfl)
theorem dX2_planAt_4 : decode cX2_planAt 4 = .ok (.getfield 104, 3) := dk_180 0 104 (dk_at dksX2_planAt_0 4 rfl rfl)
theorem dX2_planAt_7 : decode cX2_planAt 7 = .ok (.iload_n 1, 1) := dk_27 (dk_at dksX2_planAt_0 7 rfl rfl)
theorem dX2_planAt_8 : decode cX2_planAt 8 = .ok (.invokeinterface 95 2, 5) := by decide +kernel
theorem dX2_planAt_13 : decode cX2_planAt 13 = .ok (.checkcast 107, 3) := dk_192 0 107 (dk_at dksX2_planAt_0 13 rfl rfl)
theorem dX2_planAt_16 : decode cX2_planAt 16 = .ok (.astore_n 3, 1) := dk_78 (dk_at dksX2_planAt_0 16 rfl rfl)
theorem dX2_planAt_17 : decode cX2_planAt 17 = .ok (.aload_n 0, 1) := dk_42 (dk_at dksX2_planAt_0 17 rfl rfl)
theorem dX2_planAt_18 : decode cX2_planAt 18 = .ok (.getfield 70, 3) := dk_180 0 70 (dk_at dksX2_planAt_0 18 rfl rfl)
theorem dX2_planAt_21 : decode cX2_planAt 21 = .ok (.aload_n 0, 1) := dk_42 (dk_at dksX2_planAt_0 21 rfl rfl)
theorem dX2_planAt_22 : decode cX2_planAt 22 = .ok (.getfield 80, 3) := dk_180 0 80 (dk_at dksX2_planAt_1 0 rfl rfl)
theorem dX2_planAt_25 : decode cX2_planAt 25 = .ok (.aload_n 3, 1) := dk_45 (dk_at dksX2_planAt_1 3 rfl rfl)
theorem dX2_planAt_26 : decode cX2_planAt 26 = .ok (.iload_n 1, 1) := dk_27 (dk_at dksX2_planAt_1 4 rfl rfl)
theorem dX2_planAt_27 : decode cX2_planAt 27 = .ok (.aload_n 0, 1) := dk_42 (dk_at dksX2_planAt_1 5 rfl rfl)
theorem dX2_planAt_28 : decode cX2_planAt 28 = .ok (.getfield 43, 3) := dk_180 0 43 (dk_at dksX2_planAt_1 6 rfl rfl)
theorem dX2_planAt_31 : decode cX2_planAt 31 = .ok (.iload_n 1, 1) := dk_27 (dk_at dksX2_planAt_1 9 rfl rfl)
theorem dX2_planAt_32 : decode cX2_planAt 32 = .ok (.iaload, 1) := dk_46 (dk_at dksX2_planAt_1 10 rfl rfl)
theorem dX2_planAt_33 : decode cX2_planAt 33 = .ok (.ifCond .ne 7, 3) := dk_154 0 7 (dk_at dksX2_planAt_1 11 rfl rfl)
theorem dX2_planAt_36 : decode cX2_planAt 36 = .ok (.iconst 1, 1) := dk_4 (dk_at dksX2_planAt_1 14 rfl rfl)
theorem dX2_planAt_37 : decode cX2_planAt 37 = .ok (.goto 4, 3) := dk_167 0 4 (dk_at dksX2_planAt_1 15 rfl rfl)
theorem dX2_planAt_40 : decode cX2_planAt 40 = .ok (.iconst 0, 1) := dk_3 (dk_at dksX2_planAt_1 18 rfl rfl)
theorem dX2_planAt_41 : decode cX2_planAt 41 = .ok (.iload_n 2, 1) := dk_28 (dk_at dksX2_planAt_1 19 rfl rfl)
theorem dX2_planAt_42 : decode cX2_planAt 42 = .ok (.aload_n 0, 1) := dk_42 (dk_at dksX2_planAt_1 20 rfl rfl)
theorem dX2_planAt_43 : decode cX2_planAt 43 = .ok (.getfield 139, 3) := dk_180 0 139 (dk_at dksX2_planAt_1 21 rfl rfl)
theorem dX2_planAt_46 : decode cX2_planAt 46 = .ok (.aload_n 0, 1) := dk_42 (dk_at dksX2_planAt_2 0 rfl rfl)
theorem dX2_planAt_47 : decode cX2_planAt 47 = .ok (.getfield 133, 3) := dk_180 0 133 (dk_at dksX2_planAt_2 1 rfl rfl)
theorem dX2_planAt_50 : decode cX2_planAt 50 = .ok (.aload_n 0, 1) := dk_42 (dk_at dksX2_planAt_2 4 rfl rfl)
theorem dX2_planAt_51 : decode cX2_planAt 51 = .ok (.getfield 136, 3) := dk_180 0 136 (dk_at dksX2_planAt_2 5 rfl rfl)
theorem dX2_planAt_54 : decode cX2_planAt 54 = .ok (.aload_n 0, 1) := dk_42 (dk_at dksX2_planAt_2 8 rfl rfl)
theorem dX2_planAt_55 : decode cX2_planAt 55 = .ok (.aload_n 3, 1) := dk_45 (dk_at dksX2_planAt_2 9 rfl rfl)
theorem dX2_planAt_56 : decode cX2_planAt 56 = .ok (.invokevirtual 184, 3) := dk_182 0 184 (dk_at dksX2_planAt_2 10 rfl rfl)
theorem dX2_planAt_59 : decode cX2_planAt 59 = .ok (.invokevirtual 172, 3) := dk_182 0 172 (dk_at dksX2_planAt_2 13 rfl rfl)
theorem dX2_planAt_62 : decode cX2_planAt 62 = .ok (.invokevirtual 176, 3) := dk_182 0 176 (dk_at dksX2_planAt_2 16 rfl rfl)
theorem dX2_planAt_65 : decode cX2_planAt 65 = .ok (.areturn, 1) := dk_176 (dk_at dksX2_planAt_2 19 rfl rfl)
abbrev cX2_share : ByteArray := prog_17_method_33_code
def yX2_share : MethodName := ⟨RX2, "share", "(I)F"⟩
def dkwX2_share_1 : List UInt8 := [27, 46, 134, 110, 174]
abbrev dktX2_share_1 : List UInt8 := dkwX2_share_1 ++ []
def dkwX2_share_0 : List UInt8 := [42, 180, 0, 30, 27, 46, 154, 0, 7, 11, 167, 0, 18, 42, 180, 0, 34, 27, 46, 134, 42, 180, 0, 30]
abbrev dktX2_share_0 : List UInt8 := dkwX2_share_0 ++ dktX2_share_1
theorem dksX2_share_0 : cX2_share.data.toList.drop 0 = dktX2_share_0 := by decide +kernel
theorem dksX2_share_1 : cX2_share.data.toList.drop 24 = dktX2_share_1 := dk_seg dksX2_share_0 24 rfl rfl
theorem dX2_share_0 : decode cX2_share 0 = .ok (.aload_n 0, 1) := dk_42 (dk_at dksX2_share_0 0 rfl rfl)
theorem dX2_share_1 : decode cX2_share 1 = .ok (.getfield 30, 3) := dk_180 0 30 (dk_at dksX2_share_0 1 rfl rfl)
theorem dX2_share_4 : decode cX2_share 4 = .ok (.iload_n 1, 1) := dk_27 (dk_at dksX2_share_0 4 rfl rfl)
theorem dX2_share_5 : decode cX2_share 5 = .ok (.iaload, 1) := dk_46 (dk_at dksX2_share_0 5 rfl rfl)
theorem dX2_share_6 : decode cX2_share 6 = .ok (.ifCond .ne 7, 3) := dk_154 0 7 (dk_at dksX2_share_0 6 rfl rfl)
theorem dX2_share_9 : decode cX2_share 9 = .ok (.fconst 0, 1) := dk_11 (dk_at dksX2_share_0 9 rfl rfl)
theorem dX2_share_10 : decode cX2_share 10 = .ok (.goto 18, 3) := dk_167 0 18 (dk_at dksX2_share_0 10 rfl rfl)
theorem dX2_share_13 : decode cX2_share 13 = .ok (.aload_n 0, 1) := dk_42 (dk_at dksX2_share_0 13 rfl rfl)
theorem dX2_share_14 : decode cX2_share 14 = .ok (.getfield 34, 3) := dk_180 0 34 (dk_at dksX2_share_0 14 rfl rfl)
theorem dX2_share_17 : decode cX2_share 17 = .ok (.iload_n 1, 1) := dk_27 (dk_at dksX2_share_0 17 rfl rfl)
theorem dX2_share_18 : decode cX2_share 18 = .ok (.iaload, 1) := dk_46 (dk_at dksX2_share_0 18 rfl rfl)
theorem dX2_share_19 : decode cX2_share 19 = .ok (.i2f, 1) := dk_134 (dk_at dksX2_share_0 19 rfl rfl)
theorem dX2_share_20 : decode cX2_share 20 = .ok (.aload_n 0, 1) := dk_42 (dk_at dksX2_share_0 20 rfl rfl)
theorem dX2_share_21 : decode cX2_share 21 = .ok (.getfield 30, 3) := dk_180 0 30 (dk_at dksX2_share_0 21 rfl rfl)
theorem dX2_share_24 : decode cX2_share 24 = .ok (.iload_n 1, 1) := dk_27 (dk_at dksX2_share_1 0 rfl rfl)
theorem dX2_share_25 : decode cX2_share 25 = .ok (.iaload, 1) := dk_46 (dk_at dksX2_share_1 1 rfl rfl)
theorem dX2_share_26 : decode cX2_share 26 = .ok (.i2f, 1) := dk_134 (dk_at dksX2_share_1 2 rfl rfl)
theorem dX2_share_27 : decode cX2_share 27 = .ok (.fdiv, 1) := dk_110 (dk_at dksX2_share_1 3 rfl rfl)
theorem dX2_share_28 : decode cX2_share 28 = .ok (.freturn, 1) := dk_174 (dk_at dksX2_share_1 4 rfl rfl)
abbrev cX2_become : ByteArray := prog_17_method_4_code
def yX2_become : MethodName := ⟨RX2, "become", "(LTelescopeQueue$State;)LTelescopeQueue$State;"⟩
def dkwX2_become_11 : List UInt8 := [181, 0, 145, 42, 43, 180, 0, 148, 181, 0, 148, 42, 43, 180, 0, 151, 181, 0, 151, 42, 176]
abbrev dktX2_become_11 : List UInt8 := dkwX2_become_11 ++ []
def dkwX2_become_10 : List UInt8 := [181, 0, 136, 42, 43, 180, 0, 139, 181, 0, 139, 42, 43, 180, 0, 142, 181, 0, 142, 42, 43, 180, 0, 145]
abbrev dktX2_become_10 : List UInt8 := dkwX2_become_10 ++ dktX2_become_11
def dkwX2_become_9 : List UInt8 := [184, 0, 126, 42, 43, 180, 0, 130, 181, 0, 130, 42, 43, 180, 0, 133, 181, 0, 133, 42, 43, 180, 0, 136]
abbrev dktX2_become_9 : List UInt8 := dkwX2_become_9 ++ dktX2_become_10
def dkwX2_become_8 : List UInt8 := [184, 0, 126, 43, 180, 0, 61, 42, 180, 0, 61, 184, 0, 126, 43, 180, 0, 64, 42, 180, 0, 64]
abbrev dktX2_become_8 : List UInt8 := dkwX2_become_8 ++ dktX2_become_9
def dkwX2_become_7 : List UInt8 := [184, 0, 126, 43, 180, 0, 55, 42, 180, 0, 55, 184, 0, 126, 43, 180, 0, 58, 42, 180, 0, 58]
abbrev dktX2_become_7 : List UInt8 := dkwX2_become_7 ++ dktX2_become_8
def dkwX2_become_6 : List UInt8 := [184, 0, 126, 43, 180, 0, 49, 42, 180, 0, 49, 184, 0, 126, 43, 180, 0, 52, 42, 180, 0, 52]
abbrev dktX2_become_6 : List UInt8 := dkwX2_become_6 ++ dktX2_become_7
def dkwX2_become_5 : List UInt8 := [184, 0, 126, 43, 180, 0, 43, 42, 180, 0, 43, 184, 0, 126, 43, 180, 0, 46, 42, 180, 0, 46]
abbrev dktX2_become_5 : List UInt8 := dkwX2_become_5 ++ dktX2_become_6
def dkwX2_become_4 : List UInt8 := [184, 0, 126, 43, 180, 0, 37, 42, 180, 0, 37, 184, 0, 126, 43, 180, 0, 40, 42, 180, 0, 40]
abbrev dktX2_become_4 : List UInt8 := dkwX2_become_4 ++ dktX2_become_5
def dkwX2_become_3 : List UInt8 := [167, 255, 217, 43, 180, 0, 30, 42, 180, 0, 30, 184, 0, 126, 43, 180, 0, 34, 42, 180, 0, 34]
abbrev dktX2_become_3 : List UInt8 := dkwX2_become_3 ++ dktX2_become_4
def dkwX2_become_2 : List UInt8 := [43, 180, 0, 26, 28, 185, 0, 95, 2, 0, 192, 0, 120, 185, 0, 122, 2, 0, 87, 132, 2, 1]
abbrev dktX2_become_2 : List UInt8 := dkwX2_become_2 ++ dktX2_become_3
def dkwX2_become_1 : List UInt8 := [185, 0, 117, 1, 0, 3, 61, 28, 43, 180, 0, 26, 185, 0, 89, 1, 0, 162, 0, 32, 42, 180, 0, 26]
abbrev dktX2_become_1 : List UInt8 := dkwX2_become_1 ++ dktX2_become_2
def dkwX2_become_0 : List UInt8 := [42, 43, 180, 0, 80, 181, 0, 80, 42, 43, 180, 0, 15, 181, 0, 15, 42, 180, 0, 26]
abbrev dktX2_become_0 : List UInt8 := dkwX2_become_0 ++ dktX2_become_1
theorem dksX2_become_0 : cX2_become.data.toList.drop 0 = dktX2_become_0 := by decide +kernel
theorem dksX2_become_1 : cX2_become.data.toList.drop 20 = dktX2_become_1 := dk_seg dksX2_become_0 20 rfl rfl
theorem dksX2_become_2 : cX2_become.data.toList.drop 44 = dktX2_become_2 := dk_seg dksX2_become_1 24 rfl rfl
theorem dksX2_become_3 : cX2_become.data.toList.drop 66 = dktX2_become_3 := dk_seg dksX2_become_2 22 rfl rfl
theorem dksX2_become_4 : cX2_become.data.toList.drop 88 = dktX2_become_4 := dk_seg dksX2_become_3 22 rfl rfl
theorem dksX2_become_5 : cX2_become.data.toList.drop 110 = dktX2_become_5 := dk_seg dksX2_become_4 22 rfl rfl
theorem dksX2_become_6 : cX2_become.data.toList.drop 132 = dktX2_become_6 := dk_seg dksX2_become_5 22 rfl rfl
theorem dksX2_become_7 : cX2_become.data.toList.drop 154 = dktX2_become_7 := dk_seg dksX2_become_6 22 rfl rfl
theorem dksX2_become_8 : cX2_become.data.toList.drop 176 = dktX2_become_8 := dk_seg dksX2_become_7 22 rfl rfl
theorem dksX2_become_9 : cX2_become.data.toList.drop 198 = dktX2_become_9 := dk_seg dksX2_become_8 22 rfl rfl
theorem dksX2_become_10 : cX2_become.data.toList.drop 222 = dktX2_become_10 := dk_seg dksX2_become_9 24 rfl rfl
theorem dksX2_become_11 : cX2_become.data.toList.drop 246 = dktX2_become_11 := dk_seg dksX2_become_10 24 rfl rfl
theorem dX2_become_0 : decode cX2_become 0 = .ok (.aload_n 0, 1) := dk_42 (dk_at dksX2_become_0 0 rfl rfl)
theorem dX2_become_1 : decode cX2_become 1 = .ok (.aload_n 1, 1) := dk_43 (dk_at dksX2_become_0 1 rfl rfl)
theorem dX2_become_2 : decode cX2_become 2 = .ok (.getfield 80, 3) := dk_180 0 80 (dk_at dksX2_become_0 2 rfl rfl)
theorem dX2_become_5 : decode cX2_become 5 = .ok (.putfield 80, 3) := dk_181 0 80 (dk_at dksX2_become_0 5 rfl rfl)
theorem dX2_become_8 : decode cX2_become 8 = .ok (.aload_n 0, 1) := dk_42 (dk_at dksX2_become_0 8 rfl rfl)
theorem dX2_become_9 : decode cX2_become 9 = .ok (.aload_n 1, 1) := dk_43 (dk_at dksX2_become_0 9 rfl rfl)
theorem dX2_become_10 : decode cX2_become 10 = .ok (.getfield 15, 3) := dk_180 0 15 (dk_at dksX2_become_0 10 rfl rfl)
theorem dX2_become_13 : decode cX2_become 13 = .ok (.putfield 15, 3) := dk_181 0 15 (dk_at dksX2_become_0 13 rfl rfl)
theorem dX2_become_16 : decode cX2_become 16 = .ok (.aload_n 0, 1) := dk_42 (dk_at dksX2_become_0 16 rfl rfl)
theorem dX2_become_17 : decode cX2_become 17 = .ok (.getfield 26, 3) := dk_180 0 26 (dk_at dksX2_become_0 17 rfl rfl)
theorem dX2_become_20 : decode cX2_become 20 = .ok (.invokeinterface 117 1, 5) := by decide +kernel
theorem dX2_become_25 : decode cX2_become 25 = .ok (.iconst 0, 1) := dk_3 (dk_at dksX2_become_1 5 rfl rfl)
theorem dX2_become_26 : decode cX2_become 26 = .ok (.istore_n 2, 1) := dk_61 (dk_at dksX2_become_1 6 rfl rfl)
theorem dX2_become_27 : decode cX2_become 27 = .ok (.iload_n 2, 1) := dk_28 (dk_at dksX2_become_1 7 rfl rfl)
theorem dX2_become_28 : decode cX2_become 28 = .ok (.aload_n 1, 1) := dk_43 (dk_at dksX2_become_1 8 rfl rfl)
theorem dX2_become_29 : decode cX2_become 29 = .ok (.getfield 26, 3) := dk_180 0 26 (dk_at dksX2_become_1 9 rfl rfl)
theorem dX2_become_32 : decode cX2_become 32 = .ok (.invokeinterface 89 1, 5) := by decide +kernel
theorem dX2_become_37 : decode cX2_become 37 = .ok (.if_icmp .ge 32, 3) := dk_162 0 32 (dk_at dksX2_become_1 17 rfl rfl)
theorem dX2_become_40 : decode cX2_become 40 = .ok (.aload_n 0, 1) := dk_42 (dk_at dksX2_become_1 20 rfl rfl)
theorem dX2_become_41 : decode cX2_become 41 = .ok (.getfield 26, 3) := dk_180 0 26 (dk_at dksX2_become_1 21 rfl rfl)
theorem dX2_become_44 : decode cX2_become 44 = .ok (.aload_n 1, 1) := dk_43 (dk_at dksX2_become_2 0 rfl rfl)
theorem dX2_become_45 : decode cX2_become 45 = .ok (.getfield 26, 3) := dk_180 0 26 (dk_at dksX2_become_2 1 rfl rfl)
theorem dX2_become_48 : decode cX2_become 48 = .ok (.iload_n 2, 1) := dk_28 (dk_at dksX2_become_2 4 rfl rfl)
theorem dX2_become_49 : decode cX2_become 49 = .ok (.invokeinterface 95 2, 5) := by decide +kernel
theorem dX2_become_54 : decode cX2_become 54 = .ok (.checkcast 120, 3) := dk_192 0 120 (dk_at dksX2_become_2 10 rfl rfl)
theorem dX2_become_57 : decode cX2_become 57 = .ok (.invokeinterface 122 2, 5) := by decide +kernel
theorem dX2_become_62 : decode cX2_become 62 = .ok (.pop, 1) := dk_87 (dk_at dksX2_become_2 18 rfl rfl)
theorem dX2_become_63 : decode cX2_become 63 = .ok (.iinc 2 1, 3) := dk_132 2 1 (dk_at dksX2_become_2 19 rfl rfl)
theorem dX2_become_66 : decode cX2_become 66 = .ok (.goto (-39), 3) := dk_167 255 217 (dk_at dksX2_become_3 0 rfl rfl)
theorem dX2_become_69 : decode cX2_become 69 = .ok (.aload_n 1, 1) := dk_43 (dk_at dksX2_become_3 3 rfl rfl)
theorem dX2_become_70 : decode cX2_become 70 = .ok (.getfield 30, 3) := dk_180 0 30 (dk_at dksX2_become_3 4 rfl rfl)
theorem dX2_become_73 : decode cX2_become 73 = .ok (.aload_n 0, 1) := dk_42 (dk_at dksX2_become_3 7 rfl rfl)
theorem dX2_become_74 : decode cX2_become 74 = .ok (.getfield 30, 3) := dk_180 0 30 (dk_at dksX2_become_3 8 rfl rfl)
theorem dX2_become_77 : decode cX2_become 77 = .ok (.invokestatic 126, 3) := dk_184 0 126 (dk_at dksX2_become_3 11 rfl rfl)
theorem dX2_become_80 : decode cX2_become 80 = .ok (.aload_n 1, 1) := dk_43 (dk_at dksX2_become_3 14 rfl rfl)
theorem dX2_become_81 : decode cX2_become 81 = .ok (.getfield 34, 3) := dk_180 0 34 (dk_at dksX2_become_3 15 rfl rfl)
theorem dX2_become_84 : decode cX2_become 84 = .ok (.aload_n 0, 1) := dk_42 (dk_at dksX2_become_3 18 rfl rfl)
theorem dX2_become_85 : decode cX2_become 85 = .ok (.getfield 34, 3) := dk_180 0 34 (dk_at dksX2_become_3 19 rfl rfl)
theorem dX2_become_88 : decode cX2_become 88 = .ok (.invokestatic 126, 3) := dk_184 0 126 (dk_at dksX2_become_4 0 rfl rfl)
theorem dX2_become_91 : decode cX2_become 91 = .ok (.aload_n 1, 1) := dk_43 (dk_at dksX2_become_4 3 rfl rfl)
theorem dX2_become_92 : decode cX2_become 92 = .ok (.getfield 37, 3) := dk_180 0 37 (dk_at dksX2_become_4 4 rfl rfl)
theorem dX2_become_95 : decode cX2_become 95 = .ok (.aload_n 0, 1) := dk_42 (dk_at dksX2_become_4 7 rfl rfl)
theorem dX2_become_96 : decode cX2_become 96 = .ok (.getfield 37, 3) := dk_180 0 37 (dk_at dksX2_become_4 8 rfl rfl)
theorem dX2_become_99 : decode cX2_become 99 = .ok (.invokestatic 126, 3) := dk_184 0 126 (dk_at dksX2_become_4 11 rfl rfl)
theorem dX2_become_102 : decode cX2_become 102 = .ok (.aload_n 1, 1) := dk_43 (dk_at dksX2_become_4 14 rfl rfl)
theorem dX2_become_103 : decode cX2_become 103 = .ok (.getfield 40, 3) := dk_180 0 40 (dk_at dksX2_become_4 15 rfl rfl)
theorem dX2_become_106 : decode cX2_become 106 = .ok (.aload_n 0, 1) := dk_42 (dk_at dksX2_become_4 18 rfl rfl)
theorem dX2_become_107 : decode cX2_become 107 = .ok (.getfield 40, 3) := dk_180 0 40 (dk_at dksX2_become_4 19 rfl rfl)
theorem dX2_become_110 : decode cX2_become 110 = .ok (.invokestatic 126, 3) := dk_184 0 126 (dk_at dksX2_become_5 0 rfl rfl)
theorem dX2_become_113 : decode cX2_become 113 = .ok (.aload_n 1, 1) := dk_43 (dk_at dksX2_become_5 3 rfl rfl)
theorem dX2_become_114 : decode cX2_become 114 = .ok (.getfield 43, 3) := dk_180 0 43 (dk_at dksX2_become_5 4 rfl rfl)
theorem dX2_become_117 : decode cX2_become 117 = .ok (.aload_n 0, 1) := dk_42 (dk_at dksX2_become_5 7 rfl rfl)
theorem dX2_become_118 : decode cX2_become 118 = .ok (.getfield 43, 3) := dk_180 0 43 (dk_at dksX2_become_5 8 rfl rfl)
theorem dX2_become_121 : decode cX2_become 121 = .ok (.invokestatic 126, 3) := dk_184 0 126 (dk_at dksX2_become_5 11 rfl rfl)
theorem dX2_become_124 : decode cX2_become 124 = .ok (.aload_n 1, 1) := dk_43 (dk_at dksX2_become_5 14 rfl rfl)
theorem dX2_become_125 : decode cX2_become 125 = .ok (.getfield 46, 3) := dk_180 0 46 (dk_at dksX2_become_5 15 rfl rfl)
theorem dX2_become_128 : decode cX2_become 128 = .ok (.aload_n 0, 1) := dk_42 (dk_at dksX2_become_5 18 rfl rfl)
theorem dX2_become_129 : decode cX2_become 129 = .ok (.getfield 46, 3) := dk_180 0 46 (dk_at dksX2_become_5 19 rfl rfl)
theorem dX2_become_132 : decode cX2_become 132 = .ok (.invokestatic 126, 3) := dk_184 0 126 (dk_at dksX2_become_6 0 rfl rfl)
theorem dX2_become_135 : decode cX2_become 135 = .ok (.aload_n 1, 1) := dk_43 (dk_at dksX2_become_6 3 rfl rfl)
theorem dX2_become_136 : decode cX2_become 136 = .ok (.getfield 49, 3) := dk_180 0 49 (dk_at dksX2_become_6 4 rfl rfl)
theorem dX2_become_139 : decode cX2_become 139 = .ok (.aload_n 0, 1) := dk_42 (dk_at dksX2_become_6 7 rfl rfl)
theorem dX2_become_140 : decode cX2_become 140 = .ok (.getfield 49, 3) := dk_180 0 49 (dk_at dksX2_become_6 8 rfl rfl)
theorem dX2_become_143 : decode cX2_become 143 = .ok (.invokestatic 126, 3) := dk_184 0 126 (dk_at dksX2_become_6 11 rfl rfl)
theorem dX2_become_146 : decode cX2_become 146 = .ok (.aload_n 1, 1) := dk_43 (dk_at dksX2_become_6 14 rfl rfl)
theorem dX2_become_147 : decode cX2_become 147 = .ok (.getfield 52, 3) := dk_180 0 52 (dk_at dksX2_become_6 15 rfl rfl)
theorem dX2_become_150 : decode cX2_become 150 = .ok (.aload_n 0, 1) := dk_42 (dk_at dksX2_become_6 18 rfl rfl)
theorem dX2_become_151 : decode cX2_become 151 = .ok (.getfield 52, 3) := dk_180 0 52 (dk_at dksX2_become_6 19 rfl rfl)
theorem dX2_become_154 : decode cX2_become 154 = .ok (.invokestatic 126, 3) := dk_184 0 126 (dk_at dksX2_become_7 0 rfl rfl)
theorem dX2_become_157 : decode cX2_become 157 = .ok (.aload_n 1, 1) := dk_43 (dk_at dksX2_become_7 3 rfl rfl)
theorem dX2_become_158 : decode cX2_become 158 = .ok (.getfield 55, 3) := dk_180 0 55 (dk_at dksX2_become_7 4 rfl rfl)
theorem dX2_become_161 : decode cX2_become 161 = .ok (.aload_n 0, 1) := dk_42 (dk_at dksX2_become_7 7 rfl rfl)
theorem dX2_become_162 : decode cX2_become 162 = .ok (.getfield 55, 3) := dk_180 0 55 (dk_at dksX2_become_7 8 rfl rfl)
theorem dX2_become_165 : decode cX2_become 165 = .ok (.invokestatic 126, 3) := dk_184 0 126 (dk_at dksX2_become_7 11 rfl rfl)
theorem dX2_become_168 : decode cX2_become 168 = .ok (.aload_n 1, 1) := dk_43 (dk_at dksX2_become_7 14 rfl rfl)
theorem dX2_become_169 : decode cX2_become 169 = .ok (.getfield 58, 3) := dk_180 0 58 (dk_at dksX2_become_7 15 rfl rfl)
theorem dX2_become_172 : decode cX2_become 172 = .ok (.aload_n 0, 1) := dk_42 (dk_at dksX2_become_7 18 rfl rfl)
theorem dX2_become_173 : decode cX2_become 173 = .ok (.getfield 58, 3) := dk_180 0 58 (dk_at dksX2_become_7 19 rfl rfl)
theorem dX2_become_176 : decode cX2_become 176 = .ok (.invokestatic 126, 3) := dk_184 0 126 (dk_at dksX2_become_8 0 rfl rfl)
theorem dX2_become_179 : decode cX2_become 179 = .ok (.aload_n 1, 1) := dk_43 (dk_at dksX2_become_8 3 rfl rfl)
theorem dX2_become_180 : decode cX2_become 180 = .ok (.getfield 61, 3) := dk_180 0 61 (dk_at dksX2_become_8 4 rfl rfl)
theorem dX2_become_183 : decode cX2_become 183 = .ok (.aload_n 0, 1) := dk_42 (dk_at dksX2_become_8 7 rfl rfl)
theorem dX2_become_184 : decode cX2_become 184 = .ok (.getfield 61, 3) := dk_180 0 61 (dk_at dksX2_become_8 8 rfl rfl)
theorem dX2_become_187 : decode cX2_become 187 = .ok (.invokestatic 126, 3) := dk_184 0 126 (dk_at dksX2_become_8 11 rfl rfl)
theorem dX2_become_190 : decode cX2_become 190 = .ok (.aload_n 1, 1) := dk_43 (dk_at dksX2_become_8 14 rfl rfl)
theorem dX2_become_191 : decode cX2_become 191 = .ok (.getfield 64, 3) := dk_180 0 64 (dk_at dksX2_become_8 15 rfl rfl)
theorem dX2_become_194 : decode cX2_become 194 = .ok (.aload_n 0, 1) := dk_42 (dk_at dksX2_become_8 18 rfl rfl)
theorem dX2_become_195 : decode cX2_become 195 = .ok (.getfield 64, 3) := dk_180 0 64 (dk_at dksX2_become_8 19 rfl rfl)
theorem dX2_become_198 : decode cX2_become 198 = .ok (.invokestatic 126, 3) := dk_184 0 126 (dk_at dksX2_become_9 0 rfl rfl)
theorem dX2_become_201 : decode cX2_become 201 = .ok (.aload_n 0, 1) := dk_42 (dk_at dksX2_become_9 3 rfl rfl)
theorem dX2_become_202 : decode cX2_become 202 = .ok (.aload_n 1, 1) := dk_43 (dk_at dksX2_become_9 4 rfl rfl)
theorem dX2_become_203 : decode cX2_become 203 = .ok (.getfield 130, 3) := dk_180 0 130 (dk_at dksX2_become_9 5 rfl rfl)
theorem dX2_become_206 : decode cX2_become 206 = .ok (.putfield 130, 3) := dk_181 0 130 (dk_at dksX2_become_9 8 rfl rfl)
theorem dX2_become_209 : decode cX2_become 209 = .ok (.aload_n 0, 1) := dk_42 (dk_at dksX2_become_9 11 rfl rfl)
theorem dX2_become_210 : decode cX2_become 210 = .ok (.aload_n 1, 1) := dk_43 (dk_at dksX2_become_9 12 rfl rfl)
theorem dX2_become_211 : decode cX2_become 211 = .ok (.getfield 133, 3) := dk_180 0 133 (dk_at dksX2_become_9 13 rfl rfl)
theorem dX2_become_214 : decode cX2_become 214 = .ok (.putfield 133, 3) := dk_181 0 133 (dk_at dksX2_become_9 16 rfl rfl)
theorem dX2_become_217 : decode cX2_become 217 = .ok (.aload_n 0, 1) := dk_42 (dk_at dksX2_become_9 19 rfl rfl)
theorem dX2_become_218 : decode cX2_become 218 = .ok (.aload_n 1, 1) := dk_43 (dk_at dksX2_become_9 20 rfl rfl)
theorem dX2_become_219 : decode cX2_become 219 = .ok (.getfield 136, 3) := dk_180 0 136 (dk_at dksX2_become_9 21 rfl rfl)
theorem dX2_become_222 : decode cX2_become 222 = .ok (.putfield 136, 3) := dk_181 0 136 (dk_at dksX2_become_10 0 rfl rfl)
theorem dX2_become_225 : decode cX2_become 225 = .ok (.aload_n 0, 1) := dk_42 (dk_at dksX2_become_10 3 rfl rfl)
theorem dX2_become_226 : decode cX2_become 226 = .ok (.aload_n 1, 1) := dk_43 (dk_at dksX2_become_10 4 rfl rfl)
theorem dX2_become_227 : decode cX2_become 227 = .ok (.getfield 139, 3) := dk_180 0 139 (dk_at dksX2_become_10 5 rfl rfl)
theorem dX2_become_230 : decode cX2_become 230 = .ok (.putfield 139, 3) := dk_181 0 139 (dk_at dksX2_become_10 8 rfl rfl)
theorem dX2_become_233 : decode cX2_become 233 = .ok (.aload_n 0, 1) := dk_42 (dk_at dksX2_become_10 11 rfl rfl)
theorem dX2_become_234 : decode cX2_become 234 = .ok (.aload_n 1, 1) := dk_43 (dk_at dksX2_become_10 12 rfl rfl)
theorem dX2_become_235 : decode cX2_become 235 = .ok (.getfield 142, 3) := dk_180 0 142 (dk_at dksX2_become_10 13 rfl rfl)
theorem dX2_become_238 : decode cX2_become 238 = .ok (.putfield 142, 3) := dk_181 0 142 (dk_at dksX2_become_10 16 rfl rfl)
theorem dX2_become_241 : decode cX2_become 241 = .ok (.aload_n 0, 1) := dk_42 (dk_at dksX2_become_10 19 rfl rfl)
theorem dX2_become_242 : decode cX2_become 242 = .ok (.aload_n 1, 1) := dk_43 (dk_at dksX2_become_10 20 rfl rfl)
theorem dX2_become_243 : decode cX2_become 243 = .ok (.getfield 145, 3) := dk_180 0 145 (dk_at dksX2_become_10 21 rfl rfl)
theorem dX2_become_246 : decode cX2_become 246 = .ok (.putfield 145, 3) := dk_181 0 145 (dk_at dksX2_become_11 0 rfl rfl)
theorem dX2_become_249 : decode cX2_become 249 = .ok (.aload_n 0, 1) := dk_42 (dk_at dksX2_become_11 3 rfl rfl)
theorem dX2_become_250 : decode cX2_become 250 = .ok (.aload_n 1, 1) := dk_43 (dk_at dksX2_become_11 4 rfl rfl)
theorem dX2_become_251 : decode cX2_become 251 = .ok (.getfield 148, 3) := dk_180 0 148 (dk_at dksX2_become_11 5 rfl rfl)
theorem dX2_become_254 : decode cX2_become 254 = .ok (.putfield 148, 3) := dk_181 0 148 (dk_at dksX2_become_11 8 rfl rfl)
theorem dX2_become_257 : decode cX2_become 257 = .ok (.aload_n 0, 1) := dk_42 (dk_at dksX2_become_11 11 rfl rfl)
theorem dX2_become_258 : decode cX2_become 258 = .ok (.aload_n 1, 1) := dk_43 (dk_at dksX2_become_11 12 rfl rfl)
theorem dX2_become_259 : decode cX2_become 259 = .ok (.getfield 151, 3) := dk_180 0 151 (dk_at dksX2_become_11 13 rfl rfl)
theorem dX2_become_262 : decode cX2_become 262 = .ok (.putfield 151, 3) := dk_181 0 151 (dk_at dksX2_become_11 16 rfl rfl)
theorem dX2_become_265 : decode cX2_become 265 = .ok (.aload_n 0, 1) := dk_42 (dk_at dksX2_become_11 19 rfl rfl)
theorem dX2_become_266 : decode cX2_become 266 = .ok (.areturn, 1) := dk_176 (dk_at dksX2_become_11 20 rfl rfl)
abbrev cX2_copy : ByteArray := prog_17_method_3_code
def yX2_copy : MethodName := ⟨RX2, "copy", "([I[I)V"⟩
def dkwX2_copy_0 : List UInt8 := [42, 3, 43, 3, 42, 190, 184, 0, 111, 177]
abbrev dktX2_copy_0 : List UInt8 := dkwX2_copy_0 ++ []
theorem dksX2_copy_0 : cX2_copy.data.toList.drop 0 = dktX2_copy_0 := by decide +kernel
theorem dX2_copy_0 : decode cX2_copy 0 = .ok (.aload_n 0, 1) := dk_42 (dk_at dksX2_copy_0 0 rfl rfl)
theorem dX2_copy_1 : decode cX2_copy 1 = .ok (.iconst 0, 1) := dk_3 (dk_at dksX2_copy_0 1 rfl rfl)
theorem dX2_copy_2 : decode cX2_copy 2 = .ok (.aload_n 1, 1) := dk_43 (dk_at dksX2_copy_0 2 rfl rfl)
theorem dX2_copy_3 : decode cX2_copy 3 = .ok (.iconst 0, 1) := dk_3 (dk_at dksX2_copy_0 3 rfl rfl)
theorem dX2_copy_4 : decode cX2_copy 4 = .ok (.aload_n 0, 1) := dk_42 (dk_at dksX2_copy_0 4 rfl rfl)
theorem dX2_copy_5 : decode cX2_copy 5 = .ok (.arraylength, 1) := dk_190 (dk_at dksX2_copy_0 5 rfl rfl)
theorem dX2_copy_6 : decode cX2_copy 6 = .ok (.invokestatic 111, 3) := dk_184 0 111 (dk_at dksX2_copy_0 6 rfl rfl)
theorem dX2_copy_9 : decode cX2_copy 9 = .ok (.return_, 1) := dk_177 (dk_at dksX2_copy_0 9 rfl rfl)
abbrev cX2_steps : ByteArray := prog_17_method_30_code
def yX2_steps : MethodName := ⟨RX2, "steps", "(I)I"⟩
def dkwX2_steps_1 : List UInt8 := [182, 1, 36, 132, 2, 1, 167, 255, 230, 28, 172]
abbrev dktX2_steps_1 : List UInt8 := dkwX2_steps_1 ++ []
def dkwX2_steps_0 : List UInt8 := [3, 61, 28, 27, 162, 0, 27, 42, 180, 0, 130, 42, 180, 0, 80, 180, 0, 236, 162, 0, 13, 42]
abbrev dktX2_steps_0 : List UInt8 := dkwX2_steps_0 ++ dktX2_steps_1
theorem dksX2_steps_0 : cX2_steps.data.toList.drop 0 = dktX2_steps_0 := by decide +kernel
theorem dksX2_steps_1 : cX2_steps.data.toList.drop 22 = dktX2_steps_1 := dk_seg dksX2_steps_0 22 rfl rfl
theorem dX2_steps_0 : decode cX2_steps 0 = .ok (.iconst 0, 1) := dk_3 (dk_at dksX2_steps_0 0 rfl rfl)
theorem dX2_steps_1 : decode cX2_steps 1 = .ok (.istore_n 2, 1) := dk_61 (dk_at dksX2_steps_0 1 rfl rfl)
theorem dX2_steps_2 : decode cX2_steps 2 = .ok (.iload_n 2, 1) := dk_28 (dk_at dksX2_steps_0 2 rfl rfl)
theorem dX2_steps_3 : decode cX2_steps 3 = .ok (.iload_n 1, 1) := dk_27 (dk_at dksX2_steps_0 3 rfl rfl)
theorem dX2_steps_4 : decode cX2_steps 4 = .ok (.if_icmp .ge 27, 3) := dk_162 0 27 (dk_at dksX2_steps_0 4 rfl rfl)
theorem dX2_steps_7 : decode cX2_steps 7 = .ok (.aload_n 0, 1) := dk_42 (dk_at dksX2_steps_0 7 rfl rfl)
theorem dX2_steps_8 : decode cX2_steps 8 = .ok (.getfield 130, 3) := dk_180 0 130 (dk_at dksX2_steps_0 8 rfl rfl)
theorem dX2_steps_11 : decode cX2_steps 11 = .ok (.aload_n 0, 1) := dk_42 (dk_at dksX2_steps_0 11 rfl rfl)
theorem dX2_steps_12 : decode cX2_steps 12 = .ok (.getfield 80, 3) := dk_180 0 80 (dk_at dksX2_steps_0 12 rfl rfl)
theorem dX2_steps_15 : decode cX2_steps 15 = .ok (.getfield 236, 3) := dk_180 0 236 (dk_at dksX2_steps_0 15 rfl rfl)
theorem dX2_steps_18 : decode cX2_steps 18 = .ok (.if_icmp .ge 13, 3) := dk_162 0 13 (dk_at dksX2_steps_0 18 rfl rfl)
theorem dX2_steps_21 : decode cX2_steps 21 = .ok (.aload_n 0, 1) := dk_42 (dk_at dksX2_steps_0 21 rfl rfl)
theorem dX2_steps_22 : decode cX2_steps 22 = .ok (.invokevirtual 292, 3) := dk_182 1 36 (dk_at dksX2_steps_1 0 rfl rfl)
theorem dX2_steps_25 : decode cX2_steps 25 = .ok (.iinc 2 1, 3) := dk_132 2 1 (dk_at dksX2_steps_1 3 rfl rfl)
theorem dX2_steps_28 : decode cX2_steps 28 = .ok (.goto (-26), 3) := dk_167 255 230 (dk_at dksX2_steps_1 6 rfl rfl)
theorem dX2_steps_31 : decode cX2_steps 31 = .ok (.iload_n 2, 1) := dk_28 (dk_at dksX2_steps_1 9 rfl rfl)
theorem dX2_steps_32 : decode cX2_steps 32 = .ok (.ireturn, 1) := dk_172 (dk_at dksX2_steps_1 10 rfl rfl)
abbrev cX2_step : ByteArray := prog_17_method_29_code
def yX2_step : MethodName := ⟨RX2, "step", "()V"⟩
def dkwX2_step_4 : List UInt8 := [182, 1, 23, 177]
abbrev dktX2_step_4 : List UInt8 := dkwX2_step_4 ++ []
def dkwX2_step_3 : List UInt8 := [28, 42, 180, 0, 74, 180, 1, 5, 27, 182, 1, 23, 167, 0, 14, 42, 182, 1, 33, 42, 7, 2, 27]
abbrev dktX2_step_3 : List UInt8 := dkwX2_step_3 ++ dktX2_step_4
def dkwX2_step_2 : List UInt8 := [42, 6, 2, 27, 182, 1, 23, 167, 0, 43, 42, 182, 0, 245, 2, 159, 0, 24, 42, 182, 1, 30, 61, 42]
abbrev dktX2_step_2 : List UInt8 := dkwX2_step_2 ++ dktX2_step_3
def dkwX2_step_1 : List UInt8 := [180, 0, 74, 180, 1, 5, 27, 182, 1, 23, 167, 0, 64, 42, 182, 0, 242, 153, 0, 17, 42, 182, 1, 27]
abbrev dktX2_step_1 : List UInt8 := dkwX2_step_1 ++ dktX2_step_2
def dkwX2_step_0 : List UInt8 := [42, 180, 0, 130, 60, 42, 182, 1, 17, 42, 182, 0, 239, 2, 159, 0, 23, 42, 182, 1, 20, 42, 5, 42]
abbrev dktX2_step_0 : List UInt8 := dkwX2_step_0 ++ dktX2_step_1
theorem dksX2_step_0 : cX2_step.data.toList.drop 0 = dktX2_step_0 := by decide +kernel
theorem dksX2_step_1 : cX2_step.data.toList.drop 24 = dktX2_step_1 := dk_seg dksX2_step_0 24 rfl rfl
theorem dksX2_step_2 : cX2_step.data.toList.drop 48 = dktX2_step_2 := dk_seg dksX2_step_1 24 rfl rfl
theorem dksX2_step_3 : cX2_step.data.toList.drop 72 = dktX2_step_3 := dk_seg dksX2_step_2 24 rfl rfl
theorem dksX2_step_4 : cX2_step.data.toList.drop 95 = dktX2_step_4 := dk_seg dksX2_step_3 23 rfl rfl
theorem dX2_step_0 : decode cX2_step 0 = .ok (.aload_n 0, 1) := dk_42 (dk_at dksX2_step_0 0 rfl rfl)
theorem dX2_step_1 : decode cX2_step 1 = .ok (.getfield 130, 3) := dk_180 0 130 (dk_at dksX2_step_0 1 rfl rfl)
theorem dX2_step_4 : decode cX2_step 4 = .ok (.istore_n 1, 1) := dk_60 (dk_at dksX2_step_0 4 rfl rfl)
theorem dX2_step_5 : decode cX2_step 5 = .ok (.aload_n 0, 1) := dk_42 (dk_at dksX2_step_0 5 rfl rfl)
theorem dX2_step_6 : decode cX2_step 6 = .ok (.invokevirtual 273, 3) := dk_182 1 17 (dk_at dksX2_step_0 6 rfl rfl)
theorem dX2_step_9 : decode cX2_step 9 = .ok (.aload_n 0, 1) := dk_42 (dk_at dksX2_step_0 9 rfl rfl)
theorem dX2_step_10 : decode cX2_step 10 = .ok (.invokevirtual 239, 3) := dk_182 0 239 (dk_at dksX2_step_0 10 rfl rfl)
theorem dX2_step_13 : decode cX2_step 13 = .ok (.iconst (-1), 1) := dk_2 (dk_at dksX2_step_0 13 rfl rfl)
theorem dX2_step_14 : decode cX2_step 14 = .ok (.if_icmp .eq 23, 3) := dk_159 0 23 (dk_at dksX2_step_0 14 rfl rfl)
theorem dX2_step_17 : decode cX2_step 17 = .ok (.aload_n 0, 1) := dk_42 (dk_at dksX2_step_0 17 rfl rfl)
theorem dX2_step_18 : decode cX2_step 18 = .ok (.invokevirtual 276, 3) := dk_182 1 20 (dk_at dksX2_step_0 18 rfl rfl)
theorem dX2_step_21 : decode cX2_step 21 = .ok (.aload_n 0, 1) := dk_42 (dk_at dksX2_step_0 21 rfl rfl)
theorem dX2_step_22 : decode cX2_step 22 = .ok (.iconst 2, 1) := dk_5 (dk_at dksX2_step_0 22 rfl rfl)
theorem dX2_step_23 : decode cX2_step 23 = .ok (.aload_n 0, 1) := dk_42 (dk_at dksX2_step_0 23 rfl rfl)
theorem dX2_step_24 : decode cX2_step 24 = .ok (.getfield 74, 3) := dk_180 0 74 (dk_at dksX2_step_1 0 rfl rfl)
theorem dX2_step_27 : decode cX2_step 27 = .ok (.getfield 261, 3) := dk_180 1 5 (dk_at dksX2_step_1 3 rfl rfl)
theorem dX2_step_30 : decode cX2_step 30 = .ok (.iload_n 1, 1) := dk_27 (dk_at dksX2_step_1 6 rfl rfl)
theorem dX2_step_31 : decode cX2_step 31 = .ok (.invokevirtual 279, 3) := dk_182 1 23 (dk_at dksX2_step_1 7 rfl rfl)
theorem dX2_step_34 : decode cX2_step 34 = .ok (.goto 64, 3) := dk_167 0 64 (dk_at dksX2_step_1 10 rfl rfl)
theorem dX2_step_37 : decode cX2_step 37 = .ok (.aload_n 0, 1) := dk_42 (dk_at dksX2_step_1 13 rfl rfl)
theorem dX2_step_38 : decode cX2_step 38 = .ok (.invokevirtual 242, 3) := dk_182 0 242 (dk_at dksX2_step_1 14 rfl rfl)
theorem dX2_step_41 : decode cX2_step 41 = .ok (.ifCond .eq 17, 3) := dk_153 0 17 (dk_at dksX2_step_1 17 rfl rfl)
theorem dX2_step_44 : decode cX2_step 44 = .ok (.aload_n 0, 1) := dk_42 (dk_at dksX2_step_1 20 rfl rfl)
theorem dX2_step_45 : decode cX2_step 45 = .ok (.invokevirtual 283, 3) := dk_182 1 27 (dk_at dksX2_step_1 21 rfl rfl)
theorem dX2_step_48 : decode cX2_step 48 = .ok (.aload_n 0, 1) := dk_42 (dk_at dksX2_step_2 0 rfl rfl)
theorem dX2_step_49 : decode cX2_step 49 = .ok (.iconst 3, 1) := dk_6 (dk_at dksX2_step_2 1 rfl rfl)
theorem dX2_step_50 : decode cX2_step 50 = .ok (.iconst (-1), 1) := dk_2 (dk_at dksX2_step_2 2 rfl rfl)
theorem dX2_step_51 : decode cX2_step 51 = .ok (.iload_n 1, 1) := dk_27 (dk_at dksX2_step_2 3 rfl rfl)
theorem dX2_step_52 : decode cX2_step 52 = .ok (.invokevirtual 279, 3) := dk_182 1 23 (dk_at dksX2_step_2 4 rfl rfl)
theorem dX2_step_55 : decode cX2_step 55 = .ok (.goto 43, 3) := dk_167 0 43 (dk_at dksX2_step_2 7 rfl rfl)
theorem dX2_step_58 : decode cX2_step 58 = .ok (.aload_n 0, 1) := dk_42 (dk_at dksX2_step_2 10 rfl rfl)
theorem dX2_step_59 : decode cX2_step 59 = .ok (.invokevirtual 245, 3) := dk_182 0 245 (dk_at dksX2_step_2 11 rfl rfl)
theorem dX2_step_62 : decode cX2_step 62 = .ok (.iconst (-1), 1) := dk_2 (dk_at dksX2_step_2 14 rfl rfl)
theorem dX2_step_63 : decode cX2_step 63 = .ok (.if_icmp .eq 24, 3) := dk_159 0 24 (dk_at dksX2_step_2 15 rfl rfl)
theorem dX2_step_66 : decode cX2_step 66 = .ok (.aload_n 0, 1) := dk_42 (dk_at dksX2_step_2 18 rfl rfl)
theorem dX2_step_67 : decode cX2_step 67 = .ok (.invokevirtual 286, 3) := dk_182 1 30 (dk_at dksX2_step_2 19 rfl rfl)
theorem dX2_step_70 : decode cX2_step 70 = .ok (.istore_n 2, 1) := dk_61 (dk_at dksX2_step_2 22 rfl rfl)
theorem dX2_step_71 : decode cX2_step 71 = .ok (.aload_n 0, 1) := dk_42 (dk_at dksX2_step_2 23 rfl rfl)
theorem dX2_step_72 : decode cX2_step 72 = .ok (.iload_n 2, 1) := dk_28 (dk_at dksX2_step_3 0 rfl rfl)
theorem dX2_step_73 : decode cX2_step 73 = .ok (.aload_n 0, 1) := dk_42 (dk_at dksX2_step_3 1 rfl rfl)
theorem dX2_step_74 : decode cX2_step 74 = .ok (.getfield 74, 3) := dk_180 0 74 (dk_at dksX2_step_3 2 rfl rfl)
theorem dX2_step_77 : decode cX2_step 77 = .ok (.getfield 261, 3) := dk_180 1 5 (dk_at dksX2_step_3 5 rfl rfl)
theorem dX2_step_80 : decode cX2_step 80 = .ok (.iload_n 1, 1) := dk_27 (dk_at dksX2_step_3 8 rfl rfl)
theorem dX2_step_81 : decode cX2_step 81 = .ok (.invokevirtual 279, 3) := dk_182 1 23 (dk_at dksX2_step_3 9 rfl rfl)
theorem dX2_step_84 : decode cX2_step 84 = .ok (.goto 14, 3) := dk_167 0 14 (dk_at dksX2_step_3 12 rfl rfl)
theorem dX2_step_87 : decode cX2_step 87 = .ok (.aload_n 0, 1) := dk_42 (dk_at dksX2_step_3 15 rfl rfl)
theorem dX2_step_88 : decode cX2_step 88 = .ok (.invokevirtual 289, 3) := dk_182 1 33 (dk_at dksX2_step_3 16 rfl rfl)
theorem dX2_step_91 : decode cX2_step 91 = .ok (.aload_n 0, 1) := dk_42 (dk_at dksX2_step_3 19 rfl rfl)
theorem dX2_step_92 : decode cX2_step 92 = .ok (.iconst 4, 1) := dk_7 (dk_at dksX2_step_3 20 rfl rfl)
theorem dX2_step_93 : decode cX2_step 93 = .ok (.iconst (-1), 1) := dk_2 (dk_at dksX2_step_3 21 rfl rfl)
theorem dX2_step_94 : decode cX2_step 94 = .ok (.iload_n 1, 1) := dk_27 (dk_at dksX2_step_3 22 rfl rfl)
theorem dX2_step_95 : decode cX2_step 95 = .ok (.invokevirtual 279, 3) := dk_182 1 23 (dk_at dksX2_step_4 0 rfl rfl)
theorem dX2_step_98 : decode cX2_step 98 = .ok (.return_, 1) := dk_177 (dk_at dksX2_step_4 3 rfl rfl)
abbrev cX2_expire : ByteArray := prog_17_method_20_code
def yX2_expire : MethodName := ⟨RX2, "expire", "()V"⟩
def dkwX2_expire_2 : List UInt8 := [180, 0, 55, 27, 5, 79, 132, 1, 1, 167, 255, 201, 177]
abbrev dktX2_expire_2 : List UInt8 := dkwX2_expire_2 ++ []
def dkwX2_expire_1 : List UInt8 := [42, 180, 0, 26, 27, 185, 0, 95, 2, 0, 192, 0, 120, 182, 0, 200, 42, 180, 0, 130, 162, 0, 10, 42]
abbrev dktX2_expire_1 : List UInt8 := dkwX2_expire_1 ++ dktX2_expire_2
def dkwX2_expire_0 : List UInt8 := [3, 60, 27, 42, 180, 0, 26, 185, 0, 89, 1, 0, 162, 0, 48, 42, 180, 0, 55, 27, 46, 154, 0, 33]
abbrev dktX2_expire_0 : List UInt8 := dkwX2_expire_0 ++ dktX2_expire_1
theorem dksX2_expire_0 : cX2_expire.data.toList.drop 0 = dktX2_expire_0 := by decide +kernel
theorem dksX2_expire_1 : cX2_expire.data.toList.drop 24 = dktX2_expire_1 := dk_seg dksX2_expire_0 24 rfl rfl
theorem dksX2_expire_2 : cX2_expire.data.toList.drop 48 = dktX2_expire_2 := dk_seg dksX2_expire_1 24 rfl rfl
theorem dX2_expire_0 : decode cX2_expire 0 = .ok (.iconst 0, 1) := dk_3 (dk_at dksX2_expire_0 0 rfl rfl)
theorem dX2_expire_1 : decode cX2_expire 1 = .ok (.istore_n 1, 1) := dk_60 (dk_at dksX2_expire_0 1 rfl rfl)
theorem dX2_expire_2 : decode cX2_expire 2 = .ok (.iload_n 1, 1) := dk_27 (dk_at dksX2_expire_0 2 rfl rfl)
theorem dX2_expire_3 : decode cX2_expire 3 = .ok (.aload_n 0, 1) := dk_42 (dk_at dksX2_expire_0 3 rfl rfl)
theorem dX2_expire_4 : decode cX2_expire 4 = .ok (.getfield 26, 3) := dk_180 0 26 (dk_at dksX2_expire_0 4 rfl rfl)
theorem dX2_expire_7 : decode cX2_expire 7 = .ok (.invokeinterface 89 1, 5) := by decide +kernel
theorem dX2_expire_12 : decode cX2_expire 12 = .ok (.if_icmp .ge 48, 3) := dk_162 0 48 (dk_at dksX2_expire_0 12 rfl rfl)
theorem dX2_expire_15 : decode cX2_expire 15 = .ok (.aload_n 0, 1) := dk_42 (dk_at dksX2_expire_0 15 rfl rfl)
theorem dX2_expire_16 : decode cX2_expire 16 = .ok (.getfield 55, 3) := dk_180 0 55 (dk_at dksX2_expire_0 16 rfl rfl)
theorem dX2_expire_19 : decode cX2_expire 19 = .ok (.iload_n 1, 1) := dk_27 (dk_at dksX2_expire_0 19 rfl rfl)
theorem dX2_expire_20 : decode cX2_expire 20 = .ok (.iaload, 1) := dk_46 (dk_at dksX2_expire_0 20 rfl rfl)
theorem dX2_expire_21 : decode cX2_expire 21 = .ok (.ifCond .ne 33, 3) := dk_154 0 33 (dk_at dksX2_expire_0 21 rfl rfl)
theorem dX2_expire_24 : decode cX2_expire 24 = .ok (.aload_n 0, 1) := dk_42 (dk_at dksX2_expire_1 0 rfl rfl)
theorem dX2_expire_25 : decode cX2_expire 25 = .ok (.getfield 26, 3) := dk_180 0 26 (dk_at dksX2_expire_1 1 rfl rfl)
theorem dX2_expire_28 : decode cX2_expire 28 = .ok (.iload_n 1, 1) := dk_27 (dk_at dksX2_expire_1 4 rfl rfl)
theorem dX2_expire_29 : decode cX2_expire 29 = .ok (.invokeinterface 95 2, 5) := by decide +kernel
theorem dX2_expire_34 : decode cX2_expire 34 = .ok (.checkcast 120, 3) := dk_192 0 120 (dk_at dksX2_expire_1 10 rfl rfl)
theorem dX2_expire_37 : decode cX2_expire 37 = .ok (.invokevirtual 200, 3) := dk_182 0 200 (dk_at dksX2_expire_1 13 rfl rfl)
theorem dX2_expire_40 : decode cX2_expire 40 = .ok (.aload_n 0, 1) := dk_42 (dk_at dksX2_expire_1 16 rfl rfl)
theorem dX2_expire_41 : decode cX2_expire 41 = .ok (.getfield 130, 3) := dk_180 0 130 (dk_at dksX2_expire_1 17 rfl rfl)
theorem dX2_expire_44 : decode cX2_expire 44 = .ok (.if_icmp .ge 10, 3) := dk_162 0 10 (dk_at dksX2_expire_1 20 rfl rfl)
theorem dX2_expire_47 : decode cX2_expire 47 = .ok (.aload_n 0, 1) := dk_42 (dk_at dksX2_expire_1 23 rfl rfl)
theorem dX2_expire_48 : decode cX2_expire 48 = .ok (.getfield 55, 3) := dk_180 0 55 (dk_at dksX2_expire_2 0 rfl rfl)
theorem dX2_expire_51 : decode cX2_expire 51 = .ok (.iload_n 1, 1) := dk_27 (dk_at dksX2_expire_2 3 rfl rfl)
theorem dX2_expire_52 : decode cX2_expire 52 = .ok (.iconst 2, 1) := dk_5 (dk_at dksX2_expire_2 4 rfl rfl)
theorem dX2_expire_53 : decode cX2_expire 53 = .ok (.iastore, 1) := dk_79 (dk_at dksX2_expire_2 5 rfl rfl)
theorem dX2_expire_54 : decode cX2_expire 54 = .ok (.iinc 1 1, 3) := dk_132 1 1 (dk_at dksX2_expire_2 6 rfl rfl)
theorem dX2_expire_57 : decode cX2_expire 57 = .ok (.goto (-55), 3) := dk_167 255 201 (dk_at dksX2_expire_2 9 rfl rfl)
theorem dX2_expire_60 : decode cX2_expire 60 = .ok (.return_, 1) := dk_177 (dk_at dksX2_expire_2 12 rfl rfl)
abbrev cX2_makeAlert : ByteArray := prog_17_method_26_code
def yX2_makeAlert : MethodName := ⟨RX2, "makeAlert", "()V"⟩
def dkwX2_makeAlert_2 : List UInt8 := [177]
abbrev dktX2_makeAlert_2 : List UInt8 := dkwX2_makeAlert_2 ++ []
def dkwX2_makeAlert_1 : List UInt8 := [180, 1, 5, 4, 79, 42, 180, 0, 58, 42, 180, 0, 74, 180, 1, 5, 42, 180, 0, 74, 180, 0, 208, 79]
abbrev dktX2_makeAlert_1 : List UInt8 := dkwX2_makeAlert_1 ++ dktX2_makeAlert_2
def dkwX2_makeAlert_0 : List UInt8 := [42, 42, 180, 0, 74, 180, 0, 221, 185, 1, 2, 1, 0, 182, 1, 8, 42, 180, 0, 55, 42, 180, 0, 74]
abbrev dktX2_makeAlert_0 : List UInt8 := dkwX2_makeAlert_0 ++ dktX2_makeAlert_1
theorem dksX2_makeAlert_0 : cX2_makeAlert.data.toList.drop 0 = dktX2_makeAlert_0 := by decide +kernel
theorem dksX2_makeAlert_1 : cX2_makeAlert.data.toList.drop 24 = dktX2_makeAlert_1 := dk_seg dksX2_makeAlert_0 24 rfl rfl
theorem dksX2_makeAlert_2 : cX2_makeAlert.data.toList.drop 48 = dktX2_makeAlert_2 := dk_seg dksX2_makeAlert_1 24 rfl rfl
theorem dX2_makeAlert_0 : decode cX2_makeAlert 0 = .ok (.aload_n 0, 1) := dk_42 (dk_at dksX2_makeAlert_0 0 rfl rfl)
theorem dX2_makeAlert_1 : decode cX2_makeAlert 1 = .ok (.aload_n 0, 1) := dk_42 (dk_at dksX2_makeAlert_0 1 rfl rfl)
theorem dX2_makeAlert_2 : decode cX2_makeAlert 2 = .ok (.getfield 74, 3) := dk_180 0 74 (dk_at dksX2_makeAlert_0 2 rfl rfl)
theorem dX2_makeAlert_5 : decode cX2_makeAlert 5 = .ok (.getfield 221, 3) := dk_180 0 221 (dk_at dksX2_makeAlert_0 5 rfl rfl)
theorem dX2_makeAlert_8 : decode cX2_makeAlert 8 = .ok (.invokeinterface 258 1, 5) := by decide +kernel
theorem dX2_makeAlert_13 : decode cX2_makeAlert 13 = .ok (.invokevirtual 264, 3) := dk_182 1 8 (dk_at dksX2_makeAlert_0 13 rfl rfl)
theorem dX2_makeAlert_16 : decode cX2_makeAlert 16 = .ok (.aload_n 0, 1) := dk_42 (dk_at dksX2_makeAlert_0 16 rfl rfl)
theorem dX2_makeAlert_17 : decode cX2_makeAlert 17 = .ok (.getfield 55, 3) := dk_180 0 55 (dk_at dksX2_makeAlert_0 17 rfl rfl)
theorem dX2_makeAlert_20 : decode cX2_makeAlert 20 = .ok (.aload_n 0, 1) := dk_42 (dk_at dksX2_makeAlert_0 20 rfl rfl)
theorem dX2_makeAlert_21 : decode cX2_makeAlert 21 = .ok (.getfield 74, 3) := dk_180 0 74 (dk_at dksX2_makeAlert_0 21 rfl rfl)
theorem dX2_makeAlert_24 : decode cX2_makeAlert 24 = .ok (.getfield 261, 3) := dk_180 1 5 (dk_at dksX2_makeAlert_1 0 rfl rfl)
theorem dX2_makeAlert_27 : decode cX2_makeAlert 27 = .ok (.iconst 1, 1) := dk_4 (dk_at dksX2_makeAlert_1 3 rfl rfl)
theorem dX2_makeAlert_28 : decode cX2_makeAlert 28 = .ok (.iastore, 1) := dk_79 (dk_at dksX2_makeAlert_1 4 rfl rfl)
theorem dX2_makeAlert_29 : decode cX2_makeAlert 29 = .ok (.aload_n 0, 1) := dk_42 (dk_at dksX2_makeAlert_1 5 rfl rfl)
theorem dX2_makeAlert_30 : decode cX2_makeAlert 30 = .ok (.getfield 58, 3) := dk_180 0 58 (dk_at dksX2_makeAlert_1 6 rfl rfl)
theorem dX2_makeAlert_33 : decode cX2_makeAlert 33 = .ok (.aload_n 0, 1) := dk_42 (dk_at dksX2_makeAlert_1 9 rfl rfl)
theorem dX2_makeAlert_34 : decode cX2_makeAlert 34 = .ok (.getfield 74, 3) := dk_180 0 74 (dk_at dksX2_makeAlert_1 10 rfl rfl)
theorem dX2_makeAlert_37 : decode cX2_makeAlert 37 = .ok (.getfield 261, 3) := dk_180 1 5 (dk_at dksX2_makeAlert_1 13 rfl rfl)
theorem dX2_makeAlert_40 : decode cX2_makeAlert 40 = .ok (.aload_n 0, 1) := dk_42 (dk_at dksX2_makeAlert_1 16 rfl rfl)
theorem dX2_makeAlert_41 : decode cX2_makeAlert 41 = .ok (.getfield 74, 3) := dk_180 0 74 (dk_at dksX2_makeAlert_1 17 rfl rfl)
theorem dX2_makeAlert_44 : decode cX2_makeAlert 44 = .ok (.getfield 208, 3) := dk_180 0 208 (dk_at dksX2_makeAlert_1 20 rfl rfl)
theorem dX2_makeAlert_47 : decode cX2_makeAlert 47 = .ok (.iastore, 1) := dk_79 (dk_at dksX2_makeAlert_1 23 rfl rfl)
theorem dX2_makeAlert_48 : decode cX2_makeAlert 48 = .ok (.return_, 1) := dk_177 (dk_at dksX2_makeAlert_2 0 rfl rfl)
abbrev cX2_carryOut : ByteArray := prog_17_method_24_code
def yX2_carryOut : MethodName := ⟨RX2, "carryOut", "(I)V"⟩
def dkwX2_carryOut_7 : List UInt8 := [58, 4, 25, 4, 44, 185, 0, 167, 1, 0, 92, 46, 27, 96, 79, 177]
abbrev dktX2_carryOut_7 : List UInt8 := dkwX2_carryOut_7 ++ []
def dkwX2_carryOut_6 : List UInt8 := [167, 0, 4, 4, 92, 46, 27, 96, 79, 29, 153, 0, 10, 42, 180, 0, 34, 167, 0, 7, 42, 180, 0, 37]
abbrev dktX2_carryOut_6 : List UInt8 := dkwX2_carryOut_6 ++ dktX2_carryOut_7
def dkwX2_carryOut_5 : List UInt8 := [44, 185, 1, 2, 1, 0, 160, 0, 7, 4, 167, 0, 4, 3, 62, 42, 180, 0, 61, 29, 153, 0, 7, 3]
abbrev dktX2_carryOut_5 : List UInt8 := dkwX2_carryOut_5 ++ dktX2_carryOut_6
def dkwX2_carryOut_4 : List UInt8 := [42, 44, 185, 0, 231, 1, 0, 181, 0, 136, 42, 42, 180, 0, 74, 180, 0, 208, 27, 96, 181, 0, 130, 27]
abbrev dktX2_carryOut_4 : List UInt8 := dkwX2_carryOut_4 ++ dktX2_carryOut_5
def dkwX2_carryOut_3 : List UInt8 := [180, 0, 139, 44, 27, 185, 0, 225, 2, 0, 96, 181, 0, 139, 42, 44, 185, 0, 229, 1, 0, 181, 0, 133]
abbrev dktX2_carryOut_3 : List UInt8 := dkwX2_carryOut_3 ++ dktX2_carryOut_4
def dkwX2_carryOut_2 : List UInt8 := [180, 0, 40, 44, 185, 0, 167, 1, 0, 92, 46, 42, 180, 0, 74, 180, 0, 255, 96, 79, 42, 89]
abbrev dktX2_carryOut_2 : List UInt8 := dkwX2_carryOut_2 ++ dktX2_carryOut_3
def dkwX2_carryOut_1 : List UInt8 := [180, 0, 218, 182, 0, 252, 42, 180, 0, 61, 5, 92, 46, 42, 180, 0, 74, 180, 0, 255, 96, 79, 42]
abbrev dktX2_carryOut_1 : List UInt8 := dkwX2_carryOut_1 ++ dktX2_carryOut_2
def dkwX2_carryOut_0 : List UInt8 := [42, 180, 0, 74, 180, 0, 221, 77, 42, 180, 0, 74, 180, 0, 218, 158, 0, 14, 42, 42, 180, 0, 74]
abbrev dktX2_carryOut_0 : List UInt8 := dkwX2_carryOut_0 ++ dktX2_carryOut_1
theorem dksX2_carryOut_0 : cX2_carryOut.data.toList.drop 0 = dktX2_carryOut_0 := by decide +kernel
theorem dksX2_carryOut_1 : cX2_carryOut.data.toList.drop 23 = dktX2_carryOut_1 := dk_seg dksX2_carryOut_0 23 rfl rfl
theorem dksX2_carryOut_2 : cX2_carryOut.data.toList.drop 46 = dktX2_carryOut_2 := dk_seg dksX2_carryOut_1 23 rfl rfl
theorem dksX2_carryOut_3 : cX2_carryOut.data.toList.drop 68 = dktX2_carryOut_3 := dk_seg dksX2_carryOut_2 22 rfl rfl
theorem dksX2_carryOut_4 : cX2_carryOut.data.toList.drop 92 = dktX2_carryOut_4 := dk_seg dksX2_carryOut_3 24 rfl rfl
theorem dksX2_carryOut_5 : cX2_carryOut.data.toList.drop 116 = dktX2_carryOut_5 := dk_seg dksX2_carryOut_4 24 rfl rfl
theorem dksX2_carryOut_6 : cX2_carryOut.data.toList.drop 140 = dktX2_carryOut_6 := dk_seg dksX2_carryOut_5 24 rfl rfl
theorem dksX2_carryOut_7 : cX2_carryOut.data.toList.drop 164 = dktX2_carryOut_7 := dk_seg dksX2_carryOut_6 24 rfl rfl
theorem dX2_carryOut_0 : decode cX2_carryOut 0 = .ok (.aload_n 0, 1) := dk_42 (dk_at dksX2_carryOut_0 0 rfl rfl)
theorem dX2_carryOut_1 : decode cX2_carryOut 1 = .ok (.getfield 74, 3) := dk_180 0 74 (dk_at dksX2_carryOut_0 1 rfl rfl)
theorem dX2_carryOut_4 : decode cX2_carryOut 4 = .ok (.getfield 221, 3) := dk_180 0 221 (dk_at dksX2_carryOut_0 4 rfl rfl)
theorem dX2_carryOut_7 : decode cX2_carryOut 7 = .ok (.astore_n 2, 1) := dk_77 (dk_at dksX2_carryOut_0 7 rfl rfl)
theorem dX2_carryOut_8 : decode cX2_carryOut 8 = .ok (.aload_n 0, 1) := dk_42 (dk_at dksX2_carryOut_0 8 rfl rfl)
theorem dX2_carryOut_9 : decode cX2_carryOut 9 = .ok (.getfield 74, 3) := dk_180 0 74 (dk_at dksX2_carryOut_0 9 rfl rfl)
theorem dX2_carryOut_12 : decode cX2_carryOut 12 = .ok (.getfield 218, 3) := dk_180 0 218 (dk_at dksX2_carryOut_0 12 rfl rfl)
theorem dX2_carryOut_15 : decode cX2_carryOut 15 = .ok (.ifCond .le 14, 3) := dk_158 0 14 (dk_at dksX2_carryOut_0 15 rfl rfl)
theorem dX2_carryOut_18 : decode cX2_carryOut 18 = .ok (.aload_n 0, 1) := dk_42 (dk_at dksX2_carryOut_0 18 rfl rfl)
theorem dX2_carryOut_19 : decode cX2_carryOut 19 = .ok (.aload_n 0, 1) := dk_42 (dk_at dksX2_carryOut_0 19 rfl rfl)
theorem dX2_carryOut_20 : decode cX2_carryOut 20 = .ok (.getfield 74, 3) := dk_180 0 74 (dk_at dksX2_carryOut_0 20 rfl rfl)
theorem dX2_carryOut_23 : decode cX2_carryOut 23 = .ok (.getfield 218, 3) := dk_180 0 218 (dk_at dksX2_carryOut_1 0 rfl rfl)
theorem dX2_carryOut_26 : decode cX2_carryOut 26 = .ok (.invokevirtual 252, 3) := dk_182 0 252 (dk_at dksX2_carryOut_1 3 rfl rfl)
theorem dX2_carryOut_29 : decode cX2_carryOut 29 = .ok (.aload_n 0, 1) := dk_42 (dk_at dksX2_carryOut_1 6 rfl rfl)
theorem dX2_carryOut_30 : decode cX2_carryOut 30 = .ok (.getfield 61, 3) := dk_180 0 61 (dk_at dksX2_carryOut_1 7 rfl rfl)
theorem dX2_carryOut_33 : decode cX2_carryOut 33 = .ok (.iconst 2, 1) := dk_5 (dk_at dksX2_carryOut_1 10 rfl rfl)
theorem dX2_carryOut_34 : decode cX2_carryOut 34 = .ok (.dup2, 1) := dk_92 (dk_at dksX2_carryOut_1 11 rfl rfl)
theorem dX2_carryOut_35 : decode cX2_carryOut 35 = .ok (.iaload, 1) := dk_46 (dk_at dksX2_carryOut_1 12 rfl rfl)
theorem dX2_carryOut_36 : decode cX2_carryOut 36 = .ok (.aload_n 0, 1) := dk_42 (dk_at dksX2_carryOut_1 13 rfl rfl)
theorem dX2_carryOut_37 : decode cX2_carryOut 37 = .ok (.getfield 74, 3) := dk_180 0 74 (dk_at dksX2_carryOut_1 14 rfl rfl)
theorem dX2_carryOut_40 : decode cX2_carryOut 40 = .ok (.getfield 255, 3) := dk_180 0 255 (dk_at dksX2_carryOut_1 17 rfl rfl)
theorem dX2_carryOut_43 : decode cX2_carryOut 43 = .ok (.iadd, 1) := dk_96 (dk_at dksX2_carryOut_1 20 rfl rfl)
theorem dX2_carryOut_44 : decode cX2_carryOut 44 = .ok (.iastore, 1) := dk_79 (dk_at dksX2_carryOut_1 21 rfl rfl)
theorem dX2_carryOut_45 : decode cX2_carryOut 45 = .ok (.aload_n 0, 1) := dk_42 (dk_at dksX2_carryOut_1 22 rfl rfl)
theorem dX2_carryOut_46 : decode cX2_carryOut 46 = .ok (.getfield 40, 3) := dk_180 0 40 (dk_at dksX2_carryOut_2 0 rfl rfl)
theorem dX2_carryOut_49 : decode cX2_carryOut 49 = .ok (.aload_n 2, 1) := dk_44 (dk_at dksX2_carryOut_2 3 rfl rfl)
theorem dX2_carryOut_50 : decode cX2_carryOut 50 = .ok (.invokeinterface 167 1, 5) := by decide +kernel
theorem dX2_carryOut_55 : decode cX2_carryOut 55 = .ok (.dup2, 1) := dk_92 (dk_at dksX2_carryOut_2 9 rfl rfl)
theorem dX2_carryOut_56 : decode cX2_carryOut 56 = .ok (.iaload, 1) := dk_46 (dk_at dksX2_carryOut_2 10 rfl rfl)
theorem dX2_carryOut_57 : decode cX2_carryOut 57 = .ok (.aload_n 0, 1) := dk_42 (dk_at dksX2_carryOut_2 11 rfl rfl)
theorem dX2_carryOut_58 : decode cX2_carryOut 58 = .ok (.getfield 74, 3) := dk_180 0 74 (dk_at dksX2_carryOut_2 12 rfl rfl)
theorem dX2_carryOut_61 : decode cX2_carryOut 61 = .ok (.getfield 255, 3) := dk_180 0 255 (dk_at dksX2_carryOut_2 15 rfl rfl)
theorem dX2_carryOut_64 : decode cX2_carryOut 64 = .ok (.iadd, 1) := dk_96 (dk_at dksX2_carryOut_2 18 rfl rfl)
theorem dX2_carryOut_65 : decode cX2_carryOut 65 = .ok (.iastore, 1) := dk_79 (dk_at dksX2_carryOut_2 19 rfl rfl)
theorem dX2_carryOut_66 : decode cX2_carryOut 66 = .ok (.aload_n 0, 1) := dk_42 (dk_at dksX2_carryOut_2 20 rfl rfl)
theorem dX2_carryOut_67 : decode cX2_carryOut 67 = .ok (.dup, 1) := dk_89 (dk_at dksX2_carryOut_2 21 rfl rfl)
theorem dX2_carryOut_68 : decode cX2_carryOut 68 = .ok (.getfield 139, 3) := dk_180 0 139 (dk_at dksX2_carryOut_3 0 rfl rfl)
theorem dX2_carryOut_71 : decode cX2_carryOut 71 = .ok (.aload_n 2, 1) := dk_44 (dk_at dksX2_carryOut_3 3 rfl rfl)
theorem dX2_carryOut_72 : decode cX2_carryOut 72 = .ok (.iload_n 1, 1) := dk_27 (dk_at dksX2_carryOut_3 4 rfl rfl)
theorem dX2_carryOut_73 : decode cX2_carryOut 73 = .ok (.invokeinterface 225 2, 5) := by decide +kernel
theorem dX2_carryOut_78 : decode cX2_carryOut 78 = .ok (.iadd, 1) := dk_96 (dk_at dksX2_carryOut_3 10 rfl rfl)
theorem dX2_carryOut_79 : decode cX2_carryOut 79 = .ok (.putfield 139, 3) := dk_181 0 139 (dk_at dksX2_carryOut_3 11 rfl rfl)
theorem dX2_carryOut_82 : decode cX2_carryOut 82 = .ok (.aload_n 0, 1) := dk_42 (dk_at dksX2_carryOut_3 14 rfl rfl)
theorem dX2_carryOut_83 : decode cX2_carryOut 83 = .ok (.aload_n 2, 1) := dk_44 (dk_at dksX2_carryOut_3 15 rfl rfl)
theorem dX2_carryOut_84 : decode cX2_carryOut 84 = .ok (.invokeinterface 229 1, 5) := by decide +kernel
theorem dX2_carryOut_89 : decode cX2_carryOut 89 = .ok (.putfield 133, 3) := dk_181 0 133 (dk_at dksX2_carryOut_3 21 rfl rfl)
theorem dX2_carryOut_92 : decode cX2_carryOut 92 = .ok (.aload_n 0, 1) := dk_42 (dk_at dksX2_carryOut_4 0 rfl rfl)
theorem dX2_carryOut_93 : decode cX2_carryOut 93 = .ok (.aload_n 2, 1) := dk_44 (dk_at dksX2_carryOut_4 1 rfl rfl)
theorem dX2_carryOut_94 : decode cX2_carryOut 94 = .ok (.invokeinterface 231 1, 5) := by decide +kernel
theorem dX2_carryOut_99 : decode cX2_carryOut 99 = .ok (.putfield 136, 3) := dk_181 0 136 (dk_at dksX2_carryOut_4 7 rfl rfl)
theorem dX2_carryOut_102 : decode cX2_carryOut 102 = .ok (.aload_n 0, 1) := dk_42 (dk_at dksX2_carryOut_4 10 rfl rfl)
theorem dX2_carryOut_103 : decode cX2_carryOut 103 = .ok (.aload_n 0, 1) := dk_42 (dk_at dksX2_carryOut_4 11 rfl rfl)
theorem dX2_carryOut_104 : decode cX2_carryOut 104 = .ok (.getfield 74, 3) := dk_180 0 74 (dk_at dksX2_carryOut_4 12 rfl rfl)
theorem dX2_carryOut_107 : decode cX2_carryOut 107 = .ok (.getfield 208, 3) := dk_180 0 208 (dk_at dksX2_carryOut_4 15 rfl rfl)
theorem dX2_carryOut_110 : decode cX2_carryOut 110 = .ok (.iload_n 1, 1) := dk_27 (dk_at dksX2_carryOut_4 18 rfl rfl)
theorem dX2_carryOut_111 : decode cX2_carryOut 111 = .ok (.iadd, 1) := dk_96 (dk_at dksX2_carryOut_4 19 rfl rfl)
theorem dX2_carryOut_112 : decode cX2_carryOut 112 = .ok (.putfield 130, 3) := dk_181 0 130 (dk_at dksX2_carryOut_4 20 rfl rfl)
theorem dX2_carryOut_115 : decode cX2_carryOut 115 = .ok (.iload_n 1, 1) := dk_27 (dk_at dksX2_carryOut_4 23 rfl rfl)
theorem dX2_carryOut_116 : decode cX2_carryOut 116 = .ok (.aload_n 2, 1) := dk_44 (dk_at dksX2_carryOut_5 0 rfl rfl)
theorem dX2_carryOut_117 : decode cX2_carryOut 117 = .ok (.invokeinterface 258 1, 5) := by decide +kernel
theorem dX2_carryOut_122 : decode cX2_carryOut 122 = .ok (.if_icmp .ne 7, 3) := dk_160 0 7 (dk_at dksX2_carryOut_5 6 rfl rfl)
theorem dX2_carryOut_125 : decode cX2_carryOut 125 = .ok (.iconst 1, 1) := dk_4 (dk_at dksX2_carryOut_5 9 rfl rfl)
theorem dX2_carryOut_126 : decode cX2_carryOut 126 = .ok (.goto 4, 3) := dk_167 0 4 (dk_at dksX2_carryOut_5 10 rfl rfl)
theorem dX2_carryOut_129 : decode cX2_carryOut 129 = .ok (.iconst 0, 1) := dk_3 (dk_at dksX2_carryOut_5 13 rfl rfl)
theorem dX2_carryOut_130 : decode cX2_carryOut 130 = .ok (.istore_n 3, 1) := dk_62 (dk_at dksX2_carryOut_5 14 rfl rfl)
theorem dX2_carryOut_131 : decode cX2_carryOut 131 = .ok (.aload_n 0, 1) := dk_42 (dk_at dksX2_carryOut_5 15 rfl rfl)
theorem dX2_carryOut_132 : decode cX2_carryOut 132 = .ok (.getfield 61, 3) := dk_180 0 61 (dk_at dksX2_carryOut_5 16 rfl rfl)
theorem dX2_carryOut_135 : decode cX2_carryOut 135 = .ok (.iload_n 3, 1) := dk_29 (dk_at dksX2_carryOut_5 19 rfl rfl)
theorem dX2_carryOut_136 : decode cX2_carryOut 136 = .ok (.ifCond .eq 7, 3) := dk_153 0 7 (dk_at dksX2_carryOut_5 20 rfl rfl)
theorem dX2_carryOut_139 : decode cX2_carryOut 139 = .ok (.iconst 0, 1) := dk_3 (dk_at dksX2_carryOut_5 23 rfl rfl)
theorem dX2_carryOut_140 : decode cX2_carryOut 140 = .ok (.goto 4, 3) := dk_167 0 4 (dk_at dksX2_carryOut_6 0 rfl rfl)
theorem dX2_carryOut_143 : decode cX2_carryOut 143 = .ok (.iconst 1, 1) := dk_4 (dk_at dksX2_carryOut_6 3 rfl rfl)
theorem dX2_carryOut_144 : decode cX2_carryOut 144 = .ok (.dup2, 1) := dk_92 (dk_at dksX2_carryOut_6 4 rfl rfl)
theorem dX2_carryOut_145 : decode cX2_carryOut 145 = .ok (.iaload, 1) := dk_46 (dk_at dksX2_carryOut_6 5 rfl rfl)
theorem dX2_carryOut_146 : decode cX2_carryOut 146 = .ok (.iload_n 1, 1) := dk_27 (dk_at dksX2_carryOut_6 6 rfl rfl)
theorem dX2_carryOut_147 : decode cX2_carryOut 147 = .ok (.iadd, 1) := dk_96 (dk_at dksX2_carryOut_6 7 rfl rfl)
theorem dX2_carryOut_148 : decode cX2_carryOut 148 = .ok (.iastore, 1) := dk_79 (dk_at dksX2_carryOut_6 8 rfl rfl)
theorem dX2_carryOut_149 : decode cX2_carryOut 149 = .ok (.iload_n 3, 1) := dk_29 (dk_at dksX2_carryOut_6 9 rfl rfl)
theorem dX2_carryOut_150 : decode cX2_carryOut 150 = .ok (.ifCond .eq 10, 3) := dk_153 0 10 (dk_at dksX2_carryOut_6 10 rfl rfl)
theorem dX2_carryOut_153 : decode cX2_carryOut 153 = .ok (.aload_n 0, 1) := dk_42 (dk_at dksX2_carryOut_6 13 rfl rfl)
theorem dX2_carryOut_154 : decode cX2_carryOut 154 = .ok (.getfield 34, 3) := dk_180 0 34 (dk_at dksX2_carryOut_6 14 rfl rfl)
theorem dX2_carryOut_157 : decode cX2_carryOut 157 = .ok (.goto 7, 3) := dk_167 0 7 (dk_at dksX2_carryOut_6 17 rfl rfl)
theorem dX2_carryOut_160 : decode cX2_carryOut 160 = .ok (.aload_n 0, 1) := dk_42 (dk_at dksX2_carryOut_6 20 rfl rfl)
theorem dX2_carryOut_161 : decode cX2_carryOut 161 = .ok (.getfield 37, 3) := dk_180 0 37 (dk_at dksX2_carryOut_6 21 rfl rfl)
theorem dX2_carryOut_164 : decode cX2_carryOut 164 = .ok (.astore 4, 2) := dk_58 4 (dk_at dksX2_carryOut_7 0 rfl rfl)
theorem dX2_carryOut_166 : decode cX2_carryOut 166 = .ok (.aload 4, 2) := dk_25 4 (dk_at dksX2_carryOut_7 2 rfl rfl)
theorem dX2_carryOut_168 : decode cX2_carryOut 168 = .ok (.aload_n 2, 1) := dk_44 (dk_at dksX2_carryOut_7 4 rfl rfl)
theorem dX2_carryOut_169 : decode cX2_carryOut 169 = .ok (.invokeinterface 167 1, 5) := by decide +kernel
theorem dX2_carryOut_174 : decode cX2_carryOut 174 = .ok (.dup2, 1) := dk_92 (dk_at dksX2_carryOut_7 10 rfl rfl)
theorem dX2_carryOut_175 : decode cX2_carryOut 175 = .ok (.iaload, 1) := dk_46 (dk_at dksX2_carryOut_7 11 rfl rfl)
theorem dX2_carryOut_176 : decode cX2_carryOut 176 = .ok (.iload_n 1, 1) := dk_27 (dk_at dksX2_carryOut_7 12 rfl rfl)
theorem dX2_carryOut_177 : decode cX2_carryOut 177 = .ok (.iadd, 1) := dk_96 (dk_at dksX2_carryOut_7 13 rfl rfl)
theorem dX2_carryOut_178 : decode cX2_carryOut 178 = .ok (.iastore, 1) := dk_79 (dk_at dksX2_carryOut_7 14 rfl rfl)
theorem dX2_carryOut_179 : decode cX2_carryOut 179 = .ok (.return_, 1) := dk_177 (dk_at dksX2_carryOut_7 15 rfl rfl)
abbrev cX2_makeDump : ByteArray := prog_17_method_22_code
def yX2_makeDump : MethodName := ⟨RX2, "makeDump", "(I)V"⟩
def dkwX2_makeDump_1 : List UInt8 := [96, 79, 177]
abbrev dktX2_makeDump_1 : List UInt8 := dkwX2_makeDump_1 ++ []
def dkwX2_makeDump_0 : List UInt8 := [42, 3, 181, 0, 139, 42, 180, 0, 61, 6, 92, 46, 27, 96, 79, 42, 180, 0, 61, 16, 6, 92, 46, 4]
abbrev dktX2_makeDump_0 : List UInt8 := dkwX2_makeDump_0 ++ dktX2_makeDump_1
theorem dksX2_makeDump_0 : cX2_makeDump.data.toList.drop 0 = dktX2_makeDump_0 := by decide +kernel
theorem dksX2_makeDump_1 : cX2_makeDump.data.toList.drop 24 = dktX2_makeDump_1 := dk_seg dksX2_makeDump_0 24 rfl rfl
theorem dX2_makeDump_0 : decode cX2_makeDump 0 = .ok (.aload_n 0, 1) := dk_42 (dk_at dksX2_makeDump_0 0 rfl rfl)
theorem dX2_makeDump_1 : decode cX2_makeDump 1 = .ok (.iconst 0, 1) := dk_3 (dk_at dksX2_makeDump_0 1 rfl rfl)
theorem dX2_makeDump_2 : decode cX2_makeDump 2 = .ok (.putfield 139, 3) := dk_181 0 139 (dk_at dksX2_makeDump_0 2 rfl rfl)
theorem dX2_makeDump_5 : decode cX2_makeDump 5 = .ok (.aload_n 0, 1) := dk_42 (dk_at dksX2_makeDump_0 5 rfl rfl)
theorem dX2_makeDump_6 : decode cX2_makeDump 6 = .ok (.getfield 61, 3) := dk_180 0 61 (dk_at dksX2_makeDump_0 6 rfl rfl)
theorem dX2_makeDump_9 : decode cX2_makeDump 9 = .ok (.iconst 3, 1) := dk_6 (dk_at dksX2_makeDump_0 9 rfl rfl)
theorem dX2_makeDump_10 : decode cX2_makeDump 10 = .ok (.dup2, 1) := dk_92 (dk_at dksX2_makeDump_0 10 rfl rfl)
theorem dX2_makeDump_11 : decode cX2_makeDump 11 = .ok (.iaload, 1) := dk_46 (dk_at dksX2_makeDump_0 11 rfl rfl)
theorem dX2_makeDump_12 : decode cX2_makeDump 12 = .ok (.iload_n 1, 1) := dk_27 (dk_at dksX2_makeDump_0 12 rfl rfl)
theorem dX2_makeDump_13 : decode cX2_makeDump 13 = .ok (.iadd, 1) := dk_96 (dk_at dksX2_makeDump_0 13 rfl rfl)
theorem dX2_makeDump_14 : decode cX2_makeDump 14 = .ok (.iastore, 1) := dk_79 (dk_at dksX2_makeDump_0 14 rfl rfl)
theorem dX2_makeDump_15 : decode cX2_makeDump 15 = .ok (.aload_n 0, 1) := dk_42 (dk_at dksX2_makeDump_0 15 rfl rfl)
theorem dX2_makeDump_16 : decode cX2_makeDump 16 = .ok (.getfield 61, 3) := dk_180 0 61 (dk_at dksX2_makeDump_0 16 rfl rfl)
theorem dX2_makeDump_19 : decode cX2_makeDump 19 = .ok (.bipush 6, 2) := dk_16 6 (dk_at dksX2_makeDump_0 19 rfl rfl)
theorem dX2_makeDump_21 : decode cX2_makeDump 21 = .ok (.dup2, 1) := dk_92 (dk_at dksX2_makeDump_0 21 rfl rfl)
theorem dX2_makeDump_22 : decode cX2_makeDump 22 = .ok (.iaload, 1) := dk_46 (dk_at dksX2_makeDump_0 22 rfl rfl)
theorem dX2_makeDump_23 : decode cX2_makeDump 23 = .ok (.iconst 1, 1) := dk_4 (dk_at dksX2_makeDump_0 23 rfl rfl)
theorem dX2_makeDump_24 : decode cX2_makeDump 24 = .ok (.iadd, 1) := dk_96 (dk_at dksX2_makeDump_1 0 rfl rfl)
theorem dX2_makeDump_25 : decode cX2_makeDump 25 = .ok (.iastore, 1) := dk_79 (dk_at dksX2_makeDump_1 1 rfl rfl)
theorem dX2_makeDump_26 : decode cX2_makeDump 26 = .ok (.return_, 1) := dk_177 (dk_at dksX2_makeDump_1 2 rfl rfl)
abbrev cX2_write : ByteArray := prog_17_method_21_code
def yX2_write : MethodName := ⟨RX2, "write", "(III)V"⟩
def dkwX2_write_2 : List UInt8 := [180, 0, 64, 21, 4, 6, 96, 42, 180, 0, 130, 79, 42, 89, 180, 0, 151, 4, 96, 181, 0, 151, 177]
abbrev dktX2_write_2 : List UInt8 := dkwX2_write_2 ++ []
def dkwX2_write_1 : List UInt8 := [27, 79, 42, 180, 0, 64, 21, 4, 4, 96, 28, 79, 42, 180, 0, 64, 21, 4, 5, 96, 29, 79, 42]
abbrev dktX2_write_1 : List UInt8 := dkwX2_write_1 ++ dktX2_write_2
def dkwX2_write_0 : List UInt8 := [42, 180, 0, 151, 16, 100, 160, 0, 4, 177, 7, 42, 180, 0, 151, 104, 54, 4, 42, 180, 0, 64, 21, 4]
abbrev dktX2_write_0 : List UInt8 := dkwX2_write_0 ++ dktX2_write_1
theorem dksX2_write_0 : cX2_write.data.toList.drop 0 = dktX2_write_0 := by decide +kernel
theorem dksX2_write_1 : cX2_write.data.toList.drop 24 = dktX2_write_1 := dk_seg dksX2_write_0 24 rfl rfl
theorem dksX2_write_2 : cX2_write.data.toList.drop 47 = dktX2_write_2 := dk_seg dksX2_write_1 23 rfl rfl
theorem dX2_write_0 : decode cX2_write 0 = .ok (.aload_n 0, 1) := dk_42 (dk_at dksX2_write_0 0 rfl rfl)
theorem dX2_write_1 : decode cX2_write 1 = .ok (.getfield 151, 3) := dk_180 0 151 (dk_at dksX2_write_0 1 rfl rfl)
theorem dX2_write_4 : decode cX2_write 4 = .ok (.bipush 100, 2) := dk_16 100 (dk_at dksX2_write_0 4 rfl rfl)
theorem dX2_write_6 : decode cX2_write 6 = .ok (.if_icmp .ne 4, 3) := dk_160 0 4 (dk_at dksX2_write_0 6 rfl rfl)
theorem dX2_write_9 : decode cX2_write 9 = .ok (.return_, 1) := dk_177 (dk_at dksX2_write_0 9 rfl rfl)
theorem dX2_write_10 : decode cX2_write 10 = .ok (.iconst 4, 1) := dk_7 (dk_at dksX2_write_0 10 rfl rfl)
theorem dX2_write_11 : decode cX2_write 11 = .ok (.aload_n 0, 1) := dk_42 (dk_at dksX2_write_0 11 rfl rfl)
theorem dX2_write_12 : decode cX2_write 12 = .ok (.getfield 151, 3) := dk_180 0 151 (dk_at dksX2_write_0 12 rfl rfl)
theorem dX2_write_15 : decode cX2_write 15 = .ok (.imul, 1) := dk_104 (dk_at dksX2_write_0 15 rfl rfl)
theorem dX2_write_16 : decode cX2_write 16 = .ok (.istore 4, 2) := dk_54 4 (dk_at dksX2_write_0 16 rfl rfl)
theorem dX2_write_18 : decode cX2_write 18 = .ok (.aload_n 0, 1) := dk_42 (dk_at dksX2_write_0 18 rfl rfl)
theorem dX2_write_19 : decode cX2_write 19 = .ok (.getfield 64, 3) := dk_180 0 64 (dk_at dksX2_write_0 19 rfl rfl)
theorem dX2_write_22 : decode cX2_write 22 = .ok (.iload 4, 2) := dk_21 4 (dk_at dksX2_write_0 22 rfl rfl)
theorem dX2_write_24 : decode cX2_write 24 = .ok (.iload_n 1, 1) := dk_27 (dk_at dksX2_write_1 0 rfl rfl)
theorem dX2_write_25 : decode cX2_write 25 = .ok (.iastore, 1) := dk_79 (dk_at dksX2_write_1 1 rfl rfl)
theorem dX2_write_26 : decode cX2_write 26 = .ok (.aload_n 0, 1) := dk_42 (dk_at dksX2_write_1 2 rfl rfl)
theorem dX2_write_27 : decode cX2_write 27 = .ok (.getfield 64, 3) := dk_180 0 64 (dk_at dksX2_write_1 3 rfl rfl)
theorem dX2_write_30 : decode cX2_write 30 = .ok (.iload 4, 2) := dk_21 4 (dk_at dksX2_write_1 6 rfl rfl)
theorem dX2_write_32 : decode cX2_write 32 = .ok (.iconst 1, 1) := dk_4 (dk_at dksX2_write_1 8 rfl rfl)
theorem dX2_write_33 : decode cX2_write 33 = .ok (.iadd, 1) := dk_96 (dk_at dksX2_write_1 9 rfl rfl)
theorem dX2_write_34 : decode cX2_write 34 = .ok (.iload_n 2, 1) := dk_28 (dk_at dksX2_write_1 10 rfl rfl)
theorem dX2_write_35 : decode cX2_write 35 = .ok (.iastore, 1) := dk_79 (dk_at dksX2_write_1 11 rfl rfl)
theorem dX2_write_36 : decode cX2_write 36 = .ok (.aload_n 0, 1) := dk_42 (dk_at dksX2_write_1 12 rfl rfl)
theorem dX2_write_37 : decode cX2_write 37 = .ok (.getfield 64, 3) := dk_180 0 64 (dk_at dksX2_write_1 13 rfl rfl)
theorem dX2_write_40 : decode cX2_write 40 = .ok (.iload 4, 2) := dk_21 4 (dk_at dksX2_write_1 16 rfl rfl)
theorem dX2_write_42 : decode cX2_write 42 = .ok (.iconst 2, 1) := dk_5 (dk_at dksX2_write_1 18 rfl rfl)
theorem dX2_write_43 : decode cX2_write 43 = .ok (.iadd, 1) := dk_96 (dk_at dksX2_write_1 19 rfl rfl)
theorem dX2_write_44 : decode cX2_write 44 = .ok (.iload_n 3, 1) := dk_29 (dk_at dksX2_write_1 20 rfl rfl)
theorem dX2_write_45 : decode cX2_write 45 = .ok (.iastore, 1) := dk_79 (dk_at dksX2_write_1 21 rfl rfl)
theorem dX2_write_46 : decode cX2_write 46 = .ok (.aload_n 0, 1) := dk_42 (dk_at dksX2_write_1 22 rfl rfl)
theorem dX2_write_47 : decode cX2_write 47 = .ok (.getfield 64, 3) := dk_180 0 64 (dk_at dksX2_write_2 0 rfl rfl)
theorem dX2_write_50 : decode cX2_write 50 = .ok (.iload 4, 2) := dk_21 4 (dk_at dksX2_write_2 3 rfl rfl)
theorem dX2_write_52 : decode cX2_write 52 = .ok (.iconst 3, 1) := dk_6 (dk_at dksX2_write_2 5 rfl rfl)
theorem dX2_write_53 : decode cX2_write 53 = .ok (.iadd, 1) := dk_96 (dk_at dksX2_write_2 6 rfl rfl)
theorem dX2_write_54 : decode cX2_write 54 = .ok (.aload_n 0, 1) := dk_42 (dk_at dksX2_write_2 7 rfl rfl)
theorem dX2_write_55 : decode cX2_write 55 = .ok (.getfield 130, 3) := dk_180 0 130 (dk_at dksX2_write_2 8 rfl rfl)
theorem dX2_write_58 : decode cX2_write 58 = .ok (.iastore, 1) := dk_79 (dk_at dksX2_write_2 11 rfl rfl)
theorem dX2_write_59 : decode cX2_write 59 = .ok (.aload_n 0, 1) := dk_42 (dk_at dksX2_write_2 12 rfl rfl)
theorem dX2_write_60 : decode cX2_write 60 = .ok (.dup, 1) := dk_89 (dk_at dksX2_write_2 13 rfl rfl)
theorem dX2_write_61 : decode cX2_write 61 = .ok (.getfield 151, 3) := dk_180 0 151 (dk_at dksX2_write_2 14 rfl rfl)
theorem dX2_write_64 : decode cX2_write 64 = .ok (.iconst 1, 1) := dk_4 (dk_at dksX2_write_2 17 rfl rfl)
theorem dX2_write_65 : decode cX2_write 65 = .ok (.iadd, 1) := dk_96 (dk_at dksX2_write_2 18 rfl rfl)
theorem dX2_write_66 : decode cX2_write 66 = .ok (.putfield 151, 3) := dk_181 0 151 (dk_at dksX2_write_2 19 rfl rfl)
theorem dX2_write_69 : decode cX2_write 69 = .ok (.return_, 1) := dk_177 (dk_at dksX2_write_2 22 rfl rfl)
abbrev cX2_makeCalibration : ByteArray := prog_17_method_23_code
def yX2_makeCalibration : MethodName := ⟨RX2, "makeCalibration", "()V"⟩
def dkwX2_makeCalibration_2 : List UInt8 := [4, 96, 79, 177]
abbrev dktX2_makeCalibration_2 : List UInt8 := dkwX2_makeCalibration_2 ++ []
def dkwX2_makeCalibration_1 : List UInt8 := [42, 180, 0, 61, 7, 92, 46, 42, 180, 0, 80, 180, 0, 233, 96, 79, 42, 180, 0, 61, 16, 7, 92, 46]
abbrev dktX2_makeCalibration_1 : List UInt8 := dkwX2_makeCalibration_1 ++ dktX2_makeCalibration_2
def dkwX2_makeCalibration_0 : List UInt8 := [42, 89, 180, 0, 130, 42, 180, 0, 80, 180, 0, 233, 96, 181, 0, 130, 42, 42, 180, 0, 130, 181, 0, 142]
abbrev dktX2_makeCalibration_0 : List UInt8 := dkwX2_makeCalibration_0 ++ dktX2_makeCalibration_1
theorem dksX2_makeCalibration_0 : cX2_makeCalibration.data.toList.drop 0 = dktX2_makeCalibration_0 := by decide +kernel
theorem dksX2_makeCalibration_1 : cX2_makeCalibration.data.toList.drop 24 = dktX2_makeCalibration_1 := dk_seg dksX2_makeCalibration_0 24 rfl rfl
theorem dksX2_makeCalibration_2 : cX2_makeCalibration.data.toList.drop 48 = dktX2_makeCalibration_2 := dk_seg dksX2_makeCalibration_1 24 rfl rfl
theorem dX2_makeCalibration_0 : decode cX2_makeCalibration 0 = .ok (.aload_n 0, 1) := dk_42 (dk_at dksX2_makeCalibration_0 0 rfl rfl)
theorem dX2_makeCalibration_1 : decode cX2_makeCalibration 1 = .ok (.dup, 1) := dk_89 (dk_at dksX2_makeCalibration_0 1 rfl rfl)
theorem dX2_makeCalibration_2 : decode cX2_makeCalibration 2 = .ok (.getfield 130, 3) := dk_180 0 130 (dk_at dksX2_makeCalibration_0 2 rfl rfl)
theorem dX2_makeCalibration_5 : decode cX2_makeCalibration 5 = .ok (.aload_n 0, 1) := dk_42 (dk_at dksX2_makeCalibration_0 5 rfl rfl)
theorem dX2_makeCalibration_6 : decode cX2_makeCalibration 6 = .ok (.getfield 80, 3) := dk_180 0 80 (dk_at dksX2_makeCalibration_0 6 rfl rfl)
theorem dX2_makeCalibration_9 : decode cX2_makeCalibration 9 = .ok (.getfield 233, 3) := dk_180 0 233 (dk_at dksX2_makeCalibration_0 9 rfl rfl)
theorem dX2_makeCalibration_12 : decode cX2_makeCalibration 12 = .ok (.iadd, 1) := dk_96 (dk_at dksX2_makeCalibration_0 12 rfl rfl)
theorem dX2_makeCalibration_13 : decode cX2_makeCalibration 13 = .ok (.putfield 130, 3) := dk_181 0 130 (dk_at dksX2_makeCalibration_0 13 rfl rfl)
theorem dX2_makeCalibration_16 : decode cX2_makeCalibration 16 = .ok (.aload_n 0, 1) := dk_42 (dk_at dksX2_makeCalibration_0 16 rfl rfl)
theorem dX2_makeCalibration_17 : decode cX2_makeCalibration 17 = .ok (.aload_n 0, 1) := dk_42 (dk_at dksX2_makeCalibration_0 17 rfl rfl)
theorem dX2_makeCalibration_18 : decode cX2_makeCalibration 18 = .ok (.getfield 130, 3) := dk_180 0 130 (dk_at dksX2_makeCalibration_0 18 rfl rfl)
theorem dX2_makeCalibration_21 : decode cX2_makeCalibration 21 = .ok (.putfield 142, 3) := dk_181 0 142 (dk_at dksX2_makeCalibration_0 21 rfl rfl)
theorem dX2_makeCalibration_24 : decode cX2_makeCalibration 24 = .ok (.aload_n 0, 1) := dk_42 (dk_at dksX2_makeCalibration_1 0 rfl rfl)
theorem dX2_makeCalibration_25 : decode cX2_makeCalibration 25 = .ok (.getfield 61, 3) := dk_180 0 61 (dk_at dksX2_makeCalibration_1 1 rfl rfl)
theorem dX2_makeCalibration_28 : decode cX2_makeCalibration 28 = .ok (.iconst 4, 1) := dk_7 (dk_at dksX2_makeCalibration_1 4 rfl rfl)
theorem dX2_makeCalibration_29 : decode cX2_makeCalibration 29 = .ok (.dup2, 1) := dk_92 (dk_at dksX2_makeCalibration_1 5 rfl rfl)
theorem dX2_makeCalibration_30 : decode cX2_makeCalibration 30 = .ok (.iaload, 1) := dk_46 (dk_at dksX2_makeCalibration_1 6 rfl rfl)
theorem dX2_makeCalibration_31 : decode cX2_makeCalibration 31 = .ok (.aload_n 0, 1) := dk_42 (dk_at dksX2_makeCalibration_1 7 rfl rfl)
theorem dX2_makeCalibration_32 : decode cX2_makeCalibration 32 = .ok (.getfield 80, 3) := dk_180 0 80 (dk_at dksX2_makeCalibration_1 8 rfl rfl)
theorem dX2_makeCalibration_35 : decode cX2_makeCalibration 35 = .ok (.getfield 233, 3) := dk_180 0 233 (dk_at dksX2_makeCalibration_1 11 rfl rfl)
theorem dX2_makeCalibration_38 : decode cX2_makeCalibration 38 = .ok (.iadd, 1) := dk_96 (dk_at dksX2_makeCalibration_1 14 rfl rfl)
theorem dX2_makeCalibration_39 : decode cX2_makeCalibration 39 = .ok (.iastore, 1) := dk_79 (dk_at dksX2_makeCalibration_1 15 rfl rfl)
theorem dX2_makeCalibration_40 : decode cX2_makeCalibration 40 = .ok (.aload_n 0, 1) := dk_42 (dk_at dksX2_makeCalibration_1 16 rfl rfl)
theorem dX2_makeCalibration_41 : decode cX2_makeCalibration 41 = .ok (.getfield 61, 3) := dk_180 0 61 (dk_at dksX2_makeCalibration_1 17 rfl rfl)
theorem dX2_makeCalibration_44 : decode cX2_makeCalibration 44 = .ok (.bipush 7, 2) := dk_16 7 (dk_at dksX2_makeCalibration_1 20 rfl rfl)
theorem dX2_makeCalibration_46 : decode cX2_makeCalibration 46 = .ok (.dup2, 1) := dk_92 (dk_at dksX2_makeCalibration_1 22 rfl rfl)
theorem dX2_makeCalibration_47 : decode cX2_makeCalibration 47 = .ok (.iaload, 1) := dk_46 (dk_at dksX2_makeCalibration_1 23 rfl rfl)
theorem dX2_makeCalibration_48 : decode cX2_makeCalibration 48 = .ok (.iconst 1, 1) := dk_4 (dk_at dksX2_makeCalibration_2 0 rfl rfl)
theorem dX2_makeCalibration_49 : decode cX2_makeCalibration 49 = .ok (.iadd, 1) := dk_96 (dk_at dksX2_makeCalibration_2 1 rfl rfl)
theorem dX2_makeCalibration_50 : decode cX2_makeCalibration 50 = .ok (.iastore, 1) := dk_79 (dk_at dksX2_makeCalibration_2 2 rfl rfl)
theorem dX2_makeCalibration_51 : decode cX2_makeCalibration 51 = .ok (.return_, 1) := dk_177 (dk_at dksX2_makeCalibration_2 3 rfl rfl)
abbrev cX2_makeVisit : ByteArray := prog_17_method_25_code
def yX2_makeVisit : MethodName := ⟨RX2, "makeVisit", "()I"⟩
def dkwX2_makeVisit_4 : List UInt8 := [180, 0, 208, 79, 3, 172]
abbrev dktX2_makeVisit_4 : List UInt8 := dkwX2_makeVisit_4 ++ []
def dkwX2_makeVisit_3 : List UInt8 := [185, 1, 2, 1, 0, 182, 1, 8, 42, 180, 0, 43, 27, 4, 79, 42, 180, 0, 49, 27, 42, 180, 0, 74]
abbrev dktX2_makeVisit_3 : List UInt8 := dkwX2_makeVisit_3 ++ dktX2_makeVisit_4
def dkwX2_makeVisit_2 : List UInt8 := [182, 1, 8, 42, 180, 0, 46, 27, 92, 46, 4, 96, 79, 4, 172, 42, 42, 180, 0, 74, 180, 0, 221]
abbrev dktX2_makeVisit_2 : List UInt8 := dkwX2_makeVisit_2 ++ dktX2_makeVisit_3
def dkwX2_makeVisit_1 : List UInt8 := [180, 0, 26, 28, 185, 0, 95, 2, 0, 192, 0, 120, 180, 0, 207, 42, 180, 0, 74, 180, 0, 208, 100]
abbrev dktX2_makeVisit_1 : List UInt8 := dkwX2_makeVisit_1 ++ dktX2_makeVisit_2
def dkwX2_makeVisit_0 : List UInt8 := [42, 180, 0, 74, 180, 1, 5, 60, 42, 42, 180, 0, 74, 182, 0, 248, 61, 28, 2, 159, 0, 43, 42, 42]
abbrev dktX2_makeVisit_0 : List UInt8 := dkwX2_makeVisit_0 ++ dktX2_makeVisit_1
theorem dksX2_makeVisit_0 : cX2_makeVisit.data.toList.drop 0 = dktX2_makeVisit_0 := by decide +kernel
theorem dksX2_makeVisit_1 : cX2_makeVisit.data.toList.drop 24 = dktX2_makeVisit_1 := dk_seg dksX2_makeVisit_0 24 rfl rfl
theorem dksX2_makeVisit_2 : cX2_makeVisit.data.toList.drop 47 = dktX2_makeVisit_2 := dk_seg dksX2_makeVisit_1 23 rfl rfl
theorem dksX2_makeVisit_3 : cX2_makeVisit.data.toList.drop 70 = dktX2_makeVisit_3 := dk_seg dksX2_makeVisit_2 23 rfl rfl
theorem dksX2_makeVisit_4 : cX2_makeVisit.data.toList.drop 94 = dktX2_makeVisit_4 := dk_seg dksX2_makeVisit_3 24 rfl rfl
theorem dX2_makeVisit_0 : decode cX2_makeVisit 0 = .ok (.aload_n 0, 1) := dk_42 (dk_at dksX2_makeVisit_0 0 rfl rfl)
theorem dX2_makeVisit_1 : decode cX2_makeVisit 1 = .ok (.getfield 74, 3) := dk_180 0 74 (dk_at dksX2_makeVisit_0 1 rfl rfl)
theorem dX2_makeVisit_4 : decode cX2_makeVisit 4 = .ok (.getfield 261, 3) := dk_180 1 5 (dk_at dksX2_makeVisit_0 4 rfl rfl)
theorem dX2_makeVisit_7 : decode cX2_makeVisit 7 = .ok (.istore_n 1, 1) := dk_60 (dk_at dksX2_makeVisit_0 7 rfl rfl)
theorem dX2_makeVisit_8 : decode cX2_makeVisit 8 = .ok (.aload_n 0, 1) := dk_42 (dk_at dksX2_makeVisit_0 8 rfl rfl)
theorem dX2_makeVisit_9 : decode cX2_makeVisit 9 = .ok (.aload_n 0, 1) := dk_42 (dk_at dksX2_makeVisit_0 9 rfl rfl)
theorem dX2_makeVisit_10 : decode cX2_makeVisit 10 = .ok (.getfield 74, 3) := dk_180 0 74 (dk_at dksX2_makeVisit_0 10 rfl rfl)
theorem dX2_makeVisit_13 : decode cX2_makeVisit 13 = .ok (.invokevirtual 248, 3) := dk_182 0 248 (dk_at dksX2_makeVisit_0 13 rfl rfl)
theorem dX2_makeVisit_16 : decode cX2_makeVisit 16 = .ok (.istore_n 2, 1) := dk_61 (dk_at dksX2_makeVisit_0 16 rfl rfl)
theorem dX2_makeVisit_17 : decode cX2_makeVisit 17 = .ok (.iload_n 2, 1) := dk_28 (dk_at dksX2_makeVisit_0 17 rfl rfl)
theorem dX2_makeVisit_18 : decode cX2_makeVisit 18 = .ok (.iconst (-1), 1) := dk_2 (dk_at dksX2_makeVisit_0 18 rfl rfl)
theorem dX2_makeVisit_19 : decode cX2_makeVisit 19 = .ok (.if_icmp .eq 43, 3) := dk_159 0 43 (dk_at dksX2_makeVisit_0 19 rfl rfl)
theorem dX2_makeVisit_22 : decode cX2_makeVisit 22 = .ok (.aload_n 0, 1) := dk_42 (dk_at dksX2_makeVisit_0 22 rfl rfl)
theorem dX2_makeVisit_23 : decode cX2_makeVisit 23 = .ok (.aload_n 0, 1) := dk_42 (dk_at dksX2_makeVisit_0 23 rfl rfl)
theorem dX2_makeVisit_24 : decode cX2_makeVisit 24 = .ok (.getfield 26, 3) := dk_180 0 26 (dk_at dksX2_makeVisit_1 0 rfl rfl)
theorem dX2_makeVisit_27 : decode cX2_makeVisit 27 = .ok (.iload_n 2, 1) := dk_28 (dk_at dksX2_makeVisit_1 3 rfl rfl)
theorem dX2_makeVisit_28 : decode cX2_makeVisit 28 = .ok (.invokeinterface 95 2, 5) := by decide +kernel
theorem dX2_makeVisit_33 : decode cX2_makeVisit 33 = .ok (.checkcast 120, 3) := dk_192 0 120 (dk_at dksX2_makeVisit_1 9 rfl rfl)
theorem dX2_makeVisit_36 : decode cX2_makeVisit 36 = .ok (.getfield 207, 3) := dk_180 0 207 (dk_at dksX2_makeVisit_1 12 rfl rfl)
theorem dX2_makeVisit_39 : decode cX2_makeVisit 39 = .ok (.aload_n 0, 1) := dk_42 (dk_at dksX2_makeVisit_1 15 rfl rfl)
theorem dX2_makeVisit_40 : decode cX2_makeVisit 40 = .ok (.getfield 74, 3) := dk_180 0 74 (dk_at dksX2_makeVisit_1 16 rfl rfl)
theorem dX2_makeVisit_43 : decode cX2_makeVisit 43 = .ok (.getfield 208, 3) := dk_180 0 208 (dk_at dksX2_makeVisit_1 19 rfl rfl)
theorem dX2_makeVisit_46 : decode cX2_makeVisit 46 = .ok (.isub, 1) := dk_100 (dk_at dksX2_makeVisit_1 22 rfl rfl)
theorem dX2_makeVisit_47 : decode cX2_makeVisit 47 = .ok (.invokevirtual 264, 3) := dk_182 1 8 (dk_at dksX2_makeVisit_2 0 rfl rfl)
theorem dX2_makeVisit_50 : decode cX2_makeVisit 50 = .ok (.aload_n 0, 1) := dk_42 (dk_at dksX2_makeVisit_2 3 rfl rfl)
theorem dX2_makeVisit_51 : decode cX2_makeVisit 51 = .ok (.getfield 46, 3) := dk_180 0 46 (dk_at dksX2_makeVisit_2 4 rfl rfl)
theorem dX2_makeVisit_54 : decode cX2_makeVisit 54 = .ok (.iload_n 1, 1) := dk_27 (dk_at dksX2_makeVisit_2 7 rfl rfl)
theorem dX2_makeVisit_55 : decode cX2_makeVisit 55 = .ok (.dup2, 1) := dk_92 (dk_at dksX2_makeVisit_2 8 rfl rfl)
theorem dX2_makeVisit_56 : decode cX2_makeVisit 56 = .ok (.iaload, 1) := dk_46 (dk_at dksX2_makeVisit_2 9 rfl rfl)
theorem dX2_makeVisit_57 : decode cX2_makeVisit 57 = .ok (.iconst 1, 1) := dk_4 (dk_at dksX2_makeVisit_2 10 rfl rfl)
theorem dX2_makeVisit_58 : decode cX2_makeVisit 58 = .ok (.iadd, 1) := dk_96 (dk_at dksX2_makeVisit_2 11 rfl rfl)
theorem dX2_makeVisit_59 : decode cX2_makeVisit 59 = .ok (.iastore, 1) := dk_79 (dk_at dksX2_makeVisit_2 12 rfl rfl)
theorem dX2_makeVisit_60 : decode cX2_makeVisit 60 = .ok (.iconst 1, 1) := dk_4 (dk_at dksX2_makeVisit_2 13 rfl rfl)
theorem dX2_makeVisit_61 : decode cX2_makeVisit 61 = .ok (.ireturn, 1) := dk_172 (dk_at dksX2_makeVisit_2 14 rfl rfl)
theorem dX2_makeVisit_62 : decode cX2_makeVisit 62 = .ok (.aload_n 0, 1) := dk_42 (dk_at dksX2_makeVisit_2 15 rfl rfl)
theorem dX2_makeVisit_63 : decode cX2_makeVisit 63 = .ok (.aload_n 0, 1) := dk_42 (dk_at dksX2_makeVisit_2 16 rfl rfl)
theorem dX2_makeVisit_64 : decode cX2_makeVisit 64 = .ok (.getfield 74, 3) := dk_180 0 74 (dk_at dksX2_makeVisit_2 17 rfl rfl)
theorem dX2_makeVisit_67 : decode cX2_makeVisit 67 = .ok (.getfield 221, 3) := dk_180 0 221 (dk_at dksX2_makeVisit_2 20 rfl rfl)
theorem dX2_makeVisit_70 : decode cX2_makeVisit 70 = .ok (.invokeinterface 258 1, 5) := by decide +kernel
theorem dX2_makeVisit_75 : decode cX2_makeVisit 75 = .ok (.invokevirtual 264, 3) := dk_182 1 8 (dk_at dksX2_makeVisit_3 5 rfl rfl)
theorem dX2_makeVisit_78 : decode cX2_makeVisit 78 = .ok (.aload_n 0, 1) := dk_42 (dk_at dksX2_makeVisit_3 8 rfl rfl)
theorem dX2_makeVisit_79 : decode cX2_makeVisit 79 = .ok (.getfield 43, 3) := dk_180 0 43 (dk_at dksX2_makeVisit_3 9 rfl rfl)
theorem dX2_makeVisit_82 : decode cX2_makeVisit 82 = .ok (.iload_n 1, 1) := dk_27 (dk_at dksX2_makeVisit_3 12 rfl rfl)
theorem dX2_makeVisit_83 : decode cX2_makeVisit 83 = .ok (.iconst 1, 1) := dk_4 (dk_at dksX2_makeVisit_3 13 rfl rfl)
theorem dX2_makeVisit_84 : decode cX2_makeVisit 84 = .ok (.iastore, 1) := dk_79 (dk_at dksX2_makeVisit_3 14 rfl rfl)
theorem dX2_makeVisit_85 : decode cX2_makeVisit 85 = .ok (.aload_n 0, 1) := dk_42 (dk_at dksX2_makeVisit_3 15 rfl rfl)
theorem dX2_makeVisit_86 : decode cX2_makeVisit 86 = .ok (.getfield 49, 3) := dk_180 0 49 (dk_at dksX2_makeVisit_3 16 rfl rfl)
theorem dX2_makeVisit_89 : decode cX2_makeVisit 89 = .ok (.iload_n 1, 1) := dk_27 (dk_at dksX2_makeVisit_3 19 rfl rfl)
theorem dX2_makeVisit_90 : decode cX2_makeVisit 90 = .ok (.aload_n 0, 1) := dk_42 (dk_at dksX2_makeVisit_3 20 rfl rfl)
theorem dX2_makeVisit_91 : decode cX2_makeVisit 91 = .ok (.getfield 74, 3) := dk_180 0 74 (dk_at dksX2_makeVisit_3 21 rfl rfl)
theorem dX2_makeVisit_94 : decode cX2_makeVisit 94 = .ok (.getfield 208, 3) := dk_180 0 208 (dk_at dksX2_makeVisit_4 0 rfl rfl)
theorem dX2_makeVisit_97 : decode cX2_makeVisit 97 = .ok (.iastore, 1) := dk_79 (dk_at dksX2_makeVisit_4 3 rfl rfl)
theorem dX2_makeVisit_98 : decode cX2_makeVisit 98 = .ok (.iconst 0, 1) := dk_3 (dk_at dksX2_makeVisit_4 4 rfl rfl)
theorem dX2_makeVisit_99 : decode cX2_makeVisit 99 = .ok (.ireturn, 1) := dk_172 (dk_at dksX2_makeVisit_4 5 rfl rfl)
abbrev cX2_idle : ByteArray := prog_17_method_28_code
def yX2_idle : MethodName := ⟨RX2, "idle", "()V"⟩
def dkwX2_idle_1 : List UInt8 := [181, 0, 130, 177]
abbrev dktX2_idle_1 : List UInt8 := dkwX2_idle_1 ++ []
def dkwX2_idle_0 : List UInt8 := [42, 182, 1, 14, 60, 42, 180, 0, 61, 8, 92, 46, 27, 42, 180, 0, 130, 100, 96, 79, 42, 27]
abbrev dktX2_idle_0 : List UInt8 := dkwX2_idle_0 ++ dktX2_idle_1
theorem dksX2_idle_0 : cX2_idle.data.toList.drop 0 = dktX2_idle_0 := by decide +kernel
theorem dksX2_idle_1 : cX2_idle.data.toList.drop 22 = dktX2_idle_1 := dk_seg dksX2_idle_0 22 rfl rfl
theorem dX2_idle_0 : decode cX2_idle 0 = .ok (.aload_n 0, 1) := dk_42 (dk_at dksX2_idle_0 0 rfl rfl)
theorem dX2_idle_1 : decode cX2_idle 1 = .ok (.invokevirtual 270, 3) := dk_182 1 14 (dk_at dksX2_idle_0 1 rfl rfl)
theorem dX2_idle_4 : decode cX2_idle 4 = .ok (.istore_n 1, 1) := dk_60 (dk_at dksX2_idle_0 4 rfl rfl)
theorem dX2_idle_5 : decode cX2_idle 5 = .ok (.aload_n 0, 1) := dk_42 (dk_at dksX2_idle_0 5 rfl rfl)
theorem dX2_idle_6 : decode cX2_idle 6 = .ok (.getfield 61, 3) := dk_180 0 61 (dk_at dksX2_idle_0 6 rfl rfl)
theorem dX2_idle_9 : decode cX2_idle 9 = .ok (.iconst 5, 1) := dk_8 (dk_at dksX2_idle_0 9 rfl rfl)
theorem dX2_idle_10 : decode cX2_idle 10 = .ok (.dup2, 1) := dk_92 (dk_at dksX2_idle_0 10 rfl rfl)
theorem dX2_idle_11 : decode cX2_idle 11 = .ok (.iaload, 1) := dk_46 (dk_at dksX2_idle_0 11 rfl rfl)
theorem dX2_idle_12 : decode cX2_idle 12 = .ok (.iload_n 1, 1) := dk_27 (dk_at dksX2_idle_0 12 rfl rfl)
theorem dX2_idle_13 : decode cX2_idle 13 = .ok (.aload_n 0, 1) := dk_42 (dk_at dksX2_idle_0 13 rfl rfl)
theorem dX2_idle_14 : decode cX2_idle 14 = .ok (.getfield 130, 3) := dk_180 0 130 (dk_at dksX2_idle_0 14 rfl rfl)
theorem dX2_idle_17 : decode cX2_idle 17 = .ok (.isub, 1) := dk_100 (dk_at dksX2_idle_0 17 rfl rfl)
theorem dX2_idle_18 : decode cX2_idle 18 = .ok (.iadd, 1) := dk_96 (dk_at dksX2_idle_0 18 rfl rfl)
theorem dX2_idle_19 : decode cX2_idle 19 = .ok (.iastore, 1) := dk_79 (dk_at dksX2_idle_0 19 rfl rfl)
theorem dX2_idle_20 : decode cX2_idle 20 = .ok (.aload_n 0, 1) := dk_42 (dk_at dksX2_idle_0 20 rfl rfl)
theorem dX2_idle_21 : decode cX2_idle 21 = .ok (.iload_n 1, 1) := dk_27 (dk_at dksX2_idle_0 21 rfl rfl)
theorem dX2_idle_22 : decode cX2_idle 22 = .ok (.putfield 130, 3) := dk_181 0 130 (dk_at dksX2_idle_1 0 rfl rfl)
theorem dX2_idle_25 : decode cX2_idle 25 = .ok (.return_, 1) := dk_177 (dk_at dksX2_idle_1 3 rfl rfl)
abbrev cX2_idleEnd : ByteArray := prog_17_method_27_code
def yX2_idleEnd : MethodName := ⟨RX2, "idleEnd", "()I"⟩
def dkwX2_idleEnd_3 : List UInt8 := [28, 185, 0, 95, 2, 0, 192, 0, 120, 180, 0, 207, 184, 1, 11, 60, 132, 2, 1, 167, 255, 187, 27, 172]
abbrev dktX2_idleEnd_3 : List UInt8 := dkwX2_idleEnd_3 ++ []
def dkwX2_idleEnd_2 : List UInt8 := [28, 185, 0, 95, 2, 0, 192, 0, 120, 180, 0, 207, 42, 180, 0, 130, 164, 0, 24, 27, 42, 180, 0, 26]
abbrev dktX2_idleEnd_2 : List UInt8 := dkwX2_idleEnd_2 ++ dktX2_idleEnd_3
def dkwX2_idleEnd_1 : List UInt8 := [180, 0, 26, 185, 0, 89, 1, 0, 162, 0, 62, 42, 180, 0, 55, 28, 46, 154, 0, 47, 42, 180, 0, 26]
abbrev dktX2_idleEnd_1 : List UInt8 := dkwX2_idleEnd_1 ++ dktX2_idleEnd_2
def dkwX2_idleEnd_0 : List UInt8 := [42, 180, 0, 130, 16, 10, 96, 42, 180, 0, 80, 180, 0, 236, 184, 1, 11, 60, 3, 61, 28, 42]
abbrev dktX2_idleEnd_0 : List UInt8 := dkwX2_idleEnd_0 ++ dktX2_idleEnd_1
theorem dksX2_idleEnd_0 : cX2_idleEnd.data.toList.drop 0 = dktX2_idleEnd_0 := by decide +kernel
theorem dksX2_idleEnd_1 : cX2_idleEnd.data.toList.drop 22 = dktX2_idleEnd_1 := dk_seg dksX2_idleEnd_0 22 rfl rfl
theorem dksX2_idleEnd_2 : cX2_idleEnd.data.toList.drop 46 = dktX2_idleEnd_2 := dk_seg dksX2_idleEnd_1 24 rfl rfl
theorem dksX2_idleEnd_3 : cX2_idleEnd.data.toList.drop 70 = dktX2_idleEnd_3 := dk_seg dksX2_idleEnd_2 24 rfl rfl
theorem dX2_idleEnd_0 : decode cX2_idleEnd 0 = .ok (.aload_n 0, 1) := dk_42 (dk_at dksX2_idleEnd_0 0 rfl rfl)
theorem dX2_idleEnd_1 : decode cX2_idleEnd 1 = .ok (.getfield 130, 3) := dk_180 0 130 (dk_at dksX2_idleEnd_0 1 rfl rfl)
theorem dX2_idleEnd_4 : decode cX2_idleEnd 4 = .ok (.bipush 10, 2) := dk_16 10 (dk_at dksX2_idleEnd_0 4 rfl rfl)
theorem dX2_idleEnd_6 : decode cX2_idleEnd 6 = .ok (.iadd, 1) := dk_96 (dk_at dksX2_idleEnd_0 6 rfl rfl)
theorem dX2_idleEnd_7 : decode cX2_idleEnd 7 = .ok (.aload_n 0, 1) := dk_42 (dk_at dksX2_idleEnd_0 7 rfl rfl)
theorem dX2_idleEnd_8 : decode cX2_idleEnd 8 = .ok (.getfield 80, 3) := dk_180 0 80 (dk_at dksX2_idleEnd_0 8 rfl rfl)
theorem dX2_idleEnd_11 : decode cX2_idleEnd 11 = .ok (.getfield 236, 3) := dk_180 0 236 (dk_at dksX2_idleEnd_0 11 rfl rfl)
theorem dX2_idleEnd_14 : decode cX2_idleEnd 14 = .ok (.invokestatic 267, 3) := dk_184 1 11 (dk_at dksX2_idleEnd_0 14 rfl rfl)
theorem dX2_idleEnd_17 : decode cX2_idleEnd 17 = .ok (.istore_n 1, 1) := dk_60 (dk_at dksX2_idleEnd_0 17 rfl rfl)
theorem dX2_idleEnd_18 : decode cX2_idleEnd 18 = .ok (.iconst 0, 1) := dk_3 (dk_at dksX2_idleEnd_0 18 rfl rfl)
theorem dX2_idleEnd_19 : decode cX2_idleEnd 19 = .ok (.istore_n 2, 1) := dk_61 (dk_at dksX2_idleEnd_0 19 rfl rfl)
theorem dX2_idleEnd_20 : decode cX2_idleEnd 20 = .ok (.iload_n 2, 1) := dk_28 (dk_at dksX2_idleEnd_0 20 rfl rfl)
theorem dX2_idleEnd_21 : decode cX2_idleEnd 21 = .ok (.aload_n 0, 1) := dk_42 (dk_at dksX2_idleEnd_0 21 rfl rfl)
theorem dX2_idleEnd_22 : decode cX2_idleEnd 22 = .ok (.getfield 26, 3) := dk_180 0 26 (dk_at dksX2_idleEnd_1 0 rfl rfl)
theorem dX2_idleEnd_25 : decode cX2_idleEnd 25 = .ok (.invokeinterface 89 1, 5) := by decide +kernel
theorem dX2_idleEnd_30 : decode cX2_idleEnd 30 = .ok (.if_icmp .ge 62, 3) := dk_162 0 62 (dk_at dksX2_idleEnd_1 8 rfl rfl)
theorem dX2_idleEnd_33 : decode cX2_idleEnd 33 = .ok (.aload_n 0, 1) := dk_42 (dk_at dksX2_idleEnd_1 11 rfl rfl)
theorem dX2_idleEnd_34 : decode cX2_idleEnd 34 = .ok (.getfield 55, 3) := dk_180 0 55 (dk_at dksX2_idleEnd_1 12 rfl rfl)
theorem dX2_idleEnd_37 : decode cX2_idleEnd 37 = .ok (.iload_n 2, 1) := dk_28 (dk_at dksX2_idleEnd_1 15 rfl rfl)
theorem dX2_idleEnd_38 : decode cX2_idleEnd 38 = .ok (.iaload, 1) := dk_46 (dk_at dksX2_idleEnd_1 16 rfl rfl)
theorem dX2_idleEnd_39 : decode cX2_idleEnd 39 = .ok (.ifCond .ne 47, 3) := dk_154 0 47 (dk_at dksX2_idleEnd_1 17 rfl rfl)
theorem dX2_idleEnd_42 : decode cX2_idleEnd 42 = .ok (.aload_n 0, 1) := dk_42 (dk_at dksX2_idleEnd_1 20 rfl rfl)
theorem dX2_idleEnd_43 : decode cX2_idleEnd 43 = .ok (.getfield 26, 3) := dk_180 0 26 (dk_at dksX2_idleEnd_1 21 rfl rfl)
theorem dX2_idleEnd_46 : decode cX2_idleEnd 46 = .ok (.iload_n 2, 1) := dk_28 (dk_at dksX2_idleEnd_2 0 rfl rfl)
theorem dX2_idleEnd_47 : decode cX2_idleEnd 47 = .ok (.invokeinterface 95 2, 5) := by decide +kernel
theorem dX2_idleEnd_52 : decode cX2_idleEnd 52 = .ok (.checkcast 120, 3) := dk_192 0 120 (dk_at dksX2_idleEnd_2 6 rfl rfl)
theorem dX2_idleEnd_55 : decode cX2_idleEnd 55 = .ok (.getfield 207, 3) := dk_180 0 207 (dk_at dksX2_idleEnd_2 9 rfl rfl)
theorem dX2_idleEnd_58 : decode cX2_idleEnd 58 = .ok (.aload_n 0, 1) := dk_42 (dk_at dksX2_idleEnd_2 12 rfl rfl)
theorem dX2_idleEnd_59 : decode cX2_idleEnd 59 = .ok (.getfield 130, 3) := dk_180 0 130 (dk_at dksX2_idleEnd_2 13 rfl rfl)
theorem dX2_idleEnd_62 : decode cX2_idleEnd 62 = .ok (.if_icmp .le 24, 3) := dk_164 0 24 (dk_at dksX2_idleEnd_2 16 rfl rfl)
theorem dX2_idleEnd_65 : decode cX2_idleEnd 65 = .ok (.iload_n 1, 1) := dk_27 (dk_at dksX2_idleEnd_2 19 rfl rfl)
theorem dX2_idleEnd_66 : decode cX2_idleEnd 66 = .ok (.aload_n 0, 1) := dk_42 (dk_at dksX2_idleEnd_2 20 rfl rfl)
theorem dX2_idleEnd_67 : decode cX2_idleEnd 67 = .ok (.getfield 26, 3) := dk_180 0 26 (dk_at dksX2_idleEnd_2 21 rfl rfl)
theorem dX2_idleEnd_70 : decode cX2_idleEnd 70 = .ok (.iload_n 2, 1) := dk_28 (dk_at dksX2_idleEnd_3 0 rfl rfl)
theorem dX2_idleEnd_71 : decode cX2_idleEnd 71 = .ok (.invokeinterface 95 2, 5) := by decide +kernel
theorem dX2_idleEnd_76 : decode cX2_idleEnd 76 = .ok (.checkcast 120, 3) := dk_192 0 120 (dk_at dksX2_idleEnd_3 6 rfl rfl)
theorem dX2_idleEnd_79 : decode cX2_idleEnd 79 = .ok (.getfield 207, 3) := dk_180 0 207 (dk_at dksX2_idleEnd_3 9 rfl rfl)
theorem dX2_idleEnd_82 : decode cX2_idleEnd 82 = .ok (.invokestatic 267, 3) := dk_184 1 11 (dk_at dksX2_idleEnd_3 12 rfl rfl)
theorem dX2_idleEnd_85 : decode cX2_idleEnd 85 = .ok (.istore_n 1, 1) := dk_60 (dk_at dksX2_idleEnd_3 15 rfl rfl)
theorem dX2_idleEnd_86 : decode cX2_idleEnd 86 = .ok (.iinc 2 1, 3) := dk_132 2 1 (dk_at dksX2_idleEnd_3 16 rfl rfl)
theorem dX2_idleEnd_89 : decode cX2_idleEnd 89 = .ok (.goto (-69), 3) := dk_167 255 187 (dk_at dksX2_idleEnd_3 19 rfl rfl)
theorem dX2_idleEnd_92 : decode cX2_idleEnd 92 = .ok (.iload_n 1, 1) := dk_27 (dk_at dksX2_idleEnd_3 22 rfl rfl)
theorem dX2_idleEnd_93 : decode cX2_idleEnd 93 = .ok (.ireturn, 1) := dk_172 (dk_at dksX2_idleEnd_3 23 rfl rfl)
abbrev cX2_setPolicy : ByteArray := prog_17_method_8_code
def yX2_setPolicy : MethodName := ⟨RX2, "setPolicy", "(I)V"⟩
def dkwX2_setPolicy_0 : List UInt8 := [42, 27, 181, 0, 148, 42, 27, 184, 0, 9, 181, 0, 15, 177]
abbrev dktX2_setPolicy_0 : List UInt8 := dkwX2_setPolicy_0 ++ []
theorem dksX2_setPolicy_0 : cX2_setPolicy.data.toList.drop 0 = dktX2_setPolicy_0 := by decide +kernel
theorem dX2_setPolicy_0 : decode cX2_setPolicy 0 = .ok (.aload_n 0, 1) := dk_42 (dk_at dksX2_setPolicy_0 0 rfl rfl)
theorem dX2_setPolicy_1 : decode cX2_setPolicy 1 = .ok (.iload_n 1, 1) := dk_27 (dk_at dksX2_setPolicy_0 1 rfl rfl)
theorem dX2_setPolicy_2 : decode cX2_setPolicy 2 = .ok (.putfield 148, 3) := dk_181 0 148 (dk_at dksX2_setPolicy_0 2 rfl rfl)
theorem dX2_setPolicy_5 : decode cX2_setPolicy 5 = .ok (.aload_n 0, 1) := dk_42 (dk_at dksX2_setPolicy_0 5 rfl rfl)
theorem dX2_setPolicy_6 : decode cX2_setPolicy 6 = .ok (.iload_n 1, 1) := dk_27 (dk_at dksX2_setPolicy_0 6 rfl rfl)
theorem dX2_setPolicy_7 : decode cX2_setPolicy 7 = .ok (.invokestatic 9, 3) := dk_184 0 9 (dk_at dksX2_setPolicy_0 7 rfl rfl)
theorem dX2_setPolicy_10 : decode cX2_setPolicy 10 = .ok (.putfield 15, 3) := dk_181 0 15 (dk_at dksX2_setPolicy_0 10 rfl rfl)
theorem dX2_setPolicy_13 : decode cX2_setPolicy 13 = .ok (.return_, 1) := dk_177 (dk_at dksX2_setPolicy_0 13 rfl rfl)
abbrev cX2_finish : ByteArray := prog_17_method_31_code
def yX2_finish : MethodName := ⟨RX2, "finish", "()LTelescopeQueue$State;"⟩
def dkwX2_finish_0 : List UInt8 := [42, 180, 0, 130, 42, 180, 0, 80, 180, 0, 236, 162, 0, 10, 42, 182, 1, 36, 167, 255, 238, 42, 176]
abbrev dktX2_finish_0 : List UInt8 := dkwX2_finish_0 ++ []
theorem dksX2_finish_0 : cX2_finish.data.toList.drop 0 = dktX2_finish_0 := by decide +kernel
theorem dX2_finish_0 : decode cX2_finish 0 = .ok (.aload_n 0, 1) := dk_42 (dk_at dksX2_finish_0 0 rfl rfl)
theorem dX2_finish_1 : decode cX2_finish 1 = .ok (.getfield 130, 3) := dk_180 0 130 (dk_at dksX2_finish_0 1 rfl rfl)
theorem dX2_finish_4 : decode cX2_finish 4 = .ok (.aload_n 0, 1) := dk_42 (dk_at dksX2_finish_0 4 rfl rfl)
theorem dX2_finish_5 : decode cX2_finish 5 = .ok (.getfield 80, 3) := dk_180 0 80 (dk_at dksX2_finish_0 5 rfl rfl)
theorem dX2_finish_8 : decode cX2_finish 8 = .ok (.getfield 236, 3) := dk_180 0 236 (dk_at dksX2_finish_0 8 rfl rfl)
theorem dX2_finish_11 : decode cX2_finish 11 = .ok (.if_icmp .ge 10, 3) := dk_162 0 10 (dk_at dksX2_finish_0 11 rfl rfl)
theorem dX2_finish_14 : decode cX2_finish 14 = .ok (.aload_n 0, 1) := dk_42 (dk_at dksX2_finish_0 14 rfl rfl)
theorem dX2_finish_15 : decode cX2_finish 15 = .ok (.invokevirtual 292, 3) := dk_182 1 36 (dk_at dksX2_finish_0 15 rfl rfl)
theorem dX2_finish_18 : decode cX2_finish 18 = .ok (.goto (-18), 3) := dk_167 255 238 (dk_at dksX2_finish_0 18 rfl rfl)
theorem dX2_finish_21 : decode cX2_finish 21 = .ok (.aload_n 0, 1) := dk_42 (dk_at dksX2_finish_0 21 rfl rfl)
theorem dX2_finish_22 : decode cX2_finish 22 = .ok (.areturn, 1) := dk_176 (dk_at dksX2_finish_0 22 rfl rfl)
abbrev cX2_done : ByteArray := prog_17_method_32_code
def yX2_done : MethodName := ⟨RX2, "done", "()I"⟩
def dkwX2_done_1 : List UInt8 := [180, 0, 43, 28, 46, 4, 160, 0, 7, 4, 167, 0, 4, 3, 96, 60, 132, 2, 1, 167, 255, 219, 27, 172]
abbrev dktX2_done_1 : List UInt8 := dkwX2_done_1 ++ []
def dkwX2_done_0 : List UInt8 := [3, 60, 3, 61, 28, 42, 180, 0, 80, 180, 0, 104, 185, 0, 89, 1, 0, 162, 0, 27, 27, 42]
abbrev dktX2_done_0 : List UInt8 := dkwX2_done_0 ++ dktX2_done_1
theorem dksX2_done_0 : cX2_done.data.toList.drop 0 = dktX2_done_0 := by decide +kernel
theorem dksX2_done_1 : cX2_done.data.toList.drop 22 = dktX2_done_1 := dk_seg dksX2_done_0 22 rfl rfl
theorem dX2_done_0 : decode cX2_done 0 = .ok (.iconst 0, 1) := dk_3 (dk_at dksX2_done_0 0 rfl rfl)
theorem dX2_done_1 : decode cX2_done 1 = .ok (.istore_n 1, 1) := dk_60 (dk_at dksX2_done_0 1 rfl rfl)
theorem dX2_done_2 : decode cX2_done 2 = .ok (.iconst 0, 1) := dk_3 (dk_at dksX2_done_0 2 rfl rfl)
theorem dX2_done_3 : decode cX2_done 3 = .ok (.istore_n 2, 1) := dk_61 (dk_at dksX2_done_0 3 rfl rfl)
theorem dX2_done_4 : decode cX2_done 4 = .ok (.iload_n 2, 1) := dk_28 (dk_at dksX2_done_0 4 rfl rfl)
theorem dX2_done_5 : decode cX2_done 5 = .ok (.aload_n 0, 1) := dk_42 (dk_at dksX2_done_0 5 rfl rfl)
theorem dX2_done_6 : decode cX2_done 6 = .ok (.getfield 80, 3) := dk_180 0 80 (dk_at dksX2_done_0 6 rfl rfl)
theorem dX2_done_9 : decode cX2_done 9 = .ok (.getfield 104, 3) := dk_180 0 104 (dk_at dksX2_done_0 9 rfl rfl)
theorem dX2_done_12 : decode cX2_done 12 = .ok (.invokeinterface 89 1, 5) := by decide +kernel
theorem dX2_done_17 : decode cX2_done 17 = .ok (.if_icmp .ge 27, 3) := dk_162 0 27 (dk_at dksX2_done_0 17 rfl rfl)
theorem dX2_done_20 : decode cX2_done 20 = .ok (.iload_n 1, 1) := dk_27 (dk_at dksX2_done_0 20 rfl rfl)
theorem dX2_done_21 : decode cX2_done 21 = .ok (.aload_n 0, 1) := dk_42 (dk_at dksX2_done_0 21 rfl rfl)
theorem dX2_done_22 : decode cX2_done 22 = .ok (.getfield 43, 3) := dk_180 0 43 (dk_at dksX2_done_1 0 rfl rfl)
theorem dX2_done_25 : decode cX2_done 25 = .ok (.iload_n 2, 1) := dk_28 (dk_at dksX2_done_1 3 rfl rfl)
theorem dX2_done_26 : decode cX2_done 26 = .ok (.iaload, 1) := dk_46 (dk_at dksX2_done_1 4 rfl rfl)
theorem dX2_done_27 : decode cX2_done 27 = .ok (.iconst 1, 1) := dk_4 (dk_at dksX2_done_1 5 rfl rfl)
theorem dX2_done_28 : decode cX2_done 28 = .ok (.if_icmp .ne 7, 3) := dk_160 0 7 (dk_at dksX2_done_1 6 rfl rfl)
theorem dX2_done_31 : decode cX2_done 31 = .ok (.iconst 1, 1) := dk_4 (dk_at dksX2_done_1 9 rfl rfl)
theorem dX2_done_32 : decode cX2_done 32 = .ok (.goto 4, 3) := dk_167 0 4 (dk_at dksX2_done_1 10 rfl rfl)
theorem dX2_done_35 : decode cX2_done 35 = .ok (.iconst 0, 1) := dk_3 (dk_at dksX2_done_1 13 rfl rfl)
theorem dX2_done_36 : decode cX2_done 36 = .ok (.iadd, 1) := dk_96 (dk_at dksX2_done_1 14 rfl rfl)
theorem dX2_done_37 : decode cX2_done 37 = .ok (.istore_n 1, 1) := dk_60 (dk_at dksX2_done_1 15 rfl rfl)
theorem dX2_done_38 : decode cX2_done 38 = .ok (.iinc 2 1, 3) := dk_132 2 1 (dk_at dksX2_done_1 16 rfl rfl)
theorem dX2_done_41 : decode cX2_done 41 = .ok (.goto (-37), 3) := dk_167 255 219 (dk_at dksX2_done_1 19 rfl rfl)
theorem dX2_done_44 : decode cX2_done 44 = .ok (.iload_n 1, 1) := dk_27 (dk_at dksX2_done_1 22 rfl rfl)
theorem dX2_done_45 : decode cX2_done 45 = .ok (.ireturn, 1) := dk_172 (dk_at dksX2_done_1 23 rfl rfl)
abbrev cX2_copy_2 : ByteArray := prog_17_method_34_code
def yX2_copy_2 : MethodName := ⟨RX2, "copy", "()Ljava/lang/Object;"⟩
theorem dX2_copy_2_0 : decode cX2_copy_2 0 = .ok (.aload_n 0, 1) := by decide +kernel
theorem dX2_copy_2_1 : decode cX2_copy_2 1 = .ok (.invokevirtual 295, 3) := by decide +kernel
theorem dX2_copy_2_4 : decode cX2_copy_2 4 = .ok (.areturn, 1) := by decide +kernel
abbrev cX2_copy_3 : ByteArray := prog_17_method_5_code
def yX2_copy_3 : MethodName := ⟨RX2, "copy", "()LTelescopeQueue$State;"⟩
def dkwX2_copy_3_0 : List UInt8 := [187, 0, 16, 89, 42, 180, 0, 80, 183, 0, 154, 42, 182, 0, 157, 176]
abbrev dktX2_copy_3_0 : List UInt8 := dkwX2_copy_3_0 ++ []
theorem dksX2_copy_3_0 : cX2_copy_3.data.toList.drop 0 = dktX2_copy_3_0 := by decide +kernel
theorem dX2_copy_3_0 : decode cX2_copy_3 0 = .ok (.new 16, 3) := dk_187 0 16 (dk_at dksX2_copy_3_0 0 rfl rfl)
theorem dX2_copy_3_3 : decode cX2_copy_3 3 = .ok (.dup, 1) := dk_89 (dk_at dksX2_copy_3_0 3 rfl rfl)
theorem dX2_copy_3_4 : decode cX2_copy_3 4 = .ok (.aload_n 0, 1) := dk_42 (dk_at dksX2_copy_3_0 4 rfl rfl)
theorem dX2_copy_3_5 : decode cX2_copy_3 5 = .ok (.getfield 80, 3) := dk_180 0 80 (dk_at dksX2_copy_3_0 5 rfl rfl)
theorem dX2_copy_3_8 : decode cX2_copy_3 8 = .ok (.invokespecial 154, 3) := dk_183 0 154 (dk_at dksX2_copy_3_0 8 rfl rfl)
theorem dX2_copy_3_11 : decode cX2_copy_3 11 = .ok (.aload_n 0, 1) := dk_42 (dk_at dksX2_copy_3_0 11 rfl rfl)
theorem dX2_copy_3_12 : decode cX2_copy_3 12 = .ok (.invokevirtual 157, 3) := dk_182 0 157 (dk_at dksX2_copy_3_0 12 rfl rfl)
theorem dX2_copy_3_15 : decode cX2_copy_3 15 = .ok (.areturn, 1) := dk_176 (dk_at dksX2_copy_3_0 15 rfl rfl)
theorem q114 : (Jvm.Cond.initialized "TelescopeQueue$State") ∈ lw_all := lw_g (lw_at lw_m1 2 rfl) rfl
theorem q169 : (Jvm.Cond.instantiable "TelescopeQueue$State" (26 : Nat)) ∈ lw_all := lw_g (lw_at lw_m1 57 rfl) rfl
theorem q171 : (Jvm.Cond.instanceMethod ({ cls := "TelescopeQueue$State", name := "<init>", desc := "(LTelescopeQueue$Scope;)V" } : Jvm.MethodName)) ∈ lw_all := lw_g (lw_at lw_m1 59 rfl) rfl
theorem q172 : (Jvm.Cond.code ({ cls := "TelescopeQueue$State", name := "<init>", desc := "(LTelescopeQueue$Scope;)V" } : Jvm.MethodName) prog_17_method_1_code (2 : Nat) (Option.none : Option Jvm.ClassFile.FieldType)) ∈ lw_all := lw_g (lw_at lw_m1 60 rfl) rfl
theorem q173 : (Jvm.Cond.methodLink "TelescopeQueue$State" (3 : Nat) ({ cls := "java/lang/Object", name := "<init>", desc := "()V" } : Jvm.MethodName)) ∈ lw_all := lw_g (lw_at lw_m1 61 rfl) rfl
theorem q174 : (Jvm.Cond.methodLink "TelescopeQueue$State" (9 : Nat) ({ cls := "TelescopeQueue$Rule", name := "of", desc := "(I)LTelescopeQueue$Rule;" } : Jvm.MethodName)) ∈ lw_all := lw_g (lw_at lw_m1 62 rfl) rfl
theorem q206 : (Jvm.Cond.classLink "TelescopeQueue$State" (21 : Nat) "java/util/ArrayList") ∈ lw_all := lw_g (lw_at lw_m1 94 rfl) rfl
theorem q208 : (Jvm.Cond.methodLink "TelescopeQueue$State" (23 : Nat) ({ cls := "java/util/ArrayList", name := "<init>", desc := "(I)V" } : Jvm.MethodName)) ∈ lw_all := lw_g (lw_at lw_m1 96 rfl) rfl
theorem q551 : (Jvm.Cond.classLink "TelescopeQueue$State" (67 : Nat) "TelescopeQueue$Plan") ∈ lw_all := lw_g (lw_at lw_m2 199 rfl) rfl
theorem q553 : (Jvm.Cond.methodLinkNest "TelescopeQueue$State" (69 : Nat) ({ cls := "TelescopeQueue$Plan", name := "<init>", desc := "()V" } : Jvm.MethodName) "TelescopeQueue") ∈ lw_tbl := lw_at lw_m2 201 rfl
theorem q560 : (Jvm.Cond.fieldLinkNest "TelescopeQueue$State" (221 : Nat) "TelescopeQueue$Plan" "work" "LTelescopeQueue$Work;" "TelescopeQueue") ∈ lw_tbl := lw_at lw_m2 208 rfl
theorem q563 : (Jvm.Cond.fieldLinkNest "TelescopeQueue$State" (261 : Nat) "TelescopeQueue$Plan" "number" "I" "TelescopeQueue") ∈ lw_tbl := lw_at lw_m2 211 rfl
theorem q566 : (Jvm.Cond.fieldLinkNest "TelescopeQueue$State" (218 : Nat) "TelescopeQueue$Plan" "dump" "I" "TelescopeQueue") ∈ lw_tbl := lw_at lw_m2 214 rfl
theorem q570 : (Jvm.Cond.fieldLinkNest "TelescopeQueue$State" (255 : Nat) "TelescopeQueue$Plan" "slew" "I" "TelescopeQueue") ∈ lw_tbl := lw_at lw_m2 218 rfl
theorem q573 : (Jvm.Cond.fieldLinkNest "TelescopeQueue$State" (208 : Nat) "TelescopeQueue$Plan" "start" "I" "TelescopeQueue") ∈ lw_tbl := lw_at lw_m2 221 rfl
theorem q576 : (Jvm.Cond.fieldLinkNest "TelescopeQueue$State" (211 : Nat) "TelescopeQueue$Plan" "end" "I" "TelescopeQueue") ∈ lw_tbl := lw_at lw_m2 224 rfl
theorem q601 : (Jvm.Cond.fieldLink "TelescopeQueue$State" (80 : Nat) "TelescopeQueue$State" "scope" "LTelescopeQueue$Scope;") ∈ lw_all := lw_g (lw_at lw_m3 9 rfl) rfl
theorem q603 : (Jvm.Cond.fieldLink "TelescopeQueue$State" (15 : Nat) "TelescopeQueue$State" "rule" "LTelescopeQueue$Rule;") ∈ lw_all := lw_g (lw_at lw_m3 11 rfl) rfl
theorem q604 : (Jvm.Cond.fieldLink "TelescopeQueue$State" (26 : Nat) "TelescopeQueue$State" "alerts" "Ljava/util/List;") ∈ lw_all := lw_g (lw_at lw_m3 12 rfl) rfl
theorem q607 : (Jvm.Cond.fieldLink "TelescopeQueue$State" (30 : Nat) "TelescopeQueue$State" "granted" "[I") ∈ lw_all := lw_g (lw_at lw_m3 15 rfl) rfl
theorem q609 : (Jvm.Cond.fieldLink "TelescopeQueue$State" (34 : Nat) "TelescopeQueue$State" "used" "[I") ∈ lw_all := lw_g (lw_at lw_m3 17 rfl) rfl
theorem q612 : (Jvm.Cond.fieldLink "TelescopeQueue$State" (37 : Nat) "TelescopeQueue$State" "lost" "[I") ∈ lw_all := lw_g (lw_at lw_m3 20 rfl) rfl
theorem q614 : (Jvm.Cond.fieldLink "TelescopeQueue$State" (40 : Nat) "TelescopeQueue$State" "slewed" "[I") ∈ lw_all := lw_g (lw_at lw_m3 22 rfl) rfl
theorem q616 : (Jvm.Cond.fieldLink "TelescopeQueue$State" (43 : Nat) "TelescopeQueue$State" "visitState" "[I") ∈ lw_all := lw_g (lw_at lw_m3 24 rfl) rfl
theorem q618 : (Jvm.Cond.fieldLink "TelescopeQueue$State" (46 : Nat) "TelescopeQueue$State" "aborts" "[I") ∈ lw_all := lw_g (lw_at lw_m3 26 rfl) rfl
theorem q620 : (Jvm.Cond.fieldLink "TelescopeQueue$State" (49 : Nat) "TelescopeQueue$State" "startOf" "[I") ∈ lw_all := lw_g (lw_at lw_m3 28 rfl) rfl
theorem q622 : (Jvm.Cond.fieldLink "TelescopeQueue$State" (52 : Nat) "TelescopeQueue$State" "priority" "[I") ∈ lw_all := lw_g (lw_at lw_m3 30 rfl) rfl
theorem q625 : (Jvm.Cond.fieldLink "TelescopeQueue$State" (55 : Nat) "TelescopeQueue$State" "alertState" "[I") ∈ lw_all := lw_g (lw_at lw_m3 33 rfl) rfl
theorem q627 : (Jvm.Cond.fieldLink "TelescopeQueue$State" (58 : Nat) "TelescopeQueue$State" "alertStart" "[I") ∈ lw_all := lw_g (lw_at lw_m3 35 rfl) rfl
theorem q629 : (Jvm.Cond.fieldLink "TelescopeQueue$State" (61 : Nat) "TelescopeQueue$State" "totals" "[I") ∈ lw_all := lw_g (lw_at lw_m3 37 rfl) rfl
theorem q631 : (Jvm.Cond.fieldLink "TelescopeQueue$State" (64 : Nat) "TelescopeQueue$State" "log" "[I") ∈ lw_all := lw_g (lw_at lw_m3 39 rfl) rfl
theorem q633 : (Jvm.Cond.fieldLink "TelescopeQueue$State" (130 : Nat) "TelescopeQueue$State" "time" "I") ∈ lw_all := lw_g (lw_at lw_m3 41 rfl) rfl
theorem q635 : (Jvm.Cond.fieldLink "TelescopeQueue$State" (133 : Nat) "TelescopeQueue$State" "lon" "I") ∈ lw_all := lw_g (lw_at lw_m3 43 rfl) rfl
theorem q637 : (Jvm.Cond.fieldLink "TelescopeQueue$State" (136 : Nat) "TelescopeQueue$State" "lat" "I") ∈ lw_all := lw_g (lw_at lw_m3 45 rfl) rfl
theorem q639 : (Jvm.Cond.fieldLink "TelescopeQueue$State" (139 : Nat) "TelescopeQueue$State" "momentum" "I") ∈ lw_all := lw_g (lw_at lw_m3 47 rfl) rfl
theorem q641 : (Jvm.Cond.fieldLink "TelescopeQueue$State" (142 : Nat) "TelescopeQueue$State" "latest" "I") ∈ lw_all := lw_g (lw_at lw_m3 49 rfl) rfl
theorem q643 : (Jvm.Cond.fieldLink "TelescopeQueue$State" (145 : Nat) "TelescopeQueue$State" "cadence" "I") ∈ lw_all := lw_g (lw_at lw_m3 51 rfl) rfl
theorem q646 : (Jvm.Cond.fieldLink "TelescopeQueue$State" (148 : Nat) "TelescopeQueue$State" "policy" "I") ∈ lw_all := lw_g (lw_at lw_m3 54 rfl) rfl
theorem q648 : (Jvm.Cond.fieldLink "TelescopeQueue$State" (151 : Nat) "TelescopeQueue$State" "entries" "I") ∈ lw_all := lw_g (lw_at lw_m3 56 rfl) rfl
theorem q650 : (Jvm.Cond.fieldLink "TelescopeQueue$State" (70 : Nat) "TelescopeQueue$State" "tried" "LTelescopeQueue$Plan;") ∈ lw_all := lw_g (lw_at lw_m3 58 rfl) rfl
theorem q651 : (Jvm.Cond.fieldLink "TelescopeQueue$State" (74 : Nat) "TelescopeQueue$State" "best" "LTelescopeQueue$Plan;") ∈ lw_all := lw_g (lw_at lw_m3 59 rfl) rfl
theorem q652 : (Jvm.Cond.fieldLink "TelescopeQueue$State" (77 : Nat) "TelescopeQueue$State" "broken" "LTelescopeQueue$Plan;") ∈ lw_all := lw_g (lw_at lw_m3 60 rfl) rfl
theorem q653 : (Jvm.Cond.lays "TelescopeQueue$State" "TelescopeQueue$State" "scope" "LTelescopeQueue$Scope;") ∈ lw_all := lw_g (lw_at lw_m3 61 rfl) rfl
theorem q654 : (Jvm.Cond.soleField "TelescopeQueue$State" "scope") ∈ lw_all := lw_g (lw_at lw_m3 62 rfl) rfl
theorem q655 : (Jvm.Cond.lays "TelescopeQueue$State" "TelescopeQueue$State" "rule" "LTelescopeQueue$Rule;") ∈ lw_all := lw_g (lw_at lw_m3 63 rfl) rfl
theorem q656 : (Jvm.Cond.soleField "TelescopeQueue$State" "rule") ∈ lw_all := lw_g (lw_at lw_m3 64 rfl) rfl
theorem q657 : (Jvm.Cond.laysFinal "TelescopeQueue$State" "TelescopeQueue$State" "alerts" "Ljava/util/List;") ∈ lw_all := lw_g (lw_at lw_m3 65 rfl) rfl
theorem q658 : (Jvm.Cond.soleField "TelescopeQueue$State" "alerts") ∈ lw_all := lw_g (lw_at lw_m3 66 rfl) rfl
theorem q659 : (Jvm.Cond.laysFinal "TelescopeQueue$State" "TelescopeQueue$State" "granted" "[I") ∈ lw_all := lw_g (lw_at lw_m3 67 rfl) rfl
theorem q660 : (Jvm.Cond.soleField "TelescopeQueue$State" "granted") ∈ lw_all := lw_g (lw_at lw_m3 68 rfl) rfl
theorem q661 : (Jvm.Cond.laysFinal "TelescopeQueue$State" "TelescopeQueue$State" "used" "[I") ∈ lw_all := lw_g (lw_at lw_m3 69 rfl) rfl
theorem q662 : (Jvm.Cond.soleField "TelescopeQueue$State" "used") ∈ lw_all := lw_g (lw_at lw_m3 70 rfl) rfl
theorem q663 : (Jvm.Cond.laysFinal "TelescopeQueue$State" "TelescopeQueue$State" "lost" "[I") ∈ lw_all := lw_g (lw_at lw_m3 71 rfl) rfl
theorem q664 : (Jvm.Cond.soleField "TelescopeQueue$State" "lost") ∈ lw_all := lw_g (lw_at lw_m3 72 rfl) rfl
theorem q665 : (Jvm.Cond.laysFinal "TelescopeQueue$State" "TelescopeQueue$State" "slewed" "[I") ∈ lw_all := lw_g (lw_at lw_m3 73 rfl) rfl
theorem q666 : (Jvm.Cond.soleField "TelescopeQueue$State" "slewed") ∈ lw_all := lw_g (lw_at lw_m3 74 rfl) rfl
theorem q667 : (Jvm.Cond.laysFinal "TelescopeQueue$State" "TelescopeQueue$State" "visitState" "[I") ∈ lw_all := lw_g (lw_at lw_m3 75 rfl) rfl
theorem q668 : (Jvm.Cond.soleField "TelescopeQueue$State" "visitState") ∈ lw_all := lw_g (lw_at lw_m3 76 rfl) rfl
theorem q669 : (Jvm.Cond.laysFinal "TelescopeQueue$State" "TelescopeQueue$State" "aborts" "[I") ∈ lw_all := lw_g (lw_at lw_m3 77 rfl) rfl
theorem q670 : (Jvm.Cond.soleField "TelescopeQueue$State" "aborts") ∈ lw_all := lw_g (lw_at lw_m3 78 rfl) rfl
theorem q671 : (Jvm.Cond.laysFinal "TelescopeQueue$State" "TelescopeQueue$State" "startOf" "[I") ∈ lw_all := lw_g (lw_at lw_m3 79 rfl) rfl
theorem q672 : (Jvm.Cond.soleField "TelescopeQueue$State" "startOf") ∈ lw_all := lw_g (lw_at lw_m3 80 rfl) rfl
theorem q673 : (Jvm.Cond.laysFinal "TelescopeQueue$State" "TelescopeQueue$State" "priority" "[I") ∈ lw_all := lw_g (lw_at lw_m3 81 rfl) rfl
theorem q674 : (Jvm.Cond.soleField "TelescopeQueue$State" "priority") ∈ lw_all := lw_g (lw_at lw_m3 82 rfl) rfl
theorem q675 : (Jvm.Cond.laysFinal "TelescopeQueue$State" "TelescopeQueue$State" "alertState" "[I") ∈ lw_all := lw_g (lw_at lw_m3 83 rfl) rfl
theorem q676 : (Jvm.Cond.soleField "TelescopeQueue$State" "alertState") ∈ lw_all := lw_g (lw_at lw_m3 84 rfl) rfl
theorem q677 : (Jvm.Cond.laysFinal "TelescopeQueue$State" "TelescopeQueue$State" "alertStart" "[I") ∈ lw_all := lw_g (lw_at lw_m3 85 rfl) rfl
theorem q678 : (Jvm.Cond.soleField "TelescopeQueue$State" "alertStart") ∈ lw_all := lw_g (lw_at lw_m3 86 rfl) rfl
theorem q679 : (Jvm.Cond.laysFinal "TelescopeQueue$State" "TelescopeQueue$State" "totals" "[I") ∈ lw_all := lw_g (lw_at lw_m3 87 rfl) rfl
theorem q680 : (Jvm.Cond.soleField "TelescopeQueue$State" "totals") ∈ lw_all := lw_g (lw_at lw_m3 88 rfl) rfl
theorem q681 : (Jvm.Cond.laysFinal "TelescopeQueue$State" "TelescopeQueue$State" "log" "[I") ∈ lw_all := lw_g (lw_at lw_m3 89 rfl) rfl
theorem q682 : (Jvm.Cond.soleField "TelescopeQueue$State" "log") ∈ lw_all := lw_g (lw_at lw_m3 90 rfl) rfl
theorem q683 : (Jvm.Cond.lays "TelescopeQueue$State" "TelescopeQueue$State" "time" "I") ∈ lw_all := lw_g (lw_at lw_m3 91 rfl) rfl
theorem q684 : (Jvm.Cond.soleField "TelescopeQueue$State" "time") ∈ lw_all := lw_g (lw_at lw_m3 92 rfl) rfl
theorem q685 : (Jvm.Cond.lays "TelescopeQueue$State" "TelescopeQueue$State" "lon" "I") ∈ lw_all := lw_g (lw_at lw_m3 93 rfl) rfl
theorem q686 : (Jvm.Cond.soleField "TelescopeQueue$State" "lon") ∈ lw_all := lw_g (lw_at lw_m3 94 rfl) rfl
theorem q687 : (Jvm.Cond.lays "TelescopeQueue$State" "TelescopeQueue$State" "lat" "I") ∈ lw_all := lw_g (lw_at lw_m3 95 rfl) rfl
theorem q688 : (Jvm.Cond.soleField "TelescopeQueue$State" "lat") ∈ lw_all := lw_g (lw_at lw_m3 96 rfl) rfl
theorem q689 : (Jvm.Cond.lays "TelescopeQueue$State" "TelescopeQueue$State" "momentum" "I") ∈ lw_all := lw_g (lw_at lw_m3 97 rfl) rfl
theorem q690 : (Jvm.Cond.soleField "TelescopeQueue$State" "momentum") ∈ lw_all := lw_g (lw_at lw_m3 98 rfl) rfl
theorem q691 : (Jvm.Cond.lays "TelescopeQueue$State" "TelescopeQueue$State" "latest" "I") ∈ lw_all := lw_g (lw_at lw_m3 99 rfl) rfl
theorem q692 : (Jvm.Cond.soleField "TelescopeQueue$State" "latest") ∈ lw_all := lw_g (lw_at lw_m3 100 rfl) rfl
theorem q693 : (Jvm.Cond.lays "TelescopeQueue$State" "TelescopeQueue$State" "cadence" "I") ∈ lw_all := lw_g (lw_at lw_m3 101 rfl) rfl
theorem q694 : (Jvm.Cond.soleField "TelescopeQueue$State" "cadence") ∈ lw_all := lw_g (lw_at lw_m3 102 rfl) rfl
theorem q695 : (Jvm.Cond.lays "TelescopeQueue$State" "TelescopeQueue$State" "policy" "I") ∈ lw_all := lw_g (lw_at lw_m3 103 rfl) rfl
theorem q696 : (Jvm.Cond.soleField "TelescopeQueue$State" "policy") ∈ lw_all := lw_g (lw_at lw_m3 104 rfl) rfl
theorem q697 : (Jvm.Cond.lays "TelescopeQueue$State" "TelescopeQueue$State" "entries" "I") ∈ lw_all := lw_g (lw_at lw_m3 105 rfl) rfl
theorem q698 : (Jvm.Cond.soleField "TelescopeQueue$State" "entries") ∈ lw_all := lw_g (lw_at lw_m3 106 rfl) rfl
theorem q699 : (Jvm.Cond.laysFinal "TelescopeQueue$State" "TelescopeQueue$State" "tried" "LTelescopeQueue$Plan;") ∈ lw_all := lw_g (lw_at lw_m3 107 rfl) rfl
theorem q700 : (Jvm.Cond.soleField "TelescopeQueue$State" "tried") ∈ lw_all := lw_g (lw_at lw_m3 108 rfl) rfl
theorem q701 : (Jvm.Cond.laysFinal "TelescopeQueue$State" "TelescopeQueue$State" "best" "LTelescopeQueue$Plan;") ∈ lw_all := lw_g (lw_at lw_m3 109 rfl) rfl
theorem q702 : (Jvm.Cond.soleField "TelescopeQueue$State" "best") ∈ lw_all := lw_g (lw_at lw_m3 110 rfl) rfl
theorem q703 : (Jvm.Cond.laysFinal "TelescopeQueue$State" "TelescopeQueue$State" "broken" "LTelescopeQueue$Plan;") ∈ lw_all := lw_g (lw_at lw_m3 111 rfl) rfl
theorem q704 : (Jvm.Cond.soleField "TelescopeQueue$State" "broken") ∈ lw_all := lw_g (lw_at lw_m3 112 rfl) rfl
theorem q705 : (Jvm.Cond.superclass "TelescopeQueue$State" "java/lang/Object") ∈ lw_all := lw_g (lw_at lw_m3 113 rfl) rfl
theorem q896 : (Jvm.Cond.fieldLinkNest "TelescopeQueue$State" (84 : Nat) "TelescopeQueue$Scope" "proposals" "Ljava/util/List;" "TelescopeQueue") ∈ lw_tbl := lw_at lw_m4 64 rfl
theorem q900 : (Jvm.Cond.fieldLinkNest "TelescopeQueue$State" (104 : Nat) "TelescopeQueue$Scope" "visits" "Ljava/util/List;" "TelescopeQueue") ∈ lw_tbl := lw_at lw_m4 68 rfl
theorem q907 : (Jvm.Cond.fieldLinkNest "TelescopeQueue$State" (236 : Nat) "TelescopeQueue$Scope" "horizon" "I" "TelescopeQueue") ∈ lw_tbl := lw_at lw_m4 75 rfl
theorem q922 : (Jvm.Cond.fieldLinkNest "TelescopeQueue$State" (233 : Nat) "TelescopeQueue$Scope" "cal" "I" "TelescopeQueue") ∈ lw_tbl := lw_at lw_m4 90 rfl
theorem q1229 : (Jvm.Cond.fieldLinkNest "TelescopeQueue$State" (101 : Nat) "TelescopeQueue$Proposal" "granted" "I" "TelescopeQueue") ∈ lw_tbl := lw_at lw_m5 157 rfl
theorem q1278 : (Jvm.Cond.selects "TelescopeQueue$State" ({ cls := "java/lang/Object", name := "getClass", desc := "()Ljava/lang/Class;" } : Jvm.MethodName) ({ cls := "java/lang/Object", name := "getClass", desc := "()Ljava/lang/Class;" } : Jvm.MethodName)) ∈ lw_all := lw_g (lw_at lw_m5 206 rfl) rfl
theorem q1320 : (Jvm.Cond.fieldLinkNest "TelescopeQueue$State" (109 : Nat) "TelescopeQueue$Visit" "priority" "I" "TelescopeQueue") ∈ lw_tbl := lw_at lw_m6 8 rfl
theorem q1356 : (Jvm.Cond.fieldLinkNest "TelescopeQueue$State" (207 : Nat) "TelescopeQueue$Alert" "time" "I" "TelescopeQueue") ∈ lw_tbl := lw_at lw_m6 44 rfl
theorem q1393 : (Jvm.Cond.instanceMethod ({ cls := "TelescopeQueue$State", name := "begin", desc := "()LTelescopeQueue$State;" } : Jvm.MethodName)) ∈ lw_all := lw_g (lw_at lw_m6 81 rfl) rfl
theorem q1394 : (Jvm.Cond.selects "TelescopeQueue$State" ({ cls := "TelescopeQueue$State", name := "begin", desc := "()LTelescopeQueue$State;" } : Jvm.MethodName) ({ cls := "TelescopeQueue$State", name := "begin", desc := "()LTelescopeQueue$State;" } : Jvm.MethodName)) ∈ lw_all := lw_g (lw_at lw_m6 82 rfl) rfl
theorem q1395 : (Jvm.Cond.code ({ cls := "TelescopeQueue$State", name := "begin", desc := "()LTelescopeQueue$State;" } : Jvm.MethodName) prog_17_method_2_code (2 : Nat) (Option.some (Jvm.ClassFile.FieldType.object "TelescopeQueue$State"))) ∈ lw_all := lw_g (lw_at lw_m6 83 rfl) rfl
theorem q1396 : (Jvm.Cond.interfaceEntry "TelescopeQueue$State" (89 : Nat)) ∈ lw_tbl := lw_at lw_m6 84 rfl
theorem q1397 : (Jvm.Cond.methodLink "TelescopeQueue$State" (89 : Nat) ({ cls := "java/util/List", name := "size", desc := "()I" } : Jvm.MethodName)) ∈ lw_all := lw_g (lw_at lw_m6 85 rfl) rfl
theorem q1398 : (Jvm.Cond.interfaceEntry "TelescopeQueue$State" (95 : Nat)) ∈ lw_tbl := lw_at lw_m6 86 rfl
theorem q1399 : (Jvm.Cond.methodLink "TelescopeQueue$State" (95 : Nat) ({ cls := "java/util/List", name := "get", desc := "(I)Ljava/lang/Object;" } : Jvm.MethodName)) ∈ lw_all := lw_g (lw_at lw_m6 87 rfl) rfl
theorem q1400 : (Jvm.Cond.classLink "TelescopeQueue$State" (99 : Nat) "TelescopeQueue$Proposal") ∈ lw_all := lw_g (lw_at lw_m6 88 rfl) rfl
theorem q1401 : (Jvm.Cond.classLink "TelescopeQueue$State" (107 : Nat) "TelescopeQueue$Visit") ∈ lw_all := lw_g (lw_at lw_m6 89 rfl) rfl
theorem q1457 : (Jvm.Cond.instanceMethod ({ cls := "TelescopeQueue$State", name := "left", desc := "(I)I" } : Jvm.MethodName)) ∈ lw_all := lw_g (lw_at lw_m6 145 rfl) rfl
theorem q1458 : (Jvm.Cond.selects "TelescopeQueue$State" ({ cls := "TelescopeQueue$State", name := "left", desc := "(I)I" } : Jvm.MethodName) ({ cls := "TelescopeQueue$State", name := "left", desc := "(I)I" } : Jvm.MethodName)) ∈ lw_all := lw_g (lw_at lw_m6 146 rfl) rfl
theorem q1459 : (Jvm.Cond.code ({ cls := "TelescopeQueue$State", name := "left", desc := "(I)I" } : Jvm.MethodName) prog_17_method_6_code (2 : Nat) (Option.some Jvm.ClassFile.FieldType.int)) ∈ lw_all := lw_g (lw_at lw_m6 147 rfl) rfl
theorem q1721 : (Jvm.Cond.instanceMethod ({ cls := "TelescopeQueue$State", name := "planVisit", desc := "(I)LTelescopeQueue$Plan;" } : Jvm.MethodName)) ∈ lw_all := lw_g (lw_at lw_m7 169 rfl) rfl
theorem q1722 : (Jvm.Cond.selects "TelescopeQueue$State" ({ cls := "TelescopeQueue$State", name := "planVisit", desc := "(I)LTelescopeQueue$Plan;" } : Jvm.MethodName) ({ cls := "TelescopeQueue$State", name := "planVisit", desc := "(I)LTelescopeQueue$Plan;" } : Jvm.MethodName)) ∈ lw_all := lw_g (lw_at lw_m7 170 rfl) rfl
theorem q1723 : (Jvm.Cond.code ({ cls := "TelescopeQueue$State", name := "planVisit", desc := "(I)LTelescopeQueue$Plan;" } : Jvm.MethodName) prog_17_method_10_code (2 : Nat) (Option.some (Jvm.ClassFile.FieldType.object "TelescopeQueue$Plan"))) ∈ lw_all := lw_g (lw_at lw_m7 171 rfl) rfl
theorem q1724 : (Jvm.Cond.classLink "TelescopeQueue$State" (168 : Nat) "TelescopeQueue$Work") ∈ lw_all := lw_g (lw_at lw_m7 172 rfl) rfl
theorem q1725 : (Jvm.Cond.methodLink "TelescopeQueue$State" (180 : Nat) ({ cls := "TelescopeQueue$State", name := "plan", desc := "(LTelescopeQueue$Plan;LTelescopeQueue$Work;II)LTelescopeQueue$Plan;" } : Jvm.MethodName)) ∈ lw_all := lw_g (lw_at lw_m7 173 rfl) rfl
theorem q1726 : (Jvm.Cond.privateMethod ({ cls := "TelescopeQueue$State", name := "plan", desc := "(LTelescopeQueue$Plan;LTelescopeQueue$Work;II)LTelescopeQueue$Plan;" } : Jvm.MethodName)) ∈ lw_tbl := lw_at lw_m7 174 rfl
theorem q1727 : (Jvm.Cond.instanceMethod ({ cls := "TelescopeQueue$State", name := "plan", desc := "(LTelescopeQueue$Plan;LTelescopeQueue$Work;II)LTelescopeQueue$Plan;" } : Jvm.MethodName)) ∈ lw_all := lw_g (lw_at lw_m7 175 rfl) rfl
theorem q1728 : (Jvm.Cond.code ({ cls := "TelescopeQueue$State", name := "plan", desc := "(LTelescopeQueue$Plan;LTelescopeQueue$Work;II)LTelescopeQueue$Plan;" } : Jvm.MethodName) prog_17_method_9_code (5 : Nat) (Option.some (Jvm.ClassFile.FieldType.object "TelescopeQueue$Plan"))) ∈ lw_all := lw_g (lw_at lw_m7 176 rfl) rfl
theorem q1729 : (Jvm.Cond.interfaceEntry "TelescopeQueue$State" (167 : Nat)) ∈ lw_tbl := lw_at lw_m7 177 rfl
theorem q1730 : (Jvm.Cond.methodLink "TelescopeQueue$State" (167 : Nat) ({ cls := "TelescopeQueue$Work", name := "proposal", desc := "()I" } : Jvm.MethodName)) ∈ lw_all := lw_g (lw_at lw_m7 178 rfl) rfl
theorem q1731 : (Jvm.Cond.methodLink "TelescopeQueue$State" (172 : Nat) ({ cls := "TelescopeQueue$State", name := "left", desc := "(I)I" } : Jvm.MethodName)) ∈ lw_all := lw_g (lw_at lw_m7 179 rfl) rfl
theorem q1732 : (Jvm.Cond.methodLink "TelescopeQueue$State" (176 : Nat) ({ cls := "TelescopeQueue$Plan", name := "lay", desc := "(LTelescopeQueue$Scope;LTelescopeQueue$Work;IZIIIII)LTelescopeQueue$Plan;" } : Jvm.MethodName)) ∈ lw_all := lw_g (lw_at lw_m7 180 rfl) rfl
theorem q1871 : (Jvm.Cond.instanceMethod ({ cls := "TelescopeQueue$State", name := "choose", desc := "()I" } : Jvm.MethodName)) ∈ lw_all := lw_g (lw_at lw_m8 79 rfl) rfl
theorem q1872 : (Jvm.Cond.selects "TelescopeQueue$State" ({ cls := "TelescopeQueue$State", name := "choose", desc := "()I" } : Jvm.MethodName) ({ cls := "TelescopeQueue$State", name := "choose", desc := "()I" } : Jvm.MethodName)) ∈ lw_all := lw_g (lw_at lw_m8 80 rfl) rfl
theorem q1873 : (Jvm.Cond.code ({ cls := "TelescopeQueue$State", name := "choose", desc := "()I" } : Jvm.MethodName) prog_17_method_13_code (3 : Nat) (Option.some Jvm.ClassFile.FieldType.int)) ∈ lw_all := lw_g (lw_at lw_m8 81 rfl) rfl
theorem q1874 : (Jvm.Cond.methodLink "TelescopeQueue$State" (185 : Nat) ({ cls := "TelescopeQueue$State", name := "planVisit", desc := "(I)LTelescopeQueue$Plan;" } : Jvm.MethodName)) ∈ lw_all := lw_g (lw_at lw_m8 82 rfl) rfl
theorem q1875 : (Jvm.Cond.methodLink "TelescopeQueue$State" (189 : Nat) ({ cls := "TelescopeQueue$Plan", name := "can", desc := "()Z" } : Jvm.MethodName)) ∈ lw_all := lw_g (lw_at lw_m8 83 rfl) rfl
theorem q1879 : (Jvm.Cond.interfaceEntry "TelescopeQueue$State" (193 : Nat)) ∈ lw_tbl := lw_at lw_m8 87 rfl
theorem q1880 : (Jvm.Cond.methodLink "TelescopeQueue$State" (193 : Nat) ({ cls := "TelescopeQueue$Rule", name := "prefers", desc := "(LTelescopeQueue$State;LTelescopeQueue$Plan;LTelescopeQueue$Plan;)Z" } : Jvm.MethodName)) ∈ lw_all := lw_g (lw_at lw_m8 88 rfl) rfl
theorem q1923 : (Jvm.Cond.instanceMethod ({ cls := "TelescopeQueue$State", name := "divisor", desc := "(I)I" } : Jvm.MethodName)) ∈ lw_all := lw_g (lw_at lw_m8 131 rfl) rfl
theorem q1924 : (Jvm.Cond.selects "TelescopeQueue$State" ({ cls := "TelescopeQueue$State", name := "divisor", desc := "(I)I" } : Jvm.MethodName) ({ cls := "TelescopeQueue$State", name := "divisor", desc := "(I)I" } : Jvm.MethodName)) ∈ lw_all := lw_g (lw_at lw_m8 132 rfl) rfl
theorem q1925 : (Jvm.Cond.code ({ cls := "TelescopeQueue$State", name := "divisor", desc := "(I)I" } : Jvm.MethodName) prog_17_method_7_code (2 : Nat) (Option.some Jvm.ClassFile.FieldType.int)) ∈ lw_all := lw_g (lw_at lw_m8 133 rfl) rfl
theorem q1926 : (Jvm.Cond.methodLink "TelescopeQueue$State" (161 : Nat) ({ cls := "java/lang/Math", name := "max", desc := "(II)I" } : Jvm.MethodName)) ∈ lw_all := lw_g (lw_at lw_m8 134 rfl) rfl
theorem q1942 : (Jvm.Cond.methodLink "TelescopeQueue$State" (197 : Nat) ({ cls := "TelescopeQueue$Plan", name := "become", desc := "(LTelescopeQueue$Plan;)V" } : Jvm.MethodName)) ∈ lw_all := lw_g (lw_at lw_m8 150 rfl) rfl
theorem q1954 : (Jvm.Cond.instanceMethod ({ cls := "TelescopeQueue$State", name := "nextKind", desc := "()I" } : Jvm.MethodName)) ∈ lw_all := lw_g (lw_at lw_m8 162 rfl) rfl
theorem q1955 : (Jvm.Cond.selects "TelescopeQueue$State" ({ cls := "TelescopeQueue$State", name := "nextKind", desc := "()I" } : Jvm.MethodName) ({ cls := "TelescopeQueue$State", name := "nextKind", desc := "()I" } : Jvm.MethodName)) ∈ lw_all := lw_g (lw_at lw_m8 163 rfl) rfl
theorem q1956 : (Jvm.Cond.code ({ cls := "TelescopeQueue$State", name := "nextKind", desc := "()I" } : Jvm.MethodName) prog_17_method_19_code (1 : Nat) (Option.some Jvm.ClassFile.FieldType.int)) ∈ lw_all := lw_g (lw_at lw_m8 164 rfl) rfl
theorem q1957 : (Jvm.Cond.methodLink "TelescopeQueue$State" (239 : Nat) ({ cls := "TelescopeQueue$State", name := "chooseAlert", desc := "()I" } : Jvm.MethodName)) ∈ lw_all := lw_g (lw_at lw_m8 165 rfl) rfl
theorem q1958 : (Jvm.Cond.instanceMethod ({ cls := "TelescopeQueue$State", name := "chooseAlert", desc := "()I" } : Jvm.MethodName)) ∈ lw_all := lw_g (lw_at lw_m8 166 rfl) rfl
theorem q1959 : (Jvm.Cond.selects "TelescopeQueue$State" ({ cls := "TelescopeQueue$State", name := "chooseAlert", desc := "()I" } : Jvm.MethodName) ({ cls := "TelescopeQueue$State", name := "chooseAlert", desc := "()I" } : Jvm.MethodName)) ∈ lw_all := lw_g (lw_at lw_m8 167 rfl) rfl
theorem q1960 : (Jvm.Cond.code ({ cls := "TelescopeQueue$State", name := "chooseAlert", desc := "()I" } : Jvm.MethodName) prog_17_method_15_code (4 : Nat) (Option.some Jvm.ClassFile.FieldType.int)) ∈ lw_all := lw_g (lw_at lw_m8 168 rfl) rfl
theorem q1961 : (Jvm.Cond.classLink "TelescopeQueue$State" (120 : Nat) "TelescopeQueue$Alert") ∈ lw_all := lw_g (lw_at lw_m8 169 rfl) rfl
theorem q1962 : (Jvm.Cond.methodLink "TelescopeQueue$State" (203 : Nat) ({ cls := "TelescopeQueue$State", name := "isOpen", desc := "(I)Z" } : Jvm.MethodName)) ∈ lw_all := lw_g (lw_at lw_m8 170 rfl) rfl
theorem q1963 : (Jvm.Cond.instanceMethod ({ cls := "TelescopeQueue$State", name := "isOpen", desc := "(I)Z" } : Jvm.MethodName)) ∈ lw_all := lw_g (lw_at lw_m8 171 rfl) rfl
theorem q1964 : (Jvm.Cond.selects "TelescopeQueue$State" ({ cls := "TelescopeQueue$State", name := "isOpen", desc := "(I)Z" } : Jvm.MethodName) ({ cls := "TelescopeQueue$State", name := "isOpen", desc := "(I)Z" } : Jvm.MethodName)) ∈ lw_all := lw_g (lw_at lw_m8 172 rfl) rfl
theorem q1965 : (Jvm.Cond.code ({ cls := "TelescopeQueue$State", name := "isOpen", desc := "(I)Z" } : Jvm.MethodName) prog_17_method_14_code (2 : Nat) (Option.some Jvm.ClassFile.FieldType.boolean)) ∈ lw_all := lw_g (lw_at lw_m8 173 rfl) rfl
theorem q1966 : (Jvm.Cond.methodLink "TelescopeQueue$State" (200 : Nat) ({ cls := "TelescopeQueue$Alert", name := "to", desc := "()I" } : Jvm.MethodName)) ∈ lw_all := lw_g (lw_at lw_m8 174 rfl) rfl
theorem q1967 : (Jvm.Cond.methodLink "TelescopeQueue$State" (242 : Nat) ({ cls := "TelescopeQueue$State", name := "isCalibrationDue", desc := "()Z" } : Jvm.MethodName)) ∈ lw_all := lw_g (lw_at lw_m8 175 rfl) rfl
theorem q1968 : (Jvm.Cond.instanceMethod ({ cls := "TelescopeQueue$State", name := "isCalibrationDue", desc := "()Z" } : Jvm.MethodName)) ∈ lw_all := lw_g (lw_at lw_m8 176 rfl) rfl
theorem q1969 : (Jvm.Cond.selects "TelescopeQueue$State" ({ cls := "TelescopeQueue$State", name := "isCalibrationDue", desc := "()Z" } : Jvm.MethodName) ({ cls := "TelescopeQueue$State", name := "isCalibrationDue", desc := "()Z" } : Jvm.MethodName)) ∈ lw_all := lw_g (lw_at lw_m8 177 rfl) rfl
theorem q1970 : (Jvm.Cond.code ({ cls := "TelescopeQueue$State", name := "isCalibrationDue", desc := "()Z" } : Jvm.MethodName) prog_17_method_18_code (1 : Nat) (Option.some Jvm.ClassFile.FieldType.boolean)) ∈ lw_all := lw_g (lw_at lw_m8 178 rfl) rfl
theorem q1971 : (Jvm.Cond.methodLink "TelescopeQueue$State" (245 : Nat) ({ cls := "TelescopeQueue$State", name := "choose", desc := "()I" } : Jvm.MethodName)) ∈ lw_all := lw_g (lw_at lw_m8 179 rfl) rfl
theorem q1972 : (Jvm.Cond.methodLink "TelescopeQueue$State" (248 : Nat) ({ cls := "TelescopeQueue$State", name := "interrupting", desc := "(LTelescopeQueue$Plan;)I" } : Jvm.MethodName)) ∈ lw_all := lw_g (lw_at lw_m8 180 rfl) rfl
theorem q1973 : (Jvm.Cond.instanceMethod ({ cls := "TelescopeQueue$State", name := "interrupting", desc := "(LTelescopeQueue$Plan;)I" } : Jvm.MethodName)) ∈ lw_all := lw_g (lw_at lw_m8 181 rfl) rfl
theorem q1974 : (Jvm.Cond.selects "TelescopeQueue$State" ({ cls := "TelescopeQueue$State", name := "interrupting", desc := "(LTelescopeQueue$Plan;)I" } : Jvm.MethodName) ({ cls := "TelescopeQueue$State", name := "interrupting", desc := "(LTelescopeQueue$Plan;)I" } : Jvm.MethodName)) ∈ lw_all := lw_g (lw_at lw_m8 182 rfl) rfl
theorem q1975 : (Jvm.Cond.code ({ cls := "TelescopeQueue$State", name := "interrupting", desc := "(LTelescopeQueue$Plan;)I" } : Jvm.MethodName) prog_17_method_16_code (5 : Nat) (Option.some Jvm.ClassFile.FieldType.int)) ∈ lw_all := lw_g (lw_at lw_m8 183 rfl) rfl
theorem q1976 : (Jvm.Cond.methodLink "TelescopeQueue$State" (214 : Nat) ({ cls := "TelescopeQueue$State", name := "couldBegin", desc := "(LTelescopeQueue$Plan;LTelescopeQueue$Alert;I)Z" } : Jvm.MethodName)) ∈ lw_all := lw_g (lw_at lw_m8 184 rfl) rfl
theorem q1977 : (Jvm.Cond.privateMethod ({ cls := "TelescopeQueue$State", name := "couldBegin", desc := "(LTelescopeQueue$Plan;LTelescopeQueue$Alert;I)Z" } : Jvm.MethodName)) ∈ lw_tbl := lw_at lw_m8 185 rfl
theorem q1978 : (Jvm.Cond.instanceMethod ({ cls := "TelescopeQueue$State", name := "couldBegin", desc := "(LTelescopeQueue$Plan;LTelescopeQueue$Alert;I)Z" } : Jvm.MethodName)) ∈ lw_all := lw_g (lw_at lw_m8 186 rfl) rfl
theorem q1979 : (Jvm.Cond.code ({ cls := "TelescopeQueue$State", name := "couldBegin", desc := "(LTelescopeQueue$Plan;LTelescopeQueue$Alert;I)Z" } : Jvm.MethodName) prog_17_method_17_code (7 : Nat) (Option.some Jvm.ClassFile.FieldType.boolean)) ∈ lw_all := lw_g (lw_at lw_m8 187 rfl) rfl
theorem q1980 : (Jvm.Cond.interfaceEntry "TelescopeQueue$State" (225 : Nat)) ∈ lw_tbl := lw_at lw_m8 188 rfl
theorem q1981 : (Jvm.Cond.methodLink "TelescopeQueue$State" (225 : Nat) ({ cls := "TelescopeQueue$Work", name := "growth", desc := "(I)I" } : Jvm.MethodName)) ∈ lw_all := lw_g (lw_at lw_m8 189 rfl) rfl
theorem q1982 : (Jvm.Cond.methodLink "TelescopeQueue$State" (228 : Nat) ({ cls := "TelescopeQueue$Alert", name := "proposal", desc := "()I" } : Jvm.MethodName)) ∈ lw_all := lw_g (lw_at lw_m8 190 rfl) rfl
theorem q1983 : (Jvm.Cond.interfaceEntry "TelescopeQueue$State" (229 : Nat)) ∈ lw_tbl := lw_at lw_m8 191 rfl
theorem q1984 : (Jvm.Cond.interfaceEntry "TelescopeQueue$State" (231 : Nat)) ∈ lw_tbl := lw_at lw_m8 192 rfl
theorem q2003 : (Jvm.Cond.instanceMethod ({ cls := "TelescopeQueue$State", name := "planAlert", desc := "(I)LTelescopeQueue$Plan;" } : Jvm.MethodName)) ∈ lw_all := lw_g (lw_at lw_m8 211 rfl) rfl
theorem q2004 : (Jvm.Cond.selects "TelescopeQueue$State" ({ cls := "TelescopeQueue$State", name := "planAlert", desc := "(I)LTelescopeQueue$Plan;" } : Jvm.MethodName) ({ cls := "TelescopeQueue$State", name := "planAlert", desc := "(I)LTelescopeQueue$Plan;" } : Jvm.MethodName)) ∈ lw_all := lw_g (lw_at lw_m8 212 rfl) rfl
theorem q2005 : (Jvm.Cond.code ({ cls := "TelescopeQueue$State", name := "planAlert", desc := "(I)LTelescopeQueue$Plan;" } : Jvm.MethodName) prog_17_method_12_code (2 : Nat) (Option.some (Jvm.ClassFile.FieldType.object "TelescopeQueue$Plan"))) ∈ lw_all := lw_g (lw_at lw_m8 213 rfl) rfl
theorem q2014 : (Jvm.Cond.instanceMethod ({ cls := "TelescopeQueue$State", name := "planAt", desc := "(II)LTelescopeQueue$Plan;" } : Jvm.MethodName)) ∈ lw_all := lw_g (lw_at lw_m8 222 rfl) rfl
theorem q2015 : (Jvm.Cond.selects "TelescopeQueue$State" ({ cls := "TelescopeQueue$State", name := "planAt", desc := "(II)LTelescopeQueue$Plan;" } : Jvm.MethodName) ({ cls := "TelescopeQueue$State", name := "planAt", desc := "(II)LTelescopeQueue$Plan;" } : Jvm.MethodName)) ∈ lw_all := lw_g (lw_at lw_m8 223 rfl) rfl
theorem q2016 : (Jvm.Cond.code ({ cls := "TelescopeQueue$State", name := "planAt", desc := "(II)LTelescopeQueue$Plan;" } : Jvm.MethodName) prog_17_method_11_code (4 : Nat) (Option.some (Jvm.ClassFile.FieldType.object "TelescopeQueue$Plan"))) ∈ lw_all := lw_g (lw_at lw_m8 224 rfl) rfl
theorem q2017 : (Jvm.Cond.methodLink "TelescopeQueue$State" (184 : Nat) ({ cls := "TelescopeQueue$Visit", name := "proposal", desc := "()I" } : Jvm.MethodName)) ∈ lw_all := lw_g (lw_at lw_m8 225 rfl) rfl
theorem q2033 : (Jvm.Cond.instanceMethod ({ cls := "TelescopeQueue$State", name := "share", desc := "(I)F" } : Jvm.MethodName)) ∈ lw_all := lw_g (lw_at lw_m9 1 rfl) rfl
theorem q2034 : (Jvm.Cond.selects "TelescopeQueue$State" ({ cls := "TelescopeQueue$State", name := "share", desc := "(I)F" } : Jvm.MethodName) ({ cls := "TelescopeQueue$State", name := "share", desc := "(I)F" } : Jvm.MethodName)) ∈ lw_all := lw_g (lw_at lw_m9 2 rfl) rfl
theorem q2035 : (Jvm.Cond.code ({ cls := "TelescopeQueue$State", name := "share", desc := "(I)F" } : Jvm.MethodName) prog_17_method_33_code (2 : Nat) (Option.some Jvm.ClassFile.FieldType.float)) ∈ lw_all := lw_g (lw_at lw_m9 3 rfl) rfl
theorem q2083 : (Jvm.Cond.instanceMethod ({ cls := "TelescopeQueue$State", name := "become", desc := "(LTelescopeQueue$State;)LTelescopeQueue$State;" } : Jvm.MethodName)) ∈ lw_all := lw_g (lw_at lw_m9 51 rfl) rfl
theorem q2084 : (Jvm.Cond.selects "TelescopeQueue$State" ({ cls := "TelescopeQueue$State", name := "become", desc := "(LTelescopeQueue$State;)LTelescopeQueue$State;" } : Jvm.MethodName) ({ cls := "TelescopeQueue$State", name := "become", desc := "(LTelescopeQueue$State;)LTelescopeQueue$State;" } : Jvm.MethodName)) ∈ lw_all := lw_g (lw_at lw_m9 52 rfl) rfl
theorem q2085 : (Jvm.Cond.code ({ cls := "TelescopeQueue$State", name := "become", desc := "(LTelescopeQueue$State;)LTelescopeQueue$State;" } : Jvm.MethodName) prog_17_method_4_code (3 : Nat) (Option.some (Jvm.ClassFile.FieldType.object "TelescopeQueue$State"))) ∈ lw_all := lw_g (lw_at lw_m9 53 rfl) rfl
theorem q2086 : (Jvm.Cond.interfaceEntry "TelescopeQueue$State" (117 : Nat)) ∈ lw_tbl := lw_at lw_m9 54 rfl
theorem q2087 : (Jvm.Cond.methodLink "TelescopeQueue$State" (117 : Nat) ({ cls := "java/util/List", name := "clear", desc := "()V" } : Jvm.MethodName)) ∈ lw_all := lw_g (lw_at lw_m9 55 rfl) rfl
theorem q2095 : (Jvm.Cond.interfaceEntry "TelescopeQueue$State" (122 : Nat)) ∈ lw_tbl := lw_at lw_m9 63 rfl
theorem q2096 : (Jvm.Cond.methodLink "TelescopeQueue$State" (122 : Nat) ({ cls := "java/util/List", name := "add", desc := "(Ljava/lang/Object;)Z" } : Jvm.MethodName)) ∈ lw_all := lw_g (lw_at lw_m9 64 rfl) rfl
theorem q2097 : (Jvm.Cond.methodLink "TelescopeQueue$State" (126 : Nat) ({ cls := "TelescopeQueue$State", name := "copy", desc := "([I[I)V" } : Jvm.MethodName)) ∈ lw_all := lw_g (lw_at lw_m9 65 rfl) rfl
theorem q2098 : (Jvm.Cond.static ({ cls := "TelescopeQueue$State", name := "copy", desc := "([I[I)V" } : Jvm.MethodName)) ∈ lw_all := lw_g (lw_at lw_m9 66 rfl) rfl
theorem q2099 : (Jvm.Cond.code ({ cls := "TelescopeQueue$State", name := "copy", desc := "([I[I)V" } : Jvm.MethodName) prog_17_method_3_code (2 : Nat) (Option.none : Option Jvm.ClassFile.FieldType)) ∈ lw_all := lw_g (lw_at lw_m9 67 rfl) rfl
theorem q2100 : (Jvm.Cond.methodLink "TelescopeQueue$State" (111 : Nat) ({ cls := "java/lang/System", name := "arraycopy", desc := "(Ljava/lang/Object;ILjava/lang/Object;II)V" } : Jvm.MethodName)) ∈ lw_all := lw_g (lw_at lw_m9 68 rfl) rfl
theorem q2102 : (Jvm.Cond.instanceMethod ({ cls := "TelescopeQueue$State", name := "steps", desc := "(I)I" } : Jvm.MethodName)) ∈ lw_all := lw_g (lw_at lw_m9 70 rfl) rfl
theorem q2103 : (Jvm.Cond.selects "TelescopeQueue$State" ({ cls := "TelescopeQueue$State", name := "steps", desc := "(I)I" } : Jvm.MethodName) ({ cls := "TelescopeQueue$State", name := "steps", desc := "(I)I" } : Jvm.MethodName)) ∈ lw_all := lw_g (lw_at lw_m9 71 rfl) rfl
theorem q2104 : (Jvm.Cond.code ({ cls := "TelescopeQueue$State", name := "steps", desc := "(I)I" } : Jvm.MethodName) prog_17_method_30_code (3 : Nat) (Option.some Jvm.ClassFile.FieldType.int)) ∈ lw_all := lw_g (lw_at lw_m9 72 rfl) rfl
theorem q2105 : (Jvm.Cond.methodLink "TelescopeQueue$State" (292 : Nat) ({ cls := "TelescopeQueue$State", name := "step", desc := "()V" } : Jvm.MethodName)) ∈ lw_all := lw_g (lw_at lw_m9 73 rfl) rfl
theorem q2106 : (Jvm.Cond.instanceMethod ({ cls := "TelescopeQueue$State", name := "step", desc := "()V" } : Jvm.MethodName)) ∈ lw_all := lw_g (lw_at lw_m9 74 rfl) rfl
theorem q2107 : (Jvm.Cond.selects "TelescopeQueue$State" ({ cls := "TelescopeQueue$State", name := "step", desc := "()V" } : Jvm.MethodName) ({ cls := "TelescopeQueue$State", name := "step", desc := "()V" } : Jvm.MethodName)) ∈ lw_all := lw_g (lw_at lw_m9 75 rfl) rfl
theorem q2108 : (Jvm.Cond.code ({ cls := "TelescopeQueue$State", name := "step", desc := "()V" } : Jvm.MethodName) prog_17_method_29_code (3 : Nat) (Option.none : Option Jvm.ClassFile.FieldType)) ∈ lw_all := lw_g (lw_at lw_m9 76 rfl) rfl
theorem q2109 : (Jvm.Cond.methodLink "TelescopeQueue$State" (273 : Nat) ({ cls := "TelescopeQueue$State", name := "expire", desc := "()V" } : Jvm.MethodName)) ∈ lw_all := lw_g (lw_at lw_m9 77 rfl) rfl
theorem q2110 : (Jvm.Cond.privateMethod ({ cls := "TelescopeQueue$State", name := "expire", desc := "()V" } : Jvm.MethodName)) ∈ lw_tbl := lw_at lw_m9 78 rfl
theorem q2111 : (Jvm.Cond.instanceMethod ({ cls := "TelescopeQueue$State", name := "expire", desc := "()V" } : Jvm.MethodName)) ∈ lw_all := lw_g (lw_at lw_m9 79 rfl) rfl
theorem q2112 : (Jvm.Cond.code ({ cls := "TelescopeQueue$State", name := "expire", desc := "()V" } : Jvm.MethodName) prog_17_method_20_code (2 : Nat) (Option.none : Option Jvm.ClassFile.FieldType)) ∈ lw_all := lw_g (lw_at lw_m9 80 rfl) rfl
theorem q2113 : (Jvm.Cond.methodLink "TelescopeQueue$State" (276 : Nat) ({ cls := "TelescopeQueue$State", name := "makeAlert", desc := "()V" } : Jvm.MethodName)) ∈ lw_all := lw_g (lw_at lw_m9 81 rfl) rfl
theorem q2114 : (Jvm.Cond.privateMethod ({ cls := "TelescopeQueue$State", name := "makeAlert", desc := "()V" } : Jvm.MethodName)) ∈ lw_tbl := lw_at lw_m9 82 rfl
theorem q2115 : (Jvm.Cond.instanceMethod ({ cls := "TelescopeQueue$State", name := "makeAlert", desc := "()V" } : Jvm.MethodName)) ∈ lw_all := lw_g (lw_at lw_m9 83 rfl) rfl
theorem q2116 : (Jvm.Cond.code ({ cls := "TelescopeQueue$State", name := "makeAlert", desc := "()V" } : Jvm.MethodName) prog_17_method_26_code (1 : Nat) (Option.none : Option Jvm.ClassFile.FieldType)) ∈ lw_all := lw_g (lw_at lw_m9 84 rfl) rfl
theorem q2117 : (Jvm.Cond.interfaceEntry "TelescopeQueue$State" (258 : Nat)) ∈ lw_tbl := lw_at lw_m9 85 rfl
theorem q2118 : (Jvm.Cond.methodLink "TelescopeQueue$State" (258 : Nat) ({ cls := "TelescopeQueue$Work", name := "duration", desc := "()I" } : Jvm.MethodName)) ∈ lw_all := lw_g (lw_at lw_m9 86 rfl) rfl
theorem q2119 : (Jvm.Cond.methodLink "TelescopeQueue$State" (264 : Nat) ({ cls := "TelescopeQueue$State", name := "carryOut", desc := "(I)V" } : Jvm.MethodName)) ∈ lw_all := lw_g (lw_at lw_m9 87 rfl) rfl
theorem q2120 : (Jvm.Cond.privateMethod ({ cls := "TelescopeQueue$State", name := "carryOut", desc := "(I)V" } : Jvm.MethodName)) ∈ lw_tbl := lw_at lw_m9 88 rfl
theorem q2121 : (Jvm.Cond.instanceMethod ({ cls := "TelescopeQueue$State", name := "carryOut", desc := "(I)V" } : Jvm.MethodName)) ∈ lw_all := lw_g (lw_at lw_m9 89 rfl) rfl
theorem q2122 : (Jvm.Cond.code ({ cls := "TelescopeQueue$State", name := "carryOut", desc := "(I)V" } : Jvm.MethodName) prog_17_method_24_code (5 : Nat) (Option.none : Option Jvm.ClassFile.FieldType)) ∈ lw_all := lw_g (lw_at lw_m9 90 rfl) rfl
theorem q2123 : (Jvm.Cond.methodLink "TelescopeQueue$State" (252 : Nat) ({ cls := "TelescopeQueue$State", name := "makeDump", desc := "(I)V" } : Jvm.MethodName)) ∈ lw_all := lw_g (lw_at lw_m9 91 rfl) rfl
theorem q2124 : (Jvm.Cond.instanceMethod ({ cls := "TelescopeQueue$State", name := "makeDump", desc := "(I)V" } : Jvm.MethodName)) ∈ lw_all := lw_g (lw_at lw_m9 92 rfl) rfl
theorem q2125 : (Jvm.Cond.selects "TelescopeQueue$State" ({ cls := "TelescopeQueue$State", name := "makeDump", desc := "(I)V" } : Jvm.MethodName) ({ cls := "TelescopeQueue$State", name := "makeDump", desc := "(I)V" } : Jvm.MethodName)) ∈ lw_all := lw_g (lw_at lw_m9 93 rfl) rfl
theorem q2126 : (Jvm.Cond.code ({ cls := "TelescopeQueue$State", name := "makeDump", desc := "(I)V" } : Jvm.MethodName) prog_17_method_22_code (2 : Nat) (Option.none : Option Jvm.ClassFile.FieldType)) ∈ lw_all := lw_g (lw_at lw_m9 94 rfl) rfl
theorem q2127 : (Jvm.Cond.methodLink "TelescopeQueue$State" (279 : Nat) ({ cls := "TelescopeQueue$State", name := "write", desc := "(III)V" } : Jvm.MethodName)) ∈ lw_all := lw_g (lw_at lw_m9 95 rfl) rfl
theorem q2128 : (Jvm.Cond.privateMethod ({ cls := "TelescopeQueue$State", name := "write", desc := "(III)V" } : Jvm.MethodName)) ∈ lw_tbl := lw_at lw_m9 96 rfl
theorem q2129 : (Jvm.Cond.instanceMethod ({ cls := "TelescopeQueue$State", name := "write", desc := "(III)V" } : Jvm.MethodName)) ∈ lw_all := lw_g (lw_at lw_m9 97 rfl) rfl
theorem q2130 : (Jvm.Cond.code ({ cls := "TelescopeQueue$State", name := "write", desc := "(III)V" } : Jvm.MethodName) prog_17_method_21_code (5 : Nat) (Option.none : Option Jvm.ClassFile.FieldType)) ∈ lw_all := lw_g (lw_at lw_m9 98 rfl) rfl
theorem q2131 : (Jvm.Cond.methodLink "TelescopeQueue$State" (283 : Nat) ({ cls := "TelescopeQueue$State", name := "makeCalibration", desc := "()V" } : Jvm.MethodName)) ∈ lw_all := lw_g (lw_at lw_m9 99 rfl) rfl
theorem q2132 : (Jvm.Cond.instanceMethod ({ cls := "TelescopeQueue$State", name := "makeCalibration", desc := "()V" } : Jvm.MethodName)) ∈ lw_all := lw_g (lw_at lw_m9 100 rfl) rfl
theorem q2133 : (Jvm.Cond.selects "TelescopeQueue$State" ({ cls := "TelescopeQueue$State", name := "makeCalibration", desc := "()V" } : Jvm.MethodName) ({ cls := "TelescopeQueue$State", name := "makeCalibration", desc := "()V" } : Jvm.MethodName)) ∈ lw_all := lw_g (lw_at lw_m9 101 rfl) rfl
theorem q2134 : (Jvm.Cond.code ({ cls := "TelescopeQueue$State", name := "makeCalibration", desc := "()V" } : Jvm.MethodName) prog_17_method_23_code (1 : Nat) (Option.none : Option Jvm.ClassFile.FieldType)) ∈ lw_all := lw_g (lw_at lw_m9 102 rfl) rfl
theorem q2135 : (Jvm.Cond.methodLink "TelescopeQueue$State" (286 : Nat) ({ cls := "TelescopeQueue$State", name := "makeVisit", desc := "()I" } : Jvm.MethodName)) ∈ lw_all := lw_g (lw_at lw_m9 103 rfl) rfl
theorem q2136 : (Jvm.Cond.privateMethod ({ cls := "TelescopeQueue$State", name := "makeVisit", desc := "()I" } : Jvm.MethodName)) ∈ lw_tbl := lw_at lw_m9 104 rfl
theorem q2137 : (Jvm.Cond.instanceMethod ({ cls := "TelescopeQueue$State", name := "makeVisit", desc := "()I" } : Jvm.MethodName)) ∈ lw_all := lw_g (lw_at lw_m9 105 rfl) rfl
theorem q2138 : (Jvm.Cond.code ({ cls := "TelescopeQueue$State", name := "makeVisit", desc := "()I" } : Jvm.MethodName) prog_17_method_25_code (3 : Nat) (Option.some Jvm.ClassFile.FieldType.int)) ∈ lw_all := lw_g (lw_at lw_m9 106 rfl) rfl
theorem q2139 : (Jvm.Cond.methodLink "TelescopeQueue$State" (289 : Nat) ({ cls := "TelescopeQueue$State", name := "idle", desc := "()V" } : Jvm.MethodName)) ∈ lw_all := lw_g (lw_at lw_m9 107 rfl) rfl
theorem q2140 : (Jvm.Cond.privateMethod ({ cls := "TelescopeQueue$State", name := "idle", desc := "()V" } : Jvm.MethodName)) ∈ lw_tbl := lw_at lw_m9 108 rfl
theorem q2141 : (Jvm.Cond.instanceMethod ({ cls := "TelescopeQueue$State", name := "idle", desc := "()V" } : Jvm.MethodName)) ∈ lw_all := lw_g (lw_at lw_m9 109 rfl) rfl
theorem q2142 : (Jvm.Cond.code ({ cls := "TelescopeQueue$State", name := "idle", desc := "()V" } : Jvm.MethodName) prog_17_method_28_code (2 : Nat) (Option.none : Option Jvm.ClassFile.FieldType)) ∈ lw_all := lw_g (lw_at lw_m9 110 rfl) rfl
theorem q2143 : (Jvm.Cond.methodLink "TelescopeQueue$State" (270 : Nat) ({ cls := "TelescopeQueue$State", name := "idleEnd", desc := "()I" } : Jvm.MethodName)) ∈ lw_all := lw_g (lw_at lw_m9 111 rfl) rfl
theorem q2144 : (Jvm.Cond.privateMethod ({ cls := "TelescopeQueue$State", name := "idleEnd", desc := "()I" } : Jvm.MethodName)) ∈ lw_tbl := lw_at lw_m9 112 rfl
theorem q2145 : (Jvm.Cond.instanceMethod ({ cls := "TelescopeQueue$State", name := "idleEnd", desc := "()I" } : Jvm.MethodName)) ∈ lw_all := lw_g (lw_at lw_m9 113 rfl) rfl
theorem q2146 : (Jvm.Cond.code ({ cls := "TelescopeQueue$State", name := "idleEnd", desc := "()I" } : Jvm.MethodName) prog_17_method_27_code (3 : Nat) (Option.some Jvm.ClassFile.FieldType.int)) ∈ lw_all := lw_g (lw_at lw_m9 114 rfl) rfl
theorem q2147 : (Jvm.Cond.methodLink "TelescopeQueue$State" (267 : Nat) ({ cls := "java/lang/Math", name := "min", desc := "(II)I" } : Jvm.MethodName)) ∈ lw_all := lw_g (lw_at lw_m9 115 rfl) rfl
theorem q2160 : (Jvm.Cond.instanceMethod ({ cls := "TelescopeQueue$State", name := "setPolicy", desc := "(I)V" } : Jvm.MethodName)) ∈ lw_all := lw_g (lw_at lw_m9 128 rfl) rfl
theorem q2161 : (Jvm.Cond.selects "TelescopeQueue$State" ({ cls := "TelescopeQueue$State", name := "setPolicy", desc := "(I)V" } : Jvm.MethodName) ({ cls := "TelescopeQueue$State", name := "setPolicy", desc := "(I)V" } : Jvm.MethodName)) ∈ lw_all := lw_g (lw_at lw_m9 129 rfl) rfl
theorem q2162 : (Jvm.Cond.code ({ cls := "TelescopeQueue$State", name := "setPolicy", desc := "(I)V" } : Jvm.MethodName) prog_17_method_8_code (2 : Nat) (Option.none : Option Jvm.ClassFile.FieldType)) ∈ lw_all := lw_g (lw_at lw_m9 130 rfl) rfl
theorem q2164 : (Jvm.Cond.instanceMethod ({ cls := "TelescopeQueue$State", name := "finish", desc := "()LTelescopeQueue$State;" } : Jvm.MethodName)) ∈ lw_all := lw_g (lw_at lw_m9 132 rfl) rfl
theorem q2165 : (Jvm.Cond.selects "TelescopeQueue$State" ({ cls := "TelescopeQueue$State", name := "finish", desc := "()LTelescopeQueue$State;" } : Jvm.MethodName) ({ cls := "TelescopeQueue$State", name := "finish", desc := "()LTelescopeQueue$State;" } : Jvm.MethodName)) ∈ lw_all := lw_g (lw_at lw_m9 133 rfl) rfl
theorem q2166 : (Jvm.Cond.code ({ cls := "TelescopeQueue$State", name := "finish", desc := "()LTelescopeQueue$State;" } : Jvm.MethodName) prog_17_method_31_code (1 : Nat) (Option.some (Jvm.ClassFile.FieldType.object "TelescopeQueue$State"))) ∈ lw_all := lw_g (lw_at lw_m9 134 rfl) rfl
theorem q2168 : (Jvm.Cond.instanceMethod ({ cls := "TelescopeQueue$State", name := "done", desc := "()I" } : Jvm.MethodName)) ∈ lw_all := lw_g (lw_at lw_m9 136 rfl) rfl
theorem q2169 : (Jvm.Cond.selects "TelescopeQueue$State" ({ cls := "TelescopeQueue$State", name := "done", desc := "()I" } : Jvm.MethodName) ({ cls := "TelescopeQueue$State", name := "done", desc := "()I" } : Jvm.MethodName)) ∈ lw_all := lw_g (lw_at lw_m9 137 rfl) rfl
theorem q2170 : (Jvm.Cond.code ({ cls := "TelescopeQueue$State", name := "done", desc := "()I" } : Jvm.MethodName) prog_17_method_32_code (3 : Nat) (Option.some Jvm.ClassFile.FieldType.int)) ∈ lw_all := lw_g (lw_at lw_m9 138 rfl) rfl
theorem q2407 : (Jvm.Cond.castable "TelescopeQueue$State" "TelescopeQueue$Copied") ∈ lw_tbl := lw_at lw_m10 135 rfl
theorem q2408 : (Jvm.Cond.selects "TelescopeQueue$State" ({ cls := "TelescopeQueue$Copied", name := "copy", desc := "()Ljava/lang/Object;" } : Jvm.MethodName) ({ cls := "TelescopeQueue$State", name := "copy", desc := "()Ljava/lang/Object;" } : Jvm.MethodName)) ∈ lw_all := lw_g (lw_at lw_m10 136 rfl) rfl
theorem q2409 : (Jvm.Cond.unhidden "TelescopeQueue$State" "copy" "()Ljava/lang/Object;") ∈ lw_tbl := lw_at lw_m10 137 rfl
theorem q2410 : (Jvm.Cond.instanceMethod ({ cls := "TelescopeQueue$State", name := "copy", desc := "()Ljava/lang/Object;" } : Jvm.MethodName)) ∈ lw_all := lw_g (lw_at lw_m10 138 rfl) rfl
theorem q2411 : (Jvm.Cond.publicMethod ({ cls := "TelescopeQueue$State", name := "copy", desc := "()Ljava/lang/Object;" } : Jvm.MethodName)) ∈ lw_tbl := lw_at lw_m10 139 rfl
theorem q2412 : (Jvm.Cond.code ({ cls := "TelescopeQueue$State", name := "copy", desc := "()Ljava/lang/Object;" } : Jvm.MethodName) prog_17_method_34_code (1 : Nat) (Option.some (Jvm.ClassFile.FieldType.object "java/lang/Object"))) ∈ lw_all := lw_g (lw_at lw_m10 140 rfl) rfl
theorem q2413 : (Jvm.Cond.methodLink "TelescopeQueue$State" (295 : Nat) ({ cls := "TelescopeQueue$State", name := "copy", desc := "()LTelescopeQueue$State;" } : Jvm.MethodName)) ∈ lw_all := lw_g (lw_at lw_m10 141 rfl) rfl
theorem q2414 : (Jvm.Cond.instanceMethod ({ cls := "TelescopeQueue$State", name := "copy", desc := "()LTelescopeQueue$State;" } : Jvm.MethodName)) ∈ lw_all := lw_g (lw_at lw_m10 142 rfl) rfl
theorem q2415 : (Jvm.Cond.selects "TelescopeQueue$State" ({ cls := "TelescopeQueue$State", name := "copy", desc := "()LTelescopeQueue$State;" } : Jvm.MethodName) ({ cls := "TelescopeQueue$State", name := "copy", desc := "()LTelescopeQueue$State;" } : Jvm.MethodName)) ∈ lw_all := lw_g (lw_at lw_m10 143 rfl) rfl
theorem q2416 : (Jvm.Cond.code ({ cls := "TelescopeQueue$State", name := "copy", desc := "()LTelescopeQueue$State;" } : Jvm.MethodName) prog_17_method_5_code (1 : Nat) (Option.some (Jvm.ClassFile.FieldType.object "TelescopeQueue$State"))) ∈ lw_all := lw_g (lw_at lw_m10 144 rfl) rfl
theorem q2417 : (Jvm.Cond.classLink "TelescopeQueue$State" (16 : Nat) "TelescopeQueue$State") ∈ lw_all := lw_g (lw_at lw_m10 145 rfl) rfl
theorem q2418 : (Jvm.Cond.methodLink "TelescopeQueue$State" (154 : Nat) ({ cls := "TelescopeQueue$State", name := "<init>", desc := "(LTelescopeQueue$Scope;)V" } : Jvm.MethodName)) ∈ lw_all := lw_g (lw_at lw_m10 146 rfl) rfl
theorem q2419 : (Jvm.Cond.methodLink "TelescopeQueue$State" (157 : Nat) ({ cls := "TelescopeQueue$State", name := "become", desc := "(LTelescopeQueue$State;)LTelescopeQueue$State;" } : Jvm.MethodName)) ∈ lw_all := lw_g (lw_at lw_m10 147 rfl) rfl
theorem q3264 : (Jvm.Cond.castable "TelescopeQueue$State" "java/lang/Object") ∈ lw_tbl := lw_at lw_m14 32 rfl
theorem in_X2 : ∀ w ∈ wsX20, w ∈ lw_all := lw_in wsX20 [653, 655, 657, 659, 661, 663, 665, 667, 669, 671, 673, 675, 677, 679, 681, 683, 685, 687, 689, 691, 693, 695, 697, 699, 701, 703] (by decide +kernel) (by decide +kernel)

/-! TelescopeQueue$Rule -/
set_option maxRecDepth 100000
def RX3 : String := "TelescopeQueue$Rule"
abbrev cX3_of : ByteArray := prog_13_method_4_code
def yX3_of : MethodName := ⟨RX3, "of", "(I)LTelescopeQueue$Rule;"⟩
def dkwX3_of_3 : List UInt8 := [183, 0, 35, 167, 0, 10, 187, 0, 36, 89, 183, 0, 38, 176]
abbrev dktX3_of_3 : List UInt8 := dkwX3_of_3 ++ []
def dkwX3_of_2 : List UInt8 := [187, 0, 24, 89, 183, 0, 26, 167, 0, 30, 187, 0, 30, 89, 183, 0, 32, 167, 0, 20, 187, 0, 33, 89]
abbrev dktX3_of_2 : List UInt8 := dkwX3_of_2 ++ dktX3_of_3
def dkwX3_of_1 : List UInt8 := [170, 0, 0, 0, 0, 0, 57, 0, 0, 0, 0, 0, 0, 0, 2, 0, 0, 0, 27, 0, 0, 0, 37, 0, 0, 0, 47]
abbrev dktX3_of_1 : List UInt8 := dkwX3_of_1 ++ dktX3_of_2
def dkwX3_of_0 : List UInt8 := [26]
abbrev dktX3_of_0 : List UInt8 := dkwX3_of_0 ++ dktX3_of_1
theorem dksX3_of_0 : cX3_of.data.toList.drop 0 = dktX3_of_0 := by decide +kernel
theorem dksX3_of_1 : cX3_of.data.toList.drop 1 = dktX3_of_1 := dk_seg dksX3_of_0 1 rfl rfl
theorem dksX3_of_2 : cX3_of.data.toList.drop 28 = dktX3_of_2 := dk_seg dksX3_of_1 27 rfl rfl
theorem dksX3_of_3 : cX3_of.data.toList.drop 52 = dktX3_of_3 := dk_seg dksX3_of_2 24 rfl rfl
theorem dX3_of_0 : decode cX3_of 0 = .ok (.iload_n 0, 1) := dk_26 (dk_at dksX3_of_0 0 rfl rfl)
theorem dX3_of_1 : decode cX3_of 1 = .ok (.tableswitch 57 0 2 #[27, 37, 47], 27) := by decide +kernel
theorem dX3_of_28 : decode cX3_of 28 = .ok (.new 24, 3) := dk_187 0 24 (dk_at dksX3_of_2 0 rfl rfl)
theorem dX3_of_31 : decode cX3_of 31 = .ok (.dup, 1) := dk_89 (dk_at dksX3_of_2 3 rfl rfl)
theorem dX3_of_32 : decode cX3_of 32 = .ok (.invokespecial 26, 3) := dk_183 0 26 (dk_at dksX3_of_2 4 rfl rfl)
theorem dX3_of_35 : decode cX3_of 35 = .ok (.goto 30, 3) := dk_167 0 30 (dk_at dksX3_of_2 7 rfl rfl)
theorem dX3_of_38 : decode cX3_of 38 = .ok (.new 30, 3) := dk_187 0 30 (dk_at dksX3_of_2 10 rfl rfl)
theorem dX3_of_41 : decode cX3_of 41 = .ok (.dup, 1) := dk_89 (dk_at dksX3_of_2 13 rfl rfl)
theorem dX3_of_42 : decode cX3_of 42 = .ok (.invokespecial 32, 3) := dk_183 0 32 (dk_at dksX3_of_2 14 rfl rfl)
theorem dX3_of_45 : decode cX3_of 45 = .ok (.goto 20, 3) := dk_167 0 20 (dk_at dksX3_of_2 17 rfl rfl)
theorem dX3_of_48 : decode cX3_of 48 = .ok (.new 33, 3) := dk_187 0 33 (dk_at dksX3_of_2 20 rfl rfl)
theorem dX3_of_51 : decode cX3_of 51 = .ok (.dup, 1) := dk_89 (dk_at dksX3_of_2 23 rfl rfl)
theorem dX3_of_52 : decode cX3_of 52 = .ok (.invokespecial 35, 3) := dk_183 0 35 (dk_at dksX3_of_3 0 rfl rfl)
theorem dX3_of_55 : decode cX3_of 55 = .ok (.goto 10, 3) := dk_167 0 10 (dk_at dksX3_of_3 3 rfl rfl)
theorem dX3_of_58 : decode cX3_of 58 = .ok (.new 36, 3) := dk_187 0 36 (dk_at dksX3_of_3 6 rfl rfl)
theorem dX3_of_61 : decode cX3_of 61 = .ok (.dup, 1) := dk_89 (dk_at dksX3_of_3 9 rfl rfl)
theorem dX3_of_62 : decode cX3_of 62 = .ok (.invokespecial 38, 3) := dk_183 0 38 (dk_at dksX3_of_3 10 rfl rfl)
theorem dX3_of_65 : decode cX3_of 65 = .ok (.areturn, 1) := dk_176 (dk_at dksX3_of_3 13 rfl rfl)
abbrev cX3_prefers : ByteArray := prog_13_method_3_code
def yX3_prefers : MethodName := ⟨RX3, "prefers", "(LTelescopeQueue$State;LTelescopeQueue$Plan;LTelescopeQueue$Plan;)Z"⟩
def dkwX3_prefers_1 : List UInt8 := [180, 0, 7, 45, 180, 0, 7, 162, 0, 7, 4, 167, 0, 4, 3, 172]
abbrev dktX3_prefers_1 : List UInt8 := dkwX3_prefers_1 ++ []
def dkwX3_prefers_0 : List UInt8 := [42, 43, 44, 45, 185, 0, 19, 4, 0, 54, 4, 21, 4, 155, 0, 19, 21, 4, 154, 0, 18, 44]
abbrev dktX3_prefers_0 : List UInt8 := dkwX3_prefers_0 ++ dktX3_prefers_1
theorem dksX3_prefers_0 : cX3_prefers.data.toList.drop 0 = dktX3_prefers_0 := by decide +kernel
theorem dksX3_prefers_1 : cX3_prefers.data.toList.drop 22 = dktX3_prefers_1 := dk_seg dksX3_prefers_0 22 rfl rfl
theorem dX3_prefers_0 : decode cX3_prefers 0 = .ok (.aload_n 0, 1) := dk_42 (dk_at dksX3_prefers_0 0 rfl rfl)
theorem dX3_prefers_1 : decode cX3_prefers 1 = .ok (.aload_n 1, 1) := dk_43 (dk_at dksX3_prefers_0 1 rfl rfl)
theorem dX3_prefers_2 : decode cX3_prefers 2 = .ok (.aload_n 2, 1) := dk_44 (dk_at dksX3_prefers_0 2 rfl rfl)
theorem dX3_prefers_3 : decode cX3_prefers 3 = .ok (.aload_n 3, 1) := dk_45 (dk_at dksX3_prefers_0 3 rfl rfl)
theorem dX3_prefers_4 : decode cX3_prefers 4 = .ok (.invokeinterface 19 4, 5) := by decide +kernel
theorem dX3_prefers_9 : decode cX3_prefers 9 = .ok (.istore 4, 2) := dk_54 4 (dk_at dksX3_prefers_0 9 rfl rfl)
theorem dX3_prefers_11 : decode cX3_prefers 11 = .ok (.iload 4, 2) := dk_21 4 (dk_at dksX3_prefers_0 11 rfl rfl)
theorem dX3_prefers_13 : decode cX3_prefers 13 = .ok (.ifCond .lt 19, 3) := dk_155 0 19 (dk_at dksX3_prefers_0 13 rfl rfl)
theorem dX3_prefers_16 : decode cX3_prefers 16 = .ok (.iload 4, 2) := dk_21 4 (dk_at dksX3_prefers_0 16 rfl rfl)
theorem dX3_prefers_18 : decode cX3_prefers 18 = .ok (.ifCond .ne 18, 3) := dk_154 0 18 (dk_at dksX3_prefers_0 18 rfl rfl)
theorem dX3_prefers_21 : decode cX3_prefers 21 = .ok (.aload_n 2, 1) := dk_44 (dk_at dksX3_prefers_0 21 rfl rfl)
theorem dX3_prefers_22 : decode cX3_prefers 22 = .ok (.getfield 7, 3) := dk_180 0 7 (dk_at dksX3_prefers_1 0 rfl rfl)
theorem dX3_prefers_25 : decode cX3_prefers 25 = .ok (.aload_n 3, 1) := dk_45 (dk_at dksX3_prefers_1 3 rfl rfl)
theorem dX3_prefers_26 : decode cX3_prefers 26 = .ok (.getfield 7, 3) := dk_180 0 7 (dk_at dksX3_prefers_1 4 rfl rfl)
theorem dX3_prefers_29 : decode cX3_prefers 29 = .ok (.if_icmp .ge 7, 3) := dk_162 0 7 (dk_at dksX3_prefers_1 7 rfl rfl)
theorem dX3_prefers_32 : decode cX3_prefers 32 = .ok (.iconst 1, 1) := dk_4 (dk_at dksX3_prefers_1 10 rfl rfl)
theorem dX3_prefers_33 : decode cX3_prefers 33 = .ok (.goto 4, 3) := dk_167 0 4 (dk_at dksX3_prefers_1 11 rfl rfl)
theorem dX3_prefers_36 : decode cX3_prefers 36 = .ok (.iconst 0, 1) := dk_3 (dk_at dksX3_prefers_1 14 rfl rfl)
theorem dX3_prefers_37 : decode cX3_prefers 37 = .ok (.ireturn, 1) := dk_172 (dk_at dksX3_prefers_1 15 rfl rfl)
abbrev cX3_byPriority : ByteArray := prog_13_method_2_code
def yX3_byPriority : MethodName := ⟨RX3, "byPriority", "(LTelescopeQueue$State;LTelescopeQueue$Plan;LTelescopeQueue$Plan;)I"⟩
def dkwX3_byPriority_0 : List UInt8 := [42, 180, 0, 1, 44, 180, 0, 7, 46, 42, 180, 0, 1, 43, 180, 0, 7, 46, 184, 0, 13, 172]
abbrev dktX3_byPriority_0 : List UInt8 := dkwX3_byPriority_0 ++ []
theorem dksX3_byPriority_0 : cX3_byPriority.data.toList.drop 0 = dktX3_byPriority_0 := by decide +kernel
theorem dX3_byPriority_0 : decode cX3_byPriority 0 = .ok (.aload_n 0, 1) := dk_42 (dk_at dksX3_byPriority_0 0 rfl rfl)
theorem dX3_byPriority_1 : decode cX3_byPriority 1 = .ok (.getfield 1, 3) := dk_180 0 1 (dk_at dksX3_byPriority_0 1 rfl rfl)
theorem dX3_byPriority_4 : decode cX3_byPriority 4 = .ok (.aload_n 2, 1) := dk_44 (dk_at dksX3_byPriority_0 4 rfl rfl)
theorem dX3_byPriority_5 : decode cX3_byPriority 5 = .ok (.getfield 7, 3) := dk_180 0 7 (dk_at dksX3_byPriority_0 5 rfl rfl)
theorem dX3_byPriority_8 : decode cX3_byPriority 8 = .ok (.iaload, 1) := dk_46 (dk_at dksX3_byPriority_0 8 rfl rfl)
theorem dX3_byPriority_9 : decode cX3_byPriority 9 = .ok (.aload_n 0, 1) := dk_42 (dk_at dksX3_byPriority_0 9 rfl rfl)
theorem dX3_byPriority_10 : decode cX3_byPriority 10 = .ok (.getfield 1, 3) := dk_180 0 1 (dk_at dksX3_byPriority_0 10 rfl rfl)
theorem dX3_byPriority_13 : decode cX3_byPriority 13 = .ok (.aload_n 1, 1) := dk_43 (dk_at dksX3_byPriority_0 13 rfl rfl)
theorem dX3_byPriority_14 : decode cX3_byPriority 14 = .ok (.getfield 7, 3) := dk_180 0 7 (dk_at dksX3_byPriority_0 14 rfl rfl)
theorem dX3_byPriority_17 : decode cX3_byPriority 17 = .ok (.iaload, 1) := dk_46 (dk_at dksX3_byPriority_0 17 rfl rfl)
theorem dX3_byPriority_18 : decode cX3_byPriority 18 = .ok (.invokestatic 13, 3) := dk_184 0 13 (dk_at dksX3_byPriority_0 18 rfl rfl)
theorem dX3_byPriority_21 : decode cX3_byPriority 21 = .ok (.ireturn, 1) := dk_172 (dk_at dksX3_byPriority_0 21 rfl rfl)
theorem q115 : (Jvm.Cond.initialized "TelescopeQueue$Rule") ∈ lw_all := lw_g (lw_at lw_m1 3 rfl) rfl
theorem q175 : (Jvm.Cond.static ({ cls := "TelescopeQueue$Rule", name := "of", desc := "(I)LTelescopeQueue$Rule;" } : Jvm.MethodName)) ∈ lw_all := lw_g (lw_at lw_m1 63 rfl) rfl
theorem q176 : (Jvm.Cond.code ({ cls := "TelescopeQueue$Rule", name := "of", desc := "(I)LTelescopeQueue$Rule;" } : Jvm.MethodName) prog_13_method_4_code (1 : Nat) (Option.some (Jvm.ClassFile.FieldType.object "TelescopeQueue$Rule"))) ∈ lw_all := lw_g (lw_at lw_m1 64 rfl) rfl
theorem q177 : (Jvm.Cond.classLink "TelescopeQueue$Rule" (24 : Nat) "TelescopeQueue$Priorities") ∈ lw_all := lw_g (lw_at lw_m1 65 rfl) rfl
theorem q179 : (Jvm.Cond.methodLinkNest "TelescopeQueue$Rule" (26 : Nat) ({ cls := "TelescopeQueue$Priorities", name := "<init>", desc := "()V" } : Jvm.MethodName) "TelescopeQueue") ∈ lw_tbl := lw_at lw_m1 67 rfl
theorem q185 : (Jvm.Cond.classLink "TelescopeQueue$Rule" (30 : Nat) "TelescopeQueue$Shares") ∈ lw_all := lw_g (lw_at lw_m1 73 rfl) rfl
theorem q187 : (Jvm.Cond.methodLinkNest "TelescopeQueue$Rule" (32 : Nat) ({ cls := "TelescopeQueue$Shares", name := "<init>", desc := "()V" } : Jvm.MethodName) "TelescopeQueue") ∈ lw_tbl := lw_at lw_m1 75 rfl
theorem q192 : (Jvm.Cond.classLink "TelescopeQueue$Rule" (33 : Nat) "TelescopeQueue$Deadlines") ∈ lw_all := lw_g (lw_at lw_m1 80 rfl) rfl
theorem q194 : (Jvm.Cond.methodLinkNest "TelescopeQueue$Rule" (35 : Nat) ({ cls := "TelescopeQueue$Deadlines", name := "<init>", desc := "()V" } : Jvm.MethodName) "TelescopeQueue") ∈ lw_tbl := lw_at lw_m1 82 rfl
theorem q199 : (Jvm.Cond.classLink "TelescopeQueue$Rule" (36 : Nat) "TelescopeQueue$Slews") ∈ lw_all := lw_g (lw_at lw_m1 87 rfl) rfl
theorem q201 : (Jvm.Cond.methodLinkNest "TelescopeQueue$Rule" (38 : Nat) ({ cls := "TelescopeQueue$Slews", name := "<init>", desc := "()V" } : Jvm.MethodName) "TelescopeQueue") ∈ lw_tbl := lw_at lw_m1 89 rfl
theorem q561 : (Jvm.Cond.fieldLinkNest "TelescopeQueue$Rule" (7 : Nat) "TelescopeQueue$Plan" "number" "I" "TelescopeQueue") ∈ lw_tbl := lw_at lw_m2 209 rfl
theorem q623 : (Jvm.Cond.fieldLinkNest "TelescopeQueue$Rule" (1 : Nat) "TelescopeQueue$State" "priority" "[I" "TelescopeQueue") ∈ lw_tbl := lw_at lw_m3 31 rfl
theorem q1881 : (Jvm.Cond.interfaceMethod "TelescopeQueue$Rule" "TelescopeQueue$Rule" "prefers" "(LTelescopeQueue$State;LTelescopeQueue$Plan;LTelescopeQueue$Plan;)Z") ∈ lw_tbl := lw_at lw_m8 89 rfl
theorem q1882 : (Jvm.Cond.declares ({ cls := "TelescopeQueue$Rule", name := "prefers", desc := "(LTelescopeQueue$State;LTelescopeQueue$Plan;LTelescopeQueue$Plan;)Z" } : Jvm.MethodName)) ∈ lw_tbl := lw_at lw_m8 90 rfl
theorem q1885 : (Jvm.Cond.instanceMethod ({ cls := "TelescopeQueue$Rule", name := "prefers", desc := "(LTelescopeQueue$State;LTelescopeQueue$Plan;LTelescopeQueue$Plan;)Z" } : Jvm.MethodName)) ∈ lw_all := lw_g (lw_at lw_m8 93 rfl) rfl
theorem q1886 : (Jvm.Cond.publicMethod ({ cls := "TelescopeQueue$Rule", name := "prefers", desc := "(LTelescopeQueue$State;LTelescopeQueue$Plan;LTelescopeQueue$Plan;)Z" } : Jvm.MethodName)) ∈ lw_tbl := lw_at lw_m8 94 rfl
theorem q1887 : (Jvm.Cond.code ({ cls := "TelescopeQueue$Rule", name := "prefers", desc := "(LTelescopeQueue$State;LTelescopeQueue$Plan;LTelescopeQueue$Plan;)Z" } : Jvm.MethodName) prog_13_method_3_code (5 : Nat) (Option.some Jvm.ClassFile.FieldType.boolean)) ∈ lw_all := lw_g (lw_at lw_m8 95 rfl) rfl
theorem q1888 : (Jvm.Cond.interfaceEntry "TelescopeQueue$Rule" (19 : Nat)) ∈ lw_tbl := lw_at lw_m8 96 rfl
theorem q1889 : (Jvm.Cond.methodLink "TelescopeQueue$Rule" (19 : Nat) ({ cls := "TelescopeQueue$Rule", name := "compare", desc := "(LTelescopeQueue$State;LTelescopeQueue$Plan;LTelescopeQueue$Plan;)I" } : Jvm.MethodName)) ∈ lw_all := lw_g (lw_at lw_m8 97 rfl) rfl
theorem q1890 : (Jvm.Cond.interfaceMethod "TelescopeQueue$Rule" "TelescopeQueue$Rule" "compare" "(LTelescopeQueue$State;LTelescopeQueue$Plan;LTelescopeQueue$Plan;)I") ∈ lw_tbl := lw_at lw_m8 98 rfl
theorem q1891 : (Jvm.Cond.declares ({ cls := "TelescopeQueue$Rule", name := "compare", desc := "(LTelescopeQueue$State;LTelescopeQueue$Plan;LTelescopeQueue$Plan;)I" } : Jvm.MethodName)) ∈ lw_tbl := lw_at lw_m8 99 rfl
theorem q1903 : (Jvm.Cond.static ({ cls := "TelescopeQueue$Rule", name := "byPriority", desc := "(LTelescopeQueue$State;LTelescopeQueue$Plan;LTelescopeQueue$Plan;)I" } : Jvm.MethodName)) ∈ lw_all := lw_g (lw_at lw_m8 111 rfl) rfl
theorem q1904 : (Jvm.Cond.code ({ cls := "TelescopeQueue$Rule", name := "byPriority", desc := "(LTelescopeQueue$State;LTelescopeQueue$Plan;LTelescopeQueue$Plan;)I" } : Jvm.MethodName) prog_13_method_2_code (3 : Nat) (Option.some Jvm.ClassFile.FieldType.int)) ∈ lw_all := lw_g (lw_at lw_m8 112 rfl) rfl
theorem q1905 : (Jvm.Cond.methodLink "TelescopeQueue$Rule" (13 : Nat) ({ cls := "java/lang/Integer", name := "compare", desc := "(II)I" } : Jvm.MethodName)) ∈ lw_all := lw_g (lw_at lw_m8 113 rfl) rfl

/-! TelescopeQueue$Priorities -/
set_option maxRecDepth 100000
def RX4 : String := "TelescopeQueue$Priorities"
abbrev cX4_init : ByteArray := prog_11_method_1_code
def yX4_init : MethodName := ⟨RX4, "<init>", "()V"⟩
theorem dX4_init_0 : decode cX4_init 0 = .ok (.aload_n 0, 1) := by decide +kernel
theorem dX4_init_1 : decode cX4_init 1 = .ok (.invokespecial 1, 3) := by decide +kernel
theorem dX4_init_4 : decode cX4_init 4 = .ok (.return_, 1) := by decide +kernel
abbrev cX4_compare : ByteArray := prog_11_method_2_code
def yX4_compare : MethodName := ⟨RX4, "compare", "(LTelescopeQueue$State;LTelescopeQueue$Plan;LTelescopeQueue$Plan;)I"⟩
def dkwX4_compare_1 : List UInt8 := [180, 0, 13, 184, 0, 19, 172]
abbrev dktX4_compare_1 : List UInt8 := dkwX4_compare_1 ++ []
def dkwX4_compare_0 : List UInt8 := [43, 44, 45, 184, 0, 7, 54, 4, 21, 4, 153, 0, 8, 21, 4, 167, 0, 14, 44, 180, 0, 13, 45]
abbrev dktX4_compare_0 : List UInt8 := dkwX4_compare_0 ++ dktX4_compare_1
theorem dksX4_compare_0 : cX4_compare.data.toList.drop 0 = dktX4_compare_0 := by decide +kernel
theorem dksX4_compare_1 : cX4_compare.data.toList.drop 23 = dktX4_compare_1 := dk_seg dksX4_compare_0 23 rfl rfl
theorem dX4_compare_0 : decode cX4_compare 0 = .ok (.aload_n 1, 1) := dk_43 (dk_at dksX4_compare_0 0 rfl rfl)
theorem dX4_compare_1 : decode cX4_compare 1 = .ok (.aload_n 2, 1) := dk_44 (dk_at dksX4_compare_0 1 rfl rfl)
theorem dX4_compare_2 : decode cX4_compare 2 = .ok (.aload_n 3, 1) := dk_45 (dk_at dksX4_compare_0 2 rfl rfl)
theorem dX4_compare_3 : decode cX4_compare 3 = .ok (.invokestatic 7, 3) := dk_184 0 7 (dk_at dksX4_compare_0 3 rfl rfl)
theorem dX4_compare_6 : decode cX4_compare 6 = .ok (.istore 4, 2) := dk_54 4 (dk_at dksX4_compare_0 6 rfl rfl)
theorem dX4_compare_8 : decode cX4_compare 8 = .ok (.iload 4, 2) := dk_21 4 (dk_at dksX4_compare_0 8 rfl rfl)
theorem dX4_compare_10 : decode cX4_compare 10 = .ok (.ifCond .eq 8, 3) := dk_153 0 8 (dk_at dksX4_compare_0 10 rfl rfl)
theorem dX4_compare_13 : decode cX4_compare 13 = .ok (.iload 4, 2) := dk_21 4 (dk_at dksX4_compare_0 13 rfl rfl)
theorem dX4_compare_15 : decode cX4_compare 15 = .ok (.goto 14, 3) := dk_167 0 14 (dk_at dksX4_compare_0 15 rfl rfl)
theorem dX4_compare_18 : decode cX4_compare 18 = .ok (.aload_n 2, 1) := dk_44 (dk_at dksX4_compare_0 18 rfl rfl)
theorem dX4_compare_19 : decode cX4_compare 19 = .ok (.getfield 13, 3) := dk_180 0 13 (dk_at dksX4_compare_0 19 rfl rfl)
theorem dX4_compare_22 : decode cX4_compare 22 = .ok (.aload_n 3, 1) := dk_45 (dk_at dksX4_compare_0 22 rfl rfl)
theorem dX4_compare_23 : decode cX4_compare 23 = .ok (.getfield 13, 3) := dk_180 0 13 (dk_at dksX4_compare_1 0 rfl rfl)
theorem dX4_compare_26 : decode cX4_compare 26 = .ok (.invokestatic 19, 3) := dk_184 0 19 (dk_at dksX4_compare_1 3 rfl rfl)
theorem dX4_compare_29 : decode cX4_compare 29 = .ok (.ireturn, 1) := dk_172 (dk_at dksX4_compare_1 6 rfl rfl)
theorem q116 : (Jvm.Cond.initialized "TelescopeQueue$Priorities") ∈ lw_all := lw_g (lw_at lw_m1 4 rfl) rfl
theorem q178 : (Jvm.Cond.instantiable "TelescopeQueue$Priorities" (0 : Nat)) ∈ lw_all := lw_g (lw_at lw_m1 66 rfl) rfl
theorem q180 : (Jvm.Cond.instanceMethod ({ cls := "TelescopeQueue$Priorities", name := "<init>", desc := "()V" } : Jvm.MethodName)) ∈ lw_all := lw_g (lw_at lw_m1 68 rfl) rfl
theorem q181 : (Jvm.Cond.code ({ cls := "TelescopeQueue$Priorities", name := "<init>", desc := "()V" } : Jvm.MethodName) prog_11_method_1_code (1 : Nat) (Option.none : Option Jvm.ClassFile.FieldType)) ∈ lw_all := lw_g (lw_at lw_m1 69 rfl) rfl
theorem q182 : (Jvm.Cond.methodLink "TelescopeQueue$Priorities" (1 : Nat) ({ cls := "java/lang/Object", name := "<init>", desc := "()V" } : Jvm.MethodName)) ∈ lw_all := lw_g (lw_at lw_m1 70 rfl) rfl
theorem q183 : (Jvm.Cond.superclass "TelescopeQueue$Priorities" "java/lang/Object") ∈ lw_all := lw_g (lw_at lw_m1 71 rfl) rfl
theorem q571 : (Jvm.Cond.fieldLinkNest "TelescopeQueue$Priorities" (13 : Nat) "TelescopeQueue$Plan" "start" "I" "TelescopeQueue") ∈ lw_tbl := lw_at lw_m2 219 rfl
theorem q1273 : (Jvm.Cond.selects "TelescopeQueue$Priorities" ({ cls := "java/lang/Object", name := "getClass", desc := "()Ljava/lang/Class;" } : Jvm.MethodName) ({ cls := "java/lang/Object", name := "getClass", desc := "()Ljava/lang/Class;" } : Jvm.MethodName)) ∈ lw_all := lw_g (lw_at lw_m5 201 rfl) rfl
theorem q1906 : (Jvm.Cond.castable "TelescopeQueue$Priorities" "TelescopeQueue$Rule") ∈ lw_tbl := lw_at lw_m8 114 rfl
theorem q1907 : (Jvm.Cond.selects "TelescopeQueue$Priorities" ({ cls := "TelescopeQueue$Rule", name := "compare", desc := "(LTelescopeQueue$State;LTelescopeQueue$Plan;LTelescopeQueue$Plan;)I" } : Jvm.MethodName) ({ cls := "TelescopeQueue$Priorities", name := "compare", desc := "(LTelescopeQueue$State;LTelescopeQueue$Plan;LTelescopeQueue$Plan;)I" } : Jvm.MethodName)) ∈ lw_all := lw_g (lw_at lw_m8 115 rfl) rfl
theorem q1908 : (Jvm.Cond.unhidden "TelescopeQueue$Priorities" "compare" "(LTelescopeQueue$State;LTelescopeQueue$Plan;LTelescopeQueue$Plan;)I") ∈ lw_tbl := lw_at lw_m8 116 rfl
theorem q1909 : (Jvm.Cond.instanceMethod ({ cls := "TelescopeQueue$Priorities", name := "compare", desc := "(LTelescopeQueue$State;LTelescopeQueue$Plan;LTelescopeQueue$Plan;)I" } : Jvm.MethodName)) ∈ lw_all := lw_g (lw_at lw_m8 117 rfl) rfl
theorem q1910 : (Jvm.Cond.publicMethod ({ cls := "TelescopeQueue$Priorities", name := "compare", desc := "(LTelescopeQueue$State;LTelescopeQueue$Plan;LTelescopeQueue$Plan;)I" } : Jvm.MethodName)) ∈ lw_tbl := lw_at lw_m8 118 rfl
theorem q1911 : (Jvm.Cond.code ({ cls := "TelescopeQueue$Priorities", name := "compare", desc := "(LTelescopeQueue$State;LTelescopeQueue$Plan;LTelescopeQueue$Plan;)I" } : Jvm.MethodName) prog_11_method_2_code (5 : Nat) (Option.some Jvm.ClassFile.FieldType.int)) ∈ lw_all := lw_g (lw_at lw_m8 119 rfl) rfl
theorem q1912 : (Jvm.Cond.methodLink "TelescopeQueue$Priorities" (7 : Nat) ({ cls := "TelescopeQueue$Rule", name := "byPriority", desc := "(LTelescopeQueue$State;LTelescopeQueue$Plan;LTelescopeQueue$Plan;)I" } : Jvm.MethodName)) ∈ lw_all := lw_g (lw_at lw_m8 120 rfl) rfl
theorem q1913 : (Jvm.Cond.methodLink "TelescopeQueue$Priorities" (19 : Nat) ({ cls := "java/lang/Integer", name := "compare", desc := "(II)I" } : Jvm.MethodName)) ∈ lw_all := lw_g (lw_at lw_m8 121 rfl) rfl
theorem q1939 : (Jvm.Cond.unhidden "TelescopeQueue$Priorities" "prefers" "(LTelescopeQueue$State;LTelescopeQueue$Plan;LTelescopeQueue$Plan;)Z") ∈ lw_tbl := lw_at lw_m8 147 rfl
theorem q3266 : (Jvm.Cond.castable "TelescopeQueue$Priorities" "java/lang/Object") ∈ lw_tbl := lw_at lw_m14 34 rfl

/-! TelescopeQueue$Shares -/
set_option maxRecDepth 100000
def RX5 : String := "TelescopeQueue$Shares"
abbrev cX5_init : ByteArray := prog_15_method_1_code
def yX5_init : MethodName := ⟨RX5, "<init>", "()V"⟩
theorem dX5_init_0 : decode cX5_init 0 = .ok (.aload_n 0, 1) := by decide +kernel
theorem dX5_init_1 : decode cX5_init 1 = .ok (.invokespecial 1, 3) := by decide +kernel
theorem dX5_init_4 : decode cX5_init 4 = .ok (.return_, 1) := by decide +kernel
abbrev cX5_compare : ByteArray := prog_15_method_2_code
def yX5_compare : MethodName := ⟨RX5, "compare", "(LTelescopeQueue$State;LTelescopeQueue$Plan;LTelescopeQueue$Plan;)I"⟩
def dkwX5_compare_3 : List UInt8 := [45, 184, 0, 35, 172]
abbrev dktX5_compare_3 : List UInt8 := dkwX5_compare_3 ++ []
def dkwX5_compare_2 : List UInt8 := [21, 4, 182, 0, 25, 133, 105, 184, 0, 29, 54, 6, 21, 6, 153, 0, 8, 21, 6, 167, 0, 9, 43, 44]
abbrev dktX5_compare_2 : List UInt8 := dkwX5_compare_2 ++ dktX5_compare_3
def dkwX5_compare_1 : List UInt8 := [180, 0, 19, 21, 4, 46, 133, 43, 21, 5, 182, 0, 25, 133, 105, 43, 180, 0, 19, 21, 5, 46, 133, 43]
abbrev dktX5_compare_1 : List UInt8 := dkwX5_compare_1 ++ dktX5_compare_2
def dkwX5_compare_0 : List UInt8 := [44, 180, 0, 7, 185, 0, 13, 1, 0, 54, 4, 45, 180, 0, 7, 185, 0, 13, 1, 0, 54, 5, 43]
abbrev dktX5_compare_0 : List UInt8 := dkwX5_compare_0 ++ dktX5_compare_1
theorem dksX5_compare_0 : cX5_compare.data.toList.drop 0 = dktX5_compare_0 := by decide +kernel
theorem dksX5_compare_1 : cX5_compare.data.toList.drop 23 = dktX5_compare_1 := dk_seg dksX5_compare_0 23 rfl rfl
theorem dksX5_compare_2 : cX5_compare.data.toList.drop 47 = dktX5_compare_2 := dk_seg dksX5_compare_1 24 rfl rfl
theorem dksX5_compare_3 : cX5_compare.data.toList.drop 71 = dktX5_compare_3 := dk_seg dksX5_compare_2 24 rfl rfl
theorem dX5_compare_0 : decode cX5_compare 0 = .ok (.aload_n 2, 1) := dk_44 (dk_at dksX5_compare_0 0 rfl rfl)
theorem dX5_compare_1 : decode cX5_compare 1 = .ok (.getfield 7, 3) := dk_180 0 7 (dk_at dksX5_compare_0 1 rfl rfl)
theorem dX5_compare_4 : decode cX5_compare 4 = .ok (.invokeinterface 13 1, 5) := by decide +kernel
theorem dX5_compare_9 : decode cX5_compare 9 = .ok (.istore 4, 2) := dk_54 4 (dk_at dksX5_compare_0 9 rfl rfl)
theorem dX5_compare_11 : decode cX5_compare 11 = .ok (.aload_n 3, 1) := dk_45 (dk_at dksX5_compare_0 11 rfl rfl)
theorem dX5_compare_12 : decode cX5_compare 12 = .ok (.getfield 7, 3) := dk_180 0 7 (dk_at dksX5_compare_0 12 rfl rfl)
theorem dX5_compare_15 : decode cX5_compare 15 = .ok (.invokeinterface 13 1, 5) := by decide +kernel
theorem dX5_compare_20 : decode cX5_compare 20 = .ok (.istore 5, 2) := dk_54 5 (dk_at dksX5_compare_0 20 rfl rfl)
theorem dX5_compare_22 : decode cX5_compare 22 = .ok (.aload_n 1, 1) := dk_43 (dk_at dksX5_compare_0 22 rfl rfl)
theorem dX5_compare_23 : decode cX5_compare 23 = .ok (.getfield 19, 3) := dk_180 0 19 (dk_at dksX5_compare_1 0 rfl rfl)
theorem dX5_compare_26 : decode cX5_compare 26 = .ok (.iload 4, 2) := dk_21 4 (dk_at dksX5_compare_1 3 rfl rfl)
theorem dX5_compare_28 : decode cX5_compare 28 = .ok (.iaload, 1) := dk_46 (dk_at dksX5_compare_1 5 rfl rfl)
theorem dX5_compare_29 : decode cX5_compare 29 = .ok (.i2l, 1) := dk_133 (dk_at dksX5_compare_1 6 rfl rfl)
theorem dX5_compare_30 : decode cX5_compare 30 = .ok (.aload_n 1, 1) := dk_43 (dk_at dksX5_compare_1 7 rfl rfl)
theorem dX5_compare_31 : decode cX5_compare 31 = .ok (.iload 5, 2) := dk_21 5 (dk_at dksX5_compare_1 8 rfl rfl)
theorem dX5_compare_33 : decode cX5_compare 33 = .ok (.invokevirtual 25, 3) := dk_182 0 25 (dk_at dksX5_compare_1 10 rfl rfl)
theorem dX5_compare_36 : decode cX5_compare 36 = .ok (.i2l, 1) := dk_133 (dk_at dksX5_compare_1 13 rfl rfl)
theorem dX5_compare_37 : decode cX5_compare 37 = .ok (.lmul, 1) := dk_105 (dk_at dksX5_compare_1 14 rfl rfl)
theorem dX5_compare_38 : decode cX5_compare 38 = .ok (.aload_n 1, 1) := dk_43 (dk_at dksX5_compare_1 15 rfl rfl)
theorem dX5_compare_39 : decode cX5_compare 39 = .ok (.getfield 19, 3) := dk_180 0 19 (dk_at dksX5_compare_1 16 rfl rfl)
theorem dX5_compare_42 : decode cX5_compare 42 = .ok (.iload 5, 2) := dk_21 5 (dk_at dksX5_compare_1 19 rfl rfl)
theorem dX5_compare_44 : decode cX5_compare 44 = .ok (.iaload, 1) := dk_46 (dk_at dksX5_compare_1 21 rfl rfl)
theorem dX5_compare_45 : decode cX5_compare 45 = .ok (.i2l, 1) := dk_133 (dk_at dksX5_compare_1 22 rfl rfl)
theorem dX5_compare_46 : decode cX5_compare 46 = .ok (.aload_n 1, 1) := dk_43 (dk_at dksX5_compare_1 23 rfl rfl)
theorem dX5_compare_47 : decode cX5_compare 47 = .ok (.iload 4, 2) := dk_21 4 (dk_at dksX5_compare_2 0 rfl rfl)
theorem dX5_compare_49 : decode cX5_compare 49 = .ok (.invokevirtual 25, 3) := dk_182 0 25 (dk_at dksX5_compare_2 2 rfl rfl)
theorem dX5_compare_52 : decode cX5_compare 52 = .ok (.i2l, 1) := dk_133 (dk_at dksX5_compare_2 5 rfl rfl)
theorem dX5_compare_53 : decode cX5_compare 53 = .ok (.lmul, 1) := dk_105 (dk_at dksX5_compare_2 6 rfl rfl)
theorem dX5_compare_54 : decode cX5_compare 54 = .ok (.invokestatic 29, 3) := dk_184 0 29 (dk_at dksX5_compare_2 7 rfl rfl)
theorem dX5_compare_57 : decode cX5_compare 57 = .ok (.istore 6, 2) := dk_54 6 (dk_at dksX5_compare_2 10 rfl rfl)
theorem dX5_compare_59 : decode cX5_compare 59 = .ok (.iload 6, 2) := dk_21 6 (dk_at dksX5_compare_2 12 rfl rfl)
theorem dX5_compare_61 : decode cX5_compare 61 = .ok (.ifCond .eq 8, 3) := dk_153 0 8 (dk_at dksX5_compare_2 14 rfl rfl)
theorem dX5_compare_64 : decode cX5_compare 64 = .ok (.iload 6, 2) := dk_21 6 (dk_at dksX5_compare_2 17 rfl rfl)
theorem dX5_compare_66 : decode cX5_compare 66 = .ok (.goto 9, 3) := dk_167 0 9 (dk_at dksX5_compare_2 19 rfl rfl)
theorem dX5_compare_69 : decode cX5_compare 69 = .ok (.aload_n 1, 1) := dk_43 (dk_at dksX5_compare_2 22 rfl rfl)
theorem dX5_compare_70 : decode cX5_compare 70 = .ok (.aload_n 2, 1) := dk_44 (dk_at dksX5_compare_2 23 rfl rfl)
theorem dX5_compare_71 : decode cX5_compare 71 = .ok (.aload_n 3, 1) := dk_45 (dk_at dksX5_compare_3 0 rfl rfl)
theorem dX5_compare_72 : decode cX5_compare 72 = .ok (.invokestatic 35, 3) := dk_184 0 35 (dk_at dksX5_compare_3 1 rfl rfl)
theorem dX5_compare_75 : decode cX5_compare 75 = .ok (.ireturn, 1) := dk_172 (dk_at dksX5_compare_3 4 rfl rfl)
theorem q117 : (Jvm.Cond.initialized "TelescopeQueue$Shares") ∈ lw_all := lw_g (lw_at lw_m1 5 rfl) rfl
theorem q186 : (Jvm.Cond.instantiable "TelescopeQueue$Shares" (0 : Nat)) ∈ lw_all := lw_g (lw_at lw_m1 74 rfl) rfl
theorem q188 : (Jvm.Cond.instanceMethod ({ cls := "TelescopeQueue$Shares", name := "<init>", desc := "()V" } : Jvm.MethodName)) ∈ lw_all := lw_g (lw_at lw_m1 76 rfl) rfl
theorem q189 : (Jvm.Cond.code ({ cls := "TelescopeQueue$Shares", name := "<init>", desc := "()V" } : Jvm.MethodName) prog_15_method_1_code (1 : Nat) (Option.none : Option Jvm.ClassFile.FieldType)) ∈ lw_all := lw_g (lw_at lw_m1 77 rfl) rfl
theorem q190 : (Jvm.Cond.methodLink "TelescopeQueue$Shares" (1 : Nat) ({ cls := "java/lang/Object", name := "<init>", desc := "()V" } : Jvm.MethodName)) ∈ lw_all := lw_g (lw_at lw_m1 78 rfl) rfl
theorem q191 : (Jvm.Cond.superclass "TelescopeQueue$Shares" "java/lang/Object") ∈ lw_all := lw_g (lw_at lw_m1 79 rfl) rfl
theorem q558 : (Jvm.Cond.fieldLinkNest "TelescopeQueue$Shares" (7 : Nat) "TelescopeQueue$Plan" "work" "LTelescopeQueue$Work;" "TelescopeQueue") ∈ lw_tbl := lw_at lw_m2 206 rfl
theorem q610 : (Jvm.Cond.fieldLinkNest "TelescopeQueue$Shares" (19 : Nat) "TelescopeQueue$State" "used" "[I" "TelescopeQueue") ∈ lw_tbl := lw_at lw_m3 18 rfl
theorem q1276 : (Jvm.Cond.selects "TelescopeQueue$Shares" ({ cls := "java/lang/Object", name := "getClass", desc := "()Ljava/lang/Class;" } : Jvm.MethodName) ({ cls := "java/lang/Object", name := "getClass", desc := "()Ljava/lang/Class;" } : Jvm.MethodName)) ∈ lw_all := lw_g (lw_at lw_m5 204 rfl) rfl
theorem q1914 : (Jvm.Cond.castable "TelescopeQueue$Shares" "TelescopeQueue$Rule") ∈ lw_tbl := lw_at lw_m8 122 rfl
theorem q1915 : (Jvm.Cond.selects "TelescopeQueue$Shares" ({ cls := "TelescopeQueue$Rule", name := "compare", desc := "(LTelescopeQueue$State;LTelescopeQueue$Plan;LTelescopeQueue$Plan;)I" } : Jvm.MethodName) ({ cls := "TelescopeQueue$Shares", name := "compare", desc := "(LTelescopeQueue$State;LTelescopeQueue$Plan;LTelescopeQueue$Plan;)I" } : Jvm.MethodName)) ∈ lw_all := lw_g (lw_at lw_m8 123 rfl) rfl
theorem q1916 : (Jvm.Cond.unhidden "TelescopeQueue$Shares" "compare" "(LTelescopeQueue$State;LTelescopeQueue$Plan;LTelescopeQueue$Plan;)I") ∈ lw_tbl := lw_at lw_m8 124 rfl
theorem q1917 : (Jvm.Cond.instanceMethod ({ cls := "TelescopeQueue$Shares", name := "compare", desc := "(LTelescopeQueue$State;LTelescopeQueue$Plan;LTelescopeQueue$Plan;)I" } : Jvm.MethodName)) ∈ lw_all := lw_g (lw_at lw_m8 125 rfl) rfl
theorem q1918 : (Jvm.Cond.publicMethod ({ cls := "TelescopeQueue$Shares", name := "compare", desc := "(LTelescopeQueue$State;LTelescopeQueue$Plan;LTelescopeQueue$Plan;)I" } : Jvm.MethodName)) ∈ lw_tbl := lw_at lw_m8 126 rfl
theorem q1919 : (Jvm.Cond.code ({ cls := "TelescopeQueue$Shares", name := "compare", desc := "(LTelescopeQueue$State;LTelescopeQueue$Plan;LTelescopeQueue$Plan;)I" } : Jvm.MethodName) prog_15_method_2_code (7 : Nat) (Option.some Jvm.ClassFile.FieldType.int)) ∈ lw_all := lw_g (lw_at lw_m8 127 rfl) rfl
theorem q1920 : (Jvm.Cond.interfaceEntry "TelescopeQueue$Shares" (13 : Nat)) ∈ lw_tbl := lw_at lw_m8 128 rfl
theorem q1921 : (Jvm.Cond.methodLink "TelescopeQueue$Shares" (13 : Nat) ({ cls := "TelescopeQueue$Work", name := "proposal", desc := "()I" } : Jvm.MethodName)) ∈ lw_all := lw_g (lw_at lw_m8 129 rfl) rfl
theorem q1922 : (Jvm.Cond.methodLink "TelescopeQueue$Shares" (25 : Nat) ({ cls := "TelescopeQueue$State", name := "divisor", desc := "(I)I" } : Jvm.MethodName)) ∈ lw_all := lw_g (lw_at lw_m8 130 rfl) rfl
theorem q1927 : (Jvm.Cond.methodLink "TelescopeQueue$Shares" (29 : Nat) ({ cls := "java/lang/Long", name := "compare", desc := "(JJ)I" } : Jvm.MethodName)) ∈ lw_all := lw_g (lw_at lw_m8 135 rfl) rfl
theorem q1930 : (Jvm.Cond.methodLink "TelescopeQueue$Shares" (35 : Nat) ({ cls := "TelescopeQueue$Rule", name := "byPriority", desc := "(LTelescopeQueue$State;LTelescopeQueue$Plan;LTelescopeQueue$Plan;)I" } : Jvm.MethodName)) ∈ lw_all := lw_g (lw_at lw_m8 138 rfl) rfl
theorem q1940 : (Jvm.Cond.unhidden "TelescopeQueue$Shares" "prefers" "(LTelescopeQueue$State;LTelescopeQueue$Plan;LTelescopeQueue$Plan;)Z") ∈ lw_tbl := lw_at lw_m8 148 rfl
theorem q3267 : (Jvm.Cond.castable "TelescopeQueue$Shares" "java/lang/Object") ∈ lw_tbl := lw_at lw_m14 35 rfl

/-! TelescopeQueue$Deadlines -/
set_option maxRecDepth 100000
def RX6 : String := "TelescopeQueue$Deadlines"
abbrev cX6_init : ByteArray := prog_4_method_1_code
def yX6_init : MethodName := ⟨RX6, "<init>", "()V"⟩
theorem dX6_init_0 : decode cX6_init 0 = .ok (.aload_n 0, 1) := by decide +kernel
theorem dX6_init_1 : decode cX6_init 1 = .ok (.invokespecial 1, 3) := by decide +kernel
theorem dX6_init_4 : decode cX6_init 4 = .ok (.return_, 1) := by decide +kernel
abbrev cX6_compare : ByteArray := prog_4_method_2_code
def yX6_compare : MethodName := ⟨RX6, "compare", "(LTelescopeQueue$State;LTelescopeQueue$Plan;LTelescopeQueue$Plan;)I"⟩
def dkwX6_compare_1 : List UInt8 := [21, 4, 153, 0, 8, 21, 4, 167, 0, 9, 43, 44, 45, 184, 0, 25, 172]
abbrev dktX6_compare_1 : List UInt8 := dkwX6_compare_1 ++ []
def dkwX6_compare_0 : List UInt8 := [44, 180, 0, 7, 185, 0, 13, 1, 0, 45, 180, 0, 7, 185, 0, 13, 1, 0, 184, 0, 19, 54, 4]
abbrev dktX6_compare_0 : List UInt8 := dkwX6_compare_0 ++ dktX6_compare_1
theorem dksX6_compare_0 : cX6_compare.data.toList.drop 0 = dktX6_compare_0 := by decide +kernel
theorem dksX6_compare_1 : cX6_compare.data.toList.drop 23 = dktX6_compare_1 := dk_seg dksX6_compare_0 23 rfl rfl
theorem dX6_compare_0 : decode cX6_compare 0 = .ok (.aload_n 2, 1) := dk_44 (dk_at dksX6_compare_0 0 rfl rfl)
theorem dX6_compare_1 : decode cX6_compare 1 = .ok (.getfield 7, 3) := dk_180 0 7 (dk_at dksX6_compare_0 1 rfl rfl)
theorem dX6_compare_4 : decode cX6_compare 4 = .ok (.invokeinterface 13 1, 5) := by decide +kernel
theorem dX6_compare_9 : decode cX6_compare 9 = .ok (.aload_n 3, 1) := dk_45 (dk_at dksX6_compare_0 9 rfl rfl)
theorem dX6_compare_10 : decode cX6_compare 10 = .ok (.getfield 7, 3) := dk_180 0 7 (dk_at dksX6_compare_0 10 rfl rfl)
theorem dX6_compare_13 : decode cX6_compare 13 = .ok (.invokeinterface 13 1, 5) := by decide +kernel
theorem dX6_compare_18 : decode cX6_compare 18 = .ok (.invokestatic 19, 3) := dk_184 0 19 (dk_at dksX6_compare_0 18 rfl rfl)
theorem dX6_compare_21 : decode cX6_compare 21 = .ok (.istore 4, 2) := dk_54 4 (dk_at dksX6_compare_0 21 rfl rfl)
theorem dX6_compare_23 : decode cX6_compare 23 = .ok (.iload 4, 2) := dk_21 4 (dk_at dksX6_compare_1 0 rfl rfl)
theorem dX6_compare_25 : decode cX6_compare 25 = .ok (.ifCond .eq 8, 3) := dk_153 0 8 (dk_at dksX6_compare_1 2 rfl rfl)
theorem dX6_compare_28 : decode cX6_compare 28 = .ok (.iload 4, 2) := dk_21 4 (dk_at dksX6_compare_1 5 rfl rfl)
theorem dX6_compare_30 : decode cX6_compare 30 = .ok (.goto 9, 3) := dk_167 0 9 (dk_at dksX6_compare_1 7 rfl rfl)
theorem dX6_compare_33 : decode cX6_compare 33 = .ok (.aload_n 1, 1) := dk_43 (dk_at dksX6_compare_1 10 rfl rfl)
theorem dX6_compare_34 : decode cX6_compare 34 = .ok (.aload_n 2, 1) := dk_44 (dk_at dksX6_compare_1 11 rfl rfl)
theorem dX6_compare_35 : decode cX6_compare 35 = .ok (.aload_n 3, 1) := dk_45 (dk_at dksX6_compare_1 12 rfl rfl)
theorem dX6_compare_36 : decode cX6_compare 36 = .ok (.invokestatic 25, 3) := dk_184 0 25 (dk_at dksX6_compare_1 13 rfl rfl)
theorem dX6_compare_39 : decode cX6_compare 39 = .ok (.ireturn, 1) := dk_172 (dk_at dksX6_compare_1 16 rfl rfl)
theorem q118 : (Jvm.Cond.initialized "TelescopeQueue$Deadlines") ∈ lw_all := lw_g (lw_at lw_m1 6 rfl) rfl
theorem q193 : (Jvm.Cond.instantiable "TelescopeQueue$Deadlines" (0 : Nat)) ∈ lw_all := lw_g (lw_at lw_m1 81 rfl) rfl
theorem q195 : (Jvm.Cond.instanceMethod ({ cls := "TelescopeQueue$Deadlines", name := "<init>", desc := "()V" } : Jvm.MethodName)) ∈ lw_all := lw_g (lw_at lw_m1 83 rfl) rfl
theorem q196 : (Jvm.Cond.code ({ cls := "TelescopeQueue$Deadlines", name := "<init>", desc := "()V" } : Jvm.MethodName) prog_4_method_1_code (1 : Nat) (Option.none : Option Jvm.ClassFile.FieldType)) ∈ lw_all := lw_g (lw_at lw_m1 84 rfl) rfl
theorem q197 : (Jvm.Cond.methodLink "TelescopeQueue$Deadlines" (1 : Nat) ({ cls := "java/lang/Object", name := "<init>", desc := "()V" } : Jvm.MethodName)) ∈ lw_all := lw_g (lw_at lw_m1 85 rfl) rfl
theorem q198 : (Jvm.Cond.superclass "TelescopeQueue$Deadlines" "java/lang/Object") ∈ lw_all := lw_g (lw_at lw_m1 86 rfl) rfl
theorem q557 : (Jvm.Cond.fieldLinkNest "TelescopeQueue$Deadlines" (7 : Nat) "TelescopeQueue$Plan" "work" "LTelescopeQueue$Work;" "TelescopeQueue") ∈ lw_tbl := lw_at lw_m2 205 rfl
theorem q1267 : (Jvm.Cond.selects "TelescopeQueue$Deadlines" ({ cls := "java/lang/Object", name := "getClass", desc := "()Ljava/lang/Class;" } : Jvm.MethodName) ({ cls := "java/lang/Object", name := "getClass", desc := "()Ljava/lang/Class;" } : Jvm.MethodName)) ∈ lw_all := lw_g (lw_at lw_m5 195 rfl) rfl
theorem q1883 : (Jvm.Cond.castable "TelescopeQueue$Deadlines" "TelescopeQueue$Rule") ∈ lw_tbl := lw_at lw_m8 91 rfl
theorem q1884 : (Jvm.Cond.unhidden "TelescopeQueue$Deadlines" "prefers" "(LTelescopeQueue$State;LTelescopeQueue$Plan;LTelescopeQueue$Plan;)Z") ∈ lw_tbl := lw_at lw_m8 92 rfl
theorem q1892 : (Jvm.Cond.selects "TelescopeQueue$Deadlines" ({ cls := "TelescopeQueue$Rule", name := "compare", desc := "(LTelescopeQueue$State;LTelescopeQueue$Plan;LTelescopeQueue$Plan;)I" } : Jvm.MethodName) ({ cls := "TelescopeQueue$Deadlines", name := "compare", desc := "(LTelescopeQueue$State;LTelescopeQueue$Plan;LTelescopeQueue$Plan;)I" } : Jvm.MethodName)) ∈ lw_all := lw_g (lw_at lw_m8 100 rfl) rfl
theorem q1893 : (Jvm.Cond.unhidden "TelescopeQueue$Deadlines" "compare" "(LTelescopeQueue$State;LTelescopeQueue$Plan;LTelescopeQueue$Plan;)I") ∈ lw_tbl := lw_at lw_m8 101 rfl
theorem q1894 : (Jvm.Cond.instanceMethod ({ cls := "TelescopeQueue$Deadlines", name := "compare", desc := "(LTelescopeQueue$State;LTelescopeQueue$Plan;LTelescopeQueue$Plan;)I" } : Jvm.MethodName)) ∈ lw_all := lw_g (lw_at lw_m8 102 rfl) rfl
theorem q1895 : (Jvm.Cond.publicMethod ({ cls := "TelescopeQueue$Deadlines", name := "compare", desc := "(LTelescopeQueue$State;LTelescopeQueue$Plan;LTelescopeQueue$Plan;)I" } : Jvm.MethodName)) ∈ lw_tbl := lw_at lw_m8 103 rfl
theorem q1896 : (Jvm.Cond.code ({ cls := "TelescopeQueue$Deadlines", name := "compare", desc := "(LTelescopeQueue$State;LTelescopeQueue$Plan;LTelescopeQueue$Plan;)I" } : Jvm.MethodName) prog_4_method_2_code (5 : Nat) (Option.some Jvm.ClassFile.FieldType.int)) ∈ lw_all := lw_g (lw_at lw_m8 104 rfl) rfl
theorem q1897 : (Jvm.Cond.interfaceEntry "TelescopeQueue$Deadlines" (13 : Nat)) ∈ lw_tbl := lw_at lw_m8 105 rfl
theorem q1898 : (Jvm.Cond.methodLink "TelescopeQueue$Deadlines" (13 : Nat) ({ cls := "TelescopeQueue$Work", name := "to", desc := "()I" } : Jvm.MethodName)) ∈ lw_all := lw_g (lw_at lw_m8 106 rfl) rfl
theorem q1899 : (Jvm.Cond.methodLink "TelescopeQueue$Deadlines" (19 : Nat) ({ cls := "java/lang/Integer", name := "compare", desc := "(II)I" } : Jvm.MethodName)) ∈ lw_all := lw_g (lw_at lw_m8 107 rfl) rfl
theorem q1902 : (Jvm.Cond.methodLink "TelescopeQueue$Deadlines" (25 : Nat) ({ cls := "TelescopeQueue$Rule", name := "byPriority", desc := "(LTelescopeQueue$State;LTelescopeQueue$Plan;LTelescopeQueue$Plan;)I" } : Jvm.MethodName)) ∈ lw_all := lw_g (lw_at lw_m8 110 rfl) rfl
theorem q3268 : (Jvm.Cond.castable "TelescopeQueue$Deadlines" "java/lang/Object") ∈ lw_tbl := lw_at lw_m14 36 rfl

/-! TelescopeQueue$Slews -/
set_option maxRecDepth 100000
def RX7 : String := "TelescopeQueue$Slews"
abbrev cX7_init : ByteArray := prog_16_method_1_code
def yX7_init : MethodName := ⟨RX7, "<init>", "()V"⟩
theorem dX7_init_0 : decode cX7_init 0 = .ok (.aload_n 0, 1) := by decide +kernel
theorem dX7_init_1 : decode cX7_init 1 = .ok (.invokespecial 1, 3) := by decide +kernel
theorem dX7_init_4 : decode cX7_init 4 = .ok (.return_, 1) := by decide +kernel
abbrev cX7_compare : ByteArray := prog_16_method_2_code
def yX7_compare : MethodName := ⟨RX7, "compare", "(LTelescopeQueue$State;LTelescopeQueue$Plan;LTelescopeQueue$Plan;)I"⟩
def dkwX7_compare_1 : List UInt8 := [44, 45, 184, 0, 19, 172]
abbrev dktX7_compare_1 : List UInt8 := dkwX7_compare_1 ++ []
def dkwX7_compare_0 : List UInt8 := [44, 180, 0, 7, 45, 180, 0, 7, 184, 0, 13, 54, 4, 21, 4, 153, 0, 8, 21, 4, 167, 0, 9, 43]
abbrev dktX7_compare_0 : List UInt8 := dkwX7_compare_0 ++ dktX7_compare_1
theorem dksX7_compare_0 : cX7_compare.data.toList.drop 0 = dktX7_compare_0 := by decide +kernel
theorem dksX7_compare_1 : cX7_compare.data.toList.drop 24 = dktX7_compare_1 := dk_seg dksX7_compare_0 24 rfl rfl
theorem dX7_compare_0 : decode cX7_compare 0 = .ok (.aload_n 2, 1) := dk_44 (dk_at dksX7_compare_0 0 rfl rfl)
theorem dX7_compare_1 : decode cX7_compare 1 = .ok (.getfield 7, 3) := dk_180 0 7 (dk_at dksX7_compare_0 1 rfl rfl)
theorem dX7_compare_4 : decode cX7_compare 4 = .ok (.aload_n 3, 1) := dk_45 (dk_at dksX7_compare_0 4 rfl rfl)
theorem dX7_compare_5 : decode cX7_compare 5 = .ok (.getfield 7, 3) := dk_180 0 7 (dk_at dksX7_compare_0 5 rfl rfl)
theorem dX7_compare_8 : decode cX7_compare 8 = .ok (.invokestatic 13, 3) := dk_184 0 13 (dk_at dksX7_compare_0 8 rfl rfl)
theorem dX7_compare_11 : decode cX7_compare 11 = .ok (.istore 4, 2) := dk_54 4 (dk_at dksX7_compare_0 11 rfl rfl)
theorem dX7_compare_13 : decode cX7_compare 13 = .ok (.iload 4, 2) := dk_21 4 (dk_at dksX7_compare_0 13 rfl rfl)
theorem dX7_compare_15 : decode cX7_compare 15 = .ok (.ifCond .eq 8, 3) := dk_153 0 8 (dk_at dksX7_compare_0 15 rfl rfl)
theorem dX7_compare_18 : decode cX7_compare 18 = .ok (.iload 4, 2) := dk_21 4 (dk_at dksX7_compare_0 18 rfl rfl)
theorem dX7_compare_20 : decode cX7_compare 20 = .ok (.goto 9, 3) := dk_167 0 9 (dk_at dksX7_compare_0 20 rfl rfl)
theorem dX7_compare_23 : decode cX7_compare 23 = .ok (.aload_n 1, 1) := dk_43 (dk_at dksX7_compare_0 23 rfl rfl)
theorem dX7_compare_24 : decode cX7_compare 24 = .ok (.aload_n 2, 1) := dk_44 (dk_at dksX7_compare_1 0 rfl rfl)
theorem dX7_compare_25 : decode cX7_compare 25 = .ok (.aload_n 3, 1) := dk_45 (dk_at dksX7_compare_1 1 rfl rfl)
theorem dX7_compare_26 : decode cX7_compare 26 = .ok (.invokestatic 19, 3) := dk_184 0 19 (dk_at dksX7_compare_1 2 rfl rfl)
theorem dX7_compare_29 : decode cX7_compare 29 = .ok (.ireturn, 1) := dk_172 (dk_at dksX7_compare_1 5 rfl rfl)
theorem q119 : (Jvm.Cond.initialized "TelescopeQueue$Slews") ∈ lw_all := lw_g (lw_at lw_m1 7 rfl) rfl
theorem q200 : (Jvm.Cond.instantiable "TelescopeQueue$Slews" (0 : Nat)) ∈ lw_all := lw_g (lw_at lw_m1 88 rfl) rfl
theorem q202 : (Jvm.Cond.instanceMethod ({ cls := "TelescopeQueue$Slews", name := "<init>", desc := "()V" } : Jvm.MethodName)) ∈ lw_all := lw_g (lw_at lw_m1 90 rfl) rfl
theorem q203 : (Jvm.Cond.code ({ cls := "TelescopeQueue$Slews", name := "<init>", desc := "()V" } : Jvm.MethodName) prog_16_method_1_code (1 : Nat) (Option.none : Option Jvm.ClassFile.FieldType)) ∈ lw_all := lw_g (lw_at lw_m1 91 rfl) rfl
theorem q204 : (Jvm.Cond.methodLink "TelescopeQueue$Slews" (1 : Nat) ({ cls := "java/lang/Object", name := "<init>", desc := "()V" } : Jvm.MethodName)) ∈ lw_all := lw_g (lw_at lw_m1 92 rfl) rfl
theorem q205 : (Jvm.Cond.superclass "TelescopeQueue$Slews" "java/lang/Object") ∈ lw_all := lw_g (lw_at lw_m1 93 rfl) rfl
theorem q568 : (Jvm.Cond.fieldLinkNest "TelescopeQueue$Slews" (7 : Nat) "TelescopeQueue$Plan" "slew" "I" "TelescopeQueue") ∈ lw_tbl := lw_at lw_m2 216 rfl
theorem q1277 : (Jvm.Cond.selects "TelescopeQueue$Slews" ({ cls := "java/lang/Object", name := "getClass", desc := "()Ljava/lang/Class;" } : Jvm.MethodName) ({ cls := "java/lang/Object", name := "getClass", desc := "()Ljava/lang/Class;" } : Jvm.MethodName)) ∈ lw_all := lw_g (lw_at lw_m5 205 rfl) rfl
theorem q1931 : (Jvm.Cond.castable "TelescopeQueue$Slews" "TelescopeQueue$Rule") ∈ lw_tbl := lw_at lw_m8 139 rfl
theorem q1932 : (Jvm.Cond.selects "TelescopeQueue$Slews" ({ cls := "TelescopeQueue$Rule", name := "compare", desc := "(LTelescopeQueue$State;LTelescopeQueue$Plan;LTelescopeQueue$Plan;)I" } : Jvm.MethodName) ({ cls := "TelescopeQueue$Slews", name := "compare", desc := "(LTelescopeQueue$State;LTelescopeQueue$Plan;LTelescopeQueue$Plan;)I" } : Jvm.MethodName)) ∈ lw_all := lw_g (lw_at lw_m8 140 rfl) rfl
theorem q1933 : (Jvm.Cond.unhidden "TelescopeQueue$Slews" "compare" "(LTelescopeQueue$State;LTelescopeQueue$Plan;LTelescopeQueue$Plan;)I") ∈ lw_tbl := lw_at lw_m8 141 rfl
theorem q1934 : (Jvm.Cond.instanceMethod ({ cls := "TelescopeQueue$Slews", name := "compare", desc := "(LTelescopeQueue$State;LTelescopeQueue$Plan;LTelescopeQueue$Plan;)I" } : Jvm.MethodName)) ∈ lw_all := lw_g (lw_at lw_m8 142 rfl) rfl
theorem q1935 : (Jvm.Cond.publicMethod ({ cls := "TelescopeQueue$Slews", name := "compare", desc := "(LTelescopeQueue$State;LTelescopeQueue$Plan;LTelescopeQueue$Plan;)I" } : Jvm.MethodName)) ∈ lw_tbl := lw_at lw_m8 143 rfl
theorem q1936 : (Jvm.Cond.code ({ cls := "TelescopeQueue$Slews", name := "compare", desc := "(LTelescopeQueue$State;LTelescopeQueue$Plan;LTelescopeQueue$Plan;)I" } : Jvm.MethodName) prog_16_method_2_code (5 : Nat) (Option.some Jvm.ClassFile.FieldType.int)) ∈ lw_all := lw_g (lw_at lw_m8 144 rfl) rfl
theorem q1937 : (Jvm.Cond.methodLink "TelescopeQueue$Slews" (13 : Nat) ({ cls := "java/lang/Integer", name := "compare", desc := "(II)I" } : Jvm.MethodName)) ∈ lw_all := lw_g (lw_at lw_m8 145 rfl) rfl
theorem q1938 : (Jvm.Cond.methodLink "TelescopeQueue$Slews" (19 : Nat) ({ cls := "TelescopeQueue$Rule", name := "byPriority", desc := "(LTelescopeQueue$State;LTelescopeQueue$Plan;LTelescopeQueue$Plan;)I" } : Jvm.MethodName)) ∈ lw_all := lw_g (lw_at lw_m8 146 rfl) rfl
theorem q1941 : (Jvm.Cond.unhidden "TelescopeQueue$Slews" "prefers" "(LTelescopeQueue$State;LTelescopeQueue$Plan;LTelescopeQueue$Plan;)Z") ∈ lw_tbl := lw_at lw_m8 149 rfl
theorem q3269 : (Jvm.Cond.castable "TelescopeQueue$Slews" "java/lang/Object") ∈ lw_tbl := lw_at lw_m14 37 rfl

/-! TelescopeQueue$Plan -/
set_option maxRecDepth 100000
def RX8 : String := "TelescopeQueue$Plan"
def TX8 : u_T := fun k => match k with
  | 0 => ("TelescopeQueue$Plan", "work", "LTelescopeQueue$Work;", false)
  | 1 => ("TelescopeQueue$Plan", "number", "I", false)
  | 2 => ("TelescopeQueue$Plan", "begin", "I", false)
  | 3 => ("TelescopeQueue$Plan", "dump", "I", false)
  | 4 => ("TelescopeQueue$Plan", "slew", "I", false)
  | 5 => ("TelescopeQueue$Plan", "start", "I", false)
  | 6 => ("TelescopeQueue$Plan", "end", "I", false)
  | 7 => ("TelescopeQueue$Plan", "growth", "I", false)
  | _ => ("TelescopeQueue$Plan", "reason", "I", false)
def tyX8 : Nat → FieldType := fun k => match k with
  | 0 => .object "TelescopeQueue$Work"
  | 1 => .int
  | 2 => .int
  | 3 => .int
  | 4 => .int
  | 5 => .int
  | 6 => .int
  | 7 => .int
  | _ => .int
abbrev wsX80 : List Cond := u_ws RX8 TX8 9
theorem nmX8 : ∀ a, a < 9 → ∀ b, b < 9 → a ≠ b → (TX8 a).2.1 ≠ (TX8 b).2.1 := by decide +kernel
theorem tyX8_ok : ∀ k, k < 9 → parseFieldDescriptor (TX8 k).2.2.1 = some (tyX8 k) := by decide +kernel
abbrev cX8_init : ByteArray := prog_10_method_1_code
def yX8_init : MethodName := ⟨RX8, "<init>", "()V"⟩
theorem dX8_init_0 : decode cX8_init 0 = .ok (.aload_n 0, 1) := by decide +kernel
theorem dX8_init_1 : decode cX8_init 1 = .ok (.invokespecial 1, 3) := by decide +kernel
theorem dX8_init_4 : decode cX8_init 4 = .ok (.return_, 1) := by decide +kernel
abbrev cX8_lay : ByteArray := prog_10_method_2_code
def yX8_lay : MethodName := ⟨RX8, "lay", "(LTelescopeQueue$Scope;LTelescopeQueue$Work;IZIIIII)LTelescopeQueue$Plan;"⟩
def dkwX8_lay_6 : List UInt8 := [176]
abbrev dktX8_lay_6 : List UInt8 := dkwX8_lay_6 ++ []
def dkwX8_lay_5 : List UInt8 := [181, 0, 53, 42, 21, 4, 153, 0, 13, 42, 43, 21, 9, 182, 0, 56, 167, 0, 4, 4, 181, 0, 60, 42]
abbrev dktX8_lay_5 : List UInt8 := dkwX8_lay_5 ++ dktX8_lay_6
def dkwX8_lay_4 : List UInt8 := [96, 42, 180, 0, 48, 96, 181, 0, 50, 42, 42, 180, 0, 50, 42, 180, 0, 7, 185, 0, 20, 1, 0, 96]
abbrev dktX8_lay_4 : List UInt8 := dkwX8_lay_4 ++ dktX8_lay_5
def dkwX8_lay_3 : List UInt8 := [21, 7, 21, 8, 185, 0, 41, 3, 0, 182, 0, 45, 181, 0, 48, 42, 42, 180, 0, 17, 42, 180, 0, 40]
abbrev dktX8_lay_3 : List UInt8 := dkwX8_lay_3 ++ dktX8_lay_4
def dkwX8_lay_2 : List UInt8 := [43, 180, 0, 32, 164, 0, 10, 43, 180, 0, 37, 167, 0, 4, 3, 181, 0, 40, 42, 43, 42, 180, 0, 7]
abbrev dktX8_lay_2 : List UInt8 := dkwX8_lay_2 ++ dktX8_lay_3
def dkwX8_lay_1 : List UInt8 := [180, 0, 7, 185, 0, 20, 1, 0, 185, 0, 26, 2, 0, 181, 0, 30, 42, 21, 6, 42, 180, 0, 30, 96]
abbrev dktX8_lay_1 : List UInt8 := dkwX8_lay_1 ++ dktX8_lay_2
def dkwX8_lay_0 : List UInt8 := [42, 44, 181, 0, 7, 42, 29, 181, 0, 13, 42, 21, 5, 181, 0, 17, 42, 42, 180, 0, 7, 42]
abbrev dktX8_lay_0 : List UInt8 := dkwX8_lay_0 ++ dktX8_lay_1
theorem dksX8_lay_0 : cX8_lay.data.toList.drop 0 = dktX8_lay_0 := by decide +kernel
theorem dksX8_lay_1 : cX8_lay.data.toList.drop 22 = dktX8_lay_1 := dk_seg dksX8_lay_0 22 rfl rfl
theorem dksX8_lay_2 : cX8_lay.data.toList.drop 46 = dktX8_lay_2 := dk_seg dksX8_lay_1 24 rfl rfl
theorem dksX8_lay_3 : cX8_lay.data.toList.drop 70 = dktX8_lay_3 := dk_seg dksX8_lay_2 24 rfl rfl
theorem dksX8_lay_4 : cX8_lay.data.toList.drop 94 = dktX8_lay_4 := dk_seg dksX8_lay_3 24 rfl rfl
theorem dksX8_lay_5 : cX8_lay.data.toList.drop 118 = dktX8_lay_5 := dk_seg dksX8_lay_4 24 rfl rfl
theorem dksX8_lay_6 : cX8_lay.data.toList.drop 142 = dktX8_lay_6 := dk_seg dksX8_lay_5 24 rfl rfl
theorem dX8_lay_0 : decode cX8_lay 0 = .ok (.aload_n 0, 1) := dk_42 (dk_at dksX8_lay_0 0 rfl rfl)
theorem dX8_lay_1 : decode cX8_lay 1 = .ok (.aload_n 2, 1) := dk_44 (dk_at dksX8_lay_0 1 rfl rfl)
theorem dX8_lay_2 : decode cX8_lay 2 = .ok (.putfield 7, 3) := dk_181 0 7 (dk_at dksX8_lay_0 2 rfl rfl)
theorem dX8_lay_5 : decode cX8_lay 5 = .ok (.aload_n 0, 1) := dk_42 (dk_at dksX8_lay_0 5 rfl rfl)
theorem dX8_lay_6 : decode cX8_lay 6 = .ok (.iload_n 3, 1) := dk_29 (dk_at dksX8_lay_0 6 rfl rfl)
theorem dX8_lay_7 : decode cX8_lay 7 = .ok (.putfield 13, 3) := dk_181 0 13 (dk_at dksX8_lay_0 7 rfl rfl)
theorem dX8_lay_10 : decode cX8_lay 10 = .ok (.aload_n 0, 1) := dk_42 (dk_at dksX8_lay_0 10 rfl rfl)
theorem dX8_lay_11 : decode cX8_lay 11 = .ok (.iload 5, 2) := dk_21 5 (dk_at dksX8_lay_0 11 rfl rfl)
theorem dX8_lay_13 : decode cX8_lay 13 = .ok (.putfield 17, 3) := dk_181 0 17 (dk_at dksX8_lay_0 13 rfl rfl)
theorem dX8_lay_16 : decode cX8_lay 16 = .ok (.aload_n 0, 1) := dk_42 (dk_at dksX8_lay_0 16 rfl rfl)
theorem dX8_lay_17 : decode cX8_lay 17 = .ok (.aload_n 0, 1) := dk_42 (dk_at dksX8_lay_0 17 rfl rfl)
theorem dX8_lay_18 : decode cX8_lay 18 = .ok (.getfield 7, 3) := dk_180 0 7 (dk_at dksX8_lay_0 18 rfl rfl)
theorem dX8_lay_21 : decode cX8_lay 21 = .ok (.aload_n 0, 1) := dk_42 (dk_at dksX8_lay_0 21 rfl rfl)
theorem dX8_lay_22 : decode cX8_lay 22 = .ok (.getfield 7, 3) := dk_180 0 7 (dk_at dksX8_lay_1 0 rfl rfl)
theorem dX8_lay_25 : decode cX8_lay 25 = .ok (.invokeinterface 20 1, 5) := by decide +kernel
theorem dX8_lay_30 : decode cX8_lay 30 = .ok (.invokeinterface 26 2, 5) := by decide +kernel
theorem dX8_lay_35 : decode cX8_lay 35 = .ok (.putfield 30, 3) := dk_181 0 30 (dk_at dksX8_lay_1 13 rfl rfl)
theorem dX8_lay_38 : decode cX8_lay 38 = .ok (.aload_n 0, 1) := dk_42 (dk_at dksX8_lay_1 16 rfl rfl)
theorem dX8_lay_39 : decode cX8_lay 39 = .ok (.iload 6, 2) := dk_21 6 (dk_at dksX8_lay_1 17 rfl rfl)
theorem dX8_lay_41 : decode cX8_lay 41 = .ok (.aload_n 0, 1) := dk_42 (dk_at dksX8_lay_1 19 rfl rfl)
theorem dX8_lay_42 : decode cX8_lay 42 = .ok (.getfield 30, 3) := dk_180 0 30 (dk_at dksX8_lay_1 20 rfl rfl)
theorem dX8_lay_45 : decode cX8_lay 45 = .ok (.iadd, 1) := dk_96 (dk_at dksX8_lay_1 23 rfl rfl)
theorem dX8_lay_46 : decode cX8_lay 46 = .ok (.aload_n 1, 1) := dk_43 (dk_at dksX8_lay_2 0 rfl rfl)
theorem dX8_lay_47 : decode cX8_lay 47 = .ok (.getfield 32, 3) := dk_180 0 32 (dk_at dksX8_lay_2 1 rfl rfl)
theorem dX8_lay_50 : decode cX8_lay 50 = .ok (.if_icmp .le 10, 3) := dk_164 0 10 (dk_at dksX8_lay_2 4 rfl rfl)
theorem dX8_lay_53 : decode cX8_lay 53 = .ok (.aload_n 1, 1) := dk_43 (dk_at dksX8_lay_2 7 rfl rfl)
theorem dX8_lay_54 : decode cX8_lay 54 = .ok (.getfield 37, 3) := dk_180 0 37 (dk_at dksX8_lay_2 8 rfl rfl)
theorem dX8_lay_57 : decode cX8_lay 57 = .ok (.goto 4, 3) := dk_167 0 4 (dk_at dksX8_lay_2 11 rfl rfl)
theorem dX8_lay_60 : decode cX8_lay 60 = .ok (.iconst 0, 1) := dk_3 (dk_at dksX8_lay_2 14 rfl rfl)
theorem dX8_lay_61 : decode cX8_lay 61 = .ok (.putfield 40, 3) := dk_181 0 40 (dk_at dksX8_lay_2 15 rfl rfl)
theorem dX8_lay_64 : decode cX8_lay 64 = .ok (.aload_n 0, 1) := dk_42 (dk_at dksX8_lay_2 18 rfl rfl)
theorem dX8_lay_65 : decode cX8_lay 65 = .ok (.aload_n 1, 1) := dk_43 (dk_at dksX8_lay_2 19 rfl rfl)
theorem dX8_lay_66 : decode cX8_lay 66 = .ok (.aload_n 0, 1) := dk_42 (dk_at dksX8_lay_2 20 rfl rfl)
theorem dX8_lay_67 : decode cX8_lay 67 = .ok (.getfield 7, 3) := dk_180 0 7 (dk_at dksX8_lay_2 21 rfl rfl)
theorem dX8_lay_70 : decode cX8_lay 70 = .ok (.iload 7, 2) := dk_21 7 (dk_at dksX8_lay_3 0 rfl rfl)
theorem dX8_lay_72 : decode cX8_lay 72 = .ok (.iload 8, 2) := dk_21 8 (dk_at dksX8_lay_3 2 rfl rfl)
theorem dX8_lay_74 : decode cX8_lay 74 = .ok (.invokeinterface 41 3, 5) := by decide +kernel
theorem dX8_lay_79 : decode cX8_lay 79 = .ok (.invokevirtual 45, 3) := dk_182 0 45 (dk_at dksX8_lay_3 9 rfl rfl)
theorem dX8_lay_82 : decode cX8_lay 82 = .ok (.putfield 48, 3) := dk_181 0 48 (dk_at dksX8_lay_3 12 rfl rfl)
theorem dX8_lay_85 : decode cX8_lay 85 = .ok (.aload_n 0, 1) := dk_42 (dk_at dksX8_lay_3 15 rfl rfl)
theorem dX8_lay_86 : decode cX8_lay 86 = .ok (.aload_n 0, 1) := dk_42 (dk_at dksX8_lay_3 16 rfl rfl)
theorem dX8_lay_87 : decode cX8_lay 87 = .ok (.getfield 17, 3) := dk_180 0 17 (dk_at dksX8_lay_3 17 rfl rfl)
theorem dX8_lay_90 : decode cX8_lay 90 = .ok (.aload_n 0, 1) := dk_42 (dk_at dksX8_lay_3 20 rfl rfl)
theorem dX8_lay_91 : decode cX8_lay 91 = .ok (.getfield 40, 3) := dk_180 0 40 (dk_at dksX8_lay_3 21 rfl rfl)
theorem dX8_lay_94 : decode cX8_lay 94 = .ok (.iadd, 1) := dk_96 (dk_at dksX8_lay_4 0 rfl rfl)
theorem dX8_lay_95 : decode cX8_lay 95 = .ok (.aload_n 0, 1) := dk_42 (dk_at dksX8_lay_4 1 rfl rfl)
theorem dX8_lay_96 : decode cX8_lay 96 = .ok (.getfield 48, 3) := dk_180 0 48 (dk_at dksX8_lay_4 2 rfl rfl)
theorem dX8_lay_99 : decode cX8_lay 99 = .ok (.iadd, 1) := dk_96 (dk_at dksX8_lay_4 5 rfl rfl)
theorem dX8_lay_100 : decode cX8_lay 100 = .ok (.putfield 50, 3) := dk_181 0 50 (dk_at dksX8_lay_4 6 rfl rfl)
theorem dX8_lay_103 : decode cX8_lay 103 = .ok (.aload_n 0, 1) := dk_42 (dk_at dksX8_lay_4 9 rfl rfl)
theorem dX8_lay_104 : decode cX8_lay 104 = .ok (.aload_n 0, 1) := dk_42 (dk_at dksX8_lay_4 10 rfl rfl)
theorem dX8_lay_105 : decode cX8_lay 105 = .ok (.getfield 50, 3) := dk_180 0 50 (dk_at dksX8_lay_4 11 rfl rfl)
theorem dX8_lay_108 : decode cX8_lay 108 = .ok (.aload_n 0, 1) := dk_42 (dk_at dksX8_lay_4 14 rfl rfl)
theorem dX8_lay_109 : decode cX8_lay 109 = .ok (.getfield 7, 3) := dk_180 0 7 (dk_at dksX8_lay_4 15 rfl rfl)
theorem dX8_lay_112 : decode cX8_lay 112 = .ok (.invokeinterface 20 1, 5) := by decide +kernel
theorem dX8_lay_117 : decode cX8_lay 117 = .ok (.iadd, 1) := dk_96 (dk_at dksX8_lay_4 23 rfl rfl)
theorem dX8_lay_118 : decode cX8_lay 118 = .ok (.putfield 53, 3) := dk_181 0 53 (dk_at dksX8_lay_5 0 rfl rfl)
theorem dX8_lay_121 : decode cX8_lay 121 = .ok (.aload_n 0, 1) := dk_42 (dk_at dksX8_lay_5 3 rfl rfl)
theorem dX8_lay_122 : decode cX8_lay 122 = .ok (.iload 4, 2) := dk_21 4 (dk_at dksX8_lay_5 4 rfl rfl)
theorem dX8_lay_124 : decode cX8_lay 124 = .ok (.ifCond .eq 13, 3) := dk_153 0 13 (dk_at dksX8_lay_5 6 rfl rfl)
theorem dX8_lay_127 : decode cX8_lay 127 = .ok (.aload_n 0, 1) := dk_42 (dk_at dksX8_lay_5 9 rfl rfl)
theorem dX8_lay_128 : decode cX8_lay 128 = .ok (.aload_n 1, 1) := dk_43 (dk_at dksX8_lay_5 10 rfl rfl)
theorem dX8_lay_129 : decode cX8_lay 129 = .ok (.iload 9, 2) := dk_21 9 (dk_at dksX8_lay_5 11 rfl rfl)
theorem dX8_lay_131 : decode cX8_lay 131 = .ok (.invokevirtual 56, 3) := dk_182 0 56 (dk_at dksX8_lay_5 13 rfl rfl)
theorem dX8_lay_134 : decode cX8_lay 134 = .ok (.goto 4, 3) := dk_167 0 4 (dk_at dksX8_lay_5 16 rfl rfl)
theorem dX8_lay_137 : decode cX8_lay 137 = .ok (.iconst 1, 1) := dk_4 (dk_at dksX8_lay_5 19 rfl rfl)
theorem dX8_lay_138 : decode cX8_lay 138 = .ok (.putfield 60, 3) := dk_181 0 60 (dk_at dksX8_lay_5 20 rfl rfl)
theorem dX8_lay_141 : decode cX8_lay 141 = .ok (.aload_n 0, 1) := dk_42 (dk_at dksX8_lay_5 23 rfl rfl)
theorem dX8_lay_142 : decode cX8_lay 142 = .ok (.areturn, 1) := dk_176 (dk_at dksX8_lay_6 0 rfl rfl)
abbrev cX8_reason : ByteArray := prog_10_method_3_code
def yX8_reason : MethodName := ⟨RX8, "reason", "(LTelescopeQueue$Scope;I)I"⟩
def dkwX8_reason_6 : List UInt8 := [172]
abbrev dktX8_reason_6 : List UInt8 := dkwX8_reason_6 ++ []
def dkwX8_reason_5 : List UInt8 := [16, 6, 172, 43, 42, 180, 0, 50, 42, 180, 0, 53, 182, 0, 84, 153, 0, 8, 16, 7, 167, 0, 4, 3]
abbrev dktX8_reason_5 : List UInt8 := dkwX8_reason_5 ++ dktX8_reason_6
def dkwX8_reason_4 : List UInt8 := [153, 0, 23, 43, 42, 180, 0, 7, 185, 0, 77, 1, 0, 42, 180, 0, 53, 182, 0, 80, 154, 0, 6]
abbrev dktX8_reason_4 : List UInt8 := dkwX8_reason_4 ++ dktX8_reason_5
def dkwX8_reason_3 : List UInt8 := [164, 0, 5, 8, 172, 43, 42, 180, 0, 7, 185, 0, 77, 1, 0, 42, 180, 0, 50, 182, 0, 80]
abbrev dktX8_reason_3 : List UInt8 := dkwX8_reason_3 ++ dktX8_reason_4
def dkwX8_reason_2 : List UInt8 := [185, 0, 65, 1, 0, 133, 184, 0, 68, 154, 0, 5, 7, 172, 42, 180, 0, 53, 43, 180, 0, 74]
abbrev dktX8_reason_2 : List UInt8 := dkwX8_reason_2 ++ dktX8_reason_3
def dkwX8_reason_1 : List UInt8 := [162, 0, 5, 6, 172, 42, 180, 0, 50, 133, 42, 180, 0, 7, 185, 0, 62, 1, 0, 133, 42, 180, 0, 7]
abbrev dktX8_reason_1 : List UInt8 := dkwX8_reason_1 ++ dktX8_reason_2
def dkwX8_reason_0 : List UInt8 := [42, 180, 0, 30, 43, 180, 0, 32, 164, 0, 5, 5, 172, 28, 42, 180, 0, 7, 185, 0, 20, 1, 0]
abbrev dktX8_reason_0 : List UInt8 := dkwX8_reason_0 ++ dktX8_reason_1
theorem dksX8_reason_0 : cX8_reason.data.toList.drop 0 = dktX8_reason_0 := by decide +kernel
theorem dksX8_reason_1 : cX8_reason.data.toList.drop 23 = dktX8_reason_1 := dk_seg dksX8_reason_0 23 rfl rfl
theorem dksX8_reason_2 : cX8_reason.data.toList.drop 47 = dktX8_reason_2 := dk_seg dksX8_reason_1 24 rfl rfl
theorem dksX8_reason_3 : cX8_reason.data.toList.drop 69 = dktX8_reason_3 := dk_seg dksX8_reason_2 22 rfl rfl
theorem dksX8_reason_4 : cX8_reason.data.toList.drop 91 = dktX8_reason_4 := dk_seg dksX8_reason_3 22 rfl rfl
theorem dksX8_reason_5 : cX8_reason.data.toList.drop 114 = dktX8_reason_5 := dk_seg dksX8_reason_4 23 rfl rfl
theorem dksX8_reason_6 : cX8_reason.data.toList.drop 138 = dktX8_reason_6 := dk_seg dksX8_reason_5 24 rfl rfl
theorem dX8_reason_0 : decode cX8_reason 0 = .ok (.aload_n 0, 1) := dk_42 (dk_at dksX8_reason_0 0 rfl rfl)
theorem dX8_reason_1 : decode cX8_reason 1 = .ok (.getfield 30, 3) := dk_180 0 30 (dk_at dksX8_reason_0 1 rfl rfl)
theorem dX8_reason_4 : decode cX8_reason 4 = .ok (.aload_n 1, 1) := dk_43 (dk_at dksX8_reason_0 4 rfl rfl)
theorem dX8_reason_5 : decode cX8_reason 5 = .ok (.getfield 32, 3) := dk_180 0 32 (dk_at dksX8_reason_0 5 rfl rfl)
theorem dX8_reason_8 : decode cX8_reason 8 = .ok (.if_icmp .le 5, 3) := dk_164 0 5 (dk_at dksX8_reason_0 8 rfl rfl)
theorem dX8_reason_11 : decode cX8_reason 11 = .ok (.iconst 2, 1) := dk_5 (dk_at dksX8_reason_0 11 rfl rfl)
theorem dX8_reason_12 : decode cX8_reason 12 = .ok (.ireturn, 1) := dk_172 (dk_at dksX8_reason_0 12 rfl rfl)
theorem dX8_reason_13 : decode cX8_reason 13 = .ok (.iload_n 2, 1) := dk_28 (dk_at dksX8_reason_0 13 rfl rfl)
theorem dX8_reason_14 : decode cX8_reason 14 = .ok (.aload_n 0, 1) := dk_42 (dk_at dksX8_reason_0 14 rfl rfl)
theorem dX8_reason_15 : decode cX8_reason 15 = .ok (.getfield 7, 3) := dk_180 0 7 (dk_at dksX8_reason_0 15 rfl rfl)
theorem dX8_reason_18 : decode cX8_reason 18 = .ok (.invokeinterface 20 1, 5) := by decide +kernel
theorem dX8_reason_23 : decode cX8_reason 23 = .ok (.if_icmp .ge 5, 3) := dk_162 0 5 (dk_at dksX8_reason_1 0 rfl rfl)
theorem dX8_reason_26 : decode cX8_reason 26 = .ok (.iconst 3, 1) := dk_6 (dk_at dksX8_reason_1 3 rfl rfl)
theorem dX8_reason_27 : decode cX8_reason 27 = .ok (.ireturn, 1) := dk_172 (dk_at dksX8_reason_1 4 rfl rfl)
theorem dX8_reason_28 : decode cX8_reason 28 = .ok (.aload_n 0, 1) := dk_42 (dk_at dksX8_reason_1 5 rfl rfl)
theorem dX8_reason_29 : decode cX8_reason 29 = .ok (.getfield 50, 3) := dk_180 0 50 (dk_at dksX8_reason_1 6 rfl rfl)
theorem dX8_reason_32 : decode cX8_reason 32 = .ok (.i2l, 1) := dk_133 (dk_at dksX8_reason_1 9 rfl rfl)
theorem dX8_reason_33 : decode cX8_reason 33 = .ok (.aload_n 0, 1) := dk_42 (dk_at dksX8_reason_1 10 rfl rfl)
theorem dX8_reason_34 : decode cX8_reason 34 = .ok (.getfield 7, 3) := dk_180 0 7 (dk_at dksX8_reason_1 11 rfl rfl)
theorem dX8_reason_37 : decode cX8_reason 37 = .ok (.invokeinterface 62 1, 5) := by decide +kernel
theorem dX8_reason_42 : decode cX8_reason 42 = .ok (.i2l, 1) := dk_133 (dk_at dksX8_reason_1 19 rfl rfl)
theorem dX8_reason_43 : decode cX8_reason 43 = .ok (.aload_n 0, 1) := dk_42 (dk_at dksX8_reason_1 20 rfl rfl)
theorem dX8_reason_44 : decode cX8_reason 44 = .ok (.getfield 7, 3) := dk_180 0 7 (dk_at dksX8_reason_1 21 rfl rfl)
theorem dX8_reason_47 : decode cX8_reason 47 = .ok (.invokeinterface 65 1, 5) := by decide +kernel
theorem dX8_reason_52 : decode cX8_reason 52 = .ok (.i2l, 1) := dk_133 (dk_at dksX8_reason_2 5 rfl rfl)
theorem dX8_reason_53 : decode cX8_reason 53 = .ok (.invokestatic 68, 3) := dk_184 0 68 (dk_at dksX8_reason_2 6 rfl rfl)
theorem dX8_reason_56 : decode cX8_reason 56 = .ok (.ifCond .ne 5, 3) := dk_154 0 5 (dk_at dksX8_reason_2 9 rfl rfl)
theorem dX8_reason_59 : decode cX8_reason 59 = .ok (.iconst 4, 1) := dk_7 (dk_at dksX8_reason_2 12 rfl rfl)
theorem dX8_reason_60 : decode cX8_reason 60 = .ok (.ireturn, 1) := dk_172 (dk_at dksX8_reason_2 13 rfl rfl)
theorem dX8_reason_61 : decode cX8_reason 61 = .ok (.aload_n 0, 1) := dk_42 (dk_at dksX8_reason_2 14 rfl rfl)
theorem dX8_reason_62 : decode cX8_reason 62 = .ok (.getfield 53, 3) := dk_180 0 53 (dk_at dksX8_reason_2 15 rfl rfl)
theorem dX8_reason_65 : decode cX8_reason 65 = .ok (.aload_n 1, 1) := dk_43 (dk_at dksX8_reason_2 18 rfl rfl)
theorem dX8_reason_66 : decode cX8_reason 66 = .ok (.getfield 74, 3) := dk_180 0 74 (dk_at dksX8_reason_2 19 rfl rfl)
theorem dX8_reason_69 : decode cX8_reason 69 = .ok (.if_icmp .le 5, 3) := dk_164 0 5 (dk_at dksX8_reason_3 0 rfl rfl)
theorem dX8_reason_72 : decode cX8_reason 72 = .ok (.iconst 5, 1) := dk_8 (dk_at dksX8_reason_3 3 rfl rfl)
theorem dX8_reason_73 : decode cX8_reason 73 = .ok (.ireturn, 1) := dk_172 (dk_at dksX8_reason_3 4 rfl rfl)
theorem dX8_reason_74 : decode cX8_reason 74 = .ok (.aload_n 1, 1) := dk_43 (dk_at dksX8_reason_3 5 rfl rfl)
theorem dX8_reason_75 : decode cX8_reason 75 = .ok (.aload_n 0, 1) := dk_42 (dk_at dksX8_reason_3 6 rfl rfl)
theorem dX8_reason_76 : decode cX8_reason 76 = .ok (.getfield 7, 3) := dk_180 0 7 (dk_at dksX8_reason_3 7 rfl rfl)
theorem dX8_reason_79 : decode cX8_reason 79 = .ok (.invokeinterface 77 1, 5) := by decide +kernel
theorem dX8_reason_84 : decode cX8_reason 84 = .ok (.aload_n 0, 1) := dk_42 (dk_at dksX8_reason_3 15 rfl rfl)
theorem dX8_reason_85 : decode cX8_reason 85 = .ok (.getfield 50, 3) := dk_180 0 50 (dk_at dksX8_reason_3 16 rfl rfl)
theorem dX8_reason_88 : decode cX8_reason 88 = .ok (.invokevirtual 80, 3) := dk_182 0 80 (dk_at dksX8_reason_3 19 rfl rfl)
theorem dX8_reason_91 : decode cX8_reason 91 = .ok (.ifCond .eq 23, 3) := dk_153 0 23 (dk_at dksX8_reason_4 0 rfl rfl)
theorem dX8_reason_94 : decode cX8_reason 94 = .ok (.aload_n 1, 1) := dk_43 (dk_at dksX8_reason_4 3 rfl rfl)
theorem dX8_reason_95 : decode cX8_reason 95 = .ok (.aload_n 0, 1) := dk_42 (dk_at dksX8_reason_4 4 rfl rfl)
theorem dX8_reason_96 : decode cX8_reason 96 = .ok (.getfield 7, 3) := dk_180 0 7 (dk_at dksX8_reason_4 5 rfl rfl)
theorem dX8_reason_99 : decode cX8_reason 99 = .ok (.invokeinterface 77 1, 5) := by decide +kernel
theorem dX8_reason_104 : decode cX8_reason 104 = .ok (.aload_n 0, 1) := dk_42 (dk_at dksX8_reason_4 13 rfl rfl)
theorem dX8_reason_105 : decode cX8_reason 105 = .ok (.getfield 53, 3) := dk_180 0 53 (dk_at dksX8_reason_4 14 rfl rfl)
theorem dX8_reason_108 : decode cX8_reason 108 = .ok (.invokevirtual 80, 3) := dk_182 0 80 (dk_at dksX8_reason_4 17 rfl rfl)
theorem dX8_reason_111 : decode cX8_reason 111 = .ok (.ifCond .ne 6, 3) := dk_154 0 6 (dk_at dksX8_reason_4 20 rfl rfl)
theorem dX8_reason_114 : decode cX8_reason 114 = .ok (.bipush 6, 2) := dk_16 6 (dk_at dksX8_reason_5 0 rfl rfl)
theorem dX8_reason_116 : decode cX8_reason 116 = .ok (.ireturn, 1) := dk_172 (dk_at dksX8_reason_5 2 rfl rfl)
theorem dX8_reason_117 : decode cX8_reason 117 = .ok (.aload_n 1, 1) := dk_43 (dk_at dksX8_reason_5 3 rfl rfl)
theorem dX8_reason_118 : decode cX8_reason 118 = .ok (.aload_n 0, 1) := dk_42 (dk_at dksX8_reason_5 4 rfl rfl)
theorem dX8_reason_119 : decode cX8_reason 119 = .ok (.getfield 50, 3) := dk_180 0 50 (dk_at dksX8_reason_5 5 rfl rfl)
theorem dX8_reason_122 : decode cX8_reason 122 = .ok (.aload_n 0, 1) := dk_42 (dk_at dksX8_reason_5 8 rfl rfl)
theorem dX8_reason_123 : decode cX8_reason 123 = .ok (.getfield 53, 3) := dk_180 0 53 (dk_at dksX8_reason_5 9 rfl rfl)
theorem dX8_reason_126 : decode cX8_reason 126 = .ok (.invokevirtual 84, 3) := dk_182 0 84 (dk_at dksX8_reason_5 12 rfl rfl)
theorem dX8_reason_129 : decode cX8_reason 129 = .ok (.ifCond .eq 8, 3) := dk_153 0 8 (dk_at dksX8_reason_5 15 rfl rfl)
theorem dX8_reason_132 : decode cX8_reason 132 = .ok (.bipush 7, 2) := dk_16 7 (dk_at dksX8_reason_5 18 rfl rfl)
theorem dX8_reason_134 : decode cX8_reason 134 = .ok (.goto 4, 3) := dk_167 0 4 (dk_at dksX8_reason_5 20 rfl rfl)
theorem dX8_reason_137 : decode cX8_reason 137 = .ok (.iconst 0, 1) := dk_3 (dk_at dksX8_reason_5 23 rfl rfl)
theorem dX8_reason_138 : decode cX8_reason 138 = .ok (.ireturn, 1) := dk_172 (dk_at dksX8_reason_6 0 rfl rfl)
abbrev cX8_can : ByteArray := prog_10_method_4_code
def yX8_can : MethodName := ⟨RX8, "can", "()Z"⟩
def dkwX8_can_0 : List UInt8 := [42, 180, 0, 60, 154, 0, 7, 4, 167, 0, 4, 3, 172]
abbrev dktX8_can_0 : List UInt8 := dkwX8_can_0 ++ []
theorem dksX8_can_0 : cX8_can.data.toList.drop 0 = dktX8_can_0 := by decide +kernel
theorem dX8_can_0 : decode cX8_can 0 = .ok (.aload_n 0, 1) := dk_42 (dk_at dksX8_can_0 0 rfl rfl)
theorem dX8_can_1 : decode cX8_can 1 = .ok (.getfield 60, 3) := dk_180 0 60 (dk_at dksX8_can_0 1 rfl rfl)
theorem dX8_can_4 : decode cX8_can 4 = .ok (.ifCond .ne 7, 3) := dk_154 0 7 (dk_at dksX8_can_0 4 rfl rfl)
theorem dX8_can_7 : decode cX8_can 7 = .ok (.iconst 1, 1) := dk_4 (dk_at dksX8_can_0 7 rfl rfl)
theorem dX8_can_8 : decode cX8_can 8 = .ok (.goto 4, 3) := dk_167 0 4 (dk_at dksX8_can_0 8 rfl rfl)
theorem dX8_can_11 : decode cX8_can 11 = .ok (.iconst 0, 1) := dk_3 (dk_at dksX8_can_0 11 rfl rfl)
theorem dX8_can_12 : decode cX8_can 12 = .ok (.ireturn, 1) := dk_172 (dk_at dksX8_can_0 12 rfl rfl)
abbrev cX8_become : ByteArray := prog_10_method_5_code
def yX8_become : MethodName := ⟨RX8, "become", "(LTelescopeQueue$Plan;)V"⟩
def dkwX8_become_3 : List UInt8 := [177]
abbrev dktX8_become_3 : List UInt8 := dkwX8_become_3 ++ []
def dkwX8_become_2 : List UInt8 := [42, 43, 180, 0, 53, 181, 0, 53, 42, 43, 180, 0, 30, 181, 0, 30, 42, 43, 180, 0, 60, 181, 0, 60]
abbrev dktX8_become_2 : List UInt8 := dkwX8_become_2 ++ dktX8_become_3
def dkwX8_become_1 : List UInt8 := [42, 43, 180, 0, 40, 181, 0, 40, 42, 43, 180, 0, 48, 181, 0, 48, 42, 43, 180, 0, 50, 181, 0, 50]
abbrev dktX8_become_1 : List UInt8 := dkwX8_become_1 ++ dktX8_become_2
def dkwX8_become_0 : List UInt8 := [42, 43, 180, 0, 7, 181, 0, 7, 42, 43, 180, 0, 13, 181, 0, 13, 42, 43, 180, 0, 17, 181, 0, 17]
abbrev dktX8_become_0 : List UInt8 := dkwX8_become_0 ++ dktX8_become_1
theorem dksX8_become_0 : cX8_become.data.toList.drop 0 = dktX8_become_0 := by decide +kernel
theorem dksX8_become_1 : cX8_become.data.toList.drop 24 = dktX8_become_1 := dk_seg dksX8_become_0 24 rfl rfl
theorem dksX8_become_2 : cX8_become.data.toList.drop 48 = dktX8_become_2 := dk_seg dksX8_become_1 24 rfl rfl
theorem dksX8_become_3 : cX8_become.data.toList.drop 72 = dktX8_become_3 := dk_seg dksX8_become_2 24 rfl rfl
theorem dX8_become_0 : decode cX8_become 0 = .ok (.aload_n 0, 1) := dk_42 (dk_at dksX8_become_0 0 rfl rfl)
theorem dX8_become_1 : decode cX8_become 1 = .ok (.aload_n 1, 1) := dk_43 (dk_at dksX8_become_0 1 rfl rfl)
theorem dX8_become_2 : decode cX8_become 2 = .ok (.getfield 7, 3) := dk_180 0 7 (dk_at dksX8_become_0 2 rfl rfl)
theorem dX8_become_5 : decode cX8_become 5 = .ok (.putfield 7, 3) := dk_181 0 7 (dk_at dksX8_become_0 5 rfl rfl)
theorem dX8_become_8 : decode cX8_become 8 = .ok (.aload_n 0, 1) := dk_42 (dk_at dksX8_become_0 8 rfl rfl)
theorem dX8_become_9 : decode cX8_become 9 = .ok (.aload_n 1, 1) := dk_43 (dk_at dksX8_become_0 9 rfl rfl)
theorem dX8_become_10 : decode cX8_become 10 = .ok (.getfield 13, 3) := dk_180 0 13 (dk_at dksX8_become_0 10 rfl rfl)
theorem dX8_become_13 : decode cX8_become 13 = .ok (.putfield 13, 3) := dk_181 0 13 (dk_at dksX8_become_0 13 rfl rfl)
theorem dX8_become_16 : decode cX8_become 16 = .ok (.aload_n 0, 1) := dk_42 (dk_at dksX8_become_0 16 rfl rfl)
theorem dX8_become_17 : decode cX8_become 17 = .ok (.aload_n 1, 1) := dk_43 (dk_at dksX8_become_0 17 rfl rfl)
theorem dX8_become_18 : decode cX8_become 18 = .ok (.getfield 17, 3) := dk_180 0 17 (dk_at dksX8_become_0 18 rfl rfl)
theorem dX8_become_21 : decode cX8_become 21 = .ok (.putfield 17, 3) := dk_181 0 17 (dk_at dksX8_become_0 21 rfl rfl)
theorem dX8_become_24 : decode cX8_become 24 = .ok (.aload_n 0, 1) := dk_42 (dk_at dksX8_become_1 0 rfl rfl)
theorem dX8_become_25 : decode cX8_become 25 = .ok (.aload_n 1, 1) := dk_43 (dk_at dksX8_become_1 1 rfl rfl)
theorem dX8_become_26 : decode cX8_become 26 = .ok (.getfield 40, 3) := dk_180 0 40 (dk_at dksX8_become_1 2 rfl rfl)
theorem dX8_become_29 : decode cX8_become 29 = .ok (.putfield 40, 3) := dk_181 0 40 (dk_at dksX8_become_1 5 rfl rfl)
theorem dX8_become_32 : decode cX8_become 32 = .ok (.aload_n 0, 1) := dk_42 (dk_at dksX8_become_1 8 rfl rfl)
theorem dX8_become_33 : decode cX8_become 33 = .ok (.aload_n 1, 1) := dk_43 (dk_at dksX8_become_1 9 rfl rfl)
theorem dX8_become_34 : decode cX8_become 34 = .ok (.getfield 48, 3) := dk_180 0 48 (dk_at dksX8_become_1 10 rfl rfl)
theorem dX8_become_37 : decode cX8_become 37 = .ok (.putfield 48, 3) := dk_181 0 48 (dk_at dksX8_become_1 13 rfl rfl)
theorem dX8_become_40 : decode cX8_become 40 = .ok (.aload_n 0, 1) := dk_42 (dk_at dksX8_become_1 16 rfl rfl)
theorem dX8_become_41 : decode cX8_become 41 = .ok (.aload_n 1, 1) := dk_43 (dk_at dksX8_become_1 17 rfl rfl)
theorem dX8_become_42 : decode cX8_become 42 = .ok (.getfield 50, 3) := dk_180 0 50 (dk_at dksX8_become_1 18 rfl rfl)
theorem dX8_become_45 : decode cX8_become 45 = .ok (.putfield 50, 3) := dk_181 0 50 (dk_at dksX8_become_1 21 rfl rfl)
theorem dX8_become_48 : decode cX8_become 48 = .ok (.aload_n 0, 1) := dk_42 (dk_at dksX8_become_2 0 rfl rfl)
theorem dX8_become_49 : decode cX8_become 49 = .ok (.aload_n 1, 1) := dk_43 (dk_at dksX8_become_2 1 rfl rfl)
theorem dX8_become_50 : decode cX8_become 50 = .ok (.getfield 53, 3) := dk_180 0 53 (dk_at dksX8_become_2 2 rfl rfl)
theorem dX8_become_53 : decode cX8_become 53 = .ok (.putfield 53, 3) := dk_181 0 53 (dk_at dksX8_become_2 5 rfl rfl)
theorem dX8_become_56 : decode cX8_become 56 = .ok (.aload_n 0, 1) := dk_42 (dk_at dksX8_become_2 8 rfl rfl)
theorem dX8_become_57 : decode cX8_become 57 = .ok (.aload_n 1, 1) := dk_43 (dk_at dksX8_become_2 9 rfl rfl)
theorem dX8_become_58 : decode cX8_become 58 = .ok (.getfield 30, 3) := dk_180 0 30 (dk_at dksX8_become_2 10 rfl rfl)
theorem dX8_become_61 : decode cX8_become 61 = .ok (.putfield 30, 3) := dk_181 0 30 (dk_at dksX8_become_2 13 rfl rfl)
theorem dX8_become_64 : decode cX8_become 64 = .ok (.aload_n 0, 1) := dk_42 (dk_at dksX8_become_2 16 rfl rfl)
theorem dX8_become_65 : decode cX8_become 65 = .ok (.aload_n 1, 1) := dk_43 (dk_at dksX8_become_2 17 rfl rfl)
theorem dX8_become_66 : decode cX8_become 66 = .ok (.getfield 60, 3) := dk_180 0 60 (dk_at dksX8_become_2 18 rfl rfl)
theorem dX8_become_69 : decode cX8_become 69 = .ok (.putfield 60, 3) := dk_181 0 60 (dk_at dksX8_become_2 21 rfl rfl)
theorem dX8_become_72 : decode cX8_become 72 = .ok (.return_, 1) := dk_177 (dk_at dksX8_become_3 0 rfl rfl)
theorem q139 : (Jvm.Cond.initialized "TelescopeQueue$Plan") ∈ lw_all := lw_g (lw_at lw_m1 27 rfl) rfl
theorem q552 : (Jvm.Cond.instantiable "TelescopeQueue$Plan" (9 : Nat)) ∈ lw_all := lw_g (lw_at lw_m2 200 rfl) rfl
theorem q554 : (Jvm.Cond.instanceMethod ({ cls := "TelescopeQueue$Plan", name := "<init>", desc := "()V" } : Jvm.MethodName)) ∈ lw_all := lw_g (lw_at lw_m2 202 rfl) rfl
theorem q555 : (Jvm.Cond.code ({ cls := "TelescopeQueue$Plan", name := "<init>", desc := "()V" } : Jvm.MethodName) prog_10_method_1_code (1 : Nat) (Option.none : Option Jvm.ClassFile.FieldType)) ∈ lw_all := lw_g (lw_at lw_m2 203 rfl) rfl
theorem q556 : (Jvm.Cond.methodLink "TelescopeQueue$Plan" (1 : Nat) ({ cls := "java/lang/Object", name := "<init>", desc := "()V" } : Jvm.MethodName)) ∈ lw_all := lw_g (lw_at lw_m2 204 rfl) rfl
theorem q559 : (Jvm.Cond.fieldLink "TelescopeQueue$Plan" (7 : Nat) "TelescopeQueue$Plan" "work" "LTelescopeQueue$Work;") ∈ lw_all := lw_g (lw_at lw_m2 207 rfl) rfl
theorem q562 : (Jvm.Cond.fieldLink "TelescopeQueue$Plan" (13 : Nat) "TelescopeQueue$Plan" "number" "I") ∈ lw_all := lw_g (lw_at lw_m2 210 rfl) rfl
theorem q564 : (Jvm.Cond.fieldLink "TelescopeQueue$Plan" (17 : Nat) "TelescopeQueue$Plan" "begin" "I") ∈ lw_all := lw_g (lw_at lw_m2 212 rfl) rfl
theorem q565 : (Jvm.Cond.fieldLink "TelescopeQueue$Plan" (40 : Nat) "TelescopeQueue$Plan" "dump" "I") ∈ lw_all := lw_g (lw_at lw_m2 213 rfl) rfl
theorem q569 : (Jvm.Cond.fieldLink "TelescopeQueue$Plan" (48 : Nat) "TelescopeQueue$Plan" "slew" "I") ∈ lw_all := lw_g (lw_at lw_m2 217 rfl) rfl
theorem q572 : (Jvm.Cond.fieldLink "TelescopeQueue$Plan" (50 : Nat) "TelescopeQueue$Plan" "start" "I") ∈ lw_all := lw_g (lw_at lw_m2 220 rfl) rfl
theorem q575 : (Jvm.Cond.fieldLink "TelescopeQueue$Plan" (53 : Nat) "TelescopeQueue$Plan" "end" "I") ∈ lw_all := lw_g (lw_at lw_m2 223 rfl) rfl
theorem q577 : (Jvm.Cond.fieldLink "TelescopeQueue$Plan" (30 : Nat) "TelescopeQueue$Plan" "growth" "I") ∈ lw_all := lw_g (lw_at lw_m2 225 rfl) rfl
theorem q579 : (Jvm.Cond.fieldLink "TelescopeQueue$Plan" (60 : Nat) "TelescopeQueue$Plan" "reason" "I") ∈ lw_all := lw_g (lw_at lw_m2 227 rfl) rfl
theorem q581 : (Jvm.Cond.lays "TelescopeQueue$Plan" "TelescopeQueue$Plan" "work" "LTelescopeQueue$Work;") ∈ lw_all := lw_g (lw_at lw_m2 229 rfl) rfl
theorem q582 : (Jvm.Cond.soleField "TelescopeQueue$Plan" "work") ∈ lw_all := lw_g (lw_at lw_m2 230 rfl) rfl
theorem q583 : (Jvm.Cond.lays "TelescopeQueue$Plan" "TelescopeQueue$Plan" "number" "I") ∈ lw_all := lw_g (lw_at lw_m2 231 rfl) rfl
theorem q584 : (Jvm.Cond.soleField "TelescopeQueue$Plan" "number") ∈ lw_all := lw_g (lw_at lw_m2 232 rfl) rfl
theorem q585 : (Jvm.Cond.lays "TelescopeQueue$Plan" "TelescopeQueue$Plan" "begin" "I") ∈ lw_all := lw_g (lw_at lw_m2 233 rfl) rfl
theorem q586 : (Jvm.Cond.soleField "TelescopeQueue$Plan" "begin") ∈ lw_all := lw_g (lw_at lw_m2 234 rfl) rfl
theorem q587 : (Jvm.Cond.lays "TelescopeQueue$Plan" "TelescopeQueue$Plan" "dump" "I") ∈ lw_all := lw_g (lw_at lw_m2 235 rfl) rfl
theorem q588 : (Jvm.Cond.soleField "TelescopeQueue$Plan" "dump") ∈ lw_all := lw_g (lw_at lw_m2 236 rfl) rfl
theorem q589 : (Jvm.Cond.lays "TelescopeQueue$Plan" "TelescopeQueue$Plan" "slew" "I") ∈ lw_all := lw_g (lw_at lw_m2 237 rfl) rfl
theorem q590 : (Jvm.Cond.soleField "TelescopeQueue$Plan" "slew") ∈ lw_all := lw_g (lw_at lw_m2 238 rfl) rfl
theorem q591 : (Jvm.Cond.lays "TelescopeQueue$Plan" "TelescopeQueue$Plan" "start" "I") ∈ lw_all := lw_g (lw_at lw_m2 239 rfl) rfl
theorem q592 : (Jvm.Cond.soleField "TelescopeQueue$Plan" "start") ∈ lw_all := lw_g (lw_at lw_m3 0 rfl) rfl
theorem q593 : (Jvm.Cond.lays "TelescopeQueue$Plan" "TelescopeQueue$Plan" "end" "I") ∈ lw_all := lw_g (lw_at lw_m3 1 rfl) rfl
theorem q594 : (Jvm.Cond.soleField "TelescopeQueue$Plan" "end") ∈ lw_all := lw_g (lw_at lw_m3 2 rfl) rfl
theorem q595 : (Jvm.Cond.lays "TelescopeQueue$Plan" "TelescopeQueue$Plan" "growth" "I") ∈ lw_all := lw_g (lw_at lw_m3 3 rfl) rfl
theorem q596 : (Jvm.Cond.soleField "TelescopeQueue$Plan" "growth") ∈ lw_all := lw_g (lw_at lw_m3 4 rfl) rfl
theorem q597 : (Jvm.Cond.lays "TelescopeQueue$Plan" "TelescopeQueue$Plan" "reason" "I") ∈ lw_all := lw_g (lw_at lw_m3 5 rfl) rfl
theorem q598 : (Jvm.Cond.soleField "TelescopeQueue$Plan" "reason") ∈ lw_all := lw_g (lw_at lw_m3 6 rfl) rfl
theorem q599 : (Jvm.Cond.superclass "TelescopeQueue$Plan" "java/lang/Object") ∈ lw_all := lw_g (lw_at lw_m3 7 rfl) rfl
theorem q905 : (Jvm.Cond.fieldLinkNest "TelescopeQueue$Plan" (74 : Nat) "TelescopeQueue$Scope" "horizon" "I" "TelescopeQueue") ∈ lw_tbl := lw_at lw_m4 73 rfl
theorem q915 : (Jvm.Cond.fieldLinkNest "TelescopeQueue$Plan" (32 : Nat) "TelescopeQueue$Scope" "cap" "I" "TelescopeQueue") ∈ lw_tbl := lw_at lw_m4 83 rfl
theorem q918 : (Jvm.Cond.fieldLinkNest "TelescopeQueue$Plan" (37 : Nat) "TelescopeQueue$Scope" "dump" "I" "TelescopeQueue") ∈ lw_tbl := lw_at lw_m4 86 rfl
theorem q1272 : (Jvm.Cond.selects "TelescopeQueue$Plan" ({ cls := "java/lang/Object", name := "getClass", desc := "()Ljava/lang/Class;" } : Jvm.MethodName) ({ cls := "java/lang/Object", name := "getClass", desc := "()Ljava/lang/Class;" } : Jvm.MethodName)) ∈ lw_all := lw_g (lw_at lw_m5 200 rfl) rfl
theorem q1733 : (Jvm.Cond.instanceMethod ({ cls := "TelescopeQueue$Plan", name := "lay", desc := "(LTelescopeQueue$Scope;LTelescopeQueue$Work;IZIIIII)LTelescopeQueue$Plan;" } : Jvm.MethodName)) ∈ lw_all := lw_g (lw_at lw_m7 181 rfl) rfl
theorem q1734 : (Jvm.Cond.selects "TelescopeQueue$Plan" ({ cls := "TelescopeQueue$Plan", name := "lay", desc := "(LTelescopeQueue$Scope;LTelescopeQueue$Work;IZIIIII)LTelescopeQueue$Plan;" } : Jvm.MethodName) ({ cls := "TelescopeQueue$Plan", name := "lay", desc := "(LTelescopeQueue$Scope;LTelescopeQueue$Work;IZIIIII)LTelescopeQueue$Plan;" } : Jvm.MethodName)) ∈ lw_all := lw_g (lw_at lw_m7 182 rfl) rfl
theorem q1735 : (Jvm.Cond.code ({ cls := "TelescopeQueue$Plan", name := "lay", desc := "(LTelescopeQueue$Scope;LTelescopeQueue$Work;IZIIIII)LTelescopeQueue$Plan;" } : Jvm.MethodName) prog_10_method_2_code (10 : Nat) (Option.some (Jvm.ClassFile.FieldType.object "TelescopeQueue$Plan"))) ∈ lw_all := lw_g (lw_at lw_m7 183 rfl) rfl
theorem q1736 : (Jvm.Cond.interfaceEntry "TelescopeQueue$Plan" (20 : Nat)) ∈ lw_tbl := lw_at lw_m7 184 rfl
theorem q1737 : (Jvm.Cond.methodLink "TelescopeQueue$Plan" (20 : Nat) ({ cls := "TelescopeQueue$Work", name := "duration", desc := "()I" } : Jvm.MethodName)) ∈ lw_all := lw_g (lw_at lw_m7 185 rfl) rfl
theorem q1745 : (Jvm.Cond.interfaceEntry "TelescopeQueue$Plan" (26 : Nat)) ∈ lw_tbl := lw_at lw_m7 193 rfl
theorem q1746 : (Jvm.Cond.methodLink "TelescopeQueue$Plan" (26 : Nat) ({ cls := "TelescopeQueue$Work", name := "growth", desc := "(I)I" } : Jvm.MethodName)) ∈ lw_all := lw_g (lw_at lw_m7 194 rfl) rfl
theorem q1766 : (Jvm.Cond.interfaceEntry "TelescopeQueue$Plan" (41 : Nat)) ∈ lw_tbl := lw_at lw_m7 214 rfl
theorem q1796 : (Jvm.Cond.methodLink "TelescopeQueue$Plan" (45 : Nat) ({ cls := "TelescopeQueue$Scope", name := "slew", desc := "(I)I" } : Jvm.MethodName)) ∈ lw_all := lw_g (lw_at lw_m8 4 rfl) rfl
theorem q1797 : (Jvm.Cond.methodLink "TelescopeQueue$Plan" (56 : Nat) ({ cls := "TelescopeQueue$Plan", name := "reason", desc := "(LTelescopeQueue$Scope;I)I" } : Jvm.MethodName)) ∈ lw_all := lw_g (lw_at lw_m8 5 rfl) rfl
theorem q1798 : (Jvm.Cond.privateMethod ({ cls := "TelescopeQueue$Plan", name := "reason", desc := "(LTelescopeQueue$Scope;I)I" } : Jvm.MethodName)) ∈ lw_tbl := lw_at lw_m8 6 rfl
theorem q1799 : (Jvm.Cond.instanceMethod ({ cls := "TelescopeQueue$Plan", name := "reason", desc := "(LTelescopeQueue$Scope;I)I" } : Jvm.MethodName)) ∈ lw_all := lw_g (lw_at lw_m8 7 rfl) rfl
theorem q1800 : (Jvm.Cond.code ({ cls := "TelescopeQueue$Plan", name := "reason", desc := "(LTelescopeQueue$Scope;I)I" } : Jvm.MethodName) prog_10_method_3_code (3 : Nat) (Option.some Jvm.ClassFile.FieldType.int)) ∈ lw_all := lw_g (lw_at lw_m8 8 rfl) rfl
theorem q1801 : (Jvm.Cond.interfaceEntry "TelescopeQueue$Plan" (62 : Nat)) ∈ lw_tbl := lw_at lw_m8 9 rfl
theorem q1802 : (Jvm.Cond.methodLink "TelescopeQueue$Plan" (62 : Nat) ({ cls := "TelescopeQueue$Work", name := "from", desc := "()I" } : Jvm.MethodName)) ∈ lw_all := lw_g (lw_at lw_m8 10 rfl) rfl
theorem q1813 : (Jvm.Cond.interfaceEntry "TelescopeQueue$Plan" (65 : Nat)) ∈ lw_tbl := lw_at lw_m8 21 rfl
theorem q1814 : (Jvm.Cond.methodLink "TelescopeQueue$Plan" (65 : Nat) ({ cls := "TelescopeQueue$Work", name := "to", desc := "()I" } : Jvm.MethodName)) ∈ lw_all := lw_g (lw_at lw_m8 22 rfl) rfl
theorem q1825 : (Jvm.Cond.methodLinkNest "TelescopeQueue$Plan" (68 : Nat) ({ cls := "TelescopeQueue", name := "in", desc := "(JJJ)Z" } : Jvm.MethodName) "TelescopeQueue") ∈ lw_tbl := lw_at lw_m8 33 rfl
theorem q1826 : (Jvm.Cond.interfaceEntry "TelescopeQueue$Plan" (77 : Nat)) ∈ lw_tbl := lw_at lw_m8 34 rfl
theorem q1828 : (Jvm.Cond.methodLink "TelescopeQueue$Plan" (80 : Nat) ({ cls := "TelescopeQueue$Scope", name := "isVisible", desc := "(II)Z" } : Jvm.MethodName)) ∈ lw_all := lw_g (lw_at lw_m8 36 rfl) rfl
theorem q1829 : (Jvm.Cond.methodLink "TelescopeQueue$Plan" (84 : Nat) ({ cls := "TelescopeQueue$Scope", name := "isOut", desc := "(II)Z" } : Jvm.MethodName)) ∈ lw_all := lw_g (lw_at lw_m8 37 rfl) rfl
theorem q1876 : (Jvm.Cond.instanceMethod ({ cls := "TelescopeQueue$Plan", name := "can", desc := "()Z" } : Jvm.MethodName)) ∈ lw_all := lw_g (lw_at lw_m8 84 rfl) rfl
theorem q1877 : (Jvm.Cond.selects "TelescopeQueue$Plan" ({ cls := "TelescopeQueue$Plan", name := "can", desc := "()Z" } : Jvm.MethodName) ({ cls := "TelescopeQueue$Plan", name := "can", desc := "()Z" } : Jvm.MethodName)) ∈ lw_all := lw_g (lw_at lw_m8 85 rfl) rfl
theorem q1878 : (Jvm.Cond.code ({ cls := "TelescopeQueue$Plan", name := "can", desc := "()Z" } : Jvm.MethodName) prog_10_method_4_code (1 : Nat) (Option.some Jvm.ClassFile.FieldType.boolean)) ∈ lw_all := lw_g (lw_at lw_m8 86 rfl) rfl
theorem q1943 : (Jvm.Cond.instanceMethod ({ cls := "TelescopeQueue$Plan", name := "become", desc := "(LTelescopeQueue$Plan;)V" } : Jvm.MethodName)) ∈ lw_all := lw_g (lw_at lw_m8 151 rfl) rfl
theorem q1944 : (Jvm.Cond.selects "TelescopeQueue$Plan" ({ cls := "TelescopeQueue$Plan", name := "become", desc := "(LTelescopeQueue$Plan;)V" } : Jvm.MethodName) ({ cls := "TelescopeQueue$Plan", name := "become", desc := "(LTelescopeQueue$Plan;)V" } : Jvm.MethodName)) ∈ lw_all := lw_g (lw_at lw_m8 152 rfl) rfl
theorem q1945 : (Jvm.Cond.code ({ cls := "TelescopeQueue$Plan", name := "become", desc := "(LTelescopeQueue$Plan;)V" } : Jvm.MethodName) prog_10_method_5_code (2 : Nat) (Option.none : Option Jvm.ClassFile.FieldType)) ∈ lw_all := lw_g (lw_at lw_m8 153 rfl) rfl
theorem q3274 : (Jvm.Cond.castable "TelescopeQueue$Plan" "java/lang/Object") ∈ lw_tbl := lw_at lw_m14 42 rfl
theorem in_X8 : ∀ w ∈ wsX80, w ∈ lw_all := lw_in wsX80 [581, 583, 585, 587, 589, 591, 593, 595, 597] (by decide +kernel) (by decide +kernel)

/-! TelescopeQueue$History -/
set_option maxRecDepth 100000
def RX9 : String := "TelescopeQueue$History"
def TX9 : u_T := fun k => match k with
  | _ => ("TelescopeQueue$History", "kept", "Ljava/util/ArrayDeque;", true)
def tyX9 : Nat → FieldType := fun k => match k with
  | _ => .object "java/util/ArrayDeque"
abbrev wsX90 : List Cond := u_ws RX9 TX9 1
theorem nmX9 : ∀ a, a < 1 → ∀ b, b < 1 → a ≠ b → (TX9 a).2.1 ≠ (TX9 b).2.1 := by decide +kernel
theorem tyX9_ok : ∀ k, k < 1 → parseFieldDescriptor (TX9 k).2.2.1 = some (tyX9 k) := by decide +kernel
abbrev cX9_init : ByteArray := prog_6_method_1_code
def yX9_init : MethodName := ⟨RX9, "<init>", "()V"⟩
def dkwX9_init_0 : List UInt8 := [42, 183, 0, 3, 42, 187, 0, 9, 89, 183, 0, 11, 181, 0, 12, 177]
abbrev dktX9_init_0 : List UInt8 := dkwX9_init_0 ++ []
theorem dksX9_init_0 : cX9_init.data.toList.drop 0 = dktX9_init_0 := by decide +kernel
theorem dX9_init_0 : decode cX9_init 0 = .ok (.aload_n 0, 1) := dk_42 (dk_at dksX9_init_0 0 rfl rfl)
theorem dX9_init_1 : decode cX9_init 1 = .ok (.invokespecial 3, 3) := dk_183 0 3 (dk_at dksX9_init_0 1 rfl rfl)
theorem dX9_init_4 : decode cX9_init 4 = .ok (.aload_n 0, 1) := dk_42 (dk_at dksX9_init_0 4 rfl rfl)
theorem dX9_init_5 : decode cX9_init 5 = .ok (.new 9, 3) := dk_187 0 9 (dk_at dksX9_init_0 5 rfl rfl)
theorem dX9_init_8 : decode cX9_init 8 = .ok (.dup, 1) := dk_89 (dk_at dksX9_init_0 8 rfl rfl)
theorem dX9_init_9 : decode cX9_init 9 = .ok (.invokespecial 11, 3) := dk_183 0 11 (dk_at dksX9_init_0 9 rfl rfl)
theorem dX9_init_12 : decode cX9_init 12 = .ok (.putfield 12, 3) := dk_181 0 12 (dk_at dksX9_init_0 12 rfl rfl)
theorem dX9_init_15 : decode cX9_init 15 = .ok (.return_, 1) := dk_177 (dk_at dksX9_init_0 15 rfl rfl)
abbrev cX9_size : ByteArray := prog_6_method_4_code
def yX9_size : MethodName := ⟨RX9, "size", "()I"⟩
def dkwX9_size_0 : List UInt8 := [42, 180, 0, 12, 182, 0, 18, 172]
abbrev dktX9_size_0 : List UInt8 := dkwX9_size_0 ++ []
theorem dksX9_size_0 : cX9_size.data.toList.drop 0 = dktX9_size_0 := by decide +kernel
theorem dX9_size_0 : decode cX9_size 0 = .ok (.aload_n 0, 1) := dk_42 (dk_at dksX9_size_0 0 rfl rfl)
theorem dX9_size_1 : decode cX9_size 1 = .ok (.getfield 12, 3) := dk_180 0 12 (dk_at dksX9_size_0 1 rfl rfl)
theorem dX9_size_4 : decode cX9_size 4 = .ok (.invokevirtual 18, 3) := dk_182 0 18 (dk_at dksX9_size_0 4 rfl rfl)
theorem dX9_size_7 : decode cX9_size 7 = .ok (.ireturn, 1) := dk_172 (dk_at dksX9_size_0 7 rfl rfl)
abbrev cX9_clear : ByteArray := prog_6_method_5_code
def yX9_clear : MethodName := ⟨RX9, "clear", "()V"⟩
def dkwX9_clear_0 : List UInt8 := [42, 180, 0, 12, 182, 0, 38, 177]
abbrev dktX9_clear_0 : List UInt8 := dkwX9_clear_0 ++ []
theorem dksX9_clear_0 : cX9_clear.data.toList.drop 0 = dktX9_clear_0 := by decide +kernel
theorem dX9_clear_0 : decode cX9_clear 0 = .ok (.aload_n 0, 1) := dk_42 (dk_at dksX9_clear_0 0 rfl rfl)
theorem dX9_clear_1 : decode cX9_clear 1 = .ok (.getfield 12, 3) := dk_180 0 12 (dk_at dksX9_clear_0 1 rfl rfl)
theorem dX9_clear_4 : decode cX9_clear 4 = .ok (.invokevirtual 38, 3) := dk_182 0 38 (dk_at dksX9_clear_0 4 rfl rfl)
theorem dX9_clear_7 : decode cX9_clear 7 = .ok (.return_, 1) := dk_177 (dk_at dksX9_clear_0 7 rfl rfl)
abbrev cX9_keep : ByteArray := prog_6_method_2_code
def yX9_keep : MethodName := ⟨RX9, "keep", "(LTelescopeQueue$Copied;)V"⟩
def dkwX9_keep_1 : List UInt8 := [43, 185, 0, 26, 1, 0, 192, 0, 27, 182, 0, 31, 177]
abbrev dktX9_keep_1 : List UInt8 := dkwX9_keep_1 ++ []
def dkwX9_keep_0 : List UInt8 := [42, 180, 0, 12, 182, 0, 18, 16, 8, 160, 0, 11, 42, 180, 0, 12, 182, 0, 22, 87, 42, 180, 0, 12]
abbrev dktX9_keep_0 : List UInt8 := dkwX9_keep_0 ++ dktX9_keep_1
theorem dksX9_keep_0 : cX9_keep.data.toList.drop 0 = dktX9_keep_0 := by decide +kernel
theorem dksX9_keep_1 : cX9_keep.data.toList.drop 24 = dktX9_keep_1 := dk_seg dksX9_keep_0 24 rfl rfl
theorem dX9_keep_0 : decode cX9_keep 0 = .ok (.aload_n 0, 1) := dk_42 (dk_at dksX9_keep_0 0 rfl rfl)
theorem dX9_keep_1 : decode cX9_keep 1 = .ok (.getfield 12, 3) := dk_180 0 12 (dk_at dksX9_keep_0 1 rfl rfl)
theorem dX9_keep_4 : decode cX9_keep 4 = .ok (.invokevirtual 18, 3) := dk_182 0 18 (dk_at dksX9_keep_0 4 rfl rfl)
theorem dX9_keep_7 : decode cX9_keep 7 = .ok (.bipush 8, 2) := dk_16 8 (dk_at dksX9_keep_0 7 rfl rfl)
theorem dX9_keep_9 : decode cX9_keep 9 = .ok (.if_icmp .ne 11, 3) := dk_160 0 11 (dk_at dksX9_keep_0 9 rfl rfl)
theorem dX9_keep_12 : decode cX9_keep 12 = .ok (.aload_n 0, 1) := dk_42 (dk_at dksX9_keep_0 12 rfl rfl)
theorem dX9_keep_13 : decode cX9_keep 13 = .ok (.getfield 12, 3) := dk_180 0 12 (dk_at dksX9_keep_0 13 rfl rfl)
theorem dX9_keep_16 : decode cX9_keep 16 = .ok (.invokevirtual 22, 3) := dk_182 0 22 (dk_at dksX9_keep_0 16 rfl rfl)
theorem dX9_keep_19 : decode cX9_keep 19 = .ok (.pop, 1) := dk_87 (dk_at dksX9_keep_0 19 rfl rfl)
theorem dX9_keep_20 : decode cX9_keep 20 = .ok (.aload_n 0, 1) := dk_42 (dk_at dksX9_keep_0 20 rfl rfl)
theorem dX9_keep_21 : decode cX9_keep 21 = .ok (.getfield 12, 3) := dk_180 0 12 (dk_at dksX9_keep_0 21 rfl rfl)
theorem dX9_keep_24 : decode cX9_keep 24 = .ok (.aload_n 1, 1) := dk_43 (dk_at dksX9_keep_1 0 rfl rfl)
theorem dX9_keep_25 : decode cX9_keep 25 = .ok (.invokeinterface 26 1, 5) := by decide +kernel
theorem dX9_keep_30 : decode cX9_keep 30 = .ok (.checkcast 27, 3) := dk_192 0 27 (dk_at dksX9_keep_1 6 rfl rfl)
theorem dX9_keep_33 : decode cX9_keep 33 = .ok (.invokevirtual 31, 3) := dk_182 0 31 (dk_at dksX9_keep_1 9 rfl rfl)
theorem dX9_keep_36 : decode cX9_keep 36 = .ok (.return_, 1) := dk_177 (dk_at dksX9_keep_1 12 rfl rfl)
abbrev cX9_back : ByteArray := prog_6_method_3_code
def yX9_back : MethodName := ⟨RX9, "back", "()LTelescopeQueue$Copied;"⟩
def dkwX9_back_0 : List UInt8 := [42, 180, 0, 12, 182, 0, 35, 192, 0, 27, 176]
abbrev dktX9_back_0 : List UInt8 := dkwX9_back_0 ++ []
theorem dksX9_back_0 : cX9_back.data.toList.drop 0 = dktX9_back_0 := by decide +kernel
theorem dX9_back_0 : decode cX9_back 0 = .ok (.aload_n 0, 1) := dk_42 (dk_at dksX9_back_0 0 rfl rfl)
theorem dX9_back_1 : decode cX9_back 1 = .ok (.getfield 12, 3) := dk_180 0 12 (dk_at dksX9_back_0 1 rfl rfl)
theorem dX9_back_4 : decode cX9_back 4 = .ok (.invokevirtual 35, 3) := dk_182 0 35 (dk_at dksX9_back_0 4 rfl rfl)
theorem dX9_back_7 : decode cX9_back 7 = .ok (.checkcast 27, 3) := dk_192 0 27 (dk_at dksX9_back_0 7 rfl rfl)
theorem dX9_back_10 : decode cX9_back 10 = .ok (.areturn, 1) := dk_176 (dk_at dksX9_back_0 10 rfl rfl)
theorem q140 : (Jvm.Cond.initialized "TelescopeQueue$History") ∈ lw_all := lw_g (lw_at lw_m1 28 rfl) rfl
theorem q707 : (Jvm.Cond.instantiable "TelescopeQueue$History" (1 : Nat)) ∈ lw_all := lw_g (lw_at lw_m3 115 rfl) rfl
theorem q709 : (Jvm.Cond.instanceMethod ({ cls := "TelescopeQueue$History", name := "<init>", desc := "()V" } : Jvm.MethodName)) ∈ lw_all := lw_g (lw_at lw_m3 117 rfl) rfl
theorem q710 : (Jvm.Cond.code ({ cls := "TelescopeQueue$History", name := "<init>", desc := "()V" } : Jvm.MethodName) prog_6_method_1_code (1 : Nat) (Option.none : Option Jvm.ClassFile.FieldType)) ∈ lw_all := lw_g (lw_at lw_m3 118 rfl) rfl
theorem q711 : (Jvm.Cond.methodLink "TelescopeQueue$History" (3 : Nat) ({ cls := "java/lang/Object", name := "<init>", desc := "()V" } : Jvm.MethodName)) ∈ lw_all := lw_g (lw_at lw_m3 119 rfl) rfl
theorem q712 : (Jvm.Cond.classLink "TelescopeQueue$History" (9 : Nat) "java/util/ArrayDeque") ∈ lw_all := lw_g (lw_at lw_m3 120 rfl) rfl
theorem q714 : (Jvm.Cond.methodLink "TelescopeQueue$History" (11 : Nat) ({ cls := "java/util/ArrayDeque", name := "<init>", desc := "()V" } : Jvm.MethodName)) ∈ lw_all := lw_g (lw_at lw_m3 122 rfl) rfl
theorem q729 : (Jvm.Cond.fieldLink "TelescopeQueue$History" (12 : Nat) "TelescopeQueue$History" "kept" "Ljava/util/ArrayDeque;") ∈ lw_all := lw_g (lw_at lw_m3 137 rfl) rfl
theorem q730 : (Jvm.Cond.laysFinal "TelescopeQueue$History" "TelescopeQueue$History" "kept" "Ljava/util/ArrayDeque;") ∈ lw_all := lw_g (lw_at lw_m3 138 rfl) rfl
theorem q731 : (Jvm.Cond.soleField "TelescopeQueue$History" "kept") ∈ lw_all := lw_g (lw_at lw_m3 139 rfl) rfl
theorem q732 : (Jvm.Cond.superclass "TelescopeQueue$History" "java/lang/Object") ∈ lw_all := lw_g (lw_at lw_m3 140 rfl) rfl
theorem q815 : (Jvm.Cond.instanceMethod ({ cls := "TelescopeQueue$History", name := "size", desc := "()I" } : Jvm.MethodName)) ∈ lw_all := lw_g (lw_at lw_m3 223 rfl) rfl
theorem q816 : (Jvm.Cond.selects "TelescopeQueue$History" ({ cls := "TelescopeQueue$History", name := "size", desc := "()I" } : Jvm.MethodName) ({ cls := "TelescopeQueue$History", name := "size", desc := "()I" } : Jvm.MethodName)) ∈ lw_all := lw_g (lw_at lw_m3 224 rfl) rfl
theorem q817 : (Jvm.Cond.code ({ cls := "TelescopeQueue$History", name := "size", desc := "()I" } : Jvm.MethodName) prog_6_method_4_code (1 : Nat) (Option.some Jvm.ClassFile.FieldType.int)) ∈ lw_all := lw_g (lw_at lw_m3 225 rfl) rfl
theorem q818 : (Jvm.Cond.methodLink "TelescopeQueue$History" (18 : Nat) ({ cls := "java/util/ArrayDeque", name := "size", desc := "()I" } : Jvm.MethodName)) ∈ lw_all := lw_g (lw_at lw_m3 226 rfl) rfl
theorem q1269 : (Jvm.Cond.selects "TelescopeQueue$History" ({ cls := "java/lang/Object", name := "getClass", desc := "()Ljava/lang/Class;" } : Jvm.MethodName) ({ cls := "java/lang/Object", name := "getClass", desc := "()Ljava/lang/Class;" } : Jvm.MethodName)) ∈ lw_all := lw_g (lw_at lw_m5 197 rfl) rfl
theorem q1403 : (Jvm.Cond.instanceMethod ({ cls := "TelescopeQueue$History", name := "clear", desc := "()V" } : Jvm.MethodName)) ∈ lw_all := lw_g (lw_at lw_m6 91 rfl) rfl
theorem q1404 : (Jvm.Cond.selects "TelescopeQueue$History" ({ cls := "TelescopeQueue$History", name := "clear", desc := "()V" } : Jvm.MethodName) ({ cls := "TelescopeQueue$History", name := "clear", desc := "()V" } : Jvm.MethodName)) ∈ lw_all := lw_g (lw_at lw_m6 92 rfl) rfl
theorem q1405 : (Jvm.Cond.code ({ cls := "TelescopeQueue$History", name := "clear", desc := "()V" } : Jvm.MethodName) prog_6_method_5_code (1 : Nat) (Option.none : Option Jvm.ClassFile.FieldType)) ∈ lw_all := lw_g (lw_at lw_m6 93 rfl) rfl
theorem q1406 : (Jvm.Cond.methodLink "TelescopeQueue$History" (38 : Nat) ({ cls := "java/util/ArrayDeque", name := "clear", desc := "()V" } : Jvm.MethodName)) ∈ lw_all := lw_g (lw_at lw_m6 94 rfl) rfl
theorem q2386 : (Jvm.Cond.instanceMethod ({ cls := "TelescopeQueue$History", name := "keep", desc := "(LTelescopeQueue$Copied;)V" } : Jvm.MethodName)) ∈ lw_all := lw_g (lw_at lw_m10 114 rfl) rfl
theorem q2387 : (Jvm.Cond.selects "TelescopeQueue$History" ({ cls := "TelescopeQueue$History", name := "keep", desc := "(LTelescopeQueue$Copied;)V" } : Jvm.MethodName) ({ cls := "TelescopeQueue$History", name := "keep", desc := "(LTelescopeQueue$Copied;)V" } : Jvm.MethodName)) ∈ lw_all := lw_g (lw_at lw_m10 115 rfl) rfl
theorem q2388 : (Jvm.Cond.code ({ cls := "TelescopeQueue$History", name := "keep", desc := "(LTelescopeQueue$Copied;)V" } : Jvm.MethodName) prog_6_method_2_code (2 : Nat) (Option.none : Option Jvm.ClassFile.FieldType)) ∈ lw_all := lw_g (lw_at lw_m10 116 rfl) rfl
theorem q2389 : (Jvm.Cond.methodLink "TelescopeQueue$History" (22 : Nat) ({ cls := "java/util/ArrayDeque", name := "removeFirst", desc := "()Ljava/lang/Object;" } : Jvm.MethodName)) ∈ lw_all := lw_g (lw_at lw_m10 117 rfl) rfl
theorem q2403 : (Jvm.Cond.interfaceEntry "TelescopeQueue$History" (26 : Nat)) ∈ lw_tbl := lw_at lw_m10 131 rfl
theorem q2404 : (Jvm.Cond.methodLink "TelescopeQueue$History" (26 : Nat) ({ cls := "TelescopeQueue$Copied", name := "copy", desc := "()Ljava/lang/Object;" } : Jvm.MethodName)) ∈ lw_all := lw_g (lw_at lw_m10 132 rfl) rfl
theorem q2420 : (Jvm.Cond.classLink "TelescopeQueue$History" (27 : Nat) "TelescopeQueue$Copied") ∈ lw_all := lw_g (lw_at lw_m10 148 rfl) rfl
theorem q2421 : (Jvm.Cond.methodLink "TelescopeQueue$History" (31 : Nat) ({ cls := "java/util/ArrayDeque", name := "addLast", desc := "(Ljava/lang/Object;)V" } : Jvm.MethodName)) ∈ lw_all := lw_g (lw_at lw_m10 149 rfl) rfl
theorem q2520 : (Jvm.Cond.instanceMethod ({ cls := "TelescopeQueue$History", name := "back", desc := "()LTelescopeQueue$Copied;" } : Jvm.MethodName)) ∈ lw_all := lw_g (lw_at lw_m11 8 rfl) rfl
theorem q2521 : (Jvm.Cond.selects "TelescopeQueue$History" ({ cls := "TelescopeQueue$History", name := "back", desc := "()LTelescopeQueue$Copied;" } : Jvm.MethodName) ({ cls := "TelescopeQueue$History", name := "back", desc := "()LTelescopeQueue$Copied;" } : Jvm.MethodName)) ∈ lw_all := lw_g (lw_at lw_m11 9 rfl) rfl
theorem q2522 : (Jvm.Cond.code ({ cls := "TelescopeQueue$History", name := "back", desc := "()LTelescopeQueue$Copied;" } : Jvm.MethodName) prog_6_method_3_code (1 : Nat) (Option.some (Jvm.ClassFile.FieldType.object "TelescopeQueue$Copied"))) ∈ lw_all := lw_g (lw_at lw_m11 10 rfl) rfl
theorem q2523 : (Jvm.Cond.methodLink "TelescopeQueue$History" (35 : Nat) ({ cls := "java/util/ArrayDeque", name := "removeLast", desc := "()Ljava/lang/Object;" } : Jvm.MethodName)) ∈ lw_all := lw_g (lw_at lw_m11 11 rfl) rfl
theorem q3275 : (Jvm.Cond.castable "TelescopeQueue$History" "java/lang/Object") ∈ lw_tbl := lw_at lw_m14 43 rfl
theorem in_X9 : ∀ w ∈ wsX90, w ∈ lw_all := lw_in wsX90 [730] (by decide +kernel) (by decide +kernel)

