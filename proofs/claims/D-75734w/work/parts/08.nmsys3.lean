/-! TelescopeQueue$Parser -/
set_option maxRecDepth 100000
def RX11 : String := "TelescopeQueue$Parser"
def TX11 : u_T := fun k => match k with
  | 0 => ("TelescopeQueue$Parser", "text", "[B", true)
  | 1 => ("TelescopeQueue$Parser", "length", "I", true)
  | 2 => ("TelescopeQueue$Parser", "next", "I", false)
  | 3 => ("TelescopeQueue$Parser", "start", "I", false)
  | 4 => ("TelescopeQueue$Parser", "number", "I", false)
  | 5 => ("TelescopeQueue$Parser", "token", "Ljava/lang/String;", false)
  | 6 => ("TelescopeQueue$Parser", "scope", "LTelescopeQueue$Scope;", true)
  | _ => ("TelescopeQueue$Parser", "state", "LTelescopeQueue$State;", true)
def tyX11 : Nat → FieldType := fun k => match k with
  | 0 => .array .byte
  | 1 => .int
  | 2 => .int
  | 3 => .int
  | 4 => .int
  | 5 => .object "java/lang/String"
  | 6 => .object "TelescopeQueue$Scope"
  | _ => .object "TelescopeQueue$State"
abbrev wsX110 : List Cond := u_ws RX11 TX11 8
theorem nmX11 : ∀ a, a < 8 → ∀ b, b < 8 → a ≠ b → (TX11 a).2.1 ≠ (TX11 b).2.1 := by decide +kernel
theorem tyX11_ok : ∀ k, k < 8 → parseFieldDescriptor (TX11 k).2.2.1 = some (tyX11 k) := by decide +kernel
abbrev cX11_init : ByteArray := prog_8_method_1_code
def yX11_init : MethodName := ⟨RX11, "<init>", "([BI)V"⟩
def dkwX11_init_2 : List UInt8 := [177]
abbrev dktX11_init_2 : List UInt8 := dkwX11_init_2 ++ []
def dkwX11_init_1 : List UInt8 := [187, 0, 24, 89, 42, 180, 0, 20, 183, 0, 26, 181, 0, 29, 42, 43, 181, 0, 33, 42, 28, 181, 0, 37]
abbrev dktX11_init_1 : List UInt8 := dkwX11_init_1 ++ dktX11_init_2
def dkwX11_init_0 : List UInt8 := [42, 183, 0, 3, 42, 18, 9, 181, 0, 11, 42, 187, 0, 17, 89, 183, 0, 19, 181, 0, 20, 42]
abbrev dktX11_init_0 : List UInt8 := dkwX11_init_0 ++ dktX11_init_1
theorem dksX11_init_0 : cX11_init.data.toList.drop 0 = dktX11_init_0 := by decide +kernel
theorem dksX11_init_1 : cX11_init.data.toList.drop 22 = dktX11_init_1 := dk_seg dksX11_init_0 22 rfl rfl
theorem dksX11_init_2 : cX11_init.data.toList.drop 46 = dktX11_init_2 := dk_seg dksX11_init_1 24 rfl rfl
theorem dX11_init_0 : decode cX11_init 0 = .ok (.aload_n 0, 1) := dk_42 (dk_at dksX11_init_0 0 rfl rfl)
theorem dX11_init_1 : decode cX11_init 1 = .ok (.invokespecial 3, 3) := dk_183 0 3 (dk_at dksX11_init_0 1 rfl rfl)
theorem dX11_init_4 : decode cX11_init 4 = .ok (.aload_n 0, 1) := dk_42 (dk_at dksX11_init_0 4 rfl rfl)
theorem dX11_init_5 : decode cX11_init 5 = .ok (.ldc 9, 2) := dk_18 9 (dk_at dksX11_init_0 5 rfl rfl)
theorem dX11_init_7 : decode cX11_init 7 = .ok (.putfield 11, 3) := dk_181 0 11 (dk_at dksX11_init_0 7 rfl rfl)
theorem dX11_init_10 : decode cX11_init 10 = .ok (.aload_n 0, 1) := dk_42 (dk_at dksX11_init_0 10 rfl rfl)
theorem dX11_init_11 : decode cX11_init 11 = .ok (.new 17, 3) := dk_187 0 17 (dk_at dksX11_init_0 11 rfl rfl)
theorem dX11_init_14 : decode cX11_init 14 = .ok (.dup, 1) := dk_89 (dk_at dksX11_init_0 14 rfl rfl)
theorem dX11_init_15 : decode cX11_init 15 = .ok (.invokespecial 19, 3) := dk_183 0 19 (dk_at dksX11_init_0 15 rfl rfl)
theorem dX11_init_18 : decode cX11_init 18 = .ok (.putfield 20, 3) := dk_181 0 20 (dk_at dksX11_init_0 18 rfl rfl)
theorem dX11_init_21 : decode cX11_init 21 = .ok (.aload_n 0, 1) := dk_42 (dk_at dksX11_init_0 21 rfl rfl)
theorem dX11_init_22 : decode cX11_init 22 = .ok (.new 24, 3) := dk_187 0 24 (dk_at dksX11_init_1 0 rfl rfl)
theorem dX11_init_25 : decode cX11_init 25 = .ok (.dup, 1) := dk_89 (dk_at dksX11_init_1 3 rfl rfl)
theorem dX11_init_26 : decode cX11_init 26 = .ok (.aload_n 0, 1) := dk_42 (dk_at dksX11_init_1 4 rfl rfl)
theorem dX11_init_27 : decode cX11_init 27 = .ok (.getfield 20, 3) := dk_180 0 20 (dk_at dksX11_init_1 5 rfl rfl)
theorem dX11_init_30 : decode cX11_init 30 = .ok (.invokespecial 26, 3) := dk_183 0 26 (dk_at dksX11_init_1 8 rfl rfl)
theorem dX11_init_33 : decode cX11_init 33 = .ok (.putfield 29, 3) := dk_181 0 29 (dk_at dksX11_init_1 11 rfl rfl)
theorem dX11_init_36 : decode cX11_init 36 = .ok (.aload_n 0, 1) := dk_42 (dk_at dksX11_init_1 14 rfl rfl)
theorem dX11_init_37 : decode cX11_init 37 = .ok (.aload_n 1, 1) := dk_43 (dk_at dksX11_init_1 15 rfl rfl)
theorem dX11_init_38 : decode cX11_init 38 = .ok (.putfield 33, 3) := dk_181 0 33 (dk_at dksX11_init_1 16 rfl rfl)
theorem dX11_init_41 : decode cX11_init 41 = .ok (.aload_n 0, 1) := dk_42 (dk_at dksX11_init_1 19 rfl rfl)
theorem dX11_init_42 : decode cX11_init 42 = .ok (.iload_n 2, 1) := dk_28 (dk_at dksX11_init_1 20 rfl rfl)
theorem dX11_init_43 : decode cX11_init 43 = .ok (.putfield 37, 3) := dk_181 0 37 (dk_at dksX11_init_1 21 rfl rfl)
theorem dX11_init_46 : decode cX11_init 46 = .ok (.return_, 1) := dk_177 (dk_at dksX11_init_2 0 rfl rfl)
abbrev cX11_parse : ByteArray := prog_8_method_10_code
def yX11_parse : MethodName := ⟨RX11, "parse", "()LTelescopeQueue$State;"⟩
def dkwX11_parse_10 : List UInt8 := [182, 0, 110, 191, 42, 180, 0, 29, 182, 0, 178, 176]
abbrev dktX11_parse_10 : List UInt8 := dkwX11_parse_10 ++ []
def dkwX11_parse_9 : List UInt8 := [4, 182, 0, 110, 191, 42, 180, 0, 20, 180, 0, 171, 185, 0, 175, 1, 0, 153, 0, 9, 42, 8]
abbrev dktX11_parse_9 : List UInt8 := dkwX11_parse_9 ++ dktX11_parse_10
def dkwX11_parse_8 : List UInt8 := [182, 0, 106, 153, 0, 10, 42, 182, 0, 164, 167, 255, 243, 42, 180, 0, 11, 182, 0, 167, 154, 0, 9, 42]
abbrev dktX11_parse_8 : List UInt8 := dkwX11_parse_8 ++ dktX11_parse_9
def dkwX11_parse_7 : List UInt8 := [181, 0, 158, 42, 180, 0, 20, 42, 18, 160, 3, 17, 0, 170, 182, 0, 123, 181, 0, 162, 42, 18, 88]
abbrev dktX11_parse_7 : List UInt8 := dkwX11_parse_7 ++ dktX11_parse_8
def dkwX11_parse_6 : List UInt8 := [17, 1, 103, 182, 0, 123, 181, 0, 154, 42, 180, 0, 20, 42, 18, 156, 4, 17, 3, 231, 182, 0, 123]
abbrev dktX11_parse_6 : List UInt8 := dkwX11_parse_6 ++ dktX11_parse_7
def dkwX11_parse_5 : List UInt8 := [180, 0, 20, 42, 18, 148, 4, 16, 99, 182, 0, 123, 181, 0, 150, 42, 180, 0, 20, 42, 18, 152, 3]
abbrev dktX11_parse_5 : List UInt8 := dkwX11_parse_5 ++ dktX11_parse_6
def dkwX11_parse_4 : List UInt8 := [181, 0, 142, 42, 180, 0, 29, 42, 18, 144, 16, 10, 17, 7, 208, 182, 0, 123, 181, 0, 146, 42]
abbrev dktX11_parse_4 : List UInt8 := dkwX11_parse_4 ++ dktX11_parse_5
def dkwX11_parse_3 : List UInt8 := [17, 39, 15, 182, 0, 123, 181, 0, 138, 42, 180, 0, 20, 42, 18, 140, 4, 16, 99, 182, 0, 123]
abbrev dktX11_parse_3 : List UInt8 := dkwX11_parse_3 ++ dktX11_parse_4
def dkwX11_parse_2 : List UInt8 := [180, 0, 20, 42, 18, 132, 4, 16, 90, 182, 0, 123, 181, 0, 134, 42, 180, 0, 20, 42, 18, 136, 4]
abbrev dktX11_parse_2 : List UInt8 := dkwX11_parse_2 ++ dktX11_parse_3
def dkwX11_parse_1 : List UInt8 := [182, 0, 123, 181, 0, 126, 42, 180, 0, 20, 42, 18, 128, 3, 16, 60, 182, 0, 123, 181, 0, 130, 42]
abbrev dktX11_parse_1 : List UInt8 := dkwX11_parse_1 ++ dktX11_parse_2
def dkwX11_parse_0 : List UInt8 := [42, 182, 0, 103, 42, 18, 120, 182, 0, 114, 42, 180, 0, 20, 42, 18, 121, 16, 60, 17, 7, 208]
abbrev dktX11_parse_0 : List UInt8 := dkwX11_parse_0 ++ dktX11_parse_1
theorem dksX11_parse_0 : cX11_parse.data.toList.drop 0 = dktX11_parse_0 := by decide +kernel
theorem dksX11_parse_1 : cX11_parse.data.toList.drop 22 = dktX11_parse_1 := dk_seg dksX11_parse_0 22 rfl rfl
theorem dksX11_parse_2 : cX11_parse.data.toList.drop 45 = dktX11_parse_2 := dk_seg dksX11_parse_1 23 rfl rfl
theorem dksX11_parse_3 : cX11_parse.data.toList.drop 68 = dktX11_parse_3 := dk_seg dksX11_parse_2 23 rfl rfl
theorem dksX11_parse_4 : cX11_parse.data.toList.drop 90 = dktX11_parse_4 := dk_seg dksX11_parse_3 22 rfl rfl
theorem dksX11_parse_5 : cX11_parse.data.toList.drop 112 = dktX11_parse_5 := dk_seg dksX11_parse_4 22 rfl rfl
theorem dksX11_parse_6 : cX11_parse.data.toList.drop 135 = dktX11_parse_6 := dk_seg dksX11_parse_5 23 rfl rfl
theorem dksX11_parse_7 : cX11_parse.data.toList.drop 158 = dktX11_parse_7 := dk_seg dksX11_parse_6 23 rfl rfl
theorem dksX11_parse_8 : cX11_parse.data.toList.drop 181 = dktX11_parse_8 := dk_seg dksX11_parse_7 23 rfl rfl
theorem dksX11_parse_9 : cX11_parse.data.toList.drop 205 = dktX11_parse_9 := dk_seg dksX11_parse_8 24 rfl rfl
theorem dksX11_parse_10 : cX11_parse.data.toList.drop 227 = dktX11_parse_10 := dk_seg dksX11_parse_9 22 rfl rfl
theorem dX11_parse_0 : decode cX11_parse 0 = .ok (.aload_n 0, 1) := dk_42 (dk_at dksX11_parse_0 0 rfl rfl)
theorem dX11_parse_1 : decode cX11_parse 1 = .ok (.invokevirtual 103, 3) := dk_182 0 103 (dk_at dksX11_parse_0 1 rfl rfl)
theorem dX11_parse_4 : decode cX11_parse 4 = .ok (.aload_n 0, 1) := dk_42 (dk_at dksX11_parse_0 4 rfl rfl)
theorem dX11_parse_5 : decode cX11_parse 5 = .ok (.ldc 120, 2) := dk_18 120 (dk_at dksX11_parse_0 5 rfl rfl)
theorem dX11_parse_7 : decode cX11_parse 7 = .ok (.invokevirtual 114, 3) := dk_182 0 114 (dk_at dksX11_parse_0 7 rfl rfl)
theorem dX11_parse_10 : decode cX11_parse 10 = .ok (.aload_n 0, 1) := dk_42 (dk_at dksX11_parse_0 10 rfl rfl)
theorem dX11_parse_11 : decode cX11_parse 11 = .ok (.getfield 20, 3) := dk_180 0 20 (dk_at dksX11_parse_0 11 rfl rfl)
theorem dX11_parse_14 : decode cX11_parse 14 = .ok (.aload_n 0, 1) := dk_42 (dk_at dksX11_parse_0 14 rfl rfl)
theorem dX11_parse_15 : decode cX11_parse 15 = .ok (.ldc 121, 2) := dk_18 121 (dk_at dksX11_parse_0 15 rfl rfl)
theorem dX11_parse_17 : decode cX11_parse 17 = .ok (.bipush 60, 2) := dk_16 60 (dk_at dksX11_parse_0 17 rfl rfl)
theorem dX11_parse_19 : decode cX11_parse 19 = .ok (.sipush 2000, 3) := dk_17 7 208 (dk_at dksX11_parse_0 19 rfl rfl)
theorem dX11_parse_22 : decode cX11_parse 22 = .ok (.invokevirtual 123, 3) := dk_182 0 123 (dk_at dksX11_parse_1 0 rfl rfl)
theorem dX11_parse_25 : decode cX11_parse 25 = .ok (.putfield 126, 3) := dk_181 0 126 (dk_at dksX11_parse_1 3 rfl rfl)
theorem dX11_parse_28 : decode cX11_parse 28 = .ok (.aload_n 0, 1) := dk_42 (dk_at dksX11_parse_1 6 rfl rfl)
theorem dX11_parse_29 : decode cX11_parse 29 = .ok (.getfield 20, 3) := dk_180 0 20 (dk_at dksX11_parse_1 7 rfl rfl)
theorem dX11_parse_32 : decode cX11_parse 32 = .ok (.aload_n 0, 1) := dk_42 (dk_at dksX11_parse_1 10 rfl rfl)
theorem dX11_parse_33 : decode cX11_parse 33 = .ok (.ldc 128, 2) := dk_18 128 (dk_at dksX11_parse_1 11 rfl rfl)
theorem dX11_parse_35 : decode cX11_parse 35 = .ok (.iconst 0, 1) := dk_3 (dk_at dksX11_parse_1 13 rfl rfl)
theorem dX11_parse_36 : decode cX11_parse 36 = .ok (.bipush 60, 2) := dk_16 60 (dk_at dksX11_parse_1 14 rfl rfl)
theorem dX11_parse_38 : decode cX11_parse 38 = .ok (.invokevirtual 123, 3) := dk_182 0 123 (dk_at dksX11_parse_1 16 rfl rfl)
theorem dX11_parse_41 : decode cX11_parse 41 = .ok (.putfield 130, 3) := dk_181 0 130 (dk_at dksX11_parse_1 19 rfl rfl)
theorem dX11_parse_44 : decode cX11_parse 44 = .ok (.aload_n 0, 1) := dk_42 (dk_at dksX11_parse_1 22 rfl rfl)
theorem dX11_parse_45 : decode cX11_parse 45 = .ok (.getfield 20, 3) := dk_180 0 20 (dk_at dksX11_parse_2 0 rfl rfl)
theorem dX11_parse_48 : decode cX11_parse 48 = .ok (.aload_n 0, 1) := dk_42 (dk_at dksX11_parse_2 3 rfl rfl)
theorem dX11_parse_49 : decode cX11_parse 49 = .ok (.ldc 132, 2) := dk_18 132 (dk_at dksX11_parse_2 4 rfl rfl)
theorem dX11_parse_51 : decode cX11_parse 51 = .ok (.iconst 1, 1) := dk_4 (dk_at dksX11_parse_2 6 rfl rfl)
theorem dX11_parse_52 : decode cX11_parse 52 = .ok (.bipush 90, 2) := dk_16 90 (dk_at dksX11_parse_2 7 rfl rfl)
theorem dX11_parse_54 : decode cX11_parse 54 = .ok (.invokevirtual 123, 3) := dk_182 0 123 (dk_at dksX11_parse_2 9 rfl rfl)
theorem dX11_parse_57 : decode cX11_parse 57 = .ok (.putfield 134, 3) := dk_181 0 134 (dk_at dksX11_parse_2 12 rfl rfl)
theorem dX11_parse_60 : decode cX11_parse 60 = .ok (.aload_n 0, 1) := dk_42 (dk_at dksX11_parse_2 15 rfl rfl)
theorem dX11_parse_61 : decode cX11_parse 61 = .ok (.getfield 20, 3) := dk_180 0 20 (dk_at dksX11_parse_2 16 rfl rfl)
theorem dX11_parse_64 : decode cX11_parse 64 = .ok (.aload_n 0, 1) := dk_42 (dk_at dksX11_parse_2 19 rfl rfl)
theorem dX11_parse_65 : decode cX11_parse 65 = .ok (.ldc 136, 2) := dk_18 136 (dk_at dksX11_parse_2 20 rfl rfl)
theorem dX11_parse_67 : decode cX11_parse 67 = .ok (.iconst 1, 1) := dk_4 (dk_at dksX11_parse_2 22 rfl rfl)
theorem dX11_parse_68 : decode cX11_parse 68 = .ok (.sipush 9999, 3) := dk_17 39 15 (dk_at dksX11_parse_3 0 rfl rfl)
theorem dX11_parse_71 : decode cX11_parse 71 = .ok (.invokevirtual 123, 3) := dk_182 0 123 (dk_at dksX11_parse_3 3 rfl rfl)
theorem dX11_parse_74 : decode cX11_parse 74 = .ok (.putfield 138, 3) := dk_181 0 138 (dk_at dksX11_parse_3 6 rfl rfl)
theorem dX11_parse_77 : decode cX11_parse 77 = .ok (.aload_n 0, 1) := dk_42 (dk_at dksX11_parse_3 9 rfl rfl)
theorem dX11_parse_78 : decode cX11_parse 78 = .ok (.getfield 20, 3) := dk_180 0 20 (dk_at dksX11_parse_3 10 rfl rfl)
theorem dX11_parse_81 : decode cX11_parse 81 = .ok (.aload_n 0, 1) := dk_42 (dk_at dksX11_parse_3 13 rfl rfl)
theorem dX11_parse_82 : decode cX11_parse 82 = .ok (.ldc 140, 2) := dk_18 140 (dk_at dksX11_parse_3 14 rfl rfl)
theorem dX11_parse_84 : decode cX11_parse 84 = .ok (.iconst 1, 1) := dk_4 (dk_at dksX11_parse_3 16 rfl rfl)
theorem dX11_parse_85 : decode cX11_parse 85 = .ok (.bipush 99, 2) := dk_16 99 (dk_at dksX11_parse_3 17 rfl rfl)
theorem dX11_parse_87 : decode cX11_parse 87 = .ok (.invokevirtual 123, 3) := dk_182 0 123 (dk_at dksX11_parse_3 19 rfl rfl)
theorem dX11_parse_90 : decode cX11_parse 90 = .ok (.putfield 142, 3) := dk_181 0 142 (dk_at dksX11_parse_4 0 rfl rfl)
theorem dX11_parse_93 : decode cX11_parse 93 = .ok (.aload_n 0, 1) := dk_42 (dk_at dksX11_parse_4 3 rfl rfl)
theorem dX11_parse_94 : decode cX11_parse 94 = .ok (.getfield 29, 3) := dk_180 0 29 (dk_at dksX11_parse_4 4 rfl rfl)
theorem dX11_parse_97 : decode cX11_parse 97 = .ok (.aload_n 0, 1) := dk_42 (dk_at dksX11_parse_4 7 rfl rfl)
theorem dX11_parse_98 : decode cX11_parse 98 = .ok (.ldc 144, 2) := dk_18 144 (dk_at dksX11_parse_4 8 rfl rfl)
theorem dX11_parse_100 : decode cX11_parse 100 = .ok (.bipush 10, 2) := dk_16 10 (dk_at dksX11_parse_4 10 rfl rfl)
theorem dX11_parse_102 : decode cX11_parse 102 = .ok (.sipush 2000, 3) := dk_17 7 208 (dk_at dksX11_parse_4 12 rfl rfl)
theorem dX11_parse_105 : decode cX11_parse 105 = .ok (.invokevirtual 123, 3) := dk_182 0 123 (dk_at dksX11_parse_4 15 rfl rfl)
theorem dX11_parse_108 : decode cX11_parse 108 = .ok (.putfield 146, 3) := dk_181 0 146 (dk_at dksX11_parse_4 18 rfl rfl)
theorem dX11_parse_111 : decode cX11_parse 111 = .ok (.aload_n 0, 1) := dk_42 (dk_at dksX11_parse_4 21 rfl rfl)
theorem dX11_parse_112 : decode cX11_parse 112 = .ok (.getfield 20, 3) := dk_180 0 20 (dk_at dksX11_parse_5 0 rfl rfl)
theorem dX11_parse_115 : decode cX11_parse 115 = .ok (.aload_n 0, 1) := dk_42 (dk_at dksX11_parse_5 3 rfl rfl)
theorem dX11_parse_116 : decode cX11_parse 116 = .ok (.ldc 148, 2) := dk_18 148 (dk_at dksX11_parse_5 4 rfl rfl)
theorem dX11_parse_118 : decode cX11_parse 118 = .ok (.iconst 1, 1) := dk_4 (dk_at dksX11_parse_5 6 rfl rfl)
theorem dX11_parse_119 : decode cX11_parse 119 = .ok (.bipush 99, 2) := dk_16 99 (dk_at dksX11_parse_5 7 rfl rfl)
theorem dX11_parse_121 : decode cX11_parse 121 = .ok (.invokevirtual 123, 3) := dk_182 0 123 (dk_at dksX11_parse_5 9 rfl rfl)
theorem dX11_parse_124 : decode cX11_parse 124 = .ok (.putfield 150, 3) := dk_181 0 150 (dk_at dksX11_parse_5 12 rfl rfl)
theorem dX11_parse_127 : decode cX11_parse 127 = .ok (.aload_n 0, 1) := dk_42 (dk_at dksX11_parse_5 15 rfl rfl)
theorem dX11_parse_128 : decode cX11_parse 128 = .ok (.getfield 20, 3) := dk_180 0 20 (dk_at dksX11_parse_5 16 rfl rfl)
theorem dX11_parse_131 : decode cX11_parse 131 = .ok (.aload_n 0, 1) := dk_42 (dk_at dksX11_parse_5 19 rfl rfl)
theorem dX11_parse_132 : decode cX11_parse 132 = .ok (.ldc 152, 2) := dk_18 152 (dk_at dksX11_parse_5 20 rfl rfl)
theorem dX11_parse_134 : decode cX11_parse 134 = .ok (.iconst 0, 1) := dk_3 (dk_at dksX11_parse_5 22 rfl rfl)
theorem dX11_parse_135 : decode cX11_parse 135 = .ok (.sipush 359, 3) := dk_17 1 103 (dk_at dksX11_parse_6 0 rfl rfl)
theorem dX11_parse_138 : decode cX11_parse 138 = .ok (.invokevirtual 123, 3) := dk_182 0 123 (dk_at dksX11_parse_6 3 rfl rfl)
theorem dX11_parse_141 : decode cX11_parse 141 = .ok (.putfield 154, 3) := dk_181 0 154 (dk_at dksX11_parse_6 6 rfl rfl)
theorem dX11_parse_144 : decode cX11_parse 144 = .ok (.aload_n 0, 1) := dk_42 (dk_at dksX11_parse_6 9 rfl rfl)
theorem dX11_parse_145 : decode cX11_parse 145 = .ok (.getfield 20, 3) := dk_180 0 20 (dk_at dksX11_parse_6 10 rfl rfl)
theorem dX11_parse_148 : decode cX11_parse 148 = .ok (.aload_n 0, 1) := dk_42 (dk_at dksX11_parse_6 13 rfl rfl)
theorem dX11_parse_149 : decode cX11_parse 149 = .ok (.ldc 156, 2) := dk_18 156 (dk_at dksX11_parse_6 14 rfl rfl)
theorem dX11_parse_151 : decode cX11_parse 151 = .ok (.iconst 1, 1) := dk_4 (dk_at dksX11_parse_6 16 rfl rfl)
theorem dX11_parse_152 : decode cX11_parse 152 = .ok (.sipush 999, 3) := dk_17 3 231 (dk_at dksX11_parse_6 17 rfl rfl)
theorem dX11_parse_155 : decode cX11_parse 155 = .ok (.invokevirtual 123, 3) := dk_182 0 123 (dk_at dksX11_parse_6 20 rfl rfl)
theorem dX11_parse_158 : decode cX11_parse 158 = .ok (.putfield 158, 3) := dk_181 0 158 (dk_at dksX11_parse_7 0 rfl rfl)
theorem dX11_parse_161 : decode cX11_parse 161 = .ok (.aload_n 0, 1) := dk_42 (dk_at dksX11_parse_7 3 rfl rfl)
theorem dX11_parse_162 : decode cX11_parse 162 = .ok (.getfield 20, 3) := dk_180 0 20 (dk_at dksX11_parse_7 4 rfl rfl)
theorem dX11_parse_165 : decode cX11_parse 165 = .ok (.aload_n 0, 1) := dk_42 (dk_at dksX11_parse_7 7 rfl rfl)
theorem dX11_parse_166 : decode cX11_parse 166 = .ok (.ldc 160, 2) := dk_18 160 (dk_at dksX11_parse_7 8 rfl rfl)
theorem dX11_parse_168 : decode cX11_parse 168 = .ok (.iconst 0, 1) := dk_3 (dk_at dksX11_parse_7 10 rfl rfl)
theorem dX11_parse_169 : decode cX11_parse 169 = .ok (.sipush 170, 3) := dk_17 0 170 (dk_at dksX11_parse_7 11 rfl rfl)
theorem dX11_parse_172 : decode cX11_parse 172 = .ok (.invokevirtual 123, 3) := dk_182 0 123 (dk_at dksX11_parse_7 14 rfl rfl)
theorem dX11_parse_175 : decode cX11_parse 175 = .ok (.putfield 162, 3) := dk_181 0 162 (dk_at dksX11_parse_7 17 rfl rfl)
theorem dX11_parse_178 : decode cX11_parse 178 = .ok (.aload_n 0, 1) := dk_42 (dk_at dksX11_parse_7 20 rfl rfl)
theorem dX11_parse_179 : decode cX11_parse 179 = .ok (.ldc 88, 2) := dk_18 88 (dk_at dksX11_parse_7 21 rfl rfl)
theorem dX11_parse_181 : decode cX11_parse 181 = .ok (.invokevirtual 106, 3) := dk_182 0 106 (dk_at dksX11_parse_8 0 rfl rfl)
theorem dX11_parse_184 : decode cX11_parse 184 = .ok (.ifCond .eq 10, 3) := dk_153 0 10 (dk_at dksX11_parse_8 3 rfl rfl)
theorem dX11_parse_187 : decode cX11_parse 187 = .ok (.aload_n 0, 1) := dk_42 (dk_at dksX11_parse_8 6 rfl rfl)
theorem dX11_parse_188 : decode cX11_parse 188 = .ok (.invokevirtual 164, 3) := dk_182 0 164 (dk_at dksX11_parse_8 7 rfl rfl)
theorem dX11_parse_191 : decode cX11_parse 191 = .ok (.goto (-13), 3) := dk_167 255 243 (dk_at dksX11_parse_8 10 rfl rfl)
theorem dX11_parse_194 : decode cX11_parse 194 = .ok (.aload_n 0, 1) := dk_42 (dk_at dksX11_parse_8 13 rfl rfl)
theorem dX11_parse_195 : decode cX11_parse 195 = .ok (.getfield 11, 3) := dk_180 0 11 (dk_at dksX11_parse_8 14 rfl rfl)
theorem dX11_parse_198 : decode cX11_parse 198 = .ok (.invokevirtual 167, 3) := dk_182 0 167 (dk_at dksX11_parse_8 17 rfl rfl)
theorem dX11_parse_201 : decode cX11_parse 201 = .ok (.ifCond .ne 9, 3) := dk_154 0 9 (dk_at dksX11_parse_8 20 rfl rfl)
theorem dX11_parse_204 : decode cX11_parse 204 = .ok (.aload_n 0, 1) := dk_42 (dk_at dksX11_parse_8 23 rfl rfl)
theorem dX11_parse_205 : decode cX11_parse 205 = .ok (.iconst 1, 1) := dk_4 (dk_at dksX11_parse_9 0 rfl rfl)
theorem dX11_parse_206 : decode cX11_parse 206 = .ok (.invokevirtual 110, 3) := dk_182 0 110 (dk_at dksX11_parse_9 1 rfl rfl)
theorem dX11_parse_209 : decode cX11_parse 209 = .ok (.athrow, 1) := dk_191 (dk_at dksX11_parse_9 4 rfl rfl)
theorem dX11_parse_210 : decode cX11_parse 210 = .ok (.aload_n 0, 1) := dk_42 (dk_at dksX11_parse_9 5 rfl rfl)
theorem dX11_parse_211 : decode cX11_parse 211 = .ok (.getfield 20, 3) := dk_180 0 20 (dk_at dksX11_parse_9 6 rfl rfl)
theorem dX11_parse_214 : decode cX11_parse 214 = .ok (.getfield 171, 3) := dk_180 0 171 (dk_at dksX11_parse_9 9 rfl rfl)
theorem dX11_parse_217 : decode cX11_parse 217 = .ok (.invokeinterface 175 1, 5) := by decide +kernel
theorem dX11_parse_222 : decode cX11_parse 222 = .ok (.ifCond .eq 9, 3) := dk_153 0 9 (dk_at dksX11_parse_9 17 rfl rfl)
theorem dX11_parse_225 : decode cX11_parse 225 = .ok (.aload_n 0, 1) := dk_42 (dk_at dksX11_parse_9 20 rfl rfl)
theorem dX11_parse_226 : decode cX11_parse 226 = .ok (.iconst 5, 1) := dk_8 (dk_at dksX11_parse_9 21 rfl rfl)
theorem dX11_parse_227 : decode cX11_parse 227 = .ok (.invokevirtual 110, 3) := dk_182 0 110 (dk_at dksX11_parse_10 0 rfl rfl)
theorem dX11_parse_230 : decode cX11_parse 230 = .ok (.athrow, 1) := dk_191 (dk_at dksX11_parse_10 3 rfl rfl)
theorem dX11_parse_231 : decode cX11_parse 231 = .ok (.aload_n 0, 1) := dk_42 (dk_at dksX11_parse_10 4 rfl rfl)
theorem dX11_parse_232 : decode cX11_parse 232 = .ok (.getfield 29, 3) := dk_180 0 29 (dk_at dksX11_parse_10 5 rfl rfl)
theorem dX11_parse_235 : decode cX11_parse 235 = .ok (.invokevirtual 178, 3) := dk_182 0 178 (dk_at dksX11_parse_10 8 rfl rfl)
theorem dX11_parse_238 : decode cX11_parse 238 = .ok (.areturn, 1) := dk_176 (dk_at dksX11_parse_10 11 rfl rfl)
abbrev cX11_advance : ByteArray := prog_8_method_3_code
def yX11_advance : MethodName := ⟨RX11, "advance", "()V"⟩
def dkwX11_advance_13 : List UInt8 := [167, 0, 16, 27, 16, 45, 160, 0, 8, 18, 90, 167, 0, 5, 18, 66, 181, 0, 11, 177]
abbrev dktX11_advance_13 : List UInt8 := dkwX11_advance_13 ++ []
def dkwX11_advance_12 : List UInt8 := [167, 0, 41, 42, 89, 180, 0, 41, 4, 96, 181, 0, 41, 42, 27, 16, 59, 160, 0, 8, 18, 88]
abbrev dktX11_advance_12 : List UInt8 := dkwX11_advance_12 ++ dktX11_advance_13
def dkwX11_advance_11 : List UInt8 := [180, 0, 41, 42, 180, 0, 48, 100, 7, 164, 0, 8, 18, 66, 167, 0, 5, 18, 86, 181, 0, 11]
abbrev dktX11_advance_11 : List UInt8 := dkwX11_advance_11 ++ dktX11_advance_12
def dkwX11_advance_10 : List UInt8 := [100, 184, 0, 80, 181, 0, 76, 42, 89, 180, 0, 41, 4, 96, 181, 0, 41, 167, 255, 197, 42, 42]
abbrev dktX11_advance_10 : List UInt8 := dkwX11_advance_10 ++ dktX11_advance_11
def dkwX11_advance_9 : List UInt8 := [153, 0, 44, 42, 18, 79, 16, 10, 42, 180, 0, 76, 104, 42, 42, 180, 0, 41, 182, 0, 44, 96, 16, 48]
abbrev dktX11_advance_9 : List UInt8 := dkwX11_advance_9 ++ dktX11_advance_10
def dkwX11_advance_8 : List UInt8 := [3, 181, 0, 76, 42, 42, 180, 0, 41, 182, 0, 44, 133, 20, 0, 72, 20, 0, 74, 184, 0, 55]
abbrev dktX11_advance_8 : List UInt8 := dkwX11_advance_8 ++ dktX11_advance_9
def dkwX11_advance_7 : List UInt8 := [182, 0, 68, 181, 0, 11, 167, 0, 149, 27, 133, 20, 0, 72, 20, 0, 74, 184, 0, 55, 153, 0, 97, 42]
abbrev dktX11_advance_7 : List UInt8 := dkwX11_advance_7 ++ dktX11_advance_8
def dkwX11_advance_6 : List UInt8 := [167, 255, 197, 42, 42, 180, 0, 41, 42, 180, 0, 48, 100, 16, 8, 164, 0, 8, 18, 66, 167, 0, 7, 44]
abbrev dktX11_advance_6 : List UInt8 := dkwX11_advance_6 ++ dktX11_advance_7
def dkwX11_advance_5 : List UInt8 := [42, 42, 180, 0, 41, 182, 0, 44, 146, 182, 0, 62, 87, 42, 89, 180, 0, 41, 4, 96, 181, 0, 41]
abbrev dktX11_advance_5 : List UInt8 := dkwX11_advance_5 ++ dktX11_advance_6
def dkwX11_advance_4 : List UInt8 := [20, 0, 53, 184, 0, 55, 153, 0, 44, 42, 180, 0, 41, 42, 180, 0, 48, 100, 16, 8, 163, 0, 17, 44]
abbrev dktX11_advance_4 : List UInt8 := dkwX11_advance_4 ++ dktX11_advance_5
def dkwX11_advance_3 : List UInt8 := [153, 0, 103, 187, 0, 59, 89, 183, 0, 61, 77, 42, 42, 180, 0, 41, 182, 0, 44, 133, 20, 0, 51]
abbrev dktX11_advance_3 : List UInt8 := dkwX11_advance_3 ++ dktX11_advance_4
def dkwX11_advance_2 : List UInt8 := [160, 0, 12, 42, 18, 9, 181, 0, 11, 167, 1, 7, 27, 133, 20, 0, 51, 20, 0, 53, 184, 0, 55]
abbrev dktX11_advance_2 : List UInt8 := dkwX11_advance_2 ++ dktX11_advance_3
def dkwX11_advance_1 : List UInt8 := [167, 255, 233, 42, 42, 180, 0, 41, 181, 0, 48, 42, 42, 180, 0, 41, 182, 0, 44, 60, 27, 2]
abbrev dktX11_advance_1 : List UInt8 := dkwX11_advance_1 ++ dktX11_advance_2
def dkwX11_advance_0 : List UInt8 := [42, 42, 180, 0, 41, 182, 0, 44, 16, 32, 160, 0, 16, 42, 89, 180, 0, 41, 4, 96, 181, 0, 41]
abbrev dktX11_advance_0 : List UInt8 := dkwX11_advance_0 ++ dktX11_advance_1
theorem dksX11_advance_0 : cX11_advance.data.toList.drop 0 = dktX11_advance_0 := by decide +kernel
theorem dksX11_advance_1 : cX11_advance.data.toList.drop 23 = dktX11_advance_1 := dk_seg dksX11_advance_0 23 rfl rfl
theorem dksX11_advance_2 : cX11_advance.data.toList.drop 45 = dktX11_advance_2 := dk_seg dksX11_advance_1 22 rfl rfl
theorem dksX11_advance_3 : cX11_advance.data.toList.drop 68 = dktX11_advance_3 := dk_seg dksX11_advance_2 23 rfl rfl
theorem dksX11_advance_4 : cX11_advance.data.toList.drop 91 = dktX11_advance_4 := dk_seg dksX11_advance_3 23 rfl rfl
theorem dksX11_advance_5 : cX11_advance.data.toList.drop 115 = dktX11_advance_5 := dk_seg dksX11_advance_4 24 rfl rfl
theorem dksX11_advance_6 : cX11_advance.data.toList.drop 138 = dktX11_advance_6 := dk_seg dksX11_advance_5 23 rfl rfl
theorem dksX11_advance_7 : cX11_advance.data.toList.drop 162 = dktX11_advance_7 := dk_seg dksX11_advance_6 24 rfl rfl
theorem dksX11_advance_8 : cX11_advance.data.toList.drop 186 = dktX11_advance_8 := dk_seg dksX11_advance_7 24 rfl rfl
theorem dksX11_advance_9 : cX11_advance.data.toList.drop 208 = dktX11_advance_9 := dk_seg dksX11_advance_8 22 rfl rfl
theorem dksX11_advance_10 : cX11_advance.data.toList.drop 232 = dktX11_advance_10 := dk_seg dksX11_advance_9 24 rfl rfl
theorem dksX11_advance_11 : cX11_advance.data.toList.drop 254 = dktX11_advance_11 := dk_seg dksX11_advance_10 22 rfl rfl
theorem dksX11_advance_12 : cX11_advance.data.toList.drop 276 = dktX11_advance_12 := dk_seg dksX11_advance_11 22 rfl rfl
theorem dksX11_advance_13 : cX11_advance.data.toList.drop 298 = dktX11_advance_13 := dk_seg dksX11_advance_12 22 rfl rfl
theorem dX11_advance_0 : decode cX11_advance 0 = .ok (.aload_n 0, 1) := dk_42 (dk_at dksX11_advance_0 0 rfl rfl)
theorem dX11_advance_1 : decode cX11_advance 1 = .ok (.aload_n 0, 1) := dk_42 (dk_at dksX11_advance_0 1 rfl rfl)
theorem dX11_advance_2 : decode cX11_advance 2 = .ok (.getfield 41, 3) := dk_180 0 41 (dk_at dksX11_advance_0 2 rfl rfl)
theorem dX11_advance_5 : decode cX11_advance 5 = .ok (.invokevirtual 44, 3) := dk_182 0 44 (dk_at dksX11_advance_0 5 rfl rfl)
theorem dX11_advance_8 : decode cX11_advance 8 = .ok (.bipush 32, 2) := dk_16 32 (dk_at dksX11_advance_0 8 rfl rfl)
theorem dX11_advance_10 : decode cX11_advance 10 = .ok (.if_icmp .ne 16, 3) := dk_160 0 16 (dk_at dksX11_advance_0 10 rfl rfl)
theorem dX11_advance_13 : decode cX11_advance 13 = .ok (.aload_n 0, 1) := dk_42 (dk_at dksX11_advance_0 13 rfl rfl)
theorem dX11_advance_14 : decode cX11_advance 14 = .ok (.dup, 1) := dk_89 (dk_at dksX11_advance_0 14 rfl rfl)
theorem dX11_advance_15 : decode cX11_advance 15 = .ok (.getfield 41, 3) := dk_180 0 41 (dk_at dksX11_advance_0 15 rfl rfl)
theorem dX11_advance_18 : decode cX11_advance 18 = .ok (.iconst 1, 1) := dk_4 (dk_at dksX11_advance_0 18 rfl rfl)
theorem dX11_advance_19 : decode cX11_advance 19 = .ok (.iadd, 1) := dk_96 (dk_at dksX11_advance_0 19 rfl rfl)
theorem dX11_advance_20 : decode cX11_advance 20 = .ok (.putfield 41, 3) := dk_181 0 41 (dk_at dksX11_advance_0 20 rfl rfl)
theorem dX11_advance_23 : decode cX11_advance 23 = .ok (.goto (-23), 3) := dk_167 255 233 (dk_at dksX11_advance_1 0 rfl rfl)
theorem dX11_advance_26 : decode cX11_advance 26 = .ok (.aload_n 0, 1) := dk_42 (dk_at dksX11_advance_1 3 rfl rfl)
theorem dX11_advance_27 : decode cX11_advance 27 = .ok (.aload_n 0, 1) := dk_42 (dk_at dksX11_advance_1 4 rfl rfl)
theorem dX11_advance_28 : decode cX11_advance 28 = .ok (.getfield 41, 3) := dk_180 0 41 (dk_at dksX11_advance_1 5 rfl rfl)
theorem dX11_advance_31 : decode cX11_advance 31 = .ok (.putfield 48, 3) := dk_181 0 48 (dk_at dksX11_advance_1 8 rfl rfl)
theorem dX11_advance_34 : decode cX11_advance 34 = .ok (.aload_n 0, 1) := dk_42 (dk_at dksX11_advance_1 11 rfl rfl)
theorem dX11_advance_35 : decode cX11_advance 35 = .ok (.aload_n 0, 1) := dk_42 (dk_at dksX11_advance_1 12 rfl rfl)
theorem dX11_advance_36 : decode cX11_advance 36 = .ok (.getfield 41, 3) := dk_180 0 41 (dk_at dksX11_advance_1 13 rfl rfl)
theorem dX11_advance_39 : decode cX11_advance 39 = .ok (.invokevirtual 44, 3) := dk_182 0 44 (dk_at dksX11_advance_1 16 rfl rfl)
theorem dX11_advance_42 : decode cX11_advance 42 = .ok (.istore_n 1, 1) := dk_60 (dk_at dksX11_advance_1 19 rfl rfl)
theorem dX11_advance_43 : decode cX11_advance 43 = .ok (.iload_n 1, 1) := dk_27 (dk_at dksX11_advance_1 20 rfl rfl)
theorem dX11_advance_44 : decode cX11_advance 44 = .ok (.iconst (-1), 1) := dk_2 (dk_at dksX11_advance_1 21 rfl rfl)
theorem dX11_advance_45 : decode cX11_advance 45 = .ok (.if_icmp .ne 12, 3) := dk_160 0 12 (dk_at dksX11_advance_2 0 rfl rfl)
theorem dX11_advance_48 : decode cX11_advance 48 = .ok (.aload_n 0, 1) := dk_42 (dk_at dksX11_advance_2 3 rfl rfl)
theorem dX11_advance_49 : decode cX11_advance 49 = .ok (.ldc 9, 2) := dk_18 9 (dk_at dksX11_advance_2 4 rfl rfl)
theorem dX11_advance_51 : decode cX11_advance 51 = .ok (.putfield 11, 3) := dk_181 0 11 (dk_at dksX11_advance_2 6 rfl rfl)
theorem dX11_advance_54 : decode cX11_advance 54 = .ok (.goto 263, 3) := dk_167 1 7 (dk_at dksX11_advance_2 9 rfl rfl)
theorem dX11_advance_57 : decode cX11_advance 57 = .ok (.iload_n 1, 1) := dk_27 (dk_at dksX11_advance_2 12 rfl rfl)
theorem dX11_advance_58 : decode cX11_advance 58 = .ok (.i2l, 1) := dk_133 (dk_at dksX11_advance_2 13 rfl rfl)
theorem dX11_advance_59 : decode cX11_advance 59 = .ok (.ldc2_w 51, 3) := dk_20 0 51 (dk_at dksX11_advance_2 14 rfl rfl)
theorem dX11_advance_62 : decode cX11_advance 62 = .ok (.ldc2_w 53, 3) := dk_20 0 53 (dk_at dksX11_advance_2 17 rfl rfl)
theorem dX11_advance_65 : decode cX11_advance 65 = .ok (.invokestatic 55, 3) := dk_184 0 55 (dk_at dksX11_advance_2 20 rfl rfl)
theorem dX11_advance_68 : decode cX11_advance 68 = .ok (.ifCond .eq 103, 3) := dk_153 0 103 (dk_at dksX11_advance_3 0 rfl rfl)
theorem dX11_advance_71 : decode cX11_advance 71 = .ok (.new 59, 3) := dk_187 0 59 (dk_at dksX11_advance_3 3 rfl rfl)
theorem dX11_advance_74 : decode cX11_advance 74 = .ok (.dup, 1) := dk_89 (dk_at dksX11_advance_3 6 rfl rfl)
theorem dX11_advance_75 : decode cX11_advance 75 = .ok (.invokespecial 61, 3) := dk_183 0 61 (dk_at dksX11_advance_3 7 rfl rfl)
theorem dX11_advance_78 : decode cX11_advance 78 = .ok (.astore_n 2, 1) := dk_77 (dk_at dksX11_advance_3 10 rfl rfl)
theorem dX11_advance_79 : decode cX11_advance 79 = .ok (.aload_n 0, 1) := dk_42 (dk_at dksX11_advance_3 11 rfl rfl)
theorem dX11_advance_80 : decode cX11_advance 80 = .ok (.aload_n 0, 1) := dk_42 (dk_at dksX11_advance_3 12 rfl rfl)
theorem dX11_advance_81 : decode cX11_advance 81 = .ok (.getfield 41, 3) := dk_180 0 41 (dk_at dksX11_advance_3 13 rfl rfl)
theorem dX11_advance_84 : decode cX11_advance 84 = .ok (.invokevirtual 44, 3) := dk_182 0 44 (dk_at dksX11_advance_3 16 rfl rfl)
theorem dX11_advance_87 : decode cX11_advance 87 = .ok (.i2l, 1) := dk_133 (dk_at dksX11_advance_3 19 rfl rfl)
theorem dX11_advance_88 : decode cX11_advance 88 = .ok (.ldc2_w 51, 3) := dk_20 0 51 (dk_at dksX11_advance_3 20 rfl rfl)
theorem dX11_advance_91 : decode cX11_advance 91 = .ok (.ldc2_w 53, 3) := dk_20 0 53 (dk_at dksX11_advance_4 0 rfl rfl)
theorem dX11_advance_94 : decode cX11_advance 94 = .ok (.invokestatic 55, 3) := dk_184 0 55 (dk_at dksX11_advance_4 3 rfl rfl)
theorem dX11_advance_97 : decode cX11_advance 97 = .ok (.ifCond .eq 44, 3) := dk_153 0 44 (dk_at dksX11_advance_4 6 rfl rfl)
theorem dX11_advance_100 : decode cX11_advance 100 = .ok (.aload_n 0, 1) := dk_42 (dk_at dksX11_advance_4 9 rfl rfl)
theorem dX11_advance_101 : decode cX11_advance 101 = .ok (.getfield 41, 3) := dk_180 0 41 (dk_at dksX11_advance_4 10 rfl rfl)
theorem dX11_advance_104 : decode cX11_advance 104 = .ok (.aload_n 0, 1) := dk_42 (dk_at dksX11_advance_4 13 rfl rfl)
theorem dX11_advance_105 : decode cX11_advance 105 = .ok (.getfield 48, 3) := dk_180 0 48 (dk_at dksX11_advance_4 14 rfl rfl)
theorem dX11_advance_108 : decode cX11_advance 108 = .ok (.isub, 1) := dk_100 (dk_at dksX11_advance_4 17 rfl rfl)
theorem dX11_advance_109 : decode cX11_advance 109 = .ok (.bipush 8, 2) := dk_16 8 (dk_at dksX11_advance_4 18 rfl rfl)
theorem dX11_advance_111 : decode cX11_advance 111 = .ok (.if_icmp .gt 17, 3) := dk_163 0 17 (dk_at dksX11_advance_4 20 rfl rfl)
theorem dX11_advance_114 : decode cX11_advance 114 = .ok (.aload_n 2, 1) := dk_44 (dk_at dksX11_advance_4 23 rfl rfl)
theorem dX11_advance_115 : decode cX11_advance 115 = .ok (.aload_n 0, 1) := dk_42 (dk_at dksX11_advance_5 0 rfl rfl)
theorem dX11_advance_116 : decode cX11_advance 116 = .ok (.aload_n 0, 1) := dk_42 (dk_at dksX11_advance_5 1 rfl rfl)
theorem dX11_advance_117 : decode cX11_advance 117 = .ok (.getfield 41, 3) := dk_180 0 41 (dk_at dksX11_advance_5 2 rfl rfl)
theorem dX11_advance_120 : decode cX11_advance 120 = .ok (.invokevirtual 44, 3) := dk_182 0 44 (dk_at dksX11_advance_5 5 rfl rfl)
theorem dX11_advance_123 : decode cX11_advance 123 = .ok (.i2c, 1) := dk_146 (dk_at dksX11_advance_5 8 rfl rfl)
theorem dX11_advance_124 : decode cX11_advance 124 = .ok (.invokevirtual 62, 3) := dk_182 0 62 (dk_at dksX11_advance_5 9 rfl rfl)
theorem dX11_advance_127 : decode cX11_advance 127 = .ok (.pop, 1) := dk_87 (dk_at dksX11_advance_5 12 rfl rfl)
theorem dX11_advance_128 : decode cX11_advance 128 = .ok (.aload_n 0, 1) := dk_42 (dk_at dksX11_advance_5 13 rfl rfl)
theorem dX11_advance_129 : decode cX11_advance 129 = .ok (.dup, 1) := dk_89 (dk_at dksX11_advance_5 14 rfl rfl)
theorem dX11_advance_130 : decode cX11_advance 130 = .ok (.getfield 41, 3) := dk_180 0 41 (dk_at dksX11_advance_5 15 rfl rfl)
theorem dX11_advance_133 : decode cX11_advance 133 = .ok (.iconst 1, 1) := dk_4 (dk_at dksX11_advance_5 18 rfl rfl)
theorem dX11_advance_134 : decode cX11_advance 134 = .ok (.iadd, 1) := dk_96 (dk_at dksX11_advance_5 19 rfl rfl)
theorem dX11_advance_135 : decode cX11_advance 135 = .ok (.putfield 41, 3) := dk_181 0 41 (dk_at dksX11_advance_5 20 rfl rfl)
theorem dX11_advance_138 : decode cX11_advance 138 = .ok (.goto (-59), 3) := dk_167 255 197 (dk_at dksX11_advance_6 0 rfl rfl)
theorem dX11_advance_141 : decode cX11_advance 141 = .ok (.aload_n 0, 1) := dk_42 (dk_at dksX11_advance_6 3 rfl rfl)
theorem dX11_advance_142 : decode cX11_advance 142 = .ok (.aload_n 0, 1) := dk_42 (dk_at dksX11_advance_6 4 rfl rfl)
theorem dX11_advance_143 : decode cX11_advance 143 = .ok (.getfield 41, 3) := dk_180 0 41 (dk_at dksX11_advance_6 5 rfl rfl)
theorem dX11_advance_146 : decode cX11_advance 146 = .ok (.aload_n 0, 1) := dk_42 (dk_at dksX11_advance_6 8 rfl rfl)
theorem dX11_advance_147 : decode cX11_advance 147 = .ok (.getfield 48, 3) := dk_180 0 48 (dk_at dksX11_advance_6 9 rfl rfl)
theorem dX11_advance_150 : decode cX11_advance 150 = .ok (.isub, 1) := dk_100 (dk_at dksX11_advance_6 12 rfl rfl)
theorem dX11_advance_151 : decode cX11_advance 151 = .ok (.bipush 8, 2) := dk_16 8 (dk_at dksX11_advance_6 13 rfl rfl)
theorem dX11_advance_153 : decode cX11_advance 153 = .ok (.if_icmp .le 8, 3) := dk_164 0 8 (dk_at dksX11_advance_6 15 rfl rfl)
theorem dX11_advance_156 : decode cX11_advance 156 = .ok (.ldc 66, 2) := dk_18 66 (dk_at dksX11_advance_6 18 rfl rfl)
theorem dX11_advance_158 : decode cX11_advance 158 = .ok (.goto 7, 3) := dk_167 0 7 (dk_at dksX11_advance_6 20 rfl rfl)
theorem dX11_advance_161 : decode cX11_advance 161 = .ok (.aload_n 2, 1) := dk_44 (dk_at dksX11_advance_6 23 rfl rfl)
theorem dX11_advance_162 : decode cX11_advance 162 = .ok (.invokevirtual 68, 3) := dk_182 0 68 (dk_at dksX11_advance_7 0 rfl rfl)
theorem dX11_advance_165 : decode cX11_advance 165 = .ok (.putfield 11, 3) := dk_181 0 11 (dk_at dksX11_advance_7 3 rfl rfl)
theorem dX11_advance_168 : decode cX11_advance 168 = .ok (.goto 149, 3) := dk_167 0 149 (dk_at dksX11_advance_7 6 rfl rfl)
theorem dX11_advance_171 : decode cX11_advance 171 = .ok (.iload_n 1, 1) := dk_27 (dk_at dksX11_advance_7 9 rfl rfl)
theorem dX11_advance_172 : decode cX11_advance 172 = .ok (.i2l, 1) := dk_133 (dk_at dksX11_advance_7 10 rfl rfl)
theorem dX11_advance_173 : decode cX11_advance 173 = .ok (.ldc2_w 72, 3) := dk_20 0 72 (dk_at dksX11_advance_7 11 rfl rfl)
theorem dX11_advance_176 : decode cX11_advance 176 = .ok (.ldc2_w 74, 3) := dk_20 0 74 (dk_at dksX11_advance_7 14 rfl rfl)
theorem dX11_advance_179 : decode cX11_advance 179 = .ok (.invokestatic 55, 3) := dk_184 0 55 (dk_at dksX11_advance_7 17 rfl rfl)
theorem dX11_advance_182 : decode cX11_advance 182 = .ok (.ifCond .eq 97, 3) := dk_153 0 97 (dk_at dksX11_advance_7 20 rfl rfl)
theorem dX11_advance_185 : decode cX11_advance 185 = .ok (.aload_n 0, 1) := dk_42 (dk_at dksX11_advance_7 23 rfl rfl)
theorem dX11_advance_186 : decode cX11_advance 186 = .ok (.iconst 0, 1) := dk_3 (dk_at dksX11_advance_8 0 rfl rfl)
theorem dX11_advance_187 : decode cX11_advance 187 = .ok (.putfield 76, 3) := dk_181 0 76 (dk_at dksX11_advance_8 1 rfl rfl)
theorem dX11_advance_190 : decode cX11_advance 190 = .ok (.aload_n 0, 1) := dk_42 (dk_at dksX11_advance_8 4 rfl rfl)
theorem dX11_advance_191 : decode cX11_advance 191 = .ok (.aload_n 0, 1) := dk_42 (dk_at dksX11_advance_8 5 rfl rfl)
theorem dX11_advance_192 : decode cX11_advance 192 = .ok (.getfield 41, 3) := dk_180 0 41 (dk_at dksX11_advance_8 6 rfl rfl)
theorem dX11_advance_195 : decode cX11_advance 195 = .ok (.invokevirtual 44, 3) := dk_182 0 44 (dk_at dksX11_advance_8 9 rfl rfl)
theorem dX11_advance_198 : decode cX11_advance 198 = .ok (.i2l, 1) := dk_133 (dk_at dksX11_advance_8 12 rfl rfl)
theorem dX11_advance_199 : decode cX11_advance 199 = .ok (.ldc2_w 72, 3) := dk_20 0 72 (dk_at dksX11_advance_8 13 rfl rfl)
theorem dX11_advance_202 : decode cX11_advance 202 = .ok (.ldc2_w 74, 3) := dk_20 0 74 (dk_at dksX11_advance_8 16 rfl rfl)
theorem dX11_advance_205 : decode cX11_advance 205 = .ok (.invokestatic 55, 3) := dk_184 0 55 (dk_at dksX11_advance_8 19 rfl rfl)
theorem dX11_advance_208 : decode cX11_advance 208 = .ok (.ifCond .eq 44, 3) := dk_153 0 44 (dk_at dksX11_advance_9 0 rfl rfl)
theorem dX11_advance_211 : decode cX11_advance 211 = .ok (.aload_n 0, 1) := dk_42 (dk_at dksX11_advance_9 3 rfl rfl)
theorem dX11_advance_212 : decode cX11_advance 212 = .ok (.ldc 79, 2) := dk_18 79 (dk_at dksX11_advance_9 4 rfl rfl)
theorem dX11_advance_214 : decode cX11_advance 214 = .ok (.bipush 10, 2) := dk_16 10 (dk_at dksX11_advance_9 6 rfl rfl)
theorem dX11_advance_216 : decode cX11_advance 216 = .ok (.aload_n 0, 1) := dk_42 (dk_at dksX11_advance_9 8 rfl rfl)
theorem dX11_advance_217 : decode cX11_advance 217 = .ok (.getfield 76, 3) := dk_180 0 76 (dk_at dksX11_advance_9 9 rfl rfl)
theorem dX11_advance_220 : decode cX11_advance 220 = .ok (.imul, 1) := dk_104 (dk_at dksX11_advance_9 12 rfl rfl)
theorem dX11_advance_221 : decode cX11_advance 221 = .ok (.aload_n 0, 1) := dk_42 (dk_at dksX11_advance_9 13 rfl rfl)
theorem dX11_advance_222 : decode cX11_advance 222 = .ok (.aload_n 0, 1) := dk_42 (dk_at dksX11_advance_9 14 rfl rfl)
theorem dX11_advance_223 : decode cX11_advance 223 = .ok (.getfield 41, 3) := dk_180 0 41 (dk_at dksX11_advance_9 15 rfl rfl)
theorem dX11_advance_226 : decode cX11_advance 226 = .ok (.invokevirtual 44, 3) := dk_182 0 44 (dk_at dksX11_advance_9 18 rfl rfl)
theorem dX11_advance_229 : decode cX11_advance 229 = .ok (.iadd, 1) := dk_96 (dk_at dksX11_advance_9 21 rfl rfl)
theorem dX11_advance_230 : decode cX11_advance 230 = .ok (.bipush 48, 2) := dk_16 48 (dk_at dksX11_advance_9 22 rfl rfl)
theorem dX11_advance_232 : decode cX11_advance 232 = .ok (.isub, 1) := dk_100 (dk_at dksX11_advance_10 0 rfl rfl)
theorem dX11_advance_233 : decode cX11_advance 233 = .ok (.invokestatic 80, 3) := dk_184 0 80 (dk_at dksX11_advance_10 1 rfl rfl)
theorem dX11_advance_236 : decode cX11_advance 236 = .ok (.putfield 76, 3) := dk_181 0 76 (dk_at dksX11_advance_10 4 rfl rfl)
theorem dX11_advance_239 : decode cX11_advance 239 = .ok (.aload_n 0, 1) := dk_42 (dk_at dksX11_advance_10 7 rfl rfl)
theorem dX11_advance_240 : decode cX11_advance 240 = .ok (.dup, 1) := dk_89 (dk_at dksX11_advance_10 8 rfl rfl)
theorem dX11_advance_241 : decode cX11_advance 241 = .ok (.getfield 41, 3) := dk_180 0 41 (dk_at dksX11_advance_10 9 rfl rfl)
theorem dX11_advance_244 : decode cX11_advance 244 = .ok (.iconst 1, 1) := dk_4 (dk_at dksX11_advance_10 12 rfl rfl)
theorem dX11_advance_245 : decode cX11_advance 245 = .ok (.iadd, 1) := dk_96 (dk_at dksX11_advance_10 13 rfl rfl)
theorem dX11_advance_246 : decode cX11_advance 246 = .ok (.putfield 41, 3) := dk_181 0 41 (dk_at dksX11_advance_10 14 rfl rfl)
theorem dX11_advance_249 : decode cX11_advance 249 = .ok (.goto (-59), 3) := dk_167 255 197 (dk_at dksX11_advance_10 17 rfl rfl)
theorem dX11_advance_252 : decode cX11_advance 252 = .ok (.aload_n 0, 1) := dk_42 (dk_at dksX11_advance_10 20 rfl rfl)
theorem dX11_advance_253 : decode cX11_advance 253 = .ok (.aload_n 0, 1) := dk_42 (dk_at dksX11_advance_10 21 rfl rfl)
theorem dX11_advance_254 : decode cX11_advance 254 = .ok (.getfield 41, 3) := dk_180 0 41 (dk_at dksX11_advance_11 0 rfl rfl)
theorem dX11_advance_257 : decode cX11_advance 257 = .ok (.aload_n 0, 1) := dk_42 (dk_at dksX11_advance_11 3 rfl rfl)
theorem dX11_advance_258 : decode cX11_advance 258 = .ok (.getfield 48, 3) := dk_180 0 48 (dk_at dksX11_advance_11 4 rfl rfl)
theorem dX11_advance_261 : decode cX11_advance 261 = .ok (.isub, 1) := dk_100 (dk_at dksX11_advance_11 7 rfl rfl)
theorem dX11_advance_262 : decode cX11_advance 262 = .ok (.iconst 4, 1) := dk_7 (dk_at dksX11_advance_11 8 rfl rfl)
theorem dX11_advance_263 : decode cX11_advance 263 = .ok (.if_icmp .le 8, 3) := dk_164 0 8 (dk_at dksX11_advance_11 9 rfl rfl)
theorem dX11_advance_266 : decode cX11_advance 266 = .ok (.ldc 66, 2) := dk_18 66 (dk_at dksX11_advance_11 12 rfl rfl)
theorem dX11_advance_268 : decode cX11_advance 268 = .ok (.goto 5, 3) := dk_167 0 5 (dk_at dksX11_advance_11 14 rfl rfl)
theorem dX11_advance_271 : decode cX11_advance 271 = .ok (.ldc 86, 2) := dk_18 86 (dk_at dksX11_advance_11 17 rfl rfl)
theorem dX11_advance_273 : decode cX11_advance 273 = .ok (.putfield 11, 3) := dk_181 0 11 (dk_at dksX11_advance_11 19 rfl rfl)
theorem dX11_advance_276 : decode cX11_advance 276 = .ok (.goto 41, 3) := dk_167 0 41 (dk_at dksX11_advance_12 0 rfl rfl)
theorem dX11_advance_279 : decode cX11_advance 279 = .ok (.aload_n 0, 1) := dk_42 (dk_at dksX11_advance_12 3 rfl rfl)
theorem dX11_advance_280 : decode cX11_advance 280 = .ok (.dup, 1) := dk_89 (dk_at dksX11_advance_12 4 rfl rfl)
theorem dX11_advance_281 : decode cX11_advance 281 = .ok (.getfield 41, 3) := dk_180 0 41 (dk_at dksX11_advance_12 5 rfl rfl)
theorem dX11_advance_284 : decode cX11_advance 284 = .ok (.iconst 1, 1) := dk_4 (dk_at dksX11_advance_12 8 rfl rfl)
theorem dX11_advance_285 : decode cX11_advance 285 = .ok (.iadd, 1) := dk_96 (dk_at dksX11_advance_12 9 rfl rfl)
theorem dX11_advance_286 : decode cX11_advance 286 = .ok (.putfield 41, 3) := dk_181 0 41 (dk_at dksX11_advance_12 10 rfl rfl)
theorem dX11_advance_289 : decode cX11_advance 289 = .ok (.aload_n 0, 1) := dk_42 (dk_at dksX11_advance_12 13 rfl rfl)
theorem dX11_advance_290 : decode cX11_advance 290 = .ok (.iload_n 1, 1) := dk_27 (dk_at dksX11_advance_12 14 rfl rfl)
theorem dX11_advance_291 : decode cX11_advance 291 = .ok (.bipush 59, 2) := dk_16 59 (dk_at dksX11_advance_12 15 rfl rfl)
theorem dX11_advance_293 : decode cX11_advance 293 = .ok (.if_icmp .ne 8, 3) := dk_160 0 8 (dk_at dksX11_advance_12 17 rfl rfl)
theorem dX11_advance_296 : decode cX11_advance 296 = .ok (.ldc 88, 2) := dk_18 88 (dk_at dksX11_advance_12 20 rfl rfl)
theorem dX11_advance_298 : decode cX11_advance 298 = .ok (.goto 16, 3) := dk_167 0 16 (dk_at dksX11_advance_13 0 rfl rfl)
theorem dX11_advance_301 : decode cX11_advance 301 = .ok (.iload_n 1, 1) := dk_27 (dk_at dksX11_advance_13 3 rfl rfl)
theorem dX11_advance_302 : decode cX11_advance 302 = .ok (.bipush 45, 2) := dk_16 45 (dk_at dksX11_advance_13 4 rfl rfl)
theorem dX11_advance_304 : decode cX11_advance 304 = .ok (.if_icmp .ne 8, 3) := dk_160 0 8 (dk_at dksX11_advance_13 6 rfl rfl)
theorem dX11_advance_307 : decode cX11_advance 307 = .ok (.ldc 90, 2) := dk_18 90 (dk_at dksX11_advance_13 9 rfl rfl)
theorem dX11_advance_309 : decode cX11_advance 309 = .ok (.goto 5, 3) := dk_167 0 5 (dk_at dksX11_advance_13 11 rfl rfl)
theorem dX11_advance_312 : decode cX11_advance 312 = .ok (.ldc 66, 2) := dk_18 66 (dk_at dksX11_advance_13 14 rfl rfl)
theorem dX11_advance_314 : decode cX11_advance 314 = .ok (.putfield 11, 3) := dk_181 0 11 (dk_at dksX11_advance_13 16 rfl rfl)
theorem dX11_advance_317 : decode cX11_advance 317 = .ok (.return_, 1) := dk_177 (dk_at dksX11_advance_13 19 rfl rfl)
abbrev cX11_at : ByteArray := prog_8_method_2_code
def yX11_at : MethodName := ⟨RX11, "at", "(I)I"⟩
def dkwX11_at_0 : List UInt8 := [27, 42, 180, 0, 37, 162, 0, 16, 42, 180, 0, 33, 27, 51, 17, 0, 255, 126, 167, 0, 4, 2, 172]
abbrev dktX11_at_0 : List UInt8 := dkwX11_at_0 ++ []
theorem dksX11_at_0 : cX11_at.data.toList.drop 0 = dktX11_at_0 := by decide +kernel
theorem dX11_at_0 : decode cX11_at 0 = .ok (.iload_n 1, 1) := dk_27 (dk_at dksX11_at_0 0 rfl rfl)
theorem dX11_at_1 : decode cX11_at 1 = .ok (.aload_n 0, 1) := dk_42 (dk_at dksX11_at_0 1 rfl rfl)
theorem dX11_at_2 : decode cX11_at 2 = .ok (.getfield 37, 3) := dk_180 0 37 (dk_at dksX11_at_0 2 rfl rfl)
theorem dX11_at_5 : decode cX11_at 5 = .ok (.if_icmp .ge 16, 3) := dk_162 0 16 (dk_at dksX11_at_0 5 rfl rfl)
theorem dX11_at_8 : decode cX11_at 8 = .ok (.aload_n 0, 1) := dk_42 (dk_at dksX11_at_0 8 rfl rfl)
theorem dX11_at_9 : decode cX11_at 9 = .ok (.getfield 33, 3) := dk_180 0 33 (dk_at dksX11_at_0 9 rfl rfl)
theorem dX11_at_12 : decode cX11_at 12 = .ok (.iload_n 1, 1) := dk_27 (dk_at dksX11_at_0 12 rfl rfl)
theorem dX11_at_13 : decode cX11_at 13 = .ok (.baload, 1) := dk_51 (dk_at dksX11_at_0 13 rfl rfl)
theorem dX11_at_14 : decode cX11_at 14 = .ok (.sipush 255, 3) := dk_17 0 255 (dk_at dksX11_at_0 14 rfl rfl)
theorem dX11_at_17 : decode cX11_at 17 = .ok (.iand, 1) := dk_126 (dk_at dksX11_at_0 17 rfl rfl)
theorem dX11_at_18 : decode cX11_at 18 = .ok (.goto 4, 3) := dk_167 0 4 (dk_at dksX11_at_0 18 rfl rfl)
theorem dX11_at_21 : decode cX11_at 21 = .ok (.iconst (-1), 1) := dk_2 (dk_at dksX11_at_0 21 rfl rfl)
theorem dX11_at_22 : decode cX11_at 22 = .ok (.ireturn, 1) := dk_172 (dk_at dksX11_at_0 22 rfl rfl)
abbrev cX11_expect : ByteArray := prog_8_method_6_code
def yX11_expect : MethodName := ⟨RX11, "expect", "(Ljava/lang/String;)V"⟩
def dkwX11_expect_0 : List UInt8 := [42, 43, 182, 0, 106, 154, 0, 9, 42, 4, 182, 0, 110, 191, 177]
abbrev dktX11_expect_0 : List UInt8 := dkwX11_expect_0 ++ []
theorem dksX11_expect_0 : cX11_expect.data.toList.drop 0 = dktX11_expect_0 := by decide +kernel
theorem dX11_expect_0 : decode cX11_expect 0 = .ok (.aload_n 0, 1) := dk_42 (dk_at dksX11_expect_0 0 rfl rfl)
theorem dX11_expect_1 : decode cX11_expect 1 = .ok (.aload_n 1, 1) := dk_43 (dk_at dksX11_expect_0 1 rfl rfl)
theorem dX11_expect_2 : decode cX11_expect 2 = .ok (.invokevirtual 106, 3) := dk_182 0 106 (dk_at dksX11_expect_0 2 rfl rfl)
theorem dX11_expect_5 : decode cX11_expect 5 = .ok (.ifCond .ne 9, 3) := dk_154 0 9 (dk_at dksX11_expect_0 5 rfl rfl)
theorem dX11_expect_8 : decode cX11_expect 8 = .ok (.aload_n 0, 1) := dk_42 (dk_at dksX11_expect_0 8 rfl rfl)
theorem dX11_expect_9 : decode cX11_expect 9 = .ok (.iconst 1, 1) := dk_4 (dk_at dksX11_expect_0 9 rfl rfl)
theorem dX11_expect_10 : decode cX11_expect 10 = .ok (.invokevirtual 110, 3) := dk_182 0 110 (dk_at dksX11_expect_0 10 rfl rfl)
theorem dX11_expect_13 : decode cX11_expect 13 = .ok (.athrow, 1) := dk_191 (dk_at dksX11_expect_0 13 rfl rfl)
theorem dX11_expect_14 : decode cX11_expect 14 = .ok (.return_, 1) := dk_177 (dk_at dksX11_expect_0 14 rfl rfl)
abbrev cX11_takes : ByteArray := prog_8_method_5_code
def yX11_takes : MethodName := ⟨RX11, "takes", "(Ljava/lang/String;)Z"⟩
def dkwX11_takes_0 : List UInt8 := [42, 180, 0, 11, 43, 182, 0, 97, 61, 28, 153, 0, 7, 42, 182, 0, 103, 28, 172]
abbrev dktX11_takes_0 : List UInt8 := dkwX11_takes_0 ++ []
theorem dksX11_takes_0 : cX11_takes.data.toList.drop 0 = dktX11_takes_0 := by decide +kernel
theorem dX11_takes_0 : decode cX11_takes 0 = .ok (.aload_n 0, 1) := dk_42 (dk_at dksX11_takes_0 0 rfl rfl)
theorem dX11_takes_1 : decode cX11_takes 1 = .ok (.getfield 11, 3) := dk_180 0 11 (dk_at dksX11_takes_0 1 rfl rfl)
theorem dX11_takes_4 : decode cX11_takes 4 = .ok (.aload_n 1, 1) := dk_43 (dk_at dksX11_takes_0 4 rfl rfl)
theorem dX11_takes_5 : decode cX11_takes 5 = .ok (.invokevirtual 97, 3) := dk_182 0 97 (dk_at dksX11_takes_0 5 rfl rfl)
theorem dX11_takes_8 : decode cX11_takes 8 = .ok (.istore_n 2, 1) := dk_61 (dk_at dksX11_takes_0 8 rfl rfl)
theorem dX11_takes_9 : decode cX11_takes 9 = .ok (.iload_n 2, 1) := dk_28 (dk_at dksX11_takes_0 9 rfl rfl)
theorem dX11_takes_10 : decode cX11_takes 10 = .ok (.ifCond .eq 7, 3) := dk_153 0 7 (dk_at dksX11_takes_0 10 rfl rfl)
theorem dX11_takes_13 : decode cX11_takes 13 = .ok (.aload_n 0, 1) := dk_42 (dk_at dksX11_takes_0 13 rfl rfl)
theorem dX11_takes_14 : decode cX11_takes 14 = .ok (.invokevirtual 103, 3) := dk_182 0 103 (dk_at dksX11_takes_0 14 rfl rfl)
theorem dX11_takes_17 : decode cX11_takes 17 = .ok (.iload_n 2, 1) := dk_28 (dk_at dksX11_takes_0 17 rfl rfl)
theorem dX11_takes_18 : decode cX11_takes 18 = .ok (.ireturn, 1) := dk_172 (dk_at dksX11_takes_0 18 rfl rfl)
abbrev cX11_flaw : ByteArray := prog_8_method_4_code
def yX11_flaw : MethodName := ⟨RX11, "flaw", "(I)LTelescopeQueue$Flaw;"⟩
def dkwX11_flaw_0 : List UInt8 := [187, 0, 92, 89, 27, 42, 180, 0, 48, 183, 0, 94, 176]
abbrev dktX11_flaw_0 : List UInt8 := dkwX11_flaw_0 ++ []
theorem dksX11_flaw_0 : cX11_flaw.data.toList.drop 0 = dktX11_flaw_0 := by decide +kernel
theorem dX11_flaw_0 : decode cX11_flaw 0 = .ok (.new 92, 3) := dk_187 0 92 (dk_at dksX11_flaw_0 0 rfl rfl)
theorem dX11_flaw_3 : decode cX11_flaw 3 = .ok (.dup, 1) := dk_89 (dk_at dksX11_flaw_0 3 rfl rfl)
theorem dX11_flaw_4 : decode cX11_flaw 4 = .ok (.iload_n 1, 1) := dk_27 (dk_at dksX11_flaw_0 4 rfl rfl)
theorem dX11_flaw_5 : decode cX11_flaw 5 = .ok (.aload_n 0, 1) := dk_42 (dk_at dksX11_flaw_0 5 rfl rfl)
theorem dX11_flaw_6 : decode cX11_flaw 6 = .ok (.getfield 48, 3) := dk_180 0 48 (dk_at dksX11_flaw_0 6 rfl rfl)
theorem dX11_flaw_9 : decode cX11_flaw 9 = .ok (.invokespecial 94, 3) := dk_183 0 94 (dk_at dksX11_flaw_0 9 rfl rfl)
theorem dX11_flaw_12 : decode cX11_flaw 12 = .ok (.areturn, 1) := dk_176 (dk_at dksX11_flaw_0 12 rfl rfl)
abbrev cX11_number : ByteArray := prog_8_method_8_code
def yX11_number : MethodName := ⟨RX11, "number", "(Ljava/lang/String;II)I"⟩
def dkwX11_number_0 : List UInt8 := [42, 43, 182, 0, 114, 42, 28, 29, 182, 0, 118, 172]
abbrev dktX11_number_0 : List UInt8 := dkwX11_number_0 ++ []
theorem dksX11_number_0 : cX11_number.data.toList.drop 0 = dktX11_number_0 := by decide +kernel
theorem dX11_number_0 : decode cX11_number 0 = .ok (.aload_n 0, 1) := dk_42 (dk_at dksX11_number_0 0 rfl rfl)
theorem dX11_number_1 : decode cX11_number 1 = .ok (.aload_n 1, 1) := dk_43 (dk_at dksX11_number_0 1 rfl rfl)
theorem dX11_number_2 : decode cX11_number 2 = .ok (.invokevirtual 114, 3) := dk_182 0 114 (dk_at dksX11_number_0 2 rfl rfl)
theorem dX11_number_5 : decode cX11_number 5 = .ok (.aload_n 0, 1) := dk_42 (dk_at dksX11_number_0 5 rfl rfl)
theorem dX11_number_6 : decode cX11_number 6 = .ok (.iload_n 2, 1) := dk_28 (dk_at dksX11_number_0 6 rfl rfl)
theorem dX11_number_7 : decode cX11_number 7 = .ok (.iload_n 3, 1) := dk_29 (dk_at dksX11_number_0 7 rfl rfl)
theorem dX11_number_8 : decode cX11_number 8 = .ok (.invokevirtual 118, 3) := dk_182 0 118 (dk_at dksX11_number_0 8 rfl rfl)
theorem dX11_number_11 : decode cX11_number 11 = .ok (.ireturn, 1) := dk_172 (dk_at dksX11_number_0 11 rfl rfl)
abbrev cX11_number_2 : ByteArray := prog_8_method_7_code
def yX11_number_2 : MethodName := ⟨RX11, "number", "(II)I"⟩
def dkwX11_number_2_2 : List UInt8 := [29, 172]
abbrev dktX11_number_2_2 : List UInt8 := dkwX11_number_2_2 ++ []
def dkwX11_number_2_1 : List UInt8 := [133, 28, 133, 184, 0, 55, 154, 0, 9, 42, 5, 182, 0, 110, 191, 42, 180, 0, 76, 62, 42, 182, 0, 103]
abbrev dktX11_number_2_1 : List UInt8 := dkwX11_number_2_1 ++ dktX11_number_2_2
def dkwX11_number_2_0 : List UInt8 := [42, 180, 0, 11, 18, 86, 182, 0, 97, 154, 0, 9, 42, 4, 182, 0, 110, 191, 42, 180, 0, 76, 133, 27]
abbrev dktX11_number_2_0 : List UInt8 := dkwX11_number_2_0 ++ dktX11_number_2_1
theorem dksX11_number_2_0 : cX11_number_2.data.toList.drop 0 = dktX11_number_2_0 := by decide +kernel
theorem dksX11_number_2_1 : cX11_number_2.data.toList.drop 24 = dktX11_number_2_1 := dk_seg dksX11_number_2_0 24 rfl rfl
theorem dksX11_number_2_2 : cX11_number_2.data.toList.drop 48 = dktX11_number_2_2 := dk_seg dksX11_number_2_1 24 rfl rfl
theorem dX11_number_2_0 : decode cX11_number_2 0 = .ok (.aload_n 0, 1) := dk_42 (dk_at dksX11_number_2_0 0 rfl rfl)
theorem dX11_number_2_1 : decode cX11_number_2 1 = .ok (.getfield 11, 3) := dk_180 0 11 (dk_at dksX11_number_2_0 1 rfl rfl)
theorem dX11_number_2_4 : decode cX11_number_2 4 = .ok (.ldc 86, 2) := dk_18 86 (dk_at dksX11_number_2_0 4 rfl rfl)
theorem dX11_number_2_6 : decode cX11_number_2 6 = .ok (.invokevirtual 97, 3) := dk_182 0 97 (dk_at dksX11_number_2_0 6 rfl rfl)
theorem dX11_number_2_9 : decode cX11_number_2 9 = .ok (.ifCond .ne 9, 3) := dk_154 0 9 (dk_at dksX11_number_2_0 9 rfl rfl)
theorem dX11_number_2_12 : decode cX11_number_2 12 = .ok (.aload_n 0, 1) := dk_42 (dk_at dksX11_number_2_0 12 rfl rfl)
theorem dX11_number_2_13 : decode cX11_number_2 13 = .ok (.iconst 1, 1) := dk_4 (dk_at dksX11_number_2_0 13 rfl rfl)
theorem dX11_number_2_14 : decode cX11_number_2 14 = .ok (.invokevirtual 110, 3) := dk_182 0 110 (dk_at dksX11_number_2_0 14 rfl rfl)
theorem dX11_number_2_17 : decode cX11_number_2 17 = .ok (.athrow, 1) := dk_191 (dk_at dksX11_number_2_0 17 rfl rfl)
theorem dX11_number_2_18 : decode cX11_number_2 18 = .ok (.aload_n 0, 1) := dk_42 (dk_at dksX11_number_2_0 18 rfl rfl)
theorem dX11_number_2_19 : decode cX11_number_2 19 = .ok (.getfield 76, 3) := dk_180 0 76 (dk_at dksX11_number_2_0 19 rfl rfl)
theorem dX11_number_2_22 : decode cX11_number_2 22 = .ok (.i2l, 1) := dk_133 (dk_at dksX11_number_2_0 22 rfl rfl)
theorem dX11_number_2_23 : decode cX11_number_2 23 = .ok (.iload_n 1, 1) := dk_27 (dk_at dksX11_number_2_0 23 rfl rfl)
theorem dX11_number_2_24 : decode cX11_number_2 24 = .ok (.i2l, 1) := dk_133 (dk_at dksX11_number_2_1 0 rfl rfl)
theorem dX11_number_2_25 : decode cX11_number_2 25 = .ok (.iload_n 2, 1) := dk_28 (dk_at dksX11_number_2_1 1 rfl rfl)
theorem dX11_number_2_26 : decode cX11_number_2 26 = .ok (.i2l, 1) := dk_133 (dk_at dksX11_number_2_1 2 rfl rfl)
theorem dX11_number_2_27 : decode cX11_number_2 27 = .ok (.invokestatic 55, 3) := dk_184 0 55 (dk_at dksX11_number_2_1 3 rfl rfl)
theorem dX11_number_2_30 : decode cX11_number_2 30 = .ok (.ifCond .ne 9, 3) := dk_154 0 9 (dk_at dksX11_number_2_1 6 rfl rfl)
theorem dX11_number_2_33 : decode cX11_number_2 33 = .ok (.aload_n 0, 1) := dk_42 (dk_at dksX11_number_2_1 9 rfl rfl)
theorem dX11_number_2_34 : decode cX11_number_2 34 = .ok (.iconst 2, 1) := dk_5 (dk_at dksX11_number_2_1 10 rfl rfl)
theorem dX11_number_2_35 : decode cX11_number_2 35 = .ok (.invokevirtual 110, 3) := dk_182 0 110 (dk_at dksX11_number_2_1 11 rfl rfl)
theorem dX11_number_2_38 : decode cX11_number_2 38 = .ok (.athrow, 1) := dk_191 (dk_at dksX11_number_2_1 14 rfl rfl)
theorem dX11_number_2_39 : decode cX11_number_2 39 = .ok (.aload_n 0, 1) := dk_42 (dk_at dksX11_number_2_1 15 rfl rfl)
theorem dX11_number_2_40 : decode cX11_number_2 40 = .ok (.getfield 76, 3) := dk_180 0 76 (dk_at dksX11_number_2_1 16 rfl rfl)
theorem dX11_number_2_43 : decode cX11_number_2 43 = .ok (.istore_n 3, 1) := dk_62 (dk_at dksX11_number_2_1 19 rfl rfl)
theorem dX11_number_2_44 : decode cX11_number_2 44 = .ok (.aload_n 0, 1) := dk_42 (dk_at dksX11_number_2_1 20 rfl rfl)
theorem dX11_number_2_45 : decode cX11_number_2 45 = .ok (.invokevirtual 103, 3) := dk_182 0 103 (dk_at dksX11_number_2_1 21 rfl rfl)
theorem dX11_number_2_48 : decode cX11_number_2 48 = .ok (.iload_n 3, 1) := dk_29 (dk_at dksX11_number_2_2 0 rfl rfl)
theorem dX11_number_2_49 : decode cX11_number_2 49 = .ok (.ireturn, 1) := dk_172 (dk_at dksX11_number_2_2 1 rfl rfl)
abbrev cX11_line : ByteArray := prog_8_method_12_code
def yX11_line : MethodName := ⟨RX11, "line", "()V"⟩
def dkwX11_line_11 : List UInt8 := [182, 0, 110, 191, 177]
abbrev dktX11_line_11 : List UInt8 := dkwX11_line_11 ++ []
def dkwX11_line_10 : List UInt8 := [42, 29, 17, 7, 208, 182, 0, 118, 183, 0, 217, 185, 0, 218, 2, 0, 87, 167, 0, 9, 42, 4]
abbrev dktX11_line_10 : List UInt8 := dkwX11_line_10 ++ dktX11_line_11
def dkwX11_line_9 : List UInt8 := [182, 0, 197, 42, 3, 17, 7, 208, 182, 0, 118, 62, 42, 180, 0, 20, 180, 0, 212, 187, 0, 215, 89, 29]
abbrev dktX11_line_9 : List UInt8 := dkwX11_line_9 ++ dktX11_line_10
def dkwX11_line_8 : List UInt8 := [180, 0, 207, 8, 182, 0, 197, 42, 182, 0, 210, 167, 0, 62, 42, 42, 180, 0, 20, 180, 0, 212, 7]
abbrev dktX11_line_8 : List UInt8 := dkwX11_line_8 ++ dktX11_line_9
def dkwX11_line_7 : List UInt8 := [180, 0, 20, 180, 0, 202, 16, 20, 182, 0, 197, 42, 182, 0, 205, 167, 0, 81, 42, 42, 180, 0, 29]
abbrev dktX11_line_7 : List UInt8 := dkwX11_line_7 ++ dktX11_line_8
def dkwX11_line_6 : List UInt8 := [42, 42, 180, 0, 20, 180, 0, 171, 16, 6, 182, 0, 197, 42, 182, 0, 200, 167, 0, 101, 42, 42]
abbrev dktX11_line_6 : List UInt8 := dkwX11_line_6 ++ dktX11_line_7
def dkwX11_line_5 : List UInt8 := [170, 0, 0, 0, 0, 142, 0, 0, 0, 0, 0, 0, 0, 3, 0, 0, 0, 30, 0, 0, 0, 50, 0, 0, 0, 70, 0, 0, 0, 89]
abbrev dktX11_line_5 : List UInt8 := dkwX11_line_5 ++ dktX11_line_6
def dkwX11_line_4 : List UInt8 := [153, 0, 5, 6, 61, 28]
abbrev dktX11_line_4 : List UInt8 := dkwX11_line_4 ++ dktX11_line_5
def dkwX11_line_3 : List UInt8 := [61, 167, 0, 28, 43, 18, 193, 182, 0, 97, 153, 0, 19, 5, 61, 167, 0, 14, 43, 18, 195, 182, 0, 97]
abbrev dktX11_line_3 : List UInt8 := dkwX11_line_3 ++ dktX11_line_4
def dkwX11_line_2 : List UInt8 := [43, 18, 189, 182, 0, 97, 153, 0, 47, 3, 61, 167, 0, 42, 43, 18, 191, 182, 0, 97, 153, 0, 33, 4]
abbrev dktX11_line_2 : List UInt8 := dkwX11_line_2 ++ dktX11_line_3
def dkwX11_line_1 : List UInt8 := [171, 0, 0, 0, 94, 0, 0, 0, 4, 196, 16, 222, 241, 0, 0, 0, 83, 196, 210, 106, 242, 0, 0, 0, 41, 5, 137, 137, 92, 0, 0, 0, 69, 6, 176, 77, 75, 0, 0, 0, 55]
abbrev dktX11_line_1 : List UInt8 := dkwX11_line_1 ++ dktX11_line_2
def dkwX11_line_0 : List UInt8 := [42, 180, 0, 11, 76, 2, 61, 43, 182, 0, 186]
abbrev dktX11_line_0 : List UInt8 := dkwX11_line_0 ++ dktX11_line_1
theorem dksX11_line_0 : cX11_line.data.toList.drop 0 = dktX11_line_0 := by decide +kernel
theorem dksX11_line_1 : cX11_line.data.toList.drop 11 = dktX11_line_1 := dk_seg dksX11_line_0 11 rfl rfl
theorem dksX11_line_2 : cX11_line.data.toList.drop 52 = dktX11_line_2 := dk_seg dksX11_line_1 41 rfl rfl
theorem dksX11_line_3 : cX11_line.data.toList.drop 76 = dktX11_line_3 := dk_seg dksX11_line_2 24 rfl rfl
theorem dksX11_line_4 : cX11_line.data.toList.drop 100 = dktX11_line_4 := dk_seg dksX11_line_3 24 rfl rfl
theorem dksX11_line_5 : cX11_line.data.toList.drop 106 = dktX11_line_5 := dk_seg dksX11_line_4 6 rfl rfl
theorem dksX11_line_6 : cX11_line.data.toList.drop 136 = dktX11_line_6 := dk_seg dksX11_line_5 30 rfl rfl
theorem dksX11_line_7 : cX11_line.data.toList.drop 158 = dktX11_line_7 := dk_seg dksX11_line_6 22 rfl rfl
theorem dksX11_line_8 : cX11_line.data.toList.drop 181 = dktX11_line_8 := dk_seg dksX11_line_7 23 rfl rfl
theorem dksX11_line_9 : cX11_line.data.toList.drop 204 = dktX11_line_9 := dk_seg dksX11_line_8 23 rfl rfl
theorem dksX11_line_10 : cX11_line.data.toList.drop 228 = dktX11_line_10 := dk_seg dksX11_line_9 24 rfl rfl
theorem dksX11_line_11 : cX11_line.data.toList.drop 250 = dktX11_line_11 := dk_seg dksX11_line_10 22 rfl rfl
theorem dX11_line_0 : decode cX11_line 0 = .ok (.aload_n 0, 1) := dk_42 (dk_at dksX11_line_0 0 rfl rfl)
theorem dX11_line_1 : decode cX11_line 1 = .ok (.getfield 11, 3) := dk_180 0 11 (dk_at dksX11_line_0 1 rfl rfl)
theorem dX11_line_4 : decode cX11_line 4 = .ok (.astore_n 1, 1) := dk_76 (dk_at dksX11_line_0 4 rfl rfl)
theorem dX11_line_5 : decode cX11_line 5 = .ok (.iconst (-1), 1) := dk_2 (dk_at dksX11_line_0 5 rfl rfl)
theorem dX11_line_6 : decode cX11_line 6 = .ok (.istore_n 2, 1) := dk_61 (dk_at dksX11_line_0 6 rfl rfl)
theorem dX11_line_7 : decode cX11_line 7 = .ok (.aload_n 1, 1) := dk_43 (dk_at dksX11_line_0 7 rfl rfl)
theorem dX11_line_8 : decode cX11_line 8 = .ok (.invokevirtual 186, 3) := dk_182 0 186 (dk_at dksX11_line_0 8 rfl rfl)
theorem dX11_line_11 : decode cX11_line 11 = .ok (.lookupswitch 94 #[(-1005527311, 83), (-992843022, 41), (92899676, 69), (112217419, 55)], 41) := by decide +kernel
theorem dX11_line_52 : decode cX11_line 52 = .ok (.aload_n 1, 1) := dk_43 (dk_at dksX11_line_2 0 rfl rfl)
theorem dX11_line_53 : decode cX11_line 53 = .ok (.ldc 189, 2) := dk_18 189 (dk_at dksX11_line_2 1 rfl rfl)
theorem dX11_line_55 : decode cX11_line 55 = .ok (.invokevirtual 97, 3) := dk_182 0 97 (dk_at dksX11_line_2 3 rfl rfl)
theorem dX11_line_58 : decode cX11_line 58 = .ok (.ifCond .eq 47, 3) := dk_153 0 47 (dk_at dksX11_line_2 6 rfl rfl)
theorem dX11_line_61 : decode cX11_line 61 = .ok (.iconst 0, 1) := dk_3 (dk_at dksX11_line_2 9 rfl rfl)
theorem dX11_line_62 : decode cX11_line 62 = .ok (.istore_n 2, 1) := dk_61 (dk_at dksX11_line_2 10 rfl rfl)
theorem dX11_line_63 : decode cX11_line 63 = .ok (.goto 42, 3) := dk_167 0 42 (dk_at dksX11_line_2 11 rfl rfl)
theorem dX11_line_66 : decode cX11_line 66 = .ok (.aload_n 1, 1) := dk_43 (dk_at dksX11_line_2 14 rfl rfl)
theorem dX11_line_67 : decode cX11_line 67 = .ok (.ldc 191, 2) := dk_18 191 (dk_at dksX11_line_2 15 rfl rfl)
theorem dX11_line_69 : decode cX11_line 69 = .ok (.invokevirtual 97, 3) := dk_182 0 97 (dk_at dksX11_line_2 17 rfl rfl)
theorem dX11_line_72 : decode cX11_line 72 = .ok (.ifCond .eq 33, 3) := dk_153 0 33 (dk_at dksX11_line_2 20 rfl rfl)
theorem dX11_line_75 : decode cX11_line 75 = .ok (.iconst 1, 1) := dk_4 (dk_at dksX11_line_2 23 rfl rfl)
theorem dX11_line_76 : decode cX11_line 76 = .ok (.istore_n 2, 1) := dk_61 (dk_at dksX11_line_3 0 rfl rfl)
theorem dX11_line_77 : decode cX11_line 77 = .ok (.goto 28, 3) := dk_167 0 28 (dk_at dksX11_line_3 1 rfl rfl)
theorem dX11_line_80 : decode cX11_line 80 = .ok (.aload_n 1, 1) := dk_43 (dk_at dksX11_line_3 4 rfl rfl)
theorem dX11_line_81 : decode cX11_line 81 = .ok (.ldc 193, 2) := dk_18 193 (dk_at dksX11_line_3 5 rfl rfl)
theorem dX11_line_83 : decode cX11_line 83 = .ok (.invokevirtual 97, 3) := dk_182 0 97 (dk_at dksX11_line_3 7 rfl rfl)
theorem dX11_line_86 : decode cX11_line 86 = .ok (.ifCond .eq 19, 3) := dk_153 0 19 (dk_at dksX11_line_3 10 rfl rfl)
theorem dX11_line_89 : decode cX11_line 89 = .ok (.iconst 2, 1) := dk_5 (dk_at dksX11_line_3 13 rfl rfl)
theorem dX11_line_90 : decode cX11_line 90 = .ok (.istore_n 2, 1) := dk_61 (dk_at dksX11_line_3 14 rfl rfl)
theorem dX11_line_91 : decode cX11_line 91 = .ok (.goto 14, 3) := dk_167 0 14 (dk_at dksX11_line_3 15 rfl rfl)
theorem dX11_line_94 : decode cX11_line 94 = .ok (.aload_n 1, 1) := dk_43 (dk_at dksX11_line_3 18 rfl rfl)
theorem dX11_line_95 : decode cX11_line 95 = .ok (.ldc 195, 2) := dk_18 195 (dk_at dksX11_line_3 19 rfl rfl)
theorem dX11_line_97 : decode cX11_line 97 = .ok (.invokevirtual 97, 3) := dk_182 0 97 (dk_at dksX11_line_3 21 rfl rfl)
theorem dX11_line_100 : decode cX11_line 100 = .ok (.ifCond .eq 5, 3) := dk_153 0 5 (dk_at dksX11_line_4 0 rfl rfl)
theorem dX11_line_103 : decode cX11_line 103 = .ok (.iconst 3, 1) := dk_6 (dk_at dksX11_line_4 3 rfl rfl)
theorem dX11_line_104 : decode cX11_line 104 = .ok (.istore_n 2, 1) := dk_61 (dk_at dksX11_line_4 4 rfl rfl)
theorem dX11_line_105 : decode cX11_line 105 = .ok (.iload_n 2, 1) := dk_28 (dk_at dksX11_line_4 5 rfl rfl)
theorem dX11_line_106 : decode cX11_line 106 = .ok (.tableswitch 142 0 3 #[30, 50, 70, 89], 30) := by decide +kernel
theorem dX11_line_136 : decode cX11_line 136 = .ok (.aload_n 0, 1) := dk_42 (dk_at dksX11_line_6 0 rfl rfl)
theorem dX11_line_137 : decode cX11_line 137 = .ok (.aload_n 0, 1) := dk_42 (dk_at dksX11_line_6 1 rfl rfl)
theorem dX11_line_138 : decode cX11_line 138 = .ok (.getfield 20, 3) := dk_180 0 20 (dk_at dksX11_line_6 2 rfl rfl)
theorem dX11_line_141 : decode cX11_line 141 = .ok (.getfield 171, 3) := dk_180 0 171 (dk_at dksX11_line_6 5 rfl rfl)
theorem dX11_line_144 : decode cX11_line 144 = .ok (.bipush 6, 2) := dk_16 6 (dk_at dksX11_line_6 8 rfl rfl)
theorem dX11_line_146 : decode cX11_line 146 = .ok (.invokevirtual 197, 3) := dk_182 0 197 (dk_at dksX11_line_6 10 rfl rfl)
theorem dX11_line_149 : decode cX11_line 149 = .ok (.aload_n 0, 1) := dk_42 (dk_at dksX11_line_6 13 rfl rfl)
theorem dX11_line_150 : decode cX11_line 150 = .ok (.invokevirtual 200, 3) := dk_182 0 200 (dk_at dksX11_line_6 14 rfl rfl)
theorem dX11_line_153 : decode cX11_line 153 = .ok (.goto 101, 3) := dk_167 0 101 (dk_at dksX11_line_6 17 rfl rfl)
theorem dX11_line_156 : decode cX11_line 156 = .ok (.aload_n 0, 1) := dk_42 (dk_at dksX11_line_6 20 rfl rfl)
theorem dX11_line_157 : decode cX11_line 157 = .ok (.aload_n 0, 1) := dk_42 (dk_at dksX11_line_6 21 rfl rfl)
theorem dX11_line_158 : decode cX11_line 158 = .ok (.getfield 20, 3) := dk_180 0 20 (dk_at dksX11_line_7 0 rfl rfl)
theorem dX11_line_161 : decode cX11_line 161 = .ok (.getfield 202, 3) := dk_180 0 202 (dk_at dksX11_line_7 3 rfl rfl)
theorem dX11_line_164 : decode cX11_line 164 = .ok (.bipush 20, 2) := dk_16 20 (dk_at dksX11_line_7 6 rfl rfl)
theorem dX11_line_166 : decode cX11_line 166 = .ok (.invokevirtual 197, 3) := dk_182 0 197 (dk_at dksX11_line_7 8 rfl rfl)
theorem dX11_line_169 : decode cX11_line 169 = .ok (.aload_n 0, 1) := dk_42 (dk_at dksX11_line_7 11 rfl rfl)
theorem dX11_line_170 : decode cX11_line 170 = .ok (.invokevirtual 205, 3) := dk_182 0 205 (dk_at dksX11_line_7 12 rfl rfl)
theorem dX11_line_173 : decode cX11_line 173 = .ok (.goto 81, 3) := dk_167 0 81 (dk_at dksX11_line_7 15 rfl rfl)
theorem dX11_line_176 : decode cX11_line 176 = .ok (.aload_n 0, 1) := dk_42 (dk_at dksX11_line_7 18 rfl rfl)
theorem dX11_line_177 : decode cX11_line 177 = .ok (.aload_n 0, 1) := dk_42 (dk_at dksX11_line_7 19 rfl rfl)
theorem dX11_line_178 : decode cX11_line 178 = .ok (.getfield 29, 3) := dk_180 0 29 (dk_at dksX11_line_7 20 rfl rfl)
theorem dX11_line_181 : decode cX11_line 181 = .ok (.getfield 207, 3) := dk_180 0 207 (dk_at dksX11_line_8 0 rfl rfl)
theorem dX11_line_184 : decode cX11_line 184 = .ok (.iconst 5, 1) := dk_8 (dk_at dksX11_line_8 3 rfl rfl)
theorem dX11_line_185 : decode cX11_line 185 = .ok (.invokevirtual 197, 3) := dk_182 0 197 (dk_at dksX11_line_8 4 rfl rfl)
theorem dX11_line_188 : decode cX11_line 188 = .ok (.aload_n 0, 1) := dk_42 (dk_at dksX11_line_8 7 rfl rfl)
theorem dX11_line_189 : decode cX11_line 189 = .ok (.invokevirtual 210, 3) := dk_182 0 210 (dk_at dksX11_line_8 8 rfl rfl)
theorem dX11_line_192 : decode cX11_line 192 = .ok (.goto 62, 3) := dk_167 0 62 (dk_at dksX11_line_8 11 rfl rfl)
theorem dX11_line_195 : decode cX11_line 195 = .ok (.aload_n 0, 1) := dk_42 (dk_at dksX11_line_8 14 rfl rfl)
theorem dX11_line_196 : decode cX11_line 196 = .ok (.aload_n 0, 1) := dk_42 (dk_at dksX11_line_8 15 rfl rfl)
theorem dX11_line_197 : decode cX11_line 197 = .ok (.getfield 20, 3) := dk_180 0 20 (dk_at dksX11_line_8 16 rfl rfl)
theorem dX11_line_200 : decode cX11_line 200 = .ok (.getfield 212, 3) := dk_180 0 212 (dk_at dksX11_line_8 19 rfl rfl)
theorem dX11_line_203 : decode cX11_line 203 = .ok (.iconst 4, 1) := dk_7 (dk_at dksX11_line_8 22 rfl rfl)
theorem dX11_line_204 : decode cX11_line 204 = .ok (.invokevirtual 197, 3) := dk_182 0 197 (dk_at dksX11_line_9 0 rfl rfl)
theorem dX11_line_207 : decode cX11_line 207 = .ok (.aload_n 0, 1) := dk_42 (dk_at dksX11_line_9 3 rfl rfl)
theorem dX11_line_208 : decode cX11_line 208 = .ok (.iconst 0, 1) := dk_3 (dk_at dksX11_line_9 4 rfl rfl)
theorem dX11_line_209 : decode cX11_line 209 = .ok (.sipush 2000, 3) := dk_17 7 208 (dk_at dksX11_line_9 5 rfl rfl)
theorem dX11_line_212 : decode cX11_line 212 = .ok (.invokevirtual 118, 3) := dk_182 0 118 (dk_at dksX11_line_9 8 rfl rfl)
theorem dX11_line_215 : decode cX11_line 215 = .ok (.istore_n 3, 1) := dk_62 (dk_at dksX11_line_9 11 rfl rfl)
theorem dX11_line_216 : decode cX11_line 216 = .ok (.aload_n 0, 1) := dk_42 (dk_at dksX11_line_9 12 rfl rfl)
theorem dX11_line_217 : decode cX11_line 217 = .ok (.getfield 20, 3) := dk_180 0 20 (dk_at dksX11_line_9 13 rfl rfl)
theorem dX11_line_220 : decode cX11_line 220 = .ok (.getfield 212, 3) := dk_180 0 212 (dk_at dksX11_line_9 16 rfl rfl)
theorem dX11_line_223 : decode cX11_line 223 = .ok (.new 215, 3) := dk_187 0 215 (dk_at dksX11_line_9 19 rfl rfl)
theorem dX11_line_226 : decode cX11_line 226 = .ok (.dup, 1) := dk_89 (dk_at dksX11_line_9 22 rfl rfl)
theorem dX11_line_227 : decode cX11_line 227 = .ok (.iload_n 3, 1) := dk_29 (dk_at dksX11_line_9 23 rfl rfl)
theorem dX11_line_228 : decode cX11_line 228 = .ok (.aload_n 0, 1) := dk_42 (dk_at dksX11_line_10 0 rfl rfl)
theorem dX11_line_229 : decode cX11_line 229 = .ok (.iload_n 3, 1) := dk_29 (dk_at dksX11_line_10 1 rfl rfl)
theorem dX11_line_230 : decode cX11_line 230 = .ok (.sipush 2000, 3) := dk_17 7 208 (dk_at dksX11_line_10 2 rfl rfl)
theorem dX11_line_233 : decode cX11_line 233 = .ok (.invokevirtual 118, 3) := dk_182 0 118 (dk_at dksX11_line_10 5 rfl rfl)
theorem dX11_line_236 : decode cX11_line 236 = .ok (.invokespecial 217, 3) := dk_183 0 217 (dk_at dksX11_line_10 8 rfl rfl)
theorem dX11_line_239 : decode cX11_line 239 = .ok (.invokeinterface 218 2, 5) := by decide +kernel
theorem dX11_line_244 : decode cX11_line 244 = .ok (.pop, 1) := dk_87 (dk_at dksX11_line_10 16 rfl rfl)
theorem dX11_line_245 : decode cX11_line 245 = .ok (.goto 9, 3) := dk_167 0 9 (dk_at dksX11_line_10 17 rfl rfl)
theorem dX11_line_248 : decode cX11_line 248 = .ok (.aload_n 0, 1) := dk_42 (dk_at dksX11_line_10 20 rfl rfl)
theorem dX11_line_249 : decode cX11_line 249 = .ok (.iconst 1, 1) := dk_4 (dk_at dksX11_line_10 21 rfl rfl)
theorem dX11_line_250 : decode cX11_line 250 = .ok (.invokevirtual 110, 3) := dk_182 0 110 (dk_at dksX11_line_11 0 rfl rfl)
theorem dX11_line_253 : decode cX11_line 253 = .ok (.athrow, 1) := dk_191 (dk_at dksX11_line_11 3 rfl rfl)
theorem dX11_line_254 : decode cX11_line 254 = .ok (.return_, 1) := dk_177 (dk_at dksX11_line_11 4 rfl rfl)
abbrev cX11_begin : ByteArray := prog_8_method_11_code
def yX11_begin : MethodName := ⟨RX11, "begin", "(Ljava/util/List;I)V"⟩
def dkwX11_begin_0 : List UInt8 := [43, 185, 0, 182, 1, 0, 28, 160, 0, 9, 42, 7, 182, 0, 110, 191, 42, 182, 0, 103, 177]
abbrev dktX11_begin_0 : List UInt8 := dkwX11_begin_0 ++ []
theorem dksX11_begin_0 : cX11_begin.data.toList.drop 0 = dktX11_begin_0 := by decide +kernel
theorem dX11_begin_0 : decode cX11_begin 0 = .ok (.aload_n 1, 1) := dk_43 (dk_at dksX11_begin_0 0 rfl rfl)
theorem dX11_begin_1 : decode cX11_begin 1 = .ok (.invokeinterface 182 1, 5) := by decide +kernel
theorem dX11_begin_6 : decode cX11_begin 6 = .ok (.iload_n 2, 1) := dk_28 (dk_at dksX11_begin_0 6 rfl rfl)
theorem dX11_begin_7 : decode cX11_begin 7 = .ok (.if_icmp .ne 9, 3) := dk_160 0 9 (dk_at dksX11_begin_0 7 rfl rfl)
theorem dX11_begin_10 : decode cX11_begin 10 = .ok (.aload_n 0, 1) := dk_42 (dk_at dksX11_begin_0 10 rfl rfl)
theorem dX11_begin_11 : decode cX11_begin 11 = .ok (.iconst 4, 1) := dk_7 (dk_at dksX11_begin_0 11 rfl rfl)
theorem dX11_begin_12 : decode cX11_begin 12 = .ok (.invokevirtual 110, 3) := dk_182 0 110 (dk_at dksX11_begin_0 12 rfl rfl)
theorem dX11_begin_15 : decode cX11_begin 15 = .ok (.athrow, 1) := dk_191 (dk_at dksX11_begin_0 15 rfl rfl)
theorem dX11_begin_16 : decode cX11_begin 16 = .ok (.aload_n 0, 1) := dk_42 (dk_at dksX11_begin_0 16 rfl rfl)
theorem dX11_begin_17 : decode cX11_begin 17 = .ok (.invokevirtual 103, 3) := dk_182 0 103 (dk_at dksX11_begin_0 17 rfl rfl)
theorem dX11_begin_20 : decode cX11_begin 20 = .ok (.return_, 1) := dk_177 (dk_at dksX11_begin_0 20 rfl rfl)
abbrev cX11_proposal : ByteArray := prog_8_method_15_code
def yX11_proposal : MethodName := ⟨RX11, "proposal", "()V"⟩
def dkwX11_proposal_2 : List UInt8 := [17, 39, 15, 182, 0, 118, 183, 0, 241, 185, 0, 218, 2, 0, 87, 177]
abbrev dktX11_proposal_2 : List UInt8 := dkwX11_proposal_2 ++ []
def dkwX11_proposal_1 : List UInt8 := [180, 0, 11, 76, 42, 182, 0, 103, 42, 180, 0, 20, 180, 0, 171, 187, 0, 229, 89, 43, 42, 3]
abbrev dktX11_proposal_1 : List UInt8 := dkwX11_proposal_1 ++ dktX11_proposal_2
def dkwX11_proposal_0 : List UInt8 := [42, 182, 0, 234, 42, 42, 180, 0, 11, 182, 0, 237, 2, 159, 0, 9, 42, 6, 182, 0, 110, 191, 42]
abbrev dktX11_proposal_0 : List UInt8 := dkwX11_proposal_0 ++ dktX11_proposal_1
theorem dksX11_proposal_0 : cX11_proposal.data.toList.drop 0 = dktX11_proposal_0 := by decide +kernel
theorem dksX11_proposal_1 : cX11_proposal.data.toList.drop 23 = dktX11_proposal_1 := dk_seg dksX11_proposal_0 23 rfl rfl
theorem dksX11_proposal_2 : cX11_proposal.data.toList.drop 45 = dktX11_proposal_2 := dk_seg dksX11_proposal_1 22 rfl rfl
theorem dX11_proposal_0 : decode cX11_proposal 0 = .ok (.aload_n 0, 1) := dk_42 (dk_at dksX11_proposal_0 0 rfl rfl)
theorem dX11_proposal_1 : decode cX11_proposal 1 = .ok (.invokevirtual 234, 3) := dk_182 0 234 (dk_at dksX11_proposal_0 1 rfl rfl)
theorem dX11_proposal_4 : decode cX11_proposal 4 = .ok (.aload_n 0, 1) := dk_42 (dk_at dksX11_proposal_0 4 rfl rfl)
theorem dX11_proposal_5 : decode cX11_proposal 5 = .ok (.aload_n 0, 1) := dk_42 (dk_at dksX11_proposal_0 5 rfl rfl)
theorem dX11_proposal_6 : decode cX11_proposal 6 = .ok (.getfield 11, 3) := dk_180 0 11 (dk_at dksX11_proposal_0 6 rfl rfl)
theorem dX11_proposal_9 : decode cX11_proposal 9 = .ok (.invokevirtual 237, 3) := dk_182 0 237 (dk_at dksX11_proposal_0 9 rfl rfl)
theorem dX11_proposal_12 : decode cX11_proposal 12 = .ok (.iconst (-1), 1) := dk_2 (dk_at dksX11_proposal_0 12 rfl rfl)
theorem dX11_proposal_13 : decode cX11_proposal 13 = .ok (.if_icmp .eq 9, 3) := dk_159 0 9 (dk_at dksX11_proposal_0 13 rfl rfl)
theorem dX11_proposal_16 : decode cX11_proposal 16 = .ok (.aload_n 0, 1) := dk_42 (dk_at dksX11_proposal_0 16 rfl rfl)
theorem dX11_proposal_17 : decode cX11_proposal 17 = .ok (.iconst 3, 1) := dk_6 (dk_at dksX11_proposal_0 17 rfl rfl)
theorem dX11_proposal_18 : decode cX11_proposal 18 = .ok (.invokevirtual 110, 3) := dk_182 0 110 (dk_at dksX11_proposal_0 18 rfl rfl)
theorem dX11_proposal_21 : decode cX11_proposal 21 = .ok (.athrow, 1) := dk_191 (dk_at dksX11_proposal_0 21 rfl rfl)
theorem dX11_proposal_22 : decode cX11_proposal 22 = .ok (.aload_n 0, 1) := dk_42 (dk_at dksX11_proposal_0 22 rfl rfl)
theorem dX11_proposal_23 : decode cX11_proposal 23 = .ok (.getfield 11, 3) := dk_180 0 11 (dk_at dksX11_proposal_1 0 rfl rfl)
theorem dX11_proposal_26 : decode cX11_proposal 26 = .ok (.astore_n 1, 1) := dk_76 (dk_at dksX11_proposal_1 3 rfl rfl)
theorem dX11_proposal_27 : decode cX11_proposal 27 = .ok (.aload_n 0, 1) := dk_42 (dk_at dksX11_proposal_1 4 rfl rfl)
theorem dX11_proposal_28 : decode cX11_proposal 28 = .ok (.invokevirtual 103, 3) := dk_182 0 103 (dk_at dksX11_proposal_1 5 rfl rfl)
theorem dX11_proposal_31 : decode cX11_proposal 31 = .ok (.aload_n 0, 1) := dk_42 (dk_at dksX11_proposal_1 8 rfl rfl)
theorem dX11_proposal_32 : decode cX11_proposal 32 = .ok (.getfield 20, 3) := dk_180 0 20 (dk_at dksX11_proposal_1 9 rfl rfl)
theorem dX11_proposal_35 : decode cX11_proposal 35 = .ok (.getfield 171, 3) := dk_180 0 171 (dk_at dksX11_proposal_1 12 rfl rfl)
theorem dX11_proposal_38 : decode cX11_proposal 38 = .ok (.new 229, 3) := dk_187 0 229 (dk_at dksX11_proposal_1 15 rfl rfl)
theorem dX11_proposal_41 : decode cX11_proposal 41 = .ok (.dup, 1) := dk_89 (dk_at dksX11_proposal_1 18 rfl rfl)
theorem dX11_proposal_42 : decode cX11_proposal 42 = .ok (.aload_n 1, 1) := dk_43 (dk_at dksX11_proposal_1 19 rfl rfl)
theorem dX11_proposal_43 : decode cX11_proposal 43 = .ok (.aload_n 0, 1) := dk_42 (dk_at dksX11_proposal_1 20 rfl rfl)
theorem dX11_proposal_44 : decode cX11_proposal 44 = .ok (.iconst 0, 1) := dk_3 (dk_at dksX11_proposal_1 21 rfl rfl)
theorem dX11_proposal_45 : decode cX11_proposal 45 = .ok (.sipush 9999, 3) := dk_17 39 15 (dk_at dksX11_proposal_2 0 rfl rfl)
theorem dX11_proposal_48 : decode cX11_proposal 48 = .ok (.invokevirtual 118, 3) := dk_182 0 118 (dk_at dksX11_proposal_2 3 rfl rfl)
theorem dX11_proposal_51 : decode cX11_proposal 51 = .ok (.invokespecial 241, 3) := dk_183 0 241 (dk_at dksX11_proposal_2 6 rfl rfl)
theorem dX11_proposal_54 : decode cX11_proposal 54 = .ok (.invokeinterface 218 2, 5) := by decide +kernel
theorem dX11_proposal_59 : decode cX11_proposal 59 = .ok (.pop, 1) := dk_87 (dk_at dksX11_proposal_2 14 rfl rfl)
theorem dX11_proposal_60 : decode cX11_proposal 60 = .ok (.return_, 1) := dk_177 (dk_at dksX11_proposal_2 15 rfl rfl)
abbrev cX11_checkWord : ByteArray := prog_8_method_13_code
def yX11_checkWord : MethodName := ⟨RX11, "checkWord", "()V"⟩
def dkwX11_checkWord_1 : List UInt8 := [20, 0, 53, 184, 0, 55, 154, 0, 9, 42, 4, 182, 0, 110, 191, 177]
abbrev dktX11_checkWord_1 : List UInt8 := dkwX11_checkWord_1 ++ []
def dkwX11_checkWord_0 : List UInt8 := [42, 180, 0, 11, 182, 0, 167, 154, 0, 24, 42, 180, 0, 11, 3, 182, 0, 221, 133, 20, 0, 51]
abbrev dktX11_checkWord_0 : List UInt8 := dkwX11_checkWord_0 ++ dktX11_checkWord_1
theorem dksX11_checkWord_0 : cX11_checkWord.data.toList.drop 0 = dktX11_checkWord_0 := by decide +kernel
theorem dksX11_checkWord_1 : cX11_checkWord.data.toList.drop 22 = dktX11_checkWord_1 := dk_seg dksX11_checkWord_0 22 rfl rfl
theorem dX11_checkWord_0 : decode cX11_checkWord 0 = .ok (.aload_n 0, 1) := dk_42 (dk_at dksX11_checkWord_0 0 rfl rfl)
theorem dX11_checkWord_1 : decode cX11_checkWord 1 = .ok (.getfield 11, 3) := dk_180 0 11 (dk_at dksX11_checkWord_0 1 rfl rfl)
theorem dX11_checkWord_4 : decode cX11_checkWord 4 = .ok (.invokevirtual 167, 3) := dk_182 0 167 (dk_at dksX11_checkWord_0 4 rfl rfl)
theorem dX11_checkWord_7 : decode cX11_checkWord 7 = .ok (.ifCond .ne 24, 3) := dk_154 0 24 (dk_at dksX11_checkWord_0 7 rfl rfl)
theorem dX11_checkWord_10 : decode cX11_checkWord 10 = .ok (.aload_n 0, 1) := dk_42 (dk_at dksX11_checkWord_0 10 rfl rfl)
theorem dX11_checkWord_11 : decode cX11_checkWord 11 = .ok (.getfield 11, 3) := dk_180 0 11 (dk_at dksX11_checkWord_0 11 rfl rfl)
theorem dX11_checkWord_14 : decode cX11_checkWord 14 = .ok (.iconst 0, 1) := dk_3 (dk_at dksX11_checkWord_0 14 rfl rfl)
theorem dX11_checkWord_15 : decode cX11_checkWord 15 = .ok (.invokevirtual 221, 3) := dk_182 0 221 (dk_at dksX11_checkWord_0 15 rfl rfl)
theorem dX11_checkWord_18 : decode cX11_checkWord 18 = .ok (.i2l, 1) := dk_133 (dk_at dksX11_checkWord_0 18 rfl rfl)
theorem dX11_checkWord_19 : decode cX11_checkWord 19 = .ok (.ldc2_w 51, 3) := dk_20 0 51 (dk_at dksX11_checkWord_0 19 rfl rfl)
theorem dX11_checkWord_22 : decode cX11_checkWord 22 = .ok (.ldc2_w 53, 3) := dk_20 0 53 (dk_at dksX11_checkWord_1 0 rfl rfl)
theorem dX11_checkWord_25 : decode cX11_checkWord 25 = .ok (.invokestatic 55, 3) := dk_184 0 55 (dk_at dksX11_checkWord_1 3 rfl rfl)
theorem dX11_checkWord_28 : decode cX11_checkWord 28 = .ok (.ifCond .ne 9, 3) := dk_154 0 9 (dk_at dksX11_checkWord_1 6 rfl rfl)
theorem dX11_checkWord_31 : decode cX11_checkWord 31 = .ok (.aload_n 0, 1) := dk_42 (dk_at dksX11_checkWord_1 9 rfl rfl)
theorem dX11_checkWord_32 : decode cX11_checkWord 32 = .ok (.iconst 1, 1) := dk_4 (dk_at dksX11_checkWord_1 10 rfl rfl)
theorem dX11_checkWord_33 : decode cX11_checkWord 33 = .ok (.invokevirtual 110, 3) := dk_182 0 110 (dk_at dksX11_checkWord_1 11 rfl rfl)
theorem dX11_checkWord_36 : decode cX11_checkWord 36 = .ok (.athrow, 1) := dk_191 (dk_at dksX11_checkWord_1 14 rfl rfl)
theorem dX11_checkWord_37 : decode cX11_checkWord 37 = .ok (.return_, 1) := dk_177 (dk_at dksX11_checkWord_1 15 rfl rfl)
abbrev cX11_named : ByteArray := prog_8_method_14_code
def yX11_named : MethodName := ⟨RX11, "named", "(Ljava/lang/CharSequence;)I"⟩
def dkwX11_named_2 : List UInt8 := [132, 2, 1, 167, 255, 209, 2, 172]
abbrev dktX11_named_2 : List UInt8 := dkwX11_named_2 ++ []
def dkwX11_named_1 : List UInt8 := [180, 0, 171, 28, 185, 0, 225, 2, 0, 192, 0, 229, 180, 0, 231, 43, 182, 0, 97, 153, 0, 5, 28, 172]
abbrev dktX11_named_1 : List UInt8 := dkwX11_named_1 ++ dktX11_named_2
def dkwX11_named_0 : List UInt8 := [3, 61, 28, 42, 180, 0, 20, 180, 0, 171, 185, 0, 182, 1, 0, 162, 0, 37, 42, 180, 0, 20]
abbrev dktX11_named_0 : List UInt8 := dkwX11_named_0 ++ dktX11_named_1
theorem dksX11_named_0 : cX11_named.data.toList.drop 0 = dktX11_named_0 := by decide +kernel
theorem dksX11_named_1 : cX11_named.data.toList.drop 22 = dktX11_named_1 := dk_seg dksX11_named_0 22 rfl rfl
theorem dksX11_named_2 : cX11_named.data.toList.drop 46 = dktX11_named_2 := dk_seg dksX11_named_1 24 rfl rfl
theorem dX11_named_0 : decode cX11_named 0 = .ok (.iconst 0, 1) := dk_3 (dk_at dksX11_named_0 0 rfl rfl)
theorem dX11_named_1 : decode cX11_named 1 = .ok (.istore_n 2, 1) := dk_61 (dk_at dksX11_named_0 1 rfl rfl)
theorem dX11_named_2 : decode cX11_named 2 = .ok (.iload_n 2, 1) := dk_28 (dk_at dksX11_named_0 2 rfl rfl)
theorem dX11_named_3 : decode cX11_named 3 = .ok (.aload_n 0, 1) := dk_42 (dk_at dksX11_named_0 3 rfl rfl)
theorem dX11_named_4 : decode cX11_named 4 = .ok (.getfield 20, 3) := dk_180 0 20 (dk_at dksX11_named_0 4 rfl rfl)
theorem dX11_named_7 : decode cX11_named 7 = .ok (.getfield 171, 3) := dk_180 0 171 (dk_at dksX11_named_0 7 rfl rfl)
theorem dX11_named_10 : decode cX11_named 10 = .ok (.invokeinterface 182 1, 5) := by decide +kernel
theorem dX11_named_15 : decode cX11_named 15 = .ok (.if_icmp .ge 37, 3) := dk_162 0 37 (dk_at dksX11_named_0 15 rfl rfl)
theorem dX11_named_18 : decode cX11_named 18 = .ok (.aload_n 0, 1) := dk_42 (dk_at dksX11_named_0 18 rfl rfl)
theorem dX11_named_19 : decode cX11_named 19 = .ok (.getfield 20, 3) := dk_180 0 20 (dk_at dksX11_named_0 19 rfl rfl)
theorem dX11_named_22 : decode cX11_named 22 = .ok (.getfield 171, 3) := dk_180 0 171 (dk_at dksX11_named_1 0 rfl rfl)
theorem dX11_named_25 : decode cX11_named 25 = .ok (.iload_n 2, 1) := dk_28 (dk_at dksX11_named_1 3 rfl rfl)
theorem dX11_named_26 : decode cX11_named 26 = .ok (.invokeinterface 225 2, 5) := by decide +kernel
theorem dX11_named_31 : decode cX11_named 31 = .ok (.checkcast 229, 3) := dk_192 0 229 (dk_at dksX11_named_1 9 rfl rfl)
theorem dX11_named_34 : decode cX11_named 34 = .ok (.getfield 231, 3) := dk_180 0 231 (dk_at dksX11_named_1 12 rfl rfl)
theorem dX11_named_37 : decode cX11_named 37 = .ok (.aload_n 1, 1) := dk_43 (dk_at dksX11_named_1 15 rfl rfl)
theorem dX11_named_38 : decode cX11_named 38 = .ok (.invokevirtual 97, 3) := dk_182 0 97 (dk_at dksX11_named_1 16 rfl rfl)
theorem dX11_named_41 : decode cX11_named 41 = .ok (.ifCond .eq 5, 3) := dk_153 0 5 (dk_at dksX11_named_1 19 rfl rfl)
theorem dX11_named_44 : decode cX11_named 44 = .ok (.iload_n 2, 1) := dk_28 (dk_at dksX11_named_1 22 rfl rfl)
theorem dX11_named_45 : decode cX11_named 45 = .ok (.ireturn, 1) := dk_172 (dk_at dksX11_named_1 23 rfl rfl)
theorem dX11_named_46 : decode cX11_named 46 = .ok (.iinc 2 1, 3) := dk_132 2 1 (dk_at dksX11_named_2 0 rfl rfl)
theorem dX11_named_49 : decode cX11_named 49 = .ok (.goto (-47), 3) := dk_167 255 209 (dk_at dksX11_named_2 3 rfl rfl)
theorem dX11_named_52 : decode cX11_named 52 = .ok (.iconst (-1), 1) := dk_2 (dk_at dksX11_named_2 6 rfl rfl)
theorem dX11_named_53 : decode cX11_named 53 = .ok (.ireturn, 1) := dk_172 (dk_at dksX11_named_2 7 rfl rfl)
abbrev cX11_visit : ByteArray := prog_8_method_17_code
def yX11_visit : MethodName := ⟨RX11, "visit", "()V"⟩
def dkwX11_visit_4 : List UInt8 := [185, 0, 218, 2, 0, 87, 177]
abbrev dktX11_visit_4 : List UInt8 := dkwX11_visit_4 ++ []
def dkwX11_visit_3 : List UInt8 := [21, 4, 21, 5, 21, 6, 21, 7, 42, 21, 7, 17, 7, 208, 182, 0, 118, 183, 0, 252]
abbrev dktX11_visit_3 : List UInt8 := dkwX11_visit_3 ++ dktX11_visit_4
def dkwX11_visit_2 : List UInt8 := [3, 17, 7, 208, 182, 0, 118, 54, 7, 42, 180, 0, 20, 180, 0, 202, 187, 0, 250, 89, 27, 28, 29]
abbrev dktX11_visit_2 : List UInt8 := dkwX11_visit_2 ++ dktX11_visit_3
def dkwX11_visit_1 : List UInt8 := [182, 0, 118, 54, 4, 42, 4, 16, 9, 182, 0, 118, 54, 5, 42, 3, 16, 99, 182, 0, 118, 54, 6, 42]
abbrev dktX11_visit_1 : List UInt8 := dkwX11_visit_1 ++ dktX11_visit_2
def dkwX11_visit_0 : List UInt8 := [42, 182, 0, 244, 60, 42, 3, 17, 1, 103, 182, 0, 118, 61, 42, 182, 0, 247, 62, 42, 4, 17, 1, 44]
abbrev dktX11_visit_0 : List UInt8 := dkwX11_visit_0 ++ dktX11_visit_1
theorem dksX11_visit_0 : cX11_visit.data.toList.drop 0 = dktX11_visit_0 := by decide +kernel
theorem dksX11_visit_1 : cX11_visit.data.toList.drop 24 = dktX11_visit_1 := dk_seg dksX11_visit_0 24 rfl rfl
theorem dksX11_visit_2 : cX11_visit.data.toList.drop 48 = dktX11_visit_2 := dk_seg dksX11_visit_1 24 rfl rfl
theorem dksX11_visit_3 : cX11_visit.data.toList.drop 71 = dktX11_visit_3 := dk_seg dksX11_visit_2 23 rfl rfl
theorem dksX11_visit_4 : cX11_visit.data.toList.drop 91 = dktX11_visit_4 := dk_seg dksX11_visit_3 20 rfl rfl
theorem dX11_visit_0 : decode cX11_visit 0 = .ok (.aload_n 0, 1) := dk_42 (dk_at dksX11_visit_0 0 rfl rfl)
theorem dX11_visit_1 : decode cX11_visit 1 = .ok (.invokevirtual 244, 3) := dk_182 0 244 (dk_at dksX11_visit_0 1 rfl rfl)
theorem dX11_visit_4 : decode cX11_visit 4 = .ok (.istore_n 1, 1) := dk_60 (dk_at dksX11_visit_0 4 rfl rfl)
theorem dX11_visit_5 : decode cX11_visit 5 = .ok (.aload_n 0, 1) := dk_42 (dk_at dksX11_visit_0 5 rfl rfl)
theorem dX11_visit_6 : decode cX11_visit 6 = .ok (.iconst 0, 1) := dk_3 (dk_at dksX11_visit_0 6 rfl rfl)
theorem dX11_visit_7 : decode cX11_visit 7 = .ok (.sipush 359, 3) := dk_17 1 103 (dk_at dksX11_visit_0 7 rfl rfl)
theorem dX11_visit_10 : decode cX11_visit 10 = .ok (.invokevirtual 118, 3) := dk_182 0 118 (dk_at dksX11_visit_0 10 rfl rfl)
theorem dX11_visit_13 : decode cX11_visit 13 = .ok (.istore_n 2, 1) := dk_61 (dk_at dksX11_visit_0 13 rfl rfl)
theorem dX11_visit_14 : decode cX11_visit 14 = .ok (.aload_n 0, 1) := dk_42 (dk_at dksX11_visit_0 14 rfl rfl)
theorem dX11_visit_15 : decode cX11_visit 15 = .ok (.invokevirtual 247, 3) := dk_182 0 247 (dk_at dksX11_visit_0 15 rfl rfl)
theorem dX11_visit_18 : decode cX11_visit 18 = .ok (.istore_n 3, 1) := dk_62 (dk_at dksX11_visit_0 18 rfl rfl)
theorem dX11_visit_19 : decode cX11_visit 19 = .ok (.aload_n 0, 1) := dk_42 (dk_at dksX11_visit_0 19 rfl rfl)
theorem dX11_visit_20 : decode cX11_visit 20 = .ok (.iconst 1, 1) := dk_4 (dk_at dksX11_visit_0 20 rfl rfl)
theorem dX11_visit_21 : decode cX11_visit 21 = .ok (.sipush 300, 3) := dk_17 1 44 (dk_at dksX11_visit_0 21 rfl rfl)
theorem dX11_visit_24 : decode cX11_visit 24 = .ok (.invokevirtual 118, 3) := dk_182 0 118 (dk_at dksX11_visit_1 0 rfl rfl)
theorem dX11_visit_27 : decode cX11_visit 27 = .ok (.istore 4, 2) := dk_54 4 (dk_at dksX11_visit_1 3 rfl rfl)
theorem dX11_visit_29 : decode cX11_visit 29 = .ok (.aload_n 0, 1) := dk_42 (dk_at dksX11_visit_1 5 rfl rfl)
theorem dX11_visit_30 : decode cX11_visit 30 = .ok (.iconst 1, 1) := dk_4 (dk_at dksX11_visit_1 6 rfl rfl)
theorem dX11_visit_31 : decode cX11_visit 31 = .ok (.bipush 9, 2) := dk_16 9 (dk_at dksX11_visit_1 7 rfl rfl)
theorem dX11_visit_33 : decode cX11_visit 33 = .ok (.invokevirtual 118, 3) := dk_182 0 118 (dk_at dksX11_visit_1 9 rfl rfl)
theorem dX11_visit_36 : decode cX11_visit 36 = .ok (.istore 5, 2) := dk_54 5 (dk_at dksX11_visit_1 12 rfl rfl)
theorem dX11_visit_38 : decode cX11_visit 38 = .ok (.aload_n 0, 1) := dk_42 (dk_at dksX11_visit_1 14 rfl rfl)
theorem dX11_visit_39 : decode cX11_visit 39 = .ok (.iconst 0, 1) := dk_3 (dk_at dksX11_visit_1 15 rfl rfl)
theorem dX11_visit_40 : decode cX11_visit 40 = .ok (.bipush 99, 2) := dk_16 99 (dk_at dksX11_visit_1 16 rfl rfl)
theorem dX11_visit_42 : decode cX11_visit 42 = .ok (.invokevirtual 118, 3) := dk_182 0 118 (dk_at dksX11_visit_1 18 rfl rfl)
theorem dX11_visit_45 : decode cX11_visit 45 = .ok (.istore 6, 2) := dk_54 6 (dk_at dksX11_visit_1 21 rfl rfl)
theorem dX11_visit_47 : decode cX11_visit 47 = .ok (.aload_n 0, 1) := dk_42 (dk_at dksX11_visit_1 23 rfl rfl)
theorem dX11_visit_48 : decode cX11_visit 48 = .ok (.iconst 0, 1) := dk_3 (dk_at dksX11_visit_2 0 rfl rfl)
theorem dX11_visit_49 : decode cX11_visit 49 = .ok (.sipush 2000, 3) := dk_17 7 208 (dk_at dksX11_visit_2 1 rfl rfl)
theorem dX11_visit_52 : decode cX11_visit 52 = .ok (.invokevirtual 118, 3) := dk_182 0 118 (dk_at dksX11_visit_2 4 rfl rfl)
theorem dX11_visit_55 : decode cX11_visit 55 = .ok (.istore 7, 2) := dk_54 7 (dk_at dksX11_visit_2 7 rfl rfl)
theorem dX11_visit_57 : decode cX11_visit 57 = .ok (.aload_n 0, 1) := dk_42 (dk_at dksX11_visit_2 9 rfl rfl)
theorem dX11_visit_58 : decode cX11_visit 58 = .ok (.getfield 20, 3) := dk_180 0 20 (dk_at dksX11_visit_2 10 rfl rfl)
theorem dX11_visit_61 : decode cX11_visit 61 = .ok (.getfield 202, 3) := dk_180 0 202 (dk_at dksX11_visit_2 13 rfl rfl)
theorem dX11_visit_64 : decode cX11_visit 64 = .ok (.new 250, 3) := dk_187 0 250 (dk_at dksX11_visit_2 16 rfl rfl)
theorem dX11_visit_67 : decode cX11_visit 67 = .ok (.dup, 1) := dk_89 (dk_at dksX11_visit_2 19 rfl rfl)
theorem dX11_visit_68 : decode cX11_visit 68 = .ok (.iload_n 1, 1) := dk_27 (dk_at dksX11_visit_2 20 rfl rfl)
theorem dX11_visit_69 : decode cX11_visit 69 = .ok (.iload_n 2, 1) := dk_28 (dk_at dksX11_visit_2 21 rfl rfl)
theorem dX11_visit_70 : decode cX11_visit 70 = .ok (.iload_n 3, 1) := dk_29 (dk_at dksX11_visit_2 22 rfl rfl)
theorem dX11_visit_71 : decode cX11_visit 71 = .ok (.iload 4, 2) := dk_21 4 (dk_at dksX11_visit_3 0 rfl rfl)
theorem dX11_visit_73 : decode cX11_visit 73 = .ok (.iload 5, 2) := dk_21 5 (dk_at dksX11_visit_3 2 rfl rfl)
theorem dX11_visit_75 : decode cX11_visit 75 = .ok (.iload 6, 2) := dk_21 6 (dk_at dksX11_visit_3 4 rfl rfl)
theorem dX11_visit_77 : decode cX11_visit 77 = .ok (.iload 7, 2) := dk_21 7 (dk_at dksX11_visit_3 6 rfl rfl)
theorem dX11_visit_79 : decode cX11_visit 79 = .ok (.aload_n 0, 1) := dk_42 (dk_at dksX11_visit_3 8 rfl rfl)
theorem dX11_visit_80 : decode cX11_visit 80 = .ok (.iload 7, 2) := dk_21 7 (dk_at dksX11_visit_3 9 rfl rfl)
theorem dX11_visit_82 : decode cX11_visit 82 = .ok (.sipush 2000, 3) := dk_17 7 208 (dk_at dksX11_visit_3 11 rfl rfl)
theorem dX11_visit_85 : decode cX11_visit 85 = .ok (.invokevirtual 118, 3) := dk_182 0 118 (dk_at dksX11_visit_3 14 rfl rfl)
theorem dX11_visit_88 : decode cX11_visit 88 = .ok (.invokespecial 252, 3) := dk_183 0 252 (dk_at dksX11_visit_3 17 rfl rfl)
theorem dX11_visit_91 : decode cX11_visit 91 = .ok (.invokeinterface 218 2, 5) := by decide +kernel
theorem dX11_visit_96 : decode cX11_visit 96 = .ok (.pop, 1) := dk_87 (dk_at dksX11_visit_4 5 rfl rfl)
theorem dX11_visit_97 : decode cX11_visit 97 = .ok (.return_, 1) := dk_177 (dk_at dksX11_visit_4 6 rfl rfl)
abbrev cX11_earlier : ByteArray := prog_8_method_16_code
def yX11_earlier : MethodName := ⟨RX11, "earlier", "()I"⟩
def dkwX11_earlier_1 : List UInt8 := [42, 182, 0, 103, 27, 172]
abbrev dktX11_earlier_1 : List UInt8 := dkwX11_earlier_1 ++ []
def dkwX11_earlier_0 : List UInt8 := [42, 182, 0, 234, 42, 42, 180, 0, 11, 182, 0, 237, 60, 27, 2, 160, 0, 9, 42, 6, 182, 0, 110, 191]
abbrev dktX11_earlier_0 : List UInt8 := dkwX11_earlier_0 ++ dktX11_earlier_1
theorem dksX11_earlier_0 : cX11_earlier.data.toList.drop 0 = dktX11_earlier_0 := by decide +kernel
theorem dksX11_earlier_1 : cX11_earlier.data.toList.drop 24 = dktX11_earlier_1 := dk_seg dksX11_earlier_0 24 rfl rfl
theorem dX11_earlier_0 : decode cX11_earlier 0 = .ok (.aload_n 0, 1) := dk_42 (dk_at dksX11_earlier_0 0 rfl rfl)
theorem dX11_earlier_1 : decode cX11_earlier 1 = .ok (.invokevirtual 234, 3) := dk_182 0 234 (dk_at dksX11_earlier_0 1 rfl rfl)
theorem dX11_earlier_4 : decode cX11_earlier 4 = .ok (.aload_n 0, 1) := dk_42 (dk_at dksX11_earlier_0 4 rfl rfl)
theorem dX11_earlier_5 : decode cX11_earlier 5 = .ok (.aload_n 0, 1) := dk_42 (dk_at dksX11_earlier_0 5 rfl rfl)
theorem dX11_earlier_6 : decode cX11_earlier 6 = .ok (.getfield 11, 3) := dk_180 0 11 (dk_at dksX11_earlier_0 6 rfl rfl)
theorem dX11_earlier_9 : decode cX11_earlier 9 = .ok (.invokevirtual 237, 3) := dk_182 0 237 (dk_at dksX11_earlier_0 9 rfl rfl)
theorem dX11_earlier_12 : decode cX11_earlier 12 = .ok (.istore_n 1, 1) := dk_60 (dk_at dksX11_earlier_0 12 rfl rfl)
theorem dX11_earlier_13 : decode cX11_earlier 13 = .ok (.iload_n 1, 1) := dk_27 (dk_at dksX11_earlier_0 13 rfl rfl)
theorem dX11_earlier_14 : decode cX11_earlier 14 = .ok (.iconst (-1), 1) := dk_2 (dk_at dksX11_earlier_0 14 rfl rfl)
theorem dX11_earlier_15 : decode cX11_earlier 15 = .ok (.if_icmp .ne 9, 3) := dk_160 0 9 (dk_at dksX11_earlier_0 15 rfl rfl)
theorem dX11_earlier_18 : decode cX11_earlier 18 = .ok (.aload_n 0, 1) := dk_42 (dk_at dksX11_earlier_0 18 rfl rfl)
theorem dX11_earlier_19 : decode cX11_earlier 19 = .ok (.iconst 3, 1) := dk_6 (dk_at dksX11_earlier_0 19 rfl rfl)
theorem dX11_earlier_20 : decode cX11_earlier 20 = .ok (.invokevirtual 110, 3) := dk_182 0 110 (dk_at dksX11_earlier_0 20 rfl rfl)
theorem dX11_earlier_23 : decode cX11_earlier 23 = .ok (.athrow, 1) := dk_191 (dk_at dksX11_earlier_0 23 rfl rfl)
theorem dX11_earlier_24 : decode cX11_earlier 24 = .ok (.aload_n 0, 1) := dk_42 (dk_at dksX11_earlier_1 0 rfl rfl)
theorem dX11_earlier_25 : decode cX11_earlier 25 = .ok (.invokevirtual 103, 3) := dk_182 0 103 (dk_at dksX11_earlier_1 1 rfl rfl)
theorem dX11_earlier_28 : decode cX11_earlier 28 = .ok (.iload_n 1, 1) := dk_27 (dk_at dksX11_earlier_1 4 rfl rfl)
theorem dX11_earlier_29 : decode cX11_earlier 29 = .ok (.ireturn, 1) := dk_172 (dk_at dksX11_earlier_1 5 rfl rfl)
abbrev cX11_latitude : ByteArray := prog_8_method_9_code
def yX11_latitude : MethodName := ⟨RX11, "latitude", "()I"⟩
def dkwX11_latitude_1 : List UInt8 := [172]
abbrev dktX11_latitude_1 : List UInt8 := dkwX11_latitude_1 ++ []
def dkwX11_latitude_0 : List UInt8 := [42, 18, 90, 182, 0, 106, 153, 0, 7, 2, 167, 0, 4, 4, 60, 27, 42, 3, 16, 90, 182, 0, 118, 104]
abbrev dktX11_latitude_0 : List UInt8 := dkwX11_latitude_0 ++ dktX11_latitude_1
theorem dksX11_latitude_0 : cX11_latitude.data.toList.drop 0 = dktX11_latitude_0 := by decide +kernel
theorem dksX11_latitude_1 : cX11_latitude.data.toList.drop 24 = dktX11_latitude_1 := dk_seg dksX11_latitude_0 24 rfl rfl
theorem dX11_latitude_0 : decode cX11_latitude 0 = .ok (.aload_n 0, 1) := dk_42 (dk_at dksX11_latitude_0 0 rfl rfl)
theorem dX11_latitude_1 : decode cX11_latitude 1 = .ok (.ldc 90, 2) := dk_18 90 (dk_at dksX11_latitude_0 1 rfl rfl)
theorem dX11_latitude_3 : decode cX11_latitude 3 = .ok (.invokevirtual 106, 3) := dk_182 0 106 (dk_at dksX11_latitude_0 3 rfl rfl)
theorem dX11_latitude_6 : decode cX11_latitude 6 = .ok (.ifCond .eq 7, 3) := dk_153 0 7 (dk_at dksX11_latitude_0 6 rfl rfl)
theorem dX11_latitude_9 : decode cX11_latitude 9 = .ok (.iconst (-1), 1) := dk_2 (dk_at dksX11_latitude_0 9 rfl rfl)
theorem dX11_latitude_10 : decode cX11_latitude 10 = .ok (.goto 4, 3) := dk_167 0 4 (dk_at dksX11_latitude_0 10 rfl rfl)
theorem dX11_latitude_13 : decode cX11_latitude 13 = .ok (.iconst 1, 1) := dk_4 (dk_at dksX11_latitude_0 13 rfl rfl)
theorem dX11_latitude_14 : decode cX11_latitude 14 = .ok (.istore_n 1, 1) := dk_60 (dk_at dksX11_latitude_0 14 rfl rfl)
theorem dX11_latitude_15 : decode cX11_latitude 15 = .ok (.iload_n 1, 1) := dk_27 (dk_at dksX11_latitude_0 15 rfl rfl)
theorem dX11_latitude_16 : decode cX11_latitude 16 = .ok (.aload_n 0, 1) := dk_42 (dk_at dksX11_latitude_0 16 rfl rfl)
theorem dX11_latitude_17 : decode cX11_latitude 17 = .ok (.iconst 0, 1) := dk_3 (dk_at dksX11_latitude_0 17 rfl rfl)
theorem dX11_latitude_18 : decode cX11_latitude 18 = .ok (.bipush 90, 2) := dk_16 90 (dk_at dksX11_latitude_0 18 rfl rfl)
theorem dX11_latitude_20 : decode cX11_latitude 20 = .ok (.invokevirtual 118, 3) := dk_182 0 118 (dk_at dksX11_latitude_0 20 rfl rfl)
theorem dX11_latitude_23 : decode cX11_latitude 23 = .ok (.imul, 1) := dk_104 (dk_at dksX11_latitude_0 23 rfl rfl)
theorem dX11_latitude_24 : decode cX11_latitude 24 = .ok (.ireturn, 1) := dk_172 (dk_at dksX11_latitude_1 0 rfl rfl)
abbrev cX11_alert : ByteArray := prog_8_method_18_code
def yX11_alert : MethodName := ⟨RX11, "alert", "()V"⟩
def dkwX11_alert_3 : List UInt8 := [17, 3, 231, 182, 0, 118, 183, 1, 1, 185, 0, 218, 2, 0, 87, 177]
abbrev dktX11_alert_3 : List UInt8 := dkwX11_alert_3 ++ []
def dkwX11_alert_2 : List UInt8 := [42, 180, 0, 29, 180, 0, 207, 187, 0, 255, 89, 27, 28, 29, 21, 4, 21, 5, 21, 6, 42, 3]
abbrev dktX11_alert_2 : List UInt8 := dkwX11_alert_2 ++ dktX11_alert_3
def dkwX11_alert_1 : List UInt8 := [182, 0, 247, 54, 4, 42, 4, 17, 1, 44, 182, 0, 118, 54, 5, 42, 3, 16, 99, 182, 0, 118, 54, 6]
abbrev dktX11_alert_1 : List UInt8 := dkwX11_alert_1 ++ dktX11_alert_2
def dkwX11_alert_0 : List UInt8 := [42, 182, 0, 244, 60, 42, 3, 17, 7, 208, 182, 0, 118, 61, 42, 3, 17, 1, 103, 182, 0, 118, 62, 42]
abbrev dktX11_alert_0 : List UInt8 := dkwX11_alert_0 ++ dktX11_alert_1
theorem dksX11_alert_0 : cX11_alert.data.toList.drop 0 = dktX11_alert_0 := by decide +kernel
theorem dksX11_alert_1 : cX11_alert.data.toList.drop 24 = dktX11_alert_1 := dk_seg dksX11_alert_0 24 rfl rfl
theorem dksX11_alert_2 : cX11_alert.data.toList.drop 48 = dktX11_alert_2 := dk_seg dksX11_alert_1 24 rfl rfl
theorem dksX11_alert_3 : cX11_alert.data.toList.drop 70 = dktX11_alert_3 := dk_seg dksX11_alert_2 22 rfl rfl
theorem dX11_alert_0 : decode cX11_alert 0 = .ok (.aload_n 0, 1) := dk_42 (dk_at dksX11_alert_0 0 rfl rfl)
theorem dX11_alert_1 : decode cX11_alert 1 = .ok (.invokevirtual 244, 3) := dk_182 0 244 (dk_at dksX11_alert_0 1 rfl rfl)
theorem dX11_alert_4 : decode cX11_alert 4 = .ok (.istore_n 1, 1) := dk_60 (dk_at dksX11_alert_0 4 rfl rfl)
theorem dX11_alert_5 : decode cX11_alert 5 = .ok (.aload_n 0, 1) := dk_42 (dk_at dksX11_alert_0 5 rfl rfl)
theorem dX11_alert_6 : decode cX11_alert 6 = .ok (.iconst 0, 1) := dk_3 (dk_at dksX11_alert_0 6 rfl rfl)
theorem dX11_alert_7 : decode cX11_alert 7 = .ok (.sipush 2000, 3) := dk_17 7 208 (dk_at dksX11_alert_0 7 rfl rfl)
theorem dX11_alert_10 : decode cX11_alert 10 = .ok (.invokevirtual 118, 3) := dk_182 0 118 (dk_at dksX11_alert_0 10 rfl rfl)
theorem dX11_alert_13 : decode cX11_alert 13 = .ok (.istore_n 2, 1) := dk_61 (dk_at dksX11_alert_0 13 rfl rfl)
theorem dX11_alert_14 : decode cX11_alert 14 = .ok (.aload_n 0, 1) := dk_42 (dk_at dksX11_alert_0 14 rfl rfl)
theorem dX11_alert_15 : decode cX11_alert 15 = .ok (.iconst 0, 1) := dk_3 (dk_at dksX11_alert_0 15 rfl rfl)
theorem dX11_alert_16 : decode cX11_alert 16 = .ok (.sipush 359, 3) := dk_17 1 103 (dk_at dksX11_alert_0 16 rfl rfl)
theorem dX11_alert_19 : decode cX11_alert 19 = .ok (.invokevirtual 118, 3) := dk_182 0 118 (dk_at dksX11_alert_0 19 rfl rfl)
theorem dX11_alert_22 : decode cX11_alert 22 = .ok (.istore_n 3, 1) := dk_62 (dk_at dksX11_alert_0 22 rfl rfl)
theorem dX11_alert_23 : decode cX11_alert 23 = .ok (.aload_n 0, 1) := dk_42 (dk_at dksX11_alert_0 23 rfl rfl)
theorem dX11_alert_24 : decode cX11_alert 24 = .ok (.invokevirtual 247, 3) := dk_182 0 247 (dk_at dksX11_alert_1 0 rfl rfl)
theorem dX11_alert_27 : decode cX11_alert 27 = .ok (.istore 4, 2) := dk_54 4 (dk_at dksX11_alert_1 3 rfl rfl)
theorem dX11_alert_29 : decode cX11_alert 29 = .ok (.aload_n 0, 1) := dk_42 (dk_at dksX11_alert_1 5 rfl rfl)
theorem dX11_alert_30 : decode cX11_alert 30 = .ok (.iconst 1, 1) := dk_4 (dk_at dksX11_alert_1 6 rfl rfl)
theorem dX11_alert_31 : decode cX11_alert 31 = .ok (.sipush 300, 3) := dk_17 1 44 (dk_at dksX11_alert_1 7 rfl rfl)
theorem dX11_alert_34 : decode cX11_alert 34 = .ok (.invokevirtual 118, 3) := dk_182 0 118 (dk_at dksX11_alert_1 10 rfl rfl)
theorem dX11_alert_37 : decode cX11_alert 37 = .ok (.istore 5, 2) := dk_54 5 (dk_at dksX11_alert_1 13 rfl rfl)
theorem dX11_alert_39 : decode cX11_alert 39 = .ok (.aload_n 0, 1) := dk_42 (dk_at dksX11_alert_1 15 rfl rfl)
theorem dX11_alert_40 : decode cX11_alert 40 = .ok (.iconst 0, 1) := dk_3 (dk_at dksX11_alert_1 16 rfl rfl)
theorem dX11_alert_41 : decode cX11_alert 41 = .ok (.bipush 99, 2) := dk_16 99 (dk_at dksX11_alert_1 17 rfl rfl)
theorem dX11_alert_43 : decode cX11_alert 43 = .ok (.invokevirtual 118, 3) := dk_182 0 118 (dk_at dksX11_alert_1 19 rfl rfl)
theorem dX11_alert_46 : decode cX11_alert 46 = .ok (.istore 6, 2) := dk_54 6 (dk_at dksX11_alert_1 22 rfl rfl)
theorem dX11_alert_48 : decode cX11_alert 48 = .ok (.aload_n 0, 1) := dk_42 (dk_at dksX11_alert_2 0 rfl rfl)
theorem dX11_alert_49 : decode cX11_alert 49 = .ok (.getfield 29, 3) := dk_180 0 29 (dk_at dksX11_alert_2 1 rfl rfl)
theorem dX11_alert_52 : decode cX11_alert 52 = .ok (.getfield 207, 3) := dk_180 0 207 (dk_at dksX11_alert_2 4 rfl rfl)
theorem dX11_alert_55 : decode cX11_alert 55 = .ok (.new 255, 3) := dk_187 0 255 (dk_at dksX11_alert_2 7 rfl rfl)
theorem dX11_alert_58 : decode cX11_alert 58 = .ok (.dup, 1) := dk_89 (dk_at dksX11_alert_2 10 rfl rfl)
theorem dX11_alert_59 : decode cX11_alert 59 = .ok (.iload_n 1, 1) := dk_27 (dk_at dksX11_alert_2 11 rfl rfl)
theorem dX11_alert_60 : decode cX11_alert 60 = .ok (.iload_n 2, 1) := dk_28 (dk_at dksX11_alert_2 12 rfl rfl)
theorem dX11_alert_61 : decode cX11_alert 61 = .ok (.iload_n 3, 1) := dk_29 (dk_at dksX11_alert_2 13 rfl rfl)
theorem dX11_alert_62 : decode cX11_alert 62 = .ok (.iload 4, 2) := dk_21 4 (dk_at dksX11_alert_2 14 rfl rfl)
theorem dX11_alert_64 : decode cX11_alert 64 = .ok (.iload 5, 2) := dk_21 5 (dk_at dksX11_alert_2 16 rfl rfl)
theorem dX11_alert_66 : decode cX11_alert 66 = .ok (.iload 6, 2) := dk_21 6 (dk_at dksX11_alert_2 18 rfl rfl)
theorem dX11_alert_68 : decode cX11_alert 68 = .ok (.aload_n 0, 1) := dk_42 (dk_at dksX11_alert_2 20 rfl rfl)
theorem dX11_alert_69 : decode cX11_alert 69 = .ok (.iconst 0, 1) := dk_3 (dk_at dksX11_alert_2 21 rfl rfl)
theorem dX11_alert_70 : decode cX11_alert 70 = .ok (.sipush 999, 3) := dk_17 3 231 (dk_at dksX11_alert_3 0 rfl rfl)
theorem dX11_alert_73 : decode cX11_alert 73 = .ok (.invokevirtual 118, 3) := dk_182 0 118 (dk_at dksX11_alert_3 3 rfl rfl)
theorem dX11_alert_76 : decode cX11_alert 76 = .ok (.invokespecial 257, 3) := dk_183 1 1 (dk_at dksX11_alert_3 6 rfl rfl)
theorem dX11_alert_79 : decode cX11_alert 79 = .ok (.invokeinterface 218 2, 5) := by decide +kernel
theorem dX11_alert_84 : decode cX11_alert 84 = .ok (.pop, 1) := dk_87 (dk_at dksX11_alert_3 14 rfl rfl)
theorem dX11_alert_85 : decode cX11_alert 85 = .ok (.return_, 1) := dk_177 (dk_at dksX11_alert_3 15 rfl rfl)
theorem q145 : (Jvm.Cond.initialized "TelescopeQueue$Parser") ∈ lw_all := lw_g (lw_at lw_m1 33 rfl) rfl
theorem q606 : (Jvm.Cond.fieldLinkNest "TelescopeQueue$Parser" (207 : Nat) "TelescopeQueue$State" "alerts" "Ljava/util/List;" "TelescopeQueue") ∈ lw_tbl := lw_at lw_m3 14 rfl
theorem q644 : (Jvm.Cond.fieldLinkNest "TelescopeQueue$Parser" (146 : Nat) "TelescopeQueue$State" "cadence" "I" "TelescopeQueue") ∈ lw_tbl := lw_at lw_m3 52 rfl
theorem q881 : (Jvm.Cond.instantiable "TelescopeQueue$Parser" (8 : Nat)) ∈ lw_all := lw_g (lw_at lw_m4 49 rfl) rfl
theorem q883 : (Jvm.Cond.instanceMethod ({ cls := "TelescopeQueue$Parser", name := "<init>", desc := "([BI)V" } : Jvm.MethodName)) ∈ lw_all := lw_g (lw_at lw_m4 51 rfl) rfl
theorem q884 : (Jvm.Cond.code ({ cls := "TelescopeQueue$Parser", name := "<init>", desc := "([BI)V" } : Jvm.MethodName) prog_8_method_1_code (3 : Nat) (Option.none : Option Jvm.ClassFile.FieldType)) ∈ lw_all := lw_g (lw_at lw_m4 52 rfl) rfl
theorem q885 : (Jvm.Cond.methodLink "TelescopeQueue$Parser" (3 : Nat) ({ cls := "java/lang/Object", name := "<init>", desc := "()V" } : Jvm.MethodName)) ∈ lw_all := lw_g (lw_at lw_m4 53 rfl) rfl
theorem q886 : (Jvm.Cond.stringRef "TelescopeQueue$Parser" (9 : Nat) "") ∈ lw_tbl := lw_at lw_m4 54 rfl
theorem q887 : (Jvm.Cond.classLink "TelescopeQueue$Parser" (17 : Nat) "TelescopeQueue$Scope") ∈ lw_all := lw_g (lw_at lw_m4 55 rfl) rfl
theorem q889 : (Jvm.Cond.methodLinkNest "TelescopeQueue$Parser" (19 : Nat) ({ cls := "TelescopeQueue$Scope", name := "<init>", desc := "()V" } : Jvm.MethodName) "TelescopeQueue") ∈ lw_tbl := lw_at lw_m4 57 rfl
theorem q898 : (Jvm.Cond.fieldLinkNest "TelescopeQueue$Parser" (171 : Nat) "TelescopeQueue$Scope" "proposals" "Ljava/util/List;" "TelescopeQueue") ∈ lw_tbl := lw_at lw_m4 66 rfl
theorem q902 : (Jvm.Cond.fieldLinkNest "TelescopeQueue$Parser" (202 : Nat) "TelescopeQueue$Scope" "visits" "Ljava/util/List;" "TelescopeQueue") ∈ lw_tbl := lw_at lw_m4 70 rfl
theorem q904 : (Jvm.Cond.fieldLinkNest "TelescopeQueue$Parser" (212 : Nat) "TelescopeQueue$Scope" "outages" "Ljava/util/List;" "TelescopeQueue") ∈ lw_tbl := lw_at lw_m4 72 rfl
theorem q906 : (Jvm.Cond.fieldLinkNest "TelescopeQueue$Parser" (126 : Nat) "TelescopeQueue$Scope" "horizon" "I" "TelescopeQueue") ∈ lw_tbl := lw_at lw_m4 74 rfl
theorem q910 : (Jvm.Cond.fieldLinkNest "TelescopeQueue$Parser" (130 : Nat) "TelescopeQueue$Scope" "settle" "I" "TelescopeQueue") ∈ lw_tbl := lw_at lw_m4 78 rfl
theorem q913 : (Jvm.Cond.fieldLinkNest "TelescopeQueue$Parser" (134 : Nat) "TelescopeQueue$Scope" "speed" "I" "TelescopeQueue") ∈ lw_tbl := lw_at lw_m4 81 rfl
theorem q916 : (Jvm.Cond.fieldLinkNest "TelescopeQueue$Parser" (138 : Nat) "TelescopeQueue$Scope" "cap" "I" "TelescopeQueue") ∈ lw_tbl := lw_at lw_m4 84 rfl
theorem q919 : (Jvm.Cond.fieldLinkNest "TelescopeQueue$Parser" (142 : Nat) "TelescopeQueue$Scope" "dump" "I" "TelescopeQueue") ∈ lw_tbl := lw_at lw_m4 87 rfl
theorem q921 : (Jvm.Cond.fieldLinkNest "TelescopeQueue$Parser" (150 : Nat) "TelescopeQueue$Scope" "cal" "I" "TelescopeQueue") ∈ lw_tbl := lw_at lw_m4 89 rfl
theorem q925 : (Jvm.Cond.fieldLinkNest "TelescopeQueue$Parser" (154 : Nat) "TelescopeQueue$Scope" "sun" "I" "TelescopeQueue") ∈ lw_tbl := lw_at lw_m4 93 rfl
theorem q928 : (Jvm.Cond.fieldLinkNest "TelescopeQueue$Parser" (158 : Nat) "TelescopeQueue$Scope" "drift" "I" "TelescopeQueue") ∈ lw_tbl := lw_at lw_m4 96 rfl
theorem q931 : (Jvm.Cond.fieldLinkNest "TelescopeQueue$Parser" (162 : Nat) "TelescopeQueue$Scope" "avoid" "I" "TelescopeQueue") ∈ lw_tbl := lw_at lw_m4 99 rfl
theorem q958 : (Jvm.Cond.classLink "TelescopeQueue$Parser" (24 : Nat) "TelescopeQueue$State") ∈ lw_all := lw_g (lw_at lw_m4 126 rfl) rfl
theorem q959 : (Jvm.Cond.methodLink "TelescopeQueue$Parser" (26 : Nat) ({ cls := "TelescopeQueue$State", name := "<init>", desc := "(LTelescopeQueue$Scope;)V" } : Jvm.MethodName)) ∈ lw_all := lw_g (lw_at lw_m4 127 rfl) rfl
theorem q960 : (Jvm.Cond.fieldLink "TelescopeQueue$Parser" (33 : Nat) "TelescopeQueue$Parser" "text" "[B") ∈ lw_all := lw_g (lw_at lw_m4 128 rfl) rfl
theorem q961 : (Jvm.Cond.fieldLink "TelescopeQueue$Parser" (37 : Nat) "TelescopeQueue$Parser" "length" "I") ∈ lw_all := lw_g (lw_at lw_m4 129 rfl) rfl
theorem q962 : (Jvm.Cond.fieldLink "TelescopeQueue$Parser" (41 : Nat) "TelescopeQueue$Parser" "next" "I") ∈ lw_all := lw_g (lw_at lw_m4 130 rfl) rfl
theorem q963 : (Jvm.Cond.fieldLink "TelescopeQueue$Parser" (48 : Nat) "TelescopeQueue$Parser" "start" "I") ∈ lw_all := lw_g (lw_at lw_m4 131 rfl) rfl
theorem q964 : (Jvm.Cond.fieldLink "TelescopeQueue$Parser" (76 : Nat) "TelescopeQueue$Parser" "number" "I") ∈ lw_all := lw_g (lw_at lw_m4 132 rfl) rfl
theorem q965 : (Jvm.Cond.fieldLink "TelescopeQueue$Parser" (11 : Nat) "TelescopeQueue$Parser" "token" "Ljava/lang/String;") ∈ lw_all := lw_g (lw_at lw_m4 133 rfl) rfl
theorem q966 : (Jvm.Cond.fieldLink "TelescopeQueue$Parser" (20 : Nat) "TelescopeQueue$Parser" "scope" "LTelescopeQueue$Scope;") ∈ lw_all := lw_g (lw_at lw_m4 134 rfl) rfl
theorem q967 : (Jvm.Cond.fieldLink "TelescopeQueue$Parser" (29 : Nat) "TelescopeQueue$Parser" "state" "LTelescopeQueue$State;") ∈ lw_all := lw_g (lw_at lw_m4 135 rfl) rfl
theorem q968 : (Jvm.Cond.laysFinal "TelescopeQueue$Parser" "TelescopeQueue$Parser" "text" "[B") ∈ lw_all := lw_g (lw_at lw_m4 136 rfl) rfl
theorem q969 : (Jvm.Cond.soleField "TelescopeQueue$Parser" "text") ∈ lw_all := lw_g (lw_at lw_m4 137 rfl) rfl
theorem q970 : (Jvm.Cond.laysFinal "TelescopeQueue$Parser" "TelescopeQueue$Parser" "length" "I") ∈ lw_all := lw_g (lw_at lw_m4 138 rfl) rfl
theorem q971 : (Jvm.Cond.soleField "TelescopeQueue$Parser" "length") ∈ lw_all := lw_g (lw_at lw_m4 139 rfl) rfl
theorem q972 : (Jvm.Cond.lays "TelescopeQueue$Parser" "TelescopeQueue$Parser" "next" "I") ∈ lw_all := lw_g (lw_at lw_m4 140 rfl) rfl
theorem q973 : (Jvm.Cond.soleField "TelescopeQueue$Parser" "next") ∈ lw_all := lw_g (lw_at lw_m4 141 rfl) rfl
theorem q974 : (Jvm.Cond.lays "TelescopeQueue$Parser" "TelescopeQueue$Parser" "start" "I") ∈ lw_all := lw_g (lw_at lw_m4 142 rfl) rfl
theorem q975 : (Jvm.Cond.soleField "TelescopeQueue$Parser" "start") ∈ lw_all := lw_g (lw_at lw_m4 143 rfl) rfl
theorem q976 : (Jvm.Cond.lays "TelescopeQueue$Parser" "TelescopeQueue$Parser" "number" "I") ∈ lw_all := lw_g (lw_at lw_m4 144 rfl) rfl
theorem q977 : (Jvm.Cond.soleField "TelescopeQueue$Parser" "number") ∈ lw_all := lw_g (lw_at lw_m4 145 rfl) rfl
theorem q978 : (Jvm.Cond.lays "TelescopeQueue$Parser" "TelescopeQueue$Parser" "token" "Ljava/lang/String;") ∈ lw_all := lw_g (lw_at lw_m4 146 rfl) rfl
theorem q979 : (Jvm.Cond.soleField "TelescopeQueue$Parser" "token") ∈ lw_all := lw_g (lw_at lw_m4 147 rfl) rfl
theorem q980 : (Jvm.Cond.laysFinal "TelescopeQueue$Parser" "TelescopeQueue$Parser" "scope" "LTelescopeQueue$Scope;") ∈ lw_all := lw_g (lw_at lw_m4 148 rfl) rfl
theorem q981 : (Jvm.Cond.soleField "TelescopeQueue$Parser" "scope") ∈ lw_all := lw_g (lw_at lw_m4 149 rfl) rfl
theorem q982 : (Jvm.Cond.laysFinal "TelescopeQueue$Parser" "TelescopeQueue$Parser" "state" "LTelescopeQueue$State;") ∈ lw_all := lw_g (lw_at lw_m4 150 rfl) rfl
theorem q983 : (Jvm.Cond.soleField "TelescopeQueue$Parser" "state") ∈ lw_all := lw_g (lw_at lw_m4 151 rfl) rfl
theorem q984 : (Jvm.Cond.superclass "TelescopeQueue$Parser" "java/lang/Object") ∈ lw_all := lw_g (lw_at lw_m4 152 rfl) rfl
theorem q986 : (Jvm.Cond.instanceMethod ({ cls := "TelescopeQueue$Parser", name := "parse", desc := "()LTelescopeQueue$State;" } : Jvm.MethodName)) ∈ lw_all := lw_g (lw_at lw_m4 154 rfl) rfl
theorem q987 : (Jvm.Cond.selects "TelescopeQueue$Parser" ({ cls := "TelescopeQueue$Parser", name := "parse", desc := "()LTelescopeQueue$State;" } : Jvm.MethodName) ({ cls := "TelescopeQueue$Parser", name := "parse", desc := "()LTelescopeQueue$State;" } : Jvm.MethodName)) ∈ lw_all := lw_g (lw_at lw_m4 155 rfl) rfl
theorem q988 : (Jvm.Cond.code ({ cls := "TelescopeQueue$Parser", name := "parse", desc := "()LTelescopeQueue$State;" } : Jvm.MethodName) prog_8_method_10_code (1 : Nat) (Option.some (Jvm.ClassFile.FieldType.object "TelescopeQueue$State"))) ∈ lw_all := lw_g (lw_at lw_m4 156 rfl) rfl
theorem q989 : (Jvm.Cond.methodLink "TelescopeQueue$Parser" (103 : Nat) ({ cls := "TelescopeQueue$Parser", name := "advance", desc := "()V" } : Jvm.MethodName)) ∈ lw_all := lw_g (lw_at lw_m4 157 rfl) rfl
theorem q990 : (Jvm.Cond.privateMethod ({ cls := "TelescopeQueue$Parser", name := "advance", desc := "()V" } : Jvm.MethodName)) ∈ lw_tbl := lw_at lw_m4 158 rfl
theorem q991 : (Jvm.Cond.instanceMethod ({ cls := "TelescopeQueue$Parser", name := "advance", desc := "()V" } : Jvm.MethodName)) ∈ lw_all := lw_g (lw_at lw_m4 159 rfl) rfl
theorem q992 : (Jvm.Cond.code ({ cls := "TelescopeQueue$Parser", name := "advance", desc := "()V" } : Jvm.MethodName) prog_8_method_3_code (3 : Nat) (Option.none : Option Jvm.ClassFile.FieldType)) ∈ lw_all := lw_g (lw_at lw_m4 160 rfl) rfl
theorem q993 : (Jvm.Cond.methodLink "TelescopeQueue$Parser" (44 : Nat) ({ cls := "TelescopeQueue$Parser", name := "at", desc := "(I)I" } : Jvm.MethodName)) ∈ lw_all := lw_g (lw_at lw_m4 161 rfl) rfl
theorem q994 : (Jvm.Cond.privateMethod ({ cls := "TelescopeQueue$Parser", name := "at", desc := "(I)I" } : Jvm.MethodName)) ∈ lw_tbl := lw_at lw_m4 162 rfl
theorem q995 : (Jvm.Cond.instanceMethod ({ cls := "TelescopeQueue$Parser", name := "at", desc := "(I)I" } : Jvm.MethodName)) ∈ lw_all := lw_g (lw_at lw_m4 163 rfl) rfl
theorem q996 : (Jvm.Cond.code ({ cls := "TelescopeQueue$Parser", name := "at", desc := "(I)I" } : Jvm.MethodName) prog_8_method_2_code (2 : Nat) (Option.some Jvm.ClassFile.FieldType.int)) ∈ lw_all := lw_g (lw_at lw_m4 164 rfl) rfl
theorem q997 : (Jvm.Cond.constantLong "TelescopeQueue$Parser" (51 : Nat) (97 : Int64)) ∈ lw_all := lw_g (lw_at lw_m4 165 rfl) rfl
theorem q998 : (Jvm.Cond.constantLong "TelescopeQueue$Parser" (53 : Nat) (122 : Int64)) ∈ lw_all := lw_g (lw_at lw_m4 166 rfl) rfl
theorem q999 : (Jvm.Cond.methodLinkNest "TelescopeQueue$Parser" (55 : Nat) ({ cls := "TelescopeQueue", name := "in", desc := "(JJJ)Z" } : Jvm.MethodName) "TelescopeQueue") ∈ lw_tbl := lw_at lw_m4 167 rfl
theorem q1000 : (Jvm.Cond.classLink "TelescopeQueue$Parser" (59 : Nat) "java/lang/StringBuilder") ∈ lw_all := lw_g (lw_at lw_m4 168 rfl) rfl
theorem q1001 : (Jvm.Cond.methodLink "TelescopeQueue$Parser" (61 : Nat) ({ cls := "java/lang/StringBuilder", name := "<init>", desc := "()V" } : Jvm.MethodName)) ∈ lw_all := lw_g (lw_at lw_m4 169 rfl) rfl
theorem q1002 : (Jvm.Cond.methodLink "TelescopeQueue$Parser" (62 : Nat) ({ cls := "java/lang/StringBuilder", name := "append", desc := "(C)Ljava/lang/StringBuilder;" } : Jvm.MethodName)) ∈ lw_all := lw_g (lw_at lw_m4 170 rfl) rfl
theorem q1024 : (Jvm.Cond.stringRef "TelescopeQueue$Parser" (66 : Nat) "?") ∈ lw_tbl := lw_at lw_m4 192 rfl
theorem q1025 : (Jvm.Cond.methodLink "TelescopeQueue$Parser" (68 : Nat) ({ cls := "java/lang/StringBuilder", name := "toString", desc := "()Ljava/lang/String;" } : Jvm.MethodName)) ∈ lw_all := lw_g (lw_at lw_m4 193 rfl) rfl
theorem q1026 : (Jvm.Cond.constantLong "TelescopeQueue$Parser" (72 : Nat) (48 : Int64)) ∈ lw_all := lw_g (lw_at lw_m4 194 rfl) rfl
theorem q1027 : (Jvm.Cond.constantLong "TelescopeQueue$Parser" (74 : Nat) (57 : Int64)) ∈ lw_all := lw_g (lw_at lw_m4 195 rfl) rfl
theorem q1028 : (Jvm.Cond.constant "TelescopeQueue$Parser" (79 : Nat) (99999 : Int32)) ∈ lw_all := lw_g (lw_at lw_m4 196 rfl) rfl
theorem q1029 : (Jvm.Cond.methodLink "TelescopeQueue$Parser" (80 : Nat) ({ cls := "java/lang/Math", name := "min", desc := "(II)I" } : Jvm.MethodName)) ∈ lw_all := lw_g (lw_at lw_m4 197 rfl) rfl
theorem q1030 : (Jvm.Cond.stringRef "TelescopeQueue$Parser" (86 : Nat) "#") ∈ lw_tbl := lw_at lw_m4 198 rfl
theorem q1031 : (Jvm.Cond.stringRef "TelescopeQueue$Parser" (88 : Nat) ";") ∈ lw_tbl := lw_at lw_m4 199 rfl
theorem q1032 : (Jvm.Cond.stringRef "TelescopeQueue$Parser" (90 : Nat) "-") ∈ lw_tbl := lw_at lw_m4 200 rfl
theorem q1033 : (Jvm.Cond.stringRef "TelescopeQueue$Parser" (120 : Nat) "scope") ∈ lw_tbl := lw_at lw_m4 201 rfl
theorem q1034 : (Jvm.Cond.methodLink "TelescopeQueue$Parser" (114 : Nat) ({ cls := "TelescopeQueue$Parser", name := "expect", desc := "(Ljava/lang/String;)V" } : Jvm.MethodName)) ∈ lw_all := lw_g (lw_at lw_m4 202 rfl) rfl
theorem q1035 : (Jvm.Cond.privateMethod ({ cls := "TelescopeQueue$Parser", name := "expect", desc := "(Ljava/lang/String;)V" } : Jvm.MethodName)) ∈ lw_tbl := lw_at lw_m4 203 rfl
theorem q1036 : (Jvm.Cond.instanceMethod ({ cls := "TelescopeQueue$Parser", name := "expect", desc := "(Ljava/lang/String;)V" } : Jvm.MethodName)) ∈ lw_all := lw_g (lw_at lw_m4 204 rfl) rfl
theorem q1037 : (Jvm.Cond.code ({ cls := "TelescopeQueue$Parser", name := "expect", desc := "(Ljava/lang/String;)V" } : Jvm.MethodName) prog_8_method_6_code (2 : Nat) (Option.none : Option Jvm.ClassFile.FieldType)) ∈ lw_all := lw_g (lw_at lw_m4 205 rfl) rfl
theorem q1038 : (Jvm.Cond.methodLink "TelescopeQueue$Parser" (106 : Nat) ({ cls := "TelescopeQueue$Parser", name := "takes", desc := "(Ljava/lang/String;)Z" } : Jvm.MethodName)) ∈ lw_all := lw_g (lw_at lw_m4 206 rfl) rfl
theorem q1039 : (Jvm.Cond.privateMethod ({ cls := "TelescopeQueue$Parser", name := "takes", desc := "(Ljava/lang/String;)Z" } : Jvm.MethodName)) ∈ lw_tbl := lw_at lw_m4 207 rfl
theorem q1040 : (Jvm.Cond.instanceMethod ({ cls := "TelescopeQueue$Parser", name := "takes", desc := "(Ljava/lang/String;)Z" } : Jvm.MethodName)) ∈ lw_all := lw_g (lw_at lw_m4 208 rfl) rfl
theorem q1041 : (Jvm.Cond.code ({ cls := "TelescopeQueue$Parser", name := "takes", desc := "(Ljava/lang/String;)Z" } : Jvm.MethodName) prog_8_method_5_code (3 : Nat) (Option.some Jvm.ClassFile.FieldType.boolean)) ∈ lw_all := lw_g (lw_at lw_m4 209 rfl) rfl
theorem q1042 : (Jvm.Cond.methodLink "TelescopeQueue$Parser" (97 : Nat) ({ cls := "java/lang/String", name := "equals", desc := "(Ljava/lang/Object;)Z" } : Jvm.MethodName)) ∈ lw_all := lw_g (lw_at lw_m4 210 rfl) rfl
theorem q1050 : (Jvm.Cond.methodLink "TelescopeQueue$Parser" (110 : Nat) ({ cls := "TelescopeQueue$Parser", name := "flaw", desc := "(I)LTelescopeQueue$Flaw;" } : Jvm.MethodName)) ∈ lw_all := lw_g (lw_at lw_m4 218 rfl) rfl
theorem q1051 : (Jvm.Cond.privateMethod ({ cls := "TelescopeQueue$Parser", name := "flaw", desc := "(I)LTelescopeQueue$Flaw;" } : Jvm.MethodName)) ∈ lw_tbl := lw_at lw_m4 219 rfl
theorem q1052 : (Jvm.Cond.instanceMethod ({ cls := "TelescopeQueue$Parser", name := "flaw", desc := "(I)LTelescopeQueue$Flaw;" } : Jvm.MethodName)) ∈ lw_all := lw_g (lw_at lw_m4 220 rfl) rfl
theorem q1053 : (Jvm.Cond.code ({ cls := "TelescopeQueue$Parser", name := "flaw", desc := "(I)LTelescopeQueue$Flaw;" } : Jvm.MethodName) prog_8_method_4_code (2 : Nat) (Option.some (Jvm.ClassFile.FieldType.object "TelescopeQueue$Flaw"))) ∈ lw_all := lw_g (lw_at lw_m4 221 rfl) rfl
theorem q1054 : (Jvm.Cond.classLink "TelescopeQueue$Parser" (92 : Nat) "TelescopeQueue$Flaw") ∈ lw_all := lw_g (lw_at lw_m4 222 rfl) rfl
theorem q1063 : (Jvm.Cond.methodLink "TelescopeQueue$Parser" (94 : Nat) ({ cls := "TelescopeQueue$Flaw", name := "<init>", desc := "(II)V" } : Jvm.MethodName)) ∈ lw_all := lw_g (lw_at lw_m4 231 rfl) rfl
theorem q1082 : (Jvm.Cond.stringRef "TelescopeQueue$Parser" (121 : Nat) "horizon") ∈ lw_tbl := lw_at lw_m5 10 rfl
theorem q1083 : (Jvm.Cond.methodLink "TelescopeQueue$Parser" (123 : Nat) ({ cls := "TelescopeQueue$Parser", name := "number", desc := "(Ljava/lang/String;II)I" } : Jvm.MethodName)) ∈ lw_all := lw_g (lw_at lw_m5 11 rfl) rfl
theorem q1084 : (Jvm.Cond.privateMethod ({ cls := "TelescopeQueue$Parser", name := "number", desc := "(Ljava/lang/String;II)I" } : Jvm.MethodName)) ∈ lw_tbl := lw_at lw_m5 12 rfl
theorem q1085 : (Jvm.Cond.instanceMethod ({ cls := "TelescopeQueue$Parser", name := "number", desc := "(Ljava/lang/String;II)I" } : Jvm.MethodName)) ∈ lw_all := lw_g (lw_at lw_m5 13 rfl) rfl
theorem q1086 : (Jvm.Cond.code ({ cls := "TelescopeQueue$Parser", name := "number", desc := "(Ljava/lang/String;II)I" } : Jvm.MethodName) prog_8_method_8_code (4 : Nat) (Option.some Jvm.ClassFile.FieldType.int)) ∈ lw_all := lw_g (lw_at lw_m5 14 rfl) rfl
theorem q1087 : (Jvm.Cond.methodLink "TelescopeQueue$Parser" (118 : Nat) ({ cls := "TelescopeQueue$Parser", name := "number", desc := "(II)I" } : Jvm.MethodName)) ∈ lw_all := lw_g (lw_at lw_m5 15 rfl) rfl
theorem q1088 : (Jvm.Cond.privateMethod ({ cls := "TelescopeQueue$Parser", name := "number", desc := "(II)I" } : Jvm.MethodName)) ∈ lw_tbl := lw_at lw_m5 16 rfl
theorem q1089 : (Jvm.Cond.instanceMethod ({ cls := "TelescopeQueue$Parser", name := "number", desc := "(II)I" } : Jvm.MethodName)) ∈ lw_all := lw_g (lw_at lw_m5 17 rfl) rfl
theorem q1090 : (Jvm.Cond.code ({ cls := "TelescopeQueue$Parser", name := "number", desc := "(II)I" } : Jvm.MethodName) prog_8_method_7_code (4 : Nat) (Option.some Jvm.ClassFile.FieldType.int)) ∈ lw_all := lw_g (lw_at lw_m5 18 rfl) rfl
theorem q1091 : (Jvm.Cond.stringRef "TelescopeQueue$Parser" (128 : Nat) "settle") ∈ lw_tbl := lw_at lw_m5 19 rfl
theorem q1092 : (Jvm.Cond.stringRef "TelescopeQueue$Parser" (132 : Nat) "speed") ∈ lw_tbl := lw_at lw_m5 20 rfl
theorem q1093 : (Jvm.Cond.stringRef "TelescopeQueue$Parser" (136 : Nat) "cap") ∈ lw_tbl := lw_at lw_m5 21 rfl
theorem q1094 : (Jvm.Cond.stringRef "TelescopeQueue$Parser" (140 : Nat) "dump") ∈ lw_tbl := lw_at lw_m5 22 rfl
theorem q1095 : (Jvm.Cond.stringRef "TelescopeQueue$Parser" (144 : Nat) "cadence") ∈ lw_tbl := lw_at lw_m5 23 rfl
theorem q1096 : (Jvm.Cond.stringRef "TelescopeQueue$Parser" (148 : Nat) "cal") ∈ lw_tbl := lw_at lw_m5 24 rfl
theorem q1097 : (Jvm.Cond.stringRef "TelescopeQueue$Parser" (152 : Nat) "sun") ∈ lw_tbl := lw_at lw_m5 25 rfl
theorem q1098 : (Jvm.Cond.stringRef "TelescopeQueue$Parser" (156 : Nat) "drift") ∈ lw_tbl := lw_at lw_m5 26 rfl
theorem q1099 : (Jvm.Cond.stringRef "TelescopeQueue$Parser" (160 : Nat) "avoid") ∈ lw_tbl := lw_at lw_m5 27 rfl
theorem q1100 : (Jvm.Cond.methodLink "TelescopeQueue$Parser" (164 : Nat) ({ cls := "TelescopeQueue$Parser", name := "line", desc := "()V" } : Jvm.MethodName)) ∈ lw_all := lw_g (lw_at lw_m5 28 rfl) rfl
theorem q1101 : (Jvm.Cond.privateMethod ({ cls := "TelescopeQueue$Parser", name := "line", desc := "()V" } : Jvm.MethodName)) ∈ lw_tbl := lw_at lw_m5 29 rfl
theorem q1102 : (Jvm.Cond.instanceMethod ({ cls := "TelescopeQueue$Parser", name := "line", desc := "()V" } : Jvm.MethodName)) ∈ lw_all := lw_g (lw_at lw_m5 30 rfl) rfl
theorem q1103 : (Jvm.Cond.code ({ cls := "TelescopeQueue$Parser", name := "line", desc := "()V" } : Jvm.MethodName) prog_8_method_12_code (4 : Nat) (Option.none : Option Jvm.ClassFile.FieldType)) ∈ lw_all := lw_g (lw_at lw_m5 31 rfl) rfl
theorem q1104 : (Jvm.Cond.methodLink "TelescopeQueue$Parser" (186 : Nat) ({ cls := "java/lang/String", name := "hashCode", desc := "()I" } : Jvm.MethodName)) ∈ lw_all := lw_g (lw_at lw_m5 32 rfl) rfl
theorem q1165 : (Jvm.Cond.stringRef "TelescopeQueue$Parser" (189 : Nat) "proposal") ∈ lw_tbl := lw_at lw_m5 93 rfl
theorem q1166 : (Jvm.Cond.stringRef "TelescopeQueue$Parser" (191 : Nat) "visit") ∈ lw_tbl := lw_at lw_m5 94 rfl
theorem q1167 : (Jvm.Cond.stringRef "TelescopeQueue$Parser" (193 : Nat) "alert") ∈ lw_tbl := lw_at lw_m5 95 rfl
theorem q1168 : (Jvm.Cond.stringRef "TelescopeQueue$Parser" (195 : Nat) "outage") ∈ lw_tbl := lw_at lw_m5 96 rfl
theorem q1169 : (Jvm.Cond.methodLink "TelescopeQueue$Parser" (197 : Nat) ({ cls := "TelescopeQueue$Parser", name := "begin", desc := "(Ljava/util/List;I)V" } : Jvm.MethodName)) ∈ lw_all := lw_g (lw_at lw_m5 97 rfl) rfl
theorem q1170 : (Jvm.Cond.privateMethod ({ cls := "TelescopeQueue$Parser", name := "begin", desc := "(Ljava/util/List;I)V" } : Jvm.MethodName)) ∈ lw_tbl := lw_at lw_m5 98 rfl
theorem q1171 : (Jvm.Cond.instanceMethod ({ cls := "TelescopeQueue$Parser", name := "begin", desc := "(Ljava/util/List;I)V" } : Jvm.MethodName)) ∈ lw_all := lw_g (lw_at lw_m5 99 rfl) rfl
theorem q1172 : (Jvm.Cond.code ({ cls := "TelescopeQueue$Parser", name := "begin", desc := "(Ljava/util/List;I)V" } : Jvm.MethodName) prog_8_method_11_code (3 : Nat) (Option.none : Option Jvm.ClassFile.FieldType)) ∈ lw_all := lw_g (lw_at lw_m5 100 rfl) rfl
theorem q1173 : (Jvm.Cond.interfaceEntry "TelescopeQueue$Parser" (182 : Nat)) ∈ lw_tbl := lw_at lw_m5 101 rfl
theorem q1174 : (Jvm.Cond.methodLink "TelescopeQueue$Parser" (182 : Nat) ({ cls := "java/util/List", name := "size", desc := "()I" } : Jvm.MethodName)) ∈ lw_all := lw_g (lw_at lw_m5 102 rfl) rfl
theorem q1175 : (Jvm.Cond.methodLink "TelescopeQueue$Parser" (200 : Nat) ({ cls := "TelescopeQueue$Parser", name := "proposal", desc := "()V" } : Jvm.MethodName)) ∈ lw_all := lw_g (lw_at lw_m5 103 rfl) rfl
theorem q1176 : (Jvm.Cond.privateMethod ({ cls := "TelescopeQueue$Parser", name := "proposal", desc := "()V" } : Jvm.MethodName)) ∈ lw_tbl := lw_at lw_m5 104 rfl
theorem q1177 : (Jvm.Cond.instanceMethod ({ cls := "TelescopeQueue$Parser", name := "proposal", desc := "()V" } : Jvm.MethodName)) ∈ lw_all := lw_g (lw_at lw_m5 105 rfl) rfl
theorem q1178 : (Jvm.Cond.code ({ cls := "TelescopeQueue$Parser", name := "proposal", desc := "()V" } : Jvm.MethodName) prog_8_method_15_code (2 : Nat) (Option.none : Option Jvm.ClassFile.FieldType)) ∈ lw_all := lw_g (lw_at lw_m5 106 rfl) rfl
theorem q1179 : (Jvm.Cond.methodLink "TelescopeQueue$Parser" (234 : Nat) ({ cls := "TelescopeQueue$Parser", name := "checkWord", desc := "()V" } : Jvm.MethodName)) ∈ lw_all := lw_g (lw_at lw_m5 107 rfl) rfl
theorem q1180 : (Jvm.Cond.privateMethod ({ cls := "TelescopeQueue$Parser", name := "checkWord", desc := "()V" } : Jvm.MethodName)) ∈ lw_tbl := lw_at lw_m5 108 rfl
theorem q1181 : (Jvm.Cond.instanceMethod ({ cls := "TelescopeQueue$Parser", name := "checkWord", desc := "()V" } : Jvm.MethodName)) ∈ lw_all := lw_g (lw_at lw_m5 109 rfl) rfl
theorem q1182 : (Jvm.Cond.code ({ cls := "TelescopeQueue$Parser", name := "checkWord", desc := "()V" } : Jvm.MethodName) prog_8_method_13_code (1 : Nat) (Option.none : Option Jvm.ClassFile.FieldType)) ∈ lw_all := lw_g (lw_at lw_m5 110 rfl) rfl
theorem q1183 : (Jvm.Cond.methodLink "TelescopeQueue$Parser" (167 : Nat) ({ cls := "java/lang/String", name := "isEmpty", desc := "()Z" } : Jvm.MethodName)) ∈ lw_all := lw_g (lw_at lw_m5 111 rfl) rfl
theorem q1187 : (Jvm.Cond.methodLink "TelescopeQueue$Parser" (221 : Nat) ({ cls := "java/lang/String", name := "charAt", desc := "(I)C" } : Jvm.MethodName)) ∈ lw_all := lw_g (lw_at lw_m5 115 rfl) rfl
theorem q1198 : (Jvm.Cond.methodLink "TelescopeQueue$Parser" (237 : Nat) ({ cls := "TelescopeQueue$Parser", name := "named", desc := "(Ljava/lang/CharSequence;)I" } : Jvm.MethodName)) ∈ lw_all := lw_g (lw_at lw_m5 126 rfl) rfl
theorem q1199 : (Jvm.Cond.privateMethod ({ cls := "TelescopeQueue$Parser", name := "named", desc := "(Ljava/lang/CharSequence;)I" } : Jvm.MethodName)) ∈ lw_tbl := lw_at lw_m5 127 rfl
theorem q1200 : (Jvm.Cond.instanceMethod ({ cls := "TelescopeQueue$Parser", name := "named", desc := "(Ljava/lang/CharSequence;)I" } : Jvm.MethodName)) ∈ lw_all := lw_g (lw_at lw_m5 128 rfl) rfl
theorem q1201 : (Jvm.Cond.code ({ cls := "TelescopeQueue$Parser", name := "named", desc := "(Ljava/lang/CharSequence;)I" } : Jvm.MethodName) prog_8_method_14_code (3 : Nat) (Option.some Jvm.ClassFile.FieldType.int)) ∈ lw_all := lw_g (lw_at lw_m5 129 rfl) rfl
theorem q1202 : (Jvm.Cond.interfaceEntry "TelescopeQueue$Parser" (225 : Nat)) ∈ lw_tbl := lw_at lw_m5 130 rfl
theorem q1203 : (Jvm.Cond.methodLink "TelescopeQueue$Parser" (225 : Nat) ({ cls := "java/util/List", name := "get", desc := "(I)Ljava/lang/Object;" } : Jvm.MethodName)) ∈ lw_all := lw_g (lw_at lw_m5 131 rfl) rfl
theorem q1219 : (Jvm.Cond.classLink "TelescopeQueue$Parser" (229 : Nat) "TelescopeQueue$Proposal") ∈ lw_all := lw_g (lw_at lw_m5 147 rfl) rfl
theorem q1221 : (Jvm.Cond.methodLink "TelescopeQueue$Parser" (241 : Nat) ({ cls := "TelescopeQueue$Proposal", name := "<init>", desc := "(Ljava/lang/String;I)V" } : Jvm.MethodName)) ∈ lw_all := lw_g (lw_at lw_m5 149 rfl) rfl
theorem q1226 : (Jvm.Cond.fieldLinkNest "TelescopeQueue$Parser" (231 : Nat) "TelescopeQueue$Proposal" "name" "Ljava/lang/String;" "TelescopeQueue") ∈ lw_tbl := lw_at lw_m5 154 rfl
theorem q1235 : (Jvm.Cond.interfaceEntry "TelescopeQueue$Parser" (218 : Nat)) ∈ lw_tbl := lw_at lw_m5 163 rfl
theorem q1236 : (Jvm.Cond.methodLink "TelescopeQueue$Parser" (218 : Nat) ({ cls := "java/util/List", name := "add", desc := "(Ljava/lang/Object;)Z" } : Jvm.MethodName)) ∈ lw_all := lw_g (lw_at lw_m5 164 rfl) rfl
theorem q1271 : (Jvm.Cond.selects "TelescopeQueue$Parser" ({ cls := "java/lang/Object", name := "getClass", desc := "()Ljava/lang/Class;" } : Jvm.MethodName) ({ cls := "java/lang/Object", name := "getClass", desc := "()Ljava/lang/Class;" } : Jvm.MethodName)) ∈ lw_all := lw_g (lw_at lw_m5 199 rfl) rfl
theorem q1298 : (Jvm.Cond.methodLink "TelescopeQueue$Parser" (205 : Nat) ({ cls := "TelescopeQueue$Parser", name := "visit", desc := "()V" } : Jvm.MethodName)) ∈ lw_all := lw_g (lw_at lw_m5 226 rfl) rfl
theorem q1299 : (Jvm.Cond.privateMethod ({ cls := "TelescopeQueue$Parser", name := "visit", desc := "()V" } : Jvm.MethodName)) ∈ lw_tbl := lw_at lw_m5 227 rfl
theorem q1300 : (Jvm.Cond.instanceMethod ({ cls := "TelescopeQueue$Parser", name := "visit", desc := "()V" } : Jvm.MethodName)) ∈ lw_all := lw_g (lw_at lw_m5 228 rfl) rfl
theorem q1301 : (Jvm.Cond.code ({ cls := "TelescopeQueue$Parser", name := "visit", desc := "()V" } : Jvm.MethodName) prog_8_method_17_code (8 : Nat) (Option.none : Option Jvm.ClassFile.FieldType)) ∈ lw_all := lw_g (lw_at lw_m5 229 rfl) rfl
theorem q1302 : (Jvm.Cond.methodLink "TelescopeQueue$Parser" (244 : Nat) ({ cls := "TelescopeQueue$Parser", name := "earlier", desc := "()I" } : Jvm.MethodName)) ∈ lw_all := lw_g (lw_at lw_m5 230 rfl) rfl
theorem q1303 : (Jvm.Cond.privateMethod ({ cls := "TelescopeQueue$Parser", name := "earlier", desc := "()I" } : Jvm.MethodName)) ∈ lw_tbl := lw_at lw_m5 231 rfl
theorem q1304 : (Jvm.Cond.instanceMethod ({ cls := "TelescopeQueue$Parser", name := "earlier", desc := "()I" } : Jvm.MethodName)) ∈ lw_all := lw_g (lw_at lw_m5 232 rfl) rfl
theorem q1305 : (Jvm.Cond.code ({ cls := "TelescopeQueue$Parser", name := "earlier", desc := "()I" } : Jvm.MethodName) prog_8_method_16_code (2 : Nat) (Option.some Jvm.ClassFile.FieldType.int)) ∈ lw_all := lw_g (lw_at lw_m5 233 rfl) rfl
theorem q1306 : (Jvm.Cond.methodLink "TelescopeQueue$Parser" (247 : Nat) ({ cls := "TelescopeQueue$Parser", name := "latitude", desc := "()I" } : Jvm.MethodName)) ∈ lw_all := lw_g (lw_at lw_m5 234 rfl) rfl
theorem q1307 : (Jvm.Cond.privateMethod ({ cls := "TelescopeQueue$Parser", name := "latitude", desc := "()I" } : Jvm.MethodName)) ∈ lw_tbl := lw_at lw_m5 235 rfl
theorem q1308 : (Jvm.Cond.instanceMethod ({ cls := "TelescopeQueue$Parser", name := "latitude", desc := "()I" } : Jvm.MethodName)) ∈ lw_all := lw_g (lw_at lw_m5 236 rfl) rfl
theorem q1309 : (Jvm.Cond.code ({ cls := "TelescopeQueue$Parser", name := "latitude", desc := "()I" } : Jvm.MethodName) prog_8_method_9_code (2 : Nat) (Option.some Jvm.ClassFile.FieldType.int)) ∈ lw_all := lw_g (lw_at lw_m5 237 rfl) rfl
theorem q1310 : (Jvm.Cond.classLink "TelescopeQueue$Parser" (250 : Nat) "TelescopeQueue$Visit") ∈ lw_all := lw_g (lw_at lw_m5 238 rfl) rfl
theorem q1312 : (Jvm.Cond.methodLink "TelescopeQueue$Parser" (252 : Nat) ({ cls := "TelescopeQueue$Visit", name := "<init>", desc := "(IIIIIIII)V" } : Jvm.MethodName)) ∈ lw_all := lw_g (lw_at lw_m6 0 rfl) rfl
theorem q1345 : (Jvm.Cond.methodLink "TelescopeQueue$Parser" (210 : Nat) ({ cls := "TelescopeQueue$Parser", name := "alert", desc := "()V" } : Jvm.MethodName)) ∈ lw_all := lw_g (lw_at lw_m6 33 rfl) rfl
theorem q1346 : (Jvm.Cond.privateMethod ({ cls := "TelescopeQueue$Parser", name := "alert", desc := "()V" } : Jvm.MethodName)) ∈ lw_tbl := lw_at lw_m6 34 rfl
theorem q1347 : (Jvm.Cond.instanceMethod ({ cls := "TelescopeQueue$Parser", name := "alert", desc := "()V" } : Jvm.MethodName)) ∈ lw_all := lw_g (lw_at lw_m6 35 rfl) rfl
theorem q1348 : (Jvm.Cond.code ({ cls := "TelescopeQueue$Parser", name := "alert", desc := "()V" } : Jvm.MethodName) prog_8_method_18_code (7 : Nat) (Option.none : Option Jvm.ClassFile.FieldType)) ∈ lw_all := lw_g (lw_at lw_m6 36 rfl) rfl
theorem q1349 : (Jvm.Cond.classLink "TelescopeQueue$Parser" (255 : Nat) "TelescopeQueue$Alert") ∈ lw_all := lw_g (lw_at lw_m6 37 rfl) rfl
theorem q1351 : (Jvm.Cond.methodLink "TelescopeQueue$Parser" (257 : Nat) ({ cls := "TelescopeQueue$Alert", name := "<init>", desc := "(IIIIIII)V" } : Jvm.MethodName)) ∈ lw_all := lw_g (lw_at lw_m6 39 rfl) rfl
theorem q1370 : (Jvm.Cond.classLink "TelescopeQueue$Parser" (215 : Nat) "TelescopeQueue$Outage") ∈ lw_all := lw_g (lw_at lw_m6 58 rfl) rfl
theorem q1372 : (Jvm.Cond.methodLink "TelescopeQueue$Parser" (217 : Nat) ({ cls := "TelescopeQueue$Outage", name := "<init>", desc := "(II)V" } : Jvm.MethodName)) ∈ lw_all := lw_g (lw_at lw_m6 60 rfl) rfl
theorem q1383 : (Jvm.Cond.interfaceEntry "TelescopeQueue$Parser" (175 : Nat)) ∈ lw_tbl := lw_at lw_m6 71 rfl
theorem q1384 : (Jvm.Cond.methodLink "TelescopeQueue$Parser" (175 : Nat) ({ cls := "java/util/List", name := "isEmpty", desc := "()Z" } : Jvm.MethodName)) ∈ lw_all := lw_g (lw_at lw_m6 72 rfl) rfl
theorem q1392 : (Jvm.Cond.methodLink "TelescopeQueue$Parser" (178 : Nat) ({ cls := "TelescopeQueue$State", name := "begin", desc := "()LTelescopeQueue$State;" } : Jvm.MethodName)) ∈ lw_all := lw_g (lw_at lw_m6 80 rfl) rfl
theorem q3280 : (Jvm.Cond.castable "TelescopeQueue$Parser" "java/lang/Object") ∈ lw_tbl := lw_at lw_m14 48 rfl
theorem in_X11 : ∀ w ∈ wsX110, w ∈ lw_all := lw_in wsX110 [968, 970, 972, 974, 976, 978, 980, 982] (by decide +kernel) (by decide +kernel)

/-! TelescopeQueue$Scope -/
set_option maxRecDepth 100000
def RX12 : String := "TelescopeQueue$Scope"
def TX12 : u_T := fun k => match k with
  | 0 => ("TelescopeQueue$Scope", "proposals", "Ljava/util/List;", true)
  | 1 => ("TelescopeQueue$Scope", "visits", "Ljava/util/List;", true)
  | 2 => ("TelescopeQueue$Scope", "outages", "Ljava/util/List;", true)
  | 3 => ("TelescopeQueue$Scope", "horizon", "I", false)
  | 4 => ("TelescopeQueue$Scope", "settle", "I", false)
  | 5 => ("TelescopeQueue$Scope", "speed", "I", false)
  | 6 => ("TelescopeQueue$Scope", "cap", "I", false)
  | 7 => ("TelescopeQueue$Scope", "dump", "I", false)
  | 8 => ("TelescopeQueue$Scope", "cal", "I", false)
  | 9 => ("TelescopeQueue$Scope", "sun", "I", false)
  | 10 => ("TelescopeQueue$Scope", "drift", "I", false)
  | _ => ("TelescopeQueue$Scope", "avoid", "I", false)
def tyX12 : Nat → FieldType := fun k => match k with
  | 0 => .object "java/util/List"
  | 1 => .object "java/util/List"
  | 2 => .object "java/util/List"
  | 3 => .int
  | 4 => .int
  | 5 => .int
  | 6 => .int
  | 7 => .int
  | 8 => .int
  | 9 => .int
  | 10 => .int
  | _ => .int
abbrev wsX120 : List Cond := u_ws RX12 TX12 12
theorem nmX12 : ∀ a, a < 12 → ∀ b, b < 12 → a ≠ b → (TX12 a).2.1 ≠ (TX12 b).2.1 := by decide +kernel
theorem tyX12_ok : ∀ k, k < 12 → parseFieldDescriptor (TX12 k).2.2.1 = some (tyX12 k) := by decide +kernel
abbrev cX12_init : ByteArray := prog_14_method_1_code
def yX12_init : MethodName := ⟨RX12, "<init>", "()V"⟩
def dkwX12_init_1 : List UInt8 := [183, 0, 11, 181, 0, 20, 42, 187, 0, 9, 89, 5, 183, 0, 11, 181, 0, 23, 177]
abbrev dktX12_init_1 : List UInt8 := dkwX12_init_1 ++ []
def dkwX12_init_0 : List UInt8 := [42, 183, 0, 3, 42, 187, 0, 9, 89, 7, 183, 0, 11, 181, 0, 14, 42, 187, 0, 9, 89, 16, 8]
abbrev dktX12_init_0 : List UInt8 := dkwX12_init_0 ++ dktX12_init_1
theorem dksX12_init_0 : cX12_init.data.toList.drop 0 = dktX12_init_0 := by decide +kernel
theorem dksX12_init_1 : cX12_init.data.toList.drop 23 = dktX12_init_1 := dk_seg dksX12_init_0 23 rfl rfl
theorem dX12_init_0 : decode cX12_init 0 = .ok (.aload_n 0, 1) := dk_42 (dk_at dksX12_init_0 0 rfl rfl)
theorem dX12_init_1 : decode cX12_init 1 = .ok (.invokespecial 3, 3) := dk_183 0 3 (dk_at dksX12_init_0 1 rfl rfl)
theorem dX12_init_4 : decode cX12_init 4 = .ok (.aload_n 0, 1) := dk_42 (dk_at dksX12_init_0 4 rfl rfl)
theorem dX12_init_5 : decode cX12_init 5 = .ok (.new 9, 3) := dk_187 0 9 (dk_at dksX12_init_0 5 rfl rfl)
theorem dX12_init_8 : decode cX12_init 8 = .ok (.dup, 1) := dk_89 (dk_at dksX12_init_0 8 rfl rfl)
theorem dX12_init_9 : decode cX12_init 9 = .ok (.iconst 4, 1) := dk_7 (dk_at dksX12_init_0 9 rfl rfl)
theorem dX12_init_10 : decode cX12_init 10 = .ok (.invokespecial 11, 3) := dk_183 0 11 (dk_at dksX12_init_0 10 rfl rfl)
theorem dX12_init_13 : decode cX12_init 13 = .ok (.putfield 14, 3) := dk_181 0 14 (dk_at dksX12_init_0 13 rfl rfl)
theorem dX12_init_16 : decode cX12_init 16 = .ok (.aload_n 0, 1) := dk_42 (dk_at dksX12_init_0 16 rfl rfl)
theorem dX12_init_17 : decode cX12_init 17 = .ok (.new 9, 3) := dk_187 0 9 (dk_at dksX12_init_0 17 rfl rfl)
theorem dX12_init_20 : decode cX12_init 20 = .ok (.dup, 1) := dk_89 (dk_at dksX12_init_0 20 rfl rfl)
theorem dX12_init_21 : decode cX12_init 21 = .ok (.bipush 8, 2) := dk_16 8 (dk_at dksX12_init_0 21 rfl rfl)
theorem dX12_init_23 : decode cX12_init 23 = .ok (.invokespecial 11, 3) := dk_183 0 11 (dk_at dksX12_init_1 0 rfl rfl)
theorem dX12_init_26 : decode cX12_init 26 = .ok (.putfield 20, 3) := dk_181 0 20 (dk_at dksX12_init_1 3 rfl rfl)
theorem dX12_init_29 : decode cX12_init 29 = .ok (.aload_n 0, 1) := dk_42 (dk_at dksX12_init_1 6 rfl rfl)
theorem dX12_init_30 : decode cX12_init 30 = .ok (.new 9, 3) := dk_187 0 9 (dk_at dksX12_init_1 7 rfl rfl)
theorem dX12_init_33 : decode cX12_init 33 = .ok (.dup, 1) := dk_89 (dk_at dksX12_init_1 10 rfl rfl)
theorem dX12_init_34 : decode cX12_init 34 = .ok (.iconst 2, 1) := dk_5 (dk_at dksX12_init_1 11 rfl rfl)
theorem dX12_init_35 : decode cX12_init 35 = .ok (.invokespecial 11, 3) := dk_183 0 11 (dk_at dksX12_init_1 12 rfl rfl)
theorem dX12_init_38 : decode cX12_init 38 = .ok (.putfield 23, 3) := dk_181 0 23 (dk_at dksX12_init_1 15 rfl rfl)
theorem dX12_init_41 : decode cX12_init 41 = .ok (.return_, 1) := dk_177 (dk_at dksX12_init_1 18 rfl rfl)
abbrev cX12_sunAt : ByteArray := prog_14_method_3_code
def yX12_sunAt : MethodName := ⟨RX12, "sunAt", "(I)I"⟩
def dkwX12_sunAt_0 : List UInt8 := [42, 180, 0, 33, 27, 42, 180, 0, 36, 108, 17, 1, 104, 112, 96, 17, 1, 104, 112, 172]
abbrev dktX12_sunAt_0 : List UInt8 := dkwX12_sunAt_0 ++ []
theorem dksX12_sunAt_0 : cX12_sunAt.data.toList.drop 0 = dktX12_sunAt_0 := by decide +kernel
theorem dX12_sunAt_0 : decode cX12_sunAt 0 = .ok (.aload_n 0, 1) := dk_42 (dk_at dksX12_sunAt_0 0 rfl rfl)
theorem dX12_sunAt_1 : decode cX12_sunAt 1 = .ok (.getfield 33, 3) := dk_180 0 33 (dk_at dksX12_sunAt_0 1 rfl rfl)
theorem dX12_sunAt_4 : decode cX12_sunAt 4 = .ok (.iload_n 1, 1) := dk_27 (dk_at dksX12_sunAt_0 4 rfl rfl)
theorem dX12_sunAt_5 : decode cX12_sunAt 5 = .ok (.aload_n 0, 1) := dk_42 (dk_at dksX12_sunAt_0 5 rfl rfl)
theorem dX12_sunAt_6 : decode cX12_sunAt 6 = .ok (.getfield 36, 3) := dk_180 0 36 (dk_at dksX12_sunAt_0 6 rfl rfl)
theorem dX12_sunAt_9 : decode cX12_sunAt 9 = .ok (.idiv, 1) := dk_108 (dk_at dksX12_sunAt_0 9 rfl rfl)
theorem dX12_sunAt_10 : decode cX12_sunAt 10 = .ok (.sipush 360, 3) := dk_17 1 104 (dk_at dksX12_sunAt_0 10 rfl rfl)
theorem dX12_sunAt_13 : decode cX12_sunAt 13 = .ok (.irem, 1) := dk_112 (dk_at dksX12_sunAt_0 13 rfl rfl)
theorem dX12_sunAt_14 : decode cX12_sunAt 14 = .ok (.iadd, 1) := dk_96 (dk_at dksX12_sunAt_0 14 rfl rfl)
theorem dX12_sunAt_15 : decode cX12_sunAt 15 = .ok (.sipush 360, 3) := dk_17 1 104 (dk_at dksX12_sunAt_0 15 rfl rfl)
theorem dX12_sunAt_18 : decode cX12_sunAt 18 = .ok (.irem, 1) := dk_112 (dk_at dksX12_sunAt_0 18 rfl rfl)
theorem dX12_sunAt_19 : decode cX12_sunAt 19 = .ok (.ireturn, 1) := dk_172 (dk_at dksX12_sunAt_0 19 rfl rfl)
abbrev cX12_slew : ByteArray := prog_14_method_2_code
def yX12_slew : MethodName := ⟨RX12, "slew", "(I)I"⟩
def dkwX12_slew_1 : List UInt8 := [108, 96, 172]
abbrev dktX12_slew_1 : List UInt8 := dkwX12_slew_1 ++ []
def dkwX12_slew_0 : List UInt8 := [27, 154, 0, 7, 3, 167, 0, 21, 42, 180, 0, 26, 27, 42, 180, 0, 30, 96, 4, 100, 42, 180, 0, 30]
abbrev dktX12_slew_0 : List UInt8 := dkwX12_slew_0 ++ dktX12_slew_1
theorem dksX12_slew_0 : cX12_slew.data.toList.drop 0 = dktX12_slew_0 := by decide +kernel
theorem dksX12_slew_1 : cX12_slew.data.toList.drop 24 = dktX12_slew_1 := dk_seg dksX12_slew_0 24 rfl rfl
theorem dX12_slew_0 : decode cX12_slew 0 = .ok (.iload_n 1, 1) := dk_27 (dk_at dksX12_slew_0 0 rfl rfl)
theorem dX12_slew_1 : decode cX12_slew 1 = .ok (.ifCond .ne 7, 3) := dk_154 0 7 (dk_at dksX12_slew_0 1 rfl rfl)
theorem dX12_slew_4 : decode cX12_slew 4 = .ok (.iconst 0, 1) := dk_3 (dk_at dksX12_slew_0 4 rfl rfl)
theorem dX12_slew_5 : decode cX12_slew 5 = .ok (.goto 21, 3) := dk_167 0 21 (dk_at dksX12_slew_0 5 rfl rfl)
theorem dX12_slew_8 : decode cX12_slew 8 = .ok (.aload_n 0, 1) := dk_42 (dk_at dksX12_slew_0 8 rfl rfl)
theorem dX12_slew_9 : decode cX12_slew 9 = .ok (.getfield 26, 3) := dk_180 0 26 (dk_at dksX12_slew_0 9 rfl rfl)
theorem dX12_slew_12 : decode cX12_slew 12 = .ok (.iload_n 1, 1) := dk_27 (dk_at dksX12_slew_0 12 rfl rfl)
theorem dX12_slew_13 : decode cX12_slew 13 = .ok (.aload_n 0, 1) := dk_42 (dk_at dksX12_slew_0 13 rfl rfl)
theorem dX12_slew_14 : decode cX12_slew 14 = .ok (.getfield 30, 3) := dk_180 0 30 (dk_at dksX12_slew_0 14 rfl rfl)
theorem dX12_slew_17 : decode cX12_slew 17 = .ok (.iadd, 1) := dk_96 (dk_at dksX12_slew_0 17 rfl rfl)
theorem dX12_slew_18 : decode cX12_slew 18 = .ok (.iconst 1, 1) := dk_4 (dk_at dksX12_slew_0 18 rfl rfl)
theorem dX12_slew_19 : decode cX12_slew 19 = .ok (.isub, 1) := dk_100 (dk_at dksX12_slew_0 19 rfl rfl)
theorem dX12_slew_20 : decode cX12_slew 20 = .ok (.aload_n 0, 1) := dk_42 (dk_at dksX12_slew_0 20 rfl rfl)
theorem dX12_slew_21 : decode cX12_slew 21 = .ok (.getfield 30, 3) := dk_180 0 30 (dk_at dksX12_slew_0 21 rfl rfl)
theorem dX12_slew_24 : decode cX12_slew 24 = .ok (.idiv, 1) := dk_108 (dk_at dksX12_slew_1 0 rfl rfl)
theorem dX12_slew_25 : decode cX12_slew 25 = .ok (.iadd, 1) := dk_96 (dk_at dksX12_slew_1 1 rfl rfl)
theorem dX12_slew_26 : decode cX12_slew 26 = .ok (.ireturn, 1) := dk_172 (dk_at dksX12_slew_1 2 rfl rfl)
abbrev cX12_isVisible : ByteArray := prog_14_method_4_code
def yX12_isVisible : MethodName := ⟨RX12, "isVisible", "(II)Z"⟩
def dkwX12_isVisible_0 : List UInt8 := [27, 42, 28, 182, 0, 39, 184, 0, 43, 42, 180, 0, 49, 161, 0, 7, 4, 167, 0, 4, 3, 172]
abbrev dktX12_isVisible_0 : List UInt8 := dkwX12_isVisible_0 ++ []
theorem dksX12_isVisible_0 : cX12_isVisible.data.toList.drop 0 = dktX12_isVisible_0 := by decide +kernel
theorem dX12_isVisible_0 : decode cX12_isVisible 0 = .ok (.iload_n 1, 1) := dk_27 (dk_at dksX12_isVisible_0 0 rfl rfl)
theorem dX12_isVisible_1 : decode cX12_isVisible 1 = .ok (.aload_n 0, 1) := dk_42 (dk_at dksX12_isVisible_0 1 rfl rfl)
theorem dX12_isVisible_2 : decode cX12_isVisible 2 = .ok (.iload_n 2, 1) := dk_28 (dk_at dksX12_isVisible_0 2 rfl rfl)
theorem dX12_isVisible_3 : decode cX12_isVisible 3 = .ok (.invokevirtual 39, 3) := dk_182 0 39 (dk_at dksX12_isVisible_0 3 rfl rfl)
theorem dX12_isVisible_6 : decode cX12_isVisible 6 = .ok (.invokestatic 43, 3) := dk_184 0 43 (dk_at dksX12_isVisible_0 6 rfl rfl)
theorem dX12_isVisible_9 : decode cX12_isVisible 9 = .ok (.aload_n 0, 1) := dk_42 (dk_at dksX12_isVisible_0 9 rfl rfl)
theorem dX12_isVisible_10 : decode cX12_isVisible 10 = .ok (.getfield 49, 3) := dk_180 0 49 (dk_at dksX12_isVisible_0 10 rfl rfl)
theorem dX12_isVisible_13 : decode cX12_isVisible 13 = .ok (.if_icmp .lt 7, 3) := dk_161 0 7 (dk_at dksX12_isVisible_0 13 rfl rfl)
theorem dX12_isVisible_16 : decode cX12_isVisible 16 = .ok (.iconst 1, 1) := dk_4 (dk_at dksX12_isVisible_0 16 rfl rfl)
theorem dX12_isVisible_17 : decode cX12_isVisible 17 = .ok (.goto 4, 3) := dk_167 0 4 (dk_at dksX12_isVisible_0 17 rfl rfl)
theorem dX12_isVisible_20 : decode cX12_isVisible 20 = .ok (.iconst 0, 1) := dk_3 (dk_at dksX12_isVisible_0 20 rfl rfl)
theorem dX12_isVisible_21 : decode cX12_isVisible 21 = .ok (.ireturn, 1) := dk_172 (dk_at dksX12_isVisible_0 21 rfl rfl)
abbrev cX12_isOut : ByteArray := prog_14_method_5_code
def yX12_isOut : MethodName := ⟨RX12, "isOut", "(II)Z"⟩
def dkwX12_isOut_2 : List UInt8 := [3, 172]
abbrev dktX12_isOut_2 : List UInt8 := dkwX12_isOut_2 ++ []
def dkwX12_isOut_1 : List UInt8 := [185, 0, 58, 2, 0, 192, 0, 62, 27, 28, 182, 0, 64, 153, 0, 5, 4, 172, 132, 3, 1, 167, 255, 217]
abbrev dktX12_isOut_1 : List UInt8 := dkwX12_isOut_1 ++ dktX12_isOut_2
def dkwX12_isOut_0 : List UInt8 := [3, 62, 29, 42, 180, 0, 23, 185, 0, 52, 1, 0, 162, 0, 32, 42, 180, 0, 23, 29]
abbrev dktX12_isOut_0 : List UInt8 := dkwX12_isOut_0 ++ dktX12_isOut_1
theorem dksX12_isOut_0 : cX12_isOut.data.toList.drop 0 = dktX12_isOut_0 := by decide +kernel
theorem dksX12_isOut_1 : cX12_isOut.data.toList.drop 20 = dktX12_isOut_1 := dk_seg dksX12_isOut_0 20 rfl rfl
theorem dksX12_isOut_2 : cX12_isOut.data.toList.drop 44 = dktX12_isOut_2 := dk_seg dksX12_isOut_1 24 rfl rfl
theorem dX12_isOut_0 : decode cX12_isOut 0 = .ok (.iconst 0, 1) := dk_3 (dk_at dksX12_isOut_0 0 rfl rfl)
theorem dX12_isOut_1 : decode cX12_isOut 1 = .ok (.istore_n 3, 1) := dk_62 (dk_at dksX12_isOut_0 1 rfl rfl)
theorem dX12_isOut_2 : decode cX12_isOut 2 = .ok (.iload_n 3, 1) := dk_29 (dk_at dksX12_isOut_0 2 rfl rfl)
theorem dX12_isOut_3 : decode cX12_isOut 3 = .ok (.aload_n 0, 1) := dk_42 (dk_at dksX12_isOut_0 3 rfl rfl)
theorem dX12_isOut_4 : decode cX12_isOut 4 = .ok (.getfield 23, 3) := dk_180 0 23 (dk_at dksX12_isOut_0 4 rfl rfl)
theorem dX12_isOut_7 : decode cX12_isOut 7 = .ok (.invokeinterface 52 1, 5) := by decide +kernel
theorem dX12_isOut_12 : decode cX12_isOut 12 = .ok (.if_icmp .ge 32, 3) := dk_162 0 32 (dk_at dksX12_isOut_0 12 rfl rfl)
theorem dX12_isOut_15 : decode cX12_isOut 15 = .ok (.aload_n 0, 1) := dk_42 (dk_at dksX12_isOut_0 15 rfl rfl)
theorem dX12_isOut_16 : decode cX12_isOut 16 = .ok (.getfield 23, 3) := dk_180 0 23 (dk_at dksX12_isOut_0 16 rfl rfl)
theorem dX12_isOut_19 : decode cX12_isOut 19 = .ok (.iload_n 3, 1) := dk_29 (dk_at dksX12_isOut_0 19 rfl rfl)
theorem dX12_isOut_20 : decode cX12_isOut 20 = .ok (.invokeinterface 58 2, 5) := by decide +kernel
theorem dX12_isOut_25 : decode cX12_isOut 25 = .ok (.checkcast 62, 3) := dk_192 0 62 (dk_at dksX12_isOut_1 5 rfl rfl)
theorem dX12_isOut_28 : decode cX12_isOut 28 = .ok (.iload_n 1, 1) := dk_27 (dk_at dksX12_isOut_1 8 rfl rfl)
theorem dX12_isOut_29 : decode cX12_isOut 29 = .ok (.iload_n 2, 1) := dk_28 (dk_at dksX12_isOut_1 9 rfl rfl)
theorem dX12_isOut_30 : decode cX12_isOut 30 = .ok (.invokevirtual 64, 3) := dk_182 0 64 (dk_at dksX12_isOut_1 10 rfl rfl)
theorem dX12_isOut_33 : decode cX12_isOut 33 = .ok (.ifCond .eq 5, 3) := dk_153 0 5 (dk_at dksX12_isOut_1 13 rfl rfl)
theorem dX12_isOut_36 : decode cX12_isOut 36 = .ok (.iconst 1, 1) := dk_4 (dk_at dksX12_isOut_1 16 rfl rfl)
theorem dX12_isOut_37 : decode cX12_isOut 37 = .ok (.ireturn, 1) := dk_172 (dk_at dksX12_isOut_1 17 rfl rfl)
theorem dX12_isOut_38 : decode cX12_isOut 38 = .ok (.iinc 3 1, 3) := dk_132 3 1 (dk_at dksX12_isOut_1 18 rfl rfl)
theorem dX12_isOut_41 : decode cX12_isOut 41 = .ok (.goto (-39), 3) := dk_167 255 217 (dk_at dksX12_isOut_1 21 rfl rfl)
theorem dX12_isOut_44 : decode cX12_isOut 44 = .ok (.iconst 0, 1) := dk_3 (dk_at dksX12_isOut_2 0 rfl rfl)
theorem dX12_isOut_45 : decode cX12_isOut 45 = .ok (.ireturn, 1) := dk_172 (dk_at dksX12_isOut_2 1 rfl rfl)
theorem q146 : (Jvm.Cond.initialized "TelescopeQueue$Scope") ∈ lw_all := lw_g (lw_at lw_m1 34 rfl) rfl
theorem q888 : (Jvm.Cond.instantiable "TelescopeQueue$Scope" (12 : Nat)) ∈ lw_all := lw_g (lw_at lw_m4 56 rfl) rfl
theorem q890 : (Jvm.Cond.instanceMethod ({ cls := "TelescopeQueue$Scope", name := "<init>", desc := "()V" } : Jvm.MethodName)) ∈ lw_all := lw_g (lw_at lw_m4 58 rfl) rfl
theorem q891 : (Jvm.Cond.code ({ cls := "TelescopeQueue$Scope", name := "<init>", desc := "()V" } : Jvm.MethodName) prog_14_method_1_code (1 : Nat) (Option.none : Option Jvm.ClassFile.FieldType)) ∈ lw_all := lw_g (lw_at lw_m4 59 rfl) rfl
theorem q892 : (Jvm.Cond.methodLink "TelescopeQueue$Scope" (3 : Nat) ({ cls := "java/lang/Object", name := "<init>", desc := "()V" } : Jvm.MethodName)) ∈ lw_all := lw_g (lw_at lw_m4 60 rfl) rfl
theorem q893 : (Jvm.Cond.classLink "TelescopeQueue$Scope" (9 : Nat) "java/util/ArrayList") ∈ lw_all := lw_g (lw_at lw_m4 61 rfl) rfl
theorem q894 : (Jvm.Cond.methodLink "TelescopeQueue$Scope" (11 : Nat) ({ cls := "java/util/ArrayList", name := "<init>", desc := "(I)V" } : Jvm.MethodName)) ∈ lw_all := lw_g (lw_at lw_m4 62 rfl) rfl
theorem q895 : (Jvm.Cond.fieldLink "TelescopeQueue$Scope" (14 : Nat) "TelescopeQueue$Scope" "proposals" "Ljava/util/List;") ∈ lw_all := lw_g (lw_at lw_m4 63 rfl) rfl
theorem q899 : (Jvm.Cond.fieldLink "TelescopeQueue$Scope" (20 : Nat) "TelescopeQueue$Scope" "visits" "Ljava/util/List;") ∈ lw_all := lw_g (lw_at lw_m4 67 rfl) rfl
theorem q903 : (Jvm.Cond.fieldLink "TelescopeQueue$Scope" (23 : Nat) "TelescopeQueue$Scope" "outages" "Ljava/util/List;") ∈ lw_all := lw_g (lw_at lw_m4 71 rfl) rfl
theorem q909 : (Jvm.Cond.fieldLink "TelescopeQueue$Scope" (26 : Nat) "TelescopeQueue$Scope" "settle" "I") ∈ lw_all := lw_g (lw_at lw_m4 77 rfl) rfl
theorem q912 : (Jvm.Cond.fieldLink "TelescopeQueue$Scope" (30 : Nat) "TelescopeQueue$Scope" "speed" "I") ∈ lw_all := lw_g (lw_at lw_m4 80 rfl) rfl
theorem q924 : (Jvm.Cond.fieldLink "TelescopeQueue$Scope" (33 : Nat) "TelescopeQueue$Scope" "sun" "I") ∈ lw_all := lw_g (lw_at lw_m4 92 rfl) rfl
theorem q927 : (Jvm.Cond.fieldLink "TelescopeQueue$Scope" (36 : Nat) "TelescopeQueue$Scope" "drift" "I") ∈ lw_all := lw_g (lw_at lw_m4 95 rfl) rfl
theorem q930 : (Jvm.Cond.fieldLink "TelescopeQueue$Scope" (49 : Nat) "TelescopeQueue$Scope" "avoid" "I") ∈ lw_all := lw_g (lw_at lw_m4 98 rfl) rfl
theorem q933 : (Jvm.Cond.laysFinal "TelescopeQueue$Scope" "TelescopeQueue$Scope" "proposals" "Ljava/util/List;") ∈ lw_all := lw_g (lw_at lw_m4 101 rfl) rfl
theorem q934 : (Jvm.Cond.soleField "TelescopeQueue$Scope" "proposals") ∈ lw_all := lw_g (lw_at lw_m4 102 rfl) rfl
theorem q935 : (Jvm.Cond.laysFinal "TelescopeQueue$Scope" "TelescopeQueue$Scope" "visits" "Ljava/util/List;") ∈ lw_all := lw_g (lw_at lw_m4 103 rfl) rfl
theorem q936 : (Jvm.Cond.soleField "TelescopeQueue$Scope" "visits") ∈ lw_all := lw_g (lw_at lw_m4 104 rfl) rfl
theorem q937 : (Jvm.Cond.laysFinal "TelescopeQueue$Scope" "TelescopeQueue$Scope" "outages" "Ljava/util/List;") ∈ lw_all := lw_g (lw_at lw_m4 105 rfl) rfl
theorem q938 : (Jvm.Cond.soleField "TelescopeQueue$Scope" "outages") ∈ lw_all := lw_g (lw_at lw_m4 106 rfl) rfl
theorem q939 : (Jvm.Cond.lays "TelescopeQueue$Scope" "TelescopeQueue$Scope" "horizon" "I") ∈ lw_all := lw_g (lw_at lw_m4 107 rfl) rfl
theorem q940 : (Jvm.Cond.soleField "TelescopeQueue$Scope" "horizon") ∈ lw_all := lw_g (lw_at lw_m4 108 rfl) rfl
theorem q941 : (Jvm.Cond.lays "TelescopeQueue$Scope" "TelescopeQueue$Scope" "settle" "I") ∈ lw_all := lw_g (lw_at lw_m4 109 rfl) rfl
theorem q942 : (Jvm.Cond.soleField "TelescopeQueue$Scope" "settle") ∈ lw_all := lw_g (lw_at lw_m4 110 rfl) rfl
theorem q943 : (Jvm.Cond.lays "TelescopeQueue$Scope" "TelescopeQueue$Scope" "speed" "I") ∈ lw_all := lw_g (lw_at lw_m4 111 rfl) rfl
theorem q944 : (Jvm.Cond.soleField "TelescopeQueue$Scope" "speed") ∈ lw_all := lw_g (lw_at lw_m4 112 rfl) rfl
theorem q945 : (Jvm.Cond.lays "TelescopeQueue$Scope" "TelescopeQueue$Scope" "cap" "I") ∈ lw_all := lw_g (lw_at lw_m4 113 rfl) rfl
theorem q946 : (Jvm.Cond.soleField "TelescopeQueue$Scope" "cap") ∈ lw_all := lw_g (lw_at lw_m4 114 rfl) rfl
theorem q947 : (Jvm.Cond.lays "TelescopeQueue$Scope" "TelescopeQueue$Scope" "dump" "I") ∈ lw_all := lw_g (lw_at lw_m4 115 rfl) rfl
theorem q948 : (Jvm.Cond.soleField "TelescopeQueue$Scope" "dump") ∈ lw_all := lw_g (lw_at lw_m4 116 rfl) rfl
theorem q949 : (Jvm.Cond.lays "TelescopeQueue$Scope" "TelescopeQueue$Scope" "cal" "I") ∈ lw_all := lw_g (lw_at lw_m4 117 rfl) rfl
theorem q950 : (Jvm.Cond.soleField "TelescopeQueue$Scope" "cal") ∈ lw_all := lw_g (lw_at lw_m4 118 rfl) rfl
theorem q951 : (Jvm.Cond.lays "TelescopeQueue$Scope" "TelescopeQueue$Scope" "sun" "I") ∈ lw_all := lw_g (lw_at lw_m4 119 rfl) rfl
theorem q952 : (Jvm.Cond.soleField "TelescopeQueue$Scope" "sun") ∈ lw_all := lw_g (lw_at lw_m4 120 rfl) rfl
theorem q953 : (Jvm.Cond.lays "TelescopeQueue$Scope" "TelescopeQueue$Scope" "drift" "I") ∈ lw_all := lw_g (lw_at lw_m4 121 rfl) rfl
theorem q954 : (Jvm.Cond.soleField "TelescopeQueue$Scope" "drift") ∈ lw_all := lw_g (lw_at lw_m4 122 rfl) rfl
theorem q955 : (Jvm.Cond.lays "TelescopeQueue$Scope" "TelescopeQueue$Scope" "avoid" "I") ∈ lw_all := lw_g (lw_at lw_m4 123 rfl) rfl
theorem q956 : (Jvm.Cond.soleField "TelescopeQueue$Scope" "avoid") ∈ lw_all := lw_g (lw_at lw_m4 124 rfl) rfl
theorem q957 : (Jvm.Cond.superclass "TelescopeQueue$Scope" "java/lang/Object") ∈ lw_all := lw_g (lw_at lw_m4 125 rfl) rfl
theorem q1275 : (Jvm.Cond.selects "TelescopeQueue$Scope" ({ cls := "java/lang/Object", name := "getClass", desc := "()Ljava/lang/Class;" } : Jvm.MethodName) ({ cls := "java/lang/Object", name := "getClass", desc := "()Ljava/lang/Class;" } : Jvm.MethodName)) ∈ lw_all := lw_g (lw_at lw_m5 203 rfl) rfl
theorem q1651 : (Jvm.Cond.instanceMethod ({ cls := "TelescopeQueue$Scope", name := "sunAt", desc := "(I)I" } : Jvm.MethodName)) ∈ lw_all := lw_g (lw_at lw_m7 99 rfl) rfl
theorem q1652 : (Jvm.Cond.selects "TelescopeQueue$Scope" ({ cls := "TelescopeQueue$Scope", name := "sunAt", desc := "(I)I" } : Jvm.MethodName) ({ cls := "TelescopeQueue$Scope", name := "sunAt", desc := "(I)I" } : Jvm.MethodName)) ∈ lw_all := lw_g (lw_at lw_m7 100 rfl) rfl
theorem q1653 : (Jvm.Cond.code ({ cls := "TelescopeQueue$Scope", name := "sunAt", desc := "(I)I" } : Jvm.MethodName) prog_14_method_3_code (2 : Nat) (Option.some Jvm.ClassFile.FieldType.int)) ∈ lw_all := lw_g (lw_at lw_m7 101 rfl) rfl
theorem q1690 : (Jvm.Cond.instanceMethod ({ cls := "TelescopeQueue$Scope", name := "slew", desc := "(I)I" } : Jvm.MethodName)) ∈ lw_all := lw_g (lw_at lw_m7 138 rfl) rfl
theorem q1691 : (Jvm.Cond.selects "TelescopeQueue$Scope" ({ cls := "TelescopeQueue$Scope", name := "slew", desc := "(I)I" } : Jvm.MethodName) ({ cls := "TelescopeQueue$Scope", name := "slew", desc := "(I)I" } : Jvm.MethodName)) ∈ lw_all := lw_g (lw_at lw_m7 139 rfl) rfl
theorem q1692 : (Jvm.Cond.code ({ cls := "TelescopeQueue$Scope", name := "slew", desc := "(I)I" } : Jvm.MethodName) prog_14_method_2_code (2 : Nat) (Option.some Jvm.ClassFile.FieldType.int)) ∈ lw_all := lw_g (lw_at lw_m7 140 rfl) rfl
theorem q1701 : (Jvm.Cond.instanceMethod ({ cls := "TelescopeQueue$Scope", name := "isVisible", desc := "(II)Z" } : Jvm.MethodName)) ∈ lw_all := lw_g (lw_at lw_m7 149 rfl) rfl
theorem q1702 : (Jvm.Cond.selects "TelescopeQueue$Scope" ({ cls := "TelescopeQueue$Scope", name := "isVisible", desc := "(II)Z" } : Jvm.MethodName) ({ cls := "TelescopeQueue$Scope", name := "isVisible", desc := "(II)Z" } : Jvm.MethodName)) ∈ lw_all := lw_g (lw_at lw_m7 150 rfl) rfl
theorem q1703 : (Jvm.Cond.code ({ cls := "TelescopeQueue$Scope", name := "isVisible", desc := "(II)Z" } : Jvm.MethodName) prog_14_method_4_code (3 : Nat) (Option.some Jvm.ClassFile.FieldType.boolean)) ∈ lw_all := lw_g (lw_at lw_m7 151 rfl) rfl
theorem q1704 : (Jvm.Cond.methodLink "TelescopeQueue$Scope" (39 : Nat) ({ cls := "TelescopeQueue$Scope", name := "sunAt", desc := "(I)I" } : Jvm.MethodName)) ∈ lw_all := lw_g (lw_at lw_m7 152 rfl) rfl
theorem q1705 : (Jvm.Cond.methodLink "TelescopeQueue$Scope" (43 : Nat) ({ cls := "TelescopeQueue$Placed", name := "around", desc := "(II)I" } : Jvm.MethodName)) ∈ lw_all := lw_g (lw_at lw_m7 153 rfl) rfl
theorem q1830 : (Jvm.Cond.instanceMethod ({ cls := "TelescopeQueue$Scope", name := "isOut", desc := "(II)Z" } : Jvm.MethodName)) ∈ lw_all := lw_g (lw_at lw_m8 38 rfl) rfl
theorem q1831 : (Jvm.Cond.selects "TelescopeQueue$Scope" ({ cls := "TelescopeQueue$Scope", name := "isOut", desc := "(II)Z" } : Jvm.MethodName) ({ cls := "TelescopeQueue$Scope", name := "isOut", desc := "(II)Z" } : Jvm.MethodName)) ∈ lw_all := lw_g (lw_at lw_m8 39 rfl) rfl
theorem q1832 : (Jvm.Cond.code ({ cls := "TelescopeQueue$Scope", name := "isOut", desc := "(II)Z" } : Jvm.MethodName) prog_14_method_5_code (4 : Nat) (Option.some Jvm.ClassFile.FieldType.boolean)) ∈ lw_all := lw_g (lw_at lw_m8 40 rfl) rfl
theorem q1833 : (Jvm.Cond.interfaceEntry "TelescopeQueue$Scope" (52 : Nat)) ∈ lw_tbl := lw_at lw_m8 41 rfl
theorem q1834 : (Jvm.Cond.methodLink "TelescopeQueue$Scope" (52 : Nat) ({ cls := "java/util/List", name := "size", desc := "()I" } : Jvm.MethodName)) ∈ lw_all := lw_g (lw_at lw_m8 42 rfl) rfl
theorem q1835 : (Jvm.Cond.interfaceEntry "TelescopeQueue$Scope" (58 : Nat)) ∈ lw_tbl := lw_at lw_m8 43 rfl
theorem q1836 : (Jvm.Cond.methodLink "TelescopeQueue$Scope" (58 : Nat) ({ cls := "java/util/List", name := "get", desc := "(I)Ljava/lang/Object;" } : Jvm.MethodName)) ∈ lw_all := lw_g (lw_at lw_m8 44 rfl) rfl
theorem q1837 : (Jvm.Cond.classLink "TelescopeQueue$Scope" (62 : Nat) "TelescopeQueue$Outage") ∈ lw_all := lw_g (lw_at lw_m8 45 rfl) rfl
theorem q1838 : (Jvm.Cond.methodLink "TelescopeQueue$Scope" (64 : Nat) ({ cls := "TelescopeQueue$Outage", name := "overlaps", desc := "(II)Z" } : Jvm.MethodName)) ∈ lw_all := lw_g (lw_at lw_m8 46 rfl) rfl
theorem q3281 : (Jvm.Cond.castable "TelescopeQueue$Scope" "java/lang/Object") ∈ lw_tbl := lw_at lw_m14 49 rfl
theorem in_X12 : ∀ w ∈ wsX120, w ∈ lw_all := lw_in wsX120 [933, 935, 937, 939, 941, 943, 945, 947, 949, 951, 953, 955] (by decide +kernel) (by decide +kernel)

/-! TelescopeQueue$Flaw -/
set_option maxRecDepth 100000
def RX13 : String := "TelescopeQueue$Flaw"
def TX13 : u_T := fun k => match k with
  | 0 => ("java/lang/Throwable", "cause", "Ljava/lang/Throwable;", false)
  | 1 => ("java/lang/Throwable", "stackTrace", "[Ljava/lang/StackTraceElement;", false)
  | 2 => ("java/lang/Throwable", "suppressedExceptions", "Ljava/util/List;", false)
  | 3 => ("java/lang/Throwable", "detailMessage", "Ljava/lang/String;", false)
  | 4 => ("java/lang/Throwable", "backtrace", "Ljava/lang/Object;", false)
  | 5 => ("java/lang/Throwable", "depth", "I", false)
  | 6 => ("TelescopeQueue$Flaw", "code", "I", true)
  | _ => ("TelescopeQueue$Flaw", "position", "I", true)
def tyX13 : Nat → FieldType := fun k => match k with
  | 0 => .object "java/lang/Throwable"
  | 1 => .array (.object "java/lang/StackTraceElement")
  | 2 => .object "java/util/List"
  | 3 => .object "java/lang/String"
  | 4 => .object "java/lang/Object"
  | 5 => .int
  | 6 => .int
  | _ => .int
abbrev wsX130 : List Cond := u_ws RX13 TX13 8
theorem nmX13 : ∀ a, a < 8 → ∀ b, b < 8 → a ≠ b → (TX13 a).2.1 ≠ (TX13 b).2.1 := by decide +kernel
theorem tyX13_ok : ∀ k, k < 8 → parseFieldDescriptor (TX13 k).2.2.1 = some (tyX13 k) := by decide +kernel
abbrev cX13_init : ByteArray := prog_5_method_1_code
def yX13_init : MethodName := ⟨RX13, "<init>", "(II)V"⟩
def dkwX13_init_0 : List UInt8 := [42, 1, 1, 3, 3, 183, 0, 1, 42, 27, 181, 0, 7, 42, 28, 181, 0, 13, 177]
abbrev dktX13_init_0 : List UInt8 := dkwX13_init_0 ++ []
theorem dksX13_init_0 : cX13_init.data.toList.drop 0 = dktX13_init_0 := by decide +kernel
theorem dX13_init_0 : decode cX13_init 0 = .ok (.aload_n 0, 1) := dk_42 (dk_at dksX13_init_0 0 rfl rfl)
theorem dX13_init_1 : decode cX13_init 1 = .ok (.aconst_null, 1) := dk_1 (dk_at dksX13_init_0 1 rfl rfl)
theorem dX13_init_2 : decode cX13_init 2 = .ok (.aconst_null, 1) := dk_1 (dk_at dksX13_init_0 2 rfl rfl)
theorem dX13_init_3 : decode cX13_init 3 = .ok (.iconst 0, 1) := dk_3 (dk_at dksX13_init_0 3 rfl rfl)
theorem dX13_init_4 : decode cX13_init 4 = .ok (.iconst 0, 1) := dk_3 (dk_at dksX13_init_0 4 rfl rfl)
theorem dX13_init_5 : decode cX13_init 5 = .ok (.invokespecial 1, 3) := dk_183 0 1 (dk_at dksX13_init_0 5 rfl rfl)
theorem dX13_init_8 : decode cX13_init 8 = .ok (.aload_n 0, 1) := dk_42 (dk_at dksX13_init_0 8 rfl rfl)
theorem dX13_init_9 : decode cX13_init 9 = .ok (.iload_n 1, 1) := dk_27 (dk_at dksX13_init_0 9 rfl rfl)
theorem dX13_init_10 : decode cX13_init 10 = .ok (.putfield 7, 3) := dk_181 0 7 (dk_at dksX13_init_0 10 rfl rfl)
theorem dX13_init_13 : decode cX13_init 13 = .ok (.aload_n 0, 1) := dk_42 (dk_at dksX13_init_0 13 rfl rfl)
theorem dX13_init_14 : decode cX13_init 14 = .ok (.iload_n 2, 1) := dk_28 (dk_at dksX13_init_0 14 rfl rfl)
theorem dX13_init_15 : decode cX13_init 15 = .ok (.putfield 13, 3) := dk_181 0 13 (dk_at dksX13_init_0 15 rfl rfl)
theorem dX13_init_18 : decode cX13_init 18 = .ok (.return_, 1) := dk_177 (dk_at dksX13_init_0 18 rfl rfl)
theorem q147 : (Jvm.Cond.initialized "TelescopeQueue$Flaw") ∈ lw_all := lw_g (lw_at lw_m1 35 rfl) rfl
theorem q255 : (Jvm.Cond.selects "TelescopeQueue$Flaw" ({ cls := "java/lang/Throwable", name := "fillInStackTrace", desc := "()Ljava/lang/Throwable;" } : Jvm.MethodName) ({ cls := "java/lang/Throwable", name := "fillInStackTrace", desc := "()Ljava/lang/Throwable;" } : Jvm.MethodName)) ∈ lw_all := lw_g (lw_at lw_m1 143 rfl) rfl
theorem q1055 : (Jvm.Cond.instantiable "TelescopeQueue$Flaw" (8 : Nat)) ∈ lw_all := lw_g (lw_at lw_m4 223 rfl) rfl
theorem q1056 : (Jvm.Cond.castable "TelescopeQueue$Flaw" "TelescopeQueue$Flaw") ∈ lw_tbl := lw_at lw_m4 224 rfl
theorem q1057 : (Jvm.Cond.selects "TelescopeQueue$Flaw" ({ cls := "java/lang/Throwable", name := "fillInStackTrace", desc := "(I)Ljava/lang/Throwable;" } : Jvm.MethodName) ({ cls := "java/lang/Throwable", name := "fillInStackTrace", desc := "(I)Ljava/lang/Throwable;" } : Jvm.MethodName)) ∈ lw_all := lw_g (lw_at lw_m4 225 rfl) rfl
theorem q1058 : (Jvm.Cond.lays "TelescopeQueue$Flaw" "java/lang/Throwable" "cause" "Ljava/lang/Throwable;") ∈ lw_all := lw_g (lw_at lw_m4 226 rfl) rfl
theorem q1059 : (Jvm.Cond.lays "TelescopeQueue$Flaw" "java/lang/Throwable" "stackTrace" "[Ljava/lang/StackTraceElement;") ∈ lw_all := lw_g (lw_at lw_m4 227 rfl) rfl
theorem q1060 : (Jvm.Cond.lays "TelescopeQueue$Flaw" "java/lang/Throwable" "suppressedExceptions" "Ljava/util/List;") ∈ lw_all := lw_g (lw_at lw_m4 228 rfl) rfl
theorem q1061 : (Jvm.Cond.lays "TelescopeQueue$Flaw" "java/lang/Throwable" "detailMessage" "Ljava/lang/String;") ∈ lw_all := lw_g (lw_at lw_m4 229 rfl) rfl
theorem q1062 : (Jvm.Cond.lays "TelescopeQueue$Flaw" "java/lang/Throwable" "backtrace" "Ljava/lang/Object;") ∈ lw_all := lw_g (lw_at lw_m4 230 rfl) rfl
theorem q1064 : (Jvm.Cond.instanceMethod ({ cls := "TelescopeQueue$Flaw", name := "<init>", desc := "(II)V" } : Jvm.MethodName)) ∈ lw_all := lw_g (lw_at lw_m4 232 rfl) rfl
theorem q1065 : (Jvm.Cond.code ({ cls := "TelescopeQueue$Flaw", name := "<init>", desc := "(II)V" } : Jvm.MethodName) prog_5_method_1_code (3 : Nat) (Option.none : Option Jvm.ClassFile.FieldType)) ∈ lw_all := lw_g (lw_at lw_m4 233 rfl) rfl
theorem q1066 : (Jvm.Cond.methodLink "TelescopeQueue$Flaw" (1 : Nat) ({ cls := "java/lang/Exception", name := "<init>", desc := "(Ljava/lang/String;Ljava/lang/Throwable;ZZ)V" } : Jvm.MethodName)) ∈ lw_all := lw_g (lw_at lw_m4 234 rfl) rfl
theorem q1072 : (Jvm.Cond.fieldLink "TelescopeQueue$Flaw" (7 : Nat) "TelescopeQueue$Flaw" "code" "I") ∈ lw_all := lw_g (lw_at lw_m5 0 rfl) rfl
theorem q1074 : (Jvm.Cond.fieldLink "TelescopeQueue$Flaw" (13 : Nat) "TelescopeQueue$Flaw" "position" "I") ∈ lw_all := lw_g (lw_at lw_m5 2 rfl) rfl
theorem q1076 : (Jvm.Cond.laysFinal "TelescopeQueue$Flaw" "TelescopeQueue$Flaw" "code" "I") ∈ lw_all := lw_g (lw_at lw_m5 4 rfl) rfl
theorem q1077 : (Jvm.Cond.soleField "TelescopeQueue$Flaw" "code") ∈ lw_all := lw_g (lw_at lw_m5 5 rfl) rfl
theorem q1078 : (Jvm.Cond.laysFinal "TelescopeQueue$Flaw" "TelescopeQueue$Flaw" "position" "I") ∈ lw_all := lw_g (lw_at lw_m5 6 rfl) rfl
theorem q1079 : (Jvm.Cond.soleField "TelescopeQueue$Flaw" "position") ∈ lw_all := lw_g (lw_at lw_m5 7 rfl) rfl
theorem q1080 : (Jvm.Cond.lays "TelescopeQueue$Flaw" "java/lang/Throwable" "depth" "I") ∈ lw_all := lw_g (lw_at lw_m5 8 rfl) rfl
theorem q1081 : (Jvm.Cond.superclass "TelescopeQueue$Flaw" "java/lang/Exception") ∈ lw_all := lw_g (lw_at lw_m5 9 rfl) rfl
theorem q1268 : (Jvm.Cond.selects "TelescopeQueue$Flaw" ({ cls := "java/lang/Object", name := "getClass", desc := "()Ljava/lang/Class;" } : Jvm.MethodName) ({ cls := "java/lang/Object", name := "getClass", desc := "()Ljava/lang/Class;" } : Jvm.MethodName)) ∈ lw_all := lw_g (lw_at lw_m5 196 rfl) rfl
theorem q3282 : (Jvm.Cond.castable "TelescopeQueue$Flaw" "java/lang/Object") ∈ lw_tbl := lw_at lw_m14 50 rfl
theorem in_X13 : ∀ w ∈ wsX130, w ∈ lw_all := lw_in wsX130 [1058, 1059, 1060, 1061, 1062, 1080, 1076, 1078] (by decide +kernel) (by decide +kernel)

/-! TelescopeQueue$Proposal -/
set_option maxRecDepth 100000
def RX14 : String := "TelescopeQueue$Proposal"
def TX14 : u_T := fun k => match k with
  | 0 => ("TelescopeQueue$Proposal", "name", "Ljava/lang/String;", true)
  | _ => ("TelescopeQueue$Proposal", "granted", "I", true)
def tyX14 : Nat → FieldType := fun k => match k with
  | 0 => .object "java/lang/String"
  | _ => .int
abbrev wsX140 : List Cond := u_ws RX14 TX14 2
theorem nmX14 : ∀ a, a < 2 → ∀ b, b < 2 → a ≠ b → (TX14 a).2.1 ≠ (TX14 b).2.1 := by decide +kernel
theorem tyX14_ok : ∀ k, k < 2 → parseFieldDescriptor (TX14 k).2.2.1 = some (tyX14 k) := by decide +kernel
abbrev cX14_init : ByteArray := prog_12_method_1_code
def yX14_init : MethodName := ⟨RX14, "<init>", "(Ljava/lang/String;I)V"⟩
def dkwX14_init_0 : List UInt8 := [42, 183, 0, 1, 42, 43, 181, 0, 7, 42, 28, 181, 0, 13, 177]
abbrev dktX14_init_0 : List UInt8 := dkwX14_init_0 ++ []
theorem dksX14_init_0 : cX14_init.data.toList.drop 0 = dktX14_init_0 := by decide +kernel
theorem dX14_init_0 : decode cX14_init 0 = .ok (.aload_n 0, 1) := dk_42 (dk_at dksX14_init_0 0 rfl rfl)
theorem dX14_init_1 : decode cX14_init 1 = .ok (.invokespecial 1, 3) := dk_183 0 1 (dk_at dksX14_init_0 1 rfl rfl)
theorem dX14_init_4 : decode cX14_init 4 = .ok (.aload_n 0, 1) := dk_42 (dk_at dksX14_init_0 4 rfl rfl)
theorem dX14_init_5 : decode cX14_init 5 = .ok (.aload_n 1, 1) := dk_43 (dk_at dksX14_init_0 5 rfl rfl)
theorem dX14_init_6 : decode cX14_init 6 = .ok (.putfield 7, 3) := dk_181 0 7 (dk_at dksX14_init_0 6 rfl rfl)
theorem dX14_init_9 : decode cX14_init 9 = .ok (.aload_n 0, 1) := dk_42 (dk_at dksX14_init_0 9 rfl rfl)
theorem dX14_init_10 : decode cX14_init 10 = .ok (.iload_n 2, 1) := dk_28 (dk_at dksX14_init_0 10 rfl rfl)
theorem dX14_init_11 : decode cX14_init 11 = .ok (.putfield 13, 3) := dk_181 0 13 (dk_at dksX14_init_0 11 rfl rfl)
theorem dX14_init_14 : decode cX14_init 14 = .ok (.return_, 1) := dk_177 (dk_at dksX14_init_0 14 rfl rfl)
theorem q149 : (Jvm.Cond.initialized "TelescopeQueue$Proposal") ∈ lw_all := lw_g (lw_at lw_m1 37 rfl) rfl
theorem q1220 : (Jvm.Cond.instantiable "TelescopeQueue$Proposal" (2 : Nat)) ∈ lw_all := lw_g (lw_at lw_m5 148 rfl) rfl
theorem q1222 : (Jvm.Cond.instanceMethod ({ cls := "TelescopeQueue$Proposal", name := "<init>", desc := "(Ljava/lang/String;I)V" } : Jvm.MethodName)) ∈ lw_all := lw_g (lw_at lw_m5 150 rfl) rfl
theorem q1223 : (Jvm.Cond.code ({ cls := "TelescopeQueue$Proposal", name := "<init>", desc := "(Ljava/lang/String;I)V" } : Jvm.MethodName) prog_12_method_1_code (3 : Nat) (Option.none : Option Jvm.ClassFile.FieldType)) ∈ lw_all := lw_g (lw_at lw_m5 151 rfl) rfl
theorem q1224 : (Jvm.Cond.methodLink "TelescopeQueue$Proposal" (1 : Nat) ({ cls := "java/lang/Object", name := "<init>", desc := "()V" } : Jvm.MethodName)) ∈ lw_all := lw_g (lw_at lw_m5 152 rfl) rfl
theorem q1225 : (Jvm.Cond.fieldLink "TelescopeQueue$Proposal" (7 : Nat) "TelescopeQueue$Proposal" "name" "Ljava/lang/String;") ∈ lw_all := lw_g (lw_at lw_m5 153 rfl) rfl
theorem q1228 : (Jvm.Cond.fieldLink "TelescopeQueue$Proposal" (13 : Nat) "TelescopeQueue$Proposal" "granted" "I") ∈ lw_all := lw_g (lw_at lw_m5 156 rfl) rfl
theorem q1230 : (Jvm.Cond.laysFinal "TelescopeQueue$Proposal" "TelescopeQueue$Proposal" "name" "Ljava/lang/String;") ∈ lw_all := lw_g (lw_at lw_m5 158 rfl) rfl
theorem q1231 : (Jvm.Cond.soleField "TelescopeQueue$Proposal" "name") ∈ lw_all := lw_g (lw_at lw_m5 159 rfl) rfl
theorem q1232 : (Jvm.Cond.laysFinal "TelescopeQueue$Proposal" "TelescopeQueue$Proposal" "granted" "I") ∈ lw_all := lw_g (lw_at lw_m5 160 rfl) rfl
theorem q1233 : (Jvm.Cond.soleField "TelescopeQueue$Proposal" "granted") ∈ lw_all := lw_g (lw_at lw_m5 161 rfl) rfl
theorem q1234 : (Jvm.Cond.superclass "TelescopeQueue$Proposal" "java/lang/Object") ∈ lw_all := lw_g (lw_at lw_m5 162 rfl) rfl
theorem q1274 : (Jvm.Cond.selects "TelescopeQueue$Proposal" ({ cls := "java/lang/Object", name := "getClass", desc := "()Ljava/lang/Class;" } : Jvm.MethodName) ({ cls := "java/lang/Object", name := "getClass", desc := "()Ljava/lang/Class;" } : Jvm.MethodName)) ∈ lw_all := lw_g (lw_at lw_m5 202 rfl) rfl
theorem q3284 : (Jvm.Cond.castable "TelescopeQueue$Proposal" "java/lang/Object") ∈ lw_tbl := lw_at lw_m14 52 rfl
theorem in_X14 : ∀ w ∈ wsX140, w ∈ lw_all := lw_in wsX140 [1230, 1232] (by decide +kernel) (by decide +kernel)

/-! TelescopeQueue$Target -/
set_option maxRecDepth 100000
def RX15 : String := "TelescopeQueue$Target"
abbrev cX15_init : ByteArray := prog_18_method_1_code
def yX15_init : MethodName := ⟨RX15, "<init>", "(IIIII)V"⟩
def dkwX15_init_1 : List UInt8 := [181, 0, 19, 42, 21, 5, 181, 0, 22, 177]
abbrev dktX15_init_1 : List UInt8 := dkwX15_init_1 ++ []
def dkwX15_init_0 : List UInt8 := [42, 183, 0, 1, 42, 27, 181, 0, 7, 42, 28, 181, 0, 13, 42, 29, 181, 0, 16, 42, 21, 4]
abbrev dktX15_init_0 : List UInt8 := dkwX15_init_0 ++ dktX15_init_1
theorem dksX15_init_0 : cX15_init.data.toList.drop 0 = dktX15_init_0 := by decide +kernel
theorem dksX15_init_1 : cX15_init.data.toList.drop 22 = dktX15_init_1 := dk_seg dksX15_init_0 22 rfl rfl
theorem dX15_init_0 : decode cX15_init 0 = .ok (.aload_n 0, 1) := dk_42 (dk_at dksX15_init_0 0 rfl rfl)
theorem dX15_init_1 : decode cX15_init 1 = .ok (.invokespecial 1, 3) := dk_183 0 1 (dk_at dksX15_init_0 1 rfl rfl)
theorem dX15_init_4 : decode cX15_init 4 = .ok (.aload_n 0, 1) := dk_42 (dk_at dksX15_init_0 4 rfl rfl)
theorem dX15_init_5 : decode cX15_init 5 = .ok (.iload_n 1, 1) := dk_27 (dk_at dksX15_init_0 5 rfl rfl)
theorem dX15_init_6 : decode cX15_init 6 = .ok (.putfield 7, 3) := dk_181 0 7 (dk_at dksX15_init_0 6 rfl rfl)
theorem dX15_init_9 : decode cX15_init 9 = .ok (.aload_n 0, 1) := dk_42 (dk_at dksX15_init_0 9 rfl rfl)
theorem dX15_init_10 : decode cX15_init 10 = .ok (.iload_n 2, 1) := dk_28 (dk_at dksX15_init_0 10 rfl rfl)
theorem dX15_init_11 : decode cX15_init 11 = .ok (.putfield 13, 3) := dk_181 0 13 (dk_at dksX15_init_0 11 rfl rfl)
theorem dX15_init_14 : decode cX15_init 14 = .ok (.aload_n 0, 1) := dk_42 (dk_at dksX15_init_0 14 rfl rfl)
theorem dX15_init_15 : decode cX15_init 15 = .ok (.iload_n 3, 1) := dk_29 (dk_at dksX15_init_0 15 rfl rfl)
theorem dX15_init_16 : decode cX15_init 16 = .ok (.putfield 16, 3) := dk_181 0 16 (dk_at dksX15_init_0 16 rfl rfl)
theorem dX15_init_19 : decode cX15_init 19 = .ok (.aload_n 0, 1) := dk_42 (dk_at dksX15_init_0 19 rfl rfl)
theorem dX15_init_20 : decode cX15_init 20 = .ok (.iload 4, 2) := dk_21 4 (dk_at dksX15_init_0 20 rfl rfl)
theorem dX15_init_22 : decode cX15_init 22 = .ok (.putfield 19, 3) := dk_181 0 19 (dk_at dksX15_init_1 0 rfl rfl)
theorem dX15_init_25 : decode cX15_init 25 = .ok (.aload_n 0, 1) := dk_42 (dk_at dksX15_init_1 3 rfl rfl)
theorem dX15_init_26 : decode cX15_init 26 = .ok (.iload 5, 2) := dk_21 5 (dk_at dksX15_init_1 4 rfl rfl)
theorem dX15_init_28 : decode cX15_init 28 = .ok (.putfield 22, 3) := dk_181 0 22 (dk_at dksX15_init_1 6 rfl rfl)
theorem dX15_init_31 : decode cX15_init 31 = .ok (.return_, 1) := dk_177 (dk_at dksX15_init_1 9 rfl rfl)
abbrev cX15_proposal : ByteArray := prog_18_method_2_code
def yX15_proposal : MethodName := ⟨RX15, "proposal", "()I"⟩
theorem dX15_proposal_0 : decode cX15_proposal 0 = .ok (.aload_n 0, 1) := by decide +kernel
theorem dX15_proposal_1 : decode cX15_proposal 1 = .ok (.getfield 7, 3) := by decide +kernel
theorem dX15_proposal_4 : decode cX15_proposal 4 = .ok (.ireturn, 1) := by decide +kernel
abbrev cX15_lon : ByteArray := prog_18_method_3_code
def yX15_lon : MethodName := ⟨RX15, "lon", "()I"⟩
theorem dX15_lon_0 : decode cX15_lon 0 = .ok (.aload_n 0, 1) := by decide +kernel
theorem dX15_lon_1 : decode cX15_lon 1 = .ok (.getfield 13, 3) := by decide +kernel
theorem dX15_lon_4 : decode cX15_lon 4 = .ok (.ireturn, 1) := by decide +kernel
abbrev cX15_lat : ByteArray := prog_18_method_4_code
def yX15_lat : MethodName := ⟨RX15, "lat", "()I"⟩
theorem dX15_lat_0 : decode cX15_lat 0 = .ok (.aload_n 0, 1) := by decide +kernel
theorem dX15_lat_1 : decode cX15_lat 1 = .ok (.getfield 16, 3) := by decide +kernel
theorem dX15_lat_4 : decode cX15_lat 4 = .ok (.ireturn, 1) := by decide +kernel
abbrev cX15_duration : ByteArray := prog_18_method_5_code
def yX15_duration : MethodName := ⟨RX15, "duration", "()I"⟩
theorem dX15_duration_0 : decode cX15_duration 0 = .ok (.aload_n 0, 1) := by decide +kernel
theorem dX15_duration_1 : decode cX15_duration 1 = .ok (.getfield 19, 3) := by decide +kernel
theorem dX15_duration_4 : decode cX15_duration 4 = .ok (.ireturn, 1) := by decide +kernel
abbrev cX15_push : ByteArray := prog_18_method_6_code
def yX15_push : MethodName := ⟨RX15, "push", "()I"⟩
theorem dX15_push_0 : decode cX15_push 0 = .ok (.aload_n 0, 1) := by decide +kernel
theorem dX15_push_1 : decode cX15_push 1 = .ok (.getfield 22, 3) := by decide +kernel
theorem dX15_push_4 : decode cX15_push 4 = .ok (.ireturn, 1) := by decide +kernel
theorem q150 : (Jvm.Cond.initialized "TelescopeQueue$Target") ∈ lw_all := lw_g (lw_at lw_m1 38 rfl) rfl
theorem q1316 : (Jvm.Cond.instanceMethod ({ cls := "TelescopeQueue$Target", name := "<init>", desc := "(IIIII)V" } : Jvm.MethodName)) ∈ lw_all := lw_g (lw_at lw_m6 4 rfl) rfl
theorem q1317 : (Jvm.Cond.code ({ cls := "TelescopeQueue$Target", name := "<init>", desc := "(IIIII)V" } : Jvm.MethodName) prog_18_method_1_code (6 : Nat) (Option.none : Option Jvm.ClassFile.FieldType)) ∈ lw_all := lw_g (lw_at lw_m6 5 rfl) rfl
theorem q1318 : (Jvm.Cond.methodLink "TelescopeQueue$Target" (1 : Nat) ({ cls := "java/lang/Object", name := "<init>", desc := "()V" } : Jvm.MethodName)) ∈ lw_all := lw_g (lw_at lw_m6 6 rfl) rfl
theorem q1323 : (Jvm.Cond.fieldLink "TelescopeQueue$Target" (7 : Nat) "TelescopeQueue$Target" "proposal" "I") ∈ lw_all := lw_g (lw_at lw_m6 11 rfl) rfl
theorem q1324 : (Jvm.Cond.fieldLink "TelescopeQueue$Target" (13 : Nat) "TelescopeQueue$Target" "lon" "I") ∈ lw_all := lw_g (lw_at lw_m6 12 rfl) rfl
theorem q1325 : (Jvm.Cond.fieldLink "TelescopeQueue$Target" (16 : Nat) "TelescopeQueue$Target" "lat" "I") ∈ lw_all := lw_g (lw_at lw_m6 13 rfl) rfl
theorem q1326 : (Jvm.Cond.fieldLink "TelescopeQueue$Target" (19 : Nat) "TelescopeQueue$Target" "duration" "I") ∈ lw_all := lw_g (lw_at lw_m6 14 rfl) rfl
theorem q1327 : (Jvm.Cond.fieldLink "TelescopeQueue$Target" (22 : Nat) "TelescopeQueue$Target" "push" "I") ∈ lw_all := lw_g (lw_at lw_m6 15 rfl) rfl
theorem q1335 : (Jvm.Cond.soleField "TelescopeQueue$Target" "proposal") ∈ lw_all := lw_g (lw_at lw_m6 23 rfl) rfl
theorem q1337 : (Jvm.Cond.soleField "TelescopeQueue$Target" "lon") ∈ lw_all := lw_g (lw_at lw_m6 25 rfl) rfl
theorem q1339 : (Jvm.Cond.soleField "TelescopeQueue$Target" "lat") ∈ lw_all := lw_g (lw_at lw_m6 27 rfl) rfl
theorem q1341 : (Jvm.Cond.soleField "TelescopeQueue$Target" "duration") ∈ lw_all := lw_g (lw_at lw_m6 29 rfl) rfl
theorem q1343 : (Jvm.Cond.soleField "TelescopeQueue$Target" "push") ∈ lw_all := lw_g (lw_at lw_m6 31 rfl) rfl
theorem q1473 : (Jvm.Cond.instanceMethod ({ cls := "TelescopeQueue$Target", name := "proposal", desc := "()I" } : Jvm.MethodName)) ∈ lw_all := lw_g (lw_at lw_m6 161 rfl) rfl
theorem q1474 : (Jvm.Cond.publicMethod ({ cls := "TelescopeQueue$Target", name := "proposal", desc := "()I" } : Jvm.MethodName)) ∈ lw_tbl := lw_at lw_m6 162 rfl
theorem q1475 : (Jvm.Cond.code ({ cls := "TelescopeQueue$Target", name := "proposal", desc := "()I" } : Jvm.MethodName) prog_18_method_2_code (1 : Nat) (Option.some Jvm.ClassFile.FieldType.int)) ∈ lw_all := lw_g (lw_at lw_m6 163 rfl) rfl
theorem q1503 : (Jvm.Cond.declares ({ cls := "TelescopeQueue$Target", name := "proposal", desc := "()I" } : Jvm.MethodName)) ∈ lw_tbl := lw_at lw_m6 191 rfl
theorem q1507 : (Jvm.Cond.declares ({ cls := "TelescopeQueue$Target", name := "lon", desc := "()I" } : Jvm.MethodName)) ∈ lw_tbl := lw_at lw_m6 195 rfl
theorem q1509 : (Jvm.Cond.instanceMethod ({ cls := "TelescopeQueue$Target", name := "lon", desc := "()I" } : Jvm.MethodName)) ∈ lw_all := lw_g (lw_at lw_m6 197 rfl) rfl
theorem q1510 : (Jvm.Cond.code ({ cls := "TelescopeQueue$Target", name := "lon", desc := "()I" } : Jvm.MethodName) prog_18_method_3_code (1 : Nat) (Option.some Jvm.ClassFile.FieldType.int)) ∈ lw_all := lw_g (lw_at lw_m6 198 rfl) rfl
theorem q1513 : (Jvm.Cond.declares ({ cls := "TelescopeQueue$Target", name := "lat", desc := "()I" } : Jvm.MethodName)) ∈ lw_tbl := lw_at lw_m6 201 rfl
theorem q1515 : (Jvm.Cond.instanceMethod ({ cls := "TelescopeQueue$Target", name := "lat", desc := "()I" } : Jvm.MethodName)) ∈ lw_all := lw_g (lw_at lw_m6 203 rfl) rfl
theorem q1516 : (Jvm.Cond.code ({ cls := "TelescopeQueue$Target", name := "lat", desc := "()I" } : Jvm.MethodName) prog_18_method_4_code (1 : Nat) (Option.some Jvm.ClassFile.FieldType.int)) ∈ lw_all := lw_g (lw_at lw_m6 204 rfl) rfl
theorem q1519 : (Jvm.Cond.declares ({ cls := "TelescopeQueue$Target", name := "duration", desc := "()I" } : Jvm.MethodName)) ∈ lw_tbl := lw_at lw_m6 207 rfl
theorem q1521 : (Jvm.Cond.instanceMethod ({ cls := "TelescopeQueue$Target", name := "duration", desc := "()I" } : Jvm.MethodName)) ∈ lw_all := lw_g (lw_at lw_m6 209 rfl) rfl
theorem q1522 : (Jvm.Cond.code ({ cls := "TelescopeQueue$Target", name := "duration", desc := "()I" } : Jvm.MethodName) prog_18_method_5_code (1 : Nat) (Option.some Jvm.ClassFile.FieldType.int)) ∈ lw_all := lw_g (lw_at lw_m6 210 rfl) rfl
theorem q1525 : (Jvm.Cond.declares ({ cls := "TelescopeQueue$Target", name := "push", desc := "()I" } : Jvm.MethodName)) ∈ lw_tbl := lw_at lw_m6 213 rfl
theorem q1527 : (Jvm.Cond.instanceMethod ({ cls := "TelescopeQueue$Target", name := "push", desc := "()I" } : Jvm.MethodName)) ∈ lw_all := lw_g (lw_at lw_m6 215 rfl) rfl
theorem q1528 : (Jvm.Cond.code ({ cls := "TelescopeQueue$Target", name := "push", desc := "()I" } : Jvm.MethodName) prog_18_method_6_code (1 : Nat) (Option.some Jvm.ClassFile.FieldType.int)) ∈ lw_all := lw_g (lw_at lw_m6 216 rfl) rfl
theorem q1742 : (Jvm.Cond.publicMethod ({ cls := "TelescopeQueue$Target", name := "duration", desc := "()I" } : Jvm.MethodName)) ∈ lw_tbl := lw_at lw_m7 190 rfl
theorem q1759 : (Jvm.Cond.publicMethod ({ cls := "TelescopeQueue$Target", name := "push", desc := "()I" } : Jvm.MethodName)) ∈ lw_tbl := lw_at lw_m7 207 rfl
theorem q1779 : (Jvm.Cond.publicMethod ({ cls := "TelescopeQueue$Target", name := "lon", desc := "()I" } : Jvm.MethodName)) ∈ lw_tbl := lw_at lw_m7 227 rfl
theorem q1790 : (Jvm.Cond.publicMethod ({ cls := "TelescopeQueue$Target", name := "lat", desc := "()I" } : Jvm.MethodName)) ∈ lw_tbl := lw_at lw_m7 238 rfl

/-! TelescopeQueue$Visit -/
set_option maxRecDepth 100000
def RX16 : String := "TelescopeQueue$Visit"
def TX16 : u_T := fun k => match k with
  | 0 => ("TelescopeQueue$Target", "proposal", "I", true)
  | 1 => ("TelescopeQueue$Target", "lon", "I", true)
  | 2 => ("TelescopeQueue$Target", "lat", "I", true)
  | 3 => ("TelescopeQueue$Target", "duration", "I", true)
  | 4 => ("TelescopeQueue$Target", "push", "I", true)
  | 5 => ("TelescopeQueue$Visit", "priority", "I", true)
  | 6 => ("TelescopeQueue$Visit", "from", "I", true)
  | _ => ("TelescopeQueue$Visit", "to", "I", true)
def tyX16 : Nat → FieldType := fun k => match k with
  | 0 => .int
  | 1 => .int
  | 2 => .int
  | 3 => .int
  | 4 => .int
  | 5 => .int
  | 6 => .int
  | _ => .int
abbrev wsX160 : List Cond := u_ws RX16 TX16 8
theorem nmX16 : ∀ a, a < 8 → ∀ b, b < 8 → a ≠ b → (TX16 a).2.1 ≠ (TX16 b).2.1 := by decide +kernel
theorem tyX16_ok : ∀ k, k < 8 → parseFieldDescriptor (TX16 k).2.2.1 = some (tyX16 k) := by decide +kernel
abbrev cX16_init : ByteArray := prog_19_method_1_code
def yX16_init : MethodName := ⟨RX16, "<init>", "(IIIIIIII)V"⟩
def dkwX16_init_1 : List UInt8 := [21, 8, 181, 0, 16, 177]
abbrev dktX16_init_1 : List UInt8 := dkwX16_init_1 ++ []
def dkwX16_init_0 : List UInt8 := [42, 27, 28, 29, 21, 4, 21, 6, 183, 0, 1, 42, 21, 5, 181, 0, 7, 42, 21, 7, 181, 0, 13, 42]
abbrev dktX16_init_0 : List UInt8 := dkwX16_init_0 ++ dktX16_init_1
theorem dksX16_init_0 : cX16_init.data.toList.drop 0 = dktX16_init_0 := by decide +kernel
theorem dksX16_init_1 : cX16_init.data.toList.drop 24 = dktX16_init_1 := dk_seg dksX16_init_0 24 rfl rfl
theorem dX16_init_0 : decode cX16_init 0 = .ok (.aload_n 0, 1) := dk_42 (dk_at dksX16_init_0 0 rfl rfl)
theorem dX16_init_1 : decode cX16_init 1 = .ok (.iload_n 1, 1) := dk_27 (dk_at dksX16_init_0 1 rfl rfl)
theorem dX16_init_2 : decode cX16_init 2 = .ok (.iload_n 2, 1) := dk_28 (dk_at dksX16_init_0 2 rfl rfl)
theorem dX16_init_3 : decode cX16_init 3 = .ok (.iload_n 3, 1) := dk_29 (dk_at dksX16_init_0 3 rfl rfl)
theorem dX16_init_4 : decode cX16_init 4 = .ok (.iload 4, 2) := dk_21 4 (dk_at dksX16_init_0 4 rfl rfl)
theorem dX16_init_6 : decode cX16_init 6 = .ok (.iload 6, 2) := dk_21 6 (dk_at dksX16_init_0 6 rfl rfl)
theorem dX16_init_8 : decode cX16_init 8 = .ok (.invokespecial 1, 3) := dk_183 0 1 (dk_at dksX16_init_0 8 rfl rfl)
theorem dX16_init_11 : decode cX16_init 11 = .ok (.aload_n 0, 1) := dk_42 (dk_at dksX16_init_0 11 rfl rfl)
theorem dX16_init_12 : decode cX16_init 12 = .ok (.iload 5, 2) := dk_21 5 (dk_at dksX16_init_0 12 rfl rfl)
theorem dX16_init_14 : decode cX16_init 14 = .ok (.putfield 7, 3) := dk_181 0 7 (dk_at dksX16_init_0 14 rfl rfl)
theorem dX16_init_17 : decode cX16_init 17 = .ok (.aload_n 0, 1) := dk_42 (dk_at dksX16_init_0 17 rfl rfl)
theorem dX16_init_18 : decode cX16_init 18 = .ok (.iload 7, 2) := dk_21 7 (dk_at dksX16_init_0 18 rfl rfl)
theorem dX16_init_20 : decode cX16_init 20 = .ok (.putfield 13, 3) := dk_181 0 13 (dk_at dksX16_init_0 20 rfl rfl)
theorem dX16_init_23 : decode cX16_init 23 = .ok (.aload_n 0, 1) := dk_42 (dk_at dksX16_init_0 23 rfl rfl)
theorem dX16_init_24 : decode cX16_init 24 = .ok (.iload 8, 2) := dk_21 8 (dk_at dksX16_init_1 0 rfl rfl)
theorem dX16_init_26 : decode cX16_init 26 = .ok (.putfield 16, 3) := dk_181 0 16 (dk_at dksX16_init_1 2 rfl rfl)
theorem dX16_init_29 : decode cX16_init 29 = .ok (.return_, 1) := dk_177 (dk_at dksX16_init_1 5 rfl rfl)
abbrev cX16_from : ByteArray := prog_19_method_2_code
def yX16_from : MethodName := ⟨RX16, "from", "()I"⟩
theorem dX16_from_0 : decode cX16_from 0 = .ok (.aload_n 0, 1) := by decide +kernel
theorem dX16_from_1 : decode cX16_from 1 = .ok (.getfield 13, 3) := by decide +kernel
theorem dX16_from_4 : decode cX16_from 4 = .ok (.ireturn, 1) := by decide +kernel
abbrev cX16_to : ByteArray := prog_19_method_3_code
def yX16_to : MethodName := ⟨RX16, "to", "()I"⟩
theorem dX16_to_0 : decode cX16_to 0 = .ok (.aload_n 0, 1) := by decide +kernel
theorem dX16_to_1 : decode cX16_to 1 = .ok (.getfield 16, 3) := by decide +kernel
theorem dX16_to_4 : decode cX16_to 4 = .ok (.ireturn, 1) := by decide +kernel
theorem q151 : (Jvm.Cond.initialized "TelescopeQueue$Visit") ∈ lw_all := lw_g (lw_at lw_m1 39 rfl) rfl
theorem q1279 : (Jvm.Cond.selects "TelescopeQueue$Visit" ({ cls := "java/lang/Object", name := "getClass", desc := "()Ljava/lang/Class;" } : Jvm.MethodName) ({ cls := "java/lang/Object", name := "getClass", desc := "()Ljava/lang/Class;" } : Jvm.MethodName)) ∈ lw_all := lw_g (lw_at lw_m5 207 rfl) rfl
theorem q1311 : (Jvm.Cond.instantiable "TelescopeQueue$Visit" (8 : Nat)) ∈ lw_all := lw_g (lw_at lw_m5 239 rfl) rfl
theorem q1313 : (Jvm.Cond.instanceMethod ({ cls := "TelescopeQueue$Visit", name := "<init>", desc := "(IIIIIIII)V" } : Jvm.MethodName)) ∈ lw_all := lw_g (lw_at lw_m6 1 rfl) rfl
theorem q1314 : (Jvm.Cond.code ({ cls := "TelescopeQueue$Visit", name := "<init>", desc := "(IIIIIIII)V" } : Jvm.MethodName) prog_19_method_1_code (9 : Nat) (Option.none : Option Jvm.ClassFile.FieldType)) ∈ lw_all := lw_g (lw_at lw_m6 2 rfl) rfl
theorem q1315 : (Jvm.Cond.methodLink "TelescopeQueue$Visit" (1 : Nat) ({ cls := "TelescopeQueue$Target", name := "<init>", desc := "(IIIII)V" } : Jvm.MethodName)) ∈ lw_all := lw_g (lw_at lw_m6 3 rfl) rfl
theorem q1319 : (Jvm.Cond.fieldLink "TelescopeQueue$Visit" (7 : Nat) "TelescopeQueue$Visit" "priority" "I") ∈ lw_all := lw_g (lw_at lw_m6 7 rfl) rfl
theorem q1321 : (Jvm.Cond.fieldLink "TelescopeQueue$Visit" (13 : Nat) "TelescopeQueue$Visit" "from" "I") ∈ lw_all := lw_g (lw_at lw_m6 9 rfl) rfl
theorem q1322 : (Jvm.Cond.fieldLink "TelescopeQueue$Visit" (16 : Nat) "TelescopeQueue$Visit" "to" "I") ∈ lw_all := lw_g (lw_at lw_m6 10 rfl) rfl
theorem q1328 : (Jvm.Cond.laysFinal "TelescopeQueue$Visit" "TelescopeQueue$Visit" "priority" "I") ∈ lw_all := lw_g (lw_at lw_m6 16 rfl) rfl
theorem q1329 : (Jvm.Cond.soleField "TelescopeQueue$Visit" "priority") ∈ lw_all := lw_g (lw_at lw_m6 17 rfl) rfl
theorem q1330 : (Jvm.Cond.laysFinal "TelescopeQueue$Visit" "TelescopeQueue$Visit" "from" "I") ∈ lw_all := lw_g (lw_at lw_m6 18 rfl) rfl
theorem q1331 : (Jvm.Cond.soleField "TelescopeQueue$Visit" "from") ∈ lw_all := lw_g (lw_at lw_m6 19 rfl) rfl
theorem q1332 : (Jvm.Cond.laysFinal "TelescopeQueue$Visit" "TelescopeQueue$Visit" "to" "I") ∈ lw_all := lw_g (lw_at lw_m6 20 rfl) rfl
theorem q1333 : (Jvm.Cond.soleField "TelescopeQueue$Visit" "to") ∈ lw_all := lw_g (lw_at lw_m6 21 rfl) rfl
theorem q1334 : (Jvm.Cond.laysFinal "TelescopeQueue$Visit" "TelescopeQueue$Target" "proposal" "I") ∈ lw_all := lw_g (lw_at lw_m6 22 rfl) rfl
theorem q1336 : (Jvm.Cond.laysFinal "TelescopeQueue$Visit" "TelescopeQueue$Target" "lon" "I") ∈ lw_all := lw_g (lw_at lw_m6 24 rfl) rfl
theorem q1338 : (Jvm.Cond.laysFinal "TelescopeQueue$Visit" "TelescopeQueue$Target" "lat" "I") ∈ lw_all := lw_g (lw_at lw_m6 26 rfl) rfl
theorem q1340 : (Jvm.Cond.laysFinal "TelescopeQueue$Visit" "TelescopeQueue$Target" "duration" "I") ∈ lw_all := lw_g (lw_at lw_m6 28 rfl) rfl
theorem q1342 : (Jvm.Cond.laysFinal "TelescopeQueue$Visit" "TelescopeQueue$Target" "push" "I") ∈ lw_all := lw_g (lw_at lw_m6 30 rfl) rfl
theorem q1344 : (Jvm.Cond.superclass "TelescopeQueue$Visit" "TelescopeQueue$Target") ∈ lw_all := lw_g (lw_at lw_m6 32 rfl) rfl
theorem q1476 : (Jvm.Cond.castable "TelescopeQueue$Visit" "TelescopeQueue$Work") ∈ lw_tbl := lw_at lw_m6 164 rfl
theorem q1477 : (Jvm.Cond.selects "TelescopeQueue$Visit" ({ cls := "TelescopeQueue$Work", name := "proposal", desc := "()I" } : Jvm.MethodName) ({ cls := "TelescopeQueue$Target", name := "proposal", desc := "()I" } : Jvm.MethodName)) ∈ lw_all := lw_g (lw_at lw_m6 165 rfl) rfl
theorem q1478 : (Jvm.Cond.unhidden "TelescopeQueue$Visit" "proposal" "()I") ∈ lw_tbl := lw_at lw_m6 166 rfl
theorem q1502 : (Jvm.Cond.sameMethod "TelescopeQueue$Visit" "TelescopeQueue$Target" "proposal" "()I") ∈ lw_all := lw_g (lw_at lw_m6 190 rfl) rfl
theorem q1504 : (Jvm.Cond.selects "TelescopeQueue$Visit" ({ cls := "TelescopeQueue$Visit", name := "proposal", desc := "()I" } : Jvm.MethodName) ({ cls := "TelescopeQueue$Target", name := "proposal", desc := "()I" } : Jvm.MethodName)) ∈ lw_all := lw_g (lw_at lw_m6 192 rfl) rfl
theorem q1506 : (Jvm.Cond.sameMethod "TelescopeQueue$Visit" "TelescopeQueue$Target" "lon" "()I") ∈ lw_all := lw_g (lw_at lw_m6 194 rfl) rfl
theorem q1508 : (Jvm.Cond.selects "TelescopeQueue$Visit" ({ cls := "TelescopeQueue$Visit", name := "lon", desc := "()I" } : Jvm.MethodName) ({ cls := "TelescopeQueue$Target", name := "lon", desc := "()I" } : Jvm.MethodName)) ∈ lw_all := lw_g (lw_at lw_m6 196 rfl) rfl
theorem q1512 : (Jvm.Cond.sameMethod "TelescopeQueue$Visit" "TelescopeQueue$Target" "lat" "()I") ∈ lw_all := lw_g (lw_at lw_m6 200 rfl) rfl
theorem q1514 : (Jvm.Cond.selects "TelescopeQueue$Visit" ({ cls := "TelescopeQueue$Visit", name := "lat", desc := "()I" } : Jvm.MethodName) ({ cls := "TelescopeQueue$Target", name := "lat", desc := "()I" } : Jvm.MethodName)) ∈ lw_all := lw_g (lw_at lw_m6 202 rfl) rfl
theorem q1518 : (Jvm.Cond.sameMethod "TelescopeQueue$Visit" "TelescopeQueue$Target" "duration" "()I") ∈ lw_all := lw_g (lw_at lw_m6 206 rfl) rfl
theorem q1520 : (Jvm.Cond.selects "TelescopeQueue$Visit" ({ cls := "TelescopeQueue$Visit", name := "duration", desc := "()I" } : Jvm.MethodName) ({ cls := "TelescopeQueue$Target", name := "duration", desc := "()I" } : Jvm.MethodName)) ∈ lw_all := lw_g (lw_at lw_m6 208 rfl) rfl
theorem q1524 : (Jvm.Cond.sameMethod "TelescopeQueue$Visit" "TelescopeQueue$Target" "push" "()I") ∈ lw_all := lw_g (lw_at lw_m6 212 rfl) rfl
theorem q1526 : (Jvm.Cond.selects "TelescopeQueue$Visit" ({ cls := "TelescopeQueue$Visit", name := "push", desc := "()I" } : Jvm.MethodName) ({ cls := "TelescopeQueue$Target", name := "push", desc := "()I" } : Jvm.MethodName)) ∈ lw_all := lw_g (lw_at lw_m6 214 rfl) rfl
theorem q1530 : (Jvm.Cond.instanceMethod ({ cls := "TelescopeQueue$Visit", name := "from", desc := "()I" } : Jvm.MethodName)) ∈ lw_all := lw_g (lw_at lw_m6 218 rfl) rfl
theorem q1531 : (Jvm.Cond.selects "TelescopeQueue$Visit" ({ cls := "TelescopeQueue$Visit", name := "from", desc := "()I" } : Jvm.MethodName) ({ cls := "TelescopeQueue$Visit", name := "from", desc := "()I" } : Jvm.MethodName)) ∈ lw_all := lw_g (lw_at lw_m6 219 rfl) rfl
theorem q1532 : (Jvm.Cond.code ({ cls := "TelescopeQueue$Visit", name := "from", desc := "()I" } : Jvm.MethodName) prog_19_method_2_code (1 : Nat) (Option.some Jvm.ClassFile.FieldType.int)) ∈ lw_all := lw_g (lw_at lw_m6 220 rfl) rfl
theorem q1534 : (Jvm.Cond.instanceMethod ({ cls := "TelescopeQueue$Visit", name := "to", desc := "()I" } : Jvm.MethodName)) ∈ lw_all := lw_g (lw_at lw_m6 222 rfl) rfl
theorem q1535 : (Jvm.Cond.selects "TelescopeQueue$Visit" ({ cls := "TelescopeQueue$Visit", name := "to", desc := "()I" } : Jvm.MethodName) ({ cls := "TelescopeQueue$Visit", name := "to", desc := "()I" } : Jvm.MethodName)) ∈ lw_all := lw_g (lw_at lw_m6 223 rfl) rfl
theorem q1536 : (Jvm.Cond.code ({ cls := "TelescopeQueue$Visit", name := "to", desc := "()I" } : Jvm.MethodName) prog_19_method_3_code (1 : Nat) (Option.some Jvm.ClassFile.FieldType.int)) ∈ lw_all := lw_g (lw_at lw_m6 224 rfl) rfl
theorem q1743 : (Jvm.Cond.selects "TelescopeQueue$Visit" ({ cls := "TelescopeQueue$Work", name := "duration", desc := "()I" } : Jvm.MethodName) ({ cls := "TelescopeQueue$Target", name := "duration", desc := "()I" } : Jvm.MethodName)) ∈ lw_all := lw_g (lw_at lw_m7 191 rfl) rfl
theorem q1744 : (Jvm.Cond.unhidden "TelescopeQueue$Visit" "duration" "()I") ∈ lw_tbl := lw_at lw_m7 192 rfl
theorem q1760 : (Jvm.Cond.selects "TelescopeQueue$Visit" ({ cls := "TelescopeQueue$Work", name := "push", desc := "()I" } : Jvm.MethodName) ({ cls := "TelescopeQueue$Target", name := "push", desc := "()I" } : Jvm.MethodName)) ∈ lw_all := lw_g (lw_at lw_m7 208 rfl) rfl
theorem q1761 : (Jvm.Cond.unhidden "TelescopeQueue$Visit" "push" "()I") ∈ lw_tbl := lw_at lw_m7 209 rfl
theorem q1765 : (Jvm.Cond.unhidden "TelescopeQueue$Visit" "growth" "(I)I") ∈ lw_tbl := lw_at lw_m7 213 rfl
theorem q1780 : (Jvm.Cond.castable "TelescopeQueue$Visit" "TelescopeQueue$Placed") ∈ lw_tbl := lw_at lw_m7 228 rfl
theorem q1781 : (Jvm.Cond.selects "TelescopeQueue$Visit" ({ cls := "TelescopeQueue$Placed", name := "lon", desc := "()I" } : Jvm.MethodName) ({ cls := "TelescopeQueue$Target", name := "lon", desc := "()I" } : Jvm.MethodName)) ∈ lw_all := lw_g (lw_at lw_m7 229 rfl) rfl
theorem q1782 : (Jvm.Cond.unhidden "TelescopeQueue$Visit" "lon" "()I") ∈ lw_tbl := lw_at lw_m7 230 rfl
theorem q1791 : (Jvm.Cond.selects "TelescopeQueue$Visit" ({ cls := "TelescopeQueue$Placed", name := "lat", desc := "()I" } : Jvm.MethodName) ({ cls := "TelescopeQueue$Target", name := "lat", desc := "()I" } : Jvm.MethodName)) ∈ lw_all := lw_g (lw_at lw_m7 239 rfl) rfl
theorem q1792 : (Jvm.Cond.unhidden "TelescopeQueue$Visit" "lat" "()I") ∈ lw_tbl := lw_at lw_m8 0 rfl
theorem q1795 : (Jvm.Cond.unhidden "TelescopeQueue$Visit" "angleFrom" "(II)I") ∈ lw_tbl := lw_at lw_m8 3 rfl
theorem q1810 : (Jvm.Cond.selects "TelescopeQueue$Visit" ({ cls := "TelescopeQueue$Work", name := "from", desc := "()I" } : Jvm.MethodName) ({ cls := "TelescopeQueue$Visit", name := "from", desc := "()I" } : Jvm.MethodName)) ∈ lw_all := lw_g (lw_at lw_m8 18 rfl) rfl
theorem q1811 : (Jvm.Cond.unhidden "TelescopeQueue$Visit" "from" "()I") ∈ lw_tbl := lw_at lw_m8 19 rfl
theorem q1812 : (Jvm.Cond.publicMethod ({ cls := "TelescopeQueue$Visit", name := "from", desc := "()I" } : Jvm.MethodName)) ∈ lw_tbl := lw_at lw_m8 20 rfl
theorem q1822 : (Jvm.Cond.selects "TelescopeQueue$Visit" ({ cls := "TelescopeQueue$Work", name := "to", desc := "()I" } : Jvm.MethodName) ({ cls := "TelescopeQueue$Visit", name := "to", desc := "()I" } : Jvm.MethodName)) ∈ lw_all := lw_g (lw_at lw_m8 30 rfl) rfl
theorem q1823 : (Jvm.Cond.unhidden "TelescopeQueue$Visit" "to" "()I") ∈ lw_tbl := lw_at lw_m8 31 rfl
theorem q1824 : (Jvm.Cond.publicMethod ({ cls := "TelescopeQueue$Visit", name := "to", desc := "()I" } : Jvm.MethodName)) ∈ lw_tbl := lw_at lw_m8 32 rfl
theorem q3285 : (Jvm.Cond.castable "TelescopeQueue$Visit" "java/lang/Object") ∈ lw_tbl := lw_at lw_m14 53 rfl
theorem in_X16 : ∀ w ∈ wsX160, w ∈ lw_all := lw_in wsX160 [1334, 1336, 1338, 1340, 1342, 1328, 1330, 1332] (by decide +kernel) (by decide +kernel)

/-! TelescopeQueue$Alert -/
set_option maxRecDepth 100000
def RX17 : String := "TelescopeQueue$Alert"
def TX17 : u_T := fun k => match k with
  | 0 => ("TelescopeQueue$Target", "proposal", "I", true)
  | 1 => ("TelescopeQueue$Target", "lon", "I", true)
  | 2 => ("TelescopeQueue$Target", "lat", "I", true)
  | 3 => ("TelescopeQueue$Target", "duration", "I", true)
  | 4 => ("TelescopeQueue$Target", "push", "I", true)
  | 5 => ("TelescopeQueue$Alert", "time", "I", true)
  | _ => ("TelescopeQueue$Alert", "response", "I", true)
def tyX17 : Nat → FieldType := fun k => match k with
  | 0 => .int
  | 1 => .int
  | 2 => .int
  | 3 => .int
  | 4 => .int
  | 5 => .int
  | _ => .int
abbrev wsX170 : List Cond := u_ws RX17 TX17 7
theorem nmX17 : ∀ a, a < 7 → ∀ b, b < 7 → a ≠ b → (TX17 a).2.1 ≠ (TX17 b).2.1 := by decide +kernel
theorem tyX17_ok : ∀ k, k < 7 → parseFieldDescriptor (TX17 k).2.2.1 = some (tyX17 k) := by decide +kernel
abbrev cX17_init : ByteArray := prog_2_method_1_code
def yX17_init : MethodName := ⟨RX17, "<init>", "(IIIIIII)V"⟩
def dkwX17_init_0 : List UInt8 := [42, 27, 29, 21, 4, 21, 5, 21, 6, 183, 0, 1, 42, 28, 181, 0, 7, 42, 21, 7, 181, 0, 13, 177]
abbrev dktX17_init_0 : List UInt8 := dkwX17_init_0 ++ []
theorem dksX17_init_0 : cX17_init.data.toList.drop 0 = dktX17_init_0 := by decide +kernel
theorem dX17_init_0 : decode cX17_init 0 = .ok (.aload_n 0, 1) := dk_42 (dk_at dksX17_init_0 0 rfl rfl)
theorem dX17_init_1 : decode cX17_init 1 = .ok (.iload_n 1, 1) := dk_27 (dk_at dksX17_init_0 1 rfl rfl)
theorem dX17_init_2 : decode cX17_init 2 = .ok (.iload_n 3, 1) := dk_29 (dk_at dksX17_init_0 2 rfl rfl)
theorem dX17_init_3 : decode cX17_init 3 = .ok (.iload 4, 2) := dk_21 4 (dk_at dksX17_init_0 3 rfl rfl)
theorem dX17_init_5 : decode cX17_init 5 = .ok (.iload 5, 2) := dk_21 5 (dk_at dksX17_init_0 5 rfl rfl)
theorem dX17_init_7 : decode cX17_init 7 = .ok (.iload 6, 2) := dk_21 6 (dk_at dksX17_init_0 7 rfl rfl)
theorem dX17_init_9 : decode cX17_init 9 = .ok (.invokespecial 1, 3) := dk_183 0 1 (dk_at dksX17_init_0 9 rfl rfl)
theorem dX17_init_12 : decode cX17_init 12 = .ok (.aload_n 0, 1) := dk_42 (dk_at dksX17_init_0 12 rfl rfl)
theorem dX17_init_13 : decode cX17_init 13 = .ok (.iload_n 2, 1) := dk_28 (dk_at dksX17_init_0 13 rfl rfl)
theorem dX17_init_14 : decode cX17_init 14 = .ok (.putfield 7, 3) := dk_181 0 7 (dk_at dksX17_init_0 14 rfl rfl)
theorem dX17_init_17 : decode cX17_init 17 = .ok (.aload_n 0, 1) := dk_42 (dk_at dksX17_init_0 17 rfl rfl)
theorem dX17_init_18 : decode cX17_init 18 = .ok (.iload 7, 2) := dk_21 7 (dk_at dksX17_init_0 18 rfl rfl)
theorem dX17_init_20 : decode cX17_init 20 = .ok (.putfield 13, 3) := dk_181 0 13 (dk_at dksX17_init_0 20 rfl rfl)
theorem dX17_init_23 : decode cX17_init 23 = .ok (.return_, 1) := dk_177 (dk_at dksX17_init_0 23 rfl rfl)
abbrev cX17_from : ByteArray := prog_2_method_2_code
def yX17_from : MethodName := ⟨RX17, "from", "()I"⟩
theorem dX17_from_0 : decode cX17_from 0 = .ok (.aload_n 0, 1) := by decide +kernel
theorem dX17_from_1 : decode cX17_from 1 = .ok (.getfield 7, 3) := by decide +kernel
theorem dX17_from_4 : decode cX17_from 4 = .ok (.ireturn, 1) := by decide +kernel
abbrev cX17_to : ByteArray := prog_2_method_3_code
def yX17_to : MethodName := ⟨RX17, "to", "()I"⟩
def dkwX17_to_0 : List UInt8 := [42, 180, 0, 7, 42, 180, 0, 13, 96, 172]
abbrev dktX17_to_0 : List UInt8 := dkwX17_to_0 ++ []
theorem dksX17_to_0 : cX17_to.data.toList.drop 0 = dktX17_to_0 := by decide +kernel
theorem dX17_to_0 : decode cX17_to 0 = .ok (.aload_n 0, 1) := dk_42 (dk_at dksX17_to_0 0 rfl rfl)
theorem dX17_to_1 : decode cX17_to 1 = .ok (.getfield 7, 3) := dk_180 0 7 (dk_at dksX17_to_0 1 rfl rfl)
theorem dX17_to_4 : decode cX17_to 4 = .ok (.aload_n 0, 1) := dk_42 (dk_at dksX17_to_0 4 rfl rfl)
theorem dX17_to_5 : decode cX17_to 5 = .ok (.getfield 13, 3) := dk_180 0 13 (dk_at dksX17_to_0 5 rfl rfl)
theorem dX17_to_8 : decode cX17_to 8 = .ok (.iadd, 1) := dk_96 (dk_at dksX17_to_0 8 rfl rfl)
theorem dX17_to_9 : decode cX17_to 9 = .ok (.ireturn, 1) := dk_172 (dk_at dksX17_to_0 9 rfl rfl)
theorem q152 : (Jvm.Cond.initialized "TelescopeQueue$Alert") ∈ lw_all := lw_g (lw_at lw_m1 40 rfl) rfl
theorem q1266 : (Jvm.Cond.selects "TelescopeQueue$Alert" ({ cls := "java/lang/Object", name := "getClass", desc := "()Ljava/lang/Class;" } : Jvm.MethodName) ({ cls := "java/lang/Object", name := "getClass", desc := "()Ljava/lang/Class;" } : Jvm.MethodName)) ∈ lw_all := lw_g (lw_at lw_m5 194 rfl) rfl
theorem q1350 : (Jvm.Cond.instantiable "TelescopeQueue$Alert" (7 : Nat)) ∈ lw_all := lw_g (lw_at lw_m6 38 rfl) rfl
theorem q1352 : (Jvm.Cond.instanceMethod ({ cls := "TelescopeQueue$Alert", name := "<init>", desc := "(IIIIIII)V" } : Jvm.MethodName)) ∈ lw_all := lw_g (lw_at lw_m6 40 rfl) rfl
theorem q1353 : (Jvm.Cond.code ({ cls := "TelescopeQueue$Alert", name := "<init>", desc := "(IIIIIII)V" } : Jvm.MethodName) prog_2_method_1_code (8 : Nat) (Option.none : Option Jvm.ClassFile.FieldType)) ∈ lw_all := lw_g (lw_at lw_m6 41 rfl) rfl
theorem q1354 : (Jvm.Cond.methodLink "TelescopeQueue$Alert" (1 : Nat) ({ cls := "TelescopeQueue$Target", name := "<init>", desc := "(IIIII)V" } : Jvm.MethodName)) ∈ lw_all := lw_g (lw_at lw_m6 42 rfl) rfl
theorem q1355 : (Jvm.Cond.fieldLink "TelescopeQueue$Alert" (7 : Nat) "TelescopeQueue$Alert" "time" "I") ∈ lw_all := lw_g (lw_at lw_m6 43 rfl) rfl
theorem q1358 : (Jvm.Cond.fieldLink "TelescopeQueue$Alert" (13 : Nat) "TelescopeQueue$Alert" "response" "I") ∈ lw_all := lw_g (lw_at lw_m6 46 rfl) rfl
theorem q1360 : (Jvm.Cond.laysFinal "TelescopeQueue$Alert" "TelescopeQueue$Alert" "time" "I") ∈ lw_all := lw_g (lw_at lw_m6 48 rfl) rfl
theorem q1361 : (Jvm.Cond.soleField "TelescopeQueue$Alert" "time") ∈ lw_all := lw_g (lw_at lw_m6 49 rfl) rfl
theorem q1362 : (Jvm.Cond.laysFinal "TelescopeQueue$Alert" "TelescopeQueue$Alert" "response" "I") ∈ lw_all := lw_g (lw_at lw_m6 50 rfl) rfl
theorem q1363 : (Jvm.Cond.soleField "TelescopeQueue$Alert" "response") ∈ lw_all := lw_g (lw_at lw_m6 51 rfl) rfl
theorem q1364 : (Jvm.Cond.laysFinal "TelescopeQueue$Alert" "TelescopeQueue$Target" "proposal" "I") ∈ lw_all := lw_g (lw_at lw_m6 52 rfl) rfl
theorem q1365 : (Jvm.Cond.laysFinal "TelescopeQueue$Alert" "TelescopeQueue$Target" "lon" "I") ∈ lw_all := lw_g (lw_at lw_m6 53 rfl) rfl
theorem q1366 : (Jvm.Cond.laysFinal "TelescopeQueue$Alert" "TelescopeQueue$Target" "lat" "I") ∈ lw_all := lw_g (lw_at lw_m6 54 rfl) rfl
theorem q1367 : (Jvm.Cond.laysFinal "TelescopeQueue$Alert" "TelescopeQueue$Target" "duration" "I") ∈ lw_all := lw_g (lw_at lw_m6 55 rfl) rfl
theorem q1368 : (Jvm.Cond.laysFinal "TelescopeQueue$Alert" "TelescopeQueue$Target" "push" "I") ∈ lw_all := lw_g (lw_at lw_m6 56 rfl) rfl
theorem q1369 : (Jvm.Cond.superclass "TelescopeQueue$Alert" "TelescopeQueue$Target") ∈ lw_all := lw_g (lw_at lw_m6 57 rfl) rfl
theorem q1470 : (Jvm.Cond.castable "TelescopeQueue$Alert" "TelescopeQueue$Work") ∈ lw_tbl := lw_at lw_m6 158 rfl
theorem q1471 : (Jvm.Cond.selects "TelescopeQueue$Alert" ({ cls := "TelescopeQueue$Work", name := "proposal", desc := "()I" } : Jvm.MethodName) ({ cls := "TelescopeQueue$Target", name := "proposal", desc := "()I" } : Jvm.MethodName)) ∈ lw_all := lw_g (lw_at lw_m6 159 rfl) rfl
theorem q1472 : (Jvm.Cond.unhidden "TelescopeQueue$Alert" "proposal" "()I") ∈ lw_tbl := lw_at lw_m6 160 rfl
theorem q1572 : (Jvm.Cond.sameMethod "TelescopeQueue$Alert" "TelescopeQueue$Target" "proposal" "()I") ∈ lw_all := lw_g (lw_at lw_m7 20 rfl) rfl
theorem q1573 : (Jvm.Cond.selects "TelescopeQueue$Alert" ({ cls := "TelescopeQueue$Alert", name := "proposal", desc := "()I" } : Jvm.MethodName) ({ cls := "TelescopeQueue$Target", name := "proposal", desc := "()I" } : Jvm.MethodName)) ∈ lw_all := lw_g (lw_at lw_m7 21 rfl) rfl
theorem q1575 : (Jvm.Cond.sameMethod "TelescopeQueue$Alert" "TelescopeQueue$Target" "lon" "()I") ∈ lw_all := lw_g (lw_at lw_m7 23 rfl) rfl
theorem q1576 : (Jvm.Cond.selects "TelescopeQueue$Alert" ({ cls := "TelescopeQueue$Alert", name := "lon", desc := "()I" } : Jvm.MethodName) ({ cls := "TelescopeQueue$Target", name := "lon", desc := "()I" } : Jvm.MethodName)) ∈ lw_all := lw_g (lw_at lw_m7 24 rfl) rfl
theorem q1578 : (Jvm.Cond.sameMethod "TelescopeQueue$Alert" "TelescopeQueue$Target" "lat" "()I") ∈ lw_all := lw_g (lw_at lw_m7 26 rfl) rfl
theorem q1579 : (Jvm.Cond.selects "TelescopeQueue$Alert" ({ cls := "TelescopeQueue$Alert", name := "lat", desc := "()I" } : Jvm.MethodName) ({ cls := "TelescopeQueue$Target", name := "lat", desc := "()I" } : Jvm.MethodName)) ∈ lw_all := lw_g (lw_at lw_m7 27 rfl) rfl
theorem q1581 : (Jvm.Cond.sameMethod "TelescopeQueue$Alert" "TelescopeQueue$Target" "duration" "()I") ∈ lw_all := lw_g (lw_at lw_m7 29 rfl) rfl
theorem q1582 : (Jvm.Cond.selects "TelescopeQueue$Alert" ({ cls := "TelescopeQueue$Alert", name := "duration", desc := "()I" } : Jvm.MethodName) ({ cls := "TelescopeQueue$Target", name := "duration", desc := "()I" } : Jvm.MethodName)) ∈ lw_all := lw_g (lw_at lw_m7 30 rfl) rfl
theorem q1584 : (Jvm.Cond.sameMethod "TelescopeQueue$Alert" "TelescopeQueue$Target" "push" "()I") ∈ lw_all := lw_g (lw_at lw_m7 32 rfl) rfl
theorem q1585 : (Jvm.Cond.selects "TelescopeQueue$Alert" ({ cls := "TelescopeQueue$Alert", name := "push", desc := "()I" } : Jvm.MethodName) ({ cls := "TelescopeQueue$Target", name := "push", desc := "()I" } : Jvm.MethodName)) ∈ lw_all := lw_g (lw_at lw_m7 33 rfl) rfl
theorem q1740 : (Jvm.Cond.selects "TelescopeQueue$Alert" ({ cls := "TelescopeQueue$Work", name := "duration", desc := "()I" } : Jvm.MethodName) ({ cls := "TelescopeQueue$Target", name := "duration", desc := "()I" } : Jvm.MethodName)) ∈ lw_all := lw_g (lw_at lw_m7 188 rfl) rfl
theorem q1741 : (Jvm.Cond.unhidden "TelescopeQueue$Alert" "duration" "()I") ∈ lw_tbl := lw_at lw_m7 189 rfl
theorem q1749 : (Jvm.Cond.unhidden "TelescopeQueue$Alert" "growth" "(I)I") ∈ lw_tbl := lw_at lw_m7 197 rfl
theorem q1757 : (Jvm.Cond.selects "TelescopeQueue$Alert" ({ cls := "TelescopeQueue$Work", name := "push", desc := "()I" } : Jvm.MethodName) ({ cls := "TelescopeQueue$Target", name := "push", desc := "()I" } : Jvm.MethodName)) ∈ lw_all := lw_g (lw_at lw_m7 205 rfl) rfl
theorem q1758 : (Jvm.Cond.unhidden "TelescopeQueue$Alert" "push" "()I") ∈ lw_tbl := lw_at lw_m7 206 rfl
theorem q1769 : (Jvm.Cond.unhidden "TelescopeQueue$Alert" "angleFrom" "(II)I") ∈ lw_tbl := lw_at lw_m7 217 rfl
theorem q1776 : (Jvm.Cond.castable "TelescopeQueue$Alert" "TelescopeQueue$Placed") ∈ lw_tbl := lw_at lw_m7 224 rfl
theorem q1777 : (Jvm.Cond.selects "TelescopeQueue$Alert" ({ cls := "TelescopeQueue$Placed", name := "lon", desc := "()I" } : Jvm.MethodName) ({ cls := "TelescopeQueue$Target", name := "lon", desc := "()I" } : Jvm.MethodName)) ∈ lw_all := lw_g (lw_at lw_m7 225 rfl) rfl
theorem q1778 : (Jvm.Cond.unhidden "TelescopeQueue$Alert" "lon" "()I") ∈ lw_tbl := lw_at lw_m7 226 rfl
theorem q1788 : (Jvm.Cond.selects "TelescopeQueue$Alert" ({ cls := "TelescopeQueue$Placed", name := "lat", desc := "()I" } : Jvm.MethodName) ({ cls := "TelescopeQueue$Target", name := "lat", desc := "()I" } : Jvm.MethodName)) ∈ lw_all := lw_g (lw_at lw_m7 236 rfl) rfl
theorem q1789 : (Jvm.Cond.unhidden "TelescopeQueue$Alert" "lat" "()I") ∈ lw_tbl := lw_at lw_m7 237 rfl
theorem q1805 : (Jvm.Cond.selects "TelescopeQueue$Alert" ({ cls := "TelescopeQueue$Work", name := "from", desc := "()I" } : Jvm.MethodName) ({ cls := "TelescopeQueue$Alert", name := "from", desc := "()I" } : Jvm.MethodName)) ∈ lw_all := lw_g (lw_at lw_m8 13 rfl) rfl
theorem q1806 : (Jvm.Cond.unhidden "TelescopeQueue$Alert" "from" "()I") ∈ lw_tbl := lw_at lw_m8 14 rfl
theorem q1807 : (Jvm.Cond.instanceMethod ({ cls := "TelescopeQueue$Alert", name := "from", desc := "()I" } : Jvm.MethodName)) ∈ lw_all := lw_g (lw_at lw_m8 15 rfl) rfl
theorem q1808 : (Jvm.Cond.publicMethod ({ cls := "TelescopeQueue$Alert", name := "from", desc := "()I" } : Jvm.MethodName)) ∈ lw_tbl := lw_at lw_m8 16 rfl
theorem q1809 : (Jvm.Cond.code ({ cls := "TelescopeQueue$Alert", name := "from", desc := "()I" } : Jvm.MethodName) prog_2_method_2_code (1 : Nat) (Option.some Jvm.ClassFile.FieldType.int)) ∈ lw_all := lw_g (lw_at lw_m8 17 rfl) rfl
theorem q1817 : (Jvm.Cond.selects "TelescopeQueue$Alert" ({ cls := "TelescopeQueue$Work", name := "to", desc := "()I" } : Jvm.MethodName) ({ cls := "TelescopeQueue$Alert", name := "to", desc := "()I" } : Jvm.MethodName)) ∈ lw_all := lw_g (lw_at lw_m8 25 rfl) rfl
theorem q1818 : (Jvm.Cond.unhidden "TelescopeQueue$Alert" "to" "()I") ∈ lw_tbl := lw_at lw_m8 26 rfl
theorem q1819 : (Jvm.Cond.instanceMethod ({ cls := "TelescopeQueue$Alert", name := "to", desc := "()I" } : Jvm.MethodName)) ∈ lw_all := lw_g (lw_at lw_m8 27 rfl) rfl
theorem q1820 : (Jvm.Cond.publicMethod ({ cls := "TelescopeQueue$Alert", name := "to", desc := "()I" } : Jvm.MethodName)) ∈ lw_tbl := lw_at lw_m8 28 rfl
theorem q1821 : (Jvm.Cond.code ({ cls := "TelescopeQueue$Alert", name := "to", desc := "()I" } : Jvm.MethodName) prog_2_method_3_code (1 : Nat) (Option.some Jvm.ClassFile.FieldType.int)) ∈ lw_all := lw_g (lw_at lw_m8 29 rfl) rfl
theorem q3250 : (Jvm.Cond.selects "TelescopeQueue$Alert" ({ cls := "TelescopeQueue$Alert", name := "to", desc := "()I" } : Jvm.MethodName) ({ cls := "TelescopeQueue$Alert", name := "to", desc := "()I" } : Jvm.MethodName)) ∈ lw_all := lw_g (lw_at lw_m14 18 rfl) rfl
theorem q3286 : (Jvm.Cond.castable "TelescopeQueue$Alert" "java/lang/Object") ∈ lw_tbl := lw_at lw_m14 54 rfl
theorem in_X17 : ∀ w ∈ wsX170, w ∈ lw_all := lw_in wsX170 [1364, 1365, 1366, 1367, 1368, 1360, 1362] (by decide +kernel) (by decide +kernel)

/-! TelescopeQueue$Outage -/
set_option maxRecDepth 100000
def RX18 : String := "TelescopeQueue$Outage"
def TX18 : u_T := fun k => match k with
  | 0 => ("TelescopeQueue$Outage", "from", "I", true)
  | _ => ("TelescopeQueue$Outage", "to", "I", true)
def tyX18 : Nat → FieldType := fun k => match k with
  | 0 => .int
  | _ => .int
abbrev wsX180 : List Cond := u_ws RX18 TX18 2
theorem nmX18 : ∀ a, a < 2 → ∀ b, b < 2 → a ≠ b → (TX18 a).2.1 ≠ (TX18 b).2.1 := by decide +kernel
theorem tyX18_ok : ∀ k, k < 2 → parseFieldDescriptor (TX18 k).2.2.1 = some (tyX18 k) := by decide +kernel
abbrev cX18_init : ByteArray := prog_7_method_1_code
def yX18_init : MethodName := ⟨RX18, "<init>", "(II)V"⟩
def dkwX18_init_0 : List UInt8 := [42, 183, 0, 1, 42, 27, 181, 0, 7, 42, 28, 181, 0, 13, 177]
abbrev dktX18_init_0 : List UInt8 := dkwX18_init_0 ++ []
theorem dksX18_init_0 : cX18_init.data.toList.drop 0 = dktX18_init_0 := by decide +kernel
theorem dX18_init_0 : decode cX18_init 0 = .ok (.aload_n 0, 1) := dk_42 (dk_at dksX18_init_0 0 rfl rfl)
theorem dX18_init_1 : decode cX18_init 1 = .ok (.invokespecial 1, 3) := dk_183 0 1 (dk_at dksX18_init_0 1 rfl rfl)
theorem dX18_init_4 : decode cX18_init 4 = .ok (.aload_n 0, 1) := dk_42 (dk_at dksX18_init_0 4 rfl rfl)
theorem dX18_init_5 : decode cX18_init 5 = .ok (.iload_n 1, 1) := dk_27 (dk_at dksX18_init_0 5 rfl rfl)
theorem dX18_init_6 : decode cX18_init 6 = .ok (.putfield 7, 3) := dk_181 0 7 (dk_at dksX18_init_0 6 rfl rfl)
theorem dX18_init_9 : decode cX18_init 9 = .ok (.aload_n 0, 1) := dk_42 (dk_at dksX18_init_0 9 rfl rfl)
theorem dX18_init_10 : decode cX18_init 10 = .ok (.iload_n 2, 1) := dk_28 (dk_at dksX18_init_0 10 rfl rfl)
theorem dX18_init_11 : decode cX18_init 11 = .ok (.putfield 13, 3) := dk_181 0 13 (dk_at dksX18_init_0 11 rfl rfl)
theorem dX18_init_14 : decode cX18_init 14 = .ok (.return_, 1) := dk_177 (dk_at dksX18_init_0 14 rfl rfl)
abbrev cX18_overlaps : ByteArray := prog_7_method_2_code
def yX18_overlaps : MethodName := ⟨RX18, "overlaps", "(II)Z"⟩
def dkwX18_overlaps_0 : List UInt8 := [27, 42, 180, 0, 13, 163, 0, 15, 28, 42, 180, 0, 7, 164, 0, 7, 4, 167, 0, 4, 3, 172]
abbrev dktX18_overlaps_0 : List UInt8 := dkwX18_overlaps_0 ++ []
theorem dksX18_overlaps_0 : cX18_overlaps.data.toList.drop 0 = dktX18_overlaps_0 := by decide +kernel
theorem dX18_overlaps_0 : decode cX18_overlaps 0 = .ok (.iload_n 1, 1) := dk_27 (dk_at dksX18_overlaps_0 0 rfl rfl)
theorem dX18_overlaps_1 : decode cX18_overlaps 1 = .ok (.aload_n 0, 1) := dk_42 (dk_at dksX18_overlaps_0 1 rfl rfl)
theorem dX18_overlaps_2 : decode cX18_overlaps 2 = .ok (.getfield 13, 3) := dk_180 0 13 (dk_at dksX18_overlaps_0 2 rfl rfl)
theorem dX18_overlaps_5 : decode cX18_overlaps 5 = .ok (.if_icmp .gt 15, 3) := dk_163 0 15 (dk_at dksX18_overlaps_0 5 rfl rfl)
theorem dX18_overlaps_8 : decode cX18_overlaps 8 = .ok (.iload_n 2, 1) := dk_28 (dk_at dksX18_overlaps_0 8 rfl rfl)
theorem dX18_overlaps_9 : decode cX18_overlaps 9 = .ok (.aload_n 0, 1) := dk_42 (dk_at dksX18_overlaps_0 9 rfl rfl)
theorem dX18_overlaps_10 : decode cX18_overlaps 10 = .ok (.getfield 7, 3) := dk_180 0 7 (dk_at dksX18_overlaps_0 10 rfl rfl)
theorem dX18_overlaps_13 : decode cX18_overlaps 13 = .ok (.if_icmp .le 7, 3) := dk_164 0 7 (dk_at dksX18_overlaps_0 13 rfl rfl)
theorem dX18_overlaps_16 : decode cX18_overlaps 16 = .ok (.iconst 1, 1) := dk_4 (dk_at dksX18_overlaps_0 16 rfl rfl)
theorem dX18_overlaps_17 : decode cX18_overlaps 17 = .ok (.goto 4, 3) := dk_167 0 4 (dk_at dksX18_overlaps_0 17 rfl rfl)
theorem dX18_overlaps_20 : decode cX18_overlaps 20 = .ok (.iconst 0, 1) := dk_3 (dk_at dksX18_overlaps_0 20 rfl rfl)
theorem dX18_overlaps_21 : decode cX18_overlaps 21 = .ok (.ireturn, 1) := dk_172 (dk_at dksX18_overlaps_0 21 rfl rfl)
theorem q153 : (Jvm.Cond.initialized "TelescopeQueue$Outage") ∈ lw_all := lw_g (lw_at lw_m1 41 rfl) rfl
theorem q1270 : (Jvm.Cond.selects "TelescopeQueue$Outage" ({ cls := "java/lang/Object", name := "getClass", desc := "()Ljava/lang/Class;" } : Jvm.MethodName) ({ cls := "java/lang/Object", name := "getClass", desc := "()Ljava/lang/Class;" } : Jvm.MethodName)) ∈ lw_all := lw_g (lw_at lw_m5 198 rfl) rfl
theorem q1371 : (Jvm.Cond.instantiable "TelescopeQueue$Outage" (2 : Nat)) ∈ lw_all := lw_g (lw_at lw_m6 59 rfl) rfl
theorem q1373 : (Jvm.Cond.instanceMethod ({ cls := "TelescopeQueue$Outage", name := "<init>", desc := "(II)V" } : Jvm.MethodName)) ∈ lw_all := lw_g (lw_at lw_m6 61 rfl) rfl
theorem q1374 : (Jvm.Cond.code ({ cls := "TelescopeQueue$Outage", name := "<init>", desc := "(II)V" } : Jvm.MethodName) prog_7_method_1_code (3 : Nat) (Option.none : Option Jvm.ClassFile.FieldType)) ∈ lw_all := lw_g (lw_at lw_m6 62 rfl) rfl
theorem q1375 : (Jvm.Cond.methodLink "TelescopeQueue$Outage" (1 : Nat) ({ cls := "java/lang/Object", name := "<init>", desc := "()V" } : Jvm.MethodName)) ∈ lw_all := lw_g (lw_at lw_m6 63 rfl) rfl
theorem q1376 : (Jvm.Cond.fieldLink "TelescopeQueue$Outage" (7 : Nat) "TelescopeQueue$Outage" "from" "I") ∈ lw_all := lw_g (lw_at lw_m6 64 rfl) rfl
theorem q1377 : (Jvm.Cond.fieldLink "TelescopeQueue$Outage" (13 : Nat) "TelescopeQueue$Outage" "to" "I") ∈ lw_all := lw_g (lw_at lw_m6 65 rfl) rfl
theorem q1378 : (Jvm.Cond.laysFinal "TelescopeQueue$Outage" "TelescopeQueue$Outage" "from" "I") ∈ lw_all := lw_g (lw_at lw_m6 66 rfl) rfl
theorem q1379 : (Jvm.Cond.soleField "TelescopeQueue$Outage" "from") ∈ lw_all := lw_g (lw_at lw_m6 67 rfl) rfl
theorem q1380 : (Jvm.Cond.laysFinal "TelescopeQueue$Outage" "TelescopeQueue$Outage" "to" "I") ∈ lw_all := lw_g (lw_at lw_m6 68 rfl) rfl
theorem q1381 : (Jvm.Cond.soleField "TelescopeQueue$Outage" "to") ∈ lw_all := lw_g (lw_at lw_m6 69 rfl) rfl
theorem q1382 : (Jvm.Cond.superclass "TelescopeQueue$Outage" "java/lang/Object") ∈ lw_all := lw_g (lw_at lw_m6 70 rfl) rfl
theorem q1839 : (Jvm.Cond.instanceMethod ({ cls := "TelescopeQueue$Outage", name := "overlaps", desc := "(II)Z" } : Jvm.MethodName)) ∈ lw_all := lw_g (lw_at lw_m8 47 rfl) rfl
theorem q1840 : (Jvm.Cond.selects "TelescopeQueue$Outage" ({ cls := "TelescopeQueue$Outage", name := "overlaps", desc := "(II)Z" } : Jvm.MethodName) ({ cls := "TelescopeQueue$Outage", name := "overlaps", desc := "(II)Z" } : Jvm.MethodName)) ∈ lw_all := lw_g (lw_at lw_m8 48 rfl) rfl
theorem q1841 : (Jvm.Cond.code ({ cls := "TelescopeQueue$Outage", name := "overlaps", desc := "(II)Z" } : Jvm.MethodName) prog_7_method_2_code (3 : Nat) (Option.some Jvm.ClassFile.FieldType.boolean)) ∈ lw_all := lw_g (lw_at lw_m8 49 rfl) rfl
theorem q3287 : (Jvm.Cond.castable "TelescopeQueue$Outage" "java/lang/Object") ∈ lw_tbl := lw_at lw_m14 55 rfl
theorem in_X18 : ∀ w ∈ wsX180, w ∈ lw_all := lw_in wsX180 [1378, 1380] (by decide +kernel) (by decide +kernel)

/-! TelescopeQueue$Placed -/
set_option maxRecDepth 100000
def RX19 : String := "TelescopeQueue$Placed"
abbrev cX19_around : ByteArray := prog_9_method_3_code
def yX19_around : MethodName := ⟨RX19, "around", "(II)I"⟩
def dkwX19_around_0 : List UInt8 := [26, 27, 100, 17, 1, 104, 184, 0, 3, 61, 28, 17, 1, 104, 28, 100, 184, 0, 9, 172]
abbrev dktX19_around_0 : List UInt8 := dkwX19_around_0 ++ []
theorem dksX19_around_0 : cX19_around.data.toList.drop 0 = dktX19_around_0 := by decide +kernel
theorem dX19_around_0 : decode cX19_around 0 = .ok (.iload_n 0, 1) := dk_26 (dk_at dksX19_around_0 0 rfl rfl)
theorem dX19_around_1 : decode cX19_around 1 = .ok (.iload_n 1, 1) := dk_27 (dk_at dksX19_around_0 1 rfl rfl)
theorem dX19_around_2 : decode cX19_around 2 = .ok (.isub, 1) := dk_100 (dk_at dksX19_around_0 2 rfl rfl)
theorem dX19_around_3 : decode cX19_around 3 = .ok (.sipush 360, 3) := dk_17 1 104 (dk_at dksX19_around_0 3 rfl rfl)
theorem dX19_around_6 : decode cX19_around 6 = .ok (.invokestatic 3, 3) := dk_184 0 3 (dk_at dksX19_around_0 6 rfl rfl)
theorem dX19_around_9 : decode cX19_around 9 = .ok (.istore_n 2, 1) := dk_61 (dk_at dksX19_around_0 9 rfl rfl)
theorem dX19_around_10 : decode cX19_around 10 = .ok (.iload_n 2, 1) := dk_28 (dk_at dksX19_around_0 10 rfl rfl)
theorem dX19_around_11 : decode cX19_around 11 = .ok (.sipush 360, 3) := dk_17 1 104 (dk_at dksX19_around_0 11 rfl rfl)
theorem dX19_around_14 : decode cX19_around 14 = .ok (.iload_n 2, 1) := dk_28 (dk_at dksX19_around_0 14 rfl rfl)
theorem dX19_around_15 : decode cX19_around 15 = .ok (.isub, 1) := dk_100 (dk_at dksX19_around_0 15 rfl rfl)
theorem dX19_around_16 : decode cX19_around 16 = .ok (.invokestatic 9, 3) := dk_184 0 9 (dk_at dksX19_around_0 16 rfl rfl)
theorem dX19_around_19 : decode cX19_around 19 = .ok (.ireturn, 1) := dk_172 (dk_at dksX19_around_0 19 rfl rfl)
abbrev cX19_angleFrom : ByteArray := prog_9_method_4_code
def yX19_angleFrom : MethodName := ⟨RX19, "angleFrom", "(II)I"⟩
def dkwX19_angleFrom_1 : List UInt8 := [172]
abbrev dktX19_angleFrom_1 : List UInt8 := dkwX19_angleFrom_1 ++ []
def dkwX19_angleFrom_0 : List UInt8 := [27, 42, 185, 0, 12, 1, 0, 184, 0, 18, 28, 42, 185, 0, 21, 1, 0, 100, 184, 0, 24, 184, 0, 28]
abbrev dktX19_angleFrom_0 : List UInt8 := dkwX19_angleFrom_0 ++ dktX19_angleFrom_1
theorem dksX19_angleFrom_0 : cX19_angleFrom.data.toList.drop 0 = dktX19_angleFrom_0 := by decide +kernel
theorem dksX19_angleFrom_1 : cX19_angleFrom.data.toList.drop 24 = dktX19_angleFrom_1 := dk_seg dksX19_angleFrom_0 24 rfl rfl
theorem dX19_angleFrom_0 : decode cX19_angleFrom 0 = .ok (.iload_n 1, 1) := dk_27 (dk_at dksX19_angleFrom_0 0 rfl rfl)
theorem dX19_angleFrom_1 : decode cX19_angleFrom 1 = .ok (.aload_n 0, 1) := dk_42 (dk_at dksX19_angleFrom_0 1 rfl rfl)
theorem dX19_angleFrom_2 : decode cX19_angleFrom 2 = .ok (.invokeinterface 12 1, 5) := by decide +kernel
theorem dX19_angleFrom_7 : decode cX19_angleFrom 7 = .ok (.invokestatic 18, 3) := dk_184 0 18 (dk_at dksX19_angleFrom_0 7 rfl rfl)
theorem dX19_angleFrom_10 : decode cX19_angleFrom 10 = .ok (.iload_n 2, 1) := dk_28 (dk_at dksX19_angleFrom_0 10 rfl rfl)
theorem dX19_angleFrom_11 : decode cX19_angleFrom 11 = .ok (.aload_n 0, 1) := dk_42 (dk_at dksX19_angleFrom_0 11 rfl rfl)
theorem dX19_angleFrom_12 : decode cX19_angleFrom 12 = .ok (.invokeinterface 21 1, 5) := by decide +kernel
theorem dX19_angleFrom_17 : decode cX19_angleFrom 17 = .ok (.isub, 1) := dk_100 (dk_at dksX19_angleFrom_0 17 rfl rfl)
theorem dX19_angleFrom_18 : decode cX19_angleFrom 18 = .ok (.invokestatic 24, 3) := dk_184 0 24 (dk_at dksX19_angleFrom_0 18 rfl rfl)
theorem dX19_angleFrom_21 : decode cX19_angleFrom 21 = .ok (.invokestatic 28, 3) := dk_184 0 28 (dk_at dksX19_angleFrom_0 21 rfl rfl)
theorem dX19_angleFrom_24 : decode cX19_angleFrom 24 = .ok (.ireturn, 1) := dk_172 (dk_at dksX19_angleFrom_1 0 rfl rfl)
theorem q155 : (Jvm.Cond.initialized "TelescopeQueue$Placed") ∈ lw_all := lw_g (lw_at lw_m1 43 rfl) rfl
theorem q1672 : (Jvm.Cond.static ({ cls := "TelescopeQueue$Placed", name := "around", desc := "(II)I" } : Jvm.MethodName)) ∈ lw_all := lw_g (lw_at lw_m7 120 rfl) rfl
theorem q1673 : (Jvm.Cond.code ({ cls := "TelescopeQueue$Placed", name := "around", desc := "(II)I" } : Jvm.MethodName) prog_9_method_3_code (3 : Nat) (Option.some Jvm.ClassFile.FieldType.int)) ∈ lw_all := lw_g (lw_at lw_m7 121 rfl) rfl
theorem q1674 : (Jvm.Cond.methodLink "TelescopeQueue$Placed" (3 : Nat) ({ cls := "java/lang/Math", name := "floorMod", desc := "(II)I" } : Jvm.MethodName)) ∈ lw_all := lw_g (lw_at lw_m7 122 rfl) rfl
theorem q1677 : (Jvm.Cond.methodLink "TelescopeQueue$Placed" (9 : Nat) ({ cls := "java/lang/Math", name := "min", desc := "(II)I" } : Jvm.MethodName)) ∈ lw_all := lw_g (lw_at lw_m7 125 rfl) rfl
theorem q1767 : (Jvm.Cond.publicMethod ({ cls := "TelescopeQueue$Placed", name := "angleFrom", desc := "(II)I" } : Jvm.MethodName)) ∈ lw_tbl := lw_at lw_m7 215 rfl
theorem q1768 : (Jvm.Cond.declares ({ cls := "TelescopeQueue$Placed", name := "angleFrom", desc := "(II)I" } : Jvm.MethodName)) ∈ lw_tbl := lw_at lw_m7 216 rfl
theorem q1770 : (Jvm.Cond.instanceMethod ({ cls := "TelescopeQueue$Placed", name := "angleFrom", desc := "(II)I" } : Jvm.MethodName)) ∈ lw_all := lw_g (lw_at lw_m7 218 rfl) rfl
theorem q1771 : (Jvm.Cond.code ({ cls := "TelescopeQueue$Placed", name := "angleFrom", desc := "(II)I" } : Jvm.MethodName) prog_9_method_4_code (3 : Nat) (Option.some Jvm.ClassFile.FieldType.int)) ∈ lw_all := lw_g (lw_at lw_m7 219 rfl) rfl
theorem q1772 : (Jvm.Cond.interfaceEntry "TelescopeQueue$Placed" (12 : Nat)) ∈ lw_tbl := lw_at lw_m7 220 rfl
theorem q1773 : (Jvm.Cond.methodLink "TelescopeQueue$Placed" (12 : Nat) ({ cls := "TelescopeQueue$Placed", name := "lon", desc := "()I" } : Jvm.MethodName)) ∈ lw_all := lw_g (lw_at lw_m7 221 rfl) rfl
theorem q1774 : (Jvm.Cond.interfaceMethod "TelescopeQueue$Placed" "TelescopeQueue$Placed" "lon" "()I") ∈ lw_tbl := lw_at lw_m7 222 rfl
theorem q1775 : (Jvm.Cond.declares ({ cls := "TelescopeQueue$Placed", name := "lon", desc := "()I" } : Jvm.MethodName)) ∈ lw_tbl := lw_at lw_m7 223 rfl
theorem q1783 : (Jvm.Cond.methodLink "TelescopeQueue$Placed" (18 : Nat) ({ cls := "TelescopeQueue$Placed", name := "around", desc := "(II)I" } : Jvm.MethodName)) ∈ lw_all := lw_g (lw_at lw_m7 231 rfl) rfl
theorem q1784 : (Jvm.Cond.interfaceEntry "TelescopeQueue$Placed" (21 : Nat)) ∈ lw_tbl := lw_at lw_m7 232 rfl
theorem q1785 : (Jvm.Cond.methodLink "TelescopeQueue$Placed" (21 : Nat) ({ cls := "TelescopeQueue$Placed", name := "lat", desc := "()I" } : Jvm.MethodName)) ∈ lw_all := lw_g (lw_at lw_m7 233 rfl) rfl
theorem q1786 : (Jvm.Cond.interfaceMethod "TelescopeQueue$Placed" "TelescopeQueue$Placed" "lat" "()I") ∈ lw_tbl := lw_at lw_m7 234 rfl
theorem q1787 : (Jvm.Cond.declares ({ cls := "TelescopeQueue$Placed", name := "lat", desc := "()I" } : Jvm.MethodName)) ∈ lw_tbl := lw_at lw_m7 235 rfl
theorem q1793 : (Jvm.Cond.methodLink "TelescopeQueue$Placed" (24 : Nat) ({ cls := "java/lang/Math", name := "abs", desc := "(I)I" } : Jvm.MethodName)) ∈ lw_all := lw_g (lw_at lw_m8 1 rfl) rfl
theorem q1794 : (Jvm.Cond.methodLink "TelescopeQueue$Placed" (28 : Nat) ({ cls := "java/lang/Math", name := "max", desc := "(II)I" } : Jvm.MethodName)) ∈ lw_all := lw_g (lw_at lw_m8 2 rfl) rfl
theorem q1827 : (Jvm.Cond.publicMethod ({ cls := "TelescopeQueue$Placed", name := "lon", desc := "()I" } : Jvm.MethodName)) ∈ lw_tbl := lw_at lw_m8 35 rfl
theorem q1985 : (Jvm.Cond.publicMethod ({ cls := "TelescopeQueue$Placed", name := "lat", desc := "()I" } : Jvm.MethodName)) ∈ lw_tbl := lw_at lw_m8 193 rfl

/-! TelescopeQueue$Work -/
set_option maxRecDepth 100000
def RX20 : String := "TelescopeQueue$Work"
abbrev cX20_growth : ByteArray := prog_20_method_7_code
def yX20_growth : MethodName := ⟨RX20, "growth", "(I)I"⟩
def dkwX20_growth_0 : List UInt8 := [42, 185, 0, 1, 1, 0, 27, 184, 0, 7, 172]
abbrev dktX20_growth_0 : List UInt8 := dkwX20_growth_0 ++ []
theorem dksX20_growth_0 : cX20_growth.data.toList.drop 0 = dktX20_growth_0 := by decide +kernel
theorem dX20_growth_0 : decode cX20_growth 0 = .ok (.aload_n 0, 1) := dk_42 (dk_at dksX20_growth_0 0 rfl rfl)
theorem dX20_growth_1 : decode cX20_growth 1 = .ok (.invokeinterface 1 1, 5) := by decide +kernel
theorem dX20_growth_6 : decode cX20_growth 6 = .ok (.iload_n 1, 1) := dk_27 (dk_at dksX20_growth_0 6 rfl rfl)
theorem dX20_growth_7 : decode cX20_growth 7 = .ok (.invokestatic 7, 3) := dk_184 0 7 (dk_at dksX20_growth_0 7 rfl rfl)
theorem dX20_growth_10 : decode cX20_growth 10 = .ok (.ireturn, 1) := dk_172 (dk_at dksX20_growth_0 10 rfl rfl)
abbrev cX20_grown : ByteArray := prog_20_method_6_code
def yX20_grown : MethodName := ⟨RX20, "grown", "(II)I"⟩
def dkwX20_grown_0 : List UInt8 := [26, 27, 104, 16, 9, 96, 16, 10, 108, 172]
abbrev dktX20_grown_0 : List UInt8 := dkwX20_grown_0 ++ []
theorem dksX20_grown_0 : cX20_grown.data.toList.drop 0 = dktX20_grown_0 := by decide +kernel
theorem dX20_grown_0 : decode cX20_grown 0 = .ok (.iload_n 0, 1) := dk_26 (dk_at dksX20_grown_0 0 rfl rfl)
theorem dX20_grown_1 : decode cX20_grown 1 = .ok (.iload_n 1, 1) := dk_27 (dk_at dksX20_grown_0 1 rfl rfl)
theorem dX20_grown_2 : decode cX20_grown 2 = .ok (.imul, 1) := dk_104 (dk_at dksX20_grown_0 2 rfl rfl)
theorem dX20_grown_3 : decode cX20_grown 3 = .ok (.bipush 9, 2) := dk_16 9 (dk_at dksX20_grown_0 3 rfl rfl)
theorem dX20_grown_5 : decode cX20_grown 5 = .ok (.iadd, 1) := dk_96 (dk_at dksX20_grown_0 5 rfl rfl)
theorem dX20_grown_6 : decode cX20_grown 6 = .ok (.bipush 10, 2) := dk_16 10 (dk_at dksX20_grown_0 6 rfl rfl)
theorem dX20_grown_8 : decode cX20_grown 8 = .ok (.idiv, 1) := dk_108 (dk_at dksX20_grown_0 8 rfl rfl)
theorem dX20_grown_9 : decode cX20_grown 9 = .ok (.ireturn, 1) := dk_172 (dk_at dksX20_grown_0 9 rfl rfl)
theorem q156 : (Jvm.Cond.initialized "TelescopeQueue$Work") ∈ lw_all := lw_g (lw_at lw_m1 44 rfl) rfl
theorem q1468 : (Jvm.Cond.interfaceMethod "TelescopeQueue$Work" "TelescopeQueue$Work" "proposal" "()I") ∈ lw_tbl := lw_at lw_m6 156 rfl
theorem q1469 : (Jvm.Cond.declares ({ cls := "TelescopeQueue$Work", name := "proposal", desc := "()I" } : Jvm.MethodName)) ∈ lw_tbl := lw_at lw_m6 157 rfl
theorem q1738 : (Jvm.Cond.interfaceMethod "TelescopeQueue$Work" "TelescopeQueue$Work" "duration" "()I") ∈ lw_tbl := lw_at lw_m7 186 rfl
theorem q1739 : (Jvm.Cond.declares ({ cls := "TelescopeQueue$Work", name := "duration", desc := "()I" } : Jvm.MethodName)) ∈ lw_tbl := lw_at lw_m7 187 rfl
theorem q1747 : (Jvm.Cond.interfaceMethod "TelescopeQueue$Work" "TelescopeQueue$Work" "growth" "(I)I") ∈ lw_tbl := lw_at lw_m7 195 rfl
theorem q1748 : (Jvm.Cond.declares ({ cls := "TelescopeQueue$Work", name := "growth", desc := "(I)I" } : Jvm.MethodName)) ∈ lw_tbl := lw_at lw_m7 196 rfl
theorem q1750 : (Jvm.Cond.instanceMethod ({ cls := "TelescopeQueue$Work", name := "growth", desc := "(I)I" } : Jvm.MethodName)) ∈ lw_all := lw_g (lw_at lw_m7 198 rfl) rfl
theorem q1751 : (Jvm.Cond.publicMethod ({ cls := "TelescopeQueue$Work", name := "growth", desc := "(I)I" } : Jvm.MethodName)) ∈ lw_tbl := lw_at lw_m7 199 rfl
theorem q1752 : (Jvm.Cond.code ({ cls := "TelescopeQueue$Work", name := "growth", desc := "(I)I" } : Jvm.MethodName) prog_20_method_7_code (2 : Nat) (Option.some Jvm.ClassFile.FieldType.int)) ∈ lw_all := lw_g (lw_at lw_m7 200 rfl) rfl
theorem q1753 : (Jvm.Cond.interfaceEntry "TelescopeQueue$Work" (1 : Nat)) ∈ lw_tbl := lw_at lw_m7 201 rfl
theorem q1754 : (Jvm.Cond.methodLink "TelescopeQueue$Work" (1 : Nat) ({ cls := "TelescopeQueue$Work", name := "push", desc := "()I" } : Jvm.MethodName)) ∈ lw_all := lw_g (lw_at lw_m7 202 rfl) rfl
theorem q1755 : (Jvm.Cond.interfaceMethod "TelescopeQueue$Work" "TelescopeQueue$Work" "push" "()I") ∈ lw_tbl := lw_at lw_m7 203 rfl
theorem q1756 : (Jvm.Cond.declares ({ cls := "TelescopeQueue$Work", name := "push", desc := "()I" } : Jvm.MethodName)) ∈ lw_tbl := lw_at lw_m7 204 rfl
theorem q1762 : (Jvm.Cond.methodLink "TelescopeQueue$Work" (7 : Nat) ({ cls := "TelescopeQueue$Work", name := "grown", desc := "(II)I" } : Jvm.MethodName)) ∈ lw_all := lw_g (lw_at lw_m7 210 rfl) rfl
theorem q1763 : (Jvm.Cond.static ({ cls := "TelescopeQueue$Work", name := "grown", desc := "(II)I" } : Jvm.MethodName)) ∈ lw_all := lw_g (lw_at lw_m7 211 rfl) rfl
theorem q1764 : (Jvm.Cond.code ({ cls := "TelescopeQueue$Work", name := "grown", desc := "(II)I" } : Jvm.MethodName) prog_20_method_6_code (2 : Nat) (Option.some Jvm.ClassFile.FieldType.int)) ∈ lw_all := lw_g (lw_at lw_m7 212 rfl) rfl
theorem q1803 : (Jvm.Cond.interfaceMethod "TelescopeQueue$Work" "TelescopeQueue$Work" "from" "()I") ∈ lw_tbl := lw_at lw_m8 11 rfl
theorem q1804 : (Jvm.Cond.declares ({ cls := "TelescopeQueue$Work", name := "from", desc := "()I" } : Jvm.MethodName)) ∈ lw_tbl := lw_at lw_m8 12 rfl
theorem q1815 : (Jvm.Cond.interfaceMethod "TelescopeQueue$Work" "TelescopeQueue$Work" "to" "()I") ∈ lw_tbl := lw_at lw_m8 23 rfl
theorem q1816 : (Jvm.Cond.declares ({ cls := "TelescopeQueue$Work", name := "to", desc := "()I" } : Jvm.MethodName)) ∈ lw_tbl := lw_at lw_m8 24 rfl

