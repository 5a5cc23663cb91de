/-! TelescopeQueue -/
set_option maxRecDepth 100000
def RX1 : String := "TelescopeQueue"
def TX1 : u_T := fun k => match k with
  | 0 => ("TelescopeQueue", "buffer", "[B", true)
  | 1 => ("TelescopeQueue", "buffered", "I", false)
  | 2 => ("TelescopeQueue", "parseError", "I", false)
  | 3 => ("TelescopeQueue", "errorPosition", "I", false)
  | 4 => ("TelescopeQueue", "state", "LTelescopeQueue$State;", false)
  | 5 => ("TelescopeQueue", "trial", "LTelescopeQueue$State;", true)
  | 6 => ("TelescopeQueue", "past", "LTelescopeQueue$History;", true)
  | 7 => ("TelescopeQueue", "saved", "[LTelescopeQueue$State;", true)
  | _ => ("TelescopeQueue", "label", "Ljava/lang/StringBuilder;", true)
def tyX1 : Nat → FieldType := fun k => match k with
  | 0 => .array .byte
  | 1 => .int
  | 2 => .int
  | 3 => .int
  | 4 => .object "TelescopeQueue$State"
  | 5 => .object "TelescopeQueue$State"
  | 6 => .object "TelescopeQueue$History"
  | 7 => .array (.object "TelescopeQueue$State")
  | _ => .object "java/lang/StringBuilder"
abbrev wsX10 : List Cond := u_ws RX1 TX1 9
theorem nmX1 : ∀ a, a < 9 → ∀ b, b < 9 → a ≠ b → (TX1 a).2.1 ≠ (TX1 b).2.1 := by decide +kernel
theorem tyX1_ok : ∀ k, k < 9 → parseFieldDescriptor (TX1 k).2.2.1 = some (tyX1 k) := by decide +kernel
abbrev cX1_init : ByteArray := prog_1_method_3_code
def yX1_init : MethodName := ⟨RX1, "<init>", "()V"⟩
def dkwX1_init_2 : List UInt8 := [181, 0, 48, 42, 187, 0, 52, 89, 183, 0, 54, 181, 0, 55, 177]
abbrev dktX1_init_2 : List UInt8 := dkwX1_init_2 ++ []
def dkwX1_init_1 : List UInt8 := [183, 0, 34, 181, 0, 37, 42, 187, 0, 41, 89, 183, 0, 43, 181, 0, 44, 42, 5, 189, 0, 32]
abbrev dktX1_init_1 : List UInt8 := dkwX1_init_1 ++ dktX1_init_2
def dkwX1_init_0 : List UInt8 := [42, 183, 0, 16, 42, 17, 3, 232, 188, 8, 181, 0, 24, 42, 2, 181, 0, 28, 42, 187, 0, 32, 89, 1]
abbrev dktX1_init_0 : List UInt8 := dkwX1_init_0 ++ dktX1_init_1
theorem dksX1_init_0 : cX1_init.data.toList.drop 0 = dktX1_init_0 := by decide +kernel
theorem dksX1_init_1 : cX1_init.data.toList.drop 24 = dktX1_init_1 := dk_seg dksX1_init_0 24 rfl rfl
theorem dksX1_init_2 : cX1_init.data.toList.drop 46 = dktX1_init_2 := dk_seg dksX1_init_1 22 rfl rfl
theorem dX1_init_0 : decode cX1_init 0 = .ok (.aload_n 0, 1) := dk_42 (dk_at dksX1_init_0 0 rfl rfl)
theorem dX1_init_1 : decode cX1_init 1 = .ok (.invokespecial 16, 3) := dk_183 0 16 (dk_at dksX1_init_0 1 rfl rfl)
theorem dX1_init_4 : decode cX1_init 4 = .ok (.aload_n 0, 1) := dk_42 (dk_at dksX1_init_0 4 rfl rfl)
theorem dX1_init_5 : decode cX1_init 5 = .ok (.sipush 1000, 3) := dk_17 3 232 (dk_at dksX1_init_0 5 rfl rfl)
theorem dX1_init_8 : decode cX1_init 8 = .ok (.newarray .byte, 2) := dk_188_8 (dk_at dksX1_init_0 8 rfl rfl)
theorem dX1_init_10 : decode cX1_init 10 = .ok (.putfield 24, 3) := dk_181 0 24 (dk_at dksX1_init_0 10 rfl rfl)
theorem dX1_init_13 : decode cX1_init 13 = .ok (.aload_n 0, 1) := dk_42 (dk_at dksX1_init_0 13 rfl rfl)
theorem dX1_init_14 : decode cX1_init 14 = .ok (.iconst (-1), 1) := dk_2 (dk_at dksX1_init_0 14 rfl rfl)
theorem dX1_init_15 : decode cX1_init 15 = .ok (.putfield 28, 3) := dk_181 0 28 (dk_at dksX1_init_0 15 rfl rfl)
theorem dX1_init_18 : decode cX1_init 18 = .ok (.aload_n 0, 1) := dk_42 (dk_at dksX1_init_0 18 rfl rfl)
theorem dX1_init_19 : decode cX1_init 19 = .ok (.new 32, 3) := dk_187 0 32 (dk_at dksX1_init_0 19 rfl rfl)
theorem dX1_init_22 : decode cX1_init 22 = .ok (.dup, 1) := dk_89 (dk_at dksX1_init_0 22 rfl rfl)
theorem dX1_init_23 : decode cX1_init 23 = .ok (.aconst_null, 1) := dk_1 (dk_at dksX1_init_0 23 rfl rfl)
theorem dX1_init_24 : decode cX1_init 24 = .ok (.invokespecial 34, 3) := dk_183 0 34 (dk_at dksX1_init_1 0 rfl rfl)
theorem dX1_init_27 : decode cX1_init 27 = .ok (.putfield 37, 3) := dk_181 0 37 (dk_at dksX1_init_1 3 rfl rfl)
theorem dX1_init_30 : decode cX1_init 30 = .ok (.aload_n 0, 1) := dk_42 (dk_at dksX1_init_1 6 rfl rfl)
theorem dX1_init_31 : decode cX1_init 31 = .ok (.new 41, 3) := dk_187 0 41 (dk_at dksX1_init_1 7 rfl rfl)
theorem dX1_init_34 : decode cX1_init 34 = .ok (.dup, 1) := dk_89 (dk_at dksX1_init_1 10 rfl rfl)
theorem dX1_init_35 : decode cX1_init 35 = .ok (.invokespecial 43, 3) := dk_183 0 43 (dk_at dksX1_init_1 11 rfl rfl)
theorem dX1_init_38 : decode cX1_init 38 = .ok (.putfield 44, 3) := dk_181 0 44 (dk_at dksX1_init_1 14 rfl rfl)
theorem dX1_init_41 : decode cX1_init 41 = .ok (.aload_n 0, 1) := dk_42 (dk_at dksX1_init_1 17 rfl rfl)
theorem dX1_init_42 : decode cX1_init 42 = .ok (.iconst 2, 1) := dk_5 (dk_at dksX1_init_1 18 rfl rfl)
theorem dX1_init_43 : decode cX1_init 43 = .ok (.anewarray 32, 3) := dk_189 0 32 (dk_at dksX1_init_1 19 rfl rfl)
theorem dX1_init_46 : decode cX1_init 46 = .ok (.putfield 48, 3) := dk_181 0 48 (dk_at dksX1_init_2 0 rfl rfl)
theorem dX1_init_49 : decode cX1_init 49 = .ok (.aload_n 0, 1) := dk_42 (dk_at dksX1_init_2 3 rfl rfl)
theorem dX1_init_50 : decode cX1_init 50 = .ok (.new 52, 3) := dk_187 0 52 (dk_at dksX1_init_2 4 rfl rfl)
theorem dX1_init_53 : decode cX1_init 53 = .ok (.dup, 1) := dk_89 (dk_at dksX1_init_2 7 rfl rfl)
theorem dX1_init_54 : decode cX1_init 54 = .ok (.invokespecial 54, 3) := dk_183 0 54 (dk_at dksX1_init_2 8 rfl rfl)
theorem dX1_init_57 : decode cX1_init 57 = .ok (.putfield 55, 3) := dk_181 0 55 (dk_at dksX1_init_2 11 rfl rfl)
theorem dX1_init_60 : decode cX1_init 60 = .ok (.return_, 1) := dk_177 (dk_at dksX1_init_2 14 rfl rfl)
abbrev cX1_append : ByteArray := prog_1_method_13_code
def yX1_append : MethodName := ⟨RX1, "append", "(IIIII)I"⟩
def dkwX1_append_2 : List UInt8 := [172]
abbrev dktX1_append_2 : List UInt8 := dkwX1_append_2 ++ []
def dkwX1_append_1 : List UInt8 := [4, 28, 79, 89, 5, 29, 79, 89, 6, 21, 4, 79, 89, 7, 21, 5, 79, 182, 0, 112, 42, 180, 0, 109]
abbrev dktX1_append_1 : List UInt8 := dkwX1_append_1 ++ dktX1_append_2
def dkwX1_append_0 : List UInt8 := [42, 180, 0, 109, 16, 20, 96, 17, 3, 232, 164, 0, 5, 2, 172, 42, 8, 188, 10, 89, 3, 27, 79, 89]
abbrev dktX1_append_0 : List UInt8 := dkwX1_append_0 ++ dktX1_append_1
theorem dksX1_append_0 : cX1_append.data.toList.drop 0 = dktX1_append_0 := by decide +kernel
theorem dksX1_append_1 : cX1_append.data.toList.drop 24 = dktX1_append_1 := dk_seg dksX1_append_0 24 rfl rfl
theorem dksX1_append_2 : cX1_append.data.toList.drop 48 = dktX1_append_2 := dk_seg dksX1_append_1 24 rfl rfl
theorem dX1_append_0 : decode cX1_append 0 = .ok (.aload_n 0, 1) := dk_42 (dk_at dksX1_append_0 0 rfl rfl)
theorem dX1_append_1 : decode cX1_append 1 = .ok (.getfield 109, 3) := dk_180 0 109 (dk_at dksX1_append_0 1 rfl rfl)
theorem dX1_append_4 : decode cX1_append 4 = .ok (.bipush 20, 2) := dk_16 20 (dk_at dksX1_append_0 4 rfl rfl)
theorem dX1_append_6 : decode cX1_append 6 = .ok (.iadd, 1) := dk_96 (dk_at dksX1_append_0 6 rfl rfl)
theorem dX1_append_7 : decode cX1_append 7 = .ok (.sipush 1000, 3) := dk_17 3 232 (dk_at dksX1_append_0 7 rfl rfl)
theorem dX1_append_10 : decode cX1_append 10 = .ok (.if_icmp .le 5, 3) := dk_164 0 5 (dk_at dksX1_append_0 10 rfl rfl)
theorem dX1_append_13 : decode cX1_append 13 = .ok (.iconst (-1), 1) := dk_2 (dk_at dksX1_append_0 13 rfl rfl)
theorem dX1_append_14 : decode cX1_append 14 = .ok (.ireturn, 1) := dk_172 (dk_at dksX1_append_0 14 rfl rfl)
theorem dX1_append_15 : decode cX1_append 15 = .ok (.aload_n 0, 1) := dk_42 (dk_at dksX1_append_0 15 rfl rfl)
theorem dX1_append_16 : decode cX1_append 16 = .ok (.iconst 5, 1) := dk_8 (dk_at dksX1_append_0 16 rfl rfl)
theorem dX1_append_17 : decode cX1_append 17 = .ok (.newarray .int, 2) := dk_188_10 (dk_at dksX1_append_0 17 rfl rfl)
theorem dX1_append_19 : decode cX1_append 19 = .ok (.dup, 1) := dk_89 (dk_at dksX1_append_0 19 rfl rfl)
theorem dX1_append_20 : decode cX1_append 20 = .ok (.iconst 0, 1) := dk_3 (dk_at dksX1_append_0 20 rfl rfl)
theorem dX1_append_21 : decode cX1_append 21 = .ok (.iload_n 1, 1) := dk_27 (dk_at dksX1_append_0 21 rfl rfl)
theorem dX1_append_22 : decode cX1_append 22 = .ok (.iastore, 1) := dk_79 (dk_at dksX1_append_0 22 rfl rfl)
theorem dX1_append_23 : decode cX1_append 23 = .ok (.dup, 1) := dk_89 (dk_at dksX1_append_0 23 rfl rfl)
theorem dX1_append_24 : decode cX1_append 24 = .ok (.iconst 1, 1) := dk_4 (dk_at dksX1_append_1 0 rfl rfl)
theorem dX1_append_25 : decode cX1_append 25 = .ok (.iload_n 2, 1) := dk_28 (dk_at dksX1_append_1 1 rfl rfl)
theorem dX1_append_26 : decode cX1_append 26 = .ok (.iastore, 1) := dk_79 (dk_at dksX1_append_1 2 rfl rfl)
theorem dX1_append_27 : decode cX1_append 27 = .ok (.dup, 1) := dk_89 (dk_at dksX1_append_1 3 rfl rfl)
theorem dX1_append_28 : decode cX1_append 28 = .ok (.iconst 2, 1) := dk_5 (dk_at dksX1_append_1 4 rfl rfl)
theorem dX1_append_29 : decode cX1_append 29 = .ok (.iload_n 3, 1) := dk_29 (dk_at dksX1_append_1 5 rfl rfl)
theorem dX1_append_30 : decode cX1_append 30 = .ok (.iastore, 1) := dk_79 (dk_at dksX1_append_1 6 rfl rfl)
theorem dX1_append_31 : decode cX1_append 31 = .ok (.dup, 1) := dk_89 (dk_at dksX1_append_1 7 rfl rfl)
theorem dX1_append_32 : decode cX1_append 32 = .ok (.iconst 3, 1) := dk_6 (dk_at dksX1_append_1 8 rfl rfl)
theorem dX1_append_33 : decode cX1_append 33 = .ok (.iload 4, 2) := dk_21 4 (dk_at dksX1_append_1 9 rfl rfl)
theorem dX1_append_35 : decode cX1_append 35 = .ok (.iastore, 1) := dk_79 (dk_at dksX1_append_1 11 rfl rfl)
theorem dX1_append_36 : decode cX1_append 36 = .ok (.dup, 1) := dk_89 (dk_at dksX1_append_1 12 rfl rfl)
theorem dX1_append_37 : decode cX1_append 37 = .ok (.iconst 4, 1) := dk_7 (dk_at dksX1_append_1 13 rfl rfl)
theorem dX1_append_38 : decode cX1_append 38 = .ok (.iload 5, 2) := dk_21 5 (dk_at dksX1_append_1 14 rfl rfl)
theorem dX1_append_40 : decode cX1_append 40 = .ok (.iastore, 1) := dk_79 (dk_at dksX1_append_1 16 rfl rfl)
theorem dX1_append_41 : decode cX1_append 41 = .ok (.invokevirtual 112, 3) := dk_182 0 112 (dk_at dksX1_append_1 17 rfl rfl)
theorem dX1_append_44 : decode cX1_append 44 = .ok (.aload_n 0, 1) := dk_42 (dk_at dksX1_append_1 20 rfl rfl)
theorem dX1_append_45 : decode cX1_append 45 = .ok (.getfield 109, 3) := dk_180 0 109 (dk_at dksX1_append_1 21 rfl rfl)
theorem dX1_append_48 : decode cX1_append 48 = .ok (.ireturn, 1) := dk_172 (dk_at dksX1_append_2 0 rfl rfl)
abbrev cX1_put : ByteArray := prog_1_method_12_code
def yX1_put : MethodName := ⟨RX1, "put", "([I)V"⟩
def dkwX1_put_2 : List UInt8 := [180, 0, 109, 4, 96, 181, 0, 109, 132, 6, 248, 167, 255, 223, 132, 4, 1, 167, 255, 201, 177]
abbrev dktX1_put_2 : List UInt8 := dkwX1_put_2 ++ []
def dkwX1_put_1 : List UInt8 := [21, 6, 155, 0, 34, 42, 180, 0, 24, 42, 180, 0, 109, 21, 5, 21, 6, 122, 145, 84, 42, 89]
abbrev dktX1_put_1 : List UInt8 := dkwX1_put_1 ++ dktX1_put_2
def dkwX1_put_0 : List UInt8 := [43, 77, 44, 190, 62, 3, 54, 4, 21, 4, 29, 162, 0, 55, 44, 21, 4, 46, 54, 5, 16, 24, 54, 6]
abbrev dktX1_put_0 : List UInt8 := dkwX1_put_0 ++ dktX1_put_1
theorem dksX1_put_0 : cX1_put.data.toList.drop 0 = dktX1_put_0 := by decide +kernel
theorem dksX1_put_1 : cX1_put.data.toList.drop 24 = dktX1_put_1 := dk_seg dksX1_put_0 24 rfl rfl
theorem dksX1_put_2 : cX1_put.data.toList.drop 46 = dktX1_put_2 := dk_seg dksX1_put_1 22 rfl rfl
theorem dX1_put_0 : decode cX1_put 0 = .ok (.aload_n 1, 1) := dk_43 (dk_at dksX1_put_0 0 rfl rfl)
theorem dX1_put_1 : decode cX1_put 1 = .ok (.astore_n 2, 1) := dk_77 (dk_at dksX1_put_0 1 rfl rfl)
theorem dX1_put_2 : decode cX1_put 2 = .ok (.aload_n 2, 1) := dk_44 (dk_at dksX1_put_0 2 rfl rfl)
theorem dX1_put_3 : decode cX1_put 3 = .ok (.arraylength, 1) := dk_190 (dk_at dksX1_put_0 3 rfl rfl)
theorem dX1_put_4 : decode cX1_put 4 = .ok (.istore_n 3, 1) := dk_62 (dk_at dksX1_put_0 4 rfl rfl)
theorem dX1_put_5 : decode cX1_put 5 = .ok (.iconst 0, 1) := dk_3 (dk_at dksX1_put_0 5 rfl rfl)
theorem dX1_put_6 : decode cX1_put 6 = .ok (.istore 4, 2) := dk_54 4 (dk_at dksX1_put_0 6 rfl rfl)
theorem dX1_put_8 : decode cX1_put 8 = .ok (.iload 4, 2) := dk_21 4 (dk_at dksX1_put_0 8 rfl rfl)
theorem dX1_put_10 : decode cX1_put 10 = .ok (.iload_n 3, 1) := dk_29 (dk_at dksX1_put_0 10 rfl rfl)
theorem dX1_put_11 : decode cX1_put 11 = .ok (.if_icmp .ge 55, 3) := dk_162 0 55 (dk_at dksX1_put_0 11 rfl rfl)
theorem dX1_put_14 : decode cX1_put 14 = .ok (.aload_n 2, 1) := dk_44 (dk_at dksX1_put_0 14 rfl rfl)
theorem dX1_put_15 : decode cX1_put 15 = .ok (.iload 4, 2) := dk_21 4 (dk_at dksX1_put_0 15 rfl rfl)
theorem dX1_put_17 : decode cX1_put 17 = .ok (.iaload, 1) := dk_46 (dk_at dksX1_put_0 17 rfl rfl)
theorem dX1_put_18 : decode cX1_put 18 = .ok (.istore 5, 2) := dk_54 5 (dk_at dksX1_put_0 18 rfl rfl)
theorem dX1_put_20 : decode cX1_put 20 = .ok (.bipush 24, 2) := dk_16 24 (dk_at dksX1_put_0 20 rfl rfl)
theorem dX1_put_22 : decode cX1_put 22 = .ok (.istore 6, 2) := dk_54 6 (dk_at dksX1_put_0 22 rfl rfl)
theorem dX1_put_24 : decode cX1_put 24 = .ok (.iload 6, 2) := dk_21 6 (dk_at dksX1_put_1 0 rfl rfl)
theorem dX1_put_26 : decode cX1_put 26 = .ok (.ifCond .lt 34, 3) := dk_155 0 34 (dk_at dksX1_put_1 2 rfl rfl)
theorem dX1_put_29 : decode cX1_put 29 = .ok (.aload_n 0, 1) := dk_42 (dk_at dksX1_put_1 5 rfl rfl)
theorem dX1_put_30 : decode cX1_put 30 = .ok (.getfield 24, 3) := dk_180 0 24 (dk_at dksX1_put_1 6 rfl rfl)
theorem dX1_put_33 : decode cX1_put 33 = .ok (.aload_n 0, 1) := dk_42 (dk_at dksX1_put_1 9 rfl rfl)
theorem dX1_put_34 : decode cX1_put 34 = .ok (.getfield 109, 3) := dk_180 0 109 (dk_at dksX1_put_1 10 rfl rfl)
theorem dX1_put_37 : decode cX1_put 37 = .ok (.iload 5, 2) := dk_21 5 (dk_at dksX1_put_1 13 rfl rfl)
theorem dX1_put_39 : decode cX1_put 39 = .ok (.iload 6, 2) := dk_21 6 (dk_at dksX1_put_1 15 rfl rfl)
theorem dX1_put_41 : decode cX1_put 41 = .ok (.ishr, 1) := dk_122 (dk_at dksX1_put_1 17 rfl rfl)
theorem dX1_put_42 : decode cX1_put 42 = .ok (.i2b, 1) := dk_145 (dk_at dksX1_put_1 18 rfl rfl)
theorem dX1_put_43 : decode cX1_put 43 = .ok (.bastore, 1) := dk_84 (dk_at dksX1_put_1 19 rfl rfl)
theorem dX1_put_44 : decode cX1_put 44 = .ok (.aload_n 0, 1) := dk_42 (dk_at dksX1_put_1 20 rfl rfl)
theorem dX1_put_45 : decode cX1_put 45 = .ok (.dup, 1) := dk_89 (dk_at dksX1_put_1 21 rfl rfl)
theorem dX1_put_46 : decode cX1_put 46 = .ok (.getfield 109, 3) := dk_180 0 109 (dk_at dksX1_put_2 0 rfl rfl)
theorem dX1_put_49 : decode cX1_put 49 = .ok (.iconst 1, 1) := dk_4 (dk_at dksX1_put_2 3 rfl rfl)
theorem dX1_put_50 : decode cX1_put 50 = .ok (.iadd, 1) := dk_96 (dk_at dksX1_put_2 4 rfl rfl)
theorem dX1_put_51 : decode cX1_put 51 = .ok (.putfield 109, 3) := dk_181 0 109 (dk_at dksX1_put_2 5 rfl rfl)
theorem dX1_put_54 : decode cX1_put 54 = .ok (.iinc 6 (-8), 3) := dk_132 6 248 (dk_at dksX1_put_2 8 rfl rfl)
theorem dX1_put_57 : decode cX1_put 57 = .ok (.goto (-33), 3) := dk_167 255 223 (dk_at dksX1_put_2 11 rfl rfl)
theorem dX1_put_60 : decode cX1_put 60 = .ok (.iinc 4 1, 3) := dk_132 4 1 (dk_at dksX1_put_2 14 rfl rfl)
theorem dX1_put_63 : decode cX1_put 63 = .ok (.goto (-55), 3) := dk_167 255 201 (dk_at dksX1_put_2 17 rfl rfl)
theorem dX1_put_66 : decode cX1_put 66 = .ok (.return_, 1) := dk_177 (dk_at dksX1_put_2 20 rfl rfl)
abbrev cX1_parseError : ByteArray := prog_1_method_15_code
def yX1_parseError : MethodName := ⟨RX1, "parseError", "()I"⟩
theorem dX1_parseError_0 : decode cX1_parseError 0 = .ok (.aload_n 0, 1) := by decide +kernel
theorem dX1_parseError_1 : decode cX1_parseError 1 = .ok (.getfield 116, 3) := by decide +kernel
theorem dX1_parseError_4 : decode cX1_parseError 4 = .ok (.ireturn, 1) := by decide +kernel
abbrev cX1_errorPosition : ByteArray := prog_1_method_16_code
def yX1_errorPosition : MethodName := ⟨RX1, "errorPosition", "()I"⟩
theorem dX1_errorPosition_0 : decode cX1_errorPosition 0 = .ok (.aload_n 0, 1) := by decide +kernel
theorem dX1_errorPosition_1 : decode cX1_errorPosition 1 = .ok (.getfield 28, 3) := by decide +kernel
theorem dX1_errorPosition_4 : decode cX1_errorPosition 4 = .ok (.ireturn, 1) := by decide +kernel
abbrev cX1_buffered : ByteArray := prog_1_method_17_code
def yX1_buffered : MethodName := ⟨RX1, "buffered", "()I"⟩
theorem dX1_buffered_0 : decode cX1_buffered 0 = .ok (.aload_n 0, 1) := by decide +kernel
theorem dX1_buffered_1 : decode cX1_buffered 1 = .ok (.getfield 109, 3) := by decide +kernel
theorem dX1_buffered_4 : decode cX1_buffered 4 = .ok (.ireturn, 1) := by decide +kernel
abbrev cX1_proposals : ByteArray := prog_1_method_18_code
def yX1_proposals : MethodName := ⟨RX1, "proposals", "()I"⟩
def dkwX1_proposals_1 : List UInt8 := [185, 0, 1, 1, 0, 172]
abbrev dktX1_proposals_1 : List UInt8 := dkwX1_proposals_1 ++ []
def dkwX1_proposals_0 : List UInt8 := [42, 180, 0, 72, 199, 0, 7, 3, 167, 0, 18, 42, 180, 0, 72, 180, 0, 83, 180, 0, 87]
abbrev dktX1_proposals_0 : List UInt8 := dkwX1_proposals_0 ++ dktX1_proposals_1
theorem dksX1_proposals_0 : cX1_proposals.data.toList.drop 0 = dktX1_proposals_0 := by decide +kernel
theorem dksX1_proposals_1 : cX1_proposals.data.toList.drop 21 = dktX1_proposals_1 := dk_seg dksX1_proposals_0 21 rfl rfl
theorem dX1_proposals_0 : decode cX1_proposals 0 = .ok (.aload_n 0, 1) := dk_42 (dk_at dksX1_proposals_0 0 rfl rfl)
theorem dX1_proposals_1 : decode cX1_proposals 1 = .ok (.getfield 72, 3) := dk_180 0 72 (dk_at dksX1_proposals_0 1 rfl rfl)
theorem dX1_proposals_4 : decode cX1_proposals 4 = .ok (.ifnonnull 7, 3) := dk_199 0 7 (dk_at dksX1_proposals_0 4 rfl rfl)
theorem dX1_proposals_7 : decode cX1_proposals 7 = .ok (.iconst 0, 1) := dk_3 (dk_at dksX1_proposals_0 7 rfl rfl)
theorem dX1_proposals_8 : decode cX1_proposals 8 = .ok (.goto 18, 3) := dk_167 0 18 (dk_at dksX1_proposals_0 8 rfl rfl)
theorem dX1_proposals_11 : decode cX1_proposals 11 = .ok (.aload_n 0, 1) := dk_42 (dk_at dksX1_proposals_0 11 rfl rfl)
theorem dX1_proposals_12 : decode cX1_proposals 12 = .ok (.getfield 72, 3) := dk_180 0 72 (dk_at dksX1_proposals_0 12 rfl rfl)
theorem dX1_proposals_15 : decode cX1_proposals 15 = .ok (.getfield 83, 3) := dk_180 0 83 (dk_at dksX1_proposals_0 15 rfl rfl)
theorem dX1_proposals_18 : decode cX1_proposals 18 = .ok (.getfield 87, 3) := dk_180 0 87 (dk_at dksX1_proposals_0 18 rfl rfl)
theorem dX1_proposals_21 : decode cX1_proposals 21 = .ok (.invokeinterface 1 1, 5) := by decide +kernel
theorem dX1_proposals_26 : decode cX1_proposals 26 = .ok (.ireturn, 1) := dk_172 (dk_at dksX1_proposals_1 5 rfl rfl)
abbrev cX1_visits : ByteArray := prog_1_method_21_code
def yX1_visits : MethodName := ⟨RX1, "visits", "()I"⟩
def dkwX1_visits_1 : List UInt8 := [185, 0, 1, 1, 0, 172]
abbrev dktX1_visits_1 : List UInt8 := dkwX1_visits_1 ++ []
def dkwX1_visits_0 : List UInt8 := [42, 180, 0, 72, 199, 0, 7, 3, 167, 0, 18, 42, 180, 0, 72, 180, 0, 83, 180, 0, 97]
abbrev dktX1_visits_0 : List UInt8 := dkwX1_visits_0 ++ dktX1_visits_1
theorem dksX1_visits_0 : cX1_visits.data.toList.drop 0 = dktX1_visits_0 := by decide +kernel
theorem dksX1_visits_1 : cX1_visits.data.toList.drop 21 = dktX1_visits_1 := dk_seg dksX1_visits_0 21 rfl rfl
theorem dX1_visits_0 : decode cX1_visits 0 = .ok (.aload_n 0, 1) := dk_42 (dk_at dksX1_visits_0 0 rfl rfl)
theorem dX1_visits_1 : decode cX1_visits 1 = .ok (.getfield 72, 3) := dk_180 0 72 (dk_at dksX1_visits_0 1 rfl rfl)
theorem dX1_visits_4 : decode cX1_visits 4 = .ok (.ifnonnull 7, 3) := dk_199 0 7 (dk_at dksX1_visits_0 4 rfl rfl)
theorem dX1_visits_7 : decode cX1_visits 7 = .ok (.iconst 0, 1) := dk_3 (dk_at dksX1_visits_0 7 rfl rfl)
theorem dX1_visits_8 : decode cX1_visits 8 = .ok (.goto 18, 3) := dk_167 0 18 (dk_at dksX1_visits_0 8 rfl rfl)
theorem dX1_visits_11 : decode cX1_visits 11 = .ok (.aload_n 0, 1) := dk_42 (dk_at dksX1_visits_0 11 rfl rfl)
theorem dX1_visits_12 : decode cX1_visits 12 = .ok (.getfield 72, 3) := dk_180 0 72 (dk_at dksX1_visits_0 12 rfl rfl)
theorem dX1_visits_15 : decode cX1_visits 15 = .ok (.getfield 83, 3) := dk_180 0 83 (dk_at dksX1_visits_0 15 rfl rfl)
theorem dX1_visits_18 : decode cX1_visits 18 = .ok (.getfield 97, 3) := dk_180 0 97 (dk_at dksX1_visits_0 18 rfl rfl)
theorem dX1_visits_21 : decode cX1_visits 21 = .ok (.invokeinterface 1 1, 5) := by decide +kernel
theorem dX1_visits_26 : decode cX1_visits 26 = .ok (.ireturn, 1) := dk_172 (dk_at dksX1_visits_1 5 rfl rfl)
abbrev cX1_alerts : ByteArray := prog_1_method_26_code
def yX1_alerts : MethodName := ⟨RX1, "alerts", "()I"⟩
def dkwX1_alerts_0 : List UInt8 := [42, 180, 0, 72, 199, 0, 7, 3, 167, 0, 15, 42, 180, 0, 72, 180, 0, 100, 185, 0, 1, 1, 0, 172]
abbrev dktX1_alerts_0 : List UInt8 := dkwX1_alerts_0 ++ []
theorem dksX1_alerts_0 : cX1_alerts.data.toList.drop 0 = dktX1_alerts_0 := by decide +kernel
theorem dX1_alerts_0 : decode cX1_alerts 0 = .ok (.aload_n 0, 1) := dk_42 (dk_at dksX1_alerts_0 0 rfl rfl)
theorem dX1_alerts_1 : decode cX1_alerts 1 = .ok (.getfield 72, 3) := dk_180 0 72 (dk_at dksX1_alerts_0 1 rfl rfl)
theorem dX1_alerts_4 : decode cX1_alerts 4 = .ok (.ifnonnull 7, 3) := dk_199 0 7 (dk_at dksX1_alerts_0 4 rfl rfl)
theorem dX1_alerts_7 : decode cX1_alerts 7 = .ok (.iconst 0, 1) := dk_3 (dk_at dksX1_alerts_0 7 rfl rfl)
theorem dX1_alerts_8 : decode cX1_alerts 8 = .ok (.goto 15, 3) := dk_167 0 15 (dk_at dksX1_alerts_0 8 rfl rfl)
theorem dX1_alerts_11 : decode cX1_alerts 11 = .ok (.aload_n 0, 1) := dk_42 (dk_at dksX1_alerts_0 11 rfl rfl)
theorem dX1_alerts_12 : decode cX1_alerts 12 = .ok (.getfield 72, 3) := dk_180 0 72 (dk_at dksX1_alerts_0 12 rfl rfl)
theorem dX1_alerts_15 : decode cX1_alerts 15 = .ok (.getfield 100, 3) := dk_180 0 100 (dk_at dksX1_alerts_0 15 rfl rfl)
theorem dX1_alerts_18 : decode cX1_alerts 18 = .ok (.invokeinterface 1 1, 5) := by decide +kernel
theorem dX1_alerts_23 : decode cX1_alerts 23 = .ok (.ireturn, 1) := dk_172 (dk_at dksX1_alerts_0 23 rfl rfl)
abbrev cX1_entries : ByteArray := prog_1_method_54_code
def yX1_entries : MethodName := ⟨RX1, "entries", "()I"⟩
def dkwX1_entries_0 : List UInt8 := [42, 180, 0, 72, 199, 0, 7, 3, 167, 0, 10, 42, 180, 0, 72, 180, 1, 113, 172]
abbrev dktX1_entries_0 : List UInt8 := dkwX1_entries_0 ++ []
theorem dksX1_entries_0 : cX1_entries.data.toList.drop 0 = dktX1_entries_0 := by decide +kernel
theorem dX1_entries_0 : decode cX1_entries 0 = .ok (.aload_n 0, 1) := dk_42 (dk_at dksX1_entries_0 0 rfl rfl)
theorem dX1_entries_1 : decode cX1_entries 1 = .ok (.getfield 72, 3) := dk_180 0 72 (dk_at dksX1_entries_0 1 rfl rfl)
theorem dX1_entries_4 : decode cX1_entries 4 = .ok (.ifnonnull 7, 3) := dk_199 0 7 (dk_at dksX1_entries_0 4 rfl rfl)
theorem dX1_entries_7 : decode cX1_entries 7 = .ok (.iconst 0, 1) := dk_3 (dk_at dksX1_entries_0 7 rfl rfl)
theorem dX1_entries_8 : decode cX1_entries 8 = .ok (.goto 10, 3) := dk_167 0 10 (dk_at dksX1_entries_0 8 rfl rfl)
theorem dX1_entries_11 : decode cX1_entries 11 = .ok (.aload_n 0, 1) := dk_42 (dk_at dksX1_entries_0 11 rfl rfl)
theorem dX1_entries_12 : decode cX1_entries 12 = .ok (.getfield 72, 3) := dk_180 0 72 (dk_at dksX1_entries_0 12 rfl rfl)
theorem dX1_entries_15 : decode cX1_entries 15 = .ok (.getfield 369, 3) := dk_180 1 113 (dk_at dksX1_entries_0 15 rfl rfl)
theorem dX1_entries_18 : decode cX1_entries 18 = .ok (.ireturn, 1) := dk_172 (dk_at dksX1_entries_0 18 rfl rfl)
abbrev cX1_undoable : ByteArray := prog_1_method_79_code
def yX1_undoable : MethodName := ⟨RX1, "undoable", "()I"⟩
def dkwX1_undoable_0 : List UInt8 := [42, 180, 0, 44, 182, 1, 210, 172]
abbrev dktX1_undoable_0 : List UInt8 := dkwX1_undoable_0 ++ []
theorem dksX1_undoable_0 : cX1_undoable.data.toList.drop 0 = dktX1_undoable_0 := by decide +kernel
theorem dX1_undoable_0 : decode cX1_undoable 0 = .ok (.aload_n 0, 1) := dk_42 (dk_at dksX1_undoable_0 0 rfl rfl)
theorem dX1_undoable_1 : decode cX1_undoable 1 = .ok (.getfield 44, 3) := dk_180 0 44 (dk_at dksX1_undoable_0 1 rfl rfl)
theorem dX1_undoable_4 : decode cX1_undoable 4 = .ok (.invokevirtual 466, 3) := dk_182 1 210 (dk_at dksX1_undoable_0 4 rfl rfl)
theorem dX1_undoable_7 : decode cX1_undoable 7 = .ok (.ireturn, 1) := dk_172 (dk_at dksX1_undoable_0 7 rfl rfl)
abbrev cX1_load : ByteArray := prog_1_method_14_code
def yX1_load : MethodName := ⟨RX1, "load", "(I)I"⟩
def dkwX1_load_5 : List UInt8 := [3, 181, 0, 109, 45, 191]
abbrev dktX1_load_5 : List UInt8 := dkwX1_load_5 ++ []
def dkwX1_load_4 : List UInt8 := [180, 0, 132, 181, 0, 116, 42, 44, 180, 0, 135, 181, 0, 28, 187, 0, 59, 89, 183, 0, 61, 191, 78, 42]
abbrev dktX1_load_4 : List UInt8 := dkwX1_load_4 ++ dktX1_load_5
def dkwX1_load_3 : List UInt8 := [180, 0, 83, 180, 0, 97, 185, 0, 1, 1, 0, 61, 42, 3, 181, 0, 109, 28, 172, 77, 42, 44]
abbrev dktX1_load_3 : List UInt8 := dkwX1_load_3 ++ dktX1_load_4
def dkwX1_load_2 : List UInt8 := [28, 5, 162, 0, 16, 42, 180, 0, 48, 28, 1, 83, 132, 2, 1, 167, 255, 241, 42, 180, 0, 72]
abbrev dktX1_load_2 : List UInt8 := dkwX1_load_2 ++ dktX1_load_3
def dkwX1_load_1 : List UInt8 := [89, 42, 180, 0, 24, 27, 183, 0, 121, 182, 0, 124, 181, 0, 72, 42, 180, 0, 44, 182, 0, 127, 3, 61]
abbrev dktX1_load_1 : List UInt8 := dkwX1_load_1 ++ dktX1_load_2
def dkwX1_load_0 : List UInt8 := [27, 42, 180, 0, 109, 4, 96, 184, 0, 93, 42, 3, 181, 0, 116, 42, 2, 181, 0, 28, 42, 187, 0, 119]
abbrev dktX1_load_0 : List UInt8 := dkwX1_load_0 ++ dktX1_load_1
theorem dksX1_load_0 : cX1_load.data.toList.drop 0 = dktX1_load_0 := by decide +kernel
theorem dksX1_load_1 : cX1_load.data.toList.drop 24 = dktX1_load_1 := dk_seg dksX1_load_0 24 rfl rfl
theorem dksX1_load_2 : cX1_load.data.toList.drop 48 = dktX1_load_2 := dk_seg dksX1_load_1 24 rfl rfl
theorem dksX1_load_3 : cX1_load.data.toList.drop 70 = dktX1_load_3 := dk_seg dksX1_load_2 22 rfl rfl
theorem dksX1_load_4 : cX1_load.data.toList.drop 92 = dktX1_load_4 := dk_seg dksX1_load_3 22 rfl rfl
theorem dksX1_load_5 : cX1_load.data.toList.drop 116 = dktX1_load_5 := dk_seg dksX1_load_4 24 rfl rfl
theorem dX1_load_0 : decode cX1_load 0 = .ok (.iload_n 1, 1) := dk_27 (dk_at dksX1_load_0 0 rfl rfl)
theorem dX1_load_1 : decode cX1_load 1 = .ok (.aload_n 0, 1) := dk_42 (dk_at dksX1_load_0 1 rfl rfl)
theorem dX1_load_2 : decode cX1_load 2 = .ok (.getfield 109, 3) := dk_180 0 109 (dk_at dksX1_load_0 2 rfl rfl)
theorem dX1_load_5 : decode cX1_load 5 = .ok (.iconst 1, 1) := dk_4 (dk_at dksX1_load_0 5 rfl rfl)
theorem dX1_load_6 : decode cX1_load 6 = .ok (.iadd, 1) := dk_96 (dk_at dksX1_load_0 6 rfl rfl)
theorem dX1_load_7 : decode cX1_load 7 = .ok (.invokestatic 93, 3) := dk_184 0 93 (dk_at dksX1_load_0 7 rfl rfl)
theorem dX1_load_10 : decode cX1_load 10 = .ok (.aload_n 0, 1) := dk_42 (dk_at dksX1_load_0 10 rfl rfl)
theorem dX1_load_11 : decode cX1_load 11 = .ok (.iconst 0, 1) := dk_3 (dk_at dksX1_load_0 11 rfl rfl)
theorem dX1_load_12 : decode cX1_load 12 = .ok (.putfield 116, 3) := dk_181 0 116 (dk_at dksX1_load_0 12 rfl rfl)
theorem dX1_load_15 : decode cX1_load 15 = .ok (.aload_n 0, 1) := dk_42 (dk_at dksX1_load_0 15 rfl rfl)
theorem dX1_load_16 : decode cX1_load 16 = .ok (.iconst (-1), 1) := dk_2 (dk_at dksX1_load_0 16 rfl rfl)
theorem dX1_load_17 : decode cX1_load 17 = .ok (.putfield 28, 3) := dk_181 0 28 (dk_at dksX1_load_0 17 rfl rfl)
theorem dX1_load_20 : decode cX1_load 20 = .ok (.aload_n 0, 1) := dk_42 (dk_at dksX1_load_0 20 rfl rfl)
theorem dX1_load_21 : decode cX1_load 21 = .ok (.new 119, 3) := dk_187 0 119 (dk_at dksX1_load_0 21 rfl rfl)
theorem dX1_load_24 : decode cX1_load 24 = .ok (.dup, 1) := dk_89 (dk_at dksX1_load_1 0 rfl rfl)
theorem dX1_load_25 : decode cX1_load 25 = .ok (.aload_n 0, 1) := dk_42 (dk_at dksX1_load_1 1 rfl rfl)
theorem dX1_load_26 : decode cX1_load 26 = .ok (.getfield 24, 3) := dk_180 0 24 (dk_at dksX1_load_1 2 rfl rfl)
theorem dX1_load_29 : decode cX1_load 29 = .ok (.iload_n 1, 1) := dk_27 (dk_at dksX1_load_1 5 rfl rfl)
theorem dX1_load_30 : decode cX1_load 30 = .ok (.invokespecial 121, 3) := dk_183 0 121 (dk_at dksX1_load_1 6 rfl rfl)
theorem dX1_load_33 : decode cX1_load 33 = .ok (.invokevirtual 124, 3) := dk_182 0 124 (dk_at dksX1_load_1 9 rfl rfl)
theorem dX1_load_36 : decode cX1_load 36 = .ok (.putfield 72, 3) := dk_181 0 72 (dk_at dksX1_load_1 12 rfl rfl)
theorem dX1_load_39 : decode cX1_load 39 = .ok (.aload_n 0, 1) := dk_42 (dk_at dksX1_load_1 15 rfl rfl)
theorem dX1_load_40 : decode cX1_load 40 = .ok (.getfield 44, 3) := dk_180 0 44 (dk_at dksX1_load_1 16 rfl rfl)
theorem dX1_load_43 : decode cX1_load 43 = .ok (.invokevirtual 127, 3) := dk_182 0 127 (dk_at dksX1_load_1 19 rfl rfl)
theorem dX1_load_46 : decode cX1_load 46 = .ok (.iconst 0, 1) := dk_3 (dk_at dksX1_load_1 22 rfl rfl)
theorem dX1_load_47 : decode cX1_load 47 = .ok (.istore_n 2, 1) := dk_61 (dk_at dksX1_load_1 23 rfl rfl)
theorem dX1_load_48 : decode cX1_load 48 = .ok (.iload_n 2, 1) := dk_28 (dk_at dksX1_load_2 0 rfl rfl)
theorem dX1_load_49 : decode cX1_load 49 = .ok (.iconst 2, 1) := dk_5 (dk_at dksX1_load_2 1 rfl rfl)
theorem dX1_load_50 : decode cX1_load 50 = .ok (.if_icmp .ge 16, 3) := dk_162 0 16 (dk_at dksX1_load_2 2 rfl rfl)
theorem dX1_load_53 : decode cX1_load 53 = .ok (.aload_n 0, 1) := dk_42 (dk_at dksX1_load_2 5 rfl rfl)
theorem dX1_load_54 : decode cX1_load 54 = .ok (.getfield 48, 3) := dk_180 0 48 (dk_at dksX1_load_2 6 rfl rfl)
theorem dX1_load_57 : decode cX1_load 57 = .ok (.iload_n 2, 1) := dk_28 (dk_at dksX1_load_2 9 rfl rfl)
theorem dX1_load_58 : decode cX1_load 58 = .ok (.aconst_null, 1) := dk_1 (dk_at dksX1_load_2 10 rfl rfl)
theorem dX1_load_59 : decode cX1_load 59 = .ok (.aastore, 1) := dk_83 (dk_at dksX1_load_2 11 rfl rfl)
theorem dX1_load_60 : decode cX1_load 60 = .ok (.iinc 2 1, 3) := dk_132 2 1 (dk_at dksX1_load_2 12 rfl rfl)
theorem dX1_load_63 : decode cX1_load 63 = .ok (.goto (-15), 3) := dk_167 255 241 (dk_at dksX1_load_2 15 rfl rfl)
theorem dX1_load_66 : decode cX1_load 66 = .ok (.aload_n 0, 1) := dk_42 (dk_at dksX1_load_2 18 rfl rfl)
theorem dX1_load_67 : decode cX1_load 67 = .ok (.getfield 72, 3) := dk_180 0 72 (dk_at dksX1_load_2 19 rfl rfl)
theorem dX1_load_70 : decode cX1_load 70 = .ok (.getfield 83, 3) := dk_180 0 83 (dk_at dksX1_load_3 0 rfl rfl)
theorem dX1_load_73 : decode cX1_load 73 = .ok (.getfield 97, 3) := dk_180 0 97 (dk_at dksX1_load_3 3 rfl rfl)
theorem dX1_load_76 : decode cX1_load 76 = .ok (.invokeinterface 1 1, 5) := by decide +kernel
theorem dX1_load_81 : decode cX1_load 81 = .ok (.istore_n 2, 1) := dk_61 (dk_at dksX1_load_3 11 rfl rfl)
theorem dX1_load_82 : decode cX1_load 82 = .ok (.aload_n 0, 1) := dk_42 (dk_at dksX1_load_3 12 rfl rfl)
theorem dX1_load_83 : decode cX1_load 83 = .ok (.iconst 0, 1) := dk_3 (dk_at dksX1_load_3 13 rfl rfl)
theorem dX1_load_84 : decode cX1_load 84 = .ok (.putfield 109, 3) := dk_181 0 109 (dk_at dksX1_load_3 14 rfl rfl)
theorem dX1_load_87 : decode cX1_load 87 = .ok (.iload_n 2, 1) := dk_28 (dk_at dksX1_load_3 17 rfl rfl)
theorem dX1_load_88 : decode cX1_load 88 = .ok (.ireturn, 1) := dk_172 (dk_at dksX1_load_3 18 rfl rfl)
theorem dX1_load_89 : decode cX1_load 89 = .ok (.astore_n 2, 1) := dk_77 (dk_at dksX1_load_3 19 rfl rfl)
theorem dX1_load_90 : decode cX1_load 90 = .ok (.aload_n 0, 1) := dk_42 (dk_at dksX1_load_3 20 rfl rfl)
theorem dX1_load_91 : decode cX1_load 91 = .ok (.aload_n 2, 1) := dk_44 (dk_at dksX1_load_3 21 rfl rfl)
theorem dX1_load_92 : decode cX1_load 92 = .ok (.getfield 132, 3) := dk_180 0 132 (dk_at dksX1_load_4 0 rfl rfl)
theorem dX1_load_95 : decode cX1_load 95 = .ok (.putfield 116, 3) := dk_181 0 116 (dk_at dksX1_load_4 3 rfl rfl)
theorem dX1_load_98 : decode cX1_load 98 = .ok (.aload_n 0, 1) := dk_42 (dk_at dksX1_load_4 6 rfl rfl)
theorem dX1_load_99 : decode cX1_load 99 = .ok (.aload_n 2, 1) := dk_44 (dk_at dksX1_load_4 7 rfl rfl)
theorem dX1_load_100 : decode cX1_load 100 = .ok (.getfield 135, 3) := dk_180 0 135 (dk_at dksX1_load_4 8 rfl rfl)
theorem dX1_load_103 : decode cX1_load 103 = .ok (.putfield 28, 3) := dk_181 0 28 (dk_at dksX1_load_4 11 rfl rfl)
theorem dX1_load_106 : decode cX1_load 106 = .ok (.new 59, 3) := dk_187 0 59 (dk_at dksX1_load_4 14 rfl rfl)
theorem dX1_load_109 : decode cX1_load 109 = .ok (.dup, 1) := dk_89 (dk_at dksX1_load_4 17 rfl rfl)
theorem dX1_load_110 : decode cX1_load 110 = .ok (.invokespecial 61, 3) := dk_183 0 61 (dk_at dksX1_load_4 18 rfl rfl)
theorem dX1_load_113 : decode cX1_load 113 = .ok (.athrow, 1) := dk_191 (dk_at dksX1_load_4 21 rfl rfl)
theorem dX1_load_114 : decode cX1_load 114 = .ok (.astore_n 3, 1) := dk_78 (dk_at dksX1_load_4 22 rfl rfl)
theorem dX1_load_115 : decode cX1_load 115 = .ok (.aload_n 0, 1) := dk_42 (dk_at dksX1_load_4 23 rfl rfl)
theorem dX1_load_116 : decode cX1_load 116 = .ok (.iconst 0, 1) := dk_3 (dk_at dksX1_load_5 0 rfl rfl)
theorem dX1_load_117 : decode cX1_load 117 = .ok (.putfield 109, 3) := dk_181 0 109 (dk_at dksX1_load_5 1 rfl rfl)
theorem dX1_load_120 : decode cX1_load 120 = .ok (.aload_n 3, 1) := dk_45 (dk_at dksX1_load_5 4 rfl rfl)
theorem dX1_load_121 : decode cX1_load 121 = .ok (.athrow, 1) := dk_191 (dk_at dksX1_load_5 5 rfl rfl)
abbrev cX1_checkIndex : ByteArray := prog_1_method_5_code
def yX1_checkIndex : MethodName := ⟨RX1, "checkIndex", "(II)V"⟩
def dkwX1_checkIndex_0 : List UInt8 := [26, 133, 9, 27, 4, 100, 133, 184, 0, 62, 154, 0, 11, 187, 0, 66, 89, 183, 0, 68, 191, 177]
abbrev dktX1_checkIndex_0 : List UInt8 := dkwX1_checkIndex_0 ++ []
theorem dksX1_checkIndex_0 : cX1_checkIndex.data.toList.drop 0 = dktX1_checkIndex_0 := by decide +kernel
theorem dX1_checkIndex_0 : decode cX1_checkIndex 0 = .ok (.iload_n 0, 1) := dk_26 (dk_at dksX1_checkIndex_0 0 rfl rfl)
theorem dX1_checkIndex_1 : decode cX1_checkIndex 1 = .ok (.i2l, 1) := dk_133 (dk_at dksX1_checkIndex_0 1 rfl rfl)
theorem dX1_checkIndex_2 : decode cX1_checkIndex 2 = .ok (.lconst 0, 1) := dk_9 (dk_at dksX1_checkIndex_0 2 rfl rfl)
theorem dX1_checkIndex_3 : decode cX1_checkIndex 3 = .ok (.iload_n 1, 1) := dk_27 (dk_at dksX1_checkIndex_0 3 rfl rfl)
theorem dX1_checkIndex_4 : decode cX1_checkIndex 4 = .ok (.iconst 1, 1) := dk_4 (dk_at dksX1_checkIndex_0 4 rfl rfl)
theorem dX1_checkIndex_5 : decode cX1_checkIndex 5 = .ok (.isub, 1) := dk_100 (dk_at dksX1_checkIndex_0 5 rfl rfl)
theorem dX1_checkIndex_6 : decode cX1_checkIndex 6 = .ok (.i2l, 1) := dk_133 (dk_at dksX1_checkIndex_0 6 rfl rfl)
theorem dX1_checkIndex_7 : decode cX1_checkIndex 7 = .ok (.invokestatic 62, 3) := dk_184 0 62 (dk_at dksX1_checkIndex_0 7 rfl rfl)
theorem dX1_checkIndex_10 : decode cX1_checkIndex 10 = .ok (.ifCond .ne 11, 3) := dk_154 0 11 (dk_at dksX1_checkIndex_0 10 rfl rfl)
theorem dX1_checkIndex_13 : decode cX1_checkIndex 13 = .ok (.new 66, 3) := dk_187 0 66 (dk_at dksX1_checkIndex_0 13 rfl rfl)
theorem dX1_checkIndex_16 : decode cX1_checkIndex 16 = .ok (.dup, 1) := dk_89 (dk_at dksX1_checkIndex_0 16 rfl rfl)
theorem dX1_checkIndex_17 : decode cX1_checkIndex 17 = .ok (.invokespecial 68, 3) := dk_183 0 68 (dk_at dksX1_checkIndex_0 17 rfl rfl)
theorem dX1_checkIndex_20 : decode cX1_checkIndex 20 = .ok (.athrow, 1) := dk_191 (dk_at dksX1_checkIndex_0 20 rfl rfl)
theorem dX1_checkIndex_21 : decode cX1_checkIndex 21 = .ok (.return_, 1) := dk_177 (dk_at dksX1_checkIndex_0 21 rfl rfl)
abbrev cX1_in : ByteArray := prog_1_method_1_code
def yX1_in : MethodName := ⟨RX1, "in", "(JJJ)Z"⟩
def dkwX1_in_0 : List UInt8 := [30, 32, 148, 155, 0, 14, 30, 22, 4, 148, 157, 0, 7, 4, 167, 0, 4, 3, 172]
abbrev dktX1_in_0 : List UInt8 := dkwX1_in_0 ++ []
theorem dksX1_in_0 : cX1_in.data.toList.drop 0 = dktX1_in_0 := by decide +kernel
theorem dX1_in_0 : decode cX1_in 0 = .ok (.lload_n 0, 1) := dk_30 (dk_at dksX1_in_0 0 rfl rfl)
theorem dX1_in_1 : decode cX1_in 1 = .ok (.lload_n 2, 1) := dk_32 (dk_at dksX1_in_0 1 rfl rfl)
theorem dX1_in_2 : decode cX1_in 2 = .ok (.lcmp, 1) := dk_148 (dk_at dksX1_in_0 2 rfl rfl)
theorem dX1_in_3 : decode cX1_in 3 = .ok (.ifCond .lt 14, 3) := dk_155 0 14 (dk_at dksX1_in_0 3 rfl rfl)
theorem dX1_in_6 : decode cX1_in 6 = .ok (.lload_n 0, 1) := dk_30 (dk_at dksX1_in_0 6 rfl rfl)
theorem dX1_in_7 : decode cX1_in 7 = .ok (.lload 4, 2) := dk_22 4 (dk_at dksX1_in_0 7 rfl rfl)
theorem dX1_in_9 : decode cX1_in 9 = .ok (.lcmp, 1) := dk_148 (dk_at dksX1_in_0 9 rfl rfl)
theorem dX1_in_10 : decode cX1_in 10 = .ok (.ifCond .gt 7, 3) := dk_157 0 7 (dk_at dksX1_in_0 10 rfl rfl)
theorem dX1_in_13 : decode cX1_in 13 = .ok (.iconst 1, 1) := dk_4 (dk_at dksX1_in_0 13 rfl rfl)
theorem dX1_in_14 : decode cX1_in 14 = .ok (.goto 4, 3) := dk_167 0 4 (dk_at dksX1_in_0 14 rfl rfl)
theorem dX1_in_17 : decode cX1_in 17 = .ok (.iconst 0, 1) := dk_3 (dk_at dksX1_in_0 17 rfl rfl)
theorem dX1_in_18 : decode cX1_in 18 = .ok (.ireturn, 1) := dk_172 (dk_at dksX1_in_0 18 rfl rfl)
abbrev cX1_proposal : ByteArray := prog_1_method_19_code
def yX1_proposal : MethodName := ⟨RX1, "proposal", "(II)I"⟩
def dkwX1_proposal_6 : List UInt8 := [192, 0, 171, 180, 0, 173, 182, 0, 177, 172]
abbrev dktX1_proposal_6 : List UInt8 := dkwX1_proposal_6 ++ []
def dkwX1_proposal_5 : List UInt8 := [180, 0, 161, 3, 184, 0, 164, 167, 0, 25, 45, 180, 0, 83, 180, 0, 87, 27, 185, 0, 7, 2, 0]
abbrev dktX1_proposal_5 : List UInt8 := dkwX1_proposal_5 ++ dktX1_proposal_6
def dkwX1_proposal_4 : List UInt8 := [184, 0, 164, 167, 0, 53, 45, 180, 0, 168, 27, 46, 167, 0, 44, 27, 45, 180, 0, 83, 180, 0, 97, 45]
abbrev dktX1_proposal_4 : List UInt8 := dkwX1_proposal_4 ++ dktX1_proposal_5
def dkwX1_proposal_3 : List UInt8 := [167, 0, 80, 45, 27, 182, 0, 157, 167, 0, 72, 27, 45, 180, 0, 83, 180, 0, 97, 45, 180, 0, 161, 4]
abbrev dktX1_proposal_3 : List UInt8 := dkwX1_proposal_3 ++ dktX1_proposal_4
def dkwX1_proposal_2 : List UInt8 := [45, 180, 0, 147, 27, 46, 167, 0, 98, 45, 180, 0, 151, 27, 46, 167, 0, 89, 45, 180, 0, 154, 27, 46]
abbrev dktX1_proposal_2 : List UInt8 := dkwX1_proposal_2 ++ dktX1_proposal_3
def dkwX1_proposal_1 : List UInt8 := [170, 0, 0, 0, 123, 0, 0, 0, 0, 0, 0, 0, 6, 0, 0, 0, 41, 0, 0, 0, 50, 0, 0, 0, 59, 0, 0, 0, 68, 0, 0, 0, 76, 0, 0, 0, 95, 0, 0, 0, 104]
abbrev dktX1_proposal_1 : List UInt8 := dkwX1_proposal_1 ++ dktX1_proposal_2
def dkwX1_proposal_0 : List UInt8 := [42, 27, 182, 0, 138, 78, 28, 133, 9, 20, 0, 142, 184, 0, 62, 184, 0, 144, 28]
abbrev dktX1_proposal_0 : List UInt8 := dkwX1_proposal_0 ++ dktX1_proposal_1
theorem dksX1_proposal_0 : cX1_proposal.data.toList.drop 0 = dktX1_proposal_0 := by decide +kernel
theorem dksX1_proposal_1 : cX1_proposal.data.toList.drop 19 = dktX1_proposal_1 := dk_seg dksX1_proposal_0 19 rfl rfl
theorem dksX1_proposal_2 : cX1_proposal.data.toList.drop 60 = dktX1_proposal_2 := dk_seg dksX1_proposal_1 41 rfl rfl
theorem dksX1_proposal_3 : cX1_proposal.data.toList.drop 84 = dktX1_proposal_3 := dk_seg dksX1_proposal_2 24 rfl rfl
theorem dksX1_proposal_4 : cX1_proposal.data.toList.drop 108 = dktX1_proposal_4 := dk_seg dksX1_proposal_3 24 rfl rfl
theorem dksX1_proposal_5 : cX1_proposal.data.toList.drop 132 = dktX1_proposal_5 := dk_seg dksX1_proposal_4 24 rfl rfl
theorem dksX1_proposal_6 : cX1_proposal.data.toList.drop 155 = dktX1_proposal_6 := dk_seg dksX1_proposal_5 23 rfl rfl
theorem dX1_proposal_0 : decode cX1_proposal 0 = .ok (.aload_n 0, 1) := dk_42 (dk_at dksX1_proposal_0 0 rfl rfl)
theorem dX1_proposal_1 : decode cX1_proposal 1 = .ok (.iload_n 1, 1) := dk_27 (dk_at dksX1_proposal_0 1 rfl rfl)
theorem dX1_proposal_2 : decode cX1_proposal 2 = .ok (.invokevirtual 138, 3) := dk_182 0 138 (dk_at dksX1_proposal_0 2 rfl rfl)
theorem dX1_proposal_5 : decode cX1_proposal 5 = .ok (.astore_n 3, 1) := dk_78 (dk_at dksX1_proposal_0 5 rfl rfl)
theorem dX1_proposal_6 : decode cX1_proposal 6 = .ok (.iload_n 2, 1) := dk_28 (dk_at dksX1_proposal_0 6 rfl rfl)
theorem dX1_proposal_7 : decode cX1_proposal 7 = .ok (.i2l, 1) := dk_133 (dk_at dksX1_proposal_0 7 rfl rfl)
theorem dX1_proposal_8 : decode cX1_proposal 8 = .ok (.lconst 0, 1) := dk_9 (dk_at dksX1_proposal_0 8 rfl rfl)
theorem dX1_proposal_9 : decode cX1_proposal 9 = .ok (.ldc2_w 142, 3) := dk_20 0 142 (dk_at dksX1_proposal_0 9 rfl rfl)
theorem dX1_proposal_12 : decode cX1_proposal 12 = .ok (.invokestatic 62, 3) := dk_184 0 62 (dk_at dksX1_proposal_0 12 rfl rfl)
theorem dX1_proposal_15 : decode cX1_proposal 15 = .ok (.invokestatic 144, 3) := dk_184 0 144 (dk_at dksX1_proposal_0 15 rfl rfl)
theorem dX1_proposal_18 : decode cX1_proposal 18 = .ok (.iload_n 2, 1) := dk_28 (dk_at dksX1_proposal_0 18 rfl rfl)
theorem dX1_proposal_19 : decode cX1_proposal 19 = .ok (.tableswitch 123 0 6 #[41, 50, 59, 68, 76, 95, 104], 41) := by decide +kernel
theorem dX1_proposal_60 : decode cX1_proposal 60 = .ok (.aload_n 3, 1) := dk_45 (dk_at dksX1_proposal_2 0 rfl rfl)
theorem dX1_proposal_61 : decode cX1_proposal 61 = .ok (.getfield 147, 3) := dk_180 0 147 (dk_at dksX1_proposal_2 1 rfl rfl)
theorem dX1_proposal_64 : decode cX1_proposal 64 = .ok (.iload_n 1, 1) := dk_27 (dk_at dksX1_proposal_2 4 rfl rfl)
theorem dX1_proposal_65 : decode cX1_proposal 65 = .ok (.iaload, 1) := dk_46 (dk_at dksX1_proposal_2 5 rfl rfl)
theorem dX1_proposal_66 : decode cX1_proposal 66 = .ok (.goto 98, 3) := dk_167 0 98 (dk_at dksX1_proposal_2 6 rfl rfl)
theorem dX1_proposal_69 : decode cX1_proposal 69 = .ok (.aload_n 3, 1) := dk_45 (dk_at dksX1_proposal_2 9 rfl rfl)
theorem dX1_proposal_70 : decode cX1_proposal 70 = .ok (.getfield 151, 3) := dk_180 0 151 (dk_at dksX1_proposal_2 10 rfl rfl)
theorem dX1_proposal_73 : decode cX1_proposal 73 = .ok (.iload_n 1, 1) := dk_27 (dk_at dksX1_proposal_2 13 rfl rfl)
theorem dX1_proposal_74 : decode cX1_proposal 74 = .ok (.iaload, 1) := dk_46 (dk_at dksX1_proposal_2 14 rfl rfl)
theorem dX1_proposal_75 : decode cX1_proposal 75 = .ok (.goto 89, 3) := dk_167 0 89 (dk_at dksX1_proposal_2 15 rfl rfl)
theorem dX1_proposal_78 : decode cX1_proposal 78 = .ok (.aload_n 3, 1) := dk_45 (dk_at dksX1_proposal_2 18 rfl rfl)
theorem dX1_proposal_79 : decode cX1_proposal 79 = .ok (.getfield 154, 3) := dk_180 0 154 (dk_at dksX1_proposal_2 19 rfl rfl)
theorem dX1_proposal_82 : decode cX1_proposal 82 = .ok (.iload_n 1, 1) := dk_27 (dk_at dksX1_proposal_2 22 rfl rfl)
theorem dX1_proposal_83 : decode cX1_proposal 83 = .ok (.iaload, 1) := dk_46 (dk_at dksX1_proposal_2 23 rfl rfl)
theorem dX1_proposal_84 : decode cX1_proposal 84 = .ok (.goto 80, 3) := dk_167 0 80 (dk_at dksX1_proposal_3 0 rfl rfl)
theorem dX1_proposal_87 : decode cX1_proposal 87 = .ok (.aload_n 3, 1) := dk_45 (dk_at dksX1_proposal_3 3 rfl rfl)
theorem dX1_proposal_88 : decode cX1_proposal 88 = .ok (.iload_n 1, 1) := dk_27 (dk_at dksX1_proposal_3 4 rfl rfl)
theorem dX1_proposal_89 : decode cX1_proposal 89 = .ok (.invokevirtual 157, 3) := dk_182 0 157 (dk_at dksX1_proposal_3 5 rfl rfl)
theorem dX1_proposal_92 : decode cX1_proposal 92 = .ok (.goto 72, 3) := dk_167 0 72 (dk_at dksX1_proposal_3 8 rfl rfl)
theorem dX1_proposal_95 : decode cX1_proposal 95 = .ok (.iload_n 1, 1) := dk_27 (dk_at dksX1_proposal_3 11 rfl rfl)
theorem dX1_proposal_96 : decode cX1_proposal 96 = .ok (.aload_n 3, 1) := dk_45 (dk_at dksX1_proposal_3 12 rfl rfl)
theorem dX1_proposal_97 : decode cX1_proposal 97 = .ok (.getfield 83, 3) := dk_180 0 83 (dk_at dksX1_proposal_3 13 rfl rfl)
theorem dX1_proposal_100 : decode cX1_proposal 100 = .ok (.getfield 97, 3) := dk_180 0 97 (dk_at dksX1_proposal_3 16 rfl rfl)
theorem dX1_proposal_103 : decode cX1_proposal 103 = .ok (.aload_n 3, 1) := dk_45 (dk_at dksX1_proposal_3 19 rfl rfl)
theorem dX1_proposal_104 : decode cX1_proposal 104 = .ok (.getfield 161, 3) := dk_180 0 161 (dk_at dksX1_proposal_3 20 rfl rfl)
theorem dX1_proposal_107 : decode cX1_proposal 107 = .ok (.iconst 1, 1) := dk_4 (dk_at dksX1_proposal_3 23 rfl rfl)
theorem dX1_proposal_108 : decode cX1_proposal 108 = .ok (.invokestatic 164, 3) := dk_184 0 164 (dk_at dksX1_proposal_4 0 rfl rfl)
theorem dX1_proposal_111 : decode cX1_proposal 111 = .ok (.goto 53, 3) := dk_167 0 53 (dk_at dksX1_proposal_4 3 rfl rfl)
theorem dX1_proposal_114 : decode cX1_proposal 114 = .ok (.aload_n 3, 1) := dk_45 (dk_at dksX1_proposal_4 6 rfl rfl)
theorem dX1_proposal_115 : decode cX1_proposal 115 = .ok (.getfield 168, 3) := dk_180 0 168 (dk_at dksX1_proposal_4 7 rfl rfl)
theorem dX1_proposal_118 : decode cX1_proposal 118 = .ok (.iload_n 1, 1) := dk_27 (dk_at dksX1_proposal_4 10 rfl rfl)
theorem dX1_proposal_119 : decode cX1_proposal 119 = .ok (.iaload, 1) := dk_46 (dk_at dksX1_proposal_4 11 rfl rfl)
theorem dX1_proposal_120 : decode cX1_proposal 120 = .ok (.goto 44, 3) := dk_167 0 44 (dk_at dksX1_proposal_4 12 rfl rfl)
theorem dX1_proposal_123 : decode cX1_proposal 123 = .ok (.iload_n 1, 1) := dk_27 (dk_at dksX1_proposal_4 15 rfl rfl)
theorem dX1_proposal_124 : decode cX1_proposal 124 = .ok (.aload_n 3, 1) := dk_45 (dk_at dksX1_proposal_4 16 rfl rfl)
theorem dX1_proposal_125 : decode cX1_proposal 125 = .ok (.getfield 83, 3) := dk_180 0 83 (dk_at dksX1_proposal_4 17 rfl rfl)
theorem dX1_proposal_128 : decode cX1_proposal 128 = .ok (.getfield 97, 3) := dk_180 0 97 (dk_at dksX1_proposal_4 20 rfl rfl)
theorem dX1_proposal_131 : decode cX1_proposal 131 = .ok (.aload_n 3, 1) := dk_45 (dk_at dksX1_proposal_4 23 rfl rfl)
theorem dX1_proposal_132 : decode cX1_proposal 132 = .ok (.getfield 161, 3) := dk_180 0 161 (dk_at dksX1_proposal_5 0 rfl rfl)
theorem dX1_proposal_135 : decode cX1_proposal 135 = .ok (.iconst 0, 1) := dk_3 (dk_at dksX1_proposal_5 3 rfl rfl)
theorem dX1_proposal_136 : decode cX1_proposal 136 = .ok (.invokestatic 164, 3) := dk_184 0 164 (dk_at dksX1_proposal_5 4 rfl rfl)
theorem dX1_proposal_139 : decode cX1_proposal 139 = .ok (.goto 25, 3) := dk_167 0 25 (dk_at dksX1_proposal_5 7 rfl rfl)
theorem dX1_proposal_142 : decode cX1_proposal 142 = .ok (.aload_n 3, 1) := dk_45 (dk_at dksX1_proposal_5 10 rfl rfl)
theorem dX1_proposal_143 : decode cX1_proposal 143 = .ok (.getfield 83, 3) := dk_180 0 83 (dk_at dksX1_proposal_5 11 rfl rfl)
theorem dX1_proposal_146 : decode cX1_proposal 146 = .ok (.getfield 87, 3) := dk_180 0 87 (dk_at dksX1_proposal_5 14 rfl rfl)
theorem dX1_proposal_149 : decode cX1_proposal 149 = .ok (.iload_n 1, 1) := dk_27 (dk_at dksX1_proposal_5 17 rfl rfl)
theorem dX1_proposal_150 : decode cX1_proposal 150 = .ok (.invokeinterface 7 2, 5) := by decide +kernel
theorem dX1_proposal_155 : decode cX1_proposal 155 = .ok (.checkcast 171, 3) := dk_192 0 171 (dk_at dksX1_proposal_6 0 rfl rfl)
theorem dX1_proposal_158 : decode cX1_proposal 158 = .ok (.getfield 173, 3) := dk_180 0 173 (dk_at dksX1_proposal_6 3 rfl rfl)
theorem dX1_proposal_161 : decode cX1_proposal 161 = .ok (.invokevirtual 177, 3) := dk_182 0 177 (dk_at dksX1_proposal_6 6 rfl rfl)
theorem dX1_proposal_164 : decode cX1_proposal 164 = .ok (.ireturn, 1) := dk_172 (dk_at dksX1_proposal_6 9 rfl rfl)
abbrev cX1_withProposal : ByteArray := prog_1_method_8_code
def yX1_withProposal : MethodName := ⟨RX1, "withProposal", "(I)LTelescopeQueue$State;"⟩
def dkwX1_withProposal_0 : List UInt8 := [27, 42, 182, 0, 79, 180, 0, 83, 180, 0, 87, 185, 0, 1, 1, 0, 184, 0, 93, 42, 180, 0, 72, 176]
abbrev dktX1_withProposal_0 : List UInt8 := dkwX1_withProposal_0 ++ []
theorem dksX1_withProposal_0 : cX1_withProposal.data.toList.drop 0 = dktX1_withProposal_0 := by decide +kernel
theorem dX1_withProposal_0 : decode cX1_withProposal 0 = .ok (.iload_n 1, 1) := dk_27 (dk_at dksX1_withProposal_0 0 rfl rfl)
theorem dX1_withProposal_1 : decode cX1_withProposal 1 = .ok (.aload_n 0, 1) := dk_42 (dk_at dksX1_withProposal_0 1 rfl rfl)
theorem dX1_withProposal_2 : decode cX1_withProposal 2 = .ok (.invokevirtual 79, 3) := dk_182 0 79 (dk_at dksX1_withProposal_0 2 rfl rfl)
theorem dX1_withProposal_5 : decode cX1_withProposal 5 = .ok (.getfield 83, 3) := dk_180 0 83 (dk_at dksX1_withProposal_0 5 rfl rfl)
theorem dX1_withProposal_8 : decode cX1_withProposal 8 = .ok (.getfield 87, 3) := dk_180 0 87 (dk_at dksX1_withProposal_0 8 rfl rfl)
theorem dX1_withProposal_11 : decode cX1_withProposal 11 = .ok (.invokeinterface 1 1, 5) := by decide +kernel
theorem dX1_withProposal_16 : decode cX1_withProposal 16 = .ok (.invokestatic 93, 3) := dk_184 0 93 (dk_at dksX1_withProposal_0 16 rfl rfl)
theorem dX1_withProposal_19 : decode cX1_withProposal 19 = .ok (.aload_n 0, 1) := dk_42 (dk_at dksX1_withProposal_0 19 rfl rfl)
theorem dX1_withProposal_20 : decode cX1_withProposal 20 = .ok (.getfield 72, 3) := dk_180 0 72 (dk_at dksX1_withProposal_0 20 rfl rfl)
theorem dX1_withProposal_23 : decode cX1_withProposal 23 = .ok (.areturn, 1) := dk_176 (dk_at dksX1_withProposal_0 23 rfl rfl)
abbrev cX1_there : ByteArray := prog_1_method_7_code
def yX1_there : MethodName := ⟨RX1, "there", "()LTelescopeQueue$State;"⟩
def dkwX1_there_0 : List UInt8 := [42, 180, 0, 72, 198, 0, 7, 4, 167, 0, 4, 3, 184, 0, 75, 42, 180, 0, 72, 176]
abbrev dktX1_there_0 : List UInt8 := dkwX1_there_0 ++ []
theorem dksX1_there_0 : cX1_there.data.toList.drop 0 = dktX1_there_0 := by decide +kernel
theorem dX1_there_0 : decode cX1_there 0 = .ok (.aload_n 0, 1) := dk_42 (dk_at dksX1_there_0 0 rfl rfl)
theorem dX1_there_1 : decode cX1_there 1 = .ok (.getfield 72, 3) := dk_180 0 72 (dk_at dksX1_there_0 1 rfl rfl)
theorem dX1_there_4 : decode cX1_there 4 = .ok (.ifnull 7, 3) := dk_198 0 7 (dk_at dksX1_there_0 4 rfl rfl)
theorem dX1_there_7 : decode cX1_there 7 = .ok (.iconst 1, 1) := dk_4 (dk_at dksX1_there_0 7 rfl rfl)
theorem dX1_there_8 : decode cX1_there 8 = .ok (.goto 4, 3) := dk_167 0 4 (dk_at dksX1_there_0 8 rfl rfl)
theorem dX1_there_11 : decode cX1_there 11 = .ok (.iconst 0, 1) := dk_3 (dk_at dksX1_there_0 11 rfl rfl)
theorem dX1_there_12 : decode cX1_there 12 = .ok (.invokestatic 75, 3) := dk_184 0 75 (dk_at dksX1_there_0 12 rfl rfl)
theorem dX1_there_15 : decode cX1_there 15 = .ok (.aload_n 0, 1) := dk_42 (dk_at dksX1_there_0 15 rfl rfl)
theorem dX1_there_16 : decode cX1_there 16 = .ok (.getfield 72, 3) := dk_180 0 72 (dk_at dksX1_there_0 16 rfl rfl)
theorem dX1_there_19 : decode cX1_there 19 = .ok (.areturn, 1) := dk_176 (dk_at dksX1_there_0 19 rfl rfl)
abbrev cX1_checkState : ByteArray := prog_1_method_6_code
def yX1_checkState : MethodName := ⟨RX1, "checkState", "(Z)V"⟩
def dkwX1_checkState_0 : List UInt8 := [26, 154, 0, 11, 187, 0, 69, 89, 183, 0, 71, 191, 177]
abbrev dktX1_checkState_0 : List UInt8 := dkwX1_checkState_0 ++ []
theorem dksX1_checkState_0 : cX1_checkState.data.toList.drop 0 = dktX1_checkState_0 := by decide +kernel
theorem dX1_checkState_0 : decode cX1_checkState 0 = .ok (.iload_n 0, 1) := dk_26 (dk_at dksX1_checkState_0 0 rfl rfl)
theorem dX1_checkState_1 : decode cX1_checkState 1 = .ok (.ifCond .ne 11, 3) := dk_154 0 11 (dk_at dksX1_checkState_0 1 rfl rfl)
theorem dX1_checkState_4 : decode cX1_checkState 4 = .ok (.new 69, 3) := dk_187 0 69 (dk_at dksX1_checkState_0 4 rfl rfl)
theorem dX1_checkState_7 : decode cX1_checkState 7 = .ok (.dup, 1) := dk_89 (dk_at dksX1_checkState_0 7 rfl rfl)
theorem dX1_checkState_8 : decode cX1_checkState 8 = .ok (.invokespecial 71, 3) := dk_183 0 71 (dk_at dksX1_checkState_0 8 rfl rfl)
theorem dX1_checkState_11 : decode cX1_checkState 11 = .ok (.athrow, 1) := dk_191 (dk_at dksX1_checkState_0 11 rfl rfl)
theorem dX1_checkState_12 : decode cX1_checkState 12 = .ok (.return_, 1) := dk_177 (dk_at dksX1_checkState_0 12 rfl rfl)
abbrev cX1_checkArgument : ByteArray := prog_1_method_4_code
def yX1_checkArgument : MethodName := ⟨RX1, "checkArgument", "(Z)V"⟩
def dkwX1_checkArgument_0 : List UInt8 := [26, 154, 0, 11, 187, 0, 59, 89, 183, 0, 61, 191, 177]
abbrev dktX1_checkArgument_0 : List UInt8 := dkwX1_checkArgument_0 ++ []
theorem dksX1_checkArgument_0 : cX1_checkArgument.data.toList.drop 0 = dktX1_checkArgument_0 := by decide +kernel
theorem dX1_checkArgument_0 : decode cX1_checkArgument 0 = .ok (.iload_n 0, 1) := dk_26 (dk_at dksX1_checkArgument_0 0 rfl rfl)
theorem dX1_checkArgument_1 : decode cX1_checkArgument 1 = .ok (.ifCond .ne 11, 3) := dk_154 0 11 (dk_at dksX1_checkArgument_0 1 rfl rfl)
theorem dX1_checkArgument_4 : decode cX1_checkArgument 4 = .ok (.new 59, 3) := dk_187 0 59 (dk_at dksX1_checkArgument_0 4 rfl rfl)
theorem dX1_checkArgument_7 : decode cX1_checkArgument 7 = .ok (.dup, 1) := dk_89 (dk_at dksX1_checkArgument_0 7 rfl rfl)
theorem dX1_checkArgument_8 : decode cX1_checkArgument 8 = .ok (.invokespecial 61, 3) := dk_183 0 61 (dk_at dksX1_checkArgument_0 8 rfl rfl)
theorem dX1_checkArgument_11 : decode cX1_checkArgument 11 = .ok (.athrow, 1) := dk_191 (dk_at dksX1_checkArgument_0 11 rfl rfl)
theorem dX1_checkArgument_12 : decode cX1_checkArgument 12 = .ok (.return_, 1) := dk_177 (dk_at dksX1_checkArgument_0 12 rfl rfl)
abbrev cX1_of : ByteArray := prog_1_method_2_code
def yX1_of : MethodName := ⟨RX1, "of", "(ILjava/util/List;[II)I"⟩
def dkwX1_of_2 : List UInt8 := [160, 0, 7, 4, 167, 0, 4, 3, 96, 54, 4, 132, 5, 1, 167, 255, 204, 21, 4, 172]
abbrev dktX1_of_2 : List UInt8 := dkwX1_of_2 ++ []
def dkwX1_of_1 : List UInt8 := [185, 0, 7, 2, 0, 192, 0, 11, 185, 0, 13, 1, 0, 26, 160, 0, 15, 44, 21, 5, 46, 29]
abbrev dktX1_of_1 : List UInt8 := dkwX1_of_1 ++ dktX1_of_2
def dkwX1_of_0 : List UInt8 := [3, 54, 4, 3, 54, 5, 21, 5, 43, 185, 0, 1, 1, 0, 162, 0, 47, 21, 4, 43, 21, 5]
abbrev dktX1_of_0 : List UInt8 := dkwX1_of_0 ++ dktX1_of_1
theorem dksX1_of_0 : cX1_of.data.toList.drop 0 = dktX1_of_0 := by decide +kernel
theorem dksX1_of_1 : cX1_of.data.toList.drop 22 = dktX1_of_1 := dk_seg dksX1_of_0 22 rfl rfl
theorem dksX1_of_2 : cX1_of.data.toList.drop 44 = dktX1_of_2 := dk_seg dksX1_of_1 22 rfl rfl
theorem dX1_of_0 : decode cX1_of 0 = .ok (.iconst 0, 1) := dk_3 (dk_at dksX1_of_0 0 rfl rfl)
theorem dX1_of_1 : decode cX1_of 1 = .ok (.istore 4, 2) := dk_54 4 (dk_at dksX1_of_0 1 rfl rfl)
theorem dX1_of_3 : decode cX1_of 3 = .ok (.iconst 0, 1) := dk_3 (dk_at dksX1_of_0 3 rfl rfl)
theorem dX1_of_4 : decode cX1_of 4 = .ok (.istore 5, 2) := dk_54 5 (dk_at dksX1_of_0 4 rfl rfl)
theorem dX1_of_6 : decode cX1_of 6 = .ok (.iload 5, 2) := dk_21 5 (dk_at dksX1_of_0 6 rfl rfl)
theorem dX1_of_8 : decode cX1_of 8 = .ok (.aload_n 1, 1) := dk_43 (dk_at dksX1_of_0 8 rfl rfl)
theorem dX1_of_9 : decode cX1_of 9 = .ok (.invokeinterface 1 1, 5) := by decide +kernel
theorem dX1_of_14 : decode cX1_of 14 = .ok (.if_icmp .ge 47, 3) := dk_162 0 47 (dk_at dksX1_of_0 14 rfl rfl)
theorem dX1_of_17 : decode cX1_of 17 = .ok (.iload 4, 2) := dk_21 4 (dk_at dksX1_of_0 17 rfl rfl)
theorem dX1_of_19 : decode cX1_of 19 = .ok (.aload_n 1, 1) := dk_43 (dk_at dksX1_of_0 19 rfl rfl)
theorem dX1_of_20 : decode cX1_of 20 = .ok (.iload 5, 2) := dk_21 5 (dk_at dksX1_of_0 20 rfl rfl)
theorem dX1_of_22 : decode cX1_of 22 = .ok (.invokeinterface 7 2, 5) := by decide +kernel
theorem dX1_of_27 : decode cX1_of 27 = .ok (.checkcast 11, 3) := dk_192 0 11 (dk_at dksX1_of_1 5 rfl rfl)
theorem dX1_of_30 : decode cX1_of 30 = .ok (.invokeinterface 13 1, 5) := by decide +kernel
theorem dX1_of_35 : decode cX1_of 35 = .ok (.iload_n 0, 1) := dk_26 (dk_at dksX1_of_1 13 rfl rfl)
theorem dX1_of_36 : decode cX1_of 36 = .ok (.if_icmp .ne 15, 3) := dk_160 0 15 (dk_at dksX1_of_1 14 rfl rfl)
theorem dX1_of_39 : decode cX1_of 39 = .ok (.aload_n 2, 1) := dk_44 (dk_at dksX1_of_1 17 rfl rfl)
theorem dX1_of_40 : decode cX1_of 40 = .ok (.iload 5, 2) := dk_21 5 (dk_at dksX1_of_1 18 rfl rfl)
theorem dX1_of_42 : decode cX1_of 42 = .ok (.iaload, 1) := dk_46 (dk_at dksX1_of_1 20 rfl rfl)
theorem dX1_of_43 : decode cX1_of 43 = .ok (.iload_n 3, 1) := dk_29 (dk_at dksX1_of_1 21 rfl rfl)
theorem dX1_of_44 : decode cX1_of 44 = .ok (.if_icmp .ne 7, 3) := dk_160 0 7 (dk_at dksX1_of_2 0 rfl rfl)
theorem dX1_of_47 : decode cX1_of 47 = .ok (.iconst 1, 1) := dk_4 (dk_at dksX1_of_2 3 rfl rfl)
theorem dX1_of_48 : decode cX1_of 48 = .ok (.goto 4, 3) := dk_167 0 4 (dk_at dksX1_of_2 4 rfl rfl)
theorem dX1_of_51 : decode cX1_of 51 = .ok (.iconst 0, 1) := dk_3 (dk_at dksX1_of_2 7 rfl rfl)
theorem dX1_of_52 : decode cX1_of 52 = .ok (.iadd, 1) := dk_96 (dk_at dksX1_of_2 8 rfl rfl)
theorem dX1_of_53 : decode cX1_of 53 = .ok (.istore 4, 2) := dk_54 4 (dk_at dksX1_of_2 9 rfl rfl)
theorem dX1_of_55 : decode cX1_of 55 = .ok (.iinc 5 1, 3) := dk_132 5 1 (dk_at dksX1_of_2 11 rfl rfl)
theorem dX1_of_58 : decode cX1_of 58 = .ok (.goto (-52), 3) := dk_167 255 204 (dk_at dksX1_of_2 14 rfl rfl)
theorem dX1_of_61 : decode cX1_of 61 = .ok (.iload 4, 2) := dk_21 4 (dk_at dksX1_of_2 17 rfl rfl)
theorem dX1_of_63 : decode cX1_of 63 = .ok (.ireturn, 1) := dk_172 (dk_at dksX1_of_2 19 rfl rfl)
abbrev cX1_letter : ByteArray := prog_1_method_20_code
def yX1_letter : MethodName := ⟨RX1, "letter", "(II)I"⟩
def dkwX1_letter_1 : List UInt8 := [28, 45, 182, 0, 177, 184, 0, 93, 45, 28, 182, 0, 182, 172]
abbrev dktX1_letter_1 : List UInt8 := dkwX1_letter_1 ++ []
def dkwX1_letter_0 : List UInt8 := [42, 27, 182, 0, 138, 180, 0, 83, 180, 0, 87, 27, 185, 0, 7, 2, 0, 192, 0, 171, 180, 0, 173, 78]
abbrev dktX1_letter_0 : List UInt8 := dkwX1_letter_0 ++ dktX1_letter_1
theorem dksX1_letter_0 : cX1_letter.data.toList.drop 0 = dktX1_letter_0 := by decide +kernel
theorem dksX1_letter_1 : cX1_letter.data.toList.drop 24 = dktX1_letter_1 := dk_seg dksX1_letter_0 24 rfl rfl
theorem dX1_letter_0 : decode cX1_letter 0 = .ok (.aload_n 0, 1) := dk_42 (dk_at dksX1_letter_0 0 rfl rfl)
theorem dX1_letter_1 : decode cX1_letter 1 = .ok (.iload_n 1, 1) := dk_27 (dk_at dksX1_letter_0 1 rfl rfl)
theorem dX1_letter_2 : decode cX1_letter 2 = .ok (.invokevirtual 138, 3) := dk_182 0 138 (dk_at dksX1_letter_0 2 rfl rfl)
theorem dX1_letter_5 : decode cX1_letter 5 = .ok (.getfield 83, 3) := dk_180 0 83 (dk_at dksX1_letter_0 5 rfl rfl)
theorem dX1_letter_8 : decode cX1_letter 8 = .ok (.getfield 87, 3) := dk_180 0 87 (dk_at dksX1_letter_0 8 rfl rfl)
theorem dX1_letter_11 : decode cX1_letter 11 = .ok (.iload_n 1, 1) := dk_27 (dk_at dksX1_letter_0 11 rfl rfl)
theorem dX1_letter_12 : decode cX1_letter 12 = .ok (.invokeinterface 7 2, 5) := by decide +kernel
theorem dX1_letter_17 : decode cX1_letter 17 = .ok (.checkcast 171, 3) := dk_192 0 171 (dk_at dksX1_letter_0 17 rfl rfl)
theorem dX1_letter_20 : decode cX1_letter 20 = .ok (.getfield 173, 3) := dk_180 0 173 (dk_at dksX1_letter_0 20 rfl rfl)
theorem dX1_letter_23 : decode cX1_letter 23 = .ok (.astore_n 3, 1) := dk_78 (dk_at dksX1_letter_0 23 rfl rfl)
theorem dX1_letter_24 : decode cX1_letter 24 = .ok (.iload_n 2, 1) := dk_28 (dk_at dksX1_letter_1 0 rfl rfl)
theorem dX1_letter_25 : decode cX1_letter 25 = .ok (.aload_n 3, 1) := dk_45 (dk_at dksX1_letter_1 1 rfl rfl)
theorem dX1_letter_26 : decode cX1_letter 26 = .ok (.invokevirtual 177, 3) := dk_182 0 177 (dk_at dksX1_letter_1 2 rfl rfl)
theorem dX1_letter_29 : decode cX1_letter 29 = .ok (.invokestatic 93, 3) := dk_184 0 93 (dk_at dksX1_letter_1 5 rfl rfl)
theorem dX1_letter_32 : decode cX1_letter 32 = .ok (.aload_n 3, 1) := dk_45 (dk_at dksX1_letter_1 8 rfl rfl)
theorem dX1_letter_33 : decode cX1_letter 33 = .ok (.iload_n 2, 1) := dk_28 (dk_at dksX1_letter_1 9 rfl rfl)
theorem dX1_letter_34 : decode cX1_letter 34 = .ok (.invokevirtual 182, 3) := dk_182 0 182 (dk_at dksX1_letter_1 10 rfl rfl)
theorem dX1_letter_37 : decode cX1_letter 37 = .ok (.ireturn, 1) := dk_172 (dk_at dksX1_letter_1 13 rfl rfl)
abbrev cX1_visit : ByteArray := prog_1_method_22_code
def yX1_visit : MethodName := ⟨RX1, "visit", "(II)I"⟩
def dkwX1_visit_5 : List UInt8 := [167, 0, 14, 45, 182, 0, 207, 167, 0, 7, 45, 182, 0, 210, 172]
abbrev dktX1_visit_5 : List UInt8 := dkwX1_visit_5 ++ []
def dkwX1_visit_4 : List UInt8 := [182, 0, 198, 167, 0, 33, 42, 180, 0, 72, 180, 0, 201, 27, 46, 167, 0, 21, 45, 182, 0, 204]
abbrev dktX1_visit_4 : List UInt8 := dkwX1_visit_4 ++ dktX1_visit_5
def dkwX1_visit_3 : List UInt8 := [45, 182, 0, 191, 167, 0, 54, 45, 182, 0, 192, 167, 0, 47, 45, 182, 0, 195, 167, 0, 40, 45]
abbrev dktX1_visit_3 : List UInt8 := dkwX1_visit_3 ++ dktX1_visit_4
def dkwX1_visit_2 : List UInt8 := [170, 0, 0, 0, 0, 96, 0, 0, 0, 0, 0, 0, 0, 6, 0, 0, 0, 42, 0, 0, 0, 49, 0, 0, 0, 56, 0, 0, 0, 63, 0, 0, 0, 70, 0, 0, 0, 82, 0, 0, 0, 89]
abbrev dktX1_visit_2 : List UInt8 := dkwX1_visit_2 ++ dktX1_visit_3
def dkwX1_visit_1 : List UInt8 := [20, 0, 142, 184, 0, 62, 184, 0, 144, 28]
abbrev dktX1_visit_1 : List UInt8 := dkwX1_visit_1 ++ dktX1_visit_2
def dkwX1_visit_0 : List UInt8 := [42, 27, 182, 0, 186, 180, 0, 83, 180, 0, 97, 27, 185, 0, 7, 2, 0, 192, 0, 189, 78, 28, 133, 9]
abbrev dktX1_visit_0 : List UInt8 := dkwX1_visit_0 ++ dktX1_visit_1
theorem dksX1_visit_0 : cX1_visit.data.toList.drop 0 = dktX1_visit_0 := by decide +kernel
theorem dksX1_visit_1 : cX1_visit.data.toList.drop 24 = dktX1_visit_1 := dk_seg dksX1_visit_0 24 rfl rfl
theorem dksX1_visit_2 : cX1_visit.data.toList.drop 34 = dktX1_visit_2 := dk_seg dksX1_visit_1 10 rfl rfl
theorem dksX1_visit_3 : cX1_visit.data.toList.drop 76 = dktX1_visit_3 := dk_seg dksX1_visit_2 42 rfl rfl
theorem dksX1_visit_4 : cX1_visit.data.toList.drop 98 = dktX1_visit_4 := dk_seg dksX1_visit_3 22 rfl rfl
theorem dksX1_visit_5 : cX1_visit.data.toList.drop 120 = dktX1_visit_5 := dk_seg dksX1_visit_4 22 rfl rfl
theorem dX1_visit_0 : decode cX1_visit 0 = .ok (.aload_n 0, 1) := dk_42 (dk_at dksX1_visit_0 0 rfl rfl)
theorem dX1_visit_1 : decode cX1_visit 1 = .ok (.iload_n 1, 1) := dk_27 (dk_at dksX1_visit_0 1 rfl rfl)
theorem dX1_visit_2 : decode cX1_visit 2 = .ok (.invokevirtual 186, 3) := dk_182 0 186 (dk_at dksX1_visit_0 2 rfl rfl)
theorem dX1_visit_5 : decode cX1_visit 5 = .ok (.getfield 83, 3) := dk_180 0 83 (dk_at dksX1_visit_0 5 rfl rfl)
theorem dX1_visit_8 : decode cX1_visit 8 = .ok (.getfield 97, 3) := dk_180 0 97 (dk_at dksX1_visit_0 8 rfl rfl)
theorem dX1_visit_11 : decode cX1_visit 11 = .ok (.iload_n 1, 1) := dk_27 (dk_at dksX1_visit_0 11 rfl rfl)
theorem dX1_visit_12 : decode cX1_visit 12 = .ok (.invokeinterface 7 2, 5) := by decide +kernel
theorem dX1_visit_17 : decode cX1_visit 17 = .ok (.checkcast 189, 3) := dk_192 0 189 (dk_at dksX1_visit_0 17 rfl rfl)
theorem dX1_visit_20 : decode cX1_visit 20 = .ok (.astore_n 3, 1) := dk_78 (dk_at dksX1_visit_0 20 rfl rfl)
theorem dX1_visit_21 : decode cX1_visit 21 = .ok (.iload_n 2, 1) := dk_28 (dk_at dksX1_visit_0 21 rfl rfl)
theorem dX1_visit_22 : decode cX1_visit 22 = .ok (.i2l, 1) := dk_133 (dk_at dksX1_visit_0 22 rfl rfl)
theorem dX1_visit_23 : decode cX1_visit 23 = .ok (.lconst 0, 1) := dk_9 (dk_at dksX1_visit_0 23 rfl rfl)
theorem dX1_visit_24 : decode cX1_visit 24 = .ok (.ldc2_w 142, 3) := dk_20 0 142 (dk_at dksX1_visit_1 0 rfl rfl)
theorem dX1_visit_27 : decode cX1_visit 27 = .ok (.invokestatic 62, 3) := dk_184 0 62 (dk_at dksX1_visit_1 3 rfl rfl)
theorem dX1_visit_30 : decode cX1_visit 30 = .ok (.invokestatic 144, 3) := dk_184 0 144 (dk_at dksX1_visit_1 6 rfl rfl)
theorem dX1_visit_33 : decode cX1_visit 33 = .ok (.iload_n 2, 1) := dk_28 (dk_at dksX1_visit_1 9 rfl rfl)
theorem dX1_visit_34 : decode cX1_visit 34 = .ok (.tableswitch 96 0 6 #[42, 49, 56, 63, 70, 82, 89], 42) := by decide +kernel
theorem dX1_visit_76 : decode cX1_visit 76 = .ok (.aload_n 3, 1) := dk_45 (dk_at dksX1_visit_3 0 rfl rfl)
theorem dX1_visit_77 : decode cX1_visit 77 = .ok (.invokevirtual 191, 3) := dk_182 0 191 (dk_at dksX1_visit_3 1 rfl rfl)
theorem dX1_visit_80 : decode cX1_visit 80 = .ok (.goto 54, 3) := dk_167 0 54 (dk_at dksX1_visit_3 4 rfl rfl)
theorem dX1_visit_83 : decode cX1_visit 83 = .ok (.aload_n 3, 1) := dk_45 (dk_at dksX1_visit_3 7 rfl rfl)
theorem dX1_visit_84 : decode cX1_visit 84 = .ok (.invokevirtual 192, 3) := dk_182 0 192 (dk_at dksX1_visit_3 8 rfl rfl)
theorem dX1_visit_87 : decode cX1_visit 87 = .ok (.goto 47, 3) := dk_167 0 47 (dk_at dksX1_visit_3 11 rfl rfl)
theorem dX1_visit_90 : decode cX1_visit 90 = .ok (.aload_n 3, 1) := dk_45 (dk_at dksX1_visit_3 14 rfl rfl)
theorem dX1_visit_91 : decode cX1_visit 91 = .ok (.invokevirtual 195, 3) := dk_182 0 195 (dk_at dksX1_visit_3 15 rfl rfl)
theorem dX1_visit_94 : decode cX1_visit 94 = .ok (.goto 40, 3) := dk_167 0 40 (dk_at dksX1_visit_3 18 rfl rfl)
theorem dX1_visit_97 : decode cX1_visit 97 = .ok (.aload_n 3, 1) := dk_45 (dk_at dksX1_visit_3 21 rfl rfl)
theorem dX1_visit_98 : decode cX1_visit 98 = .ok (.invokevirtual 198, 3) := dk_182 0 198 (dk_at dksX1_visit_4 0 rfl rfl)
theorem dX1_visit_101 : decode cX1_visit 101 = .ok (.goto 33, 3) := dk_167 0 33 (dk_at dksX1_visit_4 3 rfl rfl)
theorem dX1_visit_104 : decode cX1_visit 104 = .ok (.aload_n 0, 1) := dk_42 (dk_at dksX1_visit_4 6 rfl rfl)
theorem dX1_visit_105 : decode cX1_visit 105 = .ok (.getfield 72, 3) := dk_180 0 72 (dk_at dksX1_visit_4 7 rfl rfl)
theorem dX1_visit_108 : decode cX1_visit 108 = .ok (.getfield 201, 3) := dk_180 0 201 (dk_at dksX1_visit_4 10 rfl rfl)
theorem dX1_visit_111 : decode cX1_visit 111 = .ok (.iload_n 1, 1) := dk_27 (dk_at dksX1_visit_4 13 rfl rfl)
theorem dX1_visit_112 : decode cX1_visit 112 = .ok (.iaload, 1) := dk_46 (dk_at dksX1_visit_4 14 rfl rfl)
theorem dX1_visit_113 : decode cX1_visit 113 = .ok (.goto 21, 3) := dk_167 0 21 (dk_at dksX1_visit_4 15 rfl rfl)
theorem dX1_visit_116 : decode cX1_visit 116 = .ok (.aload_n 3, 1) := dk_45 (dk_at dksX1_visit_4 18 rfl rfl)
theorem dX1_visit_117 : decode cX1_visit 117 = .ok (.invokevirtual 204, 3) := dk_182 0 204 (dk_at dksX1_visit_4 19 rfl rfl)
theorem dX1_visit_120 : decode cX1_visit 120 = .ok (.goto 14, 3) := dk_167 0 14 (dk_at dksX1_visit_5 0 rfl rfl)
theorem dX1_visit_123 : decode cX1_visit 123 = .ok (.aload_n 3, 1) := dk_45 (dk_at dksX1_visit_5 3 rfl rfl)
theorem dX1_visit_124 : decode cX1_visit 124 = .ok (.invokevirtual 207, 3) := dk_182 0 207 (dk_at dksX1_visit_5 4 rfl rfl)
theorem dX1_visit_127 : decode cX1_visit 127 = .ok (.goto 7, 3) := dk_167 0 7 (dk_at dksX1_visit_5 7 rfl rfl)
theorem dX1_visit_130 : decode cX1_visit 130 = .ok (.aload_n 3, 1) := dk_45 (dk_at dksX1_visit_5 10 rfl rfl)
theorem dX1_visit_131 : decode cX1_visit 131 = .ok (.invokevirtual 210, 3) := dk_182 0 210 (dk_at dksX1_visit_5 11 rfl rfl)
theorem dX1_visit_134 : decode cX1_visit 134 = .ok (.ireturn, 1) := dk_172 (dk_at dksX1_visit_5 14 rfl rfl)
abbrev cX1_withVisit : ByteArray := prog_1_method_9_code
def yX1_withVisit : MethodName := ⟨RX1, "withVisit", "(I)LTelescopeQueue$State;"⟩
def dkwX1_withVisit_0 : List UInt8 := [27, 42, 182, 0, 79, 180, 0, 83, 180, 0, 97, 185, 0, 1, 1, 0, 184, 0, 93, 42, 180, 0, 72, 176]
abbrev dktX1_withVisit_0 : List UInt8 := dkwX1_withVisit_0 ++ []
theorem dksX1_withVisit_0 : cX1_withVisit.data.toList.drop 0 = dktX1_withVisit_0 := by decide +kernel
theorem dX1_withVisit_0 : decode cX1_withVisit 0 = .ok (.iload_n 1, 1) := dk_27 (dk_at dksX1_withVisit_0 0 rfl rfl)
theorem dX1_withVisit_1 : decode cX1_withVisit 1 = .ok (.aload_n 0, 1) := dk_42 (dk_at dksX1_withVisit_0 1 rfl rfl)
theorem dX1_withVisit_2 : decode cX1_withVisit 2 = .ok (.invokevirtual 79, 3) := dk_182 0 79 (dk_at dksX1_withVisit_0 2 rfl rfl)
theorem dX1_withVisit_5 : decode cX1_withVisit 5 = .ok (.getfield 83, 3) := dk_180 0 83 (dk_at dksX1_withVisit_0 5 rfl rfl)
theorem dX1_withVisit_8 : decode cX1_withVisit 8 = .ok (.getfield 97, 3) := dk_180 0 97 (dk_at dksX1_withVisit_0 8 rfl rfl)
theorem dX1_withVisit_11 : decode cX1_withVisit 11 = .ok (.invokeinterface 1 1, 5) := by decide +kernel
theorem dX1_withVisit_16 : decode cX1_withVisit 16 = .ok (.invokestatic 93, 3) := dk_184 0 93 (dk_at dksX1_withVisit_0 16 rfl rfl)
theorem dX1_withVisit_19 : decode cX1_withVisit 19 = .ok (.aload_n 0, 1) := dk_42 (dk_at dksX1_withVisit_0 19 rfl rfl)
theorem dX1_withVisit_20 : decode cX1_withVisit 20 = .ok (.getfield 72, 3) := dk_180 0 72 (dk_at dksX1_withVisit_0 20 rfl rfl)
theorem dX1_withVisit_23 : decode cX1_withVisit 23 = .ok (.areturn, 1) := dk_176 (dk_at dksX1_withVisit_0 23 rfl rfl)
abbrev cX1_stateOf : ByteArray := prog_1_method_23_code
def yX1_stateOf : MethodName := ⟨RX1, "stateOf", "(I)I"⟩
def dkwX1_stateOf_0 : List UInt8 := [42, 27, 182, 0, 186, 180, 0, 161, 27, 46, 172]
abbrev dktX1_stateOf_0 : List UInt8 := dkwX1_stateOf_0 ++ []
theorem dksX1_stateOf_0 : cX1_stateOf.data.toList.drop 0 = dktX1_stateOf_0 := by decide +kernel
theorem dX1_stateOf_0 : decode cX1_stateOf 0 = .ok (.aload_n 0, 1) := dk_42 (dk_at dksX1_stateOf_0 0 rfl rfl)
theorem dX1_stateOf_1 : decode cX1_stateOf 1 = .ok (.iload_n 1, 1) := dk_27 (dk_at dksX1_stateOf_0 1 rfl rfl)
theorem dX1_stateOf_2 : decode cX1_stateOf 2 = .ok (.invokevirtual 186, 3) := dk_182 0 186 (dk_at dksX1_stateOf_0 2 rfl rfl)
theorem dX1_stateOf_5 : decode cX1_stateOf 5 = .ok (.getfield 161, 3) := dk_180 0 161 (dk_at dksX1_stateOf_0 5 rfl rfl)
theorem dX1_stateOf_8 : decode cX1_stateOf 8 = .ok (.iload_n 1, 1) := dk_27 (dk_at dksX1_stateOf_0 8 rfl rfl)
theorem dX1_stateOf_9 : decode cX1_stateOf 9 = .ok (.iaload, 1) := dk_46 (dk_at dksX1_stateOf_0 9 rfl rfl)
theorem dX1_stateOf_10 : decode cX1_stateOf 10 = .ok (.ireturn, 1) := dk_172 (dk_at dksX1_stateOf_0 10 rfl rfl)
abbrev cX1_aborts : ByteArray := prog_1_method_24_code
def yX1_aborts : MethodName := ⟨RX1, "aborts", "(I)I"⟩
def dkwX1_aborts_0 : List UInt8 := [42, 27, 182, 0, 186, 180, 0, 213, 27, 46, 172]
abbrev dktX1_aborts_0 : List UInt8 := dkwX1_aborts_0 ++ []
theorem dksX1_aborts_0 : cX1_aborts.data.toList.drop 0 = dktX1_aborts_0 := by decide +kernel
theorem dX1_aborts_0 : decode cX1_aborts 0 = .ok (.aload_n 0, 1) := dk_42 (dk_at dksX1_aborts_0 0 rfl rfl)
theorem dX1_aborts_1 : decode cX1_aborts 1 = .ok (.iload_n 1, 1) := dk_27 (dk_at dksX1_aborts_0 1 rfl rfl)
theorem dX1_aborts_2 : decode cX1_aborts 2 = .ok (.invokevirtual 186, 3) := dk_182 0 186 (dk_at dksX1_aborts_0 2 rfl rfl)
theorem dX1_aborts_5 : decode cX1_aborts 5 = .ok (.getfield 213, 3) := dk_180 0 213 (dk_at dksX1_aborts_0 5 rfl rfl)
theorem dX1_aborts_8 : decode cX1_aborts 8 = .ok (.iload_n 1, 1) := dk_27 (dk_at dksX1_aborts_0 8 rfl rfl)
theorem dX1_aborts_9 : decode cX1_aborts 9 = .ok (.iaload, 1) := dk_46 (dk_at dksX1_aborts_0 9 rfl rfl)
theorem dX1_aborts_10 : decode cX1_aborts 10 = .ok (.ireturn, 1) := dk_172 (dk_at dksX1_aborts_0 10 rfl rfl)
abbrev cX1_startOf : ByteArray := prog_1_method_25_code
def yX1_startOf : MethodName := ⟨RX1, "startOf", "(I)I"⟩
def dkwX1_startOf_0 : List UInt8 := [42, 27, 182, 0, 186, 180, 0, 216, 27, 46, 172]
abbrev dktX1_startOf_0 : List UInt8 := dkwX1_startOf_0 ++ []
theorem dksX1_startOf_0 : cX1_startOf.data.toList.drop 0 = dktX1_startOf_0 := by decide +kernel
theorem dX1_startOf_0 : decode cX1_startOf 0 = .ok (.aload_n 0, 1) := dk_42 (dk_at dksX1_startOf_0 0 rfl rfl)
theorem dX1_startOf_1 : decode cX1_startOf 1 = .ok (.iload_n 1, 1) := dk_27 (dk_at dksX1_startOf_0 1 rfl rfl)
theorem dX1_startOf_2 : decode cX1_startOf 2 = .ok (.invokevirtual 186, 3) := dk_182 0 186 (dk_at dksX1_startOf_0 2 rfl rfl)
theorem dX1_startOf_5 : decode cX1_startOf 5 = .ok (.getfield 216, 3) := dk_180 0 216 (dk_at dksX1_startOf_0 5 rfl rfl)
theorem dX1_startOf_8 : decode cX1_startOf 8 = .ok (.iload_n 1, 1) := dk_27 (dk_at dksX1_startOf_0 8 rfl rfl)
theorem dX1_startOf_9 : decode cX1_startOf 9 = .ok (.iaload, 1) := dk_46 (dk_at dksX1_startOf_0 9 rfl rfl)
theorem dX1_startOf_10 : decode cX1_startOf 10 = .ok (.ireturn, 1) := dk_172 (dk_at dksX1_startOf_0 10 rfl rfl)
abbrev cX1_alert : ByteArray := prog_1_method_27_code
def yX1_alert : MethodName := ⟨RX1, "alert", "(II)I"⟩
def dkwX1_alert_5 : List UInt8 := [172]
abbrev dktX1_alert_5 : List UInt8 := dkwX1_alert_5 ++ []
def dkwX1_alert_4 : List UInt8 := [182, 0, 231, 167, 0, 21, 45, 182, 0, 232, 167, 0, 14, 45, 182, 0, 233, 167, 0, 7, 45, 180, 0, 234]
abbrev dktX1_alert_4 : List UInt8 := dkwX1_alert_4 ++ dktX1_alert_5
def dkwX1_alert_3 : List UInt8 := [45, 182, 0, 226, 167, 0, 42, 45, 180, 0, 227, 167, 0, 35, 45, 182, 0, 230, 167, 0, 28, 45]
abbrev dktX1_alert_3 : List UInt8 := dkwX1_alert_3 ++ dktX1_alert_4
def dkwX1_alert_2 : List UInt8 := [170, 0, 0, 0, 79, 0, 0, 0, 0, 0, 0, 0, 5, 0, 0, 0, 37, 0, 0, 0, 44, 0, 0, 0, 51, 0, 0, 0, 58, 0, 0, 0, 65, 0, 0, 0, 72]
abbrev dktX1_alert_2 : List UInt8 := dkwX1_alert_2 ++ dktX1_alert_3
def dkwX1_alert_1 : List UInt8 := [184, 0, 62, 184, 0, 144, 28]
abbrev dktX1_alert_1 : List UInt8 := dkwX1_alert_1 ++ dktX1_alert_2
def dkwX1_alert_0 : List UInt8 := [42, 27, 182, 0, 219, 180, 0, 100, 27, 185, 0, 7, 2, 0, 192, 0, 222, 78, 28, 133, 9, 20, 0, 224]
abbrev dktX1_alert_0 : List UInt8 := dkwX1_alert_0 ++ dktX1_alert_1
theorem dksX1_alert_0 : cX1_alert.data.toList.drop 0 = dktX1_alert_0 := by decide +kernel
theorem dksX1_alert_1 : cX1_alert.data.toList.drop 24 = dktX1_alert_1 := dk_seg dksX1_alert_0 24 rfl rfl
theorem dksX1_alert_2 : cX1_alert.data.toList.drop 31 = dktX1_alert_2 := dk_seg dksX1_alert_1 7 rfl rfl
theorem dksX1_alert_3 : cX1_alert.data.toList.drop 68 = dktX1_alert_3 := dk_seg dksX1_alert_2 37 rfl rfl
theorem dksX1_alert_4 : cX1_alert.data.toList.drop 90 = dktX1_alert_4 := dk_seg dksX1_alert_3 22 rfl rfl
theorem dksX1_alert_5 : cX1_alert.data.toList.drop 114 = dktX1_alert_5 := dk_seg dksX1_alert_4 24 rfl rfl
theorem dX1_alert_0 : decode cX1_alert 0 = .ok (.aload_n 0, 1) := dk_42 (dk_at dksX1_alert_0 0 rfl rfl)
theorem dX1_alert_1 : decode cX1_alert 1 = .ok (.iload_n 1, 1) := dk_27 (dk_at dksX1_alert_0 1 rfl rfl)
theorem dX1_alert_2 : decode cX1_alert 2 = .ok (.invokevirtual 219, 3) := dk_182 0 219 (dk_at dksX1_alert_0 2 rfl rfl)
theorem dX1_alert_5 : decode cX1_alert 5 = .ok (.getfield 100, 3) := dk_180 0 100 (dk_at dksX1_alert_0 5 rfl rfl)
theorem dX1_alert_8 : decode cX1_alert 8 = .ok (.iload_n 1, 1) := dk_27 (dk_at dksX1_alert_0 8 rfl rfl)
theorem dX1_alert_9 : decode cX1_alert 9 = .ok (.invokeinterface 7 2, 5) := by decide +kernel
theorem dX1_alert_14 : decode cX1_alert 14 = .ok (.checkcast 222, 3) := dk_192 0 222 (dk_at dksX1_alert_0 14 rfl rfl)
theorem dX1_alert_17 : decode cX1_alert 17 = .ok (.astore_n 3, 1) := dk_78 (dk_at dksX1_alert_0 17 rfl rfl)
theorem dX1_alert_18 : decode cX1_alert 18 = .ok (.iload_n 2, 1) := dk_28 (dk_at dksX1_alert_0 18 rfl rfl)
theorem dX1_alert_19 : decode cX1_alert 19 = .ok (.i2l, 1) := dk_133 (dk_at dksX1_alert_0 19 rfl rfl)
theorem dX1_alert_20 : decode cX1_alert 20 = .ok (.lconst 0, 1) := dk_9 (dk_at dksX1_alert_0 20 rfl rfl)
theorem dX1_alert_21 : decode cX1_alert 21 = .ok (.ldc2_w 224, 3) := dk_20 0 224 (dk_at dksX1_alert_0 21 rfl rfl)
theorem dX1_alert_24 : decode cX1_alert 24 = .ok (.invokestatic 62, 3) := dk_184 0 62 (dk_at dksX1_alert_1 0 rfl rfl)
theorem dX1_alert_27 : decode cX1_alert 27 = .ok (.invokestatic 144, 3) := dk_184 0 144 (dk_at dksX1_alert_1 3 rfl rfl)
theorem dX1_alert_30 : decode cX1_alert 30 = .ok (.iload_n 2, 1) := dk_28 (dk_at dksX1_alert_1 6 rfl rfl)
theorem dX1_alert_31 : decode cX1_alert 31 = .ok (.tableswitch 79 0 5 #[37, 44, 51, 58, 65, 72], 37) := by decide +kernel
theorem dX1_alert_68 : decode cX1_alert 68 = .ok (.aload_n 3, 1) := dk_45 (dk_at dksX1_alert_3 0 rfl rfl)
theorem dX1_alert_69 : decode cX1_alert 69 = .ok (.invokevirtual 226, 3) := dk_182 0 226 (dk_at dksX1_alert_3 1 rfl rfl)
theorem dX1_alert_72 : decode cX1_alert 72 = .ok (.goto 42, 3) := dk_167 0 42 (dk_at dksX1_alert_3 4 rfl rfl)
theorem dX1_alert_75 : decode cX1_alert 75 = .ok (.aload_n 3, 1) := dk_45 (dk_at dksX1_alert_3 7 rfl rfl)
theorem dX1_alert_76 : decode cX1_alert 76 = .ok (.getfield 227, 3) := dk_180 0 227 (dk_at dksX1_alert_3 8 rfl rfl)
theorem dX1_alert_79 : decode cX1_alert 79 = .ok (.goto 35, 3) := dk_167 0 35 (dk_at dksX1_alert_3 11 rfl rfl)
theorem dX1_alert_82 : decode cX1_alert 82 = .ok (.aload_n 3, 1) := dk_45 (dk_at dksX1_alert_3 14 rfl rfl)
theorem dX1_alert_83 : decode cX1_alert 83 = .ok (.invokevirtual 230, 3) := dk_182 0 230 (dk_at dksX1_alert_3 15 rfl rfl)
theorem dX1_alert_86 : decode cX1_alert 86 = .ok (.goto 28, 3) := dk_167 0 28 (dk_at dksX1_alert_3 18 rfl rfl)
theorem dX1_alert_89 : decode cX1_alert 89 = .ok (.aload_n 3, 1) := dk_45 (dk_at dksX1_alert_3 21 rfl rfl)
theorem dX1_alert_90 : decode cX1_alert 90 = .ok (.invokevirtual 231, 3) := dk_182 0 231 (dk_at dksX1_alert_4 0 rfl rfl)
theorem dX1_alert_93 : decode cX1_alert 93 = .ok (.goto 21, 3) := dk_167 0 21 (dk_at dksX1_alert_4 3 rfl rfl)
theorem dX1_alert_96 : decode cX1_alert 96 = .ok (.aload_n 3, 1) := dk_45 (dk_at dksX1_alert_4 6 rfl rfl)
theorem dX1_alert_97 : decode cX1_alert 97 = .ok (.invokevirtual 232, 3) := dk_182 0 232 (dk_at dksX1_alert_4 7 rfl rfl)
theorem dX1_alert_100 : decode cX1_alert 100 = .ok (.goto 14, 3) := dk_167 0 14 (dk_at dksX1_alert_4 10 rfl rfl)
theorem dX1_alert_103 : decode cX1_alert 103 = .ok (.aload_n 3, 1) := dk_45 (dk_at dksX1_alert_4 13 rfl rfl)
theorem dX1_alert_104 : decode cX1_alert 104 = .ok (.invokevirtual 233, 3) := dk_182 0 233 (dk_at dksX1_alert_4 14 rfl rfl)
theorem dX1_alert_107 : decode cX1_alert 107 = .ok (.goto 7, 3) := dk_167 0 7 (dk_at dksX1_alert_4 17 rfl rfl)
theorem dX1_alert_110 : decode cX1_alert 110 = .ok (.aload_n 3, 1) := dk_45 (dk_at dksX1_alert_4 20 rfl rfl)
theorem dX1_alert_111 : decode cX1_alert 111 = .ok (.getfield 234, 3) := dk_180 0 234 (dk_at dksX1_alert_4 21 rfl rfl)
theorem dX1_alert_114 : decode cX1_alert 114 = .ok (.ireturn, 1) := dk_172 (dk_at dksX1_alert_5 0 rfl rfl)
abbrev cX1_withAlert : ByteArray := prog_1_method_10_code
def yX1_withAlert : MethodName := ⟨RX1, "withAlert", "(I)LTelescopeQueue$State;"⟩
def dkwX1_withAlert_0 : List UInt8 := [27, 42, 182, 0, 79, 180, 0, 100, 185, 0, 1, 1, 0, 184, 0, 93, 42, 180, 0, 72, 176]
abbrev dktX1_withAlert_0 : List UInt8 := dkwX1_withAlert_0 ++ []
theorem dksX1_withAlert_0 : cX1_withAlert.data.toList.drop 0 = dktX1_withAlert_0 := by decide +kernel
theorem dX1_withAlert_0 : decode cX1_withAlert 0 = .ok (.iload_n 1, 1) := dk_27 (dk_at dksX1_withAlert_0 0 rfl rfl)
theorem dX1_withAlert_1 : decode cX1_withAlert 1 = .ok (.aload_n 0, 1) := dk_42 (dk_at dksX1_withAlert_0 1 rfl rfl)
theorem dX1_withAlert_2 : decode cX1_withAlert 2 = .ok (.invokevirtual 79, 3) := dk_182 0 79 (dk_at dksX1_withAlert_0 2 rfl rfl)
theorem dX1_withAlert_5 : decode cX1_withAlert 5 = .ok (.getfield 100, 3) := dk_180 0 100 (dk_at dksX1_withAlert_0 5 rfl rfl)
theorem dX1_withAlert_8 : decode cX1_withAlert 8 = .ok (.invokeinterface 1 1, 5) := by decide +kernel
theorem dX1_withAlert_13 : decode cX1_withAlert 13 = .ok (.invokestatic 93, 3) := dk_184 0 93 (dk_at dksX1_withAlert_0 13 rfl rfl)
theorem dX1_withAlert_16 : decode cX1_withAlert 16 = .ok (.aload_n 0, 1) := dk_42 (dk_at dksX1_withAlert_0 16 rfl rfl)
theorem dX1_withAlert_17 : decode cX1_withAlert 17 = .ok (.getfield 72, 3) := dk_180 0 72 (dk_at dksX1_withAlert_0 17 rfl rfl)
theorem dX1_withAlert_20 : decode cX1_withAlert 20 = .ok (.areturn, 1) := dk_176 (dk_at dksX1_withAlert_0 20 rfl rfl)
abbrev cX1_alertState : ByteArray := prog_1_method_28_code
def yX1_alertState : MethodName := ⟨RX1, "alertState", "(I)I"⟩
def dkwX1_alertState_0 : List UInt8 := [42, 27, 182, 0, 219, 180, 0, 237, 27, 46, 172]
abbrev dktX1_alertState_0 : List UInt8 := dkwX1_alertState_0 ++ []
theorem dksX1_alertState_0 : cX1_alertState.data.toList.drop 0 = dktX1_alertState_0 := by decide +kernel
theorem dX1_alertState_0 : decode cX1_alertState 0 = .ok (.aload_n 0, 1) := dk_42 (dk_at dksX1_alertState_0 0 rfl rfl)
theorem dX1_alertState_1 : decode cX1_alertState 1 = .ok (.iload_n 1, 1) := dk_27 (dk_at dksX1_alertState_0 1 rfl rfl)
theorem dX1_alertState_2 : decode cX1_alertState 2 = .ok (.invokevirtual 219, 3) := dk_182 0 219 (dk_at dksX1_alertState_0 2 rfl rfl)
theorem dX1_alertState_5 : decode cX1_alertState 5 = .ok (.getfield 237, 3) := dk_180 0 237 (dk_at dksX1_alertState_0 5 rfl rfl)
theorem dX1_alertState_8 : decode cX1_alertState 8 = .ok (.iload_n 1, 1) := dk_27 (dk_at dksX1_alertState_0 8 rfl rfl)
theorem dX1_alertState_9 : decode cX1_alertState 9 = .ok (.iaload, 1) := dk_46 (dk_at dksX1_alertState_0 9 rfl rfl)
theorem dX1_alertState_10 : decode cX1_alertState 10 = .ok (.ireturn, 1) := dk_172 (dk_at dksX1_alertState_0 10 rfl rfl)
abbrev cX1_alertDelay : ByteArray := prog_1_method_29_code
def yX1_alertDelay : MethodName := ⟨RX1, "alertDelay", "(I)I"⟩
def dkwX1_alertDelay_1 : List UInt8 := [180, 0, 100, 27, 185, 0, 7, 2, 0, 192, 0, 222, 180, 0, 227, 100, 167, 0, 4, 2, 172]
abbrev dktX1_alertDelay_1 : List UInt8 := dkwX1_alertDelay_1 ++ []
def dkwX1_alertDelay_0 : List UInt8 := [42, 27, 182, 0, 219, 77, 44, 180, 0, 237, 27, 46, 4, 160, 0, 29, 44, 180, 0, 240, 27, 46, 44]
abbrev dktX1_alertDelay_0 : List UInt8 := dkwX1_alertDelay_0 ++ dktX1_alertDelay_1
theorem dksX1_alertDelay_0 : cX1_alertDelay.data.toList.drop 0 = dktX1_alertDelay_0 := by decide +kernel
theorem dksX1_alertDelay_1 : cX1_alertDelay.data.toList.drop 23 = dktX1_alertDelay_1 := dk_seg dksX1_alertDelay_0 23 rfl rfl
theorem dX1_alertDelay_0 : decode cX1_alertDelay 0 = .ok (.aload_n 0, 1) := dk_42 (dk_at dksX1_alertDelay_0 0 rfl rfl)
theorem dX1_alertDelay_1 : decode cX1_alertDelay 1 = .ok (.iload_n 1, 1) := dk_27 (dk_at dksX1_alertDelay_0 1 rfl rfl)
theorem dX1_alertDelay_2 : decode cX1_alertDelay 2 = .ok (.invokevirtual 219, 3) := dk_182 0 219 (dk_at dksX1_alertDelay_0 2 rfl rfl)
theorem dX1_alertDelay_5 : decode cX1_alertDelay 5 = .ok (.astore_n 2, 1) := dk_77 (dk_at dksX1_alertDelay_0 5 rfl rfl)
theorem dX1_alertDelay_6 : decode cX1_alertDelay 6 = .ok (.aload_n 2, 1) := dk_44 (dk_at dksX1_alertDelay_0 6 rfl rfl)
theorem dX1_alertDelay_7 : decode cX1_alertDelay 7 = .ok (.getfield 237, 3) := dk_180 0 237 (dk_at dksX1_alertDelay_0 7 rfl rfl)
theorem dX1_alertDelay_10 : decode cX1_alertDelay 10 = .ok (.iload_n 1, 1) := dk_27 (dk_at dksX1_alertDelay_0 10 rfl rfl)
theorem dX1_alertDelay_11 : decode cX1_alertDelay 11 = .ok (.iaload, 1) := dk_46 (dk_at dksX1_alertDelay_0 11 rfl rfl)
theorem dX1_alertDelay_12 : decode cX1_alertDelay 12 = .ok (.iconst 1, 1) := dk_4 (dk_at dksX1_alertDelay_0 12 rfl rfl)
theorem dX1_alertDelay_13 : decode cX1_alertDelay 13 = .ok (.if_icmp .ne 29, 3) := dk_160 0 29 (dk_at dksX1_alertDelay_0 13 rfl rfl)
theorem dX1_alertDelay_16 : decode cX1_alertDelay 16 = .ok (.aload_n 2, 1) := dk_44 (dk_at dksX1_alertDelay_0 16 rfl rfl)
theorem dX1_alertDelay_17 : decode cX1_alertDelay 17 = .ok (.getfield 240, 3) := dk_180 0 240 (dk_at dksX1_alertDelay_0 17 rfl rfl)
theorem dX1_alertDelay_20 : decode cX1_alertDelay 20 = .ok (.iload_n 1, 1) := dk_27 (dk_at dksX1_alertDelay_0 20 rfl rfl)
theorem dX1_alertDelay_21 : decode cX1_alertDelay 21 = .ok (.iaload, 1) := dk_46 (dk_at dksX1_alertDelay_0 21 rfl rfl)
theorem dX1_alertDelay_22 : decode cX1_alertDelay 22 = .ok (.aload_n 2, 1) := dk_44 (dk_at dksX1_alertDelay_0 22 rfl rfl)
theorem dX1_alertDelay_23 : decode cX1_alertDelay 23 = .ok (.getfield 100, 3) := dk_180 0 100 (dk_at dksX1_alertDelay_1 0 rfl rfl)
theorem dX1_alertDelay_26 : decode cX1_alertDelay 26 = .ok (.iload_n 1, 1) := dk_27 (dk_at dksX1_alertDelay_1 3 rfl rfl)
theorem dX1_alertDelay_27 : decode cX1_alertDelay 27 = .ok (.invokeinterface 7 2, 5) := by decide +kernel
theorem dX1_alertDelay_32 : decode cX1_alertDelay 32 = .ok (.checkcast 222, 3) := dk_192 0 222 (dk_at dksX1_alertDelay_1 9 rfl rfl)
theorem dX1_alertDelay_35 : decode cX1_alertDelay 35 = .ok (.getfield 227, 3) := dk_180 0 227 (dk_at dksX1_alertDelay_1 12 rfl rfl)
theorem dX1_alertDelay_38 : decode cX1_alertDelay 38 = .ok (.isub, 1) := dk_100 (dk_at dksX1_alertDelay_1 15 rfl rfl)
theorem dX1_alertDelay_39 : decode cX1_alertDelay 39 = .ok (.goto 4, 3) := dk_167 0 4 (dk_at dksX1_alertDelay_1 16 rfl rfl)
theorem dX1_alertDelay_42 : decode cX1_alertDelay 42 = .ok (.iconst (-1), 1) := dk_2 (dk_at dksX1_alertDelay_1 19 rfl rfl)
theorem dX1_alertDelay_43 : decode cX1_alertDelay 43 = .ok (.ireturn, 1) := dk_172 (dk_at dksX1_alertDelay_1 20 rfl rfl)
abbrev cX1_waiting : ByteArray := prog_1_method_30_code
def yX1_waiting : MethodName := ⟨RX1, "waiting", "()I"⟩
def dkwX1_waiting_2 : List UInt8 := [43, 180, 0, 243, 163, 0, 9, 4, 29, 120, 167, 0, 4, 3, 128, 61, 132, 3, 1, 167, 255, 198, 28, 172]
abbrev dktX1_waiting_2 : List UInt8 := dkwX1_waiting_2 ++ []
def dkwX1_waiting_1 : List UInt8 := [180, 0, 237, 29, 46, 154, 0, 32, 43, 180, 0, 100, 29, 185, 0, 7, 2, 0, 192, 0, 222, 180, 0, 227]
abbrev dktX1_waiting_1 : List UInt8 := dkwX1_waiting_1 ++ dktX1_waiting_2
def dkwX1_waiting_0 : List UInt8 := [42, 182, 0, 79, 76, 3, 61, 3, 62, 29, 43, 180, 0, 100, 185, 0, 1, 1, 0, 162, 0, 51, 28, 43]
abbrev dktX1_waiting_0 : List UInt8 := dkwX1_waiting_0 ++ dktX1_waiting_1
theorem dksX1_waiting_0 : cX1_waiting.data.toList.drop 0 = dktX1_waiting_0 := by decide +kernel
theorem dksX1_waiting_1 : cX1_waiting.data.toList.drop 24 = dktX1_waiting_1 := dk_seg dksX1_waiting_0 24 rfl rfl
theorem dksX1_waiting_2 : cX1_waiting.data.toList.drop 48 = dktX1_waiting_2 := dk_seg dksX1_waiting_1 24 rfl rfl
theorem dX1_waiting_0 : decode cX1_waiting 0 = .ok (.aload_n 0, 1) := dk_42 (dk_at dksX1_waiting_0 0 rfl rfl)
theorem dX1_waiting_1 : decode cX1_waiting 1 = .ok (.invokevirtual 79, 3) := dk_182 0 79 (dk_at dksX1_waiting_0 1 rfl rfl)
theorem dX1_waiting_4 : decode cX1_waiting 4 = .ok (.astore_n 1, 1) := dk_76 (dk_at dksX1_waiting_0 4 rfl rfl)
theorem dX1_waiting_5 : decode cX1_waiting 5 = .ok (.iconst 0, 1) := dk_3 (dk_at dksX1_waiting_0 5 rfl rfl)
theorem dX1_waiting_6 : decode cX1_waiting 6 = .ok (.istore_n 2, 1) := dk_61 (dk_at dksX1_waiting_0 6 rfl rfl)
theorem dX1_waiting_7 : decode cX1_waiting 7 = .ok (.iconst 0, 1) := dk_3 (dk_at dksX1_waiting_0 7 rfl rfl)
theorem dX1_waiting_8 : decode cX1_waiting 8 = .ok (.istore_n 3, 1) := dk_62 (dk_at dksX1_waiting_0 8 rfl rfl)
theorem dX1_waiting_9 : decode cX1_waiting 9 = .ok (.iload_n 3, 1) := dk_29 (dk_at dksX1_waiting_0 9 rfl rfl)
theorem dX1_waiting_10 : decode cX1_waiting 10 = .ok (.aload_n 1, 1) := dk_43 (dk_at dksX1_waiting_0 10 rfl rfl)
theorem dX1_waiting_11 : decode cX1_waiting 11 = .ok (.getfield 100, 3) := dk_180 0 100 (dk_at dksX1_waiting_0 11 rfl rfl)
theorem dX1_waiting_14 : decode cX1_waiting 14 = .ok (.invokeinterface 1 1, 5) := by decide +kernel
theorem dX1_waiting_19 : decode cX1_waiting 19 = .ok (.if_icmp .ge 51, 3) := dk_162 0 51 (dk_at dksX1_waiting_0 19 rfl rfl)
theorem dX1_waiting_22 : decode cX1_waiting 22 = .ok (.iload_n 2, 1) := dk_28 (dk_at dksX1_waiting_0 22 rfl rfl)
theorem dX1_waiting_23 : decode cX1_waiting 23 = .ok (.aload_n 1, 1) := dk_43 (dk_at dksX1_waiting_0 23 rfl rfl)
theorem dX1_waiting_24 : decode cX1_waiting 24 = .ok (.getfield 237, 3) := dk_180 0 237 (dk_at dksX1_waiting_1 0 rfl rfl)
theorem dX1_waiting_27 : decode cX1_waiting 27 = .ok (.iload_n 3, 1) := dk_29 (dk_at dksX1_waiting_1 3 rfl rfl)
theorem dX1_waiting_28 : decode cX1_waiting 28 = .ok (.iaload, 1) := dk_46 (dk_at dksX1_waiting_1 4 rfl rfl)
theorem dX1_waiting_29 : decode cX1_waiting 29 = .ok (.ifCond .ne 32, 3) := dk_154 0 32 (dk_at dksX1_waiting_1 5 rfl rfl)
theorem dX1_waiting_32 : decode cX1_waiting 32 = .ok (.aload_n 1, 1) := dk_43 (dk_at dksX1_waiting_1 8 rfl rfl)
theorem dX1_waiting_33 : decode cX1_waiting 33 = .ok (.getfield 100, 3) := dk_180 0 100 (dk_at dksX1_waiting_1 9 rfl rfl)
theorem dX1_waiting_36 : decode cX1_waiting 36 = .ok (.iload_n 3, 1) := dk_29 (dk_at dksX1_waiting_1 12 rfl rfl)
theorem dX1_waiting_37 : decode cX1_waiting 37 = .ok (.invokeinterface 7 2, 5) := by decide +kernel
theorem dX1_waiting_42 : decode cX1_waiting 42 = .ok (.checkcast 222, 3) := dk_192 0 222 (dk_at dksX1_waiting_1 18 rfl rfl)
theorem dX1_waiting_45 : decode cX1_waiting 45 = .ok (.getfield 227, 3) := dk_180 0 227 (dk_at dksX1_waiting_1 21 rfl rfl)
theorem dX1_waiting_48 : decode cX1_waiting 48 = .ok (.aload_n 1, 1) := dk_43 (dk_at dksX1_waiting_2 0 rfl rfl)
theorem dX1_waiting_49 : decode cX1_waiting 49 = .ok (.getfield 243, 3) := dk_180 0 243 (dk_at dksX1_waiting_2 1 rfl rfl)
theorem dX1_waiting_52 : decode cX1_waiting 52 = .ok (.if_icmp .gt 9, 3) := dk_163 0 9 (dk_at dksX1_waiting_2 4 rfl rfl)
theorem dX1_waiting_55 : decode cX1_waiting 55 = .ok (.iconst 1, 1) := dk_4 (dk_at dksX1_waiting_2 7 rfl rfl)
theorem dX1_waiting_56 : decode cX1_waiting 56 = .ok (.iload_n 3, 1) := dk_29 (dk_at dksX1_waiting_2 8 rfl rfl)
theorem dX1_waiting_57 : decode cX1_waiting 57 = .ok (.ishl, 1) := dk_120 (dk_at dksX1_waiting_2 9 rfl rfl)
theorem dX1_waiting_58 : decode cX1_waiting 58 = .ok (.goto 4, 3) := dk_167 0 4 (dk_at dksX1_waiting_2 10 rfl rfl)
theorem dX1_waiting_61 : decode cX1_waiting 61 = .ok (.iconst 0, 1) := dk_3 (dk_at dksX1_waiting_2 13 rfl rfl)
theorem dX1_waiting_62 : decode cX1_waiting 62 = .ok (.ior, 1) := dk_128 (dk_at dksX1_waiting_2 14 rfl rfl)
theorem dX1_waiting_63 : decode cX1_waiting 63 = .ok (.istore_n 2, 1) := dk_61 (dk_at dksX1_waiting_2 15 rfl rfl)
theorem dX1_waiting_64 : decode cX1_waiting 64 = .ok (.iinc 3 1, 3) := dk_132 3 1 (dk_at dksX1_waiting_2 16 rfl rfl)
theorem dX1_waiting_67 : decode cX1_waiting 67 = .ok (.goto (-58), 3) := dk_167 255 198 (dk_at dksX1_waiting_2 19 rfl rfl)
theorem dX1_waiting_70 : decode cX1_waiting 70 = .ok (.iload_n 2, 1) := dk_28 (dk_at dksX1_waiting_2 22 rfl rfl)
theorem dX1_waiting_71 : decode cX1_waiting 71 = .ok (.ireturn, 1) := dk_172 (dk_at dksX1_waiting_2 23 rfl rfl)
abbrev cX1_now : ByteArray := prog_1_method_31_code
def yX1_now : MethodName := ⟨RX1, "now", "()I"⟩
def dkwX1_now_0 : List UInt8 := [42, 182, 0, 79, 180, 0, 243, 172]
abbrev dktX1_now_0 : List UInt8 := dkwX1_now_0 ++ []
theorem dksX1_now_0 : cX1_now.data.toList.drop 0 = dktX1_now_0 := by decide +kernel
theorem dX1_now_0 : decode cX1_now 0 = .ok (.aload_n 0, 1) := dk_42 (dk_at dksX1_now_0 0 rfl rfl)
theorem dX1_now_1 : decode cX1_now 1 = .ok (.invokevirtual 79, 3) := dk_182 0 79 (dk_at dksX1_now_0 1 rfl rfl)
theorem dX1_now_4 : decode cX1_now 4 = .ok (.getfield 243, 3) := dk_180 0 243 (dk_at dksX1_now_0 4 rfl rfl)
theorem dX1_now_7 : decode cX1_now 7 = .ok (.ireturn, 1) := dk_172 (dk_at dksX1_now_0 7 rfl rfl)
abbrev cX1_pointing : ByteArray := prog_1_method_32_code
def yX1_pointing : MethodName := ⟨RX1, "pointing", "(I)I"⟩
def dkwX1_pointing_1 : List UInt8 := [180, 0, 244, 167, 0, 10, 42, 180, 0, 72, 180, 0, 246, 172]
abbrev dktX1_pointing_1 : List UInt8 := dkwX1_pointing_1 ++ []
def dkwX1_pointing_0 : List UInt8 := [42, 182, 0, 79, 87, 27, 133, 9, 10, 184, 0, 62, 184, 0, 144, 27, 154, 0, 13, 42, 180, 0, 72]
abbrev dktX1_pointing_0 : List UInt8 := dkwX1_pointing_0 ++ dktX1_pointing_1
theorem dksX1_pointing_0 : cX1_pointing.data.toList.drop 0 = dktX1_pointing_0 := by decide +kernel
theorem dksX1_pointing_1 : cX1_pointing.data.toList.drop 23 = dktX1_pointing_1 := dk_seg dksX1_pointing_0 23 rfl rfl
theorem dX1_pointing_0 : decode cX1_pointing 0 = .ok (.aload_n 0, 1) := dk_42 (dk_at dksX1_pointing_0 0 rfl rfl)
theorem dX1_pointing_1 : decode cX1_pointing 1 = .ok (.invokevirtual 79, 3) := dk_182 0 79 (dk_at dksX1_pointing_0 1 rfl rfl)
theorem dX1_pointing_4 : decode cX1_pointing 4 = .ok (.pop, 1) := dk_87 (dk_at dksX1_pointing_0 4 rfl rfl)
theorem dX1_pointing_5 : decode cX1_pointing 5 = .ok (.iload_n 1, 1) := dk_27 (dk_at dksX1_pointing_0 5 rfl rfl)
theorem dX1_pointing_6 : decode cX1_pointing 6 = .ok (.i2l, 1) := dk_133 (dk_at dksX1_pointing_0 6 rfl rfl)
theorem dX1_pointing_7 : decode cX1_pointing 7 = .ok (.lconst 0, 1) := dk_9 (dk_at dksX1_pointing_0 7 rfl rfl)
theorem dX1_pointing_8 : decode cX1_pointing 8 = .ok (.lconst 1, 1) := dk_10 (dk_at dksX1_pointing_0 8 rfl rfl)
theorem dX1_pointing_9 : decode cX1_pointing 9 = .ok (.invokestatic 62, 3) := dk_184 0 62 (dk_at dksX1_pointing_0 9 rfl rfl)
theorem dX1_pointing_12 : decode cX1_pointing 12 = .ok (.invokestatic 144, 3) := dk_184 0 144 (dk_at dksX1_pointing_0 12 rfl rfl)
theorem dX1_pointing_15 : decode cX1_pointing 15 = .ok (.iload_n 1, 1) := dk_27 (dk_at dksX1_pointing_0 15 rfl rfl)
theorem dX1_pointing_16 : decode cX1_pointing 16 = .ok (.ifCond .ne 13, 3) := dk_154 0 13 (dk_at dksX1_pointing_0 16 rfl rfl)
theorem dX1_pointing_19 : decode cX1_pointing 19 = .ok (.aload_n 0, 1) := dk_42 (dk_at dksX1_pointing_0 19 rfl rfl)
theorem dX1_pointing_20 : decode cX1_pointing 20 = .ok (.getfield 72, 3) := dk_180 0 72 (dk_at dksX1_pointing_0 20 rfl rfl)
theorem dX1_pointing_23 : decode cX1_pointing 23 = .ok (.getfield 244, 3) := dk_180 0 244 (dk_at dksX1_pointing_1 0 rfl rfl)
theorem dX1_pointing_26 : decode cX1_pointing 26 = .ok (.goto 10, 3) := dk_167 0 10 (dk_at dksX1_pointing_1 3 rfl rfl)
theorem dX1_pointing_29 : decode cX1_pointing 29 = .ok (.aload_n 0, 1) := dk_42 (dk_at dksX1_pointing_1 6 rfl rfl)
theorem dX1_pointing_30 : decode cX1_pointing 30 = .ok (.getfield 72, 3) := dk_180 0 72 (dk_at dksX1_pointing_1 7 rfl rfl)
theorem dX1_pointing_33 : decode cX1_pointing 33 = .ok (.getfield 246, 3) := dk_180 0 246 (dk_at dksX1_pointing_1 10 rfl rfl)
theorem dX1_pointing_36 : decode cX1_pointing 36 = .ok (.ireturn, 1) := dk_172 (dk_at dksX1_pointing_1 13 rfl rfl)
abbrev cX1_momentum : ByteArray := prog_1_method_33_code
def yX1_momentum : MethodName := ⟨RX1, "momentum", "()I"⟩
def dkwX1_momentum_0 : List UInt8 := [42, 182, 0, 79, 180, 0, 248, 172]
abbrev dktX1_momentum_0 : List UInt8 := dkwX1_momentum_0 ++ []
theorem dksX1_momentum_0 : cX1_momentum.data.toList.drop 0 = dktX1_momentum_0 := by decide +kernel
theorem dX1_momentum_0 : decode cX1_momentum 0 = .ok (.aload_n 0, 1) := dk_42 (dk_at dksX1_momentum_0 0 rfl rfl)
theorem dX1_momentum_1 : decode cX1_momentum 1 = .ok (.invokevirtual 79, 3) := dk_182 0 79 (dk_at dksX1_momentum_0 1 rfl rfl)
theorem dX1_momentum_4 : decode cX1_momentum 4 = .ok (.getfield 248, 3) := dk_180 0 248 (dk_at dksX1_momentum_0 4 rfl rfl)
theorem dX1_momentum_7 : decode cX1_momentum 7 = .ok (.ireturn, 1) := dk_172 (dk_at dksX1_momentum_0 7 rfl rfl)
abbrev cX1_sinceCalibration : ByteArray := prog_1_method_34_code
def yX1_sinceCalibration : MethodName := ⟨RX1, "sinceCalibration", "()I"⟩
def dkwX1_sinceCalibration_0 : List UInt8 := [42, 182, 0, 79, 180, 0, 243, 42, 180, 0, 72, 180, 0, 251, 100, 172]
abbrev dktX1_sinceCalibration_0 : List UInt8 := dkwX1_sinceCalibration_0 ++ []
theorem dksX1_sinceCalibration_0 : cX1_sinceCalibration.data.toList.drop 0 = dktX1_sinceCalibration_0 := by decide +kernel
theorem dX1_sinceCalibration_0 : decode cX1_sinceCalibration 0 = .ok (.aload_n 0, 1) := dk_42 (dk_at dksX1_sinceCalibration_0 0 rfl rfl)
theorem dX1_sinceCalibration_1 : decode cX1_sinceCalibration 1 = .ok (.invokevirtual 79, 3) := dk_182 0 79 (dk_at dksX1_sinceCalibration_0 1 rfl rfl)
theorem dX1_sinceCalibration_4 : decode cX1_sinceCalibration 4 = .ok (.getfield 243, 3) := dk_180 0 243 (dk_at dksX1_sinceCalibration_0 4 rfl rfl)
theorem dX1_sinceCalibration_7 : decode cX1_sinceCalibration 7 = .ok (.aload_n 0, 1) := dk_42 (dk_at dksX1_sinceCalibration_0 7 rfl rfl)
theorem dX1_sinceCalibration_8 : decode cX1_sinceCalibration 8 = .ok (.getfield 72, 3) := dk_180 0 72 (dk_at dksX1_sinceCalibration_0 8 rfl rfl)
theorem dX1_sinceCalibration_11 : decode cX1_sinceCalibration 11 = .ok (.getfield 251, 3) := dk_180 0 251 (dk_at dksX1_sinceCalibration_0 11 rfl rfl)
theorem dX1_sinceCalibration_14 : decode cX1_sinceCalibration 14 = .ok (.isub, 1) := dk_100 (dk_at dksX1_sinceCalibration_0 14 rfl rfl)
theorem dX1_sinceCalibration_15 : decode cX1_sinceCalibration 15 = .ok (.ireturn, 1) := dk_172 (dk_at dksX1_sinceCalibration_0 15 rfl rfl)
abbrev cX1_setting : ByteArray := prog_1_method_35_code
def yX1_setting : MethodName := ⟨RX1, "setting", "(I)I"⟩
def dkwX1_setting_5 : List UInt8 := [167, 0, 10, 42, 180, 0, 72, 180, 1, 30, 172]
abbrev dktX1_setting_5 : List UInt8 := dkwX1_setting_5 ++ []
def dkwX1_setting_4 : List UInt8 := [180, 1, 18, 167, 0, 31, 44, 180, 1, 21, 167, 0, 24, 44, 180, 1, 24, 167, 0, 17, 44, 180, 1, 27]
abbrev dktX1_setting_4 : List UInt8 := dkwX1_setting_4 ++ dktX1_setting_5
def dkwX1_setting_3 : List UInt8 := [180, 1, 9, 167, 0, 55, 44, 180, 1, 12, 167, 0, 48, 42, 180, 0, 72, 180, 1, 15, 167, 0, 38, 44]
abbrev dktX1_setting_3 : List UInt8 := dkwX1_setting_3 ++ dktX1_setting_4
def dkwX1_setting_2 : List UInt8 := [44, 180, 1, 0, 167, 0, 76, 44, 180, 1, 3, 167, 0, 69, 44, 180, 1, 6, 167, 0, 62, 44]
abbrev dktX1_setting_2 : List UInt8 := dkwX1_setting_2 ++ dktX1_setting_3
def dkwX1_setting_1 : List UInt8 := [170, 0, 0, 0, 0, 0, 128, 0, 0, 0, 0, 0, 0, 0, 9, 0, 0, 0, 55, 0, 0, 0, 62, 0, 0, 0, 69, 0, 0, 0, 76, 0, 0, 0, 83, 0, 0, 0, 90, 0, 0, 0, 100, 0, 0, 0, 107, 0, 0, 0, 114, 0, 0, 0, 121]
abbrev dktX1_setting_1 : List UInt8 := dkwX1_setting_1 ++ dktX1_setting_2
def dkwX1_setting_0 : List UInt8 := [42, 182, 0, 79, 180, 0, 83, 77, 27, 133, 9, 20, 0, 254, 184, 0, 62, 184, 0, 144, 27]
abbrev dktX1_setting_0 : List UInt8 := dkwX1_setting_0 ++ dktX1_setting_1
theorem dksX1_setting_0 : cX1_setting.data.toList.drop 0 = dktX1_setting_0 := by decide +kernel
theorem dksX1_setting_1 : cX1_setting.data.toList.drop 21 = dktX1_setting_1 := dk_seg dksX1_setting_0 21 rfl rfl
theorem dksX1_setting_2 : cX1_setting.data.toList.drop 76 = dktX1_setting_2 := dk_seg dksX1_setting_1 55 rfl rfl
theorem dksX1_setting_3 : cX1_setting.data.toList.drop 98 = dktX1_setting_3 := dk_seg dksX1_setting_2 22 rfl rfl
theorem dksX1_setting_4 : cX1_setting.data.toList.drop 122 = dktX1_setting_4 := dk_seg dksX1_setting_3 24 rfl rfl
theorem dksX1_setting_5 : cX1_setting.data.toList.drop 146 = dktX1_setting_5 := dk_seg dksX1_setting_4 24 rfl rfl
theorem dX1_setting_0 : decode cX1_setting 0 = .ok (.aload_n 0, 1) := dk_42 (dk_at dksX1_setting_0 0 rfl rfl)
theorem dX1_setting_1 : decode cX1_setting 1 = .ok (.invokevirtual 79, 3) := dk_182 0 79 (dk_at dksX1_setting_0 1 rfl rfl)
theorem dX1_setting_4 : decode cX1_setting 4 = .ok (.getfield 83, 3) := dk_180 0 83 (dk_at dksX1_setting_0 4 rfl rfl)
theorem dX1_setting_7 : decode cX1_setting 7 = .ok (.astore_n 2, 1) := dk_77 (dk_at dksX1_setting_0 7 rfl rfl)
theorem dX1_setting_8 : decode cX1_setting 8 = .ok (.iload_n 1, 1) := dk_27 (dk_at dksX1_setting_0 8 rfl rfl)
theorem dX1_setting_9 : decode cX1_setting 9 = .ok (.i2l, 1) := dk_133 (dk_at dksX1_setting_0 9 rfl rfl)
theorem dX1_setting_10 : decode cX1_setting 10 = .ok (.lconst 0, 1) := dk_9 (dk_at dksX1_setting_0 10 rfl rfl)
theorem dX1_setting_11 : decode cX1_setting 11 = .ok (.ldc2_w 254, 3) := dk_20 0 254 (dk_at dksX1_setting_0 11 rfl rfl)
theorem dX1_setting_14 : decode cX1_setting 14 = .ok (.invokestatic 62, 3) := dk_184 0 62 (dk_at dksX1_setting_0 14 rfl rfl)
theorem dX1_setting_17 : decode cX1_setting 17 = .ok (.invokestatic 144, 3) := dk_184 0 144 (dk_at dksX1_setting_0 17 rfl rfl)
theorem dX1_setting_20 : decode cX1_setting 20 = .ok (.iload_n 1, 1) := dk_27 (dk_at dksX1_setting_0 20 rfl rfl)
theorem dX1_setting_21 : decode cX1_setting 21 = .ok (.tableswitch 128 0 9 #[55, 62, 69, 76, 83, 90, 100, 107, 114, 121], 55) := by decide +kernel
theorem dX1_setting_76 : decode cX1_setting 76 = .ok (.aload_n 2, 1) := dk_44 (dk_at dksX1_setting_2 0 rfl rfl)
theorem dX1_setting_77 : decode cX1_setting 77 = .ok (.getfield 256, 3) := dk_180 1 0 (dk_at dksX1_setting_2 1 rfl rfl)
theorem dX1_setting_80 : decode cX1_setting 80 = .ok (.goto 76, 3) := dk_167 0 76 (dk_at dksX1_setting_2 4 rfl rfl)
theorem dX1_setting_83 : decode cX1_setting 83 = .ok (.aload_n 2, 1) := dk_44 (dk_at dksX1_setting_2 7 rfl rfl)
theorem dX1_setting_84 : decode cX1_setting 84 = .ok (.getfield 259, 3) := dk_180 1 3 (dk_at dksX1_setting_2 8 rfl rfl)
theorem dX1_setting_87 : decode cX1_setting 87 = .ok (.goto 69, 3) := dk_167 0 69 (dk_at dksX1_setting_2 11 rfl rfl)
theorem dX1_setting_90 : decode cX1_setting 90 = .ok (.aload_n 2, 1) := dk_44 (dk_at dksX1_setting_2 14 rfl rfl)
theorem dX1_setting_91 : decode cX1_setting 91 = .ok (.getfield 262, 3) := dk_180 1 6 (dk_at dksX1_setting_2 15 rfl rfl)
theorem dX1_setting_94 : decode cX1_setting 94 = .ok (.goto 62, 3) := dk_167 0 62 (dk_at dksX1_setting_2 18 rfl rfl)
theorem dX1_setting_97 : decode cX1_setting 97 = .ok (.aload_n 2, 1) := dk_44 (dk_at dksX1_setting_2 21 rfl rfl)
theorem dX1_setting_98 : decode cX1_setting 98 = .ok (.getfield 265, 3) := dk_180 1 9 (dk_at dksX1_setting_3 0 rfl rfl)
theorem dX1_setting_101 : decode cX1_setting 101 = .ok (.goto 55, 3) := dk_167 0 55 (dk_at dksX1_setting_3 3 rfl rfl)
theorem dX1_setting_104 : decode cX1_setting 104 = .ok (.aload_n 2, 1) := dk_44 (dk_at dksX1_setting_3 6 rfl rfl)
theorem dX1_setting_105 : decode cX1_setting 105 = .ok (.getfield 268, 3) := dk_180 1 12 (dk_at dksX1_setting_3 7 rfl rfl)
theorem dX1_setting_108 : decode cX1_setting 108 = .ok (.goto 48, 3) := dk_167 0 48 (dk_at dksX1_setting_3 10 rfl rfl)
theorem dX1_setting_111 : decode cX1_setting 111 = .ok (.aload_n 0, 1) := dk_42 (dk_at dksX1_setting_3 13 rfl rfl)
theorem dX1_setting_112 : decode cX1_setting 112 = .ok (.getfield 72, 3) := dk_180 0 72 (dk_at dksX1_setting_3 14 rfl rfl)
theorem dX1_setting_115 : decode cX1_setting 115 = .ok (.getfield 271, 3) := dk_180 1 15 (dk_at dksX1_setting_3 17 rfl rfl)
theorem dX1_setting_118 : decode cX1_setting 118 = .ok (.goto 38, 3) := dk_167 0 38 (dk_at dksX1_setting_3 20 rfl rfl)
theorem dX1_setting_121 : decode cX1_setting 121 = .ok (.aload_n 2, 1) := dk_44 (dk_at dksX1_setting_3 23 rfl rfl)
theorem dX1_setting_122 : decode cX1_setting 122 = .ok (.getfield 274, 3) := dk_180 1 18 (dk_at dksX1_setting_4 0 rfl rfl)
theorem dX1_setting_125 : decode cX1_setting 125 = .ok (.goto 31, 3) := dk_167 0 31 (dk_at dksX1_setting_4 3 rfl rfl)
theorem dX1_setting_128 : decode cX1_setting 128 = .ok (.aload_n 2, 1) := dk_44 (dk_at dksX1_setting_4 6 rfl rfl)
theorem dX1_setting_129 : decode cX1_setting 129 = .ok (.getfield 277, 3) := dk_180 1 21 (dk_at dksX1_setting_4 7 rfl rfl)
theorem dX1_setting_132 : decode cX1_setting 132 = .ok (.goto 24, 3) := dk_167 0 24 (dk_at dksX1_setting_4 10 rfl rfl)
theorem dX1_setting_135 : decode cX1_setting 135 = .ok (.aload_n 2, 1) := dk_44 (dk_at dksX1_setting_4 13 rfl rfl)
theorem dX1_setting_136 : decode cX1_setting 136 = .ok (.getfield 280, 3) := dk_180 1 24 (dk_at dksX1_setting_4 14 rfl rfl)
theorem dX1_setting_139 : decode cX1_setting 139 = .ok (.goto 17, 3) := dk_167 0 17 (dk_at dksX1_setting_4 17 rfl rfl)
theorem dX1_setting_142 : decode cX1_setting 142 = .ok (.aload_n 2, 1) := dk_44 (dk_at dksX1_setting_4 20 rfl rfl)
theorem dX1_setting_143 : decode cX1_setting 143 = .ok (.getfield 283, 3) := dk_180 1 27 (dk_at dksX1_setting_4 21 rfl rfl)
theorem dX1_setting_146 : decode cX1_setting 146 = .ok (.goto 10, 3) := dk_167 0 10 (dk_at dksX1_setting_5 0 rfl rfl)
theorem dX1_setting_149 : decode cX1_setting 149 = .ok (.aload_n 0, 1) := dk_42 (dk_at dksX1_setting_5 3 rfl rfl)
theorem dX1_setting_150 : decode cX1_setting 150 = .ok (.getfield 72, 3) := dk_180 0 72 (dk_at dksX1_setting_5 4 rfl rfl)
theorem dX1_setting_153 : decode cX1_setting 153 = .ok (.getfield 286, 3) := dk_180 1 30 (dk_at dksX1_setting_5 7 rfl rfl)
theorem dX1_setting_156 : decode cX1_setting 156 = .ok (.ireturn, 1) := dk_172 (dk_at dksX1_setting_5 10 rfl rfl)
abbrev cX1_sun : ByteArray := prog_1_method_36_code
def yX1_sun : MethodName := ⟨RX1, "sun", "(I)I"⟩
def dkwX1_sun_1 : List UInt8 := [27, 182, 1, 33, 172]
abbrev dktX1_sun_1 : List UInt8 := dkwX1_sun_1 ++ []
def dkwX1_sun_0 : List UInt8 := [42, 182, 0, 79, 87, 27, 155, 0, 7, 4, 167, 0, 4, 3, 184, 0, 144, 42, 180, 0, 72, 180, 0, 83]
abbrev dktX1_sun_0 : List UInt8 := dkwX1_sun_0 ++ dktX1_sun_1
theorem dksX1_sun_0 : cX1_sun.data.toList.drop 0 = dktX1_sun_0 := by decide +kernel
theorem dksX1_sun_1 : cX1_sun.data.toList.drop 24 = dktX1_sun_1 := dk_seg dksX1_sun_0 24 rfl rfl
theorem dX1_sun_0 : decode cX1_sun 0 = .ok (.aload_n 0, 1) := dk_42 (dk_at dksX1_sun_0 0 rfl rfl)
theorem dX1_sun_1 : decode cX1_sun 1 = .ok (.invokevirtual 79, 3) := dk_182 0 79 (dk_at dksX1_sun_0 1 rfl rfl)
theorem dX1_sun_4 : decode cX1_sun 4 = .ok (.pop, 1) := dk_87 (dk_at dksX1_sun_0 4 rfl rfl)
theorem dX1_sun_5 : decode cX1_sun 5 = .ok (.iload_n 1, 1) := dk_27 (dk_at dksX1_sun_0 5 rfl rfl)
theorem dX1_sun_6 : decode cX1_sun 6 = .ok (.ifCond .lt 7, 3) := dk_155 0 7 (dk_at dksX1_sun_0 6 rfl rfl)
theorem dX1_sun_9 : decode cX1_sun 9 = .ok (.iconst 1, 1) := dk_4 (dk_at dksX1_sun_0 9 rfl rfl)
theorem dX1_sun_10 : decode cX1_sun 10 = .ok (.goto 4, 3) := dk_167 0 4 (dk_at dksX1_sun_0 10 rfl rfl)
theorem dX1_sun_13 : decode cX1_sun 13 = .ok (.iconst 0, 1) := dk_3 (dk_at dksX1_sun_0 13 rfl rfl)
theorem dX1_sun_14 : decode cX1_sun 14 = .ok (.invokestatic 144, 3) := dk_184 0 144 (dk_at dksX1_sun_0 14 rfl rfl)
theorem dX1_sun_17 : decode cX1_sun 17 = .ok (.aload_n 0, 1) := dk_42 (dk_at dksX1_sun_0 17 rfl rfl)
theorem dX1_sun_18 : decode cX1_sun 18 = .ok (.getfield 72, 3) := dk_180 0 72 (dk_at dksX1_sun_0 18 rfl rfl)
theorem dX1_sun_21 : decode cX1_sun 21 = .ok (.getfield 83, 3) := dk_180 0 83 (dk_at dksX1_sun_0 21 rfl rfl)
theorem dX1_sun_24 : decode cX1_sun 24 = .ok (.iload_n 1, 1) := dk_27 (dk_at dksX1_sun_1 0 rfl rfl)
theorem dX1_sun_25 : decode cX1_sun 25 = .ok (.invokevirtual 289, 3) := dk_182 1 33 (dk_at dksX1_sun_1 1 rfl rfl)
theorem dX1_sun_28 : decode cX1_sun 28 = .ok (.ireturn, 1) := dk_172 (dk_at dksX1_sun_1 4 rfl rfl)
abbrev cX1_angleTo : ByteArray := prog_1_method_38_code
def yX1_angleTo : MethodName := ⟨RX1, "angleTo", "(II)I"⟩
def dkwX1_angleTo_0 : List UInt8 := [42, 182, 0, 79, 87, 27, 28, 184, 1, 50, 184, 0, 144, 42, 27, 28, 182, 1, 54, 172]
abbrev dktX1_angleTo_0 : List UInt8 := dkwX1_angleTo_0 ++ []
theorem dksX1_angleTo_0 : cX1_angleTo.data.toList.drop 0 = dktX1_angleTo_0 := by decide +kernel
theorem dX1_angleTo_0 : decode cX1_angleTo 0 = .ok (.aload_n 0, 1) := dk_42 (dk_at dksX1_angleTo_0 0 rfl rfl)
theorem dX1_angleTo_1 : decode cX1_angleTo 1 = .ok (.invokevirtual 79, 3) := dk_182 0 79 (dk_at dksX1_angleTo_0 1 rfl rfl)
theorem dX1_angleTo_4 : decode cX1_angleTo 4 = .ok (.pop, 1) := dk_87 (dk_at dksX1_angleTo_0 4 rfl rfl)
theorem dX1_angleTo_5 : decode cX1_angleTo 5 = .ok (.iload_n 1, 1) := dk_27 (dk_at dksX1_angleTo_0 5 rfl rfl)
theorem dX1_angleTo_6 : decode cX1_angleTo 6 = .ok (.iload_n 2, 1) := dk_28 (dk_at dksX1_angleTo_0 6 rfl rfl)
theorem dX1_angleTo_7 : decode cX1_angleTo 7 = .ok (.invokestatic 306, 3) := dk_184 1 50 (dk_at dksX1_angleTo_0 7 rfl rfl)
theorem dX1_angleTo_10 : decode cX1_angleTo 10 = .ok (.invokestatic 144, 3) := dk_184 0 144 (dk_at dksX1_angleTo_0 10 rfl rfl)
theorem dX1_angleTo_13 : decode cX1_angleTo 13 = .ok (.aload_n 0, 1) := dk_42 (dk_at dksX1_angleTo_0 13 rfl rfl)
theorem dX1_angleTo_14 : decode cX1_angleTo 14 = .ok (.iload_n 1, 1) := dk_27 (dk_at dksX1_angleTo_0 14 rfl rfl)
theorem dX1_angleTo_15 : decode cX1_angleTo 15 = .ok (.iload_n 2, 1) := dk_28 (dk_at dksX1_angleTo_0 15 rfl rfl)
theorem dX1_angleTo_16 : decode cX1_angleTo 16 = .ok (.invokevirtual 310, 3) := dk_182 1 54 (dk_at dksX1_angleTo_0 16 rfl rfl)
theorem dX1_angleTo_19 : decode cX1_angleTo 19 = .ok (.ireturn, 1) := dk_172 (dk_at dksX1_angleTo_0 19 rfl rfl)
abbrev cX1_isPointing : ByteArray := prog_1_method_11_code
def yX1_isPointing : MethodName := ⟨RX1, "isPointing", "(II)Z"⟩
def dkwX1_isPointing_1 : List UInt8 := [153, 0, 7, 4, 167, 0, 4, 3, 172]
abbrev dktX1_isPointing_1 : List UInt8 := dkwX1_isPointing_1 ++ []
def dkwX1_isPointing_0 : List UInt8 := [26, 133, 9, 20, 0, 103, 184, 0, 62, 153, 0, 21, 27, 133, 20, 0, 105, 20, 0, 107, 184, 0, 62]
abbrev dktX1_isPointing_0 : List UInt8 := dkwX1_isPointing_0 ++ dktX1_isPointing_1
theorem dksX1_isPointing_0 : cX1_isPointing.data.toList.drop 0 = dktX1_isPointing_0 := by decide +kernel
theorem dksX1_isPointing_1 : cX1_isPointing.data.toList.drop 23 = dktX1_isPointing_1 := dk_seg dksX1_isPointing_0 23 rfl rfl
theorem dX1_isPointing_0 : decode cX1_isPointing 0 = .ok (.iload_n 0, 1) := dk_26 (dk_at dksX1_isPointing_0 0 rfl rfl)
theorem dX1_isPointing_1 : decode cX1_isPointing 1 = .ok (.i2l, 1) := dk_133 (dk_at dksX1_isPointing_0 1 rfl rfl)
theorem dX1_isPointing_2 : decode cX1_isPointing 2 = .ok (.lconst 0, 1) := dk_9 (dk_at dksX1_isPointing_0 2 rfl rfl)
theorem dX1_isPointing_3 : decode cX1_isPointing 3 = .ok (.ldc2_w 103, 3) := dk_20 0 103 (dk_at dksX1_isPointing_0 3 rfl rfl)
theorem dX1_isPointing_6 : decode cX1_isPointing 6 = .ok (.invokestatic 62, 3) := dk_184 0 62 (dk_at dksX1_isPointing_0 6 rfl rfl)
theorem dX1_isPointing_9 : decode cX1_isPointing 9 = .ok (.ifCond .eq 21, 3) := dk_153 0 21 (dk_at dksX1_isPointing_0 9 rfl rfl)
theorem dX1_isPointing_12 : decode cX1_isPointing 12 = .ok (.iload_n 1, 1) := dk_27 (dk_at dksX1_isPointing_0 12 rfl rfl)
theorem dX1_isPointing_13 : decode cX1_isPointing 13 = .ok (.i2l, 1) := dk_133 (dk_at dksX1_isPointing_0 13 rfl rfl)
theorem dX1_isPointing_14 : decode cX1_isPointing 14 = .ok (.ldc2_w 105, 3) := dk_20 0 105 (dk_at dksX1_isPointing_0 14 rfl rfl)
theorem dX1_isPointing_17 : decode cX1_isPointing 17 = .ok (.ldc2_w 107, 3) := dk_20 0 107 (dk_at dksX1_isPointing_0 17 rfl rfl)
theorem dX1_isPointing_20 : decode cX1_isPointing 20 = .ok (.invokestatic 62, 3) := dk_184 0 62 (dk_at dksX1_isPointing_0 20 rfl rfl)
theorem dX1_isPointing_23 : decode cX1_isPointing 23 = .ok (.ifCond .eq 7, 3) := dk_153 0 7 (dk_at dksX1_isPointing_1 0 rfl rfl)
theorem dX1_isPointing_26 : decode cX1_isPointing 26 = .ok (.iconst 1, 1) := dk_4 (dk_at dksX1_isPointing_1 3 rfl rfl)
theorem dX1_isPointing_27 : decode cX1_isPointing 27 = .ok (.goto 4, 3) := dk_167 0 4 (dk_at dksX1_isPointing_1 4 rfl rfl)
theorem dX1_isPointing_30 : decode cX1_isPointing 30 = .ok (.iconst 0, 1) := dk_3 (dk_at dksX1_isPointing_1 7 rfl rfl)
theorem dX1_isPointing_31 : decode cX1_isPointing 31 = .ok (.ireturn, 1) := dk_172 (dk_at dksX1_isPointing_1 8 rfl rfl)
abbrev cX1_angle : ByteArray := prog_1_method_37_code
def yX1_angle : MethodName := ⟨RX1, "angle", "(II)I"⟩
def dkwX1_angle_1 : List UInt8 := [184, 1, 47, 172]
abbrev dktX1_angle_1 : List UInt8 := dkwX1_angle_1 ++ []
def dkwX1_angle_0 : List UInt8 := [27, 42, 180, 0, 72, 180, 0, 244, 184, 1, 36, 28, 42, 180, 0, 72, 180, 0, 246, 100, 184, 1, 42]
abbrev dktX1_angle_0 : List UInt8 := dkwX1_angle_0 ++ dktX1_angle_1
theorem dksX1_angle_0 : cX1_angle.data.toList.drop 0 = dktX1_angle_0 := by decide +kernel
theorem dksX1_angle_1 : cX1_angle.data.toList.drop 23 = dktX1_angle_1 := dk_seg dksX1_angle_0 23 rfl rfl
theorem dX1_angle_0 : decode cX1_angle 0 = .ok (.iload_n 1, 1) := dk_27 (dk_at dksX1_angle_0 0 rfl rfl)
theorem dX1_angle_1 : decode cX1_angle 1 = .ok (.aload_n 0, 1) := dk_42 (dk_at dksX1_angle_0 1 rfl rfl)
theorem dX1_angle_2 : decode cX1_angle 2 = .ok (.getfield 72, 3) := dk_180 0 72 (dk_at dksX1_angle_0 2 rfl rfl)
theorem dX1_angle_5 : decode cX1_angle 5 = .ok (.getfield 244, 3) := dk_180 0 244 (dk_at dksX1_angle_0 5 rfl rfl)
theorem dX1_angle_8 : decode cX1_angle 8 = .ok (.invokestatic 292, 3) := dk_184 1 36 (dk_at dksX1_angle_0 8 rfl rfl)
theorem dX1_angle_11 : decode cX1_angle 11 = .ok (.iload_n 2, 1) := dk_28 (dk_at dksX1_angle_0 11 rfl rfl)
theorem dX1_angle_12 : decode cX1_angle 12 = .ok (.aload_n 0, 1) := dk_42 (dk_at dksX1_angle_0 12 rfl rfl)
theorem dX1_angle_13 : decode cX1_angle 13 = .ok (.getfield 72, 3) := dk_180 0 72 (dk_at dksX1_angle_0 13 rfl rfl)
theorem dX1_angle_16 : decode cX1_angle 16 = .ok (.getfield 246, 3) := dk_180 0 246 (dk_at dksX1_angle_0 16 rfl rfl)
theorem dX1_angle_19 : decode cX1_angle 19 = .ok (.isub, 1) := dk_100 (dk_at dksX1_angle_0 19 rfl rfl)
theorem dX1_angle_20 : decode cX1_angle 20 = .ok (.invokestatic 298, 3) := dk_184 1 42 (dk_at dksX1_angle_0 20 rfl rfl)
theorem dX1_angle_23 : decode cX1_angle 23 = .ok (.invokestatic 303, 3) := dk_184 1 47 (dk_at dksX1_angle_1 0 rfl rfl)
theorem dX1_angle_26 : decode cX1_angle 26 = .ok (.ireturn, 1) := dk_172 (dk_at dksX1_angle_1 3 rfl rfl)
abbrev cX1_slewTo : ByteArray := prog_1_method_39_code
def yX1_slewTo : MethodName := ⟨RX1, "slewTo", "(II)I"⟩
def dkwX1_slewTo_1 : List UInt8 := [182, 1, 54, 182, 1, 57, 172]
abbrev dktX1_slewTo_1 : List UInt8 := dkwX1_slewTo_1 ++ []
def dkwX1_slewTo_0 : List UInt8 := [42, 182, 0, 79, 87, 27, 28, 184, 1, 50, 184, 0, 144, 42, 180, 0, 72, 180, 0, 83, 42, 27, 28]
abbrev dktX1_slewTo_0 : List UInt8 := dkwX1_slewTo_0 ++ dktX1_slewTo_1
theorem dksX1_slewTo_0 : cX1_slewTo.data.toList.drop 0 = dktX1_slewTo_0 := by decide +kernel
theorem dksX1_slewTo_1 : cX1_slewTo.data.toList.drop 23 = dktX1_slewTo_1 := dk_seg dksX1_slewTo_0 23 rfl rfl
theorem dX1_slewTo_0 : decode cX1_slewTo 0 = .ok (.aload_n 0, 1) := dk_42 (dk_at dksX1_slewTo_0 0 rfl rfl)
theorem dX1_slewTo_1 : decode cX1_slewTo 1 = .ok (.invokevirtual 79, 3) := dk_182 0 79 (dk_at dksX1_slewTo_0 1 rfl rfl)
theorem dX1_slewTo_4 : decode cX1_slewTo 4 = .ok (.pop, 1) := dk_87 (dk_at dksX1_slewTo_0 4 rfl rfl)
theorem dX1_slewTo_5 : decode cX1_slewTo 5 = .ok (.iload_n 1, 1) := dk_27 (dk_at dksX1_slewTo_0 5 rfl rfl)
theorem dX1_slewTo_6 : decode cX1_slewTo 6 = .ok (.iload_n 2, 1) := dk_28 (dk_at dksX1_slewTo_0 6 rfl rfl)
theorem dX1_slewTo_7 : decode cX1_slewTo 7 = .ok (.invokestatic 306, 3) := dk_184 1 50 (dk_at dksX1_slewTo_0 7 rfl rfl)
theorem dX1_slewTo_10 : decode cX1_slewTo 10 = .ok (.invokestatic 144, 3) := dk_184 0 144 (dk_at dksX1_slewTo_0 10 rfl rfl)
theorem dX1_slewTo_13 : decode cX1_slewTo 13 = .ok (.aload_n 0, 1) := dk_42 (dk_at dksX1_slewTo_0 13 rfl rfl)
theorem dX1_slewTo_14 : decode cX1_slewTo 14 = .ok (.getfield 72, 3) := dk_180 0 72 (dk_at dksX1_slewTo_0 14 rfl rfl)
theorem dX1_slewTo_17 : decode cX1_slewTo 17 = .ok (.getfield 83, 3) := dk_180 0 83 (dk_at dksX1_slewTo_0 17 rfl rfl)
theorem dX1_slewTo_20 : decode cX1_slewTo 20 = .ok (.aload_n 0, 1) := dk_42 (dk_at dksX1_slewTo_0 20 rfl rfl)
theorem dX1_slewTo_21 : decode cX1_slewTo 21 = .ok (.iload_n 1, 1) := dk_27 (dk_at dksX1_slewTo_0 21 rfl rfl)
theorem dX1_slewTo_22 : decode cX1_slewTo 22 = .ok (.iload_n 2, 1) := dk_28 (dk_at dksX1_slewTo_0 22 rfl rfl)
theorem dX1_slewTo_23 : decode cX1_slewTo 23 = .ok (.invokevirtual 310, 3) := dk_182 1 54 (dk_at dksX1_slewTo_1 0 rfl rfl)
theorem dX1_slewTo_26 : decode cX1_slewTo 26 = .ok (.invokevirtual 313, 3) := dk_182 1 57 (dk_at dksX1_slewTo_1 3 rfl rfl)
theorem dX1_slewTo_29 : decode cX1_slewTo 29 = .ok (.ireturn, 1) := dk_172 (dk_at dksX1_slewTo_1 6 rfl rfl)
abbrev cX1_isVisible : ByteArray := prog_1_method_40_code
def yX1_isVisible : MethodName := ⟨RX1, "isVisible", "(II)Z"⟩
def dkwX1_isVisible_1 : List UInt8 := [184, 0, 144, 42, 180, 0, 72, 180, 0, 83, 27, 28, 182, 1, 60, 172]
abbrev dktX1_isVisible_1 : List UInt8 := dkwX1_isVisible_1 ++ []
def dkwX1_isVisible_0 : List UInt8 := [42, 182, 0, 79, 87, 27, 3, 184, 1, 50, 153, 0, 11, 28, 155, 0, 7, 4, 167, 0, 4, 3]
abbrev dktX1_isVisible_0 : List UInt8 := dkwX1_isVisible_0 ++ dktX1_isVisible_1
theorem dksX1_isVisible_0 : cX1_isVisible.data.toList.drop 0 = dktX1_isVisible_0 := by decide +kernel
theorem dksX1_isVisible_1 : cX1_isVisible.data.toList.drop 22 = dktX1_isVisible_1 := dk_seg dksX1_isVisible_0 22 rfl rfl
theorem dX1_isVisible_0 : decode cX1_isVisible 0 = .ok (.aload_n 0, 1) := dk_42 (dk_at dksX1_isVisible_0 0 rfl rfl)
theorem dX1_isVisible_1 : decode cX1_isVisible 1 = .ok (.invokevirtual 79, 3) := dk_182 0 79 (dk_at dksX1_isVisible_0 1 rfl rfl)
theorem dX1_isVisible_4 : decode cX1_isVisible 4 = .ok (.pop, 1) := dk_87 (dk_at dksX1_isVisible_0 4 rfl rfl)
theorem dX1_isVisible_5 : decode cX1_isVisible 5 = .ok (.iload_n 1, 1) := dk_27 (dk_at dksX1_isVisible_0 5 rfl rfl)
theorem dX1_isVisible_6 : decode cX1_isVisible 6 = .ok (.iconst 0, 1) := dk_3 (dk_at dksX1_isVisible_0 6 rfl rfl)
theorem dX1_isVisible_7 : decode cX1_isVisible 7 = .ok (.invokestatic 306, 3) := dk_184 1 50 (dk_at dksX1_isVisible_0 7 rfl rfl)
theorem dX1_isVisible_10 : decode cX1_isVisible 10 = .ok (.ifCond .eq 11, 3) := dk_153 0 11 (dk_at dksX1_isVisible_0 10 rfl rfl)
theorem dX1_isVisible_13 : decode cX1_isVisible 13 = .ok (.iload_n 2, 1) := dk_28 (dk_at dksX1_isVisible_0 13 rfl rfl)
theorem dX1_isVisible_14 : decode cX1_isVisible 14 = .ok (.ifCond .lt 7, 3) := dk_155 0 7 (dk_at dksX1_isVisible_0 14 rfl rfl)
theorem dX1_isVisible_17 : decode cX1_isVisible 17 = .ok (.iconst 1, 1) := dk_4 (dk_at dksX1_isVisible_0 17 rfl rfl)
theorem dX1_isVisible_18 : decode cX1_isVisible 18 = .ok (.goto 4, 3) := dk_167 0 4 (dk_at dksX1_isVisible_0 18 rfl rfl)
theorem dX1_isVisible_21 : decode cX1_isVisible 21 = .ok (.iconst 0, 1) := dk_3 (dk_at dksX1_isVisible_0 21 rfl rfl)
theorem dX1_isVisible_22 : decode cX1_isVisible 22 = .ok (.invokestatic 144, 3) := dk_184 0 144 (dk_at dksX1_isVisible_1 0 rfl rfl)
theorem dX1_isVisible_25 : decode cX1_isVisible 25 = .ok (.aload_n 0, 1) := dk_42 (dk_at dksX1_isVisible_1 3 rfl rfl)
theorem dX1_isVisible_26 : decode cX1_isVisible 26 = .ok (.getfield 72, 3) := dk_180 0 72 (dk_at dksX1_isVisible_1 4 rfl rfl)
theorem dX1_isVisible_29 : decode cX1_isVisible 29 = .ok (.getfield 83, 3) := dk_180 0 83 (dk_at dksX1_isVisible_1 7 rfl rfl)
theorem dX1_isVisible_32 : decode cX1_isVisible 32 = .ok (.iload_n 1, 1) := dk_27 (dk_at dksX1_isVisible_1 10 rfl rfl)
theorem dX1_isVisible_33 : decode cX1_isVisible 33 = .ok (.iload_n 2, 1) := dk_28 (dk_at dksX1_isVisible_1 11 rfl rfl)
theorem dX1_isVisible_34 : decode cX1_isVisible 34 = .ok (.invokevirtual 316, 3) := dk_182 1 60 (dk_at dksX1_isVisible_1 12 rfl rfl)
theorem dX1_isVisible_37 : decode cX1_isVisible 37 = .ok (.ireturn, 1) := dk_172 (dk_at dksX1_isVisible_1 15 rfl rfl)
abbrev cX1_nextVisible : ByteArray := prog_1_method_41_code
def yX1_nextVisible : MethodName := ⟨RX1, "nextVisible", "(II)I"⟩
def dkwX1_nextVisible_3 : List UInt8 := [153, 0, 5, 29, 172, 132, 3, 1, 167, 255, 222, 2, 172]
abbrev dktX1_nextVisible_3 : List UInt8 := dkwX1_nextVisible_3 ++ []
def dkwX1_nextVisible_2 : List UInt8 := [180, 0, 72, 180, 0, 83, 180, 1, 0, 163, 0, 26, 42, 180, 0, 72, 180, 0, 83, 27, 29, 182, 1, 60]
abbrev dktX1_nextVisible_2 : List UInt8 := dkwX1_nextVisible_2 ++ dktX1_nextVisible_3
def dkwX1_nextVisible_1 : List UInt8 := [180, 1, 0, 133, 184, 0, 62, 153, 0, 7, 4, 167, 0, 4, 3, 184, 0, 144, 28, 62, 29, 42]
abbrev dktX1_nextVisible_1 : List UInt8 := dkwX1_nextVisible_1 ++ dktX1_nextVisible_2
def dkwX1_nextVisible_0 : List UInt8 := [42, 182, 0, 79, 87, 27, 3, 184, 1, 50, 153, 0, 27, 28, 133, 9, 42, 180, 0, 72, 180, 0, 83]
abbrev dktX1_nextVisible_0 : List UInt8 := dkwX1_nextVisible_0 ++ dktX1_nextVisible_1
theorem dksX1_nextVisible_0 : cX1_nextVisible.data.toList.drop 0 = dktX1_nextVisible_0 := by decide +kernel
theorem dksX1_nextVisible_1 : cX1_nextVisible.data.toList.drop 23 = dktX1_nextVisible_1 := dk_seg dksX1_nextVisible_0 23 rfl rfl
theorem dksX1_nextVisible_2 : cX1_nextVisible.data.toList.drop 45 = dktX1_nextVisible_2 := dk_seg dksX1_nextVisible_1 22 rfl rfl
theorem dksX1_nextVisible_3 : cX1_nextVisible.data.toList.drop 69 = dktX1_nextVisible_3 := dk_seg dksX1_nextVisible_2 24 rfl rfl
theorem dX1_nextVisible_0 : decode cX1_nextVisible 0 = .ok (.aload_n 0, 1) := dk_42 (dk_at dksX1_nextVisible_0 0 rfl rfl)
theorem dX1_nextVisible_1 : decode cX1_nextVisible 1 = .ok (.invokevirtual 79, 3) := dk_182 0 79 (dk_at dksX1_nextVisible_0 1 rfl rfl)
theorem dX1_nextVisible_4 : decode cX1_nextVisible 4 = .ok (.pop, 1) := dk_87 (dk_at dksX1_nextVisible_0 4 rfl rfl)
theorem dX1_nextVisible_5 : decode cX1_nextVisible 5 = .ok (.iload_n 1, 1) := dk_27 (dk_at dksX1_nextVisible_0 5 rfl rfl)
theorem dX1_nextVisible_6 : decode cX1_nextVisible 6 = .ok (.iconst 0, 1) := dk_3 (dk_at dksX1_nextVisible_0 6 rfl rfl)
theorem dX1_nextVisible_7 : decode cX1_nextVisible 7 = .ok (.invokestatic 306, 3) := dk_184 1 50 (dk_at dksX1_nextVisible_0 7 rfl rfl)
theorem dX1_nextVisible_10 : decode cX1_nextVisible 10 = .ok (.ifCond .eq 27, 3) := dk_153 0 27 (dk_at dksX1_nextVisible_0 10 rfl rfl)
theorem dX1_nextVisible_13 : decode cX1_nextVisible 13 = .ok (.iload_n 2, 1) := dk_28 (dk_at dksX1_nextVisible_0 13 rfl rfl)
theorem dX1_nextVisible_14 : decode cX1_nextVisible 14 = .ok (.i2l, 1) := dk_133 (dk_at dksX1_nextVisible_0 14 rfl rfl)
theorem dX1_nextVisible_15 : decode cX1_nextVisible 15 = .ok (.lconst 0, 1) := dk_9 (dk_at dksX1_nextVisible_0 15 rfl rfl)
theorem dX1_nextVisible_16 : decode cX1_nextVisible 16 = .ok (.aload_n 0, 1) := dk_42 (dk_at dksX1_nextVisible_0 16 rfl rfl)
theorem dX1_nextVisible_17 : decode cX1_nextVisible 17 = .ok (.getfield 72, 3) := dk_180 0 72 (dk_at dksX1_nextVisible_0 17 rfl rfl)
theorem dX1_nextVisible_20 : decode cX1_nextVisible 20 = .ok (.getfield 83, 3) := dk_180 0 83 (dk_at dksX1_nextVisible_0 20 rfl rfl)
theorem dX1_nextVisible_23 : decode cX1_nextVisible 23 = .ok (.getfield 256, 3) := dk_180 1 0 (dk_at dksX1_nextVisible_1 0 rfl rfl)
theorem dX1_nextVisible_26 : decode cX1_nextVisible 26 = .ok (.i2l, 1) := dk_133 (dk_at dksX1_nextVisible_1 3 rfl rfl)
theorem dX1_nextVisible_27 : decode cX1_nextVisible 27 = .ok (.invokestatic 62, 3) := dk_184 0 62 (dk_at dksX1_nextVisible_1 4 rfl rfl)
theorem dX1_nextVisible_30 : decode cX1_nextVisible 30 = .ok (.ifCond .eq 7, 3) := dk_153 0 7 (dk_at dksX1_nextVisible_1 7 rfl rfl)
theorem dX1_nextVisible_33 : decode cX1_nextVisible 33 = .ok (.iconst 1, 1) := dk_4 (dk_at dksX1_nextVisible_1 10 rfl rfl)
theorem dX1_nextVisible_34 : decode cX1_nextVisible 34 = .ok (.goto 4, 3) := dk_167 0 4 (dk_at dksX1_nextVisible_1 11 rfl rfl)
theorem dX1_nextVisible_37 : decode cX1_nextVisible 37 = .ok (.iconst 0, 1) := dk_3 (dk_at dksX1_nextVisible_1 14 rfl rfl)
theorem dX1_nextVisible_38 : decode cX1_nextVisible 38 = .ok (.invokestatic 144, 3) := dk_184 0 144 (dk_at dksX1_nextVisible_1 15 rfl rfl)
theorem dX1_nextVisible_41 : decode cX1_nextVisible 41 = .ok (.iload_n 2, 1) := dk_28 (dk_at dksX1_nextVisible_1 18 rfl rfl)
theorem dX1_nextVisible_42 : decode cX1_nextVisible 42 = .ok (.istore_n 3, 1) := dk_62 (dk_at dksX1_nextVisible_1 19 rfl rfl)
theorem dX1_nextVisible_43 : decode cX1_nextVisible 43 = .ok (.iload_n 3, 1) := dk_29 (dk_at dksX1_nextVisible_1 20 rfl rfl)
theorem dX1_nextVisible_44 : decode cX1_nextVisible 44 = .ok (.aload_n 0, 1) := dk_42 (dk_at dksX1_nextVisible_1 21 rfl rfl)
theorem dX1_nextVisible_45 : decode cX1_nextVisible 45 = .ok (.getfield 72, 3) := dk_180 0 72 (dk_at dksX1_nextVisible_2 0 rfl rfl)
theorem dX1_nextVisible_48 : decode cX1_nextVisible 48 = .ok (.getfield 83, 3) := dk_180 0 83 (dk_at dksX1_nextVisible_2 3 rfl rfl)
theorem dX1_nextVisible_51 : decode cX1_nextVisible 51 = .ok (.getfield 256, 3) := dk_180 1 0 (dk_at dksX1_nextVisible_2 6 rfl rfl)
theorem dX1_nextVisible_54 : decode cX1_nextVisible 54 = .ok (.if_icmp .gt 26, 3) := dk_163 0 26 (dk_at dksX1_nextVisible_2 9 rfl rfl)
theorem dX1_nextVisible_57 : decode cX1_nextVisible 57 = .ok (.aload_n 0, 1) := dk_42 (dk_at dksX1_nextVisible_2 12 rfl rfl)
theorem dX1_nextVisible_58 : decode cX1_nextVisible 58 = .ok (.getfield 72, 3) := dk_180 0 72 (dk_at dksX1_nextVisible_2 13 rfl rfl)
theorem dX1_nextVisible_61 : decode cX1_nextVisible 61 = .ok (.getfield 83, 3) := dk_180 0 83 (dk_at dksX1_nextVisible_2 16 rfl rfl)
theorem dX1_nextVisible_64 : decode cX1_nextVisible 64 = .ok (.iload_n 1, 1) := dk_27 (dk_at dksX1_nextVisible_2 19 rfl rfl)
theorem dX1_nextVisible_65 : decode cX1_nextVisible 65 = .ok (.iload_n 3, 1) := dk_29 (dk_at dksX1_nextVisible_2 20 rfl rfl)
theorem dX1_nextVisible_66 : decode cX1_nextVisible 66 = .ok (.invokevirtual 316, 3) := dk_182 1 60 (dk_at dksX1_nextVisible_2 21 rfl rfl)
theorem dX1_nextVisible_69 : decode cX1_nextVisible 69 = .ok (.ifCond .eq 5, 3) := dk_153 0 5 (dk_at dksX1_nextVisible_3 0 rfl rfl)
theorem dX1_nextVisible_72 : decode cX1_nextVisible 72 = .ok (.iload_n 3, 1) := dk_29 (dk_at dksX1_nextVisible_3 3 rfl rfl)
theorem dX1_nextVisible_73 : decode cX1_nextVisible 73 = .ok (.ireturn, 1) := dk_172 (dk_at dksX1_nextVisible_3 4 rfl rfl)
theorem dX1_nextVisible_74 : decode cX1_nextVisible 74 = .ok (.iinc 3 1, 3) := dk_132 3 1 (dk_at dksX1_nextVisible_3 5 rfl rfl)
theorem dX1_nextVisible_77 : decode cX1_nextVisible 77 = .ok (.goto (-34), 3) := dk_167 255 222 (dk_at dksX1_nextVisible_3 8 rfl rfl)
theorem dX1_nextVisible_80 : decode cX1_nextVisible 80 = .ok (.iconst (-1), 1) := dk_2 (dk_at dksX1_nextVisible_3 11 rfl rfl)
theorem dX1_nextVisible_81 : decode cX1_nextVisible 81 = .ok (.ireturn, 1) := dk_172 (dk_at dksX1_nextVisible_3 12 rfl rfl)
abbrev cX1_growth : ByteArray := prog_1_method_42_code
def yX1_growth : MethodName := ⟨RX1, "growth", "(I)I"⟩
def dkwX1_growth_0 : List UInt8 := [42, 27, 182, 0, 186, 27, 182, 1, 63, 180, 1, 67, 172]
abbrev dktX1_growth_0 : List UInt8 := dkwX1_growth_0 ++ []
theorem dksX1_growth_0 : cX1_growth.data.toList.drop 0 = dktX1_growth_0 := by decide +kernel
theorem dX1_growth_0 : decode cX1_growth 0 = .ok (.aload_n 0, 1) := dk_42 (dk_at dksX1_growth_0 0 rfl rfl)
theorem dX1_growth_1 : decode cX1_growth 1 = .ok (.iload_n 1, 1) := dk_27 (dk_at dksX1_growth_0 1 rfl rfl)
theorem dX1_growth_2 : decode cX1_growth 2 = .ok (.invokevirtual 186, 3) := dk_182 0 186 (dk_at dksX1_growth_0 2 rfl rfl)
theorem dX1_growth_5 : decode cX1_growth 5 = .ok (.iload_n 1, 1) := dk_27 (dk_at dksX1_growth_0 5 rfl rfl)
theorem dX1_growth_6 : decode cX1_growth 6 = .ok (.invokevirtual 319, 3) := dk_182 1 63 (dk_at dksX1_growth_0 6 rfl rfl)
theorem dX1_growth_9 : decode cX1_growth 9 = .ok (.getfield 323, 3) := dk_180 1 67 (dk_at dksX1_growth_0 9 rfl rfl)
theorem dX1_growth_12 : decode cX1_growth 12 = .ok (.ireturn, 1) := dk_172 (dk_at dksX1_growth_0 12 rfl rfl)
abbrev cX1_needsDump : ByteArray := prog_1_method_43_code
def yX1_needsDump : MethodName := ⟨RX1, "needsDump", "(I)Z"⟩
def dkwX1_needsDump_0 : List UInt8 := [42, 27, 182, 0, 186, 27, 182, 1, 63, 180, 1, 72, 158, 0, 7, 4, 167, 0, 4, 3, 172]
abbrev dktX1_needsDump_0 : List UInt8 := dkwX1_needsDump_0 ++ []
theorem dksX1_needsDump_0 : cX1_needsDump.data.toList.drop 0 = dktX1_needsDump_0 := by decide +kernel
theorem dX1_needsDump_0 : decode cX1_needsDump 0 = .ok (.aload_n 0, 1) := dk_42 (dk_at dksX1_needsDump_0 0 rfl rfl)
theorem dX1_needsDump_1 : decode cX1_needsDump 1 = .ok (.iload_n 1, 1) := dk_27 (dk_at dksX1_needsDump_0 1 rfl rfl)
theorem dX1_needsDump_2 : decode cX1_needsDump 2 = .ok (.invokevirtual 186, 3) := dk_182 0 186 (dk_at dksX1_needsDump_0 2 rfl rfl)
theorem dX1_needsDump_5 : decode cX1_needsDump 5 = .ok (.iload_n 1, 1) := dk_27 (dk_at dksX1_needsDump_0 5 rfl rfl)
theorem dX1_needsDump_6 : decode cX1_needsDump 6 = .ok (.invokevirtual 319, 3) := dk_182 1 63 (dk_at dksX1_needsDump_0 6 rfl rfl)
theorem dX1_needsDump_9 : decode cX1_needsDump 9 = .ok (.getfield 328, 3) := dk_180 1 72 (dk_at dksX1_needsDump_0 9 rfl rfl)
theorem dX1_needsDump_12 : decode cX1_needsDump 12 = .ok (.ifCond .le 7, 3) := dk_158 0 7 (dk_at dksX1_needsDump_0 12 rfl rfl)
theorem dX1_needsDump_15 : decode cX1_needsDump 15 = .ok (.iconst 1, 1) := dk_4 (dk_at dksX1_needsDump_0 15 rfl rfl)
theorem dX1_needsDump_16 : decode cX1_needsDump 16 = .ok (.goto 4, 3) := dk_167 0 4 (dk_at dksX1_needsDump_0 16 rfl rfl)
theorem dX1_needsDump_19 : decode cX1_needsDump 19 = .ok (.iconst 0, 1) := dk_3 (dk_at dksX1_needsDump_0 19 rfl rfl)
theorem dX1_needsDump_20 : decode cX1_needsDump 20 = .ok (.ireturn, 1) := dk_172 (dk_at dksX1_needsDump_0 20 rfl rfl)
abbrev cX1_startIf : ByteArray := prog_1_method_44_code
def yX1_startIf : MethodName := ⟨RX1, "startIf", "(I)I"⟩
def dkwX1_startIf_0 : List UInt8 := [42, 27, 182, 0, 186, 27, 182, 1, 63, 180, 1, 73, 172]
abbrev dktX1_startIf_0 : List UInt8 := dkwX1_startIf_0 ++ []
theorem dksX1_startIf_0 : cX1_startIf.data.toList.drop 0 = dktX1_startIf_0 := by decide +kernel
theorem dX1_startIf_0 : decode cX1_startIf 0 = .ok (.aload_n 0, 1) := dk_42 (dk_at dksX1_startIf_0 0 rfl rfl)
theorem dX1_startIf_1 : decode cX1_startIf 1 = .ok (.iload_n 1, 1) := dk_27 (dk_at dksX1_startIf_0 1 rfl rfl)
theorem dX1_startIf_2 : decode cX1_startIf 2 = .ok (.invokevirtual 186, 3) := dk_182 0 186 (dk_at dksX1_startIf_0 2 rfl rfl)
theorem dX1_startIf_5 : decode cX1_startIf 5 = .ok (.iload_n 1, 1) := dk_27 (dk_at dksX1_startIf_0 5 rfl rfl)
theorem dX1_startIf_6 : decode cX1_startIf 6 = .ok (.invokevirtual 319, 3) := dk_182 1 63 (dk_at dksX1_startIf_0 6 rfl rfl)
theorem dX1_startIf_9 : decode cX1_startIf 9 = .ok (.getfield 329, 3) := dk_180 1 73 (dk_at dksX1_startIf_0 9 rfl rfl)
theorem dX1_startIf_12 : decode cX1_startIf 12 = .ok (.ireturn, 1) := dk_172 (dk_at dksX1_startIf_0 12 rfl rfl)
abbrev cX1_reason : ByteArray := prog_1_method_45_code
def yX1_reason : MethodName := ⟨RX1, "reason", "(I)I"⟩
def dkwX1_reason_0 : List UInt8 := [42, 27, 182, 0, 186, 27, 182, 1, 63, 180, 1, 76, 172]
abbrev dktX1_reason_0 : List UInt8 := dkwX1_reason_0 ++ []
theorem dksX1_reason_0 : cX1_reason.data.toList.drop 0 = dktX1_reason_0 := by decide +kernel
theorem dX1_reason_0 : decode cX1_reason 0 = .ok (.aload_n 0, 1) := dk_42 (dk_at dksX1_reason_0 0 rfl rfl)
theorem dX1_reason_1 : decode cX1_reason 1 = .ok (.iload_n 1, 1) := dk_27 (dk_at dksX1_reason_0 1 rfl rfl)
theorem dX1_reason_2 : decode cX1_reason 2 = .ok (.invokevirtual 186, 3) := dk_182 0 186 (dk_at dksX1_reason_0 2 rfl rfl)
theorem dX1_reason_5 : decode cX1_reason 5 = .ok (.iload_n 1, 1) := dk_27 (dk_at dksX1_reason_0 5 rfl rfl)
theorem dX1_reason_6 : decode cX1_reason 6 = .ok (.invokevirtual 319, 3) := dk_182 1 63 (dk_at dksX1_reason_0 6 rfl rfl)
theorem dX1_reason_9 : decode cX1_reason 9 = .ok (.getfield 332, 3) := dk_180 1 76 (dk_at dksX1_reason_0 9 rfl rfl)
theorem dX1_reason_12 : decode cX1_reason 12 = .ok (.ireturn, 1) := dk_172 (dk_at dksX1_reason_0 12 rfl rfl)
abbrev cX1_chosen : ByteArray := prog_1_method_46_code
def yX1_chosen : MethodName := ⟨RX1, "chosen", "()I"⟩
def dkwX1_chosen_0 : List UInt8 := [42, 182, 0, 79, 182, 1, 79, 172]
abbrev dktX1_chosen_0 : List UInt8 := dkwX1_chosen_0 ++ []
theorem dksX1_chosen_0 : cX1_chosen.data.toList.drop 0 = dktX1_chosen_0 := by decide +kernel
theorem dX1_chosen_0 : decode cX1_chosen 0 = .ok (.aload_n 0, 1) := dk_42 (dk_at dksX1_chosen_0 0 rfl rfl)
theorem dX1_chosen_1 : decode cX1_chosen 1 = .ok (.invokevirtual 79, 3) := dk_182 0 79 (dk_at dksX1_chosen_0 1 rfl rfl)
theorem dX1_chosen_4 : decode cX1_chosen 4 = .ok (.invokevirtual 335, 3) := dk_182 1 79 (dk_at dksX1_chosen_0 4 rfl rfl)
theorem dX1_chosen_7 : decode cX1_chosen 7 = .ok (.ireturn, 1) := dk_172 (dk_at dksX1_chosen_0 7 rfl rfl)
abbrev cX1_nextKind : ByteArray := prog_1_method_47_code
def yX1_nextKind : MethodName := ⟨RX1, "nextKind", "()I"⟩
def dkwX1_nextKind_0 : List UInt8 := [42, 182, 0, 79, 182, 1, 82, 172]
abbrev dktX1_nextKind_0 : List UInt8 := dkwX1_nextKind_0 ++ []
theorem dksX1_nextKind_0 : cX1_nextKind.data.toList.drop 0 = dktX1_nextKind_0 := by decide +kernel
theorem dX1_nextKind_0 : decode cX1_nextKind 0 = .ok (.aload_n 0, 1) := dk_42 (dk_at dksX1_nextKind_0 0 rfl rfl)
theorem dX1_nextKind_1 : decode cX1_nextKind 1 = .ok (.invokevirtual 79, 3) := dk_182 0 79 (dk_at dksX1_nextKind_0 1 rfl rfl)
theorem dX1_nextKind_4 : decode cX1_nextKind 4 = .ok (.invokevirtual 338, 3) := dk_182 1 82 (dk_at dksX1_nextKind_0 4 rfl rfl)
theorem dX1_nextKind_7 : decode cX1_nextKind 7 = .ok (.ireturn, 1) := dk_172 (dk_at dksX1_nextKind_0 7 rfl rfl)
abbrev cX1_interrupting : ByteArray := prog_1_method_48_code
def yX1_interrupting : MethodName := ⟨RX1, "interrupting", "(I)I"⟩
def dkwX1_interrupting_1 : List UInt8 := [182, 1, 89, 172]
abbrev dktX1_interrupting_1 : List UInt8 := dkwX1_interrupting_1 ++ []
def dkwX1_interrupting_0 : List UInt8 := [42, 27, 182, 0, 186, 27, 182, 1, 63, 77, 44, 182, 1, 85, 184, 0, 144, 42, 180, 0, 72, 44]
abbrev dktX1_interrupting_0 : List UInt8 := dkwX1_interrupting_0 ++ dktX1_interrupting_1
theorem dksX1_interrupting_0 : cX1_interrupting.data.toList.drop 0 = dktX1_interrupting_0 := by decide +kernel
theorem dksX1_interrupting_1 : cX1_interrupting.data.toList.drop 22 = dktX1_interrupting_1 := dk_seg dksX1_interrupting_0 22 rfl rfl
theorem dX1_interrupting_0 : decode cX1_interrupting 0 = .ok (.aload_n 0, 1) := dk_42 (dk_at dksX1_interrupting_0 0 rfl rfl)
theorem dX1_interrupting_1 : decode cX1_interrupting 1 = .ok (.iload_n 1, 1) := dk_27 (dk_at dksX1_interrupting_0 1 rfl rfl)
theorem dX1_interrupting_2 : decode cX1_interrupting 2 = .ok (.invokevirtual 186, 3) := dk_182 0 186 (dk_at dksX1_interrupting_0 2 rfl rfl)
theorem dX1_interrupting_5 : decode cX1_interrupting 5 = .ok (.iload_n 1, 1) := dk_27 (dk_at dksX1_interrupting_0 5 rfl rfl)
theorem dX1_interrupting_6 : decode cX1_interrupting 6 = .ok (.invokevirtual 319, 3) := dk_182 1 63 (dk_at dksX1_interrupting_0 6 rfl rfl)
theorem dX1_interrupting_9 : decode cX1_interrupting 9 = .ok (.astore_n 2, 1) := dk_77 (dk_at dksX1_interrupting_0 9 rfl rfl)
theorem dX1_interrupting_10 : decode cX1_interrupting 10 = .ok (.aload_n 2, 1) := dk_44 (dk_at dksX1_interrupting_0 10 rfl rfl)
theorem dX1_interrupting_11 : decode cX1_interrupting 11 = .ok (.invokevirtual 341, 3) := dk_182 1 85 (dk_at dksX1_interrupting_0 11 rfl rfl)
theorem dX1_interrupting_14 : decode cX1_interrupting 14 = .ok (.invokestatic 144, 3) := dk_184 0 144 (dk_at dksX1_interrupting_0 14 rfl rfl)
theorem dX1_interrupting_17 : decode cX1_interrupting 17 = .ok (.aload_n 0, 1) := dk_42 (dk_at dksX1_interrupting_0 17 rfl rfl)
theorem dX1_interrupting_18 : decode cX1_interrupting 18 = .ok (.getfield 72, 3) := dk_180 0 72 (dk_at dksX1_interrupting_0 18 rfl rfl)
theorem dX1_interrupting_21 : decode cX1_interrupting 21 = .ok (.aload_n 2, 1) := dk_44 (dk_at dksX1_interrupting_0 21 rfl rfl)
theorem dX1_interrupting_22 : decode cX1_interrupting 22 = .ok (.invokevirtual 345, 3) := dk_182 1 89 (dk_at dksX1_interrupting_1 0 rfl rfl)
theorem dX1_interrupting_25 : decode cX1_interrupting 25 = .ok (.ireturn, 1) := dk_172 (dk_at dksX1_interrupting_1 3 rfl rfl)
abbrev cX1_alertReason : ByteArray := prog_1_method_49_code
def yX1_alertReason : MethodName := ⟨RX1, "alertReason", "(I)I"⟩
def dkwX1_alertReason_1 : List UInt8 := [180, 0, 243, 164, 0, 6, 16, 8, 172, 44, 27, 182, 1, 93, 180, 1, 76, 172]
abbrev dktX1_alertReason_1 : List UInt8 := dkwX1_alertReason_1 ++ []
def dkwX1_alertReason_0 : List UInt8 := [42, 27, 182, 0, 219, 77, 44, 180, 0, 100, 27, 185, 0, 7, 2, 0, 192, 0, 222, 180, 0, 227, 44]
abbrev dktX1_alertReason_0 : List UInt8 := dkwX1_alertReason_0 ++ dktX1_alertReason_1
theorem dksX1_alertReason_0 : cX1_alertReason.data.toList.drop 0 = dktX1_alertReason_0 := by decide +kernel
theorem dksX1_alertReason_1 : cX1_alertReason.data.toList.drop 23 = dktX1_alertReason_1 := dk_seg dksX1_alertReason_0 23 rfl rfl
theorem dX1_alertReason_0 : decode cX1_alertReason 0 = .ok (.aload_n 0, 1) := dk_42 (dk_at dksX1_alertReason_0 0 rfl rfl)
theorem dX1_alertReason_1 : decode cX1_alertReason 1 = .ok (.iload_n 1, 1) := dk_27 (dk_at dksX1_alertReason_0 1 rfl rfl)
theorem dX1_alertReason_2 : decode cX1_alertReason 2 = .ok (.invokevirtual 219, 3) := dk_182 0 219 (dk_at dksX1_alertReason_0 2 rfl rfl)
theorem dX1_alertReason_5 : decode cX1_alertReason 5 = .ok (.astore_n 2, 1) := dk_77 (dk_at dksX1_alertReason_0 5 rfl rfl)
theorem dX1_alertReason_6 : decode cX1_alertReason 6 = .ok (.aload_n 2, 1) := dk_44 (dk_at dksX1_alertReason_0 6 rfl rfl)
theorem dX1_alertReason_7 : decode cX1_alertReason 7 = .ok (.getfield 100, 3) := dk_180 0 100 (dk_at dksX1_alertReason_0 7 rfl rfl)
theorem dX1_alertReason_10 : decode cX1_alertReason 10 = .ok (.iload_n 1, 1) := dk_27 (dk_at dksX1_alertReason_0 10 rfl rfl)
theorem dX1_alertReason_11 : decode cX1_alertReason 11 = .ok (.invokeinterface 7 2, 5) := by decide +kernel
theorem dX1_alertReason_16 : decode cX1_alertReason 16 = .ok (.checkcast 222, 3) := dk_192 0 222 (dk_at dksX1_alertReason_0 16 rfl rfl)
theorem dX1_alertReason_19 : decode cX1_alertReason 19 = .ok (.getfield 227, 3) := dk_180 0 227 (dk_at dksX1_alertReason_0 19 rfl rfl)
theorem dX1_alertReason_22 : decode cX1_alertReason 22 = .ok (.aload_n 2, 1) := dk_44 (dk_at dksX1_alertReason_0 22 rfl rfl)
theorem dX1_alertReason_23 : decode cX1_alertReason 23 = .ok (.getfield 243, 3) := dk_180 0 243 (dk_at dksX1_alertReason_1 0 rfl rfl)
theorem dX1_alertReason_26 : decode cX1_alertReason 26 = .ok (.if_icmp .le 6, 3) := dk_164 0 6 (dk_at dksX1_alertReason_1 3 rfl rfl)
theorem dX1_alertReason_29 : decode cX1_alertReason 29 = .ok (.bipush 8, 2) := dk_16 8 (dk_at dksX1_alertReason_1 6 rfl rfl)
theorem dX1_alertReason_31 : decode cX1_alertReason 31 = .ok (.ireturn, 1) := dk_172 (dk_at dksX1_alertReason_1 8 rfl rfl)
theorem dX1_alertReason_32 : decode cX1_alertReason 32 = .ok (.aload_n 2, 1) := dk_44 (dk_at dksX1_alertReason_1 9 rfl rfl)
theorem dX1_alertReason_33 : decode cX1_alertReason 33 = .ok (.iload_n 1, 1) := dk_27 (dk_at dksX1_alertReason_1 10 rfl rfl)
theorem dX1_alertReason_34 : decode cX1_alertReason 34 = .ok (.invokevirtual 349, 3) := dk_182 1 93 (dk_at dksX1_alertReason_1 11 rfl rfl)
theorem dX1_alertReason_37 : decode cX1_alertReason 37 = .ok (.getfield 332, 3) := dk_180 1 76 (dk_at dksX1_alertReason_1 14 rfl rfl)
theorem dX1_alertReason_40 : decode cX1_alertReason 40 = .ok (.ireturn, 1) := dk_172 (dk_at dksX1_alertReason_1 17 rfl rfl)
abbrev cX1_latestBegin : ByteArray := prog_1_method_50_code
def yX1_latestBegin : MethodName := ⟨RX1, "latestBegin", "(I)I"⟩
def dkwX1_latestBegin_1 : List UInt8 := [29, 182, 1, 96, 182, 1, 85, 153, 0, 5, 29, 172, 132, 3, 255, 167, 255, 231, 2, 172]
abbrev dktX1_latestBegin_1 : List UInt8 := dkwX1_latestBegin_1 ++ []
def dkwX1_latestBegin_0 : List UInt8 := [42, 27, 182, 0, 186, 77, 44, 180, 0, 83, 180, 1, 0, 62, 29, 44, 180, 0, 243, 161, 0, 23, 44, 27]
abbrev dktX1_latestBegin_0 : List UInt8 := dkwX1_latestBegin_0 ++ dktX1_latestBegin_1
theorem dksX1_latestBegin_0 : cX1_latestBegin.data.toList.drop 0 = dktX1_latestBegin_0 := by decide +kernel
theorem dksX1_latestBegin_1 : cX1_latestBegin.data.toList.drop 24 = dktX1_latestBegin_1 := dk_seg dksX1_latestBegin_0 24 rfl rfl
theorem dX1_latestBegin_0 : decode cX1_latestBegin 0 = .ok (.aload_n 0, 1) := dk_42 (dk_at dksX1_latestBegin_0 0 rfl rfl)
theorem dX1_latestBegin_1 : decode cX1_latestBegin 1 = .ok (.iload_n 1, 1) := dk_27 (dk_at dksX1_latestBegin_0 1 rfl rfl)
theorem dX1_latestBegin_2 : decode cX1_latestBegin 2 = .ok (.invokevirtual 186, 3) := dk_182 0 186 (dk_at dksX1_latestBegin_0 2 rfl rfl)
theorem dX1_latestBegin_5 : decode cX1_latestBegin 5 = .ok (.astore_n 2, 1) := dk_77 (dk_at dksX1_latestBegin_0 5 rfl rfl)
theorem dX1_latestBegin_6 : decode cX1_latestBegin 6 = .ok (.aload_n 2, 1) := dk_44 (dk_at dksX1_latestBegin_0 6 rfl rfl)
theorem dX1_latestBegin_7 : decode cX1_latestBegin 7 = .ok (.getfield 83, 3) := dk_180 0 83 (dk_at dksX1_latestBegin_0 7 rfl rfl)
theorem dX1_latestBegin_10 : decode cX1_latestBegin 10 = .ok (.getfield 256, 3) := dk_180 1 0 (dk_at dksX1_latestBegin_0 10 rfl rfl)
theorem dX1_latestBegin_13 : decode cX1_latestBegin 13 = .ok (.istore_n 3, 1) := dk_62 (dk_at dksX1_latestBegin_0 13 rfl rfl)
theorem dX1_latestBegin_14 : decode cX1_latestBegin 14 = .ok (.iload_n 3, 1) := dk_29 (dk_at dksX1_latestBegin_0 14 rfl rfl)
theorem dX1_latestBegin_15 : decode cX1_latestBegin 15 = .ok (.aload_n 2, 1) := dk_44 (dk_at dksX1_latestBegin_0 15 rfl rfl)
theorem dX1_latestBegin_16 : decode cX1_latestBegin 16 = .ok (.getfield 243, 3) := dk_180 0 243 (dk_at dksX1_latestBegin_0 16 rfl rfl)
theorem dX1_latestBegin_19 : decode cX1_latestBegin 19 = .ok (.if_icmp .lt 23, 3) := dk_161 0 23 (dk_at dksX1_latestBegin_0 19 rfl rfl)
theorem dX1_latestBegin_22 : decode cX1_latestBegin 22 = .ok (.aload_n 2, 1) := dk_44 (dk_at dksX1_latestBegin_0 22 rfl rfl)
theorem dX1_latestBegin_23 : decode cX1_latestBegin 23 = .ok (.iload_n 1, 1) := dk_27 (dk_at dksX1_latestBegin_0 23 rfl rfl)
theorem dX1_latestBegin_24 : decode cX1_latestBegin 24 = .ok (.iload_n 3, 1) := dk_29 (dk_at dksX1_latestBegin_1 0 rfl rfl)
theorem dX1_latestBegin_25 : decode cX1_latestBegin 25 = .ok (.invokevirtual 352, 3) := dk_182 1 96 (dk_at dksX1_latestBegin_1 1 rfl rfl)
theorem dX1_latestBegin_28 : decode cX1_latestBegin 28 = .ok (.invokevirtual 341, 3) := dk_182 1 85 (dk_at dksX1_latestBegin_1 4 rfl rfl)
theorem dX1_latestBegin_31 : decode cX1_latestBegin 31 = .ok (.ifCond .eq 5, 3) := dk_153 0 5 (dk_at dksX1_latestBegin_1 7 rfl rfl)
theorem dX1_latestBegin_34 : decode cX1_latestBegin 34 = .ok (.iload_n 3, 1) := dk_29 (dk_at dksX1_latestBegin_1 10 rfl rfl)
theorem dX1_latestBegin_35 : decode cX1_latestBegin 35 = .ok (.ireturn, 1) := dk_172 (dk_at dksX1_latestBegin_1 11 rfl rfl)
theorem dX1_latestBegin_36 : decode cX1_latestBegin 36 = .ok (.iinc 3 (-1), 3) := dk_132 3 255 (dk_at dksX1_latestBegin_1 12 rfl rfl)
theorem dX1_latestBegin_39 : decode cX1_latestBegin 39 = .ok (.goto (-25), 3) := dk_167 255 231 (dk_at dksX1_latestBegin_1 15 rfl rfl)
theorem dX1_latestBegin_42 : decode cX1_latestBegin 42 = .ok (.iconst (-1), 1) := dk_2 (dk_at dksX1_latestBegin_1 18 rfl rfl)
theorem dX1_latestBegin_43 : decode cX1_latestBegin 43 = .ok (.ireturn, 1) := dk_172 (dk_at dksX1_latestBegin_1 19 rfl rfl)
abbrev cX1_total : ByteArray := prog_1_method_51_code
def yX1_total : MethodName := ⟨RX1, "total", "(I)I"⟩
def dkwX1_total_1 : List UInt8 := [27, 46, 172]
abbrev dktX1_total_1 : List UInt8 := dkwX1_total_1 ++ []
def dkwX1_total_0 : List UInt8 := [42, 182, 0, 79, 87, 27, 133, 9, 20, 0, 142, 184, 0, 62, 184, 0, 144, 42, 180, 0, 72, 180, 1, 100]
abbrev dktX1_total_0 : List UInt8 := dkwX1_total_0 ++ dktX1_total_1
theorem dksX1_total_0 : cX1_total.data.toList.drop 0 = dktX1_total_0 := by decide +kernel
theorem dksX1_total_1 : cX1_total.data.toList.drop 24 = dktX1_total_1 := dk_seg dksX1_total_0 24 rfl rfl
theorem dX1_total_0 : decode cX1_total 0 = .ok (.aload_n 0, 1) := dk_42 (dk_at dksX1_total_0 0 rfl rfl)
theorem dX1_total_1 : decode cX1_total 1 = .ok (.invokevirtual 79, 3) := dk_182 0 79 (dk_at dksX1_total_0 1 rfl rfl)
theorem dX1_total_4 : decode cX1_total 4 = .ok (.pop, 1) := dk_87 (dk_at dksX1_total_0 4 rfl rfl)
theorem dX1_total_5 : decode cX1_total 5 = .ok (.iload_n 1, 1) := dk_27 (dk_at dksX1_total_0 5 rfl rfl)
theorem dX1_total_6 : decode cX1_total 6 = .ok (.i2l, 1) := dk_133 (dk_at dksX1_total_0 6 rfl rfl)
theorem dX1_total_7 : decode cX1_total 7 = .ok (.lconst 0, 1) := dk_9 (dk_at dksX1_total_0 7 rfl rfl)
theorem dX1_total_8 : decode cX1_total 8 = .ok (.ldc2_w 142, 3) := dk_20 0 142 (dk_at dksX1_total_0 8 rfl rfl)
theorem dX1_total_11 : decode cX1_total 11 = .ok (.invokestatic 62, 3) := dk_184 0 62 (dk_at dksX1_total_0 11 rfl rfl)
theorem dX1_total_14 : decode cX1_total 14 = .ok (.invokestatic 144, 3) := dk_184 0 144 (dk_at dksX1_total_0 14 rfl rfl)
theorem dX1_total_17 : decode cX1_total 17 = .ok (.aload_n 0, 1) := dk_42 (dk_at dksX1_total_0 17 rfl rfl)
theorem dX1_total_18 : decode cX1_total 18 = .ok (.getfield 72, 3) := dk_180 0 72 (dk_at dksX1_total_0 18 rfl rfl)
theorem dX1_total_21 : decode cX1_total 21 = .ok (.getfield 356, 3) := dk_180 1 100 (dk_at dksX1_total_0 21 rfl rfl)
theorem dX1_total_24 : decode cX1_total 24 = .ok (.iload_n 1, 1) := dk_27 (dk_at dksX1_total_1 0 rfl rfl)
theorem dX1_total_25 : decode cX1_total 25 = .ok (.iaload, 1) := dk_46 (dk_at dksX1_total_1 1 rfl rfl)
theorem dX1_total_26 : decode cX1_total 26 = .ok (.ireturn, 1) := dk_172 (dk_at dksX1_total_1 2 rfl rfl)
abbrev cX1_share : ByteArray := prog_1_method_52_code
def yX1_share : MethodName := ⟨RX1, "share", "(I)F"⟩
def dkwX1_share_0 : List UInt8 := [42, 27, 182, 0, 138, 27, 182, 1, 103, 174]
abbrev dktX1_share_0 : List UInt8 := dkwX1_share_0 ++ []
theorem dksX1_share_0 : cX1_share.data.toList.drop 0 = dktX1_share_0 := by decide +kernel
theorem dX1_share_0 : decode cX1_share 0 = .ok (.aload_n 0, 1) := dk_42 (dk_at dksX1_share_0 0 rfl rfl)
theorem dX1_share_1 : decode cX1_share 1 = .ok (.iload_n 1, 1) := dk_27 (dk_at dksX1_share_0 1 rfl rfl)
theorem dX1_share_2 : decode cX1_share 2 = .ok (.invokevirtual 138, 3) := dk_182 0 138 (dk_at dksX1_share_0 2 rfl rfl)
theorem dX1_share_5 : decode cX1_share 5 = .ok (.iload_n 1, 1) := dk_27 (dk_at dksX1_share_0 5 rfl rfl)
theorem dX1_share_6 : decode cX1_share 6 = .ok (.invokevirtual 359, 3) := dk_182 1 103 (dk_at dksX1_share_0 6 rfl rfl)
theorem dX1_share_9 : decode cX1_share 9 = .ok (.freturn, 1) := dk_174 (dk_at dksX1_share_0 9 rfl rfl)
abbrev cX1_spread : ByteArray := prog_1_method_53_code
def yX1_spread : MethodName := ⟨RX1, "spread", "()F"⟩
def dkwX1_spread_2 : List UInt8 := [21, 4, 182, 1, 103, 184, 1, 110, 70, 132, 4, 1, 167, 255, 214, 36, 37, 102, 174]
abbrev dktX1_spread_2 : List UInt8 := dkwX1_spread_2 ++ []
def dkwX1_spread_1 : List UInt8 := [180, 0, 87, 185, 0, 1, 1, 0, 162, 0, 31, 36, 43, 21, 4, 182, 1, 103, 184, 1, 107, 69, 37, 43]
abbrev dktX1_spread_1 : List UInt8 := dkwX1_spread_1 ++ dktX1_spread_2
def dkwX1_spread_0 : List UInt8 := [42, 182, 0, 79, 76, 43, 3, 182, 1, 103, 69, 36, 70, 4, 54, 4, 21, 4, 43, 180, 0, 83]
abbrev dktX1_spread_0 : List UInt8 := dkwX1_spread_0 ++ dktX1_spread_1
theorem dksX1_spread_0 : cX1_spread.data.toList.drop 0 = dktX1_spread_0 := by decide +kernel
theorem dksX1_spread_1 : cX1_spread.data.toList.drop 22 = dktX1_spread_1 := dk_seg dksX1_spread_0 22 rfl rfl
theorem dksX1_spread_2 : cX1_spread.data.toList.drop 46 = dktX1_spread_2 := dk_seg dksX1_spread_1 24 rfl rfl
theorem dX1_spread_0 : decode cX1_spread 0 = .ok (.aload_n 0, 1) := dk_42 (dk_at dksX1_spread_0 0 rfl rfl)
theorem dX1_spread_1 : decode cX1_spread 1 = .ok (.invokevirtual 79, 3) := dk_182 0 79 (dk_at dksX1_spread_0 1 rfl rfl)
theorem dX1_spread_4 : decode cX1_spread 4 = .ok (.astore_n 1, 1) := dk_76 (dk_at dksX1_spread_0 4 rfl rfl)
theorem dX1_spread_5 : decode cX1_spread 5 = .ok (.aload_n 1, 1) := dk_43 (dk_at dksX1_spread_0 5 rfl rfl)
theorem dX1_spread_6 : decode cX1_spread 6 = .ok (.iconst 0, 1) := dk_3 (dk_at dksX1_spread_0 6 rfl rfl)
theorem dX1_spread_7 : decode cX1_spread 7 = .ok (.invokevirtual 359, 3) := dk_182 1 103 (dk_at dksX1_spread_0 7 rfl rfl)
theorem dX1_spread_10 : decode cX1_spread 10 = .ok (.fstore_n 2, 1) := dk_69 (dk_at dksX1_spread_0 10 rfl rfl)
theorem dX1_spread_11 : decode cX1_spread 11 = .ok (.fload_n 2, 1) := dk_36 (dk_at dksX1_spread_0 11 rfl rfl)
theorem dX1_spread_12 : decode cX1_spread 12 = .ok (.fstore_n 3, 1) := dk_70 (dk_at dksX1_spread_0 12 rfl rfl)
theorem dX1_spread_13 : decode cX1_spread 13 = .ok (.iconst 1, 1) := dk_4 (dk_at dksX1_spread_0 13 rfl rfl)
theorem dX1_spread_14 : decode cX1_spread 14 = .ok (.istore 4, 2) := dk_54 4 (dk_at dksX1_spread_0 14 rfl rfl)
theorem dX1_spread_16 : decode cX1_spread 16 = .ok (.iload 4, 2) := dk_21 4 (dk_at dksX1_spread_0 16 rfl rfl)
theorem dX1_spread_18 : decode cX1_spread 18 = .ok (.aload_n 1, 1) := dk_43 (dk_at dksX1_spread_0 18 rfl rfl)
theorem dX1_spread_19 : decode cX1_spread 19 = .ok (.getfield 83, 3) := dk_180 0 83 (dk_at dksX1_spread_0 19 rfl rfl)
theorem dX1_spread_22 : decode cX1_spread 22 = .ok (.getfield 87, 3) := dk_180 0 87 (dk_at dksX1_spread_1 0 rfl rfl)
theorem dX1_spread_25 : decode cX1_spread 25 = .ok (.invokeinterface 1 1, 5) := by decide +kernel
theorem dX1_spread_30 : decode cX1_spread 30 = .ok (.if_icmp .ge 31, 3) := dk_162 0 31 (dk_at dksX1_spread_1 8 rfl rfl)
theorem dX1_spread_33 : decode cX1_spread 33 = .ok (.fload_n 2, 1) := dk_36 (dk_at dksX1_spread_1 11 rfl rfl)
theorem dX1_spread_34 : decode cX1_spread 34 = .ok (.aload_n 1, 1) := dk_43 (dk_at dksX1_spread_1 12 rfl rfl)
theorem dX1_spread_35 : decode cX1_spread 35 = .ok (.iload 4, 2) := dk_21 4 (dk_at dksX1_spread_1 13 rfl rfl)
theorem dX1_spread_37 : decode cX1_spread 37 = .ok (.invokevirtual 359, 3) := dk_182 1 103 (dk_at dksX1_spread_1 15 rfl rfl)
theorem dX1_spread_40 : decode cX1_spread 40 = .ok (.invokestatic 363, 3) := dk_184 1 107 (dk_at dksX1_spread_1 18 rfl rfl)
theorem dX1_spread_43 : decode cX1_spread 43 = .ok (.fstore_n 2, 1) := dk_69 (dk_at dksX1_spread_1 21 rfl rfl)
theorem dX1_spread_44 : decode cX1_spread 44 = .ok (.fload_n 3, 1) := dk_37 (dk_at dksX1_spread_1 22 rfl rfl)
theorem dX1_spread_45 : decode cX1_spread 45 = .ok (.aload_n 1, 1) := dk_43 (dk_at dksX1_spread_1 23 rfl rfl)
theorem dX1_spread_46 : decode cX1_spread 46 = .ok (.iload 4, 2) := dk_21 4 (dk_at dksX1_spread_2 0 rfl rfl)
theorem dX1_spread_48 : decode cX1_spread 48 = .ok (.invokevirtual 359, 3) := dk_182 1 103 (dk_at dksX1_spread_2 2 rfl rfl)
theorem dX1_spread_51 : decode cX1_spread 51 = .ok (.invokestatic 366, 3) := dk_184 1 110 (dk_at dksX1_spread_2 5 rfl rfl)
theorem dX1_spread_54 : decode cX1_spread 54 = .ok (.fstore_n 3, 1) := dk_70 (dk_at dksX1_spread_2 8 rfl rfl)
theorem dX1_spread_55 : decode cX1_spread 55 = .ok (.iinc 4 1, 3) := dk_132 4 1 (dk_at dksX1_spread_2 9 rfl rfl)
theorem dX1_spread_58 : decode cX1_spread 58 = .ok (.goto (-42), 3) := dk_167 255 214 (dk_at dksX1_spread_2 12 rfl rfl)
theorem dX1_spread_61 : decode cX1_spread 61 = .ok (.fload_n 2, 1) := dk_36 (dk_at dksX1_spread_2 15 rfl rfl)
theorem dX1_spread_62 : decode cX1_spread 62 = .ok (.fload_n 3, 1) := dk_37 (dk_at dksX1_spread_2 16 rfl rfl)
theorem dX1_spread_63 : decode cX1_spread 63 = .ok (.fsub, 1) := dk_102 (dk_at dksX1_spread_2 17 rfl rfl)
theorem dX1_spread_64 : decode cX1_spread 64 = .ok (.freturn, 1) := dk_174 (dk_at dksX1_spread_2 18 rfl rfl)
abbrev cX1_entry : ByteArray := prog_1_method_55_code
def yX1_entry : MethodName := ⟨RX1, "entry", "(II)I"⟩
def dkwX1_entry_1 : List UInt8 := [180, 0, 72, 180, 1, 118, 7, 27, 104, 28, 96, 46, 172]
abbrev dktX1_entry_1 : List UInt8 := dkwX1_entry_1 ++ []
def dkwX1_entry_0 : List UInt8 := [27, 42, 182, 0, 79, 180, 1, 113, 184, 0, 93, 28, 133, 9, 20, 1, 116, 184, 0, 62, 184, 0, 144, 42]
abbrev dktX1_entry_0 : List UInt8 := dkwX1_entry_0 ++ dktX1_entry_1
theorem dksX1_entry_0 : cX1_entry.data.toList.drop 0 = dktX1_entry_0 := by decide +kernel
theorem dksX1_entry_1 : cX1_entry.data.toList.drop 24 = dktX1_entry_1 := dk_seg dksX1_entry_0 24 rfl rfl
theorem dX1_entry_0 : decode cX1_entry 0 = .ok (.iload_n 1, 1) := dk_27 (dk_at dksX1_entry_0 0 rfl rfl)
theorem dX1_entry_1 : decode cX1_entry 1 = .ok (.aload_n 0, 1) := dk_42 (dk_at dksX1_entry_0 1 rfl rfl)
theorem dX1_entry_2 : decode cX1_entry 2 = .ok (.invokevirtual 79, 3) := dk_182 0 79 (dk_at dksX1_entry_0 2 rfl rfl)
theorem dX1_entry_5 : decode cX1_entry 5 = .ok (.getfield 369, 3) := dk_180 1 113 (dk_at dksX1_entry_0 5 rfl rfl)
theorem dX1_entry_8 : decode cX1_entry 8 = .ok (.invokestatic 93, 3) := dk_184 0 93 (dk_at dksX1_entry_0 8 rfl rfl)
theorem dX1_entry_11 : decode cX1_entry 11 = .ok (.iload_n 2, 1) := dk_28 (dk_at dksX1_entry_0 11 rfl rfl)
theorem dX1_entry_12 : decode cX1_entry 12 = .ok (.i2l, 1) := dk_133 (dk_at dksX1_entry_0 12 rfl rfl)
theorem dX1_entry_13 : decode cX1_entry 13 = .ok (.lconst 0, 1) := dk_9 (dk_at dksX1_entry_0 13 rfl rfl)
theorem dX1_entry_14 : decode cX1_entry 14 = .ok (.ldc2_w 372, 3) := dk_20 1 116 (dk_at dksX1_entry_0 14 rfl rfl)
theorem dX1_entry_17 : decode cX1_entry 17 = .ok (.invokestatic 62, 3) := dk_184 0 62 (dk_at dksX1_entry_0 17 rfl rfl)
theorem dX1_entry_20 : decode cX1_entry 20 = .ok (.invokestatic 144, 3) := dk_184 0 144 (dk_at dksX1_entry_0 20 rfl rfl)
theorem dX1_entry_23 : decode cX1_entry 23 = .ok (.aload_n 0, 1) := dk_42 (dk_at dksX1_entry_0 23 rfl rfl)
theorem dX1_entry_24 : decode cX1_entry 24 = .ok (.getfield 72, 3) := dk_180 0 72 (dk_at dksX1_entry_1 0 rfl rfl)
theorem dX1_entry_27 : decode cX1_entry 27 = .ok (.getfield 374, 3) := dk_180 1 118 (dk_at dksX1_entry_1 3 rfl rfl)
theorem dX1_entry_30 : decode cX1_entry 30 = .ok (.iconst 4, 1) := dk_7 (dk_at dksX1_entry_1 6 rfl rfl)
theorem dX1_entry_31 : decode cX1_entry 31 = .ok (.iload_n 1, 1) := dk_27 (dk_at dksX1_entry_1 7 rfl rfl)
theorem dX1_entry_32 : decode cX1_entry 32 = .ok (.imul, 1) := dk_104 (dk_at dksX1_entry_1 8 rfl rfl)
theorem dX1_entry_33 : decode cX1_entry 33 = .ok (.iload_n 2, 1) := dk_28 (dk_at dksX1_entry_1 9 rfl rfl)
theorem dX1_entry_34 : decode cX1_entry 34 = .ok (.iadd, 1) := dk_96 (dk_at dksX1_entry_1 10 rfl rfl)
theorem dX1_entry_35 : decode cX1_entry 35 = .ok (.iaload, 1) := dk_46 (dk_at dksX1_entry_1 11 rfl rfl)
theorem dX1_entry_36 : decode cX1_entry 36 = .ok (.ireturn, 1) := dk_172 (dk_at dksX1_entry_1 12 rfl rfl)
abbrev cX1_longest : ByteArray := prog_1_method_56_code
def yX1_longest : MethodName := ⟨RX1, "longest", "(I)I"⟩
def dkwX1_longest_4 : List UInt8 := [21, 5, 62, 132, 4, 1, 167, 255, 179, 28, 172]
abbrev dktX1_longest_4 : List UInt8 := dkwX1_longest_4 ++ []
def dkwX1_longest_3 : List UInt8 := [180, 1, 118, 7, 21, 4, 104, 46, 27, 160, 0, 18, 21, 5, 29, 163, 0, 6, 167, 0, 9, 21, 4, 61]
abbrev dktX1_longest_3 : List UInt8 := dkwX1_longest_3 ++ dktX1_longest_4
def dkwX1_longest_2 : List UInt8 := [96, 46, 42, 180, 0, 72, 180, 1, 118, 7, 21, 4, 104, 5, 96, 46, 100, 54, 5, 42, 180, 0, 72]
abbrev dktX1_longest_2 : List UInt8 := dkwX1_longest_2 ++ dktX1_longest_3
def dkwX1_longest_1 : List UInt8 := [21, 4, 42, 180, 0, 72, 180, 1, 113, 162, 0, 71, 42, 180, 0, 72, 180, 1, 118, 7, 21, 4, 104, 6]
abbrev dktX1_longest_1 : List UInt8 := dkwX1_longest_1 ++ dktX1_longest_2
def dkwX1_longest_0 : List UInt8 := [42, 182, 0, 79, 87, 27, 133, 9, 20, 1, 121, 184, 0, 62, 184, 0, 144, 2, 61, 2, 62, 3, 54, 4]
abbrev dktX1_longest_0 : List UInt8 := dkwX1_longest_0 ++ dktX1_longest_1
theorem dksX1_longest_0 : cX1_longest.data.toList.drop 0 = dktX1_longest_0 := by decide +kernel
theorem dksX1_longest_1 : cX1_longest.data.toList.drop 24 = dktX1_longest_1 := dk_seg dksX1_longest_0 24 rfl rfl
theorem dksX1_longest_2 : cX1_longest.data.toList.drop 48 = dktX1_longest_2 := dk_seg dksX1_longest_1 24 rfl rfl
theorem dksX1_longest_3 : cX1_longest.data.toList.drop 71 = dktX1_longest_3 := dk_seg dksX1_longest_2 23 rfl rfl
theorem dksX1_longest_4 : cX1_longest.data.toList.drop 95 = dktX1_longest_4 := dk_seg dksX1_longest_3 24 rfl rfl
theorem dX1_longest_0 : decode cX1_longest 0 = .ok (.aload_n 0, 1) := dk_42 (dk_at dksX1_longest_0 0 rfl rfl)
theorem dX1_longest_1 : decode cX1_longest 1 = .ok (.invokevirtual 79, 3) := dk_182 0 79 (dk_at dksX1_longest_0 1 rfl rfl)
theorem dX1_longest_4 : decode cX1_longest 4 = .ok (.pop, 1) := dk_87 (dk_at dksX1_longest_0 4 rfl rfl)
theorem dX1_longest_5 : decode cX1_longest 5 = .ok (.iload_n 1, 1) := dk_27 (dk_at dksX1_longest_0 5 rfl rfl)
theorem dX1_longest_6 : decode cX1_longest 6 = .ok (.i2l, 1) := dk_133 (dk_at dksX1_longest_0 6 rfl rfl)
theorem dX1_longest_7 : decode cX1_longest 7 = .ok (.lconst 0, 1) := dk_9 (dk_at dksX1_longest_0 7 rfl rfl)
theorem dX1_longest_8 : decode cX1_longest 8 = .ok (.ldc2_w 377, 3) := dk_20 1 121 (dk_at dksX1_longest_0 8 rfl rfl)
theorem dX1_longest_11 : decode cX1_longest 11 = .ok (.invokestatic 62, 3) := dk_184 0 62 (dk_at dksX1_longest_0 11 rfl rfl)
theorem dX1_longest_14 : decode cX1_longest 14 = .ok (.invokestatic 144, 3) := dk_184 0 144 (dk_at dksX1_longest_0 14 rfl rfl)
theorem dX1_longest_17 : decode cX1_longest 17 = .ok (.iconst (-1), 1) := dk_2 (dk_at dksX1_longest_0 17 rfl rfl)
theorem dX1_longest_18 : decode cX1_longest 18 = .ok (.istore_n 2, 1) := dk_61 (dk_at dksX1_longest_0 18 rfl rfl)
theorem dX1_longest_19 : decode cX1_longest 19 = .ok (.iconst (-1), 1) := dk_2 (dk_at dksX1_longest_0 19 rfl rfl)
theorem dX1_longest_20 : decode cX1_longest 20 = .ok (.istore_n 3, 1) := dk_62 (dk_at dksX1_longest_0 20 rfl rfl)
theorem dX1_longest_21 : decode cX1_longest 21 = .ok (.iconst 0, 1) := dk_3 (dk_at dksX1_longest_0 21 rfl rfl)
theorem dX1_longest_22 : decode cX1_longest 22 = .ok (.istore 4, 2) := dk_54 4 (dk_at dksX1_longest_0 22 rfl rfl)
theorem dX1_longest_24 : decode cX1_longest 24 = .ok (.iload 4, 2) := dk_21 4 (dk_at dksX1_longest_1 0 rfl rfl)
theorem dX1_longest_26 : decode cX1_longest 26 = .ok (.aload_n 0, 1) := dk_42 (dk_at dksX1_longest_1 2 rfl rfl)
theorem dX1_longest_27 : decode cX1_longest 27 = .ok (.getfield 72, 3) := dk_180 0 72 (dk_at dksX1_longest_1 3 rfl rfl)
theorem dX1_longest_30 : decode cX1_longest 30 = .ok (.getfield 369, 3) := dk_180 1 113 (dk_at dksX1_longest_1 6 rfl rfl)
theorem dX1_longest_33 : decode cX1_longest 33 = .ok (.if_icmp .ge 71, 3) := dk_162 0 71 (dk_at dksX1_longest_1 9 rfl rfl)
theorem dX1_longest_36 : decode cX1_longest 36 = .ok (.aload_n 0, 1) := dk_42 (dk_at dksX1_longest_1 12 rfl rfl)
theorem dX1_longest_37 : decode cX1_longest 37 = .ok (.getfield 72, 3) := dk_180 0 72 (dk_at dksX1_longest_1 13 rfl rfl)
theorem dX1_longest_40 : decode cX1_longest 40 = .ok (.getfield 374, 3) := dk_180 1 118 (dk_at dksX1_longest_1 16 rfl rfl)
theorem dX1_longest_43 : decode cX1_longest 43 = .ok (.iconst 4, 1) := dk_7 (dk_at dksX1_longest_1 19 rfl rfl)
theorem dX1_longest_44 : decode cX1_longest 44 = .ok (.iload 4, 2) := dk_21 4 (dk_at dksX1_longest_1 20 rfl rfl)
theorem dX1_longest_46 : decode cX1_longest 46 = .ok (.imul, 1) := dk_104 (dk_at dksX1_longest_1 22 rfl rfl)
theorem dX1_longest_47 : decode cX1_longest 47 = .ok (.iconst 3, 1) := dk_6 (dk_at dksX1_longest_1 23 rfl rfl)
theorem dX1_longest_48 : decode cX1_longest 48 = .ok (.iadd, 1) := dk_96 (dk_at dksX1_longest_2 0 rfl rfl)
theorem dX1_longest_49 : decode cX1_longest 49 = .ok (.iaload, 1) := dk_46 (dk_at dksX1_longest_2 1 rfl rfl)
theorem dX1_longest_50 : decode cX1_longest 50 = .ok (.aload_n 0, 1) := dk_42 (dk_at dksX1_longest_2 2 rfl rfl)
theorem dX1_longest_51 : decode cX1_longest 51 = .ok (.getfield 72, 3) := dk_180 0 72 (dk_at dksX1_longest_2 3 rfl rfl)
theorem dX1_longest_54 : decode cX1_longest 54 = .ok (.getfield 374, 3) := dk_180 1 118 (dk_at dksX1_longest_2 6 rfl rfl)
theorem dX1_longest_57 : decode cX1_longest 57 = .ok (.iconst 4, 1) := dk_7 (dk_at dksX1_longest_2 9 rfl rfl)
theorem dX1_longest_58 : decode cX1_longest 58 = .ok (.iload 4, 2) := dk_21 4 (dk_at dksX1_longest_2 10 rfl rfl)
theorem dX1_longest_60 : decode cX1_longest 60 = .ok (.imul, 1) := dk_104 (dk_at dksX1_longest_2 12 rfl rfl)
theorem dX1_longest_61 : decode cX1_longest 61 = .ok (.iconst 2, 1) := dk_5 (dk_at dksX1_longest_2 13 rfl rfl)
theorem dX1_longest_62 : decode cX1_longest 62 = .ok (.iadd, 1) := dk_96 (dk_at dksX1_longest_2 14 rfl rfl)
theorem dX1_longest_63 : decode cX1_longest 63 = .ok (.iaload, 1) := dk_46 (dk_at dksX1_longest_2 15 rfl rfl)
theorem dX1_longest_64 : decode cX1_longest 64 = .ok (.isub, 1) := dk_100 (dk_at dksX1_longest_2 16 rfl rfl)
theorem dX1_longest_65 : decode cX1_longest 65 = .ok (.istore 5, 2) := dk_54 5 (dk_at dksX1_longest_2 17 rfl rfl)
theorem dX1_longest_67 : decode cX1_longest 67 = .ok (.aload_n 0, 1) := dk_42 (dk_at dksX1_longest_2 19 rfl rfl)
theorem dX1_longest_68 : decode cX1_longest 68 = .ok (.getfield 72, 3) := dk_180 0 72 (dk_at dksX1_longest_2 20 rfl rfl)
theorem dX1_longest_71 : decode cX1_longest 71 = .ok (.getfield 374, 3) := dk_180 1 118 (dk_at dksX1_longest_3 0 rfl rfl)
theorem dX1_longest_74 : decode cX1_longest 74 = .ok (.iconst 4, 1) := dk_7 (dk_at dksX1_longest_3 3 rfl rfl)
theorem dX1_longest_75 : decode cX1_longest 75 = .ok (.iload 4, 2) := dk_21 4 (dk_at dksX1_longest_3 4 rfl rfl)
theorem dX1_longest_77 : decode cX1_longest 77 = .ok (.imul, 1) := dk_104 (dk_at dksX1_longest_3 6 rfl rfl)
theorem dX1_longest_78 : decode cX1_longest 78 = .ok (.iaload, 1) := dk_46 (dk_at dksX1_longest_3 7 rfl rfl)
theorem dX1_longest_79 : decode cX1_longest 79 = .ok (.iload_n 1, 1) := dk_27 (dk_at dksX1_longest_3 8 rfl rfl)
theorem dX1_longest_80 : decode cX1_longest 80 = .ok (.if_icmp .ne 18, 3) := dk_160 0 18 (dk_at dksX1_longest_3 9 rfl rfl)
theorem dX1_longest_83 : decode cX1_longest 83 = .ok (.iload 5, 2) := dk_21 5 (dk_at dksX1_longest_3 12 rfl rfl)
theorem dX1_longest_85 : decode cX1_longest 85 = .ok (.iload_n 3, 1) := dk_29 (dk_at dksX1_longest_3 14 rfl rfl)
theorem dX1_longest_86 : decode cX1_longest 86 = .ok (.if_icmp .gt 6, 3) := dk_163 0 6 (dk_at dksX1_longest_3 15 rfl rfl)
theorem dX1_longest_89 : decode cX1_longest 89 = .ok (.goto 9, 3) := dk_167 0 9 (dk_at dksX1_longest_3 18 rfl rfl)
theorem dX1_longest_92 : decode cX1_longest 92 = .ok (.iload 4, 2) := dk_21 4 (dk_at dksX1_longest_3 21 rfl rfl)
theorem dX1_longest_94 : decode cX1_longest 94 = .ok (.istore_n 2, 1) := dk_61 (dk_at dksX1_longest_3 23 rfl rfl)
theorem dX1_longest_95 : decode cX1_longest 95 = .ok (.iload 5, 2) := dk_21 5 (dk_at dksX1_longest_4 0 rfl rfl)
theorem dX1_longest_97 : decode cX1_longest 97 = .ok (.istore_n 3, 1) := dk_62 (dk_at dksX1_longest_4 2 rfl rfl)
theorem dX1_longest_98 : decode cX1_longest 98 = .ok (.iinc 4 1, 3) := dk_132 4 1 (dk_at dksX1_longest_4 3 rfl rfl)
theorem dX1_longest_101 : decode cX1_longest 101 = .ok (.goto (-77), 3) := dk_167 255 179 (dk_at dksX1_longest_4 6 rfl rfl)
theorem dX1_longest_104 : decode cX1_longest 104 = .ok (.iload_n 2, 1) := dk_28 (dk_at dksX1_longest_4 9 rfl rfl)
theorem dX1_longest_105 : decode cX1_longest 105 = .ok (.ireturn, 1) := dk_172 (dk_at dksX1_longest_4 10 rfl rfl)
abbrev cX1_usedIn : ByteArray := prog_1_method_58_code
def yX1_usedIn : MethodName := ⟨RX1, "usedIn", "(I)I"⟩
def dkwX1_usedIn_1 : List UInt8 := [182, 1, 132, 62, 44, 180, 1, 100, 3, 46, 42, 180, 0, 72, 180, 1, 100, 3, 46, 100, 172]
abbrev dktX1_usedIn_1 : List UInt8 := dkwX1_usedIn_1 ++ []
def dkwX1_usedIn_0 : List UInt8 := [42, 182, 0, 79, 87, 27, 133, 10, 20, 1, 127, 184, 0, 62, 184, 0, 144, 42, 182, 1, 129, 77, 44, 27]
abbrev dktX1_usedIn_0 : List UInt8 := dkwX1_usedIn_0 ++ dktX1_usedIn_1
theorem dksX1_usedIn_0 : cX1_usedIn.data.toList.drop 0 = dktX1_usedIn_0 := by decide +kernel
theorem dksX1_usedIn_1 : cX1_usedIn.data.toList.drop 24 = dktX1_usedIn_1 := dk_seg dksX1_usedIn_0 24 rfl rfl
theorem dX1_usedIn_0 : decode cX1_usedIn 0 = .ok (.aload_n 0, 1) := dk_42 (dk_at dksX1_usedIn_0 0 rfl rfl)
theorem dX1_usedIn_1 : decode cX1_usedIn 1 = .ok (.invokevirtual 79, 3) := dk_182 0 79 (dk_at dksX1_usedIn_0 1 rfl rfl)
theorem dX1_usedIn_4 : decode cX1_usedIn 4 = .ok (.pop, 1) := dk_87 (dk_at dksX1_usedIn_0 4 rfl rfl)
theorem dX1_usedIn_5 : decode cX1_usedIn 5 = .ok (.iload_n 1, 1) := dk_27 (dk_at dksX1_usedIn_0 5 rfl rfl)
theorem dX1_usedIn_6 : decode cX1_usedIn 6 = .ok (.i2l, 1) := dk_133 (dk_at dksX1_usedIn_0 6 rfl rfl)
theorem dX1_usedIn_7 : decode cX1_usedIn 7 = .ok (.lconst 1, 1) := dk_10 (dk_at dksX1_usedIn_0 7 rfl rfl)
theorem dX1_usedIn_8 : decode cX1_usedIn 8 = .ok (.ldc2_w 383, 3) := dk_20 1 127 (dk_at dksX1_usedIn_0 8 rfl rfl)
theorem dX1_usedIn_11 : decode cX1_usedIn 11 = .ok (.invokestatic 62, 3) := dk_184 0 62 (dk_at dksX1_usedIn_0 11 rfl rfl)
theorem dX1_usedIn_14 : decode cX1_usedIn 14 = .ok (.invokestatic 144, 3) := dk_184 0 144 (dk_at dksX1_usedIn_0 14 rfl rfl)
theorem dX1_usedIn_17 : decode cX1_usedIn 17 = .ok (.aload_n 0, 1) := dk_42 (dk_at dksX1_usedIn_0 17 rfl rfl)
theorem dX1_usedIn_18 : decode cX1_usedIn 18 = .ok (.invokevirtual 385, 3) := dk_182 1 129 (dk_at dksX1_usedIn_0 18 rfl rfl)
theorem dX1_usedIn_21 : decode cX1_usedIn 21 = .ok (.astore_n 2, 1) := dk_77 (dk_at dksX1_usedIn_0 21 rfl rfl)
theorem dX1_usedIn_22 : decode cX1_usedIn 22 = .ok (.aload_n 2, 1) := dk_44 (dk_at dksX1_usedIn_0 22 rfl rfl)
theorem dX1_usedIn_23 : decode cX1_usedIn 23 = .ok (.iload_n 1, 1) := dk_27 (dk_at dksX1_usedIn_0 23 rfl rfl)
theorem dX1_usedIn_24 : decode cX1_usedIn 24 = .ok (.invokevirtual 388, 3) := dk_182 1 132 (dk_at dksX1_usedIn_1 0 rfl rfl)
theorem dX1_usedIn_27 : decode cX1_usedIn 27 = .ok (.istore_n 3, 1) := dk_62 (dk_at dksX1_usedIn_1 3 rfl rfl)
theorem dX1_usedIn_28 : decode cX1_usedIn 28 = .ok (.aload_n 2, 1) := dk_44 (dk_at dksX1_usedIn_1 4 rfl rfl)
theorem dX1_usedIn_29 : decode cX1_usedIn 29 = .ok (.getfield 356, 3) := dk_180 1 100 (dk_at dksX1_usedIn_1 5 rfl rfl)
theorem dX1_usedIn_32 : decode cX1_usedIn 32 = .ok (.iconst 0, 1) := dk_3 (dk_at dksX1_usedIn_1 8 rfl rfl)
theorem dX1_usedIn_33 : decode cX1_usedIn 33 = .ok (.iaload, 1) := dk_46 (dk_at dksX1_usedIn_1 9 rfl rfl)
theorem dX1_usedIn_34 : decode cX1_usedIn 34 = .ok (.aload_n 0, 1) := dk_42 (dk_at dksX1_usedIn_1 10 rfl rfl)
theorem dX1_usedIn_35 : decode cX1_usedIn 35 = .ok (.getfield 72, 3) := dk_180 0 72 (dk_at dksX1_usedIn_1 11 rfl rfl)
theorem dX1_usedIn_38 : decode cX1_usedIn 38 = .ok (.getfield 356, 3) := dk_180 1 100 (dk_at dksX1_usedIn_1 14 rfl rfl)
theorem dX1_usedIn_41 : decode cX1_usedIn 41 = .ok (.iconst 0, 1) := dk_3 (dk_at dksX1_usedIn_1 17 rfl rfl)
theorem dX1_usedIn_42 : decode cX1_usedIn 42 = .ok (.iaload, 1) := dk_46 (dk_at dksX1_usedIn_1 18 rfl rfl)
theorem dX1_usedIn_43 : decode cX1_usedIn 43 = .ok (.isub, 1) := dk_100 (dk_at dksX1_usedIn_1 19 rfl rfl)
theorem dX1_usedIn_44 : decode cX1_usedIn 44 = .ok (.ireturn, 1) := dk_172 (dk_at dksX1_usedIn_1 20 rfl rfl)
abbrev cX1_tried : ByteArray := prog_1_method_57_code
def yX1_tried : MethodName := ⟨RX1, "tried", "()LTelescopeQueue$State;"⟩
def dkwX1_tried_0 : List UInt8 := [42, 180, 0, 37, 42, 180, 0, 72, 182, 1, 123, 176]
abbrev dktX1_tried_0 : List UInt8 := dkwX1_tried_0 ++ []
theorem dksX1_tried_0 : cX1_tried.data.toList.drop 0 = dktX1_tried_0 := by decide +kernel
theorem dX1_tried_0 : decode cX1_tried 0 = .ok (.aload_n 0, 1) := dk_42 (dk_at dksX1_tried_0 0 rfl rfl)
theorem dX1_tried_1 : decode cX1_tried 1 = .ok (.getfield 37, 3) := dk_180 0 37 (dk_at dksX1_tried_0 1 rfl rfl)
theorem dX1_tried_4 : decode cX1_tried 4 = .ok (.aload_n 0, 1) := dk_42 (dk_at dksX1_tried_0 4 rfl rfl)
theorem dX1_tried_5 : decode cX1_tried 5 = .ok (.getfield 72, 3) := dk_180 0 72 (dk_at dksX1_tried_0 5 rfl rfl)
theorem dX1_tried_8 : decode cX1_tried 8 = .ok (.invokevirtual 379, 3) := dk_182 1 123 (dk_at dksX1_tried_0 8 rfl rfl)
theorem dX1_tried_11 : decode cX1_tried 11 = .ok (.areturn, 1) := dk_176 (dk_at dksX1_tried_0 11 rfl rfl)
abbrev cX1_doneBy : ByteArray := prog_1_method_60_code
def yX1_doneBy : MethodName := ⟨RX1, "doneBy", "(I)I"⟩
def dkwX1_doneBy_1 : List UInt8 := [182, 1, 145, 172]
abbrev dktX1_doneBy_1 : List UInt8 := dkwX1_doneBy_1 ++ []
def dkwX1_doneBy_0 : List UInt8 := [42, 182, 0, 79, 87, 27, 133, 9, 20, 1, 116, 184, 0, 62, 184, 0, 144, 42, 27, 182, 1, 142]
abbrev dktX1_doneBy_0 : List UInt8 := dkwX1_doneBy_0 ++ dktX1_doneBy_1
theorem dksX1_doneBy_0 : cX1_doneBy.data.toList.drop 0 = dktX1_doneBy_0 := by decide +kernel
theorem dksX1_doneBy_1 : cX1_doneBy.data.toList.drop 22 = dktX1_doneBy_1 := dk_seg dksX1_doneBy_0 22 rfl rfl
theorem dX1_doneBy_0 : decode cX1_doneBy 0 = .ok (.aload_n 0, 1) := dk_42 (dk_at dksX1_doneBy_0 0 rfl rfl)
theorem dX1_doneBy_1 : decode cX1_doneBy 1 = .ok (.invokevirtual 79, 3) := dk_182 0 79 (dk_at dksX1_doneBy_0 1 rfl rfl)
theorem dX1_doneBy_4 : decode cX1_doneBy 4 = .ok (.pop, 1) := dk_87 (dk_at dksX1_doneBy_0 4 rfl rfl)
theorem dX1_doneBy_5 : decode cX1_doneBy 5 = .ok (.iload_n 1, 1) := dk_27 (dk_at dksX1_doneBy_0 5 rfl rfl)
theorem dX1_doneBy_6 : decode cX1_doneBy 6 = .ok (.i2l, 1) := dk_133 (dk_at dksX1_doneBy_0 6 rfl rfl)
theorem dX1_doneBy_7 : decode cX1_doneBy 7 = .ok (.lconst 0, 1) := dk_9 (dk_at dksX1_doneBy_0 7 rfl rfl)
theorem dX1_doneBy_8 : decode cX1_doneBy 8 = .ok (.ldc2_w 372, 3) := dk_20 1 116 (dk_at dksX1_doneBy_0 8 rfl rfl)
theorem dX1_doneBy_11 : decode cX1_doneBy 11 = .ok (.invokestatic 62, 3) := dk_184 0 62 (dk_at dksX1_doneBy_0 11 rfl rfl)
theorem dX1_doneBy_14 : decode cX1_doneBy 14 = .ok (.invokestatic 144, 3) := dk_184 0 144 (dk_at dksX1_doneBy_0 14 rfl rfl)
theorem dX1_doneBy_17 : decode cX1_doneBy 17 = .ok (.aload_n 0, 1) := dk_42 (dk_at dksX1_doneBy_0 17 rfl rfl)
theorem dX1_doneBy_18 : decode cX1_doneBy 18 = .ok (.iload_n 1, 1) := dk_27 (dk_at dksX1_doneBy_0 18 rfl rfl)
theorem dX1_doneBy_19 : decode cX1_doneBy 19 = .ok (.invokevirtual 398, 3) := dk_182 1 142 (dk_at dksX1_doneBy_0 19 rfl rfl)
theorem dX1_doneBy_22 : decode cX1_doneBy 22 = .ok (.invokevirtual 401, 3) := dk_182 1 145 (dk_at dksX1_doneBy_1 0 rfl rfl)
theorem dX1_doneBy_25 : decode cX1_doneBy 25 = .ok (.ireturn, 1) := dk_172 (dk_at dksX1_doneBy_1 3 rfl rfl)
abbrev cX1_finished : ByteArray := prog_1_method_59_code
def yX1_finished : MethodName := ⟨RX1, "finished", "(I)LTelescopeQueue$State;"⟩
def dkwX1_finished_0 : List UInt8 := [42, 182, 1, 129, 77, 44, 27, 182, 1, 135, 44, 182, 1, 139, 176]
abbrev dktX1_finished_0 : List UInt8 := dkwX1_finished_0 ++ []
theorem dksX1_finished_0 : cX1_finished.data.toList.drop 0 = dktX1_finished_0 := by decide +kernel
theorem dX1_finished_0 : decode cX1_finished 0 = .ok (.aload_n 0, 1) := dk_42 (dk_at dksX1_finished_0 0 rfl rfl)
theorem dX1_finished_1 : decode cX1_finished 1 = .ok (.invokevirtual 385, 3) := dk_182 1 129 (dk_at dksX1_finished_0 1 rfl rfl)
theorem dX1_finished_4 : decode cX1_finished 4 = .ok (.astore_n 2, 1) := dk_77 (dk_at dksX1_finished_0 4 rfl rfl)
theorem dX1_finished_5 : decode cX1_finished 5 = .ok (.aload_n 2, 1) := dk_44 (dk_at dksX1_finished_0 5 rfl rfl)
theorem dX1_finished_6 : decode cX1_finished 6 = .ok (.iload_n 1, 1) := dk_27 (dk_at dksX1_finished_0 6 rfl rfl)
theorem dX1_finished_7 : decode cX1_finished 7 = .ok (.invokevirtual 391, 3) := dk_182 1 135 (dk_at dksX1_finished_0 7 rfl rfl)
theorem dX1_finished_10 : decode cX1_finished 10 = .ok (.aload_n 2, 1) := dk_44 (dk_at dksX1_finished_0 10 rfl rfl)
theorem dX1_finished_11 : decode cX1_finished 11 = .ok (.invokevirtual 395, 3) := dk_182 1 139 (dk_at dksX1_finished_0 11 rfl rfl)
theorem dX1_finished_14 : decode cX1_finished 14 = .ok (.areturn, 1) := dk_176 (dk_at dksX1_finished_0 14 rfl rfl)
abbrev cX1_bestPolicy : ByteArray := prog_1_method_61_code
def yX1_bestPolicy : MethodName := ⟨RX1, "bestPolicy", "()I"⟩
def dkwX1_bestPolicy_2 : List UInt8 := [27, 172]
abbrev dktX1_bestPolicy_2 : List UInt8 := dkwX1_bestPolicy_2 ++ []
def dkwX1_bestPolicy_1 : List UInt8 := [3, 46, 54, 4, 21, 4, 28, 163, 0, 6, 167, 0, 8, 29, 60, 21, 4, 61, 132, 3, 1, 167, 255, 222]
abbrev dktX1_bestPolicy_1 : List UInt8 := dkwX1_bestPolicy_1 ++ dktX1_bestPolicy_2
def dkwX1_bestPolicy_0 : List UInt8 := [42, 182, 0, 79, 87, 3, 60, 2, 61, 3, 62, 29, 7, 162, 0, 35, 42, 29, 182, 1, 142, 180, 1, 100]
abbrev dktX1_bestPolicy_0 : List UInt8 := dkwX1_bestPolicy_0 ++ dktX1_bestPolicy_1
theorem dksX1_bestPolicy_0 : cX1_bestPolicy.data.toList.drop 0 = dktX1_bestPolicy_0 := by decide +kernel
theorem dksX1_bestPolicy_1 : cX1_bestPolicy.data.toList.drop 24 = dktX1_bestPolicy_1 := dk_seg dksX1_bestPolicy_0 24 rfl rfl
theorem dksX1_bestPolicy_2 : cX1_bestPolicy.data.toList.drop 48 = dktX1_bestPolicy_2 := dk_seg dksX1_bestPolicy_1 24 rfl rfl
theorem dX1_bestPolicy_0 : decode cX1_bestPolicy 0 = .ok (.aload_n 0, 1) := dk_42 (dk_at dksX1_bestPolicy_0 0 rfl rfl)
theorem dX1_bestPolicy_1 : decode cX1_bestPolicy 1 = .ok (.invokevirtual 79, 3) := dk_182 0 79 (dk_at dksX1_bestPolicy_0 1 rfl rfl)
theorem dX1_bestPolicy_4 : decode cX1_bestPolicy 4 = .ok (.pop, 1) := dk_87 (dk_at dksX1_bestPolicy_0 4 rfl rfl)
theorem dX1_bestPolicy_5 : decode cX1_bestPolicy 5 = .ok (.iconst 0, 1) := dk_3 (dk_at dksX1_bestPolicy_0 5 rfl rfl)
theorem dX1_bestPolicy_6 : decode cX1_bestPolicy 6 = .ok (.istore_n 1, 1) := dk_60 (dk_at dksX1_bestPolicy_0 6 rfl rfl)
theorem dX1_bestPolicy_7 : decode cX1_bestPolicy 7 = .ok (.iconst (-1), 1) := dk_2 (dk_at dksX1_bestPolicy_0 7 rfl rfl)
theorem dX1_bestPolicy_8 : decode cX1_bestPolicy 8 = .ok (.istore_n 2, 1) := dk_61 (dk_at dksX1_bestPolicy_0 8 rfl rfl)
theorem dX1_bestPolicy_9 : decode cX1_bestPolicy 9 = .ok (.iconst 0, 1) := dk_3 (dk_at dksX1_bestPolicy_0 9 rfl rfl)
theorem dX1_bestPolicy_10 : decode cX1_bestPolicy 10 = .ok (.istore_n 3, 1) := dk_62 (dk_at dksX1_bestPolicy_0 10 rfl rfl)
theorem dX1_bestPolicy_11 : decode cX1_bestPolicy 11 = .ok (.iload_n 3, 1) := dk_29 (dk_at dksX1_bestPolicy_0 11 rfl rfl)
theorem dX1_bestPolicy_12 : decode cX1_bestPolicy 12 = .ok (.iconst 4, 1) := dk_7 (dk_at dksX1_bestPolicy_0 12 rfl rfl)
theorem dX1_bestPolicy_13 : decode cX1_bestPolicy 13 = .ok (.if_icmp .ge 35, 3) := dk_162 0 35 (dk_at dksX1_bestPolicy_0 13 rfl rfl)
theorem dX1_bestPolicy_16 : decode cX1_bestPolicy 16 = .ok (.aload_n 0, 1) := dk_42 (dk_at dksX1_bestPolicy_0 16 rfl rfl)
theorem dX1_bestPolicy_17 : decode cX1_bestPolicy 17 = .ok (.iload_n 3, 1) := dk_29 (dk_at dksX1_bestPolicy_0 17 rfl rfl)
theorem dX1_bestPolicy_18 : decode cX1_bestPolicy 18 = .ok (.invokevirtual 398, 3) := dk_182 1 142 (dk_at dksX1_bestPolicy_0 18 rfl rfl)
theorem dX1_bestPolicy_21 : decode cX1_bestPolicy 21 = .ok (.getfield 356, 3) := dk_180 1 100 (dk_at dksX1_bestPolicy_0 21 rfl rfl)
theorem dX1_bestPolicy_24 : decode cX1_bestPolicy 24 = .ok (.iconst 0, 1) := dk_3 (dk_at dksX1_bestPolicy_1 0 rfl rfl)
theorem dX1_bestPolicy_25 : decode cX1_bestPolicy 25 = .ok (.iaload, 1) := dk_46 (dk_at dksX1_bestPolicy_1 1 rfl rfl)
theorem dX1_bestPolicy_26 : decode cX1_bestPolicy 26 = .ok (.istore 4, 2) := dk_54 4 (dk_at dksX1_bestPolicy_1 2 rfl rfl)
theorem dX1_bestPolicy_28 : decode cX1_bestPolicy 28 = .ok (.iload 4, 2) := dk_21 4 (dk_at dksX1_bestPolicy_1 4 rfl rfl)
theorem dX1_bestPolicy_30 : decode cX1_bestPolicy 30 = .ok (.iload_n 2, 1) := dk_28 (dk_at dksX1_bestPolicy_1 6 rfl rfl)
theorem dX1_bestPolicy_31 : decode cX1_bestPolicy 31 = .ok (.if_icmp .gt 6, 3) := dk_163 0 6 (dk_at dksX1_bestPolicy_1 7 rfl rfl)
theorem dX1_bestPolicy_34 : decode cX1_bestPolicy 34 = .ok (.goto 8, 3) := dk_167 0 8 (dk_at dksX1_bestPolicy_1 10 rfl rfl)
theorem dX1_bestPolicy_37 : decode cX1_bestPolicy 37 = .ok (.iload_n 3, 1) := dk_29 (dk_at dksX1_bestPolicy_1 13 rfl rfl)
theorem dX1_bestPolicy_38 : decode cX1_bestPolicy 38 = .ok (.istore_n 1, 1) := dk_60 (dk_at dksX1_bestPolicy_1 14 rfl rfl)
theorem dX1_bestPolicy_39 : decode cX1_bestPolicy 39 = .ok (.iload 4, 2) := dk_21 4 (dk_at dksX1_bestPolicy_1 15 rfl rfl)
theorem dX1_bestPolicy_41 : decode cX1_bestPolicy 41 = .ok (.istore_n 2, 1) := dk_61 (dk_at dksX1_bestPolicy_1 17 rfl rfl)
theorem dX1_bestPolicy_42 : decode cX1_bestPolicy 42 = .ok (.iinc 3 1, 3) := dk_132 3 1 (dk_at dksX1_bestPolicy_1 18 rfl rfl)
theorem dX1_bestPolicy_45 : decode cX1_bestPolicy 45 = .ok (.goto (-34), 3) := dk_167 255 222 (dk_at dksX1_bestPolicy_1 21 rfl rfl)
theorem dX1_bestPolicy_48 : decode cX1_bestPolicy 48 = .ok (.iload_n 1, 1) := dk_27 (dk_at dksX1_bestPolicy_2 0 rfl rfl)
theorem dX1_bestPolicy_49 : decode cX1_bestPolicy 49 = .ok (.ireturn, 1) := dk_172 (dk_at dksX1_bestPolicy_2 1 rfl rfl)
abbrev cX1_usedWith : ByteArray := prog_1_method_62_code
def yX1_usedWith : MethodName := ⟨RX1, "usedWith", "(I)I"⟩
def dkwX1_usedWith_1 : List UInt8 := [44, 27, 181, 1, 15, 44, 182, 1, 139, 180, 1, 100, 3, 46, 172]
abbrev dktX1_usedWith_1 : List UInt8 := dkwX1_usedWith_1 ++ []
def dkwX1_usedWith_0 : List UInt8 := [42, 182, 0, 79, 87, 27, 133, 20, 0, 254, 20, 1, 148, 184, 0, 62, 184, 0, 144, 42, 182, 1, 129, 77]
abbrev dktX1_usedWith_0 : List UInt8 := dkwX1_usedWith_0 ++ dktX1_usedWith_1
theorem dksX1_usedWith_0 : cX1_usedWith.data.toList.drop 0 = dktX1_usedWith_0 := by decide +kernel
theorem dksX1_usedWith_1 : cX1_usedWith.data.toList.drop 24 = dktX1_usedWith_1 := dk_seg dksX1_usedWith_0 24 rfl rfl
theorem dX1_usedWith_0 : decode cX1_usedWith 0 = .ok (.aload_n 0, 1) := dk_42 (dk_at dksX1_usedWith_0 0 rfl rfl)
theorem dX1_usedWith_1 : decode cX1_usedWith 1 = .ok (.invokevirtual 79, 3) := dk_182 0 79 (dk_at dksX1_usedWith_0 1 rfl rfl)
theorem dX1_usedWith_4 : decode cX1_usedWith 4 = .ok (.pop, 1) := dk_87 (dk_at dksX1_usedWith_0 4 rfl rfl)
theorem dX1_usedWith_5 : decode cX1_usedWith 5 = .ok (.iload_n 1, 1) := dk_27 (dk_at dksX1_usedWith_0 5 rfl rfl)
theorem dX1_usedWith_6 : decode cX1_usedWith 6 = .ok (.i2l, 1) := dk_133 (dk_at dksX1_usedWith_0 6 rfl rfl)
theorem dX1_usedWith_7 : decode cX1_usedWith 7 = .ok (.ldc2_w 254, 3) := dk_20 0 254 (dk_at dksX1_usedWith_0 7 rfl rfl)
theorem dX1_usedWith_10 : decode cX1_usedWith 10 = .ok (.ldc2_w 404, 3) := dk_20 1 148 (dk_at dksX1_usedWith_0 10 rfl rfl)
theorem dX1_usedWith_13 : decode cX1_usedWith 13 = .ok (.invokestatic 62, 3) := dk_184 0 62 (dk_at dksX1_usedWith_0 13 rfl rfl)
theorem dX1_usedWith_16 : decode cX1_usedWith 16 = .ok (.invokestatic 144, 3) := dk_184 0 144 (dk_at dksX1_usedWith_0 16 rfl rfl)
theorem dX1_usedWith_19 : decode cX1_usedWith 19 = .ok (.aload_n 0, 1) := dk_42 (dk_at dksX1_usedWith_0 19 rfl rfl)
theorem dX1_usedWith_20 : decode cX1_usedWith 20 = .ok (.invokevirtual 385, 3) := dk_182 1 129 (dk_at dksX1_usedWith_0 20 rfl rfl)
theorem dX1_usedWith_23 : decode cX1_usedWith 23 = .ok (.astore_n 2, 1) := dk_77 (dk_at dksX1_usedWith_0 23 rfl rfl)
theorem dX1_usedWith_24 : decode cX1_usedWith 24 = .ok (.aload_n 2, 1) := dk_44 (dk_at dksX1_usedWith_1 0 rfl rfl)
theorem dX1_usedWith_25 : decode cX1_usedWith 25 = .ok (.iload_n 1, 1) := dk_27 (dk_at dksX1_usedWith_1 1 rfl rfl)
theorem dX1_usedWith_26 : decode cX1_usedWith 26 = .ok (.putfield 271, 3) := dk_181 1 15 (dk_at dksX1_usedWith_1 2 rfl rfl)
theorem dX1_usedWith_29 : decode cX1_usedWith 29 = .ok (.aload_n 2, 1) := dk_44 (dk_at dksX1_usedWith_1 5 rfl rfl)
theorem dX1_usedWith_30 : decode cX1_usedWith 30 = .ok (.invokevirtual 395, 3) := dk_182 1 139 (dk_at dksX1_usedWith_1 6 rfl rfl)
theorem dX1_usedWith_33 : decode cX1_usedWith 33 = .ok (.getfield 356, 3) := dk_180 1 100 (dk_at dksX1_usedWith_1 9 rfl rfl)
theorem dX1_usedWith_36 : decode cX1_usedWith 36 = .ok (.iconst 0, 1) := dk_3 (dk_at dksX1_usedWith_1 12 rfl rfl)
theorem dX1_usedWith_37 : decode cX1_usedWith 37 = .ok (.iaload, 1) := dk_46 (dk_at dksX1_usedWith_1 13 rfl rfl)
theorem dX1_usedWith_38 : decode cX1_usedWith 38 = .ok (.ireturn, 1) := dk_172 (dk_at dksX1_usedWith_1 14 rfl rfl)
abbrev cX1_shortfall : ByteArray := prog_1_method_63_code
def yX1_shortfall : MethodName := ⟨RX1, "shortfall", "(I)I"⟩
def dkwX1_shortfall_0 : List UInt8 := [42, 27, 182, 0, 138, 87, 42, 182, 1, 129, 182, 1, 139, 27, 182, 0, 157, 172]
abbrev dktX1_shortfall_0 : List UInt8 := dkwX1_shortfall_0 ++ []
theorem dksX1_shortfall_0 : cX1_shortfall.data.toList.drop 0 = dktX1_shortfall_0 := by decide +kernel
theorem dX1_shortfall_0 : decode cX1_shortfall 0 = .ok (.aload_n 0, 1) := dk_42 (dk_at dksX1_shortfall_0 0 rfl rfl)
theorem dX1_shortfall_1 : decode cX1_shortfall 1 = .ok (.iload_n 1, 1) := dk_27 (dk_at dksX1_shortfall_0 1 rfl rfl)
theorem dX1_shortfall_2 : decode cX1_shortfall 2 = .ok (.invokevirtual 138, 3) := dk_182 0 138 (dk_at dksX1_shortfall_0 2 rfl rfl)
theorem dX1_shortfall_5 : decode cX1_shortfall 5 = .ok (.pop, 1) := dk_87 (dk_at dksX1_shortfall_0 5 rfl rfl)
theorem dX1_shortfall_6 : decode cX1_shortfall 6 = .ok (.aload_n 0, 1) := dk_42 (dk_at dksX1_shortfall_0 6 rfl rfl)
theorem dX1_shortfall_7 : decode cX1_shortfall 7 = .ok (.invokevirtual 385, 3) := dk_182 1 129 (dk_at dksX1_shortfall_0 7 rfl rfl)
theorem dX1_shortfall_10 : decode cX1_shortfall 10 = .ok (.invokevirtual 395, 3) := dk_182 1 139 (dk_at dksX1_shortfall_0 10 rfl rfl)
theorem dX1_shortfall_13 : decode cX1_shortfall 13 = .ok (.iload_n 1, 1) := dk_27 (dk_at dksX1_shortfall_0 13 rfl rfl)
theorem dX1_shortfall_14 : decode cX1_shortfall 14 = .ok (.invokevirtual 157, 3) := dk_182 0 157 (dk_at dksX1_shortfall_0 14 rfl rfl)
theorem dX1_shortfall_17 : decode cX1_shortfall 17 = .ok (.ireturn, 1) := dk_172 (dk_at dksX1_shortfall_0 17 rfl rfl)
abbrev cX1_writeEntry : ByteArray := prog_1_method_65_code
def yX1_writeEntry : MethodName := ⟨RX1, "writeEntry", "(I)I"⟩
def dkwX1_writeEntry_5 : List UInt8 := [182, 1, 162, 87, 42, 180, 0, 55, 182, 1, 176, 172]
abbrev dktX1_writeEntry_5 : List UInt8 := dkwX1_writeEntry_5 ++ []
def dkwX1_writeEntry_4 : List UInt8 := [163, 0, 27, 42, 180, 0, 55, 16, 32, 182, 1, 166, 42, 180, 0, 72, 180, 1, 118, 28, 4, 96, 46]
abbrev dktX1_writeEntry_4 : List UInt8 := dkwX1_writeEntry_4 ++ dktX1_writeEntry_5
def dkwX1_writeEntry_3 : List UInt8 := [180, 1, 118, 28, 46, 184, 1, 169, 182, 1, 173, 87, 42, 180, 0, 72, 180, 1, 118, 28, 46, 5]
abbrev dktX1_writeEntry_3 : List UInt8 := dkwX1_writeEntry_3 ++ dktX1_writeEntry_4
def dkwX1_writeEntry_2 : List UInt8 := [180, 0, 72, 180, 1, 118, 28, 6, 96, 46, 182, 1, 162, 16, 32, 182, 1, 166, 42, 180, 0, 72]
abbrev dktX1_writeEntry_2 : List UInt8 := dkwX1_writeEntry_2 ++ dktX1_writeEntry_3
def dkwX1_writeEntry_1 : List UInt8 := [180, 0, 55, 42, 180, 0, 72, 180, 1, 118, 28, 5, 96, 46, 182, 1, 162, 16, 45, 182, 1, 166, 42]
abbrev dktX1_writeEntry_1 : List UInt8 := dkwX1_writeEntry_1 ++ dktX1_writeEntry_2
def dkwX1_writeEntry_0 : List UInt8 := [27, 42, 182, 0, 79, 180, 1, 113, 184, 0, 93, 7, 27, 104, 61, 42, 180, 0, 55, 3, 182, 1, 159, 42]
abbrev dktX1_writeEntry_0 : List UInt8 := dkwX1_writeEntry_0 ++ dktX1_writeEntry_1
theorem dksX1_writeEntry_0 : cX1_writeEntry.data.toList.drop 0 = dktX1_writeEntry_0 := by decide +kernel
theorem dksX1_writeEntry_1 : cX1_writeEntry.data.toList.drop 24 = dktX1_writeEntry_1 := dk_seg dksX1_writeEntry_0 24 rfl rfl
theorem dksX1_writeEntry_2 : cX1_writeEntry.data.toList.drop 47 = dktX1_writeEntry_2 := dk_seg dksX1_writeEntry_1 23 rfl rfl
theorem dksX1_writeEntry_3 : cX1_writeEntry.data.toList.drop 69 = dktX1_writeEntry_3 := dk_seg dksX1_writeEntry_2 22 rfl rfl
theorem dksX1_writeEntry_4 : cX1_writeEntry.data.toList.drop 91 = dktX1_writeEntry_4 := dk_seg dksX1_writeEntry_3 22 rfl rfl
theorem dksX1_writeEntry_5 : cX1_writeEntry.data.toList.drop 114 = dktX1_writeEntry_5 := dk_seg dksX1_writeEntry_4 23 rfl rfl
theorem dX1_writeEntry_0 : decode cX1_writeEntry 0 = .ok (.iload_n 1, 1) := dk_27 (dk_at dksX1_writeEntry_0 0 rfl rfl)
theorem dX1_writeEntry_1 : decode cX1_writeEntry 1 = .ok (.aload_n 0, 1) := dk_42 (dk_at dksX1_writeEntry_0 1 rfl rfl)
theorem dX1_writeEntry_2 : decode cX1_writeEntry 2 = .ok (.invokevirtual 79, 3) := dk_182 0 79 (dk_at dksX1_writeEntry_0 2 rfl rfl)
theorem dX1_writeEntry_5 : decode cX1_writeEntry 5 = .ok (.getfield 369, 3) := dk_180 1 113 (dk_at dksX1_writeEntry_0 5 rfl rfl)
theorem dX1_writeEntry_8 : decode cX1_writeEntry 8 = .ok (.invokestatic 93, 3) := dk_184 0 93 (dk_at dksX1_writeEntry_0 8 rfl rfl)
theorem dX1_writeEntry_11 : decode cX1_writeEntry 11 = .ok (.iconst 4, 1) := dk_7 (dk_at dksX1_writeEntry_0 11 rfl rfl)
theorem dX1_writeEntry_12 : decode cX1_writeEntry 12 = .ok (.iload_n 1, 1) := dk_27 (dk_at dksX1_writeEntry_0 12 rfl rfl)
theorem dX1_writeEntry_13 : decode cX1_writeEntry 13 = .ok (.imul, 1) := dk_104 (dk_at dksX1_writeEntry_0 13 rfl rfl)
theorem dX1_writeEntry_14 : decode cX1_writeEntry 14 = .ok (.istore_n 2, 1) := dk_61 (dk_at dksX1_writeEntry_0 14 rfl rfl)
theorem dX1_writeEntry_15 : decode cX1_writeEntry 15 = .ok (.aload_n 0, 1) := dk_42 (dk_at dksX1_writeEntry_0 15 rfl rfl)
theorem dX1_writeEntry_16 : decode cX1_writeEntry 16 = .ok (.getfield 55, 3) := dk_180 0 55 (dk_at dksX1_writeEntry_0 16 rfl rfl)
theorem dX1_writeEntry_19 : decode cX1_writeEntry 19 = .ok (.iconst 0, 1) := dk_3 (dk_at dksX1_writeEntry_0 19 rfl rfl)
theorem dX1_writeEntry_20 : decode cX1_writeEntry 20 = .ok (.invokevirtual 415, 3) := dk_182 1 159 (dk_at dksX1_writeEntry_0 20 rfl rfl)
theorem dX1_writeEntry_23 : decode cX1_writeEntry 23 = .ok (.aload_n 0, 1) := dk_42 (dk_at dksX1_writeEntry_0 23 rfl rfl)
theorem dX1_writeEntry_24 : decode cX1_writeEntry 24 = .ok (.getfield 55, 3) := dk_180 0 55 (dk_at dksX1_writeEntry_1 0 rfl rfl)
theorem dX1_writeEntry_27 : decode cX1_writeEntry 27 = .ok (.aload_n 0, 1) := dk_42 (dk_at dksX1_writeEntry_1 3 rfl rfl)
theorem dX1_writeEntry_28 : decode cX1_writeEntry 28 = .ok (.getfield 72, 3) := dk_180 0 72 (dk_at dksX1_writeEntry_1 4 rfl rfl)
theorem dX1_writeEntry_31 : decode cX1_writeEntry 31 = .ok (.getfield 374, 3) := dk_180 1 118 (dk_at dksX1_writeEntry_1 7 rfl rfl)
theorem dX1_writeEntry_34 : decode cX1_writeEntry 34 = .ok (.iload_n 2, 1) := dk_28 (dk_at dksX1_writeEntry_1 10 rfl rfl)
theorem dX1_writeEntry_35 : decode cX1_writeEntry 35 = .ok (.iconst 2, 1) := dk_5 (dk_at dksX1_writeEntry_1 11 rfl rfl)
theorem dX1_writeEntry_36 : decode cX1_writeEntry 36 = .ok (.iadd, 1) := dk_96 (dk_at dksX1_writeEntry_1 12 rfl rfl)
theorem dX1_writeEntry_37 : decode cX1_writeEntry 37 = .ok (.iaload, 1) := dk_46 (dk_at dksX1_writeEntry_1 13 rfl rfl)
theorem dX1_writeEntry_38 : decode cX1_writeEntry 38 = .ok (.invokevirtual 418, 3) := dk_182 1 162 (dk_at dksX1_writeEntry_1 14 rfl rfl)
theorem dX1_writeEntry_41 : decode cX1_writeEntry 41 = .ok (.bipush 45, 2) := dk_16 45 (dk_at dksX1_writeEntry_1 17 rfl rfl)
theorem dX1_writeEntry_43 : decode cX1_writeEntry 43 = .ok (.invokevirtual 422, 3) := dk_182 1 166 (dk_at dksX1_writeEntry_1 19 rfl rfl)
theorem dX1_writeEntry_46 : decode cX1_writeEntry 46 = .ok (.aload_n 0, 1) := dk_42 (dk_at dksX1_writeEntry_1 22 rfl rfl)
theorem dX1_writeEntry_47 : decode cX1_writeEntry 47 = .ok (.getfield 72, 3) := dk_180 0 72 (dk_at dksX1_writeEntry_2 0 rfl rfl)
theorem dX1_writeEntry_50 : decode cX1_writeEntry 50 = .ok (.getfield 374, 3) := dk_180 1 118 (dk_at dksX1_writeEntry_2 3 rfl rfl)
theorem dX1_writeEntry_53 : decode cX1_writeEntry 53 = .ok (.iload_n 2, 1) := dk_28 (dk_at dksX1_writeEntry_2 6 rfl rfl)
theorem dX1_writeEntry_54 : decode cX1_writeEntry 54 = .ok (.iconst 3, 1) := dk_6 (dk_at dksX1_writeEntry_2 7 rfl rfl)
theorem dX1_writeEntry_55 : decode cX1_writeEntry 55 = .ok (.iadd, 1) := dk_96 (dk_at dksX1_writeEntry_2 8 rfl rfl)
theorem dX1_writeEntry_56 : decode cX1_writeEntry 56 = .ok (.iaload, 1) := dk_46 (dk_at dksX1_writeEntry_2 9 rfl rfl)
theorem dX1_writeEntry_57 : decode cX1_writeEntry 57 = .ok (.invokevirtual 418, 3) := dk_182 1 162 (dk_at dksX1_writeEntry_2 10 rfl rfl)
theorem dX1_writeEntry_60 : decode cX1_writeEntry 60 = .ok (.bipush 32, 2) := dk_16 32 (dk_at dksX1_writeEntry_2 13 rfl rfl)
theorem dX1_writeEntry_62 : decode cX1_writeEntry 62 = .ok (.invokevirtual 422, 3) := dk_182 1 166 (dk_at dksX1_writeEntry_2 15 rfl rfl)
theorem dX1_writeEntry_65 : decode cX1_writeEntry 65 = .ok (.aload_n 0, 1) := dk_42 (dk_at dksX1_writeEntry_2 18 rfl rfl)
theorem dX1_writeEntry_66 : decode cX1_writeEntry 66 = .ok (.getfield 72, 3) := dk_180 0 72 (dk_at dksX1_writeEntry_2 19 rfl rfl)
theorem dX1_writeEntry_69 : decode cX1_writeEntry 69 = .ok (.getfield 374, 3) := dk_180 1 118 (dk_at dksX1_writeEntry_3 0 rfl rfl)
theorem dX1_writeEntry_72 : decode cX1_writeEntry 72 = .ok (.iload_n 2, 1) := dk_28 (dk_at dksX1_writeEntry_3 3 rfl rfl)
theorem dX1_writeEntry_73 : decode cX1_writeEntry 73 = .ok (.iaload, 1) := dk_46 (dk_at dksX1_writeEntry_3 4 rfl rfl)
theorem dX1_writeEntry_74 : decode cX1_writeEntry 74 = .ok (.invokestatic 425, 3) := dk_184 1 169 (dk_at dksX1_writeEntry_3 5 rfl rfl)
theorem dX1_writeEntry_77 : decode cX1_writeEntry 77 = .ok (.invokevirtual 429, 3) := dk_182 1 173 (dk_at dksX1_writeEntry_3 8 rfl rfl)
theorem dX1_writeEntry_80 : decode cX1_writeEntry 80 = .ok (.pop, 1) := dk_87 (dk_at dksX1_writeEntry_3 11 rfl rfl)
theorem dX1_writeEntry_81 : decode cX1_writeEntry 81 = .ok (.aload_n 0, 1) := dk_42 (dk_at dksX1_writeEntry_3 12 rfl rfl)
theorem dX1_writeEntry_82 : decode cX1_writeEntry 82 = .ok (.getfield 72, 3) := dk_180 0 72 (dk_at dksX1_writeEntry_3 13 rfl rfl)
theorem dX1_writeEntry_85 : decode cX1_writeEntry 85 = .ok (.getfield 374, 3) := dk_180 1 118 (dk_at dksX1_writeEntry_3 16 rfl rfl)
theorem dX1_writeEntry_88 : decode cX1_writeEntry 88 = .ok (.iload_n 2, 1) := dk_28 (dk_at dksX1_writeEntry_3 19 rfl rfl)
theorem dX1_writeEntry_89 : decode cX1_writeEntry 89 = .ok (.iaload, 1) := dk_46 (dk_at dksX1_writeEntry_3 20 rfl rfl)
theorem dX1_writeEntry_90 : decode cX1_writeEntry 90 = .ok (.iconst 2, 1) := dk_5 (dk_at dksX1_writeEntry_3 21 rfl rfl)
theorem dX1_writeEntry_91 : decode cX1_writeEntry 91 = .ok (.if_icmp .gt 27, 3) := dk_163 0 27 (dk_at dksX1_writeEntry_4 0 rfl rfl)
theorem dX1_writeEntry_94 : decode cX1_writeEntry 94 = .ok (.aload_n 0, 1) := dk_42 (dk_at dksX1_writeEntry_4 3 rfl rfl)
theorem dX1_writeEntry_95 : decode cX1_writeEntry 95 = .ok (.getfield 55, 3) := dk_180 0 55 (dk_at dksX1_writeEntry_4 4 rfl rfl)
theorem dX1_writeEntry_98 : decode cX1_writeEntry 98 = .ok (.bipush 32, 2) := dk_16 32 (dk_at dksX1_writeEntry_4 7 rfl rfl)
theorem dX1_writeEntry_100 : decode cX1_writeEntry 100 = .ok (.invokevirtual 422, 3) := dk_182 1 166 (dk_at dksX1_writeEntry_4 9 rfl rfl)
theorem dX1_writeEntry_103 : decode cX1_writeEntry 103 = .ok (.aload_n 0, 1) := dk_42 (dk_at dksX1_writeEntry_4 12 rfl rfl)
theorem dX1_writeEntry_104 : decode cX1_writeEntry 104 = .ok (.getfield 72, 3) := dk_180 0 72 (dk_at dksX1_writeEntry_4 13 rfl rfl)
theorem dX1_writeEntry_107 : decode cX1_writeEntry 107 = .ok (.getfield 374, 3) := dk_180 1 118 (dk_at dksX1_writeEntry_4 16 rfl rfl)
theorem dX1_writeEntry_110 : decode cX1_writeEntry 110 = .ok (.iload_n 2, 1) := dk_28 (dk_at dksX1_writeEntry_4 19 rfl rfl)
theorem dX1_writeEntry_111 : decode cX1_writeEntry 111 = .ok (.iconst 1, 1) := dk_4 (dk_at dksX1_writeEntry_4 20 rfl rfl)
theorem dX1_writeEntry_112 : decode cX1_writeEntry 112 = .ok (.iadd, 1) := dk_96 (dk_at dksX1_writeEntry_4 21 rfl rfl)
theorem dX1_writeEntry_113 : decode cX1_writeEntry 113 = .ok (.iaload, 1) := dk_46 (dk_at dksX1_writeEntry_4 22 rfl rfl)
theorem dX1_writeEntry_114 : decode cX1_writeEntry 114 = .ok (.invokevirtual 418, 3) := dk_182 1 162 (dk_at dksX1_writeEntry_5 0 rfl rfl)
theorem dX1_writeEntry_117 : decode cX1_writeEntry 117 = .ok (.pop, 1) := dk_87 (dk_at dksX1_writeEntry_5 3 rfl rfl)
theorem dX1_writeEntry_118 : decode cX1_writeEntry 118 = .ok (.aload_n 0, 1) := dk_42 (dk_at dksX1_writeEntry_5 4 rfl rfl)
theorem dX1_writeEntry_119 : decode cX1_writeEntry 119 = .ok (.getfield 55, 3) := dk_180 0 55 (dk_at dksX1_writeEntry_5 5 rfl rfl)
theorem dX1_writeEntry_122 : decode cX1_writeEntry 122 = .ok (.invokevirtual 432, 3) := dk_182 1 176 (dk_at dksX1_writeEntry_5 8 rfl rfl)
theorem dX1_writeEntry_125 : decode cX1_writeEntry 125 = .ok (.ireturn, 1) := dk_172 (dk_at dksX1_writeEntry_5 11 rfl rfl)
abbrev cX1_word : ByteArray := prog_1_method_64_code
def yX1_word : MethodName := ⟨RX1, "word", "(I)Ljava/lang/CharSequence;"⟩
def dkwX1_word_3 : List UInt8 := [19, 1, 157, 176]
abbrev dktX1_word_3 : List UInt8 := dkwX1_word_3 ++ []
def dkwX1_word_2 : List UInt8 := [19, 1, 150, 167, 0, 24, 19, 1, 152, 167, 0, 18, 19, 1, 154, 167, 0, 12, 19, 1, 156, 167, 0, 6]
abbrev dktX1_word_2 : List UInt8 := dkwX1_word_2 ++ dktX1_word_3
def dkwX1_word_1 : List UInt8 := [170, 0, 0, 0, 0, 0, 55, 0, 0, 0, 0, 0, 0, 0, 3, 0, 0, 0, 31, 0, 0, 0, 37, 0, 0, 0, 43, 0, 0, 0, 49]
abbrev dktX1_word_1 : List UInt8 := dkwX1_word_1 ++ dktX1_word_2
def dkwX1_word_0 : List UInt8 := [26]
abbrev dktX1_word_0 : List UInt8 := dkwX1_word_0 ++ dktX1_word_1
theorem dksX1_word_0 : cX1_word.data.toList.drop 0 = dktX1_word_0 := by decide +kernel
theorem dksX1_word_1 : cX1_word.data.toList.drop 1 = dktX1_word_1 := dk_seg dksX1_word_0 1 rfl rfl
theorem dksX1_word_2 : cX1_word.data.toList.drop 32 = dktX1_word_2 := dk_seg dksX1_word_1 31 rfl rfl
theorem dksX1_word_3 : cX1_word.data.toList.drop 56 = dktX1_word_3 := dk_seg dksX1_word_2 24 rfl rfl
theorem dX1_word_0 : decode cX1_word 0 = .ok (.iload_n 0, 1) := dk_26 (dk_at dksX1_word_0 0 rfl rfl)
theorem dX1_word_1 : decode cX1_word 1 = .ok (.tableswitch 55 0 3 #[31, 37, 43, 49], 31) := by decide +kernel
theorem dX1_word_32 : decode cX1_word 32 = .ok (.ldc_w 406, 3) := dk_19 1 150 (dk_at dksX1_word_2 0 rfl rfl)
theorem dX1_word_35 : decode cX1_word 35 = .ok (.goto 24, 3) := dk_167 0 24 (dk_at dksX1_word_2 3 rfl rfl)
theorem dX1_word_38 : decode cX1_word 38 = .ok (.ldc_w 408, 3) := dk_19 1 152 (dk_at dksX1_word_2 6 rfl rfl)
theorem dX1_word_41 : decode cX1_word 41 = .ok (.goto 18, 3) := dk_167 0 18 (dk_at dksX1_word_2 9 rfl rfl)
theorem dX1_word_44 : decode cX1_word 44 = .ok (.ldc_w 410, 3) := dk_19 1 154 (dk_at dksX1_word_2 12 rfl rfl)
theorem dX1_word_47 : decode cX1_word 47 = .ok (.goto 12, 3) := dk_167 0 12 (dk_at dksX1_word_2 15 rfl rfl)
theorem dX1_word_50 : decode cX1_word 50 = .ok (.ldc_w 412, 3) := dk_19 1 156 (dk_at dksX1_word_2 18 rfl rfl)
theorem dX1_word_53 : decode cX1_word 53 = .ok (.goto 6, 3) := dk_167 0 6 (dk_at dksX1_word_2 21 rfl rfl)
theorem dX1_word_56 : decode cX1_word 56 = .ok (.ldc_w 413, 3) := dk_19 1 157 (dk_at dksX1_word_3 0 rfl rfl)
theorem dX1_word_59 : decode cX1_word 59 = .ok (.areturn, 1) := dk_176 (dk_at dksX1_word_3 3 rfl rfl)
abbrev cX1_writeAccount : ByteArray := prog_1_method_66_code
def yX1_writeAccount : MethodName := ⟨RX1, "writeAccount", "(I)I"⟩
def dkwX1_writeAccount_4 : List UInt8 := [182, 0, 157, 182, 1, 162, 87, 42, 180, 0, 55, 182, 1, 176, 172]
abbrev dktX1_writeAccount_4 : List UInt8 := dkwX1_writeAccount_4 ++ []
def dkwX1_writeAccount_3 : List UInt8 := [180, 0, 55, 16, 43, 182, 1, 166, 44, 180, 0, 154, 27, 46, 182, 1, 162, 16, 43, 182, 1, 166, 44, 27]
abbrev dktX1_writeAccount_3 : List UInt8 := dkwX1_writeAccount_3 ++ dktX1_writeAccount_4
def dkwX1_writeAccount_2 : List UInt8 := [180, 0, 147, 27, 46, 182, 1, 162, 16, 61, 182, 1, 166, 44, 180, 0, 151, 27, 46, 182, 1, 162, 87, 42]
abbrev dktX1_writeAccount_2 : List UInt8 := dkwX1_writeAccount_2 ++ dktX1_writeAccount_3
def dkwX1_writeAccount_1 : List UInt8 := [180, 0, 87, 27, 185, 0, 7, 2, 0, 192, 0, 171, 180, 0, 173, 182, 1, 177, 16, 58, 182, 1, 166, 44]
abbrev dktX1_writeAccount_1 : List UInt8 := dkwX1_writeAccount_1 ++ dktX1_writeAccount_2
def dkwX1_writeAccount_0 : List UInt8 := [42, 27, 182, 0, 138, 77, 42, 180, 0, 55, 3, 182, 1, 159, 42, 180, 0, 55, 44, 180, 0, 83]
abbrev dktX1_writeAccount_0 : List UInt8 := dkwX1_writeAccount_0 ++ dktX1_writeAccount_1
theorem dksX1_writeAccount_0 : cX1_writeAccount.data.toList.drop 0 = dktX1_writeAccount_0 := by decide +kernel
theorem dksX1_writeAccount_1 : cX1_writeAccount.data.toList.drop 22 = dktX1_writeAccount_1 := dk_seg dksX1_writeAccount_0 22 rfl rfl
theorem dksX1_writeAccount_2 : cX1_writeAccount.data.toList.drop 46 = dktX1_writeAccount_2 := dk_seg dksX1_writeAccount_1 24 rfl rfl
theorem dksX1_writeAccount_3 : cX1_writeAccount.data.toList.drop 70 = dktX1_writeAccount_3 := dk_seg dksX1_writeAccount_2 24 rfl rfl
theorem dksX1_writeAccount_4 : cX1_writeAccount.data.toList.drop 94 = dktX1_writeAccount_4 := dk_seg dksX1_writeAccount_3 24 rfl rfl
theorem dX1_writeAccount_0 : decode cX1_writeAccount 0 = .ok (.aload_n 0, 1) := dk_42 (dk_at dksX1_writeAccount_0 0 rfl rfl)
theorem dX1_writeAccount_1 : decode cX1_writeAccount 1 = .ok (.iload_n 1, 1) := dk_27 (dk_at dksX1_writeAccount_0 1 rfl rfl)
theorem dX1_writeAccount_2 : decode cX1_writeAccount 2 = .ok (.invokevirtual 138, 3) := dk_182 0 138 (dk_at dksX1_writeAccount_0 2 rfl rfl)
theorem dX1_writeAccount_5 : decode cX1_writeAccount 5 = .ok (.astore_n 2, 1) := dk_77 (dk_at dksX1_writeAccount_0 5 rfl rfl)
theorem dX1_writeAccount_6 : decode cX1_writeAccount 6 = .ok (.aload_n 0, 1) := dk_42 (dk_at dksX1_writeAccount_0 6 rfl rfl)
theorem dX1_writeAccount_7 : decode cX1_writeAccount 7 = .ok (.getfield 55, 3) := dk_180 0 55 (dk_at dksX1_writeAccount_0 7 rfl rfl)
theorem dX1_writeAccount_10 : decode cX1_writeAccount 10 = .ok (.iconst 0, 1) := dk_3 (dk_at dksX1_writeAccount_0 10 rfl rfl)
theorem dX1_writeAccount_11 : decode cX1_writeAccount 11 = .ok (.invokevirtual 415, 3) := dk_182 1 159 (dk_at dksX1_writeAccount_0 11 rfl rfl)
theorem dX1_writeAccount_14 : decode cX1_writeAccount 14 = .ok (.aload_n 0, 1) := dk_42 (dk_at dksX1_writeAccount_0 14 rfl rfl)
theorem dX1_writeAccount_15 : decode cX1_writeAccount 15 = .ok (.getfield 55, 3) := dk_180 0 55 (dk_at dksX1_writeAccount_0 15 rfl rfl)
theorem dX1_writeAccount_18 : decode cX1_writeAccount 18 = .ok (.aload_n 2, 1) := dk_44 (dk_at dksX1_writeAccount_0 18 rfl rfl)
theorem dX1_writeAccount_19 : decode cX1_writeAccount 19 = .ok (.getfield 83, 3) := dk_180 0 83 (dk_at dksX1_writeAccount_0 19 rfl rfl)
theorem dX1_writeAccount_22 : decode cX1_writeAccount 22 = .ok (.getfield 87, 3) := dk_180 0 87 (dk_at dksX1_writeAccount_1 0 rfl rfl)
theorem dX1_writeAccount_25 : decode cX1_writeAccount 25 = .ok (.iload_n 1, 1) := dk_27 (dk_at dksX1_writeAccount_1 3 rfl rfl)
theorem dX1_writeAccount_26 : decode cX1_writeAccount 26 = .ok (.invokeinterface 7 2, 5) := by decide +kernel
theorem dX1_writeAccount_31 : decode cX1_writeAccount 31 = .ok (.checkcast 171, 3) := dk_192 0 171 (dk_at dksX1_writeAccount_1 9 rfl rfl)
theorem dX1_writeAccount_34 : decode cX1_writeAccount 34 = .ok (.getfield 173, 3) := dk_180 0 173 (dk_at dksX1_writeAccount_1 12 rfl rfl)
theorem dX1_writeAccount_37 : decode cX1_writeAccount 37 = .ok (.invokevirtual 433, 3) := dk_182 1 177 (dk_at dksX1_writeAccount_1 15 rfl rfl)
theorem dX1_writeAccount_40 : decode cX1_writeAccount 40 = .ok (.bipush 58, 2) := dk_16 58 (dk_at dksX1_writeAccount_1 18 rfl rfl)
theorem dX1_writeAccount_42 : decode cX1_writeAccount 42 = .ok (.invokevirtual 422, 3) := dk_182 1 166 (dk_at dksX1_writeAccount_1 20 rfl rfl)
theorem dX1_writeAccount_45 : decode cX1_writeAccount 45 = .ok (.aload_n 2, 1) := dk_44 (dk_at dksX1_writeAccount_1 23 rfl rfl)
theorem dX1_writeAccount_46 : decode cX1_writeAccount 46 = .ok (.getfield 147, 3) := dk_180 0 147 (dk_at dksX1_writeAccount_2 0 rfl rfl)
theorem dX1_writeAccount_49 : decode cX1_writeAccount 49 = .ok (.iload_n 1, 1) := dk_27 (dk_at dksX1_writeAccount_2 3 rfl rfl)
theorem dX1_writeAccount_50 : decode cX1_writeAccount 50 = .ok (.iaload, 1) := dk_46 (dk_at dksX1_writeAccount_2 4 rfl rfl)
theorem dX1_writeAccount_51 : decode cX1_writeAccount 51 = .ok (.invokevirtual 418, 3) := dk_182 1 162 (dk_at dksX1_writeAccount_2 5 rfl rfl)
theorem dX1_writeAccount_54 : decode cX1_writeAccount 54 = .ok (.bipush 61, 2) := dk_16 61 (dk_at dksX1_writeAccount_2 8 rfl rfl)
theorem dX1_writeAccount_56 : decode cX1_writeAccount 56 = .ok (.invokevirtual 422, 3) := dk_182 1 166 (dk_at dksX1_writeAccount_2 10 rfl rfl)
theorem dX1_writeAccount_59 : decode cX1_writeAccount 59 = .ok (.aload_n 2, 1) := dk_44 (dk_at dksX1_writeAccount_2 13 rfl rfl)
theorem dX1_writeAccount_60 : decode cX1_writeAccount 60 = .ok (.getfield 151, 3) := dk_180 0 151 (dk_at dksX1_writeAccount_2 14 rfl rfl)
theorem dX1_writeAccount_63 : decode cX1_writeAccount 63 = .ok (.iload_n 1, 1) := dk_27 (dk_at dksX1_writeAccount_2 17 rfl rfl)
theorem dX1_writeAccount_64 : decode cX1_writeAccount 64 = .ok (.iaload, 1) := dk_46 (dk_at dksX1_writeAccount_2 18 rfl rfl)
theorem dX1_writeAccount_65 : decode cX1_writeAccount 65 = .ok (.invokevirtual 418, 3) := dk_182 1 162 (dk_at dksX1_writeAccount_2 19 rfl rfl)
theorem dX1_writeAccount_68 : decode cX1_writeAccount 68 = .ok (.pop, 1) := dk_87 (dk_at dksX1_writeAccount_2 22 rfl rfl)
theorem dX1_writeAccount_69 : decode cX1_writeAccount 69 = .ok (.aload_n 0, 1) := dk_42 (dk_at dksX1_writeAccount_2 23 rfl rfl)
theorem dX1_writeAccount_70 : decode cX1_writeAccount 70 = .ok (.getfield 55, 3) := dk_180 0 55 (dk_at dksX1_writeAccount_3 0 rfl rfl)
theorem dX1_writeAccount_73 : decode cX1_writeAccount 73 = .ok (.bipush 43, 2) := dk_16 43 (dk_at dksX1_writeAccount_3 3 rfl rfl)
theorem dX1_writeAccount_75 : decode cX1_writeAccount 75 = .ok (.invokevirtual 422, 3) := dk_182 1 166 (dk_at dksX1_writeAccount_3 5 rfl rfl)
theorem dX1_writeAccount_78 : decode cX1_writeAccount 78 = .ok (.aload_n 2, 1) := dk_44 (dk_at dksX1_writeAccount_3 8 rfl rfl)
theorem dX1_writeAccount_79 : decode cX1_writeAccount 79 = .ok (.getfield 154, 3) := dk_180 0 154 (dk_at dksX1_writeAccount_3 9 rfl rfl)
theorem dX1_writeAccount_82 : decode cX1_writeAccount 82 = .ok (.iload_n 1, 1) := dk_27 (dk_at dksX1_writeAccount_3 12 rfl rfl)
theorem dX1_writeAccount_83 : decode cX1_writeAccount 83 = .ok (.iaload, 1) := dk_46 (dk_at dksX1_writeAccount_3 13 rfl rfl)
theorem dX1_writeAccount_84 : decode cX1_writeAccount 84 = .ok (.invokevirtual 418, 3) := dk_182 1 162 (dk_at dksX1_writeAccount_3 14 rfl rfl)
theorem dX1_writeAccount_87 : decode cX1_writeAccount 87 = .ok (.bipush 43, 2) := dk_16 43 (dk_at dksX1_writeAccount_3 17 rfl rfl)
theorem dX1_writeAccount_89 : decode cX1_writeAccount 89 = .ok (.invokevirtual 422, 3) := dk_182 1 166 (dk_at dksX1_writeAccount_3 19 rfl rfl)
theorem dX1_writeAccount_92 : decode cX1_writeAccount 92 = .ok (.aload_n 2, 1) := dk_44 (dk_at dksX1_writeAccount_3 22 rfl rfl)
theorem dX1_writeAccount_93 : decode cX1_writeAccount 93 = .ok (.iload_n 1, 1) := dk_27 (dk_at dksX1_writeAccount_3 23 rfl rfl)
theorem dX1_writeAccount_94 : decode cX1_writeAccount 94 = .ok (.invokevirtual 157, 3) := dk_182 0 157 (dk_at dksX1_writeAccount_4 0 rfl rfl)
theorem dX1_writeAccount_97 : decode cX1_writeAccount 97 = .ok (.invokevirtual 418, 3) := dk_182 1 162 (dk_at dksX1_writeAccount_4 3 rfl rfl)
theorem dX1_writeAccount_100 : decode cX1_writeAccount 100 = .ok (.pop, 1) := dk_87 (dk_at dksX1_writeAccount_4 6 rfl rfl)
theorem dX1_writeAccount_101 : decode cX1_writeAccount 101 = .ok (.aload_n 0, 1) := dk_42 (dk_at dksX1_writeAccount_4 7 rfl rfl)
theorem dX1_writeAccount_102 : decode cX1_writeAccount 102 = .ok (.getfield 55, 3) := dk_180 0 55 (dk_at dksX1_writeAccount_4 8 rfl rfl)
theorem dX1_writeAccount_105 : decode cX1_writeAccount 105 = .ok (.invokevirtual 432, 3) := dk_182 1 176 (dk_at dksX1_writeAccount_4 11 rfl rfl)
theorem dX1_writeAccount_108 : decode cX1_writeAccount 108 = .ok (.ireturn, 1) := dk_172 (dk_at dksX1_writeAccount_4 14 rfl rfl)
abbrev cX1_textByte : ByteArray := prog_1_method_67_code
def yX1_textByte : MethodName := ⟨RX1, "textByte", "(I)I"⟩
def dkwX1_textByte_0 : List UInt8 := [27, 42, 180, 0, 55, 182, 1, 176, 184, 0, 93, 42, 180, 0, 55, 27, 182, 1, 180, 172]
abbrev dktX1_textByte_0 : List UInt8 := dkwX1_textByte_0 ++ []
theorem dksX1_textByte_0 : cX1_textByte.data.toList.drop 0 = dktX1_textByte_0 := by decide +kernel
theorem dX1_textByte_0 : decode cX1_textByte 0 = .ok (.iload_n 1, 1) := dk_27 (dk_at dksX1_textByte_0 0 rfl rfl)
theorem dX1_textByte_1 : decode cX1_textByte 1 = .ok (.aload_n 0, 1) := dk_42 (dk_at dksX1_textByte_0 1 rfl rfl)
theorem dX1_textByte_2 : decode cX1_textByte 2 = .ok (.getfield 55, 3) := dk_180 0 55 (dk_at dksX1_textByte_0 2 rfl rfl)
theorem dX1_textByte_5 : decode cX1_textByte 5 = .ok (.invokevirtual 432, 3) := dk_182 1 176 (dk_at dksX1_textByte_0 5 rfl rfl)
theorem dX1_textByte_8 : decode cX1_textByte 8 = .ok (.invokestatic 93, 3) := dk_184 0 93 (dk_at dksX1_textByte_0 8 rfl rfl)
theorem dX1_textByte_11 : decode cX1_textByte 11 = .ok (.aload_n 0, 1) := dk_42 (dk_at dksX1_textByte_0 11 rfl rfl)
theorem dX1_textByte_12 : decode cX1_textByte 12 = .ok (.getfield 55, 3) := dk_180 0 55 (dk_at dksX1_textByte_0 12 rfl rfl)
theorem dX1_textByte_15 : decode cX1_textByte 15 = .ok (.iload_n 1, 1) := dk_27 (dk_at dksX1_textByte_0 15 rfl rfl)
theorem dX1_textByte_16 : decode cX1_textByte 16 = .ok (.invokevirtual 436, 3) := dk_182 1 180 (dk_at dksX1_textByte_0 16 rfl rfl)
theorem dX1_textByte_19 : decode cX1_textByte 19 = .ok (.ireturn, 1) := dk_172 (dk_at dksX1_textByte_0 19 rfl rfl)
abbrev cX1_run : ByteArray := prog_1_method_68_code
def yX1_run : MethodName := ⟨RX1, "run", "(I)I"⟩
def dkwX1_run_1 : List UInt8 := [180, 0, 72, 182, 1, 181, 42, 180, 0, 72, 27, 182, 1, 132, 172]
abbrev dktX1_run_1 : List UInt8 := dkwX1_run_1 ++ []
def dkwX1_run_0 : List UInt8 := [42, 182, 0, 79, 87, 27, 133, 10, 20, 1, 127, 184, 0, 62, 184, 0, 144, 42, 180, 0, 44, 42]
abbrev dktX1_run_0 : List UInt8 := dkwX1_run_0 ++ dktX1_run_1
theorem dksX1_run_0 : cX1_run.data.toList.drop 0 = dktX1_run_0 := by decide +kernel
theorem dksX1_run_1 : cX1_run.data.toList.drop 22 = dktX1_run_1 := dk_seg dksX1_run_0 22 rfl rfl
theorem dX1_run_0 : decode cX1_run 0 = .ok (.aload_n 0, 1) := dk_42 (dk_at dksX1_run_0 0 rfl rfl)
theorem dX1_run_1 : decode cX1_run 1 = .ok (.invokevirtual 79, 3) := dk_182 0 79 (dk_at dksX1_run_0 1 rfl rfl)
theorem dX1_run_4 : decode cX1_run 4 = .ok (.pop, 1) := dk_87 (dk_at dksX1_run_0 4 rfl rfl)
theorem dX1_run_5 : decode cX1_run 5 = .ok (.iload_n 1, 1) := dk_27 (dk_at dksX1_run_0 5 rfl rfl)
theorem dX1_run_6 : decode cX1_run 6 = .ok (.i2l, 1) := dk_133 (dk_at dksX1_run_0 6 rfl rfl)
theorem dX1_run_7 : decode cX1_run 7 = .ok (.lconst 1, 1) := dk_10 (dk_at dksX1_run_0 7 rfl rfl)
theorem dX1_run_8 : decode cX1_run 8 = .ok (.ldc2_w 383, 3) := dk_20 1 127 (dk_at dksX1_run_0 8 rfl rfl)
theorem dX1_run_11 : decode cX1_run 11 = .ok (.invokestatic 62, 3) := dk_184 0 62 (dk_at dksX1_run_0 11 rfl rfl)
theorem dX1_run_14 : decode cX1_run 14 = .ok (.invokestatic 144, 3) := dk_184 0 144 (dk_at dksX1_run_0 14 rfl rfl)
theorem dX1_run_17 : decode cX1_run 17 = .ok (.aload_n 0, 1) := dk_42 (dk_at dksX1_run_0 17 rfl rfl)
theorem dX1_run_18 : decode cX1_run 18 = .ok (.getfield 44, 3) := dk_180 0 44 (dk_at dksX1_run_0 18 rfl rfl)
theorem dX1_run_21 : decode cX1_run 21 = .ok (.aload_n 0, 1) := dk_42 (dk_at dksX1_run_0 21 rfl rfl)
theorem dX1_run_22 : decode cX1_run 22 = .ok (.getfield 72, 3) := dk_180 0 72 (dk_at dksX1_run_1 0 rfl rfl)
theorem dX1_run_25 : decode cX1_run 25 = .ok (.invokevirtual 437, 3) := dk_182 1 181 (dk_at dksX1_run_1 3 rfl rfl)
theorem dX1_run_28 : decode cX1_run 28 = .ok (.aload_n 0, 1) := dk_42 (dk_at dksX1_run_1 6 rfl rfl)
theorem dX1_run_29 : decode cX1_run 29 = .ok (.getfield 72, 3) := dk_180 0 72 (dk_at dksX1_run_1 7 rfl rfl)
theorem dX1_run_32 : decode cX1_run 32 = .ok (.iload_n 1, 1) := dk_27 (dk_at dksX1_run_1 10 rfl rfl)
theorem dX1_run_33 : decode cX1_run 33 = .ok (.invokevirtual 388, 3) := dk_182 1 132 (dk_at dksX1_run_1 11 rfl rfl)
theorem dX1_run_36 : decode cX1_run 36 = .ok (.ireturn, 1) := dk_172 (dk_at dksX1_run_1 14 rfl rfl)
abbrev cX1_setPolicy : ByteArray := prog_1_method_69_code
def yX1_setPolicy : MethodName := ⟨RX1, "setPolicy", "(I)I"⟩
def dkwX1_setPolicy_1 : List UInt8 := [180, 0, 72, 182, 1, 181, 42, 180, 0, 72, 180, 1, 30, 61, 42, 180, 0, 72, 27, 182, 1, 135, 28, 172]
abbrev dktX1_setPolicy_1 : List UInt8 := dkwX1_setPolicy_1 ++ []
def dkwX1_setPolicy_0 : List UInt8 := [42, 182, 0, 79, 87, 27, 133, 9, 20, 1, 116, 184, 0, 62, 184, 0, 144, 42, 180, 0, 44, 42]
abbrev dktX1_setPolicy_0 : List UInt8 := dkwX1_setPolicy_0 ++ dktX1_setPolicy_1
theorem dksX1_setPolicy_0 : cX1_setPolicy.data.toList.drop 0 = dktX1_setPolicy_0 := by decide +kernel
theorem dksX1_setPolicy_1 : cX1_setPolicy.data.toList.drop 22 = dktX1_setPolicy_1 := dk_seg dksX1_setPolicy_0 22 rfl rfl
theorem dX1_setPolicy_0 : decode cX1_setPolicy 0 = .ok (.aload_n 0, 1) := dk_42 (dk_at dksX1_setPolicy_0 0 rfl rfl)
theorem dX1_setPolicy_1 : decode cX1_setPolicy 1 = .ok (.invokevirtual 79, 3) := dk_182 0 79 (dk_at dksX1_setPolicy_0 1 rfl rfl)
theorem dX1_setPolicy_4 : decode cX1_setPolicy 4 = .ok (.pop, 1) := dk_87 (dk_at dksX1_setPolicy_0 4 rfl rfl)
theorem dX1_setPolicy_5 : decode cX1_setPolicy 5 = .ok (.iload_n 1, 1) := dk_27 (dk_at dksX1_setPolicy_0 5 rfl rfl)
theorem dX1_setPolicy_6 : decode cX1_setPolicy 6 = .ok (.i2l, 1) := dk_133 (dk_at dksX1_setPolicy_0 6 rfl rfl)
theorem dX1_setPolicy_7 : decode cX1_setPolicy 7 = .ok (.lconst 0, 1) := dk_9 (dk_at dksX1_setPolicy_0 7 rfl rfl)
theorem dX1_setPolicy_8 : decode cX1_setPolicy 8 = .ok (.ldc2_w 372, 3) := dk_20 1 116 (dk_at dksX1_setPolicy_0 8 rfl rfl)
theorem dX1_setPolicy_11 : decode cX1_setPolicy 11 = .ok (.invokestatic 62, 3) := dk_184 0 62 (dk_at dksX1_setPolicy_0 11 rfl rfl)
theorem dX1_setPolicy_14 : decode cX1_setPolicy 14 = .ok (.invokestatic 144, 3) := dk_184 0 144 (dk_at dksX1_setPolicy_0 14 rfl rfl)
theorem dX1_setPolicy_17 : decode cX1_setPolicy 17 = .ok (.aload_n 0, 1) := dk_42 (dk_at dksX1_setPolicy_0 17 rfl rfl)
theorem dX1_setPolicy_18 : decode cX1_setPolicy 18 = .ok (.getfield 44, 3) := dk_180 0 44 (dk_at dksX1_setPolicy_0 18 rfl rfl)
theorem dX1_setPolicy_21 : decode cX1_setPolicy 21 = .ok (.aload_n 0, 1) := dk_42 (dk_at dksX1_setPolicy_0 21 rfl rfl)
theorem dX1_setPolicy_22 : decode cX1_setPolicy 22 = .ok (.getfield 72, 3) := dk_180 0 72 (dk_at dksX1_setPolicy_1 0 rfl rfl)
theorem dX1_setPolicy_25 : decode cX1_setPolicy 25 = .ok (.invokevirtual 437, 3) := dk_182 1 181 (dk_at dksX1_setPolicy_1 3 rfl rfl)
theorem dX1_setPolicy_28 : decode cX1_setPolicy 28 = .ok (.aload_n 0, 1) := dk_42 (dk_at dksX1_setPolicy_1 6 rfl rfl)
theorem dX1_setPolicy_29 : decode cX1_setPolicy 29 = .ok (.getfield 72, 3) := dk_180 0 72 (dk_at dksX1_setPolicy_1 7 rfl rfl)
theorem dX1_setPolicy_32 : decode cX1_setPolicy 32 = .ok (.getfield 286, 3) := dk_180 1 30 (dk_at dksX1_setPolicy_1 10 rfl rfl)
theorem dX1_setPolicy_35 : decode cX1_setPolicy 35 = .ok (.istore_n 2, 1) := dk_61 (dk_at dksX1_setPolicy_1 13 rfl rfl)
theorem dX1_setPolicy_36 : decode cX1_setPolicy 36 = .ok (.aload_n 0, 1) := dk_42 (dk_at dksX1_setPolicy_1 14 rfl rfl)
theorem dX1_setPolicy_37 : decode cX1_setPolicy 37 = .ok (.getfield 72, 3) := dk_180 0 72 (dk_at dksX1_setPolicy_1 15 rfl rfl)
theorem dX1_setPolicy_40 : decode cX1_setPolicy 40 = .ok (.iload_n 1, 1) := dk_27 (dk_at dksX1_setPolicy_1 18 rfl rfl)
theorem dX1_setPolicy_41 : decode cX1_setPolicy 41 = .ok (.invokevirtual 391, 3) := dk_182 1 135 (dk_at dksX1_setPolicy_1 19 rfl rfl)
theorem dX1_setPolicy_44 : decode cX1_setPolicy 44 = .ok (.iload_n 2, 1) := dk_28 (dk_at dksX1_setPolicy_1 22 rfl rfl)
theorem dX1_setPolicy_45 : decode cX1_setPolicy 45 = .ok (.ireturn, 1) := dk_172 (dk_at dksX1_setPolicy_1 23 rfl rfl)
abbrev cX1_cancel : ByteArray := prog_1_method_71_code
def yX1_cancel : MethodName := ⟨RX1, "cancel", "(I)Z"⟩
def dkwX1_cancel_0 : List UInt8 := [42, 27, 3, 5, 182, 1, 185, 172]
abbrev dktX1_cancel_0 : List UInt8 := dkwX1_cancel_0 ++ []
theorem dksX1_cancel_0 : cX1_cancel.data.toList.drop 0 = dktX1_cancel_0 := by decide +kernel
theorem dX1_cancel_0 : decode cX1_cancel 0 = .ok (.aload_n 0, 1) := dk_42 (dk_at dksX1_cancel_0 0 rfl rfl)
theorem dX1_cancel_1 : decode cX1_cancel 1 = .ok (.iload_n 1, 1) := dk_27 (dk_at dksX1_cancel_0 1 rfl rfl)
theorem dX1_cancel_2 : decode cX1_cancel 2 = .ok (.iconst 0, 1) := dk_3 (dk_at dksX1_cancel_0 2 rfl rfl)
theorem dX1_cancel_3 : decode cX1_cancel 3 = .ok (.iconst 2, 1) := dk_5 (dk_at dksX1_cancel_0 3 rfl rfl)
theorem dX1_cancel_4 : decode cX1_cancel 4 = .ok (.invokevirtual 441, 3) := dk_182 1 185 (dk_at dksX1_cancel_0 4 rfl rfl)
theorem dX1_cancel_7 : decode cX1_cancel 7 = .ok (.ireturn, 1) := dk_172 (dk_at dksX1_cancel_0 7 rfl rfl)
abbrev cX1_change : ByteArray := prog_1_method_70_code
def yX1_change : MethodName := ⟨RX1, "change", "(III)Z"⟩
def dkwX1_change_1 : List UInt8 := [25, 4, 182, 1, 181, 25, 4, 180, 0, 161, 27, 29, 79, 4, 172]
abbrev dktX1_change_1 : List UInt8 := dkwX1_change_1 ++ []
def dkwX1_change_0 : List UInt8 := [42, 27, 182, 0, 186, 58, 4, 25, 4, 180, 0, 161, 27, 46, 28, 159, 0, 5, 3, 172, 42, 180, 0, 44]
abbrev dktX1_change_0 : List UInt8 := dkwX1_change_0 ++ dktX1_change_1
theorem dksX1_change_0 : cX1_change.data.toList.drop 0 = dktX1_change_0 := by decide +kernel
theorem dksX1_change_1 : cX1_change.data.toList.drop 24 = dktX1_change_1 := dk_seg dksX1_change_0 24 rfl rfl
theorem dX1_change_0 : decode cX1_change 0 = .ok (.aload_n 0, 1) := dk_42 (dk_at dksX1_change_0 0 rfl rfl)
theorem dX1_change_1 : decode cX1_change 1 = .ok (.iload_n 1, 1) := dk_27 (dk_at dksX1_change_0 1 rfl rfl)
theorem dX1_change_2 : decode cX1_change 2 = .ok (.invokevirtual 186, 3) := dk_182 0 186 (dk_at dksX1_change_0 2 rfl rfl)
theorem dX1_change_5 : decode cX1_change 5 = .ok (.astore 4, 2) := dk_58 4 (dk_at dksX1_change_0 5 rfl rfl)
theorem dX1_change_7 : decode cX1_change 7 = .ok (.aload 4, 2) := dk_25 4 (dk_at dksX1_change_0 7 rfl rfl)
theorem dX1_change_9 : decode cX1_change 9 = .ok (.getfield 161, 3) := dk_180 0 161 (dk_at dksX1_change_0 9 rfl rfl)
theorem dX1_change_12 : decode cX1_change 12 = .ok (.iload_n 1, 1) := dk_27 (dk_at dksX1_change_0 12 rfl rfl)
theorem dX1_change_13 : decode cX1_change 13 = .ok (.iaload, 1) := dk_46 (dk_at dksX1_change_0 13 rfl rfl)
theorem dX1_change_14 : decode cX1_change 14 = .ok (.iload_n 2, 1) := dk_28 (dk_at dksX1_change_0 14 rfl rfl)
theorem dX1_change_15 : decode cX1_change 15 = .ok (.if_icmp .eq 5, 3) := dk_159 0 5 (dk_at dksX1_change_0 15 rfl rfl)
theorem dX1_change_18 : decode cX1_change 18 = .ok (.iconst 0, 1) := dk_3 (dk_at dksX1_change_0 18 rfl rfl)
theorem dX1_change_19 : decode cX1_change 19 = .ok (.ireturn, 1) := dk_172 (dk_at dksX1_change_0 19 rfl rfl)
theorem dX1_change_20 : decode cX1_change 20 = .ok (.aload_n 0, 1) := dk_42 (dk_at dksX1_change_0 20 rfl rfl)
theorem dX1_change_21 : decode cX1_change 21 = .ok (.getfield 44, 3) := dk_180 0 44 (dk_at dksX1_change_0 21 rfl rfl)
theorem dX1_change_24 : decode cX1_change 24 = .ok (.aload 4, 2) := dk_25 4 (dk_at dksX1_change_1 0 rfl rfl)
theorem dX1_change_26 : decode cX1_change 26 = .ok (.invokevirtual 437, 3) := dk_182 1 181 (dk_at dksX1_change_1 2 rfl rfl)
theorem dX1_change_29 : decode cX1_change 29 = .ok (.aload 4, 2) := dk_25 4 (dk_at dksX1_change_1 5 rfl rfl)
theorem dX1_change_31 : decode cX1_change 31 = .ok (.getfield 161, 3) := dk_180 0 161 (dk_at dksX1_change_1 7 rfl rfl)
theorem dX1_change_34 : decode cX1_change 34 = .ok (.iload_n 1, 1) := dk_27 (dk_at dksX1_change_1 10 rfl rfl)
theorem dX1_change_35 : decode cX1_change 35 = .ok (.iload_n 3, 1) := dk_29 (dk_at dksX1_change_1 11 rfl rfl)
theorem dX1_change_36 : decode cX1_change 36 = .ok (.iastore, 1) := dk_79 (dk_at dksX1_change_1 12 rfl rfl)
theorem dX1_change_37 : decode cX1_change 37 = .ok (.iconst 1, 1) := dk_4 (dk_at dksX1_change_1 13 rfl rfl)
theorem dX1_change_38 : decode cX1_change 38 = .ok (.ireturn, 1) := dk_172 (dk_at dksX1_change_1 14 rfl rfl)
abbrev cX1_requeue : ByteArray := prog_1_method_72_code
def yX1_requeue : MethodName := ⟨RX1, "requeue", "(I)Z"⟩
def dkwX1_requeue_0 : List UInt8 := [42, 27, 5, 3, 182, 1, 185, 172]
abbrev dktX1_requeue_0 : List UInt8 := dkwX1_requeue_0 ++ []
theorem dksX1_requeue_0 : cX1_requeue.data.toList.drop 0 = dktX1_requeue_0 := by decide +kernel
theorem dX1_requeue_0 : decode cX1_requeue 0 = .ok (.aload_n 0, 1) := dk_42 (dk_at dksX1_requeue_0 0 rfl rfl)
theorem dX1_requeue_1 : decode cX1_requeue 1 = .ok (.iload_n 1, 1) := dk_27 (dk_at dksX1_requeue_0 1 rfl rfl)
theorem dX1_requeue_2 : decode cX1_requeue 2 = .ok (.iconst 2, 1) := dk_5 (dk_at dksX1_requeue_0 2 rfl rfl)
theorem dX1_requeue_3 : decode cX1_requeue 3 = .ok (.iconst 0, 1) := dk_3 (dk_at dksX1_requeue_0 3 rfl rfl)
theorem dX1_requeue_4 : decode cX1_requeue 4 = .ok (.invokevirtual 441, 3) := dk_182 1 185 (dk_at dksX1_requeue_0 4 rfl rfl)
theorem dX1_requeue_7 : decode cX1_requeue 7 = .ok (.ireturn, 1) := dk_172 (dk_at dksX1_requeue_0 7 rfl rfl)
abbrev cX1_setPriority : ByteArray := prog_1_method_73_code
def yX1_setPriority : MethodName := ⟨RX1, "setPriority", "(II)I"⟩
def dkwX1_setPriority_1 : List UInt8 := [182, 1, 181, 45, 180, 0, 201, 27, 46, 54, 4, 45, 180, 0, 201, 27, 28, 79, 21, 4, 172]
abbrev dktX1_setPriority_1 : List UInt8 := dkwX1_setPriority_1 ++ []
def dkwX1_setPriority_0 : List UInt8 := [42, 27, 182, 0, 186, 78, 28, 133, 10, 20, 1, 189, 184, 0, 62, 184, 0, 144, 42, 180, 0, 44, 45]
abbrev dktX1_setPriority_0 : List UInt8 := dkwX1_setPriority_0 ++ dktX1_setPriority_1
theorem dksX1_setPriority_0 : cX1_setPriority.data.toList.drop 0 = dktX1_setPriority_0 := by decide +kernel
theorem dksX1_setPriority_1 : cX1_setPriority.data.toList.drop 23 = dktX1_setPriority_1 := dk_seg dksX1_setPriority_0 23 rfl rfl
theorem dX1_setPriority_0 : decode cX1_setPriority 0 = .ok (.aload_n 0, 1) := dk_42 (dk_at dksX1_setPriority_0 0 rfl rfl)
theorem dX1_setPriority_1 : decode cX1_setPriority 1 = .ok (.iload_n 1, 1) := dk_27 (dk_at dksX1_setPriority_0 1 rfl rfl)
theorem dX1_setPriority_2 : decode cX1_setPriority 2 = .ok (.invokevirtual 186, 3) := dk_182 0 186 (dk_at dksX1_setPriority_0 2 rfl rfl)
theorem dX1_setPriority_5 : decode cX1_setPriority 5 = .ok (.astore_n 3, 1) := dk_78 (dk_at dksX1_setPriority_0 5 rfl rfl)
theorem dX1_setPriority_6 : decode cX1_setPriority 6 = .ok (.iload_n 2, 1) := dk_28 (dk_at dksX1_setPriority_0 6 rfl rfl)
theorem dX1_setPriority_7 : decode cX1_setPriority 7 = .ok (.i2l, 1) := dk_133 (dk_at dksX1_setPriority_0 7 rfl rfl)
theorem dX1_setPriority_8 : decode cX1_setPriority 8 = .ok (.lconst 1, 1) := dk_10 (dk_at dksX1_setPriority_0 8 rfl rfl)
theorem dX1_setPriority_9 : decode cX1_setPriority 9 = .ok (.ldc2_w 445, 3) := dk_20 1 189 (dk_at dksX1_setPriority_0 9 rfl rfl)
theorem dX1_setPriority_12 : decode cX1_setPriority 12 = .ok (.invokestatic 62, 3) := dk_184 0 62 (dk_at dksX1_setPriority_0 12 rfl rfl)
theorem dX1_setPriority_15 : decode cX1_setPriority 15 = .ok (.invokestatic 144, 3) := dk_184 0 144 (dk_at dksX1_setPriority_0 15 rfl rfl)
theorem dX1_setPriority_18 : decode cX1_setPriority 18 = .ok (.aload_n 0, 1) := dk_42 (dk_at dksX1_setPriority_0 18 rfl rfl)
theorem dX1_setPriority_19 : decode cX1_setPriority 19 = .ok (.getfield 44, 3) := dk_180 0 44 (dk_at dksX1_setPriority_0 19 rfl rfl)
theorem dX1_setPriority_22 : decode cX1_setPriority 22 = .ok (.aload_n 3, 1) := dk_45 (dk_at dksX1_setPriority_0 22 rfl rfl)
theorem dX1_setPriority_23 : decode cX1_setPriority 23 = .ok (.invokevirtual 437, 3) := dk_182 1 181 (dk_at dksX1_setPriority_1 0 rfl rfl)
theorem dX1_setPriority_26 : decode cX1_setPriority 26 = .ok (.aload_n 3, 1) := dk_45 (dk_at dksX1_setPriority_1 3 rfl rfl)
theorem dX1_setPriority_27 : decode cX1_setPriority 27 = .ok (.getfield 201, 3) := dk_180 0 201 (dk_at dksX1_setPriority_1 4 rfl rfl)
theorem dX1_setPriority_30 : decode cX1_setPriority 30 = .ok (.iload_n 1, 1) := dk_27 (dk_at dksX1_setPriority_1 7 rfl rfl)
theorem dX1_setPriority_31 : decode cX1_setPriority 31 = .ok (.iaload, 1) := dk_46 (dk_at dksX1_setPriority_1 8 rfl rfl)
theorem dX1_setPriority_32 : decode cX1_setPriority 32 = .ok (.istore 4, 2) := dk_54 4 (dk_at dksX1_setPriority_1 9 rfl rfl)
theorem dX1_setPriority_34 : decode cX1_setPriority 34 = .ok (.aload_n 3, 1) := dk_45 (dk_at dksX1_setPriority_1 11 rfl rfl)
theorem dX1_setPriority_35 : decode cX1_setPriority 35 = .ok (.getfield 201, 3) := dk_180 0 201 (dk_at dksX1_setPriority_1 12 rfl rfl)
theorem dX1_setPriority_38 : decode cX1_setPriority 38 = .ok (.iload_n 1, 1) := dk_27 (dk_at dksX1_setPriority_1 15 rfl rfl)
theorem dX1_setPriority_39 : decode cX1_setPriority 39 = .ok (.iload_n 2, 1) := dk_28 (dk_at dksX1_setPriority_1 16 rfl rfl)
theorem dX1_setPriority_40 : decode cX1_setPriority 40 = .ok (.iastore, 1) := dk_79 (dk_at dksX1_setPriority_1 17 rfl rfl)
theorem dX1_setPriority_41 : decode cX1_setPriority 41 = .ok (.iload 4, 2) := dk_21 4 (dk_at dksX1_setPriority_1 18 rfl rfl)
theorem dX1_setPriority_43 : decode cX1_setPriority 43 = .ok (.ireturn, 1) := dk_172 (dk_at dksX1_setPriority_1 20 rfl rfl)
abbrev cX1_grant : ByteArray := prog_1_method_74_code
def yX1_grant : MethodName := ⟨RX1, "grant", "(II)I"⟩
def dkwX1_grant_3 : List UInt8 := [79, 45, 27, 182, 0, 157, 172]
abbrev dktX1_grant_3 : List UInt8 := dkwX1_grant_3 ++ []
def dkwX1_grant_2 : List UInt8 := [167, 0, 4, 3, 184, 0, 144, 42, 180, 0, 44, 45, 182, 1, 181, 45, 180, 0, 147, 27, 92, 46, 28, 96]
abbrev dktX1_grant_2 : List UInt8 := dkwX1_grant_2 ++ dktX1_grant_3
def dkwX1_grant_1 : List UInt8 := [182, 0, 157, 28, 96, 155, 0, 21, 45, 180, 0, 147, 27, 46, 28, 96, 17, 39, 15, 163, 0, 7, 4]
abbrev dktX1_grant_1 : List UInt8 := dkwX1_grant_1 ++ dktX1_grant_2
def dkwX1_grant_0 : List UInt8 := [42, 27, 182, 0, 138, 78, 28, 133, 20, 1, 191, 20, 1, 148, 184, 0, 62, 153, 0, 31, 45, 27]
abbrev dktX1_grant_0 : List UInt8 := dkwX1_grant_0 ++ dktX1_grant_1
theorem dksX1_grant_0 : cX1_grant.data.toList.drop 0 = dktX1_grant_0 := by decide +kernel
theorem dksX1_grant_1 : cX1_grant.data.toList.drop 22 = dktX1_grant_1 := dk_seg dksX1_grant_0 22 rfl rfl
theorem dksX1_grant_2 : cX1_grant.data.toList.drop 45 = dktX1_grant_2 := dk_seg dksX1_grant_1 23 rfl rfl
theorem dksX1_grant_3 : cX1_grant.data.toList.drop 69 = dktX1_grant_3 := dk_seg dksX1_grant_2 24 rfl rfl
theorem dX1_grant_0 : decode cX1_grant 0 = .ok (.aload_n 0, 1) := dk_42 (dk_at dksX1_grant_0 0 rfl rfl)
theorem dX1_grant_1 : decode cX1_grant 1 = .ok (.iload_n 1, 1) := dk_27 (dk_at dksX1_grant_0 1 rfl rfl)
theorem dX1_grant_2 : decode cX1_grant 2 = .ok (.invokevirtual 138, 3) := dk_182 0 138 (dk_at dksX1_grant_0 2 rfl rfl)
theorem dX1_grant_5 : decode cX1_grant 5 = .ok (.astore_n 3, 1) := dk_78 (dk_at dksX1_grant_0 5 rfl rfl)
theorem dX1_grant_6 : decode cX1_grant 6 = .ok (.iload_n 2, 1) := dk_28 (dk_at dksX1_grant_0 6 rfl rfl)
theorem dX1_grant_7 : decode cX1_grant 7 = .ok (.i2l, 1) := dk_133 (dk_at dksX1_grant_0 7 rfl rfl)
theorem dX1_grant_8 : decode cX1_grant 8 = .ok (.ldc2_w 447, 3) := dk_20 1 191 (dk_at dksX1_grant_0 8 rfl rfl)
theorem dX1_grant_11 : decode cX1_grant 11 = .ok (.ldc2_w 404, 3) := dk_20 1 148 (dk_at dksX1_grant_0 11 rfl rfl)
theorem dX1_grant_14 : decode cX1_grant 14 = .ok (.invokestatic 62, 3) := dk_184 0 62 (dk_at dksX1_grant_0 14 rfl rfl)
theorem dX1_grant_17 : decode cX1_grant 17 = .ok (.ifCond .eq 31, 3) := dk_153 0 31 (dk_at dksX1_grant_0 17 rfl rfl)
theorem dX1_grant_20 : decode cX1_grant 20 = .ok (.aload_n 3, 1) := dk_45 (dk_at dksX1_grant_0 20 rfl rfl)
theorem dX1_grant_21 : decode cX1_grant 21 = .ok (.iload_n 1, 1) := dk_27 (dk_at dksX1_grant_0 21 rfl rfl)
theorem dX1_grant_22 : decode cX1_grant 22 = .ok (.invokevirtual 157, 3) := dk_182 0 157 (dk_at dksX1_grant_1 0 rfl rfl)
theorem dX1_grant_25 : decode cX1_grant 25 = .ok (.iload_n 2, 1) := dk_28 (dk_at dksX1_grant_1 3 rfl rfl)
theorem dX1_grant_26 : decode cX1_grant 26 = .ok (.iadd, 1) := dk_96 (dk_at dksX1_grant_1 4 rfl rfl)
theorem dX1_grant_27 : decode cX1_grant 27 = .ok (.ifCond .lt 21, 3) := dk_155 0 21 (dk_at dksX1_grant_1 5 rfl rfl)
theorem dX1_grant_30 : decode cX1_grant 30 = .ok (.aload_n 3, 1) := dk_45 (dk_at dksX1_grant_1 8 rfl rfl)
theorem dX1_grant_31 : decode cX1_grant 31 = .ok (.getfield 147, 3) := dk_180 0 147 (dk_at dksX1_grant_1 9 rfl rfl)
theorem dX1_grant_34 : decode cX1_grant 34 = .ok (.iload_n 1, 1) := dk_27 (dk_at dksX1_grant_1 12 rfl rfl)
theorem dX1_grant_35 : decode cX1_grant 35 = .ok (.iaload, 1) := dk_46 (dk_at dksX1_grant_1 13 rfl rfl)
theorem dX1_grant_36 : decode cX1_grant 36 = .ok (.iload_n 2, 1) := dk_28 (dk_at dksX1_grant_1 14 rfl rfl)
theorem dX1_grant_37 : decode cX1_grant 37 = .ok (.iadd, 1) := dk_96 (dk_at dksX1_grant_1 15 rfl rfl)
theorem dX1_grant_38 : decode cX1_grant 38 = .ok (.sipush 9999, 3) := dk_17 39 15 (dk_at dksX1_grant_1 16 rfl rfl)
theorem dX1_grant_41 : decode cX1_grant 41 = .ok (.if_icmp .gt 7, 3) := dk_163 0 7 (dk_at dksX1_grant_1 19 rfl rfl)
theorem dX1_grant_44 : decode cX1_grant 44 = .ok (.iconst 1, 1) := dk_4 (dk_at dksX1_grant_1 22 rfl rfl)
theorem dX1_grant_45 : decode cX1_grant 45 = .ok (.goto 4, 3) := dk_167 0 4 (dk_at dksX1_grant_2 0 rfl rfl)
theorem dX1_grant_48 : decode cX1_grant 48 = .ok (.iconst 0, 1) := dk_3 (dk_at dksX1_grant_2 3 rfl rfl)
theorem dX1_grant_49 : decode cX1_grant 49 = .ok (.invokestatic 144, 3) := dk_184 0 144 (dk_at dksX1_grant_2 4 rfl rfl)
theorem dX1_grant_52 : decode cX1_grant 52 = .ok (.aload_n 0, 1) := dk_42 (dk_at dksX1_grant_2 7 rfl rfl)
theorem dX1_grant_53 : decode cX1_grant 53 = .ok (.getfield 44, 3) := dk_180 0 44 (dk_at dksX1_grant_2 8 rfl rfl)
theorem dX1_grant_56 : decode cX1_grant 56 = .ok (.aload_n 3, 1) := dk_45 (dk_at dksX1_grant_2 11 rfl rfl)
theorem dX1_grant_57 : decode cX1_grant 57 = .ok (.invokevirtual 437, 3) := dk_182 1 181 (dk_at dksX1_grant_2 12 rfl rfl)
theorem dX1_grant_60 : decode cX1_grant 60 = .ok (.aload_n 3, 1) := dk_45 (dk_at dksX1_grant_2 15 rfl rfl)
theorem dX1_grant_61 : decode cX1_grant 61 = .ok (.getfield 147, 3) := dk_180 0 147 (dk_at dksX1_grant_2 16 rfl rfl)
theorem dX1_grant_64 : decode cX1_grant 64 = .ok (.iload_n 1, 1) := dk_27 (dk_at dksX1_grant_2 19 rfl rfl)
theorem dX1_grant_65 : decode cX1_grant 65 = .ok (.dup2, 1) := dk_92 (dk_at dksX1_grant_2 20 rfl rfl)
theorem dX1_grant_66 : decode cX1_grant 66 = .ok (.iaload, 1) := dk_46 (dk_at dksX1_grant_2 21 rfl rfl)
theorem dX1_grant_67 : decode cX1_grant 67 = .ok (.iload_n 2, 1) := dk_28 (dk_at dksX1_grant_2 22 rfl rfl)
theorem dX1_grant_68 : decode cX1_grant 68 = .ok (.iadd, 1) := dk_96 (dk_at dksX1_grant_2 23 rfl rfl)
theorem dX1_grant_69 : decode cX1_grant 69 = .ok (.iastore, 1) := dk_79 (dk_at dksX1_grant_3 0 rfl rfl)
theorem dX1_grant_70 : decode cX1_grant 70 = .ok (.aload_n 3, 1) := dk_45 (dk_at dksX1_grant_3 1 rfl rfl)
theorem dX1_grant_71 : decode cX1_grant 71 = .ok (.iload_n 1, 1) := dk_27 (dk_at dksX1_grant_3 2 rfl rfl)
theorem dX1_grant_72 : decode cX1_grant 72 = .ok (.invokevirtual 157, 3) := dk_182 0 157 (dk_at dksX1_grant_3 3 rfl rfl)
theorem dX1_grant_75 : decode cX1_grant 75 = .ok (.ireturn, 1) := dk_172 (dk_at dksX1_grant_3 6 rfl rfl)
abbrev cX1_dump : ByteArray := prog_1_method_75_code
def yX1_dump : MethodName := ⟨RX1, "dump", "()I"⟩
def dkwX1_dump_4 : List UInt8 := [180, 1, 12, 96, 181, 0, 243, 27, 172]
abbrev dktX1_dump_4 : List UInt8 := dkwX1_dump_4 ++ []
def dkwX1_dump_3 : List UInt8 := [180, 0, 83, 180, 1, 12, 182, 1, 193, 42, 180, 0, 72, 89, 180, 0, 243, 42, 180, 0, 72, 180, 0, 83]
abbrev dktX1_dump_3 : List UInt8 := dkwX1_dump_3 ++ dktX1_dump_4
def dkwX1_dump_2 : List UInt8 := [42, 180, 0, 72, 182, 1, 181, 42, 180, 0, 72, 180, 0, 248, 60, 42, 180, 0, 72, 42, 180, 0, 72]
abbrev dktX1_dump_2 : List UInt8 := dkwX1_dump_2 ++ dktX1_dump_3
def dkwX1_dump_1 : List UInt8 := [180, 0, 72, 180, 0, 83, 180, 1, 0, 163, 0, 7, 4, 167, 0, 4, 3, 184, 0, 144, 42, 180, 0, 44]
abbrev dktX1_dump_1 : List UInt8 := dkwX1_dump_1 ++ dktX1_dump_2
def dkwX1_dump_0 : List UInt8 := [42, 182, 0, 79, 87, 42, 180, 0, 72, 180, 0, 243, 42, 180, 0, 72, 180, 0, 83, 180, 1, 12, 96, 42]
abbrev dktX1_dump_0 : List UInt8 := dkwX1_dump_0 ++ dktX1_dump_1
theorem dksX1_dump_0 : cX1_dump.data.toList.drop 0 = dktX1_dump_0 := by decide +kernel
theorem dksX1_dump_1 : cX1_dump.data.toList.drop 24 = dktX1_dump_1 := dk_seg dksX1_dump_0 24 rfl rfl
theorem dksX1_dump_2 : cX1_dump.data.toList.drop 48 = dktX1_dump_2 := dk_seg dksX1_dump_1 24 rfl rfl
theorem dksX1_dump_3 : cX1_dump.data.toList.drop 71 = dktX1_dump_3 := dk_seg dksX1_dump_2 23 rfl rfl
theorem dksX1_dump_4 : cX1_dump.data.toList.drop 95 = dktX1_dump_4 := dk_seg dksX1_dump_3 24 rfl rfl
theorem dX1_dump_0 : decode cX1_dump 0 = .ok (.aload_n 0, 1) := dk_42 (dk_at dksX1_dump_0 0 rfl rfl)
theorem dX1_dump_1 : decode cX1_dump 1 = .ok (.invokevirtual 79, 3) := dk_182 0 79 (dk_at dksX1_dump_0 1 rfl rfl)
theorem dX1_dump_4 : decode cX1_dump 4 = .ok (.pop, 1) := dk_87 (dk_at dksX1_dump_0 4 rfl rfl)
theorem dX1_dump_5 : decode cX1_dump 5 = .ok (.aload_n 0, 1) := dk_42 (dk_at dksX1_dump_0 5 rfl rfl)
theorem dX1_dump_6 : decode cX1_dump 6 = .ok (.getfield 72, 3) := dk_180 0 72 (dk_at dksX1_dump_0 6 rfl rfl)
theorem dX1_dump_9 : decode cX1_dump 9 = .ok (.getfield 243, 3) := dk_180 0 243 (dk_at dksX1_dump_0 9 rfl rfl)
theorem dX1_dump_12 : decode cX1_dump 12 = .ok (.aload_n 0, 1) := dk_42 (dk_at dksX1_dump_0 12 rfl rfl)
theorem dX1_dump_13 : decode cX1_dump 13 = .ok (.getfield 72, 3) := dk_180 0 72 (dk_at dksX1_dump_0 13 rfl rfl)
theorem dX1_dump_16 : decode cX1_dump 16 = .ok (.getfield 83, 3) := dk_180 0 83 (dk_at dksX1_dump_0 16 rfl rfl)
theorem dX1_dump_19 : decode cX1_dump 19 = .ok (.getfield 268, 3) := dk_180 1 12 (dk_at dksX1_dump_0 19 rfl rfl)
theorem dX1_dump_22 : decode cX1_dump 22 = .ok (.iadd, 1) := dk_96 (dk_at dksX1_dump_0 22 rfl rfl)
theorem dX1_dump_23 : decode cX1_dump 23 = .ok (.aload_n 0, 1) := dk_42 (dk_at dksX1_dump_0 23 rfl rfl)
theorem dX1_dump_24 : decode cX1_dump 24 = .ok (.getfield 72, 3) := dk_180 0 72 (dk_at dksX1_dump_1 0 rfl rfl)
theorem dX1_dump_27 : decode cX1_dump 27 = .ok (.getfield 83, 3) := dk_180 0 83 (dk_at dksX1_dump_1 3 rfl rfl)
theorem dX1_dump_30 : decode cX1_dump 30 = .ok (.getfield 256, 3) := dk_180 1 0 (dk_at dksX1_dump_1 6 rfl rfl)
theorem dX1_dump_33 : decode cX1_dump 33 = .ok (.if_icmp .gt 7, 3) := dk_163 0 7 (dk_at dksX1_dump_1 9 rfl rfl)
theorem dX1_dump_36 : decode cX1_dump 36 = .ok (.iconst 1, 1) := dk_4 (dk_at dksX1_dump_1 12 rfl rfl)
theorem dX1_dump_37 : decode cX1_dump 37 = .ok (.goto 4, 3) := dk_167 0 4 (dk_at dksX1_dump_1 13 rfl rfl)
theorem dX1_dump_40 : decode cX1_dump 40 = .ok (.iconst 0, 1) := dk_3 (dk_at dksX1_dump_1 16 rfl rfl)
theorem dX1_dump_41 : decode cX1_dump 41 = .ok (.invokestatic 144, 3) := dk_184 0 144 (dk_at dksX1_dump_1 17 rfl rfl)
theorem dX1_dump_44 : decode cX1_dump 44 = .ok (.aload_n 0, 1) := dk_42 (dk_at dksX1_dump_1 20 rfl rfl)
theorem dX1_dump_45 : decode cX1_dump 45 = .ok (.getfield 44, 3) := dk_180 0 44 (dk_at dksX1_dump_1 21 rfl rfl)
theorem dX1_dump_48 : decode cX1_dump 48 = .ok (.aload_n 0, 1) := dk_42 (dk_at dksX1_dump_2 0 rfl rfl)
theorem dX1_dump_49 : decode cX1_dump 49 = .ok (.getfield 72, 3) := dk_180 0 72 (dk_at dksX1_dump_2 1 rfl rfl)
theorem dX1_dump_52 : decode cX1_dump 52 = .ok (.invokevirtual 437, 3) := dk_182 1 181 (dk_at dksX1_dump_2 4 rfl rfl)
theorem dX1_dump_55 : decode cX1_dump 55 = .ok (.aload_n 0, 1) := dk_42 (dk_at dksX1_dump_2 7 rfl rfl)
theorem dX1_dump_56 : decode cX1_dump 56 = .ok (.getfield 72, 3) := dk_180 0 72 (dk_at dksX1_dump_2 8 rfl rfl)
theorem dX1_dump_59 : decode cX1_dump 59 = .ok (.getfield 248, 3) := dk_180 0 248 (dk_at dksX1_dump_2 11 rfl rfl)
theorem dX1_dump_62 : decode cX1_dump 62 = .ok (.istore_n 1, 1) := dk_60 (dk_at dksX1_dump_2 14 rfl rfl)
theorem dX1_dump_63 : decode cX1_dump 63 = .ok (.aload_n 0, 1) := dk_42 (dk_at dksX1_dump_2 15 rfl rfl)
theorem dX1_dump_64 : decode cX1_dump 64 = .ok (.getfield 72, 3) := dk_180 0 72 (dk_at dksX1_dump_2 16 rfl rfl)
theorem dX1_dump_67 : decode cX1_dump 67 = .ok (.aload_n 0, 1) := dk_42 (dk_at dksX1_dump_2 19 rfl rfl)
theorem dX1_dump_68 : decode cX1_dump 68 = .ok (.getfield 72, 3) := dk_180 0 72 (dk_at dksX1_dump_2 20 rfl rfl)
theorem dX1_dump_71 : decode cX1_dump 71 = .ok (.getfield 83, 3) := dk_180 0 83 (dk_at dksX1_dump_3 0 rfl rfl)
theorem dX1_dump_74 : decode cX1_dump 74 = .ok (.getfield 268, 3) := dk_180 1 12 (dk_at dksX1_dump_3 3 rfl rfl)
theorem dX1_dump_77 : decode cX1_dump 77 = .ok (.invokevirtual 449, 3) := dk_182 1 193 (dk_at dksX1_dump_3 6 rfl rfl)
theorem dX1_dump_80 : decode cX1_dump 80 = .ok (.aload_n 0, 1) := dk_42 (dk_at dksX1_dump_3 9 rfl rfl)
theorem dX1_dump_81 : decode cX1_dump 81 = .ok (.getfield 72, 3) := dk_180 0 72 (dk_at dksX1_dump_3 10 rfl rfl)
theorem dX1_dump_84 : decode cX1_dump 84 = .ok (.dup, 1) := dk_89 (dk_at dksX1_dump_3 13 rfl rfl)
theorem dX1_dump_85 : decode cX1_dump 85 = .ok (.getfield 243, 3) := dk_180 0 243 (dk_at dksX1_dump_3 14 rfl rfl)
theorem dX1_dump_88 : decode cX1_dump 88 = .ok (.aload_n 0, 1) := dk_42 (dk_at dksX1_dump_3 17 rfl rfl)
theorem dX1_dump_89 : decode cX1_dump 89 = .ok (.getfield 72, 3) := dk_180 0 72 (dk_at dksX1_dump_3 18 rfl rfl)
theorem dX1_dump_92 : decode cX1_dump 92 = .ok (.getfield 83, 3) := dk_180 0 83 (dk_at dksX1_dump_3 21 rfl rfl)
theorem dX1_dump_95 : decode cX1_dump 95 = .ok (.getfield 268, 3) := dk_180 1 12 (dk_at dksX1_dump_4 0 rfl rfl)
theorem dX1_dump_98 : decode cX1_dump 98 = .ok (.iadd, 1) := dk_96 (dk_at dksX1_dump_4 3 rfl rfl)
theorem dX1_dump_99 : decode cX1_dump 99 = .ok (.putfield 243, 3) := dk_181 0 243 (dk_at dksX1_dump_4 4 rfl rfl)
theorem dX1_dump_102 : decode cX1_dump 102 = .ok (.iload_n 1, 1) := dk_27 (dk_at dksX1_dump_4 7 rfl rfl)
theorem dX1_dump_103 : decode cX1_dump 103 = .ok (.ireturn, 1) := dk_172 (dk_at dksX1_dump_4 8 rfl rfl)
abbrev cX1_calibrate : ByteArray := prog_1_method_76_code
def yX1_calibrate : MethodName := ⟨RX1, "calibrate", "()I"⟩
def dkwX1_calibrate_2 : List UInt8 := [42, 180, 0, 72, 182, 1, 181, 42, 180, 0, 72, 182, 1, 196, 42, 180, 0, 72, 180, 0, 243, 172]
abbrev dktX1_calibrate_2 : List UInt8 := dkwX1_calibrate_2 ++ []
def dkwX1_calibrate_1 : List UInt8 := [180, 0, 72, 180, 0, 83, 180, 1, 0, 163, 0, 7, 4, 167, 0, 4, 3, 184, 0, 144, 42, 180, 0, 44]
abbrev dktX1_calibrate_1 : List UInt8 := dkwX1_calibrate_1 ++ dktX1_calibrate_2
def dkwX1_calibrate_0 : List UInt8 := [42, 182, 0, 79, 87, 42, 180, 0, 72, 180, 0, 243, 42, 180, 0, 72, 180, 0, 83, 180, 1, 18, 96, 42]
abbrev dktX1_calibrate_0 : List UInt8 := dkwX1_calibrate_0 ++ dktX1_calibrate_1
theorem dksX1_calibrate_0 : cX1_calibrate.data.toList.drop 0 = dktX1_calibrate_0 := by decide +kernel
theorem dksX1_calibrate_1 : cX1_calibrate.data.toList.drop 24 = dktX1_calibrate_1 := dk_seg dksX1_calibrate_0 24 rfl rfl
theorem dksX1_calibrate_2 : cX1_calibrate.data.toList.drop 48 = dktX1_calibrate_2 := dk_seg dksX1_calibrate_1 24 rfl rfl
theorem dX1_calibrate_0 : decode cX1_calibrate 0 = .ok (.aload_n 0, 1) := dk_42 (dk_at dksX1_calibrate_0 0 rfl rfl)
theorem dX1_calibrate_1 : decode cX1_calibrate 1 = .ok (.invokevirtual 79, 3) := dk_182 0 79 (dk_at dksX1_calibrate_0 1 rfl rfl)
theorem dX1_calibrate_4 : decode cX1_calibrate 4 = .ok (.pop, 1) := dk_87 (dk_at dksX1_calibrate_0 4 rfl rfl)
theorem dX1_calibrate_5 : decode cX1_calibrate 5 = .ok (.aload_n 0, 1) := dk_42 (dk_at dksX1_calibrate_0 5 rfl rfl)
theorem dX1_calibrate_6 : decode cX1_calibrate 6 = .ok (.getfield 72, 3) := dk_180 0 72 (dk_at dksX1_calibrate_0 6 rfl rfl)
theorem dX1_calibrate_9 : decode cX1_calibrate 9 = .ok (.getfield 243, 3) := dk_180 0 243 (dk_at dksX1_calibrate_0 9 rfl rfl)
theorem dX1_calibrate_12 : decode cX1_calibrate 12 = .ok (.aload_n 0, 1) := dk_42 (dk_at dksX1_calibrate_0 12 rfl rfl)
theorem dX1_calibrate_13 : decode cX1_calibrate 13 = .ok (.getfield 72, 3) := dk_180 0 72 (dk_at dksX1_calibrate_0 13 rfl rfl)
theorem dX1_calibrate_16 : decode cX1_calibrate 16 = .ok (.getfield 83, 3) := dk_180 0 83 (dk_at dksX1_calibrate_0 16 rfl rfl)
theorem dX1_calibrate_19 : decode cX1_calibrate 19 = .ok (.getfield 274, 3) := dk_180 1 18 (dk_at dksX1_calibrate_0 19 rfl rfl)
theorem dX1_calibrate_22 : decode cX1_calibrate 22 = .ok (.iadd, 1) := dk_96 (dk_at dksX1_calibrate_0 22 rfl rfl)
theorem dX1_calibrate_23 : decode cX1_calibrate 23 = .ok (.aload_n 0, 1) := dk_42 (dk_at dksX1_calibrate_0 23 rfl rfl)
theorem dX1_calibrate_24 : decode cX1_calibrate 24 = .ok (.getfield 72, 3) := dk_180 0 72 (dk_at dksX1_calibrate_1 0 rfl rfl)
theorem dX1_calibrate_27 : decode cX1_calibrate 27 = .ok (.getfield 83, 3) := dk_180 0 83 (dk_at dksX1_calibrate_1 3 rfl rfl)
theorem dX1_calibrate_30 : decode cX1_calibrate 30 = .ok (.getfield 256, 3) := dk_180 1 0 (dk_at dksX1_calibrate_1 6 rfl rfl)
theorem dX1_calibrate_33 : decode cX1_calibrate 33 = .ok (.if_icmp .gt 7, 3) := dk_163 0 7 (dk_at dksX1_calibrate_1 9 rfl rfl)
theorem dX1_calibrate_36 : decode cX1_calibrate 36 = .ok (.iconst 1, 1) := dk_4 (dk_at dksX1_calibrate_1 12 rfl rfl)
theorem dX1_calibrate_37 : decode cX1_calibrate 37 = .ok (.goto 4, 3) := dk_167 0 4 (dk_at dksX1_calibrate_1 13 rfl rfl)
theorem dX1_calibrate_40 : decode cX1_calibrate 40 = .ok (.iconst 0, 1) := dk_3 (dk_at dksX1_calibrate_1 16 rfl rfl)
theorem dX1_calibrate_41 : decode cX1_calibrate 41 = .ok (.invokestatic 144, 3) := dk_184 0 144 (dk_at dksX1_calibrate_1 17 rfl rfl)
theorem dX1_calibrate_44 : decode cX1_calibrate 44 = .ok (.aload_n 0, 1) := dk_42 (dk_at dksX1_calibrate_1 20 rfl rfl)
theorem dX1_calibrate_45 : decode cX1_calibrate 45 = .ok (.getfield 44, 3) := dk_180 0 44 (dk_at dksX1_calibrate_1 21 rfl rfl)
theorem dX1_calibrate_48 : decode cX1_calibrate 48 = .ok (.aload_n 0, 1) := dk_42 (dk_at dksX1_calibrate_2 0 rfl rfl)
theorem dX1_calibrate_49 : decode cX1_calibrate 49 = .ok (.getfield 72, 3) := dk_180 0 72 (dk_at dksX1_calibrate_2 1 rfl rfl)
theorem dX1_calibrate_52 : decode cX1_calibrate 52 = .ok (.invokevirtual 437, 3) := dk_182 1 181 (dk_at dksX1_calibrate_2 4 rfl rfl)
theorem dX1_calibrate_55 : decode cX1_calibrate 55 = .ok (.aload_n 0, 1) := dk_42 (dk_at dksX1_calibrate_2 7 rfl rfl)
theorem dX1_calibrate_56 : decode cX1_calibrate 56 = .ok (.getfield 72, 3) := dk_180 0 72 (dk_at dksX1_calibrate_2 8 rfl rfl)
theorem dX1_calibrate_59 : decode cX1_calibrate 59 = .ok (.invokevirtual 452, 3) := dk_182 1 196 (dk_at dksX1_calibrate_2 11 rfl rfl)
theorem dX1_calibrate_62 : decode cX1_calibrate 62 = .ok (.aload_n 0, 1) := dk_42 (dk_at dksX1_calibrate_2 14 rfl rfl)
theorem dX1_calibrate_63 : decode cX1_calibrate 63 = .ok (.getfield 72, 3) := dk_180 0 72 (dk_at dksX1_calibrate_2 15 rfl rfl)
theorem dX1_calibrate_66 : decode cX1_calibrate 66 = .ok (.getfield 243, 3) := dk_180 0 243 (dk_at dksX1_calibrate_2 18 rfl rfl)
theorem dX1_calibrate_69 : decode cX1_calibrate 69 = .ok (.ireturn, 1) := dk_172 (dk_at dksX1_calibrate_2 21 rfl rfl)
abbrev cX1_addAlert : ByteArray := prog_1_method_77_code
def yX1_addAlert : MethodName := ⟨RX1, "addAlert", "(IIIIII)I"⟩
def dkwX1_addAlert_5 : List UInt8 := [185, 1, 206, 2, 0, 87, 25, 7, 180, 0, 100, 185, 0, 1, 1, 0, 4, 100, 172]
abbrev dktX1_addAlert_5 : List UInt8 := dkwX1_addAlert_5 ++ []
def dkwX1_addAlert_4 : List UInt8 := [187, 0, 222, 89, 27, 25, 7, 180, 0, 243, 28, 29, 21, 4, 21, 5, 21, 6, 183, 1, 203]
abbrev dktX1_addAlert_4 : List UInt8 := dkwX1_addAlert_4 ++ dktX1_addAlert_5
def dkwX1_addAlert_3 : List UInt8 := [4, 167, 0, 4, 3, 184, 0, 144, 42, 180, 0, 44, 25, 7, 182, 1, 181, 25, 7, 180, 0, 100]
abbrev dktX1_addAlert_3 : List UInt8 := dkwX1_addAlert_3 ++ dktX1_addAlert_4
def dkwX1_addAlert_2 : List UInt8 := [20, 1, 201, 184, 0, 62, 153, 0, 22, 25, 7, 180, 0, 100, 185, 0, 1, 1, 0, 16, 10, 162, 0, 7]
abbrev dktX1_addAlert_2 : List UInt8 := dkwX1_addAlert_2 ++ dktX1_addAlert_3
def dkwX1_addAlert_1 : List UInt8 := [184, 0, 62, 153, 0, 48, 21, 5, 133, 9, 20, 1, 199, 184, 0, 62, 153, 0, 35, 21, 6, 133, 9]
abbrev dktX1_addAlert_1 : List UInt8 := dkwX1_addAlert_1 ++ dktX1_addAlert_2
def dkwX1_addAlert_0 : List UInt8 := [42, 27, 182, 0, 138, 58, 7, 28, 29, 184, 1, 50, 153, 0, 61, 21, 4, 133, 10, 20, 1, 127]
abbrev dktX1_addAlert_0 : List UInt8 := dkwX1_addAlert_0 ++ dktX1_addAlert_1
theorem dksX1_addAlert_0 : cX1_addAlert.data.toList.drop 0 = dktX1_addAlert_0 := by decide +kernel
theorem dksX1_addAlert_1 : cX1_addAlert.data.toList.drop 22 = dktX1_addAlert_1 := dk_seg dksX1_addAlert_0 22 rfl rfl
theorem dksX1_addAlert_2 : cX1_addAlert.data.toList.drop 45 = dktX1_addAlert_2 := dk_seg dksX1_addAlert_1 23 rfl rfl
theorem dksX1_addAlert_3 : cX1_addAlert.data.toList.drop 69 = dktX1_addAlert_3 := dk_seg dksX1_addAlert_2 24 rfl rfl
theorem dksX1_addAlert_4 : cX1_addAlert.data.toList.drop 91 = dktX1_addAlert_4 := dk_seg dksX1_addAlert_3 22 rfl rfl
theorem dksX1_addAlert_5 : cX1_addAlert.data.toList.drop 112 = dktX1_addAlert_5 := dk_seg dksX1_addAlert_4 21 rfl rfl
theorem dX1_addAlert_0 : decode cX1_addAlert 0 = .ok (.aload_n 0, 1) := dk_42 (dk_at dksX1_addAlert_0 0 rfl rfl)
theorem dX1_addAlert_1 : decode cX1_addAlert 1 = .ok (.iload_n 1, 1) := dk_27 (dk_at dksX1_addAlert_0 1 rfl rfl)
theorem dX1_addAlert_2 : decode cX1_addAlert 2 = .ok (.invokevirtual 138, 3) := dk_182 0 138 (dk_at dksX1_addAlert_0 2 rfl rfl)
theorem dX1_addAlert_5 : decode cX1_addAlert 5 = .ok (.astore 7, 2) := dk_58 7 (dk_at dksX1_addAlert_0 5 rfl rfl)
theorem dX1_addAlert_7 : decode cX1_addAlert 7 = .ok (.iload_n 2, 1) := dk_28 (dk_at dksX1_addAlert_0 7 rfl rfl)
theorem dX1_addAlert_8 : decode cX1_addAlert 8 = .ok (.iload_n 3, 1) := dk_29 (dk_at dksX1_addAlert_0 8 rfl rfl)
theorem dX1_addAlert_9 : decode cX1_addAlert 9 = .ok (.invokestatic 306, 3) := dk_184 1 50 (dk_at dksX1_addAlert_0 9 rfl rfl)
theorem dX1_addAlert_12 : decode cX1_addAlert 12 = .ok (.ifCond .eq 61, 3) := dk_153 0 61 (dk_at dksX1_addAlert_0 12 rfl rfl)
theorem dX1_addAlert_15 : decode cX1_addAlert 15 = .ok (.iload 4, 2) := dk_21 4 (dk_at dksX1_addAlert_0 15 rfl rfl)
theorem dX1_addAlert_17 : decode cX1_addAlert 17 = .ok (.i2l, 1) := dk_133 (dk_at dksX1_addAlert_0 17 rfl rfl)
theorem dX1_addAlert_18 : decode cX1_addAlert 18 = .ok (.lconst 1, 1) := dk_10 (dk_at dksX1_addAlert_0 18 rfl rfl)
theorem dX1_addAlert_19 : decode cX1_addAlert 19 = .ok (.ldc2_w 383, 3) := dk_20 1 127 (dk_at dksX1_addAlert_0 19 rfl rfl)
theorem dX1_addAlert_22 : decode cX1_addAlert 22 = .ok (.invokestatic 62, 3) := dk_184 0 62 (dk_at dksX1_addAlert_1 0 rfl rfl)
theorem dX1_addAlert_25 : decode cX1_addAlert 25 = .ok (.ifCond .eq 48, 3) := dk_153 0 48 (dk_at dksX1_addAlert_1 3 rfl rfl)
theorem dX1_addAlert_28 : decode cX1_addAlert 28 = .ok (.iload 5, 2) := dk_21 5 (dk_at dksX1_addAlert_1 6 rfl rfl)
theorem dX1_addAlert_30 : decode cX1_addAlert 30 = .ok (.i2l, 1) := dk_133 (dk_at dksX1_addAlert_1 8 rfl rfl)
theorem dX1_addAlert_31 : decode cX1_addAlert 31 = .ok (.lconst 0, 1) := dk_9 (dk_at dksX1_addAlert_1 9 rfl rfl)
theorem dX1_addAlert_32 : decode cX1_addAlert 32 = .ok (.ldc2_w 455, 3) := dk_20 1 199 (dk_at dksX1_addAlert_1 10 rfl rfl)
theorem dX1_addAlert_35 : decode cX1_addAlert 35 = .ok (.invokestatic 62, 3) := dk_184 0 62 (dk_at dksX1_addAlert_1 13 rfl rfl)
theorem dX1_addAlert_38 : decode cX1_addAlert 38 = .ok (.ifCond .eq 35, 3) := dk_153 0 35 (dk_at dksX1_addAlert_1 16 rfl rfl)
theorem dX1_addAlert_41 : decode cX1_addAlert 41 = .ok (.iload 6, 2) := dk_21 6 (dk_at dksX1_addAlert_1 19 rfl rfl)
theorem dX1_addAlert_43 : decode cX1_addAlert 43 = .ok (.i2l, 1) := dk_133 (dk_at dksX1_addAlert_1 21 rfl rfl)
theorem dX1_addAlert_44 : decode cX1_addAlert 44 = .ok (.lconst 0, 1) := dk_9 (dk_at dksX1_addAlert_1 22 rfl rfl)
theorem dX1_addAlert_45 : decode cX1_addAlert 45 = .ok (.ldc2_w 457, 3) := dk_20 1 201 (dk_at dksX1_addAlert_2 0 rfl rfl)
theorem dX1_addAlert_48 : decode cX1_addAlert 48 = .ok (.invokestatic 62, 3) := dk_184 0 62 (dk_at dksX1_addAlert_2 3 rfl rfl)
theorem dX1_addAlert_51 : decode cX1_addAlert 51 = .ok (.ifCond .eq 22, 3) := dk_153 0 22 (dk_at dksX1_addAlert_2 6 rfl rfl)
theorem dX1_addAlert_54 : decode cX1_addAlert 54 = .ok (.aload 7, 2) := dk_25 7 (dk_at dksX1_addAlert_2 9 rfl rfl)
theorem dX1_addAlert_56 : decode cX1_addAlert 56 = .ok (.getfield 100, 3) := dk_180 0 100 (dk_at dksX1_addAlert_2 11 rfl rfl)
theorem dX1_addAlert_59 : decode cX1_addAlert 59 = .ok (.invokeinterface 1 1, 5) := by decide +kernel
theorem dX1_addAlert_64 : decode cX1_addAlert 64 = .ok (.bipush 10, 2) := dk_16 10 (dk_at dksX1_addAlert_2 19 rfl rfl)
theorem dX1_addAlert_66 : decode cX1_addAlert 66 = .ok (.if_icmp .ge 7, 3) := dk_162 0 7 (dk_at dksX1_addAlert_2 21 rfl rfl)
theorem dX1_addAlert_69 : decode cX1_addAlert 69 = .ok (.iconst 1, 1) := dk_4 (dk_at dksX1_addAlert_3 0 rfl rfl)
theorem dX1_addAlert_70 : decode cX1_addAlert 70 = .ok (.goto 4, 3) := dk_167 0 4 (dk_at dksX1_addAlert_3 1 rfl rfl)
theorem dX1_addAlert_73 : decode cX1_addAlert 73 = .ok (.iconst 0, 1) := dk_3 (dk_at dksX1_addAlert_3 4 rfl rfl)
theorem dX1_addAlert_74 : decode cX1_addAlert 74 = .ok (.invokestatic 144, 3) := dk_184 0 144 (dk_at dksX1_addAlert_3 5 rfl rfl)
theorem dX1_addAlert_77 : decode cX1_addAlert 77 = .ok (.aload_n 0, 1) := dk_42 (dk_at dksX1_addAlert_3 8 rfl rfl)
theorem dX1_addAlert_78 : decode cX1_addAlert 78 = .ok (.getfield 44, 3) := dk_180 0 44 (dk_at dksX1_addAlert_3 9 rfl rfl)
theorem dX1_addAlert_81 : decode cX1_addAlert 81 = .ok (.aload 7, 2) := dk_25 7 (dk_at dksX1_addAlert_3 12 rfl rfl)
theorem dX1_addAlert_83 : decode cX1_addAlert 83 = .ok (.invokevirtual 437, 3) := dk_182 1 181 (dk_at dksX1_addAlert_3 14 rfl rfl)
theorem dX1_addAlert_86 : decode cX1_addAlert 86 = .ok (.aload 7, 2) := dk_25 7 (dk_at dksX1_addAlert_3 17 rfl rfl)
theorem dX1_addAlert_88 : decode cX1_addAlert 88 = .ok (.getfield 100, 3) := dk_180 0 100 (dk_at dksX1_addAlert_3 19 rfl rfl)
theorem dX1_addAlert_91 : decode cX1_addAlert 91 = .ok (.new 222, 3) := dk_187 0 222 (dk_at dksX1_addAlert_4 0 rfl rfl)
theorem dX1_addAlert_94 : decode cX1_addAlert 94 = .ok (.dup, 1) := dk_89 (dk_at dksX1_addAlert_4 3 rfl rfl)
theorem dX1_addAlert_95 : decode cX1_addAlert 95 = .ok (.iload_n 1, 1) := dk_27 (dk_at dksX1_addAlert_4 4 rfl rfl)
theorem dX1_addAlert_96 : decode cX1_addAlert 96 = .ok (.aload 7, 2) := dk_25 7 (dk_at dksX1_addAlert_4 5 rfl rfl)
theorem dX1_addAlert_98 : decode cX1_addAlert 98 = .ok (.getfield 243, 3) := dk_180 0 243 (dk_at dksX1_addAlert_4 7 rfl rfl)
theorem dX1_addAlert_101 : decode cX1_addAlert 101 = .ok (.iload_n 2, 1) := dk_28 (dk_at dksX1_addAlert_4 10 rfl rfl)
theorem dX1_addAlert_102 : decode cX1_addAlert 102 = .ok (.iload_n 3, 1) := dk_29 (dk_at dksX1_addAlert_4 11 rfl rfl)
theorem dX1_addAlert_103 : decode cX1_addAlert 103 = .ok (.iload 4, 2) := dk_21 4 (dk_at dksX1_addAlert_4 12 rfl rfl)
theorem dX1_addAlert_105 : decode cX1_addAlert 105 = .ok (.iload 5, 2) := dk_21 5 (dk_at dksX1_addAlert_4 14 rfl rfl)
theorem dX1_addAlert_107 : decode cX1_addAlert 107 = .ok (.iload 6, 2) := dk_21 6 (dk_at dksX1_addAlert_4 16 rfl rfl)
theorem dX1_addAlert_109 : decode cX1_addAlert 109 = .ok (.invokespecial 459, 3) := dk_183 1 203 (dk_at dksX1_addAlert_4 18 rfl rfl)
theorem dX1_addAlert_112 : decode cX1_addAlert 112 = .ok (.invokeinterface 462 2, 5) := by decide +kernel
theorem dX1_addAlert_117 : decode cX1_addAlert 117 = .ok (.pop, 1) := dk_87 (dk_at dksX1_addAlert_5 5 rfl rfl)
theorem dX1_addAlert_118 : decode cX1_addAlert 118 = .ok (.aload 7, 2) := dk_25 7 (dk_at dksX1_addAlert_5 6 rfl rfl)
theorem dX1_addAlert_120 : decode cX1_addAlert 120 = .ok (.getfield 100, 3) := dk_180 0 100 (dk_at dksX1_addAlert_5 8 rfl rfl)
theorem dX1_addAlert_123 : decode cX1_addAlert 123 = .ok (.invokeinterface 1 1, 5) := by decide +kernel
theorem dX1_addAlert_128 : decode cX1_addAlert 128 = .ok (.iconst 1, 1) := dk_4 (dk_at dksX1_addAlert_5 16 rfl rfl)
theorem dX1_addAlert_129 : decode cX1_addAlert 129 = .ok (.isub, 1) := dk_100 (dk_at dksX1_addAlert_5 17 rfl rfl)
theorem dX1_addAlert_130 : decode cX1_addAlert 130 = .ok (.ireturn, 1) := dk_172 (dk_at dksX1_addAlert_5 18 rfl rfl)
abbrev cX1_undo : ByteArray := prog_1_method_78_code
def yX1_undo : MethodName := ⟨RX1, "undo", "()I"⟩
def dkwX1_undo_1 : List UInt8 := [182, 1, 211, 192, 0, 32, 181, 0, 72, 42, 180, 0, 44, 182, 1, 210, 172]
abbrev dktX1_undo_1 : List UInt8 := dkwX1_undo_1 ++ []
def dkwX1_undo_0 : List UInt8 := [42, 180, 0, 44, 182, 1, 210, 158, 0, 7, 4, 167, 0, 4, 3, 184, 0, 75, 42, 42, 180, 0, 44]
abbrev dktX1_undo_0 : List UInt8 := dkwX1_undo_0 ++ dktX1_undo_1
theorem dksX1_undo_0 : cX1_undo.data.toList.drop 0 = dktX1_undo_0 := by decide +kernel
theorem dksX1_undo_1 : cX1_undo.data.toList.drop 23 = dktX1_undo_1 := dk_seg dksX1_undo_0 23 rfl rfl
theorem dX1_undo_0 : decode cX1_undo 0 = .ok (.aload_n 0, 1) := dk_42 (dk_at dksX1_undo_0 0 rfl rfl)
theorem dX1_undo_1 : decode cX1_undo 1 = .ok (.getfield 44, 3) := dk_180 0 44 (dk_at dksX1_undo_0 1 rfl rfl)
theorem dX1_undo_4 : decode cX1_undo 4 = .ok (.invokevirtual 466, 3) := dk_182 1 210 (dk_at dksX1_undo_0 4 rfl rfl)
theorem dX1_undo_7 : decode cX1_undo 7 = .ok (.ifCond .le 7, 3) := dk_158 0 7 (dk_at dksX1_undo_0 7 rfl rfl)
theorem dX1_undo_10 : decode cX1_undo 10 = .ok (.iconst 1, 1) := dk_4 (dk_at dksX1_undo_0 10 rfl rfl)
theorem dX1_undo_11 : decode cX1_undo 11 = .ok (.goto 4, 3) := dk_167 0 4 (dk_at dksX1_undo_0 11 rfl rfl)
theorem dX1_undo_14 : decode cX1_undo 14 = .ok (.iconst 0, 1) := dk_3 (dk_at dksX1_undo_0 14 rfl rfl)
theorem dX1_undo_15 : decode cX1_undo 15 = .ok (.invokestatic 75, 3) := dk_184 0 75 (dk_at dksX1_undo_0 15 rfl rfl)
theorem dX1_undo_18 : decode cX1_undo 18 = .ok (.aload_n 0, 1) := dk_42 (dk_at dksX1_undo_0 18 rfl rfl)
theorem dX1_undo_19 : decode cX1_undo 19 = .ok (.aload_n 0, 1) := dk_42 (dk_at dksX1_undo_0 19 rfl rfl)
theorem dX1_undo_20 : decode cX1_undo 20 = .ok (.getfield 44, 3) := dk_180 0 44 (dk_at dksX1_undo_0 20 rfl rfl)
theorem dX1_undo_23 : decode cX1_undo 23 = .ok (.invokevirtual 467, 3) := dk_182 1 211 (dk_at dksX1_undo_1 0 rfl rfl)
theorem dX1_undo_26 : decode cX1_undo 26 = .ok (.checkcast 32, 3) := dk_192 0 32 (dk_at dksX1_undo_1 3 rfl rfl)
theorem dX1_undo_29 : decode cX1_undo 29 = .ok (.putfield 72, 3) := dk_181 0 72 (dk_at dksX1_undo_1 6 rfl rfl)
theorem dX1_undo_32 : decode cX1_undo 32 = .ok (.aload_n 0, 1) := dk_42 (dk_at dksX1_undo_1 9 rfl rfl)
theorem dX1_undo_33 : decode cX1_undo 33 = .ok (.getfield 44, 3) := dk_180 0 44 (dk_at dksX1_undo_1 10 rfl rfl)
theorem dX1_undo_36 : decode cX1_undo 36 = .ok (.invokevirtual 466, 3) := dk_182 1 210 (dk_at dksX1_undo_1 13 rfl rfl)
theorem dX1_undo_39 : decode cX1_undo 39 = .ok (.ireturn, 1) := dk_172 (dk_at dksX1_undo_1 16 rfl rfl)
abbrev cX1_save : ByteArray := prog_1_method_80_code
def yX1_save : MethodName := ⟨RX1, "save", "(I)I"⟩
def dkwX1_save_1 : List UInt8 := [180, 0, 72, 180, 0, 243, 172]
abbrev dktX1_save_1 : List UInt8 := dkwX1_save_1 ++ []
def dkwX1_save_0 : List UInt8 := [42, 182, 0, 79, 87, 27, 5, 184, 0, 93, 42, 180, 0, 48, 27, 42, 180, 0, 72, 182, 1, 215, 83, 42]
abbrev dktX1_save_0 : List UInt8 := dkwX1_save_0 ++ dktX1_save_1
theorem dksX1_save_0 : cX1_save.data.toList.drop 0 = dktX1_save_0 := by decide +kernel
theorem dksX1_save_1 : cX1_save.data.toList.drop 24 = dktX1_save_1 := dk_seg dksX1_save_0 24 rfl rfl
theorem dX1_save_0 : decode cX1_save 0 = .ok (.aload_n 0, 1) := dk_42 (dk_at dksX1_save_0 0 rfl rfl)
theorem dX1_save_1 : decode cX1_save 1 = .ok (.invokevirtual 79, 3) := dk_182 0 79 (dk_at dksX1_save_0 1 rfl rfl)
theorem dX1_save_4 : decode cX1_save 4 = .ok (.pop, 1) := dk_87 (dk_at dksX1_save_0 4 rfl rfl)
theorem dX1_save_5 : decode cX1_save 5 = .ok (.iload_n 1, 1) := dk_27 (dk_at dksX1_save_0 5 rfl rfl)
theorem dX1_save_6 : decode cX1_save 6 = .ok (.iconst 2, 1) := dk_5 (dk_at dksX1_save_0 6 rfl rfl)
theorem dX1_save_7 : decode cX1_save 7 = .ok (.invokestatic 93, 3) := dk_184 0 93 (dk_at dksX1_save_0 7 rfl rfl)
theorem dX1_save_10 : decode cX1_save 10 = .ok (.aload_n 0, 1) := dk_42 (dk_at dksX1_save_0 10 rfl rfl)
theorem dX1_save_11 : decode cX1_save 11 = .ok (.getfield 48, 3) := dk_180 0 48 (dk_at dksX1_save_0 11 rfl rfl)
theorem dX1_save_14 : decode cX1_save 14 = .ok (.iload_n 1, 1) := dk_27 (dk_at dksX1_save_0 14 rfl rfl)
theorem dX1_save_15 : decode cX1_save 15 = .ok (.aload_n 0, 1) := dk_42 (dk_at dksX1_save_0 15 rfl rfl)
theorem dX1_save_16 : decode cX1_save 16 = .ok (.getfield 72, 3) := dk_180 0 72 (dk_at dksX1_save_0 16 rfl rfl)
theorem dX1_save_19 : decode cX1_save 19 = .ok (.invokevirtual 471, 3) := dk_182 1 215 (dk_at dksX1_save_0 19 rfl rfl)
theorem dX1_save_22 : decode cX1_save 22 = .ok (.aastore, 1) := dk_83 (dk_at dksX1_save_0 22 rfl rfl)
theorem dX1_save_23 : decode cX1_save 23 = .ok (.aload_n 0, 1) := dk_42 (dk_at dksX1_save_0 23 rfl rfl)
theorem dX1_save_24 : decode cX1_save 24 = .ok (.getfield 72, 3) := dk_180 0 72 (dk_at dksX1_save_1 0 rfl rfl)
theorem dX1_save_27 : decode cX1_save 27 = .ok (.getfield 243, 3) := dk_180 0 243 (dk_at dksX1_save_1 3 rfl rfl)
theorem dX1_save_30 : decode cX1_save 30 = .ok (.ireturn, 1) := dk_172 (dk_at dksX1_save_1 6 rfl rfl)
abbrev cX1_restore : ByteArray := prog_1_method_81_code
def yX1_restore : MethodName := ⟨RX1, "restore", "(I)I"⟩
def dkwX1_restore_2 : List UInt8 := [180, 0, 243, 172]
abbrev dktX1_restore_2 : List UInt8 := dkwX1_restore_2 ++ []
def dkwX1_restore_1 : List UInt8 := [180, 0, 48, 27, 50, 182, 1, 215, 181, 0, 72, 42, 180, 0, 44, 182, 0, 127, 42, 180, 0, 72]
abbrev dktX1_restore_1 : List UInt8 := dkwX1_restore_1 ++ dktX1_restore_2
def dkwX1_restore_0 : List UInt8 := [27, 5, 184, 0, 93, 42, 180, 0, 48, 27, 50, 198, 0, 7, 4, 167, 0, 4, 3, 184, 0, 75, 42, 42]
abbrev dktX1_restore_0 : List UInt8 := dkwX1_restore_0 ++ dktX1_restore_1
theorem dksX1_restore_0 : cX1_restore.data.toList.drop 0 = dktX1_restore_0 := by decide +kernel
theorem dksX1_restore_1 : cX1_restore.data.toList.drop 24 = dktX1_restore_1 := dk_seg dksX1_restore_0 24 rfl rfl
theorem dksX1_restore_2 : cX1_restore.data.toList.drop 46 = dktX1_restore_2 := dk_seg dksX1_restore_1 22 rfl rfl
theorem dX1_restore_0 : decode cX1_restore 0 = .ok (.iload_n 1, 1) := dk_27 (dk_at dksX1_restore_0 0 rfl rfl)
theorem dX1_restore_1 : decode cX1_restore 1 = .ok (.iconst 2, 1) := dk_5 (dk_at dksX1_restore_0 1 rfl rfl)
theorem dX1_restore_2 : decode cX1_restore 2 = .ok (.invokestatic 93, 3) := dk_184 0 93 (dk_at dksX1_restore_0 2 rfl rfl)
theorem dX1_restore_5 : decode cX1_restore 5 = .ok (.aload_n 0, 1) := dk_42 (dk_at dksX1_restore_0 5 rfl rfl)
theorem dX1_restore_6 : decode cX1_restore 6 = .ok (.getfield 48, 3) := dk_180 0 48 (dk_at dksX1_restore_0 6 rfl rfl)
theorem dX1_restore_9 : decode cX1_restore 9 = .ok (.iload_n 1, 1) := dk_27 (dk_at dksX1_restore_0 9 rfl rfl)
theorem dX1_restore_10 : decode cX1_restore 10 = .ok (.aaload, 1) := dk_50 (dk_at dksX1_restore_0 10 rfl rfl)
theorem dX1_restore_11 : decode cX1_restore 11 = .ok (.ifnull 7, 3) := dk_198 0 7 (dk_at dksX1_restore_0 11 rfl rfl)
theorem dX1_restore_14 : decode cX1_restore 14 = .ok (.iconst 1, 1) := dk_4 (dk_at dksX1_restore_0 14 rfl rfl)
theorem dX1_restore_15 : decode cX1_restore 15 = .ok (.goto 4, 3) := dk_167 0 4 (dk_at dksX1_restore_0 15 rfl rfl)
theorem dX1_restore_18 : decode cX1_restore 18 = .ok (.iconst 0, 1) := dk_3 (dk_at dksX1_restore_0 18 rfl rfl)
theorem dX1_restore_19 : decode cX1_restore 19 = .ok (.invokestatic 75, 3) := dk_184 0 75 (dk_at dksX1_restore_0 19 rfl rfl)
theorem dX1_restore_22 : decode cX1_restore 22 = .ok (.aload_n 0, 1) := dk_42 (dk_at dksX1_restore_0 22 rfl rfl)
theorem dX1_restore_23 : decode cX1_restore 23 = .ok (.aload_n 0, 1) := dk_42 (dk_at dksX1_restore_0 23 rfl rfl)
theorem dX1_restore_24 : decode cX1_restore 24 = .ok (.getfield 48, 3) := dk_180 0 48 (dk_at dksX1_restore_1 0 rfl rfl)
theorem dX1_restore_27 : decode cX1_restore 27 = .ok (.iload_n 1, 1) := dk_27 (dk_at dksX1_restore_1 3 rfl rfl)
theorem dX1_restore_28 : decode cX1_restore 28 = .ok (.aaload, 1) := dk_50 (dk_at dksX1_restore_1 4 rfl rfl)
theorem dX1_restore_29 : decode cX1_restore 29 = .ok (.invokevirtual 471, 3) := dk_182 1 215 (dk_at dksX1_restore_1 5 rfl rfl)
theorem dX1_restore_32 : decode cX1_restore 32 = .ok (.putfield 72, 3) := dk_181 0 72 (dk_at dksX1_restore_1 8 rfl rfl)
theorem dX1_restore_35 : decode cX1_restore 35 = .ok (.aload_n 0, 1) := dk_42 (dk_at dksX1_restore_1 11 rfl rfl)
theorem dX1_restore_36 : decode cX1_restore 36 = .ok (.getfield 44, 3) := dk_180 0 44 (dk_at dksX1_restore_1 12 rfl rfl)
theorem dX1_restore_39 : decode cX1_restore 39 = .ok (.invokevirtual 127, 3) := dk_182 0 127 (dk_at dksX1_restore_1 15 rfl rfl)
theorem dX1_restore_42 : decode cX1_restore 42 = .ok (.aload_n 0, 1) := dk_42 (dk_at dksX1_restore_1 18 rfl rfl)
theorem dX1_restore_43 : decode cX1_restore 43 = .ok (.getfield 72, 3) := dk_180 0 72 (dk_at dksX1_restore_1 19 rfl rfl)
theorem dX1_restore_46 : decode cX1_restore 46 = .ok (.getfield 243, 3) := dk_180 0 243 (dk_at dksX1_restore_2 0 rfl rfl)
theorem dX1_restore_49 : decode cX1_restore 49 = .ok (.ireturn, 1) := dk_172 (dk_at dksX1_restore_2 3 rfl rfl)
theorem q113 : (Jvm.Cond.initialized "TelescopeQueue") ∈ lw_all := lw_g (lw_at lw_m1 1 rfl) rfl
theorem q161 : (Jvm.Cond.instantiable "TelescopeQueue" (9 : Nat)) ∈ lw_all := lw_g (lw_at lw_m1 49 rfl) rfl
theorem q163 : (Jvm.Cond.instanceMethod ({ cls := "TelescopeQueue", name := "<init>", desc := "()V" } : Jvm.MethodName)) ∈ lw_all := lw_g (lw_at lw_m1 51 rfl) rfl
theorem q164 : (Jvm.Cond.code ({ cls := "TelescopeQueue", name := "<init>", desc := "()V" } : Jvm.MethodName) prog_1_method_3_code (1 : Nat) (Option.none : Option Jvm.ClassFile.FieldType)) ∈ lw_all := lw_g (lw_at lw_m1 52 rfl) rfl
theorem q165 : (Jvm.Cond.methodLink "TelescopeQueue" (16 : Nat) ({ cls := "java/lang/Object", name := "<init>", desc := "()V" } : Jvm.MethodName)) ∈ lw_all := lw_g (lw_at lw_m1 53 rfl) rfl
theorem q168 : (Jvm.Cond.classLink "TelescopeQueue" (32 : Nat) "TelescopeQueue$State") ∈ lw_all := lw_g (lw_at lw_m1 56 rfl) rfl
theorem q170 : (Jvm.Cond.methodLink "TelescopeQueue" (34 : Nat) ({ cls := "TelescopeQueue$State", name := "<init>", desc := "(LTelescopeQueue$Scope;)V" } : Jvm.MethodName)) ∈ lw_all := lw_g (lw_at lw_m1 58 rfl) rfl
theorem q567 : (Jvm.Cond.fieldLinkNest "TelescopeQueue" (328 : Nat) "TelescopeQueue$Plan" "dump" "I" "TelescopeQueue") ∈ lw_tbl := lw_at lw_m2 215 rfl
theorem q574 : (Jvm.Cond.fieldLinkNest "TelescopeQueue" (329 : Nat) "TelescopeQueue$Plan" "start" "I" "TelescopeQueue") ∈ lw_tbl := lw_at lw_m2 222 rfl
theorem q578 : (Jvm.Cond.fieldLinkNest "TelescopeQueue" (323 : Nat) "TelescopeQueue$Plan" "growth" "I" "TelescopeQueue") ∈ lw_tbl := lw_at lw_m2 226 rfl
theorem q580 : (Jvm.Cond.fieldLinkNest "TelescopeQueue" (332 : Nat) "TelescopeQueue$Plan" "reason" "I" "TelescopeQueue") ∈ lw_tbl := lw_at lw_m2 228 rfl
theorem q602 : (Jvm.Cond.fieldLinkNest "TelescopeQueue" (83 : Nat) "TelescopeQueue$State" "scope" "LTelescopeQueue$Scope;" "TelescopeQueue") ∈ lw_tbl := lw_at lw_m3 10 rfl
theorem q605 : (Jvm.Cond.fieldLinkNest "TelescopeQueue" (100 : Nat) "TelescopeQueue$State" "alerts" "Ljava/util/List;" "TelescopeQueue") ∈ lw_tbl := lw_at lw_m3 13 rfl
theorem q608 : (Jvm.Cond.fieldLinkNest "TelescopeQueue" (147 : Nat) "TelescopeQueue$State" "granted" "[I" "TelescopeQueue") ∈ lw_tbl := lw_at lw_m3 16 rfl
theorem q611 : (Jvm.Cond.fieldLinkNest "TelescopeQueue" (151 : Nat) "TelescopeQueue$State" "used" "[I" "TelescopeQueue") ∈ lw_tbl := lw_at lw_m3 19 rfl
theorem q613 : (Jvm.Cond.fieldLinkNest "TelescopeQueue" (154 : Nat) "TelescopeQueue$State" "lost" "[I" "TelescopeQueue") ∈ lw_tbl := lw_at lw_m3 21 rfl
theorem q615 : (Jvm.Cond.fieldLinkNest "TelescopeQueue" (168 : Nat) "TelescopeQueue$State" "slewed" "[I" "TelescopeQueue") ∈ lw_tbl := lw_at lw_m3 23 rfl
theorem q617 : (Jvm.Cond.fieldLinkNest "TelescopeQueue" (161 : Nat) "TelescopeQueue$State" "visitState" "[I" "TelescopeQueue") ∈ lw_tbl := lw_at lw_m3 25 rfl
theorem q619 : (Jvm.Cond.fieldLinkNest "TelescopeQueue" (213 : Nat) "TelescopeQueue$State" "aborts" "[I" "TelescopeQueue") ∈ lw_tbl := lw_at lw_m3 27 rfl
theorem q621 : (Jvm.Cond.fieldLinkNest "TelescopeQueue" (216 : Nat) "TelescopeQueue$State" "startOf" "[I" "TelescopeQueue") ∈ lw_tbl := lw_at lw_m3 29 rfl
theorem q624 : (Jvm.Cond.fieldLinkNest "TelescopeQueue" (201 : Nat) "TelescopeQueue$State" "priority" "[I" "TelescopeQueue") ∈ lw_tbl := lw_at lw_m3 32 rfl
theorem q626 : (Jvm.Cond.fieldLinkNest "TelescopeQueue" (237 : Nat) "TelescopeQueue$State" "alertState" "[I" "TelescopeQueue") ∈ lw_tbl := lw_at lw_m3 34 rfl
theorem q628 : (Jvm.Cond.fieldLinkNest "TelescopeQueue" (240 : Nat) "TelescopeQueue$State" "alertStart" "[I" "TelescopeQueue") ∈ lw_tbl := lw_at lw_m3 36 rfl
theorem q630 : (Jvm.Cond.fieldLinkNest "TelescopeQueue" (356 : Nat) "TelescopeQueue$State" "totals" "[I" "TelescopeQueue") ∈ lw_tbl := lw_at lw_m3 38 rfl
theorem q632 : (Jvm.Cond.fieldLinkNest "TelescopeQueue" (374 : Nat) "TelescopeQueue$State" "log" "[I" "TelescopeQueue") ∈ lw_tbl := lw_at lw_m3 40 rfl
theorem q634 : (Jvm.Cond.fieldLinkNest "TelescopeQueue" (243 : Nat) "TelescopeQueue$State" "time" "I" "TelescopeQueue") ∈ lw_tbl := lw_at lw_m3 42 rfl
theorem q636 : (Jvm.Cond.fieldLinkNest "TelescopeQueue" (244 : Nat) "TelescopeQueue$State" "lon" "I" "TelescopeQueue") ∈ lw_tbl := lw_at lw_m3 44 rfl
theorem q638 : (Jvm.Cond.fieldLinkNest "TelescopeQueue" (246 : Nat) "TelescopeQueue$State" "lat" "I" "TelescopeQueue") ∈ lw_tbl := lw_at lw_m3 46 rfl
theorem q640 : (Jvm.Cond.fieldLinkNest "TelescopeQueue" (248 : Nat) "TelescopeQueue$State" "momentum" "I" "TelescopeQueue") ∈ lw_tbl := lw_at lw_m3 48 rfl
theorem q642 : (Jvm.Cond.fieldLinkNest "TelescopeQueue" (251 : Nat) "TelescopeQueue$State" "latest" "I" "TelescopeQueue") ∈ lw_tbl := lw_at lw_m3 50 rfl
theorem q645 : (Jvm.Cond.fieldLinkNest "TelescopeQueue" (271 : Nat) "TelescopeQueue$State" "cadence" "I" "TelescopeQueue") ∈ lw_tbl := lw_at lw_m3 53 rfl
theorem q647 : (Jvm.Cond.fieldLinkNest "TelescopeQueue" (286 : Nat) "TelescopeQueue$State" "policy" "I" "TelescopeQueue") ∈ lw_tbl := lw_at lw_m3 55 rfl
theorem q649 : (Jvm.Cond.fieldLinkNest "TelescopeQueue" (369 : Nat) "TelescopeQueue$State" "entries" "I" "TelescopeQueue") ∈ lw_tbl := lw_at lw_m3 57 rfl
theorem q706 : (Jvm.Cond.classLink "TelescopeQueue" (41 : Nat) "TelescopeQueue$History") ∈ lw_all := lw_g (lw_at lw_m3 114 rfl) rfl
theorem q708 : (Jvm.Cond.methodLinkNest "TelescopeQueue" (43 : Nat) ({ cls := "TelescopeQueue$History", name := "<init>", desc := "()V" } : Jvm.MethodName) "TelescopeQueue") ∈ lw_tbl := lw_at lw_m3 116 rfl
theorem q734 : (Jvm.Cond.classLink "TelescopeQueue" (52 : Nat) "java/lang/StringBuilder") ∈ lw_all := lw_g (lw_at lw_m3 142 rfl) rfl
theorem q735 : (Jvm.Cond.methodLink "TelescopeQueue" (54 : Nat) ({ cls := "java/lang/StringBuilder", name := "<init>", desc := "()V" } : Jvm.MethodName)) ∈ lw_all := lw_g (lw_at lw_m3 143 rfl) rfl
theorem q736 : (Jvm.Cond.fieldLink "TelescopeQueue" (24 : Nat) "TelescopeQueue" "buffer" "[B") ∈ lw_all := lw_g (lw_at lw_m3 144 rfl) rfl
theorem q737 : (Jvm.Cond.fieldLink "TelescopeQueue" (109 : Nat) "TelescopeQueue" "buffered" "I") ∈ lw_all := lw_g (lw_at lw_m3 145 rfl) rfl
theorem q738 : (Jvm.Cond.fieldLink "TelescopeQueue" (116 : Nat) "TelescopeQueue" "parseError" "I") ∈ lw_all := lw_g (lw_at lw_m3 146 rfl) rfl
theorem q739 : (Jvm.Cond.fieldLink "TelescopeQueue" (28 : Nat) "TelescopeQueue" "errorPosition" "I") ∈ lw_all := lw_g (lw_at lw_m3 147 rfl) rfl
theorem q740 : (Jvm.Cond.fieldLink "TelescopeQueue" (72 : Nat) "TelescopeQueue" "state" "LTelescopeQueue$State;") ∈ lw_all := lw_g (lw_at lw_m3 148 rfl) rfl
theorem q741 : (Jvm.Cond.fieldLink "TelescopeQueue" (37 : Nat) "TelescopeQueue" "trial" "LTelescopeQueue$State;") ∈ lw_all := lw_g (lw_at lw_m3 149 rfl) rfl
theorem q742 : (Jvm.Cond.fieldLink "TelescopeQueue" (44 : Nat) "TelescopeQueue" "past" "LTelescopeQueue$History;") ∈ lw_all := lw_g (lw_at lw_m3 150 rfl) rfl
theorem q743 : (Jvm.Cond.fieldLink "TelescopeQueue" (48 : Nat) "TelescopeQueue" "saved" "[LTelescopeQueue$State;") ∈ lw_all := lw_g (lw_at lw_m3 151 rfl) rfl
theorem q744 : (Jvm.Cond.fieldLink "TelescopeQueue" (55 : Nat) "TelescopeQueue" "label" "Ljava/lang/StringBuilder;") ∈ lw_all := lw_g (lw_at lw_m3 152 rfl) rfl
theorem q745 : (Jvm.Cond.laysFinal "TelescopeQueue" "TelescopeQueue" "buffer" "[B") ∈ lw_all := lw_g (lw_at lw_m3 153 rfl) rfl
theorem q746 : (Jvm.Cond.soleField "TelescopeQueue" "buffer") ∈ lw_all := lw_g (lw_at lw_m3 154 rfl) rfl
theorem q747 : (Jvm.Cond.lays "TelescopeQueue" "TelescopeQueue" "buffered" "I") ∈ lw_all := lw_g (lw_at lw_m3 155 rfl) rfl
theorem q748 : (Jvm.Cond.soleField "TelescopeQueue" "buffered") ∈ lw_all := lw_g (lw_at lw_m3 156 rfl) rfl
theorem q749 : (Jvm.Cond.lays "TelescopeQueue" "TelescopeQueue" "parseError" "I") ∈ lw_all := lw_g (lw_at lw_m3 157 rfl) rfl
theorem q750 : (Jvm.Cond.soleField "TelescopeQueue" "parseError") ∈ lw_all := lw_g (lw_at lw_m3 158 rfl) rfl
theorem q751 : (Jvm.Cond.lays "TelescopeQueue" "TelescopeQueue" "errorPosition" "I") ∈ lw_all := lw_g (lw_at lw_m3 159 rfl) rfl
theorem q752 : (Jvm.Cond.soleField "TelescopeQueue" "errorPosition") ∈ lw_all := lw_g (lw_at lw_m3 160 rfl) rfl
theorem q753 : (Jvm.Cond.lays "TelescopeQueue" "TelescopeQueue" "state" "LTelescopeQueue$State;") ∈ lw_all := lw_g (lw_at lw_m3 161 rfl) rfl
theorem q754 : (Jvm.Cond.soleField "TelescopeQueue" "state") ∈ lw_all := lw_g (lw_at lw_m3 162 rfl) rfl
theorem q755 : (Jvm.Cond.laysFinal "TelescopeQueue" "TelescopeQueue" "trial" "LTelescopeQueue$State;") ∈ lw_all := lw_g (lw_at lw_m3 163 rfl) rfl
theorem q756 : (Jvm.Cond.soleField "TelescopeQueue" "trial") ∈ lw_all := lw_g (lw_at lw_m3 164 rfl) rfl
theorem q757 : (Jvm.Cond.laysFinal "TelescopeQueue" "TelescopeQueue" "past" "LTelescopeQueue$History;") ∈ lw_all := lw_g (lw_at lw_m3 165 rfl) rfl
theorem q758 : (Jvm.Cond.soleField "TelescopeQueue" "past") ∈ lw_all := lw_g (lw_at lw_m3 166 rfl) rfl
theorem q759 : (Jvm.Cond.laysFinal "TelescopeQueue" "TelescopeQueue" "saved" "[LTelescopeQueue$State;") ∈ lw_all := lw_g (lw_at lw_m3 167 rfl) rfl
theorem q760 : (Jvm.Cond.soleField "TelescopeQueue" "saved") ∈ lw_all := lw_g (lw_at lw_m3 168 rfl) rfl
theorem q761 : (Jvm.Cond.laysFinal "TelescopeQueue" "TelescopeQueue" "label" "Ljava/lang/StringBuilder;") ∈ lw_all := lw_g (lw_at lw_m3 169 rfl) rfl
theorem q762 : (Jvm.Cond.soleField "TelescopeQueue" "label") ∈ lw_all := lw_g (lw_at lw_m3 170 rfl) rfl
theorem q763 : (Jvm.Cond.superclass "TelescopeQueue" "java/lang/Object") ∈ lw_all := lw_g (lw_at lw_m3 171 rfl) rfl
theorem q765 : (Jvm.Cond.instanceMethod ({ cls := "TelescopeQueue", name := "append", desc := "(IIIII)I" } : Jvm.MethodName)) ∈ lw_all := lw_g (lw_at lw_m3 173 rfl) rfl
theorem q766 : (Jvm.Cond.selects "TelescopeQueue" ({ cls := "TelescopeQueue", name := "append", desc := "(IIIII)I" } : Jvm.MethodName) ({ cls := "TelescopeQueue", name := "append", desc := "(IIIII)I" } : Jvm.MethodName)) ∈ lw_all := lw_g (lw_at lw_m3 174 rfl) rfl
theorem q767 : (Jvm.Cond.code ({ cls := "TelescopeQueue", name := "append", desc := "(IIIII)I" } : Jvm.MethodName) prog_1_method_13_code (6 : Nat) (Option.some Jvm.ClassFile.FieldType.int)) ∈ lw_all := lw_g (lw_at lw_m3 175 rfl) rfl
theorem q768 : (Jvm.Cond.methodLink "TelescopeQueue" (112 : Nat) ({ cls := "TelescopeQueue", name := "put", desc := "([I)V" } : Jvm.MethodName)) ∈ lw_all := lw_g (lw_at lw_m3 176 rfl) rfl
theorem q769 : (Jvm.Cond.privateMethod ({ cls := "TelescopeQueue", name := "put", desc := "([I)V" } : Jvm.MethodName)) ∈ lw_tbl := lw_at lw_m3 177 rfl
theorem q770 : (Jvm.Cond.instanceMethod ({ cls := "TelescopeQueue", name := "put", desc := "([I)V" } : Jvm.MethodName)) ∈ lw_all := lw_g (lw_at lw_m3 178 rfl) rfl
theorem q771 : (Jvm.Cond.code ({ cls := "TelescopeQueue", name := "put", desc := "([I)V" } : Jvm.MethodName) prog_1_method_12_code (7 : Nat) (Option.none : Option Jvm.ClassFile.FieldType)) ∈ lw_all := lw_g (lw_at lw_m3 179 rfl) rfl
theorem q773 : (Jvm.Cond.instanceMethod ({ cls := "TelescopeQueue", name := "parseError", desc := "()I" } : Jvm.MethodName)) ∈ lw_all := lw_g (lw_at lw_m3 181 rfl) rfl
theorem q774 : (Jvm.Cond.selects "TelescopeQueue" ({ cls := "TelescopeQueue", name := "parseError", desc := "()I" } : Jvm.MethodName) ({ cls := "TelescopeQueue", name := "parseError", desc := "()I" } : Jvm.MethodName)) ∈ lw_all := lw_g (lw_at lw_m3 182 rfl) rfl
theorem q775 : (Jvm.Cond.code ({ cls := "TelescopeQueue", name := "parseError", desc := "()I" } : Jvm.MethodName) prog_1_method_15_code (1 : Nat) (Option.some Jvm.ClassFile.FieldType.int)) ∈ lw_all := lw_g (lw_at lw_m3 183 rfl) rfl
theorem q777 : (Jvm.Cond.instanceMethod ({ cls := "TelescopeQueue", name := "errorPosition", desc := "()I" } : Jvm.MethodName)) ∈ lw_all := lw_g (lw_at lw_m3 185 rfl) rfl
theorem q778 : (Jvm.Cond.selects "TelescopeQueue" ({ cls := "TelescopeQueue", name := "errorPosition", desc := "()I" } : Jvm.MethodName) ({ cls := "TelescopeQueue", name := "errorPosition", desc := "()I" } : Jvm.MethodName)) ∈ lw_all := lw_g (lw_at lw_m3 186 rfl) rfl
theorem q779 : (Jvm.Cond.code ({ cls := "TelescopeQueue", name := "errorPosition", desc := "()I" } : Jvm.MethodName) prog_1_method_16_code (1 : Nat) (Option.some Jvm.ClassFile.FieldType.int)) ∈ lw_all := lw_g (lw_at lw_m3 187 rfl) rfl
theorem q781 : (Jvm.Cond.instanceMethod ({ cls := "TelescopeQueue", name := "buffered", desc := "()I" } : Jvm.MethodName)) ∈ lw_all := lw_g (lw_at lw_m3 189 rfl) rfl
theorem q782 : (Jvm.Cond.selects "TelescopeQueue" ({ cls := "TelescopeQueue", name := "buffered", desc := "()I" } : Jvm.MethodName) ({ cls := "TelescopeQueue", name := "buffered", desc := "()I" } : Jvm.MethodName)) ∈ lw_all := lw_g (lw_at lw_m3 190 rfl) rfl
theorem q783 : (Jvm.Cond.code ({ cls := "TelescopeQueue", name := "buffered", desc := "()I" } : Jvm.MethodName) prog_1_method_17_code (1 : Nat) (Option.some Jvm.ClassFile.FieldType.int)) ∈ lw_all := lw_g (lw_at lw_m3 191 rfl) rfl
theorem q785 : (Jvm.Cond.instanceMethod ({ cls := "TelescopeQueue", name := "proposals", desc := "()I" } : Jvm.MethodName)) ∈ lw_all := lw_g (lw_at lw_m3 193 rfl) rfl
theorem q786 : (Jvm.Cond.selects "TelescopeQueue" ({ cls := "TelescopeQueue", name := "proposals", desc := "()I" } : Jvm.MethodName) ({ cls := "TelescopeQueue", name := "proposals", desc := "()I" } : Jvm.MethodName)) ∈ lw_all := lw_g (lw_at lw_m3 194 rfl) rfl
theorem q787 : (Jvm.Cond.code ({ cls := "TelescopeQueue", name := "proposals", desc := "()I" } : Jvm.MethodName) prog_1_method_18_code (1 : Nat) (Option.some Jvm.ClassFile.FieldType.int)) ∈ lw_all := lw_g (lw_at lw_m3 195 rfl) rfl
theorem q788 : (Jvm.Cond.interfaceEntry "TelescopeQueue" (1 : Nat)) ∈ lw_tbl := lw_at lw_m3 196 rfl
theorem q789 : (Jvm.Cond.methodLink "TelescopeQueue" (1 : Nat) ({ cls := "java/util/List", name := "size", desc := "()I" } : Jvm.MethodName)) ∈ lw_all := lw_g (lw_at lw_m3 197 rfl) rfl
theorem q799 : (Jvm.Cond.instanceMethod ({ cls := "TelescopeQueue", name := "visits", desc := "()I" } : Jvm.MethodName)) ∈ lw_all := lw_g (lw_at lw_m3 207 rfl) rfl
theorem q800 : (Jvm.Cond.selects "TelescopeQueue" ({ cls := "TelescopeQueue", name := "visits", desc := "()I" } : Jvm.MethodName) ({ cls := "TelescopeQueue", name := "visits", desc := "()I" } : Jvm.MethodName)) ∈ lw_all := lw_g (lw_at lw_m3 208 rfl) rfl
theorem q801 : (Jvm.Cond.code ({ cls := "TelescopeQueue", name := "visits", desc := "()I" } : Jvm.MethodName) prog_1_method_21_code (1 : Nat) (Option.some Jvm.ClassFile.FieldType.int)) ∈ lw_all := lw_g (lw_at lw_m3 209 rfl) rfl
theorem q803 : (Jvm.Cond.instanceMethod ({ cls := "TelescopeQueue", name := "alerts", desc := "()I" } : Jvm.MethodName)) ∈ lw_all := lw_g (lw_at lw_m3 211 rfl) rfl
theorem q804 : (Jvm.Cond.selects "TelescopeQueue" ({ cls := "TelescopeQueue", name := "alerts", desc := "()I" } : Jvm.MethodName) ({ cls := "TelescopeQueue", name := "alerts", desc := "()I" } : Jvm.MethodName)) ∈ lw_all := lw_g (lw_at lw_m3 212 rfl) rfl
theorem q805 : (Jvm.Cond.code ({ cls := "TelescopeQueue", name := "alerts", desc := "()I" } : Jvm.MethodName) prog_1_method_26_code (1 : Nat) (Option.some Jvm.ClassFile.FieldType.int)) ∈ lw_all := lw_g (lw_at lw_m3 213 rfl) rfl
theorem q807 : (Jvm.Cond.instanceMethod ({ cls := "TelescopeQueue", name := "entries", desc := "()I" } : Jvm.MethodName)) ∈ lw_all := lw_g (lw_at lw_m3 215 rfl) rfl
theorem q808 : (Jvm.Cond.selects "TelescopeQueue" ({ cls := "TelescopeQueue", name := "entries", desc := "()I" } : Jvm.MethodName) ({ cls := "TelescopeQueue", name := "entries", desc := "()I" } : Jvm.MethodName)) ∈ lw_all := lw_g (lw_at lw_m3 216 rfl) rfl
theorem q809 : (Jvm.Cond.code ({ cls := "TelescopeQueue", name := "entries", desc := "()I" } : Jvm.MethodName) prog_1_method_54_code (1 : Nat) (Option.some Jvm.ClassFile.FieldType.int)) ∈ lw_all := lw_g (lw_at lw_m3 217 rfl) rfl
theorem q811 : (Jvm.Cond.instanceMethod ({ cls := "TelescopeQueue", name := "undoable", desc := "()I" } : Jvm.MethodName)) ∈ lw_all := lw_g (lw_at lw_m3 219 rfl) rfl
theorem q812 : (Jvm.Cond.selects "TelescopeQueue" ({ cls := "TelescopeQueue", name := "undoable", desc := "()I" } : Jvm.MethodName) ({ cls := "TelescopeQueue", name := "undoable", desc := "()I" } : Jvm.MethodName)) ∈ lw_all := lw_g (lw_at lw_m3 220 rfl) rfl
theorem q813 : (Jvm.Cond.code ({ cls := "TelescopeQueue", name := "undoable", desc := "()I" } : Jvm.MethodName) prog_1_method_79_code (1 : Nat) (Option.some Jvm.ClassFile.FieldType.int)) ∈ lw_all := lw_g (lw_at lw_m3 221 rfl) rfl
theorem q814 : (Jvm.Cond.methodLink "TelescopeQueue" (466 : Nat) ({ cls := "TelescopeQueue$History", name := "size", desc := "()I" } : Jvm.MethodName)) ∈ lw_all := lw_g (lw_at lw_m3 222 rfl) rfl
theorem q849 : (Jvm.Cond.instanceMethod ({ cls := "TelescopeQueue", name := "load", desc := "(I)I" } : Jvm.MethodName)) ∈ lw_all := lw_g (lw_at lw_m4 17 rfl) rfl
theorem q850 : (Jvm.Cond.selects "TelescopeQueue" ({ cls := "TelescopeQueue", name := "load", desc := "(I)I" } : Jvm.MethodName) ({ cls := "TelescopeQueue", name := "load", desc := "(I)I" } : Jvm.MethodName)) ∈ lw_all := lw_g (lw_at lw_m4 18 rfl) rfl
theorem q851 : (Jvm.Cond.codeWith ({ cls := "TelescopeQueue", name := "load", desc := "(I)I" } : Jvm.MethodName) prog_1_method_14_code (4 : Nat) (Option.some Jvm.ClassFile.FieldType.int) [((20 : Nat), (82 : Nat), (89 : Nat), (130 : Nat)), ((20 : Nat), (82 : Nat), (114 : Nat), (0 : Nat)), ((89 : Nat), (115 : Nat), (114 : Nat), (0 : Nat))]) ∈ lw_all := lw_g (lw_at lw_m4 19 rfl) rfl
theorem q852 : (Jvm.Cond.classLink "TelescopeQueue" (130 : Nat) "TelescopeQueue$Flaw") ∈ lw_all := lw_g (lw_at lw_m4 20 rfl) rfl
theorem q853 : (Jvm.Cond.methodLink "TelescopeQueue" (93 : Nat) ({ cls := "TelescopeQueue", name := "checkIndex", desc := "(II)V" } : Jvm.MethodName)) ∈ lw_all := lw_g (lw_at lw_m4 21 rfl) rfl
theorem q854 : (Jvm.Cond.static ({ cls := "TelescopeQueue", name := "checkIndex", desc := "(II)V" } : Jvm.MethodName)) ∈ lw_all := lw_g (lw_at lw_m4 22 rfl) rfl
theorem q855 : (Jvm.Cond.code ({ cls := "TelescopeQueue", name := "checkIndex", desc := "(II)V" } : Jvm.MethodName) prog_1_method_5_code (2 : Nat) (Option.none : Option Jvm.ClassFile.FieldType)) ∈ lw_all := lw_g (lw_at lw_m4 23 rfl) rfl
theorem q856 : (Jvm.Cond.methodLink "TelescopeQueue" (62 : Nat) ({ cls := "TelescopeQueue", name := "in", desc := "(JJJ)Z" } : Jvm.MethodName)) ∈ lw_all := lw_g (lw_at lw_m4 24 rfl) rfl
theorem q857 : (Jvm.Cond.static ({ cls := "TelescopeQueue", name := "in", desc := "(JJJ)Z" } : Jvm.MethodName)) ∈ lw_all := lw_g (lw_at lw_m4 25 rfl) rfl
theorem q858 : (Jvm.Cond.code ({ cls := "TelescopeQueue", name := "in", desc := "(JJJ)Z" } : Jvm.MethodName) prog_1_method_1_code (6 : Nat) (Option.some Jvm.ClassFile.FieldType.boolean)) ∈ lw_all := lw_g (lw_at lw_m4 26 rfl) rfl
theorem q859 : (Jvm.Cond.classLink "TelescopeQueue" (66 : Nat) "java/lang/IndexOutOfBoundsException") ∈ lw_all := lw_g (lw_at lw_m4 27 rfl) rfl
theorem q868 : (Jvm.Cond.methodLink "TelescopeQueue" (68 : Nat) ({ cls := "java/lang/IndexOutOfBoundsException", name := "<init>", desc := "()V" } : Jvm.MethodName)) ∈ lw_all := lw_g (lw_at lw_m4 36 rfl) rfl
theorem q880 : (Jvm.Cond.classLink "TelescopeQueue" (119 : Nat) "TelescopeQueue$Parser") ∈ lw_all := lw_g (lw_at lw_m4 48 rfl) rfl
theorem q882 : (Jvm.Cond.methodLink "TelescopeQueue" (121 : Nat) ({ cls := "TelescopeQueue$Parser", name := "<init>", desc := "([BI)V" } : Jvm.MethodName)) ∈ lw_all := lw_g (lw_at lw_m4 50 rfl) rfl
theorem q897 : (Jvm.Cond.fieldLinkNest "TelescopeQueue" (87 : Nat) "TelescopeQueue$Scope" "proposals" "Ljava/util/List;" "TelescopeQueue") ∈ lw_tbl := lw_at lw_m4 65 rfl
theorem q901 : (Jvm.Cond.fieldLinkNest "TelescopeQueue" (97 : Nat) "TelescopeQueue$Scope" "visits" "Ljava/util/List;" "TelescopeQueue") ∈ lw_tbl := lw_at lw_m4 69 rfl
theorem q908 : (Jvm.Cond.fieldLinkNest "TelescopeQueue" (256 : Nat) "TelescopeQueue$Scope" "horizon" "I" "TelescopeQueue") ∈ lw_tbl := lw_at lw_m4 76 rfl
theorem q911 : (Jvm.Cond.fieldLinkNest "TelescopeQueue" (259 : Nat) "TelescopeQueue$Scope" "settle" "I" "TelescopeQueue") ∈ lw_tbl := lw_at lw_m4 79 rfl
theorem q914 : (Jvm.Cond.fieldLinkNest "TelescopeQueue" (262 : Nat) "TelescopeQueue$Scope" "speed" "I" "TelescopeQueue") ∈ lw_tbl := lw_at lw_m4 82 rfl
theorem q917 : (Jvm.Cond.fieldLinkNest "TelescopeQueue" (265 : Nat) "TelescopeQueue$Scope" "cap" "I" "TelescopeQueue") ∈ lw_tbl := lw_at lw_m4 85 rfl
theorem q920 : (Jvm.Cond.fieldLinkNest "TelescopeQueue" (268 : Nat) "TelescopeQueue$Scope" "dump" "I" "TelescopeQueue") ∈ lw_tbl := lw_at lw_m4 88 rfl
theorem q923 : (Jvm.Cond.fieldLinkNest "TelescopeQueue" (274 : Nat) "TelescopeQueue$Scope" "cal" "I" "TelescopeQueue") ∈ lw_tbl := lw_at lw_m4 91 rfl
theorem q926 : (Jvm.Cond.fieldLinkNest "TelescopeQueue" (277 : Nat) "TelescopeQueue$Scope" "sun" "I" "TelescopeQueue") ∈ lw_tbl := lw_at lw_m4 94 rfl
theorem q929 : (Jvm.Cond.fieldLinkNest "TelescopeQueue" (280 : Nat) "TelescopeQueue$Scope" "drift" "I" "TelescopeQueue") ∈ lw_tbl := lw_at lw_m4 97 rfl
theorem q932 : (Jvm.Cond.fieldLinkNest "TelescopeQueue" (283 : Nat) "TelescopeQueue$Scope" "avoid" "I" "TelescopeQueue") ∈ lw_tbl := lw_at lw_m4 100 rfl
theorem q985 : (Jvm.Cond.methodLink "TelescopeQueue" (124 : Nat) ({ cls := "TelescopeQueue$Parser", name := "parse", desc := "()LTelescopeQueue$State;" } : Jvm.MethodName)) ∈ lw_all := lw_g (lw_at lw_m4 153 rfl) rfl
theorem q1073 : (Jvm.Cond.fieldLinkNest "TelescopeQueue" (132 : Nat) "TelescopeQueue$Flaw" "code" "I" "TelescopeQueue") ∈ lw_tbl := lw_at lw_m5 1 rfl
theorem q1075 : (Jvm.Cond.fieldLinkNest "TelescopeQueue" (135 : Nat) "TelescopeQueue$Flaw" "position" "I" "TelescopeQueue") ∈ lw_tbl := lw_at lw_m5 3 rfl
theorem q1227 : (Jvm.Cond.fieldLinkNest "TelescopeQueue" (173 : Nat) "TelescopeQueue$Proposal" "name" "Ljava/lang/String;" "TelescopeQueue") ∈ lw_tbl := lw_at lw_m5 155 rfl
theorem q1265 : (Jvm.Cond.selects "TelescopeQueue" ({ cls := "java/lang/Object", name := "getClass", desc := "()Ljava/lang/Class;" } : Jvm.MethodName) ({ cls := "java/lang/Object", name := "getClass", desc := "()Ljava/lang/Class;" } : Jvm.MethodName)) ∈ lw_all := lw_g (lw_at lw_m5 193 rfl) rfl
theorem q1357 : (Jvm.Cond.fieldLinkNest "TelescopeQueue" (227 : Nat) "TelescopeQueue$Alert" "time" "I" "TelescopeQueue") ∈ lw_tbl := lw_at lw_m6 45 rfl
theorem q1359 : (Jvm.Cond.fieldLinkNest "TelescopeQueue" (234 : Nat) "TelescopeQueue$Alert" "response" "I" "TelescopeQueue") ∈ lw_tbl := lw_at lw_m6 47 rfl
theorem q1402 : (Jvm.Cond.methodLink "TelescopeQueue" (127 : Nat) ({ cls := "TelescopeQueue$History", name := "clear", desc := "()V" } : Jvm.MethodName)) ∈ lw_all := lw_g (lw_at lw_m6 90 rfl) rfl
theorem q1413 : (Jvm.Cond.classLink "TelescopeQueue" (59 : Nat) "java/lang/IllegalArgumentException") ∈ lw_all := lw_g (lw_at lw_m6 101 rfl) rfl
theorem q1414 : (Jvm.Cond.methodLink "TelescopeQueue" (61 : Nat) ({ cls := "java/lang/IllegalArgumentException", name := "<init>", desc := "()V" } : Jvm.MethodName)) ∈ lw_all := lw_g (lw_at lw_m6 102 rfl) rfl
theorem q1423 : (Jvm.Cond.instanceMethod ({ cls := "TelescopeQueue", name := "proposal", desc := "(II)I" } : Jvm.MethodName)) ∈ lw_all := lw_g (lw_at lw_m6 111 rfl) rfl
theorem q1424 : (Jvm.Cond.selects "TelescopeQueue" ({ cls := "TelescopeQueue", name := "proposal", desc := "(II)I" } : Jvm.MethodName) ({ cls := "TelescopeQueue", name := "proposal", desc := "(II)I" } : Jvm.MethodName)) ∈ lw_all := lw_g (lw_at lw_m6 112 rfl) rfl
theorem q1425 : (Jvm.Cond.code ({ cls := "TelescopeQueue", name := "proposal", desc := "(II)I" } : Jvm.MethodName) prog_1_method_19_code (4 : Nat) (Option.some Jvm.ClassFile.FieldType.int)) ∈ lw_all := lw_g (lw_at lw_m6 113 rfl) rfl
theorem q1426 : (Jvm.Cond.methodLink "TelescopeQueue" (138 : Nat) ({ cls := "TelescopeQueue", name := "withProposal", desc := "(I)LTelescopeQueue$State;" } : Jvm.MethodName)) ∈ lw_all := lw_g (lw_at lw_m6 114 rfl) rfl
theorem q1427 : (Jvm.Cond.privateMethod ({ cls := "TelescopeQueue", name := "withProposal", desc := "(I)LTelescopeQueue$State;" } : Jvm.MethodName)) ∈ lw_tbl := lw_at lw_m6 115 rfl
theorem q1428 : (Jvm.Cond.instanceMethod ({ cls := "TelescopeQueue", name := "withProposal", desc := "(I)LTelescopeQueue$State;" } : Jvm.MethodName)) ∈ lw_all := lw_g (lw_at lw_m6 116 rfl) rfl
theorem q1429 : (Jvm.Cond.code ({ cls := "TelescopeQueue", name := "withProposal", desc := "(I)LTelescopeQueue$State;" } : Jvm.MethodName) prog_1_method_8_code (2 : Nat) (Option.some (Jvm.ClassFile.FieldType.object "TelescopeQueue$State"))) ∈ lw_all := lw_g (lw_at lw_m6 117 rfl) rfl
theorem q1430 : (Jvm.Cond.methodLink "TelescopeQueue" (79 : Nat) ({ cls := "TelescopeQueue", name := "there", desc := "()LTelescopeQueue$State;" } : Jvm.MethodName)) ∈ lw_all := lw_g (lw_at lw_m6 118 rfl) rfl
theorem q1431 : (Jvm.Cond.privateMethod ({ cls := "TelescopeQueue", name := "there", desc := "()LTelescopeQueue$State;" } : Jvm.MethodName)) ∈ lw_tbl := lw_at lw_m6 119 rfl
theorem q1432 : (Jvm.Cond.instanceMethod ({ cls := "TelescopeQueue", name := "there", desc := "()LTelescopeQueue$State;" } : Jvm.MethodName)) ∈ lw_all := lw_g (lw_at lw_m6 120 rfl) rfl
theorem q1433 : (Jvm.Cond.code ({ cls := "TelescopeQueue", name := "there", desc := "()LTelescopeQueue$State;" } : Jvm.MethodName) prog_1_method_7_code (1 : Nat) (Option.some (Jvm.ClassFile.FieldType.object "TelescopeQueue$State"))) ∈ lw_all := lw_g (lw_at lw_m6 121 rfl) rfl
theorem q1434 : (Jvm.Cond.methodLink "TelescopeQueue" (75 : Nat) ({ cls := "TelescopeQueue", name := "checkState", desc := "(Z)V" } : Jvm.MethodName)) ∈ lw_all := lw_g (lw_at lw_m6 122 rfl) rfl
theorem q1435 : (Jvm.Cond.static ({ cls := "TelescopeQueue", name := "checkState", desc := "(Z)V" } : Jvm.MethodName)) ∈ lw_all := lw_g (lw_at lw_m6 123 rfl) rfl
theorem q1436 : (Jvm.Cond.code ({ cls := "TelescopeQueue", name := "checkState", desc := "(Z)V" } : Jvm.MethodName) prog_1_method_6_code (1 : Nat) (Option.none : Option Jvm.ClassFile.FieldType)) ∈ lw_all := lw_g (lw_at lw_m6 124 rfl) rfl
theorem q1437 : (Jvm.Cond.classLink "TelescopeQueue" (69 : Nat) "java/lang/IllegalStateException") ∈ lw_all := lw_g (lw_at lw_m6 125 rfl) rfl
theorem q1446 : (Jvm.Cond.methodLink "TelescopeQueue" (71 : Nat) ({ cls := "java/lang/IllegalStateException", name := "<init>", desc := "()V" } : Jvm.MethodName)) ∈ lw_all := lw_g (lw_at lw_m6 134 rfl) rfl
theorem q1452 : (Jvm.Cond.constantLong "TelescopeQueue" (142 : Nat) (7 : Int64)) ∈ lw_all := lw_g (lw_at lw_m6 140 rfl) rfl
theorem q1453 : (Jvm.Cond.methodLink "TelescopeQueue" (144 : Nat) ({ cls := "TelescopeQueue", name := "checkArgument", desc := "(Z)V" } : Jvm.MethodName)) ∈ lw_all := lw_g (lw_at lw_m6 141 rfl) rfl
theorem q1454 : (Jvm.Cond.static ({ cls := "TelescopeQueue", name := "checkArgument", desc := "(Z)V" } : Jvm.MethodName)) ∈ lw_all := lw_g (lw_at lw_m6 142 rfl) rfl
theorem q1455 : (Jvm.Cond.code ({ cls := "TelescopeQueue", name := "checkArgument", desc := "(Z)V" } : Jvm.MethodName) prog_1_method_4_code (1 : Nat) (Option.none : Option Jvm.ClassFile.FieldType)) ∈ lw_all := lw_g (lw_at lw_m6 143 rfl) rfl
theorem q1456 : (Jvm.Cond.methodLink "TelescopeQueue" (157 : Nat) ({ cls := "TelescopeQueue$State", name := "left", desc := "(I)I" } : Jvm.MethodName)) ∈ lw_all := lw_g (lw_at lw_m6 144 rfl) rfl
theorem q1460 : (Jvm.Cond.methodLink "TelescopeQueue" (164 : Nat) ({ cls := "TelescopeQueue", name := "of", desc := "(ILjava/util/List;[II)I" } : Jvm.MethodName)) ∈ lw_all := lw_g (lw_at lw_m6 148 rfl) rfl
theorem q1461 : (Jvm.Cond.static ({ cls := "TelescopeQueue", name := "of", desc := "(ILjava/util/List;[II)I" } : Jvm.MethodName)) ∈ lw_all := lw_g (lw_at lw_m6 149 rfl) rfl
theorem q1462 : (Jvm.Cond.code ({ cls := "TelescopeQueue", name := "of", desc := "(ILjava/util/List;[II)I" } : Jvm.MethodName) prog_1_method_2_code (6 : Nat) (Option.some Jvm.ClassFile.FieldType.int)) ∈ lw_all := lw_g (lw_at lw_m6 150 rfl) rfl
theorem q1463 : (Jvm.Cond.interfaceEntry "TelescopeQueue" (7 : Nat)) ∈ lw_tbl := lw_at lw_m6 151 rfl
theorem q1464 : (Jvm.Cond.methodLink "TelescopeQueue" (7 : Nat) ({ cls := "java/util/List", name := "get", desc := "(I)Ljava/lang/Object;" } : Jvm.MethodName)) ∈ lw_all := lw_g (lw_at lw_m6 152 rfl) rfl
theorem q1465 : (Jvm.Cond.classLink "TelescopeQueue" (11 : Nat) "TelescopeQueue$Work") ∈ lw_all := lw_g (lw_at lw_m6 153 rfl) rfl
theorem q1466 : (Jvm.Cond.interfaceEntry "TelescopeQueue" (13 : Nat)) ∈ lw_tbl := lw_at lw_m6 154 rfl
theorem q1467 : (Jvm.Cond.methodLink "TelescopeQueue" (13 : Nat) ({ cls := "TelescopeQueue$Work", name := "proposal", desc := "()I" } : Jvm.MethodName)) ∈ lw_all := lw_g (lw_at lw_m6 155 rfl) rfl
theorem q1479 : (Jvm.Cond.classLink "TelescopeQueue" (171 : Nat) "TelescopeQueue$Proposal") ∈ lw_all := lw_g (lw_at lw_m6 167 rfl) rfl
theorem q1480 : (Jvm.Cond.methodLink "TelescopeQueue" (177 : Nat) ({ cls := "java/lang/String", name := "length", desc := "()I" } : Jvm.MethodName)) ∈ lw_all := lw_g (lw_at lw_m6 168 rfl) rfl
theorem q1485 : (Jvm.Cond.instanceMethod ({ cls := "TelescopeQueue", name := "letter", desc := "(II)I" } : Jvm.MethodName)) ∈ lw_all := lw_g (lw_at lw_m6 173 rfl) rfl
theorem q1486 : (Jvm.Cond.selects "TelescopeQueue" ({ cls := "TelescopeQueue", name := "letter", desc := "(II)I" } : Jvm.MethodName) ({ cls := "TelescopeQueue", name := "letter", desc := "(II)I" } : Jvm.MethodName)) ∈ lw_all := lw_g (lw_at lw_m6 174 rfl) rfl
theorem q1487 : (Jvm.Cond.code ({ cls := "TelescopeQueue", name := "letter", desc := "(II)I" } : Jvm.MethodName) prog_1_method_20_code (4 : Nat) (Option.some Jvm.ClassFile.FieldType.int)) ∈ lw_all := lw_g (lw_at lw_m6 175 rfl) rfl
theorem q1488 : (Jvm.Cond.methodLink "TelescopeQueue" (182 : Nat) ({ cls := "java/lang/String", name := "charAt", desc := "(I)C" } : Jvm.MethodName)) ∈ lw_all := lw_g (lw_at lw_m6 176 rfl) rfl
theorem q1493 : (Jvm.Cond.instanceMethod ({ cls := "TelescopeQueue", name := "visit", desc := "(II)I" } : Jvm.MethodName)) ∈ lw_all := lw_g (lw_at lw_m6 181 rfl) rfl
theorem q1494 : (Jvm.Cond.selects "TelescopeQueue" ({ cls := "TelescopeQueue", name := "visit", desc := "(II)I" } : Jvm.MethodName) ({ cls := "TelescopeQueue", name := "visit", desc := "(II)I" } : Jvm.MethodName)) ∈ lw_all := lw_g (lw_at lw_m6 182 rfl) rfl
theorem q1495 : (Jvm.Cond.code ({ cls := "TelescopeQueue", name := "visit", desc := "(II)I" } : Jvm.MethodName) prog_1_method_22_code (4 : Nat) (Option.some Jvm.ClassFile.FieldType.int)) ∈ lw_all := lw_g (lw_at lw_m6 183 rfl) rfl
theorem q1496 : (Jvm.Cond.methodLink "TelescopeQueue" (186 : Nat) ({ cls := "TelescopeQueue", name := "withVisit", desc := "(I)LTelescopeQueue$State;" } : Jvm.MethodName)) ∈ lw_all := lw_g (lw_at lw_m6 184 rfl) rfl
theorem q1497 : (Jvm.Cond.privateMethod ({ cls := "TelescopeQueue", name := "withVisit", desc := "(I)LTelescopeQueue$State;" } : Jvm.MethodName)) ∈ lw_tbl := lw_at lw_m6 185 rfl
theorem q1498 : (Jvm.Cond.instanceMethod ({ cls := "TelescopeQueue", name := "withVisit", desc := "(I)LTelescopeQueue$State;" } : Jvm.MethodName)) ∈ lw_all := lw_g (lw_at lw_m6 186 rfl) rfl
theorem q1499 : (Jvm.Cond.code ({ cls := "TelescopeQueue", name := "withVisit", desc := "(I)LTelescopeQueue$State;" } : Jvm.MethodName) prog_1_method_9_code (2 : Nat) (Option.some (Jvm.ClassFile.FieldType.object "TelescopeQueue$State"))) ∈ lw_all := lw_g (lw_at lw_m6 187 rfl) rfl
theorem q1500 : (Jvm.Cond.classLink "TelescopeQueue" (189 : Nat) "TelescopeQueue$Visit") ∈ lw_all := lw_g (lw_at lw_m6 188 rfl) rfl
theorem q1501 : (Jvm.Cond.methodLink "TelescopeQueue" (191 : Nat) ({ cls := "TelescopeQueue$Visit", name := "proposal", desc := "()I" } : Jvm.MethodName)) ∈ lw_all := lw_g (lw_at lw_m6 189 rfl) rfl
theorem q1505 : (Jvm.Cond.methodLink "TelescopeQueue" (192 : Nat) ({ cls := "TelescopeQueue$Visit", name := "lon", desc := "()I" } : Jvm.MethodName)) ∈ lw_all := lw_g (lw_at lw_m6 193 rfl) rfl
theorem q1511 : (Jvm.Cond.methodLink "TelescopeQueue" (195 : Nat) ({ cls := "TelescopeQueue$Visit", name := "lat", desc := "()I" } : Jvm.MethodName)) ∈ lw_all := lw_g (lw_at lw_m6 199 rfl) rfl
theorem q1517 : (Jvm.Cond.methodLink "TelescopeQueue" (198 : Nat) ({ cls := "TelescopeQueue$Visit", name := "duration", desc := "()I" } : Jvm.MethodName)) ∈ lw_all := lw_g (lw_at lw_m6 205 rfl) rfl
theorem q1523 : (Jvm.Cond.methodLink "TelescopeQueue" (204 : Nat) ({ cls := "TelescopeQueue$Visit", name := "push", desc := "()I" } : Jvm.MethodName)) ∈ lw_all := lw_g (lw_at lw_m6 211 rfl) rfl
theorem q1529 : (Jvm.Cond.methodLink "TelescopeQueue" (207 : Nat) ({ cls := "TelescopeQueue$Visit", name := "from", desc := "()I" } : Jvm.MethodName)) ∈ lw_all := lw_g (lw_at lw_m6 217 rfl) rfl
theorem q1533 : (Jvm.Cond.methodLink "TelescopeQueue" (210 : Nat) ({ cls := "TelescopeQueue$Visit", name := "to", desc := "()I" } : Jvm.MethodName)) ∈ lw_all := lw_g (lw_at lw_m6 221 rfl) rfl
theorem q1541 : (Jvm.Cond.instanceMethod ({ cls := "TelescopeQueue", name := "stateOf", desc := "(I)I" } : Jvm.MethodName)) ∈ lw_all := lw_g (lw_at lw_m6 229 rfl) rfl
theorem q1542 : (Jvm.Cond.selects "TelescopeQueue" ({ cls := "TelescopeQueue", name := "stateOf", desc := "(I)I" } : Jvm.MethodName) ({ cls := "TelescopeQueue", name := "stateOf", desc := "(I)I" } : Jvm.MethodName)) ∈ lw_all := lw_g (lw_at lw_m6 230 rfl) rfl
theorem q1543 : (Jvm.Cond.code ({ cls := "TelescopeQueue", name := "stateOf", desc := "(I)I" } : Jvm.MethodName) prog_1_method_23_code (2 : Nat) (Option.some Jvm.ClassFile.FieldType.int)) ∈ lw_all := lw_g (lw_at lw_m6 231 rfl) rfl
theorem q1548 : (Jvm.Cond.instanceMethod ({ cls := "TelescopeQueue", name := "aborts", desc := "(I)I" } : Jvm.MethodName)) ∈ lw_all := lw_g (lw_at lw_m6 236 rfl) rfl
theorem q1549 : (Jvm.Cond.selects "TelescopeQueue" ({ cls := "TelescopeQueue", name := "aborts", desc := "(I)I" } : Jvm.MethodName) ({ cls := "TelescopeQueue", name := "aborts", desc := "(I)I" } : Jvm.MethodName)) ∈ lw_all := lw_g (lw_at lw_m6 237 rfl) rfl
theorem q1550 : (Jvm.Cond.code ({ cls := "TelescopeQueue", name := "aborts", desc := "(I)I" } : Jvm.MethodName) prog_1_method_24_code (2 : Nat) (Option.some Jvm.ClassFile.FieldType.int)) ∈ lw_all := lw_g (lw_at lw_m6 238 rfl) rfl
theorem q1555 : (Jvm.Cond.instanceMethod ({ cls := "TelescopeQueue", name := "startOf", desc := "(I)I" } : Jvm.MethodName)) ∈ lw_all := lw_g (lw_at lw_m7 3 rfl) rfl
theorem q1556 : (Jvm.Cond.selects "TelescopeQueue" ({ cls := "TelescopeQueue", name := "startOf", desc := "(I)I" } : Jvm.MethodName) ({ cls := "TelescopeQueue", name := "startOf", desc := "(I)I" } : Jvm.MethodName)) ∈ lw_all := lw_g (lw_at lw_m7 4 rfl) rfl
theorem q1557 : (Jvm.Cond.code ({ cls := "TelescopeQueue", name := "startOf", desc := "(I)I" } : Jvm.MethodName) prog_1_method_25_code (2 : Nat) (Option.some Jvm.ClassFile.FieldType.int)) ∈ lw_all := lw_g (lw_at lw_m7 5 rfl) rfl
theorem q1562 : (Jvm.Cond.instanceMethod ({ cls := "TelescopeQueue", name := "alert", desc := "(II)I" } : Jvm.MethodName)) ∈ lw_all := lw_g (lw_at lw_m7 10 rfl) rfl
theorem q1563 : (Jvm.Cond.selects "TelescopeQueue" ({ cls := "TelescopeQueue", name := "alert", desc := "(II)I" } : Jvm.MethodName) ({ cls := "TelescopeQueue", name := "alert", desc := "(II)I" } : Jvm.MethodName)) ∈ lw_all := lw_g (lw_at lw_m7 11 rfl) rfl
theorem q1564 : (Jvm.Cond.code ({ cls := "TelescopeQueue", name := "alert", desc := "(II)I" } : Jvm.MethodName) prog_1_method_27_code (4 : Nat) (Option.some Jvm.ClassFile.FieldType.int)) ∈ lw_all := lw_g (lw_at lw_m7 12 rfl) rfl
theorem q1565 : (Jvm.Cond.methodLink "TelescopeQueue" (219 : Nat) ({ cls := "TelescopeQueue", name := "withAlert", desc := "(I)LTelescopeQueue$State;" } : Jvm.MethodName)) ∈ lw_all := lw_g (lw_at lw_m7 13 rfl) rfl
theorem q1566 : (Jvm.Cond.privateMethod ({ cls := "TelescopeQueue", name := "withAlert", desc := "(I)LTelescopeQueue$State;" } : Jvm.MethodName)) ∈ lw_tbl := lw_at lw_m7 14 rfl
theorem q1567 : (Jvm.Cond.instanceMethod ({ cls := "TelescopeQueue", name := "withAlert", desc := "(I)LTelescopeQueue$State;" } : Jvm.MethodName)) ∈ lw_all := lw_g (lw_at lw_m7 15 rfl) rfl
theorem q1568 : (Jvm.Cond.code ({ cls := "TelescopeQueue", name := "withAlert", desc := "(I)LTelescopeQueue$State;" } : Jvm.MethodName) prog_1_method_10_code (2 : Nat) (Option.some (Jvm.ClassFile.FieldType.object "TelescopeQueue$State"))) ∈ lw_all := lw_g (lw_at lw_m7 16 rfl) rfl
theorem q1569 : (Jvm.Cond.classLink "TelescopeQueue" (222 : Nat) "TelescopeQueue$Alert") ∈ lw_all := lw_g (lw_at lw_m7 17 rfl) rfl
theorem q1570 : (Jvm.Cond.constantLong "TelescopeQueue" (224 : Nat) (6 : Int64)) ∈ lw_all := lw_g (lw_at lw_m7 18 rfl) rfl
theorem q1571 : (Jvm.Cond.methodLink "TelescopeQueue" (226 : Nat) ({ cls := "TelescopeQueue$Alert", name := "proposal", desc := "()I" } : Jvm.MethodName)) ∈ lw_all := lw_g (lw_at lw_m7 19 rfl) rfl
theorem q1574 : (Jvm.Cond.methodLink "TelescopeQueue" (230 : Nat) ({ cls := "TelescopeQueue$Alert", name := "lon", desc := "()I" } : Jvm.MethodName)) ∈ lw_all := lw_g (lw_at lw_m7 22 rfl) rfl
theorem q1577 : (Jvm.Cond.methodLink "TelescopeQueue" (231 : Nat) ({ cls := "TelescopeQueue$Alert", name := "lat", desc := "()I" } : Jvm.MethodName)) ∈ lw_all := lw_g (lw_at lw_m7 25 rfl) rfl
theorem q1580 : (Jvm.Cond.methodLink "TelescopeQueue" (232 : Nat) ({ cls := "TelescopeQueue$Alert", name := "duration", desc := "()I" } : Jvm.MethodName)) ∈ lw_all := lw_g (lw_at lw_m7 28 rfl) rfl
theorem q1583 : (Jvm.Cond.methodLink "TelescopeQueue" (233 : Nat) ({ cls := "TelescopeQueue$Alert", name := "push", desc := "()I" } : Jvm.MethodName)) ∈ lw_all := lw_g (lw_at lw_m7 31 rfl) rfl
theorem q1590 : (Jvm.Cond.instanceMethod ({ cls := "TelescopeQueue", name := "alertState", desc := "(I)I" } : Jvm.MethodName)) ∈ lw_all := lw_g (lw_at lw_m7 38 rfl) rfl
theorem q1591 : (Jvm.Cond.selects "TelescopeQueue" ({ cls := "TelescopeQueue", name := "alertState", desc := "(I)I" } : Jvm.MethodName) ({ cls := "TelescopeQueue", name := "alertState", desc := "(I)I" } : Jvm.MethodName)) ∈ lw_all := lw_g (lw_at lw_m7 39 rfl) rfl
theorem q1592 : (Jvm.Cond.code ({ cls := "TelescopeQueue", name := "alertState", desc := "(I)I" } : Jvm.MethodName) prog_1_method_28_code (2 : Nat) (Option.some Jvm.ClassFile.FieldType.int)) ∈ lw_all := lw_g (lw_at lw_m7 40 rfl) rfl
theorem q1597 : (Jvm.Cond.instanceMethod ({ cls := "TelescopeQueue", name := "alertDelay", desc := "(I)I" } : Jvm.MethodName)) ∈ lw_all := lw_g (lw_at lw_m7 45 rfl) rfl
theorem q1598 : (Jvm.Cond.selects "TelescopeQueue" ({ cls := "TelescopeQueue", name := "alertDelay", desc := "(I)I" } : Jvm.MethodName) ({ cls := "TelescopeQueue", name := "alertDelay", desc := "(I)I" } : Jvm.MethodName)) ∈ lw_all := lw_g (lw_at lw_m7 46 rfl) rfl
theorem q1599 : (Jvm.Cond.code ({ cls := "TelescopeQueue", name := "alertDelay", desc := "(I)I" } : Jvm.MethodName) prog_1_method_29_code (3 : Nat) (Option.some Jvm.ClassFile.FieldType.int)) ∈ lw_all := lw_g (lw_at lw_m7 47 rfl) rfl
theorem q1604 : (Jvm.Cond.instanceMethod ({ cls := "TelescopeQueue", name := "waiting", desc := "()I" } : Jvm.MethodName)) ∈ lw_all := lw_g (lw_at lw_m7 52 rfl) rfl
theorem q1605 : (Jvm.Cond.selects "TelescopeQueue" ({ cls := "TelescopeQueue", name := "waiting", desc := "()I" } : Jvm.MethodName) ({ cls := "TelescopeQueue", name := "waiting", desc := "()I" } : Jvm.MethodName)) ∈ lw_all := lw_g (lw_at lw_m7 53 rfl) rfl
theorem q1606 : (Jvm.Cond.code ({ cls := "TelescopeQueue", name := "waiting", desc := "()I" } : Jvm.MethodName) prog_1_method_30_code (4 : Nat) (Option.some Jvm.ClassFile.FieldType.int)) ∈ lw_all := lw_g (lw_at lw_m7 54 rfl) rfl
theorem q1611 : (Jvm.Cond.instanceMethod ({ cls := "TelescopeQueue", name := "now", desc := "()I" } : Jvm.MethodName)) ∈ lw_all := lw_g (lw_at lw_m7 59 rfl) rfl
theorem q1612 : (Jvm.Cond.selects "TelescopeQueue" ({ cls := "TelescopeQueue", name := "now", desc := "()I" } : Jvm.MethodName) ({ cls := "TelescopeQueue", name := "now", desc := "()I" } : Jvm.MethodName)) ∈ lw_all := lw_g (lw_at lw_m7 60 rfl) rfl
theorem q1613 : (Jvm.Cond.code ({ cls := "TelescopeQueue", name := "now", desc := "()I" } : Jvm.MethodName) prog_1_method_31_code (1 : Nat) (Option.some Jvm.ClassFile.FieldType.int)) ∈ lw_all := lw_g (lw_at lw_m7 61 rfl) rfl
theorem q1618 : (Jvm.Cond.instanceMethod ({ cls := "TelescopeQueue", name := "pointing", desc := "(I)I" } : Jvm.MethodName)) ∈ lw_all := lw_g (lw_at lw_m7 66 rfl) rfl
theorem q1619 : (Jvm.Cond.selects "TelescopeQueue" ({ cls := "TelescopeQueue", name := "pointing", desc := "(I)I" } : Jvm.MethodName) ({ cls := "TelescopeQueue", name := "pointing", desc := "(I)I" } : Jvm.MethodName)) ∈ lw_all := lw_g (lw_at lw_m7 67 rfl) rfl
theorem q1620 : (Jvm.Cond.code ({ cls := "TelescopeQueue", name := "pointing", desc := "(I)I" } : Jvm.MethodName) prog_1_method_32_code (2 : Nat) (Option.some Jvm.ClassFile.FieldType.int)) ∈ lw_all := lw_g (lw_at lw_m7 68 rfl) rfl
theorem q1625 : (Jvm.Cond.instanceMethod ({ cls := "TelescopeQueue", name := "momentum", desc := "()I" } : Jvm.MethodName)) ∈ lw_all := lw_g (lw_at lw_m7 73 rfl) rfl
theorem q1626 : (Jvm.Cond.selects "TelescopeQueue" ({ cls := "TelescopeQueue", name := "momentum", desc := "()I" } : Jvm.MethodName) ({ cls := "TelescopeQueue", name := "momentum", desc := "()I" } : Jvm.MethodName)) ∈ lw_all := lw_g (lw_at lw_m7 74 rfl) rfl
theorem q1627 : (Jvm.Cond.code ({ cls := "TelescopeQueue", name := "momentum", desc := "()I" } : Jvm.MethodName) prog_1_method_33_code (1 : Nat) (Option.some Jvm.ClassFile.FieldType.int)) ∈ lw_all := lw_g (lw_at lw_m7 75 rfl) rfl
theorem q1632 : (Jvm.Cond.instanceMethod ({ cls := "TelescopeQueue", name := "sinceCalibration", desc := "()I" } : Jvm.MethodName)) ∈ lw_all := lw_g (lw_at lw_m7 80 rfl) rfl
theorem q1633 : (Jvm.Cond.selects "TelescopeQueue" ({ cls := "TelescopeQueue", name := "sinceCalibration", desc := "()I" } : Jvm.MethodName) ({ cls := "TelescopeQueue", name := "sinceCalibration", desc := "()I" } : Jvm.MethodName)) ∈ lw_all := lw_g (lw_at lw_m7 81 rfl) rfl
theorem q1634 : (Jvm.Cond.code ({ cls := "TelescopeQueue", name := "sinceCalibration", desc := "()I" } : Jvm.MethodName) prog_1_method_34_code (1 : Nat) (Option.some Jvm.ClassFile.FieldType.int)) ∈ lw_all := lw_g (lw_at lw_m7 82 rfl) rfl
theorem q1639 : (Jvm.Cond.instanceMethod ({ cls := "TelescopeQueue", name := "setting", desc := "(I)I" } : Jvm.MethodName)) ∈ lw_all := lw_g (lw_at lw_m7 87 rfl) rfl
theorem q1640 : (Jvm.Cond.selects "TelescopeQueue" ({ cls := "TelescopeQueue", name := "setting", desc := "(I)I" } : Jvm.MethodName) ({ cls := "TelescopeQueue", name := "setting", desc := "(I)I" } : Jvm.MethodName)) ∈ lw_all := lw_g (lw_at lw_m7 88 rfl) rfl
theorem q1641 : (Jvm.Cond.code ({ cls := "TelescopeQueue", name := "setting", desc := "(I)I" } : Jvm.MethodName) prog_1_method_35_code (3 : Nat) (Option.some Jvm.ClassFile.FieldType.int)) ∈ lw_all := lw_g (lw_at lw_m7 89 rfl) rfl
theorem q1642 : (Jvm.Cond.constantLong "TelescopeQueue" (254 : Nat) (10 : Int64)) ∈ lw_all := lw_g (lw_at lw_m7 90 rfl) rfl
theorem q1647 : (Jvm.Cond.instanceMethod ({ cls := "TelescopeQueue", name := "sun", desc := "(I)I" } : Jvm.MethodName)) ∈ lw_all := lw_g (lw_at lw_m7 95 rfl) rfl
theorem q1648 : (Jvm.Cond.selects "TelescopeQueue" ({ cls := "TelescopeQueue", name := "sun", desc := "(I)I" } : Jvm.MethodName) ({ cls := "TelescopeQueue", name := "sun", desc := "(I)I" } : Jvm.MethodName)) ∈ lw_all := lw_g (lw_at lw_m7 96 rfl) rfl
theorem q1649 : (Jvm.Cond.code ({ cls := "TelescopeQueue", name := "sun", desc := "(I)I" } : Jvm.MethodName) prog_1_method_36_code (2 : Nat) (Option.some Jvm.ClassFile.FieldType.int)) ∈ lw_all := lw_g (lw_at lw_m7 97 rfl) rfl
theorem q1650 : (Jvm.Cond.methodLink "TelescopeQueue" (289 : Nat) ({ cls := "TelescopeQueue$Scope", name := "sunAt", desc := "(I)I" } : Jvm.MethodName)) ∈ lw_all := lw_g (lw_at lw_m7 98 rfl) rfl
theorem q1658 : (Jvm.Cond.instanceMethod ({ cls := "TelescopeQueue", name := "angleTo", desc := "(II)I" } : Jvm.MethodName)) ∈ lw_all := lw_g (lw_at lw_m7 106 rfl) rfl
theorem q1659 : (Jvm.Cond.selects "TelescopeQueue" ({ cls := "TelescopeQueue", name := "angleTo", desc := "(II)I" } : Jvm.MethodName) ({ cls := "TelescopeQueue", name := "angleTo", desc := "(II)I" } : Jvm.MethodName)) ∈ lw_all := lw_g (lw_at lw_m7 107 rfl) rfl
theorem q1660 : (Jvm.Cond.code ({ cls := "TelescopeQueue", name := "angleTo", desc := "(II)I" } : Jvm.MethodName) prog_1_method_38_code (3 : Nat) (Option.some Jvm.ClassFile.FieldType.int)) ∈ lw_all := lw_g (lw_at lw_m7 108 rfl) rfl
theorem q1661 : (Jvm.Cond.methodLink "TelescopeQueue" (306 : Nat) ({ cls := "TelescopeQueue", name := "isPointing", desc := "(II)Z" } : Jvm.MethodName)) ∈ lw_all := lw_g (lw_at lw_m7 109 rfl) rfl
theorem q1662 : (Jvm.Cond.static ({ cls := "TelescopeQueue", name := "isPointing", desc := "(II)Z" } : Jvm.MethodName)) ∈ lw_all := lw_g (lw_at lw_m7 110 rfl) rfl
theorem q1663 : (Jvm.Cond.code ({ cls := "TelescopeQueue", name := "isPointing", desc := "(II)Z" } : Jvm.MethodName) prog_1_method_11_code (2 : Nat) (Option.some Jvm.ClassFile.FieldType.boolean)) ∈ lw_all := lw_g (lw_at lw_m7 111 rfl) rfl
theorem q1664 : (Jvm.Cond.constantLong "TelescopeQueue" (103 : Nat) (359 : Int64)) ∈ lw_all := lw_g (lw_at lw_m7 112 rfl) rfl
theorem q1665 : (Jvm.Cond.constantLong "TelescopeQueue" (105 : Nat) (-90 : Int64)) ∈ lw_all := lw_g (lw_at lw_m7 113 rfl) rfl
theorem q1666 : (Jvm.Cond.constantLong "TelescopeQueue" (107 : Nat) (90 : Int64)) ∈ lw_all := lw_g (lw_at lw_m7 114 rfl) rfl
theorem q1667 : (Jvm.Cond.methodLink "TelescopeQueue" (310 : Nat) ({ cls := "TelescopeQueue", name := "angle", desc := "(II)I" } : Jvm.MethodName)) ∈ lw_all := lw_g (lw_at lw_m7 115 rfl) rfl
theorem q1668 : (Jvm.Cond.privateMethod ({ cls := "TelescopeQueue", name := "angle", desc := "(II)I" } : Jvm.MethodName)) ∈ lw_tbl := lw_at lw_m7 116 rfl
theorem q1669 : (Jvm.Cond.instanceMethod ({ cls := "TelescopeQueue", name := "angle", desc := "(II)I" } : Jvm.MethodName)) ∈ lw_all := lw_g (lw_at lw_m7 117 rfl) rfl
theorem q1670 : (Jvm.Cond.code ({ cls := "TelescopeQueue", name := "angle", desc := "(II)I" } : Jvm.MethodName) prog_1_method_37_code (3 : Nat) (Option.some Jvm.ClassFile.FieldType.int)) ∈ lw_all := lw_g (lw_at lw_m7 118 rfl) rfl
theorem q1671 : (Jvm.Cond.methodLink "TelescopeQueue" (292 : Nat) ({ cls := "TelescopeQueue$Placed", name := "around", desc := "(II)I" } : Jvm.MethodName)) ∈ lw_all := lw_g (lw_at lw_m7 119 rfl) rfl
theorem q1678 : (Jvm.Cond.methodLink "TelescopeQueue" (298 : Nat) ({ cls := "java/lang/Math", name := "abs", desc := "(I)I" } : Jvm.MethodName)) ∈ lw_all := lw_g (lw_at lw_m7 126 rfl) rfl
theorem q1681 : (Jvm.Cond.methodLink "TelescopeQueue" (303 : Nat) ({ cls := "java/lang/Math", name := "max", desc := "(II)I" } : Jvm.MethodName)) ∈ lw_all := lw_g (lw_at lw_m7 129 rfl) rfl
theorem q1686 : (Jvm.Cond.instanceMethod ({ cls := "TelescopeQueue", name := "slewTo", desc := "(II)I" } : Jvm.MethodName)) ∈ lw_all := lw_g (lw_at lw_m7 134 rfl) rfl
theorem q1687 : (Jvm.Cond.selects "TelescopeQueue" ({ cls := "TelescopeQueue", name := "slewTo", desc := "(II)I" } : Jvm.MethodName) ({ cls := "TelescopeQueue", name := "slewTo", desc := "(II)I" } : Jvm.MethodName)) ∈ lw_all := lw_g (lw_at lw_m7 135 rfl) rfl
theorem q1688 : (Jvm.Cond.code ({ cls := "TelescopeQueue", name := "slewTo", desc := "(II)I" } : Jvm.MethodName) prog_1_method_39_code (3 : Nat) (Option.some Jvm.ClassFile.FieldType.int)) ∈ lw_all := lw_g (lw_at lw_m7 136 rfl) rfl
theorem q1689 : (Jvm.Cond.methodLink "TelescopeQueue" (313 : Nat) ({ cls := "TelescopeQueue$Scope", name := "slew", desc := "(I)I" } : Jvm.MethodName)) ∈ lw_all := lw_g (lw_at lw_m7 137 rfl) rfl
theorem q1697 : (Jvm.Cond.instanceMethod ({ cls := "TelescopeQueue", name := "isVisible", desc := "(II)Z" } : Jvm.MethodName)) ∈ lw_all := lw_g (lw_at lw_m7 145 rfl) rfl
theorem q1698 : (Jvm.Cond.selects "TelescopeQueue" ({ cls := "TelescopeQueue", name := "isVisible", desc := "(II)Z" } : Jvm.MethodName) ({ cls := "TelescopeQueue", name := "isVisible", desc := "(II)Z" } : Jvm.MethodName)) ∈ lw_all := lw_g (lw_at lw_m7 146 rfl) rfl
theorem q1699 : (Jvm.Cond.code ({ cls := "TelescopeQueue", name := "isVisible", desc := "(II)Z" } : Jvm.MethodName) prog_1_method_40_code (3 : Nat) (Option.some Jvm.ClassFile.FieldType.boolean)) ∈ lw_all := lw_g (lw_at lw_m7 147 rfl) rfl
theorem q1700 : (Jvm.Cond.methodLink "TelescopeQueue" (316 : Nat) ({ cls := "TelescopeQueue$Scope", name := "isVisible", desc := "(II)Z" } : Jvm.MethodName)) ∈ lw_all := lw_g (lw_at lw_m7 148 rfl) rfl
theorem q1710 : (Jvm.Cond.instanceMethod ({ cls := "TelescopeQueue", name := "nextVisible", desc := "(II)I" } : Jvm.MethodName)) ∈ lw_all := lw_g (lw_at lw_m7 158 rfl) rfl
theorem q1711 : (Jvm.Cond.selects "TelescopeQueue" ({ cls := "TelescopeQueue", name := "nextVisible", desc := "(II)I" } : Jvm.MethodName) ({ cls := "TelescopeQueue", name := "nextVisible", desc := "(II)I" } : Jvm.MethodName)) ∈ lw_all := lw_g (lw_at lw_m7 159 rfl) rfl
theorem q1712 : (Jvm.Cond.code ({ cls := "TelescopeQueue", name := "nextVisible", desc := "(II)I" } : Jvm.MethodName) prog_1_method_41_code (4 : Nat) (Option.some Jvm.ClassFile.FieldType.int)) ∈ lw_all := lw_g (lw_at lw_m7 160 rfl) rfl
theorem q1717 : (Jvm.Cond.instanceMethod ({ cls := "TelescopeQueue", name := "growth", desc := "(I)I" } : Jvm.MethodName)) ∈ lw_all := lw_g (lw_at lw_m7 165 rfl) rfl
theorem q1718 : (Jvm.Cond.selects "TelescopeQueue" ({ cls := "TelescopeQueue", name := "growth", desc := "(I)I" } : Jvm.MethodName) ({ cls := "TelescopeQueue", name := "growth", desc := "(I)I" } : Jvm.MethodName)) ∈ lw_all := lw_g (lw_at lw_m7 166 rfl) rfl
theorem q1719 : (Jvm.Cond.code ({ cls := "TelescopeQueue", name := "growth", desc := "(I)I" } : Jvm.MethodName) prog_1_method_42_code (2 : Nat) (Option.some Jvm.ClassFile.FieldType.int)) ∈ lw_all := lw_g (lw_at lw_m7 167 rfl) rfl
theorem q1720 : (Jvm.Cond.methodLink "TelescopeQueue" (319 : Nat) ({ cls := "TelescopeQueue$State", name := "planVisit", desc := "(I)LTelescopeQueue$Plan;" } : Jvm.MethodName)) ∈ lw_all := lw_g (lw_at lw_m7 168 rfl) rfl
theorem q1846 : (Jvm.Cond.instanceMethod ({ cls := "TelescopeQueue", name := "needsDump", desc := "(I)Z" } : Jvm.MethodName)) ∈ lw_all := lw_g (lw_at lw_m8 54 rfl) rfl
theorem q1847 : (Jvm.Cond.selects "TelescopeQueue" ({ cls := "TelescopeQueue", name := "needsDump", desc := "(I)Z" } : Jvm.MethodName) ({ cls := "TelescopeQueue", name := "needsDump", desc := "(I)Z" } : Jvm.MethodName)) ∈ lw_all := lw_g (lw_at lw_m8 55 rfl) rfl
theorem q1848 : (Jvm.Cond.code ({ cls := "TelescopeQueue", name := "needsDump", desc := "(I)Z" } : Jvm.MethodName) prog_1_method_43_code (2 : Nat) (Option.some Jvm.ClassFile.FieldType.boolean)) ∈ lw_all := lw_g (lw_at lw_m8 56 rfl) rfl
theorem q1853 : (Jvm.Cond.instanceMethod ({ cls := "TelescopeQueue", name := "startIf", desc := "(I)I" } : Jvm.MethodName)) ∈ lw_all := lw_g (lw_at lw_m8 61 rfl) rfl
theorem q1854 : (Jvm.Cond.selects "TelescopeQueue" ({ cls := "TelescopeQueue", name := "startIf", desc := "(I)I" } : Jvm.MethodName) ({ cls := "TelescopeQueue", name := "startIf", desc := "(I)I" } : Jvm.MethodName)) ∈ lw_all := lw_g (lw_at lw_m8 62 rfl) rfl
theorem q1855 : (Jvm.Cond.code ({ cls := "TelescopeQueue", name := "startIf", desc := "(I)I" } : Jvm.MethodName) prog_1_method_44_code (2 : Nat) (Option.some Jvm.ClassFile.FieldType.int)) ∈ lw_all := lw_g (lw_at lw_m8 63 rfl) rfl
theorem q1860 : (Jvm.Cond.instanceMethod ({ cls := "TelescopeQueue", name := "reason", desc := "(I)I" } : Jvm.MethodName)) ∈ lw_all := lw_g (lw_at lw_m8 68 rfl) rfl
theorem q1861 : (Jvm.Cond.selects "TelescopeQueue" ({ cls := "TelescopeQueue", name := "reason", desc := "(I)I" } : Jvm.MethodName) ({ cls := "TelescopeQueue", name := "reason", desc := "(I)I" } : Jvm.MethodName)) ∈ lw_all := lw_g (lw_at lw_m8 69 rfl) rfl
theorem q1862 : (Jvm.Cond.code ({ cls := "TelescopeQueue", name := "reason", desc := "(I)I" } : Jvm.MethodName) prog_1_method_45_code (2 : Nat) (Option.some Jvm.ClassFile.FieldType.int)) ∈ lw_all := lw_g (lw_at lw_m8 70 rfl) rfl
theorem q1867 : (Jvm.Cond.instanceMethod ({ cls := "TelescopeQueue", name := "chosen", desc := "()I" } : Jvm.MethodName)) ∈ lw_all := lw_g (lw_at lw_m8 75 rfl) rfl
theorem q1868 : (Jvm.Cond.selects "TelescopeQueue" ({ cls := "TelescopeQueue", name := "chosen", desc := "()I" } : Jvm.MethodName) ({ cls := "TelescopeQueue", name := "chosen", desc := "()I" } : Jvm.MethodName)) ∈ lw_all := lw_g (lw_at lw_m8 76 rfl) rfl
theorem q1869 : (Jvm.Cond.code ({ cls := "TelescopeQueue", name := "chosen", desc := "()I" } : Jvm.MethodName) prog_1_method_46_code (1 : Nat) (Option.some Jvm.ClassFile.FieldType.int)) ∈ lw_all := lw_g (lw_at lw_m8 77 rfl) rfl
theorem q1870 : (Jvm.Cond.methodLink "TelescopeQueue" (335 : Nat) ({ cls := "TelescopeQueue$State", name := "choose", desc := "()I" } : Jvm.MethodName)) ∈ lw_all := lw_g (lw_at lw_m8 78 rfl) rfl
theorem q1950 : (Jvm.Cond.instanceMethod ({ cls := "TelescopeQueue", name := "nextKind", desc := "()I" } : Jvm.MethodName)) ∈ lw_all := lw_g (lw_at lw_m8 158 rfl) rfl
theorem q1951 : (Jvm.Cond.selects "TelescopeQueue" ({ cls := "TelescopeQueue", name := "nextKind", desc := "()I" } : Jvm.MethodName) ({ cls := "TelescopeQueue", name := "nextKind", desc := "()I" } : Jvm.MethodName)) ∈ lw_all := lw_g (lw_at lw_m8 159 rfl) rfl
theorem q1952 : (Jvm.Cond.code ({ cls := "TelescopeQueue", name := "nextKind", desc := "()I" } : Jvm.MethodName) prog_1_method_47_code (1 : Nat) (Option.some Jvm.ClassFile.FieldType.int)) ∈ lw_all := lw_g (lw_at lw_m8 160 rfl) rfl
theorem q1953 : (Jvm.Cond.methodLink "TelescopeQueue" (338 : Nat) ({ cls := "TelescopeQueue$State", name := "nextKind", desc := "()I" } : Jvm.MethodName)) ∈ lw_all := lw_g (lw_at lw_m8 161 rfl) rfl
theorem q1990 : (Jvm.Cond.instanceMethod ({ cls := "TelescopeQueue", name := "interrupting", desc := "(I)I" } : Jvm.MethodName)) ∈ lw_all := lw_g (lw_at lw_m8 198 rfl) rfl
theorem q1991 : (Jvm.Cond.selects "TelescopeQueue" ({ cls := "TelescopeQueue", name := "interrupting", desc := "(I)I" } : Jvm.MethodName) ({ cls := "TelescopeQueue", name := "interrupting", desc := "(I)I" } : Jvm.MethodName)) ∈ lw_all := lw_g (lw_at lw_m8 199 rfl) rfl
theorem q1992 : (Jvm.Cond.code ({ cls := "TelescopeQueue", name := "interrupting", desc := "(I)I" } : Jvm.MethodName) prog_1_method_48_code (3 : Nat) (Option.some Jvm.ClassFile.FieldType.int)) ∈ lw_all := lw_g (lw_at lw_m8 200 rfl) rfl
theorem q1993 : (Jvm.Cond.methodLink "TelescopeQueue" (341 : Nat) ({ cls := "TelescopeQueue$Plan", name := "can", desc := "()Z" } : Jvm.MethodName)) ∈ lw_all := lw_g (lw_at lw_m8 201 rfl) rfl
theorem q1994 : (Jvm.Cond.methodLink "TelescopeQueue" (345 : Nat) ({ cls := "TelescopeQueue$State", name := "interrupting", desc := "(LTelescopeQueue$Plan;)I" } : Jvm.MethodName)) ∈ lw_all := lw_g (lw_at lw_m8 202 rfl) rfl
theorem q1999 : (Jvm.Cond.instanceMethod ({ cls := "TelescopeQueue", name := "alertReason", desc := "(I)I" } : Jvm.MethodName)) ∈ lw_all := lw_g (lw_at lw_m8 207 rfl) rfl
theorem q2000 : (Jvm.Cond.selects "TelescopeQueue" ({ cls := "TelescopeQueue", name := "alertReason", desc := "(I)I" } : Jvm.MethodName) ({ cls := "TelescopeQueue", name := "alertReason", desc := "(I)I" } : Jvm.MethodName)) ∈ lw_all := lw_g (lw_at lw_m8 208 rfl) rfl
theorem q2001 : (Jvm.Cond.code ({ cls := "TelescopeQueue", name := "alertReason", desc := "(I)I" } : Jvm.MethodName) prog_1_method_49_code (3 : Nat) (Option.some Jvm.ClassFile.FieldType.int)) ∈ lw_all := lw_g (lw_at lw_m8 209 rfl) rfl
theorem q2002 : (Jvm.Cond.methodLink "TelescopeQueue" (349 : Nat) ({ cls := "TelescopeQueue$State", name := "planAlert", desc := "(I)LTelescopeQueue$Plan;" } : Jvm.MethodName)) ∈ lw_all := lw_g (lw_at lw_m8 210 rfl) rfl
theorem q2010 : (Jvm.Cond.instanceMethod ({ cls := "TelescopeQueue", name := "latestBegin", desc := "(I)I" } : Jvm.MethodName)) ∈ lw_all := lw_g (lw_at lw_m8 218 rfl) rfl
theorem q2011 : (Jvm.Cond.selects "TelescopeQueue" ({ cls := "TelescopeQueue", name := "latestBegin", desc := "(I)I" } : Jvm.MethodName) ({ cls := "TelescopeQueue", name := "latestBegin", desc := "(I)I" } : Jvm.MethodName)) ∈ lw_all := lw_g (lw_at lw_m8 219 rfl) rfl
theorem q2012 : (Jvm.Cond.code ({ cls := "TelescopeQueue", name := "latestBegin", desc := "(I)I" } : Jvm.MethodName) prog_1_method_50_code (4 : Nat) (Option.some Jvm.ClassFile.FieldType.int)) ∈ lw_all := lw_g (lw_at lw_m8 220 rfl) rfl
theorem q2013 : (Jvm.Cond.methodLink "TelescopeQueue" (352 : Nat) ({ cls := "TelescopeQueue$State", name := "planAt", desc := "(II)LTelescopeQueue$Plan;" } : Jvm.MethodName)) ∈ lw_all := lw_g (lw_at lw_m8 221 rfl) rfl
theorem q2022 : (Jvm.Cond.instanceMethod ({ cls := "TelescopeQueue", name := "total", desc := "(I)I" } : Jvm.MethodName)) ∈ lw_all := lw_g (lw_at lw_m8 230 rfl) rfl
theorem q2023 : (Jvm.Cond.selects "TelescopeQueue" ({ cls := "TelescopeQueue", name := "total", desc := "(I)I" } : Jvm.MethodName) ({ cls := "TelescopeQueue", name := "total", desc := "(I)I" } : Jvm.MethodName)) ∈ lw_all := lw_g (lw_at lw_m8 231 rfl) rfl
theorem q2024 : (Jvm.Cond.code ({ cls := "TelescopeQueue", name := "total", desc := "(I)I" } : Jvm.MethodName) prog_1_method_51_code (2 : Nat) (Option.some Jvm.ClassFile.FieldType.int)) ∈ lw_all := lw_g (lw_at lw_m8 232 rfl) rfl
theorem q2029 : (Jvm.Cond.instanceMethod ({ cls := "TelescopeQueue", name := "share", desc := "(I)F" } : Jvm.MethodName)) ∈ lw_all := lw_g (lw_at lw_m8 237 rfl) rfl
theorem q2030 : (Jvm.Cond.selects "TelescopeQueue" ({ cls := "TelescopeQueue", name := "share", desc := "(I)F" } : Jvm.MethodName) ({ cls := "TelescopeQueue", name := "share", desc := "(I)F" } : Jvm.MethodName)) ∈ lw_all := lw_g (lw_at lw_m8 238 rfl) rfl
theorem q2031 : (Jvm.Cond.code ({ cls := "TelescopeQueue", name := "share", desc := "(I)F" } : Jvm.MethodName) prog_1_method_52_code (2 : Nat) (Option.some Jvm.ClassFile.FieldType.float)) ∈ lw_all := lw_g (lw_at lw_m8 239 rfl) rfl
theorem q2032 : (Jvm.Cond.methodLink "TelescopeQueue" (359 : Nat) ({ cls := "TelescopeQueue$State", name := "share", desc := "(I)F" } : Jvm.MethodName)) ∈ lw_all := lw_g (lw_at lw_m9 0 rfl) rfl
theorem q2040 : (Jvm.Cond.instanceMethod ({ cls := "TelescopeQueue", name := "spread", desc := "()F" } : Jvm.MethodName)) ∈ lw_all := lw_g (lw_at lw_m9 8 rfl) rfl
theorem q2041 : (Jvm.Cond.selects "TelescopeQueue" ({ cls := "TelescopeQueue", name := "spread", desc := "()F" } : Jvm.MethodName) ({ cls := "TelescopeQueue", name := "spread", desc := "()F" } : Jvm.MethodName)) ∈ lw_all := lw_g (lw_at lw_m9 9 rfl) rfl
theorem q2042 : (Jvm.Cond.code ({ cls := "TelescopeQueue", name := "spread", desc := "()F" } : Jvm.MethodName) prog_1_method_53_code (5 : Nat) (Option.some Jvm.ClassFile.FieldType.float)) ∈ lw_all := lw_g (lw_at lw_m9 10 rfl) rfl
theorem q2043 : (Jvm.Cond.methodLink "TelescopeQueue" (363 : Nat) ({ cls := "java/lang/Math", name := "max", desc := "(FF)F" } : Jvm.MethodName)) ∈ lw_all := lw_g (lw_at lw_m9 11 rfl) rfl
theorem q2051 : (Jvm.Cond.methodLink "TelescopeQueue" (366 : Nat) ({ cls := "java/lang/Math", name := "min", desc := "(FF)F" } : Jvm.MethodName)) ∈ lw_all := lw_g (lw_at lw_m9 19 rfl) rfl
theorem q2058 : (Jvm.Cond.instanceMethod ({ cls := "TelescopeQueue", name := "entry", desc := "(II)I" } : Jvm.MethodName)) ∈ lw_all := lw_g (lw_at lw_m9 26 rfl) rfl
theorem q2059 : (Jvm.Cond.selects "TelescopeQueue" ({ cls := "TelescopeQueue", name := "entry", desc := "(II)I" } : Jvm.MethodName) ({ cls := "TelescopeQueue", name := "entry", desc := "(II)I" } : Jvm.MethodName)) ∈ lw_all := lw_g (lw_at lw_m9 27 rfl) rfl
theorem q2060 : (Jvm.Cond.code ({ cls := "TelescopeQueue", name := "entry", desc := "(II)I" } : Jvm.MethodName) prog_1_method_55_code (3 : Nat) (Option.some Jvm.ClassFile.FieldType.int)) ∈ lw_all := lw_g (lw_at lw_m9 28 rfl) rfl
theorem q2061 : (Jvm.Cond.constantLong "TelescopeQueue" (372 : Nat) (3 : Int64)) ∈ lw_all := lw_g (lw_at lw_m9 29 rfl) rfl
theorem q2066 : (Jvm.Cond.instanceMethod ({ cls := "TelescopeQueue", name := "longest", desc := "(I)I" } : Jvm.MethodName)) ∈ lw_all := lw_g (lw_at lw_m9 34 rfl) rfl
theorem q2067 : (Jvm.Cond.selects "TelescopeQueue" ({ cls := "TelescopeQueue", name := "longest", desc := "(I)I" } : Jvm.MethodName) ({ cls := "TelescopeQueue", name := "longest", desc := "(I)I" } : Jvm.MethodName)) ∈ lw_all := lw_g (lw_at lw_m9 35 rfl) rfl
theorem q2068 : (Jvm.Cond.code ({ cls := "TelescopeQueue", name := "longest", desc := "(I)I" } : Jvm.MethodName) prog_1_method_56_code (6 : Nat) (Option.some Jvm.ClassFile.FieldType.int)) ∈ lw_all := lw_g (lw_at lw_m9 36 rfl) rfl
theorem q2069 : (Jvm.Cond.constantLong "TelescopeQueue" (377 : Nat) (4 : Int64)) ∈ lw_all := lw_g (lw_at lw_m9 37 rfl) rfl
theorem q2074 : (Jvm.Cond.instanceMethod ({ cls := "TelescopeQueue", name := "usedIn", desc := "(I)I" } : Jvm.MethodName)) ∈ lw_all := lw_g (lw_at lw_m9 42 rfl) rfl
theorem q2075 : (Jvm.Cond.selects "TelescopeQueue" ({ cls := "TelescopeQueue", name := "usedIn", desc := "(I)I" } : Jvm.MethodName) ({ cls := "TelescopeQueue", name := "usedIn", desc := "(I)I" } : Jvm.MethodName)) ∈ lw_all := lw_g (lw_at lw_m9 43 rfl) rfl
theorem q2076 : (Jvm.Cond.code ({ cls := "TelescopeQueue", name := "usedIn", desc := "(I)I" } : Jvm.MethodName) prog_1_method_58_code (4 : Nat) (Option.some Jvm.ClassFile.FieldType.int)) ∈ lw_all := lw_g (lw_at lw_m9 44 rfl) rfl
theorem q2077 : (Jvm.Cond.constantLong "TelescopeQueue" (383 : Nat) (300 : Int64)) ∈ lw_all := lw_g (lw_at lw_m9 45 rfl) rfl
theorem q2078 : (Jvm.Cond.methodLink "TelescopeQueue" (385 : Nat) ({ cls := "TelescopeQueue", name := "tried", desc := "()LTelescopeQueue$State;" } : Jvm.MethodName)) ∈ lw_all := lw_g (lw_at lw_m9 46 rfl) rfl
theorem q2079 : (Jvm.Cond.privateMethod ({ cls := "TelescopeQueue", name := "tried", desc := "()LTelescopeQueue$State;" } : Jvm.MethodName)) ∈ lw_tbl := lw_at lw_m9 47 rfl
theorem q2080 : (Jvm.Cond.instanceMethod ({ cls := "TelescopeQueue", name := "tried", desc := "()LTelescopeQueue$State;" } : Jvm.MethodName)) ∈ lw_all := lw_g (lw_at lw_m9 48 rfl) rfl
theorem q2081 : (Jvm.Cond.code ({ cls := "TelescopeQueue", name := "tried", desc := "()LTelescopeQueue$State;" } : Jvm.MethodName) prog_1_method_57_code (1 : Nat) (Option.some (Jvm.ClassFile.FieldType.object "TelescopeQueue$State"))) ∈ lw_all := lw_g (lw_at lw_m9 49 rfl) rfl
theorem q2082 : (Jvm.Cond.methodLink "TelescopeQueue" (379 : Nat) ({ cls := "TelescopeQueue$State", name := "become", desc := "(LTelescopeQueue$State;)LTelescopeQueue$State;" } : Jvm.MethodName)) ∈ lw_all := lw_g (lw_at lw_m9 50 rfl) rfl
theorem q2101 : (Jvm.Cond.methodLink "TelescopeQueue" (388 : Nat) ({ cls := "TelescopeQueue$State", name := "steps", desc := "(I)I" } : Jvm.MethodName)) ∈ lw_all := lw_g (lw_at lw_m9 69 rfl) rfl
theorem q2152 : (Jvm.Cond.instanceMethod ({ cls := "TelescopeQueue", name := "doneBy", desc := "(I)I" } : Jvm.MethodName)) ∈ lw_all := lw_g (lw_at lw_m9 120 rfl) rfl
theorem q2153 : (Jvm.Cond.selects "TelescopeQueue" ({ cls := "TelescopeQueue", name := "doneBy", desc := "(I)I" } : Jvm.MethodName) ({ cls := "TelescopeQueue", name := "doneBy", desc := "(I)I" } : Jvm.MethodName)) ∈ lw_all := lw_g (lw_at lw_m9 121 rfl) rfl
theorem q2154 : (Jvm.Cond.code ({ cls := "TelescopeQueue", name := "doneBy", desc := "(I)I" } : Jvm.MethodName) prog_1_method_60_code (2 : Nat) (Option.some Jvm.ClassFile.FieldType.int)) ∈ lw_all := lw_g (lw_at lw_m9 122 rfl) rfl
theorem q2155 : (Jvm.Cond.methodLink "TelescopeQueue" (398 : Nat) ({ cls := "TelescopeQueue", name := "finished", desc := "(I)LTelescopeQueue$State;" } : Jvm.MethodName)) ∈ lw_all := lw_g (lw_at lw_m9 123 rfl) rfl
theorem q2156 : (Jvm.Cond.privateMethod ({ cls := "TelescopeQueue", name := "finished", desc := "(I)LTelescopeQueue$State;" } : Jvm.MethodName)) ∈ lw_tbl := lw_at lw_m9 124 rfl
theorem q2157 : (Jvm.Cond.instanceMethod ({ cls := "TelescopeQueue", name := "finished", desc := "(I)LTelescopeQueue$State;" } : Jvm.MethodName)) ∈ lw_all := lw_g (lw_at lw_m9 125 rfl) rfl
theorem q2158 : (Jvm.Cond.code ({ cls := "TelescopeQueue", name := "finished", desc := "(I)LTelescopeQueue$State;" } : Jvm.MethodName) prog_1_method_59_code (3 : Nat) (Option.some (Jvm.ClassFile.FieldType.object "TelescopeQueue$State"))) ∈ lw_all := lw_g (lw_at lw_m9 126 rfl) rfl
theorem q2159 : (Jvm.Cond.methodLink "TelescopeQueue" (391 : Nat) ({ cls := "TelescopeQueue$State", name := "setPolicy", desc := "(I)V" } : Jvm.MethodName)) ∈ lw_all := lw_g (lw_at lw_m9 127 rfl) rfl
theorem q2163 : (Jvm.Cond.methodLink "TelescopeQueue" (395 : Nat) ({ cls := "TelescopeQueue$State", name := "finish", desc := "()LTelescopeQueue$State;" } : Jvm.MethodName)) ∈ lw_all := lw_g (lw_at lw_m9 131 rfl) rfl
theorem q2167 : (Jvm.Cond.methodLink "TelescopeQueue" (401 : Nat) ({ cls := "TelescopeQueue$State", name := "done", desc := "()I" } : Jvm.MethodName)) ∈ lw_all := lw_g (lw_at lw_m9 135 rfl) rfl
theorem q2175 : (Jvm.Cond.instanceMethod ({ cls := "TelescopeQueue", name := "bestPolicy", desc := "()I" } : Jvm.MethodName)) ∈ lw_all := lw_g (lw_at lw_m9 143 rfl) rfl
theorem q2176 : (Jvm.Cond.selects "TelescopeQueue" ({ cls := "TelescopeQueue", name := "bestPolicy", desc := "()I" } : Jvm.MethodName) ({ cls := "TelescopeQueue", name := "bestPolicy", desc := "()I" } : Jvm.MethodName)) ∈ lw_all := lw_g (lw_at lw_m9 144 rfl) rfl
theorem q2177 : (Jvm.Cond.code ({ cls := "TelescopeQueue", name := "bestPolicy", desc := "()I" } : Jvm.MethodName) prog_1_method_61_code (5 : Nat) (Option.some Jvm.ClassFile.FieldType.int)) ∈ lw_all := lw_g (lw_at lw_m9 145 rfl) rfl
theorem q2182 : (Jvm.Cond.instanceMethod ({ cls := "TelescopeQueue", name := "usedWith", desc := "(I)I" } : Jvm.MethodName)) ∈ lw_all := lw_g (lw_at lw_m9 150 rfl) rfl
theorem q2183 : (Jvm.Cond.selects "TelescopeQueue" ({ cls := "TelescopeQueue", name := "usedWith", desc := "(I)I" } : Jvm.MethodName) ({ cls := "TelescopeQueue", name := "usedWith", desc := "(I)I" } : Jvm.MethodName)) ∈ lw_all := lw_g (lw_at lw_m9 151 rfl) rfl
theorem q2184 : (Jvm.Cond.code ({ cls := "TelescopeQueue", name := "usedWith", desc := "(I)I" } : Jvm.MethodName) prog_1_method_62_code (3 : Nat) (Option.some Jvm.ClassFile.FieldType.int)) ∈ lw_all := lw_g (lw_at lw_m9 152 rfl) rfl
theorem q2185 : (Jvm.Cond.constantLong "TelescopeQueue" (404 : Nat) (2000 : Int64)) ∈ lw_all := lw_g (lw_at lw_m9 153 rfl) rfl
theorem q2190 : (Jvm.Cond.instanceMethod ({ cls := "TelescopeQueue", name := "shortfall", desc := "(I)I" } : Jvm.MethodName)) ∈ lw_all := lw_g (lw_at lw_m9 158 rfl) rfl
theorem q2191 : (Jvm.Cond.selects "TelescopeQueue" ({ cls := "TelescopeQueue", name := "shortfall", desc := "(I)I" } : Jvm.MethodName) ({ cls := "TelescopeQueue", name := "shortfall", desc := "(I)I" } : Jvm.MethodName)) ∈ lw_all := lw_g (lw_at lw_m9 159 rfl) rfl
theorem q2192 : (Jvm.Cond.code ({ cls := "TelescopeQueue", name := "shortfall", desc := "(I)I" } : Jvm.MethodName) prog_1_method_63_code (2 : Nat) (Option.some Jvm.ClassFile.FieldType.int)) ∈ lw_all := lw_g (lw_at lw_m9 160 rfl) rfl
theorem q2197 : (Jvm.Cond.instanceMethod ({ cls := "TelescopeQueue", name := "writeEntry", desc := "(I)I" } : Jvm.MethodName)) ∈ lw_all := lw_g (lw_at lw_m9 165 rfl) rfl
theorem q2198 : (Jvm.Cond.selects "TelescopeQueue" ({ cls := "TelescopeQueue", name := "writeEntry", desc := "(I)I" } : Jvm.MethodName) ({ cls := "TelescopeQueue", name := "writeEntry", desc := "(I)I" } : Jvm.MethodName)) ∈ lw_all := lw_g (lw_at lw_m9 166 rfl) rfl
theorem q2199 : (Jvm.Cond.code ({ cls := "TelescopeQueue", name := "writeEntry", desc := "(I)I" } : Jvm.MethodName) prog_1_method_65_code (3 : Nat) (Option.some Jvm.ClassFile.FieldType.int)) ∈ lw_all := lw_g (lw_at lw_m9 167 rfl) rfl
theorem q2200 : (Jvm.Cond.methodLink "TelescopeQueue" (415 : Nat) ({ cls := "java/lang/StringBuilder", name := "setLength", desc := "(I)V" } : Jvm.MethodName)) ∈ lw_all := lw_g (lw_at lw_m9 168 rfl) rfl
theorem q2252 : (Jvm.Cond.methodLink "TelescopeQueue" (418 : Nat) ({ cls := "java/lang/StringBuilder", name := "append", desc := "(I)Ljava/lang/StringBuilder;" } : Jvm.MethodName)) ∈ lw_all := lw_g (lw_at lw_m9 220 rfl) rfl
theorem q2253 : (Jvm.Cond.methodLink "TelescopeQueue" (422 : Nat) ({ cls := "java/lang/StringBuilder", name := "append", desc := "(C)Ljava/lang/StringBuilder;" } : Jvm.MethodName)) ∈ lw_all := lw_g (lw_at lw_m9 221 rfl) rfl
theorem q2254 : (Jvm.Cond.methodLink "TelescopeQueue" (425 : Nat) ({ cls := "TelescopeQueue", name := "word", desc := "(I)Ljava/lang/CharSequence;" } : Jvm.MethodName)) ∈ lw_all := lw_g (lw_at lw_m9 222 rfl) rfl
theorem q2255 : (Jvm.Cond.static ({ cls := "TelescopeQueue", name := "word", desc := "(I)Ljava/lang/CharSequence;" } : Jvm.MethodName)) ∈ lw_all := lw_g (lw_at lw_m9 223 rfl) rfl
theorem q2256 : (Jvm.Cond.code ({ cls := "TelescopeQueue", name := "word", desc := "(I)Ljava/lang/CharSequence;" } : Jvm.MethodName) prog_1_method_64_code (1 : Nat) (Option.some (Jvm.ClassFile.FieldType.object "java/lang/CharSequence"))) ∈ lw_all := lw_g (lw_at lw_m9 224 rfl) rfl
theorem q2257 : (Jvm.Cond.stringRef "TelescopeQueue" (406 : Nat) "visit") ∈ lw_tbl := lw_at lw_m9 225 rfl
theorem q2258 : (Jvm.Cond.stringRef "TelescopeQueue" (408 : Nat) "broken") ∈ lw_tbl := lw_at lw_m9 226 rfl
theorem q2259 : (Jvm.Cond.stringRef "TelescopeQueue" (410 : Nat) "alert") ∈ lw_tbl := lw_at lw_m9 227 rfl
theorem q2260 : (Jvm.Cond.stringRef "TelescopeQueue" (412 : Nat) "cal") ∈ lw_tbl := lw_at lw_m9 228 rfl
theorem q2261 : (Jvm.Cond.stringRef "TelescopeQueue" (413 : Nat) "idle") ∈ lw_tbl := lw_at lw_m9 229 rfl
theorem q2262 : (Jvm.Cond.methodLink "TelescopeQueue" (429 : Nat) ({ cls := "java/lang/StringBuilder", name := "append", desc := "(Ljava/lang/CharSequence;)Ljava/lang/StringBuilder;" } : Jvm.MethodName)) ∈ lw_all := lw_g (lw_at lw_m9 230 rfl) rfl
theorem q2361 : (Jvm.Cond.methodLink "TelescopeQueue" (432 : Nat) ({ cls := "java/lang/StringBuilder", name := "length", desc := "()I" } : Jvm.MethodName)) ∈ lw_all := lw_g (lw_at lw_m10 89 rfl) rfl
theorem q2366 : (Jvm.Cond.instanceMethod ({ cls := "TelescopeQueue", name := "writeAccount", desc := "(I)I" } : Jvm.MethodName)) ∈ lw_all := lw_g (lw_at lw_m10 94 rfl) rfl
theorem q2367 : (Jvm.Cond.selects "TelescopeQueue" ({ cls := "TelescopeQueue", name := "writeAccount", desc := "(I)I" } : Jvm.MethodName) ({ cls := "TelescopeQueue", name := "writeAccount", desc := "(I)I" } : Jvm.MethodName)) ∈ lw_all := lw_g (lw_at lw_m10 95 rfl) rfl
theorem q2368 : (Jvm.Cond.code ({ cls := "TelescopeQueue", name := "writeAccount", desc := "(I)I" } : Jvm.MethodName) prog_1_method_66_code (3 : Nat) (Option.some Jvm.ClassFile.FieldType.int)) ∈ lw_all := lw_g (lw_at lw_m10 96 rfl) rfl
theorem q2369 : (Jvm.Cond.methodLink "TelescopeQueue" (433 : Nat) ({ cls := "java/lang/StringBuilder", name := "append", desc := "(Ljava/lang/String;)Ljava/lang/StringBuilder;" } : Jvm.MethodName)) ∈ lw_all := lw_g (lw_at lw_m10 97 rfl) rfl
theorem q2374 : (Jvm.Cond.instanceMethod ({ cls := "TelescopeQueue", name := "textByte", desc := "(I)I" } : Jvm.MethodName)) ∈ lw_all := lw_g (lw_at lw_m10 102 rfl) rfl
theorem q2375 : (Jvm.Cond.selects "TelescopeQueue" ({ cls := "TelescopeQueue", name := "textByte", desc := "(I)I" } : Jvm.MethodName) ({ cls := "TelescopeQueue", name := "textByte", desc := "(I)I" } : Jvm.MethodName)) ∈ lw_all := lw_g (lw_at lw_m10 103 rfl) rfl
theorem q2376 : (Jvm.Cond.code ({ cls := "TelescopeQueue", name := "textByte", desc := "(I)I" } : Jvm.MethodName) prog_1_method_67_code (2 : Nat) (Option.some Jvm.ClassFile.FieldType.int)) ∈ lw_all := lw_g (lw_at lw_m10 104 rfl) rfl
theorem q2377 : (Jvm.Cond.methodLink "TelescopeQueue" (436 : Nat) ({ cls := "java/lang/StringBuilder", name := "charAt", desc := "(I)C" } : Jvm.MethodName)) ∈ lw_all := lw_g (lw_at lw_m10 105 rfl) rfl
theorem q2382 : (Jvm.Cond.instanceMethod ({ cls := "TelescopeQueue", name := "run", desc := "(I)I" } : Jvm.MethodName)) ∈ lw_all := lw_g (lw_at lw_m10 110 rfl) rfl
theorem q2383 : (Jvm.Cond.selects "TelescopeQueue" ({ cls := "TelescopeQueue", name := "run", desc := "(I)I" } : Jvm.MethodName) ({ cls := "TelescopeQueue", name := "run", desc := "(I)I" } : Jvm.MethodName)) ∈ lw_all := lw_g (lw_at lw_m10 111 rfl) rfl
theorem q2384 : (Jvm.Cond.code ({ cls := "TelescopeQueue", name := "run", desc := "(I)I" } : Jvm.MethodName) prog_1_method_68_code (2 : Nat) (Option.some Jvm.ClassFile.FieldType.int)) ∈ lw_all := lw_g (lw_at lw_m10 112 rfl) rfl
theorem q2385 : (Jvm.Cond.methodLink "TelescopeQueue" (437 : Nat) ({ cls := "TelescopeQueue$History", name := "keep", desc := "(LTelescopeQueue$Copied;)V" } : Jvm.MethodName)) ∈ lw_all := lw_g (lw_at lw_m10 113 rfl) rfl
theorem q2447 : (Jvm.Cond.instanceMethod ({ cls := "TelescopeQueue", name := "setPolicy", desc := "(I)I" } : Jvm.MethodName)) ∈ lw_all := lw_g (lw_at lw_m10 175 rfl) rfl
theorem q2448 : (Jvm.Cond.selects "TelescopeQueue" ({ cls := "TelescopeQueue", name := "setPolicy", desc := "(I)I" } : Jvm.MethodName) ({ cls := "TelescopeQueue", name := "setPolicy", desc := "(I)I" } : Jvm.MethodName)) ∈ lw_all := lw_g (lw_at lw_m10 176 rfl) rfl
theorem q2449 : (Jvm.Cond.code ({ cls := "TelescopeQueue", name := "setPolicy", desc := "(I)I" } : Jvm.MethodName) prog_1_method_69_code (3 : Nat) (Option.some Jvm.ClassFile.FieldType.int)) ∈ lw_all := lw_g (lw_at lw_m10 177 rfl) rfl
theorem q2454 : (Jvm.Cond.instanceMethod ({ cls := "TelescopeQueue", name := "cancel", desc := "(I)Z" } : Jvm.MethodName)) ∈ lw_all := lw_g (lw_at lw_m10 182 rfl) rfl
theorem q2455 : (Jvm.Cond.selects "TelescopeQueue" ({ cls := "TelescopeQueue", name := "cancel", desc := "(I)Z" } : Jvm.MethodName) ({ cls := "TelescopeQueue", name := "cancel", desc := "(I)Z" } : Jvm.MethodName)) ∈ lw_all := lw_g (lw_at lw_m10 183 rfl) rfl
theorem q2456 : (Jvm.Cond.code ({ cls := "TelescopeQueue", name := "cancel", desc := "(I)Z" } : Jvm.MethodName) prog_1_method_71_code (2 : Nat) (Option.some Jvm.ClassFile.FieldType.boolean)) ∈ lw_all := lw_g (lw_at lw_m10 184 rfl) rfl
theorem q2457 : (Jvm.Cond.methodLink "TelescopeQueue" (441 : Nat) ({ cls := "TelescopeQueue", name := "change", desc := "(III)Z" } : Jvm.MethodName)) ∈ lw_all := lw_g (lw_at lw_m10 185 rfl) rfl
theorem q2458 : (Jvm.Cond.privateMethod ({ cls := "TelescopeQueue", name := "change", desc := "(III)Z" } : Jvm.MethodName)) ∈ lw_tbl := lw_at lw_m10 186 rfl
theorem q2459 : (Jvm.Cond.instanceMethod ({ cls := "TelescopeQueue", name := "change", desc := "(III)Z" } : Jvm.MethodName)) ∈ lw_all := lw_g (lw_at lw_m10 187 rfl) rfl
theorem q2460 : (Jvm.Cond.code ({ cls := "TelescopeQueue", name := "change", desc := "(III)Z" } : Jvm.MethodName) prog_1_method_70_code (5 : Nat) (Option.some Jvm.ClassFile.FieldType.boolean)) ∈ lw_all := lw_g (lw_at lw_m10 188 rfl) rfl
theorem q2465 : (Jvm.Cond.instanceMethod ({ cls := "TelescopeQueue", name := "requeue", desc := "(I)Z" } : Jvm.MethodName)) ∈ lw_all := lw_g (lw_at lw_m10 193 rfl) rfl
theorem q2466 : (Jvm.Cond.selects "TelescopeQueue" ({ cls := "TelescopeQueue", name := "requeue", desc := "(I)Z" } : Jvm.MethodName) ({ cls := "TelescopeQueue", name := "requeue", desc := "(I)Z" } : Jvm.MethodName)) ∈ lw_all := lw_g (lw_at lw_m10 194 rfl) rfl
theorem q2467 : (Jvm.Cond.code ({ cls := "TelescopeQueue", name := "requeue", desc := "(I)Z" } : Jvm.MethodName) prog_1_method_72_code (2 : Nat) (Option.some Jvm.ClassFile.FieldType.boolean)) ∈ lw_all := lw_g (lw_at lw_m10 195 rfl) rfl
theorem q2472 : (Jvm.Cond.instanceMethod ({ cls := "TelescopeQueue", name := "setPriority", desc := "(II)I" } : Jvm.MethodName)) ∈ lw_all := lw_g (lw_at lw_m10 200 rfl) rfl
theorem q2473 : (Jvm.Cond.selects "TelescopeQueue" ({ cls := "TelescopeQueue", name := "setPriority", desc := "(II)I" } : Jvm.MethodName) ({ cls := "TelescopeQueue", name := "setPriority", desc := "(II)I" } : Jvm.MethodName)) ∈ lw_all := lw_g (lw_at lw_m10 201 rfl) rfl
theorem q2474 : (Jvm.Cond.code ({ cls := "TelescopeQueue", name := "setPriority", desc := "(II)I" } : Jvm.MethodName) prog_1_method_73_code (5 : Nat) (Option.some Jvm.ClassFile.FieldType.int)) ∈ lw_all := lw_g (lw_at lw_m10 202 rfl) rfl
theorem q2475 : (Jvm.Cond.constantLong "TelescopeQueue" (445 : Nat) (9 : Int64)) ∈ lw_all := lw_g (lw_at lw_m10 203 rfl) rfl
theorem q2480 : (Jvm.Cond.instanceMethod ({ cls := "TelescopeQueue", name := "grant", desc := "(II)I" } : Jvm.MethodName)) ∈ lw_all := lw_g (lw_at lw_m10 208 rfl) rfl
theorem q2481 : (Jvm.Cond.selects "TelescopeQueue" ({ cls := "TelescopeQueue", name := "grant", desc := "(II)I" } : Jvm.MethodName) ({ cls := "TelescopeQueue", name := "grant", desc := "(II)I" } : Jvm.MethodName)) ∈ lw_all := lw_g (lw_at lw_m10 209 rfl) rfl
theorem q2482 : (Jvm.Cond.code ({ cls := "TelescopeQueue", name := "grant", desc := "(II)I" } : Jvm.MethodName) prog_1_method_74_code (4 : Nat) (Option.some Jvm.ClassFile.FieldType.int)) ∈ lw_all := lw_g (lw_at lw_m10 210 rfl) rfl
theorem q2483 : (Jvm.Cond.constantLong "TelescopeQueue" (447 : Nat) (-2000 : Int64)) ∈ lw_all := lw_g (lw_at lw_m10 211 rfl) rfl
theorem q2488 : (Jvm.Cond.instanceMethod ({ cls := "TelescopeQueue", name := "dump", desc := "()I" } : Jvm.MethodName)) ∈ lw_all := lw_g (lw_at lw_m10 216 rfl) rfl
theorem q2489 : (Jvm.Cond.selects "TelescopeQueue" ({ cls := "TelescopeQueue", name := "dump", desc := "()I" } : Jvm.MethodName) ({ cls := "TelescopeQueue", name := "dump", desc := "()I" } : Jvm.MethodName)) ∈ lw_all := lw_g (lw_at lw_m10 217 rfl) rfl
theorem q2490 : (Jvm.Cond.code ({ cls := "TelescopeQueue", name := "dump", desc := "()I" } : Jvm.MethodName) prog_1_method_75_code (2 : Nat) (Option.some Jvm.ClassFile.FieldType.int)) ∈ lw_all := lw_g (lw_at lw_m10 218 rfl) rfl
theorem q2491 : (Jvm.Cond.methodLink "TelescopeQueue" (449 : Nat) ({ cls := "TelescopeQueue$State", name := "makeDump", desc := "(I)V" } : Jvm.MethodName)) ∈ lw_all := lw_g (lw_at lw_m10 219 rfl) rfl
theorem q2496 : (Jvm.Cond.instanceMethod ({ cls := "TelescopeQueue", name := "calibrate", desc := "()I" } : Jvm.MethodName)) ∈ lw_all := lw_g (lw_at lw_m10 224 rfl) rfl
theorem q2497 : (Jvm.Cond.selects "TelescopeQueue" ({ cls := "TelescopeQueue", name := "calibrate", desc := "()I" } : Jvm.MethodName) ({ cls := "TelescopeQueue", name := "calibrate", desc := "()I" } : Jvm.MethodName)) ∈ lw_all := lw_g (lw_at lw_m10 225 rfl) rfl
theorem q2498 : (Jvm.Cond.code ({ cls := "TelescopeQueue", name := "calibrate", desc := "()I" } : Jvm.MethodName) prog_1_method_76_code (1 : Nat) (Option.some Jvm.ClassFile.FieldType.int)) ∈ lw_all := lw_g (lw_at lw_m10 226 rfl) rfl
theorem q2499 : (Jvm.Cond.methodLink "TelescopeQueue" (452 : Nat) ({ cls := "TelescopeQueue$State", name := "makeCalibration", desc := "()V" } : Jvm.MethodName)) ∈ lw_all := lw_g (lw_at lw_m10 227 rfl) rfl
theorem q2504 : (Jvm.Cond.instanceMethod ({ cls := "TelescopeQueue", name := "addAlert", desc := "(IIIIII)I" } : Jvm.MethodName)) ∈ lw_all := lw_g (lw_at lw_m10 232 rfl) rfl
theorem q2505 : (Jvm.Cond.selects "TelescopeQueue" ({ cls := "TelescopeQueue", name := "addAlert", desc := "(IIIIII)I" } : Jvm.MethodName) ({ cls := "TelescopeQueue", name := "addAlert", desc := "(IIIIII)I" } : Jvm.MethodName)) ∈ lw_all := lw_g (lw_at lw_m10 233 rfl) rfl
theorem q2506 : (Jvm.Cond.code ({ cls := "TelescopeQueue", name := "addAlert", desc := "(IIIIII)I" } : Jvm.MethodName) prog_1_method_77_code (8 : Nat) (Option.some Jvm.ClassFile.FieldType.int)) ∈ lw_all := lw_g (lw_at lw_m10 234 rfl) rfl
theorem q2507 : (Jvm.Cond.constantLong "TelescopeQueue" (455 : Nat) (99 : Int64)) ∈ lw_all := lw_g (lw_at lw_m10 235 rfl) rfl
theorem q2508 : (Jvm.Cond.constantLong "TelescopeQueue" (457 : Nat) (999 : Int64)) ∈ lw_all := lw_g (lw_at lw_m10 236 rfl) rfl
theorem q2509 : (Jvm.Cond.methodLink "TelescopeQueue" (459 : Nat) ({ cls := "TelescopeQueue$Alert", name := "<init>", desc := "(IIIIIII)V" } : Jvm.MethodName)) ∈ lw_all := lw_g (lw_at lw_m10 237 rfl) rfl
theorem q2510 : (Jvm.Cond.interfaceEntry "TelescopeQueue" (462 : Nat)) ∈ lw_tbl := lw_at lw_m10 238 rfl
theorem q2511 : (Jvm.Cond.methodLink "TelescopeQueue" (462 : Nat) ({ cls := "java/util/List", name := "add", desc := "(Ljava/lang/Object;)Z" } : Jvm.MethodName)) ∈ lw_all := lw_g (lw_at lw_m10 239 rfl) rfl
theorem q2516 : (Jvm.Cond.instanceMethod ({ cls := "TelescopeQueue", name := "undo", desc := "()I" } : Jvm.MethodName)) ∈ lw_all := lw_g (lw_at lw_m11 4 rfl) rfl
theorem q2517 : (Jvm.Cond.selects "TelescopeQueue" ({ cls := "TelescopeQueue", name := "undo", desc := "()I" } : Jvm.MethodName) ({ cls := "TelescopeQueue", name := "undo", desc := "()I" } : Jvm.MethodName)) ∈ lw_all := lw_g (lw_at lw_m11 5 rfl) rfl
theorem q2518 : (Jvm.Cond.code ({ cls := "TelescopeQueue", name := "undo", desc := "()I" } : Jvm.MethodName) prog_1_method_78_code (1 : Nat) (Option.some Jvm.ClassFile.FieldType.int)) ∈ lw_all := lw_g (lw_at lw_m11 6 rfl) rfl
theorem q2519 : (Jvm.Cond.methodLink "TelescopeQueue" (467 : Nat) ({ cls := "TelescopeQueue$History", name := "back", desc := "()LTelescopeQueue$Copied;" } : Jvm.MethodName)) ∈ lw_all := lw_g (lw_at lw_m11 7 rfl) rfl
theorem q2538 : (Jvm.Cond.instanceMethod ({ cls := "TelescopeQueue", name := "save", desc := "(I)I" } : Jvm.MethodName)) ∈ lw_all := lw_g (lw_at lw_m11 26 rfl) rfl
theorem q2539 : (Jvm.Cond.selects "TelescopeQueue" ({ cls := "TelescopeQueue", name := "save", desc := "(I)I" } : Jvm.MethodName) ({ cls := "TelescopeQueue", name := "save", desc := "(I)I" } : Jvm.MethodName)) ∈ lw_all := lw_g (lw_at lw_m11 27 rfl) rfl
theorem q2540 : (Jvm.Cond.code ({ cls := "TelescopeQueue", name := "save", desc := "(I)I" } : Jvm.MethodName) prog_1_method_80_code (2 : Nat) (Option.some Jvm.ClassFile.FieldType.int)) ∈ lw_all := lw_g (lw_at lw_m11 28 rfl) rfl
theorem q2541 : (Jvm.Cond.methodLink "TelescopeQueue" (471 : Nat) ({ cls := "TelescopeQueue$State", name := "copy", desc := "()LTelescopeQueue$State;" } : Jvm.MethodName)) ∈ lw_all := lw_g (lw_at lw_m11 29 rfl) rfl
theorem q2546 : (Jvm.Cond.instanceMethod ({ cls := "TelescopeQueue", name := "restore", desc := "(I)I" } : Jvm.MethodName)) ∈ lw_all := lw_g (lw_at lw_m11 34 rfl) rfl
theorem q2547 : (Jvm.Cond.selects "TelescopeQueue" ({ cls := "TelescopeQueue", name := "restore", desc := "(I)I" } : Jvm.MethodName) ({ cls := "TelescopeQueue", name := "restore", desc := "(I)I" } : Jvm.MethodName)) ∈ lw_all := lw_g (lw_at lw_m11 35 rfl) rfl
theorem q2548 : (Jvm.Cond.code ({ cls := "TelescopeQueue", name := "restore", desc := "(I)I" } : Jvm.MethodName) prog_1_method_81_code (2 : Nat) (Option.some Jvm.ClassFile.FieldType.int)) ∈ lw_all := lw_g (lw_at lw_m11 36 rfl) rfl
theorem q3265 : (Jvm.Cond.castable "TelescopeQueue" "java/lang/Object") ∈ lw_tbl := lw_at lw_m14 33 rfl
theorem in_X1 : ∀ w ∈ wsX10, w ∈ lw_all := lw_in wsX10 [745, 747, 749, 751, 753, 755, 757, 759, 761] (by decide +kernel) (by decide +kernel)

