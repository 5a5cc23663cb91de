/-! TelescopeQueueModel -/
set_option maxRecDepth 100000
def RX10 : String := "TelescopeQueueModel"
def TX10 : u_T := fun k => match k with
  | 0 => ("TelescopeQueueModel", "thrown", "I", false)
  | 1 => ("TelescopeQueueModel", "buffer", "[I", true)
  | 2 => ("TelescopeQueueModel", "buffered", "I", false)
  | 3 => ("TelescopeQueueModel", "end", "I", false)
  | 4 => ("TelescopeQueueModel", "next", "I", false)
  | 5 => ("TelescopeQueueModel", "parseCode", "I", false)
  | 6 => ("TelescopeQueueModel", "parsePlace", "I", false)
  | 7 => ("TelescopeQueueModel", "token", "I", false)
  | 8 => ("TelescopeQueueModel", "start", "I", false)
  | 9 => ("TelescopeQueueModel", "value", "I", false)
  | 10 => ("TelescopeQueueModel", "plan", "[I", true)
  | 11 => ("TelescopeQueueModel", "newPlan", "[I", true)
  | 12 => ("TelescopeQueueModel", "now", "[I", true)
  | 13 => ("TelescopeQueueModel", "draft", "[I", true)
  | 14 => ("TelescopeQueueModel", "work", "[I", true)
  | 15 => ("TelescopeQueueModel", "history", "[I", true)
  | 16 => ("TelescopeQueueModel", "stored", "[I", true)
  | 17 => ("TelescopeQueueModel", "isStored", "[Z", true)
  | 18 => ("TelescopeQueueModel", "undos", "I", false)
  | 19 => ("TelescopeQueueModel", "hasScope", "Z", false)
  | 20 => ("TelescopeQueueModel", "asideTime", "I", false)
  | 21 => ("TelescopeQueueModel", "asideMomentum", "I", false)
  | 22 => ("TelescopeQueueModel", "asideLost", "I", false)
  | 23 => ("TelescopeQueueModel", "page", "[I", true)
  | _ => ("TelescopeQueueModel", "pageSize", "I", false)
def tyX10 : Nat → FieldType := fun k => match k with
  | 0 => .int
  | 1 => .array .int
  | 2 => .int
  | 3 => .int
  | 4 => .int
  | 5 => .int
  | 6 => .int
  | 7 => .int
  | 8 => .int
  | 9 => .int
  | 10 => .array .int
  | 11 => .array .int
  | 12 => .array .int
  | 13 => .array .int
  | 14 => .array .int
  | 15 => .array .int
  | 16 => .array .int
  | 17 => .array .boolean
  | 18 => .int
  | 19 => .boolean
  | 20 => .int
  | 21 => .int
  | 22 => .int
  | 23 => .array .int
  | _ => .int
abbrev wsX100 : List Cond := u_ws RX10 TX10 25
set_option maxRecDepth 100000 in
theorem nmX10 : ∀ a, a < 25 → ∀ b, b < 25 → a ≠ b → (TX10 a).2.1 ≠ (TX10 b).2.1 := by decide +kernel
set_option maxRecDepth 100000 in
theorem tyX10_ok : ∀ k, k < 25 → parseFieldDescriptor (TX10 k).2.2.1 = some (tyX10 k) := by decide +kernel
abbrev cX10_init : ByteArray := prog_22_method_1_code
def yX10_init : MethodName := ⟨RX10, "<init>", "()V"⟩
def dkwX10_init_4 : List UInt8 := [181, 0, 42, 177]
abbrev dktX10_init_4 : List UInt8 := dkwX10_init_4 ++ []
def dkwX10_init_3 : List UInt8 := [181, 0, 32, 42, 17, 4, 230, 188, 10, 181, 0, 35, 42, 5, 188, 4, 181, 0, 38, 42, 16, 80, 188, 10]
abbrev dktX10_init_3 : List UInt8 := dkwX10_init_3 ++ dktX10_init_4
def dkwX10_init_2 : List UInt8 := [17, 2, 115, 188, 10, 181, 0, 26, 42, 17, 2, 115, 188, 10, 181, 0, 29, 42, 17, 19, 152, 188, 10]
abbrev dktX10_init_2 : List UInt8 := dkwX10_init_2 ++ dktX10_init_3
def dkwX10_init_1 : List UInt8 := [181, 0, 17, 42, 17, 0, 235, 188, 10, 181, 0, 20, 42, 17, 2, 115, 188, 10, 181, 0, 23, 42]
abbrev dktX10_init_1 : List UInt8 := dkwX10_init_1 ++ dktX10_init_2
def dkwX10_init_0 : List UInt8 := [42, 183, 0, 1, 42, 17, 3, 232, 188, 10, 181, 0, 9, 42, 2, 181, 0, 13, 42, 17, 0, 235, 188, 10]
abbrev dktX10_init_0 : List UInt8 := dkwX10_init_0 ++ dktX10_init_1
theorem dksX10_init_0 : cX10_init.data.toList.drop 0 = dktX10_init_0 := by decide +kernel
theorem dksX10_init_1 : cX10_init.data.toList.drop 24 = dktX10_init_1 := dk_seg dksX10_init_0 24 rfl rfl
theorem dksX10_init_2 : cX10_init.data.toList.drop 46 = dktX10_init_2 := dk_seg dksX10_init_1 22 rfl rfl
theorem dksX10_init_3 : cX10_init.data.toList.drop 69 = dktX10_init_3 := dk_seg dksX10_init_2 23 rfl rfl
theorem dksX10_init_4 : cX10_init.data.toList.drop 93 = dktX10_init_4 := dk_seg dksX10_init_3 24 rfl rfl
theorem dX10_init_0 : decode cX10_init 0 = .ok (.aload_n 0, 1) := dk_42 (dk_at dksX10_init_0 0 rfl rfl)
theorem dX10_init_1 : decode cX10_init 1 = .ok (.invokespecial 1, 3) := dk_183 0 1 (dk_at dksX10_init_0 1 rfl rfl)
theorem dX10_init_4 : decode cX10_init 4 = .ok (.aload_n 0, 1) := dk_42 (dk_at dksX10_init_0 4 rfl rfl)
theorem dX10_init_5 : decode cX10_init 5 = .ok (.sipush 1000, 3) := dk_17 3 232 (dk_at dksX10_init_0 5 rfl rfl)
theorem dX10_init_8 : decode cX10_init 8 = .ok (.newarray .int, 2) := dk_188_10 (dk_at dksX10_init_0 8 rfl rfl)
theorem dX10_init_10 : decode cX10_init 10 = .ok (.putfield 9, 3) := dk_181 0 9 (dk_at dksX10_init_0 10 rfl rfl)
theorem dX10_init_13 : decode cX10_init 13 = .ok (.aload_n 0, 1) := dk_42 (dk_at dksX10_init_0 13 rfl rfl)
theorem dX10_init_14 : decode cX10_init 14 = .ok (.iconst (-1), 1) := dk_2 (dk_at dksX10_init_0 14 rfl rfl)
theorem dX10_init_15 : decode cX10_init 15 = .ok (.putfield 13, 3) := dk_181 0 13 (dk_at dksX10_init_0 15 rfl rfl)
theorem dX10_init_18 : decode cX10_init 18 = .ok (.aload_n 0, 1) := dk_42 (dk_at dksX10_init_0 18 rfl rfl)
theorem dX10_init_19 : decode cX10_init 19 = .ok (.sipush 235, 3) := dk_17 0 235 (dk_at dksX10_init_0 19 rfl rfl)
theorem dX10_init_22 : decode cX10_init 22 = .ok (.newarray .int, 2) := dk_188_10 (dk_at dksX10_init_0 22 rfl rfl)
theorem dX10_init_24 : decode cX10_init 24 = .ok (.putfield 17, 3) := dk_181 0 17 (dk_at dksX10_init_1 0 rfl rfl)
theorem dX10_init_27 : decode cX10_init 27 = .ok (.aload_n 0, 1) := dk_42 (dk_at dksX10_init_1 3 rfl rfl)
theorem dX10_init_28 : decode cX10_init 28 = .ok (.sipush 235, 3) := dk_17 0 235 (dk_at dksX10_init_1 4 rfl rfl)
theorem dX10_init_31 : decode cX10_init 31 = .ok (.newarray .int, 2) := dk_188_10 (dk_at dksX10_init_1 7 rfl rfl)
theorem dX10_init_33 : decode cX10_init 33 = .ok (.putfield 20, 3) := dk_181 0 20 (dk_at dksX10_init_1 9 rfl rfl)
theorem dX10_init_36 : decode cX10_init 36 = .ok (.aload_n 0, 1) := dk_42 (dk_at dksX10_init_1 12 rfl rfl)
theorem dX10_init_37 : decode cX10_init 37 = .ok (.sipush 627, 3) := dk_17 2 115 (dk_at dksX10_init_1 13 rfl rfl)
theorem dX10_init_40 : decode cX10_init 40 = .ok (.newarray .int, 2) := dk_188_10 (dk_at dksX10_init_1 16 rfl rfl)
theorem dX10_init_42 : decode cX10_init 42 = .ok (.putfield 23, 3) := dk_181 0 23 (dk_at dksX10_init_1 18 rfl rfl)
theorem dX10_init_45 : decode cX10_init 45 = .ok (.aload_n 0, 1) := dk_42 (dk_at dksX10_init_1 21 rfl rfl)
theorem dX10_init_46 : decode cX10_init 46 = .ok (.sipush 627, 3) := dk_17 2 115 (dk_at dksX10_init_2 0 rfl rfl)
theorem dX10_init_49 : decode cX10_init 49 = .ok (.newarray .int, 2) := dk_188_10 (dk_at dksX10_init_2 3 rfl rfl)
theorem dX10_init_51 : decode cX10_init 51 = .ok (.putfield 26, 3) := dk_181 0 26 (dk_at dksX10_init_2 5 rfl rfl)
theorem dX10_init_54 : decode cX10_init 54 = .ok (.aload_n 0, 1) := dk_42 (dk_at dksX10_init_2 8 rfl rfl)
theorem dX10_init_55 : decode cX10_init 55 = .ok (.sipush 627, 3) := dk_17 2 115 (dk_at dksX10_init_2 9 rfl rfl)
theorem dX10_init_58 : decode cX10_init 58 = .ok (.newarray .int, 2) := dk_188_10 (dk_at dksX10_init_2 12 rfl rfl)
theorem dX10_init_60 : decode cX10_init 60 = .ok (.putfield 29, 3) := dk_181 0 29 (dk_at dksX10_init_2 14 rfl rfl)
theorem dX10_init_63 : decode cX10_init 63 = .ok (.aload_n 0, 1) := dk_42 (dk_at dksX10_init_2 17 rfl rfl)
theorem dX10_init_64 : decode cX10_init 64 = .ok (.sipush 5016, 3) := dk_17 19 152 (dk_at dksX10_init_2 18 rfl rfl)
theorem dX10_init_67 : decode cX10_init 67 = .ok (.newarray .int, 2) := dk_188_10 (dk_at dksX10_init_2 21 rfl rfl)
theorem dX10_init_69 : decode cX10_init 69 = .ok (.putfield 32, 3) := dk_181 0 32 (dk_at dksX10_init_3 0 rfl rfl)
theorem dX10_init_72 : decode cX10_init 72 = .ok (.aload_n 0, 1) := dk_42 (dk_at dksX10_init_3 3 rfl rfl)
theorem dX10_init_73 : decode cX10_init 73 = .ok (.sipush 1254, 3) := dk_17 4 230 (dk_at dksX10_init_3 4 rfl rfl)
theorem dX10_init_76 : decode cX10_init 76 = .ok (.newarray .int, 2) := dk_188_10 (dk_at dksX10_init_3 7 rfl rfl)
theorem dX10_init_78 : decode cX10_init 78 = .ok (.putfield 35, 3) := dk_181 0 35 (dk_at dksX10_init_3 9 rfl rfl)
theorem dX10_init_81 : decode cX10_init 81 = .ok (.aload_n 0, 1) := dk_42 (dk_at dksX10_init_3 12 rfl rfl)
theorem dX10_init_82 : decode cX10_init 82 = .ok (.iconst 2, 1) := dk_5 (dk_at dksX10_init_3 13 rfl rfl)
theorem dX10_init_83 : decode cX10_init 83 = .ok (.newarray .boolean, 2) := dk_188_4 (dk_at dksX10_init_3 14 rfl rfl)
theorem dX10_init_85 : decode cX10_init 85 = .ok (.putfield 38, 3) := dk_181 0 38 (dk_at dksX10_init_3 16 rfl rfl)
theorem dX10_init_88 : decode cX10_init 88 = .ok (.aload_n 0, 1) := dk_42 (dk_at dksX10_init_3 19 rfl rfl)
theorem dX10_init_89 : decode cX10_init 89 = .ok (.bipush 80, 2) := dk_16 80 (dk_at dksX10_init_3 20 rfl rfl)
theorem dX10_init_91 : decode cX10_init 91 = .ok (.newarray .int, 2) := dk_188_10 (dk_at dksX10_init_3 22 rfl rfl)
theorem dX10_init_93 : decode cX10_init 93 = .ok (.putfield 42, 3) := dk_181 0 42 (dk_at dksX10_init_4 0 rfl rfl)
theorem dX10_init_96 : decode cX10_init 96 = .ok (.return_, 1) := dk_177 (dk_at dksX10_init_4 3 rfl rfl)
abbrev cX10_thrown : ByteArray := prog_22_method_2_code
def yX10_thrown : MethodName := ⟨RX10, "thrown", "()I"⟩
theorem dX10_thrown_0 : decode cX10_thrown 0 = .ok (.aload_n 0, 1) := by decide +kernel
theorem dX10_thrown_1 : decode cX10_thrown 1 = .ok (.getfield 45, 3) := by decide +kernel
theorem dX10_thrown_4 : decode cX10_thrown 4 = .ok (.ireturn, 1) := by decide +kernel
abbrev cX10_append : ByteArray := prog_22_method_6_code
def yX10_append : MethodName := ⟨RX10, "append", "(IIIII)I"⟩
def dkwX10_append_2 : List UInt8 := [182, 0, 51, 42, 180, 0, 48, 172]
abbrev dktX10_append_2 : List UInt8 := dkwX10_append_2 ++ []
def dkwX10_append_1 : List UInt8 := [182, 0, 51, 42, 28, 182, 0, 51, 42, 29, 182, 0, 51, 42, 21, 4, 182, 0, 51, 42, 21, 5]
abbrev dktX10_append_1 : List UInt8 := dkwX10_append_1 ++ dktX10_append_2
def dkwX10_append_0 : List UInt8 := [42, 3, 181, 0, 45, 42, 180, 0, 48, 16, 20, 96, 17, 3, 232, 164, 0, 5, 2, 172, 42, 27]
abbrev dktX10_append_0 : List UInt8 := dkwX10_append_0 ++ dktX10_append_1
theorem dksX10_append_0 : cX10_append.data.toList.drop 0 = dktX10_append_0 := by decide +kernel
theorem dksX10_append_1 : cX10_append.data.toList.drop 22 = dktX10_append_1 := dk_seg dksX10_append_0 22 rfl rfl
theorem dksX10_append_2 : cX10_append.data.toList.drop 44 = dktX10_append_2 := dk_seg dksX10_append_1 22 rfl rfl
theorem dX10_append_0 : decode cX10_append 0 = .ok (.aload_n 0, 1) := dk_42 (dk_at dksX10_append_0 0 rfl rfl)
theorem dX10_append_1 : decode cX10_append 1 = .ok (.iconst 0, 1) := dk_3 (dk_at dksX10_append_0 1 rfl rfl)
theorem dX10_append_2 : decode cX10_append 2 = .ok (.putfield 45, 3) := dk_181 0 45 (dk_at dksX10_append_0 2 rfl rfl)
theorem dX10_append_5 : decode cX10_append 5 = .ok (.aload_n 0, 1) := dk_42 (dk_at dksX10_append_0 5 rfl rfl)
theorem dX10_append_6 : decode cX10_append 6 = .ok (.getfield 48, 3) := dk_180 0 48 (dk_at dksX10_append_0 6 rfl rfl)
theorem dX10_append_9 : decode cX10_append 9 = .ok (.bipush 20, 2) := dk_16 20 (dk_at dksX10_append_0 9 rfl rfl)
theorem dX10_append_11 : decode cX10_append 11 = .ok (.iadd, 1) := dk_96 (dk_at dksX10_append_0 11 rfl rfl)
theorem dX10_append_12 : decode cX10_append 12 = .ok (.sipush 1000, 3) := dk_17 3 232 (dk_at dksX10_append_0 12 rfl rfl)
theorem dX10_append_15 : decode cX10_append 15 = .ok (.if_icmp .le 5, 3) := dk_164 0 5 (dk_at dksX10_append_0 15 rfl rfl)
theorem dX10_append_18 : decode cX10_append 18 = .ok (.iconst (-1), 1) := dk_2 (dk_at dksX10_append_0 18 rfl rfl)
theorem dX10_append_19 : decode cX10_append 19 = .ok (.ireturn, 1) := dk_172 (dk_at dksX10_append_0 19 rfl rfl)
theorem dX10_append_20 : decode cX10_append 20 = .ok (.aload_n 0, 1) := dk_42 (dk_at dksX10_append_0 20 rfl rfl)
theorem dX10_append_21 : decode cX10_append 21 = .ok (.iload_n 1, 1) := dk_27 (dk_at dksX10_append_0 21 rfl rfl)
theorem dX10_append_22 : decode cX10_append 22 = .ok (.invokevirtual 51, 3) := dk_182 0 51 (dk_at dksX10_append_1 0 rfl rfl)
theorem dX10_append_25 : decode cX10_append 25 = .ok (.aload_n 0, 1) := dk_42 (dk_at dksX10_append_1 3 rfl rfl)
theorem dX10_append_26 : decode cX10_append 26 = .ok (.iload_n 2, 1) := dk_28 (dk_at dksX10_append_1 4 rfl rfl)
theorem dX10_append_27 : decode cX10_append 27 = .ok (.invokevirtual 51, 3) := dk_182 0 51 (dk_at dksX10_append_1 5 rfl rfl)
theorem dX10_append_30 : decode cX10_append 30 = .ok (.aload_n 0, 1) := dk_42 (dk_at dksX10_append_1 8 rfl rfl)
theorem dX10_append_31 : decode cX10_append 31 = .ok (.iload_n 3, 1) := dk_29 (dk_at dksX10_append_1 9 rfl rfl)
theorem dX10_append_32 : decode cX10_append 32 = .ok (.invokevirtual 51, 3) := dk_182 0 51 (dk_at dksX10_append_1 10 rfl rfl)
theorem dX10_append_35 : decode cX10_append 35 = .ok (.aload_n 0, 1) := dk_42 (dk_at dksX10_append_1 13 rfl rfl)
theorem dX10_append_36 : decode cX10_append 36 = .ok (.iload 4, 2) := dk_21 4 (dk_at dksX10_append_1 14 rfl rfl)
theorem dX10_append_38 : decode cX10_append 38 = .ok (.invokevirtual 51, 3) := dk_182 0 51 (dk_at dksX10_append_1 16 rfl rfl)
theorem dX10_append_41 : decode cX10_append 41 = .ok (.aload_n 0, 1) := dk_42 (dk_at dksX10_append_1 19 rfl rfl)
theorem dX10_append_42 : decode cX10_append 42 = .ok (.iload 5, 2) := dk_21 5 (dk_at dksX10_append_1 20 rfl rfl)
theorem dX10_append_44 : decode cX10_append 44 = .ok (.invokevirtual 51, 3) := dk_182 0 51 (dk_at dksX10_append_2 0 rfl rfl)
theorem dX10_append_47 : decode cX10_append 47 = .ok (.aload_n 0, 1) := dk_42 (dk_at dksX10_append_2 3 rfl rfl)
theorem dX10_append_48 : decode cX10_append 48 = .ok (.getfield 48, 3) := dk_180 0 48 (dk_at dksX10_append_2 4 rfl rfl)
theorem dX10_append_51 : decode cX10_append 51 = .ok (.ireturn, 1) := dk_172 (dk_at dksX10_append_2 7 rfl rfl)
abbrev cX10_four : ByteArray := prog_22_method_5_code
def yX10_four : MethodName := ⟨RX10, "four", "(I)V"⟩
def dkwX10_four_1 : List UInt8 := [89, 180, 0, 48, 4, 96, 181, 0, 48, 132, 2, 248, 167, 255, 223, 177]
abbrev dktX10_four_1 : List UInt8 := dkwX10_four_1 ++ []
def dkwX10_four_0 : List UInt8 := [16, 24, 61, 28, 155, 0, 35, 42, 180, 0, 9, 42, 180, 0, 48, 27, 28, 122, 17, 0, 255, 126, 79, 42]
abbrev dktX10_four_0 : List UInt8 := dkwX10_four_0 ++ dktX10_four_1
theorem dksX10_four_0 : cX10_four.data.toList.drop 0 = dktX10_four_0 := by decide +kernel
theorem dksX10_four_1 : cX10_four.data.toList.drop 24 = dktX10_four_1 := dk_seg dksX10_four_0 24 rfl rfl
theorem dX10_four_0 : decode cX10_four 0 = .ok (.bipush 24, 2) := dk_16 24 (dk_at dksX10_four_0 0 rfl rfl)
theorem dX10_four_2 : decode cX10_four 2 = .ok (.istore_n 2, 1) := dk_61 (dk_at dksX10_four_0 2 rfl rfl)
theorem dX10_four_3 : decode cX10_four 3 = .ok (.iload_n 2, 1) := dk_28 (dk_at dksX10_four_0 3 rfl rfl)
theorem dX10_four_4 : decode cX10_four 4 = .ok (.ifCond .lt 35, 3) := dk_155 0 35 (dk_at dksX10_four_0 4 rfl rfl)
theorem dX10_four_7 : decode cX10_four 7 = .ok (.aload_n 0, 1) := dk_42 (dk_at dksX10_four_0 7 rfl rfl)
theorem dX10_four_8 : decode cX10_four 8 = .ok (.getfield 9, 3) := dk_180 0 9 (dk_at dksX10_four_0 8 rfl rfl)
theorem dX10_four_11 : decode cX10_four 11 = .ok (.aload_n 0, 1) := dk_42 (dk_at dksX10_four_0 11 rfl rfl)
theorem dX10_four_12 : decode cX10_four 12 = .ok (.getfield 48, 3) := dk_180 0 48 (dk_at dksX10_four_0 12 rfl rfl)
theorem dX10_four_15 : decode cX10_four 15 = .ok (.iload_n 1, 1) := dk_27 (dk_at dksX10_four_0 15 rfl rfl)
theorem dX10_four_16 : decode cX10_four 16 = .ok (.iload_n 2, 1) := dk_28 (dk_at dksX10_four_0 16 rfl rfl)
theorem dX10_four_17 : decode cX10_four 17 = .ok (.ishr, 1) := dk_122 (dk_at dksX10_four_0 17 rfl rfl)
theorem dX10_four_18 : decode cX10_four 18 = .ok (.sipush 255, 3) := dk_17 0 255 (dk_at dksX10_four_0 18 rfl rfl)
theorem dX10_four_21 : decode cX10_four 21 = .ok (.iand, 1) := dk_126 (dk_at dksX10_four_0 21 rfl rfl)
theorem dX10_four_22 : decode cX10_four 22 = .ok (.iastore, 1) := dk_79 (dk_at dksX10_four_0 22 rfl rfl)
theorem dX10_four_23 : decode cX10_four 23 = .ok (.aload_n 0, 1) := dk_42 (dk_at dksX10_four_0 23 rfl rfl)
theorem dX10_four_24 : decode cX10_four 24 = .ok (.dup, 1) := dk_89 (dk_at dksX10_four_1 0 rfl rfl)
theorem dX10_four_25 : decode cX10_four 25 = .ok (.getfield 48, 3) := dk_180 0 48 (dk_at dksX10_four_1 1 rfl rfl)
theorem dX10_four_28 : decode cX10_four 28 = .ok (.iconst 1, 1) := dk_4 (dk_at dksX10_four_1 4 rfl rfl)
theorem dX10_four_29 : decode cX10_four 29 = .ok (.iadd, 1) := dk_96 (dk_at dksX10_four_1 5 rfl rfl)
theorem dX10_four_30 : decode cX10_four 30 = .ok (.putfield 48, 3) := dk_181 0 48 (dk_at dksX10_four_1 6 rfl rfl)
theorem dX10_four_33 : decode cX10_four 33 = .ok (.iinc 2 (-8), 3) := dk_132 2 248 (dk_at dksX10_four_1 9 rfl rfl)
theorem dX10_four_36 : decode cX10_four 36 = .ok (.goto (-33), 3) := dk_167 255 223 (dk_at dksX10_four_1 12 rfl rfl)
theorem dX10_four_39 : decode cX10_four 39 = .ok (.return_, 1) := dk_177 (dk_at dksX10_four_1 15 rfl rfl)
abbrev cX10_buffered : ByteArray := prog_22_method_7_code
def yX10_buffered : MethodName := ⟨RX10, "buffered", "()I"⟩
def dkwX10_buffered_0 : List UInt8 := [42, 3, 181, 0, 45, 42, 180, 0, 48, 172]
abbrev dktX10_buffered_0 : List UInt8 := dkwX10_buffered_0 ++ []
theorem dksX10_buffered_0 : cX10_buffered.data.toList.drop 0 = dktX10_buffered_0 := by decide +kernel
theorem dX10_buffered_0 : decode cX10_buffered 0 = .ok (.aload_n 0, 1) := dk_42 (dk_at dksX10_buffered_0 0 rfl rfl)
theorem dX10_buffered_1 : decode cX10_buffered 1 = .ok (.iconst 0, 1) := dk_3 (dk_at dksX10_buffered_0 1 rfl rfl)
theorem dX10_buffered_2 : decode cX10_buffered 2 = .ok (.putfield 45, 3) := dk_181 0 45 (dk_at dksX10_buffered_0 2 rfl rfl)
theorem dX10_buffered_5 : decode cX10_buffered 5 = .ok (.aload_n 0, 1) := dk_42 (dk_at dksX10_buffered_0 5 rfl rfl)
theorem dX10_buffered_6 : decode cX10_buffered 6 = .ok (.getfield 48, 3) := dk_180 0 48 (dk_at dksX10_buffered_0 6 rfl rfl)
theorem dX10_buffered_9 : decode cX10_buffered 9 = .ok (.ireturn, 1) := dk_172 (dk_at dksX10_buffered_0 9 rfl rfl)
abbrev cX10_parseError : ByteArray := prog_22_method_8_code
def yX10_parseError : MethodName := ⟨RX10, "parseError", "()I"⟩
def dkwX10_parseError_0 : List UInt8 := [42, 3, 181, 0, 45, 42, 180, 0, 55, 172]
abbrev dktX10_parseError_0 : List UInt8 := dkwX10_parseError_0 ++ []
theorem dksX10_parseError_0 : cX10_parseError.data.toList.drop 0 = dktX10_parseError_0 := by decide +kernel
theorem dX10_parseError_0 : decode cX10_parseError 0 = .ok (.aload_n 0, 1) := dk_42 (dk_at dksX10_parseError_0 0 rfl rfl)
theorem dX10_parseError_1 : decode cX10_parseError 1 = .ok (.iconst 0, 1) := dk_3 (dk_at dksX10_parseError_0 1 rfl rfl)
theorem dX10_parseError_2 : decode cX10_parseError 2 = .ok (.putfield 45, 3) := dk_181 0 45 (dk_at dksX10_parseError_0 2 rfl rfl)
theorem dX10_parseError_5 : decode cX10_parseError 5 = .ok (.aload_n 0, 1) := dk_42 (dk_at dksX10_parseError_0 5 rfl rfl)
theorem dX10_parseError_6 : decode cX10_parseError 6 = .ok (.getfield 55, 3) := dk_180 0 55 (dk_at dksX10_parseError_0 6 rfl rfl)
theorem dX10_parseError_9 : decode cX10_parseError 9 = .ok (.ireturn, 1) := dk_172 (dk_at dksX10_parseError_0 9 rfl rfl)
abbrev cX10_errorPosition : ByteArray := prog_22_method_9_code
def yX10_errorPosition : MethodName := ⟨RX10, "errorPosition", "()I"⟩
def dkwX10_errorPosition_0 : List UInt8 := [42, 3, 181, 0, 45, 42, 180, 0, 13, 172]
abbrev dktX10_errorPosition_0 : List UInt8 := dkwX10_errorPosition_0 ++ []
theorem dksX10_errorPosition_0 : cX10_errorPosition.data.toList.drop 0 = dktX10_errorPosition_0 := by decide +kernel
theorem dX10_errorPosition_0 : decode cX10_errorPosition 0 = .ok (.aload_n 0, 1) := dk_42 (dk_at dksX10_errorPosition_0 0 rfl rfl)
theorem dX10_errorPosition_1 : decode cX10_errorPosition 1 = .ok (.iconst 0, 1) := dk_3 (dk_at dksX10_errorPosition_0 1 rfl rfl)
theorem dX10_errorPosition_2 : decode cX10_errorPosition 2 = .ok (.putfield 45, 3) := dk_181 0 45 (dk_at dksX10_errorPosition_0 2 rfl rfl)
theorem dX10_errorPosition_5 : decode cX10_errorPosition 5 = .ok (.aload_n 0, 1) := dk_42 (dk_at dksX10_errorPosition_0 5 rfl rfl)
theorem dX10_errorPosition_6 : decode cX10_errorPosition 6 = .ok (.getfield 13, 3) := dk_180 0 13 (dk_at dksX10_errorPosition_0 6 rfl rfl)
theorem dX10_errorPosition_9 : decode cX10_errorPosition 9 = .ok (.ireturn, 1) := dk_172 (dk_at dksX10_errorPosition_0 9 rfl rfl)
abbrev cX10_load : ByteArray := prog_22_method_31_code
def yX10_load : MethodName := ⟨RX10, "load", "(I)I"⟩
def dkwX10_load_5 : List UInt8 := [42, 180, 0, 38, 4, 3, 84, 42, 3, 181, 0, 197, 42, 180, 0, 17, 16, 65, 46, 172]
abbrev dktX10_load_5 : List UInt8 := dkwX10_load_5 ++ []
def dkwX10_load_4 : List UInt8 := [180, 0, 26, 3, 42, 180, 0, 23, 3, 184, 0, 189, 42, 4, 181, 0, 193, 42, 180, 0, 38, 3, 3, 84]
abbrev dktX10_load_4 : List UInt8 := dkwX10_load_4 ++ dktX10_load_5
def dkwX10_load_3 : List UInt8 := [162, 0, 21, 42, 180, 0, 17, 28, 42, 180, 0, 20, 28, 46, 79, 132, 2, 1, 167, 255, 234, 42]
abbrev dktX10_load_3 : List UInt8 := dkwX10_load_3 ++ dktX10_load_4
def dkwX10_load_2 : List UInt8 := [42, 182, 0, 186, 42, 180, 0, 55, 158, 0, 9, 42, 5, 182, 0, 183, 172, 3, 61, 28, 17, 0, 235]
abbrev dktX10_load_2 : List UInt8 := dkwX10_load_2 ++ dktX10_load_3
def dkwX10_load_1 : List UInt8 := [27, 181, 0, 58, 42, 3, 181, 0, 48, 42, 3, 181, 0, 64, 42, 3, 181, 0, 55, 42, 2, 181, 0, 13]
abbrev dktX10_load_1 : List UInt8 := dkwX10_load_1 ++ dktX10_load_2
def dkwX10_load_0 : List UInt8 := [42, 3, 181, 0, 45, 27, 3, 42, 180, 0, 48, 184, 0, 74, 154, 0, 9, 42, 4, 182, 0, 183, 172, 42]
abbrev dktX10_load_0 : List UInt8 := dkwX10_load_0 ++ dktX10_load_1
theorem dksX10_load_0 : cX10_load.data.toList.drop 0 = dktX10_load_0 := by decide +kernel
theorem dksX10_load_1 : cX10_load.data.toList.drop 24 = dktX10_load_1 := dk_seg dksX10_load_0 24 rfl rfl
theorem dksX10_load_2 : cX10_load.data.toList.drop 48 = dktX10_load_2 := dk_seg dksX10_load_1 24 rfl rfl
theorem dksX10_load_3 : cX10_load.data.toList.drop 71 = dktX10_load_3 := dk_seg dksX10_load_2 23 rfl rfl
theorem dksX10_load_4 : cX10_load.data.toList.drop 93 = dktX10_load_4 := dk_seg dksX10_load_3 22 rfl rfl
theorem dksX10_load_5 : cX10_load.data.toList.drop 117 = dktX10_load_5 := dk_seg dksX10_load_4 24 rfl rfl
theorem dX10_load_0 : decode cX10_load 0 = .ok (.aload_n 0, 1) := dk_42 (dk_at dksX10_load_0 0 rfl rfl)
theorem dX10_load_1 : decode cX10_load 1 = .ok (.iconst 0, 1) := dk_3 (dk_at dksX10_load_0 1 rfl rfl)
theorem dX10_load_2 : decode cX10_load 2 = .ok (.putfield 45, 3) := dk_181 0 45 (dk_at dksX10_load_0 2 rfl rfl)
theorem dX10_load_5 : decode cX10_load 5 = .ok (.iload_n 1, 1) := dk_27 (dk_at dksX10_load_0 5 rfl rfl)
theorem dX10_load_6 : decode cX10_load 6 = .ok (.iconst 0, 1) := dk_3 (dk_at dksX10_load_0 6 rfl rfl)
theorem dX10_load_7 : decode cX10_load 7 = .ok (.aload_n 0, 1) := dk_42 (dk_at dksX10_load_0 7 rfl rfl)
theorem dX10_load_8 : decode cX10_load 8 = .ok (.getfield 48, 3) := dk_180 0 48 (dk_at dksX10_load_0 8 rfl rfl)
theorem dX10_load_11 : decode cX10_load 11 = .ok (.invokestatic 74, 3) := dk_184 0 74 (dk_at dksX10_load_0 11 rfl rfl)
theorem dX10_load_14 : decode cX10_load 14 = .ok (.ifCond .ne 9, 3) := dk_154 0 9 (dk_at dksX10_load_0 14 rfl rfl)
theorem dX10_load_17 : decode cX10_load 17 = .ok (.aload_n 0, 1) := dk_42 (dk_at dksX10_load_0 17 rfl rfl)
theorem dX10_load_18 : decode cX10_load 18 = .ok (.iconst 1, 1) := dk_4 (dk_at dksX10_load_0 18 rfl rfl)
theorem dX10_load_19 : decode cX10_load 19 = .ok (.invokevirtual 183, 3) := dk_182 0 183 (dk_at dksX10_load_0 19 rfl rfl)
theorem dX10_load_22 : decode cX10_load 22 = .ok (.ireturn, 1) := dk_172 (dk_at dksX10_load_0 22 rfl rfl)
theorem dX10_load_23 : decode cX10_load 23 = .ok (.aload_n 0, 1) := dk_42 (dk_at dksX10_load_0 23 rfl rfl)
theorem dX10_load_24 : decode cX10_load 24 = .ok (.iload_n 1, 1) := dk_27 (dk_at dksX10_load_1 0 rfl rfl)
theorem dX10_load_25 : decode cX10_load 25 = .ok (.putfield 58, 3) := dk_181 0 58 (dk_at dksX10_load_1 1 rfl rfl)
theorem dX10_load_28 : decode cX10_load 28 = .ok (.aload_n 0, 1) := dk_42 (dk_at dksX10_load_1 4 rfl rfl)
theorem dX10_load_29 : decode cX10_load 29 = .ok (.iconst 0, 1) := dk_3 (dk_at dksX10_load_1 5 rfl rfl)
theorem dX10_load_30 : decode cX10_load 30 = .ok (.putfield 48, 3) := dk_181 0 48 (dk_at dksX10_load_1 6 rfl rfl)
theorem dX10_load_33 : decode cX10_load 33 = .ok (.aload_n 0, 1) := dk_42 (dk_at dksX10_load_1 9 rfl rfl)
theorem dX10_load_34 : decode cX10_load 34 = .ok (.iconst 0, 1) := dk_3 (dk_at dksX10_load_1 10 rfl rfl)
theorem dX10_load_35 : decode cX10_load 35 = .ok (.putfield 64, 3) := dk_181 0 64 (dk_at dksX10_load_1 11 rfl rfl)
theorem dX10_load_38 : decode cX10_load 38 = .ok (.aload_n 0, 1) := dk_42 (dk_at dksX10_load_1 14 rfl rfl)
theorem dX10_load_39 : decode cX10_load 39 = .ok (.iconst 0, 1) := dk_3 (dk_at dksX10_load_1 15 rfl rfl)
theorem dX10_load_40 : decode cX10_load 40 = .ok (.putfield 55, 3) := dk_181 0 55 (dk_at dksX10_load_1 16 rfl rfl)
theorem dX10_load_43 : decode cX10_load 43 = .ok (.aload_n 0, 1) := dk_42 (dk_at dksX10_load_1 19 rfl rfl)
theorem dX10_load_44 : decode cX10_load 44 = .ok (.iconst (-1), 1) := dk_2 (dk_at dksX10_load_1 20 rfl rfl)
theorem dX10_load_45 : decode cX10_load 45 = .ok (.putfield 13, 3) := dk_181 0 13 (dk_at dksX10_load_1 21 rfl rfl)
theorem dX10_load_48 : decode cX10_load 48 = .ok (.aload_n 0, 1) := dk_42 (dk_at dksX10_load_2 0 rfl rfl)
theorem dX10_load_49 : decode cX10_load 49 = .ok (.invokevirtual 186, 3) := dk_182 0 186 (dk_at dksX10_load_2 1 rfl rfl)
theorem dX10_load_52 : decode cX10_load 52 = .ok (.aload_n 0, 1) := dk_42 (dk_at dksX10_load_2 4 rfl rfl)
theorem dX10_load_53 : decode cX10_load 53 = .ok (.getfield 55, 3) := dk_180 0 55 (dk_at dksX10_load_2 5 rfl rfl)
theorem dX10_load_56 : decode cX10_load 56 = .ok (.ifCond .le 9, 3) := dk_158 0 9 (dk_at dksX10_load_2 8 rfl rfl)
theorem dX10_load_59 : decode cX10_load 59 = .ok (.aload_n 0, 1) := dk_42 (dk_at dksX10_load_2 11 rfl rfl)
theorem dX10_load_60 : decode cX10_load 60 = .ok (.iconst 2, 1) := dk_5 (dk_at dksX10_load_2 12 rfl rfl)
theorem dX10_load_61 : decode cX10_load 61 = .ok (.invokevirtual 183, 3) := dk_182 0 183 (dk_at dksX10_load_2 13 rfl rfl)
theorem dX10_load_64 : decode cX10_load 64 = .ok (.ireturn, 1) := dk_172 (dk_at dksX10_load_2 16 rfl rfl)
theorem dX10_load_65 : decode cX10_load 65 = .ok (.iconst 0, 1) := dk_3 (dk_at dksX10_load_2 17 rfl rfl)
theorem dX10_load_66 : decode cX10_load 66 = .ok (.istore_n 2, 1) := dk_61 (dk_at dksX10_load_2 18 rfl rfl)
theorem dX10_load_67 : decode cX10_load 67 = .ok (.iload_n 2, 1) := dk_28 (dk_at dksX10_load_2 19 rfl rfl)
theorem dX10_load_68 : decode cX10_load 68 = .ok (.sipush 235, 3) := dk_17 0 235 (dk_at dksX10_load_2 20 rfl rfl)
theorem dX10_load_71 : decode cX10_load 71 = .ok (.if_icmp .ge 21, 3) := dk_162 0 21 (dk_at dksX10_load_3 0 rfl rfl)
theorem dX10_load_74 : decode cX10_load 74 = .ok (.aload_n 0, 1) := dk_42 (dk_at dksX10_load_3 3 rfl rfl)
theorem dX10_load_75 : decode cX10_load 75 = .ok (.getfield 17, 3) := dk_180 0 17 (dk_at dksX10_load_3 4 rfl rfl)
theorem dX10_load_78 : decode cX10_load 78 = .ok (.iload_n 2, 1) := dk_28 (dk_at dksX10_load_3 7 rfl rfl)
theorem dX10_load_79 : decode cX10_load 79 = .ok (.aload_n 0, 1) := dk_42 (dk_at dksX10_load_3 8 rfl rfl)
theorem dX10_load_80 : decode cX10_load 80 = .ok (.getfield 20, 3) := dk_180 0 20 (dk_at dksX10_load_3 9 rfl rfl)
theorem dX10_load_83 : decode cX10_load 83 = .ok (.iload_n 2, 1) := dk_28 (dk_at dksX10_load_3 12 rfl rfl)
theorem dX10_load_84 : decode cX10_load 84 = .ok (.iaload, 1) := dk_46 (dk_at dksX10_load_3 13 rfl rfl)
theorem dX10_load_85 : decode cX10_load 85 = .ok (.iastore, 1) := dk_79 (dk_at dksX10_load_3 14 rfl rfl)
theorem dX10_load_86 : decode cX10_load 86 = .ok (.iinc 2 1, 3) := dk_132 2 1 (dk_at dksX10_load_3 15 rfl rfl)
theorem dX10_load_89 : decode cX10_load 89 = .ok (.goto (-22), 3) := dk_167 255 234 (dk_at dksX10_load_3 18 rfl rfl)
theorem dX10_load_92 : decode cX10_load 92 = .ok (.aload_n 0, 1) := dk_42 (dk_at dksX10_load_3 21 rfl rfl)
theorem dX10_load_93 : decode cX10_load 93 = .ok (.getfield 26, 3) := dk_180 0 26 (dk_at dksX10_load_4 0 rfl rfl)
theorem dX10_load_96 : decode cX10_load 96 = .ok (.iconst 0, 1) := dk_3 (dk_at dksX10_load_4 3 rfl rfl)
theorem dX10_load_97 : decode cX10_load 97 = .ok (.aload_n 0, 1) := dk_42 (dk_at dksX10_load_4 4 rfl rfl)
theorem dX10_load_98 : decode cX10_load 98 = .ok (.getfield 23, 3) := dk_180 0 23 (dk_at dksX10_load_4 5 rfl rfl)
theorem dX10_load_101 : decode cX10_load 101 = .ok (.iconst 0, 1) := dk_3 (dk_at dksX10_load_4 8 rfl rfl)
theorem dX10_load_102 : decode cX10_load 102 = .ok (.invokestatic 189, 3) := dk_184 0 189 (dk_at dksX10_load_4 9 rfl rfl)
theorem dX10_load_105 : decode cX10_load 105 = .ok (.aload_n 0, 1) := dk_42 (dk_at dksX10_load_4 12 rfl rfl)
theorem dX10_load_106 : decode cX10_load 106 = .ok (.iconst 1, 1) := dk_4 (dk_at dksX10_load_4 13 rfl rfl)
theorem dX10_load_107 : decode cX10_load 107 = .ok (.putfield 193, 3) := dk_181 0 193 (dk_at dksX10_load_4 14 rfl rfl)
theorem dX10_load_110 : decode cX10_load 110 = .ok (.aload_n 0, 1) := dk_42 (dk_at dksX10_load_4 17 rfl rfl)
theorem dX10_load_111 : decode cX10_load 111 = .ok (.getfield 38, 3) := dk_180 0 38 (dk_at dksX10_load_4 18 rfl rfl)
theorem dX10_load_114 : decode cX10_load 114 = .ok (.iconst 0, 1) := dk_3 (dk_at dksX10_load_4 21 rfl rfl)
theorem dX10_load_115 : decode cX10_load 115 = .ok (.iconst 0, 1) := dk_3 (dk_at dksX10_load_4 22 rfl rfl)
theorem dX10_load_116 : decode cX10_load 116 = .ok (.bastore, 1) := dk_84 (dk_at dksX10_load_4 23 rfl rfl)
theorem dX10_load_117 : decode cX10_load 117 = .ok (.aload_n 0, 1) := dk_42 (dk_at dksX10_load_5 0 rfl rfl)
theorem dX10_load_118 : decode cX10_load 118 = .ok (.getfield 38, 3) := dk_180 0 38 (dk_at dksX10_load_5 1 rfl rfl)
theorem dX10_load_121 : decode cX10_load 121 = .ok (.iconst 1, 1) := dk_4 (dk_at dksX10_load_5 4 rfl rfl)
theorem dX10_load_122 : decode cX10_load 122 = .ok (.iconst 0, 1) := dk_3 (dk_at dksX10_load_5 5 rfl rfl)
theorem dX10_load_123 : decode cX10_load 123 = .ok (.bastore, 1) := dk_84 (dk_at dksX10_load_5 6 rfl rfl)
theorem dX10_load_124 : decode cX10_load 124 = .ok (.aload_n 0, 1) := dk_42 (dk_at dksX10_load_5 7 rfl rfl)
theorem dX10_load_125 : decode cX10_load 125 = .ok (.iconst 0, 1) := dk_3 (dk_at dksX10_load_5 8 rfl rfl)
theorem dX10_load_126 : decode cX10_load 126 = .ok (.putfield 197, 3) := dk_181 0 197 (dk_at dksX10_load_5 9 rfl rfl)
theorem dX10_load_129 : decode cX10_load 129 = .ok (.aload_n 0, 1) := dk_42 (dk_at dksX10_load_5 12 rfl rfl)
theorem dX10_load_130 : decode cX10_load 130 = .ok (.getfield 17, 3) := dk_180 0 17 (dk_at dksX10_load_5 13 rfl rfl)
theorem dX10_load_133 : decode cX10_load 133 = .ok (.bipush 65, 2) := dk_16 65 (dk_at dksX10_load_5 16 rfl rfl)
theorem dX10_load_135 : decode cX10_load 135 = .ok (.iaload, 1) := dk_46 (dk_at dksX10_load_5 18 rfl rfl)
theorem dX10_load_136 : decode cX10_load 136 = .ok (.ireturn, 1) := dk_172 (dk_at dksX10_load_5 19 rfl rfl)
abbrev cX10_in : ByteArray := prog_22_method_3_code
def yX10_in : MethodName := ⟨RX10, "in", "(III)Z"⟩
def dkwX10_in_0 : List UInt8 := [26, 27, 161, 0, 12, 26, 28, 163, 0, 7, 4, 167, 0, 4, 3, 172]
abbrev dktX10_in_0 : List UInt8 := dkwX10_in_0 ++ []
theorem dksX10_in_0 : cX10_in.data.toList.drop 0 = dktX10_in_0 := by decide +kernel
theorem dX10_in_0 : decode cX10_in 0 = .ok (.iload_n 0, 1) := dk_26 (dk_at dksX10_in_0 0 rfl rfl)
theorem dX10_in_1 : decode cX10_in 1 = .ok (.iload_n 1, 1) := dk_27 (dk_at dksX10_in_0 1 rfl rfl)
theorem dX10_in_2 : decode cX10_in 2 = .ok (.if_icmp .lt 12, 3) := dk_161 0 12 (dk_at dksX10_in_0 2 rfl rfl)
theorem dX10_in_5 : decode cX10_in 5 = .ok (.iload_n 0, 1) := dk_26 (dk_at dksX10_in_0 5 rfl rfl)
theorem dX10_in_6 : decode cX10_in 6 = .ok (.iload_n 2, 1) := dk_28 (dk_at dksX10_in_0 6 rfl rfl)
theorem dX10_in_7 : decode cX10_in 7 = .ok (.if_icmp .gt 7, 3) := dk_163 0 7 (dk_at dksX10_in_0 7 rfl rfl)
theorem dX10_in_10 : decode cX10_in 10 = .ok (.iconst 1, 1) := dk_4 (dk_at dksX10_in_0 10 rfl rfl)
theorem dX10_in_11 : decode cX10_in 11 = .ok (.goto 4, 3) := dk_167 0 4 (dk_at dksX10_in_0 11 rfl rfl)
theorem dX10_in_14 : decode cX10_in 14 = .ok (.iconst 0, 1) := dk_3 (dk_at dksX10_in_0 14 rfl rfl)
theorem dX10_in_15 : decode cX10_in 15 = .ok (.ireturn, 1) := dk_172 (dk_at dksX10_in_0 15 rfl rfl)
abbrev cX10_throwsAt : ByteArray := prog_22_method_4_code
def yX10_throwsAt : MethodName := ⟨RX10, "throwsAt", "(I)I"⟩
def dkwX10_throwsAt_0 : List UInt8 := [42, 27, 181, 0, 45, 3, 172]
abbrev dktX10_throwsAt_0 : List UInt8 := dkwX10_throwsAt_0 ++ []
theorem dksX10_throwsAt_0 : cX10_throwsAt.data.toList.drop 0 = dktX10_throwsAt_0 := by decide +kernel
theorem dX10_throwsAt_0 : decode cX10_throwsAt 0 = .ok (.aload_n 0, 1) := dk_42 (dk_at dksX10_throwsAt_0 0 rfl rfl)
theorem dX10_throwsAt_1 : decode cX10_throwsAt 1 = .ok (.iload_n 1, 1) := dk_27 (dk_at dksX10_throwsAt_0 1 rfl rfl)
theorem dX10_throwsAt_2 : decode cX10_throwsAt 2 = .ok (.putfield 45, 3) := dk_181 0 45 (dk_at dksX10_throwsAt_0 2 rfl rfl)
theorem dX10_throwsAt_5 : decode cX10_throwsAt 5 = .ok (.iconst 0, 1) := dk_3 (dk_at dksX10_throwsAt_0 5 rfl rfl)
theorem dX10_throwsAt_6 : decode cX10_throwsAt 6 = .ok (.ireturn, 1) := dk_172 (dk_at dksX10_throwsAt_0 6 rfl rfl)
abbrev cX10_readText : ByteArray := prog_22_method_30_code
def yX10_readText : MethodName := ⟨RX10, "readText", "()V"⟩
def dkwX10_readText_4 : List UInt8 := [16, 10, 46, 154, 0, 8, 42, 8, 182, 0, 105, 177]
abbrev dktX10_readText_4 : List UInt8 := dkwX10_readText_4 ++ []
def dkwX10_readText_3 : List UInt8 := [42, 180, 0, 55, 154, 0, 16, 42, 180, 0, 71, 4, 159, 0, 8, 42, 4, 182, 0, 105, 42, 180, 0, 20]
abbrev dktX10_readText_3 : List UInt8 := dkwX10_readText_3 ++ dktX10_readText_4
def dkwX10_readText_2 : List UInt8 := [42, 182, 0, 177, 42, 16, 59, 182, 0, 148, 153, 0, 14, 42, 182, 0, 99, 42, 182, 0, 180, 167, 255, 239]
abbrev dktX10_readText_2 : List UInt8 := dkwX10_readText_2 ++ dktX10_readText_3
def dkwX10_readText_1 : List UInt8 := [27, 17, 2, 115, 162, 0, 16, 42, 180, 0, 26, 27, 3, 79, 132, 1, 1, 167, 255, 239, 42, 182, 0, 99]
abbrev dktX10_readText_1 : List UInt8 := dkwX10_readText_1 ++ dktX10_readText_2
def dkwX10_readText_0 : List UInt8 := [3, 60, 27, 17, 0, 235, 162, 0, 16, 42, 180, 0, 20, 27, 3, 79, 132, 1, 1, 167, 255, 239, 3, 60]
abbrev dktX10_readText_0 : List UInt8 := dkwX10_readText_0 ++ dktX10_readText_1
theorem dksX10_readText_0 : cX10_readText.data.toList.drop 0 = dktX10_readText_0 := by decide +kernel
theorem dksX10_readText_1 : cX10_readText.data.toList.drop 24 = dktX10_readText_1 := dk_seg dksX10_readText_0 24 rfl rfl
theorem dksX10_readText_2 : cX10_readText.data.toList.drop 48 = dktX10_readText_2 := dk_seg dksX10_readText_1 24 rfl rfl
theorem dksX10_readText_3 : cX10_readText.data.toList.drop 72 = dktX10_readText_3 := dk_seg dksX10_readText_2 24 rfl rfl
theorem dksX10_readText_4 : cX10_readText.data.toList.drop 96 = dktX10_readText_4 := dk_seg dksX10_readText_3 24 rfl rfl
theorem dX10_readText_0 : decode cX10_readText 0 = .ok (.iconst 0, 1) := dk_3 (dk_at dksX10_readText_0 0 rfl rfl)
theorem dX10_readText_1 : decode cX10_readText 1 = .ok (.istore_n 1, 1) := dk_60 (dk_at dksX10_readText_0 1 rfl rfl)
theorem dX10_readText_2 : decode cX10_readText 2 = .ok (.iload_n 1, 1) := dk_27 (dk_at dksX10_readText_0 2 rfl rfl)
theorem dX10_readText_3 : decode cX10_readText 3 = .ok (.sipush 235, 3) := dk_17 0 235 (dk_at dksX10_readText_0 3 rfl rfl)
theorem dX10_readText_6 : decode cX10_readText 6 = .ok (.if_icmp .ge 16, 3) := dk_162 0 16 (dk_at dksX10_readText_0 6 rfl rfl)
theorem dX10_readText_9 : decode cX10_readText 9 = .ok (.aload_n 0, 1) := dk_42 (dk_at dksX10_readText_0 9 rfl rfl)
theorem dX10_readText_10 : decode cX10_readText 10 = .ok (.getfield 20, 3) := dk_180 0 20 (dk_at dksX10_readText_0 10 rfl rfl)
theorem dX10_readText_13 : decode cX10_readText 13 = .ok (.iload_n 1, 1) := dk_27 (dk_at dksX10_readText_0 13 rfl rfl)
theorem dX10_readText_14 : decode cX10_readText 14 = .ok (.iconst 0, 1) := dk_3 (dk_at dksX10_readText_0 14 rfl rfl)
theorem dX10_readText_15 : decode cX10_readText 15 = .ok (.iastore, 1) := dk_79 (dk_at dksX10_readText_0 15 rfl rfl)
theorem dX10_readText_16 : decode cX10_readText 16 = .ok (.iinc 1 1, 3) := dk_132 1 1 (dk_at dksX10_readText_0 16 rfl rfl)
theorem dX10_readText_19 : decode cX10_readText 19 = .ok (.goto (-17), 3) := dk_167 255 239 (dk_at dksX10_readText_0 19 rfl rfl)
theorem dX10_readText_22 : decode cX10_readText 22 = .ok (.iconst 0, 1) := dk_3 (dk_at dksX10_readText_0 22 rfl rfl)
theorem dX10_readText_23 : decode cX10_readText 23 = .ok (.istore_n 1, 1) := dk_60 (dk_at dksX10_readText_0 23 rfl rfl)
theorem dX10_readText_24 : decode cX10_readText 24 = .ok (.iload_n 1, 1) := dk_27 (dk_at dksX10_readText_1 0 rfl rfl)
theorem dX10_readText_25 : decode cX10_readText 25 = .ok (.sipush 627, 3) := dk_17 2 115 (dk_at dksX10_readText_1 1 rfl rfl)
theorem dX10_readText_28 : decode cX10_readText 28 = .ok (.if_icmp .ge 16, 3) := dk_162 0 16 (dk_at dksX10_readText_1 4 rfl rfl)
theorem dX10_readText_31 : decode cX10_readText 31 = .ok (.aload_n 0, 1) := dk_42 (dk_at dksX10_readText_1 7 rfl rfl)
theorem dX10_readText_32 : decode cX10_readText 32 = .ok (.getfield 26, 3) := dk_180 0 26 (dk_at dksX10_readText_1 8 rfl rfl)
theorem dX10_readText_35 : decode cX10_readText 35 = .ok (.iload_n 1, 1) := dk_27 (dk_at dksX10_readText_1 11 rfl rfl)
theorem dX10_readText_36 : decode cX10_readText 36 = .ok (.iconst 0, 1) := dk_3 (dk_at dksX10_readText_1 12 rfl rfl)
theorem dX10_readText_37 : decode cX10_readText 37 = .ok (.iastore, 1) := dk_79 (dk_at dksX10_readText_1 13 rfl rfl)
theorem dX10_readText_38 : decode cX10_readText 38 = .ok (.iinc 1 1, 3) := dk_132 1 1 (dk_at dksX10_readText_1 14 rfl rfl)
theorem dX10_readText_41 : decode cX10_readText 41 = .ok (.goto (-17), 3) := dk_167 255 239 (dk_at dksX10_readText_1 17 rfl rfl)
theorem dX10_readText_44 : decode cX10_readText 44 = .ok (.aload_n 0, 1) := dk_42 (dk_at dksX10_readText_1 20 rfl rfl)
theorem dX10_readText_45 : decode cX10_readText 45 = .ok (.invokevirtual 99, 3) := dk_182 0 99 (dk_at dksX10_readText_1 21 rfl rfl)
theorem dX10_readText_48 : decode cX10_readText 48 = .ok (.aload_n 0, 1) := dk_42 (dk_at dksX10_readText_2 0 rfl rfl)
theorem dX10_readText_49 : decode cX10_readText 49 = .ok (.invokevirtual 177, 3) := dk_182 0 177 (dk_at dksX10_readText_2 1 rfl rfl)
theorem dX10_readText_52 : decode cX10_readText 52 = .ok (.aload_n 0, 1) := dk_42 (dk_at dksX10_readText_2 4 rfl rfl)
theorem dX10_readText_53 : decode cX10_readText 53 = .ok (.bipush 59, 2) := dk_16 59 (dk_at dksX10_readText_2 5 rfl rfl)
theorem dX10_readText_55 : decode cX10_readText 55 = .ok (.invokevirtual 148, 3) := dk_182 0 148 (dk_at dksX10_readText_2 7 rfl rfl)
theorem dX10_readText_58 : decode cX10_readText 58 = .ok (.ifCond .eq 14, 3) := dk_153 0 14 (dk_at dksX10_readText_2 10 rfl rfl)
theorem dX10_readText_61 : decode cX10_readText 61 = .ok (.aload_n 0, 1) := dk_42 (dk_at dksX10_readText_2 13 rfl rfl)
theorem dX10_readText_62 : decode cX10_readText 62 = .ok (.invokevirtual 99, 3) := dk_182 0 99 (dk_at dksX10_readText_2 14 rfl rfl)
theorem dX10_readText_65 : decode cX10_readText 65 = .ok (.aload_n 0, 1) := dk_42 (dk_at dksX10_readText_2 17 rfl rfl)
theorem dX10_readText_66 : decode cX10_readText 66 = .ok (.invokevirtual 180, 3) := dk_182 0 180 (dk_at dksX10_readText_2 18 rfl rfl)
theorem dX10_readText_69 : decode cX10_readText 69 = .ok (.goto (-17), 3) := dk_167 255 239 (dk_at dksX10_readText_2 21 rfl rfl)
theorem dX10_readText_72 : decode cX10_readText 72 = .ok (.aload_n 0, 1) := dk_42 (dk_at dksX10_readText_3 0 rfl rfl)
theorem dX10_readText_73 : decode cX10_readText 73 = .ok (.getfield 55, 3) := dk_180 0 55 (dk_at dksX10_readText_3 1 rfl rfl)
theorem dX10_readText_76 : decode cX10_readText 76 = .ok (.ifCond .ne 16, 3) := dk_154 0 16 (dk_at dksX10_readText_3 4 rfl rfl)
theorem dX10_readText_79 : decode cX10_readText 79 = .ok (.aload_n 0, 1) := dk_42 (dk_at dksX10_readText_3 7 rfl rfl)
theorem dX10_readText_80 : decode cX10_readText 80 = .ok (.getfield 71, 3) := dk_180 0 71 (dk_at dksX10_readText_3 8 rfl rfl)
theorem dX10_readText_83 : decode cX10_readText 83 = .ok (.iconst 1, 1) := dk_4 (dk_at dksX10_readText_3 11 rfl rfl)
theorem dX10_readText_84 : decode cX10_readText 84 = .ok (.if_icmp .eq 8, 3) := dk_159 0 8 (dk_at dksX10_readText_3 12 rfl rfl)
theorem dX10_readText_87 : decode cX10_readText 87 = .ok (.aload_n 0, 1) := dk_42 (dk_at dksX10_readText_3 15 rfl rfl)
theorem dX10_readText_88 : decode cX10_readText 88 = .ok (.iconst 1, 1) := dk_4 (dk_at dksX10_readText_3 16 rfl rfl)
theorem dX10_readText_89 : decode cX10_readText 89 = .ok (.invokevirtual 105, 3) := dk_182 0 105 (dk_at dksX10_readText_3 17 rfl rfl)
theorem dX10_readText_92 : decode cX10_readText 92 = .ok (.aload_n 0, 1) := dk_42 (dk_at dksX10_readText_3 20 rfl rfl)
theorem dX10_readText_93 : decode cX10_readText 93 = .ok (.getfield 20, 3) := dk_180 0 20 (dk_at dksX10_readText_3 21 rfl rfl)
theorem dX10_readText_96 : decode cX10_readText 96 = .ok (.bipush 10, 2) := dk_16 10 (dk_at dksX10_readText_4 0 rfl rfl)
theorem dX10_readText_98 : decode cX10_readText 98 = .ok (.iaload, 1) := dk_46 (dk_at dksX10_readText_4 2 rfl rfl)
theorem dX10_readText_99 : decode cX10_readText 99 = .ok (.ifCond .ne 8, 3) := dk_154 0 8 (dk_at dksX10_readText_4 3 rfl rfl)
theorem dX10_readText_102 : decode cX10_readText 102 = .ok (.aload_n 0, 1) := dk_42 (dk_at dksX10_readText_4 6 rfl rfl)
theorem dX10_readText_103 : decode cX10_readText 103 = .ok (.iconst 5, 1) := dk_8 (dk_at dksX10_readText_4 7 rfl rfl)
theorem dX10_readText_104 : decode cX10_readText 104 = .ok (.invokevirtual 105, 3) := dk_182 0 105 (dk_at dksX10_readText_4 8 rfl rfl)
theorem dX10_readText_107 : decode cX10_readText 107 = .ok (.return_, 1) := dk_177 (dk_at dksX10_readText_4 11 rfl rfl)
abbrev cX10_nextToken : ByteArray := prog_22_method_13_code
def yX10_nextToken : MethodName := ⟨RX10, "nextToken", "()V"⟩
def dkwX10_nextToken_12 : List UInt8 := [3, 181, 0, 71, 42, 89, 180, 0, 64, 4, 96, 181, 0, 64, 177]
abbrev dktX10_nextToken_12 : List UInt8 := dkwX10_nextToken_12 ++ []
def dkwX10_nextToken_11 : List UInt8 := [180, 0, 64, 182, 0, 67, 181, 0, 78, 42, 42, 180, 0, 78, 184, 0, 81, 153, 0, 7, 7, 167, 0, 4]
abbrev dktX10_nextToken_11 : List UInt8 := dkwX10_nextToken_11 ++ dktX10_nextToken_12
def dkwX10_nextToken_10 : List UInt8 := [180, 0, 61, 100, 7, 164, 0, 7, 3, 167, 0, 4, 6, 181, 0, 71, 167, 0, 44, 42, 42, 42]
abbrev dktX10_nextToken_10 : List UInt8 := dkwX10_nextToken_10 ++ dktX10_nextToken_11
def dkwX10_nextToken_9 : List UInt8 := [100, 181, 0, 78, 42, 89, 180, 0, 64, 4, 96, 181, 0, 64, 167, 255, 192, 42, 42, 180, 0, 64, 42]
abbrev dktX10_nextToken_9 : List UInt8 := dkwX10_nextToken_9 ++ dktX10_nextToken_10
def dkwX10_nextToken_8 : List UInt8 := [100, 7, 162, 0, 26, 42, 16, 10, 42, 180, 0, 78, 104, 42, 42, 180, 0, 64, 182, 0, 67, 96, 16, 48]
abbrev dktX10_nextToken_8 : List UInt8 := dkwX10_nextToken_8 ++ dktX10_nextToken_9
def dkwX10_nextToken_7 : List UInt8 := [180, 0, 64, 182, 0, 67, 16, 48, 16, 57, 184, 0, 74, 153, 0, 52, 42, 180, 0, 64, 42, 180, 0, 61]
abbrev dktX10_nextToken_7 : List UInt8 := dkwX10_nextToken_7 ++ dktX10_nextToken_8
def dkwX10_nextToken_6 : List UInt8 := [180, 0, 64, 182, 0, 67, 16, 48, 16, 57, 184, 0, 74, 153, 0, 100, 42, 3, 181, 0, 78, 42, 42]
abbrev dktX10_nextToken_6 : List UInt8 := dkwX10_nextToken_6 ++ dktX10_nextToken_7
def dkwX10_nextToken_5 : List UInt8 := [180, 0, 61, 100, 16, 8, 164, 0, 7, 3, 167, 0, 4, 5, 181, 0, 71, 167, 0, 159, 42, 42]
abbrev dktX10_nextToken_5 : List UInt8 := dkwX10_nextToken_5 ++ dktX10_nextToken_6
def dkwX10_nextToken_4 : List UInt8 := [153, 0, 16, 42, 89, 180, 0, 64, 4, 96, 181, 0, 64, 167, 255, 228, 42, 42, 180, 0, 64, 42]
abbrev dktX10_nextToken_4 : List UInt8 := dkwX10_nextToken_4 ++ dktX10_nextToken_5
def dkwX10_nextToken_3 : List UInt8 := [16, 122, 184, 0, 74, 153, 0, 60, 42, 42, 180, 0, 64, 182, 0, 67, 16, 97, 16, 122, 184, 0, 74]
abbrev dktX10_nextToken_3 : List UInt8 := dkwX10_nextToken_3 ++ dktX10_nextToken_4
def dkwX10_nextToken_2 : List UInt8 := [180, 0, 58, 160, 0, 11, 42, 4, 181, 0, 71, 167, 0, 234, 42, 42, 180, 0, 64, 182, 0, 67, 16, 97]
abbrev dktX10_nextToken_2 : List UInt8 := dkwX10_nextToken_2 ++ dktX10_nextToken_3
def dkwX10_nextToken_1 : List UInt8 := [180, 0, 64, 4, 96, 181, 0, 64, 167, 255, 233, 42, 42, 180, 0, 64, 181, 0, 61, 42, 180, 0, 64, 42]
abbrev dktX10_nextToken_1 : List UInt8 := dkwX10_nextToken_1 ++ dktX10_nextToken_2
def dkwX10_nextToken_0 : List UInt8 := [42, 180, 0, 55, 158, 0, 4, 177, 42, 42, 180, 0, 64, 182, 0, 67, 16, 32, 160, 0, 16, 42, 89]
abbrev dktX10_nextToken_0 : List UInt8 := dkwX10_nextToken_0 ++ dktX10_nextToken_1
theorem dksX10_nextToken_0 : cX10_nextToken.data.toList.drop 0 = dktX10_nextToken_0 := by decide +kernel
theorem dksX10_nextToken_1 : cX10_nextToken.data.toList.drop 23 = dktX10_nextToken_1 := dk_seg dksX10_nextToken_0 23 rfl rfl
theorem dksX10_nextToken_2 : cX10_nextToken.data.toList.drop 47 = dktX10_nextToken_2 := dk_seg dksX10_nextToken_1 24 rfl rfl
theorem dksX10_nextToken_3 : cX10_nextToken.data.toList.drop 71 = dktX10_nextToken_3 := dk_seg dksX10_nextToken_2 24 rfl rfl
theorem dksX10_nextToken_4 : cX10_nextToken.data.toList.drop 94 = dktX10_nextToken_4 := dk_seg dksX10_nextToken_3 23 rfl rfl
theorem dksX10_nextToken_5 : cX10_nextToken.data.toList.drop 116 = dktX10_nextToken_5 := dk_seg dksX10_nextToken_4 22 rfl rfl
theorem dksX10_nextToken_6 : cX10_nextToken.data.toList.drop 138 = dktX10_nextToken_6 := dk_seg dksX10_nextToken_5 22 rfl rfl
theorem dksX10_nextToken_7 : cX10_nextToken.data.toList.drop 161 = dktX10_nextToken_7 := dk_seg dksX10_nextToken_6 23 rfl rfl
theorem dksX10_nextToken_8 : cX10_nextToken.data.toList.drop 185 = dktX10_nextToken_8 := dk_seg dksX10_nextToken_7 24 rfl rfl
theorem dksX10_nextToken_9 : cX10_nextToken.data.toList.drop 209 = dktX10_nextToken_9 := dk_seg dksX10_nextToken_8 24 rfl rfl
theorem dksX10_nextToken_10 : cX10_nextToken.data.toList.drop 232 = dktX10_nextToken_10 := dk_seg dksX10_nextToken_9 23 rfl rfl
theorem dksX10_nextToken_11 : cX10_nextToken.data.toList.drop 254 = dktX10_nextToken_11 := dk_seg dksX10_nextToken_10 22 rfl rfl
theorem dksX10_nextToken_12 : cX10_nextToken.data.toList.drop 278 = dktX10_nextToken_12 := dk_seg dksX10_nextToken_11 24 rfl rfl
theorem dX10_nextToken_0 : decode cX10_nextToken 0 = .ok (.aload_n 0, 1) := dk_42 (dk_at dksX10_nextToken_0 0 rfl rfl)
theorem dX10_nextToken_1 : decode cX10_nextToken 1 = .ok (.getfield 55, 3) := dk_180 0 55 (dk_at dksX10_nextToken_0 1 rfl rfl)
theorem dX10_nextToken_4 : decode cX10_nextToken 4 = .ok (.ifCond .le 4, 3) := dk_158 0 4 (dk_at dksX10_nextToken_0 4 rfl rfl)
theorem dX10_nextToken_7 : decode cX10_nextToken 7 = .ok (.return_, 1) := dk_177 (dk_at dksX10_nextToken_0 7 rfl rfl)
theorem dX10_nextToken_8 : decode cX10_nextToken 8 = .ok (.aload_n 0, 1) := dk_42 (dk_at dksX10_nextToken_0 8 rfl rfl)
theorem dX10_nextToken_9 : decode cX10_nextToken 9 = .ok (.aload_n 0, 1) := dk_42 (dk_at dksX10_nextToken_0 9 rfl rfl)
theorem dX10_nextToken_10 : decode cX10_nextToken 10 = .ok (.getfield 64, 3) := dk_180 0 64 (dk_at dksX10_nextToken_0 10 rfl rfl)
theorem dX10_nextToken_13 : decode cX10_nextToken 13 = .ok (.invokevirtual 67, 3) := dk_182 0 67 (dk_at dksX10_nextToken_0 13 rfl rfl)
theorem dX10_nextToken_16 : decode cX10_nextToken 16 = .ok (.bipush 32, 2) := dk_16 32 (dk_at dksX10_nextToken_0 16 rfl rfl)
theorem dX10_nextToken_18 : decode cX10_nextToken 18 = .ok (.if_icmp .ne 16, 3) := dk_160 0 16 (dk_at dksX10_nextToken_0 18 rfl rfl)
theorem dX10_nextToken_21 : decode cX10_nextToken 21 = .ok (.aload_n 0, 1) := dk_42 (dk_at dksX10_nextToken_0 21 rfl rfl)
theorem dX10_nextToken_22 : decode cX10_nextToken 22 = .ok (.dup, 1) := dk_89 (dk_at dksX10_nextToken_0 22 rfl rfl)
theorem dX10_nextToken_23 : decode cX10_nextToken 23 = .ok (.getfield 64, 3) := dk_180 0 64 (dk_at dksX10_nextToken_1 0 rfl rfl)
theorem dX10_nextToken_26 : decode cX10_nextToken 26 = .ok (.iconst 1, 1) := dk_4 (dk_at dksX10_nextToken_1 3 rfl rfl)
theorem dX10_nextToken_27 : decode cX10_nextToken 27 = .ok (.iadd, 1) := dk_96 (dk_at dksX10_nextToken_1 4 rfl rfl)
theorem dX10_nextToken_28 : decode cX10_nextToken 28 = .ok (.putfield 64, 3) := dk_181 0 64 (dk_at dksX10_nextToken_1 5 rfl rfl)
theorem dX10_nextToken_31 : decode cX10_nextToken 31 = .ok (.goto (-23), 3) := dk_167 255 233 (dk_at dksX10_nextToken_1 8 rfl rfl)
theorem dX10_nextToken_34 : decode cX10_nextToken 34 = .ok (.aload_n 0, 1) := dk_42 (dk_at dksX10_nextToken_1 11 rfl rfl)
theorem dX10_nextToken_35 : decode cX10_nextToken 35 = .ok (.aload_n 0, 1) := dk_42 (dk_at dksX10_nextToken_1 12 rfl rfl)
theorem dX10_nextToken_36 : decode cX10_nextToken 36 = .ok (.getfield 64, 3) := dk_180 0 64 (dk_at dksX10_nextToken_1 13 rfl rfl)
theorem dX10_nextToken_39 : decode cX10_nextToken 39 = .ok (.putfield 61, 3) := dk_181 0 61 (dk_at dksX10_nextToken_1 16 rfl rfl)
theorem dX10_nextToken_42 : decode cX10_nextToken 42 = .ok (.aload_n 0, 1) := dk_42 (dk_at dksX10_nextToken_1 19 rfl rfl)
theorem dX10_nextToken_43 : decode cX10_nextToken 43 = .ok (.getfield 64, 3) := dk_180 0 64 (dk_at dksX10_nextToken_1 20 rfl rfl)
theorem dX10_nextToken_46 : decode cX10_nextToken 46 = .ok (.aload_n 0, 1) := dk_42 (dk_at dksX10_nextToken_1 23 rfl rfl)
theorem dX10_nextToken_47 : decode cX10_nextToken 47 = .ok (.getfield 58, 3) := dk_180 0 58 (dk_at dksX10_nextToken_2 0 rfl rfl)
theorem dX10_nextToken_50 : decode cX10_nextToken 50 = .ok (.if_icmp .ne 11, 3) := dk_160 0 11 (dk_at dksX10_nextToken_2 3 rfl rfl)
theorem dX10_nextToken_53 : decode cX10_nextToken 53 = .ok (.aload_n 0, 1) := dk_42 (dk_at dksX10_nextToken_2 6 rfl rfl)
theorem dX10_nextToken_54 : decode cX10_nextToken 54 = .ok (.iconst 1, 1) := dk_4 (dk_at dksX10_nextToken_2 7 rfl rfl)
theorem dX10_nextToken_55 : decode cX10_nextToken 55 = .ok (.putfield 71, 3) := dk_181 0 71 (dk_at dksX10_nextToken_2 8 rfl rfl)
theorem dX10_nextToken_58 : decode cX10_nextToken 58 = .ok (.goto 234, 3) := dk_167 0 234 (dk_at dksX10_nextToken_2 11 rfl rfl)
theorem dX10_nextToken_61 : decode cX10_nextToken 61 = .ok (.aload_n 0, 1) := dk_42 (dk_at dksX10_nextToken_2 14 rfl rfl)
theorem dX10_nextToken_62 : decode cX10_nextToken 62 = .ok (.aload_n 0, 1) := dk_42 (dk_at dksX10_nextToken_2 15 rfl rfl)
theorem dX10_nextToken_63 : decode cX10_nextToken 63 = .ok (.getfield 64, 3) := dk_180 0 64 (dk_at dksX10_nextToken_2 16 rfl rfl)
theorem dX10_nextToken_66 : decode cX10_nextToken 66 = .ok (.invokevirtual 67, 3) := dk_182 0 67 (dk_at dksX10_nextToken_2 19 rfl rfl)
theorem dX10_nextToken_69 : decode cX10_nextToken 69 = .ok (.bipush 97, 2) := dk_16 97 (dk_at dksX10_nextToken_2 22 rfl rfl)
theorem dX10_nextToken_71 : decode cX10_nextToken 71 = .ok (.bipush 122, 2) := dk_16 122 (dk_at dksX10_nextToken_3 0 rfl rfl)
theorem dX10_nextToken_73 : decode cX10_nextToken 73 = .ok (.invokestatic 74, 3) := dk_184 0 74 (dk_at dksX10_nextToken_3 2 rfl rfl)
theorem dX10_nextToken_76 : decode cX10_nextToken 76 = .ok (.ifCond .eq 60, 3) := dk_153 0 60 (dk_at dksX10_nextToken_3 5 rfl rfl)
theorem dX10_nextToken_79 : decode cX10_nextToken 79 = .ok (.aload_n 0, 1) := dk_42 (dk_at dksX10_nextToken_3 8 rfl rfl)
theorem dX10_nextToken_80 : decode cX10_nextToken 80 = .ok (.aload_n 0, 1) := dk_42 (dk_at dksX10_nextToken_3 9 rfl rfl)
theorem dX10_nextToken_81 : decode cX10_nextToken 81 = .ok (.getfield 64, 3) := dk_180 0 64 (dk_at dksX10_nextToken_3 10 rfl rfl)
theorem dX10_nextToken_84 : decode cX10_nextToken 84 = .ok (.invokevirtual 67, 3) := dk_182 0 67 (dk_at dksX10_nextToken_3 13 rfl rfl)
theorem dX10_nextToken_87 : decode cX10_nextToken 87 = .ok (.bipush 97, 2) := dk_16 97 (dk_at dksX10_nextToken_3 16 rfl rfl)
theorem dX10_nextToken_89 : decode cX10_nextToken 89 = .ok (.bipush 122, 2) := dk_16 122 (dk_at dksX10_nextToken_3 18 rfl rfl)
theorem dX10_nextToken_91 : decode cX10_nextToken 91 = .ok (.invokestatic 74, 3) := dk_184 0 74 (dk_at dksX10_nextToken_3 20 rfl rfl)
theorem dX10_nextToken_94 : decode cX10_nextToken 94 = .ok (.ifCond .eq 16, 3) := dk_153 0 16 (dk_at dksX10_nextToken_4 0 rfl rfl)
theorem dX10_nextToken_97 : decode cX10_nextToken 97 = .ok (.aload_n 0, 1) := dk_42 (dk_at dksX10_nextToken_4 3 rfl rfl)
theorem dX10_nextToken_98 : decode cX10_nextToken 98 = .ok (.dup, 1) := dk_89 (dk_at dksX10_nextToken_4 4 rfl rfl)
theorem dX10_nextToken_99 : decode cX10_nextToken 99 = .ok (.getfield 64, 3) := dk_180 0 64 (dk_at dksX10_nextToken_4 5 rfl rfl)
theorem dX10_nextToken_102 : decode cX10_nextToken 102 = .ok (.iconst 1, 1) := dk_4 (dk_at dksX10_nextToken_4 8 rfl rfl)
theorem dX10_nextToken_103 : decode cX10_nextToken 103 = .ok (.iadd, 1) := dk_96 (dk_at dksX10_nextToken_4 9 rfl rfl)
theorem dX10_nextToken_104 : decode cX10_nextToken 104 = .ok (.putfield 64, 3) := dk_181 0 64 (dk_at dksX10_nextToken_4 10 rfl rfl)
theorem dX10_nextToken_107 : decode cX10_nextToken 107 = .ok (.goto (-28), 3) := dk_167 255 228 (dk_at dksX10_nextToken_4 13 rfl rfl)
theorem dX10_nextToken_110 : decode cX10_nextToken 110 = .ok (.aload_n 0, 1) := dk_42 (dk_at dksX10_nextToken_4 16 rfl rfl)
theorem dX10_nextToken_111 : decode cX10_nextToken 111 = .ok (.aload_n 0, 1) := dk_42 (dk_at dksX10_nextToken_4 17 rfl rfl)
theorem dX10_nextToken_112 : decode cX10_nextToken 112 = .ok (.getfield 64, 3) := dk_180 0 64 (dk_at dksX10_nextToken_4 18 rfl rfl)
theorem dX10_nextToken_115 : decode cX10_nextToken 115 = .ok (.aload_n 0, 1) := dk_42 (dk_at dksX10_nextToken_4 21 rfl rfl)
theorem dX10_nextToken_116 : decode cX10_nextToken 116 = .ok (.getfield 61, 3) := dk_180 0 61 (dk_at dksX10_nextToken_5 0 rfl rfl)
theorem dX10_nextToken_119 : decode cX10_nextToken 119 = .ok (.isub, 1) := dk_100 (dk_at dksX10_nextToken_5 3 rfl rfl)
theorem dX10_nextToken_120 : decode cX10_nextToken 120 = .ok (.bipush 8, 2) := dk_16 8 (dk_at dksX10_nextToken_5 4 rfl rfl)
theorem dX10_nextToken_122 : decode cX10_nextToken 122 = .ok (.if_icmp .le 7, 3) := dk_164 0 7 (dk_at dksX10_nextToken_5 6 rfl rfl)
theorem dX10_nextToken_125 : decode cX10_nextToken 125 = .ok (.iconst 0, 1) := dk_3 (dk_at dksX10_nextToken_5 9 rfl rfl)
theorem dX10_nextToken_126 : decode cX10_nextToken 126 = .ok (.goto 4, 3) := dk_167 0 4 (dk_at dksX10_nextToken_5 10 rfl rfl)
theorem dX10_nextToken_129 : decode cX10_nextToken 129 = .ok (.iconst 2, 1) := dk_5 (dk_at dksX10_nextToken_5 13 rfl rfl)
theorem dX10_nextToken_130 : decode cX10_nextToken 130 = .ok (.putfield 71, 3) := dk_181 0 71 (dk_at dksX10_nextToken_5 14 rfl rfl)
theorem dX10_nextToken_133 : decode cX10_nextToken 133 = .ok (.goto 159, 3) := dk_167 0 159 (dk_at dksX10_nextToken_5 17 rfl rfl)
theorem dX10_nextToken_136 : decode cX10_nextToken 136 = .ok (.aload_n 0, 1) := dk_42 (dk_at dksX10_nextToken_5 20 rfl rfl)
theorem dX10_nextToken_137 : decode cX10_nextToken 137 = .ok (.aload_n 0, 1) := dk_42 (dk_at dksX10_nextToken_5 21 rfl rfl)
theorem dX10_nextToken_138 : decode cX10_nextToken 138 = .ok (.getfield 64, 3) := dk_180 0 64 (dk_at dksX10_nextToken_6 0 rfl rfl)
theorem dX10_nextToken_141 : decode cX10_nextToken 141 = .ok (.invokevirtual 67, 3) := dk_182 0 67 (dk_at dksX10_nextToken_6 3 rfl rfl)
theorem dX10_nextToken_144 : decode cX10_nextToken 144 = .ok (.bipush 48, 2) := dk_16 48 (dk_at dksX10_nextToken_6 6 rfl rfl)
theorem dX10_nextToken_146 : decode cX10_nextToken 146 = .ok (.bipush 57, 2) := dk_16 57 (dk_at dksX10_nextToken_6 8 rfl rfl)
theorem dX10_nextToken_148 : decode cX10_nextToken 148 = .ok (.invokestatic 74, 3) := dk_184 0 74 (dk_at dksX10_nextToken_6 10 rfl rfl)
theorem dX10_nextToken_151 : decode cX10_nextToken 151 = .ok (.ifCond .eq 100, 3) := dk_153 0 100 (dk_at dksX10_nextToken_6 13 rfl rfl)
theorem dX10_nextToken_154 : decode cX10_nextToken 154 = .ok (.aload_n 0, 1) := dk_42 (dk_at dksX10_nextToken_6 16 rfl rfl)
theorem dX10_nextToken_155 : decode cX10_nextToken 155 = .ok (.iconst 0, 1) := dk_3 (dk_at dksX10_nextToken_6 17 rfl rfl)
theorem dX10_nextToken_156 : decode cX10_nextToken 156 = .ok (.putfield 78, 3) := dk_181 0 78 (dk_at dksX10_nextToken_6 18 rfl rfl)
theorem dX10_nextToken_159 : decode cX10_nextToken 159 = .ok (.aload_n 0, 1) := dk_42 (dk_at dksX10_nextToken_6 21 rfl rfl)
theorem dX10_nextToken_160 : decode cX10_nextToken 160 = .ok (.aload_n 0, 1) := dk_42 (dk_at dksX10_nextToken_6 22 rfl rfl)
theorem dX10_nextToken_161 : decode cX10_nextToken 161 = .ok (.getfield 64, 3) := dk_180 0 64 (dk_at dksX10_nextToken_7 0 rfl rfl)
theorem dX10_nextToken_164 : decode cX10_nextToken 164 = .ok (.invokevirtual 67, 3) := dk_182 0 67 (dk_at dksX10_nextToken_7 3 rfl rfl)
theorem dX10_nextToken_167 : decode cX10_nextToken 167 = .ok (.bipush 48, 2) := dk_16 48 (dk_at dksX10_nextToken_7 6 rfl rfl)
theorem dX10_nextToken_169 : decode cX10_nextToken 169 = .ok (.bipush 57, 2) := dk_16 57 (dk_at dksX10_nextToken_7 8 rfl rfl)
theorem dX10_nextToken_171 : decode cX10_nextToken 171 = .ok (.invokestatic 74, 3) := dk_184 0 74 (dk_at dksX10_nextToken_7 10 rfl rfl)
theorem dX10_nextToken_174 : decode cX10_nextToken 174 = .ok (.ifCond .eq 52, 3) := dk_153 0 52 (dk_at dksX10_nextToken_7 13 rfl rfl)
theorem dX10_nextToken_177 : decode cX10_nextToken 177 = .ok (.aload_n 0, 1) := dk_42 (dk_at dksX10_nextToken_7 16 rfl rfl)
theorem dX10_nextToken_178 : decode cX10_nextToken 178 = .ok (.getfield 64, 3) := dk_180 0 64 (dk_at dksX10_nextToken_7 17 rfl rfl)
theorem dX10_nextToken_181 : decode cX10_nextToken 181 = .ok (.aload_n 0, 1) := dk_42 (dk_at dksX10_nextToken_7 20 rfl rfl)
theorem dX10_nextToken_182 : decode cX10_nextToken 182 = .ok (.getfield 61, 3) := dk_180 0 61 (dk_at dksX10_nextToken_7 21 rfl rfl)
theorem dX10_nextToken_185 : decode cX10_nextToken 185 = .ok (.isub, 1) := dk_100 (dk_at dksX10_nextToken_8 0 rfl rfl)
theorem dX10_nextToken_186 : decode cX10_nextToken 186 = .ok (.iconst 4, 1) := dk_7 (dk_at dksX10_nextToken_8 1 rfl rfl)
theorem dX10_nextToken_187 : decode cX10_nextToken 187 = .ok (.if_icmp .ge 26, 3) := dk_162 0 26 (dk_at dksX10_nextToken_8 2 rfl rfl)
theorem dX10_nextToken_190 : decode cX10_nextToken 190 = .ok (.aload_n 0, 1) := dk_42 (dk_at dksX10_nextToken_8 5 rfl rfl)
theorem dX10_nextToken_191 : decode cX10_nextToken 191 = .ok (.bipush 10, 2) := dk_16 10 (dk_at dksX10_nextToken_8 6 rfl rfl)
theorem dX10_nextToken_193 : decode cX10_nextToken 193 = .ok (.aload_n 0, 1) := dk_42 (dk_at dksX10_nextToken_8 8 rfl rfl)
theorem dX10_nextToken_194 : decode cX10_nextToken 194 = .ok (.getfield 78, 3) := dk_180 0 78 (dk_at dksX10_nextToken_8 9 rfl rfl)
theorem dX10_nextToken_197 : decode cX10_nextToken 197 = .ok (.imul, 1) := dk_104 (dk_at dksX10_nextToken_8 12 rfl rfl)
theorem dX10_nextToken_198 : decode cX10_nextToken 198 = .ok (.aload_n 0, 1) := dk_42 (dk_at dksX10_nextToken_8 13 rfl rfl)
theorem dX10_nextToken_199 : decode cX10_nextToken 199 = .ok (.aload_n 0, 1) := dk_42 (dk_at dksX10_nextToken_8 14 rfl rfl)
theorem dX10_nextToken_200 : decode cX10_nextToken 200 = .ok (.getfield 64, 3) := dk_180 0 64 (dk_at dksX10_nextToken_8 15 rfl rfl)
theorem dX10_nextToken_203 : decode cX10_nextToken 203 = .ok (.invokevirtual 67, 3) := dk_182 0 67 (dk_at dksX10_nextToken_8 18 rfl rfl)
theorem dX10_nextToken_206 : decode cX10_nextToken 206 = .ok (.iadd, 1) := dk_96 (dk_at dksX10_nextToken_8 21 rfl rfl)
theorem dX10_nextToken_207 : decode cX10_nextToken 207 = .ok (.bipush 48, 2) := dk_16 48 (dk_at dksX10_nextToken_8 22 rfl rfl)
theorem dX10_nextToken_209 : decode cX10_nextToken 209 = .ok (.isub, 1) := dk_100 (dk_at dksX10_nextToken_9 0 rfl rfl)
theorem dX10_nextToken_210 : decode cX10_nextToken 210 = .ok (.putfield 78, 3) := dk_181 0 78 (dk_at dksX10_nextToken_9 1 rfl rfl)
theorem dX10_nextToken_213 : decode cX10_nextToken 213 = .ok (.aload_n 0, 1) := dk_42 (dk_at dksX10_nextToken_9 4 rfl rfl)
theorem dX10_nextToken_214 : decode cX10_nextToken 214 = .ok (.dup, 1) := dk_89 (dk_at dksX10_nextToken_9 5 rfl rfl)
theorem dX10_nextToken_215 : decode cX10_nextToken 215 = .ok (.getfield 64, 3) := dk_180 0 64 (dk_at dksX10_nextToken_9 6 rfl rfl)
theorem dX10_nextToken_218 : decode cX10_nextToken 218 = .ok (.iconst 1, 1) := dk_4 (dk_at dksX10_nextToken_9 9 rfl rfl)
theorem dX10_nextToken_219 : decode cX10_nextToken 219 = .ok (.iadd, 1) := dk_96 (dk_at dksX10_nextToken_9 10 rfl rfl)
theorem dX10_nextToken_220 : decode cX10_nextToken 220 = .ok (.putfield 64, 3) := dk_181 0 64 (dk_at dksX10_nextToken_9 11 rfl rfl)
theorem dX10_nextToken_223 : decode cX10_nextToken 223 = .ok (.goto (-64), 3) := dk_167 255 192 (dk_at dksX10_nextToken_9 14 rfl rfl)
theorem dX10_nextToken_226 : decode cX10_nextToken 226 = .ok (.aload_n 0, 1) := dk_42 (dk_at dksX10_nextToken_9 17 rfl rfl)
theorem dX10_nextToken_227 : decode cX10_nextToken 227 = .ok (.aload_n 0, 1) := dk_42 (dk_at dksX10_nextToken_9 18 rfl rfl)
theorem dX10_nextToken_228 : decode cX10_nextToken 228 = .ok (.getfield 64, 3) := dk_180 0 64 (dk_at dksX10_nextToken_9 19 rfl rfl)
theorem dX10_nextToken_231 : decode cX10_nextToken 231 = .ok (.aload_n 0, 1) := dk_42 (dk_at dksX10_nextToken_9 22 rfl rfl)
theorem dX10_nextToken_232 : decode cX10_nextToken 232 = .ok (.getfield 61, 3) := dk_180 0 61 (dk_at dksX10_nextToken_10 0 rfl rfl)
theorem dX10_nextToken_235 : decode cX10_nextToken 235 = .ok (.isub, 1) := dk_100 (dk_at dksX10_nextToken_10 3 rfl rfl)
theorem dX10_nextToken_236 : decode cX10_nextToken 236 = .ok (.iconst 4, 1) := dk_7 (dk_at dksX10_nextToken_10 4 rfl rfl)
theorem dX10_nextToken_237 : decode cX10_nextToken 237 = .ok (.if_icmp .le 7, 3) := dk_164 0 7 (dk_at dksX10_nextToken_10 5 rfl rfl)
theorem dX10_nextToken_240 : decode cX10_nextToken 240 = .ok (.iconst 0, 1) := dk_3 (dk_at dksX10_nextToken_10 8 rfl rfl)
theorem dX10_nextToken_241 : decode cX10_nextToken 241 = .ok (.goto 4, 3) := dk_167 0 4 (dk_at dksX10_nextToken_10 9 rfl rfl)
theorem dX10_nextToken_244 : decode cX10_nextToken 244 = .ok (.iconst 3, 1) := dk_6 (dk_at dksX10_nextToken_10 12 rfl rfl)
theorem dX10_nextToken_245 : decode cX10_nextToken 245 = .ok (.putfield 71, 3) := dk_181 0 71 (dk_at dksX10_nextToken_10 13 rfl rfl)
theorem dX10_nextToken_248 : decode cX10_nextToken 248 = .ok (.goto 44, 3) := dk_167 0 44 (dk_at dksX10_nextToken_10 16 rfl rfl)
theorem dX10_nextToken_251 : decode cX10_nextToken 251 = .ok (.aload_n 0, 1) := dk_42 (dk_at dksX10_nextToken_10 19 rfl rfl)
theorem dX10_nextToken_252 : decode cX10_nextToken 252 = .ok (.aload_n 0, 1) := dk_42 (dk_at dksX10_nextToken_10 20 rfl rfl)
theorem dX10_nextToken_253 : decode cX10_nextToken 253 = .ok (.aload_n 0, 1) := dk_42 (dk_at dksX10_nextToken_10 21 rfl rfl)
theorem dX10_nextToken_254 : decode cX10_nextToken 254 = .ok (.getfield 64, 3) := dk_180 0 64 (dk_at dksX10_nextToken_11 0 rfl rfl)
theorem dX10_nextToken_257 : decode cX10_nextToken 257 = .ok (.invokevirtual 67, 3) := dk_182 0 67 (dk_at dksX10_nextToken_11 3 rfl rfl)
theorem dX10_nextToken_260 : decode cX10_nextToken 260 = .ok (.putfield 78, 3) := dk_181 0 78 (dk_at dksX10_nextToken_11 6 rfl rfl)
theorem dX10_nextToken_263 : decode cX10_nextToken 263 = .ok (.aload_n 0, 1) := dk_42 (dk_at dksX10_nextToken_11 9 rfl rfl)
theorem dX10_nextToken_264 : decode cX10_nextToken 264 = .ok (.aload_n 0, 1) := dk_42 (dk_at dksX10_nextToken_11 10 rfl rfl)
theorem dX10_nextToken_265 : decode cX10_nextToken 265 = .ok (.getfield 78, 3) := dk_180 0 78 (dk_at dksX10_nextToken_11 11 rfl rfl)
theorem dX10_nextToken_268 : decode cX10_nextToken 268 = .ok (.invokestatic 81, 3) := dk_184 0 81 (dk_at dksX10_nextToken_11 14 rfl rfl)
theorem dX10_nextToken_271 : decode cX10_nextToken 271 = .ok (.ifCond .eq 7, 3) := dk_153 0 7 (dk_at dksX10_nextToken_11 17 rfl rfl)
theorem dX10_nextToken_274 : decode cX10_nextToken 274 = .ok (.iconst 4, 1) := dk_7 (dk_at dksX10_nextToken_11 20 rfl rfl)
theorem dX10_nextToken_275 : decode cX10_nextToken 275 = .ok (.goto 4, 3) := dk_167 0 4 (dk_at dksX10_nextToken_11 21 rfl rfl)
theorem dX10_nextToken_278 : decode cX10_nextToken 278 = .ok (.iconst 0, 1) := dk_3 (dk_at dksX10_nextToken_12 0 rfl rfl)
theorem dX10_nextToken_279 : decode cX10_nextToken 279 = .ok (.putfield 71, 3) := dk_181 0 71 (dk_at dksX10_nextToken_12 1 rfl rfl)
theorem dX10_nextToken_282 : decode cX10_nextToken 282 = .ok (.aload_n 0, 1) := dk_42 (dk_at dksX10_nextToken_12 4 rfl rfl)
theorem dX10_nextToken_283 : decode cX10_nextToken 283 = .ok (.dup, 1) := dk_89 (dk_at dksX10_nextToken_12 5 rfl rfl)
theorem dX10_nextToken_284 : decode cX10_nextToken 284 = .ok (.getfield 64, 3) := dk_180 0 64 (dk_at dksX10_nextToken_12 6 rfl rfl)
theorem dX10_nextToken_287 : decode cX10_nextToken 287 = .ok (.iconst 1, 1) := dk_4 (dk_at dksX10_nextToken_12 9 rfl rfl)
theorem dX10_nextToken_288 : decode cX10_nextToken 288 = .ok (.iadd, 1) := dk_96 (dk_at dksX10_nextToken_12 10 rfl rfl)
theorem dX10_nextToken_289 : decode cX10_nextToken 289 = .ok (.putfield 64, 3) := dk_181 0 64 (dk_at dksX10_nextToken_12 11 rfl rfl)
theorem dX10_nextToken_292 : decode cX10_nextToken 292 = .ok (.return_, 1) := dk_177 (dk_at dksX10_nextToken_12 14 rfl rfl)
abbrev cX10_byteAt : ByteArray := prog_22_method_10_code
def yX10_byteAt : MethodName := ⟨RX10, "byteAt", "(I)I"⟩
def dkwX10_byteAt_0 : List UInt8 := [27, 42, 180, 0, 58, 162, 0, 12, 42, 180, 0, 9, 27, 46, 167, 0, 4, 2, 172]
abbrev dktX10_byteAt_0 : List UInt8 := dkwX10_byteAt_0 ++ []
theorem dksX10_byteAt_0 : cX10_byteAt.data.toList.drop 0 = dktX10_byteAt_0 := by decide +kernel
theorem dX10_byteAt_0 : decode cX10_byteAt 0 = .ok (.iload_n 1, 1) := dk_27 (dk_at dksX10_byteAt_0 0 rfl rfl)
theorem dX10_byteAt_1 : decode cX10_byteAt 1 = .ok (.aload_n 0, 1) := dk_42 (dk_at dksX10_byteAt_0 1 rfl rfl)
theorem dX10_byteAt_2 : decode cX10_byteAt 2 = .ok (.getfield 58, 3) := dk_180 0 58 (dk_at dksX10_byteAt_0 2 rfl rfl)
theorem dX10_byteAt_5 : decode cX10_byteAt 5 = .ok (.if_icmp .ge 12, 3) := dk_162 0 12 (dk_at dksX10_byteAt_0 5 rfl rfl)
theorem dX10_byteAt_8 : decode cX10_byteAt 8 = .ok (.aload_n 0, 1) := dk_42 (dk_at dksX10_byteAt_0 8 rfl rfl)
theorem dX10_byteAt_9 : decode cX10_byteAt 9 = .ok (.getfield 9, 3) := dk_180 0 9 (dk_at dksX10_byteAt_0 9 rfl rfl)
theorem dX10_byteAt_12 : decode cX10_byteAt 12 = .ok (.iload_n 1, 1) := dk_27 (dk_at dksX10_byteAt_0 12 rfl rfl)
theorem dX10_byteAt_13 : decode cX10_byteAt 13 = .ok (.iaload, 1) := dk_46 (dk_at dksX10_byteAt_0 13 rfl rfl)
theorem dX10_byteAt_14 : decode cX10_byteAt 14 = .ok (.goto 4, 3) := dk_167 0 4 (dk_at dksX10_byteAt_0 14 rfl rfl)
theorem dX10_byteAt_17 : decode cX10_byteAt 17 = .ok (.iconst (-1), 1) := dk_2 (dk_at dksX10_byteAt_0 17 rfl rfl)
theorem dX10_byteAt_18 : decode cX10_byteAt 18 = .ok (.ireturn, 1) := dk_172 (dk_at dksX10_byteAt_0 18 rfl rfl)
abbrev cX10_isSign : ByteArray := prog_22_method_12_code
def yX10_isSign : MethodName := ⟨RX10, "isSign", "(I)Z"⟩
def dkwX10_isSign_0 : List UInt8 := [26, 16, 59, 159, 0, 9, 26, 16, 45, 160, 0, 7, 4, 167, 0, 4, 3, 172]
abbrev dktX10_isSign_0 : List UInt8 := dkwX10_isSign_0 ++ []
theorem dksX10_isSign_0 : cX10_isSign.data.toList.drop 0 = dktX10_isSign_0 := by decide +kernel
theorem dX10_isSign_0 : decode cX10_isSign 0 = .ok (.iload_n 0, 1) := dk_26 (dk_at dksX10_isSign_0 0 rfl rfl)
theorem dX10_isSign_1 : decode cX10_isSign 1 = .ok (.bipush 59, 2) := dk_16 59 (dk_at dksX10_isSign_0 1 rfl rfl)
theorem dX10_isSign_3 : decode cX10_isSign 3 = .ok (.if_icmp .eq 9, 3) := dk_159 0 9 (dk_at dksX10_isSign_0 3 rfl rfl)
theorem dX10_isSign_6 : decode cX10_isSign 6 = .ok (.iload_n 0, 1) := dk_26 (dk_at dksX10_isSign_0 6 rfl rfl)
theorem dX10_isSign_7 : decode cX10_isSign 7 = .ok (.bipush 45, 2) := dk_16 45 (dk_at dksX10_isSign_0 7 rfl rfl)
theorem dX10_isSign_9 : decode cX10_isSign 9 = .ok (.if_icmp .ne 7, 3) := dk_160 0 7 (dk_at dksX10_isSign_0 9 rfl rfl)
theorem dX10_isSign_12 : decode cX10_isSign 12 = .ok (.iconst 1, 1) := dk_4 (dk_at dksX10_isSign_0 12 rfl rfl)
theorem dX10_isSign_13 : decode cX10_isSign 13 = .ok (.goto 4, 3) := dk_167 0 4 (dk_at dksX10_isSign_0 13 rfl rfl)
theorem dX10_isSign_16 : decode cX10_isSign 16 = .ok (.iconst 0, 1) := dk_3 (dk_at dksX10_isSign_0 16 rfl rfl)
theorem dX10_isSign_17 : decode cX10_isSign 17 = .ok (.ireturn, 1) := dk_172 (dk_at dksX10_isSign_0 17 rfl rfl)
abbrev cX10_readFirst : ByteArray := prog_22_method_21_code
def yX10_readFirst : MethodName := ⟨RX10, "readFirst", "()V"⟩
def dkwX10_readFirst_7 : List UInt8 := [182, 0, 123, 79, 177]
abbrev dktX10_readFirst_7 : List UInt8 := dkwX10_readFirst_7 ++ []
def dkwX10_readFirst_6 : List UInt8 := [42, 18, 141, 4, 17, 3, 231, 182, 0, 123, 79, 42, 180, 0, 20, 16, 9, 42, 18, 143, 3, 17, 0, 170]
abbrev dktX10_readFirst_6 : List UInt8 := dkwX10_readFirst_6 ++ dktX10_readFirst_7
def dkwX10_readFirst_5 : List UInt8 := [79, 42, 180, 0, 20, 16, 7, 42, 18, 139, 3, 17, 1, 103, 182, 0, 123, 79, 42, 180, 0, 20, 16, 8]
abbrev dktX10_readFirst_5 : List UInt8 := dkwX10_readFirst_5 ++ dktX10_readFirst_6
def dkwX10_readFirst_4 : List UInt8 := [16, 10, 17, 7, 208, 182, 0, 123, 79, 42, 180, 0, 20, 16, 6, 42, 18, 137, 4, 16, 99, 182, 0, 123]
abbrev dktX10_readFirst_4 : List UInt8 := dkwX10_readFirst_4 ++ dktX10_readFirst_5
def dkwX10_readFirst_3 : List UInt8 := [180, 0, 20, 7, 42, 18, 133, 4, 16, 99, 182, 0, 123, 79, 42, 180, 0, 26, 16, 15, 42, 18, 135]
abbrev dktX10_readFirst_3 : List UInt8 := dkwX10_readFirst_3 ++ dktX10_readFirst_4
def dkwX10_readFirst_2 : List UInt8 := [16, 90, 182, 0, 123, 79, 42, 180, 0, 20, 6, 42, 18, 131, 4, 17, 39, 15, 182, 0, 123, 79, 42]
abbrev dktX10_readFirst_2 : List UInt8 := dkwX10_readFirst_2 ++ dktX10_readFirst_3
def dkwX10_readFirst_1 : List UInt8 := [180, 0, 20, 4, 42, 18, 127, 3, 16, 60, 182, 0, 123, 79, 42, 180, 0, 20, 5, 42, 18, 129, 4]
abbrev dktX10_readFirst_1 : List UInt8 := dkwX10_readFirst_1 ++ dktX10_readFirst_2
def dkwX10_readFirst_0 : List UInt8 := [42, 18, 119, 182, 0, 112, 42, 180, 0, 20, 3, 42, 18, 121, 16, 60, 17, 7, 208, 182, 0, 123, 79, 42]
abbrev dktX10_readFirst_0 : List UInt8 := dkwX10_readFirst_0 ++ dktX10_readFirst_1
theorem dksX10_readFirst_0 : cX10_readFirst.data.toList.drop 0 = dktX10_readFirst_0 := by decide +kernel
theorem dksX10_readFirst_1 : cX10_readFirst.data.toList.drop 24 = dktX10_readFirst_1 := dk_seg dksX10_readFirst_0 24 rfl rfl
theorem dksX10_readFirst_2 : cX10_readFirst.data.toList.drop 47 = dktX10_readFirst_2 := dk_seg dksX10_readFirst_1 23 rfl rfl
theorem dksX10_readFirst_3 : cX10_readFirst.data.toList.drop 70 = dktX10_readFirst_3 := dk_seg dksX10_readFirst_2 23 rfl rfl
theorem dksX10_readFirst_4 : cX10_readFirst.data.toList.drop 93 = dktX10_readFirst_4 := dk_seg dksX10_readFirst_3 23 rfl rfl
theorem dksX10_readFirst_5 : cX10_readFirst.data.toList.drop 117 = dktX10_readFirst_5 := dk_seg dksX10_readFirst_4 24 rfl rfl
theorem dksX10_readFirst_6 : cX10_readFirst.data.toList.drop 141 = dktX10_readFirst_6 := dk_seg dksX10_readFirst_5 24 rfl rfl
theorem dksX10_readFirst_7 : cX10_readFirst.data.toList.drop 165 = dktX10_readFirst_7 := dk_seg dksX10_readFirst_6 24 rfl rfl
theorem dX10_readFirst_0 : decode cX10_readFirst 0 = .ok (.aload_n 0, 1) := dk_42 (dk_at dksX10_readFirst_0 0 rfl rfl)
theorem dX10_readFirst_1 : decode cX10_readFirst 1 = .ok (.ldc 119, 2) := dk_18 119 (dk_at dksX10_readFirst_0 1 rfl rfl)
theorem dX10_readFirst_3 : decode cX10_readFirst 3 = .ok (.invokevirtual 112, 3) := dk_182 0 112 (dk_at dksX10_readFirst_0 3 rfl rfl)
theorem dX10_readFirst_6 : decode cX10_readFirst 6 = .ok (.aload_n 0, 1) := dk_42 (dk_at dksX10_readFirst_0 6 rfl rfl)
theorem dX10_readFirst_7 : decode cX10_readFirst 7 = .ok (.getfield 20, 3) := dk_180 0 20 (dk_at dksX10_readFirst_0 7 rfl rfl)
theorem dX10_readFirst_10 : decode cX10_readFirst 10 = .ok (.iconst 0, 1) := dk_3 (dk_at dksX10_readFirst_0 10 rfl rfl)
theorem dX10_readFirst_11 : decode cX10_readFirst 11 = .ok (.aload_n 0, 1) := dk_42 (dk_at dksX10_readFirst_0 11 rfl rfl)
theorem dX10_readFirst_12 : decode cX10_readFirst 12 = .ok (.ldc 121, 2) := dk_18 121 (dk_at dksX10_readFirst_0 12 rfl rfl)
theorem dX10_readFirst_14 : decode cX10_readFirst 14 = .ok (.bipush 60, 2) := dk_16 60 (dk_at dksX10_readFirst_0 14 rfl rfl)
theorem dX10_readFirst_16 : decode cX10_readFirst 16 = .ok (.sipush 2000, 3) := dk_17 7 208 (dk_at dksX10_readFirst_0 16 rfl rfl)
theorem dX10_readFirst_19 : decode cX10_readFirst 19 = .ok (.invokevirtual 123, 3) := dk_182 0 123 (dk_at dksX10_readFirst_0 19 rfl rfl)
theorem dX10_readFirst_22 : decode cX10_readFirst 22 = .ok (.iastore, 1) := dk_79 (dk_at dksX10_readFirst_0 22 rfl rfl)
theorem dX10_readFirst_23 : decode cX10_readFirst 23 = .ok (.aload_n 0, 1) := dk_42 (dk_at dksX10_readFirst_0 23 rfl rfl)
theorem dX10_readFirst_24 : decode cX10_readFirst 24 = .ok (.getfield 20, 3) := dk_180 0 20 (dk_at dksX10_readFirst_1 0 rfl rfl)
theorem dX10_readFirst_27 : decode cX10_readFirst 27 = .ok (.iconst 1, 1) := dk_4 (dk_at dksX10_readFirst_1 3 rfl rfl)
theorem dX10_readFirst_28 : decode cX10_readFirst 28 = .ok (.aload_n 0, 1) := dk_42 (dk_at dksX10_readFirst_1 4 rfl rfl)
theorem dX10_readFirst_29 : decode cX10_readFirst 29 = .ok (.ldc 127, 2) := dk_18 127 (dk_at dksX10_readFirst_1 5 rfl rfl)
theorem dX10_readFirst_31 : decode cX10_readFirst 31 = .ok (.iconst 0, 1) := dk_3 (dk_at dksX10_readFirst_1 7 rfl rfl)
theorem dX10_readFirst_32 : decode cX10_readFirst 32 = .ok (.bipush 60, 2) := dk_16 60 (dk_at dksX10_readFirst_1 8 rfl rfl)
theorem dX10_readFirst_34 : decode cX10_readFirst 34 = .ok (.invokevirtual 123, 3) := dk_182 0 123 (dk_at dksX10_readFirst_1 10 rfl rfl)
theorem dX10_readFirst_37 : decode cX10_readFirst 37 = .ok (.iastore, 1) := dk_79 (dk_at dksX10_readFirst_1 13 rfl rfl)
theorem dX10_readFirst_38 : decode cX10_readFirst 38 = .ok (.aload_n 0, 1) := dk_42 (dk_at dksX10_readFirst_1 14 rfl rfl)
theorem dX10_readFirst_39 : decode cX10_readFirst 39 = .ok (.getfield 20, 3) := dk_180 0 20 (dk_at dksX10_readFirst_1 15 rfl rfl)
theorem dX10_readFirst_42 : decode cX10_readFirst 42 = .ok (.iconst 2, 1) := dk_5 (dk_at dksX10_readFirst_1 18 rfl rfl)
theorem dX10_readFirst_43 : decode cX10_readFirst 43 = .ok (.aload_n 0, 1) := dk_42 (dk_at dksX10_readFirst_1 19 rfl rfl)
theorem dX10_readFirst_44 : decode cX10_readFirst 44 = .ok (.ldc 129, 2) := dk_18 129 (dk_at dksX10_readFirst_1 20 rfl rfl)
theorem dX10_readFirst_46 : decode cX10_readFirst 46 = .ok (.iconst 1, 1) := dk_4 (dk_at dksX10_readFirst_1 22 rfl rfl)
theorem dX10_readFirst_47 : decode cX10_readFirst 47 = .ok (.bipush 90, 2) := dk_16 90 (dk_at dksX10_readFirst_2 0 rfl rfl)
theorem dX10_readFirst_49 : decode cX10_readFirst 49 = .ok (.invokevirtual 123, 3) := dk_182 0 123 (dk_at dksX10_readFirst_2 2 rfl rfl)
theorem dX10_readFirst_52 : decode cX10_readFirst 52 = .ok (.iastore, 1) := dk_79 (dk_at dksX10_readFirst_2 5 rfl rfl)
theorem dX10_readFirst_53 : decode cX10_readFirst 53 = .ok (.aload_n 0, 1) := dk_42 (dk_at dksX10_readFirst_2 6 rfl rfl)
theorem dX10_readFirst_54 : decode cX10_readFirst 54 = .ok (.getfield 20, 3) := dk_180 0 20 (dk_at dksX10_readFirst_2 7 rfl rfl)
theorem dX10_readFirst_57 : decode cX10_readFirst 57 = .ok (.iconst 3, 1) := dk_6 (dk_at dksX10_readFirst_2 10 rfl rfl)
theorem dX10_readFirst_58 : decode cX10_readFirst 58 = .ok (.aload_n 0, 1) := dk_42 (dk_at dksX10_readFirst_2 11 rfl rfl)
theorem dX10_readFirst_59 : decode cX10_readFirst 59 = .ok (.ldc 131, 2) := dk_18 131 (dk_at dksX10_readFirst_2 12 rfl rfl)
theorem dX10_readFirst_61 : decode cX10_readFirst 61 = .ok (.iconst 1, 1) := dk_4 (dk_at dksX10_readFirst_2 14 rfl rfl)
theorem dX10_readFirst_62 : decode cX10_readFirst 62 = .ok (.sipush 9999, 3) := dk_17 39 15 (dk_at dksX10_readFirst_2 15 rfl rfl)
theorem dX10_readFirst_65 : decode cX10_readFirst 65 = .ok (.invokevirtual 123, 3) := dk_182 0 123 (dk_at dksX10_readFirst_2 18 rfl rfl)
theorem dX10_readFirst_68 : decode cX10_readFirst 68 = .ok (.iastore, 1) := dk_79 (dk_at dksX10_readFirst_2 21 rfl rfl)
theorem dX10_readFirst_69 : decode cX10_readFirst 69 = .ok (.aload_n 0, 1) := dk_42 (dk_at dksX10_readFirst_2 22 rfl rfl)
theorem dX10_readFirst_70 : decode cX10_readFirst 70 = .ok (.getfield 20, 3) := dk_180 0 20 (dk_at dksX10_readFirst_3 0 rfl rfl)
theorem dX10_readFirst_73 : decode cX10_readFirst 73 = .ok (.iconst 4, 1) := dk_7 (dk_at dksX10_readFirst_3 3 rfl rfl)
theorem dX10_readFirst_74 : decode cX10_readFirst 74 = .ok (.aload_n 0, 1) := dk_42 (dk_at dksX10_readFirst_3 4 rfl rfl)
theorem dX10_readFirst_75 : decode cX10_readFirst 75 = .ok (.ldc 133, 2) := dk_18 133 (dk_at dksX10_readFirst_3 5 rfl rfl)
theorem dX10_readFirst_77 : decode cX10_readFirst 77 = .ok (.iconst 1, 1) := dk_4 (dk_at dksX10_readFirst_3 7 rfl rfl)
theorem dX10_readFirst_78 : decode cX10_readFirst 78 = .ok (.bipush 99, 2) := dk_16 99 (dk_at dksX10_readFirst_3 8 rfl rfl)
theorem dX10_readFirst_80 : decode cX10_readFirst 80 = .ok (.invokevirtual 123, 3) := dk_182 0 123 (dk_at dksX10_readFirst_3 10 rfl rfl)
theorem dX10_readFirst_83 : decode cX10_readFirst 83 = .ok (.iastore, 1) := dk_79 (dk_at dksX10_readFirst_3 13 rfl rfl)
theorem dX10_readFirst_84 : decode cX10_readFirst 84 = .ok (.aload_n 0, 1) := dk_42 (dk_at dksX10_readFirst_3 14 rfl rfl)
theorem dX10_readFirst_85 : decode cX10_readFirst 85 = .ok (.getfield 26, 3) := dk_180 0 26 (dk_at dksX10_readFirst_3 15 rfl rfl)
theorem dX10_readFirst_88 : decode cX10_readFirst 88 = .ok (.bipush 15, 2) := dk_16 15 (dk_at dksX10_readFirst_3 18 rfl rfl)
theorem dX10_readFirst_90 : decode cX10_readFirst 90 = .ok (.aload_n 0, 1) := dk_42 (dk_at dksX10_readFirst_3 20 rfl rfl)
theorem dX10_readFirst_91 : decode cX10_readFirst 91 = .ok (.ldc 135, 2) := dk_18 135 (dk_at dksX10_readFirst_3 21 rfl rfl)
theorem dX10_readFirst_93 : decode cX10_readFirst 93 = .ok (.bipush 10, 2) := dk_16 10 (dk_at dksX10_readFirst_4 0 rfl rfl)
theorem dX10_readFirst_95 : decode cX10_readFirst 95 = .ok (.sipush 2000, 3) := dk_17 7 208 (dk_at dksX10_readFirst_4 2 rfl rfl)
theorem dX10_readFirst_98 : decode cX10_readFirst 98 = .ok (.invokevirtual 123, 3) := dk_182 0 123 (dk_at dksX10_readFirst_4 5 rfl rfl)
theorem dX10_readFirst_101 : decode cX10_readFirst 101 = .ok (.iastore, 1) := dk_79 (dk_at dksX10_readFirst_4 8 rfl rfl)
theorem dX10_readFirst_102 : decode cX10_readFirst 102 = .ok (.aload_n 0, 1) := dk_42 (dk_at dksX10_readFirst_4 9 rfl rfl)
theorem dX10_readFirst_103 : decode cX10_readFirst 103 = .ok (.getfield 20, 3) := dk_180 0 20 (dk_at dksX10_readFirst_4 10 rfl rfl)
theorem dX10_readFirst_106 : decode cX10_readFirst 106 = .ok (.bipush 6, 2) := dk_16 6 (dk_at dksX10_readFirst_4 13 rfl rfl)
theorem dX10_readFirst_108 : decode cX10_readFirst 108 = .ok (.aload_n 0, 1) := dk_42 (dk_at dksX10_readFirst_4 15 rfl rfl)
theorem dX10_readFirst_109 : decode cX10_readFirst 109 = .ok (.ldc 137, 2) := dk_18 137 (dk_at dksX10_readFirst_4 16 rfl rfl)
theorem dX10_readFirst_111 : decode cX10_readFirst 111 = .ok (.iconst 1, 1) := dk_4 (dk_at dksX10_readFirst_4 18 rfl rfl)
theorem dX10_readFirst_112 : decode cX10_readFirst 112 = .ok (.bipush 99, 2) := dk_16 99 (dk_at dksX10_readFirst_4 19 rfl rfl)
theorem dX10_readFirst_114 : decode cX10_readFirst 114 = .ok (.invokevirtual 123, 3) := dk_182 0 123 (dk_at dksX10_readFirst_4 21 rfl rfl)
theorem dX10_readFirst_117 : decode cX10_readFirst 117 = .ok (.iastore, 1) := dk_79 (dk_at dksX10_readFirst_5 0 rfl rfl)
theorem dX10_readFirst_118 : decode cX10_readFirst 118 = .ok (.aload_n 0, 1) := dk_42 (dk_at dksX10_readFirst_5 1 rfl rfl)
theorem dX10_readFirst_119 : decode cX10_readFirst 119 = .ok (.getfield 20, 3) := dk_180 0 20 (dk_at dksX10_readFirst_5 2 rfl rfl)
theorem dX10_readFirst_122 : decode cX10_readFirst 122 = .ok (.bipush 7, 2) := dk_16 7 (dk_at dksX10_readFirst_5 5 rfl rfl)
theorem dX10_readFirst_124 : decode cX10_readFirst 124 = .ok (.aload_n 0, 1) := dk_42 (dk_at dksX10_readFirst_5 7 rfl rfl)
theorem dX10_readFirst_125 : decode cX10_readFirst 125 = .ok (.ldc 139, 2) := dk_18 139 (dk_at dksX10_readFirst_5 8 rfl rfl)
theorem dX10_readFirst_127 : decode cX10_readFirst 127 = .ok (.iconst 0, 1) := dk_3 (dk_at dksX10_readFirst_5 10 rfl rfl)
theorem dX10_readFirst_128 : decode cX10_readFirst 128 = .ok (.sipush 359, 3) := dk_17 1 103 (dk_at dksX10_readFirst_5 11 rfl rfl)
theorem dX10_readFirst_131 : decode cX10_readFirst 131 = .ok (.invokevirtual 123, 3) := dk_182 0 123 (dk_at dksX10_readFirst_5 14 rfl rfl)
theorem dX10_readFirst_134 : decode cX10_readFirst 134 = .ok (.iastore, 1) := dk_79 (dk_at dksX10_readFirst_5 17 rfl rfl)
theorem dX10_readFirst_135 : decode cX10_readFirst 135 = .ok (.aload_n 0, 1) := dk_42 (dk_at dksX10_readFirst_5 18 rfl rfl)
theorem dX10_readFirst_136 : decode cX10_readFirst 136 = .ok (.getfield 20, 3) := dk_180 0 20 (dk_at dksX10_readFirst_5 19 rfl rfl)
theorem dX10_readFirst_139 : decode cX10_readFirst 139 = .ok (.bipush 8, 2) := dk_16 8 (dk_at dksX10_readFirst_5 22 rfl rfl)
theorem dX10_readFirst_141 : decode cX10_readFirst 141 = .ok (.aload_n 0, 1) := dk_42 (dk_at dksX10_readFirst_6 0 rfl rfl)
theorem dX10_readFirst_142 : decode cX10_readFirst 142 = .ok (.ldc 141, 2) := dk_18 141 (dk_at dksX10_readFirst_6 1 rfl rfl)
theorem dX10_readFirst_144 : decode cX10_readFirst 144 = .ok (.iconst 1, 1) := dk_4 (dk_at dksX10_readFirst_6 3 rfl rfl)
theorem dX10_readFirst_145 : decode cX10_readFirst 145 = .ok (.sipush 999, 3) := dk_17 3 231 (dk_at dksX10_readFirst_6 4 rfl rfl)
theorem dX10_readFirst_148 : decode cX10_readFirst 148 = .ok (.invokevirtual 123, 3) := dk_182 0 123 (dk_at dksX10_readFirst_6 7 rfl rfl)
theorem dX10_readFirst_151 : decode cX10_readFirst 151 = .ok (.iastore, 1) := dk_79 (dk_at dksX10_readFirst_6 10 rfl rfl)
theorem dX10_readFirst_152 : decode cX10_readFirst 152 = .ok (.aload_n 0, 1) := dk_42 (dk_at dksX10_readFirst_6 11 rfl rfl)
theorem dX10_readFirst_153 : decode cX10_readFirst 153 = .ok (.getfield 20, 3) := dk_180 0 20 (dk_at dksX10_readFirst_6 12 rfl rfl)
theorem dX10_readFirst_156 : decode cX10_readFirst 156 = .ok (.bipush 9, 2) := dk_16 9 (dk_at dksX10_readFirst_6 15 rfl rfl)
theorem dX10_readFirst_158 : decode cX10_readFirst 158 = .ok (.aload_n 0, 1) := dk_42 (dk_at dksX10_readFirst_6 17 rfl rfl)
theorem dX10_readFirst_159 : decode cX10_readFirst 159 = .ok (.ldc 143, 2) := dk_18 143 (dk_at dksX10_readFirst_6 18 rfl rfl)
theorem dX10_readFirst_161 : decode cX10_readFirst 161 = .ok (.iconst 0, 1) := dk_3 (dk_at dksX10_readFirst_6 20 rfl rfl)
theorem dX10_readFirst_162 : decode cX10_readFirst 162 = .ok (.sipush 170, 3) := dk_17 0 170 (dk_at dksX10_readFirst_6 21 rfl rfl)
theorem dX10_readFirst_165 : decode cX10_readFirst 165 = .ok (.invokevirtual 123, 3) := dk_182 0 123 (dk_at dksX10_readFirst_7 0 rfl rfl)
theorem dX10_readFirst_168 : decode cX10_readFirst 168 = .ok (.iastore, 1) := dk_79 (dk_at dksX10_readFirst_7 3 rfl rfl)
theorem dX10_readFirst_169 : decode cX10_readFirst 169 = .ok (.return_, 1) := dk_177 (dk_at dksX10_readFirst_7 4 rfl rfl)
abbrev cX10_keyword : ByteArray := prog_22_method_17_code
def yX10_keyword : MethodName := ⟨RX10, "keyword", "(Ljava/lang/String;)V"⟩
def dkwX10_keyword_0 : List UInt8 := [42, 43, 182, 0, 102, 154, 0, 8, 42, 4, 182, 0, 105, 177]
abbrev dktX10_keyword_0 : List UInt8 := dkwX10_keyword_0 ++ []
theorem dksX10_keyword_0 : cX10_keyword.data.toList.drop 0 = dktX10_keyword_0 := by decide +kernel
theorem dX10_keyword_0 : decode cX10_keyword 0 = .ok (.aload_n 0, 1) := dk_42 (dk_at dksX10_keyword_0 0 rfl rfl)
theorem dX10_keyword_1 : decode cX10_keyword 1 = .ok (.aload_n 1, 1) := dk_43 (dk_at dksX10_keyword_0 1 rfl rfl)
theorem dX10_keyword_2 : decode cX10_keyword 2 = .ok (.invokevirtual 102, 3) := dk_182 0 102 (dk_at dksX10_keyword_0 2 rfl rfl)
theorem dX10_keyword_5 : decode cX10_keyword 5 = .ok (.ifCond .ne 8, 3) := dk_154 0 8 (dk_at dksX10_keyword_0 5 rfl rfl)
theorem dX10_keyword_8 : decode cX10_keyword 8 = .ok (.aload_n 0, 1) := dk_42 (dk_at dksX10_keyword_0 8 rfl rfl)
theorem dX10_keyword_9 : decode cX10_keyword 9 = .ok (.iconst 1, 1) := dk_4 (dk_at dksX10_keyword_0 9 rfl rfl)
theorem dX10_keyword_10 : decode cX10_keyword 10 = .ok (.invokevirtual 105, 3) := dk_182 0 105 (dk_at dksX10_keyword_0 10 rfl rfl)
theorem dX10_keyword_13 : decode cX10_keyword 13 = .ok (.return_, 1) := dk_177 (dk_at dksX10_keyword_0 13 rfl rfl)
abbrev cX10_takes : ByteArray := prog_22_method_16_code
def yX10_takes : MethodName := ⟨RX10, "takes", "(Ljava/lang/String;)Z"⟩
def dkwX10_takes_0 : List UInt8 := [42, 43, 182, 0, 95, 61, 28, 153, 0, 7, 42, 182, 0, 99, 28, 172]
abbrev dktX10_takes_0 : List UInt8 := dkwX10_takes_0 ++ []
theorem dksX10_takes_0 : cX10_takes.data.toList.drop 0 = dktX10_takes_0 := by decide +kernel
theorem dX10_takes_0 : decode cX10_takes 0 = .ok (.aload_n 0, 1) := dk_42 (dk_at dksX10_takes_0 0 rfl rfl)
theorem dX10_takes_1 : decode cX10_takes 1 = .ok (.aload_n 1, 1) := dk_43 (dk_at dksX10_takes_0 1 rfl rfl)
theorem dX10_takes_2 : decode cX10_takes 2 = .ok (.invokevirtual 95, 3) := dk_182 0 95 (dk_at dksX10_takes_0 2 rfl rfl)
theorem dX10_takes_5 : decode cX10_takes 5 = .ok (.istore_n 2, 1) := dk_61 (dk_at dksX10_takes_0 5 rfl rfl)
theorem dX10_takes_6 : decode cX10_takes 6 = .ok (.iload_n 2, 1) := dk_28 (dk_at dksX10_takes_0 6 rfl rfl)
theorem dX10_takes_7 : decode cX10_takes 7 = .ok (.ifCond .eq 7, 3) := dk_153 0 7 (dk_at dksX10_takes_0 7 rfl rfl)
theorem dX10_takes_10 : decode cX10_takes 10 = .ok (.aload_n 0, 1) := dk_42 (dk_at dksX10_takes_0 10 rfl rfl)
theorem dX10_takes_11 : decode cX10_takes 11 = .ok (.invokevirtual 99, 3) := dk_182 0 99 (dk_at dksX10_takes_0 11 rfl rfl)
theorem dX10_takes_14 : decode cX10_takes 14 = .ok (.iload_n 2, 1) := dk_28 (dk_at dksX10_takes_0 14 rfl rfl)
theorem dX10_takes_15 : decode cX10_takes 15 = .ok (.ireturn, 1) := dk_172 (dk_at dksX10_takes_0 15 rfl rfl)
abbrev cX10_isWord : ByteArray := prog_22_method_15_code
def yX10_isWord : MethodName := ⟨RX10, "isWord", "(Ljava/lang/String;)Z"⟩
def dkwX10_isWord_2 : List UInt8 := [180, 0, 61, 28, 96, 46, 43, 28, 182, 0, 91, 159, 0, 5, 3, 172, 132, 2, 1, 167, 255, 224, 4, 172]
abbrev dktX10_isWord_2 : List UInt8 := dkwX10_isWord_2 ++ []
def dkwX10_isWord_1 : List UInt8 := [43, 182, 0, 85, 159, 0, 5, 3, 172, 3, 61, 28, 43, 182, 0, 85, 162, 0, 30, 42, 180, 0, 9, 42]
abbrev dktX10_isWord_1 : List UInt8 := dkwX10_isWord_1 ++ dktX10_isWord_2
def dkwX10_isWord_0 : List UInt8 := [42, 180, 0, 55, 157, 0, 27, 42, 180, 0, 71, 5, 160, 0, 19, 42, 180, 0, 64, 42, 180, 0, 61, 100]
abbrev dktX10_isWord_0 : List UInt8 := dkwX10_isWord_0 ++ dktX10_isWord_1
theorem dksX10_isWord_0 : cX10_isWord.data.toList.drop 0 = dktX10_isWord_0 := by decide +kernel
theorem dksX10_isWord_1 : cX10_isWord.data.toList.drop 24 = dktX10_isWord_1 := dk_seg dksX10_isWord_0 24 rfl rfl
theorem dksX10_isWord_2 : cX10_isWord.data.toList.drop 48 = dktX10_isWord_2 := dk_seg dksX10_isWord_1 24 rfl rfl
theorem dX10_isWord_0 : decode cX10_isWord 0 = .ok (.aload_n 0, 1) := dk_42 (dk_at dksX10_isWord_0 0 rfl rfl)
theorem dX10_isWord_1 : decode cX10_isWord 1 = .ok (.getfield 55, 3) := dk_180 0 55 (dk_at dksX10_isWord_0 1 rfl rfl)
theorem dX10_isWord_4 : decode cX10_isWord 4 = .ok (.ifCond .gt 27, 3) := dk_157 0 27 (dk_at dksX10_isWord_0 4 rfl rfl)
theorem dX10_isWord_7 : decode cX10_isWord 7 = .ok (.aload_n 0, 1) := dk_42 (dk_at dksX10_isWord_0 7 rfl rfl)
theorem dX10_isWord_8 : decode cX10_isWord 8 = .ok (.getfield 71, 3) := dk_180 0 71 (dk_at dksX10_isWord_0 8 rfl rfl)
theorem dX10_isWord_11 : decode cX10_isWord 11 = .ok (.iconst 2, 1) := dk_5 (dk_at dksX10_isWord_0 11 rfl rfl)
theorem dX10_isWord_12 : decode cX10_isWord 12 = .ok (.if_icmp .ne 19, 3) := dk_160 0 19 (dk_at dksX10_isWord_0 12 rfl rfl)
theorem dX10_isWord_15 : decode cX10_isWord 15 = .ok (.aload_n 0, 1) := dk_42 (dk_at dksX10_isWord_0 15 rfl rfl)
theorem dX10_isWord_16 : decode cX10_isWord 16 = .ok (.getfield 64, 3) := dk_180 0 64 (dk_at dksX10_isWord_0 16 rfl rfl)
theorem dX10_isWord_19 : decode cX10_isWord 19 = .ok (.aload_n 0, 1) := dk_42 (dk_at dksX10_isWord_0 19 rfl rfl)
theorem dX10_isWord_20 : decode cX10_isWord 20 = .ok (.getfield 61, 3) := dk_180 0 61 (dk_at dksX10_isWord_0 20 rfl rfl)
theorem dX10_isWord_23 : decode cX10_isWord 23 = .ok (.isub, 1) := dk_100 (dk_at dksX10_isWord_0 23 rfl rfl)
theorem dX10_isWord_24 : decode cX10_isWord 24 = .ok (.aload_n 1, 1) := dk_43 (dk_at dksX10_isWord_1 0 rfl rfl)
theorem dX10_isWord_25 : decode cX10_isWord 25 = .ok (.invokevirtual 85, 3) := dk_182 0 85 (dk_at dksX10_isWord_1 1 rfl rfl)
theorem dX10_isWord_28 : decode cX10_isWord 28 = .ok (.if_icmp .eq 5, 3) := dk_159 0 5 (dk_at dksX10_isWord_1 4 rfl rfl)
theorem dX10_isWord_31 : decode cX10_isWord 31 = .ok (.iconst 0, 1) := dk_3 (dk_at dksX10_isWord_1 7 rfl rfl)
theorem dX10_isWord_32 : decode cX10_isWord 32 = .ok (.ireturn, 1) := dk_172 (dk_at dksX10_isWord_1 8 rfl rfl)
theorem dX10_isWord_33 : decode cX10_isWord 33 = .ok (.iconst 0, 1) := dk_3 (dk_at dksX10_isWord_1 9 rfl rfl)
theorem dX10_isWord_34 : decode cX10_isWord 34 = .ok (.istore_n 2, 1) := dk_61 (dk_at dksX10_isWord_1 10 rfl rfl)
theorem dX10_isWord_35 : decode cX10_isWord 35 = .ok (.iload_n 2, 1) := dk_28 (dk_at dksX10_isWord_1 11 rfl rfl)
theorem dX10_isWord_36 : decode cX10_isWord 36 = .ok (.aload_n 1, 1) := dk_43 (dk_at dksX10_isWord_1 12 rfl rfl)
theorem dX10_isWord_37 : decode cX10_isWord 37 = .ok (.invokevirtual 85, 3) := dk_182 0 85 (dk_at dksX10_isWord_1 13 rfl rfl)
theorem dX10_isWord_40 : decode cX10_isWord 40 = .ok (.if_icmp .ge 30, 3) := dk_162 0 30 (dk_at dksX10_isWord_1 16 rfl rfl)
theorem dX10_isWord_43 : decode cX10_isWord 43 = .ok (.aload_n 0, 1) := dk_42 (dk_at dksX10_isWord_1 19 rfl rfl)
theorem dX10_isWord_44 : decode cX10_isWord 44 = .ok (.getfield 9, 3) := dk_180 0 9 (dk_at dksX10_isWord_1 20 rfl rfl)
theorem dX10_isWord_47 : decode cX10_isWord 47 = .ok (.aload_n 0, 1) := dk_42 (dk_at dksX10_isWord_1 23 rfl rfl)
theorem dX10_isWord_48 : decode cX10_isWord 48 = .ok (.getfield 61, 3) := dk_180 0 61 (dk_at dksX10_isWord_2 0 rfl rfl)
theorem dX10_isWord_51 : decode cX10_isWord 51 = .ok (.iload_n 2, 1) := dk_28 (dk_at dksX10_isWord_2 3 rfl rfl)
theorem dX10_isWord_52 : decode cX10_isWord 52 = .ok (.iadd, 1) := dk_96 (dk_at dksX10_isWord_2 4 rfl rfl)
theorem dX10_isWord_53 : decode cX10_isWord 53 = .ok (.iaload, 1) := dk_46 (dk_at dksX10_isWord_2 5 rfl rfl)
theorem dX10_isWord_54 : decode cX10_isWord 54 = .ok (.aload_n 1, 1) := dk_43 (dk_at dksX10_isWord_2 6 rfl rfl)
theorem dX10_isWord_55 : decode cX10_isWord 55 = .ok (.iload_n 2, 1) := dk_28 (dk_at dksX10_isWord_2 7 rfl rfl)
theorem dX10_isWord_56 : decode cX10_isWord 56 = .ok (.invokevirtual 91, 3) := dk_182 0 91 (dk_at dksX10_isWord_2 8 rfl rfl)
theorem dX10_isWord_59 : decode cX10_isWord 59 = .ok (.if_icmp .eq 5, 3) := dk_159 0 5 (dk_at dksX10_isWord_2 11 rfl rfl)
theorem dX10_isWord_62 : decode cX10_isWord 62 = .ok (.iconst 0, 1) := dk_3 (dk_at dksX10_isWord_2 14 rfl rfl)
theorem dX10_isWord_63 : decode cX10_isWord 63 = .ok (.ireturn, 1) := dk_172 (dk_at dksX10_isWord_2 15 rfl rfl)
theorem dX10_isWord_64 : decode cX10_isWord 64 = .ok (.iinc 2 1, 3) := dk_132 2 1 (dk_at dksX10_isWord_2 16 rfl rfl)
theorem dX10_isWord_67 : decode cX10_isWord 67 = .ok (.goto (-32), 3) := dk_167 255 224 (dk_at dksX10_isWord_2 19 rfl rfl)
theorem dX10_isWord_70 : decode cX10_isWord 70 = .ok (.iconst 1, 1) := dk_4 (dk_at dksX10_isWord_2 22 rfl rfl)
theorem dX10_isWord_71 : decode cX10_isWord 71 = .ok (.ireturn, 1) := dk_172 (dk_at dksX10_isWord_2 23 rfl rfl)
abbrev cX10_faults : ByteArray := prog_22_method_11_code
def yX10_faults : MethodName := ⟨RX10, "faults", "(I)V"⟩
def dkwX10_faults_0 : List UInt8 := [42, 180, 0, 55, 158, 0, 4, 177, 42, 27, 181, 0, 55, 42, 42, 180, 0, 61, 181, 0, 13, 177]
abbrev dktX10_faults_0 : List UInt8 := dkwX10_faults_0 ++ []
theorem dksX10_faults_0 : cX10_faults.data.toList.drop 0 = dktX10_faults_0 := by decide +kernel
theorem dX10_faults_0 : decode cX10_faults 0 = .ok (.aload_n 0, 1) := dk_42 (dk_at dksX10_faults_0 0 rfl rfl)
theorem dX10_faults_1 : decode cX10_faults 1 = .ok (.getfield 55, 3) := dk_180 0 55 (dk_at dksX10_faults_0 1 rfl rfl)
theorem dX10_faults_4 : decode cX10_faults 4 = .ok (.ifCond .le 4, 3) := dk_158 0 4 (dk_at dksX10_faults_0 4 rfl rfl)
theorem dX10_faults_7 : decode cX10_faults 7 = .ok (.return_, 1) := dk_177 (dk_at dksX10_faults_0 7 rfl rfl)
theorem dX10_faults_8 : decode cX10_faults 8 = .ok (.aload_n 0, 1) := dk_42 (dk_at dksX10_faults_0 8 rfl rfl)
theorem dX10_faults_9 : decode cX10_faults 9 = .ok (.iload_n 1, 1) := dk_27 (dk_at dksX10_faults_0 9 rfl rfl)
theorem dX10_faults_10 : decode cX10_faults 10 = .ok (.putfield 55, 3) := dk_181 0 55 (dk_at dksX10_faults_0 10 rfl rfl)
theorem dX10_faults_13 : decode cX10_faults 13 = .ok (.aload_n 0, 1) := dk_42 (dk_at dksX10_faults_0 13 rfl rfl)
theorem dX10_faults_14 : decode cX10_faults 14 = .ok (.aload_n 0, 1) := dk_42 (dk_at dksX10_faults_0 14 rfl rfl)
theorem dX10_faults_15 : decode cX10_faults 15 = .ok (.getfield 61, 3) := dk_180 0 61 (dk_at dksX10_faults_0 15 rfl rfl)
theorem dX10_faults_18 : decode cX10_faults 18 = .ok (.putfield 13, 3) := dk_181 0 13 (dk_at dksX10_faults_0 18 rfl rfl)
theorem dX10_faults_21 : decode cX10_faults 21 = .ok (.return_, 1) := dk_177 (dk_at dksX10_faults_0 21 rfl rfl)
abbrev cX10_gauge : ByteArray := prog_22_method_20_code
def yX10_gauge : MethodName := ⟨RX10, "gauge", "(Ljava/lang/String;II)I"⟩
def dkwX10_gauge_0 : List UInt8 := [42, 43, 182, 0, 112, 42, 28, 29, 182, 0, 116, 172]
abbrev dktX10_gauge_0 : List UInt8 := dkwX10_gauge_0 ++ []
theorem dksX10_gauge_0 : cX10_gauge.data.toList.drop 0 = dktX10_gauge_0 := by decide +kernel
theorem dX10_gauge_0 : decode cX10_gauge 0 = .ok (.aload_n 0, 1) := dk_42 (dk_at dksX10_gauge_0 0 rfl rfl)
theorem dX10_gauge_1 : decode cX10_gauge 1 = .ok (.aload_n 1, 1) := dk_43 (dk_at dksX10_gauge_0 1 rfl rfl)
theorem dX10_gauge_2 : decode cX10_gauge 2 = .ok (.invokevirtual 112, 3) := dk_182 0 112 (dk_at dksX10_gauge_0 2 rfl rfl)
theorem dX10_gauge_5 : decode cX10_gauge 5 = .ok (.aload_n 0, 1) := dk_42 (dk_at dksX10_gauge_0 5 rfl rfl)
theorem dX10_gauge_6 : decode cX10_gauge 6 = .ok (.iload_n 2, 1) := dk_28 (dk_at dksX10_gauge_0 6 rfl rfl)
theorem dX10_gauge_7 : decode cX10_gauge 7 = .ok (.iload_n 3, 1) := dk_29 (dk_at dksX10_gauge_0 7 rfl rfl)
theorem dX10_gauge_8 : decode cX10_gauge 8 = .ok (.invokevirtual 116, 3) := dk_182 0 116 (dk_at dksX10_gauge_0 8 rfl rfl)
theorem dX10_gauge_11 : decode cX10_gauge 11 = .ok (.ireturn, 1) := dk_172 (dk_at dksX10_gauge_0 11 rfl rfl)
abbrev cX10_number : ByteArray := prog_22_method_19_code
def yX10_number : MethodName := ⟨RX10, "number", "(II)I"⟩
def dkwX10_number_0 : List UInt8 := [42, 27, 28, 182, 0, 108, 62, 42, 182, 0, 99, 29, 172]
abbrev dktX10_number_0 : List UInt8 := dkwX10_number_0 ++ []
theorem dksX10_number_0 : cX10_number.data.toList.drop 0 = dktX10_number_0 := by decide +kernel
theorem dX10_number_0 : decode cX10_number 0 = .ok (.aload_n 0, 1) := dk_42 (dk_at dksX10_number_0 0 rfl rfl)
theorem dX10_number_1 : decode cX10_number 1 = .ok (.iload_n 1, 1) := dk_27 (dk_at dksX10_number_0 1 rfl rfl)
theorem dX10_number_2 : decode cX10_number 2 = .ok (.iload_n 2, 1) := dk_28 (dk_at dksX10_number_0 2 rfl rfl)
theorem dX10_number_3 : decode cX10_number 3 = .ok (.invokevirtual 108, 3) := dk_182 0 108 (dk_at dksX10_number_0 3 rfl rfl)
theorem dX10_number_6 : decode cX10_number 6 = .ok (.istore_n 3, 1) := dk_62 (dk_at dksX10_number_0 6 rfl rfl)
theorem dX10_number_7 : decode cX10_number 7 = .ok (.aload_n 0, 1) := dk_42 (dk_at dksX10_number_0 7 rfl rfl)
theorem dX10_number_8 : decode cX10_number 8 = .ok (.invokevirtual 99, 3) := dk_182 0 99 (dk_at dksX10_number_0 8 rfl rfl)
theorem dX10_number_11 : decode cX10_number 11 = .ok (.iload_n 3, 1) := dk_29 (dk_at dksX10_number_0 11 rfl rfl)
theorem dX10_number_12 : decode cX10_number 12 = .ok (.ireturn, 1) := dk_172 (dk_at dksX10_number_0 12 rfl rfl)
abbrev cX10_look : ByteArray := prog_22_method_18_code
def yX10_look : MethodName := ⟨RX10, "look", "(II)I"⟩
def dkwX10_look_2 : List UInt8 := [158, 0, 7, 27, 167, 0, 7, 42, 180, 0, 78, 172]
abbrev dktX10_look_2 : List UInt8 := dkwX10_look_2 ++ []
def dkwX10_look_1 : List UInt8 := [167, 0, 20, 42, 180, 0, 78, 27, 28, 184, 0, 74, 154, 0, 8, 42, 5, 182, 0, 105, 42, 180, 0, 55]
abbrev dktX10_look_1 : List UInt8 := dkwX10_look_1 ++ dktX10_look_2
def dkwX10_look_0 : List UInt8 := [42, 180, 0, 55, 158, 0, 5, 27, 172, 42, 180, 0, 71, 6, 159, 0, 11, 42, 4, 182, 0, 105]
abbrev dktX10_look_0 : List UInt8 := dkwX10_look_0 ++ dktX10_look_1
theorem dksX10_look_0 : cX10_look.data.toList.drop 0 = dktX10_look_0 := by decide +kernel
theorem dksX10_look_1 : cX10_look.data.toList.drop 22 = dktX10_look_1 := dk_seg dksX10_look_0 22 rfl rfl
theorem dksX10_look_2 : cX10_look.data.toList.drop 46 = dktX10_look_2 := dk_seg dksX10_look_1 24 rfl rfl
theorem dX10_look_0 : decode cX10_look 0 = .ok (.aload_n 0, 1) := dk_42 (dk_at dksX10_look_0 0 rfl rfl)
theorem dX10_look_1 : decode cX10_look 1 = .ok (.getfield 55, 3) := dk_180 0 55 (dk_at dksX10_look_0 1 rfl rfl)
theorem dX10_look_4 : decode cX10_look 4 = .ok (.ifCond .le 5, 3) := dk_158 0 5 (dk_at dksX10_look_0 4 rfl rfl)
theorem dX10_look_7 : decode cX10_look 7 = .ok (.iload_n 1, 1) := dk_27 (dk_at dksX10_look_0 7 rfl rfl)
theorem dX10_look_8 : decode cX10_look 8 = .ok (.ireturn, 1) := dk_172 (dk_at dksX10_look_0 8 rfl rfl)
theorem dX10_look_9 : decode cX10_look 9 = .ok (.aload_n 0, 1) := dk_42 (dk_at dksX10_look_0 9 rfl rfl)
theorem dX10_look_10 : decode cX10_look 10 = .ok (.getfield 71, 3) := dk_180 0 71 (dk_at dksX10_look_0 10 rfl rfl)
theorem dX10_look_13 : decode cX10_look 13 = .ok (.iconst 3, 1) := dk_6 (dk_at dksX10_look_0 13 rfl rfl)
theorem dX10_look_14 : decode cX10_look 14 = .ok (.if_icmp .eq 11, 3) := dk_159 0 11 (dk_at dksX10_look_0 14 rfl rfl)
theorem dX10_look_17 : decode cX10_look 17 = .ok (.aload_n 0, 1) := dk_42 (dk_at dksX10_look_0 17 rfl rfl)
theorem dX10_look_18 : decode cX10_look 18 = .ok (.iconst 1, 1) := dk_4 (dk_at dksX10_look_0 18 rfl rfl)
theorem dX10_look_19 : decode cX10_look 19 = .ok (.invokevirtual 105, 3) := dk_182 0 105 (dk_at dksX10_look_0 19 rfl rfl)
theorem dX10_look_22 : decode cX10_look 22 = .ok (.goto 20, 3) := dk_167 0 20 (dk_at dksX10_look_1 0 rfl rfl)
theorem dX10_look_25 : decode cX10_look 25 = .ok (.aload_n 0, 1) := dk_42 (dk_at dksX10_look_1 3 rfl rfl)
theorem dX10_look_26 : decode cX10_look 26 = .ok (.getfield 78, 3) := dk_180 0 78 (dk_at dksX10_look_1 4 rfl rfl)
theorem dX10_look_29 : decode cX10_look 29 = .ok (.iload_n 1, 1) := dk_27 (dk_at dksX10_look_1 7 rfl rfl)
theorem dX10_look_30 : decode cX10_look 30 = .ok (.iload_n 2, 1) := dk_28 (dk_at dksX10_look_1 8 rfl rfl)
theorem dX10_look_31 : decode cX10_look 31 = .ok (.invokestatic 74, 3) := dk_184 0 74 (dk_at dksX10_look_1 9 rfl rfl)
theorem dX10_look_34 : decode cX10_look 34 = .ok (.ifCond .ne 8, 3) := dk_154 0 8 (dk_at dksX10_look_1 12 rfl rfl)
theorem dX10_look_37 : decode cX10_look 37 = .ok (.aload_n 0, 1) := dk_42 (dk_at dksX10_look_1 15 rfl rfl)
theorem dX10_look_38 : decode cX10_look 38 = .ok (.iconst 2, 1) := dk_5 (dk_at dksX10_look_1 16 rfl rfl)
theorem dX10_look_39 : decode cX10_look 39 = .ok (.invokevirtual 105, 3) := dk_182 0 105 (dk_at dksX10_look_1 17 rfl rfl)
theorem dX10_look_42 : decode cX10_look 42 = .ok (.aload_n 0, 1) := dk_42 (dk_at dksX10_look_1 20 rfl rfl)
theorem dX10_look_43 : decode cX10_look 43 = .ok (.getfield 55, 3) := dk_180 0 55 (dk_at dksX10_look_1 21 rfl rfl)
theorem dX10_look_46 : decode cX10_look 46 = .ok (.ifCond .le 7, 3) := dk_158 0 7 (dk_at dksX10_look_2 0 rfl rfl)
theorem dX10_look_49 : decode cX10_look 49 = .ok (.iload_n 1, 1) := dk_27 (dk_at dksX10_look_2 3 rfl rfl)
theorem dX10_look_50 : decode cX10_look 50 = .ok (.goto 7, 3) := dk_167 0 7 (dk_at dksX10_look_2 4 rfl rfl)
theorem dX10_look_53 : decode cX10_look 53 = .ok (.aload_n 0, 1) := dk_42 (dk_at dksX10_look_2 7 rfl rfl)
theorem dX10_look_54 : decode cX10_look 54 = .ok (.getfield 78, 3) := dk_180 0 78 (dk_at dksX10_look_2 8 rfl rfl)
theorem dX10_look_57 : decode cX10_look 57 = .ok (.ireturn, 1) := dk_172 (dk_at dksX10_look_2 11 rfl rfl)
abbrev cX10_isSignHere : ByteArray := prog_22_method_14_code
def yX10_isSignHere : MethodName := ⟨RX10, "isSignHere", "(I)Z"⟩
def dkwX10_isSignHere_1 : List UInt8 := [167, 0, 4, 3, 172]
abbrev dktX10_isSignHere_1 : List UInt8 := dkwX10_isSignHere_1 ++ []
def dkwX10_isSignHere_0 : List UInt8 := [42, 180, 0, 55, 154, 0, 23, 42, 180, 0, 71, 7, 160, 0, 15, 42, 180, 0, 78, 27, 160, 0, 7, 4]
abbrev dktX10_isSignHere_0 : List UInt8 := dkwX10_isSignHere_0 ++ dktX10_isSignHere_1
theorem dksX10_isSignHere_0 : cX10_isSignHere.data.toList.drop 0 = dktX10_isSignHere_0 := by decide +kernel
theorem dksX10_isSignHere_1 : cX10_isSignHere.data.toList.drop 24 = dktX10_isSignHere_1 := dk_seg dksX10_isSignHere_0 24 rfl rfl
theorem dX10_isSignHere_0 : decode cX10_isSignHere 0 = .ok (.aload_n 0, 1) := dk_42 (dk_at dksX10_isSignHere_0 0 rfl rfl)
theorem dX10_isSignHere_1 : decode cX10_isSignHere 1 = .ok (.getfield 55, 3) := dk_180 0 55 (dk_at dksX10_isSignHere_0 1 rfl rfl)
theorem dX10_isSignHere_4 : decode cX10_isSignHere 4 = .ok (.ifCond .ne 23, 3) := dk_154 0 23 (dk_at dksX10_isSignHere_0 4 rfl rfl)
theorem dX10_isSignHere_7 : decode cX10_isSignHere 7 = .ok (.aload_n 0, 1) := dk_42 (dk_at dksX10_isSignHere_0 7 rfl rfl)
theorem dX10_isSignHere_8 : decode cX10_isSignHere 8 = .ok (.getfield 71, 3) := dk_180 0 71 (dk_at dksX10_isSignHere_0 8 rfl rfl)
theorem dX10_isSignHere_11 : decode cX10_isSignHere 11 = .ok (.iconst 4, 1) := dk_7 (dk_at dksX10_isSignHere_0 11 rfl rfl)
theorem dX10_isSignHere_12 : decode cX10_isSignHere 12 = .ok (.if_icmp .ne 15, 3) := dk_160 0 15 (dk_at dksX10_isSignHere_0 12 rfl rfl)
theorem dX10_isSignHere_15 : decode cX10_isSignHere 15 = .ok (.aload_n 0, 1) := dk_42 (dk_at dksX10_isSignHere_0 15 rfl rfl)
theorem dX10_isSignHere_16 : decode cX10_isSignHere 16 = .ok (.getfield 78, 3) := dk_180 0 78 (dk_at dksX10_isSignHere_0 16 rfl rfl)
theorem dX10_isSignHere_19 : decode cX10_isSignHere 19 = .ok (.iload_n 1, 1) := dk_27 (dk_at dksX10_isSignHere_0 19 rfl rfl)
theorem dX10_isSignHere_20 : decode cX10_isSignHere 20 = .ok (.if_icmp .ne 7, 3) := dk_160 0 7 (dk_at dksX10_isSignHere_0 20 rfl rfl)
theorem dX10_isSignHere_23 : decode cX10_isSignHere 23 = .ok (.iconst 1, 1) := dk_4 (dk_at dksX10_isSignHere_0 23 rfl rfl)
theorem dX10_isSignHere_24 : decode cX10_isSignHere 24 = .ok (.goto 4, 3) := dk_167 0 4 (dk_at dksX10_isSignHere_1 0 rfl rfl)
theorem dX10_isSignHere_27 : decode cX10_isSignHere 27 = .ok (.iconst 0, 1) := dk_3 (dk_at dksX10_isSignHere_1 3 rfl rfl)
theorem dX10_isSignHere_28 : decode cX10_isSignHere 28 = .ok (.ireturn, 1) := dk_172 (dk_at dksX10_isSignHere_1 4 rfl rfl)
abbrev cX10_readLine : ByteArray := prog_22_method_29_code
def yX10_readLine : MethodName := ⟨RX10, "readLine", "()V"⟩
def dkwX10_readLine_3 : List UInt8 := [177]
abbrev dktX10_readLine_3 : List UInt8 := dkwX10_readLine_3 ++ []
def dkwX10_readLine_2 : List UInt8 := [167, 0, 24, 42, 18, 172, 182, 0, 95, 153, 0, 10, 42, 182, 0, 174, 167, 0, 8, 42, 4, 182, 0, 105]
abbrev dktX10_readLine_2 : List UInt8 := dkwX10_readLine_2 ++ dktX10_readLine_3
def dkwX10_readLine_1 : List UInt8 := [153, 0, 10, 42, 182, 0, 164, 167, 0, 40, 42, 18, 167, 182, 0, 95, 153, 0, 10, 42, 182, 0, 169]
abbrev dktX10_readLine_1 : List UInt8 := dkwX10_readLine_1 ++ dktX10_readLine_2
def dkwX10_readLine_0 : List UInt8 := [42, 18, 157, 182, 0, 95, 153, 0, 10, 42, 182, 0, 159, 167, 0, 56, 42, 18, 162, 182, 0, 95]
abbrev dktX10_readLine_0 : List UInt8 := dkwX10_readLine_0 ++ dktX10_readLine_1
theorem dksX10_readLine_0 : cX10_readLine.data.toList.drop 0 = dktX10_readLine_0 := by decide +kernel
theorem dksX10_readLine_1 : cX10_readLine.data.toList.drop 22 = dktX10_readLine_1 := dk_seg dksX10_readLine_0 22 rfl rfl
theorem dksX10_readLine_2 : cX10_readLine.data.toList.drop 45 = dktX10_readLine_2 := dk_seg dksX10_readLine_1 23 rfl rfl
theorem dksX10_readLine_3 : cX10_readLine.data.toList.drop 69 = dktX10_readLine_3 := dk_seg dksX10_readLine_2 24 rfl rfl
theorem dX10_readLine_0 : decode cX10_readLine 0 = .ok (.aload_n 0, 1) := dk_42 (dk_at dksX10_readLine_0 0 rfl rfl)
theorem dX10_readLine_1 : decode cX10_readLine 1 = .ok (.ldc 157, 2) := dk_18 157 (dk_at dksX10_readLine_0 1 rfl rfl)
theorem dX10_readLine_3 : decode cX10_readLine 3 = .ok (.invokevirtual 95, 3) := dk_182 0 95 (dk_at dksX10_readLine_0 3 rfl rfl)
theorem dX10_readLine_6 : decode cX10_readLine 6 = .ok (.ifCond .eq 10, 3) := dk_153 0 10 (dk_at dksX10_readLine_0 6 rfl rfl)
theorem dX10_readLine_9 : decode cX10_readLine 9 = .ok (.aload_n 0, 1) := dk_42 (dk_at dksX10_readLine_0 9 rfl rfl)
theorem dX10_readLine_10 : decode cX10_readLine 10 = .ok (.invokevirtual 159, 3) := dk_182 0 159 (dk_at dksX10_readLine_0 10 rfl rfl)
theorem dX10_readLine_13 : decode cX10_readLine 13 = .ok (.goto 56, 3) := dk_167 0 56 (dk_at dksX10_readLine_0 13 rfl rfl)
theorem dX10_readLine_16 : decode cX10_readLine 16 = .ok (.aload_n 0, 1) := dk_42 (dk_at dksX10_readLine_0 16 rfl rfl)
theorem dX10_readLine_17 : decode cX10_readLine 17 = .ok (.ldc 162, 2) := dk_18 162 (dk_at dksX10_readLine_0 17 rfl rfl)
theorem dX10_readLine_19 : decode cX10_readLine 19 = .ok (.invokevirtual 95, 3) := dk_182 0 95 (dk_at dksX10_readLine_0 19 rfl rfl)
theorem dX10_readLine_22 : decode cX10_readLine 22 = .ok (.ifCond .eq 10, 3) := dk_153 0 10 (dk_at dksX10_readLine_1 0 rfl rfl)
theorem dX10_readLine_25 : decode cX10_readLine 25 = .ok (.aload_n 0, 1) := dk_42 (dk_at dksX10_readLine_1 3 rfl rfl)
theorem dX10_readLine_26 : decode cX10_readLine 26 = .ok (.invokevirtual 164, 3) := dk_182 0 164 (dk_at dksX10_readLine_1 4 rfl rfl)
theorem dX10_readLine_29 : decode cX10_readLine 29 = .ok (.goto 40, 3) := dk_167 0 40 (dk_at dksX10_readLine_1 7 rfl rfl)
theorem dX10_readLine_32 : decode cX10_readLine 32 = .ok (.aload_n 0, 1) := dk_42 (dk_at dksX10_readLine_1 10 rfl rfl)
theorem dX10_readLine_33 : decode cX10_readLine 33 = .ok (.ldc 167, 2) := dk_18 167 (dk_at dksX10_readLine_1 11 rfl rfl)
theorem dX10_readLine_35 : decode cX10_readLine 35 = .ok (.invokevirtual 95, 3) := dk_182 0 95 (dk_at dksX10_readLine_1 13 rfl rfl)
theorem dX10_readLine_38 : decode cX10_readLine 38 = .ok (.ifCond .eq 10, 3) := dk_153 0 10 (dk_at dksX10_readLine_1 16 rfl rfl)
theorem dX10_readLine_41 : decode cX10_readLine 41 = .ok (.aload_n 0, 1) := dk_42 (dk_at dksX10_readLine_1 19 rfl rfl)
theorem dX10_readLine_42 : decode cX10_readLine 42 = .ok (.invokevirtual 169, 3) := dk_182 0 169 (dk_at dksX10_readLine_1 20 rfl rfl)
theorem dX10_readLine_45 : decode cX10_readLine 45 = .ok (.goto 24, 3) := dk_167 0 24 (dk_at dksX10_readLine_2 0 rfl rfl)
theorem dX10_readLine_48 : decode cX10_readLine 48 = .ok (.aload_n 0, 1) := dk_42 (dk_at dksX10_readLine_2 3 rfl rfl)
theorem dX10_readLine_49 : decode cX10_readLine 49 = .ok (.ldc 172, 2) := dk_18 172 (dk_at dksX10_readLine_2 4 rfl rfl)
theorem dX10_readLine_51 : decode cX10_readLine 51 = .ok (.invokevirtual 95, 3) := dk_182 0 95 (dk_at dksX10_readLine_2 6 rfl rfl)
theorem dX10_readLine_54 : decode cX10_readLine 54 = .ok (.ifCond .eq 10, 3) := dk_153 0 10 (dk_at dksX10_readLine_2 9 rfl rfl)
theorem dX10_readLine_57 : decode cX10_readLine 57 = .ok (.aload_n 0, 1) := dk_42 (dk_at dksX10_readLine_2 12 rfl rfl)
theorem dX10_readLine_58 : decode cX10_readLine 58 = .ok (.invokevirtual 174, 3) := dk_182 0 174 (dk_at dksX10_readLine_2 13 rfl rfl)
theorem dX10_readLine_61 : decode cX10_readLine 61 = .ok (.goto 8, 3) := dk_167 0 8 (dk_at dksX10_readLine_2 16 rfl rfl)
theorem dX10_readLine_64 : decode cX10_readLine 64 = .ok (.aload_n 0, 1) := dk_42 (dk_at dksX10_readLine_2 19 rfl rfl)
theorem dX10_readLine_65 : decode cX10_readLine 65 = .ok (.iconst 1, 1) := dk_4 (dk_at dksX10_readLine_2 20 rfl rfl)
theorem dX10_readLine_66 : decode cX10_readLine 66 = .ok (.invokevirtual 105, 3) := dk_182 0 105 (dk_at dksX10_readLine_2 21 rfl rfl)
theorem dX10_readLine_69 : decode cX10_readLine 69 = .ok (.return_, 1) := dk_177 (dk_at dksX10_readLine_3 0 rfl rfl)
abbrev cX10_readProposal : ByteArray := prog_22_method_23_code
def yX10_readProposal : MethodName := ⟨RX10, "readProposal", "()V"⟩
def dkwX10_readProposal_6 : List UInt8 := [27, 96, 42, 3, 17, 39, 15, 182, 0, 116, 79, 42, 180, 0, 20, 16, 10, 92, 46, 4, 96, 79, 177]
abbrev dktX10_readProposal_6 : List UInt8 := dkwX10_readProposal_6 ++ []
def dkwX10_readProposal_5 : List UInt8 := [42, 180, 0, 61, 28, 96, 46, 79, 132, 2, 1, 167, 255, 215, 42, 182, 0, 99, 42, 180, 0, 26, 16, 17]
abbrev dktX10_readProposal_5 : List UInt8 := dkwX10_readProposal_5 ++ dktX10_readProposal_6
def dkwX10_readProposal_4 : List UInt8 := [180, 0, 61, 100, 162, 0, 34, 42, 180, 0, 20, 16, 17, 16, 8, 27, 104, 96, 28, 96, 42, 180, 0, 9]
abbrev dktX10_readProposal_4 : List UInt8 := dkwX10_readProposal_4 ++ dktX10_readProposal_5
def dkwX10_readProposal_3 : List UInt8 := [16, 11, 27, 96, 42, 180, 0, 64, 42, 180, 0, 61, 100, 79, 3, 61, 28, 42, 180, 0, 64, 42]
abbrev dktX10_readProposal_3 : List UInt8 := dkwX10_readProposal_3 ++ dktX10_readProposal_4
def dkwX10_readProposal_2 : List UInt8 := [182, 0, 145, 2, 159, 0, 8, 42, 6, 182, 0, 105, 42, 180, 0, 55, 158, 0, 4, 177, 42, 180, 0, 20]
abbrev dktX10_readProposal_2 : List UInt8 := dkwX10_readProposal_2 ++ dktX10_readProposal_3
def dkwX10_readProposal_1 : List UInt8 := [180, 0, 55, 158, 0, 4, 177, 42, 180, 0, 71, 5, 159, 0, 11, 42, 4, 182, 0, 105, 167, 0, 16, 42]
abbrev dktX10_readProposal_1 : List UInt8 := dkwX10_readProposal_1 ++ dktX10_readProposal_2
def dkwX10_readProposal_0 : List UInt8 := [42, 180, 0, 20, 16, 10, 46, 60, 27, 16, 6, 160, 0, 8, 42, 7, 182, 0, 105, 42, 182, 0, 99, 42]
abbrev dktX10_readProposal_0 : List UInt8 := dkwX10_readProposal_0 ++ dktX10_readProposal_1
theorem dksX10_readProposal_0 : cX10_readProposal.data.toList.drop 0 = dktX10_readProposal_0 := by decide +kernel
theorem dksX10_readProposal_1 : cX10_readProposal.data.toList.drop 24 = dktX10_readProposal_1 := dk_seg dksX10_readProposal_0 24 rfl rfl
theorem dksX10_readProposal_2 : cX10_readProposal.data.toList.drop 48 = dktX10_readProposal_2 := dk_seg dksX10_readProposal_1 24 rfl rfl
theorem dksX10_readProposal_3 : cX10_readProposal.data.toList.drop 72 = dktX10_readProposal_3 := dk_seg dksX10_readProposal_2 24 rfl rfl
theorem dksX10_readProposal_4 : cX10_readProposal.data.toList.drop 94 = dktX10_readProposal_4 := dk_seg dksX10_readProposal_3 22 rfl rfl
theorem dksX10_readProposal_5 : cX10_readProposal.data.toList.drop 118 = dktX10_readProposal_5 := dk_seg dksX10_readProposal_4 24 rfl rfl
theorem dksX10_readProposal_6 : cX10_readProposal.data.toList.drop 142 = dktX10_readProposal_6 := dk_seg dksX10_readProposal_5 24 rfl rfl
theorem dX10_readProposal_0 : decode cX10_readProposal 0 = .ok (.aload_n 0, 1) := dk_42 (dk_at dksX10_readProposal_0 0 rfl rfl)
theorem dX10_readProposal_1 : decode cX10_readProposal 1 = .ok (.getfield 20, 3) := dk_180 0 20 (dk_at dksX10_readProposal_0 1 rfl rfl)
theorem dX10_readProposal_4 : decode cX10_readProposal 4 = .ok (.bipush 10, 2) := dk_16 10 (dk_at dksX10_readProposal_0 4 rfl rfl)
theorem dX10_readProposal_6 : decode cX10_readProposal 6 = .ok (.iaload, 1) := dk_46 (dk_at dksX10_readProposal_0 6 rfl rfl)
theorem dX10_readProposal_7 : decode cX10_readProposal 7 = .ok (.istore_n 1, 1) := dk_60 (dk_at dksX10_readProposal_0 7 rfl rfl)
theorem dX10_readProposal_8 : decode cX10_readProposal 8 = .ok (.iload_n 1, 1) := dk_27 (dk_at dksX10_readProposal_0 8 rfl rfl)
theorem dX10_readProposal_9 : decode cX10_readProposal 9 = .ok (.bipush 6, 2) := dk_16 6 (dk_at dksX10_readProposal_0 9 rfl rfl)
theorem dX10_readProposal_11 : decode cX10_readProposal 11 = .ok (.if_icmp .ne 8, 3) := dk_160 0 8 (dk_at dksX10_readProposal_0 11 rfl rfl)
theorem dX10_readProposal_14 : decode cX10_readProposal 14 = .ok (.aload_n 0, 1) := dk_42 (dk_at dksX10_readProposal_0 14 rfl rfl)
theorem dX10_readProposal_15 : decode cX10_readProposal 15 = .ok (.iconst 4, 1) := dk_7 (dk_at dksX10_readProposal_0 15 rfl rfl)
theorem dX10_readProposal_16 : decode cX10_readProposal 16 = .ok (.invokevirtual 105, 3) := dk_182 0 105 (dk_at dksX10_readProposal_0 16 rfl rfl)
theorem dX10_readProposal_19 : decode cX10_readProposal 19 = .ok (.aload_n 0, 1) := dk_42 (dk_at dksX10_readProposal_0 19 rfl rfl)
theorem dX10_readProposal_20 : decode cX10_readProposal 20 = .ok (.invokevirtual 99, 3) := dk_182 0 99 (dk_at dksX10_readProposal_0 20 rfl rfl)
theorem dX10_readProposal_23 : decode cX10_readProposal 23 = .ok (.aload_n 0, 1) := dk_42 (dk_at dksX10_readProposal_0 23 rfl rfl)
theorem dX10_readProposal_24 : decode cX10_readProposal 24 = .ok (.getfield 55, 3) := dk_180 0 55 (dk_at dksX10_readProposal_1 0 rfl rfl)
theorem dX10_readProposal_27 : decode cX10_readProposal 27 = .ok (.ifCond .le 4, 3) := dk_158 0 4 (dk_at dksX10_readProposal_1 3 rfl rfl)
theorem dX10_readProposal_30 : decode cX10_readProposal 30 = .ok (.return_, 1) := dk_177 (dk_at dksX10_readProposal_1 6 rfl rfl)
theorem dX10_readProposal_31 : decode cX10_readProposal 31 = .ok (.aload_n 0, 1) := dk_42 (dk_at dksX10_readProposal_1 7 rfl rfl)
theorem dX10_readProposal_32 : decode cX10_readProposal 32 = .ok (.getfield 71, 3) := dk_180 0 71 (dk_at dksX10_readProposal_1 8 rfl rfl)
theorem dX10_readProposal_35 : decode cX10_readProposal 35 = .ok (.iconst 2, 1) := dk_5 (dk_at dksX10_readProposal_1 11 rfl rfl)
theorem dX10_readProposal_36 : decode cX10_readProposal 36 = .ok (.if_icmp .eq 11, 3) := dk_159 0 11 (dk_at dksX10_readProposal_1 12 rfl rfl)
theorem dX10_readProposal_39 : decode cX10_readProposal 39 = .ok (.aload_n 0, 1) := dk_42 (dk_at dksX10_readProposal_1 15 rfl rfl)
theorem dX10_readProposal_40 : decode cX10_readProposal 40 = .ok (.iconst 1, 1) := dk_4 (dk_at dksX10_readProposal_1 16 rfl rfl)
theorem dX10_readProposal_41 : decode cX10_readProposal 41 = .ok (.invokevirtual 105, 3) := dk_182 0 105 (dk_at dksX10_readProposal_1 17 rfl rfl)
theorem dX10_readProposal_44 : decode cX10_readProposal 44 = .ok (.goto 16, 3) := dk_167 0 16 (dk_at dksX10_readProposal_1 20 rfl rfl)
theorem dX10_readProposal_47 : decode cX10_readProposal 47 = .ok (.aload_n 0, 1) := dk_42 (dk_at dksX10_readProposal_1 23 rfl rfl)
theorem dX10_readProposal_48 : decode cX10_readProposal 48 = .ok (.invokevirtual 145, 3) := dk_182 0 145 (dk_at dksX10_readProposal_2 0 rfl rfl)
theorem dX10_readProposal_51 : decode cX10_readProposal 51 = .ok (.iconst (-1), 1) := dk_2 (dk_at dksX10_readProposal_2 3 rfl rfl)
theorem dX10_readProposal_52 : decode cX10_readProposal 52 = .ok (.if_icmp .eq 8, 3) := dk_159 0 8 (dk_at dksX10_readProposal_2 4 rfl rfl)
theorem dX10_readProposal_55 : decode cX10_readProposal 55 = .ok (.aload_n 0, 1) := dk_42 (dk_at dksX10_readProposal_2 7 rfl rfl)
theorem dX10_readProposal_56 : decode cX10_readProposal 56 = .ok (.iconst 3, 1) := dk_6 (dk_at dksX10_readProposal_2 8 rfl rfl)
theorem dX10_readProposal_57 : decode cX10_readProposal 57 = .ok (.invokevirtual 105, 3) := dk_182 0 105 (dk_at dksX10_readProposal_2 9 rfl rfl)
theorem dX10_readProposal_60 : decode cX10_readProposal 60 = .ok (.aload_n 0, 1) := dk_42 (dk_at dksX10_readProposal_2 12 rfl rfl)
theorem dX10_readProposal_61 : decode cX10_readProposal 61 = .ok (.getfield 55, 3) := dk_180 0 55 (dk_at dksX10_readProposal_2 13 rfl rfl)
theorem dX10_readProposal_64 : decode cX10_readProposal 64 = .ok (.ifCond .le 4, 3) := dk_158 0 4 (dk_at dksX10_readProposal_2 16 rfl rfl)
theorem dX10_readProposal_67 : decode cX10_readProposal 67 = .ok (.return_, 1) := dk_177 (dk_at dksX10_readProposal_2 19 rfl rfl)
theorem dX10_readProposal_68 : decode cX10_readProposal 68 = .ok (.aload_n 0, 1) := dk_42 (dk_at dksX10_readProposal_2 20 rfl rfl)
theorem dX10_readProposal_69 : decode cX10_readProposal 69 = .ok (.getfield 20, 3) := dk_180 0 20 (dk_at dksX10_readProposal_2 21 rfl rfl)
theorem dX10_readProposal_72 : decode cX10_readProposal 72 = .ok (.bipush 11, 2) := dk_16 11 (dk_at dksX10_readProposal_3 0 rfl rfl)
theorem dX10_readProposal_74 : decode cX10_readProposal 74 = .ok (.iload_n 1, 1) := dk_27 (dk_at dksX10_readProposal_3 2 rfl rfl)
theorem dX10_readProposal_75 : decode cX10_readProposal 75 = .ok (.iadd, 1) := dk_96 (dk_at dksX10_readProposal_3 3 rfl rfl)
theorem dX10_readProposal_76 : decode cX10_readProposal 76 = .ok (.aload_n 0, 1) := dk_42 (dk_at dksX10_readProposal_3 4 rfl rfl)
theorem dX10_readProposal_77 : decode cX10_readProposal 77 = .ok (.getfield 64, 3) := dk_180 0 64 (dk_at dksX10_readProposal_3 5 rfl rfl)
theorem dX10_readProposal_80 : decode cX10_readProposal 80 = .ok (.aload_n 0, 1) := dk_42 (dk_at dksX10_readProposal_3 8 rfl rfl)
theorem dX10_readProposal_81 : decode cX10_readProposal 81 = .ok (.getfield 61, 3) := dk_180 0 61 (dk_at dksX10_readProposal_3 9 rfl rfl)
theorem dX10_readProposal_84 : decode cX10_readProposal 84 = .ok (.isub, 1) := dk_100 (dk_at dksX10_readProposal_3 12 rfl rfl)
theorem dX10_readProposal_85 : decode cX10_readProposal 85 = .ok (.iastore, 1) := dk_79 (dk_at dksX10_readProposal_3 13 rfl rfl)
theorem dX10_readProposal_86 : decode cX10_readProposal 86 = .ok (.iconst 0, 1) := dk_3 (dk_at dksX10_readProposal_3 14 rfl rfl)
theorem dX10_readProposal_87 : decode cX10_readProposal 87 = .ok (.istore_n 2, 1) := dk_61 (dk_at dksX10_readProposal_3 15 rfl rfl)
theorem dX10_readProposal_88 : decode cX10_readProposal 88 = .ok (.iload_n 2, 1) := dk_28 (dk_at dksX10_readProposal_3 16 rfl rfl)
theorem dX10_readProposal_89 : decode cX10_readProposal 89 = .ok (.aload_n 0, 1) := dk_42 (dk_at dksX10_readProposal_3 17 rfl rfl)
theorem dX10_readProposal_90 : decode cX10_readProposal 90 = .ok (.getfield 64, 3) := dk_180 0 64 (dk_at dksX10_readProposal_3 18 rfl rfl)
theorem dX10_readProposal_93 : decode cX10_readProposal 93 = .ok (.aload_n 0, 1) := dk_42 (dk_at dksX10_readProposal_3 21 rfl rfl)
theorem dX10_readProposal_94 : decode cX10_readProposal 94 = .ok (.getfield 61, 3) := dk_180 0 61 (dk_at dksX10_readProposal_4 0 rfl rfl)
theorem dX10_readProposal_97 : decode cX10_readProposal 97 = .ok (.isub, 1) := dk_100 (dk_at dksX10_readProposal_4 3 rfl rfl)
theorem dX10_readProposal_98 : decode cX10_readProposal 98 = .ok (.if_icmp .ge 34, 3) := dk_162 0 34 (dk_at dksX10_readProposal_4 4 rfl rfl)
theorem dX10_readProposal_101 : decode cX10_readProposal 101 = .ok (.aload_n 0, 1) := dk_42 (dk_at dksX10_readProposal_4 7 rfl rfl)
theorem dX10_readProposal_102 : decode cX10_readProposal 102 = .ok (.getfield 20, 3) := dk_180 0 20 (dk_at dksX10_readProposal_4 8 rfl rfl)
theorem dX10_readProposal_105 : decode cX10_readProposal 105 = .ok (.bipush 17, 2) := dk_16 17 (dk_at dksX10_readProposal_4 11 rfl rfl)
theorem dX10_readProposal_107 : decode cX10_readProposal 107 = .ok (.bipush 8, 2) := dk_16 8 (dk_at dksX10_readProposal_4 13 rfl rfl)
theorem dX10_readProposal_109 : decode cX10_readProposal 109 = .ok (.iload_n 1, 1) := dk_27 (dk_at dksX10_readProposal_4 15 rfl rfl)
theorem dX10_readProposal_110 : decode cX10_readProposal 110 = .ok (.imul, 1) := dk_104 (dk_at dksX10_readProposal_4 16 rfl rfl)
theorem dX10_readProposal_111 : decode cX10_readProposal 111 = .ok (.iadd, 1) := dk_96 (dk_at dksX10_readProposal_4 17 rfl rfl)
theorem dX10_readProposal_112 : decode cX10_readProposal 112 = .ok (.iload_n 2, 1) := dk_28 (dk_at dksX10_readProposal_4 18 rfl rfl)
theorem dX10_readProposal_113 : decode cX10_readProposal 113 = .ok (.iadd, 1) := dk_96 (dk_at dksX10_readProposal_4 19 rfl rfl)
theorem dX10_readProposal_114 : decode cX10_readProposal 114 = .ok (.aload_n 0, 1) := dk_42 (dk_at dksX10_readProposal_4 20 rfl rfl)
theorem dX10_readProposal_115 : decode cX10_readProposal 115 = .ok (.getfield 9, 3) := dk_180 0 9 (dk_at dksX10_readProposal_4 21 rfl rfl)
theorem dX10_readProposal_118 : decode cX10_readProposal 118 = .ok (.aload_n 0, 1) := dk_42 (dk_at dksX10_readProposal_5 0 rfl rfl)
theorem dX10_readProposal_119 : decode cX10_readProposal 119 = .ok (.getfield 61, 3) := dk_180 0 61 (dk_at dksX10_readProposal_5 1 rfl rfl)
theorem dX10_readProposal_122 : decode cX10_readProposal 122 = .ok (.iload_n 2, 1) := dk_28 (dk_at dksX10_readProposal_5 4 rfl rfl)
theorem dX10_readProposal_123 : decode cX10_readProposal 123 = .ok (.iadd, 1) := dk_96 (dk_at dksX10_readProposal_5 5 rfl rfl)
theorem dX10_readProposal_124 : decode cX10_readProposal 124 = .ok (.iaload, 1) := dk_46 (dk_at dksX10_readProposal_5 6 rfl rfl)
theorem dX10_readProposal_125 : decode cX10_readProposal 125 = .ok (.iastore, 1) := dk_79 (dk_at dksX10_readProposal_5 7 rfl rfl)
theorem dX10_readProposal_126 : decode cX10_readProposal 126 = .ok (.iinc 2 1, 3) := dk_132 2 1 (dk_at dksX10_readProposal_5 8 rfl rfl)
theorem dX10_readProposal_129 : decode cX10_readProposal 129 = .ok (.goto (-41), 3) := dk_167 255 215 (dk_at dksX10_readProposal_5 11 rfl rfl)
theorem dX10_readProposal_132 : decode cX10_readProposal 132 = .ok (.aload_n 0, 1) := dk_42 (dk_at dksX10_readProposal_5 14 rfl rfl)
theorem dX10_readProposal_133 : decode cX10_readProposal 133 = .ok (.invokevirtual 99, 3) := dk_182 0 99 (dk_at dksX10_readProposal_5 15 rfl rfl)
theorem dX10_readProposal_136 : decode cX10_readProposal 136 = .ok (.aload_n 0, 1) := dk_42 (dk_at dksX10_readProposal_5 18 rfl rfl)
theorem dX10_readProposal_137 : decode cX10_readProposal 137 = .ok (.getfield 26, 3) := dk_180 0 26 (dk_at dksX10_readProposal_5 19 rfl rfl)
theorem dX10_readProposal_140 : decode cX10_readProposal 140 = .ok (.bipush 17, 2) := dk_16 17 (dk_at dksX10_readProposal_5 22 rfl rfl)
theorem dX10_readProposal_142 : decode cX10_readProposal 142 = .ok (.iload_n 1, 1) := dk_27 (dk_at dksX10_readProposal_6 0 rfl rfl)
theorem dX10_readProposal_143 : decode cX10_readProposal 143 = .ok (.iadd, 1) := dk_96 (dk_at dksX10_readProposal_6 1 rfl rfl)
theorem dX10_readProposal_144 : decode cX10_readProposal 144 = .ok (.aload_n 0, 1) := dk_42 (dk_at dksX10_readProposal_6 2 rfl rfl)
theorem dX10_readProposal_145 : decode cX10_readProposal 145 = .ok (.iconst 0, 1) := dk_3 (dk_at dksX10_readProposal_6 3 rfl rfl)
theorem dX10_readProposal_146 : decode cX10_readProposal 146 = .ok (.sipush 9999, 3) := dk_17 39 15 (dk_at dksX10_readProposal_6 4 rfl rfl)
theorem dX10_readProposal_149 : decode cX10_readProposal 149 = .ok (.invokevirtual 116, 3) := dk_182 0 116 (dk_at dksX10_readProposal_6 7 rfl rfl)
theorem dX10_readProposal_152 : decode cX10_readProposal 152 = .ok (.iastore, 1) := dk_79 (dk_at dksX10_readProposal_6 10 rfl rfl)
theorem dX10_readProposal_153 : decode cX10_readProposal 153 = .ok (.aload_n 0, 1) := dk_42 (dk_at dksX10_readProposal_6 11 rfl rfl)
theorem dX10_readProposal_154 : decode cX10_readProposal 154 = .ok (.getfield 20, 3) := dk_180 0 20 (dk_at dksX10_readProposal_6 12 rfl rfl)
theorem dX10_readProposal_157 : decode cX10_readProposal 157 = .ok (.bipush 10, 2) := dk_16 10 (dk_at dksX10_readProposal_6 15 rfl rfl)
theorem dX10_readProposal_159 : decode cX10_readProposal 159 = .ok (.dup2, 1) := dk_92 (dk_at dksX10_readProposal_6 17 rfl rfl)
theorem dX10_readProposal_160 : decode cX10_readProposal 160 = .ok (.iaload, 1) := dk_46 (dk_at dksX10_readProposal_6 18 rfl rfl)
theorem dX10_readProposal_161 : decode cX10_readProposal 161 = .ok (.iconst 1, 1) := dk_4 (dk_at dksX10_readProposal_6 19 rfl rfl)
theorem dX10_readProposal_162 : decode cX10_readProposal 162 = .ok (.iadd, 1) := dk_96 (dk_at dksX10_readProposal_6 20 rfl rfl)
theorem dX10_readProposal_163 : decode cX10_readProposal 163 = .ok (.iastore, 1) := dk_79 (dk_at dksX10_readProposal_6 21 rfl rfl)
theorem dX10_readProposal_164 : decode cX10_readProposal 164 = .ok (.return_, 1) := dk_177 (dk_at dksX10_readProposal_6 22 rfl rfl)
abbrev cX10_named : ByteArray := prog_22_method_22_code
def yX10_named : MethodName := ⟨RX10, "named", "()I"⟩
def dkwX10_named_4 : List UInt8 := [132, 3, 1, 167, 255, 202, 28, 153, 0, 5, 27, 172, 132, 1, 1, 167, 255, 150, 2, 172]
abbrev dktX10_named_4 : List UInt8 := dkwX10_named_4 ++ []
def dkwX10_named_3 : List UInt8 := [96, 46, 42, 180, 0, 9, 42, 180, 0, 61, 29, 96, 46, 160, 0, 7, 4, 167, 0, 4, 3, 61]
abbrev dktX10_named_3 : List UInt8 := dkwX10_named_3 ++ dktX10_named_4
def dkwX10_named_2 : List UInt8 := [42, 180, 0, 61, 100, 162, 0, 47, 28, 153, 0, 35, 42, 180, 0, 20, 16, 17, 16, 8, 27, 104, 96, 29]
abbrev dktX10_named_2 : List UInt8 := dkwX10_named_2 ++ dktX10_named_3
def dkwX10_named_1 : List UInt8 := [180, 0, 64, 42, 180, 0, 61, 100, 160, 0, 7, 4, 167, 0, 4, 3, 61, 3, 62, 29, 42, 180, 0, 64]
abbrev dktX10_named_1 : List UInt8 := dkwX10_named_1 ++ dktX10_named_2
def dkwX10_named_0 : List UInt8 := [3, 60, 27, 42, 180, 0, 20, 16, 10, 46, 162, 0, 101, 42, 180, 0, 20, 16, 11, 27, 96, 46, 42]
abbrev dktX10_named_0 : List UInt8 := dkwX10_named_0 ++ dktX10_named_1
theorem dksX10_named_0 : cX10_named.data.toList.drop 0 = dktX10_named_0 := by decide +kernel
theorem dksX10_named_1 : cX10_named.data.toList.drop 23 = dktX10_named_1 := dk_seg dksX10_named_0 23 rfl rfl
theorem dksX10_named_2 : cX10_named.data.toList.drop 47 = dktX10_named_2 := dk_seg dksX10_named_1 24 rfl rfl
theorem dksX10_named_3 : cX10_named.data.toList.drop 71 = dktX10_named_3 := dk_seg dksX10_named_2 24 rfl rfl
theorem dksX10_named_4 : cX10_named.data.toList.drop 93 = dktX10_named_4 := dk_seg dksX10_named_3 22 rfl rfl
theorem dX10_named_0 : decode cX10_named 0 = .ok (.iconst 0, 1) := dk_3 (dk_at dksX10_named_0 0 rfl rfl)
theorem dX10_named_1 : decode cX10_named 1 = .ok (.istore_n 1, 1) := dk_60 (dk_at dksX10_named_0 1 rfl rfl)
theorem dX10_named_2 : decode cX10_named 2 = .ok (.iload_n 1, 1) := dk_27 (dk_at dksX10_named_0 2 rfl rfl)
theorem dX10_named_3 : decode cX10_named 3 = .ok (.aload_n 0, 1) := dk_42 (dk_at dksX10_named_0 3 rfl rfl)
theorem dX10_named_4 : decode cX10_named 4 = .ok (.getfield 20, 3) := dk_180 0 20 (dk_at dksX10_named_0 4 rfl rfl)
theorem dX10_named_7 : decode cX10_named 7 = .ok (.bipush 10, 2) := dk_16 10 (dk_at dksX10_named_0 7 rfl rfl)
theorem dX10_named_9 : decode cX10_named 9 = .ok (.iaload, 1) := dk_46 (dk_at dksX10_named_0 9 rfl rfl)
theorem dX10_named_10 : decode cX10_named 10 = .ok (.if_icmp .ge 101, 3) := dk_162 0 101 (dk_at dksX10_named_0 10 rfl rfl)
theorem dX10_named_13 : decode cX10_named 13 = .ok (.aload_n 0, 1) := dk_42 (dk_at dksX10_named_0 13 rfl rfl)
theorem dX10_named_14 : decode cX10_named 14 = .ok (.getfield 20, 3) := dk_180 0 20 (dk_at dksX10_named_0 14 rfl rfl)
theorem dX10_named_17 : decode cX10_named 17 = .ok (.bipush 11, 2) := dk_16 11 (dk_at dksX10_named_0 17 rfl rfl)
theorem dX10_named_19 : decode cX10_named 19 = .ok (.iload_n 1, 1) := dk_27 (dk_at dksX10_named_0 19 rfl rfl)
theorem dX10_named_20 : decode cX10_named 20 = .ok (.iadd, 1) := dk_96 (dk_at dksX10_named_0 20 rfl rfl)
theorem dX10_named_21 : decode cX10_named 21 = .ok (.iaload, 1) := dk_46 (dk_at dksX10_named_0 21 rfl rfl)
theorem dX10_named_22 : decode cX10_named 22 = .ok (.aload_n 0, 1) := dk_42 (dk_at dksX10_named_0 22 rfl rfl)
theorem dX10_named_23 : decode cX10_named 23 = .ok (.getfield 64, 3) := dk_180 0 64 (dk_at dksX10_named_1 0 rfl rfl)
theorem dX10_named_26 : decode cX10_named 26 = .ok (.aload_n 0, 1) := dk_42 (dk_at dksX10_named_1 3 rfl rfl)
theorem dX10_named_27 : decode cX10_named 27 = .ok (.getfield 61, 3) := dk_180 0 61 (dk_at dksX10_named_1 4 rfl rfl)
theorem dX10_named_30 : decode cX10_named 30 = .ok (.isub, 1) := dk_100 (dk_at dksX10_named_1 7 rfl rfl)
theorem dX10_named_31 : decode cX10_named 31 = .ok (.if_icmp .ne 7, 3) := dk_160 0 7 (dk_at dksX10_named_1 8 rfl rfl)
theorem dX10_named_34 : decode cX10_named 34 = .ok (.iconst 1, 1) := dk_4 (dk_at dksX10_named_1 11 rfl rfl)
theorem dX10_named_35 : decode cX10_named 35 = .ok (.goto 4, 3) := dk_167 0 4 (dk_at dksX10_named_1 12 rfl rfl)
theorem dX10_named_38 : decode cX10_named 38 = .ok (.iconst 0, 1) := dk_3 (dk_at dksX10_named_1 15 rfl rfl)
theorem dX10_named_39 : decode cX10_named 39 = .ok (.istore_n 2, 1) := dk_61 (dk_at dksX10_named_1 16 rfl rfl)
theorem dX10_named_40 : decode cX10_named 40 = .ok (.iconst 0, 1) := dk_3 (dk_at dksX10_named_1 17 rfl rfl)
theorem dX10_named_41 : decode cX10_named 41 = .ok (.istore_n 3, 1) := dk_62 (dk_at dksX10_named_1 18 rfl rfl)
theorem dX10_named_42 : decode cX10_named 42 = .ok (.iload_n 3, 1) := dk_29 (dk_at dksX10_named_1 19 rfl rfl)
theorem dX10_named_43 : decode cX10_named 43 = .ok (.aload_n 0, 1) := dk_42 (dk_at dksX10_named_1 20 rfl rfl)
theorem dX10_named_44 : decode cX10_named 44 = .ok (.getfield 64, 3) := dk_180 0 64 (dk_at dksX10_named_1 21 rfl rfl)
theorem dX10_named_47 : decode cX10_named 47 = .ok (.aload_n 0, 1) := dk_42 (dk_at dksX10_named_2 0 rfl rfl)
theorem dX10_named_48 : decode cX10_named 48 = .ok (.getfield 61, 3) := dk_180 0 61 (dk_at dksX10_named_2 1 rfl rfl)
theorem dX10_named_51 : decode cX10_named 51 = .ok (.isub, 1) := dk_100 (dk_at dksX10_named_2 4 rfl rfl)
theorem dX10_named_52 : decode cX10_named 52 = .ok (.if_icmp .ge 47, 3) := dk_162 0 47 (dk_at dksX10_named_2 5 rfl rfl)
theorem dX10_named_55 : decode cX10_named 55 = .ok (.iload_n 2, 1) := dk_28 (dk_at dksX10_named_2 8 rfl rfl)
theorem dX10_named_56 : decode cX10_named 56 = .ok (.ifCond .eq 35, 3) := dk_153 0 35 (dk_at dksX10_named_2 9 rfl rfl)
theorem dX10_named_59 : decode cX10_named 59 = .ok (.aload_n 0, 1) := dk_42 (dk_at dksX10_named_2 12 rfl rfl)
theorem dX10_named_60 : decode cX10_named 60 = .ok (.getfield 20, 3) := dk_180 0 20 (dk_at dksX10_named_2 13 rfl rfl)
theorem dX10_named_63 : decode cX10_named 63 = .ok (.bipush 17, 2) := dk_16 17 (dk_at dksX10_named_2 16 rfl rfl)
theorem dX10_named_65 : decode cX10_named 65 = .ok (.bipush 8, 2) := dk_16 8 (dk_at dksX10_named_2 18 rfl rfl)
theorem dX10_named_67 : decode cX10_named 67 = .ok (.iload_n 1, 1) := dk_27 (dk_at dksX10_named_2 20 rfl rfl)
theorem dX10_named_68 : decode cX10_named 68 = .ok (.imul, 1) := dk_104 (dk_at dksX10_named_2 21 rfl rfl)
theorem dX10_named_69 : decode cX10_named 69 = .ok (.iadd, 1) := dk_96 (dk_at dksX10_named_2 22 rfl rfl)
theorem dX10_named_70 : decode cX10_named 70 = .ok (.iload_n 3, 1) := dk_29 (dk_at dksX10_named_2 23 rfl rfl)
theorem dX10_named_71 : decode cX10_named 71 = .ok (.iadd, 1) := dk_96 (dk_at dksX10_named_3 0 rfl rfl)
theorem dX10_named_72 : decode cX10_named 72 = .ok (.iaload, 1) := dk_46 (dk_at dksX10_named_3 1 rfl rfl)
theorem dX10_named_73 : decode cX10_named 73 = .ok (.aload_n 0, 1) := dk_42 (dk_at dksX10_named_3 2 rfl rfl)
theorem dX10_named_74 : decode cX10_named 74 = .ok (.getfield 9, 3) := dk_180 0 9 (dk_at dksX10_named_3 3 rfl rfl)
theorem dX10_named_77 : decode cX10_named 77 = .ok (.aload_n 0, 1) := dk_42 (dk_at dksX10_named_3 6 rfl rfl)
theorem dX10_named_78 : decode cX10_named 78 = .ok (.getfield 61, 3) := dk_180 0 61 (dk_at dksX10_named_3 7 rfl rfl)
theorem dX10_named_81 : decode cX10_named 81 = .ok (.iload_n 3, 1) := dk_29 (dk_at dksX10_named_3 10 rfl rfl)
theorem dX10_named_82 : decode cX10_named 82 = .ok (.iadd, 1) := dk_96 (dk_at dksX10_named_3 11 rfl rfl)
theorem dX10_named_83 : decode cX10_named 83 = .ok (.iaload, 1) := dk_46 (dk_at dksX10_named_3 12 rfl rfl)
theorem dX10_named_84 : decode cX10_named 84 = .ok (.if_icmp .ne 7, 3) := dk_160 0 7 (dk_at dksX10_named_3 13 rfl rfl)
theorem dX10_named_87 : decode cX10_named 87 = .ok (.iconst 1, 1) := dk_4 (dk_at dksX10_named_3 16 rfl rfl)
theorem dX10_named_88 : decode cX10_named 88 = .ok (.goto 4, 3) := dk_167 0 4 (dk_at dksX10_named_3 17 rfl rfl)
theorem dX10_named_91 : decode cX10_named 91 = .ok (.iconst 0, 1) := dk_3 (dk_at dksX10_named_3 20 rfl rfl)
theorem dX10_named_92 : decode cX10_named 92 = .ok (.istore_n 2, 1) := dk_61 (dk_at dksX10_named_3 21 rfl rfl)
theorem dX10_named_93 : decode cX10_named 93 = .ok (.iinc 3 1, 3) := dk_132 3 1 (dk_at dksX10_named_4 0 rfl rfl)
theorem dX10_named_96 : decode cX10_named 96 = .ok (.goto (-54), 3) := dk_167 255 202 (dk_at dksX10_named_4 3 rfl rfl)
theorem dX10_named_99 : decode cX10_named 99 = .ok (.iload_n 2, 1) := dk_28 (dk_at dksX10_named_4 6 rfl rfl)
theorem dX10_named_100 : decode cX10_named 100 = .ok (.ifCond .eq 5, 3) := dk_153 0 5 (dk_at dksX10_named_4 7 rfl rfl)
theorem dX10_named_103 : decode cX10_named 103 = .ok (.iload_n 1, 1) := dk_27 (dk_at dksX10_named_4 10 rfl rfl)
theorem dX10_named_104 : decode cX10_named 104 = .ok (.ireturn, 1) := dk_172 (dk_at dksX10_named_4 11 rfl rfl)
theorem dX10_named_105 : decode cX10_named 105 = .ok (.iinc 1 1, 3) := dk_132 1 1 (dk_at dksX10_named_4 12 rfl rfl)
theorem dX10_named_108 : decode cX10_named 108 = .ok (.goto (-106), 3) := dk_167 255 150 (dk_at dksX10_named_4 15 rfl rfl)
theorem dX10_named_111 : decode cX10_named 111 = .ok (.iconst (-1), 1) := dk_2 (dk_at dksX10_named_4 18 rfl rfl)
theorem dX10_named_112 : decode cX10_named 112 = .ok (.ireturn, 1) := dk_172 (dk_at dksX10_named_4 19 rfl rfl)
abbrev cX10_readVisit : ByteArray := prog_22_method_26_code
def yX10_readVisit : MethodName := ⟨RX10, "readVisit", "()V"⟩
def dkwX10_readVisit_7 : List UInt8 := [79, 42, 180, 0, 26, 16, 87, 27, 96, 2, 79, 42, 180, 0, 20, 16, 65, 92, 46, 4, 96, 79, 177]
abbrev dktX10_readVisit_7 : List UInt8 := dkwX10_readVisit_7 ++ []
def dkwX10_readVisit_6 : List UInt8 := [42, 180, 0, 20, 28, 16, 7, 96, 42, 42, 180, 0, 20, 28, 16, 6, 96, 46, 17, 7, 208, 182, 0, 116]
abbrev dktX10_readVisit_6 : List UInt8 := dkwX10_readVisit_6 ++ dktX10_readVisit_7
def dkwX10_readVisit_5 : List UInt8 := [3, 16, 99, 182, 0, 116, 79, 42, 180, 0, 20, 28, 16, 6, 96, 42, 3, 17, 7, 208, 182, 0, 116, 79]
abbrev dktX10_readVisit_5 : List UInt8 := dkwX10_readVisit_5 ++ dktX10_readVisit_6
def dkwX10_readVisit_4 : List UInt8 := [42, 180, 0, 26, 16, 107, 27, 96, 42, 4, 16, 9, 182, 0, 116, 79, 42, 180, 0, 20, 28, 8, 96, 42]
abbrev dktX10_readVisit_4 : List UInt8 := dkwX10_readVisit_4 ++ dktX10_readVisit_5
def dkwX10_readVisit_3 : List UInt8 := [28, 5, 96, 42, 182, 0, 154, 79, 42, 180, 0, 20, 28, 6, 96, 42, 4, 17, 1, 44, 182, 0, 116, 79]
abbrev dktX10_readVisit_3 : List UInt8 := dkwX10_readVisit_3 ++ dktX10_readVisit_4
def dkwX10_readVisit_2 : List UInt8 := [182, 0, 151, 79, 42, 180, 0, 20, 28, 4, 96, 42, 3, 17, 1, 103, 182, 0, 116, 79, 42, 180, 0, 20]
abbrev dktX10_readVisit_2 : List UInt8 := dkwX10_readVisit_2 ++ dktX10_readVisit_3
def dkwX10_readVisit_1 : List UInt8 := [180, 0, 55, 158, 0, 4, 177, 16, 66, 16, 8, 27, 104, 96, 61, 42, 180, 0, 20, 28, 3, 96, 42]
abbrev dktX10_readVisit_1 : List UInt8 := dkwX10_readVisit_1 ++ dktX10_readVisit_2
def dkwX10_readVisit_0 : List UInt8 := [42, 180, 0, 20, 16, 65, 46, 60, 27, 16, 20, 160, 0, 8, 42, 7, 182, 0, 105, 42, 182, 0, 99, 42]
abbrev dktX10_readVisit_0 : List UInt8 := dkwX10_readVisit_0 ++ dktX10_readVisit_1
theorem dksX10_readVisit_0 : cX10_readVisit.data.toList.drop 0 = dktX10_readVisit_0 := by decide +kernel
theorem dksX10_readVisit_1 : cX10_readVisit.data.toList.drop 24 = dktX10_readVisit_1 := dk_seg dksX10_readVisit_0 24 rfl rfl
theorem dksX10_readVisit_2 : cX10_readVisit.data.toList.drop 47 = dktX10_readVisit_2 := dk_seg dksX10_readVisit_1 23 rfl rfl
theorem dksX10_readVisit_3 : cX10_readVisit.data.toList.drop 71 = dktX10_readVisit_3 := dk_seg dksX10_readVisit_2 24 rfl rfl
theorem dksX10_readVisit_4 : cX10_readVisit.data.toList.drop 95 = dktX10_readVisit_4 := dk_seg dksX10_readVisit_3 24 rfl rfl
theorem dksX10_readVisit_5 : cX10_readVisit.data.toList.drop 119 = dktX10_readVisit_5 := dk_seg dksX10_readVisit_4 24 rfl rfl
theorem dksX10_readVisit_6 : cX10_readVisit.data.toList.drop 143 = dktX10_readVisit_6 := dk_seg dksX10_readVisit_5 24 rfl rfl
theorem dksX10_readVisit_7 : cX10_readVisit.data.toList.drop 167 = dktX10_readVisit_7 := dk_seg dksX10_readVisit_6 24 rfl rfl
theorem dX10_readVisit_0 : decode cX10_readVisit 0 = .ok (.aload_n 0, 1) := dk_42 (dk_at dksX10_readVisit_0 0 rfl rfl)
theorem dX10_readVisit_1 : decode cX10_readVisit 1 = .ok (.getfield 20, 3) := dk_180 0 20 (dk_at dksX10_readVisit_0 1 rfl rfl)
theorem dX10_readVisit_4 : decode cX10_readVisit 4 = .ok (.bipush 65, 2) := dk_16 65 (dk_at dksX10_readVisit_0 4 rfl rfl)
theorem dX10_readVisit_6 : decode cX10_readVisit 6 = .ok (.iaload, 1) := dk_46 (dk_at dksX10_readVisit_0 6 rfl rfl)
theorem dX10_readVisit_7 : decode cX10_readVisit 7 = .ok (.istore_n 1, 1) := dk_60 (dk_at dksX10_readVisit_0 7 rfl rfl)
theorem dX10_readVisit_8 : decode cX10_readVisit 8 = .ok (.iload_n 1, 1) := dk_27 (dk_at dksX10_readVisit_0 8 rfl rfl)
theorem dX10_readVisit_9 : decode cX10_readVisit 9 = .ok (.bipush 20, 2) := dk_16 20 (dk_at dksX10_readVisit_0 9 rfl rfl)
theorem dX10_readVisit_11 : decode cX10_readVisit 11 = .ok (.if_icmp .ne 8, 3) := dk_160 0 8 (dk_at dksX10_readVisit_0 11 rfl rfl)
theorem dX10_readVisit_14 : decode cX10_readVisit 14 = .ok (.aload_n 0, 1) := dk_42 (dk_at dksX10_readVisit_0 14 rfl rfl)
theorem dX10_readVisit_15 : decode cX10_readVisit 15 = .ok (.iconst 4, 1) := dk_7 (dk_at dksX10_readVisit_0 15 rfl rfl)
theorem dX10_readVisit_16 : decode cX10_readVisit 16 = .ok (.invokevirtual 105, 3) := dk_182 0 105 (dk_at dksX10_readVisit_0 16 rfl rfl)
theorem dX10_readVisit_19 : decode cX10_readVisit 19 = .ok (.aload_n 0, 1) := dk_42 (dk_at dksX10_readVisit_0 19 rfl rfl)
theorem dX10_readVisit_20 : decode cX10_readVisit 20 = .ok (.invokevirtual 99, 3) := dk_182 0 99 (dk_at dksX10_readVisit_0 20 rfl rfl)
theorem dX10_readVisit_23 : decode cX10_readVisit 23 = .ok (.aload_n 0, 1) := dk_42 (dk_at dksX10_readVisit_0 23 rfl rfl)
theorem dX10_readVisit_24 : decode cX10_readVisit 24 = .ok (.getfield 55, 3) := dk_180 0 55 (dk_at dksX10_readVisit_1 0 rfl rfl)
theorem dX10_readVisit_27 : decode cX10_readVisit 27 = .ok (.ifCond .le 4, 3) := dk_158 0 4 (dk_at dksX10_readVisit_1 3 rfl rfl)
theorem dX10_readVisit_30 : decode cX10_readVisit 30 = .ok (.return_, 1) := dk_177 (dk_at dksX10_readVisit_1 6 rfl rfl)
theorem dX10_readVisit_31 : decode cX10_readVisit 31 = .ok (.bipush 66, 2) := dk_16 66 (dk_at dksX10_readVisit_1 7 rfl rfl)
theorem dX10_readVisit_33 : decode cX10_readVisit 33 = .ok (.bipush 8, 2) := dk_16 8 (dk_at dksX10_readVisit_1 9 rfl rfl)
theorem dX10_readVisit_35 : decode cX10_readVisit 35 = .ok (.iload_n 1, 1) := dk_27 (dk_at dksX10_readVisit_1 11 rfl rfl)
theorem dX10_readVisit_36 : decode cX10_readVisit 36 = .ok (.imul, 1) := dk_104 (dk_at dksX10_readVisit_1 12 rfl rfl)
theorem dX10_readVisit_37 : decode cX10_readVisit 37 = .ok (.iadd, 1) := dk_96 (dk_at dksX10_readVisit_1 13 rfl rfl)
theorem dX10_readVisit_38 : decode cX10_readVisit 38 = .ok (.istore_n 2, 1) := dk_61 (dk_at dksX10_readVisit_1 14 rfl rfl)
theorem dX10_readVisit_39 : decode cX10_readVisit 39 = .ok (.aload_n 0, 1) := dk_42 (dk_at dksX10_readVisit_1 15 rfl rfl)
theorem dX10_readVisit_40 : decode cX10_readVisit 40 = .ok (.getfield 20, 3) := dk_180 0 20 (dk_at dksX10_readVisit_1 16 rfl rfl)
theorem dX10_readVisit_43 : decode cX10_readVisit 43 = .ok (.iload_n 2, 1) := dk_28 (dk_at dksX10_readVisit_1 19 rfl rfl)
theorem dX10_readVisit_44 : decode cX10_readVisit 44 = .ok (.iconst 0, 1) := dk_3 (dk_at dksX10_readVisit_1 20 rfl rfl)
theorem dX10_readVisit_45 : decode cX10_readVisit 45 = .ok (.iadd, 1) := dk_96 (dk_at dksX10_readVisit_1 21 rfl rfl)
theorem dX10_readVisit_46 : decode cX10_readVisit 46 = .ok (.aload_n 0, 1) := dk_42 (dk_at dksX10_readVisit_1 22 rfl rfl)
theorem dX10_readVisit_47 : decode cX10_readVisit 47 = .ok (.invokevirtual 151, 3) := dk_182 0 151 (dk_at dksX10_readVisit_2 0 rfl rfl)
theorem dX10_readVisit_50 : decode cX10_readVisit 50 = .ok (.iastore, 1) := dk_79 (dk_at dksX10_readVisit_2 3 rfl rfl)
theorem dX10_readVisit_51 : decode cX10_readVisit 51 = .ok (.aload_n 0, 1) := dk_42 (dk_at dksX10_readVisit_2 4 rfl rfl)
theorem dX10_readVisit_52 : decode cX10_readVisit 52 = .ok (.getfield 20, 3) := dk_180 0 20 (dk_at dksX10_readVisit_2 5 rfl rfl)
theorem dX10_readVisit_55 : decode cX10_readVisit 55 = .ok (.iload_n 2, 1) := dk_28 (dk_at dksX10_readVisit_2 8 rfl rfl)
theorem dX10_readVisit_56 : decode cX10_readVisit 56 = .ok (.iconst 1, 1) := dk_4 (dk_at dksX10_readVisit_2 9 rfl rfl)
theorem dX10_readVisit_57 : decode cX10_readVisit 57 = .ok (.iadd, 1) := dk_96 (dk_at dksX10_readVisit_2 10 rfl rfl)
theorem dX10_readVisit_58 : decode cX10_readVisit 58 = .ok (.aload_n 0, 1) := dk_42 (dk_at dksX10_readVisit_2 11 rfl rfl)
theorem dX10_readVisit_59 : decode cX10_readVisit 59 = .ok (.iconst 0, 1) := dk_3 (dk_at dksX10_readVisit_2 12 rfl rfl)
theorem dX10_readVisit_60 : decode cX10_readVisit 60 = .ok (.sipush 359, 3) := dk_17 1 103 (dk_at dksX10_readVisit_2 13 rfl rfl)
theorem dX10_readVisit_63 : decode cX10_readVisit 63 = .ok (.invokevirtual 116, 3) := dk_182 0 116 (dk_at dksX10_readVisit_2 16 rfl rfl)
theorem dX10_readVisit_66 : decode cX10_readVisit 66 = .ok (.iastore, 1) := dk_79 (dk_at dksX10_readVisit_2 19 rfl rfl)
theorem dX10_readVisit_67 : decode cX10_readVisit 67 = .ok (.aload_n 0, 1) := dk_42 (dk_at dksX10_readVisit_2 20 rfl rfl)
theorem dX10_readVisit_68 : decode cX10_readVisit 68 = .ok (.getfield 20, 3) := dk_180 0 20 (dk_at dksX10_readVisit_2 21 rfl rfl)
theorem dX10_readVisit_71 : decode cX10_readVisit 71 = .ok (.iload_n 2, 1) := dk_28 (dk_at dksX10_readVisit_3 0 rfl rfl)
theorem dX10_readVisit_72 : decode cX10_readVisit 72 = .ok (.iconst 2, 1) := dk_5 (dk_at dksX10_readVisit_3 1 rfl rfl)
theorem dX10_readVisit_73 : decode cX10_readVisit 73 = .ok (.iadd, 1) := dk_96 (dk_at dksX10_readVisit_3 2 rfl rfl)
theorem dX10_readVisit_74 : decode cX10_readVisit 74 = .ok (.aload_n 0, 1) := dk_42 (dk_at dksX10_readVisit_3 3 rfl rfl)
theorem dX10_readVisit_75 : decode cX10_readVisit 75 = .ok (.invokevirtual 154, 3) := dk_182 0 154 (dk_at dksX10_readVisit_3 4 rfl rfl)
theorem dX10_readVisit_78 : decode cX10_readVisit 78 = .ok (.iastore, 1) := dk_79 (dk_at dksX10_readVisit_3 7 rfl rfl)
theorem dX10_readVisit_79 : decode cX10_readVisit 79 = .ok (.aload_n 0, 1) := dk_42 (dk_at dksX10_readVisit_3 8 rfl rfl)
theorem dX10_readVisit_80 : decode cX10_readVisit 80 = .ok (.getfield 20, 3) := dk_180 0 20 (dk_at dksX10_readVisit_3 9 rfl rfl)
theorem dX10_readVisit_83 : decode cX10_readVisit 83 = .ok (.iload_n 2, 1) := dk_28 (dk_at dksX10_readVisit_3 12 rfl rfl)
theorem dX10_readVisit_84 : decode cX10_readVisit 84 = .ok (.iconst 3, 1) := dk_6 (dk_at dksX10_readVisit_3 13 rfl rfl)
theorem dX10_readVisit_85 : decode cX10_readVisit 85 = .ok (.iadd, 1) := dk_96 (dk_at dksX10_readVisit_3 14 rfl rfl)
theorem dX10_readVisit_86 : decode cX10_readVisit 86 = .ok (.aload_n 0, 1) := dk_42 (dk_at dksX10_readVisit_3 15 rfl rfl)
theorem dX10_readVisit_87 : decode cX10_readVisit 87 = .ok (.iconst 1, 1) := dk_4 (dk_at dksX10_readVisit_3 16 rfl rfl)
theorem dX10_readVisit_88 : decode cX10_readVisit 88 = .ok (.sipush 300, 3) := dk_17 1 44 (dk_at dksX10_readVisit_3 17 rfl rfl)
theorem dX10_readVisit_91 : decode cX10_readVisit 91 = .ok (.invokevirtual 116, 3) := dk_182 0 116 (dk_at dksX10_readVisit_3 20 rfl rfl)
theorem dX10_readVisit_94 : decode cX10_readVisit 94 = .ok (.iastore, 1) := dk_79 (dk_at dksX10_readVisit_3 23 rfl rfl)
theorem dX10_readVisit_95 : decode cX10_readVisit 95 = .ok (.aload_n 0, 1) := dk_42 (dk_at dksX10_readVisit_4 0 rfl rfl)
theorem dX10_readVisit_96 : decode cX10_readVisit 96 = .ok (.getfield 26, 3) := dk_180 0 26 (dk_at dksX10_readVisit_4 1 rfl rfl)
theorem dX10_readVisit_99 : decode cX10_readVisit 99 = .ok (.bipush 107, 2) := dk_16 107 (dk_at dksX10_readVisit_4 4 rfl rfl)
theorem dX10_readVisit_101 : decode cX10_readVisit 101 = .ok (.iload_n 1, 1) := dk_27 (dk_at dksX10_readVisit_4 6 rfl rfl)
theorem dX10_readVisit_102 : decode cX10_readVisit 102 = .ok (.iadd, 1) := dk_96 (dk_at dksX10_readVisit_4 7 rfl rfl)
theorem dX10_readVisit_103 : decode cX10_readVisit 103 = .ok (.aload_n 0, 1) := dk_42 (dk_at dksX10_readVisit_4 8 rfl rfl)
theorem dX10_readVisit_104 : decode cX10_readVisit 104 = .ok (.iconst 1, 1) := dk_4 (dk_at dksX10_readVisit_4 9 rfl rfl)
theorem dX10_readVisit_105 : decode cX10_readVisit 105 = .ok (.bipush 9, 2) := dk_16 9 (dk_at dksX10_readVisit_4 10 rfl rfl)
theorem dX10_readVisit_107 : decode cX10_readVisit 107 = .ok (.invokevirtual 116, 3) := dk_182 0 116 (dk_at dksX10_readVisit_4 12 rfl rfl)
theorem dX10_readVisit_110 : decode cX10_readVisit 110 = .ok (.iastore, 1) := dk_79 (dk_at dksX10_readVisit_4 15 rfl rfl)
theorem dX10_readVisit_111 : decode cX10_readVisit 111 = .ok (.aload_n 0, 1) := dk_42 (dk_at dksX10_readVisit_4 16 rfl rfl)
theorem dX10_readVisit_112 : decode cX10_readVisit 112 = .ok (.getfield 20, 3) := dk_180 0 20 (dk_at dksX10_readVisit_4 17 rfl rfl)
theorem dX10_readVisit_115 : decode cX10_readVisit 115 = .ok (.iload_n 2, 1) := dk_28 (dk_at dksX10_readVisit_4 20 rfl rfl)
theorem dX10_readVisit_116 : decode cX10_readVisit 116 = .ok (.iconst 5, 1) := dk_8 (dk_at dksX10_readVisit_4 21 rfl rfl)
theorem dX10_readVisit_117 : decode cX10_readVisit 117 = .ok (.iadd, 1) := dk_96 (dk_at dksX10_readVisit_4 22 rfl rfl)
theorem dX10_readVisit_118 : decode cX10_readVisit 118 = .ok (.aload_n 0, 1) := dk_42 (dk_at dksX10_readVisit_4 23 rfl rfl)
theorem dX10_readVisit_119 : decode cX10_readVisit 119 = .ok (.iconst 0, 1) := dk_3 (dk_at dksX10_readVisit_5 0 rfl rfl)
theorem dX10_readVisit_120 : decode cX10_readVisit 120 = .ok (.bipush 99, 2) := dk_16 99 (dk_at dksX10_readVisit_5 1 rfl rfl)
theorem dX10_readVisit_122 : decode cX10_readVisit 122 = .ok (.invokevirtual 116, 3) := dk_182 0 116 (dk_at dksX10_readVisit_5 3 rfl rfl)
theorem dX10_readVisit_125 : decode cX10_readVisit 125 = .ok (.iastore, 1) := dk_79 (dk_at dksX10_readVisit_5 6 rfl rfl)
theorem dX10_readVisit_126 : decode cX10_readVisit 126 = .ok (.aload_n 0, 1) := dk_42 (dk_at dksX10_readVisit_5 7 rfl rfl)
theorem dX10_readVisit_127 : decode cX10_readVisit 127 = .ok (.getfield 20, 3) := dk_180 0 20 (dk_at dksX10_readVisit_5 8 rfl rfl)
theorem dX10_readVisit_130 : decode cX10_readVisit 130 = .ok (.iload_n 2, 1) := dk_28 (dk_at dksX10_readVisit_5 11 rfl rfl)
theorem dX10_readVisit_131 : decode cX10_readVisit 131 = .ok (.bipush 6, 2) := dk_16 6 (dk_at dksX10_readVisit_5 12 rfl rfl)
theorem dX10_readVisit_133 : decode cX10_readVisit 133 = .ok (.iadd, 1) := dk_96 (dk_at dksX10_readVisit_5 14 rfl rfl)
theorem dX10_readVisit_134 : decode cX10_readVisit 134 = .ok (.aload_n 0, 1) := dk_42 (dk_at dksX10_readVisit_5 15 rfl rfl)
theorem dX10_readVisit_135 : decode cX10_readVisit 135 = .ok (.iconst 0, 1) := dk_3 (dk_at dksX10_readVisit_5 16 rfl rfl)
theorem dX10_readVisit_136 : decode cX10_readVisit 136 = .ok (.sipush 2000, 3) := dk_17 7 208 (dk_at dksX10_readVisit_5 17 rfl rfl)
theorem dX10_readVisit_139 : decode cX10_readVisit 139 = .ok (.invokevirtual 116, 3) := dk_182 0 116 (dk_at dksX10_readVisit_5 20 rfl rfl)
theorem dX10_readVisit_142 : decode cX10_readVisit 142 = .ok (.iastore, 1) := dk_79 (dk_at dksX10_readVisit_5 23 rfl rfl)
theorem dX10_readVisit_143 : decode cX10_readVisit 143 = .ok (.aload_n 0, 1) := dk_42 (dk_at dksX10_readVisit_6 0 rfl rfl)
theorem dX10_readVisit_144 : decode cX10_readVisit 144 = .ok (.getfield 20, 3) := dk_180 0 20 (dk_at dksX10_readVisit_6 1 rfl rfl)
theorem dX10_readVisit_147 : decode cX10_readVisit 147 = .ok (.iload_n 2, 1) := dk_28 (dk_at dksX10_readVisit_6 4 rfl rfl)
theorem dX10_readVisit_148 : decode cX10_readVisit 148 = .ok (.bipush 7, 2) := dk_16 7 (dk_at dksX10_readVisit_6 5 rfl rfl)
theorem dX10_readVisit_150 : decode cX10_readVisit 150 = .ok (.iadd, 1) := dk_96 (dk_at dksX10_readVisit_6 7 rfl rfl)
theorem dX10_readVisit_151 : decode cX10_readVisit 151 = .ok (.aload_n 0, 1) := dk_42 (dk_at dksX10_readVisit_6 8 rfl rfl)
theorem dX10_readVisit_152 : decode cX10_readVisit 152 = .ok (.aload_n 0, 1) := dk_42 (dk_at dksX10_readVisit_6 9 rfl rfl)
theorem dX10_readVisit_153 : decode cX10_readVisit 153 = .ok (.getfield 20, 3) := dk_180 0 20 (dk_at dksX10_readVisit_6 10 rfl rfl)
theorem dX10_readVisit_156 : decode cX10_readVisit 156 = .ok (.iload_n 2, 1) := dk_28 (dk_at dksX10_readVisit_6 13 rfl rfl)
theorem dX10_readVisit_157 : decode cX10_readVisit 157 = .ok (.bipush 6, 2) := dk_16 6 (dk_at dksX10_readVisit_6 14 rfl rfl)
theorem dX10_readVisit_159 : decode cX10_readVisit 159 = .ok (.iadd, 1) := dk_96 (dk_at dksX10_readVisit_6 16 rfl rfl)
theorem dX10_readVisit_160 : decode cX10_readVisit 160 = .ok (.iaload, 1) := dk_46 (dk_at dksX10_readVisit_6 17 rfl rfl)
theorem dX10_readVisit_161 : decode cX10_readVisit 161 = .ok (.sipush 2000, 3) := dk_17 7 208 (dk_at dksX10_readVisit_6 18 rfl rfl)
theorem dX10_readVisit_164 : decode cX10_readVisit 164 = .ok (.invokevirtual 116, 3) := dk_182 0 116 (dk_at dksX10_readVisit_6 21 rfl rfl)
theorem dX10_readVisit_167 : decode cX10_readVisit 167 = .ok (.iastore, 1) := dk_79 (dk_at dksX10_readVisit_7 0 rfl rfl)
theorem dX10_readVisit_168 : decode cX10_readVisit 168 = .ok (.aload_n 0, 1) := dk_42 (dk_at dksX10_readVisit_7 1 rfl rfl)
theorem dX10_readVisit_169 : decode cX10_readVisit 169 = .ok (.getfield 26, 3) := dk_180 0 26 (dk_at dksX10_readVisit_7 2 rfl rfl)
theorem dX10_readVisit_172 : decode cX10_readVisit 172 = .ok (.bipush 87, 2) := dk_16 87 (dk_at dksX10_readVisit_7 5 rfl rfl)
theorem dX10_readVisit_174 : decode cX10_readVisit 174 = .ok (.iload_n 1, 1) := dk_27 (dk_at dksX10_readVisit_7 7 rfl rfl)
theorem dX10_readVisit_175 : decode cX10_readVisit 175 = .ok (.iadd, 1) := dk_96 (dk_at dksX10_readVisit_7 8 rfl rfl)
theorem dX10_readVisit_176 : decode cX10_readVisit 176 = .ok (.iconst (-1), 1) := dk_2 (dk_at dksX10_readVisit_7 9 rfl rfl)
theorem dX10_readVisit_177 : decode cX10_readVisit 177 = .ok (.iastore, 1) := dk_79 (dk_at dksX10_readVisit_7 10 rfl rfl)
theorem dX10_readVisit_178 : decode cX10_readVisit 178 = .ok (.aload_n 0, 1) := dk_42 (dk_at dksX10_readVisit_7 11 rfl rfl)
theorem dX10_readVisit_179 : decode cX10_readVisit 179 = .ok (.getfield 20, 3) := dk_180 0 20 (dk_at dksX10_readVisit_7 12 rfl rfl)
theorem dX10_readVisit_182 : decode cX10_readVisit 182 = .ok (.bipush 65, 2) := dk_16 65 (dk_at dksX10_readVisit_7 15 rfl rfl)
theorem dX10_readVisit_184 : decode cX10_readVisit 184 = .ok (.dup2, 1) := dk_92 (dk_at dksX10_readVisit_7 17 rfl rfl)
theorem dX10_readVisit_185 : decode cX10_readVisit 185 = .ok (.iaload, 1) := dk_46 (dk_at dksX10_readVisit_7 18 rfl rfl)
theorem dX10_readVisit_186 : decode cX10_readVisit 186 = .ok (.iconst 1, 1) := dk_4 (dk_at dksX10_readVisit_7 19 rfl rfl)
theorem dX10_readVisit_187 : decode cX10_readVisit 187 = .ok (.iadd, 1) := dk_96 (dk_at dksX10_readVisit_7 20 rfl rfl)
theorem dX10_readVisit_188 : decode cX10_readVisit 188 = .ok (.iastore, 1) := dk_79 (dk_at dksX10_readVisit_7 21 rfl rfl)
theorem dX10_readVisit_189 : decode cX10_readVisit 189 = .ok (.return_, 1) := dk_177 (dk_at dksX10_readVisit_7 22 rfl rfl)
abbrev cX10_proposalRead : ByteArray := prog_22_method_24_code
def yX10_proposalRead : MethodName := ⟨RX10, "proposalRead", "()I"⟩
def dkwX10_proposalRead_2 : List UInt8 := [182, 0, 99, 27, 172]
abbrev dktX10_proposalRead_2 : List UInt8 := dkwX10_proposalRead_2 ++ []
def dkwX10_proposalRead_1 : List UInt8 := [158, 0, 7, 3, 167, 0, 7, 42, 182, 0, 145, 60, 27, 2, 160, 0, 8, 42, 6, 182, 0, 105, 42]
abbrev dktX10_proposalRead_1 : List UInt8 := dkwX10_proposalRead_1 ++ dktX10_proposalRead_2
def dkwX10_proposalRead_0 : List UInt8 := [42, 180, 0, 55, 154, 0, 16, 42, 180, 0, 71, 5, 159, 0, 8, 42, 4, 182, 0, 105, 42, 180, 0, 55]
abbrev dktX10_proposalRead_0 : List UInt8 := dkwX10_proposalRead_0 ++ dktX10_proposalRead_1
theorem dksX10_proposalRead_0 : cX10_proposalRead.data.toList.drop 0 = dktX10_proposalRead_0 := by decide +kernel
theorem dksX10_proposalRead_1 : cX10_proposalRead.data.toList.drop 24 = dktX10_proposalRead_1 := dk_seg dksX10_proposalRead_0 24 rfl rfl
theorem dksX10_proposalRead_2 : cX10_proposalRead.data.toList.drop 47 = dktX10_proposalRead_2 := dk_seg dksX10_proposalRead_1 23 rfl rfl
theorem dX10_proposalRead_0 : decode cX10_proposalRead 0 = .ok (.aload_n 0, 1) := dk_42 (dk_at dksX10_proposalRead_0 0 rfl rfl)
theorem dX10_proposalRead_1 : decode cX10_proposalRead 1 = .ok (.getfield 55, 3) := dk_180 0 55 (dk_at dksX10_proposalRead_0 1 rfl rfl)
theorem dX10_proposalRead_4 : decode cX10_proposalRead 4 = .ok (.ifCond .ne 16, 3) := dk_154 0 16 (dk_at dksX10_proposalRead_0 4 rfl rfl)
theorem dX10_proposalRead_7 : decode cX10_proposalRead 7 = .ok (.aload_n 0, 1) := dk_42 (dk_at dksX10_proposalRead_0 7 rfl rfl)
theorem dX10_proposalRead_8 : decode cX10_proposalRead 8 = .ok (.getfield 71, 3) := dk_180 0 71 (dk_at dksX10_proposalRead_0 8 rfl rfl)
theorem dX10_proposalRead_11 : decode cX10_proposalRead 11 = .ok (.iconst 2, 1) := dk_5 (dk_at dksX10_proposalRead_0 11 rfl rfl)
theorem dX10_proposalRead_12 : decode cX10_proposalRead 12 = .ok (.if_icmp .eq 8, 3) := dk_159 0 8 (dk_at dksX10_proposalRead_0 12 rfl rfl)
theorem dX10_proposalRead_15 : decode cX10_proposalRead 15 = .ok (.aload_n 0, 1) := dk_42 (dk_at dksX10_proposalRead_0 15 rfl rfl)
theorem dX10_proposalRead_16 : decode cX10_proposalRead 16 = .ok (.iconst 1, 1) := dk_4 (dk_at dksX10_proposalRead_0 16 rfl rfl)
theorem dX10_proposalRead_17 : decode cX10_proposalRead 17 = .ok (.invokevirtual 105, 3) := dk_182 0 105 (dk_at dksX10_proposalRead_0 17 rfl rfl)
theorem dX10_proposalRead_20 : decode cX10_proposalRead 20 = .ok (.aload_n 0, 1) := dk_42 (dk_at dksX10_proposalRead_0 20 rfl rfl)
theorem dX10_proposalRead_21 : decode cX10_proposalRead 21 = .ok (.getfield 55, 3) := dk_180 0 55 (dk_at dksX10_proposalRead_0 21 rfl rfl)
theorem dX10_proposalRead_24 : decode cX10_proposalRead 24 = .ok (.ifCond .le 7, 3) := dk_158 0 7 (dk_at dksX10_proposalRead_1 0 rfl rfl)
theorem dX10_proposalRead_27 : decode cX10_proposalRead 27 = .ok (.iconst 0, 1) := dk_3 (dk_at dksX10_proposalRead_1 3 rfl rfl)
theorem dX10_proposalRead_28 : decode cX10_proposalRead 28 = .ok (.goto 7, 3) := dk_167 0 7 (dk_at dksX10_proposalRead_1 4 rfl rfl)
theorem dX10_proposalRead_31 : decode cX10_proposalRead 31 = .ok (.aload_n 0, 1) := dk_42 (dk_at dksX10_proposalRead_1 7 rfl rfl)
theorem dX10_proposalRead_32 : decode cX10_proposalRead 32 = .ok (.invokevirtual 145, 3) := dk_182 0 145 (dk_at dksX10_proposalRead_1 8 rfl rfl)
theorem dX10_proposalRead_35 : decode cX10_proposalRead 35 = .ok (.istore_n 1, 1) := dk_60 (dk_at dksX10_proposalRead_1 11 rfl rfl)
theorem dX10_proposalRead_36 : decode cX10_proposalRead 36 = .ok (.iload_n 1, 1) := dk_27 (dk_at dksX10_proposalRead_1 12 rfl rfl)
theorem dX10_proposalRead_37 : decode cX10_proposalRead 37 = .ok (.iconst (-1), 1) := dk_2 (dk_at dksX10_proposalRead_1 13 rfl rfl)
theorem dX10_proposalRead_38 : decode cX10_proposalRead 38 = .ok (.if_icmp .ne 8, 3) := dk_160 0 8 (dk_at dksX10_proposalRead_1 14 rfl rfl)
theorem dX10_proposalRead_41 : decode cX10_proposalRead 41 = .ok (.aload_n 0, 1) := dk_42 (dk_at dksX10_proposalRead_1 17 rfl rfl)
theorem dX10_proposalRead_42 : decode cX10_proposalRead 42 = .ok (.iconst 3, 1) := dk_6 (dk_at dksX10_proposalRead_1 18 rfl rfl)
theorem dX10_proposalRead_43 : decode cX10_proposalRead 43 = .ok (.invokevirtual 105, 3) := dk_182 0 105 (dk_at dksX10_proposalRead_1 19 rfl rfl)
theorem dX10_proposalRead_46 : decode cX10_proposalRead 46 = .ok (.aload_n 0, 1) := dk_42 (dk_at dksX10_proposalRead_1 22 rfl rfl)
theorem dX10_proposalRead_47 : decode cX10_proposalRead 47 = .ok (.invokevirtual 99, 3) := dk_182 0 99 (dk_at dksX10_proposalRead_2 0 rfl rfl)
theorem dX10_proposalRead_50 : decode cX10_proposalRead 50 = .ok (.iload_n 1, 1) := dk_27 (dk_at dksX10_proposalRead_2 3 rfl rfl)
theorem dX10_proposalRead_51 : decode cX10_proposalRead 51 = .ok (.ireturn, 1) := dk_172 (dk_at dksX10_proposalRead_2 4 rfl rfl)
abbrev cX10_latitude : ByteArray := prog_22_method_25_code
def yX10_latitude : MethodName := ⟨RX10, "latitude", "()I"⟩
def dkwX10_latitude_1 : List UInt8 := [153, 0, 8, 28, 116, 167, 0, 4, 28, 172]
abbrev dktX10_latitude_1 : List UInt8 := dkwX10_latitude_1 ++ []
def dkwX10_latitude_0 : List UInt8 := [42, 16, 45, 182, 0, 148, 60, 27, 153, 0, 7, 42, 182, 0, 99, 42, 3, 16, 90, 182, 0, 116, 61, 27]
abbrev dktX10_latitude_0 : List UInt8 := dkwX10_latitude_0 ++ dktX10_latitude_1
theorem dksX10_latitude_0 : cX10_latitude.data.toList.drop 0 = dktX10_latitude_0 := by decide +kernel
theorem dksX10_latitude_1 : cX10_latitude.data.toList.drop 24 = dktX10_latitude_1 := dk_seg dksX10_latitude_0 24 rfl rfl
theorem dX10_latitude_0 : decode cX10_latitude 0 = .ok (.aload_n 0, 1) := dk_42 (dk_at dksX10_latitude_0 0 rfl rfl)
theorem dX10_latitude_1 : decode cX10_latitude 1 = .ok (.bipush 45, 2) := dk_16 45 (dk_at dksX10_latitude_0 1 rfl rfl)
theorem dX10_latitude_3 : decode cX10_latitude 3 = .ok (.invokevirtual 148, 3) := dk_182 0 148 (dk_at dksX10_latitude_0 3 rfl rfl)
theorem dX10_latitude_6 : decode cX10_latitude 6 = .ok (.istore_n 1, 1) := dk_60 (dk_at dksX10_latitude_0 6 rfl rfl)
theorem dX10_latitude_7 : decode cX10_latitude 7 = .ok (.iload_n 1, 1) := dk_27 (dk_at dksX10_latitude_0 7 rfl rfl)
theorem dX10_latitude_8 : decode cX10_latitude 8 = .ok (.ifCond .eq 7, 3) := dk_153 0 7 (dk_at dksX10_latitude_0 8 rfl rfl)
theorem dX10_latitude_11 : decode cX10_latitude 11 = .ok (.aload_n 0, 1) := dk_42 (dk_at dksX10_latitude_0 11 rfl rfl)
theorem dX10_latitude_12 : decode cX10_latitude 12 = .ok (.invokevirtual 99, 3) := dk_182 0 99 (dk_at dksX10_latitude_0 12 rfl rfl)
theorem dX10_latitude_15 : decode cX10_latitude 15 = .ok (.aload_n 0, 1) := dk_42 (dk_at dksX10_latitude_0 15 rfl rfl)
theorem dX10_latitude_16 : decode cX10_latitude 16 = .ok (.iconst 0, 1) := dk_3 (dk_at dksX10_latitude_0 16 rfl rfl)
theorem dX10_latitude_17 : decode cX10_latitude 17 = .ok (.bipush 90, 2) := dk_16 90 (dk_at dksX10_latitude_0 17 rfl rfl)
theorem dX10_latitude_19 : decode cX10_latitude 19 = .ok (.invokevirtual 116, 3) := dk_182 0 116 (dk_at dksX10_latitude_0 19 rfl rfl)
theorem dX10_latitude_22 : decode cX10_latitude 22 = .ok (.istore_n 2, 1) := dk_61 (dk_at dksX10_latitude_0 22 rfl rfl)
theorem dX10_latitude_23 : decode cX10_latitude 23 = .ok (.iload_n 1, 1) := dk_27 (dk_at dksX10_latitude_0 23 rfl rfl)
theorem dX10_latitude_24 : decode cX10_latitude 24 = .ok (.ifCond .eq 8, 3) := dk_153 0 8 (dk_at dksX10_latitude_1 0 rfl rfl)
theorem dX10_latitude_27 : decode cX10_latitude 27 = .ok (.iload_n 2, 1) := dk_28 (dk_at dksX10_latitude_1 3 rfl rfl)
theorem dX10_latitude_28 : decode cX10_latitude 28 = .ok (.ineg, 1) := dk_116 (dk_at dksX10_latitude_1 4 rfl rfl)
theorem dX10_latitude_29 : decode cX10_latitude 29 = .ok (.goto 4, 3) := dk_167 0 4 (dk_at dksX10_latitude_1 5 rfl rfl)
theorem dX10_latitude_32 : decode cX10_latitude 32 = .ok (.iload_n 2, 1) := dk_28 (dk_at dksX10_latitude_1 8 rfl rfl)
theorem dX10_latitude_33 : decode cX10_latitude 33 = .ok (.ireturn, 1) := dk_172 (dk_at dksX10_latitude_1 9 rfl rfl)
abbrev cX10_readAlert : ByteArray := prog_22_method_27_code
def yX10_readAlert : MethodName := ⟨RX10, "readAlert", "()V"⟩
def dkwX10_readAlert_6 : List UInt8 := [42, 180, 0, 26, 28, 16, 8, 96, 2, 79, 42, 180, 0, 26, 16, 14, 92, 46, 4, 96, 79, 177]
abbrev dktX10_readAlert_6 : List UInt8 := dkwX10_readAlert_6 ++ []
def dkwX10_readAlert_5 : List UInt8 := [3, 16, 99, 182, 0, 116, 79, 42, 180, 0, 26, 28, 16, 6, 96, 42, 3, 17, 3, 231, 182, 0, 116, 79]
abbrev dktX10_readAlert_5 : List UInt8 := dkwX10_readAlert_5 ++ dktX10_readAlert_6
def dkwX10_readAlert_4 : List UInt8 := [42, 180, 0, 26, 28, 7, 96, 42, 4, 17, 1, 44, 182, 0, 116, 79, 42, 180, 0, 26, 28, 8, 96, 42]
abbrev dktX10_readAlert_4 : List UInt8 := dkwX10_readAlert_4 ++ dktX10_readAlert_5
def dkwX10_readAlert_3 : List UInt8 := [28, 5, 96, 42, 3, 17, 1, 103, 182, 0, 116, 79, 42, 180, 0, 26, 28, 6, 96, 42, 182, 0, 154, 79]
abbrev dktX10_readAlert_3 : List UInt8 := dkwX10_readAlert_3 ++ dktX10_readAlert_4
def dkwX10_readAlert_2 : List UInt8 := [182, 0, 151, 79, 42, 180, 0, 26, 28, 4, 96, 42, 3, 17, 7, 208, 182, 0, 116, 79, 42, 180, 0, 26]
abbrev dktX10_readAlert_2 : List UInt8 := dkwX10_readAlert_2 ++ dktX10_readAlert_3
def dkwX10_readAlert_1 : List UInt8 := [180, 0, 55, 158, 0, 4, 177, 16, 127, 16, 10, 27, 104, 96, 61, 42, 180, 0, 26, 28, 3, 96, 42]
abbrev dktX10_readAlert_1 : List UInt8 := dkwX10_readAlert_1 ++ dktX10_readAlert_2
def dkwX10_readAlert_0 : List UInt8 := [42, 180, 0, 26, 16, 14, 46, 60, 27, 8, 160, 0, 8, 42, 7, 182, 0, 105, 42, 182, 0, 99, 42]
abbrev dktX10_readAlert_0 : List UInt8 := dkwX10_readAlert_0 ++ dktX10_readAlert_1
theorem dksX10_readAlert_0 : cX10_readAlert.data.toList.drop 0 = dktX10_readAlert_0 := by decide +kernel
theorem dksX10_readAlert_1 : cX10_readAlert.data.toList.drop 23 = dktX10_readAlert_1 := dk_seg dksX10_readAlert_0 23 rfl rfl
theorem dksX10_readAlert_2 : cX10_readAlert.data.toList.drop 46 = dktX10_readAlert_2 := dk_seg dksX10_readAlert_1 23 rfl rfl
theorem dksX10_readAlert_3 : cX10_readAlert.data.toList.drop 70 = dktX10_readAlert_3 := dk_seg dksX10_readAlert_2 24 rfl rfl
theorem dksX10_readAlert_4 : cX10_readAlert.data.toList.drop 94 = dktX10_readAlert_4 := dk_seg dksX10_readAlert_3 24 rfl rfl
theorem dksX10_readAlert_5 : cX10_readAlert.data.toList.drop 118 = dktX10_readAlert_5 := dk_seg dksX10_readAlert_4 24 rfl rfl
theorem dksX10_readAlert_6 : cX10_readAlert.data.toList.drop 142 = dktX10_readAlert_6 := dk_seg dksX10_readAlert_5 24 rfl rfl
theorem dX10_readAlert_0 : decode cX10_readAlert 0 = .ok (.aload_n 0, 1) := dk_42 (dk_at dksX10_readAlert_0 0 rfl rfl)
theorem dX10_readAlert_1 : decode cX10_readAlert 1 = .ok (.getfield 26, 3) := dk_180 0 26 (dk_at dksX10_readAlert_0 1 rfl rfl)
theorem dX10_readAlert_4 : decode cX10_readAlert 4 = .ok (.bipush 14, 2) := dk_16 14 (dk_at dksX10_readAlert_0 4 rfl rfl)
theorem dX10_readAlert_6 : decode cX10_readAlert 6 = .ok (.iaload, 1) := dk_46 (dk_at dksX10_readAlert_0 6 rfl rfl)
theorem dX10_readAlert_7 : decode cX10_readAlert 7 = .ok (.istore_n 1, 1) := dk_60 (dk_at dksX10_readAlert_0 7 rfl rfl)
theorem dX10_readAlert_8 : decode cX10_readAlert 8 = .ok (.iload_n 1, 1) := dk_27 (dk_at dksX10_readAlert_0 8 rfl rfl)
theorem dX10_readAlert_9 : decode cX10_readAlert 9 = .ok (.iconst 5, 1) := dk_8 (dk_at dksX10_readAlert_0 9 rfl rfl)
theorem dX10_readAlert_10 : decode cX10_readAlert 10 = .ok (.if_icmp .ne 8, 3) := dk_160 0 8 (dk_at dksX10_readAlert_0 10 rfl rfl)
theorem dX10_readAlert_13 : decode cX10_readAlert 13 = .ok (.aload_n 0, 1) := dk_42 (dk_at dksX10_readAlert_0 13 rfl rfl)
theorem dX10_readAlert_14 : decode cX10_readAlert 14 = .ok (.iconst 4, 1) := dk_7 (dk_at dksX10_readAlert_0 14 rfl rfl)
theorem dX10_readAlert_15 : decode cX10_readAlert 15 = .ok (.invokevirtual 105, 3) := dk_182 0 105 (dk_at dksX10_readAlert_0 15 rfl rfl)
theorem dX10_readAlert_18 : decode cX10_readAlert 18 = .ok (.aload_n 0, 1) := dk_42 (dk_at dksX10_readAlert_0 18 rfl rfl)
theorem dX10_readAlert_19 : decode cX10_readAlert 19 = .ok (.invokevirtual 99, 3) := dk_182 0 99 (dk_at dksX10_readAlert_0 19 rfl rfl)
theorem dX10_readAlert_22 : decode cX10_readAlert 22 = .ok (.aload_n 0, 1) := dk_42 (dk_at dksX10_readAlert_0 22 rfl rfl)
theorem dX10_readAlert_23 : decode cX10_readAlert 23 = .ok (.getfield 55, 3) := dk_180 0 55 (dk_at dksX10_readAlert_1 0 rfl rfl)
theorem dX10_readAlert_26 : decode cX10_readAlert 26 = .ok (.ifCond .le 4, 3) := dk_158 0 4 (dk_at dksX10_readAlert_1 3 rfl rfl)
theorem dX10_readAlert_29 : decode cX10_readAlert 29 = .ok (.return_, 1) := dk_177 (dk_at dksX10_readAlert_1 6 rfl rfl)
theorem dX10_readAlert_30 : decode cX10_readAlert 30 = .ok (.bipush 127, 2) := dk_16 127 (dk_at dksX10_readAlert_1 7 rfl rfl)
theorem dX10_readAlert_32 : decode cX10_readAlert 32 = .ok (.bipush 10, 2) := dk_16 10 (dk_at dksX10_readAlert_1 9 rfl rfl)
theorem dX10_readAlert_34 : decode cX10_readAlert 34 = .ok (.iload_n 1, 1) := dk_27 (dk_at dksX10_readAlert_1 11 rfl rfl)
theorem dX10_readAlert_35 : decode cX10_readAlert 35 = .ok (.imul, 1) := dk_104 (dk_at dksX10_readAlert_1 12 rfl rfl)
theorem dX10_readAlert_36 : decode cX10_readAlert 36 = .ok (.iadd, 1) := dk_96 (dk_at dksX10_readAlert_1 13 rfl rfl)
theorem dX10_readAlert_37 : decode cX10_readAlert 37 = .ok (.istore_n 2, 1) := dk_61 (dk_at dksX10_readAlert_1 14 rfl rfl)
theorem dX10_readAlert_38 : decode cX10_readAlert 38 = .ok (.aload_n 0, 1) := dk_42 (dk_at dksX10_readAlert_1 15 rfl rfl)
theorem dX10_readAlert_39 : decode cX10_readAlert 39 = .ok (.getfield 26, 3) := dk_180 0 26 (dk_at dksX10_readAlert_1 16 rfl rfl)
theorem dX10_readAlert_42 : decode cX10_readAlert 42 = .ok (.iload_n 2, 1) := dk_28 (dk_at dksX10_readAlert_1 19 rfl rfl)
theorem dX10_readAlert_43 : decode cX10_readAlert 43 = .ok (.iconst 0, 1) := dk_3 (dk_at dksX10_readAlert_1 20 rfl rfl)
theorem dX10_readAlert_44 : decode cX10_readAlert 44 = .ok (.iadd, 1) := dk_96 (dk_at dksX10_readAlert_1 21 rfl rfl)
theorem dX10_readAlert_45 : decode cX10_readAlert 45 = .ok (.aload_n 0, 1) := dk_42 (dk_at dksX10_readAlert_1 22 rfl rfl)
theorem dX10_readAlert_46 : decode cX10_readAlert 46 = .ok (.invokevirtual 151, 3) := dk_182 0 151 (dk_at dksX10_readAlert_2 0 rfl rfl)
theorem dX10_readAlert_49 : decode cX10_readAlert 49 = .ok (.iastore, 1) := dk_79 (dk_at dksX10_readAlert_2 3 rfl rfl)
theorem dX10_readAlert_50 : decode cX10_readAlert 50 = .ok (.aload_n 0, 1) := dk_42 (dk_at dksX10_readAlert_2 4 rfl rfl)
theorem dX10_readAlert_51 : decode cX10_readAlert 51 = .ok (.getfield 26, 3) := dk_180 0 26 (dk_at dksX10_readAlert_2 5 rfl rfl)
theorem dX10_readAlert_54 : decode cX10_readAlert 54 = .ok (.iload_n 2, 1) := dk_28 (dk_at dksX10_readAlert_2 8 rfl rfl)
theorem dX10_readAlert_55 : decode cX10_readAlert 55 = .ok (.iconst 1, 1) := dk_4 (dk_at dksX10_readAlert_2 9 rfl rfl)
theorem dX10_readAlert_56 : decode cX10_readAlert 56 = .ok (.iadd, 1) := dk_96 (dk_at dksX10_readAlert_2 10 rfl rfl)
theorem dX10_readAlert_57 : decode cX10_readAlert 57 = .ok (.aload_n 0, 1) := dk_42 (dk_at dksX10_readAlert_2 11 rfl rfl)
theorem dX10_readAlert_58 : decode cX10_readAlert 58 = .ok (.iconst 0, 1) := dk_3 (dk_at dksX10_readAlert_2 12 rfl rfl)
theorem dX10_readAlert_59 : decode cX10_readAlert 59 = .ok (.sipush 2000, 3) := dk_17 7 208 (dk_at dksX10_readAlert_2 13 rfl rfl)
theorem dX10_readAlert_62 : decode cX10_readAlert 62 = .ok (.invokevirtual 116, 3) := dk_182 0 116 (dk_at dksX10_readAlert_2 16 rfl rfl)
theorem dX10_readAlert_65 : decode cX10_readAlert 65 = .ok (.iastore, 1) := dk_79 (dk_at dksX10_readAlert_2 19 rfl rfl)
theorem dX10_readAlert_66 : decode cX10_readAlert 66 = .ok (.aload_n 0, 1) := dk_42 (dk_at dksX10_readAlert_2 20 rfl rfl)
theorem dX10_readAlert_67 : decode cX10_readAlert 67 = .ok (.getfield 26, 3) := dk_180 0 26 (dk_at dksX10_readAlert_2 21 rfl rfl)
theorem dX10_readAlert_70 : decode cX10_readAlert 70 = .ok (.iload_n 2, 1) := dk_28 (dk_at dksX10_readAlert_3 0 rfl rfl)
theorem dX10_readAlert_71 : decode cX10_readAlert 71 = .ok (.iconst 2, 1) := dk_5 (dk_at dksX10_readAlert_3 1 rfl rfl)
theorem dX10_readAlert_72 : decode cX10_readAlert 72 = .ok (.iadd, 1) := dk_96 (dk_at dksX10_readAlert_3 2 rfl rfl)
theorem dX10_readAlert_73 : decode cX10_readAlert 73 = .ok (.aload_n 0, 1) := dk_42 (dk_at dksX10_readAlert_3 3 rfl rfl)
theorem dX10_readAlert_74 : decode cX10_readAlert 74 = .ok (.iconst 0, 1) := dk_3 (dk_at dksX10_readAlert_3 4 rfl rfl)
theorem dX10_readAlert_75 : decode cX10_readAlert 75 = .ok (.sipush 359, 3) := dk_17 1 103 (dk_at dksX10_readAlert_3 5 rfl rfl)
theorem dX10_readAlert_78 : decode cX10_readAlert 78 = .ok (.invokevirtual 116, 3) := dk_182 0 116 (dk_at dksX10_readAlert_3 8 rfl rfl)
theorem dX10_readAlert_81 : decode cX10_readAlert 81 = .ok (.iastore, 1) := dk_79 (dk_at dksX10_readAlert_3 11 rfl rfl)
theorem dX10_readAlert_82 : decode cX10_readAlert 82 = .ok (.aload_n 0, 1) := dk_42 (dk_at dksX10_readAlert_3 12 rfl rfl)
theorem dX10_readAlert_83 : decode cX10_readAlert 83 = .ok (.getfield 26, 3) := dk_180 0 26 (dk_at dksX10_readAlert_3 13 rfl rfl)
theorem dX10_readAlert_86 : decode cX10_readAlert 86 = .ok (.iload_n 2, 1) := dk_28 (dk_at dksX10_readAlert_3 16 rfl rfl)
theorem dX10_readAlert_87 : decode cX10_readAlert 87 = .ok (.iconst 3, 1) := dk_6 (dk_at dksX10_readAlert_3 17 rfl rfl)
theorem dX10_readAlert_88 : decode cX10_readAlert 88 = .ok (.iadd, 1) := dk_96 (dk_at dksX10_readAlert_3 18 rfl rfl)
theorem dX10_readAlert_89 : decode cX10_readAlert 89 = .ok (.aload_n 0, 1) := dk_42 (dk_at dksX10_readAlert_3 19 rfl rfl)
theorem dX10_readAlert_90 : decode cX10_readAlert 90 = .ok (.invokevirtual 154, 3) := dk_182 0 154 (dk_at dksX10_readAlert_3 20 rfl rfl)
theorem dX10_readAlert_93 : decode cX10_readAlert 93 = .ok (.iastore, 1) := dk_79 (dk_at dksX10_readAlert_3 23 rfl rfl)
theorem dX10_readAlert_94 : decode cX10_readAlert 94 = .ok (.aload_n 0, 1) := dk_42 (dk_at dksX10_readAlert_4 0 rfl rfl)
theorem dX10_readAlert_95 : decode cX10_readAlert 95 = .ok (.getfield 26, 3) := dk_180 0 26 (dk_at dksX10_readAlert_4 1 rfl rfl)
theorem dX10_readAlert_98 : decode cX10_readAlert 98 = .ok (.iload_n 2, 1) := dk_28 (dk_at dksX10_readAlert_4 4 rfl rfl)
theorem dX10_readAlert_99 : decode cX10_readAlert 99 = .ok (.iconst 4, 1) := dk_7 (dk_at dksX10_readAlert_4 5 rfl rfl)
theorem dX10_readAlert_100 : decode cX10_readAlert 100 = .ok (.iadd, 1) := dk_96 (dk_at dksX10_readAlert_4 6 rfl rfl)
theorem dX10_readAlert_101 : decode cX10_readAlert 101 = .ok (.aload_n 0, 1) := dk_42 (dk_at dksX10_readAlert_4 7 rfl rfl)
theorem dX10_readAlert_102 : decode cX10_readAlert 102 = .ok (.iconst 1, 1) := dk_4 (dk_at dksX10_readAlert_4 8 rfl rfl)
theorem dX10_readAlert_103 : decode cX10_readAlert 103 = .ok (.sipush 300, 3) := dk_17 1 44 (dk_at dksX10_readAlert_4 9 rfl rfl)
theorem dX10_readAlert_106 : decode cX10_readAlert 106 = .ok (.invokevirtual 116, 3) := dk_182 0 116 (dk_at dksX10_readAlert_4 12 rfl rfl)
theorem dX10_readAlert_109 : decode cX10_readAlert 109 = .ok (.iastore, 1) := dk_79 (dk_at dksX10_readAlert_4 15 rfl rfl)
theorem dX10_readAlert_110 : decode cX10_readAlert 110 = .ok (.aload_n 0, 1) := dk_42 (dk_at dksX10_readAlert_4 16 rfl rfl)
theorem dX10_readAlert_111 : decode cX10_readAlert 111 = .ok (.getfield 26, 3) := dk_180 0 26 (dk_at dksX10_readAlert_4 17 rfl rfl)
theorem dX10_readAlert_114 : decode cX10_readAlert 114 = .ok (.iload_n 2, 1) := dk_28 (dk_at dksX10_readAlert_4 20 rfl rfl)
theorem dX10_readAlert_115 : decode cX10_readAlert 115 = .ok (.iconst 5, 1) := dk_8 (dk_at dksX10_readAlert_4 21 rfl rfl)
theorem dX10_readAlert_116 : decode cX10_readAlert 116 = .ok (.iadd, 1) := dk_96 (dk_at dksX10_readAlert_4 22 rfl rfl)
theorem dX10_readAlert_117 : decode cX10_readAlert 117 = .ok (.aload_n 0, 1) := dk_42 (dk_at dksX10_readAlert_4 23 rfl rfl)
theorem dX10_readAlert_118 : decode cX10_readAlert 118 = .ok (.iconst 0, 1) := dk_3 (dk_at dksX10_readAlert_5 0 rfl rfl)
theorem dX10_readAlert_119 : decode cX10_readAlert 119 = .ok (.bipush 99, 2) := dk_16 99 (dk_at dksX10_readAlert_5 1 rfl rfl)
theorem dX10_readAlert_121 : decode cX10_readAlert 121 = .ok (.invokevirtual 116, 3) := dk_182 0 116 (dk_at dksX10_readAlert_5 3 rfl rfl)
theorem dX10_readAlert_124 : decode cX10_readAlert 124 = .ok (.iastore, 1) := dk_79 (dk_at dksX10_readAlert_5 6 rfl rfl)
theorem dX10_readAlert_125 : decode cX10_readAlert 125 = .ok (.aload_n 0, 1) := dk_42 (dk_at dksX10_readAlert_5 7 rfl rfl)
theorem dX10_readAlert_126 : decode cX10_readAlert 126 = .ok (.getfield 26, 3) := dk_180 0 26 (dk_at dksX10_readAlert_5 8 rfl rfl)
theorem dX10_readAlert_129 : decode cX10_readAlert 129 = .ok (.iload_n 2, 1) := dk_28 (dk_at dksX10_readAlert_5 11 rfl rfl)
theorem dX10_readAlert_130 : decode cX10_readAlert 130 = .ok (.bipush 6, 2) := dk_16 6 (dk_at dksX10_readAlert_5 12 rfl rfl)
theorem dX10_readAlert_132 : decode cX10_readAlert 132 = .ok (.iadd, 1) := dk_96 (dk_at dksX10_readAlert_5 14 rfl rfl)
theorem dX10_readAlert_133 : decode cX10_readAlert 133 = .ok (.aload_n 0, 1) := dk_42 (dk_at dksX10_readAlert_5 15 rfl rfl)
theorem dX10_readAlert_134 : decode cX10_readAlert 134 = .ok (.iconst 0, 1) := dk_3 (dk_at dksX10_readAlert_5 16 rfl rfl)
theorem dX10_readAlert_135 : decode cX10_readAlert 135 = .ok (.sipush 999, 3) := dk_17 3 231 (dk_at dksX10_readAlert_5 17 rfl rfl)
theorem dX10_readAlert_138 : decode cX10_readAlert 138 = .ok (.invokevirtual 116, 3) := dk_182 0 116 (dk_at dksX10_readAlert_5 20 rfl rfl)
theorem dX10_readAlert_141 : decode cX10_readAlert 141 = .ok (.iastore, 1) := dk_79 (dk_at dksX10_readAlert_5 23 rfl rfl)
theorem dX10_readAlert_142 : decode cX10_readAlert 142 = .ok (.aload_n 0, 1) := dk_42 (dk_at dksX10_readAlert_6 0 rfl rfl)
theorem dX10_readAlert_143 : decode cX10_readAlert 143 = .ok (.getfield 26, 3) := dk_180 0 26 (dk_at dksX10_readAlert_6 1 rfl rfl)
theorem dX10_readAlert_146 : decode cX10_readAlert 146 = .ok (.iload_n 2, 1) := dk_28 (dk_at dksX10_readAlert_6 4 rfl rfl)
theorem dX10_readAlert_147 : decode cX10_readAlert 147 = .ok (.bipush 8, 2) := dk_16 8 (dk_at dksX10_readAlert_6 5 rfl rfl)
theorem dX10_readAlert_149 : decode cX10_readAlert 149 = .ok (.iadd, 1) := dk_96 (dk_at dksX10_readAlert_6 7 rfl rfl)
theorem dX10_readAlert_150 : decode cX10_readAlert 150 = .ok (.iconst (-1), 1) := dk_2 (dk_at dksX10_readAlert_6 8 rfl rfl)
theorem dX10_readAlert_151 : decode cX10_readAlert 151 = .ok (.iastore, 1) := dk_79 (dk_at dksX10_readAlert_6 9 rfl rfl)
theorem dX10_readAlert_152 : decode cX10_readAlert 152 = .ok (.aload_n 0, 1) := dk_42 (dk_at dksX10_readAlert_6 10 rfl rfl)
theorem dX10_readAlert_153 : decode cX10_readAlert 153 = .ok (.getfield 26, 3) := dk_180 0 26 (dk_at dksX10_readAlert_6 11 rfl rfl)
theorem dX10_readAlert_156 : decode cX10_readAlert 156 = .ok (.bipush 14, 2) := dk_16 14 (dk_at dksX10_readAlert_6 14 rfl rfl)
theorem dX10_readAlert_158 : decode cX10_readAlert 158 = .ok (.dup2, 1) := dk_92 (dk_at dksX10_readAlert_6 16 rfl rfl)
theorem dX10_readAlert_159 : decode cX10_readAlert 159 = .ok (.iaload, 1) := dk_46 (dk_at dksX10_readAlert_6 17 rfl rfl)
theorem dX10_readAlert_160 : decode cX10_readAlert 160 = .ok (.iconst 1, 1) := dk_4 (dk_at dksX10_readAlert_6 18 rfl rfl)
theorem dX10_readAlert_161 : decode cX10_readAlert 161 = .ok (.iadd, 1) := dk_96 (dk_at dksX10_readAlert_6 19 rfl rfl)
theorem dX10_readAlert_162 : decode cX10_readAlert 162 = .ok (.iastore, 1) := dk_79 (dk_at dksX10_readAlert_6 20 rfl rfl)
theorem dX10_readAlert_163 : decode cX10_readAlert 163 = .ok (.return_, 1) := dk_177 (dk_at dksX10_readAlert_6 21 rfl rfl)
abbrev cX10_readOutage : ByteArray := prog_22_method_28_code
def yX10_readOutage : MethodName := ⟨RX10, "readOutage", "()V"⟩
def dkwX10_readOutage_4 : List UInt8 := [177]
abbrev dktX10_readOutage_4 : List UInt8 := dkwX10_readOutage_4 ++ []
def dkwX10_readOutage_3 : List UInt8 := [180, 0, 20, 27, 46, 17, 7, 208, 182, 0, 116, 79, 42, 180, 0, 20, 17, 0, 226, 92, 46, 4, 96, 79]
abbrev dktX10_readOutage_3 : List UInt8 := dkwX10_readOutage_3 ++ dktX10_readOutage_4
def dkwX10_readOutage_2 : List UInt8 := [180, 0, 20, 27, 42, 3, 17, 7, 208, 182, 0, 116, 79, 42, 180, 0, 20, 27, 4, 96, 42, 42]
abbrev dktX10_readOutage_2 : List UInt8 := dkwX10_readOutage_2 ++ dktX10_readOutage_3
def dkwX10_readOutage_1 : List UInt8 := [180, 0, 55, 158, 0, 4, 177, 17, 0, 227, 5, 42, 180, 0, 20, 17, 0, 226, 46, 104, 96, 60, 42]
abbrev dktX10_readOutage_1 : List UInt8 := dkwX10_readOutage_1 ++ dktX10_readOutage_2
def dkwX10_readOutage_0 : List UInt8 := [42, 180, 0, 20, 17, 0, 226, 46, 7, 160, 0, 8, 42, 7, 182, 0, 105, 42, 182, 0, 99, 42]
abbrev dktX10_readOutage_0 : List UInt8 := dkwX10_readOutage_0 ++ dktX10_readOutage_1
theorem dksX10_readOutage_0 : cX10_readOutage.data.toList.drop 0 = dktX10_readOutage_0 := by decide +kernel
theorem dksX10_readOutage_1 : cX10_readOutage.data.toList.drop 22 = dktX10_readOutage_1 := dk_seg dksX10_readOutage_0 22 rfl rfl
theorem dksX10_readOutage_2 : cX10_readOutage.data.toList.drop 45 = dktX10_readOutage_2 := dk_seg dksX10_readOutage_1 23 rfl rfl
theorem dksX10_readOutage_3 : cX10_readOutage.data.toList.drop 67 = dktX10_readOutage_3 := dk_seg dksX10_readOutage_2 22 rfl rfl
theorem dksX10_readOutage_4 : cX10_readOutage.data.toList.drop 91 = dktX10_readOutage_4 := dk_seg dksX10_readOutage_3 24 rfl rfl
theorem dX10_readOutage_0 : decode cX10_readOutage 0 = .ok (.aload_n 0, 1) := dk_42 (dk_at dksX10_readOutage_0 0 rfl rfl)
theorem dX10_readOutage_1 : decode cX10_readOutage 1 = .ok (.getfield 20, 3) := dk_180 0 20 (dk_at dksX10_readOutage_0 1 rfl rfl)
theorem dX10_readOutage_4 : decode cX10_readOutage 4 = .ok (.sipush 226, 3) := dk_17 0 226 (dk_at dksX10_readOutage_0 4 rfl rfl)
theorem dX10_readOutage_7 : decode cX10_readOutage 7 = .ok (.iaload, 1) := dk_46 (dk_at dksX10_readOutage_0 7 rfl rfl)
theorem dX10_readOutage_8 : decode cX10_readOutage 8 = .ok (.iconst 4, 1) := dk_7 (dk_at dksX10_readOutage_0 8 rfl rfl)
theorem dX10_readOutage_9 : decode cX10_readOutage 9 = .ok (.if_icmp .ne 8, 3) := dk_160 0 8 (dk_at dksX10_readOutage_0 9 rfl rfl)
theorem dX10_readOutage_12 : decode cX10_readOutage 12 = .ok (.aload_n 0, 1) := dk_42 (dk_at dksX10_readOutage_0 12 rfl rfl)
theorem dX10_readOutage_13 : decode cX10_readOutage 13 = .ok (.iconst 4, 1) := dk_7 (dk_at dksX10_readOutage_0 13 rfl rfl)
theorem dX10_readOutage_14 : decode cX10_readOutage 14 = .ok (.invokevirtual 105, 3) := dk_182 0 105 (dk_at dksX10_readOutage_0 14 rfl rfl)
theorem dX10_readOutage_17 : decode cX10_readOutage 17 = .ok (.aload_n 0, 1) := dk_42 (dk_at dksX10_readOutage_0 17 rfl rfl)
theorem dX10_readOutage_18 : decode cX10_readOutage 18 = .ok (.invokevirtual 99, 3) := dk_182 0 99 (dk_at dksX10_readOutage_0 18 rfl rfl)
theorem dX10_readOutage_21 : decode cX10_readOutage 21 = .ok (.aload_n 0, 1) := dk_42 (dk_at dksX10_readOutage_0 21 rfl rfl)
theorem dX10_readOutage_22 : decode cX10_readOutage 22 = .ok (.getfield 55, 3) := dk_180 0 55 (dk_at dksX10_readOutage_1 0 rfl rfl)
theorem dX10_readOutage_25 : decode cX10_readOutage 25 = .ok (.ifCond .le 4, 3) := dk_158 0 4 (dk_at dksX10_readOutage_1 3 rfl rfl)
theorem dX10_readOutage_28 : decode cX10_readOutage 28 = .ok (.return_, 1) := dk_177 (dk_at dksX10_readOutage_1 6 rfl rfl)
theorem dX10_readOutage_29 : decode cX10_readOutage 29 = .ok (.sipush 227, 3) := dk_17 0 227 (dk_at dksX10_readOutage_1 7 rfl rfl)
theorem dX10_readOutage_32 : decode cX10_readOutage 32 = .ok (.iconst 2, 1) := dk_5 (dk_at dksX10_readOutage_1 10 rfl rfl)
theorem dX10_readOutage_33 : decode cX10_readOutage 33 = .ok (.aload_n 0, 1) := dk_42 (dk_at dksX10_readOutage_1 11 rfl rfl)
theorem dX10_readOutage_34 : decode cX10_readOutage 34 = .ok (.getfield 20, 3) := dk_180 0 20 (dk_at dksX10_readOutage_1 12 rfl rfl)
theorem dX10_readOutage_37 : decode cX10_readOutage 37 = .ok (.sipush 226, 3) := dk_17 0 226 (dk_at dksX10_readOutage_1 15 rfl rfl)
theorem dX10_readOutage_40 : decode cX10_readOutage 40 = .ok (.iaload, 1) := dk_46 (dk_at dksX10_readOutage_1 18 rfl rfl)
theorem dX10_readOutage_41 : decode cX10_readOutage 41 = .ok (.imul, 1) := dk_104 (dk_at dksX10_readOutage_1 19 rfl rfl)
theorem dX10_readOutage_42 : decode cX10_readOutage 42 = .ok (.iadd, 1) := dk_96 (dk_at dksX10_readOutage_1 20 rfl rfl)
theorem dX10_readOutage_43 : decode cX10_readOutage 43 = .ok (.istore_n 1, 1) := dk_60 (dk_at dksX10_readOutage_1 21 rfl rfl)
theorem dX10_readOutage_44 : decode cX10_readOutage 44 = .ok (.aload_n 0, 1) := dk_42 (dk_at dksX10_readOutage_1 22 rfl rfl)
theorem dX10_readOutage_45 : decode cX10_readOutage 45 = .ok (.getfield 20, 3) := dk_180 0 20 (dk_at dksX10_readOutage_2 0 rfl rfl)
theorem dX10_readOutage_48 : decode cX10_readOutage 48 = .ok (.iload_n 1, 1) := dk_27 (dk_at dksX10_readOutage_2 3 rfl rfl)
theorem dX10_readOutage_49 : decode cX10_readOutage 49 = .ok (.aload_n 0, 1) := dk_42 (dk_at dksX10_readOutage_2 4 rfl rfl)
theorem dX10_readOutage_50 : decode cX10_readOutage 50 = .ok (.iconst 0, 1) := dk_3 (dk_at dksX10_readOutage_2 5 rfl rfl)
theorem dX10_readOutage_51 : decode cX10_readOutage 51 = .ok (.sipush 2000, 3) := dk_17 7 208 (dk_at dksX10_readOutage_2 6 rfl rfl)
theorem dX10_readOutage_54 : decode cX10_readOutage 54 = .ok (.invokevirtual 116, 3) := dk_182 0 116 (dk_at dksX10_readOutage_2 9 rfl rfl)
theorem dX10_readOutage_57 : decode cX10_readOutage 57 = .ok (.iastore, 1) := dk_79 (dk_at dksX10_readOutage_2 12 rfl rfl)
theorem dX10_readOutage_58 : decode cX10_readOutage 58 = .ok (.aload_n 0, 1) := dk_42 (dk_at dksX10_readOutage_2 13 rfl rfl)
theorem dX10_readOutage_59 : decode cX10_readOutage 59 = .ok (.getfield 20, 3) := dk_180 0 20 (dk_at dksX10_readOutage_2 14 rfl rfl)
theorem dX10_readOutage_62 : decode cX10_readOutage 62 = .ok (.iload_n 1, 1) := dk_27 (dk_at dksX10_readOutage_2 17 rfl rfl)
theorem dX10_readOutage_63 : decode cX10_readOutage 63 = .ok (.iconst 1, 1) := dk_4 (dk_at dksX10_readOutage_2 18 rfl rfl)
theorem dX10_readOutage_64 : decode cX10_readOutage 64 = .ok (.iadd, 1) := dk_96 (dk_at dksX10_readOutage_2 19 rfl rfl)
theorem dX10_readOutage_65 : decode cX10_readOutage 65 = .ok (.aload_n 0, 1) := dk_42 (dk_at dksX10_readOutage_2 20 rfl rfl)
theorem dX10_readOutage_66 : decode cX10_readOutage 66 = .ok (.aload_n 0, 1) := dk_42 (dk_at dksX10_readOutage_2 21 rfl rfl)
theorem dX10_readOutage_67 : decode cX10_readOutage 67 = .ok (.getfield 20, 3) := dk_180 0 20 (dk_at dksX10_readOutage_3 0 rfl rfl)
theorem dX10_readOutage_70 : decode cX10_readOutage 70 = .ok (.iload_n 1, 1) := dk_27 (dk_at dksX10_readOutage_3 3 rfl rfl)
theorem dX10_readOutage_71 : decode cX10_readOutage 71 = .ok (.iaload, 1) := dk_46 (dk_at dksX10_readOutage_3 4 rfl rfl)
theorem dX10_readOutage_72 : decode cX10_readOutage 72 = .ok (.sipush 2000, 3) := dk_17 7 208 (dk_at dksX10_readOutage_3 5 rfl rfl)
theorem dX10_readOutage_75 : decode cX10_readOutage 75 = .ok (.invokevirtual 116, 3) := dk_182 0 116 (dk_at dksX10_readOutage_3 8 rfl rfl)
theorem dX10_readOutage_78 : decode cX10_readOutage 78 = .ok (.iastore, 1) := dk_79 (dk_at dksX10_readOutage_3 11 rfl rfl)
theorem dX10_readOutage_79 : decode cX10_readOutage 79 = .ok (.aload_n 0, 1) := dk_42 (dk_at dksX10_readOutage_3 12 rfl rfl)
theorem dX10_readOutage_80 : decode cX10_readOutage 80 = .ok (.getfield 20, 3) := dk_180 0 20 (dk_at dksX10_readOutage_3 13 rfl rfl)
theorem dX10_readOutage_83 : decode cX10_readOutage 83 = .ok (.sipush 226, 3) := dk_17 0 226 (dk_at dksX10_readOutage_3 16 rfl rfl)
theorem dX10_readOutage_86 : decode cX10_readOutage 86 = .ok (.dup2, 1) := dk_92 (dk_at dksX10_readOutage_3 19 rfl rfl)
theorem dX10_readOutage_87 : decode cX10_readOutage 87 = .ok (.iaload, 1) := dk_46 (dk_at dksX10_readOutage_3 20 rfl rfl)
theorem dX10_readOutage_88 : decode cX10_readOutage 88 = .ok (.iconst 1, 1) := dk_4 (dk_at dksX10_readOutage_3 21 rfl rfl)
theorem dX10_readOutage_89 : decode cX10_readOutage 89 = .ok (.iadd, 1) := dk_96 (dk_at dksX10_readOutage_3 22 rfl rfl)
theorem dX10_readOutage_90 : decode cX10_readOutage 90 = .ok (.iastore, 1) := dk_79 (dk_at dksX10_readOutage_3 23 rfl rfl)
theorem dX10_readOutage_91 : decode cX10_readOutage 91 = .ok (.return_, 1) := dk_177 (dk_at dksX10_readOutage_4 0 rfl rfl)
abbrev cX10_copy : ByteArray := prog_22_method_32_code
def yX10_copy : MethodName := ⟨RX10, "copy", "([II[II)V"⟩
def dkwX10_copy_1 : List UInt8 := [132, 4, 1, 167, 255, 233, 177]
abbrev dktX10_copy_1 : List UInt8 := dkwX10_copy_1 ++ []
def dkwX10_copy_0 : List UInt8 := [3, 54, 4, 21, 4, 17, 2, 115, 162, 0, 21, 44, 29, 21, 4, 96, 42, 27, 21, 4, 96, 46, 79]
abbrev dktX10_copy_0 : List UInt8 := dkwX10_copy_0 ++ dktX10_copy_1
theorem dksX10_copy_0 : cX10_copy.data.toList.drop 0 = dktX10_copy_0 := by decide +kernel
theorem dksX10_copy_1 : cX10_copy.data.toList.drop 23 = dktX10_copy_1 := dk_seg dksX10_copy_0 23 rfl rfl
theorem dX10_copy_0 : decode cX10_copy 0 = .ok (.iconst 0, 1) := dk_3 (dk_at dksX10_copy_0 0 rfl rfl)
theorem dX10_copy_1 : decode cX10_copy 1 = .ok (.istore 4, 2) := dk_54 4 (dk_at dksX10_copy_0 1 rfl rfl)
theorem dX10_copy_3 : decode cX10_copy 3 = .ok (.iload 4, 2) := dk_21 4 (dk_at dksX10_copy_0 3 rfl rfl)
theorem dX10_copy_5 : decode cX10_copy 5 = .ok (.sipush 627, 3) := dk_17 2 115 (dk_at dksX10_copy_0 5 rfl rfl)
theorem dX10_copy_8 : decode cX10_copy 8 = .ok (.if_icmp .ge 21, 3) := dk_162 0 21 (dk_at dksX10_copy_0 8 rfl rfl)
theorem dX10_copy_11 : decode cX10_copy 11 = .ok (.aload_n 2, 1) := dk_44 (dk_at dksX10_copy_0 11 rfl rfl)
theorem dX10_copy_12 : decode cX10_copy 12 = .ok (.iload_n 3, 1) := dk_29 (dk_at dksX10_copy_0 12 rfl rfl)
theorem dX10_copy_13 : decode cX10_copy 13 = .ok (.iload 4, 2) := dk_21 4 (dk_at dksX10_copy_0 13 rfl rfl)
theorem dX10_copy_15 : decode cX10_copy 15 = .ok (.iadd, 1) := dk_96 (dk_at dksX10_copy_0 15 rfl rfl)
theorem dX10_copy_16 : decode cX10_copy 16 = .ok (.aload_n 0, 1) := dk_42 (dk_at dksX10_copy_0 16 rfl rfl)
theorem dX10_copy_17 : decode cX10_copy 17 = .ok (.iload_n 1, 1) := dk_27 (dk_at dksX10_copy_0 17 rfl rfl)
theorem dX10_copy_18 : decode cX10_copy 18 = .ok (.iload 4, 2) := dk_21 4 (dk_at dksX10_copy_0 18 rfl rfl)
theorem dX10_copy_20 : decode cX10_copy 20 = .ok (.iadd, 1) := dk_96 (dk_at dksX10_copy_0 20 rfl rfl)
theorem dX10_copy_21 : decode cX10_copy 21 = .ok (.iaload, 1) := dk_46 (dk_at dksX10_copy_0 21 rfl rfl)
theorem dX10_copy_22 : decode cX10_copy 22 = .ok (.iastore, 1) := dk_79 (dk_at dksX10_copy_0 22 rfl rfl)
theorem dX10_copy_23 : decode cX10_copy 23 = .ok (.iinc 4 1, 3) := dk_132 4 1 (dk_at dksX10_copy_1 0 rfl rfl)
theorem dX10_copy_26 : decode cX10_copy 26 = .ok (.goto (-23), 3) := dk_167 255 233 (dk_at dksX10_copy_1 3 rfl rfl)
theorem dX10_copy_29 : decode cX10_copy 29 = .ok (.return_, 1) := dk_177 (dk_at dksX10_copy_1 6 rfl rfl)
abbrev cX10_proposals : ByteArray := prog_22_method_81_code
def yX10_proposals : MethodName := ⟨RX10, "proposals", "()I"⟩
def dkwX10_proposals_0 : List UInt8 := [42, 42, 180, 0, 17, 16, 10, 46, 182, 1, 99, 172]
abbrev dktX10_proposals_0 : List UInt8 := dkwX10_proposals_0 ++ []
theorem dksX10_proposals_0 : cX10_proposals.data.toList.drop 0 = dktX10_proposals_0 := by decide +kernel
theorem dX10_proposals_0 : decode cX10_proposals 0 = .ok (.aload_n 0, 1) := dk_42 (dk_at dksX10_proposals_0 0 rfl rfl)
theorem dX10_proposals_1 : decode cX10_proposals 1 = .ok (.aload_n 0, 1) := dk_42 (dk_at dksX10_proposals_0 1 rfl rfl)
theorem dX10_proposals_2 : decode cX10_proposals 2 = .ok (.getfield 17, 3) := dk_180 0 17 (dk_at dksX10_proposals_0 2 rfl rfl)
theorem dX10_proposals_5 : decode cX10_proposals 5 = .ok (.bipush 10, 2) := dk_16 10 (dk_at dksX10_proposals_0 5 rfl rfl)
theorem dX10_proposals_7 : decode cX10_proposals 7 = .ok (.iaload, 1) := dk_46 (dk_at dksX10_proposals_0 7 rfl rfl)
theorem dX10_proposals_8 : decode cX10_proposals 8 = .ok (.invokevirtual 355, 3) := dk_182 1 99 (dk_at dksX10_proposals_0 8 rfl rfl)
theorem dX10_proposals_11 : decode cX10_proposals 11 = .ok (.ireturn, 1) := dk_172 (dk_at dksX10_proposals_0 11 rfl rfl)
abbrev cX10_told : ByteArray := prog_22_method_77_code
def yX10_told : MethodName := ⟨RX10, "told", "(I)I"⟩
def dkwX10_told_0 : List UInt8 := [42, 3, 181, 0, 45, 42, 180, 0, 193, 153, 0, 7, 27, 167, 0, 4, 3, 172]
abbrev dktX10_told_0 : List UInt8 := dkwX10_told_0 ++ []
theorem dksX10_told_0 : cX10_told.data.toList.drop 0 = dktX10_told_0 := by decide +kernel
theorem dX10_told_0 : decode cX10_told 0 = .ok (.aload_n 0, 1) := dk_42 (dk_at dksX10_told_0 0 rfl rfl)
theorem dX10_told_1 : decode cX10_told 1 = .ok (.iconst 0, 1) := dk_3 (dk_at dksX10_told_0 1 rfl rfl)
theorem dX10_told_2 : decode cX10_told 2 = .ok (.putfield 45, 3) := dk_181 0 45 (dk_at dksX10_told_0 2 rfl rfl)
theorem dX10_told_5 : decode cX10_told 5 = .ok (.aload_n 0, 1) := dk_42 (dk_at dksX10_told_0 5 rfl rfl)
theorem dX10_told_6 : decode cX10_told 6 = .ok (.getfield 193, 3) := dk_180 0 193 (dk_at dksX10_told_0 6 rfl rfl)
theorem dX10_told_9 : decode cX10_told 9 = .ok (.ifCond .eq 7, 3) := dk_153 0 7 (dk_at dksX10_told_0 9 rfl rfl)
theorem dX10_told_12 : decode cX10_told 12 = .ok (.iload_n 1, 1) := dk_27 (dk_at dksX10_told_0 12 rfl rfl)
theorem dX10_told_13 : decode cX10_told 13 = .ok (.goto 4, 3) := dk_167 0 4 (dk_at dksX10_told_0 13 rfl rfl)
theorem dX10_told_16 : decode cX10_told 16 = .ok (.iconst 0, 1) := dk_3 (dk_at dksX10_told_0 16 rfl rfl)
theorem dX10_told_17 : decode cX10_told 17 = .ok (.ireturn, 1) := dk_172 (dk_at dksX10_told_0 17 rfl rfl)
abbrev cX10_proposal : ByteArray := prog_22_method_83_code
def yX10_proposal : MethodName := ⟨RX10, "proposal", "(II)I"⟩
def dkwX10_proposal_5 : List UInt8 := [96, 46, 172]
abbrev dktX10_proposal_5 : List UInt8 := dkwX10_proposal_5 ++ []
def dkwX10_proposal_4 : List UInt8 := [172, 42, 180, 0, 23, 16, 41, 27, 96, 46, 172, 42, 27, 182, 1, 109, 172, 42, 180, 0, 17, 16, 11, 27]
abbrev dktX10_proposal_4 : List UInt8 := dkwX10_proposal_4 ++ dktX10_proposal_5
def dkwX10_proposal_3 : List UInt8 := [16, 29, 27, 96, 46, 172, 42, 180, 0, 23, 27, 184, 1, 3, 172, 42, 180, 0, 23, 16, 35, 27, 96, 46]
abbrev dktX10_proposal_3 : List UInt8 := dkwX10_proposal_3 ++ dktX10_proposal_4
def dkwX10_proposal_2 : List UInt8 := [42, 180, 0, 23, 16, 17, 27, 96, 46, 172, 42, 180, 0, 23, 16, 23, 27, 96, 46, 172, 42, 180, 0, 23]
abbrev dktX10_proposal_2 : List UInt8 := dkwX10_proposal_2 ++ dktX10_proposal_3
def dkwX10_proposal_1 : List UInt8 := [170, 0, 0, 0, 0, 107, 0, 0, 0, 0, 0, 0, 0, 6, 0, 0, 0, 42, 0, 0, 0, 52, 0, 0, 0, 62, 0, 0, 0, 72, 0, 0, 0, 81, 0, 0, 0, 91, 0, 0, 0, 101]
abbrev dktX10_proposal_1 : List UInt8 := dkwX10_proposal_1 ++ dktX10_proposal_2
def dkwX10_proposal_0 : List UInt8 := [42, 42, 27, 182, 1, 102, 28, 3, 16, 7, 184, 0, 74, 182, 1, 105, 154, 0, 5, 3, 172, 28]
abbrev dktX10_proposal_0 : List UInt8 := dkwX10_proposal_0 ++ dktX10_proposal_1
theorem dksX10_proposal_0 : cX10_proposal.data.toList.drop 0 = dktX10_proposal_0 := by decide +kernel
theorem dksX10_proposal_1 : cX10_proposal.data.toList.drop 22 = dktX10_proposal_1 := dk_seg dksX10_proposal_0 22 rfl rfl
theorem dksX10_proposal_2 : cX10_proposal.data.toList.drop 64 = dktX10_proposal_2 := dk_seg dksX10_proposal_1 42 rfl rfl
theorem dksX10_proposal_3 : cX10_proposal.data.toList.drop 88 = dktX10_proposal_3 := dk_seg dksX10_proposal_2 24 rfl rfl
theorem dksX10_proposal_4 : cX10_proposal.data.toList.drop 112 = dktX10_proposal_4 := dk_seg dksX10_proposal_3 24 rfl rfl
theorem dksX10_proposal_5 : cX10_proposal.data.toList.drop 136 = dktX10_proposal_5 := dk_seg dksX10_proposal_4 24 rfl rfl
theorem dX10_proposal_0 : decode cX10_proposal 0 = .ok (.aload_n 0, 1) := dk_42 (dk_at dksX10_proposal_0 0 rfl rfl)
theorem dX10_proposal_1 : decode cX10_proposal 1 = .ok (.aload_n 0, 1) := dk_42 (dk_at dksX10_proposal_0 1 rfl rfl)
theorem dX10_proposal_2 : decode cX10_proposal 2 = .ok (.iload_n 1, 1) := dk_27 (dk_at dksX10_proposal_0 2 rfl rfl)
theorem dX10_proposal_3 : decode cX10_proposal 3 = .ok (.invokevirtual 358, 3) := dk_182 1 102 (dk_at dksX10_proposal_0 3 rfl rfl)
theorem dX10_proposal_6 : decode cX10_proposal 6 = .ok (.iload_n 2, 1) := dk_28 (dk_at dksX10_proposal_0 6 rfl rfl)
theorem dX10_proposal_7 : decode cX10_proposal 7 = .ok (.iconst 0, 1) := dk_3 (dk_at dksX10_proposal_0 7 rfl rfl)
theorem dX10_proposal_8 : decode cX10_proposal 8 = .ok (.bipush 7, 2) := dk_16 7 (dk_at dksX10_proposal_0 8 rfl rfl)
theorem dX10_proposal_10 : decode cX10_proposal 10 = .ok (.invokestatic 74, 3) := dk_184 0 74 (dk_at dksX10_proposal_0 10 rfl rfl)
theorem dX10_proposal_13 : decode cX10_proposal 13 = .ok (.invokevirtual 361, 3) := dk_182 1 105 (dk_at dksX10_proposal_0 13 rfl rfl)
theorem dX10_proposal_16 : decode cX10_proposal 16 = .ok (.ifCond .ne 5, 3) := dk_154 0 5 (dk_at dksX10_proposal_0 16 rfl rfl)
theorem dX10_proposal_19 : decode cX10_proposal 19 = .ok (.iconst 0, 1) := dk_3 (dk_at dksX10_proposal_0 19 rfl rfl)
theorem dX10_proposal_20 : decode cX10_proposal 20 = .ok (.ireturn, 1) := dk_172 (dk_at dksX10_proposal_0 20 rfl rfl)
theorem dX10_proposal_21 : decode cX10_proposal 21 = .ok (.iload_n 2, 1) := dk_28 (dk_at dksX10_proposal_0 21 rfl rfl)
theorem dX10_proposal_22 : decode cX10_proposal 22 = .ok (.tableswitch 107 0 6 #[42, 52, 62, 72, 81, 91, 101], 42) := by decide +kernel
theorem dX10_proposal_64 : decode cX10_proposal 64 = .ok (.aload_n 0, 1) := dk_42 (dk_at dksX10_proposal_2 0 rfl rfl)
theorem dX10_proposal_65 : decode cX10_proposal 65 = .ok (.getfield 23, 3) := dk_180 0 23 (dk_at dksX10_proposal_2 1 rfl rfl)
theorem dX10_proposal_68 : decode cX10_proposal 68 = .ok (.bipush 17, 2) := dk_16 17 (dk_at dksX10_proposal_2 4 rfl rfl)
theorem dX10_proposal_70 : decode cX10_proposal 70 = .ok (.iload_n 1, 1) := dk_27 (dk_at dksX10_proposal_2 6 rfl rfl)
theorem dX10_proposal_71 : decode cX10_proposal 71 = .ok (.iadd, 1) := dk_96 (dk_at dksX10_proposal_2 7 rfl rfl)
theorem dX10_proposal_72 : decode cX10_proposal 72 = .ok (.iaload, 1) := dk_46 (dk_at dksX10_proposal_2 8 rfl rfl)
theorem dX10_proposal_73 : decode cX10_proposal 73 = .ok (.ireturn, 1) := dk_172 (dk_at dksX10_proposal_2 9 rfl rfl)
theorem dX10_proposal_74 : decode cX10_proposal 74 = .ok (.aload_n 0, 1) := dk_42 (dk_at dksX10_proposal_2 10 rfl rfl)
theorem dX10_proposal_75 : decode cX10_proposal 75 = .ok (.getfield 23, 3) := dk_180 0 23 (dk_at dksX10_proposal_2 11 rfl rfl)
theorem dX10_proposal_78 : decode cX10_proposal 78 = .ok (.bipush 23, 2) := dk_16 23 (dk_at dksX10_proposal_2 14 rfl rfl)
theorem dX10_proposal_80 : decode cX10_proposal 80 = .ok (.iload_n 1, 1) := dk_27 (dk_at dksX10_proposal_2 16 rfl rfl)
theorem dX10_proposal_81 : decode cX10_proposal 81 = .ok (.iadd, 1) := dk_96 (dk_at dksX10_proposal_2 17 rfl rfl)
theorem dX10_proposal_82 : decode cX10_proposal 82 = .ok (.iaload, 1) := dk_46 (dk_at dksX10_proposal_2 18 rfl rfl)
theorem dX10_proposal_83 : decode cX10_proposal 83 = .ok (.ireturn, 1) := dk_172 (dk_at dksX10_proposal_2 19 rfl rfl)
theorem dX10_proposal_84 : decode cX10_proposal 84 = .ok (.aload_n 0, 1) := dk_42 (dk_at dksX10_proposal_2 20 rfl rfl)
theorem dX10_proposal_85 : decode cX10_proposal 85 = .ok (.getfield 23, 3) := dk_180 0 23 (dk_at dksX10_proposal_2 21 rfl rfl)
theorem dX10_proposal_88 : decode cX10_proposal 88 = .ok (.bipush 29, 2) := dk_16 29 (dk_at dksX10_proposal_3 0 rfl rfl)
theorem dX10_proposal_90 : decode cX10_proposal 90 = .ok (.iload_n 1, 1) := dk_27 (dk_at dksX10_proposal_3 2 rfl rfl)
theorem dX10_proposal_91 : decode cX10_proposal 91 = .ok (.iadd, 1) := dk_96 (dk_at dksX10_proposal_3 3 rfl rfl)
theorem dX10_proposal_92 : decode cX10_proposal 92 = .ok (.iaload, 1) := dk_46 (dk_at dksX10_proposal_3 4 rfl rfl)
theorem dX10_proposal_93 : decode cX10_proposal 93 = .ok (.ireturn, 1) := dk_172 (dk_at dksX10_proposal_3 5 rfl rfl)
theorem dX10_proposal_94 : decode cX10_proposal 94 = .ok (.aload_n 0, 1) := dk_42 (dk_at dksX10_proposal_3 6 rfl rfl)
theorem dX10_proposal_95 : decode cX10_proposal 95 = .ok (.getfield 23, 3) := dk_180 0 23 (dk_at dksX10_proposal_3 7 rfl rfl)
theorem dX10_proposal_98 : decode cX10_proposal 98 = .ok (.iload_n 1, 1) := dk_27 (dk_at dksX10_proposal_3 10 rfl rfl)
theorem dX10_proposal_99 : decode cX10_proposal 99 = .ok (.invokestatic 259, 3) := dk_184 1 3 (dk_at dksX10_proposal_3 11 rfl rfl)
theorem dX10_proposal_102 : decode cX10_proposal 102 = .ok (.ireturn, 1) := dk_172 (dk_at dksX10_proposal_3 14 rfl rfl)
theorem dX10_proposal_103 : decode cX10_proposal 103 = .ok (.aload_n 0, 1) := dk_42 (dk_at dksX10_proposal_3 15 rfl rfl)
theorem dX10_proposal_104 : decode cX10_proposal 104 = .ok (.getfield 23, 3) := dk_180 0 23 (dk_at dksX10_proposal_3 16 rfl rfl)
theorem dX10_proposal_107 : decode cX10_proposal 107 = .ok (.bipush 35, 2) := dk_16 35 (dk_at dksX10_proposal_3 19 rfl rfl)
theorem dX10_proposal_109 : decode cX10_proposal 109 = .ok (.iload_n 1, 1) := dk_27 (dk_at dksX10_proposal_3 21 rfl rfl)
theorem dX10_proposal_110 : decode cX10_proposal 110 = .ok (.iadd, 1) := dk_96 (dk_at dksX10_proposal_3 22 rfl rfl)
theorem dX10_proposal_111 : decode cX10_proposal 111 = .ok (.iaload, 1) := dk_46 (dk_at dksX10_proposal_3 23 rfl rfl)
theorem dX10_proposal_112 : decode cX10_proposal 112 = .ok (.ireturn, 1) := dk_172 (dk_at dksX10_proposal_4 0 rfl rfl)
theorem dX10_proposal_113 : decode cX10_proposal 113 = .ok (.aload_n 0, 1) := dk_42 (dk_at dksX10_proposal_4 1 rfl rfl)
theorem dX10_proposal_114 : decode cX10_proposal 114 = .ok (.getfield 23, 3) := dk_180 0 23 (dk_at dksX10_proposal_4 2 rfl rfl)
theorem dX10_proposal_117 : decode cX10_proposal 117 = .ok (.bipush 41, 2) := dk_16 41 (dk_at dksX10_proposal_4 5 rfl rfl)
theorem dX10_proposal_119 : decode cX10_proposal 119 = .ok (.iload_n 1, 1) := dk_27 (dk_at dksX10_proposal_4 7 rfl rfl)
theorem dX10_proposal_120 : decode cX10_proposal 120 = .ok (.iadd, 1) := dk_96 (dk_at dksX10_proposal_4 8 rfl rfl)
theorem dX10_proposal_121 : decode cX10_proposal 121 = .ok (.iaload, 1) := dk_46 (dk_at dksX10_proposal_4 9 rfl rfl)
theorem dX10_proposal_122 : decode cX10_proposal 122 = .ok (.ireturn, 1) := dk_172 (dk_at dksX10_proposal_4 10 rfl rfl)
theorem dX10_proposal_123 : decode cX10_proposal 123 = .ok (.aload_n 0, 1) := dk_42 (dk_at dksX10_proposal_4 11 rfl rfl)
theorem dX10_proposal_124 : decode cX10_proposal 124 = .ok (.iload_n 1, 1) := dk_27 (dk_at dksX10_proposal_4 12 rfl rfl)
theorem dX10_proposal_125 : decode cX10_proposal 125 = .ok (.invokevirtual 365, 3) := dk_182 1 109 (dk_at dksX10_proposal_4 13 rfl rfl)
theorem dX10_proposal_128 : decode cX10_proposal 128 = .ok (.ireturn, 1) := dk_172 (dk_at dksX10_proposal_4 16 rfl rfl)
theorem dX10_proposal_129 : decode cX10_proposal 129 = .ok (.aload_n 0, 1) := dk_42 (dk_at dksX10_proposal_4 17 rfl rfl)
theorem dX10_proposal_130 : decode cX10_proposal 130 = .ok (.getfield 17, 3) := dk_180 0 17 (dk_at dksX10_proposal_4 18 rfl rfl)
theorem dX10_proposal_133 : decode cX10_proposal 133 = .ok (.bipush 11, 2) := dk_16 11 (dk_at dksX10_proposal_4 21 rfl rfl)
theorem dX10_proposal_135 : decode cX10_proposal 135 = .ok (.iload_n 1, 1) := dk_27 (dk_at dksX10_proposal_4 23 rfl rfl)
theorem dX10_proposal_136 : decode cX10_proposal 136 = .ok (.iadd, 1) := dk_96 (dk_at dksX10_proposal_5 0 rfl rfl)
theorem dX10_proposal_137 : decode cX10_proposal 137 = .ok (.iaload, 1) := dk_46 (dk_at dksX10_proposal_5 1 rfl rfl)
theorem dX10_proposal_138 : decode cX10_proposal 138 = .ok (.ireturn, 1) := dk_172 (dk_at dksX10_proposal_5 2 rfl rfl)
abbrev cX10_isProposal : ByteArray := prog_22_method_78_code
def yX10_isProposal : MethodName := ⟨RX10, "isProposal", "(I)Z"⟩
def dkwX10_isProposal_0 : List UInt8 := [27, 3, 42, 180, 0, 17, 16, 10, 46, 4, 100, 184, 0, 74, 172]
abbrev dktX10_isProposal_0 : List UInt8 := dkwX10_isProposal_0 ++ []
theorem dksX10_isProposal_0 : cX10_isProposal.data.toList.drop 0 = dktX10_isProposal_0 := by decide +kernel
theorem dX10_isProposal_0 : decode cX10_isProposal 0 = .ok (.iload_n 1, 1) := dk_27 (dk_at dksX10_isProposal_0 0 rfl rfl)
theorem dX10_isProposal_1 : decode cX10_isProposal 1 = .ok (.iconst 0, 1) := dk_3 (dk_at dksX10_isProposal_0 1 rfl rfl)
theorem dX10_isProposal_2 : decode cX10_isProposal 2 = .ok (.aload_n 0, 1) := dk_42 (dk_at dksX10_isProposal_0 2 rfl rfl)
theorem dX10_isProposal_3 : decode cX10_isProposal 3 = .ok (.getfield 17, 3) := dk_180 0 17 (dk_at dksX10_isProposal_0 3 rfl rfl)
theorem dX10_isProposal_6 : decode cX10_isProposal 6 = .ok (.bipush 10, 2) := dk_16 10 (dk_at dksX10_isProposal_0 6 rfl rfl)
theorem dX10_isProposal_8 : decode cX10_isProposal 8 = .ok (.iaload, 1) := dk_46 (dk_at dksX10_isProposal_0 8 rfl rfl)
theorem dX10_isProposal_9 : decode cX10_isProposal 9 = .ok (.iconst 1, 1) := dk_4 (dk_at dksX10_isProposal_0 9 rfl rfl)
theorem dX10_isProposal_10 : decode cX10_isProposal 10 = .ok (.isub, 1) := dk_100 (dk_at dksX10_isProposal_0 10 rfl rfl)
theorem dX10_isProposal_11 : decode cX10_isProposal 11 = .ok (.invokestatic 74, 3) := dk_184 0 74 (dk_at dksX10_isProposal_0 11 rfl rfl)
theorem dX10_isProposal_14 : decode cX10_isProposal 14 = .ok (.ireturn, 1) := dk_172 (dk_at dksX10_isProposal_0 14 rfl rfl)
abbrev cX10_mayAskFor : ByteArray := prog_22_method_76_code
def yX10_mayAskFor : MethodName := ⟨RX10, "mayAskFor", "(ZZ)Z"⟩
def dkwX10_mayAskFor_1 : List UInt8 := [3, 167, 0, 4, 6, 181, 0, 45, 42, 180, 0, 45, 154, 0, 7, 4, 167, 0, 4, 3, 172]
abbrev dktX10_mayAskFor_1 : List UInt8 := dkwX10_mayAskFor_1 ++ []
def dkwX10_mayAskFor_0 : List UInt8 := [42, 42, 180, 0, 193, 154, 0, 7, 4, 167, 0, 20, 27, 154, 0, 7, 5, 167, 0, 12, 28, 153, 0, 7]
abbrev dktX10_mayAskFor_0 : List UInt8 := dkwX10_mayAskFor_0 ++ dktX10_mayAskFor_1
theorem dksX10_mayAskFor_0 : cX10_mayAskFor.data.toList.drop 0 = dktX10_mayAskFor_0 := by decide +kernel
theorem dksX10_mayAskFor_1 : cX10_mayAskFor.data.toList.drop 24 = dktX10_mayAskFor_1 := dk_seg dksX10_mayAskFor_0 24 rfl rfl
theorem dX10_mayAskFor_0 : decode cX10_mayAskFor 0 = .ok (.aload_n 0, 1) := dk_42 (dk_at dksX10_mayAskFor_0 0 rfl rfl)
theorem dX10_mayAskFor_1 : decode cX10_mayAskFor 1 = .ok (.aload_n 0, 1) := dk_42 (dk_at dksX10_mayAskFor_0 1 rfl rfl)
theorem dX10_mayAskFor_2 : decode cX10_mayAskFor 2 = .ok (.getfield 193, 3) := dk_180 0 193 (dk_at dksX10_mayAskFor_0 2 rfl rfl)
theorem dX10_mayAskFor_5 : decode cX10_mayAskFor 5 = .ok (.ifCond .ne 7, 3) := dk_154 0 7 (dk_at dksX10_mayAskFor_0 5 rfl rfl)
theorem dX10_mayAskFor_8 : decode cX10_mayAskFor 8 = .ok (.iconst 1, 1) := dk_4 (dk_at dksX10_mayAskFor_0 8 rfl rfl)
theorem dX10_mayAskFor_9 : decode cX10_mayAskFor 9 = .ok (.goto 20, 3) := dk_167 0 20 (dk_at dksX10_mayAskFor_0 9 rfl rfl)
theorem dX10_mayAskFor_12 : decode cX10_mayAskFor 12 = .ok (.iload_n 1, 1) := dk_27 (dk_at dksX10_mayAskFor_0 12 rfl rfl)
theorem dX10_mayAskFor_13 : decode cX10_mayAskFor 13 = .ok (.ifCond .ne 7, 3) := dk_154 0 7 (dk_at dksX10_mayAskFor_0 13 rfl rfl)
theorem dX10_mayAskFor_16 : decode cX10_mayAskFor 16 = .ok (.iconst 2, 1) := dk_5 (dk_at dksX10_mayAskFor_0 16 rfl rfl)
theorem dX10_mayAskFor_17 : decode cX10_mayAskFor 17 = .ok (.goto 12, 3) := dk_167 0 12 (dk_at dksX10_mayAskFor_0 17 rfl rfl)
theorem dX10_mayAskFor_20 : decode cX10_mayAskFor 20 = .ok (.iload_n 2, 1) := dk_28 (dk_at dksX10_mayAskFor_0 20 rfl rfl)
theorem dX10_mayAskFor_21 : decode cX10_mayAskFor 21 = .ok (.ifCond .eq 7, 3) := dk_153 0 7 (dk_at dksX10_mayAskFor_0 21 rfl rfl)
theorem dX10_mayAskFor_24 : decode cX10_mayAskFor 24 = .ok (.iconst 0, 1) := dk_3 (dk_at dksX10_mayAskFor_1 0 rfl rfl)
theorem dX10_mayAskFor_25 : decode cX10_mayAskFor 25 = .ok (.goto 4, 3) := dk_167 0 4 (dk_at dksX10_mayAskFor_1 1 rfl rfl)
theorem dX10_mayAskFor_28 : decode cX10_mayAskFor 28 = .ok (.iconst 3, 1) := dk_6 (dk_at dksX10_mayAskFor_1 4 rfl rfl)
theorem dX10_mayAskFor_29 : decode cX10_mayAskFor 29 = .ok (.putfield 45, 3) := dk_181 0 45 (dk_at dksX10_mayAskFor_1 5 rfl rfl)
theorem dX10_mayAskFor_32 : decode cX10_mayAskFor 32 = .ok (.aload_n 0, 1) := dk_42 (dk_at dksX10_mayAskFor_1 8 rfl rfl)
theorem dX10_mayAskFor_33 : decode cX10_mayAskFor 33 = .ok (.getfield 45, 3) := dk_180 0 45 (dk_at dksX10_mayAskFor_1 9 rfl rfl)
theorem dX10_mayAskFor_36 : decode cX10_mayAskFor 36 = .ok (.ifCond .ne 7, 3) := dk_154 0 7 (dk_at dksX10_mayAskFor_1 12 rfl rfl)
theorem dX10_mayAskFor_39 : decode cX10_mayAskFor 39 = .ok (.iconst 1, 1) := dk_4 (dk_at dksX10_mayAskFor_1 15 rfl rfl)
theorem dX10_mayAskFor_40 : decode cX10_mayAskFor 40 = .ok (.goto 4, 3) := dk_167 0 4 (dk_at dksX10_mayAskFor_1 16 rfl rfl)
theorem dX10_mayAskFor_43 : decode cX10_mayAskFor 43 = .ok (.iconst 0, 1) := dk_3 (dk_at dksX10_mayAskFor_1 19 rfl rfl)
theorem dX10_mayAskFor_44 : decode cX10_mayAskFor 44 = .ok (.ireturn, 1) := dk_172 (dk_at dksX10_mayAskFor_1 20 rfl rfl)
abbrev cX10_leftTo : ByteArray := prog_22_method_51_code
def yX10_leftTo : MethodName := ⟨RX10, "leftTo", "([II)I"⟩
def dkwX10_leftTo_0 : List UInt8 := [42, 16, 17, 27, 96, 46, 42, 16, 23, 27, 96, 46, 100, 42, 16, 29, 27, 96, 46, 100, 172]
abbrev dktX10_leftTo_0 : List UInt8 := dkwX10_leftTo_0 ++ []
theorem dksX10_leftTo_0 : cX10_leftTo.data.toList.drop 0 = dktX10_leftTo_0 := by decide +kernel
theorem dX10_leftTo_0 : decode cX10_leftTo 0 = .ok (.aload_n 0, 1) := dk_42 (dk_at dksX10_leftTo_0 0 rfl rfl)
theorem dX10_leftTo_1 : decode cX10_leftTo 1 = .ok (.bipush 17, 2) := dk_16 17 (dk_at dksX10_leftTo_0 1 rfl rfl)
theorem dX10_leftTo_3 : decode cX10_leftTo 3 = .ok (.iload_n 1, 1) := dk_27 (dk_at dksX10_leftTo_0 3 rfl rfl)
theorem dX10_leftTo_4 : decode cX10_leftTo 4 = .ok (.iadd, 1) := dk_96 (dk_at dksX10_leftTo_0 4 rfl rfl)
theorem dX10_leftTo_5 : decode cX10_leftTo 5 = .ok (.iaload, 1) := dk_46 (dk_at dksX10_leftTo_0 5 rfl rfl)
theorem dX10_leftTo_6 : decode cX10_leftTo 6 = .ok (.aload_n 0, 1) := dk_42 (dk_at dksX10_leftTo_0 6 rfl rfl)
theorem dX10_leftTo_7 : decode cX10_leftTo 7 = .ok (.bipush 23, 2) := dk_16 23 (dk_at dksX10_leftTo_0 7 rfl rfl)
theorem dX10_leftTo_9 : decode cX10_leftTo 9 = .ok (.iload_n 1, 1) := dk_27 (dk_at dksX10_leftTo_0 9 rfl rfl)
theorem dX10_leftTo_10 : decode cX10_leftTo 10 = .ok (.iadd, 1) := dk_96 (dk_at dksX10_leftTo_0 10 rfl rfl)
theorem dX10_leftTo_11 : decode cX10_leftTo 11 = .ok (.iaload, 1) := dk_46 (dk_at dksX10_leftTo_0 11 rfl rfl)
theorem dX10_leftTo_12 : decode cX10_leftTo 12 = .ok (.isub, 1) := dk_100 (dk_at dksX10_leftTo_0 12 rfl rfl)
theorem dX10_leftTo_13 : decode cX10_leftTo 13 = .ok (.aload_n 0, 1) := dk_42 (dk_at dksX10_leftTo_0 13 rfl rfl)
theorem dX10_leftTo_14 : decode cX10_leftTo 14 = .ok (.bipush 29, 2) := dk_16 29 (dk_at dksX10_leftTo_0 14 rfl rfl)
theorem dX10_leftTo_16 : decode cX10_leftTo 16 = .ok (.iload_n 1, 1) := dk_27 (dk_at dksX10_leftTo_0 16 rfl rfl)
theorem dX10_leftTo_17 : decode cX10_leftTo 17 = .ok (.iadd, 1) := dk_96 (dk_at dksX10_leftTo_0 17 rfl rfl)
theorem dX10_leftTo_18 : decode cX10_leftTo 18 = .ok (.iaload, 1) := dk_46 (dk_at dksX10_leftTo_0 18 rfl rfl)
theorem dX10_leftTo_19 : decode cX10_leftTo 19 = .ok (.isub, 1) := dk_100 (dk_at dksX10_leftTo_0 19 rfl rfl)
theorem dX10_leftTo_20 : decode cX10_leftTo 20 = .ok (.ireturn, 1) := dk_172 (dk_at dksX10_leftTo_0 20 rfl rfl)
abbrev cX10_queuedOf : ByteArray := prog_22_method_82_code
def yX10_queuedOf : MethodName := ⟨RX10, "queuedOf", "(I)I"⟩
def dkwX10_queuedOf_2 : List UInt8 := [132, 3, 1, 167, 255, 209, 28, 172]
abbrev dktX10_queuedOf_2 : List UInt8 := dkwX10_queuedOf_2 ++ []
def dkwX10_queuedOf_1 : List UInt8 := [46, 154, 0, 20, 42, 42, 180, 0, 23, 29, 182, 1, 0, 27, 160, 0, 7, 4, 167, 0, 4, 3, 96, 61]
abbrev dktX10_queuedOf_1 : List UInt8 := dkwX10_queuedOf_1 ++ dktX10_queuedOf_2
def dkwX10_queuedOf_0 : List UInt8 := [3, 61, 3, 62, 29, 42, 180, 0, 17, 16, 65, 46, 162, 0, 42, 28, 42, 180, 0, 23, 16, 47, 29, 96]
abbrev dktX10_queuedOf_0 : List UInt8 := dkwX10_queuedOf_0 ++ dktX10_queuedOf_1
theorem dksX10_queuedOf_0 : cX10_queuedOf.data.toList.drop 0 = dktX10_queuedOf_0 := by decide +kernel
theorem dksX10_queuedOf_1 : cX10_queuedOf.data.toList.drop 24 = dktX10_queuedOf_1 := dk_seg dksX10_queuedOf_0 24 rfl rfl
theorem dksX10_queuedOf_2 : cX10_queuedOf.data.toList.drop 48 = dktX10_queuedOf_2 := dk_seg dksX10_queuedOf_1 24 rfl rfl
theorem dX10_queuedOf_0 : decode cX10_queuedOf 0 = .ok (.iconst 0, 1) := dk_3 (dk_at dksX10_queuedOf_0 0 rfl rfl)
theorem dX10_queuedOf_1 : decode cX10_queuedOf 1 = .ok (.istore_n 2, 1) := dk_61 (dk_at dksX10_queuedOf_0 1 rfl rfl)
theorem dX10_queuedOf_2 : decode cX10_queuedOf 2 = .ok (.iconst 0, 1) := dk_3 (dk_at dksX10_queuedOf_0 2 rfl rfl)
theorem dX10_queuedOf_3 : decode cX10_queuedOf 3 = .ok (.istore_n 3, 1) := dk_62 (dk_at dksX10_queuedOf_0 3 rfl rfl)
theorem dX10_queuedOf_4 : decode cX10_queuedOf 4 = .ok (.iload_n 3, 1) := dk_29 (dk_at dksX10_queuedOf_0 4 rfl rfl)
theorem dX10_queuedOf_5 : decode cX10_queuedOf 5 = .ok (.aload_n 0, 1) := dk_42 (dk_at dksX10_queuedOf_0 5 rfl rfl)
theorem dX10_queuedOf_6 : decode cX10_queuedOf 6 = .ok (.getfield 17, 3) := dk_180 0 17 (dk_at dksX10_queuedOf_0 6 rfl rfl)
theorem dX10_queuedOf_9 : decode cX10_queuedOf 9 = .ok (.bipush 65, 2) := dk_16 65 (dk_at dksX10_queuedOf_0 9 rfl rfl)
theorem dX10_queuedOf_11 : decode cX10_queuedOf 11 = .ok (.iaload, 1) := dk_46 (dk_at dksX10_queuedOf_0 11 rfl rfl)
theorem dX10_queuedOf_12 : decode cX10_queuedOf 12 = .ok (.if_icmp .ge 42, 3) := dk_162 0 42 (dk_at dksX10_queuedOf_0 12 rfl rfl)
theorem dX10_queuedOf_15 : decode cX10_queuedOf 15 = .ok (.iload_n 2, 1) := dk_28 (dk_at dksX10_queuedOf_0 15 rfl rfl)
theorem dX10_queuedOf_16 : decode cX10_queuedOf 16 = .ok (.aload_n 0, 1) := dk_42 (dk_at dksX10_queuedOf_0 16 rfl rfl)
theorem dX10_queuedOf_17 : decode cX10_queuedOf 17 = .ok (.getfield 23, 3) := dk_180 0 23 (dk_at dksX10_queuedOf_0 17 rfl rfl)
theorem dX10_queuedOf_20 : decode cX10_queuedOf 20 = .ok (.bipush 47, 2) := dk_16 47 (dk_at dksX10_queuedOf_0 20 rfl rfl)
theorem dX10_queuedOf_22 : decode cX10_queuedOf 22 = .ok (.iload_n 3, 1) := dk_29 (dk_at dksX10_queuedOf_0 22 rfl rfl)
theorem dX10_queuedOf_23 : decode cX10_queuedOf 23 = .ok (.iadd, 1) := dk_96 (dk_at dksX10_queuedOf_0 23 rfl rfl)
theorem dX10_queuedOf_24 : decode cX10_queuedOf 24 = .ok (.iaload, 1) := dk_46 (dk_at dksX10_queuedOf_1 0 rfl rfl)
theorem dX10_queuedOf_25 : decode cX10_queuedOf 25 = .ok (.ifCond .ne 20, 3) := dk_154 0 20 (dk_at dksX10_queuedOf_1 1 rfl rfl)
theorem dX10_queuedOf_28 : decode cX10_queuedOf 28 = .ok (.aload_n 0, 1) := dk_42 (dk_at dksX10_queuedOf_1 4 rfl rfl)
theorem dX10_queuedOf_29 : decode cX10_queuedOf 29 = .ok (.aload_n 0, 1) := dk_42 (dk_at dksX10_queuedOf_1 5 rfl rfl)
theorem dX10_queuedOf_30 : decode cX10_queuedOf 30 = .ok (.getfield 23, 3) := dk_180 0 23 (dk_at dksX10_queuedOf_1 6 rfl rfl)
theorem dX10_queuedOf_33 : decode cX10_queuedOf 33 = .ok (.iload_n 3, 1) := dk_29 (dk_at dksX10_queuedOf_1 9 rfl rfl)
theorem dX10_queuedOf_34 : decode cX10_queuedOf 34 = .ok (.invokevirtual 256, 3) := dk_182 1 0 (dk_at dksX10_queuedOf_1 10 rfl rfl)
theorem dX10_queuedOf_37 : decode cX10_queuedOf 37 = .ok (.iload_n 1, 1) := dk_27 (dk_at dksX10_queuedOf_1 13 rfl rfl)
theorem dX10_queuedOf_38 : decode cX10_queuedOf 38 = .ok (.if_icmp .ne 7, 3) := dk_160 0 7 (dk_at dksX10_queuedOf_1 14 rfl rfl)
theorem dX10_queuedOf_41 : decode cX10_queuedOf 41 = .ok (.iconst 1, 1) := dk_4 (dk_at dksX10_queuedOf_1 17 rfl rfl)
theorem dX10_queuedOf_42 : decode cX10_queuedOf 42 = .ok (.goto 4, 3) := dk_167 0 4 (dk_at dksX10_queuedOf_1 18 rfl rfl)
theorem dX10_queuedOf_45 : decode cX10_queuedOf 45 = .ok (.iconst 0, 1) := dk_3 (dk_at dksX10_queuedOf_1 21 rfl rfl)
theorem dX10_queuedOf_46 : decode cX10_queuedOf 46 = .ok (.iadd, 1) := dk_96 (dk_at dksX10_queuedOf_1 22 rfl rfl)
theorem dX10_queuedOf_47 : decode cX10_queuedOf 47 = .ok (.istore_n 2, 1) := dk_61 (dk_at dksX10_queuedOf_1 23 rfl rfl)
theorem dX10_queuedOf_48 : decode cX10_queuedOf 48 = .ok (.iinc 3 1, 3) := dk_132 3 1 (dk_at dksX10_queuedOf_2 0 rfl rfl)
theorem dX10_queuedOf_51 : decode cX10_queuedOf 51 = .ok (.goto (-47), 3) := dk_167 255 209 (dk_at dksX10_queuedOf_2 3 rfl rfl)
theorem dX10_queuedOf_54 : decode cX10_queuedOf 54 = .ok (.iload_n 2, 1) := dk_28 (dk_at dksX10_queuedOf_2 6 rfl rfl)
theorem dX10_queuedOf_55 : decode cX10_queuedOf 55 = .ok (.ireturn, 1) := dk_172 (dk_at dksX10_queuedOf_2 7 rfl rfl)
abbrev cX10_itsProposal : ByteArray := prog_22_method_40_code
def yX10_itsProposal : MethodName := ⟨RX10, "itsProposal", "([II)I"⟩
def dkwX10_itsProposal_0 : List UInt8 := [42, 43, 28, 3, 3, 182, 0, 223, 172]
abbrev dktX10_itsProposal_0 : List UInt8 := dkwX10_itsProposal_0 ++ []
theorem dksX10_itsProposal_0 : cX10_itsProposal.data.toList.drop 0 = dktX10_itsProposal_0 := by decide +kernel
theorem dX10_itsProposal_0 : decode cX10_itsProposal 0 = .ok (.aload_n 0, 1) := dk_42 (dk_at dksX10_itsProposal_0 0 rfl rfl)
theorem dX10_itsProposal_1 : decode cX10_itsProposal 1 = .ok (.aload_n 1, 1) := dk_43 (dk_at dksX10_itsProposal_0 1 rfl rfl)
theorem dX10_itsProposal_2 : decode cX10_itsProposal 2 = .ok (.iload_n 2, 1) := dk_28 (dk_at dksX10_itsProposal_0 2 rfl rfl)
theorem dX10_itsProposal_3 : decode cX10_itsProposal 3 = .ok (.iconst 0, 1) := dk_3 (dk_at dksX10_itsProposal_0 3 rfl rfl)
theorem dX10_itsProposal_4 : decode cX10_itsProposal 4 = .ok (.iconst 0, 1) := dk_3 (dk_at dksX10_itsProposal_0 4 rfl rfl)
theorem dX10_itsProposal_5 : decode cX10_itsProposal 5 = .ok (.invokevirtual 223, 3) := dk_182 0 223 (dk_at dksX10_itsProposal_0 5 rfl rfl)
theorem dX10_itsProposal_8 : decode cX10_itsProposal 8 = .ok (.ireturn, 1) := dk_172 (dk_at dksX10_itsProposal_0 8 rfl rfl)
abbrev cX10_of : ByteArray := prog_22_method_39_code
def yX10_of : MethodName := ⟨RX10, "of", "([IIII)I"⟩
def dkwX10_of_1 : List UInt8 := [16, 127, 16, 10, 28, 16, 20, 100, 104, 96, 21, 4, 96, 46, 172]
abbrev dktX10_of_1 : List UInt8 := dkwX10_of_1 ++ []
def dkwX10_of_0 : List UInt8 := [28, 16, 20, 162, 0, 20, 42, 180, 0, 17, 16, 66, 16, 8, 28, 104, 96, 29, 96, 46, 167, 0, 18, 43]
abbrev dktX10_of_0 : List UInt8 := dkwX10_of_0 ++ dktX10_of_1
theorem dksX10_of_0 : cX10_of.data.toList.drop 0 = dktX10_of_0 := by decide +kernel
theorem dksX10_of_1 : cX10_of.data.toList.drop 24 = dktX10_of_1 := dk_seg dksX10_of_0 24 rfl rfl
theorem dX10_of_0 : decode cX10_of 0 = .ok (.iload_n 2, 1) := dk_28 (dk_at dksX10_of_0 0 rfl rfl)
theorem dX10_of_1 : decode cX10_of 1 = .ok (.bipush 20, 2) := dk_16 20 (dk_at dksX10_of_0 1 rfl rfl)
theorem dX10_of_3 : decode cX10_of 3 = .ok (.if_icmp .ge 20, 3) := dk_162 0 20 (dk_at dksX10_of_0 3 rfl rfl)
theorem dX10_of_6 : decode cX10_of 6 = .ok (.aload_n 0, 1) := dk_42 (dk_at dksX10_of_0 6 rfl rfl)
theorem dX10_of_7 : decode cX10_of 7 = .ok (.getfield 17, 3) := dk_180 0 17 (dk_at dksX10_of_0 7 rfl rfl)
theorem dX10_of_10 : decode cX10_of 10 = .ok (.bipush 66, 2) := dk_16 66 (dk_at dksX10_of_0 10 rfl rfl)
theorem dX10_of_12 : decode cX10_of 12 = .ok (.bipush 8, 2) := dk_16 8 (dk_at dksX10_of_0 12 rfl rfl)
theorem dX10_of_14 : decode cX10_of 14 = .ok (.iload_n 2, 1) := dk_28 (dk_at dksX10_of_0 14 rfl rfl)
theorem dX10_of_15 : decode cX10_of 15 = .ok (.imul, 1) := dk_104 (dk_at dksX10_of_0 15 rfl rfl)
theorem dX10_of_16 : decode cX10_of 16 = .ok (.iadd, 1) := dk_96 (dk_at dksX10_of_0 16 rfl rfl)
theorem dX10_of_17 : decode cX10_of 17 = .ok (.iload_n 3, 1) := dk_29 (dk_at dksX10_of_0 17 rfl rfl)
theorem dX10_of_18 : decode cX10_of 18 = .ok (.iadd, 1) := dk_96 (dk_at dksX10_of_0 18 rfl rfl)
theorem dX10_of_19 : decode cX10_of 19 = .ok (.iaload, 1) := dk_46 (dk_at dksX10_of_0 19 rfl rfl)
theorem dX10_of_20 : decode cX10_of 20 = .ok (.goto 18, 3) := dk_167 0 18 (dk_at dksX10_of_0 20 rfl rfl)
theorem dX10_of_23 : decode cX10_of 23 = .ok (.aload_n 1, 1) := dk_43 (dk_at dksX10_of_0 23 rfl rfl)
theorem dX10_of_24 : decode cX10_of 24 = .ok (.bipush 127, 2) := dk_16 127 (dk_at dksX10_of_1 0 rfl rfl)
theorem dX10_of_26 : decode cX10_of 26 = .ok (.bipush 10, 2) := dk_16 10 (dk_at dksX10_of_1 2 rfl rfl)
theorem dX10_of_28 : decode cX10_of 28 = .ok (.iload_n 2, 1) := dk_28 (dk_at dksX10_of_1 4 rfl rfl)
theorem dX10_of_29 : decode cX10_of 29 = .ok (.bipush 20, 2) := dk_16 20 (dk_at dksX10_of_1 5 rfl rfl)
theorem dX10_of_31 : decode cX10_of 31 = .ok (.isub, 1) := dk_100 (dk_at dksX10_of_1 7 rfl rfl)
theorem dX10_of_32 : decode cX10_of 32 = .ok (.imul, 1) := dk_104 (dk_at dksX10_of_1 8 rfl rfl)
theorem dX10_of_33 : decode cX10_of 33 = .ok (.iadd, 1) := dk_96 (dk_at dksX10_of_1 9 rfl rfl)
theorem dX10_of_34 : decode cX10_of 34 = .ok (.iload 4, 2) := dk_21 4 (dk_at dksX10_of_1 10 rfl rfl)
theorem dX10_of_36 : decode cX10_of 36 = .ok (.iadd, 1) := dk_96 (dk_at dksX10_of_1 12 rfl rfl)
theorem dX10_of_37 : decode cX10_of 37 = .ok (.iaload, 1) := dk_46 (dk_at dksX10_of_1 13 rfl rfl)
theorem dX10_of_38 : decode cX10_of 38 = .ok (.ireturn, 1) := dk_172 (dk_at dksX10_of_1 14 rfl rfl)
abbrev cX10_letter : ByteArray := prog_22_method_84_code
def yX10_letter : MethodName := ⟨RX10, "letter", "(II)I"⟩
def dkwX10_letter_2 : List UInt8 := [16, 8, 27, 104, 96, 28, 96, 46, 167, 0, 4, 3, 172]
abbrev dktX10_letter_2 : List UInt8 := dkwX10_letter_2 ++ []
def dkwX10_letter_1 : List UInt8 := [184, 0, 74, 153, 0, 7, 4, 167, 0, 4, 3, 182, 1, 112, 153, 0, 20, 42, 180, 0, 17, 16, 17]
abbrev dktX10_letter_1 : List UInt8 := dkwX10_letter_1 ++ dktX10_letter_2
def dkwX10_letter_0 : List UInt8 := [42, 42, 27, 182, 1, 102, 153, 0, 26, 28, 3, 42, 180, 0, 17, 16, 11, 27, 96, 46, 4, 100]
abbrev dktX10_letter_0 : List UInt8 := dkwX10_letter_0 ++ dktX10_letter_1
theorem dksX10_letter_0 : cX10_letter.data.toList.drop 0 = dktX10_letter_0 := by decide +kernel
theorem dksX10_letter_1 : cX10_letter.data.toList.drop 22 = dktX10_letter_1 := dk_seg dksX10_letter_0 22 rfl rfl
theorem dksX10_letter_2 : cX10_letter.data.toList.drop 45 = dktX10_letter_2 := dk_seg dksX10_letter_1 23 rfl rfl
theorem dX10_letter_0 : decode cX10_letter 0 = .ok (.aload_n 0, 1) := dk_42 (dk_at dksX10_letter_0 0 rfl rfl)
theorem dX10_letter_1 : decode cX10_letter 1 = .ok (.aload_n 0, 1) := dk_42 (dk_at dksX10_letter_0 1 rfl rfl)
theorem dX10_letter_2 : decode cX10_letter 2 = .ok (.iload_n 1, 1) := dk_27 (dk_at dksX10_letter_0 2 rfl rfl)
theorem dX10_letter_3 : decode cX10_letter 3 = .ok (.invokevirtual 358, 3) := dk_182 1 102 (dk_at dksX10_letter_0 3 rfl rfl)
theorem dX10_letter_6 : decode cX10_letter 6 = .ok (.ifCond .eq 26, 3) := dk_153 0 26 (dk_at dksX10_letter_0 6 rfl rfl)
theorem dX10_letter_9 : decode cX10_letter 9 = .ok (.iload_n 2, 1) := dk_28 (dk_at dksX10_letter_0 9 rfl rfl)
theorem dX10_letter_10 : decode cX10_letter 10 = .ok (.iconst 0, 1) := dk_3 (dk_at dksX10_letter_0 10 rfl rfl)
theorem dX10_letter_11 : decode cX10_letter 11 = .ok (.aload_n 0, 1) := dk_42 (dk_at dksX10_letter_0 11 rfl rfl)
theorem dX10_letter_12 : decode cX10_letter 12 = .ok (.getfield 17, 3) := dk_180 0 17 (dk_at dksX10_letter_0 12 rfl rfl)
theorem dX10_letter_15 : decode cX10_letter 15 = .ok (.bipush 11, 2) := dk_16 11 (dk_at dksX10_letter_0 15 rfl rfl)
theorem dX10_letter_17 : decode cX10_letter 17 = .ok (.iload_n 1, 1) := dk_27 (dk_at dksX10_letter_0 17 rfl rfl)
theorem dX10_letter_18 : decode cX10_letter 18 = .ok (.iadd, 1) := dk_96 (dk_at dksX10_letter_0 18 rfl rfl)
theorem dX10_letter_19 : decode cX10_letter 19 = .ok (.iaload, 1) := dk_46 (dk_at dksX10_letter_0 19 rfl rfl)
theorem dX10_letter_20 : decode cX10_letter 20 = .ok (.iconst 1, 1) := dk_4 (dk_at dksX10_letter_0 20 rfl rfl)
theorem dX10_letter_21 : decode cX10_letter 21 = .ok (.isub, 1) := dk_100 (dk_at dksX10_letter_0 21 rfl rfl)
theorem dX10_letter_22 : decode cX10_letter 22 = .ok (.invokestatic 74, 3) := dk_184 0 74 (dk_at dksX10_letter_1 0 rfl rfl)
theorem dX10_letter_25 : decode cX10_letter 25 = .ok (.ifCond .eq 7, 3) := dk_153 0 7 (dk_at dksX10_letter_1 3 rfl rfl)
theorem dX10_letter_28 : decode cX10_letter 28 = .ok (.iconst 1, 1) := dk_4 (dk_at dksX10_letter_1 6 rfl rfl)
theorem dX10_letter_29 : decode cX10_letter 29 = .ok (.goto 4, 3) := dk_167 0 4 (dk_at dksX10_letter_1 7 rfl rfl)
theorem dX10_letter_32 : decode cX10_letter 32 = .ok (.iconst 0, 1) := dk_3 (dk_at dksX10_letter_1 10 rfl rfl)
theorem dX10_letter_33 : decode cX10_letter 33 = .ok (.invokevirtual 368, 3) := dk_182 1 112 (dk_at dksX10_letter_1 11 rfl rfl)
theorem dX10_letter_36 : decode cX10_letter 36 = .ok (.ifCond .eq 20, 3) := dk_153 0 20 (dk_at dksX10_letter_1 14 rfl rfl)
theorem dX10_letter_39 : decode cX10_letter 39 = .ok (.aload_n 0, 1) := dk_42 (dk_at dksX10_letter_1 17 rfl rfl)
theorem dX10_letter_40 : decode cX10_letter 40 = .ok (.getfield 17, 3) := dk_180 0 17 (dk_at dksX10_letter_1 18 rfl rfl)
theorem dX10_letter_43 : decode cX10_letter 43 = .ok (.bipush 17, 2) := dk_16 17 (dk_at dksX10_letter_1 21 rfl rfl)
theorem dX10_letter_45 : decode cX10_letter 45 = .ok (.bipush 8, 2) := dk_16 8 (dk_at dksX10_letter_2 0 rfl rfl)
theorem dX10_letter_47 : decode cX10_letter 47 = .ok (.iload_n 1, 1) := dk_27 (dk_at dksX10_letter_2 2 rfl rfl)
theorem dX10_letter_48 : decode cX10_letter 48 = .ok (.imul, 1) := dk_104 (dk_at dksX10_letter_2 3 rfl rfl)
theorem dX10_letter_49 : decode cX10_letter 49 = .ok (.iadd, 1) := dk_96 (dk_at dksX10_letter_2 4 rfl rfl)
theorem dX10_letter_50 : decode cX10_letter 50 = .ok (.iload_n 2, 1) := dk_28 (dk_at dksX10_letter_2 5 rfl rfl)
theorem dX10_letter_51 : decode cX10_letter 51 = .ok (.iadd, 1) := dk_96 (dk_at dksX10_letter_2 6 rfl rfl)
theorem dX10_letter_52 : decode cX10_letter 52 = .ok (.iaload, 1) := dk_46 (dk_at dksX10_letter_2 7 rfl rfl)
theorem dX10_letter_53 : decode cX10_letter 53 = .ok (.goto 4, 3) := dk_167 0 4 (dk_at dksX10_letter_2 8 rfl rfl)
theorem dX10_letter_56 : decode cX10_letter 56 = .ok (.iconst 0, 1) := dk_3 (dk_at dksX10_letter_2 11 rfl rfl)
theorem dX10_letter_57 : decode cX10_letter 57 = .ok (.ireturn, 1) := dk_172 (dk_at dksX10_letter_2 12 rfl rfl)
abbrev cX10_mayAsk : ByteArray := prog_22_method_75_code
def yX10_mayAsk : MethodName := ⟨RX10, "mayAsk", "(Z)Z"⟩
def dkwX10_mayAsk_1 : List UInt8 := [42, 180, 0, 45, 154, 0, 7, 4, 167, 0, 4, 3, 172]
abbrev dktX10_mayAsk_1 : List UInt8 := dkwX10_mayAsk_1 ++ []
def dkwX10_mayAsk_0 : List UInt8 := [42, 42, 180, 0, 193, 154, 0, 7, 4, 167, 0, 12, 27, 153, 0, 7, 3, 167, 0, 4, 5, 181, 0, 45]
abbrev dktX10_mayAsk_0 : List UInt8 := dkwX10_mayAsk_0 ++ dktX10_mayAsk_1
theorem dksX10_mayAsk_0 : cX10_mayAsk.data.toList.drop 0 = dktX10_mayAsk_0 := by decide +kernel
theorem dksX10_mayAsk_1 : cX10_mayAsk.data.toList.drop 24 = dktX10_mayAsk_1 := dk_seg dksX10_mayAsk_0 24 rfl rfl
theorem dX10_mayAsk_0 : decode cX10_mayAsk 0 = .ok (.aload_n 0, 1) := dk_42 (dk_at dksX10_mayAsk_0 0 rfl rfl)
theorem dX10_mayAsk_1 : decode cX10_mayAsk 1 = .ok (.aload_n 0, 1) := dk_42 (dk_at dksX10_mayAsk_0 1 rfl rfl)
theorem dX10_mayAsk_2 : decode cX10_mayAsk 2 = .ok (.getfield 193, 3) := dk_180 0 193 (dk_at dksX10_mayAsk_0 2 rfl rfl)
theorem dX10_mayAsk_5 : decode cX10_mayAsk 5 = .ok (.ifCond .ne 7, 3) := dk_154 0 7 (dk_at dksX10_mayAsk_0 5 rfl rfl)
theorem dX10_mayAsk_8 : decode cX10_mayAsk 8 = .ok (.iconst 1, 1) := dk_4 (dk_at dksX10_mayAsk_0 8 rfl rfl)
theorem dX10_mayAsk_9 : decode cX10_mayAsk 9 = .ok (.goto 12, 3) := dk_167 0 12 (dk_at dksX10_mayAsk_0 9 rfl rfl)
theorem dX10_mayAsk_12 : decode cX10_mayAsk 12 = .ok (.iload_n 1, 1) := dk_27 (dk_at dksX10_mayAsk_0 12 rfl rfl)
theorem dX10_mayAsk_13 : decode cX10_mayAsk 13 = .ok (.ifCond .eq 7, 3) := dk_153 0 7 (dk_at dksX10_mayAsk_0 13 rfl rfl)
theorem dX10_mayAsk_16 : decode cX10_mayAsk 16 = .ok (.iconst 0, 1) := dk_3 (dk_at dksX10_mayAsk_0 16 rfl rfl)
theorem dX10_mayAsk_17 : decode cX10_mayAsk 17 = .ok (.goto 4, 3) := dk_167 0 4 (dk_at dksX10_mayAsk_0 17 rfl rfl)
theorem dX10_mayAsk_20 : decode cX10_mayAsk 20 = .ok (.iconst 2, 1) := dk_5 (dk_at dksX10_mayAsk_0 20 rfl rfl)
theorem dX10_mayAsk_21 : decode cX10_mayAsk 21 = .ok (.putfield 45, 3) := dk_181 0 45 (dk_at dksX10_mayAsk_0 21 rfl rfl)
theorem dX10_mayAsk_24 : decode cX10_mayAsk 24 = .ok (.aload_n 0, 1) := dk_42 (dk_at dksX10_mayAsk_1 0 rfl rfl)
theorem dX10_mayAsk_25 : decode cX10_mayAsk 25 = .ok (.getfield 45, 3) := dk_180 0 45 (dk_at dksX10_mayAsk_1 1 rfl rfl)
theorem dX10_mayAsk_28 : decode cX10_mayAsk 28 = .ok (.ifCond .ne 7, 3) := dk_154 0 7 (dk_at dksX10_mayAsk_1 4 rfl rfl)
theorem dX10_mayAsk_31 : decode cX10_mayAsk 31 = .ok (.iconst 1, 1) := dk_4 (dk_at dksX10_mayAsk_1 7 rfl rfl)
theorem dX10_mayAsk_32 : decode cX10_mayAsk 32 = .ok (.goto 4, 3) := dk_167 0 4 (dk_at dksX10_mayAsk_1 8 rfl rfl)
theorem dX10_mayAsk_35 : decode cX10_mayAsk 35 = .ok (.iconst 0, 1) := dk_3 (dk_at dksX10_mayAsk_1 11 rfl rfl)
theorem dX10_mayAsk_36 : decode cX10_mayAsk 36 = .ok (.ireturn, 1) := dk_172 (dk_at dksX10_mayAsk_1 12 rfl rfl)
abbrev cX10_visits : ByteArray := prog_22_method_85_code
def yX10_visits : MethodName := ⟨RX10, "visits", "()I"⟩
def dkwX10_visits_0 : List UInt8 := [42, 42, 180, 0, 17, 16, 65, 46, 182, 1, 99, 172]
abbrev dktX10_visits_0 : List UInt8 := dkwX10_visits_0 ++ []
theorem dksX10_visits_0 : cX10_visits.data.toList.drop 0 = dktX10_visits_0 := by decide +kernel
theorem dX10_visits_0 : decode cX10_visits 0 = .ok (.aload_n 0, 1) := dk_42 (dk_at dksX10_visits_0 0 rfl rfl)
theorem dX10_visits_1 : decode cX10_visits 1 = .ok (.aload_n 0, 1) := dk_42 (dk_at dksX10_visits_0 1 rfl rfl)
theorem dX10_visits_2 : decode cX10_visits 2 = .ok (.getfield 17, 3) := dk_180 0 17 (dk_at dksX10_visits_0 2 rfl rfl)
theorem dX10_visits_5 : decode cX10_visits 5 = .ok (.bipush 65, 2) := dk_16 65 (dk_at dksX10_visits_0 5 rfl rfl)
theorem dX10_visits_7 : decode cX10_visits 7 = .ok (.iaload, 1) := dk_46 (dk_at dksX10_visits_0 7 rfl rfl)
theorem dX10_visits_8 : decode cX10_visits 8 = .ok (.invokevirtual 355, 3) := dk_182 1 99 (dk_at dksX10_visits_0 8 rfl rfl)
theorem dX10_visits_11 : decode cX10_visits 11 = .ok (.ireturn, 1) := dk_172 (dk_at dksX10_visits_0 11 rfl rfl)
abbrev cX10_visit : ByteArray := prog_22_method_86_code
def yX10_visit : MethodName := ⟨RX10, "visit", "(II)I"⟩
def dkwX10_visit_2 : List UInt8 := [104, 96, 28, 96, 46, 172]
abbrev dktX10_visit_2 : List UInt8 := dkwX10_visit_2 ++ []
def dkwX10_visit_1 : List UInt8 := [160, 0, 15, 42, 180, 0, 23, 16, 107, 27, 96, 46, 167, 0, 17, 42, 180, 0, 17, 16, 66, 16, 8, 27]
abbrev dktX10_visit_1 : List UInt8 := dkwX10_visit_1 ++ dktX10_visit_2
def dkwX10_visit_0 : List UInt8 := [42, 42, 27, 182, 1, 116, 28, 3, 16, 7, 184, 0, 74, 182, 1, 105, 154, 0, 5, 3, 172, 28, 7]
abbrev dktX10_visit_0 : List UInt8 := dkwX10_visit_0 ++ dktX10_visit_1
theorem dksX10_visit_0 : cX10_visit.data.toList.drop 0 = dktX10_visit_0 := by decide +kernel
theorem dksX10_visit_1 : cX10_visit.data.toList.drop 23 = dktX10_visit_1 := dk_seg dksX10_visit_0 23 rfl rfl
theorem dksX10_visit_2 : cX10_visit.data.toList.drop 47 = dktX10_visit_2 := dk_seg dksX10_visit_1 24 rfl rfl
theorem dX10_visit_0 : decode cX10_visit 0 = .ok (.aload_n 0, 1) := dk_42 (dk_at dksX10_visit_0 0 rfl rfl)
theorem dX10_visit_1 : decode cX10_visit 1 = .ok (.aload_n 0, 1) := dk_42 (dk_at dksX10_visit_0 1 rfl rfl)
theorem dX10_visit_2 : decode cX10_visit 2 = .ok (.iload_n 1, 1) := dk_27 (dk_at dksX10_visit_0 2 rfl rfl)
theorem dX10_visit_3 : decode cX10_visit 3 = .ok (.invokevirtual 372, 3) := dk_182 1 116 (dk_at dksX10_visit_0 3 rfl rfl)
theorem dX10_visit_6 : decode cX10_visit 6 = .ok (.iload_n 2, 1) := dk_28 (dk_at dksX10_visit_0 6 rfl rfl)
theorem dX10_visit_7 : decode cX10_visit 7 = .ok (.iconst 0, 1) := dk_3 (dk_at dksX10_visit_0 7 rfl rfl)
theorem dX10_visit_8 : decode cX10_visit 8 = .ok (.bipush 7, 2) := dk_16 7 (dk_at dksX10_visit_0 8 rfl rfl)
theorem dX10_visit_10 : decode cX10_visit 10 = .ok (.invokestatic 74, 3) := dk_184 0 74 (dk_at dksX10_visit_0 10 rfl rfl)
theorem dX10_visit_13 : decode cX10_visit 13 = .ok (.invokevirtual 361, 3) := dk_182 1 105 (dk_at dksX10_visit_0 13 rfl rfl)
theorem dX10_visit_16 : decode cX10_visit 16 = .ok (.ifCond .ne 5, 3) := dk_154 0 5 (dk_at dksX10_visit_0 16 rfl rfl)
theorem dX10_visit_19 : decode cX10_visit 19 = .ok (.iconst 0, 1) := dk_3 (dk_at dksX10_visit_0 19 rfl rfl)
theorem dX10_visit_20 : decode cX10_visit 20 = .ok (.ireturn, 1) := dk_172 (dk_at dksX10_visit_0 20 rfl rfl)
theorem dX10_visit_21 : decode cX10_visit 21 = .ok (.iload_n 2, 1) := dk_28 (dk_at dksX10_visit_0 21 rfl rfl)
theorem dX10_visit_22 : decode cX10_visit 22 = .ok (.iconst 4, 1) := dk_7 (dk_at dksX10_visit_0 22 rfl rfl)
theorem dX10_visit_23 : decode cX10_visit 23 = .ok (.if_icmp .ne 15, 3) := dk_160 0 15 (dk_at dksX10_visit_1 0 rfl rfl)
theorem dX10_visit_26 : decode cX10_visit 26 = .ok (.aload_n 0, 1) := dk_42 (dk_at dksX10_visit_1 3 rfl rfl)
theorem dX10_visit_27 : decode cX10_visit 27 = .ok (.getfield 23, 3) := dk_180 0 23 (dk_at dksX10_visit_1 4 rfl rfl)
theorem dX10_visit_30 : decode cX10_visit 30 = .ok (.bipush 107, 2) := dk_16 107 (dk_at dksX10_visit_1 7 rfl rfl)
theorem dX10_visit_32 : decode cX10_visit 32 = .ok (.iload_n 1, 1) := dk_27 (dk_at dksX10_visit_1 9 rfl rfl)
theorem dX10_visit_33 : decode cX10_visit 33 = .ok (.iadd, 1) := dk_96 (dk_at dksX10_visit_1 10 rfl rfl)
theorem dX10_visit_34 : decode cX10_visit 34 = .ok (.iaload, 1) := dk_46 (dk_at dksX10_visit_1 11 rfl rfl)
theorem dX10_visit_35 : decode cX10_visit 35 = .ok (.goto 17, 3) := dk_167 0 17 (dk_at dksX10_visit_1 12 rfl rfl)
theorem dX10_visit_38 : decode cX10_visit 38 = .ok (.aload_n 0, 1) := dk_42 (dk_at dksX10_visit_1 15 rfl rfl)
theorem dX10_visit_39 : decode cX10_visit 39 = .ok (.getfield 17, 3) := dk_180 0 17 (dk_at dksX10_visit_1 16 rfl rfl)
theorem dX10_visit_42 : decode cX10_visit 42 = .ok (.bipush 66, 2) := dk_16 66 (dk_at dksX10_visit_1 19 rfl rfl)
theorem dX10_visit_44 : decode cX10_visit 44 = .ok (.bipush 8, 2) := dk_16 8 (dk_at dksX10_visit_1 21 rfl rfl)
theorem dX10_visit_46 : decode cX10_visit 46 = .ok (.iload_n 1, 1) := dk_27 (dk_at dksX10_visit_1 23 rfl rfl)
theorem dX10_visit_47 : decode cX10_visit 47 = .ok (.imul, 1) := dk_104 (dk_at dksX10_visit_2 0 rfl rfl)
theorem dX10_visit_48 : decode cX10_visit 48 = .ok (.iadd, 1) := dk_96 (dk_at dksX10_visit_2 1 rfl rfl)
theorem dX10_visit_49 : decode cX10_visit 49 = .ok (.iload_n 2, 1) := dk_28 (dk_at dksX10_visit_2 2 rfl rfl)
theorem dX10_visit_50 : decode cX10_visit 50 = .ok (.iadd, 1) := dk_96 (dk_at dksX10_visit_2 3 rfl rfl)
theorem dX10_visit_51 : decode cX10_visit 51 = .ok (.iaload, 1) := dk_46 (dk_at dksX10_visit_2 4 rfl rfl)
theorem dX10_visit_52 : decode cX10_visit 52 = .ok (.ireturn, 1) := dk_172 (dk_at dksX10_visit_2 5 rfl rfl)
abbrev cX10_isVisit : ByteArray := prog_22_method_79_code
def yX10_isVisit : MethodName := ⟨RX10, "isVisit", "(I)Z"⟩
def dkwX10_isVisit_0 : List UInt8 := [27, 3, 42, 180, 0, 17, 16, 65, 46, 4, 100, 184, 0, 74, 172]
abbrev dktX10_isVisit_0 : List UInt8 := dkwX10_isVisit_0 ++ []
theorem dksX10_isVisit_0 : cX10_isVisit.data.toList.drop 0 = dktX10_isVisit_0 := by decide +kernel
theorem dX10_isVisit_0 : decode cX10_isVisit 0 = .ok (.iload_n 1, 1) := dk_27 (dk_at dksX10_isVisit_0 0 rfl rfl)
theorem dX10_isVisit_1 : decode cX10_isVisit 1 = .ok (.iconst 0, 1) := dk_3 (dk_at dksX10_isVisit_0 1 rfl rfl)
theorem dX10_isVisit_2 : decode cX10_isVisit 2 = .ok (.aload_n 0, 1) := dk_42 (dk_at dksX10_isVisit_0 2 rfl rfl)
theorem dX10_isVisit_3 : decode cX10_isVisit 3 = .ok (.getfield 17, 3) := dk_180 0 17 (dk_at dksX10_isVisit_0 3 rfl rfl)
theorem dX10_isVisit_6 : decode cX10_isVisit 6 = .ok (.bipush 65, 2) := dk_16 65 (dk_at dksX10_isVisit_0 6 rfl rfl)
theorem dX10_isVisit_8 : decode cX10_isVisit 8 = .ok (.iaload, 1) := dk_46 (dk_at dksX10_isVisit_0 8 rfl rfl)
theorem dX10_isVisit_9 : decode cX10_isVisit 9 = .ok (.iconst 1, 1) := dk_4 (dk_at dksX10_isVisit_0 9 rfl rfl)
theorem dX10_isVisit_10 : decode cX10_isVisit 10 = .ok (.isub, 1) := dk_100 (dk_at dksX10_isVisit_0 10 rfl rfl)
theorem dX10_isVisit_11 : decode cX10_isVisit 11 = .ok (.invokestatic 74, 3) := dk_184 0 74 (dk_at dksX10_isVisit_0 11 rfl rfl)
theorem dX10_isVisit_14 : decode cX10_isVisit 14 = .ok (.ireturn, 1) := dk_172 (dk_at dksX10_isVisit_0 14 rfl rfl)
abbrev cX10_stateOf : ByteArray := prog_22_method_87_code
def yX10_stateOf : MethodName := ⟨RX10, "stateOf", "(I)I"⟩
def dkwX10_stateOf_1 : List UInt8 := [3, 172]
abbrev dktX10_stateOf_1 : List UInt8 := dkwX10_stateOf_1 ++ []
def dkwX10_stateOf_0 : List UInt8 := [42, 42, 27, 182, 1, 116, 182, 1, 112, 153, 0, 15, 42, 180, 0, 23, 16, 47, 27, 96, 46, 167, 0, 4]
abbrev dktX10_stateOf_0 : List UInt8 := dkwX10_stateOf_0 ++ dktX10_stateOf_1
theorem dksX10_stateOf_0 : cX10_stateOf.data.toList.drop 0 = dktX10_stateOf_0 := by decide +kernel
theorem dksX10_stateOf_1 : cX10_stateOf.data.toList.drop 24 = dktX10_stateOf_1 := dk_seg dksX10_stateOf_0 24 rfl rfl
theorem dX10_stateOf_0 : decode cX10_stateOf 0 = .ok (.aload_n 0, 1) := dk_42 (dk_at dksX10_stateOf_0 0 rfl rfl)
theorem dX10_stateOf_1 : decode cX10_stateOf 1 = .ok (.aload_n 0, 1) := dk_42 (dk_at dksX10_stateOf_0 1 rfl rfl)
theorem dX10_stateOf_2 : decode cX10_stateOf 2 = .ok (.iload_n 1, 1) := dk_27 (dk_at dksX10_stateOf_0 2 rfl rfl)
theorem dX10_stateOf_3 : decode cX10_stateOf 3 = .ok (.invokevirtual 372, 3) := dk_182 1 116 (dk_at dksX10_stateOf_0 3 rfl rfl)
theorem dX10_stateOf_6 : decode cX10_stateOf 6 = .ok (.invokevirtual 368, 3) := dk_182 1 112 (dk_at dksX10_stateOf_0 6 rfl rfl)
theorem dX10_stateOf_9 : decode cX10_stateOf 9 = .ok (.ifCond .eq 15, 3) := dk_153 0 15 (dk_at dksX10_stateOf_0 9 rfl rfl)
theorem dX10_stateOf_12 : decode cX10_stateOf 12 = .ok (.aload_n 0, 1) := dk_42 (dk_at dksX10_stateOf_0 12 rfl rfl)
theorem dX10_stateOf_13 : decode cX10_stateOf 13 = .ok (.getfield 23, 3) := dk_180 0 23 (dk_at dksX10_stateOf_0 13 rfl rfl)
theorem dX10_stateOf_16 : decode cX10_stateOf 16 = .ok (.bipush 47, 2) := dk_16 47 (dk_at dksX10_stateOf_0 16 rfl rfl)
theorem dX10_stateOf_18 : decode cX10_stateOf 18 = .ok (.iload_n 1, 1) := dk_27 (dk_at dksX10_stateOf_0 18 rfl rfl)
theorem dX10_stateOf_19 : decode cX10_stateOf 19 = .ok (.iadd, 1) := dk_96 (dk_at dksX10_stateOf_0 19 rfl rfl)
theorem dX10_stateOf_20 : decode cX10_stateOf 20 = .ok (.iaload, 1) := dk_46 (dk_at dksX10_stateOf_0 20 rfl rfl)
theorem dX10_stateOf_21 : decode cX10_stateOf 21 = .ok (.goto 4, 3) := dk_167 0 4 (dk_at dksX10_stateOf_0 21 rfl rfl)
theorem dX10_stateOf_24 : decode cX10_stateOf 24 = .ok (.iconst 0, 1) := dk_3 (dk_at dksX10_stateOf_1 0 rfl rfl)
theorem dX10_stateOf_25 : decode cX10_stateOf 25 = .ok (.ireturn, 1) := dk_172 (dk_at dksX10_stateOf_1 1 rfl rfl)
abbrev cX10_aborts : ByteArray := prog_22_method_88_code
def yX10_aborts : MethodName := ⟨RX10, "aborts", "(I)I"⟩
def dkwX10_aborts_1 : List UInt8 := [3, 172]
abbrev dktX10_aborts_1 : List UInt8 := dkwX10_aborts_1 ++ []
def dkwX10_aborts_0 : List UInt8 := [42, 42, 27, 182, 1, 116, 182, 1, 112, 153, 0, 15, 42, 180, 0, 23, 16, 67, 27, 96, 46, 167, 0, 4]
abbrev dktX10_aborts_0 : List UInt8 := dkwX10_aborts_0 ++ dktX10_aborts_1
theorem dksX10_aborts_0 : cX10_aborts.data.toList.drop 0 = dktX10_aborts_0 := by decide +kernel
theorem dksX10_aborts_1 : cX10_aborts.data.toList.drop 24 = dktX10_aborts_1 := dk_seg dksX10_aborts_0 24 rfl rfl
theorem dX10_aborts_0 : decode cX10_aborts 0 = .ok (.aload_n 0, 1) := dk_42 (dk_at dksX10_aborts_0 0 rfl rfl)
theorem dX10_aborts_1 : decode cX10_aborts 1 = .ok (.aload_n 0, 1) := dk_42 (dk_at dksX10_aborts_0 1 rfl rfl)
theorem dX10_aborts_2 : decode cX10_aborts 2 = .ok (.iload_n 1, 1) := dk_27 (dk_at dksX10_aborts_0 2 rfl rfl)
theorem dX10_aborts_3 : decode cX10_aborts 3 = .ok (.invokevirtual 372, 3) := dk_182 1 116 (dk_at dksX10_aborts_0 3 rfl rfl)
theorem dX10_aborts_6 : decode cX10_aborts 6 = .ok (.invokevirtual 368, 3) := dk_182 1 112 (dk_at dksX10_aborts_0 6 rfl rfl)
theorem dX10_aborts_9 : decode cX10_aborts 9 = .ok (.ifCond .eq 15, 3) := dk_153 0 15 (dk_at dksX10_aborts_0 9 rfl rfl)
theorem dX10_aborts_12 : decode cX10_aborts 12 = .ok (.aload_n 0, 1) := dk_42 (dk_at dksX10_aborts_0 12 rfl rfl)
theorem dX10_aborts_13 : decode cX10_aborts 13 = .ok (.getfield 23, 3) := dk_180 0 23 (dk_at dksX10_aborts_0 13 rfl rfl)
theorem dX10_aborts_16 : decode cX10_aborts 16 = .ok (.bipush 67, 2) := dk_16 67 (dk_at dksX10_aborts_0 16 rfl rfl)
theorem dX10_aborts_18 : decode cX10_aborts 18 = .ok (.iload_n 1, 1) := dk_27 (dk_at dksX10_aborts_0 18 rfl rfl)
theorem dX10_aborts_19 : decode cX10_aborts 19 = .ok (.iadd, 1) := dk_96 (dk_at dksX10_aborts_0 19 rfl rfl)
theorem dX10_aborts_20 : decode cX10_aborts 20 = .ok (.iaload, 1) := dk_46 (dk_at dksX10_aborts_0 20 rfl rfl)
theorem dX10_aborts_21 : decode cX10_aborts 21 = .ok (.goto 4, 3) := dk_167 0 4 (dk_at dksX10_aborts_0 21 rfl rfl)
theorem dX10_aborts_24 : decode cX10_aborts 24 = .ok (.iconst 0, 1) := dk_3 (dk_at dksX10_aborts_1 0 rfl rfl)
theorem dX10_aborts_25 : decode cX10_aborts 25 = .ok (.ireturn, 1) := dk_172 (dk_at dksX10_aborts_1 1 rfl rfl)
abbrev cX10_startOf : ByteArray := prog_22_method_89_code
def yX10_startOf : MethodName := ⟨RX10, "startOf", "(I)I"⟩
def dkwX10_startOf_1 : List UInt8 := [3, 172]
abbrev dktX10_startOf_1 : List UInt8 := dkwX10_startOf_1 ++ []
def dkwX10_startOf_0 : List UInt8 := [42, 42, 27, 182, 1, 116, 182, 1, 112, 153, 0, 15, 42, 180, 0, 23, 16, 87, 27, 96, 46, 167, 0, 4]
abbrev dktX10_startOf_0 : List UInt8 := dkwX10_startOf_0 ++ dktX10_startOf_1
theorem dksX10_startOf_0 : cX10_startOf.data.toList.drop 0 = dktX10_startOf_0 := by decide +kernel
theorem dksX10_startOf_1 : cX10_startOf.data.toList.drop 24 = dktX10_startOf_1 := dk_seg dksX10_startOf_0 24 rfl rfl
theorem dX10_startOf_0 : decode cX10_startOf 0 = .ok (.aload_n 0, 1) := dk_42 (dk_at dksX10_startOf_0 0 rfl rfl)
theorem dX10_startOf_1 : decode cX10_startOf 1 = .ok (.aload_n 0, 1) := dk_42 (dk_at dksX10_startOf_0 1 rfl rfl)
theorem dX10_startOf_2 : decode cX10_startOf 2 = .ok (.iload_n 1, 1) := dk_27 (dk_at dksX10_startOf_0 2 rfl rfl)
theorem dX10_startOf_3 : decode cX10_startOf 3 = .ok (.invokevirtual 372, 3) := dk_182 1 116 (dk_at dksX10_startOf_0 3 rfl rfl)
theorem dX10_startOf_6 : decode cX10_startOf 6 = .ok (.invokevirtual 368, 3) := dk_182 1 112 (dk_at dksX10_startOf_0 6 rfl rfl)
theorem dX10_startOf_9 : decode cX10_startOf 9 = .ok (.ifCond .eq 15, 3) := dk_153 0 15 (dk_at dksX10_startOf_0 9 rfl rfl)
theorem dX10_startOf_12 : decode cX10_startOf 12 = .ok (.aload_n 0, 1) := dk_42 (dk_at dksX10_startOf_0 12 rfl rfl)
theorem dX10_startOf_13 : decode cX10_startOf 13 = .ok (.getfield 23, 3) := dk_180 0 23 (dk_at dksX10_startOf_0 13 rfl rfl)
theorem dX10_startOf_16 : decode cX10_startOf 16 = .ok (.bipush 87, 2) := dk_16 87 (dk_at dksX10_startOf_0 16 rfl rfl)
theorem dX10_startOf_18 : decode cX10_startOf 18 = .ok (.iload_n 1, 1) := dk_27 (dk_at dksX10_startOf_0 18 rfl rfl)
theorem dX10_startOf_19 : decode cX10_startOf 19 = .ok (.iadd, 1) := dk_96 (dk_at dksX10_startOf_0 19 rfl rfl)
theorem dX10_startOf_20 : decode cX10_startOf 20 = .ok (.iaload, 1) := dk_46 (dk_at dksX10_startOf_0 20 rfl rfl)
theorem dX10_startOf_21 : decode cX10_startOf 21 = .ok (.goto 4, 3) := dk_167 0 4 (dk_at dksX10_startOf_0 21 rfl rfl)
theorem dX10_startOf_24 : decode cX10_startOf 24 = .ok (.iconst 0, 1) := dk_3 (dk_at dksX10_startOf_1 0 rfl rfl)
theorem dX10_startOf_25 : decode cX10_startOf 25 = .ok (.ireturn, 1) := dk_172 (dk_at dksX10_startOf_1 1 rfl rfl)
abbrev cX10_alerts : ByteArray := prog_22_method_90_code
def yX10_alerts : MethodName := ⟨RX10, "alerts", "()I"⟩
def dkwX10_alerts_0 : List UInt8 := [42, 42, 180, 0, 23, 16, 14, 46, 182, 1, 99, 172]
abbrev dktX10_alerts_0 : List UInt8 := dkwX10_alerts_0 ++ []
theorem dksX10_alerts_0 : cX10_alerts.data.toList.drop 0 = dktX10_alerts_0 := by decide +kernel
theorem dX10_alerts_0 : decode cX10_alerts 0 = .ok (.aload_n 0, 1) := dk_42 (dk_at dksX10_alerts_0 0 rfl rfl)
theorem dX10_alerts_1 : decode cX10_alerts 1 = .ok (.aload_n 0, 1) := dk_42 (dk_at dksX10_alerts_0 1 rfl rfl)
theorem dX10_alerts_2 : decode cX10_alerts 2 = .ok (.getfield 23, 3) := dk_180 0 23 (dk_at dksX10_alerts_0 2 rfl rfl)
theorem dX10_alerts_5 : decode cX10_alerts 5 = .ok (.bipush 14, 2) := dk_16 14 (dk_at dksX10_alerts_0 5 rfl rfl)
theorem dX10_alerts_7 : decode cX10_alerts 7 = .ok (.iaload, 1) := dk_46 (dk_at dksX10_alerts_0 7 rfl rfl)
theorem dX10_alerts_8 : decode cX10_alerts 8 = .ok (.invokevirtual 355, 3) := dk_182 1 99 (dk_at dksX10_alerts_0 8 rfl rfl)
theorem dX10_alerts_11 : decode cX10_alerts 11 = .ok (.ireturn, 1) := dk_172 (dk_at dksX10_alerts_0 11 rfl rfl)
abbrev cX10_alert : ByteArray := prog_22_method_92_code
def yX10_alert : MethodName := ⟨RX10, "alert", "(II)I"⟩
def dkwX10_alert_1 : List UInt8 := [182, 1, 122, 167, 0, 4, 3, 172]
abbrev dktX10_alert_1 : List UInt8 := dkwX10_alert_1 ++ []
def dkwX10_alert_0 : List UInt8 := [42, 42, 27, 182, 1, 119, 28, 3, 16, 6, 184, 0, 74, 182, 1, 105, 153, 0, 12, 42, 27, 28]
abbrev dktX10_alert_0 : List UInt8 := dkwX10_alert_0 ++ dktX10_alert_1
theorem dksX10_alert_0 : cX10_alert.data.toList.drop 0 = dktX10_alert_0 := by decide +kernel
theorem dksX10_alert_1 : cX10_alert.data.toList.drop 22 = dktX10_alert_1 := dk_seg dksX10_alert_0 22 rfl rfl
theorem dX10_alert_0 : decode cX10_alert 0 = .ok (.aload_n 0, 1) := dk_42 (dk_at dksX10_alert_0 0 rfl rfl)
theorem dX10_alert_1 : decode cX10_alert 1 = .ok (.aload_n 0, 1) := dk_42 (dk_at dksX10_alert_0 1 rfl rfl)
theorem dX10_alert_2 : decode cX10_alert 2 = .ok (.iload_n 1, 1) := dk_27 (dk_at dksX10_alert_0 2 rfl rfl)
theorem dX10_alert_3 : decode cX10_alert 3 = .ok (.invokevirtual 375, 3) := dk_182 1 119 (dk_at dksX10_alert_0 3 rfl rfl)
theorem dX10_alert_6 : decode cX10_alert 6 = .ok (.iload_n 2, 1) := dk_28 (dk_at dksX10_alert_0 6 rfl rfl)
theorem dX10_alert_7 : decode cX10_alert 7 = .ok (.iconst 0, 1) := dk_3 (dk_at dksX10_alert_0 7 rfl rfl)
theorem dX10_alert_8 : decode cX10_alert 8 = .ok (.bipush 6, 2) := dk_16 6 (dk_at dksX10_alert_0 8 rfl rfl)
theorem dX10_alert_10 : decode cX10_alert 10 = .ok (.invokestatic 74, 3) := dk_184 0 74 (dk_at dksX10_alert_0 10 rfl rfl)
theorem dX10_alert_13 : decode cX10_alert 13 = .ok (.invokevirtual 361, 3) := dk_182 1 105 (dk_at dksX10_alert_0 13 rfl rfl)
theorem dX10_alert_16 : decode cX10_alert 16 = .ok (.ifCond .eq 12, 3) := dk_153 0 12 (dk_at dksX10_alert_0 16 rfl rfl)
theorem dX10_alert_19 : decode cX10_alert 19 = .ok (.aload_n 0, 1) := dk_42 (dk_at dksX10_alert_0 19 rfl rfl)
theorem dX10_alert_20 : decode cX10_alert 20 = .ok (.iload_n 1, 1) := dk_27 (dk_at dksX10_alert_0 20 rfl rfl)
theorem dX10_alert_21 : decode cX10_alert 21 = .ok (.iload_n 2, 1) := dk_28 (dk_at dksX10_alert_0 21 rfl rfl)
theorem dX10_alert_22 : decode cX10_alert 22 = .ok (.invokevirtual 378, 3) := dk_182 1 122 (dk_at dksX10_alert_1 0 rfl rfl)
theorem dX10_alert_25 : decode cX10_alert 25 = .ok (.goto 4, 3) := dk_167 0 4 (dk_at dksX10_alert_1 3 rfl rfl)
theorem dX10_alert_28 : decode cX10_alert 28 = .ok (.iconst 0, 1) := dk_3 (dk_at dksX10_alert_1 6 rfl rfl)
theorem dX10_alert_29 : decode cX10_alert 29 = .ok (.ireturn, 1) := dk_172 (dk_at dksX10_alert_1 7 rfl rfl)
abbrev cX10_isAlert : ByteArray := prog_22_method_80_code
def yX10_isAlert : MethodName := ⟨RX10, "isAlert", "(I)Z"⟩
def dkwX10_isAlert_0 : List UInt8 := [27, 3, 42, 180, 0, 23, 16, 14, 46, 4, 100, 184, 0, 74, 172]
abbrev dktX10_isAlert_0 : List UInt8 := dkwX10_isAlert_0 ++ []
theorem dksX10_isAlert_0 : cX10_isAlert.data.toList.drop 0 = dktX10_isAlert_0 := by decide +kernel
theorem dX10_isAlert_0 : decode cX10_isAlert 0 = .ok (.iload_n 1, 1) := dk_27 (dk_at dksX10_isAlert_0 0 rfl rfl)
theorem dX10_isAlert_1 : decode cX10_isAlert 1 = .ok (.iconst 0, 1) := dk_3 (dk_at dksX10_isAlert_0 1 rfl rfl)
theorem dX10_isAlert_2 : decode cX10_isAlert 2 = .ok (.aload_n 0, 1) := dk_42 (dk_at dksX10_isAlert_0 2 rfl rfl)
theorem dX10_isAlert_3 : decode cX10_isAlert 3 = .ok (.getfield 23, 3) := dk_180 0 23 (dk_at dksX10_isAlert_0 3 rfl rfl)
theorem dX10_isAlert_6 : decode cX10_isAlert 6 = .ok (.bipush 14, 2) := dk_16 14 (dk_at dksX10_isAlert_0 6 rfl rfl)
theorem dX10_isAlert_8 : decode cX10_isAlert 8 = .ok (.iaload, 1) := dk_46 (dk_at dksX10_isAlert_0 8 rfl rfl)
theorem dX10_isAlert_9 : decode cX10_isAlert 9 = .ok (.iconst 1, 1) := dk_4 (dk_at dksX10_isAlert_0 9 rfl rfl)
theorem dX10_isAlert_10 : decode cX10_isAlert 10 = .ok (.isub, 1) := dk_100 (dk_at dksX10_isAlert_0 10 rfl rfl)
theorem dX10_isAlert_11 : decode cX10_isAlert 11 = .ok (.invokestatic 74, 3) := dk_184 0 74 (dk_at dksX10_isAlert_0 11 rfl rfl)
theorem dX10_isAlert_14 : decode cX10_isAlert 14 = .ok (.ireturn, 1) := dk_172 (dk_at dksX10_isAlert_0 14 rfl rfl)
abbrev cX10_ofAlert : ByteArray := prog_22_method_91_code
def yX10_ofAlert : MethodName := ⟨RX10, "ofAlert", "(II)I"⟩
def dkwX10_ofAlert_0 : List UInt8 := [42, 180, 0, 23, 16, 127, 16, 10, 27, 104, 96, 28, 96, 46, 172]
abbrev dktX10_ofAlert_0 : List UInt8 := dkwX10_ofAlert_0 ++ []
theorem dksX10_ofAlert_0 : cX10_ofAlert.data.toList.drop 0 = dktX10_ofAlert_0 := by decide +kernel
theorem dX10_ofAlert_0 : decode cX10_ofAlert 0 = .ok (.aload_n 0, 1) := dk_42 (dk_at dksX10_ofAlert_0 0 rfl rfl)
theorem dX10_ofAlert_1 : decode cX10_ofAlert 1 = .ok (.getfield 23, 3) := dk_180 0 23 (dk_at dksX10_ofAlert_0 1 rfl rfl)
theorem dX10_ofAlert_4 : decode cX10_ofAlert 4 = .ok (.bipush 127, 2) := dk_16 127 (dk_at dksX10_ofAlert_0 4 rfl rfl)
theorem dX10_ofAlert_6 : decode cX10_ofAlert 6 = .ok (.bipush 10, 2) := dk_16 10 (dk_at dksX10_ofAlert_0 6 rfl rfl)
theorem dX10_ofAlert_8 : decode cX10_ofAlert 8 = .ok (.iload_n 1, 1) := dk_27 (dk_at dksX10_ofAlert_0 8 rfl rfl)
theorem dX10_ofAlert_9 : decode cX10_ofAlert 9 = .ok (.imul, 1) := dk_104 (dk_at dksX10_ofAlert_0 9 rfl rfl)
theorem dX10_ofAlert_10 : decode cX10_ofAlert 10 = .ok (.iadd, 1) := dk_96 (dk_at dksX10_ofAlert_0 10 rfl rfl)
theorem dX10_ofAlert_11 : decode cX10_ofAlert 11 = .ok (.iload_n 2, 1) := dk_28 (dk_at dksX10_ofAlert_0 11 rfl rfl)
theorem dX10_ofAlert_12 : decode cX10_ofAlert 12 = .ok (.iadd, 1) := dk_96 (dk_at dksX10_ofAlert_0 12 rfl rfl)
theorem dX10_ofAlert_13 : decode cX10_ofAlert 13 = .ok (.iaload, 1) := dk_46 (dk_at dksX10_ofAlert_0 13 rfl rfl)
theorem dX10_ofAlert_14 : decode cX10_ofAlert 14 = .ok (.ireturn, 1) := dk_172 (dk_at dksX10_ofAlert_0 14 rfl rfl)
abbrev cX10_alertState : ByteArray := prog_22_method_93_code
def yX10_alertState : MethodName := ⟨RX10, "alertState", "(I)I"⟩
def dkwX10_alertState_0 : List UInt8 := [42, 42, 27, 182, 1, 119, 182, 1, 112, 153, 0, 13, 42, 27, 16, 7, 182, 1, 122, 167, 0, 4, 3, 172]
abbrev dktX10_alertState_0 : List UInt8 := dkwX10_alertState_0 ++ []
theorem dksX10_alertState_0 : cX10_alertState.data.toList.drop 0 = dktX10_alertState_0 := by decide +kernel
theorem dX10_alertState_0 : decode cX10_alertState 0 = .ok (.aload_n 0, 1) := dk_42 (dk_at dksX10_alertState_0 0 rfl rfl)
theorem dX10_alertState_1 : decode cX10_alertState 1 = .ok (.aload_n 0, 1) := dk_42 (dk_at dksX10_alertState_0 1 rfl rfl)
theorem dX10_alertState_2 : decode cX10_alertState 2 = .ok (.iload_n 1, 1) := dk_27 (dk_at dksX10_alertState_0 2 rfl rfl)
theorem dX10_alertState_3 : decode cX10_alertState 3 = .ok (.invokevirtual 375, 3) := dk_182 1 119 (dk_at dksX10_alertState_0 3 rfl rfl)
theorem dX10_alertState_6 : decode cX10_alertState 6 = .ok (.invokevirtual 368, 3) := dk_182 1 112 (dk_at dksX10_alertState_0 6 rfl rfl)
theorem dX10_alertState_9 : decode cX10_alertState 9 = .ok (.ifCond .eq 13, 3) := dk_153 0 13 (dk_at dksX10_alertState_0 9 rfl rfl)
theorem dX10_alertState_12 : decode cX10_alertState 12 = .ok (.aload_n 0, 1) := dk_42 (dk_at dksX10_alertState_0 12 rfl rfl)
theorem dX10_alertState_13 : decode cX10_alertState 13 = .ok (.iload_n 1, 1) := dk_27 (dk_at dksX10_alertState_0 13 rfl rfl)
theorem dX10_alertState_14 : decode cX10_alertState 14 = .ok (.bipush 7, 2) := dk_16 7 (dk_at dksX10_alertState_0 14 rfl rfl)
theorem dX10_alertState_16 : decode cX10_alertState 16 = .ok (.invokevirtual 378, 3) := dk_182 1 122 (dk_at dksX10_alertState_0 16 rfl rfl)
theorem dX10_alertState_19 : decode cX10_alertState 19 = .ok (.goto 4, 3) := dk_167 0 4 (dk_at dksX10_alertState_0 19 rfl rfl)
theorem dX10_alertState_22 : decode cX10_alertState 22 = .ok (.iconst 0, 1) := dk_3 (dk_at dksX10_alertState_0 22 rfl rfl)
theorem dX10_alertState_23 : decode cX10_alertState 23 = .ok (.ireturn, 1) := dk_172 (dk_at dksX10_alertState_0 23 rfl rfl)
abbrev cX10_alertDelay : ByteArray := prog_22_method_94_code
def yX10_alertDelay : MethodName := ⟨RX10, "alertDelay", "(I)I"⟩
def dkwX10_alertDelay_1 : List UInt8 := [160, 0, 20, 42, 27, 16, 8, 182, 1, 122, 42, 27, 4, 182, 1, 122, 100, 167, 0, 4, 2, 172]
abbrev dktX10_alertDelay_1 : List UInt8 := dkwX10_alertDelay_1 ++ []
def dkwX10_alertDelay_0 : List UInt8 := [42, 42, 27, 182, 1, 119, 182, 1, 112, 154, 0, 5, 3, 172, 42, 27, 16, 7, 182, 1, 122, 4]
abbrev dktX10_alertDelay_0 : List UInt8 := dkwX10_alertDelay_0 ++ dktX10_alertDelay_1
theorem dksX10_alertDelay_0 : cX10_alertDelay.data.toList.drop 0 = dktX10_alertDelay_0 := by decide +kernel
theorem dksX10_alertDelay_1 : cX10_alertDelay.data.toList.drop 22 = dktX10_alertDelay_1 := dk_seg dksX10_alertDelay_0 22 rfl rfl
theorem dX10_alertDelay_0 : decode cX10_alertDelay 0 = .ok (.aload_n 0, 1) := dk_42 (dk_at dksX10_alertDelay_0 0 rfl rfl)
theorem dX10_alertDelay_1 : decode cX10_alertDelay 1 = .ok (.aload_n 0, 1) := dk_42 (dk_at dksX10_alertDelay_0 1 rfl rfl)
theorem dX10_alertDelay_2 : decode cX10_alertDelay 2 = .ok (.iload_n 1, 1) := dk_27 (dk_at dksX10_alertDelay_0 2 rfl rfl)
theorem dX10_alertDelay_3 : decode cX10_alertDelay 3 = .ok (.invokevirtual 375, 3) := dk_182 1 119 (dk_at dksX10_alertDelay_0 3 rfl rfl)
theorem dX10_alertDelay_6 : decode cX10_alertDelay 6 = .ok (.invokevirtual 368, 3) := dk_182 1 112 (dk_at dksX10_alertDelay_0 6 rfl rfl)
theorem dX10_alertDelay_9 : decode cX10_alertDelay 9 = .ok (.ifCond .ne 5, 3) := dk_154 0 5 (dk_at dksX10_alertDelay_0 9 rfl rfl)
theorem dX10_alertDelay_12 : decode cX10_alertDelay 12 = .ok (.iconst 0, 1) := dk_3 (dk_at dksX10_alertDelay_0 12 rfl rfl)
theorem dX10_alertDelay_13 : decode cX10_alertDelay 13 = .ok (.ireturn, 1) := dk_172 (dk_at dksX10_alertDelay_0 13 rfl rfl)
theorem dX10_alertDelay_14 : decode cX10_alertDelay 14 = .ok (.aload_n 0, 1) := dk_42 (dk_at dksX10_alertDelay_0 14 rfl rfl)
theorem dX10_alertDelay_15 : decode cX10_alertDelay 15 = .ok (.iload_n 1, 1) := dk_27 (dk_at dksX10_alertDelay_0 15 rfl rfl)
theorem dX10_alertDelay_16 : decode cX10_alertDelay 16 = .ok (.bipush 7, 2) := dk_16 7 (dk_at dksX10_alertDelay_0 16 rfl rfl)
theorem dX10_alertDelay_18 : decode cX10_alertDelay 18 = .ok (.invokevirtual 378, 3) := dk_182 1 122 (dk_at dksX10_alertDelay_0 18 rfl rfl)
theorem dX10_alertDelay_21 : decode cX10_alertDelay 21 = .ok (.iconst 1, 1) := dk_4 (dk_at dksX10_alertDelay_0 21 rfl rfl)
theorem dX10_alertDelay_22 : decode cX10_alertDelay 22 = .ok (.if_icmp .ne 20, 3) := dk_160 0 20 (dk_at dksX10_alertDelay_1 0 rfl rfl)
theorem dX10_alertDelay_25 : decode cX10_alertDelay 25 = .ok (.aload_n 0, 1) := dk_42 (dk_at dksX10_alertDelay_1 3 rfl rfl)
theorem dX10_alertDelay_26 : decode cX10_alertDelay 26 = .ok (.iload_n 1, 1) := dk_27 (dk_at dksX10_alertDelay_1 4 rfl rfl)
theorem dX10_alertDelay_27 : decode cX10_alertDelay 27 = .ok (.bipush 8, 2) := dk_16 8 (dk_at dksX10_alertDelay_1 5 rfl rfl)
theorem dX10_alertDelay_29 : decode cX10_alertDelay 29 = .ok (.invokevirtual 378, 3) := dk_182 1 122 (dk_at dksX10_alertDelay_1 7 rfl rfl)
theorem dX10_alertDelay_32 : decode cX10_alertDelay 32 = .ok (.aload_n 0, 1) := dk_42 (dk_at dksX10_alertDelay_1 10 rfl rfl)
theorem dX10_alertDelay_33 : decode cX10_alertDelay 33 = .ok (.iload_n 1, 1) := dk_27 (dk_at dksX10_alertDelay_1 11 rfl rfl)
theorem dX10_alertDelay_34 : decode cX10_alertDelay 34 = .ok (.iconst 1, 1) := dk_4 (dk_at dksX10_alertDelay_1 12 rfl rfl)
theorem dX10_alertDelay_35 : decode cX10_alertDelay 35 = .ok (.invokevirtual 378, 3) := dk_182 1 122 (dk_at dksX10_alertDelay_1 13 rfl rfl)
theorem dX10_alertDelay_38 : decode cX10_alertDelay 38 = .ok (.isub, 1) := dk_100 (dk_at dksX10_alertDelay_1 16 rfl rfl)
theorem dX10_alertDelay_39 : decode cX10_alertDelay 39 = .ok (.goto 4, 3) := dk_167 0 4 (dk_at dksX10_alertDelay_1 17 rfl rfl)
theorem dX10_alertDelay_42 : decode cX10_alertDelay 42 = .ok (.iconst (-1), 1) := dk_2 (dk_at dksX10_alertDelay_1 20 rfl rfl)
theorem dX10_alertDelay_43 : decode cX10_alertDelay 43 = .ok (.ireturn, 1) := dk_172 (dk_at dksX10_alertDelay_1 21 rfl rfl)
abbrev cX10_waiting : ByteArray := prog_22_method_95_code
def yX10_waiting : MethodName := ⟨RX10, "waiting", "()I"⟩
def dkwX10_waiting_2 : List UInt8 := [3, 46, 163, 0, 9, 4, 28, 120, 167, 0, 4, 3, 128, 60, 132, 2, 1, 167, 255, 207, 27, 172]
abbrev dktX10_waiting_2 : List UInt8 := dkwX10_waiting_2 ++ []
def dkwX10_waiting_1 : List UInt8 := [162, 0, 44, 27, 42, 28, 16, 7, 182, 1, 122, 154, 0, 24, 42, 28, 4, 182, 1, 122, 42, 180, 0, 23]
abbrev dktX10_waiting_1 : List UInt8 := dkwX10_waiting_1 ++ dktX10_waiting_2
def dkwX10_waiting_0 : List UInt8 := [42, 4, 182, 1, 112, 154, 0, 5, 3, 172, 3, 60, 3, 61, 28, 42, 180, 0, 23, 16, 14, 46]
abbrev dktX10_waiting_0 : List UInt8 := dkwX10_waiting_0 ++ dktX10_waiting_1
theorem dksX10_waiting_0 : cX10_waiting.data.toList.drop 0 = dktX10_waiting_0 := by decide +kernel
theorem dksX10_waiting_1 : cX10_waiting.data.toList.drop 22 = dktX10_waiting_1 := dk_seg dksX10_waiting_0 22 rfl rfl
theorem dksX10_waiting_2 : cX10_waiting.data.toList.drop 46 = dktX10_waiting_2 := dk_seg dksX10_waiting_1 24 rfl rfl
theorem dX10_waiting_0 : decode cX10_waiting 0 = .ok (.aload_n 0, 1) := dk_42 (dk_at dksX10_waiting_0 0 rfl rfl)
theorem dX10_waiting_1 : decode cX10_waiting 1 = .ok (.iconst 1, 1) := dk_4 (dk_at dksX10_waiting_0 1 rfl rfl)
theorem dX10_waiting_2 : decode cX10_waiting 2 = .ok (.invokevirtual 368, 3) := dk_182 1 112 (dk_at dksX10_waiting_0 2 rfl rfl)
theorem dX10_waiting_5 : decode cX10_waiting 5 = .ok (.ifCond .ne 5, 3) := dk_154 0 5 (dk_at dksX10_waiting_0 5 rfl rfl)
theorem dX10_waiting_8 : decode cX10_waiting 8 = .ok (.iconst 0, 1) := dk_3 (dk_at dksX10_waiting_0 8 rfl rfl)
theorem dX10_waiting_9 : decode cX10_waiting 9 = .ok (.ireturn, 1) := dk_172 (dk_at dksX10_waiting_0 9 rfl rfl)
theorem dX10_waiting_10 : decode cX10_waiting 10 = .ok (.iconst 0, 1) := dk_3 (dk_at dksX10_waiting_0 10 rfl rfl)
theorem dX10_waiting_11 : decode cX10_waiting 11 = .ok (.istore_n 1, 1) := dk_60 (dk_at dksX10_waiting_0 11 rfl rfl)
theorem dX10_waiting_12 : decode cX10_waiting 12 = .ok (.iconst 0, 1) := dk_3 (dk_at dksX10_waiting_0 12 rfl rfl)
theorem dX10_waiting_13 : decode cX10_waiting 13 = .ok (.istore_n 2, 1) := dk_61 (dk_at dksX10_waiting_0 13 rfl rfl)
theorem dX10_waiting_14 : decode cX10_waiting 14 = .ok (.iload_n 2, 1) := dk_28 (dk_at dksX10_waiting_0 14 rfl rfl)
theorem dX10_waiting_15 : decode cX10_waiting 15 = .ok (.aload_n 0, 1) := dk_42 (dk_at dksX10_waiting_0 15 rfl rfl)
theorem dX10_waiting_16 : decode cX10_waiting 16 = .ok (.getfield 23, 3) := dk_180 0 23 (dk_at dksX10_waiting_0 16 rfl rfl)
theorem dX10_waiting_19 : decode cX10_waiting 19 = .ok (.bipush 14, 2) := dk_16 14 (dk_at dksX10_waiting_0 19 rfl rfl)
theorem dX10_waiting_21 : decode cX10_waiting 21 = .ok (.iaload, 1) := dk_46 (dk_at dksX10_waiting_0 21 rfl rfl)
theorem dX10_waiting_22 : decode cX10_waiting 22 = .ok (.if_icmp .ge 44, 3) := dk_162 0 44 (dk_at dksX10_waiting_1 0 rfl rfl)
theorem dX10_waiting_25 : decode cX10_waiting 25 = .ok (.iload_n 1, 1) := dk_27 (dk_at dksX10_waiting_1 3 rfl rfl)
theorem dX10_waiting_26 : decode cX10_waiting 26 = .ok (.aload_n 0, 1) := dk_42 (dk_at dksX10_waiting_1 4 rfl rfl)
theorem dX10_waiting_27 : decode cX10_waiting 27 = .ok (.iload_n 2, 1) := dk_28 (dk_at dksX10_waiting_1 5 rfl rfl)
theorem dX10_waiting_28 : decode cX10_waiting 28 = .ok (.bipush 7, 2) := dk_16 7 (dk_at dksX10_waiting_1 6 rfl rfl)
theorem dX10_waiting_30 : decode cX10_waiting 30 = .ok (.invokevirtual 378, 3) := dk_182 1 122 (dk_at dksX10_waiting_1 8 rfl rfl)
theorem dX10_waiting_33 : decode cX10_waiting 33 = .ok (.ifCond .ne 24, 3) := dk_154 0 24 (dk_at dksX10_waiting_1 11 rfl rfl)
theorem dX10_waiting_36 : decode cX10_waiting 36 = .ok (.aload_n 0, 1) := dk_42 (dk_at dksX10_waiting_1 14 rfl rfl)
theorem dX10_waiting_37 : decode cX10_waiting 37 = .ok (.iload_n 2, 1) := dk_28 (dk_at dksX10_waiting_1 15 rfl rfl)
theorem dX10_waiting_38 : decode cX10_waiting 38 = .ok (.iconst 1, 1) := dk_4 (dk_at dksX10_waiting_1 16 rfl rfl)
theorem dX10_waiting_39 : decode cX10_waiting 39 = .ok (.invokevirtual 378, 3) := dk_182 1 122 (dk_at dksX10_waiting_1 17 rfl rfl)
theorem dX10_waiting_42 : decode cX10_waiting 42 = .ok (.aload_n 0, 1) := dk_42 (dk_at dksX10_waiting_1 20 rfl rfl)
theorem dX10_waiting_43 : decode cX10_waiting 43 = .ok (.getfield 23, 3) := dk_180 0 23 (dk_at dksX10_waiting_1 21 rfl rfl)
theorem dX10_waiting_46 : decode cX10_waiting 46 = .ok (.iconst 0, 1) := dk_3 (dk_at dksX10_waiting_2 0 rfl rfl)
theorem dX10_waiting_47 : decode cX10_waiting 47 = .ok (.iaload, 1) := dk_46 (dk_at dksX10_waiting_2 1 rfl rfl)
theorem dX10_waiting_48 : decode cX10_waiting 48 = .ok (.if_icmp .gt 9, 3) := dk_163 0 9 (dk_at dksX10_waiting_2 2 rfl rfl)
theorem dX10_waiting_51 : decode cX10_waiting 51 = .ok (.iconst 1, 1) := dk_4 (dk_at dksX10_waiting_2 5 rfl rfl)
theorem dX10_waiting_52 : decode cX10_waiting 52 = .ok (.iload_n 2, 1) := dk_28 (dk_at dksX10_waiting_2 6 rfl rfl)
theorem dX10_waiting_53 : decode cX10_waiting 53 = .ok (.ishl, 1) := dk_120 (dk_at dksX10_waiting_2 7 rfl rfl)
theorem dX10_waiting_54 : decode cX10_waiting 54 = .ok (.goto 4, 3) := dk_167 0 4 (dk_at dksX10_waiting_2 8 rfl rfl)
theorem dX10_waiting_57 : decode cX10_waiting 57 = .ok (.iconst 0, 1) := dk_3 (dk_at dksX10_waiting_2 11 rfl rfl)
theorem dX10_waiting_58 : decode cX10_waiting 58 = .ok (.ior, 1) := dk_128 (dk_at dksX10_waiting_2 12 rfl rfl)
theorem dX10_waiting_59 : decode cX10_waiting 59 = .ok (.istore_n 1, 1) := dk_60 (dk_at dksX10_waiting_2 13 rfl rfl)
theorem dX10_waiting_60 : decode cX10_waiting 60 = .ok (.iinc 2 1, 3) := dk_132 2 1 (dk_at dksX10_waiting_2 14 rfl rfl)
theorem dX10_waiting_63 : decode cX10_waiting 63 = .ok (.goto (-49), 3) := dk_167 255 207 (dk_at dksX10_waiting_2 17 rfl rfl)
theorem dX10_waiting_66 : decode cX10_waiting 66 = .ok (.iload_n 1, 1) := dk_27 (dk_at dksX10_waiting_2 20 rfl rfl)
theorem dX10_waiting_67 : decode cX10_waiting 67 = .ok (.ireturn, 1) := dk_172 (dk_at dksX10_waiting_2 21 rfl rfl)
abbrev cX10_now : ByteArray := prog_22_method_96_code
def yX10_now : MethodName := ⟨RX10, "now", "()I"⟩
def dkwX10_now_0 : List UInt8 := [42, 4, 182, 1, 112, 153, 0, 12, 42, 180, 0, 23, 3, 46, 167, 0, 4, 3, 172]
abbrev dktX10_now_0 : List UInt8 := dkwX10_now_0 ++ []
theorem dksX10_now_0 : cX10_now.data.toList.drop 0 = dktX10_now_0 := by decide +kernel
theorem dX10_now_0 : decode cX10_now 0 = .ok (.aload_n 0, 1) := dk_42 (dk_at dksX10_now_0 0 rfl rfl)
theorem dX10_now_1 : decode cX10_now 1 = .ok (.iconst 1, 1) := dk_4 (dk_at dksX10_now_0 1 rfl rfl)
theorem dX10_now_2 : decode cX10_now 2 = .ok (.invokevirtual 368, 3) := dk_182 1 112 (dk_at dksX10_now_0 2 rfl rfl)
theorem dX10_now_5 : decode cX10_now 5 = .ok (.ifCond .eq 12, 3) := dk_153 0 12 (dk_at dksX10_now_0 5 rfl rfl)
theorem dX10_now_8 : decode cX10_now 8 = .ok (.aload_n 0, 1) := dk_42 (dk_at dksX10_now_0 8 rfl rfl)
theorem dX10_now_9 : decode cX10_now 9 = .ok (.getfield 23, 3) := dk_180 0 23 (dk_at dksX10_now_0 9 rfl rfl)
theorem dX10_now_12 : decode cX10_now 12 = .ok (.iconst 0, 1) := dk_3 (dk_at dksX10_now_0 12 rfl rfl)
theorem dX10_now_13 : decode cX10_now 13 = .ok (.iaload, 1) := dk_46 (dk_at dksX10_now_0 13 rfl rfl)
theorem dX10_now_14 : decode cX10_now 14 = .ok (.goto 4, 3) := dk_167 0 4 (dk_at dksX10_now_0 14 rfl rfl)
theorem dX10_now_17 : decode cX10_now 17 = .ok (.iconst 0, 1) := dk_3 (dk_at dksX10_now_0 17 rfl rfl)
theorem dX10_now_18 : decode cX10_now 18 = .ok (.ireturn, 1) := dk_172 (dk_at dksX10_now_0 18 rfl rfl)
abbrev cX10_pointing : ByteArray := prog_22_method_97_code
def yX10_pointing : MethodName := ⟨RX10, "pointing", "(I)I"⟩
def dkwX10_pointing_1 : List UInt8 := [3, 172]
abbrev dktX10_pointing_1 : List UInt8 := dkwX10_pointing_1 ++ []
def dkwX10_pointing_0 : List UInt8 := [42, 27, 3, 4, 184, 0, 74, 182, 1, 112, 153, 0, 14, 42, 180, 0, 23, 4, 27, 96, 46, 167, 0, 4]
abbrev dktX10_pointing_0 : List UInt8 := dkwX10_pointing_0 ++ dktX10_pointing_1
theorem dksX10_pointing_0 : cX10_pointing.data.toList.drop 0 = dktX10_pointing_0 := by decide +kernel
theorem dksX10_pointing_1 : cX10_pointing.data.toList.drop 24 = dktX10_pointing_1 := dk_seg dksX10_pointing_0 24 rfl rfl
theorem dX10_pointing_0 : decode cX10_pointing 0 = .ok (.aload_n 0, 1) := dk_42 (dk_at dksX10_pointing_0 0 rfl rfl)
theorem dX10_pointing_1 : decode cX10_pointing 1 = .ok (.iload_n 1, 1) := dk_27 (dk_at dksX10_pointing_0 1 rfl rfl)
theorem dX10_pointing_2 : decode cX10_pointing 2 = .ok (.iconst 0, 1) := dk_3 (dk_at dksX10_pointing_0 2 rfl rfl)
theorem dX10_pointing_3 : decode cX10_pointing 3 = .ok (.iconst 1, 1) := dk_4 (dk_at dksX10_pointing_0 3 rfl rfl)
theorem dX10_pointing_4 : decode cX10_pointing 4 = .ok (.invokestatic 74, 3) := dk_184 0 74 (dk_at dksX10_pointing_0 4 rfl rfl)
theorem dX10_pointing_7 : decode cX10_pointing 7 = .ok (.invokevirtual 368, 3) := dk_182 1 112 (dk_at dksX10_pointing_0 7 rfl rfl)
theorem dX10_pointing_10 : decode cX10_pointing 10 = .ok (.ifCond .eq 14, 3) := dk_153 0 14 (dk_at dksX10_pointing_0 10 rfl rfl)
theorem dX10_pointing_13 : decode cX10_pointing 13 = .ok (.aload_n 0, 1) := dk_42 (dk_at dksX10_pointing_0 13 rfl rfl)
theorem dX10_pointing_14 : decode cX10_pointing 14 = .ok (.getfield 23, 3) := dk_180 0 23 (dk_at dksX10_pointing_0 14 rfl rfl)
theorem dX10_pointing_17 : decode cX10_pointing 17 = .ok (.iconst 1, 1) := dk_4 (dk_at dksX10_pointing_0 17 rfl rfl)
theorem dX10_pointing_18 : decode cX10_pointing 18 = .ok (.iload_n 1, 1) := dk_27 (dk_at dksX10_pointing_0 18 rfl rfl)
theorem dX10_pointing_19 : decode cX10_pointing 19 = .ok (.iadd, 1) := dk_96 (dk_at dksX10_pointing_0 19 rfl rfl)
theorem dX10_pointing_20 : decode cX10_pointing 20 = .ok (.iaload, 1) := dk_46 (dk_at dksX10_pointing_0 20 rfl rfl)
theorem dX10_pointing_21 : decode cX10_pointing 21 = .ok (.goto 4, 3) := dk_167 0 4 (dk_at dksX10_pointing_0 21 rfl rfl)
theorem dX10_pointing_24 : decode cX10_pointing 24 = .ok (.iconst 0, 1) := dk_3 (dk_at dksX10_pointing_1 0 rfl rfl)
theorem dX10_pointing_25 : decode cX10_pointing 25 = .ok (.ireturn, 1) := dk_172 (dk_at dksX10_pointing_1 1 rfl rfl)
abbrev cX10_momentum : ByteArray := prog_22_method_98_code
def yX10_momentum : MethodName := ⟨RX10, "momentum", "()I"⟩
def dkwX10_momentum_0 : List UInt8 := [42, 4, 182, 1, 112, 153, 0, 12, 42, 180, 0, 23, 6, 46, 167, 0, 4, 3, 172]
abbrev dktX10_momentum_0 : List UInt8 := dkwX10_momentum_0 ++ []
theorem dksX10_momentum_0 : cX10_momentum.data.toList.drop 0 = dktX10_momentum_0 := by decide +kernel
theorem dX10_momentum_0 : decode cX10_momentum 0 = .ok (.aload_n 0, 1) := dk_42 (dk_at dksX10_momentum_0 0 rfl rfl)
theorem dX10_momentum_1 : decode cX10_momentum 1 = .ok (.iconst 1, 1) := dk_4 (dk_at dksX10_momentum_0 1 rfl rfl)
theorem dX10_momentum_2 : decode cX10_momentum 2 = .ok (.invokevirtual 368, 3) := dk_182 1 112 (dk_at dksX10_momentum_0 2 rfl rfl)
theorem dX10_momentum_5 : decode cX10_momentum 5 = .ok (.ifCond .eq 12, 3) := dk_153 0 12 (dk_at dksX10_momentum_0 5 rfl rfl)
theorem dX10_momentum_8 : decode cX10_momentum 8 = .ok (.aload_n 0, 1) := dk_42 (dk_at dksX10_momentum_0 8 rfl rfl)
theorem dX10_momentum_9 : decode cX10_momentum 9 = .ok (.getfield 23, 3) := dk_180 0 23 (dk_at dksX10_momentum_0 9 rfl rfl)
theorem dX10_momentum_12 : decode cX10_momentum 12 = .ok (.iconst 3, 1) := dk_6 (dk_at dksX10_momentum_0 12 rfl rfl)
theorem dX10_momentum_13 : decode cX10_momentum 13 = .ok (.iaload, 1) := dk_46 (dk_at dksX10_momentum_0 13 rfl rfl)
theorem dX10_momentum_14 : decode cX10_momentum 14 = .ok (.goto 4, 3) := dk_167 0 4 (dk_at dksX10_momentum_0 14 rfl rfl)
theorem dX10_momentum_17 : decode cX10_momentum 17 = .ok (.iconst 0, 1) := dk_3 (dk_at dksX10_momentum_0 17 rfl rfl)
theorem dX10_momentum_18 : decode cX10_momentum 18 = .ok (.ireturn, 1) := dk_172 (dk_at dksX10_momentum_0 18 rfl rfl)
abbrev cX10_sinceCalibration : ByteArray := prog_22_method_99_code
def yX10_sinceCalibration : MethodName := ⟨RX10, "sinceCalibration", "()I"⟩
def dkwX10_sinceCalibration_1 : List UInt8 := [3, 172]
abbrev dktX10_sinceCalibration_1 : List UInt8 := dkwX10_sinceCalibration_1 ++ []
def dkwX10_sinceCalibration_0 : List UInt8 := [42, 4, 182, 1, 112, 153, 0, 19, 42, 180, 0, 23, 3, 46, 42, 180, 0, 23, 7, 46, 100, 167, 0, 4]
abbrev dktX10_sinceCalibration_0 : List UInt8 := dkwX10_sinceCalibration_0 ++ dktX10_sinceCalibration_1
theorem dksX10_sinceCalibration_0 : cX10_sinceCalibration.data.toList.drop 0 = dktX10_sinceCalibration_0 := by decide +kernel
theorem dksX10_sinceCalibration_1 : cX10_sinceCalibration.data.toList.drop 24 = dktX10_sinceCalibration_1 := dk_seg dksX10_sinceCalibration_0 24 rfl rfl
theorem dX10_sinceCalibration_0 : decode cX10_sinceCalibration 0 = .ok (.aload_n 0, 1) := dk_42 (dk_at dksX10_sinceCalibration_0 0 rfl rfl)
theorem dX10_sinceCalibration_1 : decode cX10_sinceCalibration 1 = .ok (.iconst 1, 1) := dk_4 (dk_at dksX10_sinceCalibration_0 1 rfl rfl)
theorem dX10_sinceCalibration_2 : decode cX10_sinceCalibration 2 = .ok (.invokevirtual 368, 3) := dk_182 1 112 (dk_at dksX10_sinceCalibration_0 2 rfl rfl)
theorem dX10_sinceCalibration_5 : decode cX10_sinceCalibration 5 = .ok (.ifCond .eq 19, 3) := dk_153 0 19 (dk_at dksX10_sinceCalibration_0 5 rfl rfl)
theorem dX10_sinceCalibration_8 : decode cX10_sinceCalibration 8 = .ok (.aload_n 0, 1) := dk_42 (dk_at dksX10_sinceCalibration_0 8 rfl rfl)
theorem dX10_sinceCalibration_9 : decode cX10_sinceCalibration 9 = .ok (.getfield 23, 3) := dk_180 0 23 (dk_at dksX10_sinceCalibration_0 9 rfl rfl)
theorem dX10_sinceCalibration_12 : decode cX10_sinceCalibration 12 = .ok (.iconst 0, 1) := dk_3 (dk_at dksX10_sinceCalibration_0 12 rfl rfl)
theorem dX10_sinceCalibration_13 : decode cX10_sinceCalibration 13 = .ok (.iaload, 1) := dk_46 (dk_at dksX10_sinceCalibration_0 13 rfl rfl)
theorem dX10_sinceCalibration_14 : decode cX10_sinceCalibration 14 = .ok (.aload_n 0, 1) := dk_42 (dk_at dksX10_sinceCalibration_0 14 rfl rfl)
theorem dX10_sinceCalibration_15 : decode cX10_sinceCalibration 15 = .ok (.getfield 23, 3) := dk_180 0 23 (dk_at dksX10_sinceCalibration_0 15 rfl rfl)
theorem dX10_sinceCalibration_18 : decode cX10_sinceCalibration 18 = .ok (.iconst 4, 1) := dk_7 (dk_at dksX10_sinceCalibration_0 18 rfl rfl)
theorem dX10_sinceCalibration_19 : decode cX10_sinceCalibration 19 = .ok (.iaload, 1) := dk_46 (dk_at dksX10_sinceCalibration_0 19 rfl rfl)
theorem dX10_sinceCalibration_20 : decode cX10_sinceCalibration 20 = .ok (.isub, 1) := dk_100 (dk_at dksX10_sinceCalibration_0 20 rfl rfl)
theorem dX10_sinceCalibration_21 : decode cX10_sinceCalibration 21 = .ok (.goto 4, 3) := dk_167 0 4 (dk_at dksX10_sinceCalibration_0 21 rfl rfl)
theorem dX10_sinceCalibration_24 : decode cX10_sinceCalibration 24 = .ok (.iconst 0, 1) := dk_3 (dk_at dksX10_sinceCalibration_1 0 rfl rfl)
theorem dX10_sinceCalibration_25 : decode cX10_sinceCalibration 25 = .ok (.ireturn, 1) := dk_172 (dk_at dksX10_sinceCalibration_1 1 rfl rfl)
abbrev cX10_setting : ByteArray := prog_22_method_100_code
def yX10_setting : MethodName := ⟨RX10, "setting", "(I)I"⟩
def dkwX10_setting_2 : List UInt8 := [42, 180, 0, 17, 27, 46, 172]
abbrev dktX10_setting_2 : List UInt8 := dkwX10_setting_2 ++ []
def dkwX10_setting_1 : List UInt8 := [180, 0, 23, 16, 15, 46, 167, 0, 24, 27, 16, 10, 160, 0, 12, 42, 180, 0, 23, 8, 46, 167, 0, 9]
abbrev dktX10_setting_1 : List UInt8 := dkwX10_setting_1 ++ dktX10_setting_2
def dkwX10_setting_0 : List UInt8 := [42, 27, 3, 16, 10, 184, 0, 74, 182, 1, 112, 154, 0, 5, 3, 172, 27, 8, 160, 0, 13, 42]
abbrev dktX10_setting_0 : List UInt8 := dkwX10_setting_0 ++ dktX10_setting_1
theorem dksX10_setting_0 : cX10_setting.data.toList.drop 0 = dktX10_setting_0 := by decide +kernel
theorem dksX10_setting_1 : cX10_setting.data.toList.drop 22 = dktX10_setting_1 := dk_seg dksX10_setting_0 22 rfl rfl
theorem dksX10_setting_2 : cX10_setting.data.toList.drop 46 = dktX10_setting_2 := dk_seg dksX10_setting_1 24 rfl rfl
theorem dX10_setting_0 : decode cX10_setting 0 = .ok (.aload_n 0, 1) := dk_42 (dk_at dksX10_setting_0 0 rfl rfl)
theorem dX10_setting_1 : decode cX10_setting 1 = .ok (.iload_n 1, 1) := dk_27 (dk_at dksX10_setting_0 1 rfl rfl)
theorem dX10_setting_2 : decode cX10_setting 2 = .ok (.iconst 0, 1) := dk_3 (dk_at dksX10_setting_0 2 rfl rfl)
theorem dX10_setting_3 : decode cX10_setting 3 = .ok (.bipush 10, 2) := dk_16 10 (dk_at dksX10_setting_0 3 rfl rfl)
theorem dX10_setting_5 : decode cX10_setting 5 = .ok (.invokestatic 74, 3) := dk_184 0 74 (dk_at dksX10_setting_0 5 rfl rfl)
theorem dX10_setting_8 : decode cX10_setting 8 = .ok (.invokevirtual 368, 3) := dk_182 1 112 (dk_at dksX10_setting_0 8 rfl rfl)
theorem dX10_setting_11 : decode cX10_setting 11 = .ok (.ifCond .ne 5, 3) := dk_154 0 5 (dk_at dksX10_setting_0 11 rfl rfl)
theorem dX10_setting_14 : decode cX10_setting 14 = .ok (.iconst 0, 1) := dk_3 (dk_at dksX10_setting_0 14 rfl rfl)
theorem dX10_setting_15 : decode cX10_setting 15 = .ok (.ireturn, 1) := dk_172 (dk_at dksX10_setting_0 15 rfl rfl)
theorem dX10_setting_16 : decode cX10_setting 16 = .ok (.iload_n 1, 1) := dk_27 (dk_at dksX10_setting_0 16 rfl rfl)
theorem dX10_setting_17 : decode cX10_setting 17 = .ok (.iconst 5, 1) := dk_8 (dk_at dksX10_setting_0 17 rfl rfl)
theorem dX10_setting_18 : decode cX10_setting 18 = .ok (.if_icmp .ne 13, 3) := dk_160 0 13 (dk_at dksX10_setting_0 18 rfl rfl)
theorem dX10_setting_21 : decode cX10_setting 21 = .ok (.aload_n 0, 1) := dk_42 (dk_at dksX10_setting_0 21 rfl rfl)
theorem dX10_setting_22 : decode cX10_setting 22 = .ok (.getfield 23, 3) := dk_180 0 23 (dk_at dksX10_setting_1 0 rfl rfl)
theorem dX10_setting_25 : decode cX10_setting 25 = .ok (.bipush 15, 2) := dk_16 15 (dk_at dksX10_setting_1 3 rfl rfl)
theorem dX10_setting_27 : decode cX10_setting 27 = .ok (.iaload, 1) := dk_46 (dk_at dksX10_setting_1 5 rfl rfl)
theorem dX10_setting_28 : decode cX10_setting 28 = .ok (.goto 24, 3) := dk_167 0 24 (dk_at dksX10_setting_1 6 rfl rfl)
theorem dX10_setting_31 : decode cX10_setting 31 = .ok (.iload_n 1, 1) := dk_27 (dk_at dksX10_setting_1 9 rfl rfl)
theorem dX10_setting_32 : decode cX10_setting 32 = .ok (.bipush 10, 2) := dk_16 10 (dk_at dksX10_setting_1 10 rfl rfl)
theorem dX10_setting_34 : decode cX10_setting 34 = .ok (.if_icmp .ne 12, 3) := dk_160 0 12 (dk_at dksX10_setting_1 12 rfl rfl)
theorem dX10_setting_37 : decode cX10_setting 37 = .ok (.aload_n 0, 1) := dk_42 (dk_at dksX10_setting_1 15 rfl rfl)
theorem dX10_setting_38 : decode cX10_setting 38 = .ok (.getfield 23, 3) := dk_180 0 23 (dk_at dksX10_setting_1 16 rfl rfl)
theorem dX10_setting_41 : decode cX10_setting 41 = .ok (.iconst 5, 1) := dk_8 (dk_at dksX10_setting_1 19 rfl rfl)
theorem dX10_setting_42 : decode cX10_setting 42 = .ok (.iaload, 1) := dk_46 (dk_at dksX10_setting_1 20 rfl rfl)
theorem dX10_setting_43 : decode cX10_setting 43 = .ok (.goto 9, 3) := dk_167 0 9 (dk_at dksX10_setting_1 21 rfl rfl)
theorem dX10_setting_46 : decode cX10_setting 46 = .ok (.aload_n 0, 1) := dk_42 (dk_at dksX10_setting_2 0 rfl rfl)
theorem dX10_setting_47 : decode cX10_setting 47 = .ok (.getfield 17, 3) := dk_180 0 17 (dk_at dksX10_setting_2 1 rfl rfl)
theorem dX10_setting_50 : decode cX10_setting 50 = .ok (.iload_n 1, 1) := dk_27 (dk_at dksX10_setting_2 4 rfl rfl)
theorem dX10_setting_51 : decode cX10_setting 51 = .ok (.iaload, 1) := dk_46 (dk_at dksX10_setting_2 5 rfl rfl)
theorem dX10_setting_52 : decode cX10_setting 52 = .ok (.ireturn, 1) := dk_172 (dk_at dksX10_setting_2 6 rfl rfl)
abbrev cX10_sun : ByteArray := prog_22_method_101_code
def yX10_sun : MethodName := ⟨RX10, "sun", "(I)I"⟩
def dkwX10_sun_1 : List UInt8 := [3, 172]
abbrev dktX10_sun_1 : List UInt8 := dkwX10_sun_1 ++ []
def dkwX10_sun_0 : List UInt8 := [42, 27, 155, 0, 7, 4, 167, 0, 4, 3, 182, 1, 112, 153, 0, 11, 42, 27, 182, 0, 220, 167, 0, 4]
abbrev dktX10_sun_0 : List UInt8 := dkwX10_sun_0 ++ dktX10_sun_1
theorem dksX10_sun_0 : cX10_sun.data.toList.drop 0 = dktX10_sun_0 := by decide +kernel
theorem dksX10_sun_1 : cX10_sun.data.toList.drop 24 = dktX10_sun_1 := dk_seg dksX10_sun_0 24 rfl rfl
theorem dX10_sun_0 : decode cX10_sun 0 = .ok (.aload_n 0, 1) := dk_42 (dk_at dksX10_sun_0 0 rfl rfl)
theorem dX10_sun_1 : decode cX10_sun 1 = .ok (.iload_n 1, 1) := dk_27 (dk_at dksX10_sun_0 1 rfl rfl)
theorem dX10_sun_2 : decode cX10_sun 2 = .ok (.ifCond .lt 7, 3) := dk_155 0 7 (dk_at dksX10_sun_0 2 rfl rfl)
theorem dX10_sun_5 : decode cX10_sun 5 = .ok (.iconst 1, 1) := dk_4 (dk_at dksX10_sun_0 5 rfl rfl)
theorem dX10_sun_6 : decode cX10_sun 6 = .ok (.goto 4, 3) := dk_167 0 4 (dk_at dksX10_sun_0 6 rfl rfl)
theorem dX10_sun_9 : decode cX10_sun 9 = .ok (.iconst 0, 1) := dk_3 (dk_at dksX10_sun_0 9 rfl rfl)
theorem dX10_sun_10 : decode cX10_sun 10 = .ok (.invokevirtual 368, 3) := dk_182 1 112 (dk_at dksX10_sun_0 10 rfl rfl)
theorem dX10_sun_13 : decode cX10_sun 13 = .ok (.ifCond .eq 11, 3) := dk_153 0 11 (dk_at dksX10_sun_0 13 rfl rfl)
theorem dX10_sun_16 : decode cX10_sun 16 = .ok (.aload_n 0, 1) := dk_42 (dk_at dksX10_sun_0 16 rfl rfl)
theorem dX10_sun_17 : decode cX10_sun 17 = .ok (.iload_n 1, 1) := dk_27 (dk_at dksX10_sun_0 17 rfl rfl)
theorem dX10_sun_18 : decode cX10_sun 18 = .ok (.invokevirtual 220, 3) := dk_182 0 220 (dk_at dksX10_sun_0 18 rfl rfl)
theorem dX10_sun_21 : decode cX10_sun 21 = .ok (.goto 4, 3) := dk_167 0 4 (dk_at dksX10_sun_0 21 rfl rfl)
theorem dX10_sun_24 : decode cX10_sun 24 = .ok (.iconst 0, 1) := dk_3 (dk_at dksX10_sun_1 0 rfl rfl)
theorem dX10_sun_25 : decode cX10_sun 25 = .ok (.ireturn, 1) := dk_172 (dk_at dksX10_sun_1 1 rfl rfl)
abbrev cX10_sunAt : ByteArray := prog_22_method_37_code
def yX10_sunAt : MethodName := ⟨RX10, "sunAt", "(I)I"⟩
def dkwX10_sunAt_1 : List UInt8 := [172]
abbrev dktX10_sunAt_1 : List UInt8 := dkwX10_sunAt_1 ++ []
def dkwX10_sunAt_0 : List UInt8 := [42, 180, 0, 17, 16, 7, 46, 133, 27, 42, 180, 0, 17, 16, 8, 46, 108, 133, 97, 20, 0, 218, 113, 136]
abbrev dktX10_sunAt_0 : List UInt8 := dkwX10_sunAt_0 ++ dktX10_sunAt_1
theorem dksX10_sunAt_0 : cX10_sunAt.data.toList.drop 0 = dktX10_sunAt_0 := by decide +kernel
theorem dksX10_sunAt_1 : cX10_sunAt.data.toList.drop 24 = dktX10_sunAt_1 := dk_seg dksX10_sunAt_0 24 rfl rfl
theorem dX10_sunAt_0 : decode cX10_sunAt 0 = .ok (.aload_n 0, 1) := dk_42 (dk_at dksX10_sunAt_0 0 rfl rfl)
theorem dX10_sunAt_1 : decode cX10_sunAt 1 = .ok (.getfield 17, 3) := dk_180 0 17 (dk_at dksX10_sunAt_0 1 rfl rfl)
theorem dX10_sunAt_4 : decode cX10_sunAt 4 = .ok (.bipush 7, 2) := dk_16 7 (dk_at dksX10_sunAt_0 4 rfl rfl)
theorem dX10_sunAt_6 : decode cX10_sunAt 6 = .ok (.iaload, 1) := dk_46 (dk_at dksX10_sunAt_0 6 rfl rfl)
theorem dX10_sunAt_7 : decode cX10_sunAt 7 = .ok (.i2l, 1) := dk_133 (dk_at dksX10_sunAt_0 7 rfl rfl)
theorem dX10_sunAt_8 : decode cX10_sunAt 8 = .ok (.iload_n 1, 1) := dk_27 (dk_at dksX10_sunAt_0 8 rfl rfl)
theorem dX10_sunAt_9 : decode cX10_sunAt 9 = .ok (.aload_n 0, 1) := dk_42 (dk_at dksX10_sunAt_0 9 rfl rfl)
theorem dX10_sunAt_10 : decode cX10_sunAt 10 = .ok (.getfield 17, 3) := dk_180 0 17 (dk_at dksX10_sunAt_0 10 rfl rfl)
theorem dX10_sunAt_13 : decode cX10_sunAt 13 = .ok (.bipush 8, 2) := dk_16 8 (dk_at dksX10_sunAt_0 13 rfl rfl)
theorem dX10_sunAt_15 : decode cX10_sunAt 15 = .ok (.iaload, 1) := dk_46 (dk_at dksX10_sunAt_0 15 rfl rfl)
theorem dX10_sunAt_16 : decode cX10_sunAt 16 = .ok (.idiv, 1) := dk_108 (dk_at dksX10_sunAt_0 16 rfl rfl)
theorem dX10_sunAt_17 : decode cX10_sunAt 17 = .ok (.i2l, 1) := dk_133 (dk_at dksX10_sunAt_0 17 rfl rfl)
theorem dX10_sunAt_18 : decode cX10_sunAt 18 = .ok (.ladd, 1) := dk_97 (dk_at dksX10_sunAt_0 18 rfl rfl)
theorem dX10_sunAt_19 : decode cX10_sunAt 19 = .ok (.ldc2_w 218, 3) := dk_20 0 218 (dk_at dksX10_sunAt_0 19 rfl rfl)
theorem dX10_sunAt_22 : decode cX10_sunAt 22 = .ok (.lrem, 1) := dk_113 (dk_at dksX10_sunAt_0 22 rfl rfl)
theorem dX10_sunAt_23 : decode cX10_sunAt 23 = .ok (.l2i, 1) := dk_136 (dk_at dksX10_sunAt_0 23 rfl rfl)
theorem dX10_sunAt_24 : decode cX10_sunAt 24 = .ok (.ireturn, 1) := dk_172 (dk_at dksX10_sunAt_1 0 rfl rfl)
abbrev cX10_angleTo : ByteArray := prog_22_method_104_code
def yX10_angleTo : MethodName := ⟨RX10, "angleTo", "(II)I"⟩
def dkwX10_angleTo_1 : List UInt8 := [153, 0, 15, 42, 180, 0, 23, 27, 28, 184, 0, 208, 167, 0, 4, 3, 172]
abbrev dktX10_angleTo_1 : List UInt8 := dkwX10_angleTo_1 ++ []
def dkwX10_angleTo_0 : List UInt8 := [42, 27, 184, 1, 125, 153, 0, 14, 28, 184, 1, 128, 153, 0, 7, 4, 167, 0, 4, 3, 182, 1, 112]
abbrev dktX10_angleTo_0 : List UInt8 := dkwX10_angleTo_0 ++ dktX10_angleTo_1
theorem dksX10_angleTo_0 : cX10_angleTo.data.toList.drop 0 = dktX10_angleTo_0 := by decide +kernel
theorem dksX10_angleTo_1 : cX10_angleTo.data.toList.drop 23 = dktX10_angleTo_1 := dk_seg dksX10_angleTo_0 23 rfl rfl
theorem dX10_angleTo_0 : decode cX10_angleTo 0 = .ok (.aload_n 0, 1) := dk_42 (dk_at dksX10_angleTo_0 0 rfl rfl)
theorem dX10_angleTo_1 : decode cX10_angleTo 1 = .ok (.iload_n 1, 1) := dk_27 (dk_at dksX10_angleTo_0 1 rfl rfl)
theorem dX10_angleTo_2 : decode cX10_angleTo 2 = .ok (.invokestatic 381, 3) := dk_184 1 125 (dk_at dksX10_angleTo_0 2 rfl rfl)
theorem dX10_angleTo_5 : decode cX10_angleTo 5 = .ok (.ifCond .eq 14, 3) := dk_153 0 14 (dk_at dksX10_angleTo_0 5 rfl rfl)
theorem dX10_angleTo_8 : decode cX10_angleTo 8 = .ok (.iload_n 2, 1) := dk_28 (dk_at dksX10_angleTo_0 8 rfl rfl)
theorem dX10_angleTo_9 : decode cX10_angleTo 9 = .ok (.invokestatic 384, 3) := dk_184 1 128 (dk_at dksX10_angleTo_0 9 rfl rfl)
theorem dX10_angleTo_12 : decode cX10_angleTo 12 = .ok (.ifCond .eq 7, 3) := dk_153 0 7 (dk_at dksX10_angleTo_0 12 rfl rfl)
theorem dX10_angleTo_15 : decode cX10_angleTo 15 = .ok (.iconst 1, 1) := dk_4 (dk_at dksX10_angleTo_0 15 rfl rfl)
theorem dX10_angleTo_16 : decode cX10_angleTo 16 = .ok (.goto 4, 3) := dk_167 0 4 (dk_at dksX10_angleTo_0 16 rfl rfl)
theorem dX10_angleTo_19 : decode cX10_angleTo 19 = .ok (.iconst 0, 1) := dk_3 (dk_at dksX10_angleTo_0 19 rfl rfl)
theorem dX10_angleTo_20 : decode cX10_angleTo 20 = .ok (.invokevirtual 368, 3) := dk_182 1 112 (dk_at dksX10_angleTo_0 20 rfl rfl)
theorem dX10_angleTo_23 : decode cX10_angleTo 23 = .ok (.ifCond .eq 15, 3) := dk_153 0 15 (dk_at dksX10_angleTo_1 0 rfl rfl)
theorem dX10_angleTo_26 : decode cX10_angleTo 26 = .ok (.aload_n 0, 1) := dk_42 (dk_at dksX10_angleTo_1 3 rfl rfl)
theorem dX10_angleTo_27 : decode cX10_angleTo 27 = .ok (.getfield 23, 3) := dk_180 0 23 (dk_at dksX10_angleTo_1 4 rfl rfl)
theorem dX10_angleTo_30 : decode cX10_angleTo 30 = .ok (.iload_n 1, 1) := dk_27 (dk_at dksX10_angleTo_1 7 rfl rfl)
theorem dX10_angleTo_31 : decode cX10_angleTo 31 = .ok (.iload_n 2, 1) := dk_28 (dk_at dksX10_angleTo_1 8 rfl rfl)
theorem dX10_angleTo_32 : decode cX10_angleTo 32 = .ok (.invokestatic 208, 3) := dk_184 0 208 (dk_at dksX10_angleTo_1 9 rfl rfl)
theorem dX10_angleTo_35 : decode cX10_angleTo 35 = .ok (.goto 4, 3) := dk_167 0 4 (dk_at dksX10_angleTo_1 12 rfl rfl)
theorem dX10_angleTo_38 : decode cX10_angleTo 38 = .ok (.iconst 0, 1) := dk_3 (dk_at dksX10_angleTo_1 15 rfl rfl)
theorem dX10_angleTo_39 : decode cX10_angleTo 39 = .ok (.ireturn, 1) := dk_172 (dk_at dksX10_angleTo_1 16 rfl rfl)
abbrev cX10_isLon : ByteArray := prog_22_method_102_code
def yX10_isLon : MethodName := ⟨RX10, "isLon", "(I)Z"⟩
def dkwX10_isLon_0 : List UInt8 := [26, 3, 17, 1, 103, 184, 0, 74, 172]
abbrev dktX10_isLon_0 : List UInt8 := dkwX10_isLon_0 ++ []
theorem dksX10_isLon_0 : cX10_isLon.data.toList.drop 0 = dktX10_isLon_0 := by decide +kernel
theorem dX10_isLon_0 : decode cX10_isLon 0 = .ok (.iload_n 0, 1) := dk_26 (dk_at dksX10_isLon_0 0 rfl rfl)
theorem dX10_isLon_1 : decode cX10_isLon 1 = .ok (.iconst 0, 1) := dk_3 (dk_at dksX10_isLon_0 1 rfl rfl)
theorem dX10_isLon_2 : decode cX10_isLon 2 = .ok (.sipush 359, 3) := dk_17 1 103 (dk_at dksX10_isLon_0 2 rfl rfl)
theorem dX10_isLon_5 : decode cX10_isLon 5 = .ok (.invokestatic 74, 3) := dk_184 0 74 (dk_at dksX10_isLon_0 5 rfl rfl)
theorem dX10_isLon_8 : decode cX10_isLon 8 = .ok (.ireturn, 1) := dk_172 (dk_at dksX10_isLon_0 8 rfl rfl)
abbrev cX10_isLat : ByteArray := prog_22_method_103_code
def yX10_isLat : MethodName := ⟨RX10, "isLat", "(I)Z"⟩
def dkwX10_isLat_0 : List UInt8 := [26, 16, 166, 16, 90, 184, 0, 74, 172]
abbrev dktX10_isLat_0 : List UInt8 := dkwX10_isLat_0 ++ []
theorem dksX10_isLat_0 : cX10_isLat.data.toList.drop 0 = dktX10_isLat_0 := by decide +kernel
theorem dX10_isLat_0 : decode cX10_isLat 0 = .ok (.iload_n 0, 1) := dk_26 (dk_at dksX10_isLat_0 0 rfl rfl)
theorem dX10_isLat_1 : decode cX10_isLat 1 = .ok (.bipush (-90), 2) := dk_16 166 (dk_at dksX10_isLat_0 1 rfl rfl)
theorem dX10_isLat_3 : decode cX10_isLat 3 = .ok (.bipush 90, 2) := dk_16 90 (dk_at dksX10_isLat_0 3 rfl rfl)
theorem dX10_isLat_5 : decode cX10_isLat 5 = .ok (.invokestatic 74, 3) := dk_184 0 74 (dk_at dksX10_isLat_0 5 rfl rfl)
theorem dX10_isLat_8 : decode cX10_isLat 8 = .ok (.ireturn, 1) := dk_172 (dk_at dksX10_isLat_0 8 rfl rfl)
abbrev cX10_angle : ByteArray := prog_22_method_36_code
def yX10_angle : MethodName := ⟨RX10, "angle", "([III)I"⟩
def dkwX10_angle_0 : List UInt8 := [42, 4, 46, 27, 184, 0, 212, 42, 5, 46, 28, 100, 184, 0, 200, 184, 0, 215, 172]
abbrev dktX10_angle_0 : List UInt8 := dkwX10_angle_0 ++ []
theorem dksX10_angle_0 : cX10_angle.data.toList.drop 0 = dktX10_angle_0 := by decide +kernel
theorem dX10_angle_0 : decode cX10_angle 0 = .ok (.aload_n 0, 1) := dk_42 (dk_at dksX10_angle_0 0 rfl rfl)
theorem dX10_angle_1 : decode cX10_angle 1 = .ok (.iconst 1, 1) := dk_4 (dk_at dksX10_angle_0 1 rfl rfl)
theorem dX10_angle_2 : decode cX10_angle 2 = .ok (.iaload, 1) := dk_46 (dk_at dksX10_angle_0 2 rfl rfl)
theorem dX10_angle_3 : decode cX10_angle 3 = .ok (.iload_n 1, 1) := dk_27 (dk_at dksX10_angle_0 3 rfl rfl)
theorem dX10_angle_4 : decode cX10_angle 4 = .ok (.invokestatic 212, 3) := dk_184 0 212 (dk_at dksX10_angle_0 4 rfl rfl)
theorem dX10_angle_7 : decode cX10_angle 7 = .ok (.aload_n 0, 1) := dk_42 (dk_at dksX10_angle_0 7 rfl rfl)
theorem dX10_angle_8 : decode cX10_angle 8 = .ok (.iconst 2, 1) := dk_5 (dk_at dksX10_angle_0 8 rfl rfl)
theorem dX10_angle_9 : decode cX10_angle 9 = .ok (.iaload, 1) := dk_46 (dk_at dksX10_angle_0 9 rfl rfl)
theorem dX10_angle_10 : decode cX10_angle 10 = .ok (.iload_n 2, 1) := dk_28 (dk_at dksX10_angle_0 10 rfl rfl)
theorem dX10_angle_11 : decode cX10_angle 11 = .ok (.isub, 1) := dk_100 (dk_at dksX10_angle_0 11 rfl rfl)
theorem dX10_angle_12 : decode cX10_angle 12 = .ok (.invokestatic 200, 3) := dk_184 0 200 (dk_at dksX10_angle_0 12 rfl rfl)
theorem dX10_angle_15 : decode cX10_angle 15 = .ok (.invokestatic 215, 3) := dk_184 0 215 (dk_at dksX10_angle_0 15 rfl rfl)
theorem dX10_angle_18 : decode cX10_angle 18 = .ok (.ireturn, 1) := dk_172 (dk_at dksX10_angle_0 18 rfl rfl)
abbrev cX10_apart : ByteArray := prog_22_method_34_code
def yX10_apart : MethodName := ⟨RX10, "apart", "(II)I"⟩
def dkwX10_apart_0 : List UInt8 := [26, 27, 100, 184, 0, 200, 61, 28, 17, 1, 104, 28, 100, 184, 0, 205, 172]
abbrev dktX10_apart_0 : List UInt8 := dkwX10_apart_0 ++ []
theorem dksX10_apart_0 : cX10_apart.data.toList.drop 0 = dktX10_apart_0 := by decide +kernel
theorem dX10_apart_0 : decode cX10_apart 0 = .ok (.iload_n 0, 1) := dk_26 (dk_at dksX10_apart_0 0 rfl rfl)
theorem dX10_apart_1 : decode cX10_apart 1 = .ok (.iload_n 1, 1) := dk_27 (dk_at dksX10_apart_0 1 rfl rfl)
theorem dX10_apart_2 : decode cX10_apart 2 = .ok (.isub, 1) := dk_100 (dk_at dksX10_apart_0 2 rfl rfl)
theorem dX10_apart_3 : decode cX10_apart 3 = .ok (.invokestatic 200, 3) := dk_184 0 200 (dk_at dksX10_apart_0 3 rfl rfl)
theorem dX10_apart_6 : decode cX10_apart 6 = .ok (.istore_n 2, 1) := dk_61 (dk_at dksX10_apart_0 6 rfl rfl)
theorem dX10_apart_7 : decode cX10_apart 7 = .ok (.iload_n 2, 1) := dk_28 (dk_at dksX10_apart_0 7 rfl rfl)
theorem dX10_apart_8 : decode cX10_apart 8 = .ok (.sipush 360, 3) := dk_17 1 104 (dk_at dksX10_apart_0 8 rfl rfl)
theorem dX10_apart_11 : decode cX10_apart 11 = .ok (.iload_n 2, 1) := dk_28 (dk_at dksX10_apart_0 11 rfl rfl)
theorem dX10_apart_12 : decode cX10_apart 12 = .ok (.isub, 1) := dk_100 (dk_at dksX10_apart_0 12 rfl rfl)
theorem dX10_apart_13 : decode cX10_apart 13 = .ok (.invokestatic 205, 3) := dk_184 0 205 (dk_at dksX10_apart_0 13 rfl rfl)
theorem dX10_apart_16 : decode cX10_apart 16 = .ok (.ireturn, 1) := dk_172 (dk_at dksX10_apart_0 16 rfl rfl)
abbrev cX10_slewTo : ByteArray := prog_22_method_105_code
def yX10_slewTo : MethodName := ⟨RX10, "slewTo", "(II)I"⟩
def dkwX10_slewTo_1 : List UInt8 := [153, 0, 16, 42, 42, 180, 0, 23, 27, 28, 182, 0, 247, 167, 0, 4, 3, 172]
abbrev dktX10_slewTo_1 : List UInt8 := dkwX10_slewTo_1 ++ []
def dkwX10_slewTo_0 : List UInt8 := [42, 27, 184, 1, 125, 153, 0, 14, 28, 184, 1, 128, 153, 0, 7, 4, 167, 0, 4, 3, 182, 1, 112]
abbrev dktX10_slewTo_0 : List UInt8 := dkwX10_slewTo_0 ++ dktX10_slewTo_1
theorem dksX10_slewTo_0 : cX10_slewTo.data.toList.drop 0 = dktX10_slewTo_0 := by decide +kernel
theorem dksX10_slewTo_1 : cX10_slewTo.data.toList.drop 23 = dktX10_slewTo_1 := dk_seg dksX10_slewTo_0 23 rfl rfl
theorem dX10_slewTo_0 : decode cX10_slewTo 0 = .ok (.aload_n 0, 1) := dk_42 (dk_at dksX10_slewTo_0 0 rfl rfl)
theorem dX10_slewTo_1 : decode cX10_slewTo 1 = .ok (.iload_n 1, 1) := dk_27 (dk_at dksX10_slewTo_0 1 rfl rfl)
theorem dX10_slewTo_2 : decode cX10_slewTo 2 = .ok (.invokestatic 381, 3) := dk_184 1 125 (dk_at dksX10_slewTo_0 2 rfl rfl)
theorem dX10_slewTo_5 : decode cX10_slewTo 5 = .ok (.ifCond .eq 14, 3) := dk_153 0 14 (dk_at dksX10_slewTo_0 5 rfl rfl)
theorem dX10_slewTo_8 : decode cX10_slewTo 8 = .ok (.iload_n 2, 1) := dk_28 (dk_at dksX10_slewTo_0 8 rfl rfl)
theorem dX10_slewTo_9 : decode cX10_slewTo 9 = .ok (.invokestatic 384, 3) := dk_184 1 128 (dk_at dksX10_slewTo_0 9 rfl rfl)
theorem dX10_slewTo_12 : decode cX10_slewTo 12 = .ok (.ifCond .eq 7, 3) := dk_153 0 7 (dk_at dksX10_slewTo_0 12 rfl rfl)
theorem dX10_slewTo_15 : decode cX10_slewTo 15 = .ok (.iconst 1, 1) := dk_4 (dk_at dksX10_slewTo_0 15 rfl rfl)
theorem dX10_slewTo_16 : decode cX10_slewTo 16 = .ok (.goto 4, 3) := dk_167 0 4 (dk_at dksX10_slewTo_0 16 rfl rfl)
theorem dX10_slewTo_19 : decode cX10_slewTo 19 = .ok (.iconst 0, 1) := dk_3 (dk_at dksX10_slewTo_0 19 rfl rfl)
theorem dX10_slewTo_20 : decode cX10_slewTo 20 = .ok (.invokevirtual 368, 3) := dk_182 1 112 (dk_at dksX10_slewTo_0 20 rfl rfl)
theorem dX10_slewTo_23 : decode cX10_slewTo 23 = .ok (.ifCond .eq 16, 3) := dk_153 0 16 (dk_at dksX10_slewTo_1 0 rfl rfl)
theorem dX10_slewTo_26 : decode cX10_slewTo 26 = .ok (.aload_n 0, 1) := dk_42 (dk_at dksX10_slewTo_1 3 rfl rfl)
theorem dX10_slewTo_27 : decode cX10_slewTo 27 = .ok (.aload_n 0, 1) := dk_42 (dk_at dksX10_slewTo_1 4 rfl rfl)
theorem dX10_slewTo_28 : decode cX10_slewTo 28 = .ok (.getfield 23, 3) := dk_180 0 23 (dk_at dksX10_slewTo_1 5 rfl rfl)
theorem dX10_slewTo_31 : decode cX10_slewTo 31 = .ok (.iload_n 1, 1) := dk_27 (dk_at dksX10_slewTo_1 8 rfl rfl)
theorem dX10_slewTo_32 : decode cX10_slewTo 32 = .ok (.iload_n 2, 1) := dk_28 (dk_at dksX10_slewTo_1 9 rfl rfl)
theorem dX10_slewTo_33 : decode cX10_slewTo 33 = .ok (.invokevirtual 247, 3) := dk_182 0 247 (dk_at dksX10_slewTo_1 10 rfl rfl)
theorem dX10_slewTo_36 : decode cX10_slewTo 36 = .ok (.goto 4, 3) := dk_167 0 4 (dk_at dksX10_slewTo_1 13 rfl rfl)
theorem dX10_slewTo_39 : decode cX10_slewTo 39 = .ok (.iconst 0, 1) := dk_3 (dk_at dksX10_slewTo_1 16 rfl rfl)
theorem dX10_slewTo_40 : decode cX10_slewTo 40 = .ok (.ireturn, 1) := dk_172 (dk_at dksX10_slewTo_1 17 rfl rfl)
abbrev cX10_minutes : ByteArray := prog_22_method_35_code
def yX10_minutes : MethodName := ⟨RX10, "minutes", "([III)I"⟩
def dkwX10_minutes_1 : List UInt8 := [21, 4, 42, 180, 0, 17, 5, 46, 96, 4, 100, 42, 180, 0, 17, 5, 46, 108, 96, 172]
abbrev dktX10_minutes_1 : List UInt8 := dkwX10_minutes_1 ++ []
def dkwX10_minutes_0 : List UInt8 := [43, 28, 29, 184, 0, 208, 54, 4, 21, 4, 154, 0, 7, 3, 167, 0, 28, 42, 180, 0, 17, 4, 46]
abbrev dktX10_minutes_0 : List UInt8 := dkwX10_minutes_0 ++ dktX10_minutes_1
theorem dksX10_minutes_0 : cX10_minutes.data.toList.drop 0 = dktX10_minutes_0 := by decide +kernel
theorem dksX10_minutes_1 : cX10_minutes.data.toList.drop 23 = dktX10_minutes_1 := dk_seg dksX10_minutes_0 23 rfl rfl
theorem dX10_minutes_0 : decode cX10_minutes 0 = .ok (.aload_n 1, 1) := dk_43 (dk_at dksX10_minutes_0 0 rfl rfl)
theorem dX10_minutes_1 : decode cX10_minutes 1 = .ok (.iload_n 2, 1) := dk_28 (dk_at dksX10_minutes_0 1 rfl rfl)
theorem dX10_minutes_2 : decode cX10_minutes 2 = .ok (.iload_n 3, 1) := dk_29 (dk_at dksX10_minutes_0 2 rfl rfl)
theorem dX10_minutes_3 : decode cX10_minutes 3 = .ok (.invokestatic 208, 3) := dk_184 0 208 (dk_at dksX10_minutes_0 3 rfl rfl)
theorem dX10_minutes_6 : decode cX10_minutes 6 = .ok (.istore 4, 2) := dk_54 4 (dk_at dksX10_minutes_0 6 rfl rfl)
theorem dX10_minutes_8 : decode cX10_minutes 8 = .ok (.iload 4, 2) := dk_21 4 (dk_at dksX10_minutes_0 8 rfl rfl)
theorem dX10_minutes_10 : decode cX10_minutes 10 = .ok (.ifCond .ne 7, 3) := dk_154 0 7 (dk_at dksX10_minutes_0 10 rfl rfl)
theorem dX10_minutes_13 : decode cX10_minutes 13 = .ok (.iconst 0, 1) := dk_3 (dk_at dksX10_minutes_0 13 rfl rfl)
theorem dX10_minutes_14 : decode cX10_minutes 14 = .ok (.goto 28, 3) := dk_167 0 28 (dk_at dksX10_minutes_0 14 rfl rfl)
theorem dX10_minutes_17 : decode cX10_minutes 17 = .ok (.aload_n 0, 1) := dk_42 (dk_at dksX10_minutes_0 17 rfl rfl)
theorem dX10_minutes_18 : decode cX10_minutes 18 = .ok (.getfield 17, 3) := dk_180 0 17 (dk_at dksX10_minutes_0 18 rfl rfl)
theorem dX10_minutes_21 : decode cX10_minutes 21 = .ok (.iconst 1, 1) := dk_4 (dk_at dksX10_minutes_0 21 rfl rfl)
theorem dX10_minutes_22 : decode cX10_minutes 22 = .ok (.iaload, 1) := dk_46 (dk_at dksX10_minutes_0 22 rfl rfl)
theorem dX10_minutes_23 : decode cX10_minutes 23 = .ok (.iload 4, 2) := dk_21 4 (dk_at dksX10_minutes_1 0 rfl rfl)
theorem dX10_minutes_25 : decode cX10_minutes 25 = .ok (.aload_n 0, 1) := dk_42 (dk_at dksX10_minutes_1 2 rfl rfl)
theorem dX10_minutes_26 : decode cX10_minutes 26 = .ok (.getfield 17, 3) := dk_180 0 17 (dk_at dksX10_minutes_1 3 rfl rfl)
theorem dX10_minutes_29 : decode cX10_minutes 29 = .ok (.iconst 2, 1) := dk_5 (dk_at dksX10_minutes_1 6 rfl rfl)
theorem dX10_minutes_30 : decode cX10_minutes 30 = .ok (.iaload, 1) := dk_46 (dk_at dksX10_minutes_1 7 rfl rfl)
theorem dX10_minutes_31 : decode cX10_minutes 31 = .ok (.iadd, 1) := dk_96 (dk_at dksX10_minutes_1 8 rfl rfl)
theorem dX10_minutes_32 : decode cX10_minutes 32 = .ok (.iconst 1, 1) := dk_4 (dk_at dksX10_minutes_1 9 rfl rfl)
theorem dX10_minutes_33 : decode cX10_minutes 33 = .ok (.isub, 1) := dk_100 (dk_at dksX10_minutes_1 10 rfl rfl)
theorem dX10_minutes_34 : decode cX10_minutes 34 = .ok (.aload_n 0, 1) := dk_42 (dk_at dksX10_minutes_1 11 rfl rfl)
theorem dX10_minutes_35 : decode cX10_minutes 35 = .ok (.getfield 17, 3) := dk_180 0 17 (dk_at dksX10_minutes_1 12 rfl rfl)
theorem dX10_minutes_38 : decode cX10_minutes 38 = .ok (.iconst 2, 1) := dk_5 (dk_at dksX10_minutes_1 15 rfl rfl)
theorem dX10_minutes_39 : decode cX10_minutes 39 = .ok (.iaload, 1) := dk_46 (dk_at dksX10_minutes_1 16 rfl rfl)
theorem dX10_minutes_40 : decode cX10_minutes 40 = .ok (.idiv, 1) := dk_108 (dk_at dksX10_minutes_1 17 rfl rfl)
theorem dX10_minutes_41 : decode cX10_minutes 41 = .ok (.iadd, 1) := dk_96 (dk_at dksX10_minutes_1 18 rfl rfl)
theorem dX10_minutes_42 : decode cX10_minutes 42 = .ok (.ireturn, 1) := dk_172 (dk_at dksX10_minutes_1 19 rfl rfl)
abbrev cX10_isVisible : ByteArray := prog_22_method_106_code
def yX10_isVisible : MethodName := ⟨RX10, "isVisible", "(II)Z"⟩
def dkwX10_isVisible_1 : List UInt8 := [27, 28, 182, 1, 9, 153, 0, 7, 4, 167, 0, 4, 3, 172]
abbrev dktX10_isVisible_1 : List UInt8 := dkwX10_isVisible_1 ++ []
def dkwX10_isVisible_0 : List UInt8 := [42, 27, 184, 1, 125, 153, 0, 11, 28, 155, 0, 7, 4, 167, 0, 4, 3, 182, 1, 112, 153, 0, 16, 42]
abbrev dktX10_isVisible_0 : List UInt8 := dkwX10_isVisible_0 ++ dktX10_isVisible_1
theorem dksX10_isVisible_0 : cX10_isVisible.data.toList.drop 0 = dktX10_isVisible_0 := by decide +kernel
theorem dksX10_isVisible_1 : cX10_isVisible.data.toList.drop 24 = dktX10_isVisible_1 := dk_seg dksX10_isVisible_0 24 rfl rfl
theorem dX10_isVisible_0 : decode cX10_isVisible 0 = .ok (.aload_n 0, 1) := dk_42 (dk_at dksX10_isVisible_0 0 rfl rfl)
theorem dX10_isVisible_1 : decode cX10_isVisible 1 = .ok (.iload_n 1, 1) := dk_27 (dk_at dksX10_isVisible_0 1 rfl rfl)
theorem dX10_isVisible_2 : decode cX10_isVisible 2 = .ok (.invokestatic 381, 3) := dk_184 1 125 (dk_at dksX10_isVisible_0 2 rfl rfl)
theorem dX10_isVisible_5 : decode cX10_isVisible 5 = .ok (.ifCond .eq 11, 3) := dk_153 0 11 (dk_at dksX10_isVisible_0 5 rfl rfl)
theorem dX10_isVisible_8 : decode cX10_isVisible 8 = .ok (.iload_n 2, 1) := dk_28 (dk_at dksX10_isVisible_0 8 rfl rfl)
theorem dX10_isVisible_9 : decode cX10_isVisible 9 = .ok (.ifCond .lt 7, 3) := dk_155 0 7 (dk_at dksX10_isVisible_0 9 rfl rfl)
theorem dX10_isVisible_12 : decode cX10_isVisible 12 = .ok (.iconst 1, 1) := dk_4 (dk_at dksX10_isVisible_0 12 rfl rfl)
theorem dX10_isVisible_13 : decode cX10_isVisible 13 = .ok (.goto 4, 3) := dk_167 0 4 (dk_at dksX10_isVisible_0 13 rfl rfl)
theorem dX10_isVisible_16 : decode cX10_isVisible 16 = .ok (.iconst 0, 1) := dk_3 (dk_at dksX10_isVisible_0 16 rfl rfl)
theorem dX10_isVisible_17 : decode cX10_isVisible 17 = .ok (.invokevirtual 368, 3) := dk_182 1 112 (dk_at dksX10_isVisible_0 17 rfl rfl)
theorem dX10_isVisible_20 : decode cX10_isVisible 20 = .ok (.ifCond .eq 16, 3) := dk_153 0 16 (dk_at dksX10_isVisible_0 20 rfl rfl)
theorem dX10_isVisible_23 : decode cX10_isVisible 23 = .ok (.aload_n 0, 1) := dk_42 (dk_at dksX10_isVisible_0 23 rfl rfl)
theorem dX10_isVisible_24 : decode cX10_isVisible 24 = .ok (.iload_n 1, 1) := dk_27 (dk_at dksX10_isVisible_1 0 rfl rfl)
theorem dX10_isVisible_25 : decode cX10_isVisible 25 = .ok (.iload_n 2, 1) := dk_28 (dk_at dksX10_isVisible_1 1 rfl rfl)
theorem dX10_isVisible_26 : decode cX10_isVisible 26 = .ok (.invokevirtual 265, 3) := dk_182 1 9 (dk_at dksX10_isVisible_1 2 rfl rfl)
theorem dX10_isVisible_29 : decode cX10_isVisible 29 = .ok (.ifCond .eq 7, 3) := dk_153 0 7 (dk_at dksX10_isVisible_1 5 rfl rfl)
theorem dX10_isVisible_32 : decode cX10_isVisible 32 = .ok (.iconst 1, 1) := dk_4 (dk_at dksX10_isVisible_1 8 rfl rfl)
theorem dX10_isVisible_33 : decode cX10_isVisible 33 = .ok (.goto 4, 3) := dk_167 0 4 (dk_at dksX10_isVisible_1 9 rfl rfl)
theorem dX10_isVisible_36 : decode cX10_isVisible 36 = .ok (.iconst 0, 1) := dk_3 (dk_at dksX10_isVisible_1 12 rfl rfl)
theorem dX10_isVisible_37 : decode cX10_isVisible 37 = .ok (.ireturn, 1) := dk_172 (dk_at dksX10_isVisible_1 13 rfl rfl)
abbrev cX10_isSeen : ByteArray := prog_22_method_38_code
def yX10_isSeen : MethodName := ⟨RX10, "isSeen", "(II)Z"⟩
def dkwX10_isSeen_1 : List UInt8 := [172]
abbrev dktX10_isSeen_1 : List UInt8 := dkwX10_isSeen_1 ++ []
def dkwX10_isSeen_0 : List UInt8 := [27, 42, 28, 182, 0, 220, 184, 0, 212, 42, 180, 0, 17, 16, 9, 46, 161, 0, 7, 4, 167, 0, 4, 3]
abbrev dktX10_isSeen_0 : List UInt8 := dkwX10_isSeen_0 ++ dktX10_isSeen_1
theorem dksX10_isSeen_0 : cX10_isSeen.data.toList.drop 0 = dktX10_isSeen_0 := by decide +kernel
theorem dksX10_isSeen_1 : cX10_isSeen.data.toList.drop 24 = dktX10_isSeen_1 := dk_seg dksX10_isSeen_0 24 rfl rfl
theorem dX10_isSeen_0 : decode cX10_isSeen 0 = .ok (.iload_n 1, 1) := dk_27 (dk_at dksX10_isSeen_0 0 rfl rfl)
theorem dX10_isSeen_1 : decode cX10_isSeen 1 = .ok (.aload_n 0, 1) := dk_42 (dk_at dksX10_isSeen_0 1 rfl rfl)
theorem dX10_isSeen_2 : decode cX10_isSeen 2 = .ok (.iload_n 2, 1) := dk_28 (dk_at dksX10_isSeen_0 2 rfl rfl)
theorem dX10_isSeen_3 : decode cX10_isSeen 3 = .ok (.invokevirtual 220, 3) := dk_182 0 220 (dk_at dksX10_isSeen_0 3 rfl rfl)
theorem dX10_isSeen_6 : decode cX10_isSeen 6 = .ok (.invokestatic 212, 3) := dk_184 0 212 (dk_at dksX10_isSeen_0 6 rfl rfl)
theorem dX10_isSeen_9 : decode cX10_isSeen 9 = .ok (.aload_n 0, 1) := dk_42 (dk_at dksX10_isSeen_0 9 rfl rfl)
theorem dX10_isSeen_10 : decode cX10_isSeen 10 = .ok (.getfield 17, 3) := dk_180 0 17 (dk_at dksX10_isSeen_0 10 rfl rfl)
theorem dX10_isSeen_13 : decode cX10_isSeen 13 = .ok (.bipush 9, 2) := dk_16 9 (dk_at dksX10_isSeen_0 13 rfl rfl)
theorem dX10_isSeen_15 : decode cX10_isSeen 15 = .ok (.iaload, 1) := dk_46 (dk_at dksX10_isSeen_0 15 rfl rfl)
theorem dX10_isSeen_16 : decode cX10_isSeen 16 = .ok (.if_icmp .lt 7, 3) := dk_161 0 7 (dk_at dksX10_isSeen_0 16 rfl rfl)
theorem dX10_isSeen_19 : decode cX10_isSeen 19 = .ok (.iconst 1, 1) := dk_4 (dk_at dksX10_isSeen_0 19 rfl rfl)
theorem dX10_isSeen_20 : decode cX10_isSeen 20 = .ok (.goto 4, 3) := dk_167 0 4 (dk_at dksX10_isSeen_0 20 rfl rfl)
theorem dX10_isSeen_23 : decode cX10_isSeen 23 = .ok (.iconst 0, 1) := dk_3 (dk_at dksX10_isSeen_0 23 rfl rfl)
theorem dX10_isSeen_24 : decode cX10_isSeen 24 = .ok (.ireturn, 1) := dk_172 (dk_at dksX10_isSeen_1 0 rfl rfl)
abbrev cX10_nextVisible : ByteArray := prog_22_method_107_code
def yX10_nextVisible : MethodName := ⟨RX10, "nextVisible", "(II)I"⟩
def dkwX10_nextVisible_2 : List UInt8 := [42, 27, 29, 182, 1, 9, 153, 0, 5, 29, 172, 132, 3, 1, 167, 255, 232, 2, 172]
abbrev dktX10_nextVisible_2 : List UInt8 := dkwX10_nextVisible_2 ++ []
def dkwX10_nextVisible_1 : List UInt8 := [167, 0, 4, 3, 182, 1, 112, 154, 0, 5, 3, 172, 28, 62, 29, 42, 180, 0, 17, 3, 46, 163, 0, 20]
abbrev dktX10_nextVisible_1 : List UInt8 := dkwX10_nextVisible_1 ++ dktX10_nextVisible_2
def dkwX10_nextVisible_0 : List UInt8 := [42, 27, 184, 1, 125, 153, 0, 21, 28, 3, 42, 180, 0, 17, 3, 46, 184, 0, 74, 153, 0, 7, 4]
abbrev dktX10_nextVisible_0 : List UInt8 := dkwX10_nextVisible_0 ++ dktX10_nextVisible_1
theorem dksX10_nextVisible_0 : cX10_nextVisible.data.toList.drop 0 = dktX10_nextVisible_0 := by decide +kernel
theorem dksX10_nextVisible_1 : cX10_nextVisible.data.toList.drop 23 = dktX10_nextVisible_1 := dk_seg dksX10_nextVisible_0 23 rfl rfl
theorem dksX10_nextVisible_2 : cX10_nextVisible.data.toList.drop 47 = dktX10_nextVisible_2 := dk_seg dksX10_nextVisible_1 24 rfl rfl
theorem dX10_nextVisible_0 : decode cX10_nextVisible 0 = .ok (.aload_n 0, 1) := dk_42 (dk_at dksX10_nextVisible_0 0 rfl rfl)
theorem dX10_nextVisible_1 : decode cX10_nextVisible 1 = .ok (.iload_n 1, 1) := dk_27 (dk_at dksX10_nextVisible_0 1 rfl rfl)
theorem dX10_nextVisible_2 : decode cX10_nextVisible 2 = .ok (.invokestatic 381, 3) := dk_184 1 125 (dk_at dksX10_nextVisible_0 2 rfl rfl)
theorem dX10_nextVisible_5 : decode cX10_nextVisible 5 = .ok (.ifCond .eq 21, 3) := dk_153 0 21 (dk_at dksX10_nextVisible_0 5 rfl rfl)
theorem dX10_nextVisible_8 : decode cX10_nextVisible 8 = .ok (.iload_n 2, 1) := dk_28 (dk_at dksX10_nextVisible_0 8 rfl rfl)
theorem dX10_nextVisible_9 : decode cX10_nextVisible 9 = .ok (.iconst 0, 1) := dk_3 (dk_at dksX10_nextVisible_0 9 rfl rfl)
theorem dX10_nextVisible_10 : decode cX10_nextVisible 10 = .ok (.aload_n 0, 1) := dk_42 (dk_at dksX10_nextVisible_0 10 rfl rfl)
theorem dX10_nextVisible_11 : decode cX10_nextVisible 11 = .ok (.getfield 17, 3) := dk_180 0 17 (dk_at dksX10_nextVisible_0 11 rfl rfl)
theorem dX10_nextVisible_14 : decode cX10_nextVisible 14 = .ok (.iconst 0, 1) := dk_3 (dk_at dksX10_nextVisible_0 14 rfl rfl)
theorem dX10_nextVisible_15 : decode cX10_nextVisible 15 = .ok (.iaload, 1) := dk_46 (dk_at dksX10_nextVisible_0 15 rfl rfl)
theorem dX10_nextVisible_16 : decode cX10_nextVisible 16 = .ok (.invokestatic 74, 3) := dk_184 0 74 (dk_at dksX10_nextVisible_0 16 rfl rfl)
theorem dX10_nextVisible_19 : decode cX10_nextVisible 19 = .ok (.ifCond .eq 7, 3) := dk_153 0 7 (dk_at dksX10_nextVisible_0 19 rfl rfl)
theorem dX10_nextVisible_22 : decode cX10_nextVisible 22 = .ok (.iconst 1, 1) := dk_4 (dk_at dksX10_nextVisible_0 22 rfl rfl)
theorem dX10_nextVisible_23 : decode cX10_nextVisible 23 = .ok (.goto 4, 3) := dk_167 0 4 (dk_at dksX10_nextVisible_1 0 rfl rfl)
theorem dX10_nextVisible_26 : decode cX10_nextVisible 26 = .ok (.iconst 0, 1) := dk_3 (dk_at dksX10_nextVisible_1 3 rfl rfl)
theorem dX10_nextVisible_27 : decode cX10_nextVisible 27 = .ok (.invokevirtual 368, 3) := dk_182 1 112 (dk_at dksX10_nextVisible_1 4 rfl rfl)
theorem dX10_nextVisible_30 : decode cX10_nextVisible 30 = .ok (.ifCond .ne 5, 3) := dk_154 0 5 (dk_at dksX10_nextVisible_1 7 rfl rfl)
theorem dX10_nextVisible_33 : decode cX10_nextVisible 33 = .ok (.iconst 0, 1) := dk_3 (dk_at dksX10_nextVisible_1 10 rfl rfl)
theorem dX10_nextVisible_34 : decode cX10_nextVisible 34 = .ok (.ireturn, 1) := dk_172 (dk_at dksX10_nextVisible_1 11 rfl rfl)
theorem dX10_nextVisible_35 : decode cX10_nextVisible 35 = .ok (.iload_n 2, 1) := dk_28 (dk_at dksX10_nextVisible_1 12 rfl rfl)
theorem dX10_nextVisible_36 : decode cX10_nextVisible 36 = .ok (.istore_n 3, 1) := dk_62 (dk_at dksX10_nextVisible_1 13 rfl rfl)
theorem dX10_nextVisible_37 : decode cX10_nextVisible 37 = .ok (.iload_n 3, 1) := dk_29 (dk_at dksX10_nextVisible_1 14 rfl rfl)
theorem dX10_nextVisible_38 : decode cX10_nextVisible 38 = .ok (.aload_n 0, 1) := dk_42 (dk_at dksX10_nextVisible_1 15 rfl rfl)
theorem dX10_nextVisible_39 : decode cX10_nextVisible 39 = .ok (.getfield 17, 3) := dk_180 0 17 (dk_at dksX10_nextVisible_1 16 rfl rfl)
theorem dX10_nextVisible_42 : decode cX10_nextVisible 42 = .ok (.iconst 0, 1) := dk_3 (dk_at dksX10_nextVisible_1 19 rfl rfl)
theorem dX10_nextVisible_43 : decode cX10_nextVisible 43 = .ok (.iaload, 1) := dk_46 (dk_at dksX10_nextVisible_1 20 rfl rfl)
theorem dX10_nextVisible_44 : decode cX10_nextVisible 44 = .ok (.if_icmp .gt 20, 3) := dk_163 0 20 (dk_at dksX10_nextVisible_1 21 rfl rfl)
theorem dX10_nextVisible_47 : decode cX10_nextVisible 47 = .ok (.aload_n 0, 1) := dk_42 (dk_at dksX10_nextVisible_2 0 rfl rfl)
theorem dX10_nextVisible_48 : decode cX10_nextVisible 48 = .ok (.iload_n 1, 1) := dk_27 (dk_at dksX10_nextVisible_2 1 rfl rfl)
theorem dX10_nextVisible_49 : decode cX10_nextVisible 49 = .ok (.iload_n 3, 1) := dk_29 (dk_at dksX10_nextVisible_2 2 rfl rfl)
theorem dX10_nextVisible_50 : decode cX10_nextVisible 50 = .ok (.invokevirtual 265, 3) := dk_182 1 9 (dk_at dksX10_nextVisible_2 3 rfl rfl)
theorem dX10_nextVisible_53 : decode cX10_nextVisible 53 = .ok (.ifCond .eq 5, 3) := dk_153 0 5 (dk_at dksX10_nextVisible_2 6 rfl rfl)
theorem dX10_nextVisible_56 : decode cX10_nextVisible 56 = .ok (.iload_n 3, 1) := dk_29 (dk_at dksX10_nextVisible_2 9 rfl rfl)
theorem dX10_nextVisible_57 : decode cX10_nextVisible 57 = .ok (.ireturn, 1) := dk_172 (dk_at dksX10_nextVisible_2 10 rfl rfl)
theorem dX10_nextVisible_58 : decode cX10_nextVisible 58 = .ok (.iinc 3 1, 3) := dk_132 3 1 (dk_at dksX10_nextVisible_2 11 rfl rfl)
theorem dX10_nextVisible_61 : decode cX10_nextVisible 61 = .ok (.goto (-24), 3) := dk_167 255 232 (dk_at dksX10_nextVisible_2 14 rfl rfl)
theorem dX10_nextVisible_64 : decode cX10_nextVisible 64 = .ok (.iconst (-1), 1) := dk_2 (dk_at dksX10_nextVisible_2 17 rfl rfl)
theorem dX10_nextVisible_65 : decode cX10_nextVisible 65 = .ok (.ireturn, 1) := dk_172 (dk_at dksX10_nextVisible_2 18 rfl rfl)
abbrev cX10_growth : ByteArray := prog_22_method_108_code
def yX10_growth : MethodName := ⟨RX10, "growth", "(I)I"⟩
def dkwX10_growth_1 : List UInt8 := [182, 0, 231, 182, 0, 234, 167, 0, 4, 3, 172]
abbrev dktX10_growth_1 : List UInt8 := dkwX10_growth_1 ++ []
def dkwX10_growth_0 : List UInt8 := [42, 42, 27, 182, 1, 116, 182, 1, 112, 153, 0, 24, 42, 42, 180, 0, 23, 27, 42, 42, 180, 0, 23, 27]
abbrev dktX10_growth_0 : List UInt8 := dkwX10_growth_0 ++ dktX10_growth_1
theorem dksX10_growth_0 : cX10_growth.data.toList.drop 0 = dktX10_growth_0 := by decide +kernel
theorem dksX10_growth_1 : cX10_growth.data.toList.drop 24 = dktX10_growth_1 := dk_seg dksX10_growth_0 24 rfl rfl
theorem dX10_growth_0 : decode cX10_growth 0 = .ok (.aload_n 0, 1) := dk_42 (dk_at dksX10_growth_0 0 rfl rfl)
theorem dX10_growth_1 : decode cX10_growth 1 = .ok (.aload_n 0, 1) := dk_42 (dk_at dksX10_growth_0 1 rfl rfl)
theorem dX10_growth_2 : decode cX10_growth 2 = .ok (.iload_n 1, 1) := dk_27 (dk_at dksX10_growth_0 2 rfl rfl)
theorem dX10_growth_3 : decode cX10_growth 3 = .ok (.invokevirtual 372, 3) := dk_182 1 116 (dk_at dksX10_growth_0 3 rfl rfl)
theorem dX10_growth_6 : decode cX10_growth 6 = .ok (.invokevirtual 368, 3) := dk_182 1 112 (dk_at dksX10_growth_0 6 rfl rfl)
theorem dX10_growth_9 : decode cX10_growth 9 = .ok (.ifCond .eq 24, 3) := dk_153 0 24 (dk_at dksX10_growth_0 9 rfl rfl)
theorem dX10_growth_12 : decode cX10_growth 12 = .ok (.aload_n 0, 1) := dk_42 (dk_at dksX10_growth_0 12 rfl rfl)
theorem dX10_growth_13 : decode cX10_growth 13 = .ok (.aload_n 0, 1) := dk_42 (dk_at dksX10_growth_0 13 rfl rfl)
theorem dX10_growth_14 : decode cX10_growth 14 = .ok (.getfield 23, 3) := dk_180 0 23 (dk_at dksX10_growth_0 14 rfl rfl)
theorem dX10_growth_17 : decode cX10_growth 17 = .ok (.iload_n 1, 1) := dk_27 (dk_at dksX10_growth_0 17 rfl rfl)
theorem dX10_growth_18 : decode cX10_growth 18 = .ok (.aload_n 0, 1) := dk_42 (dk_at dksX10_growth_0 18 rfl rfl)
theorem dX10_growth_19 : decode cX10_growth 19 = .ok (.aload_n 0, 1) := dk_42 (dk_at dksX10_growth_0 19 rfl rfl)
theorem dX10_growth_20 : decode cX10_growth 20 = .ok (.getfield 23, 3) := dk_180 0 23 (dk_at dksX10_growth_0 20 rfl rfl)
theorem dX10_growth_23 : decode cX10_growth 23 = .ok (.iload_n 1, 1) := dk_27 (dk_at dksX10_growth_0 23 rfl rfl)
theorem dX10_growth_24 : decode cX10_growth 24 = .ok (.invokevirtual 231, 3) := dk_182 0 231 (dk_at dksX10_growth_1 0 rfl rfl)
theorem dX10_growth_27 : decode cX10_growth 27 = .ok (.invokevirtual 234, 3) := dk_182 0 234 (dk_at dksX10_growth_1 3 rfl rfl)
theorem dX10_growth_30 : decode cX10_growth 30 = .ok (.goto 4, 3) := dk_167 0 4 (dk_at dksX10_growth_1 6 rfl rfl)
theorem dX10_growth_33 : decode cX10_growth 33 = .ok (.iconst 0, 1) := dk_3 (dk_at dksX10_growth_1 9 rfl rfl)
theorem dX10_growth_34 : decode cX10_growth 34 = .ok (.ireturn, 1) := dk_172 (dk_at dksX10_growth_1 10 rfl rfl)
abbrev cX10_itsDuration : ByteArray := prog_22_method_43_code
def yX10_itsDuration : MethodName := ⟨RX10, "itsDuration", "([II)I"⟩
def dkwX10_itsDuration_0 : List UInt8 := [42, 43, 28, 6, 7, 182, 0, 223, 172]
abbrev dktX10_itsDuration_0 : List UInt8 := dkwX10_itsDuration_0 ++ []
theorem dksX10_itsDuration_0 : cX10_itsDuration.data.toList.drop 0 = dktX10_itsDuration_0 := by decide +kernel
theorem dX10_itsDuration_0 : decode cX10_itsDuration 0 = .ok (.aload_n 0, 1) := dk_42 (dk_at dksX10_itsDuration_0 0 rfl rfl)
theorem dX10_itsDuration_1 : decode cX10_itsDuration 1 = .ok (.aload_n 1, 1) := dk_43 (dk_at dksX10_itsDuration_0 1 rfl rfl)
theorem dX10_itsDuration_2 : decode cX10_itsDuration 2 = .ok (.iload_n 2, 1) := dk_28 (dk_at dksX10_itsDuration_0 2 rfl rfl)
theorem dX10_itsDuration_3 : decode cX10_itsDuration 3 = .ok (.iconst 3, 1) := dk_6 (dk_at dksX10_itsDuration_0 3 rfl rfl)
theorem dX10_itsDuration_4 : decode cX10_itsDuration 4 = .ok (.iconst 4, 1) := dk_7 (dk_at dksX10_itsDuration_0 4 rfl rfl)
theorem dX10_itsDuration_5 : decode cX10_itsDuration 5 = .ok (.invokevirtual 223, 3) := dk_182 0 223 (dk_at dksX10_itsDuration_0 5 rfl rfl)
theorem dX10_itsDuration_8 : decode cX10_itsDuration 8 = .ok (.ireturn, 1) := dk_172 (dk_at dksX10_itsDuration_0 8 rfl rfl)
abbrev cX10_grows : ByteArray := prog_22_method_48_code
def yX10_grows : MethodName := ⟨RX10, "grows", "([III)I"⟩
def dkwX10_grows_0 : List UInt8 := [42, 43, 28, 8, 8, 182, 0, 223, 29, 104, 16, 9, 96, 16, 10, 108, 172]
abbrev dktX10_grows_0 : List UInt8 := dkwX10_grows_0 ++ []
theorem dksX10_grows_0 : cX10_grows.data.toList.drop 0 = dktX10_grows_0 := by decide +kernel
theorem dX10_grows_0 : decode cX10_grows 0 = .ok (.aload_n 0, 1) := dk_42 (dk_at dksX10_grows_0 0 rfl rfl)
theorem dX10_grows_1 : decode cX10_grows 1 = .ok (.aload_n 1, 1) := dk_43 (dk_at dksX10_grows_0 1 rfl rfl)
theorem dX10_grows_2 : decode cX10_grows 2 = .ok (.iload_n 2, 1) := dk_28 (dk_at dksX10_grows_0 2 rfl rfl)
theorem dX10_grows_3 : decode cX10_grows 3 = .ok (.iconst 5, 1) := dk_8 (dk_at dksX10_grows_0 3 rfl rfl)
theorem dX10_grows_4 : decode cX10_grows 4 = .ok (.iconst 5, 1) := dk_8 (dk_at dksX10_grows_0 4 rfl rfl)
theorem dX10_grows_5 : decode cX10_grows 5 = .ok (.invokevirtual 223, 3) := dk_182 0 223 (dk_at dksX10_grows_0 5 rfl rfl)
theorem dX10_grows_8 : decode cX10_grows 8 = .ok (.iload_n 3, 1) := dk_29 (dk_at dksX10_grows_0 8 rfl rfl)
theorem dX10_grows_9 : decode cX10_grows 9 = .ok (.imul, 1) := dk_104 (dk_at dksX10_grows_0 9 rfl rfl)
theorem dX10_grows_10 : decode cX10_grows 10 = .ok (.bipush 9, 2) := dk_16 9 (dk_at dksX10_grows_0 10 rfl rfl)
theorem dX10_grows_12 : decode cX10_grows 12 = .ok (.iadd, 1) := dk_96 (dk_at dksX10_grows_0 12 rfl rfl)
theorem dX10_grows_13 : decode cX10_grows 13 = .ok (.bipush 10, 2) := dk_16 10 (dk_at dksX10_grows_0 13 rfl rfl)
theorem dX10_grows_15 : decode cX10_grows 15 = .ok (.idiv, 1) := dk_108 (dk_at dksX10_grows_0 15 rfl rfl)
theorem dX10_grows_16 : decode cX10_grows 16 = .ok (.ireturn, 1) := dk_172 (dk_at dksX10_grows_0 16 rfl rfl)
abbrev cX10_needsDump : ByteArray := prog_22_method_109_code
def yX10_needsDump : MethodName := ⟨RX10, "needsDump", "(I)Z"⟩
def dkwX10_needsDump_1 : List UInt8 := [4, 167, 0, 4, 3, 172]
abbrev dktX10_needsDump_1 : List UInt8 := dkwX10_needsDump_1 ++ []
def dkwX10_needsDump_0 : List UInt8 := [42, 42, 27, 182, 1, 116, 182, 1, 112, 153, 0, 19, 42, 42, 180, 0, 23, 27, 182, 0, 237, 153, 0, 7]
abbrev dktX10_needsDump_0 : List UInt8 := dkwX10_needsDump_0 ++ dktX10_needsDump_1
theorem dksX10_needsDump_0 : cX10_needsDump.data.toList.drop 0 = dktX10_needsDump_0 := by decide +kernel
theorem dksX10_needsDump_1 : cX10_needsDump.data.toList.drop 24 = dktX10_needsDump_1 := dk_seg dksX10_needsDump_0 24 rfl rfl
theorem dX10_needsDump_0 : decode cX10_needsDump 0 = .ok (.aload_n 0, 1) := dk_42 (dk_at dksX10_needsDump_0 0 rfl rfl)
theorem dX10_needsDump_1 : decode cX10_needsDump 1 = .ok (.aload_n 0, 1) := dk_42 (dk_at dksX10_needsDump_0 1 rfl rfl)
theorem dX10_needsDump_2 : decode cX10_needsDump 2 = .ok (.iload_n 1, 1) := dk_27 (dk_at dksX10_needsDump_0 2 rfl rfl)
theorem dX10_needsDump_3 : decode cX10_needsDump 3 = .ok (.invokevirtual 372, 3) := dk_182 1 116 (dk_at dksX10_needsDump_0 3 rfl rfl)
theorem dX10_needsDump_6 : decode cX10_needsDump 6 = .ok (.invokevirtual 368, 3) := dk_182 1 112 (dk_at dksX10_needsDump_0 6 rfl rfl)
theorem dX10_needsDump_9 : decode cX10_needsDump 9 = .ok (.ifCond .eq 19, 3) := dk_153 0 19 (dk_at dksX10_needsDump_0 9 rfl rfl)
theorem dX10_needsDump_12 : decode cX10_needsDump 12 = .ok (.aload_n 0, 1) := dk_42 (dk_at dksX10_needsDump_0 12 rfl rfl)
theorem dX10_needsDump_13 : decode cX10_needsDump 13 = .ok (.aload_n 0, 1) := dk_42 (dk_at dksX10_needsDump_0 13 rfl rfl)
theorem dX10_needsDump_14 : decode cX10_needsDump 14 = .ok (.getfield 23, 3) := dk_180 0 23 (dk_at dksX10_needsDump_0 14 rfl rfl)
theorem dX10_needsDump_17 : decode cX10_needsDump 17 = .ok (.iload_n 1, 1) := dk_27 (dk_at dksX10_needsDump_0 17 rfl rfl)
theorem dX10_needsDump_18 : decode cX10_needsDump 18 = .ok (.invokevirtual 237, 3) := dk_182 0 237 (dk_at dksX10_needsDump_0 18 rfl rfl)
theorem dX10_needsDump_21 : decode cX10_needsDump 21 = .ok (.ifCond .eq 7, 3) := dk_153 0 7 (dk_at dksX10_needsDump_0 21 rfl rfl)
theorem dX10_needsDump_24 : decode cX10_needsDump 24 = .ok (.iconst 1, 1) := dk_4 (dk_at dksX10_needsDump_1 0 rfl rfl)
theorem dX10_needsDump_25 : decode cX10_needsDump 25 = .ok (.goto 4, 3) := dk_167 0 4 (dk_at dksX10_needsDump_1 1 rfl rfl)
theorem dX10_needsDump_28 : decode cX10_needsDump 28 = .ok (.iconst 0, 1) := dk_3 (dk_at dksX10_needsDump_1 4 rfl rfl)
theorem dX10_needsDump_29 : decode cX10_needsDump 29 = .ok (.ireturn, 1) := dk_172 (dk_at dksX10_needsDump_1 5 rfl rfl)
abbrev cX10_dumpsFor : ByteArray := prog_22_method_49_code
def yX10_dumpsFor : MethodName := ⟨RX10, "dumpsFor", "([II)Z"⟩
def dkwX10_dumpsFor_1 : List UInt8 := [164, 0, 7, 4, 167, 0, 4, 3, 172]
abbrev dktX10_dumpsFor_1 : List UInt8 := dkwX10_dumpsFor_1 ++ []
def dkwX10_dumpsFor_0 : List UInt8 := [43, 6, 46, 42, 43, 28, 42, 43, 28, 182, 0, 231, 182, 0, 234, 96, 42, 180, 0, 17, 6, 46]
abbrev dktX10_dumpsFor_0 : List UInt8 := dkwX10_dumpsFor_0 ++ dktX10_dumpsFor_1
theorem dksX10_dumpsFor_0 : cX10_dumpsFor.data.toList.drop 0 = dktX10_dumpsFor_0 := by decide +kernel
theorem dksX10_dumpsFor_1 : cX10_dumpsFor.data.toList.drop 22 = dktX10_dumpsFor_1 := dk_seg dksX10_dumpsFor_0 22 rfl rfl
theorem dX10_dumpsFor_0 : decode cX10_dumpsFor 0 = .ok (.aload_n 1, 1) := dk_43 (dk_at dksX10_dumpsFor_0 0 rfl rfl)
theorem dX10_dumpsFor_1 : decode cX10_dumpsFor 1 = .ok (.iconst 3, 1) := dk_6 (dk_at dksX10_dumpsFor_0 1 rfl rfl)
theorem dX10_dumpsFor_2 : decode cX10_dumpsFor 2 = .ok (.iaload, 1) := dk_46 (dk_at dksX10_dumpsFor_0 2 rfl rfl)
theorem dX10_dumpsFor_3 : decode cX10_dumpsFor 3 = .ok (.aload_n 0, 1) := dk_42 (dk_at dksX10_dumpsFor_0 3 rfl rfl)
theorem dX10_dumpsFor_4 : decode cX10_dumpsFor 4 = .ok (.aload_n 1, 1) := dk_43 (dk_at dksX10_dumpsFor_0 4 rfl rfl)
theorem dX10_dumpsFor_5 : decode cX10_dumpsFor 5 = .ok (.iload_n 2, 1) := dk_28 (dk_at dksX10_dumpsFor_0 5 rfl rfl)
theorem dX10_dumpsFor_6 : decode cX10_dumpsFor 6 = .ok (.aload_n 0, 1) := dk_42 (dk_at dksX10_dumpsFor_0 6 rfl rfl)
theorem dX10_dumpsFor_7 : decode cX10_dumpsFor 7 = .ok (.aload_n 1, 1) := dk_43 (dk_at dksX10_dumpsFor_0 7 rfl rfl)
theorem dX10_dumpsFor_8 : decode cX10_dumpsFor 8 = .ok (.iload_n 2, 1) := dk_28 (dk_at dksX10_dumpsFor_0 8 rfl rfl)
theorem dX10_dumpsFor_9 : decode cX10_dumpsFor 9 = .ok (.invokevirtual 231, 3) := dk_182 0 231 (dk_at dksX10_dumpsFor_0 9 rfl rfl)
theorem dX10_dumpsFor_12 : decode cX10_dumpsFor 12 = .ok (.invokevirtual 234, 3) := dk_182 0 234 (dk_at dksX10_dumpsFor_0 12 rfl rfl)
theorem dX10_dumpsFor_15 : decode cX10_dumpsFor 15 = .ok (.iadd, 1) := dk_96 (dk_at dksX10_dumpsFor_0 15 rfl rfl)
theorem dX10_dumpsFor_16 : decode cX10_dumpsFor 16 = .ok (.aload_n 0, 1) := dk_42 (dk_at dksX10_dumpsFor_0 16 rfl rfl)
theorem dX10_dumpsFor_17 : decode cX10_dumpsFor 17 = .ok (.getfield 17, 3) := dk_180 0 17 (dk_at dksX10_dumpsFor_0 17 rfl rfl)
theorem dX10_dumpsFor_20 : decode cX10_dumpsFor 20 = .ok (.iconst 3, 1) := dk_6 (dk_at dksX10_dumpsFor_0 20 rfl rfl)
theorem dX10_dumpsFor_21 : decode cX10_dumpsFor 21 = .ok (.iaload, 1) := dk_46 (dk_at dksX10_dumpsFor_0 21 rfl rfl)
theorem dX10_dumpsFor_22 : decode cX10_dumpsFor 22 = .ok (.if_icmp .le 7, 3) := dk_164 0 7 (dk_at dksX10_dumpsFor_1 0 rfl rfl)
theorem dX10_dumpsFor_25 : decode cX10_dumpsFor 25 = .ok (.iconst 1, 1) := dk_4 (dk_at dksX10_dumpsFor_1 3 rfl rfl)
theorem dX10_dumpsFor_26 : decode cX10_dumpsFor 26 = .ok (.goto 4, 3) := dk_167 0 4 (dk_at dksX10_dumpsFor_1 4 rfl rfl)
theorem dX10_dumpsFor_29 : decode cX10_dumpsFor 29 = .ok (.iconst 0, 1) := dk_3 (dk_at dksX10_dumpsFor_1 7 rfl rfl)
theorem dX10_dumpsFor_30 : decode cX10_dumpsFor 30 = .ok (.ireturn, 1) := dk_172 (dk_at dksX10_dumpsFor_1 8 rfl rfl)
abbrev cX10_startIf : ByteArray := prog_22_method_110_code
def yX10_startIf : MethodName := ⟨RX10, "startIf", "(I)I"⟩
def dkwX10_startIf_1 : List UInt8 := [3, 172]
abbrev dktX10_startIf_1 : List UInt8 := dkwX10_startIf_1 ++ []
def dkwX10_startIf_0 : List UInt8 := [42, 42, 27, 182, 1, 116, 182, 1, 112, 153, 0, 15, 42, 42, 180, 0, 23, 27, 182, 0, 250, 167, 0, 4]
abbrev dktX10_startIf_0 : List UInt8 := dkwX10_startIf_0 ++ dktX10_startIf_1
theorem dksX10_startIf_0 : cX10_startIf.data.toList.drop 0 = dktX10_startIf_0 := by decide +kernel
theorem dksX10_startIf_1 : cX10_startIf.data.toList.drop 24 = dktX10_startIf_1 := dk_seg dksX10_startIf_0 24 rfl rfl
theorem dX10_startIf_0 : decode cX10_startIf 0 = .ok (.aload_n 0, 1) := dk_42 (dk_at dksX10_startIf_0 0 rfl rfl)
theorem dX10_startIf_1 : decode cX10_startIf 1 = .ok (.aload_n 0, 1) := dk_42 (dk_at dksX10_startIf_0 1 rfl rfl)
theorem dX10_startIf_2 : decode cX10_startIf 2 = .ok (.iload_n 1, 1) := dk_27 (dk_at dksX10_startIf_0 2 rfl rfl)
theorem dX10_startIf_3 : decode cX10_startIf 3 = .ok (.invokevirtual 372, 3) := dk_182 1 116 (dk_at dksX10_startIf_0 3 rfl rfl)
theorem dX10_startIf_6 : decode cX10_startIf 6 = .ok (.invokevirtual 368, 3) := dk_182 1 112 (dk_at dksX10_startIf_0 6 rfl rfl)
theorem dX10_startIf_9 : decode cX10_startIf 9 = .ok (.ifCond .eq 15, 3) := dk_153 0 15 (dk_at dksX10_startIf_0 9 rfl rfl)
theorem dX10_startIf_12 : decode cX10_startIf 12 = .ok (.aload_n 0, 1) := dk_42 (dk_at dksX10_startIf_0 12 rfl rfl)
theorem dX10_startIf_13 : decode cX10_startIf 13 = .ok (.aload_n 0, 1) := dk_42 (dk_at dksX10_startIf_0 13 rfl rfl)
theorem dX10_startIf_14 : decode cX10_startIf 14 = .ok (.getfield 23, 3) := dk_180 0 23 (dk_at dksX10_startIf_0 14 rfl rfl)
theorem dX10_startIf_17 : decode cX10_startIf 17 = .ok (.iload_n 1, 1) := dk_27 (dk_at dksX10_startIf_0 17 rfl rfl)
theorem dX10_startIf_18 : decode cX10_startIf 18 = .ok (.invokevirtual 250, 3) := dk_182 0 250 (dk_at dksX10_startIf_0 18 rfl rfl)
theorem dX10_startIf_21 : decode cX10_startIf 21 = .ok (.goto 4, 3) := dk_167 0 4 (dk_at dksX10_startIf_0 21 rfl rfl)
theorem dX10_startIf_24 : decode cX10_startIf 24 = .ok (.iconst 0, 1) := dk_3 (dk_at dksX10_startIf_1 0 rfl rfl)
theorem dX10_startIf_25 : decode cX10_startIf 25 = .ok (.ireturn, 1) := dk_172 (dk_at dksX10_startIf_1 1 rfl rfl)
abbrev cX10_startFor : ByteArray := prog_22_method_50_code
def yX10_startFor : MethodName := ⟨RX10, "startFor", "([II)I"⟩
def dkwX10_startFor_1 : List UInt8 := [43, 42, 43, 28, 182, 0, 241, 42, 43, 28, 182, 0, 244, 182, 0, 247, 96, 172]
abbrev dktX10_startFor_1 : List UInt8 := dkwX10_startFor_1 ++ []
def dkwX10_startFor_0 : List UInt8 := [43, 3, 46, 42, 43, 28, 182, 0, 237, 153, 0, 12, 42, 180, 0, 17, 7, 46, 167, 0, 4, 3, 96, 42]
abbrev dktX10_startFor_0 : List UInt8 := dkwX10_startFor_0 ++ dktX10_startFor_1
theorem dksX10_startFor_0 : cX10_startFor.data.toList.drop 0 = dktX10_startFor_0 := by decide +kernel
theorem dksX10_startFor_1 : cX10_startFor.data.toList.drop 24 = dktX10_startFor_1 := dk_seg dksX10_startFor_0 24 rfl rfl
theorem dX10_startFor_0 : decode cX10_startFor 0 = .ok (.aload_n 1, 1) := dk_43 (dk_at dksX10_startFor_0 0 rfl rfl)
theorem dX10_startFor_1 : decode cX10_startFor 1 = .ok (.iconst 0, 1) := dk_3 (dk_at dksX10_startFor_0 1 rfl rfl)
theorem dX10_startFor_2 : decode cX10_startFor 2 = .ok (.iaload, 1) := dk_46 (dk_at dksX10_startFor_0 2 rfl rfl)
theorem dX10_startFor_3 : decode cX10_startFor 3 = .ok (.aload_n 0, 1) := dk_42 (dk_at dksX10_startFor_0 3 rfl rfl)
theorem dX10_startFor_4 : decode cX10_startFor 4 = .ok (.aload_n 1, 1) := dk_43 (dk_at dksX10_startFor_0 4 rfl rfl)
theorem dX10_startFor_5 : decode cX10_startFor 5 = .ok (.iload_n 2, 1) := dk_28 (dk_at dksX10_startFor_0 5 rfl rfl)
theorem dX10_startFor_6 : decode cX10_startFor 6 = .ok (.invokevirtual 237, 3) := dk_182 0 237 (dk_at dksX10_startFor_0 6 rfl rfl)
theorem dX10_startFor_9 : decode cX10_startFor 9 = .ok (.ifCond .eq 12, 3) := dk_153 0 12 (dk_at dksX10_startFor_0 9 rfl rfl)
theorem dX10_startFor_12 : decode cX10_startFor 12 = .ok (.aload_n 0, 1) := dk_42 (dk_at dksX10_startFor_0 12 rfl rfl)
theorem dX10_startFor_13 : decode cX10_startFor 13 = .ok (.getfield 17, 3) := dk_180 0 17 (dk_at dksX10_startFor_0 13 rfl rfl)
theorem dX10_startFor_16 : decode cX10_startFor 16 = .ok (.iconst 4, 1) := dk_7 (dk_at dksX10_startFor_0 16 rfl rfl)
theorem dX10_startFor_17 : decode cX10_startFor 17 = .ok (.iaload, 1) := dk_46 (dk_at dksX10_startFor_0 17 rfl rfl)
theorem dX10_startFor_18 : decode cX10_startFor 18 = .ok (.goto 4, 3) := dk_167 0 4 (dk_at dksX10_startFor_0 18 rfl rfl)
theorem dX10_startFor_21 : decode cX10_startFor 21 = .ok (.iconst 0, 1) := dk_3 (dk_at dksX10_startFor_0 21 rfl rfl)
theorem dX10_startFor_22 : decode cX10_startFor 22 = .ok (.iadd, 1) := dk_96 (dk_at dksX10_startFor_0 22 rfl rfl)
theorem dX10_startFor_23 : decode cX10_startFor 23 = .ok (.aload_n 0, 1) := dk_42 (dk_at dksX10_startFor_0 23 rfl rfl)
theorem dX10_startFor_24 : decode cX10_startFor 24 = .ok (.aload_n 1, 1) := dk_43 (dk_at dksX10_startFor_1 0 rfl rfl)
theorem dX10_startFor_25 : decode cX10_startFor 25 = .ok (.aload_n 0, 1) := dk_42 (dk_at dksX10_startFor_1 1 rfl rfl)
theorem dX10_startFor_26 : decode cX10_startFor 26 = .ok (.aload_n 1, 1) := dk_43 (dk_at dksX10_startFor_1 2 rfl rfl)
theorem dX10_startFor_27 : decode cX10_startFor 27 = .ok (.iload_n 2, 1) := dk_28 (dk_at dksX10_startFor_1 3 rfl rfl)
theorem dX10_startFor_28 : decode cX10_startFor 28 = .ok (.invokevirtual 241, 3) := dk_182 0 241 (dk_at dksX10_startFor_1 4 rfl rfl)
theorem dX10_startFor_31 : decode cX10_startFor 31 = .ok (.aload_n 0, 1) := dk_42 (dk_at dksX10_startFor_1 7 rfl rfl)
theorem dX10_startFor_32 : decode cX10_startFor 32 = .ok (.aload_n 1, 1) := dk_43 (dk_at dksX10_startFor_1 8 rfl rfl)
theorem dX10_startFor_33 : decode cX10_startFor 33 = .ok (.iload_n 2, 1) := dk_28 (dk_at dksX10_startFor_1 9 rfl rfl)
theorem dX10_startFor_34 : decode cX10_startFor 34 = .ok (.invokevirtual 244, 3) := dk_182 0 244 (dk_at dksX10_startFor_1 10 rfl rfl)
theorem dX10_startFor_37 : decode cX10_startFor 37 = .ok (.invokevirtual 247, 3) := dk_182 0 247 (dk_at dksX10_startFor_1 13 rfl rfl)
theorem dX10_startFor_40 : decode cX10_startFor 40 = .ok (.iadd, 1) := dk_96 (dk_at dksX10_startFor_1 16 rfl rfl)
theorem dX10_startFor_41 : decode cX10_startFor 41 = .ok (.ireturn, 1) := dk_172 (dk_at dksX10_startFor_1 17 rfl rfl)
abbrev cX10_itsLon : ByteArray := prog_22_method_41_code
def yX10_itsLon : MethodName := ⟨RX10, "itsLon", "([II)I"⟩
def dkwX10_itsLon_0 : List UInt8 := [42, 43, 28, 4, 5, 182, 0, 223, 172]
abbrev dktX10_itsLon_0 : List UInt8 := dkwX10_itsLon_0 ++ []
theorem dksX10_itsLon_0 : cX10_itsLon.data.toList.drop 0 = dktX10_itsLon_0 := by decide +kernel
theorem dX10_itsLon_0 : decode cX10_itsLon 0 = .ok (.aload_n 0, 1) := dk_42 (dk_at dksX10_itsLon_0 0 rfl rfl)
theorem dX10_itsLon_1 : decode cX10_itsLon 1 = .ok (.aload_n 1, 1) := dk_43 (dk_at dksX10_itsLon_0 1 rfl rfl)
theorem dX10_itsLon_2 : decode cX10_itsLon 2 = .ok (.iload_n 2, 1) := dk_28 (dk_at dksX10_itsLon_0 2 rfl rfl)
theorem dX10_itsLon_3 : decode cX10_itsLon 3 = .ok (.iconst 1, 1) := dk_4 (dk_at dksX10_itsLon_0 3 rfl rfl)
theorem dX10_itsLon_4 : decode cX10_itsLon 4 = .ok (.iconst 2, 1) := dk_5 (dk_at dksX10_itsLon_0 4 rfl rfl)
theorem dX10_itsLon_5 : decode cX10_itsLon 5 = .ok (.invokevirtual 223, 3) := dk_182 0 223 (dk_at dksX10_itsLon_0 5 rfl rfl)
theorem dX10_itsLon_8 : decode cX10_itsLon 8 = .ok (.ireturn, 1) := dk_172 (dk_at dksX10_itsLon_0 8 rfl rfl)
abbrev cX10_itsLat : ByteArray := prog_22_method_42_code
def yX10_itsLat : MethodName := ⟨RX10, "itsLat", "([II)I"⟩
def dkwX10_itsLat_0 : List UInt8 := [42, 43, 28, 5, 6, 182, 0, 223, 172]
abbrev dktX10_itsLat_0 : List UInt8 := dkwX10_itsLat_0 ++ []
theorem dksX10_itsLat_0 : cX10_itsLat.data.toList.drop 0 = dktX10_itsLat_0 := by decide +kernel
theorem dX10_itsLat_0 : decode cX10_itsLat 0 = .ok (.aload_n 0, 1) := dk_42 (dk_at dksX10_itsLat_0 0 rfl rfl)
theorem dX10_itsLat_1 : decode cX10_itsLat 1 = .ok (.aload_n 1, 1) := dk_43 (dk_at dksX10_itsLat_0 1 rfl rfl)
theorem dX10_itsLat_2 : decode cX10_itsLat 2 = .ok (.iload_n 2, 1) := dk_28 (dk_at dksX10_itsLat_0 2 rfl rfl)
theorem dX10_itsLat_3 : decode cX10_itsLat 3 = .ok (.iconst 2, 1) := dk_5 (dk_at dksX10_itsLat_0 3 rfl rfl)
theorem dX10_itsLat_4 : decode cX10_itsLat 4 = .ok (.iconst 3, 1) := dk_6 (dk_at dksX10_itsLat_0 4 rfl rfl)
theorem dX10_itsLat_5 : decode cX10_itsLat 5 = .ok (.invokevirtual 223, 3) := dk_182 0 223 (dk_at dksX10_itsLat_0 5 rfl rfl)
theorem dX10_itsLat_8 : decode cX10_itsLat 8 = .ok (.ireturn, 1) := dk_172 (dk_at dksX10_itsLat_0 8 rfl rfl)
abbrev cX10_reason : ByteArray := prog_22_method_111_code
def yX10_reason : MethodName := ⟨RX10, "reason", "(I)I"⟩
def dkwX10_reason_1 : List UInt8 := [3, 172]
abbrev dktX10_reason_1 : List UInt8 := dkwX10_reason_1 ++ []
def dkwX10_reason_0 : List UInt8 := [42, 42, 27, 182, 1, 116, 182, 1, 112, 153, 0, 15, 42, 42, 180, 0, 23, 27, 182, 1, 19, 167, 0, 4]
abbrev dktX10_reason_0 : List UInt8 := dkwX10_reason_0 ++ dktX10_reason_1
theorem dksX10_reason_0 : cX10_reason.data.toList.drop 0 = dktX10_reason_0 := by decide +kernel
theorem dksX10_reason_1 : cX10_reason.data.toList.drop 24 = dktX10_reason_1 := dk_seg dksX10_reason_0 24 rfl rfl
theorem dX10_reason_0 : decode cX10_reason 0 = .ok (.aload_n 0, 1) := dk_42 (dk_at dksX10_reason_0 0 rfl rfl)
theorem dX10_reason_1 : decode cX10_reason 1 = .ok (.aload_n 0, 1) := dk_42 (dk_at dksX10_reason_0 1 rfl rfl)
theorem dX10_reason_2 : decode cX10_reason 2 = .ok (.iload_n 1, 1) := dk_27 (dk_at dksX10_reason_0 2 rfl rfl)
theorem dX10_reason_3 : decode cX10_reason 3 = .ok (.invokevirtual 372, 3) := dk_182 1 116 (dk_at dksX10_reason_0 3 rfl rfl)
theorem dX10_reason_6 : decode cX10_reason 6 = .ok (.invokevirtual 368, 3) := dk_182 1 112 (dk_at dksX10_reason_0 6 rfl rfl)
theorem dX10_reason_9 : decode cX10_reason 9 = .ok (.ifCond .eq 15, 3) := dk_153 0 15 (dk_at dksX10_reason_0 9 rfl rfl)
theorem dX10_reason_12 : decode cX10_reason 12 = .ok (.aload_n 0, 1) := dk_42 (dk_at dksX10_reason_0 12 rfl rfl)
theorem dX10_reason_13 : decode cX10_reason 13 = .ok (.aload_n 0, 1) := dk_42 (dk_at dksX10_reason_0 13 rfl rfl)
theorem dX10_reason_14 : decode cX10_reason 14 = .ok (.getfield 23, 3) := dk_180 0 23 (dk_at dksX10_reason_0 14 rfl rfl)
theorem dX10_reason_17 : decode cX10_reason 17 = .ok (.iload_n 1, 1) := dk_27 (dk_at dksX10_reason_0 17 rfl rfl)
theorem dX10_reason_18 : decode cX10_reason 18 = .ok (.invokevirtual 275, 3) := dk_182 1 19 (dk_at dksX10_reason_0 18 rfl rfl)
theorem dX10_reason_21 : decode cX10_reason 21 = .ok (.goto 4, 3) := dk_167 0 4 (dk_at dksX10_reason_0 21 rfl rfl)
theorem dX10_reason_24 : decode cX10_reason 24 = .ok (.iconst 0, 1) := dk_3 (dk_at dksX10_reason_1 0 rfl rfl)
theorem dX10_reason_25 : decode cX10_reason 25 = .ok (.ireturn, 1) := dk_172 (dk_at dksX10_reason_1 1 rfl rfl)
abbrev cX10_reasonFor : ByteArray := prog_22_method_53_code
def yX10_reasonFor : MethodName := ⟨RX10, "reasonFor", "([II)I"⟩
def dkwX10_reasonFor_6 : List UInt8 := [153, 0, 8, 16, 7, 167, 0, 4, 3, 172]
abbrev dktX10_reasonFor_6 : List UInt8 := dkwX10_reasonFor_6 ++ []
def dkwX10_reasonFor_5 : List UInt8 := [21, 4, 29, 96, 182, 1, 9, 154, 0, 6, 16, 6, 172, 42, 21, 4, 21, 4, 29, 96, 182, 1, 13]
abbrev dktX10_reasonFor_5 : List UInt8 := dkwX10_reasonFor_5 ++ dktX10_reasonFor_6
def dkwX10_reasonFor_4 : List UInt8 := [180, 0, 17, 3, 46, 164, 0, 5, 8, 172, 42, 21, 5, 21, 4, 182, 1, 9, 153, 0, 16, 42, 21, 5]
abbrev dktX10_reasonFor_4 : List UInt8 := dkwX10_reasonFor_4 ++ dktX10_reasonFor_5
def dkwX10_reasonFor_3 : List UInt8 := [43, 28, 182, 0, 227, 42, 43, 28, 182, 1, 6, 184, 0, 74, 154, 0, 5, 7, 172, 21, 4, 29, 96, 42]
abbrev dktX10_reasonFor_3 : List UInt8 := dkwX10_reasonFor_3 ++ dktX10_reasonFor_4
def dkwX10_reasonFor_2 : List UInt8 := [164, 0, 5, 5, 172, 43, 42, 43, 28, 182, 1, 0, 184, 1, 3, 29, 162, 0, 5, 6, 172, 21, 4, 42]
abbrev dktX10_reasonFor_2 : List UInt8 := dkwX10_reasonFor_2 ++ dktX10_reasonFor_3
def dkwX10_reasonFor_1 : List UInt8 := [28, 184, 0, 253, 46, 153, 0, 5, 4, 172, 42, 43, 28, 29, 182, 0, 234, 42, 180, 0, 17, 6, 46]
abbrev dktX10_reasonFor_1 : List UInt8 := dkwX10_reasonFor_1 ++ dktX10_reasonFor_2
def dkwX10_reasonFor_0 : List UInt8 := [42, 43, 28, 182, 0, 231, 62, 42, 43, 28, 182, 0, 250, 54, 4, 42, 43, 28, 182, 0, 241, 54, 5, 43]
abbrev dktX10_reasonFor_0 : List UInt8 := dkwX10_reasonFor_0 ++ dktX10_reasonFor_1
theorem dksX10_reasonFor_0 : cX10_reasonFor.data.toList.drop 0 = dktX10_reasonFor_0 := by decide +kernel
theorem dksX10_reasonFor_1 : cX10_reasonFor.data.toList.drop 24 = dktX10_reasonFor_1 := dk_seg dksX10_reasonFor_0 24 rfl rfl
theorem dksX10_reasonFor_2 : cX10_reasonFor.data.toList.drop 47 = dktX10_reasonFor_2 := dk_seg dksX10_reasonFor_1 23 rfl rfl
theorem dksX10_reasonFor_3 : cX10_reasonFor.data.toList.drop 71 = dktX10_reasonFor_3 := dk_seg dksX10_reasonFor_2 24 rfl rfl
theorem dksX10_reasonFor_4 : cX10_reasonFor.data.toList.drop 95 = dktX10_reasonFor_4 := dk_seg dksX10_reasonFor_3 24 rfl rfl
theorem dksX10_reasonFor_5 : cX10_reasonFor.data.toList.drop 119 = dktX10_reasonFor_5 := dk_seg dksX10_reasonFor_4 24 rfl rfl
theorem dksX10_reasonFor_6 : cX10_reasonFor.data.toList.drop 142 = dktX10_reasonFor_6 := dk_seg dksX10_reasonFor_5 23 rfl rfl
theorem dX10_reasonFor_0 : decode cX10_reasonFor 0 = .ok (.aload_n 0, 1) := dk_42 (dk_at dksX10_reasonFor_0 0 rfl rfl)
theorem dX10_reasonFor_1 : decode cX10_reasonFor 1 = .ok (.aload_n 1, 1) := dk_43 (dk_at dksX10_reasonFor_0 1 rfl rfl)
theorem dX10_reasonFor_2 : decode cX10_reasonFor 2 = .ok (.iload_n 2, 1) := dk_28 (dk_at dksX10_reasonFor_0 2 rfl rfl)
theorem dX10_reasonFor_3 : decode cX10_reasonFor 3 = .ok (.invokevirtual 231, 3) := dk_182 0 231 (dk_at dksX10_reasonFor_0 3 rfl rfl)
theorem dX10_reasonFor_6 : decode cX10_reasonFor 6 = .ok (.istore_n 3, 1) := dk_62 (dk_at dksX10_reasonFor_0 6 rfl rfl)
theorem dX10_reasonFor_7 : decode cX10_reasonFor 7 = .ok (.aload_n 0, 1) := dk_42 (dk_at dksX10_reasonFor_0 7 rfl rfl)
theorem dX10_reasonFor_8 : decode cX10_reasonFor 8 = .ok (.aload_n 1, 1) := dk_43 (dk_at dksX10_reasonFor_0 8 rfl rfl)
theorem dX10_reasonFor_9 : decode cX10_reasonFor 9 = .ok (.iload_n 2, 1) := dk_28 (dk_at dksX10_reasonFor_0 9 rfl rfl)
theorem dX10_reasonFor_10 : decode cX10_reasonFor 10 = .ok (.invokevirtual 250, 3) := dk_182 0 250 (dk_at dksX10_reasonFor_0 10 rfl rfl)
theorem dX10_reasonFor_13 : decode cX10_reasonFor 13 = .ok (.istore 4, 2) := dk_54 4 (dk_at dksX10_reasonFor_0 13 rfl rfl)
theorem dX10_reasonFor_15 : decode cX10_reasonFor 15 = .ok (.aload_n 0, 1) := dk_42 (dk_at dksX10_reasonFor_0 15 rfl rfl)
theorem dX10_reasonFor_16 : decode cX10_reasonFor 16 = .ok (.aload_n 1, 1) := dk_43 (dk_at dksX10_reasonFor_0 16 rfl rfl)
theorem dX10_reasonFor_17 : decode cX10_reasonFor 17 = .ok (.iload_n 2, 1) := dk_28 (dk_at dksX10_reasonFor_0 17 rfl rfl)
theorem dX10_reasonFor_18 : decode cX10_reasonFor 18 = .ok (.invokevirtual 241, 3) := dk_182 0 241 (dk_at dksX10_reasonFor_0 18 rfl rfl)
theorem dX10_reasonFor_21 : decode cX10_reasonFor 21 = .ok (.istore 5, 2) := dk_54 5 (dk_at dksX10_reasonFor_0 21 rfl rfl)
theorem dX10_reasonFor_23 : decode cX10_reasonFor 23 = .ok (.aload_n 1, 1) := dk_43 (dk_at dksX10_reasonFor_0 23 rfl rfl)
theorem dX10_reasonFor_24 : decode cX10_reasonFor 24 = .ok (.iload_n 2, 1) := dk_28 (dk_at dksX10_reasonFor_1 0 rfl rfl)
theorem dX10_reasonFor_25 : decode cX10_reasonFor 25 = .ok (.invokestatic 253, 3) := dk_184 0 253 (dk_at dksX10_reasonFor_1 1 rfl rfl)
theorem dX10_reasonFor_28 : decode cX10_reasonFor 28 = .ok (.iaload, 1) := dk_46 (dk_at dksX10_reasonFor_1 4 rfl rfl)
theorem dX10_reasonFor_29 : decode cX10_reasonFor 29 = .ok (.ifCond .eq 5, 3) := dk_153 0 5 (dk_at dksX10_reasonFor_1 5 rfl rfl)
theorem dX10_reasonFor_32 : decode cX10_reasonFor 32 = .ok (.iconst 1, 1) := dk_4 (dk_at dksX10_reasonFor_1 8 rfl rfl)
theorem dX10_reasonFor_33 : decode cX10_reasonFor 33 = .ok (.ireturn, 1) := dk_172 (dk_at dksX10_reasonFor_1 9 rfl rfl)
theorem dX10_reasonFor_34 : decode cX10_reasonFor 34 = .ok (.aload_n 0, 1) := dk_42 (dk_at dksX10_reasonFor_1 10 rfl rfl)
theorem dX10_reasonFor_35 : decode cX10_reasonFor 35 = .ok (.aload_n 1, 1) := dk_43 (dk_at dksX10_reasonFor_1 11 rfl rfl)
theorem dX10_reasonFor_36 : decode cX10_reasonFor 36 = .ok (.iload_n 2, 1) := dk_28 (dk_at dksX10_reasonFor_1 12 rfl rfl)
theorem dX10_reasonFor_37 : decode cX10_reasonFor 37 = .ok (.iload_n 3, 1) := dk_29 (dk_at dksX10_reasonFor_1 13 rfl rfl)
theorem dX10_reasonFor_38 : decode cX10_reasonFor 38 = .ok (.invokevirtual 234, 3) := dk_182 0 234 (dk_at dksX10_reasonFor_1 14 rfl rfl)
theorem dX10_reasonFor_41 : decode cX10_reasonFor 41 = .ok (.aload_n 0, 1) := dk_42 (dk_at dksX10_reasonFor_1 17 rfl rfl)
theorem dX10_reasonFor_42 : decode cX10_reasonFor 42 = .ok (.getfield 17, 3) := dk_180 0 17 (dk_at dksX10_reasonFor_1 18 rfl rfl)
theorem dX10_reasonFor_45 : decode cX10_reasonFor 45 = .ok (.iconst 3, 1) := dk_6 (dk_at dksX10_reasonFor_1 21 rfl rfl)
theorem dX10_reasonFor_46 : decode cX10_reasonFor 46 = .ok (.iaload, 1) := dk_46 (dk_at dksX10_reasonFor_1 22 rfl rfl)
theorem dX10_reasonFor_47 : decode cX10_reasonFor 47 = .ok (.if_icmp .le 5, 3) := dk_164 0 5 (dk_at dksX10_reasonFor_2 0 rfl rfl)
theorem dX10_reasonFor_50 : decode cX10_reasonFor 50 = .ok (.iconst 2, 1) := dk_5 (dk_at dksX10_reasonFor_2 3 rfl rfl)
theorem dX10_reasonFor_51 : decode cX10_reasonFor 51 = .ok (.ireturn, 1) := dk_172 (dk_at dksX10_reasonFor_2 4 rfl rfl)
theorem dX10_reasonFor_52 : decode cX10_reasonFor 52 = .ok (.aload_n 1, 1) := dk_43 (dk_at dksX10_reasonFor_2 5 rfl rfl)
theorem dX10_reasonFor_53 : decode cX10_reasonFor 53 = .ok (.aload_n 0, 1) := dk_42 (dk_at dksX10_reasonFor_2 6 rfl rfl)
theorem dX10_reasonFor_54 : decode cX10_reasonFor 54 = .ok (.aload_n 1, 1) := dk_43 (dk_at dksX10_reasonFor_2 7 rfl rfl)
theorem dX10_reasonFor_55 : decode cX10_reasonFor 55 = .ok (.iload_n 2, 1) := dk_28 (dk_at dksX10_reasonFor_2 8 rfl rfl)
theorem dX10_reasonFor_56 : decode cX10_reasonFor 56 = .ok (.invokevirtual 256, 3) := dk_182 1 0 (dk_at dksX10_reasonFor_2 9 rfl rfl)
theorem dX10_reasonFor_59 : decode cX10_reasonFor 59 = .ok (.invokestatic 259, 3) := dk_184 1 3 (dk_at dksX10_reasonFor_2 12 rfl rfl)
theorem dX10_reasonFor_62 : decode cX10_reasonFor 62 = .ok (.iload_n 3, 1) := dk_29 (dk_at dksX10_reasonFor_2 15 rfl rfl)
theorem dX10_reasonFor_63 : decode cX10_reasonFor 63 = .ok (.if_icmp .ge 5, 3) := dk_162 0 5 (dk_at dksX10_reasonFor_2 16 rfl rfl)
theorem dX10_reasonFor_66 : decode cX10_reasonFor 66 = .ok (.iconst 3, 1) := dk_6 (dk_at dksX10_reasonFor_2 19 rfl rfl)
theorem dX10_reasonFor_67 : decode cX10_reasonFor 67 = .ok (.ireturn, 1) := dk_172 (dk_at dksX10_reasonFor_2 20 rfl rfl)
theorem dX10_reasonFor_68 : decode cX10_reasonFor 68 = .ok (.iload 4, 2) := dk_21 4 (dk_at dksX10_reasonFor_2 21 rfl rfl)
theorem dX10_reasonFor_70 : decode cX10_reasonFor 70 = .ok (.aload_n 0, 1) := dk_42 (dk_at dksX10_reasonFor_2 23 rfl rfl)
theorem dX10_reasonFor_71 : decode cX10_reasonFor 71 = .ok (.aload_n 1, 1) := dk_43 (dk_at dksX10_reasonFor_3 0 rfl rfl)
theorem dX10_reasonFor_72 : decode cX10_reasonFor 72 = .ok (.iload_n 2, 1) := dk_28 (dk_at dksX10_reasonFor_3 1 rfl rfl)
theorem dX10_reasonFor_73 : decode cX10_reasonFor 73 = .ok (.invokevirtual 227, 3) := dk_182 0 227 (dk_at dksX10_reasonFor_3 2 rfl rfl)
theorem dX10_reasonFor_76 : decode cX10_reasonFor 76 = .ok (.aload_n 0, 1) := dk_42 (dk_at dksX10_reasonFor_3 5 rfl rfl)
theorem dX10_reasonFor_77 : decode cX10_reasonFor 77 = .ok (.aload_n 1, 1) := dk_43 (dk_at dksX10_reasonFor_3 6 rfl rfl)
theorem dX10_reasonFor_78 : decode cX10_reasonFor 78 = .ok (.iload_n 2, 1) := dk_28 (dk_at dksX10_reasonFor_3 7 rfl rfl)
theorem dX10_reasonFor_79 : decode cX10_reasonFor 79 = .ok (.invokevirtual 262, 3) := dk_182 1 6 (dk_at dksX10_reasonFor_3 8 rfl rfl)
theorem dX10_reasonFor_82 : decode cX10_reasonFor 82 = .ok (.invokestatic 74, 3) := dk_184 0 74 (dk_at dksX10_reasonFor_3 11 rfl rfl)
theorem dX10_reasonFor_85 : decode cX10_reasonFor 85 = .ok (.ifCond .ne 5, 3) := dk_154 0 5 (dk_at dksX10_reasonFor_3 14 rfl rfl)
theorem dX10_reasonFor_88 : decode cX10_reasonFor 88 = .ok (.iconst 4, 1) := dk_7 (dk_at dksX10_reasonFor_3 17 rfl rfl)
theorem dX10_reasonFor_89 : decode cX10_reasonFor 89 = .ok (.ireturn, 1) := dk_172 (dk_at dksX10_reasonFor_3 18 rfl rfl)
theorem dX10_reasonFor_90 : decode cX10_reasonFor 90 = .ok (.iload 4, 2) := dk_21 4 (dk_at dksX10_reasonFor_3 19 rfl rfl)
theorem dX10_reasonFor_92 : decode cX10_reasonFor 92 = .ok (.iload_n 3, 1) := dk_29 (dk_at dksX10_reasonFor_3 21 rfl rfl)
theorem dX10_reasonFor_93 : decode cX10_reasonFor 93 = .ok (.iadd, 1) := dk_96 (dk_at dksX10_reasonFor_3 22 rfl rfl)
theorem dX10_reasonFor_94 : decode cX10_reasonFor 94 = .ok (.aload_n 0, 1) := dk_42 (dk_at dksX10_reasonFor_3 23 rfl rfl)
theorem dX10_reasonFor_95 : decode cX10_reasonFor 95 = .ok (.getfield 17, 3) := dk_180 0 17 (dk_at dksX10_reasonFor_4 0 rfl rfl)
theorem dX10_reasonFor_98 : decode cX10_reasonFor 98 = .ok (.iconst 0, 1) := dk_3 (dk_at dksX10_reasonFor_4 3 rfl rfl)
theorem dX10_reasonFor_99 : decode cX10_reasonFor 99 = .ok (.iaload, 1) := dk_46 (dk_at dksX10_reasonFor_4 4 rfl rfl)
theorem dX10_reasonFor_100 : decode cX10_reasonFor 100 = .ok (.if_icmp .le 5, 3) := dk_164 0 5 (dk_at dksX10_reasonFor_4 5 rfl rfl)
theorem dX10_reasonFor_103 : decode cX10_reasonFor 103 = .ok (.iconst 5, 1) := dk_8 (dk_at dksX10_reasonFor_4 8 rfl rfl)
theorem dX10_reasonFor_104 : decode cX10_reasonFor 104 = .ok (.ireturn, 1) := dk_172 (dk_at dksX10_reasonFor_4 9 rfl rfl)
theorem dX10_reasonFor_105 : decode cX10_reasonFor 105 = .ok (.aload_n 0, 1) := dk_42 (dk_at dksX10_reasonFor_4 10 rfl rfl)
theorem dX10_reasonFor_106 : decode cX10_reasonFor 106 = .ok (.iload 5, 2) := dk_21 5 (dk_at dksX10_reasonFor_4 11 rfl rfl)
theorem dX10_reasonFor_108 : decode cX10_reasonFor 108 = .ok (.iload 4, 2) := dk_21 4 (dk_at dksX10_reasonFor_4 13 rfl rfl)
theorem dX10_reasonFor_110 : decode cX10_reasonFor 110 = .ok (.invokevirtual 265, 3) := dk_182 1 9 (dk_at dksX10_reasonFor_4 15 rfl rfl)
theorem dX10_reasonFor_113 : decode cX10_reasonFor 113 = .ok (.ifCond .eq 16, 3) := dk_153 0 16 (dk_at dksX10_reasonFor_4 18 rfl rfl)
theorem dX10_reasonFor_116 : decode cX10_reasonFor 116 = .ok (.aload_n 0, 1) := dk_42 (dk_at dksX10_reasonFor_4 21 rfl rfl)
theorem dX10_reasonFor_117 : decode cX10_reasonFor 117 = .ok (.iload 5, 2) := dk_21 5 (dk_at dksX10_reasonFor_4 22 rfl rfl)
theorem dX10_reasonFor_119 : decode cX10_reasonFor 119 = .ok (.iload 4, 2) := dk_21 4 (dk_at dksX10_reasonFor_5 0 rfl rfl)
theorem dX10_reasonFor_121 : decode cX10_reasonFor 121 = .ok (.iload_n 3, 1) := dk_29 (dk_at dksX10_reasonFor_5 2 rfl rfl)
theorem dX10_reasonFor_122 : decode cX10_reasonFor 122 = .ok (.iadd, 1) := dk_96 (dk_at dksX10_reasonFor_5 3 rfl rfl)
theorem dX10_reasonFor_123 : decode cX10_reasonFor 123 = .ok (.invokevirtual 265, 3) := dk_182 1 9 (dk_at dksX10_reasonFor_5 4 rfl rfl)
theorem dX10_reasonFor_126 : decode cX10_reasonFor 126 = .ok (.ifCond .ne 6, 3) := dk_154 0 6 (dk_at dksX10_reasonFor_5 7 rfl rfl)
theorem dX10_reasonFor_129 : decode cX10_reasonFor 129 = .ok (.bipush 6, 2) := dk_16 6 (dk_at dksX10_reasonFor_5 10 rfl rfl)
theorem dX10_reasonFor_131 : decode cX10_reasonFor 131 = .ok (.ireturn, 1) := dk_172 (dk_at dksX10_reasonFor_5 12 rfl rfl)
theorem dX10_reasonFor_132 : decode cX10_reasonFor 132 = .ok (.aload_n 0, 1) := dk_42 (dk_at dksX10_reasonFor_5 13 rfl rfl)
theorem dX10_reasonFor_133 : decode cX10_reasonFor 133 = .ok (.iload 4, 2) := dk_21 4 (dk_at dksX10_reasonFor_5 14 rfl rfl)
theorem dX10_reasonFor_135 : decode cX10_reasonFor 135 = .ok (.iload 4, 2) := dk_21 4 (dk_at dksX10_reasonFor_5 16 rfl rfl)
theorem dX10_reasonFor_137 : decode cX10_reasonFor 137 = .ok (.iload_n 3, 1) := dk_29 (dk_at dksX10_reasonFor_5 18 rfl rfl)
theorem dX10_reasonFor_138 : decode cX10_reasonFor 138 = .ok (.iadd, 1) := dk_96 (dk_at dksX10_reasonFor_5 19 rfl rfl)
theorem dX10_reasonFor_139 : decode cX10_reasonFor 139 = .ok (.invokevirtual 269, 3) := dk_182 1 13 (dk_at dksX10_reasonFor_5 20 rfl rfl)
theorem dX10_reasonFor_142 : decode cX10_reasonFor 142 = .ok (.ifCond .eq 8, 3) := dk_153 0 8 (dk_at dksX10_reasonFor_6 0 rfl rfl)
theorem dX10_reasonFor_145 : decode cX10_reasonFor 145 = .ok (.bipush 7, 2) := dk_16 7 (dk_at dksX10_reasonFor_6 3 rfl rfl)
theorem dX10_reasonFor_147 : decode cX10_reasonFor 147 = .ok (.goto 4, 3) := dk_167 0 4 (dk_at dksX10_reasonFor_6 5 rfl rfl)
theorem dX10_reasonFor_150 : decode cX10_reasonFor 150 = .ok (.iconst 0, 1) := dk_3 (dk_at dksX10_reasonFor_6 8 rfl rfl)
theorem dX10_reasonFor_151 : decode cX10_reasonFor 151 = .ok (.ireturn, 1) := dk_172 (dk_at dksX10_reasonFor_6 9 rfl rfl)
abbrev cX10_stateAt : ByteArray := prog_22_method_46_code
def yX10_stateAt : MethodName := ⟨RX10, "stateAt", "(I)I"⟩
def dkwX10_stateAt_1 : List UInt8 := [16, 7, 96, 172]
abbrev dktX10_stateAt_1 : List UInt8 := dkwX10_stateAt_1 ++ []
def dkwX10_stateAt_0 : List UInt8 := [26, 16, 20, 162, 0, 10, 16, 47, 26, 96, 167, 0, 16, 16, 127, 16, 10, 26, 16, 20, 100, 104, 96]
abbrev dktX10_stateAt_0 : List UInt8 := dkwX10_stateAt_0 ++ dktX10_stateAt_1
theorem dksX10_stateAt_0 : cX10_stateAt.data.toList.drop 0 = dktX10_stateAt_0 := by decide +kernel
theorem dksX10_stateAt_1 : cX10_stateAt.data.toList.drop 23 = dktX10_stateAt_1 := dk_seg dksX10_stateAt_0 23 rfl rfl
theorem dX10_stateAt_0 : decode cX10_stateAt 0 = .ok (.iload_n 0, 1) := dk_26 (dk_at dksX10_stateAt_0 0 rfl rfl)
theorem dX10_stateAt_1 : decode cX10_stateAt 1 = .ok (.bipush 20, 2) := dk_16 20 (dk_at dksX10_stateAt_0 1 rfl rfl)
theorem dX10_stateAt_3 : decode cX10_stateAt 3 = .ok (.if_icmp .ge 10, 3) := dk_162 0 10 (dk_at dksX10_stateAt_0 3 rfl rfl)
theorem dX10_stateAt_6 : decode cX10_stateAt 6 = .ok (.bipush 47, 2) := dk_16 47 (dk_at dksX10_stateAt_0 6 rfl rfl)
theorem dX10_stateAt_8 : decode cX10_stateAt 8 = .ok (.iload_n 0, 1) := dk_26 (dk_at dksX10_stateAt_0 8 rfl rfl)
theorem dX10_stateAt_9 : decode cX10_stateAt 9 = .ok (.iadd, 1) := dk_96 (dk_at dksX10_stateAt_0 9 rfl rfl)
theorem dX10_stateAt_10 : decode cX10_stateAt 10 = .ok (.goto 16, 3) := dk_167 0 16 (dk_at dksX10_stateAt_0 10 rfl rfl)
theorem dX10_stateAt_13 : decode cX10_stateAt 13 = .ok (.bipush 127, 2) := dk_16 127 (dk_at dksX10_stateAt_0 13 rfl rfl)
theorem dX10_stateAt_15 : decode cX10_stateAt 15 = .ok (.bipush 10, 2) := dk_16 10 (dk_at dksX10_stateAt_0 15 rfl rfl)
theorem dX10_stateAt_17 : decode cX10_stateAt 17 = .ok (.iload_n 0, 1) := dk_26 (dk_at dksX10_stateAt_0 17 rfl rfl)
theorem dX10_stateAt_18 : decode cX10_stateAt 18 = .ok (.bipush 20, 2) := dk_16 20 (dk_at dksX10_stateAt_0 18 rfl rfl)
theorem dX10_stateAt_20 : decode cX10_stateAt 20 = .ok (.isub, 1) := dk_100 (dk_at dksX10_stateAt_0 20 rfl rfl)
theorem dX10_stateAt_21 : decode cX10_stateAt 21 = .ok (.imul, 1) := dk_104 (dk_at dksX10_stateAt_0 21 rfl rfl)
theorem dX10_stateAt_22 : decode cX10_stateAt 22 = .ok (.iadd, 1) := dk_96 (dk_at dksX10_stateAt_0 22 rfl rfl)
theorem dX10_stateAt_23 : decode cX10_stateAt 23 = .ok (.bipush 7, 2) := dk_16 7 (dk_at dksX10_stateAt_1 0 rfl rfl)
theorem dX10_stateAt_25 : decode cX10_stateAt 25 = .ok (.iadd, 1) := dk_96 (dk_at dksX10_stateAt_1 2 rfl rfl)
theorem dX10_stateAt_26 : decode cX10_stateAt 26 = .ok (.ireturn, 1) := dk_172 (dk_at dksX10_stateAt_1 3 rfl rfl)
abbrev cX10_itsFrom : ByteArray := prog_22_method_44_code
def yX10_itsFrom : MethodName := ⟨RX10, "itsFrom", "([II)I"⟩
def dkwX10_itsFrom_0 : List UInt8 := [42, 43, 28, 16, 6, 4, 182, 0, 223, 172]
abbrev dktX10_itsFrom_0 : List UInt8 := dkwX10_itsFrom_0 ++ []
theorem dksX10_itsFrom_0 : cX10_itsFrom.data.toList.drop 0 = dktX10_itsFrom_0 := by decide +kernel
theorem dX10_itsFrom_0 : decode cX10_itsFrom 0 = .ok (.aload_n 0, 1) := dk_42 (dk_at dksX10_itsFrom_0 0 rfl rfl)
theorem dX10_itsFrom_1 : decode cX10_itsFrom 1 = .ok (.aload_n 1, 1) := dk_43 (dk_at dksX10_itsFrom_0 1 rfl rfl)
theorem dX10_itsFrom_2 : decode cX10_itsFrom 2 = .ok (.iload_n 2, 1) := dk_28 (dk_at dksX10_itsFrom_0 2 rfl rfl)
theorem dX10_itsFrom_3 : decode cX10_itsFrom 3 = .ok (.bipush 6, 2) := dk_16 6 (dk_at dksX10_itsFrom_0 3 rfl rfl)
theorem dX10_itsFrom_5 : decode cX10_itsFrom 5 = .ok (.iconst 1, 1) := dk_4 (dk_at dksX10_itsFrom_0 5 rfl rfl)
theorem dX10_itsFrom_6 : decode cX10_itsFrom 6 = .ok (.invokevirtual 223, 3) := dk_182 0 223 (dk_at dksX10_itsFrom_0 6 rfl rfl)
theorem dX10_itsFrom_9 : decode cX10_itsFrom 9 = .ok (.ireturn, 1) := dk_172 (dk_at dksX10_itsFrom_0 9 rfl rfl)
abbrev cX10_itsTo : ByteArray := prog_22_method_45_code
def yX10_itsTo : MethodName := ⟨RX10, "itsTo", "([II)I"⟩
def dkwX10_itsTo_1 : List UInt8 := [42, 43, 28, 182, 0, 227, 43, 16, 127, 16, 10, 28, 16, 20, 100, 104, 96, 16, 6, 96, 46, 96, 172]
abbrev dktX10_itsTo_1 : List UInt8 := dkwX10_itsTo_1 ++ []
def dkwX10_itsTo_0 : List UInt8 := [28, 16, 20, 162, 0, 21, 42, 180, 0, 17, 16, 66, 16, 8, 28, 104, 96, 16, 7, 96, 46, 167, 0, 25]
abbrev dktX10_itsTo_0 : List UInt8 := dkwX10_itsTo_0 ++ dktX10_itsTo_1
theorem dksX10_itsTo_0 : cX10_itsTo.data.toList.drop 0 = dktX10_itsTo_0 := by decide +kernel
theorem dksX10_itsTo_1 : cX10_itsTo.data.toList.drop 24 = dktX10_itsTo_1 := dk_seg dksX10_itsTo_0 24 rfl rfl
theorem dX10_itsTo_0 : decode cX10_itsTo 0 = .ok (.iload_n 2, 1) := dk_28 (dk_at dksX10_itsTo_0 0 rfl rfl)
theorem dX10_itsTo_1 : decode cX10_itsTo 1 = .ok (.bipush 20, 2) := dk_16 20 (dk_at dksX10_itsTo_0 1 rfl rfl)
theorem dX10_itsTo_3 : decode cX10_itsTo 3 = .ok (.if_icmp .ge 21, 3) := dk_162 0 21 (dk_at dksX10_itsTo_0 3 rfl rfl)
theorem dX10_itsTo_6 : decode cX10_itsTo 6 = .ok (.aload_n 0, 1) := dk_42 (dk_at dksX10_itsTo_0 6 rfl rfl)
theorem dX10_itsTo_7 : decode cX10_itsTo 7 = .ok (.getfield 17, 3) := dk_180 0 17 (dk_at dksX10_itsTo_0 7 rfl rfl)
theorem dX10_itsTo_10 : decode cX10_itsTo 10 = .ok (.bipush 66, 2) := dk_16 66 (dk_at dksX10_itsTo_0 10 rfl rfl)
theorem dX10_itsTo_12 : decode cX10_itsTo 12 = .ok (.bipush 8, 2) := dk_16 8 (dk_at dksX10_itsTo_0 12 rfl rfl)
theorem dX10_itsTo_14 : decode cX10_itsTo 14 = .ok (.iload_n 2, 1) := dk_28 (dk_at dksX10_itsTo_0 14 rfl rfl)
theorem dX10_itsTo_15 : decode cX10_itsTo 15 = .ok (.imul, 1) := dk_104 (dk_at dksX10_itsTo_0 15 rfl rfl)
theorem dX10_itsTo_16 : decode cX10_itsTo 16 = .ok (.iadd, 1) := dk_96 (dk_at dksX10_itsTo_0 16 rfl rfl)
theorem dX10_itsTo_17 : decode cX10_itsTo 17 = .ok (.bipush 7, 2) := dk_16 7 (dk_at dksX10_itsTo_0 17 rfl rfl)
theorem dX10_itsTo_19 : decode cX10_itsTo 19 = .ok (.iadd, 1) := dk_96 (dk_at dksX10_itsTo_0 19 rfl rfl)
theorem dX10_itsTo_20 : decode cX10_itsTo 20 = .ok (.iaload, 1) := dk_46 (dk_at dksX10_itsTo_0 20 rfl rfl)
theorem dX10_itsTo_21 : decode cX10_itsTo 21 = .ok (.goto 25, 3) := dk_167 0 25 (dk_at dksX10_itsTo_0 21 rfl rfl)
theorem dX10_itsTo_24 : decode cX10_itsTo 24 = .ok (.aload_n 0, 1) := dk_42 (dk_at dksX10_itsTo_1 0 rfl rfl)
theorem dX10_itsTo_25 : decode cX10_itsTo 25 = .ok (.aload_n 1, 1) := dk_43 (dk_at dksX10_itsTo_1 1 rfl rfl)
theorem dX10_itsTo_26 : decode cX10_itsTo 26 = .ok (.iload_n 2, 1) := dk_28 (dk_at dksX10_itsTo_1 2 rfl rfl)
theorem dX10_itsTo_27 : decode cX10_itsTo 27 = .ok (.invokevirtual 227, 3) := dk_182 0 227 (dk_at dksX10_itsTo_1 3 rfl rfl)
theorem dX10_itsTo_30 : decode cX10_itsTo 30 = .ok (.aload_n 1, 1) := dk_43 (dk_at dksX10_itsTo_1 6 rfl rfl)
theorem dX10_itsTo_31 : decode cX10_itsTo 31 = .ok (.bipush 127, 2) := dk_16 127 (dk_at dksX10_itsTo_1 7 rfl rfl)
theorem dX10_itsTo_33 : decode cX10_itsTo 33 = .ok (.bipush 10, 2) := dk_16 10 (dk_at dksX10_itsTo_1 9 rfl rfl)
theorem dX10_itsTo_35 : decode cX10_itsTo 35 = .ok (.iload_n 2, 1) := dk_28 (dk_at dksX10_itsTo_1 11 rfl rfl)
theorem dX10_itsTo_36 : decode cX10_itsTo 36 = .ok (.bipush 20, 2) := dk_16 20 (dk_at dksX10_itsTo_1 12 rfl rfl)
theorem dX10_itsTo_38 : decode cX10_itsTo 38 = .ok (.isub, 1) := dk_100 (dk_at dksX10_itsTo_1 14 rfl rfl)
theorem dX10_itsTo_39 : decode cX10_itsTo 39 = .ok (.imul, 1) := dk_104 (dk_at dksX10_itsTo_1 15 rfl rfl)
theorem dX10_itsTo_40 : decode cX10_itsTo 40 = .ok (.iadd, 1) := dk_96 (dk_at dksX10_itsTo_1 16 rfl rfl)
theorem dX10_itsTo_41 : decode cX10_itsTo 41 = .ok (.bipush 6, 2) := dk_16 6 (dk_at dksX10_itsTo_1 17 rfl rfl)
theorem dX10_itsTo_43 : decode cX10_itsTo 43 = .ok (.iadd, 1) := dk_96 (dk_at dksX10_itsTo_1 19 rfl rfl)
theorem dX10_itsTo_44 : decode cX10_itsTo 44 = .ok (.iaload, 1) := dk_46 (dk_at dksX10_itsTo_1 20 rfl rfl)
theorem dX10_itsTo_45 : decode cX10_itsTo 45 = .ok (.iadd, 1) := dk_96 (dk_at dksX10_itsTo_1 21 rfl rfl)
theorem dX10_itsTo_46 : decode cX10_itsTo 46 = .ok (.ireturn, 1) := dk_172 (dk_at dksX10_itsTo_1 22 rfl rfl)
abbrev cX10_isOut : ByteArray := prog_22_method_52_code
def yX10_isOut : MethodName := ⟨RX10, "isOut", "(II)Z"⟩
def dkwX10_isOut_2 : List UInt8 := [180, 0, 17, 21, 4, 46, 164, 0, 7, 4, 167, 0, 4, 3, 62, 132, 4, 2, 167, 255, 200, 29, 172]
abbrev dktX10_isOut_2 : List UInt8 := dkwX10_isOut_2 ++ []
def dkwX10_isOut_1 : List UInt8 := [162, 0, 43, 29, 154, 0, 27, 27, 42, 180, 0, 17, 21, 4, 4, 96, 46, 163, 0, 18, 28, 42]
abbrev dktX10_isOut_1 : List UInt8 := dkwX10_isOut_1 ++ dktX10_isOut_2
def dkwX10_isOut_0 : List UInt8 := [3, 62, 17, 0, 227, 54, 4, 21, 4, 17, 0, 227, 5, 42, 180, 0, 17, 17, 0, 226, 46, 104, 96]
abbrev dktX10_isOut_0 : List UInt8 := dkwX10_isOut_0 ++ dktX10_isOut_1
theorem dksX10_isOut_0 : cX10_isOut.data.toList.drop 0 = dktX10_isOut_0 := by decide +kernel
theorem dksX10_isOut_1 : cX10_isOut.data.toList.drop 23 = dktX10_isOut_1 := dk_seg dksX10_isOut_0 23 rfl rfl
theorem dksX10_isOut_2 : cX10_isOut.data.toList.drop 45 = dktX10_isOut_2 := dk_seg dksX10_isOut_1 22 rfl rfl
theorem dX10_isOut_0 : decode cX10_isOut 0 = .ok (.iconst 0, 1) := dk_3 (dk_at dksX10_isOut_0 0 rfl rfl)
theorem dX10_isOut_1 : decode cX10_isOut 1 = .ok (.istore_n 3, 1) := dk_62 (dk_at dksX10_isOut_0 1 rfl rfl)
theorem dX10_isOut_2 : decode cX10_isOut 2 = .ok (.sipush 227, 3) := dk_17 0 227 (dk_at dksX10_isOut_0 2 rfl rfl)
theorem dX10_isOut_5 : decode cX10_isOut 5 = .ok (.istore 4, 2) := dk_54 4 (dk_at dksX10_isOut_0 5 rfl rfl)
theorem dX10_isOut_7 : decode cX10_isOut 7 = .ok (.iload 4, 2) := dk_21 4 (dk_at dksX10_isOut_0 7 rfl rfl)
theorem dX10_isOut_9 : decode cX10_isOut 9 = .ok (.sipush 227, 3) := dk_17 0 227 (dk_at dksX10_isOut_0 9 rfl rfl)
theorem dX10_isOut_12 : decode cX10_isOut 12 = .ok (.iconst 2, 1) := dk_5 (dk_at dksX10_isOut_0 12 rfl rfl)
theorem dX10_isOut_13 : decode cX10_isOut 13 = .ok (.aload_n 0, 1) := dk_42 (dk_at dksX10_isOut_0 13 rfl rfl)
theorem dX10_isOut_14 : decode cX10_isOut 14 = .ok (.getfield 17, 3) := dk_180 0 17 (dk_at dksX10_isOut_0 14 rfl rfl)
theorem dX10_isOut_17 : decode cX10_isOut 17 = .ok (.sipush 226, 3) := dk_17 0 226 (dk_at dksX10_isOut_0 17 rfl rfl)
theorem dX10_isOut_20 : decode cX10_isOut 20 = .ok (.iaload, 1) := dk_46 (dk_at dksX10_isOut_0 20 rfl rfl)
theorem dX10_isOut_21 : decode cX10_isOut 21 = .ok (.imul, 1) := dk_104 (dk_at dksX10_isOut_0 21 rfl rfl)
theorem dX10_isOut_22 : decode cX10_isOut 22 = .ok (.iadd, 1) := dk_96 (dk_at dksX10_isOut_0 22 rfl rfl)
theorem dX10_isOut_23 : decode cX10_isOut 23 = .ok (.if_icmp .ge 43, 3) := dk_162 0 43 (dk_at dksX10_isOut_1 0 rfl rfl)
theorem dX10_isOut_26 : decode cX10_isOut 26 = .ok (.iload_n 3, 1) := dk_29 (dk_at dksX10_isOut_1 3 rfl rfl)
theorem dX10_isOut_27 : decode cX10_isOut 27 = .ok (.ifCond .ne 27, 3) := dk_154 0 27 (dk_at dksX10_isOut_1 4 rfl rfl)
theorem dX10_isOut_30 : decode cX10_isOut 30 = .ok (.iload_n 1, 1) := dk_27 (dk_at dksX10_isOut_1 7 rfl rfl)
theorem dX10_isOut_31 : decode cX10_isOut 31 = .ok (.aload_n 0, 1) := dk_42 (dk_at dksX10_isOut_1 8 rfl rfl)
theorem dX10_isOut_32 : decode cX10_isOut 32 = .ok (.getfield 17, 3) := dk_180 0 17 (dk_at dksX10_isOut_1 9 rfl rfl)
theorem dX10_isOut_35 : decode cX10_isOut 35 = .ok (.iload 4, 2) := dk_21 4 (dk_at dksX10_isOut_1 12 rfl rfl)
theorem dX10_isOut_37 : decode cX10_isOut 37 = .ok (.iconst 1, 1) := dk_4 (dk_at dksX10_isOut_1 14 rfl rfl)
theorem dX10_isOut_38 : decode cX10_isOut 38 = .ok (.iadd, 1) := dk_96 (dk_at dksX10_isOut_1 15 rfl rfl)
theorem dX10_isOut_39 : decode cX10_isOut 39 = .ok (.iaload, 1) := dk_46 (dk_at dksX10_isOut_1 16 rfl rfl)
theorem dX10_isOut_40 : decode cX10_isOut 40 = .ok (.if_icmp .gt 18, 3) := dk_163 0 18 (dk_at dksX10_isOut_1 17 rfl rfl)
theorem dX10_isOut_43 : decode cX10_isOut 43 = .ok (.iload_n 2, 1) := dk_28 (dk_at dksX10_isOut_1 20 rfl rfl)
theorem dX10_isOut_44 : decode cX10_isOut 44 = .ok (.aload_n 0, 1) := dk_42 (dk_at dksX10_isOut_1 21 rfl rfl)
theorem dX10_isOut_45 : decode cX10_isOut 45 = .ok (.getfield 17, 3) := dk_180 0 17 (dk_at dksX10_isOut_2 0 rfl rfl)
theorem dX10_isOut_48 : decode cX10_isOut 48 = .ok (.iload 4, 2) := dk_21 4 (dk_at dksX10_isOut_2 3 rfl rfl)
theorem dX10_isOut_50 : decode cX10_isOut 50 = .ok (.iaload, 1) := dk_46 (dk_at dksX10_isOut_2 5 rfl rfl)
theorem dX10_isOut_51 : decode cX10_isOut 51 = .ok (.if_icmp .le 7, 3) := dk_164 0 7 (dk_at dksX10_isOut_2 6 rfl rfl)
theorem dX10_isOut_54 : decode cX10_isOut 54 = .ok (.iconst 1, 1) := dk_4 (dk_at dksX10_isOut_2 9 rfl rfl)
theorem dX10_isOut_55 : decode cX10_isOut 55 = .ok (.goto 4, 3) := dk_167 0 4 (dk_at dksX10_isOut_2 10 rfl rfl)
theorem dX10_isOut_58 : decode cX10_isOut 58 = .ok (.iconst 0, 1) := dk_3 (dk_at dksX10_isOut_2 13 rfl rfl)
theorem dX10_isOut_59 : decode cX10_isOut 59 = .ok (.istore_n 3, 1) := dk_62 (dk_at dksX10_isOut_2 14 rfl rfl)
theorem dX10_isOut_60 : decode cX10_isOut 60 = .ok (.iinc 4 2, 3) := dk_132 4 2 (dk_at dksX10_isOut_2 15 rfl rfl)
theorem dX10_isOut_63 : decode cX10_isOut 63 = .ok (.goto (-56), 3) := dk_167 255 200 (dk_at dksX10_isOut_2 18 rfl rfl)
theorem dX10_isOut_66 : decode cX10_isOut 66 = .ok (.iload_n 3, 1) := dk_29 (dk_at dksX10_isOut_2 21 rfl rfl)
theorem dX10_isOut_67 : decode cX10_isOut 67 = .ok (.ireturn, 1) := dk_172 (dk_at dksX10_isOut_2 22 rfl rfl)
abbrev cX10_chosen : ByteArray := prog_22_method_112_code
def yX10_chosen : MethodName := ⟨RX10, "chosen", "()I"⟩
def dkwX10_chosen_0 : List UInt8 := [42, 4, 182, 1, 112, 153, 0, 14, 42, 42, 180, 0, 23, 182, 1, 80, 167, 0, 4, 3, 172]
abbrev dktX10_chosen_0 : List UInt8 := dkwX10_chosen_0 ++ []
theorem dksX10_chosen_0 : cX10_chosen.data.toList.drop 0 = dktX10_chosen_0 := by decide +kernel
theorem dX10_chosen_0 : decode cX10_chosen 0 = .ok (.aload_n 0, 1) := dk_42 (dk_at dksX10_chosen_0 0 rfl rfl)
theorem dX10_chosen_1 : decode cX10_chosen 1 = .ok (.iconst 1, 1) := dk_4 (dk_at dksX10_chosen_0 1 rfl rfl)
theorem dX10_chosen_2 : decode cX10_chosen 2 = .ok (.invokevirtual 368, 3) := dk_182 1 112 (dk_at dksX10_chosen_0 2 rfl rfl)
theorem dX10_chosen_5 : decode cX10_chosen 5 = .ok (.ifCond .eq 14, 3) := dk_153 0 14 (dk_at dksX10_chosen_0 5 rfl rfl)
theorem dX10_chosen_8 : decode cX10_chosen 8 = .ok (.aload_n 0, 1) := dk_42 (dk_at dksX10_chosen_0 8 rfl rfl)
theorem dX10_chosen_9 : decode cX10_chosen 9 = .ok (.aload_n 0, 1) := dk_42 (dk_at dksX10_chosen_0 9 rfl rfl)
theorem dX10_chosen_10 : decode cX10_chosen 10 = .ok (.getfield 23, 3) := dk_180 0 23 (dk_at dksX10_chosen_0 10 rfl rfl)
theorem dX10_chosen_13 : decode cX10_chosen 13 = .ok (.invokevirtual 336, 3) := dk_182 1 80 (dk_at dksX10_chosen_0 13 rfl rfl)
theorem dX10_chosen_16 : decode cX10_chosen 16 = .ok (.goto 4, 3) := dk_167 0 4 (dk_at dksX10_chosen_0 16 rfl rfl)
theorem dX10_chosen_19 : decode cX10_chosen 19 = .ok (.iconst 0, 1) := dk_3 (dk_at dksX10_chosen_0 19 rfl rfl)
theorem dX10_chosen_20 : decode cX10_chosen 20 = .ok (.ireturn, 1) := dk_172 (dk_at dksX10_chosen_0 20 rfl rfl)
abbrev cX10_chosenOf : ByteArray := prog_22_method_56_code
def yX10_chosenOf : MethodName := ⟨RX10, "chosenOf", "([I)I"⟩
def dkwX10_chosenOf_2 : List UInt8 := [172]
abbrev dktX10_chosenOf_2 : List UInt8 := dkwX10_chosenOf_2 ++ []
def dkwX10_chosenOf_1 : List UInt8 := [28, 2, 159, 0, 13, 42, 43, 29, 28, 182, 1, 22, 153, 0, 5, 29, 61, 132, 3, 1, 167, 255, 216, 28]
abbrev dktX10_chosenOf_1 : List UInt8 := dkwX10_chosenOf_1 ++ dktX10_chosenOf_2
def dkwX10_chosenOf_0 : List UInt8 := [2, 61, 3, 62, 29, 42, 180, 0, 17, 16, 65, 46, 162, 0, 35, 42, 43, 29, 182, 1, 19, 154, 0, 20]
abbrev dktX10_chosenOf_0 : List UInt8 := dkwX10_chosenOf_0 ++ dktX10_chosenOf_1
theorem dksX10_chosenOf_0 : cX10_chosenOf.data.toList.drop 0 = dktX10_chosenOf_0 := by decide +kernel
theorem dksX10_chosenOf_1 : cX10_chosenOf.data.toList.drop 24 = dktX10_chosenOf_1 := dk_seg dksX10_chosenOf_0 24 rfl rfl
theorem dksX10_chosenOf_2 : cX10_chosenOf.data.toList.drop 48 = dktX10_chosenOf_2 := dk_seg dksX10_chosenOf_1 24 rfl rfl
theorem dX10_chosenOf_0 : decode cX10_chosenOf 0 = .ok (.iconst (-1), 1) := dk_2 (dk_at dksX10_chosenOf_0 0 rfl rfl)
theorem dX10_chosenOf_1 : decode cX10_chosenOf 1 = .ok (.istore_n 2, 1) := dk_61 (dk_at dksX10_chosenOf_0 1 rfl rfl)
theorem dX10_chosenOf_2 : decode cX10_chosenOf 2 = .ok (.iconst 0, 1) := dk_3 (dk_at dksX10_chosenOf_0 2 rfl rfl)
theorem dX10_chosenOf_3 : decode cX10_chosenOf 3 = .ok (.istore_n 3, 1) := dk_62 (dk_at dksX10_chosenOf_0 3 rfl rfl)
theorem dX10_chosenOf_4 : decode cX10_chosenOf 4 = .ok (.iload_n 3, 1) := dk_29 (dk_at dksX10_chosenOf_0 4 rfl rfl)
theorem dX10_chosenOf_5 : decode cX10_chosenOf 5 = .ok (.aload_n 0, 1) := dk_42 (dk_at dksX10_chosenOf_0 5 rfl rfl)
theorem dX10_chosenOf_6 : decode cX10_chosenOf 6 = .ok (.getfield 17, 3) := dk_180 0 17 (dk_at dksX10_chosenOf_0 6 rfl rfl)
theorem dX10_chosenOf_9 : decode cX10_chosenOf 9 = .ok (.bipush 65, 2) := dk_16 65 (dk_at dksX10_chosenOf_0 9 rfl rfl)
theorem dX10_chosenOf_11 : decode cX10_chosenOf 11 = .ok (.iaload, 1) := dk_46 (dk_at dksX10_chosenOf_0 11 rfl rfl)
theorem dX10_chosenOf_12 : decode cX10_chosenOf 12 = .ok (.if_icmp .ge 35, 3) := dk_162 0 35 (dk_at dksX10_chosenOf_0 12 rfl rfl)
theorem dX10_chosenOf_15 : decode cX10_chosenOf 15 = .ok (.aload_n 0, 1) := dk_42 (dk_at dksX10_chosenOf_0 15 rfl rfl)
theorem dX10_chosenOf_16 : decode cX10_chosenOf 16 = .ok (.aload_n 1, 1) := dk_43 (dk_at dksX10_chosenOf_0 16 rfl rfl)
theorem dX10_chosenOf_17 : decode cX10_chosenOf 17 = .ok (.iload_n 3, 1) := dk_29 (dk_at dksX10_chosenOf_0 17 rfl rfl)
theorem dX10_chosenOf_18 : decode cX10_chosenOf 18 = .ok (.invokevirtual 275, 3) := dk_182 1 19 (dk_at dksX10_chosenOf_0 18 rfl rfl)
theorem dX10_chosenOf_21 : decode cX10_chosenOf 21 = .ok (.ifCond .ne 20, 3) := dk_154 0 20 (dk_at dksX10_chosenOf_0 21 rfl rfl)
theorem dX10_chosenOf_24 : decode cX10_chosenOf 24 = .ok (.iload_n 2, 1) := dk_28 (dk_at dksX10_chosenOf_1 0 rfl rfl)
theorem dX10_chosenOf_25 : decode cX10_chosenOf 25 = .ok (.iconst (-1), 1) := dk_2 (dk_at dksX10_chosenOf_1 1 rfl rfl)
theorem dX10_chosenOf_26 : decode cX10_chosenOf 26 = .ok (.if_icmp .eq 13, 3) := dk_159 0 13 (dk_at dksX10_chosenOf_1 2 rfl rfl)
theorem dX10_chosenOf_29 : decode cX10_chosenOf 29 = .ok (.aload_n 0, 1) := dk_42 (dk_at dksX10_chosenOf_1 5 rfl rfl)
theorem dX10_chosenOf_30 : decode cX10_chosenOf 30 = .ok (.aload_n 1, 1) := dk_43 (dk_at dksX10_chosenOf_1 6 rfl rfl)
theorem dX10_chosenOf_31 : decode cX10_chosenOf 31 = .ok (.iload_n 3, 1) := dk_29 (dk_at dksX10_chosenOf_1 7 rfl rfl)
theorem dX10_chosenOf_32 : decode cX10_chosenOf 32 = .ok (.iload_n 2, 1) := dk_28 (dk_at dksX10_chosenOf_1 8 rfl rfl)
theorem dX10_chosenOf_33 : decode cX10_chosenOf 33 = .ok (.invokevirtual 278, 3) := dk_182 1 22 (dk_at dksX10_chosenOf_1 9 rfl rfl)
theorem dX10_chosenOf_36 : decode cX10_chosenOf 36 = .ok (.ifCond .eq 5, 3) := dk_153 0 5 (dk_at dksX10_chosenOf_1 12 rfl rfl)
theorem dX10_chosenOf_39 : decode cX10_chosenOf 39 = .ok (.iload_n 3, 1) := dk_29 (dk_at dksX10_chosenOf_1 15 rfl rfl)
theorem dX10_chosenOf_40 : decode cX10_chosenOf 40 = .ok (.istore_n 2, 1) := dk_61 (dk_at dksX10_chosenOf_1 16 rfl rfl)
theorem dX10_chosenOf_41 : decode cX10_chosenOf 41 = .ok (.iinc 3 1, 3) := dk_132 3 1 (dk_at dksX10_chosenOf_1 17 rfl rfl)
theorem dX10_chosenOf_44 : decode cX10_chosenOf 44 = .ok (.goto (-40), 3) := dk_167 255 216 (dk_at dksX10_chosenOf_1 20 rfl rfl)
theorem dX10_chosenOf_47 : decode cX10_chosenOf 47 = .ok (.iload_n 2, 1) := dk_28 (dk_at dksX10_chosenOf_1 23 rfl rfl)
theorem dX10_chosenOf_48 : decode cX10_chosenOf 48 = .ok (.ireturn, 1) := dk_172 (dk_at dksX10_chosenOf_2 0 rfl rfl)
abbrev cX10_isAhead : ByteArray := prog_22_method_54_code
def yX10_isAhead : MethodName := ⟨RX10, "isAhead", "([III)Z"⟩
def dkwX10_isAhead_7 : List UInt8 := [3, 167, 0, 13, 21, 4, 158, 0, 7, 4, 167, 0, 4, 3, 172]
abbrev dktX10_isAhead_7 : List UInt8 := dkwX10_isAhead_7 ++ []
def dkwX10_isAhead_6 : List UInt8 := [28, 182, 0, 244, 182, 0, 247, 100, 54, 5, 21, 5, 153, 0, 16, 21, 5, 158, 0, 7, 4, 167, 0, 17]
abbrev dktX10_isAhead_6 : List UInt8 := dkwX10_isAhead_6 ++ dktX10_isAhead_7
def dkwX10_isAhead_5 : List UInt8 := [43, 29, 182, 0, 241, 42, 43, 29, 182, 0, 244, 182, 0, 247, 42, 43, 42, 43, 28, 182, 0, 241, 42, 43]
abbrev dktX10_isAhead_5 : List UInt8 := dkwX10_isAhead_5 ++ dktX10_isAhead_6
def dkwX10_isAhead_4 : List UInt8 := [160, 0, 21, 42, 43, 29, 182, 1, 6, 42, 43, 28, 182, 1, 6, 100, 54, 5, 167, 0, 40, 42, 43, 42]
abbrev dktX10_isAhead_4 : List UInt8 := dkwX10_isAhead_4 ++ dktX10_isAhead_5
def dkwX10_isAhead_3 : List UInt8 := [43, 29, 182, 1, 0, 42, 43, 28, 182, 1, 0, 184, 1, 16, 54, 5, 167, 0, 65, 43, 8, 46, 5]
abbrev dktX10_isAhead_3 : List UInt8 := dkwX10_isAhead_3 ++ dktX10_isAhead_4
def dkwX10_isAhead_2 : List UInt8 := [42, 43, 29, 182, 0, 250, 162, 0, 7, 4, 167, 0, 4, 3, 172, 43, 8, 46, 4, 160, 0, 24, 43, 42]
abbrev dktX10_isAhead_2 : List UInt8 := dkwX10_isAhead_2 ++ dktX10_isAhead_3
def dkwX10_isAhead_1 : List UInt8 := [21, 4, 153, 0, 16, 21, 4, 158, 0, 7, 4, 167, 0, 27, 3, 167, 0, 23, 42, 43, 28, 182, 0, 250]
abbrev dktX10_isAhead_1 : List UInt8 := dkwX10_isAhead_1 ++ dktX10_isAhead_2
def dkwX10_isAhead_0 : List UInt8 := [43, 16, 107, 28, 96, 46, 43, 16, 107, 29, 96, 46, 100, 54, 4, 3, 54, 5, 43, 8, 46, 154, 0, 42]
abbrev dktX10_isAhead_0 : List UInt8 := dkwX10_isAhead_0 ++ dktX10_isAhead_1
theorem dksX10_isAhead_0 : cX10_isAhead.data.toList.drop 0 = dktX10_isAhead_0 := by decide +kernel
theorem dksX10_isAhead_1 : cX10_isAhead.data.toList.drop 24 = dktX10_isAhead_1 := dk_seg dksX10_isAhead_0 24 rfl rfl
theorem dksX10_isAhead_2 : cX10_isAhead.data.toList.drop 48 = dktX10_isAhead_2 := dk_seg dksX10_isAhead_1 24 rfl rfl
theorem dksX10_isAhead_3 : cX10_isAhead.data.toList.drop 72 = dktX10_isAhead_3 := dk_seg dksX10_isAhead_2 24 rfl rfl
theorem dksX10_isAhead_4 : cX10_isAhead.data.toList.drop 95 = dktX10_isAhead_4 := dk_seg dksX10_isAhead_3 23 rfl rfl
theorem dksX10_isAhead_5 : cX10_isAhead.data.toList.drop 119 = dktX10_isAhead_5 := dk_seg dksX10_isAhead_4 24 rfl rfl
theorem dksX10_isAhead_6 : cX10_isAhead.data.toList.drop 143 = dktX10_isAhead_6 := dk_seg dksX10_isAhead_5 24 rfl rfl
theorem dksX10_isAhead_7 : cX10_isAhead.data.toList.drop 167 = dktX10_isAhead_7 := dk_seg dksX10_isAhead_6 24 rfl rfl
theorem dX10_isAhead_0 : decode cX10_isAhead 0 = .ok (.aload_n 1, 1) := dk_43 (dk_at dksX10_isAhead_0 0 rfl rfl)
theorem dX10_isAhead_1 : decode cX10_isAhead 1 = .ok (.bipush 107, 2) := dk_16 107 (dk_at dksX10_isAhead_0 1 rfl rfl)
theorem dX10_isAhead_3 : decode cX10_isAhead 3 = .ok (.iload_n 2, 1) := dk_28 (dk_at dksX10_isAhead_0 3 rfl rfl)
theorem dX10_isAhead_4 : decode cX10_isAhead 4 = .ok (.iadd, 1) := dk_96 (dk_at dksX10_isAhead_0 4 rfl rfl)
theorem dX10_isAhead_5 : decode cX10_isAhead 5 = .ok (.iaload, 1) := dk_46 (dk_at dksX10_isAhead_0 5 rfl rfl)
theorem dX10_isAhead_6 : decode cX10_isAhead 6 = .ok (.aload_n 1, 1) := dk_43 (dk_at dksX10_isAhead_0 6 rfl rfl)
theorem dX10_isAhead_7 : decode cX10_isAhead 7 = .ok (.bipush 107, 2) := dk_16 107 (dk_at dksX10_isAhead_0 7 rfl rfl)
theorem dX10_isAhead_9 : decode cX10_isAhead 9 = .ok (.iload_n 3, 1) := dk_29 (dk_at dksX10_isAhead_0 9 rfl rfl)
theorem dX10_isAhead_10 : decode cX10_isAhead 10 = .ok (.iadd, 1) := dk_96 (dk_at dksX10_isAhead_0 10 rfl rfl)
theorem dX10_isAhead_11 : decode cX10_isAhead 11 = .ok (.iaload, 1) := dk_46 (dk_at dksX10_isAhead_0 11 rfl rfl)
theorem dX10_isAhead_12 : decode cX10_isAhead 12 = .ok (.isub, 1) := dk_100 (dk_at dksX10_isAhead_0 12 rfl rfl)
theorem dX10_isAhead_13 : decode cX10_isAhead 13 = .ok (.istore 4, 2) := dk_54 4 (dk_at dksX10_isAhead_0 13 rfl rfl)
theorem dX10_isAhead_15 : decode cX10_isAhead 15 = .ok (.iconst 0, 1) := dk_3 (dk_at dksX10_isAhead_0 15 rfl rfl)
theorem dX10_isAhead_16 : decode cX10_isAhead 16 = .ok (.istore 5, 2) := dk_54 5 (dk_at dksX10_isAhead_0 16 rfl rfl)
theorem dX10_isAhead_18 : decode cX10_isAhead 18 = .ok (.aload_n 1, 1) := dk_43 (dk_at dksX10_isAhead_0 18 rfl rfl)
theorem dX10_isAhead_19 : decode cX10_isAhead 19 = .ok (.iconst 5, 1) := dk_8 (dk_at dksX10_isAhead_0 19 rfl rfl)
theorem dX10_isAhead_20 : decode cX10_isAhead 20 = .ok (.iaload, 1) := dk_46 (dk_at dksX10_isAhead_0 20 rfl rfl)
theorem dX10_isAhead_21 : decode cX10_isAhead 21 = .ok (.ifCond .ne 42, 3) := dk_154 0 42 (dk_at dksX10_isAhead_0 21 rfl rfl)
theorem dX10_isAhead_24 : decode cX10_isAhead 24 = .ok (.iload 4, 2) := dk_21 4 (dk_at dksX10_isAhead_1 0 rfl rfl)
theorem dX10_isAhead_26 : decode cX10_isAhead 26 = .ok (.ifCond .eq 16, 3) := dk_153 0 16 (dk_at dksX10_isAhead_1 2 rfl rfl)
theorem dX10_isAhead_29 : decode cX10_isAhead 29 = .ok (.iload 4, 2) := dk_21 4 (dk_at dksX10_isAhead_1 5 rfl rfl)
theorem dX10_isAhead_31 : decode cX10_isAhead 31 = .ok (.ifCond .le 7, 3) := dk_158 0 7 (dk_at dksX10_isAhead_1 7 rfl rfl)
theorem dX10_isAhead_34 : decode cX10_isAhead 34 = .ok (.iconst 1, 1) := dk_4 (dk_at dksX10_isAhead_1 10 rfl rfl)
theorem dX10_isAhead_35 : decode cX10_isAhead 35 = .ok (.goto 27, 3) := dk_167 0 27 (dk_at dksX10_isAhead_1 11 rfl rfl)
theorem dX10_isAhead_38 : decode cX10_isAhead 38 = .ok (.iconst 0, 1) := dk_3 (dk_at dksX10_isAhead_1 14 rfl rfl)
theorem dX10_isAhead_39 : decode cX10_isAhead 39 = .ok (.goto 23, 3) := dk_167 0 23 (dk_at dksX10_isAhead_1 15 rfl rfl)
theorem dX10_isAhead_42 : decode cX10_isAhead 42 = .ok (.aload_n 0, 1) := dk_42 (dk_at dksX10_isAhead_1 18 rfl rfl)
theorem dX10_isAhead_43 : decode cX10_isAhead 43 = .ok (.aload_n 1, 1) := dk_43 (dk_at dksX10_isAhead_1 19 rfl rfl)
theorem dX10_isAhead_44 : decode cX10_isAhead 44 = .ok (.iload_n 2, 1) := dk_28 (dk_at dksX10_isAhead_1 20 rfl rfl)
theorem dX10_isAhead_45 : decode cX10_isAhead 45 = .ok (.invokevirtual 250, 3) := dk_182 0 250 (dk_at dksX10_isAhead_1 21 rfl rfl)
theorem dX10_isAhead_48 : decode cX10_isAhead 48 = .ok (.aload_n 0, 1) := dk_42 (dk_at dksX10_isAhead_2 0 rfl rfl)
theorem dX10_isAhead_49 : decode cX10_isAhead 49 = .ok (.aload_n 1, 1) := dk_43 (dk_at dksX10_isAhead_2 1 rfl rfl)
theorem dX10_isAhead_50 : decode cX10_isAhead 50 = .ok (.iload_n 3, 1) := dk_29 (dk_at dksX10_isAhead_2 2 rfl rfl)
theorem dX10_isAhead_51 : decode cX10_isAhead 51 = .ok (.invokevirtual 250, 3) := dk_182 0 250 (dk_at dksX10_isAhead_2 3 rfl rfl)
theorem dX10_isAhead_54 : decode cX10_isAhead 54 = .ok (.if_icmp .ge 7, 3) := dk_162 0 7 (dk_at dksX10_isAhead_2 6 rfl rfl)
theorem dX10_isAhead_57 : decode cX10_isAhead 57 = .ok (.iconst 1, 1) := dk_4 (dk_at dksX10_isAhead_2 9 rfl rfl)
theorem dX10_isAhead_58 : decode cX10_isAhead 58 = .ok (.goto 4, 3) := dk_167 0 4 (dk_at dksX10_isAhead_2 10 rfl rfl)
theorem dX10_isAhead_61 : decode cX10_isAhead 61 = .ok (.iconst 0, 1) := dk_3 (dk_at dksX10_isAhead_2 13 rfl rfl)
theorem dX10_isAhead_62 : decode cX10_isAhead 62 = .ok (.ireturn, 1) := dk_172 (dk_at dksX10_isAhead_2 14 rfl rfl)
theorem dX10_isAhead_63 : decode cX10_isAhead 63 = .ok (.aload_n 1, 1) := dk_43 (dk_at dksX10_isAhead_2 15 rfl rfl)
theorem dX10_isAhead_64 : decode cX10_isAhead 64 = .ok (.iconst 5, 1) := dk_8 (dk_at dksX10_isAhead_2 16 rfl rfl)
theorem dX10_isAhead_65 : decode cX10_isAhead 65 = .ok (.iaload, 1) := dk_46 (dk_at dksX10_isAhead_2 17 rfl rfl)
theorem dX10_isAhead_66 : decode cX10_isAhead 66 = .ok (.iconst 1, 1) := dk_4 (dk_at dksX10_isAhead_2 18 rfl rfl)
theorem dX10_isAhead_67 : decode cX10_isAhead 67 = .ok (.if_icmp .ne 24, 3) := dk_160 0 24 (dk_at dksX10_isAhead_2 19 rfl rfl)
theorem dX10_isAhead_70 : decode cX10_isAhead 70 = .ok (.aload_n 1, 1) := dk_43 (dk_at dksX10_isAhead_2 22 rfl rfl)
theorem dX10_isAhead_71 : decode cX10_isAhead 71 = .ok (.aload_n 0, 1) := dk_42 (dk_at dksX10_isAhead_2 23 rfl rfl)
theorem dX10_isAhead_72 : decode cX10_isAhead 72 = .ok (.aload_n 1, 1) := dk_43 (dk_at dksX10_isAhead_3 0 rfl rfl)
theorem dX10_isAhead_73 : decode cX10_isAhead 73 = .ok (.iload_n 3, 1) := dk_29 (dk_at dksX10_isAhead_3 1 rfl rfl)
theorem dX10_isAhead_74 : decode cX10_isAhead 74 = .ok (.invokevirtual 256, 3) := dk_182 1 0 (dk_at dksX10_isAhead_3 2 rfl rfl)
theorem dX10_isAhead_77 : decode cX10_isAhead 77 = .ok (.aload_n 0, 1) := dk_42 (dk_at dksX10_isAhead_3 5 rfl rfl)
theorem dX10_isAhead_78 : decode cX10_isAhead 78 = .ok (.aload_n 1, 1) := dk_43 (dk_at dksX10_isAhead_3 6 rfl rfl)
theorem dX10_isAhead_79 : decode cX10_isAhead 79 = .ok (.iload_n 2, 1) := dk_28 (dk_at dksX10_isAhead_3 7 rfl rfl)
theorem dX10_isAhead_80 : decode cX10_isAhead 80 = .ok (.invokevirtual 256, 3) := dk_182 1 0 (dk_at dksX10_isAhead_3 8 rfl rfl)
theorem dX10_isAhead_83 : decode cX10_isAhead 83 = .ok (.invokestatic 272, 3) := dk_184 1 16 (dk_at dksX10_isAhead_3 11 rfl rfl)
theorem dX10_isAhead_86 : decode cX10_isAhead 86 = .ok (.istore 5, 2) := dk_54 5 (dk_at dksX10_isAhead_3 14 rfl rfl)
theorem dX10_isAhead_88 : decode cX10_isAhead 88 = .ok (.goto 65, 3) := dk_167 0 65 (dk_at dksX10_isAhead_3 16 rfl rfl)
theorem dX10_isAhead_91 : decode cX10_isAhead 91 = .ok (.aload_n 1, 1) := dk_43 (dk_at dksX10_isAhead_3 19 rfl rfl)
theorem dX10_isAhead_92 : decode cX10_isAhead 92 = .ok (.iconst 5, 1) := dk_8 (dk_at dksX10_isAhead_3 20 rfl rfl)
theorem dX10_isAhead_93 : decode cX10_isAhead 93 = .ok (.iaload, 1) := dk_46 (dk_at dksX10_isAhead_3 21 rfl rfl)
theorem dX10_isAhead_94 : decode cX10_isAhead 94 = .ok (.iconst 2, 1) := dk_5 (dk_at dksX10_isAhead_3 22 rfl rfl)
theorem dX10_isAhead_95 : decode cX10_isAhead 95 = .ok (.if_icmp .ne 21, 3) := dk_160 0 21 (dk_at dksX10_isAhead_4 0 rfl rfl)
theorem dX10_isAhead_98 : decode cX10_isAhead 98 = .ok (.aload_n 0, 1) := dk_42 (dk_at dksX10_isAhead_4 3 rfl rfl)
theorem dX10_isAhead_99 : decode cX10_isAhead 99 = .ok (.aload_n 1, 1) := dk_43 (dk_at dksX10_isAhead_4 4 rfl rfl)
theorem dX10_isAhead_100 : decode cX10_isAhead 100 = .ok (.iload_n 3, 1) := dk_29 (dk_at dksX10_isAhead_4 5 rfl rfl)
theorem dX10_isAhead_101 : decode cX10_isAhead 101 = .ok (.invokevirtual 262, 3) := dk_182 1 6 (dk_at dksX10_isAhead_4 6 rfl rfl)
theorem dX10_isAhead_104 : decode cX10_isAhead 104 = .ok (.aload_n 0, 1) := dk_42 (dk_at dksX10_isAhead_4 9 rfl rfl)
theorem dX10_isAhead_105 : decode cX10_isAhead 105 = .ok (.aload_n 1, 1) := dk_43 (dk_at dksX10_isAhead_4 10 rfl rfl)
theorem dX10_isAhead_106 : decode cX10_isAhead 106 = .ok (.iload_n 2, 1) := dk_28 (dk_at dksX10_isAhead_4 11 rfl rfl)
theorem dX10_isAhead_107 : decode cX10_isAhead 107 = .ok (.invokevirtual 262, 3) := dk_182 1 6 (dk_at dksX10_isAhead_4 12 rfl rfl)
theorem dX10_isAhead_110 : decode cX10_isAhead 110 = .ok (.isub, 1) := dk_100 (dk_at dksX10_isAhead_4 15 rfl rfl)
theorem dX10_isAhead_111 : decode cX10_isAhead 111 = .ok (.istore 5, 2) := dk_54 5 (dk_at dksX10_isAhead_4 16 rfl rfl)
theorem dX10_isAhead_113 : decode cX10_isAhead 113 = .ok (.goto 40, 3) := dk_167 0 40 (dk_at dksX10_isAhead_4 18 rfl rfl)
theorem dX10_isAhead_116 : decode cX10_isAhead 116 = .ok (.aload_n 0, 1) := dk_42 (dk_at dksX10_isAhead_4 21 rfl rfl)
theorem dX10_isAhead_117 : decode cX10_isAhead 117 = .ok (.aload_n 1, 1) := dk_43 (dk_at dksX10_isAhead_4 22 rfl rfl)
theorem dX10_isAhead_118 : decode cX10_isAhead 118 = .ok (.aload_n 0, 1) := dk_42 (dk_at dksX10_isAhead_4 23 rfl rfl)
theorem dX10_isAhead_119 : decode cX10_isAhead 119 = .ok (.aload_n 1, 1) := dk_43 (dk_at dksX10_isAhead_5 0 rfl rfl)
theorem dX10_isAhead_120 : decode cX10_isAhead 120 = .ok (.iload_n 3, 1) := dk_29 (dk_at dksX10_isAhead_5 1 rfl rfl)
theorem dX10_isAhead_121 : decode cX10_isAhead 121 = .ok (.invokevirtual 241, 3) := dk_182 0 241 (dk_at dksX10_isAhead_5 2 rfl rfl)
theorem dX10_isAhead_124 : decode cX10_isAhead 124 = .ok (.aload_n 0, 1) := dk_42 (dk_at dksX10_isAhead_5 5 rfl rfl)
theorem dX10_isAhead_125 : decode cX10_isAhead 125 = .ok (.aload_n 1, 1) := dk_43 (dk_at dksX10_isAhead_5 6 rfl rfl)
theorem dX10_isAhead_126 : decode cX10_isAhead 126 = .ok (.iload_n 3, 1) := dk_29 (dk_at dksX10_isAhead_5 7 rfl rfl)
theorem dX10_isAhead_127 : decode cX10_isAhead 127 = .ok (.invokevirtual 244, 3) := dk_182 0 244 (dk_at dksX10_isAhead_5 8 rfl rfl)
theorem dX10_isAhead_130 : decode cX10_isAhead 130 = .ok (.invokevirtual 247, 3) := dk_182 0 247 (dk_at dksX10_isAhead_5 11 rfl rfl)
theorem dX10_isAhead_133 : decode cX10_isAhead 133 = .ok (.aload_n 0, 1) := dk_42 (dk_at dksX10_isAhead_5 14 rfl rfl)
theorem dX10_isAhead_134 : decode cX10_isAhead 134 = .ok (.aload_n 1, 1) := dk_43 (dk_at dksX10_isAhead_5 15 rfl rfl)
theorem dX10_isAhead_135 : decode cX10_isAhead 135 = .ok (.aload_n 0, 1) := dk_42 (dk_at dksX10_isAhead_5 16 rfl rfl)
theorem dX10_isAhead_136 : decode cX10_isAhead 136 = .ok (.aload_n 1, 1) := dk_43 (dk_at dksX10_isAhead_5 17 rfl rfl)
theorem dX10_isAhead_137 : decode cX10_isAhead 137 = .ok (.iload_n 2, 1) := dk_28 (dk_at dksX10_isAhead_5 18 rfl rfl)
theorem dX10_isAhead_138 : decode cX10_isAhead 138 = .ok (.invokevirtual 241, 3) := dk_182 0 241 (dk_at dksX10_isAhead_5 19 rfl rfl)
theorem dX10_isAhead_141 : decode cX10_isAhead 141 = .ok (.aload_n 0, 1) := dk_42 (dk_at dksX10_isAhead_5 22 rfl rfl)
theorem dX10_isAhead_142 : decode cX10_isAhead 142 = .ok (.aload_n 1, 1) := dk_43 (dk_at dksX10_isAhead_5 23 rfl rfl)
theorem dX10_isAhead_143 : decode cX10_isAhead 143 = .ok (.iload_n 2, 1) := dk_28 (dk_at dksX10_isAhead_6 0 rfl rfl)
theorem dX10_isAhead_144 : decode cX10_isAhead 144 = .ok (.invokevirtual 244, 3) := dk_182 0 244 (dk_at dksX10_isAhead_6 1 rfl rfl)
theorem dX10_isAhead_147 : decode cX10_isAhead 147 = .ok (.invokevirtual 247, 3) := dk_182 0 247 (dk_at dksX10_isAhead_6 4 rfl rfl)
theorem dX10_isAhead_150 : decode cX10_isAhead 150 = .ok (.isub, 1) := dk_100 (dk_at dksX10_isAhead_6 7 rfl rfl)
theorem dX10_isAhead_151 : decode cX10_isAhead 151 = .ok (.istore 5, 2) := dk_54 5 (dk_at dksX10_isAhead_6 8 rfl rfl)
theorem dX10_isAhead_153 : decode cX10_isAhead 153 = .ok (.iload 5, 2) := dk_21 5 (dk_at dksX10_isAhead_6 10 rfl rfl)
theorem dX10_isAhead_155 : decode cX10_isAhead 155 = .ok (.ifCond .eq 16, 3) := dk_153 0 16 (dk_at dksX10_isAhead_6 12 rfl rfl)
theorem dX10_isAhead_158 : decode cX10_isAhead 158 = .ok (.iload 5, 2) := dk_21 5 (dk_at dksX10_isAhead_6 15 rfl rfl)
theorem dX10_isAhead_160 : decode cX10_isAhead 160 = .ok (.ifCond .le 7, 3) := dk_158 0 7 (dk_at dksX10_isAhead_6 17 rfl rfl)
theorem dX10_isAhead_163 : decode cX10_isAhead 163 = .ok (.iconst 1, 1) := dk_4 (dk_at dksX10_isAhead_6 20 rfl rfl)
theorem dX10_isAhead_164 : decode cX10_isAhead 164 = .ok (.goto 17, 3) := dk_167 0 17 (dk_at dksX10_isAhead_6 21 rfl rfl)
theorem dX10_isAhead_167 : decode cX10_isAhead 167 = .ok (.iconst 0, 1) := dk_3 (dk_at dksX10_isAhead_7 0 rfl rfl)
theorem dX10_isAhead_168 : decode cX10_isAhead 168 = .ok (.goto 13, 3) := dk_167 0 13 (dk_at dksX10_isAhead_7 1 rfl rfl)
theorem dX10_isAhead_171 : decode cX10_isAhead 171 = .ok (.iload 4, 2) := dk_21 4 (dk_at dksX10_isAhead_7 4 rfl rfl)
theorem dX10_isAhead_173 : decode cX10_isAhead 173 = .ok (.ifCond .le 7, 3) := dk_158 0 7 (dk_at dksX10_isAhead_7 6 rfl rfl)
theorem dX10_isAhead_176 : decode cX10_isAhead 176 = .ok (.iconst 1, 1) := dk_4 (dk_at dksX10_isAhead_7 9 rfl rfl)
theorem dX10_isAhead_177 : decode cX10_isAhead 177 = .ok (.goto 4, 3) := dk_167 0 4 (dk_at dksX10_isAhead_7 10 rfl rfl)
theorem dX10_isAhead_180 : decode cX10_isAhead 180 = .ok (.iconst 0, 1) := dk_3 (dk_at dksX10_isAhead_7 13 rfl rfl)
theorem dX10_isAhead_181 : decode cX10_isAhead 181 = .ok (.ireturn, 1) := dk_172 (dk_at dksX10_isAhead_7 14 rfl rfl)
abbrev cX10_sharesBy : ByteArray := prog_22_method_55_code
def yX10_sharesBy : MethodName := ⟨RX10, "sharesBy", "([III)I"⟩
def dkwX10_sharesBy_3 : List UInt8 := [158, 0, 7, 4, 167, 0, 15, 33, 22, 5, 148, 156, 0, 7, 2, 167, 0, 4, 3, 172]
abbrev dktX10_sharesBy_3 : List UInt8 := dkwX10_sharesBy_3 ++ []
def dkwX10_sharesBy_2 : List UInt8 := [16, 23, 28, 96, 46, 133, 4, 42, 16, 17, 27, 96, 46, 184, 0, 215, 133, 105, 55, 5, 33, 22, 5, 148]
abbrev dktX10_sharesBy_2 : List UInt8 := dkwX10_sharesBy_2 ++ dktX10_sharesBy_3
def dkwX10_sharesBy_1 : List UInt8 := [28, 96, 46, 184, 0, 215, 133, 105, 66, 42, 16, 17, 28, 96, 46, 154, 0, 7, 9, 167, 0, 22, 42]
abbrev dktX10_sharesBy_1 : List UInt8 := dkwX10_sharesBy_1 ++ dktX10_sharesBy_2
def dkwX10_sharesBy_0 : List UInt8 := [42, 16, 17, 27, 96, 46, 154, 0, 7, 9, 167, 0, 22, 42, 16, 23, 27, 96, 46, 133, 4, 42, 16, 17]
abbrev dktX10_sharesBy_0 : List UInt8 := dkwX10_sharesBy_0 ++ dktX10_sharesBy_1
theorem dksX10_sharesBy_0 : cX10_sharesBy.data.toList.drop 0 = dktX10_sharesBy_0 := by decide +kernel
theorem dksX10_sharesBy_1 : cX10_sharesBy.data.toList.drop 24 = dktX10_sharesBy_1 := dk_seg dksX10_sharesBy_0 24 rfl rfl
theorem dksX10_sharesBy_2 : cX10_sharesBy.data.toList.drop 47 = dktX10_sharesBy_2 := dk_seg dksX10_sharesBy_1 23 rfl rfl
theorem dksX10_sharesBy_3 : cX10_sharesBy.data.toList.drop 71 = dktX10_sharesBy_3 := dk_seg dksX10_sharesBy_2 24 rfl rfl
theorem dX10_sharesBy_0 : decode cX10_sharesBy 0 = .ok (.aload_n 0, 1) := dk_42 (dk_at dksX10_sharesBy_0 0 rfl rfl)
theorem dX10_sharesBy_1 : decode cX10_sharesBy 1 = .ok (.bipush 17, 2) := dk_16 17 (dk_at dksX10_sharesBy_0 1 rfl rfl)
theorem dX10_sharesBy_3 : decode cX10_sharesBy 3 = .ok (.iload_n 1, 1) := dk_27 (dk_at dksX10_sharesBy_0 3 rfl rfl)
theorem dX10_sharesBy_4 : decode cX10_sharesBy 4 = .ok (.iadd, 1) := dk_96 (dk_at dksX10_sharesBy_0 4 rfl rfl)
theorem dX10_sharesBy_5 : decode cX10_sharesBy 5 = .ok (.iaload, 1) := dk_46 (dk_at dksX10_sharesBy_0 5 rfl rfl)
theorem dX10_sharesBy_6 : decode cX10_sharesBy 6 = .ok (.ifCond .ne 7, 3) := dk_154 0 7 (dk_at dksX10_sharesBy_0 6 rfl rfl)
theorem dX10_sharesBy_9 : decode cX10_sharesBy 9 = .ok (.lconst 0, 1) := dk_9 (dk_at dksX10_sharesBy_0 9 rfl rfl)
theorem dX10_sharesBy_10 : decode cX10_sharesBy 10 = .ok (.goto 22, 3) := dk_167 0 22 (dk_at dksX10_sharesBy_0 10 rfl rfl)
theorem dX10_sharesBy_13 : decode cX10_sharesBy 13 = .ok (.aload_n 0, 1) := dk_42 (dk_at dksX10_sharesBy_0 13 rfl rfl)
theorem dX10_sharesBy_14 : decode cX10_sharesBy 14 = .ok (.bipush 23, 2) := dk_16 23 (dk_at dksX10_sharesBy_0 14 rfl rfl)
theorem dX10_sharesBy_16 : decode cX10_sharesBy 16 = .ok (.iload_n 1, 1) := dk_27 (dk_at dksX10_sharesBy_0 16 rfl rfl)
theorem dX10_sharesBy_17 : decode cX10_sharesBy 17 = .ok (.iadd, 1) := dk_96 (dk_at dksX10_sharesBy_0 17 rfl rfl)
theorem dX10_sharesBy_18 : decode cX10_sharesBy 18 = .ok (.iaload, 1) := dk_46 (dk_at dksX10_sharesBy_0 18 rfl rfl)
theorem dX10_sharesBy_19 : decode cX10_sharesBy 19 = .ok (.i2l, 1) := dk_133 (dk_at dksX10_sharesBy_0 19 rfl rfl)
theorem dX10_sharesBy_20 : decode cX10_sharesBy 20 = .ok (.iconst 1, 1) := dk_4 (dk_at dksX10_sharesBy_0 20 rfl rfl)
theorem dX10_sharesBy_21 : decode cX10_sharesBy 21 = .ok (.aload_n 0, 1) := dk_42 (dk_at dksX10_sharesBy_0 21 rfl rfl)
theorem dX10_sharesBy_22 : decode cX10_sharesBy 22 = .ok (.bipush 17, 2) := dk_16 17 (dk_at dksX10_sharesBy_0 22 rfl rfl)
theorem dX10_sharesBy_24 : decode cX10_sharesBy 24 = .ok (.iload_n 2, 1) := dk_28 (dk_at dksX10_sharesBy_1 0 rfl rfl)
theorem dX10_sharesBy_25 : decode cX10_sharesBy 25 = .ok (.iadd, 1) := dk_96 (dk_at dksX10_sharesBy_1 1 rfl rfl)
theorem dX10_sharesBy_26 : decode cX10_sharesBy 26 = .ok (.iaload, 1) := dk_46 (dk_at dksX10_sharesBy_1 2 rfl rfl)
theorem dX10_sharesBy_27 : decode cX10_sharesBy 27 = .ok (.invokestatic 215, 3) := dk_184 0 215 (dk_at dksX10_sharesBy_1 3 rfl rfl)
theorem dX10_sharesBy_30 : decode cX10_sharesBy 30 = .ok (.i2l, 1) := dk_133 (dk_at dksX10_sharesBy_1 6 rfl rfl)
theorem dX10_sharesBy_31 : decode cX10_sharesBy 31 = .ok (.lmul, 1) := dk_105 (dk_at dksX10_sharesBy_1 7 rfl rfl)
theorem dX10_sharesBy_32 : decode cX10_sharesBy 32 = .ok (.lstore_n 3, 1) := dk_66 (dk_at dksX10_sharesBy_1 8 rfl rfl)
theorem dX10_sharesBy_33 : decode cX10_sharesBy 33 = .ok (.aload_n 0, 1) := dk_42 (dk_at dksX10_sharesBy_1 9 rfl rfl)
theorem dX10_sharesBy_34 : decode cX10_sharesBy 34 = .ok (.bipush 17, 2) := dk_16 17 (dk_at dksX10_sharesBy_1 10 rfl rfl)
theorem dX10_sharesBy_36 : decode cX10_sharesBy 36 = .ok (.iload_n 2, 1) := dk_28 (dk_at dksX10_sharesBy_1 12 rfl rfl)
theorem dX10_sharesBy_37 : decode cX10_sharesBy 37 = .ok (.iadd, 1) := dk_96 (dk_at dksX10_sharesBy_1 13 rfl rfl)
theorem dX10_sharesBy_38 : decode cX10_sharesBy 38 = .ok (.iaload, 1) := dk_46 (dk_at dksX10_sharesBy_1 14 rfl rfl)
theorem dX10_sharesBy_39 : decode cX10_sharesBy 39 = .ok (.ifCond .ne 7, 3) := dk_154 0 7 (dk_at dksX10_sharesBy_1 15 rfl rfl)
theorem dX10_sharesBy_42 : decode cX10_sharesBy 42 = .ok (.lconst 0, 1) := dk_9 (dk_at dksX10_sharesBy_1 18 rfl rfl)
theorem dX10_sharesBy_43 : decode cX10_sharesBy 43 = .ok (.goto 22, 3) := dk_167 0 22 (dk_at dksX10_sharesBy_1 19 rfl rfl)
theorem dX10_sharesBy_46 : decode cX10_sharesBy 46 = .ok (.aload_n 0, 1) := dk_42 (dk_at dksX10_sharesBy_1 22 rfl rfl)
theorem dX10_sharesBy_47 : decode cX10_sharesBy 47 = .ok (.bipush 23, 2) := dk_16 23 (dk_at dksX10_sharesBy_2 0 rfl rfl)
theorem dX10_sharesBy_49 : decode cX10_sharesBy 49 = .ok (.iload_n 2, 1) := dk_28 (dk_at dksX10_sharesBy_2 2 rfl rfl)
theorem dX10_sharesBy_50 : decode cX10_sharesBy 50 = .ok (.iadd, 1) := dk_96 (dk_at dksX10_sharesBy_2 3 rfl rfl)
theorem dX10_sharesBy_51 : decode cX10_sharesBy 51 = .ok (.iaload, 1) := dk_46 (dk_at dksX10_sharesBy_2 4 rfl rfl)
theorem dX10_sharesBy_52 : decode cX10_sharesBy 52 = .ok (.i2l, 1) := dk_133 (dk_at dksX10_sharesBy_2 5 rfl rfl)
theorem dX10_sharesBy_53 : decode cX10_sharesBy 53 = .ok (.iconst 1, 1) := dk_4 (dk_at dksX10_sharesBy_2 6 rfl rfl)
theorem dX10_sharesBy_54 : decode cX10_sharesBy 54 = .ok (.aload_n 0, 1) := dk_42 (dk_at dksX10_sharesBy_2 7 rfl rfl)
theorem dX10_sharesBy_55 : decode cX10_sharesBy 55 = .ok (.bipush 17, 2) := dk_16 17 (dk_at dksX10_sharesBy_2 8 rfl rfl)
theorem dX10_sharesBy_57 : decode cX10_sharesBy 57 = .ok (.iload_n 1, 1) := dk_27 (dk_at dksX10_sharesBy_2 10 rfl rfl)
theorem dX10_sharesBy_58 : decode cX10_sharesBy 58 = .ok (.iadd, 1) := dk_96 (dk_at dksX10_sharesBy_2 11 rfl rfl)
theorem dX10_sharesBy_59 : decode cX10_sharesBy 59 = .ok (.iaload, 1) := dk_46 (dk_at dksX10_sharesBy_2 12 rfl rfl)
theorem dX10_sharesBy_60 : decode cX10_sharesBy 60 = .ok (.invokestatic 215, 3) := dk_184 0 215 (dk_at dksX10_sharesBy_2 13 rfl rfl)
theorem dX10_sharesBy_63 : decode cX10_sharesBy 63 = .ok (.i2l, 1) := dk_133 (dk_at dksX10_sharesBy_2 16 rfl rfl)
theorem dX10_sharesBy_64 : decode cX10_sharesBy 64 = .ok (.lmul, 1) := dk_105 (dk_at dksX10_sharesBy_2 17 rfl rfl)
theorem dX10_sharesBy_65 : decode cX10_sharesBy 65 = .ok (.lstore 5, 2) := dk_55 5 (dk_at dksX10_sharesBy_2 18 rfl rfl)
theorem dX10_sharesBy_67 : decode cX10_sharesBy 67 = .ok (.lload_n 3, 1) := dk_33 (dk_at dksX10_sharesBy_2 20 rfl rfl)
theorem dX10_sharesBy_68 : decode cX10_sharesBy 68 = .ok (.lload 5, 2) := dk_22 5 (dk_at dksX10_sharesBy_2 21 rfl rfl)
theorem dX10_sharesBy_70 : decode cX10_sharesBy 70 = .ok (.lcmp, 1) := dk_148 (dk_at dksX10_sharesBy_2 23 rfl rfl)
theorem dX10_sharesBy_71 : decode cX10_sharesBy 71 = .ok (.ifCond .le 7, 3) := dk_158 0 7 (dk_at dksX10_sharesBy_3 0 rfl rfl)
theorem dX10_sharesBy_74 : decode cX10_sharesBy 74 = .ok (.iconst 1, 1) := dk_4 (dk_at dksX10_sharesBy_3 3 rfl rfl)
theorem dX10_sharesBy_75 : decode cX10_sharesBy 75 = .ok (.goto 15, 3) := dk_167 0 15 (dk_at dksX10_sharesBy_3 4 rfl rfl)
theorem dX10_sharesBy_78 : decode cX10_sharesBy 78 = .ok (.lload_n 3, 1) := dk_33 (dk_at dksX10_sharesBy_3 7 rfl rfl)
theorem dX10_sharesBy_79 : decode cX10_sharesBy 79 = .ok (.lload 5, 2) := dk_22 5 (dk_at dksX10_sharesBy_3 8 rfl rfl)
theorem dX10_sharesBy_81 : decode cX10_sharesBy 81 = .ok (.lcmp, 1) := dk_148 (dk_at dksX10_sharesBy_3 10 rfl rfl)
theorem dX10_sharesBy_82 : decode cX10_sharesBy 82 = .ok (.ifCond .ge 7, 3) := dk_156 0 7 (dk_at dksX10_sharesBy_3 11 rfl rfl)
theorem dX10_sharesBy_85 : decode cX10_sharesBy 85 = .ok (.iconst (-1), 1) := dk_2 (dk_at dksX10_sharesBy_3 14 rfl rfl)
theorem dX10_sharesBy_86 : decode cX10_sharesBy 86 = .ok (.goto 4, 3) := dk_167 0 4 (dk_at dksX10_sharesBy_3 15 rfl rfl)
theorem dX10_sharesBy_89 : decode cX10_sharesBy 89 = .ok (.iconst 0, 1) := dk_3 (dk_at dksX10_sharesBy_3 18 rfl rfl)
theorem dX10_sharesBy_90 : decode cX10_sharesBy 90 = .ok (.ireturn, 1) := dk_172 (dk_at dksX10_sharesBy_3 19 rfl rfl)
abbrev cX10_nextKind : ByteArray := prog_22_method_113_code
def yX10_nextKind : MethodName := ⟨RX10, "nextKind", "()I"⟩
def dkwX10_nextKind_2 : List UInt8 := [182, 1, 93, 172]
abbrev dktX10_nextKind_2 : List UInt8 := dkwX10_nextKind_2 ++ []
def dkwX10_nextKind_1 : List UInt8 := [160, 0, 5, 2, 172, 42, 180, 0, 23, 3, 42, 180, 0, 29, 3, 184, 0, 189, 42, 42, 180, 0, 29]
abbrev dktX10_nextKind_1 : List UInt8 := dkwX10_nextKind_1 ++ dktX10_nextKind_2
def dkwX10_nextKind_0 : List UInt8 := [42, 4, 182, 1, 112, 154, 0, 5, 3, 172, 42, 180, 0, 23, 3, 46, 42, 180, 0, 17, 3, 46]
abbrev dktX10_nextKind_0 : List UInt8 := dkwX10_nextKind_0 ++ dktX10_nextKind_1
theorem dksX10_nextKind_0 : cX10_nextKind.data.toList.drop 0 = dktX10_nextKind_0 := by decide +kernel
theorem dksX10_nextKind_1 : cX10_nextKind.data.toList.drop 22 = dktX10_nextKind_1 := dk_seg dksX10_nextKind_0 22 rfl rfl
theorem dksX10_nextKind_2 : cX10_nextKind.data.toList.drop 45 = dktX10_nextKind_2 := dk_seg dksX10_nextKind_1 23 rfl rfl
theorem dX10_nextKind_0 : decode cX10_nextKind 0 = .ok (.aload_n 0, 1) := dk_42 (dk_at dksX10_nextKind_0 0 rfl rfl)
theorem dX10_nextKind_1 : decode cX10_nextKind 1 = .ok (.iconst 1, 1) := dk_4 (dk_at dksX10_nextKind_0 1 rfl rfl)
theorem dX10_nextKind_2 : decode cX10_nextKind 2 = .ok (.invokevirtual 368, 3) := dk_182 1 112 (dk_at dksX10_nextKind_0 2 rfl rfl)
theorem dX10_nextKind_5 : decode cX10_nextKind 5 = .ok (.ifCond .ne 5, 3) := dk_154 0 5 (dk_at dksX10_nextKind_0 5 rfl rfl)
theorem dX10_nextKind_8 : decode cX10_nextKind 8 = .ok (.iconst 0, 1) := dk_3 (dk_at dksX10_nextKind_0 8 rfl rfl)
theorem dX10_nextKind_9 : decode cX10_nextKind 9 = .ok (.ireturn, 1) := dk_172 (dk_at dksX10_nextKind_0 9 rfl rfl)
theorem dX10_nextKind_10 : decode cX10_nextKind 10 = .ok (.aload_n 0, 1) := dk_42 (dk_at dksX10_nextKind_0 10 rfl rfl)
theorem dX10_nextKind_11 : decode cX10_nextKind 11 = .ok (.getfield 23, 3) := dk_180 0 23 (dk_at dksX10_nextKind_0 11 rfl rfl)
theorem dX10_nextKind_14 : decode cX10_nextKind 14 = .ok (.iconst 0, 1) := dk_3 (dk_at dksX10_nextKind_0 14 rfl rfl)
theorem dX10_nextKind_15 : decode cX10_nextKind 15 = .ok (.iaload, 1) := dk_46 (dk_at dksX10_nextKind_0 15 rfl rfl)
theorem dX10_nextKind_16 : decode cX10_nextKind 16 = .ok (.aload_n 0, 1) := dk_42 (dk_at dksX10_nextKind_0 16 rfl rfl)
theorem dX10_nextKind_17 : decode cX10_nextKind 17 = .ok (.getfield 17, 3) := dk_180 0 17 (dk_at dksX10_nextKind_0 17 rfl rfl)
theorem dX10_nextKind_20 : decode cX10_nextKind 20 = .ok (.iconst 0, 1) := dk_3 (dk_at dksX10_nextKind_0 20 rfl rfl)
theorem dX10_nextKind_21 : decode cX10_nextKind 21 = .ok (.iaload, 1) := dk_46 (dk_at dksX10_nextKind_0 21 rfl rfl)
theorem dX10_nextKind_22 : decode cX10_nextKind 22 = .ok (.if_icmp .ne 5, 3) := dk_160 0 5 (dk_at dksX10_nextKind_1 0 rfl rfl)
theorem dX10_nextKind_25 : decode cX10_nextKind 25 = .ok (.iconst (-1), 1) := dk_2 (dk_at dksX10_nextKind_1 3 rfl rfl)
theorem dX10_nextKind_26 : decode cX10_nextKind 26 = .ok (.ireturn, 1) := dk_172 (dk_at dksX10_nextKind_1 4 rfl rfl)
theorem dX10_nextKind_27 : decode cX10_nextKind 27 = .ok (.aload_n 0, 1) := dk_42 (dk_at dksX10_nextKind_1 5 rfl rfl)
theorem dX10_nextKind_28 : decode cX10_nextKind 28 = .ok (.getfield 23, 3) := dk_180 0 23 (dk_at dksX10_nextKind_1 6 rfl rfl)
theorem dX10_nextKind_31 : decode cX10_nextKind 31 = .ok (.iconst 0, 1) := dk_3 (dk_at dksX10_nextKind_1 9 rfl rfl)
theorem dX10_nextKind_32 : decode cX10_nextKind 32 = .ok (.aload_n 0, 1) := dk_42 (dk_at dksX10_nextKind_1 10 rfl rfl)
theorem dX10_nextKind_33 : decode cX10_nextKind 33 = .ok (.getfield 29, 3) := dk_180 0 29 (dk_at dksX10_nextKind_1 11 rfl rfl)
theorem dX10_nextKind_36 : decode cX10_nextKind 36 = .ok (.iconst 0, 1) := dk_3 (dk_at dksX10_nextKind_1 14 rfl rfl)
theorem dX10_nextKind_37 : decode cX10_nextKind 37 = .ok (.invokestatic 189, 3) := dk_184 0 189 (dk_at dksX10_nextKind_1 15 rfl rfl)
theorem dX10_nextKind_40 : decode cX10_nextKind 40 = .ok (.aload_n 0, 1) := dk_42 (dk_at dksX10_nextKind_1 18 rfl rfl)
theorem dX10_nextKind_41 : decode cX10_nextKind 41 = .ok (.aload_n 0, 1) := dk_42 (dk_at dksX10_nextKind_1 19 rfl rfl)
theorem dX10_nextKind_42 : decode cX10_nextKind 42 = .ok (.getfield 29, 3) := dk_180 0 29 (dk_at dksX10_nextKind_1 20 rfl rfl)
theorem dX10_nextKind_45 : decode cX10_nextKind 45 = .ok (.invokevirtual 349, 3) := dk_182 1 93 (dk_at dksX10_nextKind_2 0 rfl rfl)
theorem dX10_nextKind_48 : decode cX10_nextKind 48 = .ok (.ireturn, 1) := dk_172 (dk_at dksX10_nextKind_2 3 rfl rfl)
abbrev cX10_steps : ByteArray := prog_22_method_72_code
def yX10_steps : MethodName := ⟨RX10, "steps", "([I)I"⟩
def dkwX10_steps_4 : List UInt8 := [21, 4, 28, 184, 1, 89, 21, 5, 172]
abbrev dktX10_steps_4 : List UInt8 := dkwX10_steps_4 ++ []
def dkwX10_steps_3 : List UInt8 := [159, 0, 13, 42, 43, 21, 4, 182, 1, 83, 167, 0, 8, 42, 43, 182, 1, 86, 54, 5, 43, 21, 5]
abbrev dktX10_steps_3 : List UInt8 := dkwX10_steps_3 ++ dktX10_steps_4
def dkwX10_steps_2 : List UInt8 := [182, 1, 73, 153, 0, 11, 42, 43, 182, 1, 77, 167, 0, 33, 42, 43, 182, 1, 80, 54, 4, 21, 4, 2]
abbrev dktX10_steps_2 : List UInt8 := dkwX10_steps_2 ++ dktX10_steps_3
def dkwX10_steps_1 : List UInt8 := [159, 0, 20, 42, 43, 29, 182, 1, 70, 54, 5, 29, 16, 20, 100, 54, 4, 167, 0, 49, 42, 43]
abbrev dktX10_steps_1 : List UInt8 := dkwX10_steps_1 ++ dktX10_steps_2
def dkwX10_steps_0 : List UInt8 := [43, 3, 46, 61, 42, 43, 182, 1, 63, 42, 43, 182, 1, 66, 62, 2, 54, 4, 6, 54, 5, 29, 2]
abbrev dktX10_steps_0 : List UInt8 := dkwX10_steps_0 ++ dktX10_steps_1
theorem dksX10_steps_0 : cX10_steps.data.toList.drop 0 = dktX10_steps_0 := by decide +kernel
theorem dksX10_steps_1 : cX10_steps.data.toList.drop 23 = dktX10_steps_1 := dk_seg dksX10_steps_0 23 rfl rfl
theorem dksX10_steps_2 : cX10_steps.data.toList.drop 45 = dktX10_steps_2 := dk_seg dksX10_steps_1 22 rfl rfl
theorem dksX10_steps_3 : cX10_steps.data.toList.drop 69 = dktX10_steps_3 := dk_seg dksX10_steps_2 24 rfl rfl
theorem dksX10_steps_4 : cX10_steps.data.toList.drop 92 = dktX10_steps_4 := dk_seg dksX10_steps_3 23 rfl rfl
theorem dX10_steps_0 : decode cX10_steps 0 = .ok (.aload_n 1, 1) := dk_43 (dk_at dksX10_steps_0 0 rfl rfl)
theorem dX10_steps_1 : decode cX10_steps 1 = .ok (.iconst 0, 1) := dk_3 (dk_at dksX10_steps_0 1 rfl rfl)
theorem dX10_steps_2 : decode cX10_steps 2 = .ok (.iaload, 1) := dk_46 (dk_at dksX10_steps_0 2 rfl rfl)
theorem dX10_steps_3 : decode cX10_steps 3 = .ok (.istore_n 2, 1) := dk_61 (dk_at dksX10_steps_0 3 rfl rfl)
theorem dX10_steps_4 : decode cX10_steps 4 = .ok (.aload_n 0, 1) := dk_42 (dk_at dksX10_steps_0 4 rfl rfl)
theorem dX10_steps_5 : decode cX10_steps 5 = .ok (.aload_n 1, 1) := dk_43 (dk_at dksX10_steps_0 5 rfl rfl)
theorem dX10_steps_6 : decode cX10_steps 6 = .ok (.invokevirtual 319, 3) := dk_182 1 63 (dk_at dksX10_steps_0 6 rfl rfl)
theorem dX10_steps_9 : decode cX10_steps 9 = .ok (.aload_n 0, 1) := dk_42 (dk_at dksX10_steps_0 9 rfl rfl)
theorem dX10_steps_10 : decode cX10_steps 10 = .ok (.aload_n 1, 1) := dk_43 (dk_at dksX10_steps_0 10 rfl rfl)
theorem dX10_steps_11 : decode cX10_steps 11 = .ok (.invokevirtual 322, 3) := dk_182 1 66 (dk_at dksX10_steps_0 11 rfl rfl)
theorem dX10_steps_14 : decode cX10_steps 14 = .ok (.istore_n 3, 1) := dk_62 (dk_at dksX10_steps_0 14 rfl rfl)
theorem dX10_steps_15 : decode cX10_steps 15 = .ok (.iconst (-1), 1) := dk_2 (dk_at dksX10_steps_0 15 rfl rfl)
theorem dX10_steps_16 : decode cX10_steps 16 = .ok (.istore 4, 2) := dk_54 4 (dk_at dksX10_steps_0 16 rfl rfl)
theorem dX10_steps_18 : decode cX10_steps 18 = .ok (.iconst 3, 1) := dk_6 (dk_at dksX10_steps_0 18 rfl rfl)
theorem dX10_steps_19 : decode cX10_steps 19 = .ok (.istore 5, 2) := dk_54 5 (dk_at dksX10_steps_0 19 rfl rfl)
theorem dX10_steps_21 : decode cX10_steps 21 = .ok (.iload_n 3, 1) := dk_29 (dk_at dksX10_steps_0 21 rfl rfl)
theorem dX10_steps_22 : decode cX10_steps 22 = .ok (.iconst (-1), 1) := dk_2 (dk_at dksX10_steps_0 22 rfl rfl)
theorem dX10_steps_23 : decode cX10_steps 23 = .ok (.if_icmp .eq 20, 3) := dk_159 0 20 (dk_at dksX10_steps_1 0 rfl rfl)
theorem dX10_steps_26 : decode cX10_steps 26 = .ok (.aload_n 0, 1) := dk_42 (dk_at dksX10_steps_1 3 rfl rfl)
theorem dX10_steps_27 : decode cX10_steps 27 = .ok (.aload_n 1, 1) := dk_43 (dk_at dksX10_steps_1 4 rfl rfl)
theorem dX10_steps_28 : decode cX10_steps 28 = .ok (.iload_n 3, 1) := dk_29 (dk_at dksX10_steps_1 5 rfl rfl)
theorem dX10_steps_29 : decode cX10_steps 29 = .ok (.invokevirtual 326, 3) := dk_182 1 70 (dk_at dksX10_steps_1 6 rfl rfl)
theorem dX10_steps_32 : decode cX10_steps 32 = .ok (.istore 5, 2) := dk_54 5 (dk_at dksX10_steps_1 9 rfl rfl)
theorem dX10_steps_34 : decode cX10_steps 34 = .ok (.iload_n 3, 1) := dk_29 (dk_at dksX10_steps_1 11 rfl rfl)
theorem dX10_steps_35 : decode cX10_steps 35 = .ok (.bipush 20, 2) := dk_16 20 (dk_at dksX10_steps_1 12 rfl rfl)
theorem dX10_steps_37 : decode cX10_steps 37 = .ok (.isub, 1) := dk_100 (dk_at dksX10_steps_1 14 rfl rfl)
theorem dX10_steps_38 : decode cX10_steps 38 = .ok (.istore 4, 2) := dk_54 4 (dk_at dksX10_steps_1 15 rfl rfl)
theorem dX10_steps_40 : decode cX10_steps 40 = .ok (.goto 49, 3) := dk_167 0 49 (dk_at dksX10_steps_1 17 rfl rfl)
theorem dX10_steps_43 : decode cX10_steps 43 = .ok (.aload_n 0, 1) := dk_42 (dk_at dksX10_steps_1 20 rfl rfl)
theorem dX10_steps_44 : decode cX10_steps 44 = .ok (.aload_n 1, 1) := dk_43 (dk_at dksX10_steps_1 21 rfl rfl)
theorem dX10_steps_45 : decode cX10_steps 45 = .ok (.invokevirtual 329, 3) := dk_182 1 73 (dk_at dksX10_steps_2 0 rfl rfl)
theorem dX10_steps_48 : decode cX10_steps 48 = .ok (.ifCond .eq 11, 3) := dk_153 0 11 (dk_at dksX10_steps_2 3 rfl rfl)
theorem dX10_steps_51 : decode cX10_steps 51 = .ok (.aload_n 0, 1) := dk_42 (dk_at dksX10_steps_2 6 rfl rfl)
theorem dX10_steps_52 : decode cX10_steps 52 = .ok (.aload_n 1, 1) := dk_43 (dk_at dksX10_steps_2 7 rfl rfl)
theorem dX10_steps_53 : decode cX10_steps 53 = .ok (.invokevirtual 333, 3) := dk_182 1 77 (dk_at dksX10_steps_2 8 rfl rfl)
theorem dX10_steps_56 : decode cX10_steps 56 = .ok (.goto 33, 3) := dk_167 0 33 (dk_at dksX10_steps_2 11 rfl rfl)
theorem dX10_steps_59 : decode cX10_steps 59 = .ok (.aload_n 0, 1) := dk_42 (dk_at dksX10_steps_2 14 rfl rfl)
theorem dX10_steps_60 : decode cX10_steps 60 = .ok (.aload_n 1, 1) := dk_43 (dk_at dksX10_steps_2 15 rfl rfl)
theorem dX10_steps_61 : decode cX10_steps 61 = .ok (.invokevirtual 336, 3) := dk_182 1 80 (dk_at dksX10_steps_2 16 rfl rfl)
theorem dX10_steps_64 : decode cX10_steps 64 = .ok (.istore 4, 2) := dk_54 4 (dk_at dksX10_steps_2 19 rfl rfl)
theorem dX10_steps_66 : decode cX10_steps 66 = .ok (.iload 4, 2) := dk_21 4 (dk_at dksX10_steps_2 21 rfl rfl)
theorem dX10_steps_68 : decode cX10_steps 68 = .ok (.iconst (-1), 1) := dk_2 (dk_at dksX10_steps_2 23 rfl rfl)
theorem dX10_steps_69 : decode cX10_steps 69 = .ok (.if_icmp .eq 13, 3) := dk_159 0 13 (dk_at dksX10_steps_3 0 rfl rfl)
theorem dX10_steps_72 : decode cX10_steps 72 = .ok (.aload_n 0, 1) := dk_42 (dk_at dksX10_steps_3 3 rfl rfl)
theorem dX10_steps_73 : decode cX10_steps 73 = .ok (.aload_n 1, 1) := dk_43 (dk_at dksX10_steps_3 4 rfl rfl)
theorem dX10_steps_74 : decode cX10_steps 74 = .ok (.iload 4, 2) := dk_21 4 (dk_at dksX10_steps_3 5 rfl rfl)
theorem dX10_steps_76 : decode cX10_steps 76 = .ok (.invokevirtual 339, 3) := dk_182 1 83 (dk_at dksX10_steps_3 7 rfl rfl)
theorem dX10_steps_79 : decode cX10_steps 79 = .ok (.goto 8, 3) := dk_167 0 8 (dk_at dksX10_steps_3 10 rfl rfl)
theorem dX10_steps_82 : decode cX10_steps 82 = .ok (.aload_n 0, 1) := dk_42 (dk_at dksX10_steps_3 13 rfl rfl)
theorem dX10_steps_83 : decode cX10_steps 83 = .ok (.aload_n 1, 1) := dk_43 (dk_at dksX10_steps_3 14 rfl rfl)
theorem dX10_steps_84 : decode cX10_steps 84 = .ok (.invokevirtual 342, 3) := dk_182 1 86 (dk_at dksX10_steps_3 15 rfl rfl)
theorem dX10_steps_87 : decode cX10_steps 87 = .ok (.istore 5, 2) := dk_54 5 (dk_at dksX10_steps_3 18 rfl rfl)
theorem dX10_steps_89 : decode cX10_steps 89 = .ok (.aload_n 1, 1) := dk_43 (dk_at dksX10_steps_3 20 rfl rfl)
theorem dX10_steps_90 : decode cX10_steps 90 = .ok (.iload 5, 2) := dk_21 5 (dk_at dksX10_steps_3 21 rfl rfl)
theorem dX10_steps_92 : decode cX10_steps 92 = .ok (.iload 4, 2) := dk_21 4 (dk_at dksX10_steps_4 0 rfl rfl)
theorem dX10_steps_94 : decode cX10_steps 94 = .ok (.iload_n 2, 1) := dk_28 (dk_at dksX10_steps_4 2 rfl rfl)
theorem dX10_steps_95 : decode cX10_steps 95 = .ok (.invokestatic 345, 3) := dk_184 1 89 (dk_at dksX10_steps_4 3 rfl rfl)
theorem dX10_steps_98 : decode cX10_steps 98 = .ok (.iload 5, 2) := dk_21 5 (dk_at dksX10_steps_4 6 rfl rfl)
theorem dX10_steps_100 : decode cX10_steps 100 = .ok (.ireturn, 1) := dk_172 (dk_at dksX10_steps_4 8 rfl rfl)
abbrev cX10_expires : ByteArray := prog_22_method_69_code
def yX10_expires : MethodName := ⟨RX10, "expires", "([I)V"⟩
def dkwX10_expires_2 : List UInt8 := [177]
abbrev dktX10_expires_2 : List UInt8 := dkwX10_expires_2 ++ []
def dkwX10_expires_1 : List UInt8 := [43, 28, 182, 1, 6, 43, 3, 46, 162, 0, 10, 43, 28, 184, 0, 253, 5, 79, 132, 2, 1, 167, 255, 214]
abbrev dktX10_expires_1 : List UInt8 := dkwX10_expires_1 ++ dktX10_expires_2
def dkwX10_expires_0 : List UInt8 := [16, 20, 61, 28, 16, 20, 43, 16, 14, 46, 96, 162, 0, 37, 43, 28, 184, 0, 253, 46, 154, 0, 22, 42]
abbrev dktX10_expires_0 : List UInt8 := dkwX10_expires_0 ++ dktX10_expires_1
theorem dksX10_expires_0 : cX10_expires.data.toList.drop 0 = dktX10_expires_0 := by decide +kernel
theorem dksX10_expires_1 : cX10_expires.data.toList.drop 24 = dktX10_expires_1 := dk_seg dksX10_expires_0 24 rfl rfl
theorem dksX10_expires_2 : cX10_expires.data.toList.drop 48 = dktX10_expires_2 := dk_seg dksX10_expires_1 24 rfl rfl
theorem dX10_expires_0 : decode cX10_expires 0 = .ok (.bipush 20, 2) := dk_16 20 (dk_at dksX10_expires_0 0 rfl rfl)
theorem dX10_expires_2 : decode cX10_expires 2 = .ok (.istore_n 2, 1) := dk_61 (dk_at dksX10_expires_0 2 rfl rfl)
theorem dX10_expires_3 : decode cX10_expires 3 = .ok (.iload_n 2, 1) := dk_28 (dk_at dksX10_expires_0 3 rfl rfl)
theorem dX10_expires_4 : decode cX10_expires 4 = .ok (.bipush 20, 2) := dk_16 20 (dk_at dksX10_expires_0 4 rfl rfl)
theorem dX10_expires_6 : decode cX10_expires 6 = .ok (.aload_n 1, 1) := dk_43 (dk_at dksX10_expires_0 6 rfl rfl)
theorem dX10_expires_7 : decode cX10_expires 7 = .ok (.bipush 14, 2) := dk_16 14 (dk_at dksX10_expires_0 7 rfl rfl)
theorem dX10_expires_9 : decode cX10_expires 9 = .ok (.iaload, 1) := dk_46 (dk_at dksX10_expires_0 9 rfl rfl)
theorem dX10_expires_10 : decode cX10_expires 10 = .ok (.iadd, 1) := dk_96 (dk_at dksX10_expires_0 10 rfl rfl)
theorem dX10_expires_11 : decode cX10_expires 11 = .ok (.if_icmp .ge 37, 3) := dk_162 0 37 (dk_at dksX10_expires_0 11 rfl rfl)
theorem dX10_expires_14 : decode cX10_expires 14 = .ok (.aload_n 1, 1) := dk_43 (dk_at dksX10_expires_0 14 rfl rfl)
theorem dX10_expires_15 : decode cX10_expires 15 = .ok (.iload_n 2, 1) := dk_28 (dk_at dksX10_expires_0 15 rfl rfl)
theorem dX10_expires_16 : decode cX10_expires 16 = .ok (.invokestatic 253, 3) := dk_184 0 253 (dk_at dksX10_expires_0 16 rfl rfl)
theorem dX10_expires_19 : decode cX10_expires 19 = .ok (.iaload, 1) := dk_46 (dk_at dksX10_expires_0 19 rfl rfl)
theorem dX10_expires_20 : decode cX10_expires 20 = .ok (.ifCond .ne 22, 3) := dk_154 0 22 (dk_at dksX10_expires_0 20 rfl rfl)
theorem dX10_expires_23 : decode cX10_expires 23 = .ok (.aload_n 0, 1) := dk_42 (dk_at dksX10_expires_0 23 rfl rfl)
theorem dX10_expires_24 : decode cX10_expires 24 = .ok (.aload_n 1, 1) := dk_43 (dk_at dksX10_expires_1 0 rfl rfl)
theorem dX10_expires_25 : decode cX10_expires 25 = .ok (.iload_n 2, 1) := dk_28 (dk_at dksX10_expires_1 1 rfl rfl)
theorem dX10_expires_26 : decode cX10_expires 26 = .ok (.invokevirtual 262, 3) := dk_182 1 6 (dk_at dksX10_expires_1 2 rfl rfl)
theorem dX10_expires_29 : decode cX10_expires 29 = .ok (.aload_n 1, 1) := dk_43 (dk_at dksX10_expires_1 5 rfl rfl)
theorem dX10_expires_30 : decode cX10_expires 30 = .ok (.iconst 0, 1) := dk_3 (dk_at dksX10_expires_1 6 rfl rfl)
theorem dX10_expires_31 : decode cX10_expires 31 = .ok (.iaload, 1) := dk_46 (dk_at dksX10_expires_1 7 rfl rfl)
theorem dX10_expires_32 : decode cX10_expires 32 = .ok (.if_icmp .ge 10, 3) := dk_162 0 10 (dk_at dksX10_expires_1 8 rfl rfl)
theorem dX10_expires_35 : decode cX10_expires 35 = .ok (.aload_n 1, 1) := dk_43 (dk_at dksX10_expires_1 11 rfl rfl)
theorem dX10_expires_36 : decode cX10_expires 36 = .ok (.iload_n 2, 1) := dk_28 (dk_at dksX10_expires_1 12 rfl rfl)
theorem dX10_expires_37 : decode cX10_expires 37 = .ok (.invokestatic 253, 3) := dk_184 0 253 (dk_at dksX10_expires_1 13 rfl rfl)
theorem dX10_expires_40 : decode cX10_expires 40 = .ok (.iconst 2, 1) := dk_5 (dk_at dksX10_expires_1 16 rfl rfl)
theorem dX10_expires_41 : decode cX10_expires 41 = .ok (.iastore, 1) := dk_79 (dk_at dksX10_expires_1 17 rfl rfl)
theorem dX10_expires_42 : decode cX10_expires 42 = .ok (.iinc 2 1, 3) := dk_132 2 1 (dk_at dksX10_expires_1 18 rfl rfl)
theorem dX10_expires_45 : decode cX10_expires 45 = .ok (.goto (-42), 3) := dk_167 255 214 (dk_at dksX10_expires_1 21 rfl rfl)
theorem dX10_expires_48 : decode cX10_expires 48 = .ok (.return_, 1) := dk_177 (dk_at dksX10_expires_2 0 rfl rfl)
abbrev cX10_alertFor : ByteArray := prog_22_method_57_code
def yX10_alertFor : MethodName := ⟨RX10, "alertFor", "([I)I"⟩
def dkwX10_alertFor_2 : List UInt8 := [182, 1, 6, 42, 43, 28, 182, 1, 6, 162, 0, 5, 29, 61, 132, 3, 1, 167, 255, 196, 28, 172]
abbrev dktX10_alertFor_2 : List UInt8 := dkwX10_alertFor_2 ++ []
def dkwX10_alertFor_1 : List UInt8 := [46, 163, 0, 37, 42, 43, 29, 182, 1, 19, 153, 0, 6, 167, 0, 25, 28, 2, 159, 0, 18, 42, 43, 29]
abbrev dktX10_alertFor_1 : List UInt8 := dkwX10_alertFor_1 ++ dktX10_alertFor_2
def dkwX10_alertFor_0 : List UInt8 := [2, 61, 16, 20, 62, 29, 16, 20, 43, 16, 14, 46, 96, 162, 0, 55, 42, 43, 29, 182, 0, 227, 43, 3]
abbrev dktX10_alertFor_0 : List UInt8 := dkwX10_alertFor_0 ++ dktX10_alertFor_1
theorem dksX10_alertFor_0 : cX10_alertFor.data.toList.drop 0 = dktX10_alertFor_0 := by decide +kernel
theorem dksX10_alertFor_1 : cX10_alertFor.data.toList.drop 24 = dktX10_alertFor_1 := dk_seg dksX10_alertFor_0 24 rfl rfl
theorem dksX10_alertFor_2 : cX10_alertFor.data.toList.drop 48 = dktX10_alertFor_2 := dk_seg dksX10_alertFor_1 24 rfl rfl
theorem dX10_alertFor_0 : decode cX10_alertFor 0 = .ok (.iconst (-1), 1) := dk_2 (dk_at dksX10_alertFor_0 0 rfl rfl)
theorem dX10_alertFor_1 : decode cX10_alertFor 1 = .ok (.istore_n 2, 1) := dk_61 (dk_at dksX10_alertFor_0 1 rfl rfl)
theorem dX10_alertFor_2 : decode cX10_alertFor 2 = .ok (.bipush 20, 2) := dk_16 20 (dk_at dksX10_alertFor_0 2 rfl rfl)
theorem dX10_alertFor_4 : decode cX10_alertFor 4 = .ok (.istore_n 3, 1) := dk_62 (dk_at dksX10_alertFor_0 4 rfl rfl)
theorem dX10_alertFor_5 : decode cX10_alertFor 5 = .ok (.iload_n 3, 1) := dk_29 (dk_at dksX10_alertFor_0 5 rfl rfl)
theorem dX10_alertFor_6 : decode cX10_alertFor 6 = .ok (.bipush 20, 2) := dk_16 20 (dk_at dksX10_alertFor_0 6 rfl rfl)
theorem dX10_alertFor_8 : decode cX10_alertFor 8 = .ok (.aload_n 1, 1) := dk_43 (dk_at dksX10_alertFor_0 8 rfl rfl)
theorem dX10_alertFor_9 : decode cX10_alertFor 9 = .ok (.bipush 14, 2) := dk_16 14 (dk_at dksX10_alertFor_0 9 rfl rfl)
theorem dX10_alertFor_11 : decode cX10_alertFor 11 = .ok (.iaload, 1) := dk_46 (dk_at dksX10_alertFor_0 11 rfl rfl)
theorem dX10_alertFor_12 : decode cX10_alertFor 12 = .ok (.iadd, 1) := dk_96 (dk_at dksX10_alertFor_0 12 rfl rfl)
theorem dX10_alertFor_13 : decode cX10_alertFor 13 = .ok (.if_icmp .ge 55, 3) := dk_162 0 55 (dk_at dksX10_alertFor_0 13 rfl rfl)
theorem dX10_alertFor_16 : decode cX10_alertFor 16 = .ok (.aload_n 0, 1) := dk_42 (dk_at dksX10_alertFor_0 16 rfl rfl)
theorem dX10_alertFor_17 : decode cX10_alertFor 17 = .ok (.aload_n 1, 1) := dk_43 (dk_at dksX10_alertFor_0 17 rfl rfl)
theorem dX10_alertFor_18 : decode cX10_alertFor 18 = .ok (.iload_n 3, 1) := dk_29 (dk_at dksX10_alertFor_0 18 rfl rfl)
theorem dX10_alertFor_19 : decode cX10_alertFor 19 = .ok (.invokevirtual 227, 3) := dk_182 0 227 (dk_at dksX10_alertFor_0 19 rfl rfl)
theorem dX10_alertFor_22 : decode cX10_alertFor 22 = .ok (.aload_n 1, 1) := dk_43 (dk_at dksX10_alertFor_0 22 rfl rfl)
theorem dX10_alertFor_23 : decode cX10_alertFor 23 = .ok (.iconst 0, 1) := dk_3 (dk_at dksX10_alertFor_0 23 rfl rfl)
theorem dX10_alertFor_24 : decode cX10_alertFor 24 = .ok (.iaload, 1) := dk_46 (dk_at dksX10_alertFor_1 0 rfl rfl)
theorem dX10_alertFor_25 : decode cX10_alertFor 25 = .ok (.if_icmp .gt 37, 3) := dk_163 0 37 (dk_at dksX10_alertFor_1 1 rfl rfl)
theorem dX10_alertFor_28 : decode cX10_alertFor 28 = .ok (.aload_n 0, 1) := dk_42 (dk_at dksX10_alertFor_1 4 rfl rfl)
theorem dX10_alertFor_29 : decode cX10_alertFor 29 = .ok (.aload_n 1, 1) := dk_43 (dk_at dksX10_alertFor_1 5 rfl rfl)
theorem dX10_alertFor_30 : decode cX10_alertFor 30 = .ok (.iload_n 3, 1) := dk_29 (dk_at dksX10_alertFor_1 6 rfl rfl)
theorem dX10_alertFor_31 : decode cX10_alertFor 31 = .ok (.invokevirtual 275, 3) := dk_182 1 19 (dk_at dksX10_alertFor_1 7 rfl rfl)
theorem dX10_alertFor_34 : decode cX10_alertFor 34 = .ok (.ifCond .eq 6, 3) := dk_153 0 6 (dk_at dksX10_alertFor_1 10 rfl rfl)
theorem dX10_alertFor_37 : decode cX10_alertFor 37 = .ok (.goto 25, 3) := dk_167 0 25 (dk_at dksX10_alertFor_1 13 rfl rfl)
theorem dX10_alertFor_40 : decode cX10_alertFor 40 = .ok (.iload_n 2, 1) := dk_28 (dk_at dksX10_alertFor_1 16 rfl rfl)
theorem dX10_alertFor_41 : decode cX10_alertFor 41 = .ok (.iconst (-1), 1) := dk_2 (dk_at dksX10_alertFor_1 17 rfl rfl)
theorem dX10_alertFor_42 : decode cX10_alertFor 42 = .ok (.if_icmp .eq 18, 3) := dk_159 0 18 (dk_at dksX10_alertFor_1 18 rfl rfl)
theorem dX10_alertFor_45 : decode cX10_alertFor 45 = .ok (.aload_n 0, 1) := dk_42 (dk_at dksX10_alertFor_1 21 rfl rfl)
theorem dX10_alertFor_46 : decode cX10_alertFor 46 = .ok (.aload_n 1, 1) := dk_43 (dk_at dksX10_alertFor_1 22 rfl rfl)
theorem dX10_alertFor_47 : decode cX10_alertFor 47 = .ok (.iload_n 3, 1) := dk_29 (dk_at dksX10_alertFor_1 23 rfl rfl)
theorem dX10_alertFor_48 : decode cX10_alertFor 48 = .ok (.invokevirtual 262, 3) := dk_182 1 6 (dk_at dksX10_alertFor_2 0 rfl rfl)
theorem dX10_alertFor_51 : decode cX10_alertFor 51 = .ok (.aload_n 0, 1) := dk_42 (dk_at dksX10_alertFor_2 3 rfl rfl)
theorem dX10_alertFor_52 : decode cX10_alertFor 52 = .ok (.aload_n 1, 1) := dk_43 (dk_at dksX10_alertFor_2 4 rfl rfl)
theorem dX10_alertFor_53 : decode cX10_alertFor 53 = .ok (.iload_n 2, 1) := dk_28 (dk_at dksX10_alertFor_2 5 rfl rfl)
theorem dX10_alertFor_54 : decode cX10_alertFor 54 = .ok (.invokevirtual 262, 3) := dk_182 1 6 (dk_at dksX10_alertFor_2 6 rfl rfl)
theorem dX10_alertFor_57 : decode cX10_alertFor 57 = .ok (.if_icmp .ge 5, 3) := dk_162 0 5 (dk_at dksX10_alertFor_2 9 rfl rfl)
theorem dX10_alertFor_60 : decode cX10_alertFor 60 = .ok (.iload_n 3, 1) := dk_29 (dk_at dksX10_alertFor_2 12 rfl rfl)
theorem dX10_alertFor_61 : decode cX10_alertFor 61 = .ok (.istore_n 2, 1) := dk_61 (dk_at dksX10_alertFor_2 13 rfl rfl)
theorem dX10_alertFor_62 : decode cX10_alertFor 62 = .ok (.iinc 3 1, 3) := dk_132 3 1 (dk_at dksX10_alertFor_2 14 rfl rfl)
theorem dX10_alertFor_65 : decode cX10_alertFor 65 = .ok (.goto (-60), 3) := dk_167 255 196 (dk_at dksX10_alertFor_2 17 rfl rfl)
theorem dX10_alertFor_68 : decode cX10_alertFor 68 = .ok (.iload_n 2, 1) := dk_28 (dk_at dksX10_alertFor_2 20 rfl rfl)
theorem dX10_alertFor_69 : decode cX10_alertFor 69 = .ok (.ireturn, 1) := dk_172 (dk_at dksX10_alertFor_2 21 rfl rfl)
abbrev cX10_makesAlert : ByteArray := prog_22_method_67_code
def yX10_makesAlert : MethodName := ⟨RX10, "makesAlert", "([II)I"⟩
def dkwX10_makesAlert_0 : List UInt8 := [42, 43, 28, 182, 1, 53, 42, 43, 28, 182, 1, 60, 5, 172]
abbrev dktX10_makesAlert_0 : List UInt8 := dkwX10_makesAlert_0 ++ []
theorem dksX10_makesAlert_0 : cX10_makesAlert.data.toList.drop 0 = dktX10_makesAlert_0 := by decide +kernel
theorem dX10_makesAlert_0 : decode cX10_makesAlert 0 = .ok (.aload_n 0, 1) := dk_42 (dk_at dksX10_makesAlert_0 0 rfl rfl)
theorem dX10_makesAlert_1 : decode cX10_makesAlert 1 = .ok (.aload_n 1, 1) := dk_43 (dk_at dksX10_makesAlert_0 1 rfl rfl)
theorem dX10_makesAlert_2 : decode cX10_makesAlert 2 = .ok (.iload_n 2, 1) := dk_28 (dk_at dksX10_makesAlert_0 2 rfl rfl)
theorem dX10_makesAlert_3 : decode cX10_makesAlert 3 = .ok (.invokevirtual 309, 3) := dk_182 1 53 (dk_at dksX10_makesAlert_0 3 rfl rfl)
theorem dX10_makesAlert_6 : decode cX10_makesAlert 6 = .ok (.aload_n 0, 1) := dk_42 (dk_at dksX10_makesAlert_0 6 rfl rfl)
theorem dX10_makesAlert_7 : decode cX10_makesAlert 7 = .ok (.aload_n 1, 1) := dk_43 (dk_at dksX10_makesAlert_0 7 rfl rfl)
theorem dX10_makesAlert_8 : decode cX10_makesAlert 8 = .ok (.iload_n 2, 1) := dk_28 (dk_at dksX10_makesAlert_0 8 rfl rfl)
theorem dX10_makesAlert_9 : decode cX10_makesAlert 9 = .ok (.invokevirtual 316, 3) := dk_182 1 60 (dk_at dksX10_makesAlert_0 9 rfl rfl)
theorem dX10_makesAlert_12 : decode cX10_makesAlert 12 = .ok (.iconst 2, 1) := dk_5 (dk_at dksX10_makesAlert_0 12 rfl rfl)
theorem dX10_makesAlert_13 : decode cX10_makesAlert 13 = .ok (.ireturn, 1) := dk_172 (dk_at dksX10_makesAlert_0 13 rfl rfl)
abbrev cX10_comesTo : ByteArray := prog_22_method_61_code
def yX10_comesTo : MethodName := ⟨RX10, "comesTo", "([II)V"⟩
def dkwX10_comesTo_3 : List UInt8 := [43, 28, 182, 0, 244, 79, 177]
abbrev dktX10_comesTo_3 : List UInt8 := dkwX10_comesTo_3 ++ []
def dkwX10_comesTo_2 : List UInt8 := [96, 92, 46, 29, 96, 79, 43, 5, 29, 184, 1, 26, 43, 4, 42, 43, 28, 182, 0, 241, 79, 43, 5, 42]
abbrev dktX10_comesTo_2 : List UInt8 := dkwX10_comesTo_2 ++ dktX10_comesTo_3
def dkwX10_comesTo_1 : List UInt8 := [28, 182, 0, 244, 182, 0, 247, 62, 43, 3, 92, 46, 29, 96, 79, 43, 16, 41, 42, 43, 28, 182, 1, 0]
abbrev dktX10_comesTo_1 : List UInt8 := dkwX10_comesTo_1 ++ dktX10_comesTo_2
def dkwX10_comesTo_0 : List UInt8 := [42, 43, 28, 182, 0, 237, 153, 0, 8, 42, 43, 182, 1, 30, 42, 43, 42, 43, 28, 182, 0, 241, 42, 43]
abbrev dktX10_comesTo_0 : List UInt8 := dkwX10_comesTo_0 ++ dktX10_comesTo_1
theorem dksX10_comesTo_0 : cX10_comesTo.data.toList.drop 0 = dktX10_comesTo_0 := by decide +kernel
theorem dksX10_comesTo_1 : cX10_comesTo.data.toList.drop 24 = dktX10_comesTo_1 := dk_seg dksX10_comesTo_0 24 rfl rfl
theorem dksX10_comesTo_2 : cX10_comesTo.data.toList.drop 48 = dktX10_comesTo_2 := dk_seg dksX10_comesTo_1 24 rfl rfl
theorem dksX10_comesTo_3 : cX10_comesTo.data.toList.drop 72 = dktX10_comesTo_3 := dk_seg dksX10_comesTo_2 24 rfl rfl
theorem dX10_comesTo_0 : decode cX10_comesTo 0 = .ok (.aload_n 0, 1) := dk_42 (dk_at dksX10_comesTo_0 0 rfl rfl)
theorem dX10_comesTo_1 : decode cX10_comesTo 1 = .ok (.aload_n 1, 1) := dk_43 (dk_at dksX10_comesTo_0 1 rfl rfl)
theorem dX10_comesTo_2 : decode cX10_comesTo 2 = .ok (.iload_n 2, 1) := dk_28 (dk_at dksX10_comesTo_0 2 rfl rfl)
theorem dX10_comesTo_3 : decode cX10_comesTo 3 = .ok (.invokevirtual 237, 3) := dk_182 0 237 (dk_at dksX10_comesTo_0 3 rfl rfl)
theorem dX10_comesTo_6 : decode cX10_comesTo 6 = .ok (.ifCond .eq 8, 3) := dk_153 0 8 (dk_at dksX10_comesTo_0 6 rfl rfl)
theorem dX10_comesTo_9 : decode cX10_comesTo 9 = .ok (.aload_n 0, 1) := dk_42 (dk_at dksX10_comesTo_0 9 rfl rfl)
theorem dX10_comesTo_10 : decode cX10_comesTo 10 = .ok (.aload_n 1, 1) := dk_43 (dk_at dksX10_comesTo_0 10 rfl rfl)
theorem dX10_comesTo_11 : decode cX10_comesTo 11 = .ok (.invokevirtual 286, 3) := dk_182 1 30 (dk_at dksX10_comesTo_0 11 rfl rfl)
theorem dX10_comesTo_14 : decode cX10_comesTo 14 = .ok (.aload_n 0, 1) := dk_42 (dk_at dksX10_comesTo_0 14 rfl rfl)
theorem dX10_comesTo_15 : decode cX10_comesTo 15 = .ok (.aload_n 1, 1) := dk_43 (dk_at dksX10_comesTo_0 15 rfl rfl)
theorem dX10_comesTo_16 : decode cX10_comesTo 16 = .ok (.aload_n 0, 1) := dk_42 (dk_at dksX10_comesTo_0 16 rfl rfl)
theorem dX10_comesTo_17 : decode cX10_comesTo 17 = .ok (.aload_n 1, 1) := dk_43 (dk_at dksX10_comesTo_0 17 rfl rfl)
theorem dX10_comesTo_18 : decode cX10_comesTo 18 = .ok (.iload_n 2, 1) := dk_28 (dk_at dksX10_comesTo_0 18 rfl rfl)
theorem dX10_comesTo_19 : decode cX10_comesTo 19 = .ok (.invokevirtual 241, 3) := dk_182 0 241 (dk_at dksX10_comesTo_0 19 rfl rfl)
theorem dX10_comesTo_22 : decode cX10_comesTo 22 = .ok (.aload_n 0, 1) := dk_42 (dk_at dksX10_comesTo_0 22 rfl rfl)
theorem dX10_comesTo_23 : decode cX10_comesTo 23 = .ok (.aload_n 1, 1) := dk_43 (dk_at dksX10_comesTo_0 23 rfl rfl)
theorem dX10_comesTo_24 : decode cX10_comesTo 24 = .ok (.iload_n 2, 1) := dk_28 (dk_at dksX10_comesTo_1 0 rfl rfl)
theorem dX10_comesTo_25 : decode cX10_comesTo 25 = .ok (.invokevirtual 244, 3) := dk_182 0 244 (dk_at dksX10_comesTo_1 1 rfl rfl)
theorem dX10_comesTo_28 : decode cX10_comesTo 28 = .ok (.invokevirtual 247, 3) := dk_182 0 247 (dk_at dksX10_comesTo_1 4 rfl rfl)
theorem dX10_comesTo_31 : decode cX10_comesTo 31 = .ok (.istore_n 3, 1) := dk_62 (dk_at dksX10_comesTo_1 7 rfl rfl)
theorem dX10_comesTo_32 : decode cX10_comesTo 32 = .ok (.aload_n 1, 1) := dk_43 (dk_at dksX10_comesTo_1 8 rfl rfl)
theorem dX10_comesTo_33 : decode cX10_comesTo 33 = .ok (.iconst 0, 1) := dk_3 (dk_at dksX10_comesTo_1 9 rfl rfl)
theorem dX10_comesTo_34 : decode cX10_comesTo 34 = .ok (.dup2, 1) := dk_92 (dk_at dksX10_comesTo_1 10 rfl rfl)
theorem dX10_comesTo_35 : decode cX10_comesTo 35 = .ok (.iaload, 1) := dk_46 (dk_at dksX10_comesTo_1 11 rfl rfl)
theorem dX10_comesTo_36 : decode cX10_comesTo 36 = .ok (.iload_n 3, 1) := dk_29 (dk_at dksX10_comesTo_1 12 rfl rfl)
theorem dX10_comesTo_37 : decode cX10_comesTo 37 = .ok (.iadd, 1) := dk_96 (dk_at dksX10_comesTo_1 13 rfl rfl)
theorem dX10_comesTo_38 : decode cX10_comesTo 38 = .ok (.iastore, 1) := dk_79 (dk_at dksX10_comesTo_1 14 rfl rfl)
theorem dX10_comesTo_39 : decode cX10_comesTo 39 = .ok (.aload_n 1, 1) := dk_43 (dk_at dksX10_comesTo_1 15 rfl rfl)
theorem dX10_comesTo_40 : decode cX10_comesTo 40 = .ok (.bipush 41, 2) := dk_16 41 (dk_at dksX10_comesTo_1 16 rfl rfl)
theorem dX10_comesTo_42 : decode cX10_comesTo 42 = .ok (.aload_n 0, 1) := dk_42 (dk_at dksX10_comesTo_1 18 rfl rfl)
theorem dX10_comesTo_43 : decode cX10_comesTo 43 = .ok (.aload_n 1, 1) := dk_43 (dk_at dksX10_comesTo_1 19 rfl rfl)
theorem dX10_comesTo_44 : decode cX10_comesTo 44 = .ok (.iload_n 2, 1) := dk_28 (dk_at dksX10_comesTo_1 20 rfl rfl)
theorem dX10_comesTo_45 : decode cX10_comesTo 45 = .ok (.invokevirtual 256, 3) := dk_182 1 0 (dk_at dksX10_comesTo_1 21 rfl rfl)
theorem dX10_comesTo_48 : decode cX10_comesTo 48 = .ok (.iadd, 1) := dk_96 (dk_at dksX10_comesTo_2 0 rfl rfl)
theorem dX10_comesTo_49 : decode cX10_comesTo 49 = .ok (.dup2, 1) := dk_92 (dk_at dksX10_comesTo_2 1 rfl rfl)
theorem dX10_comesTo_50 : decode cX10_comesTo 50 = .ok (.iaload, 1) := dk_46 (dk_at dksX10_comesTo_2 2 rfl rfl)
theorem dX10_comesTo_51 : decode cX10_comesTo 51 = .ok (.iload_n 3, 1) := dk_29 (dk_at dksX10_comesTo_2 3 rfl rfl)
theorem dX10_comesTo_52 : decode cX10_comesTo 52 = .ok (.iadd, 1) := dk_96 (dk_at dksX10_comesTo_2 4 rfl rfl)
theorem dX10_comesTo_53 : decode cX10_comesTo 53 = .ok (.iastore, 1) := dk_79 (dk_at dksX10_comesTo_2 5 rfl rfl)
theorem dX10_comesTo_54 : decode cX10_comesTo 54 = .ok (.aload_n 1, 1) := dk_43 (dk_at dksX10_comesTo_2 6 rfl rfl)
theorem dX10_comesTo_55 : decode cX10_comesTo 55 = .ok (.iconst 2, 1) := dk_5 (dk_at dksX10_comesTo_2 7 rfl rfl)
theorem dX10_comesTo_56 : decode cX10_comesTo 56 = .ok (.iload_n 3, 1) := dk_29 (dk_at dksX10_comesTo_2 8 rfl rfl)
theorem dX10_comesTo_57 : decode cX10_comesTo 57 = .ok (.invokestatic 282, 3) := dk_184 1 26 (dk_at dksX10_comesTo_2 9 rfl rfl)
theorem dX10_comesTo_60 : decode cX10_comesTo 60 = .ok (.aload_n 1, 1) := dk_43 (dk_at dksX10_comesTo_2 12 rfl rfl)
theorem dX10_comesTo_61 : decode cX10_comesTo 61 = .ok (.iconst 1, 1) := dk_4 (dk_at dksX10_comesTo_2 13 rfl rfl)
theorem dX10_comesTo_62 : decode cX10_comesTo 62 = .ok (.aload_n 0, 1) := dk_42 (dk_at dksX10_comesTo_2 14 rfl rfl)
theorem dX10_comesTo_63 : decode cX10_comesTo 63 = .ok (.aload_n 1, 1) := dk_43 (dk_at dksX10_comesTo_2 15 rfl rfl)
theorem dX10_comesTo_64 : decode cX10_comesTo 64 = .ok (.iload_n 2, 1) := dk_28 (dk_at dksX10_comesTo_2 16 rfl rfl)
theorem dX10_comesTo_65 : decode cX10_comesTo 65 = .ok (.invokevirtual 241, 3) := dk_182 0 241 (dk_at dksX10_comesTo_2 17 rfl rfl)
theorem dX10_comesTo_68 : decode cX10_comesTo 68 = .ok (.iastore, 1) := dk_79 (dk_at dksX10_comesTo_2 20 rfl rfl)
theorem dX10_comesTo_69 : decode cX10_comesTo 69 = .ok (.aload_n 1, 1) := dk_43 (dk_at dksX10_comesTo_2 21 rfl rfl)
theorem dX10_comesTo_70 : decode cX10_comesTo 70 = .ok (.iconst 2, 1) := dk_5 (dk_at dksX10_comesTo_2 22 rfl rfl)
theorem dX10_comesTo_71 : decode cX10_comesTo 71 = .ok (.aload_n 0, 1) := dk_42 (dk_at dksX10_comesTo_2 23 rfl rfl)
theorem dX10_comesTo_72 : decode cX10_comesTo 72 = .ok (.aload_n 1, 1) := dk_43 (dk_at dksX10_comesTo_3 0 rfl rfl)
theorem dX10_comesTo_73 : decode cX10_comesTo 73 = .ok (.iload_n 2, 1) := dk_28 (dk_at dksX10_comesTo_3 1 rfl rfl)
theorem dX10_comesTo_74 : decode cX10_comesTo 74 = .ok (.invokevirtual 244, 3) := dk_182 0 244 (dk_at dksX10_comesTo_3 2 rfl rfl)
theorem dX10_comesTo_77 : decode cX10_comesTo 77 = .ok (.iastore, 1) := dk_79 (dk_at dksX10_comesTo_3 5 rfl rfl)
theorem dX10_comesTo_78 : decode cX10_comesTo 78 = .ok (.return_, 1) := dk_177 (dk_at dksX10_comesTo_3 6 rfl rfl)
abbrev cX10_dumps : ByteArray := prog_22_method_59_code
def yX10_dumps : MethodName := ⟨RX10, "dumps", "([I)V"⟩
def dkwX10_dumps_1 : List UInt8 := [184, 1, 26, 43, 16, 6, 4, 184, 1, 26, 177]
abbrev dktX10_dumps_1 : List UInt8 := dkwX10_dumps_1 ++ []
def dkwX10_dumps_0 : List UInt8 := [43, 6, 3, 79, 43, 3, 92, 46, 42, 180, 0, 17, 7, 46, 96, 79, 43, 6, 42, 180, 0, 17, 7, 46]
abbrev dktX10_dumps_0 : List UInt8 := dkwX10_dumps_0 ++ dktX10_dumps_1
theorem dksX10_dumps_0 : cX10_dumps.data.toList.drop 0 = dktX10_dumps_0 := by decide +kernel
theorem dksX10_dumps_1 : cX10_dumps.data.toList.drop 24 = dktX10_dumps_1 := dk_seg dksX10_dumps_0 24 rfl rfl
theorem dX10_dumps_0 : decode cX10_dumps 0 = .ok (.aload_n 1, 1) := dk_43 (dk_at dksX10_dumps_0 0 rfl rfl)
theorem dX10_dumps_1 : decode cX10_dumps 1 = .ok (.iconst 3, 1) := dk_6 (dk_at dksX10_dumps_0 1 rfl rfl)
theorem dX10_dumps_2 : decode cX10_dumps 2 = .ok (.iconst 0, 1) := dk_3 (dk_at dksX10_dumps_0 2 rfl rfl)
theorem dX10_dumps_3 : decode cX10_dumps 3 = .ok (.iastore, 1) := dk_79 (dk_at dksX10_dumps_0 3 rfl rfl)
theorem dX10_dumps_4 : decode cX10_dumps 4 = .ok (.aload_n 1, 1) := dk_43 (dk_at dksX10_dumps_0 4 rfl rfl)
theorem dX10_dumps_5 : decode cX10_dumps 5 = .ok (.iconst 0, 1) := dk_3 (dk_at dksX10_dumps_0 5 rfl rfl)
theorem dX10_dumps_6 : decode cX10_dumps 6 = .ok (.dup2, 1) := dk_92 (dk_at dksX10_dumps_0 6 rfl rfl)
theorem dX10_dumps_7 : decode cX10_dumps 7 = .ok (.iaload, 1) := dk_46 (dk_at dksX10_dumps_0 7 rfl rfl)
theorem dX10_dumps_8 : decode cX10_dumps 8 = .ok (.aload_n 0, 1) := dk_42 (dk_at dksX10_dumps_0 8 rfl rfl)
theorem dX10_dumps_9 : decode cX10_dumps 9 = .ok (.getfield 17, 3) := dk_180 0 17 (dk_at dksX10_dumps_0 9 rfl rfl)
theorem dX10_dumps_12 : decode cX10_dumps 12 = .ok (.iconst 4, 1) := dk_7 (dk_at dksX10_dumps_0 12 rfl rfl)
theorem dX10_dumps_13 : decode cX10_dumps 13 = .ok (.iaload, 1) := dk_46 (dk_at dksX10_dumps_0 13 rfl rfl)
theorem dX10_dumps_14 : decode cX10_dumps 14 = .ok (.iadd, 1) := dk_96 (dk_at dksX10_dumps_0 14 rfl rfl)
theorem dX10_dumps_15 : decode cX10_dumps 15 = .ok (.iastore, 1) := dk_79 (dk_at dksX10_dumps_0 15 rfl rfl)
theorem dX10_dumps_16 : decode cX10_dumps 16 = .ok (.aload_n 1, 1) := dk_43 (dk_at dksX10_dumps_0 16 rfl rfl)
theorem dX10_dumps_17 : decode cX10_dumps 17 = .ok (.iconst 3, 1) := dk_6 (dk_at dksX10_dumps_0 17 rfl rfl)
theorem dX10_dumps_18 : decode cX10_dumps 18 = .ok (.aload_n 0, 1) := dk_42 (dk_at dksX10_dumps_0 18 rfl rfl)
theorem dX10_dumps_19 : decode cX10_dumps 19 = .ok (.getfield 17, 3) := dk_180 0 17 (dk_at dksX10_dumps_0 19 rfl rfl)
theorem dX10_dumps_22 : decode cX10_dumps 22 = .ok (.iconst 4, 1) := dk_7 (dk_at dksX10_dumps_0 22 rfl rfl)
theorem dX10_dumps_23 : decode cX10_dumps 23 = .ok (.iaload, 1) := dk_46 (dk_at dksX10_dumps_0 23 rfl rfl)
theorem dX10_dumps_24 : decode cX10_dumps 24 = .ok (.invokestatic 282, 3) := dk_184 1 26 (dk_at dksX10_dumps_1 0 rfl rfl)
theorem dX10_dumps_27 : decode cX10_dumps 27 = .ok (.aload_n 1, 1) := dk_43 (dk_at dksX10_dumps_1 3 rfl rfl)
theorem dX10_dumps_28 : decode cX10_dumps 28 = .ok (.bipush 6, 2) := dk_16 6 (dk_at dksX10_dumps_1 4 rfl rfl)
theorem dX10_dumps_30 : decode cX10_dumps 30 = .ok (.iconst 1, 1) := dk_4 (dk_at dksX10_dumps_1 6 rfl rfl)
theorem dX10_dumps_31 : decode cX10_dumps 31 = .ok (.invokestatic 282, 3) := dk_184 1 26 (dk_at dksX10_dumps_1 7 rfl rfl)
theorem dX10_dumps_34 : decode cX10_dumps 34 = .ok (.return_, 1) := dk_177 (dk_at dksX10_dumps_1 10 rfl rfl)
abbrev cX10_adds : ByteArray := prog_22_method_58_code
def yX10_adds : MethodName := ⟨RX10, "adds", "([III)V"⟩
def dkwX10_adds_0 : List UInt8 := [42, 16, 6, 27, 96, 92, 46, 28, 96, 79, 177]
abbrev dktX10_adds_0 : List UInt8 := dkwX10_adds_0 ++ []
theorem dksX10_adds_0 : cX10_adds.data.toList.drop 0 = dktX10_adds_0 := by decide +kernel
theorem dX10_adds_0 : decode cX10_adds 0 = .ok (.aload_n 0, 1) := dk_42 (dk_at dksX10_adds_0 0 rfl rfl)
theorem dX10_adds_1 : decode cX10_adds 1 = .ok (.bipush 6, 2) := dk_16 6 (dk_at dksX10_adds_0 1 rfl rfl)
theorem dX10_adds_3 : decode cX10_adds 3 = .ok (.iload_n 1, 1) := dk_27 (dk_at dksX10_adds_0 3 rfl rfl)
theorem dX10_adds_4 : decode cX10_adds 4 = .ok (.iadd, 1) := dk_96 (dk_at dksX10_adds_0 4 rfl rfl)
theorem dX10_adds_5 : decode cX10_adds 5 = .ok (.dup2, 1) := dk_92 (dk_at dksX10_adds_0 5 rfl rfl)
theorem dX10_adds_6 : decode cX10_adds 6 = .ok (.iaload, 1) := dk_46 (dk_at dksX10_adds_0 6 rfl rfl)
theorem dX10_adds_7 : decode cX10_adds 7 = .ok (.iload_n 2, 1) := dk_28 (dk_at dksX10_adds_0 7 rfl rfl)
theorem dX10_adds_8 : decode cX10_adds 8 = .ok (.iadd, 1) := dk_96 (dk_at dksX10_adds_0 8 rfl rfl)
theorem dX10_adds_9 : decode cX10_adds 9 = .ok (.iastore, 1) := dk_79 (dk_at dksX10_adds_0 9 rfl rfl)
theorem dX10_adds_10 : decode cX10_adds 10 = .ok (.return_, 1) := dk_177 (dk_at dksX10_adds_0 10 rfl rfl)
abbrev cX10_finishes : ByteArray := prog_22_method_65_code
def yX10_finishes : MethodName := ⟨RX10, "finishes", "([II)V"⟩
def dkwX10_finishes_1 : List UInt8 := [182, 0, 231, 3, 182, 1, 49, 177]
abbrev dktX10_finishes_1 : List UInt8 := dkwX10_finishes_1 ++ []
def dkwX10_finishes_0 : List UInt8 := [43, 28, 184, 1, 46, 43, 3, 46, 79, 43, 28, 184, 0, 253, 4, 79, 42, 43, 28, 42, 43, 28]
abbrev dktX10_finishes_0 : List UInt8 := dkwX10_finishes_0 ++ dktX10_finishes_1
theorem dksX10_finishes_0 : cX10_finishes.data.toList.drop 0 = dktX10_finishes_0 := by decide +kernel
theorem dksX10_finishes_1 : cX10_finishes.data.toList.drop 22 = dktX10_finishes_1 := dk_seg dksX10_finishes_0 22 rfl rfl
theorem dX10_finishes_0 : decode cX10_finishes 0 = .ok (.aload_n 1, 1) := dk_43 (dk_at dksX10_finishes_0 0 rfl rfl)
theorem dX10_finishes_1 : decode cX10_finishes 1 = .ok (.iload_n 2, 1) := dk_28 (dk_at dksX10_finishes_0 1 rfl rfl)
theorem dX10_finishes_2 : decode cX10_finishes 2 = .ok (.invokestatic 302, 3) := dk_184 1 46 (dk_at dksX10_finishes_0 2 rfl rfl)
theorem dX10_finishes_5 : decode cX10_finishes 5 = .ok (.aload_n 1, 1) := dk_43 (dk_at dksX10_finishes_0 5 rfl rfl)
theorem dX10_finishes_6 : decode cX10_finishes 6 = .ok (.iconst 0, 1) := dk_3 (dk_at dksX10_finishes_0 6 rfl rfl)
theorem dX10_finishes_7 : decode cX10_finishes 7 = .ok (.iaload, 1) := dk_46 (dk_at dksX10_finishes_0 7 rfl rfl)
theorem dX10_finishes_8 : decode cX10_finishes 8 = .ok (.iastore, 1) := dk_79 (dk_at dksX10_finishes_0 8 rfl rfl)
theorem dX10_finishes_9 : decode cX10_finishes 9 = .ok (.aload_n 1, 1) := dk_43 (dk_at dksX10_finishes_0 9 rfl rfl)
theorem dX10_finishes_10 : decode cX10_finishes 10 = .ok (.iload_n 2, 1) := dk_28 (dk_at dksX10_finishes_0 10 rfl rfl)
theorem dX10_finishes_11 : decode cX10_finishes 11 = .ok (.invokestatic 253, 3) := dk_184 0 253 (dk_at dksX10_finishes_0 11 rfl rfl)
theorem dX10_finishes_14 : decode cX10_finishes 14 = .ok (.iconst 1, 1) := dk_4 (dk_at dksX10_finishes_0 14 rfl rfl)
theorem dX10_finishes_15 : decode cX10_finishes 15 = .ok (.iastore, 1) := dk_79 (dk_at dksX10_finishes_0 15 rfl rfl)
theorem dX10_finishes_16 : decode cX10_finishes 16 = .ok (.aload_n 0, 1) := dk_42 (dk_at dksX10_finishes_0 16 rfl rfl)
theorem dX10_finishes_17 : decode cX10_finishes 17 = .ok (.aload_n 1, 1) := dk_43 (dk_at dksX10_finishes_0 17 rfl rfl)
theorem dX10_finishes_18 : decode cX10_finishes 18 = .ok (.iload_n 2, 1) := dk_28 (dk_at dksX10_finishes_0 18 rfl rfl)
theorem dX10_finishes_19 : decode cX10_finishes 19 = .ok (.aload_n 0, 1) := dk_42 (dk_at dksX10_finishes_0 19 rfl rfl)
theorem dX10_finishes_20 : decode cX10_finishes 20 = .ok (.aload_n 1, 1) := dk_43 (dk_at dksX10_finishes_0 20 rfl rfl)
theorem dX10_finishes_21 : decode cX10_finishes 21 = .ok (.iload_n 2, 1) := dk_28 (dk_at dksX10_finishes_0 21 rfl rfl)
theorem dX10_finishes_22 : decode cX10_finishes 22 = .ok (.invokevirtual 231, 3) := dk_182 0 231 (dk_at dksX10_finishes_1 0 rfl rfl)
theorem dX10_finishes_25 : decode cX10_finishes 25 = .ok (.iconst 0, 1) := dk_3 (dk_at dksX10_finishes_1 3 rfl rfl)
theorem dX10_finishes_26 : decode cX10_finishes 26 = .ok (.invokevirtual 305, 3) := dk_182 1 49 (dk_at dksX10_finishes_1 4 rfl rfl)
theorem dX10_finishes_29 : decode cX10_finishes 29 = .ok (.return_, 1) := dk_177 (dk_at dksX10_finishes_1 7 rfl rfl)
abbrev cX10_startAt : ByteArray := prog_22_method_47_code
def yX10_startAt : MethodName := ⟨RX10, "startAt", "(I)I"⟩
def dkwX10_startAt_1 : List UInt8 := [16, 8, 96, 172]
abbrev dktX10_startAt_1 : List UInt8 := dkwX10_startAt_1 ++ []
def dkwX10_startAt_0 : List UInt8 := [26, 16, 20, 162, 0, 10, 16, 87, 26, 96, 167, 0, 16, 16, 127, 16, 10, 26, 16, 20, 100, 104, 96]
abbrev dktX10_startAt_0 : List UInt8 := dkwX10_startAt_0 ++ dktX10_startAt_1
theorem dksX10_startAt_0 : cX10_startAt.data.toList.drop 0 = dktX10_startAt_0 := by decide +kernel
theorem dksX10_startAt_1 : cX10_startAt.data.toList.drop 23 = dktX10_startAt_1 := dk_seg dksX10_startAt_0 23 rfl rfl
theorem dX10_startAt_0 : decode cX10_startAt 0 = .ok (.iload_n 0, 1) := dk_26 (dk_at dksX10_startAt_0 0 rfl rfl)
theorem dX10_startAt_1 : decode cX10_startAt 1 = .ok (.bipush 20, 2) := dk_16 20 (dk_at dksX10_startAt_0 1 rfl rfl)
theorem dX10_startAt_3 : decode cX10_startAt 3 = .ok (.if_icmp .ge 10, 3) := dk_162 0 10 (dk_at dksX10_startAt_0 3 rfl rfl)
theorem dX10_startAt_6 : decode cX10_startAt 6 = .ok (.bipush 87, 2) := dk_16 87 (dk_at dksX10_startAt_0 6 rfl rfl)
theorem dX10_startAt_8 : decode cX10_startAt 8 = .ok (.iload_n 0, 1) := dk_26 (dk_at dksX10_startAt_0 8 rfl rfl)
theorem dX10_startAt_9 : decode cX10_startAt 9 = .ok (.iadd, 1) := dk_96 (dk_at dksX10_startAt_0 9 rfl rfl)
theorem dX10_startAt_10 : decode cX10_startAt 10 = .ok (.goto 16, 3) := dk_167 0 16 (dk_at dksX10_startAt_0 10 rfl rfl)
theorem dX10_startAt_13 : decode cX10_startAt 13 = .ok (.bipush 127, 2) := dk_16 127 (dk_at dksX10_startAt_0 13 rfl rfl)
theorem dX10_startAt_15 : decode cX10_startAt 15 = .ok (.bipush 10, 2) := dk_16 10 (dk_at dksX10_startAt_0 15 rfl rfl)
theorem dX10_startAt_17 : decode cX10_startAt 17 = .ok (.iload_n 0, 1) := dk_26 (dk_at dksX10_startAt_0 17 rfl rfl)
theorem dX10_startAt_18 : decode cX10_startAt 18 = .ok (.bipush 20, 2) := dk_16 20 (dk_at dksX10_startAt_0 18 rfl rfl)
theorem dX10_startAt_20 : decode cX10_startAt 20 = .ok (.isub, 1) := dk_100 (dk_at dksX10_startAt_0 20 rfl rfl)
theorem dX10_startAt_21 : decode cX10_startAt 21 = .ok (.imul, 1) := dk_104 (dk_at dksX10_startAt_0 21 rfl rfl)
theorem dX10_startAt_22 : decode cX10_startAt 22 = .ok (.iadd, 1) := dk_96 (dk_at dksX10_startAt_0 22 rfl rfl)
theorem dX10_startAt_23 : decode cX10_startAt 23 = .ok (.bipush 8, 2) := dk_16 8 (dk_at dksX10_startAt_1 0 rfl rfl)
theorem dX10_startAt_25 : decode cX10_startAt 25 = .ok (.iadd, 1) := dk_96 (dk_at dksX10_startAt_1 2 rfl rfl)
theorem dX10_startAt_26 : decode cX10_startAt 26 = .ok (.ireturn, 1) := dk_172 (dk_at dksX10_startAt_1 3 rfl rfl)
abbrev cX10_passes : ByteArray := prog_22_method_62_code
def yX10_passes : MethodName := ⟨RX10, "passes", "([IIIZ)V"⟩
def dkwX10_passes_2 : List UInt8 := [21, 4, 153, 0, 7, 4, 167, 0, 4, 3, 29, 184, 1, 26, 177]
abbrev dktX10_passes_2 : List UInt8 := dkwX10_passes_2 ++ []
def dkwX10_passes_1 : List UInt8 := [153, 0, 8, 16, 29, 167, 0, 5, 16, 23, 42, 43, 28, 182, 1, 0, 96, 92, 46, 29, 96, 79, 43]
abbrev dktX10_passes_1 : List UInt8 := dkwX10_passes_1 ++ dktX10_passes_2
def dkwX10_passes_0 : List UInt8 := [43, 6, 92, 46, 42, 43, 28, 29, 182, 0, 234, 96, 79, 43, 3, 92, 46, 29, 96, 79, 43, 21, 4]
abbrev dktX10_passes_0 : List UInt8 := dkwX10_passes_0 ++ dktX10_passes_1
theorem dksX10_passes_0 : cX10_passes.data.toList.drop 0 = dktX10_passes_0 := by decide +kernel
theorem dksX10_passes_1 : cX10_passes.data.toList.drop 23 = dktX10_passes_1 := dk_seg dksX10_passes_0 23 rfl rfl
theorem dksX10_passes_2 : cX10_passes.data.toList.drop 46 = dktX10_passes_2 := dk_seg dksX10_passes_1 23 rfl rfl
theorem dX10_passes_0 : decode cX10_passes 0 = .ok (.aload_n 1, 1) := dk_43 (dk_at dksX10_passes_0 0 rfl rfl)
theorem dX10_passes_1 : decode cX10_passes 1 = .ok (.iconst 3, 1) := dk_6 (dk_at dksX10_passes_0 1 rfl rfl)
theorem dX10_passes_2 : decode cX10_passes 2 = .ok (.dup2, 1) := dk_92 (dk_at dksX10_passes_0 2 rfl rfl)
theorem dX10_passes_3 : decode cX10_passes 3 = .ok (.iaload, 1) := dk_46 (dk_at dksX10_passes_0 3 rfl rfl)
theorem dX10_passes_4 : decode cX10_passes 4 = .ok (.aload_n 0, 1) := dk_42 (dk_at dksX10_passes_0 4 rfl rfl)
theorem dX10_passes_5 : decode cX10_passes 5 = .ok (.aload_n 1, 1) := dk_43 (dk_at dksX10_passes_0 5 rfl rfl)
theorem dX10_passes_6 : decode cX10_passes 6 = .ok (.iload_n 2, 1) := dk_28 (dk_at dksX10_passes_0 6 rfl rfl)
theorem dX10_passes_7 : decode cX10_passes 7 = .ok (.iload_n 3, 1) := dk_29 (dk_at dksX10_passes_0 7 rfl rfl)
theorem dX10_passes_8 : decode cX10_passes 8 = .ok (.invokevirtual 234, 3) := dk_182 0 234 (dk_at dksX10_passes_0 8 rfl rfl)
theorem dX10_passes_11 : decode cX10_passes 11 = .ok (.iadd, 1) := dk_96 (dk_at dksX10_passes_0 11 rfl rfl)
theorem dX10_passes_12 : decode cX10_passes 12 = .ok (.iastore, 1) := dk_79 (dk_at dksX10_passes_0 12 rfl rfl)
theorem dX10_passes_13 : decode cX10_passes 13 = .ok (.aload_n 1, 1) := dk_43 (dk_at dksX10_passes_0 13 rfl rfl)
theorem dX10_passes_14 : decode cX10_passes 14 = .ok (.iconst 0, 1) := dk_3 (dk_at dksX10_passes_0 14 rfl rfl)
theorem dX10_passes_15 : decode cX10_passes 15 = .ok (.dup2, 1) := dk_92 (dk_at dksX10_passes_0 15 rfl rfl)
theorem dX10_passes_16 : decode cX10_passes 16 = .ok (.iaload, 1) := dk_46 (dk_at dksX10_passes_0 16 rfl rfl)
theorem dX10_passes_17 : decode cX10_passes 17 = .ok (.iload_n 3, 1) := dk_29 (dk_at dksX10_passes_0 17 rfl rfl)
theorem dX10_passes_18 : decode cX10_passes 18 = .ok (.iadd, 1) := dk_96 (dk_at dksX10_passes_0 18 rfl rfl)
theorem dX10_passes_19 : decode cX10_passes 19 = .ok (.iastore, 1) := dk_79 (dk_at dksX10_passes_0 19 rfl rfl)
theorem dX10_passes_20 : decode cX10_passes 20 = .ok (.aload_n 1, 1) := dk_43 (dk_at dksX10_passes_0 20 rfl rfl)
theorem dX10_passes_21 : decode cX10_passes 21 = .ok (.iload 4, 2) := dk_21 4 (dk_at dksX10_passes_0 21 rfl rfl)
theorem dX10_passes_23 : decode cX10_passes 23 = .ok (.ifCond .eq 8, 3) := dk_153 0 8 (dk_at dksX10_passes_1 0 rfl rfl)
theorem dX10_passes_26 : decode cX10_passes 26 = .ok (.bipush 29, 2) := dk_16 29 (dk_at dksX10_passes_1 3 rfl rfl)
theorem dX10_passes_28 : decode cX10_passes 28 = .ok (.goto 5, 3) := dk_167 0 5 (dk_at dksX10_passes_1 5 rfl rfl)
theorem dX10_passes_31 : decode cX10_passes 31 = .ok (.bipush 23, 2) := dk_16 23 (dk_at dksX10_passes_1 8 rfl rfl)
theorem dX10_passes_33 : decode cX10_passes 33 = .ok (.aload_n 0, 1) := dk_42 (dk_at dksX10_passes_1 10 rfl rfl)
theorem dX10_passes_34 : decode cX10_passes 34 = .ok (.aload_n 1, 1) := dk_43 (dk_at dksX10_passes_1 11 rfl rfl)
theorem dX10_passes_35 : decode cX10_passes 35 = .ok (.iload_n 2, 1) := dk_28 (dk_at dksX10_passes_1 12 rfl rfl)
theorem dX10_passes_36 : decode cX10_passes 36 = .ok (.invokevirtual 256, 3) := dk_182 1 0 (dk_at dksX10_passes_1 13 rfl rfl)
theorem dX10_passes_39 : decode cX10_passes 39 = .ok (.iadd, 1) := dk_96 (dk_at dksX10_passes_1 16 rfl rfl)
theorem dX10_passes_40 : decode cX10_passes 40 = .ok (.dup2, 1) := dk_92 (dk_at dksX10_passes_1 17 rfl rfl)
theorem dX10_passes_41 : decode cX10_passes 41 = .ok (.iaload, 1) := dk_46 (dk_at dksX10_passes_1 18 rfl rfl)
theorem dX10_passes_42 : decode cX10_passes 42 = .ok (.iload_n 3, 1) := dk_29 (dk_at dksX10_passes_1 19 rfl rfl)
theorem dX10_passes_43 : decode cX10_passes 43 = .ok (.iadd, 1) := dk_96 (dk_at dksX10_passes_1 20 rfl rfl)
theorem dX10_passes_44 : decode cX10_passes 44 = .ok (.iastore, 1) := dk_79 (dk_at dksX10_passes_1 21 rfl rfl)
theorem dX10_passes_45 : decode cX10_passes 45 = .ok (.aload_n 1, 1) := dk_43 (dk_at dksX10_passes_1 22 rfl rfl)
theorem dX10_passes_46 : decode cX10_passes 46 = .ok (.iload 4, 2) := dk_21 4 (dk_at dksX10_passes_2 0 rfl rfl)
theorem dX10_passes_48 : decode cX10_passes 48 = .ok (.ifCond .eq 7, 3) := dk_153 0 7 (dk_at dksX10_passes_2 2 rfl rfl)
theorem dX10_passes_51 : decode cX10_passes 51 = .ok (.iconst 1, 1) := dk_4 (dk_at dksX10_passes_2 5 rfl rfl)
theorem dX10_passes_52 : decode cX10_passes 52 = .ok (.goto 4, 3) := dk_167 0 4 (dk_at dksX10_passes_2 6 rfl rfl)
theorem dX10_passes_55 : decode cX10_passes 55 = .ok (.iconst 0, 1) := dk_3 (dk_at dksX10_passes_2 9 rfl rfl)
theorem dX10_passes_56 : decode cX10_passes 56 = .ok (.iload_n 3, 1) := dk_29 (dk_at dksX10_passes_2 10 rfl rfl)
theorem dX10_passes_57 : decode cX10_passes 57 = .ok (.invokestatic 282, 3) := dk_184 1 26 (dk_at dksX10_passes_2 11 rfl rfl)
theorem dX10_passes_60 : decode cX10_passes 60 = .ok (.return_, 1) := dk_177 (dk_at dksX10_passes_2 14 rfl rfl)
abbrev cX10_isCalibrationDue : ByteArray := prog_22_method_70_code
def yX10_isCalibrationDue : MethodName := ⟨RX10, "isCalibrationDue", "([I)Z"⟩
def dkwX10_isCalibrationDue_1 : List UInt8 := [16, 6, 46, 96, 42, 180, 0, 17, 3, 46, 163, 0, 7, 4, 167, 0, 4, 3, 172]
abbrev dktX10_isCalibrationDue_1 : List UInt8 := dkwX10_isCalibrationDue_1 ++ []
def dkwX10_isCalibrationDue_0 : List UInt8 := [43, 3, 46, 43, 7, 46, 100, 61, 28, 43, 16, 15, 46, 161, 0, 27, 43, 3, 46, 42, 180, 0, 17]
abbrev dktX10_isCalibrationDue_0 : List UInt8 := dkwX10_isCalibrationDue_0 ++ dktX10_isCalibrationDue_1
theorem dksX10_isCalibrationDue_0 : cX10_isCalibrationDue.data.toList.drop 0 = dktX10_isCalibrationDue_0 := by decide +kernel
theorem dksX10_isCalibrationDue_1 : cX10_isCalibrationDue.data.toList.drop 23 = dktX10_isCalibrationDue_1 := dk_seg dksX10_isCalibrationDue_0 23 rfl rfl
theorem dX10_isCalibrationDue_0 : decode cX10_isCalibrationDue 0 = .ok (.aload_n 1, 1) := dk_43 (dk_at dksX10_isCalibrationDue_0 0 rfl rfl)
theorem dX10_isCalibrationDue_1 : decode cX10_isCalibrationDue 1 = .ok (.iconst 0, 1) := dk_3 (dk_at dksX10_isCalibrationDue_0 1 rfl rfl)
theorem dX10_isCalibrationDue_2 : decode cX10_isCalibrationDue 2 = .ok (.iaload, 1) := dk_46 (dk_at dksX10_isCalibrationDue_0 2 rfl rfl)
theorem dX10_isCalibrationDue_3 : decode cX10_isCalibrationDue 3 = .ok (.aload_n 1, 1) := dk_43 (dk_at dksX10_isCalibrationDue_0 3 rfl rfl)
theorem dX10_isCalibrationDue_4 : decode cX10_isCalibrationDue 4 = .ok (.iconst 4, 1) := dk_7 (dk_at dksX10_isCalibrationDue_0 4 rfl rfl)
theorem dX10_isCalibrationDue_5 : decode cX10_isCalibrationDue 5 = .ok (.iaload, 1) := dk_46 (dk_at dksX10_isCalibrationDue_0 5 rfl rfl)
theorem dX10_isCalibrationDue_6 : decode cX10_isCalibrationDue 6 = .ok (.isub, 1) := dk_100 (dk_at dksX10_isCalibrationDue_0 6 rfl rfl)
theorem dX10_isCalibrationDue_7 : decode cX10_isCalibrationDue 7 = .ok (.istore_n 2, 1) := dk_61 (dk_at dksX10_isCalibrationDue_0 7 rfl rfl)
theorem dX10_isCalibrationDue_8 : decode cX10_isCalibrationDue 8 = .ok (.iload_n 2, 1) := dk_28 (dk_at dksX10_isCalibrationDue_0 8 rfl rfl)
theorem dX10_isCalibrationDue_9 : decode cX10_isCalibrationDue 9 = .ok (.aload_n 1, 1) := dk_43 (dk_at dksX10_isCalibrationDue_0 9 rfl rfl)
theorem dX10_isCalibrationDue_10 : decode cX10_isCalibrationDue 10 = .ok (.bipush 15, 2) := dk_16 15 (dk_at dksX10_isCalibrationDue_0 10 rfl rfl)
theorem dX10_isCalibrationDue_12 : decode cX10_isCalibrationDue 12 = .ok (.iaload, 1) := dk_46 (dk_at dksX10_isCalibrationDue_0 12 rfl rfl)
theorem dX10_isCalibrationDue_13 : decode cX10_isCalibrationDue 13 = .ok (.if_icmp .lt 27, 3) := dk_161 0 27 (dk_at dksX10_isCalibrationDue_0 13 rfl rfl)
theorem dX10_isCalibrationDue_16 : decode cX10_isCalibrationDue 16 = .ok (.aload_n 1, 1) := dk_43 (dk_at dksX10_isCalibrationDue_0 16 rfl rfl)
theorem dX10_isCalibrationDue_17 : decode cX10_isCalibrationDue 17 = .ok (.iconst 0, 1) := dk_3 (dk_at dksX10_isCalibrationDue_0 17 rfl rfl)
theorem dX10_isCalibrationDue_18 : decode cX10_isCalibrationDue 18 = .ok (.iaload, 1) := dk_46 (dk_at dksX10_isCalibrationDue_0 18 rfl rfl)
theorem dX10_isCalibrationDue_19 : decode cX10_isCalibrationDue 19 = .ok (.aload_n 0, 1) := dk_42 (dk_at dksX10_isCalibrationDue_0 19 rfl rfl)
theorem dX10_isCalibrationDue_20 : decode cX10_isCalibrationDue 20 = .ok (.getfield 17, 3) := dk_180 0 17 (dk_at dksX10_isCalibrationDue_0 20 rfl rfl)
theorem dX10_isCalibrationDue_23 : decode cX10_isCalibrationDue 23 = .ok (.bipush 6, 2) := dk_16 6 (dk_at dksX10_isCalibrationDue_1 0 rfl rfl)
theorem dX10_isCalibrationDue_25 : decode cX10_isCalibrationDue 25 = .ok (.iaload, 1) := dk_46 (dk_at dksX10_isCalibrationDue_1 2 rfl rfl)
theorem dX10_isCalibrationDue_26 : decode cX10_isCalibrationDue 26 = .ok (.iadd, 1) := dk_96 (dk_at dksX10_isCalibrationDue_1 3 rfl rfl)
theorem dX10_isCalibrationDue_27 : decode cX10_isCalibrationDue 27 = .ok (.aload_n 0, 1) := dk_42 (dk_at dksX10_isCalibrationDue_1 4 rfl rfl)
theorem dX10_isCalibrationDue_28 : decode cX10_isCalibrationDue 28 = .ok (.getfield 17, 3) := dk_180 0 17 (dk_at dksX10_isCalibrationDue_1 5 rfl rfl)
theorem dX10_isCalibrationDue_31 : decode cX10_isCalibrationDue 31 = .ok (.iconst 0, 1) := dk_3 (dk_at dksX10_isCalibrationDue_1 8 rfl rfl)
theorem dX10_isCalibrationDue_32 : decode cX10_isCalibrationDue 32 = .ok (.iaload, 1) := dk_46 (dk_at dksX10_isCalibrationDue_1 9 rfl rfl)
theorem dX10_isCalibrationDue_33 : decode cX10_isCalibrationDue 33 = .ok (.if_icmp .gt 7, 3) := dk_163 0 7 (dk_at dksX10_isCalibrationDue_1 10 rfl rfl)
theorem dX10_isCalibrationDue_36 : decode cX10_isCalibrationDue 36 = .ok (.iconst 1, 1) := dk_4 (dk_at dksX10_isCalibrationDue_1 13 rfl rfl)
theorem dX10_isCalibrationDue_37 : decode cX10_isCalibrationDue 37 = .ok (.goto 4, 3) := dk_167 0 4 (dk_at dksX10_isCalibrationDue_1 14 rfl rfl)
theorem dX10_isCalibrationDue_40 : decode cX10_isCalibrationDue 40 = .ok (.iconst 0, 1) := dk_3 (dk_at dksX10_isCalibrationDue_1 17 rfl rfl)
theorem dX10_isCalibrationDue_41 : decode cX10_isCalibrationDue 41 = .ok (.ireturn, 1) := dk_172 (dk_at dksX10_isCalibrationDue_1 18 rfl rfl)
abbrev cX10_calibrates : ByteArray := prog_22_method_60_code
def yX10_calibrates : MethodName := ⟨RX10, "calibrates", "([I)V"⟩
def dkwX10_calibrates_1 : List UInt8 := [180, 0, 17, 16, 6, 46, 184, 1, 26, 43, 16, 7, 4, 184, 1, 26, 177]
abbrev dktX10_calibrates_1 : List UInt8 := dkwX10_calibrates_1 ++ []
def dkwX10_calibrates_0 : List UInt8 := [43, 3, 92, 46, 42, 180, 0, 17, 16, 6, 46, 96, 79, 43, 7, 43, 3, 46, 79, 43, 7, 42]
abbrev dktX10_calibrates_0 : List UInt8 := dkwX10_calibrates_0 ++ dktX10_calibrates_1
theorem dksX10_calibrates_0 : cX10_calibrates.data.toList.drop 0 = dktX10_calibrates_0 := by decide +kernel
theorem dksX10_calibrates_1 : cX10_calibrates.data.toList.drop 22 = dktX10_calibrates_1 := dk_seg dksX10_calibrates_0 22 rfl rfl
theorem dX10_calibrates_0 : decode cX10_calibrates 0 = .ok (.aload_n 1, 1) := dk_43 (dk_at dksX10_calibrates_0 0 rfl rfl)
theorem dX10_calibrates_1 : decode cX10_calibrates 1 = .ok (.iconst 0, 1) := dk_3 (dk_at dksX10_calibrates_0 1 rfl rfl)
theorem dX10_calibrates_2 : decode cX10_calibrates 2 = .ok (.dup2, 1) := dk_92 (dk_at dksX10_calibrates_0 2 rfl rfl)
theorem dX10_calibrates_3 : decode cX10_calibrates 3 = .ok (.iaload, 1) := dk_46 (dk_at dksX10_calibrates_0 3 rfl rfl)
theorem dX10_calibrates_4 : decode cX10_calibrates 4 = .ok (.aload_n 0, 1) := dk_42 (dk_at dksX10_calibrates_0 4 rfl rfl)
theorem dX10_calibrates_5 : decode cX10_calibrates 5 = .ok (.getfield 17, 3) := dk_180 0 17 (dk_at dksX10_calibrates_0 5 rfl rfl)
theorem dX10_calibrates_8 : decode cX10_calibrates 8 = .ok (.bipush 6, 2) := dk_16 6 (dk_at dksX10_calibrates_0 8 rfl rfl)
theorem dX10_calibrates_10 : decode cX10_calibrates 10 = .ok (.iaload, 1) := dk_46 (dk_at dksX10_calibrates_0 10 rfl rfl)
theorem dX10_calibrates_11 : decode cX10_calibrates 11 = .ok (.iadd, 1) := dk_96 (dk_at dksX10_calibrates_0 11 rfl rfl)
theorem dX10_calibrates_12 : decode cX10_calibrates 12 = .ok (.iastore, 1) := dk_79 (dk_at dksX10_calibrates_0 12 rfl rfl)
theorem dX10_calibrates_13 : decode cX10_calibrates 13 = .ok (.aload_n 1, 1) := dk_43 (dk_at dksX10_calibrates_0 13 rfl rfl)
theorem dX10_calibrates_14 : decode cX10_calibrates 14 = .ok (.iconst 4, 1) := dk_7 (dk_at dksX10_calibrates_0 14 rfl rfl)
theorem dX10_calibrates_15 : decode cX10_calibrates 15 = .ok (.aload_n 1, 1) := dk_43 (dk_at dksX10_calibrates_0 15 rfl rfl)
theorem dX10_calibrates_16 : decode cX10_calibrates 16 = .ok (.iconst 0, 1) := dk_3 (dk_at dksX10_calibrates_0 16 rfl rfl)
theorem dX10_calibrates_17 : decode cX10_calibrates 17 = .ok (.iaload, 1) := dk_46 (dk_at dksX10_calibrates_0 17 rfl rfl)
theorem dX10_calibrates_18 : decode cX10_calibrates 18 = .ok (.iastore, 1) := dk_79 (dk_at dksX10_calibrates_0 18 rfl rfl)
theorem dX10_calibrates_19 : decode cX10_calibrates 19 = .ok (.aload_n 1, 1) := dk_43 (dk_at dksX10_calibrates_0 19 rfl rfl)
theorem dX10_calibrates_20 : decode cX10_calibrates 20 = .ok (.iconst 4, 1) := dk_7 (dk_at dksX10_calibrates_0 20 rfl rfl)
theorem dX10_calibrates_21 : decode cX10_calibrates 21 = .ok (.aload_n 0, 1) := dk_42 (dk_at dksX10_calibrates_0 21 rfl rfl)
theorem dX10_calibrates_22 : decode cX10_calibrates 22 = .ok (.getfield 17, 3) := dk_180 0 17 (dk_at dksX10_calibrates_1 0 rfl rfl)
theorem dX10_calibrates_25 : decode cX10_calibrates 25 = .ok (.bipush 6, 2) := dk_16 6 (dk_at dksX10_calibrates_1 3 rfl rfl)
theorem dX10_calibrates_27 : decode cX10_calibrates 27 = .ok (.iaload, 1) := dk_46 (dk_at dksX10_calibrates_1 5 rfl rfl)
theorem dX10_calibrates_28 : decode cX10_calibrates 28 = .ok (.invokestatic 282, 3) := dk_184 1 26 (dk_at dksX10_calibrates_1 6 rfl rfl)
theorem dX10_calibrates_31 : decode cX10_calibrates 31 = .ok (.aload_n 1, 1) := dk_43 (dk_at dksX10_calibrates_1 9 rfl rfl)
theorem dX10_calibrates_32 : decode cX10_calibrates 32 = .ok (.bipush 7, 2) := dk_16 7 (dk_at dksX10_calibrates_1 10 rfl rfl)
theorem dX10_calibrates_34 : decode cX10_calibrates 34 = .ok (.iconst 1, 1) := dk_4 (dk_at dksX10_calibrates_1 12 rfl rfl)
theorem dX10_calibrates_35 : decode cX10_calibrates 35 = .ok (.invokestatic 282, 3) := dk_184 1 26 (dk_at dksX10_calibrates_1 13 rfl rfl)
theorem dX10_calibrates_38 : decode cX10_calibrates 38 = .ok (.return_, 1) := dk_177 (dk_at dksX10_calibrates_1 16 rfl rfl)
abbrev cX10_makesVisit : ByteArray := prog_22_method_66_code
def yX10_makesVisit : MethodName := ⟨RX10, "makesVisit", "([II)I"⟩
def dkwX10_makesVisit_2 : List UInt8 := [43, 28, 182, 1, 60, 43, 16, 35, 42, 43, 28, 182, 1, 0, 96, 92, 46, 4, 96, 79, 3, 172]
abbrev dktX10_makesVisit_2 : List UInt8 := dkwX10_makesVisit_2 ++ []
def dkwX10_makesVisit_1 : List UInt8 := [182, 0, 227, 43, 3, 46, 100, 4, 182, 1, 49, 43, 16, 67, 28, 96, 92, 46, 4, 96, 79, 4, 172, 42]
abbrev dktX10_makesVisit_1 : List UInt8 := dkwX10_makesVisit_1 ++ dktX10_makesVisit_2
def dkwX10_makesVisit_0 : List UInt8 := [42, 43, 28, 182, 1, 53, 42, 43, 28, 182, 1, 57, 62, 29, 2, 159, 0, 32, 42, 43, 28, 42, 43, 29]
abbrev dktX10_makesVisit_0 : List UInt8 := dkwX10_makesVisit_0 ++ dktX10_makesVisit_1
theorem dksX10_makesVisit_0 : cX10_makesVisit.data.toList.drop 0 = dktX10_makesVisit_0 := by decide +kernel
theorem dksX10_makesVisit_1 : cX10_makesVisit.data.toList.drop 24 = dktX10_makesVisit_1 := dk_seg dksX10_makesVisit_0 24 rfl rfl
theorem dksX10_makesVisit_2 : cX10_makesVisit.data.toList.drop 48 = dktX10_makesVisit_2 := dk_seg dksX10_makesVisit_1 24 rfl rfl
theorem dX10_makesVisit_0 : decode cX10_makesVisit 0 = .ok (.aload_n 0, 1) := dk_42 (dk_at dksX10_makesVisit_0 0 rfl rfl)
theorem dX10_makesVisit_1 : decode cX10_makesVisit 1 = .ok (.aload_n 1, 1) := dk_43 (dk_at dksX10_makesVisit_0 1 rfl rfl)
theorem dX10_makesVisit_2 : decode cX10_makesVisit 2 = .ok (.iload_n 2, 1) := dk_28 (dk_at dksX10_makesVisit_0 2 rfl rfl)
theorem dX10_makesVisit_3 : decode cX10_makesVisit 3 = .ok (.invokevirtual 309, 3) := dk_182 1 53 (dk_at dksX10_makesVisit_0 3 rfl rfl)
theorem dX10_makesVisit_6 : decode cX10_makesVisit 6 = .ok (.aload_n 0, 1) := dk_42 (dk_at dksX10_makesVisit_0 6 rfl rfl)
theorem dX10_makesVisit_7 : decode cX10_makesVisit 7 = .ok (.aload_n 1, 1) := dk_43 (dk_at dksX10_makesVisit_0 7 rfl rfl)
theorem dX10_makesVisit_8 : decode cX10_makesVisit 8 = .ok (.iload_n 2, 1) := dk_28 (dk_at dksX10_makesVisit_0 8 rfl rfl)
theorem dX10_makesVisit_9 : decode cX10_makesVisit 9 = .ok (.invokevirtual 313, 3) := dk_182 1 57 (dk_at dksX10_makesVisit_0 9 rfl rfl)
theorem dX10_makesVisit_12 : decode cX10_makesVisit 12 = .ok (.istore_n 3, 1) := dk_62 (dk_at dksX10_makesVisit_0 12 rfl rfl)
theorem dX10_makesVisit_13 : decode cX10_makesVisit 13 = .ok (.iload_n 3, 1) := dk_29 (dk_at dksX10_makesVisit_0 13 rfl rfl)
theorem dX10_makesVisit_14 : decode cX10_makesVisit 14 = .ok (.iconst (-1), 1) := dk_2 (dk_at dksX10_makesVisit_0 14 rfl rfl)
theorem dX10_makesVisit_15 : decode cX10_makesVisit 15 = .ok (.if_icmp .eq 32, 3) := dk_159 0 32 (dk_at dksX10_makesVisit_0 15 rfl rfl)
theorem dX10_makesVisit_18 : decode cX10_makesVisit 18 = .ok (.aload_n 0, 1) := dk_42 (dk_at dksX10_makesVisit_0 18 rfl rfl)
theorem dX10_makesVisit_19 : decode cX10_makesVisit 19 = .ok (.aload_n 1, 1) := dk_43 (dk_at dksX10_makesVisit_0 19 rfl rfl)
theorem dX10_makesVisit_20 : decode cX10_makesVisit 20 = .ok (.iload_n 2, 1) := dk_28 (dk_at dksX10_makesVisit_0 20 rfl rfl)
theorem dX10_makesVisit_21 : decode cX10_makesVisit 21 = .ok (.aload_n 0, 1) := dk_42 (dk_at dksX10_makesVisit_0 21 rfl rfl)
theorem dX10_makesVisit_22 : decode cX10_makesVisit 22 = .ok (.aload_n 1, 1) := dk_43 (dk_at dksX10_makesVisit_0 22 rfl rfl)
theorem dX10_makesVisit_23 : decode cX10_makesVisit 23 = .ok (.iload_n 3, 1) := dk_29 (dk_at dksX10_makesVisit_0 23 rfl rfl)
theorem dX10_makesVisit_24 : decode cX10_makesVisit 24 = .ok (.invokevirtual 227, 3) := dk_182 0 227 (dk_at dksX10_makesVisit_1 0 rfl rfl)
theorem dX10_makesVisit_27 : decode cX10_makesVisit 27 = .ok (.aload_n 1, 1) := dk_43 (dk_at dksX10_makesVisit_1 3 rfl rfl)
theorem dX10_makesVisit_28 : decode cX10_makesVisit 28 = .ok (.iconst 0, 1) := dk_3 (dk_at dksX10_makesVisit_1 4 rfl rfl)
theorem dX10_makesVisit_29 : decode cX10_makesVisit 29 = .ok (.iaload, 1) := dk_46 (dk_at dksX10_makesVisit_1 5 rfl rfl)
theorem dX10_makesVisit_30 : decode cX10_makesVisit 30 = .ok (.isub, 1) := dk_100 (dk_at dksX10_makesVisit_1 6 rfl rfl)
theorem dX10_makesVisit_31 : decode cX10_makesVisit 31 = .ok (.iconst 1, 1) := dk_4 (dk_at dksX10_makesVisit_1 7 rfl rfl)
theorem dX10_makesVisit_32 : decode cX10_makesVisit 32 = .ok (.invokevirtual 305, 3) := dk_182 1 49 (dk_at dksX10_makesVisit_1 8 rfl rfl)
theorem dX10_makesVisit_35 : decode cX10_makesVisit 35 = .ok (.aload_n 1, 1) := dk_43 (dk_at dksX10_makesVisit_1 11 rfl rfl)
theorem dX10_makesVisit_36 : decode cX10_makesVisit 36 = .ok (.bipush 67, 2) := dk_16 67 (dk_at dksX10_makesVisit_1 12 rfl rfl)
theorem dX10_makesVisit_38 : decode cX10_makesVisit 38 = .ok (.iload_n 2, 1) := dk_28 (dk_at dksX10_makesVisit_1 14 rfl rfl)
theorem dX10_makesVisit_39 : decode cX10_makesVisit 39 = .ok (.iadd, 1) := dk_96 (dk_at dksX10_makesVisit_1 15 rfl rfl)
theorem dX10_makesVisit_40 : decode cX10_makesVisit 40 = .ok (.dup2, 1) := dk_92 (dk_at dksX10_makesVisit_1 16 rfl rfl)
theorem dX10_makesVisit_41 : decode cX10_makesVisit 41 = .ok (.iaload, 1) := dk_46 (dk_at dksX10_makesVisit_1 17 rfl rfl)
theorem dX10_makesVisit_42 : decode cX10_makesVisit 42 = .ok (.iconst 1, 1) := dk_4 (dk_at dksX10_makesVisit_1 18 rfl rfl)
theorem dX10_makesVisit_43 : decode cX10_makesVisit 43 = .ok (.iadd, 1) := dk_96 (dk_at dksX10_makesVisit_1 19 rfl rfl)
theorem dX10_makesVisit_44 : decode cX10_makesVisit 44 = .ok (.iastore, 1) := dk_79 (dk_at dksX10_makesVisit_1 20 rfl rfl)
theorem dX10_makesVisit_45 : decode cX10_makesVisit 45 = .ok (.iconst 1, 1) := dk_4 (dk_at dksX10_makesVisit_1 21 rfl rfl)
theorem dX10_makesVisit_46 : decode cX10_makesVisit 46 = .ok (.ireturn, 1) := dk_172 (dk_at dksX10_makesVisit_1 22 rfl rfl)
theorem dX10_makesVisit_47 : decode cX10_makesVisit 47 = .ok (.aload_n 0, 1) := dk_42 (dk_at dksX10_makesVisit_1 23 rfl rfl)
theorem dX10_makesVisit_48 : decode cX10_makesVisit 48 = .ok (.aload_n 1, 1) := dk_43 (dk_at dksX10_makesVisit_2 0 rfl rfl)
theorem dX10_makesVisit_49 : decode cX10_makesVisit 49 = .ok (.iload_n 2, 1) := dk_28 (dk_at dksX10_makesVisit_2 1 rfl rfl)
theorem dX10_makesVisit_50 : decode cX10_makesVisit 50 = .ok (.invokevirtual 316, 3) := dk_182 1 60 (dk_at dksX10_makesVisit_2 2 rfl rfl)
theorem dX10_makesVisit_53 : decode cX10_makesVisit 53 = .ok (.aload_n 1, 1) := dk_43 (dk_at dksX10_makesVisit_2 5 rfl rfl)
theorem dX10_makesVisit_54 : decode cX10_makesVisit 54 = .ok (.bipush 35, 2) := dk_16 35 (dk_at dksX10_makesVisit_2 6 rfl rfl)
theorem dX10_makesVisit_56 : decode cX10_makesVisit 56 = .ok (.aload_n 0, 1) := dk_42 (dk_at dksX10_makesVisit_2 8 rfl rfl)
theorem dX10_makesVisit_57 : decode cX10_makesVisit 57 = .ok (.aload_n 1, 1) := dk_43 (dk_at dksX10_makesVisit_2 9 rfl rfl)
theorem dX10_makesVisit_58 : decode cX10_makesVisit 58 = .ok (.iload_n 2, 1) := dk_28 (dk_at dksX10_makesVisit_2 10 rfl rfl)
theorem dX10_makesVisit_59 : decode cX10_makesVisit 59 = .ok (.invokevirtual 256, 3) := dk_182 1 0 (dk_at dksX10_makesVisit_2 11 rfl rfl)
theorem dX10_makesVisit_62 : decode cX10_makesVisit 62 = .ok (.iadd, 1) := dk_96 (dk_at dksX10_makesVisit_2 14 rfl rfl)
theorem dX10_makesVisit_63 : decode cX10_makesVisit 63 = .ok (.dup2, 1) := dk_92 (dk_at dksX10_makesVisit_2 15 rfl rfl)
theorem dX10_makesVisit_64 : decode cX10_makesVisit 64 = .ok (.iaload, 1) := dk_46 (dk_at dksX10_makesVisit_2 16 rfl rfl)
theorem dX10_makesVisit_65 : decode cX10_makesVisit 65 = .ok (.iconst 1, 1) := dk_4 (dk_at dksX10_makesVisit_2 17 rfl rfl)
theorem dX10_makesVisit_66 : decode cX10_makesVisit 66 = .ok (.iadd, 1) := dk_96 (dk_at dksX10_makesVisit_2 18 rfl rfl)
theorem dX10_makesVisit_67 : decode cX10_makesVisit 67 = .ok (.iastore, 1) := dk_79 (dk_at dksX10_makesVisit_2 19 rfl rfl)
theorem dX10_makesVisit_68 : decode cX10_makesVisit 68 = .ok (.iconst 0, 1) := dk_3 (dk_at dksX10_makesVisit_2 20 rfl rfl)
theorem dX10_makesVisit_69 : decode cX10_makesVisit 69 = .ok (.ireturn, 1) := dk_172 (dk_at dksX10_makesVisit_2 21 rfl rfl)
abbrev cX10_breaking : ByteArray := prog_22_method_64_code
def yX10_breaking : MethodName := ⟨RX10, "breaking", "([II)I"⟩
def dkwX10_breaking_2 : List UInt8 := [162, 0, 6, 21, 4, 62, 132, 4, 1, 167, 255, 206, 29, 172]
abbrev dktX10_breaking_2 : List UInt8 := dkwX10_breaking_2 ++ []
def dkwX10_breaking_1 : List UInt8 := [182, 1, 43, 153, 0, 27, 29, 2, 159, 0, 19, 42, 43, 21, 4, 182, 0, 227, 42, 43, 29, 182, 0, 227]
abbrev dktX10_breaking_1 : List UInt8 := dkwX10_breaking_1 ++ dktX10_breaking_2
def dkwX10_breaking_0 : List UInt8 := [2, 62, 16, 20, 54, 4, 21, 4, 16, 20, 43, 16, 14, 46, 96, 162, 0, 44, 42, 43, 28, 21, 4]
abbrev dktX10_breaking_0 : List UInt8 := dkwX10_breaking_0 ++ dktX10_breaking_1
theorem dksX10_breaking_0 : cX10_breaking.data.toList.drop 0 = dktX10_breaking_0 := by decide +kernel
theorem dksX10_breaking_1 : cX10_breaking.data.toList.drop 23 = dktX10_breaking_1 := dk_seg dksX10_breaking_0 23 rfl rfl
theorem dksX10_breaking_2 : cX10_breaking.data.toList.drop 47 = dktX10_breaking_2 := dk_seg dksX10_breaking_1 24 rfl rfl
theorem dX10_breaking_0 : decode cX10_breaking 0 = .ok (.iconst (-1), 1) := dk_2 (dk_at dksX10_breaking_0 0 rfl rfl)
theorem dX10_breaking_1 : decode cX10_breaking 1 = .ok (.istore_n 3, 1) := dk_62 (dk_at dksX10_breaking_0 1 rfl rfl)
theorem dX10_breaking_2 : decode cX10_breaking 2 = .ok (.bipush 20, 2) := dk_16 20 (dk_at dksX10_breaking_0 2 rfl rfl)
theorem dX10_breaking_4 : decode cX10_breaking 4 = .ok (.istore 4, 2) := dk_54 4 (dk_at dksX10_breaking_0 4 rfl rfl)
theorem dX10_breaking_6 : decode cX10_breaking 6 = .ok (.iload 4, 2) := dk_21 4 (dk_at dksX10_breaking_0 6 rfl rfl)
theorem dX10_breaking_8 : decode cX10_breaking 8 = .ok (.bipush 20, 2) := dk_16 20 (dk_at dksX10_breaking_0 8 rfl rfl)
theorem dX10_breaking_10 : decode cX10_breaking 10 = .ok (.aload_n 1, 1) := dk_43 (dk_at dksX10_breaking_0 10 rfl rfl)
theorem dX10_breaking_11 : decode cX10_breaking 11 = .ok (.bipush 14, 2) := dk_16 14 (dk_at dksX10_breaking_0 11 rfl rfl)
theorem dX10_breaking_13 : decode cX10_breaking 13 = .ok (.iaload, 1) := dk_46 (dk_at dksX10_breaking_0 13 rfl rfl)
theorem dX10_breaking_14 : decode cX10_breaking 14 = .ok (.iadd, 1) := dk_96 (dk_at dksX10_breaking_0 14 rfl rfl)
theorem dX10_breaking_15 : decode cX10_breaking 15 = .ok (.if_icmp .ge 44, 3) := dk_162 0 44 (dk_at dksX10_breaking_0 15 rfl rfl)
theorem dX10_breaking_18 : decode cX10_breaking 18 = .ok (.aload_n 0, 1) := dk_42 (dk_at dksX10_breaking_0 18 rfl rfl)
theorem dX10_breaking_19 : decode cX10_breaking 19 = .ok (.aload_n 1, 1) := dk_43 (dk_at dksX10_breaking_0 19 rfl rfl)
theorem dX10_breaking_20 : decode cX10_breaking 20 = .ok (.iload_n 2, 1) := dk_28 (dk_at dksX10_breaking_0 20 rfl rfl)
theorem dX10_breaking_21 : decode cX10_breaking 21 = .ok (.iload 4, 2) := dk_21 4 (dk_at dksX10_breaking_0 21 rfl rfl)
theorem dX10_breaking_23 : decode cX10_breaking 23 = .ok (.invokevirtual 299, 3) := dk_182 1 43 (dk_at dksX10_breaking_1 0 rfl rfl)
theorem dX10_breaking_26 : decode cX10_breaking 26 = .ok (.ifCond .eq 27, 3) := dk_153 0 27 (dk_at dksX10_breaking_1 3 rfl rfl)
theorem dX10_breaking_29 : decode cX10_breaking 29 = .ok (.iload_n 3, 1) := dk_29 (dk_at dksX10_breaking_1 6 rfl rfl)
theorem dX10_breaking_30 : decode cX10_breaking 30 = .ok (.iconst (-1), 1) := dk_2 (dk_at dksX10_breaking_1 7 rfl rfl)
theorem dX10_breaking_31 : decode cX10_breaking 31 = .ok (.if_icmp .eq 19, 3) := dk_159 0 19 (dk_at dksX10_breaking_1 8 rfl rfl)
theorem dX10_breaking_34 : decode cX10_breaking 34 = .ok (.aload_n 0, 1) := dk_42 (dk_at dksX10_breaking_1 11 rfl rfl)
theorem dX10_breaking_35 : decode cX10_breaking 35 = .ok (.aload_n 1, 1) := dk_43 (dk_at dksX10_breaking_1 12 rfl rfl)
theorem dX10_breaking_36 : decode cX10_breaking 36 = .ok (.iload 4, 2) := dk_21 4 (dk_at dksX10_breaking_1 13 rfl rfl)
theorem dX10_breaking_38 : decode cX10_breaking 38 = .ok (.invokevirtual 227, 3) := dk_182 0 227 (dk_at dksX10_breaking_1 15 rfl rfl)
theorem dX10_breaking_41 : decode cX10_breaking 41 = .ok (.aload_n 0, 1) := dk_42 (dk_at dksX10_breaking_1 18 rfl rfl)
theorem dX10_breaking_42 : decode cX10_breaking 42 = .ok (.aload_n 1, 1) := dk_43 (dk_at dksX10_breaking_1 19 rfl rfl)
theorem dX10_breaking_43 : decode cX10_breaking 43 = .ok (.iload_n 3, 1) := dk_29 (dk_at dksX10_breaking_1 20 rfl rfl)
theorem dX10_breaking_44 : decode cX10_breaking 44 = .ok (.invokevirtual 227, 3) := dk_182 0 227 (dk_at dksX10_breaking_1 21 rfl rfl)
theorem dX10_breaking_47 : decode cX10_breaking 47 = .ok (.if_icmp .ge 6, 3) := dk_162 0 6 (dk_at dksX10_breaking_2 0 rfl rfl)
theorem dX10_breaking_50 : decode cX10_breaking 50 = .ok (.iload 4, 2) := dk_21 4 (dk_at dksX10_breaking_2 3 rfl rfl)
theorem dX10_breaking_52 : decode cX10_breaking 52 = .ok (.istore_n 3, 1) := dk_62 (dk_at dksX10_breaking_2 5 rfl rfl)
theorem dX10_breaking_53 : decode cX10_breaking 53 = .ok (.iinc 4 1, 3) := dk_132 4 1 (dk_at dksX10_breaking_2 6 rfl rfl)
theorem dX10_breaking_56 : decode cX10_breaking 56 = .ok (.goto (-50), 3) := dk_167 255 206 (dk_at dksX10_breaking_2 9 rfl rfl)
theorem dX10_breaking_59 : decode cX10_breaking 59 = .ok (.iload_n 3, 1) := dk_29 (dk_at dksX10_breaking_2 12 rfl rfl)
theorem dX10_breaking_60 : decode cX10_breaking 60 = .ok (.ireturn, 1) := dk_172 (dk_at dksX10_breaking_2 13 rfl rfl)
abbrev cX10_breaks : ByteArray := prog_22_method_63_code
def yX10_breaks : MethodName := ⟨RX10, "breaks", "([III)Z"⟩
def dkwX10_breaks_6 : List UInt8 := [43, 21, 6, 42, 180, 1, 40, 79, 21, 7, 172]
abbrev dktX10_breaks_6 : List UInt8 := dkwX10_breaks_6 ++ []
def dkwX10_breaks_5 : List UInt8 := [154, 0, 7, 4, 167, 0, 4, 3, 54, 7, 43, 3, 42, 180, 1, 34, 79, 43, 6, 42, 180, 1, 37, 79]
abbrev dktX10_breaks_5 : List UInt8 := dkwX10_breaks_5 ++ dktX10_breaks_6
def dkwX10_breaks_4 : List UInt8 := [182, 0, 234, 96, 79, 43, 21, 6, 92, 46, 21, 5, 21, 4, 100, 96, 79, 42, 43, 29, 182, 1, 19]
abbrev dktX10_breaks_4 : List UInt8 := dkwX10_breaks_4 ++ dktX10_breaks_5
def dkwX10_breaks_3 : List UInt8 := [21, 6, 46, 181, 1, 40, 43, 3, 21, 5, 79, 43, 6, 92, 46, 42, 43, 28, 21, 5, 21, 4, 100]
abbrev dktX10_breaks_3 : List UInt8 := dkwX10_breaks_3 ++ dktX10_breaks_4
def dkwX10_breaks_2 : List UInt8 := [182, 0, 231, 96, 161, 0, 5, 3, 172, 42, 21, 4, 181, 1, 34, 42, 43, 6, 46, 181, 1, 37, 42, 43]
abbrev dktX10_breaks_2 : List UInt8 := dkwX10_breaks_2 ++ dktX10_breaks_3
def dkwX10_breaks_1 : List UInt8 := [43, 29, 184, 0, 253, 46, 154, 0, 24, 21, 5, 21, 4, 164, 0, 17, 21, 5, 21, 4, 42, 43, 28]
abbrev dktX10_breaks_1 : List UInt8 := dkwX10_breaks_1 ++ dktX10_breaks_2
def dkwX10_breaks_0 : List UInt8 := [43, 3, 46, 54, 4, 42, 43, 29, 182, 0, 227, 54, 5, 16, 29, 42, 43, 28, 182, 1, 0, 96, 54, 6]
abbrev dktX10_breaks_0 : List UInt8 := dkwX10_breaks_0 ++ dktX10_breaks_1
theorem dksX10_breaks_0 : cX10_breaks.data.toList.drop 0 = dktX10_breaks_0 := by decide +kernel
theorem dksX10_breaks_1 : cX10_breaks.data.toList.drop 24 = dktX10_breaks_1 := dk_seg dksX10_breaks_0 24 rfl rfl
theorem dksX10_breaks_2 : cX10_breaks.data.toList.drop 47 = dktX10_breaks_2 := dk_seg dksX10_breaks_1 23 rfl rfl
theorem dksX10_breaks_3 : cX10_breaks.data.toList.drop 71 = dktX10_breaks_3 := dk_seg dksX10_breaks_2 24 rfl rfl
theorem dksX10_breaks_4 : cX10_breaks.data.toList.drop 94 = dktX10_breaks_4 := dk_seg dksX10_breaks_3 23 rfl rfl
theorem dksX10_breaks_5 : cX10_breaks.data.toList.drop 117 = dktX10_breaks_5 := dk_seg dksX10_breaks_4 23 rfl rfl
theorem dksX10_breaks_6 : cX10_breaks.data.toList.drop 141 = dktX10_breaks_6 := dk_seg dksX10_breaks_5 24 rfl rfl
theorem dX10_breaks_0 : decode cX10_breaks 0 = .ok (.aload_n 1, 1) := dk_43 (dk_at dksX10_breaks_0 0 rfl rfl)
theorem dX10_breaks_1 : decode cX10_breaks 1 = .ok (.iconst 0, 1) := dk_3 (dk_at dksX10_breaks_0 1 rfl rfl)
theorem dX10_breaks_2 : decode cX10_breaks 2 = .ok (.iaload, 1) := dk_46 (dk_at dksX10_breaks_0 2 rfl rfl)
theorem dX10_breaks_3 : decode cX10_breaks 3 = .ok (.istore 4, 2) := dk_54 4 (dk_at dksX10_breaks_0 3 rfl rfl)
theorem dX10_breaks_5 : decode cX10_breaks 5 = .ok (.aload_n 0, 1) := dk_42 (dk_at dksX10_breaks_0 5 rfl rfl)
theorem dX10_breaks_6 : decode cX10_breaks 6 = .ok (.aload_n 1, 1) := dk_43 (dk_at dksX10_breaks_0 6 rfl rfl)
theorem dX10_breaks_7 : decode cX10_breaks 7 = .ok (.iload_n 3, 1) := dk_29 (dk_at dksX10_breaks_0 7 rfl rfl)
theorem dX10_breaks_8 : decode cX10_breaks 8 = .ok (.invokevirtual 227, 3) := dk_182 0 227 (dk_at dksX10_breaks_0 8 rfl rfl)
theorem dX10_breaks_11 : decode cX10_breaks 11 = .ok (.istore 5, 2) := dk_54 5 (dk_at dksX10_breaks_0 11 rfl rfl)
theorem dX10_breaks_13 : decode cX10_breaks 13 = .ok (.bipush 29, 2) := dk_16 29 (dk_at dksX10_breaks_0 13 rfl rfl)
theorem dX10_breaks_15 : decode cX10_breaks 15 = .ok (.aload_n 0, 1) := dk_42 (dk_at dksX10_breaks_0 15 rfl rfl)
theorem dX10_breaks_16 : decode cX10_breaks 16 = .ok (.aload_n 1, 1) := dk_43 (dk_at dksX10_breaks_0 16 rfl rfl)
theorem dX10_breaks_17 : decode cX10_breaks 17 = .ok (.iload_n 2, 1) := dk_28 (dk_at dksX10_breaks_0 17 rfl rfl)
theorem dX10_breaks_18 : decode cX10_breaks 18 = .ok (.invokevirtual 256, 3) := dk_182 1 0 (dk_at dksX10_breaks_0 18 rfl rfl)
theorem dX10_breaks_21 : decode cX10_breaks 21 = .ok (.iadd, 1) := dk_96 (dk_at dksX10_breaks_0 21 rfl rfl)
theorem dX10_breaks_22 : decode cX10_breaks 22 = .ok (.istore 6, 2) := dk_54 6 (dk_at dksX10_breaks_0 22 rfl rfl)
theorem dX10_breaks_24 : decode cX10_breaks 24 = .ok (.aload_n 1, 1) := dk_43 (dk_at dksX10_breaks_1 0 rfl rfl)
theorem dX10_breaks_25 : decode cX10_breaks 25 = .ok (.iload_n 3, 1) := dk_29 (dk_at dksX10_breaks_1 1 rfl rfl)
theorem dX10_breaks_26 : decode cX10_breaks 26 = .ok (.invokestatic 253, 3) := dk_184 0 253 (dk_at dksX10_breaks_1 2 rfl rfl)
theorem dX10_breaks_29 : decode cX10_breaks 29 = .ok (.iaload, 1) := dk_46 (dk_at dksX10_breaks_1 5 rfl rfl)
theorem dX10_breaks_30 : decode cX10_breaks 30 = .ok (.ifCond .ne 24, 3) := dk_154 0 24 (dk_at dksX10_breaks_1 6 rfl rfl)
theorem dX10_breaks_33 : decode cX10_breaks 33 = .ok (.iload 5, 2) := dk_21 5 (dk_at dksX10_breaks_1 9 rfl rfl)
theorem dX10_breaks_35 : decode cX10_breaks 35 = .ok (.iload 4, 2) := dk_21 4 (dk_at dksX10_breaks_1 11 rfl rfl)
theorem dX10_breaks_37 : decode cX10_breaks 37 = .ok (.if_icmp .le 17, 3) := dk_164 0 17 (dk_at dksX10_breaks_1 13 rfl rfl)
theorem dX10_breaks_40 : decode cX10_breaks 40 = .ok (.iload 5, 2) := dk_21 5 (dk_at dksX10_breaks_1 16 rfl rfl)
theorem dX10_breaks_42 : decode cX10_breaks 42 = .ok (.iload 4, 2) := dk_21 4 (dk_at dksX10_breaks_1 18 rfl rfl)
theorem dX10_breaks_44 : decode cX10_breaks 44 = .ok (.aload_n 0, 1) := dk_42 (dk_at dksX10_breaks_1 20 rfl rfl)
theorem dX10_breaks_45 : decode cX10_breaks 45 = .ok (.aload_n 1, 1) := dk_43 (dk_at dksX10_breaks_1 21 rfl rfl)
theorem dX10_breaks_46 : decode cX10_breaks 46 = .ok (.iload_n 2, 1) := dk_28 (dk_at dksX10_breaks_1 22 rfl rfl)
theorem dX10_breaks_47 : decode cX10_breaks 47 = .ok (.invokevirtual 231, 3) := dk_182 0 231 (dk_at dksX10_breaks_2 0 rfl rfl)
theorem dX10_breaks_50 : decode cX10_breaks 50 = .ok (.iadd, 1) := dk_96 (dk_at dksX10_breaks_2 3 rfl rfl)
theorem dX10_breaks_51 : decode cX10_breaks 51 = .ok (.if_icmp .lt 5, 3) := dk_161 0 5 (dk_at dksX10_breaks_2 4 rfl rfl)
theorem dX10_breaks_54 : decode cX10_breaks 54 = .ok (.iconst 0, 1) := dk_3 (dk_at dksX10_breaks_2 7 rfl rfl)
theorem dX10_breaks_55 : decode cX10_breaks 55 = .ok (.ireturn, 1) := dk_172 (dk_at dksX10_breaks_2 8 rfl rfl)
theorem dX10_breaks_56 : decode cX10_breaks 56 = .ok (.aload_n 0, 1) := dk_42 (dk_at dksX10_breaks_2 9 rfl rfl)
theorem dX10_breaks_57 : decode cX10_breaks 57 = .ok (.iload 4, 2) := dk_21 4 (dk_at dksX10_breaks_2 10 rfl rfl)
theorem dX10_breaks_59 : decode cX10_breaks 59 = .ok (.putfield 290, 3) := dk_181 1 34 (dk_at dksX10_breaks_2 12 rfl rfl)
theorem dX10_breaks_62 : decode cX10_breaks 62 = .ok (.aload_n 0, 1) := dk_42 (dk_at dksX10_breaks_2 15 rfl rfl)
theorem dX10_breaks_63 : decode cX10_breaks 63 = .ok (.aload_n 1, 1) := dk_43 (dk_at dksX10_breaks_2 16 rfl rfl)
theorem dX10_breaks_64 : decode cX10_breaks 64 = .ok (.iconst 3, 1) := dk_6 (dk_at dksX10_breaks_2 17 rfl rfl)
theorem dX10_breaks_65 : decode cX10_breaks 65 = .ok (.iaload, 1) := dk_46 (dk_at dksX10_breaks_2 18 rfl rfl)
theorem dX10_breaks_66 : decode cX10_breaks 66 = .ok (.putfield 293, 3) := dk_181 1 37 (dk_at dksX10_breaks_2 19 rfl rfl)
theorem dX10_breaks_69 : decode cX10_breaks 69 = .ok (.aload_n 0, 1) := dk_42 (dk_at dksX10_breaks_2 22 rfl rfl)
theorem dX10_breaks_70 : decode cX10_breaks 70 = .ok (.aload_n 1, 1) := dk_43 (dk_at dksX10_breaks_2 23 rfl rfl)
theorem dX10_breaks_71 : decode cX10_breaks 71 = .ok (.iload 6, 2) := dk_21 6 (dk_at dksX10_breaks_3 0 rfl rfl)
theorem dX10_breaks_73 : decode cX10_breaks 73 = .ok (.iaload, 1) := dk_46 (dk_at dksX10_breaks_3 2 rfl rfl)
theorem dX10_breaks_74 : decode cX10_breaks 74 = .ok (.putfield 296, 3) := dk_181 1 40 (dk_at dksX10_breaks_3 3 rfl rfl)
theorem dX10_breaks_77 : decode cX10_breaks 77 = .ok (.aload_n 1, 1) := dk_43 (dk_at dksX10_breaks_3 6 rfl rfl)
theorem dX10_breaks_78 : decode cX10_breaks 78 = .ok (.iconst 0, 1) := dk_3 (dk_at dksX10_breaks_3 7 rfl rfl)
theorem dX10_breaks_79 : decode cX10_breaks 79 = .ok (.iload 5, 2) := dk_21 5 (dk_at dksX10_breaks_3 8 rfl rfl)
theorem dX10_breaks_81 : decode cX10_breaks 81 = .ok (.iastore, 1) := dk_79 (dk_at dksX10_breaks_3 10 rfl rfl)
theorem dX10_breaks_82 : decode cX10_breaks 82 = .ok (.aload_n 1, 1) := dk_43 (dk_at dksX10_breaks_3 11 rfl rfl)
theorem dX10_breaks_83 : decode cX10_breaks 83 = .ok (.iconst 3, 1) := dk_6 (dk_at dksX10_breaks_3 12 rfl rfl)
theorem dX10_breaks_84 : decode cX10_breaks 84 = .ok (.dup2, 1) := dk_92 (dk_at dksX10_breaks_3 13 rfl rfl)
theorem dX10_breaks_85 : decode cX10_breaks 85 = .ok (.iaload, 1) := dk_46 (dk_at dksX10_breaks_3 14 rfl rfl)
theorem dX10_breaks_86 : decode cX10_breaks 86 = .ok (.aload_n 0, 1) := dk_42 (dk_at dksX10_breaks_3 15 rfl rfl)
theorem dX10_breaks_87 : decode cX10_breaks 87 = .ok (.aload_n 1, 1) := dk_43 (dk_at dksX10_breaks_3 16 rfl rfl)
theorem dX10_breaks_88 : decode cX10_breaks 88 = .ok (.iload_n 2, 1) := dk_28 (dk_at dksX10_breaks_3 17 rfl rfl)
theorem dX10_breaks_89 : decode cX10_breaks 89 = .ok (.iload 5, 2) := dk_21 5 (dk_at dksX10_breaks_3 18 rfl rfl)
theorem dX10_breaks_91 : decode cX10_breaks 91 = .ok (.iload 4, 2) := dk_21 4 (dk_at dksX10_breaks_3 20 rfl rfl)
theorem dX10_breaks_93 : decode cX10_breaks 93 = .ok (.isub, 1) := dk_100 (dk_at dksX10_breaks_3 22 rfl rfl)
theorem dX10_breaks_94 : decode cX10_breaks 94 = .ok (.invokevirtual 234, 3) := dk_182 0 234 (dk_at dksX10_breaks_4 0 rfl rfl)
theorem dX10_breaks_97 : decode cX10_breaks 97 = .ok (.iadd, 1) := dk_96 (dk_at dksX10_breaks_4 3 rfl rfl)
theorem dX10_breaks_98 : decode cX10_breaks 98 = .ok (.iastore, 1) := dk_79 (dk_at dksX10_breaks_4 4 rfl rfl)
theorem dX10_breaks_99 : decode cX10_breaks 99 = .ok (.aload_n 1, 1) := dk_43 (dk_at dksX10_breaks_4 5 rfl rfl)
theorem dX10_breaks_100 : decode cX10_breaks 100 = .ok (.iload 6, 2) := dk_21 6 (dk_at dksX10_breaks_4 6 rfl rfl)
theorem dX10_breaks_102 : decode cX10_breaks 102 = .ok (.dup2, 1) := dk_92 (dk_at dksX10_breaks_4 8 rfl rfl)
theorem dX10_breaks_103 : decode cX10_breaks 103 = .ok (.iaload, 1) := dk_46 (dk_at dksX10_breaks_4 9 rfl rfl)
theorem dX10_breaks_104 : decode cX10_breaks 104 = .ok (.iload 5, 2) := dk_21 5 (dk_at dksX10_breaks_4 10 rfl rfl)
theorem dX10_breaks_106 : decode cX10_breaks 106 = .ok (.iload 4, 2) := dk_21 4 (dk_at dksX10_breaks_4 12 rfl rfl)
theorem dX10_breaks_108 : decode cX10_breaks 108 = .ok (.isub, 1) := dk_100 (dk_at dksX10_breaks_4 14 rfl rfl)
theorem dX10_breaks_109 : decode cX10_breaks 109 = .ok (.iadd, 1) := dk_96 (dk_at dksX10_breaks_4 15 rfl rfl)
theorem dX10_breaks_110 : decode cX10_breaks 110 = .ok (.iastore, 1) := dk_79 (dk_at dksX10_breaks_4 16 rfl rfl)
theorem dX10_breaks_111 : decode cX10_breaks 111 = .ok (.aload_n 0, 1) := dk_42 (dk_at dksX10_breaks_4 17 rfl rfl)
theorem dX10_breaks_112 : decode cX10_breaks 112 = .ok (.aload_n 1, 1) := dk_43 (dk_at dksX10_breaks_4 18 rfl rfl)
theorem dX10_breaks_113 : decode cX10_breaks 113 = .ok (.iload_n 3, 1) := dk_29 (dk_at dksX10_breaks_4 19 rfl rfl)
theorem dX10_breaks_114 : decode cX10_breaks 114 = .ok (.invokevirtual 275, 3) := dk_182 1 19 (dk_at dksX10_breaks_4 20 rfl rfl)
theorem dX10_breaks_117 : decode cX10_breaks 117 = .ok (.ifCond .ne 7, 3) := dk_154 0 7 (dk_at dksX10_breaks_5 0 rfl rfl)
theorem dX10_breaks_120 : decode cX10_breaks 120 = .ok (.iconst 1, 1) := dk_4 (dk_at dksX10_breaks_5 3 rfl rfl)
theorem dX10_breaks_121 : decode cX10_breaks 121 = .ok (.goto 4, 3) := dk_167 0 4 (dk_at dksX10_breaks_5 4 rfl rfl)
theorem dX10_breaks_124 : decode cX10_breaks 124 = .ok (.iconst 0, 1) := dk_3 (dk_at dksX10_breaks_5 7 rfl rfl)
theorem dX10_breaks_125 : decode cX10_breaks 125 = .ok (.istore 7, 2) := dk_54 7 (dk_at dksX10_breaks_5 8 rfl rfl)
theorem dX10_breaks_127 : decode cX10_breaks 127 = .ok (.aload_n 1, 1) := dk_43 (dk_at dksX10_breaks_5 10 rfl rfl)
theorem dX10_breaks_128 : decode cX10_breaks 128 = .ok (.iconst 0, 1) := dk_3 (dk_at dksX10_breaks_5 11 rfl rfl)
theorem dX10_breaks_129 : decode cX10_breaks 129 = .ok (.aload_n 0, 1) := dk_42 (dk_at dksX10_breaks_5 12 rfl rfl)
theorem dX10_breaks_130 : decode cX10_breaks 130 = .ok (.getfield 290, 3) := dk_180 1 34 (dk_at dksX10_breaks_5 13 rfl rfl)
theorem dX10_breaks_133 : decode cX10_breaks 133 = .ok (.iastore, 1) := dk_79 (dk_at dksX10_breaks_5 16 rfl rfl)
theorem dX10_breaks_134 : decode cX10_breaks 134 = .ok (.aload_n 1, 1) := dk_43 (dk_at dksX10_breaks_5 17 rfl rfl)
theorem dX10_breaks_135 : decode cX10_breaks 135 = .ok (.iconst 3, 1) := dk_6 (dk_at dksX10_breaks_5 18 rfl rfl)
theorem dX10_breaks_136 : decode cX10_breaks 136 = .ok (.aload_n 0, 1) := dk_42 (dk_at dksX10_breaks_5 19 rfl rfl)
theorem dX10_breaks_137 : decode cX10_breaks 137 = .ok (.getfield 293, 3) := dk_180 1 37 (dk_at dksX10_breaks_5 20 rfl rfl)
theorem dX10_breaks_140 : decode cX10_breaks 140 = .ok (.iastore, 1) := dk_79 (dk_at dksX10_breaks_5 23 rfl rfl)
theorem dX10_breaks_141 : decode cX10_breaks 141 = .ok (.aload_n 1, 1) := dk_43 (dk_at dksX10_breaks_6 0 rfl rfl)
theorem dX10_breaks_142 : decode cX10_breaks 142 = .ok (.iload 6, 2) := dk_21 6 (dk_at dksX10_breaks_6 1 rfl rfl)
theorem dX10_breaks_144 : decode cX10_breaks 144 = .ok (.aload_n 0, 1) := dk_42 (dk_at dksX10_breaks_6 3 rfl rfl)
theorem dX10_breaks_145 : decode cX10_breaks 145 = .ok (.getfield 296, 3) := dk_180 1 40 (dk_at dksX10_breaks_6 4 rfl rfl)
theorem dX10_breaks_148 : decode cX10_breaks 148 = .ok (.iastore, 1) := dk_79 (dk_at dksX10_breaks_6 7 rfl rfl)
theorem dX10_breaks_149 : decode cX10_breaks 149 = .ok (.iload 7, 2) := dk_21 7 (dk_at dksX10_breaks_6 8 rfl rfl)
theorem dX10_breaks_151 : decode cX10_breaks 151 = .ok (.ireturn, 1) := dk_172 (dk_at dksX10_breaks_6 10 rfl rfl)
abbrev cX10_idles : ByteArray := prog_22_method_68_code
def yX10_idles : MethodName := ⟨RX10, "idles", "([I)I"⟩
def dkwX10_idles_3 : List UInt8 := [43, 3, 46, 100, 184, 1, 26, 43, 3, 28, 79, 7, 172]
abbrev dktX10_idles_3 : List UInt8 := dkwX10_idles_3 ++ []
def dkwX10_idles_2 : List UInt8 := [46, 164, 0, 14, 28, 42, 43, 29, 182, 0, 227, 184, 0, 205, 61, 132, 3, 1, 167, 255, 210, 43, 8, 28]
abbrev dktX10_idles_2 : List UInt8 := dkwX10_idles_2 ++ dktX10_idles_3
def dkwX10_idles_1 : List UInt8 := [16, 14, 46, 96, 162, 0, 41, 43, 29, 184, 0, 253, 46, 154, 0, 26, 42, 43, 29, 182, 0, 227, 43, 3]
abbrev dktX10_idles_1 : List UInt8 := dkwX10_idles_1 ++ dktX10_idles_2
def dkwX10_idles_0 : List UInt8 := [43, 3, 46, 16, 10, 96, 42, 180, 0, 17, 3, 46, 184, 0, 205, 61, 16, 20, 62, 29, 16, 20, 43]
abbrev dktX10_idles_0 : List UInt8 := dkwX10_idles_0 ++ dktX10_idles_1
theorem dksX10_idles_0 : cX10_idles.data.toList.drop 0 = dktX10_idles_0 := by decide +kernel
theorem dksX10_idles_1 : cX10_idles.data.toList.drop 23 = dktX10_idles_1 := dk_seg dksX10_idles_0 23 rfl rfl
theorem dksX10_idles_2 : cX10_idles.data.toList.drop 47 = dktX10_idles_2 := dk_seg dksX10_idles_1 24 rfl rfl
theorem dksX10_idles_3 : cX10_idles.data.toList.drop 71 = dktX10_idles_3 := dk_seg dksX10_idles_2 24 rfl rfl
theorem dX10_idles_0 : decode cX10_idles 0 = .ok (.aload_n 1, 1) := dk_43 (dk_at dksX10_idles_0 0 rfl rfl)
theorem dX10_idles_1 : decode cX10_idles 1 = .ok (.iconst 0, 1) := dk_3 (dk_at dksX10_idles_0 1 rfl rfl)
theorem dX10_idles_2 : decode cX10_idles 2 = .ok (.iaload, 1) := dk_46 (dk_at dksX10_idles_0 2 rfl rfl)
theorem dX10_idles_3 : decode cX10_idles 3 = .ok (.bipush 10, 2) := dk_16 10 (dk_at dksX10_idles_0 3 rfl rfl)
theorem dX10_idles_5 : decode cX10_idles 5 = .ok (.iadd, 1) := dk_96 (dk_at dksX10_idles_0 5 rfl rfl)
theorem dX10_idles_6 : decode cX10_idles 6 = .ok (.aload_n 0, 1) := dk_42 (dk_at dksX10_idles_0 6 rfl rfl)
theorem dX10_idles_7 : decode cX10_idles 7 = .ok (.getfield 17, 3) := dk_180 0 17 (dk_at dksX10_idles_0 7 rfl rfl)
theorem dX10_idles_10 : decode cX10_idles 10 = .ok (.iconst 0, 1) := dk_3 (dk_at dksX10_idles_0 10 rfl rfl)
theorem dX10_idles_11 : decode cX10_idles 11 = .ok (.iaload, 1) := dk_46 (dk_at dksX10_idles_0 11 rfl rfl)
theorem dX10_idles_12 : decode cX10_idles 12 = .ok (.invokestatic 205, 3) := dk_184 0 205 (dk_at dksX10_idles_0 12 rfl rfl)
theorem dX10_idles_15 : decode cX10_idles 15 = .ok (.istore_n 2, 1) := dk_61 (dk_at dksX10_idles_0 15 rfl rfl)
theorem dX10_idles_16 : decode cX10_idles 16 = .ok (.bipush 20, 2) := dk_16 20 (dk_at dksX10_idles_0 16 rfl rfl)
theorem dX10_idles_18 : decode cX10_idles 18 = .ok (.istore_n 3, 1) := dk_62 (dk_at dksX10_idles_0 18 rfl rfl)
theorem dX10_idles_19 : decode cX10_idles 19 = .ok (.iload_n 3, 1) := dk_29 (dk_at dksX10_idles_0 19 rfl rfl)
theorem dX10_idles_20 : decode cX10_idles 20 = .ok (.bipush 20, 2) := dk_16 20 (dk_at dksX10_idles_0 20 rfl rfl)
theorem dX10_idles_22 : decode cX10_idles 22 = .ok (.aload_n 1, 1) := dk_43 (dk_at dksX10_idles_0 22 rfl rfl)
theorem dX10_idles_23 : decode cX10_idles 23 = .ok (.bipush 14, 2) := dk_16 14 (dk_at dksX10_idles_1 0 rfl rfl)
theorem dX10_idles_25 : decode cX10_idles 25 = .ok (.iaload, 1) := dk_46 (dk_at dksX10_idles_1 2 rfl rfl)
theorem dX10_idles_26 : decode cX10_idles 26 = .ok (.iadd, 1) := dk_96 (dk_at dksX10_idles_1 3 rfl rfl)
theorem dX10_idles_27 : decode cX10_idles 27 = .ok (.if_icmp .ge 41, 3) := dk_162 0 41 (dk_at dksX10_idles_1 4 rfl rfl)
theorem dX10_idles_30 : decode cX10_idles 30 = .ok (.aload_n 1, 1) := dk_43 (dk_at dksX10_idles_1 7 rfl rfl)
theorem dX10_idles_31 : decode cX10_idles 31 = .ok (.iload_n 3, 1) := dk_29 (dk_at dksX10_idles_1 8 rfl rfl)
theorem dX10_idles_32 : decode cX10_idles 32 = .ok (.invokestatic 253, 3) := dk_184 0 253 (dk_at dksX10_idles_1 9 rfl rfl)
theorem dX10_idles_35 : decode cX10_idles 35 = .ok (.iaload, 1) := dk_46 (dk_at dksX10_idles_1 12 rfl rfl)
theorem dX10_idles_36 : decode cX10_idles 36 = .ok (.ifCond .ne 26, 3) := dk_154 0 26 (dk_at dksX10_idles_1 13 rfl rfl)
theorem dX10_idles_39 : decode cX10_idles 39 = .ok (.aload_n 0, 1) := dk_42 (dk_at dksX10_idles_1 16 rfl rfl)
theorem dX10_idles_40 : decode cX10_idles 40 = .ok (.aload_n 1, 1) := dk_43 (dk_at dksX10_idles_1 17 rfl rfl)
theorem dX10_idles_41 : decode cX10_idles 41 = .ok (.iload_n 3, 1) := dk_29 (dk_at dksX10_idles_1 18 rfl rfl)
theorem dX10_idles_42 : decode cX10_idles 42 = .ok (.invokevirtual 227, 3) := dk_182 0 227 (dk_at dksX10_idles_1 19 rfl rfl)
theorem dX10_idles_45 : decode cX10_idles 45 = .ok (.aload_n 1, 1) := dk_43 (dk_at dksX10_idles_1 22 rfl rfl)
theorem dX10_idles_46 : decode cX10_idles 46 = .ok (.iconst 0, 1) := dk_3 (dk_at dksX10_idles_1 23 rfl rfl)
theorem dX10_idles_47 : decode cX10_idles 47 = .ok (.iaload, 1) := dk_46 (dk_at dksX10_idles_2 0 rfl rfl)
theorem dX10_idles_48 : decode cX10_idles 48 = .ok (.if_icmp .le 14, 3) := dk_164 0 14 (dk_at dksX10_idles_2 1 rfl rfl)
theorem dX10_idles_51 : decode cX10_idles 51 = .ok (.iload_n 2, 1) := dk_28 (dk_at dksX10_idles_2 4 rfl rfl)
theorem dX10_idles_52 : decode cX10_idles 52 = .ok (.aload_n 0, 1) := dk_42 (dk_at dksX10_idles_2 5 rfl rfl)
theorem dX10_idles_53 : decode cX10_idles 53 = .ok (.aload_n 1, 1) := dk_43 (dk_at dksX10_idles_2 6 rfl rfl)
theorem dX10_idles_54 : decode cX10_idles 54 = .ok (.iload_n 3, 1) := dk_29 (dk_at dksX10_idles_2 7 rfl rfl)
theorem dX10_idles_55 : decode cX10_idles 55 = .ok (.invokevirtual 227, 3) := dk_182 0 227 (dk_at dksX10_idles_2 8 rfl rfl)
theorem dX10_idles_58 : decode cX10_idles 58 = .ok (.invokestatic 205, 3) := dk_184 0 205 (dk_at dksX10_idles_2 11 rfl rfl)
theorem dX10_idles_61 : decode cX10_idles 61 = .ok (.istore_n 2, 1) := dk_61 (dk_at dksX10_idles_2 14 rfl rfl)
theorem dX10_idles_62 : decode cX10_idles 62 = .ok (.iinc 3 1, 3) := dk_132 3 1 (dk_at dksX10_idles_2 15 rfl rfl)
theorem dX10_idles_65 : decode cX10_idles 65 = .ok (.goto (-46), 3) := dk_167 255 210 (dk_at dksX10_idles_2 18 rfl rfl)
theorem dX10_idles_68 : decode cX10_idles 68 = .ok (.aload_n 1, 1) := dk_43 (dk_at dksX10_idles_2 21 rfl rfl)
theorem dX10_idles_69 : decode cX10_idles 69 = .ok (.iconst 5, 1) := dk_8 (dk_at dksX10_idles_2 22 rfl rfl)
theorem dX10_idles_70 : decode cX10_idles 70 = .ok (.iload_n 2, 1) := dk_28 (dk_at dksX10_idles_2 23 rfl rfl)
theorem dX10_idles_71 : decode cX10_idles 71 = .ok (.aload_n 1, 1) := dk_43 (dk_at dksX10_idles_3 0 rfl rfl)
theorem dX10_idles_72 : decode cX10_idles 72 = .ok (.iconst 0, 1) := dk_3 (dk_at dksX10_idles_3 1 rfl rfl)
theorem dX10_idles_73 : decode cX10_idles 73 = .ok (.iaload, 1) := dk_46 (dk_at dksX10_idles_3 2 rfl rfl)
theorem dX10_idles_74 : decode cX10_idles 74 = .ok (.isub, 1) := dk_100 (dk_at dksX10_idles_3 3 rfl rfl)
theorem dX10_idles_75 : decode cX10_idles 75 = .ok (.invokestatic 282, 3) := dk_184 1 26 (dk_at dksX10_idles_3 4 rfl rfl)
theorem dX10_idles_78 : decode cX10_idles 78 = .ok (.aload_n 1, 1) := dk_43 (dk_at dksX10_idles_3 7 rfl rfl)
theorem dX10_idles_79 : decode cX10_idles 79 = .ok (.iconst 0, 1) := dk_3 (dk_at dksX10_idles_3 8 rfl rfl)
theorem dX10_idles_80 : decode cX10_idles 80 = .ok (.iload_n 2, 1) := dk_28 (dk_at dksX10_idles_3 9 rfl rfl)
theorem dX10_idles_81 : decode cX10_idles 81 = .ok (.iastore, 1) := dk_79 (dk_at dksX10_idles_3 10 rfl rfl)
theorem dX10_idles_82 : decode cX10_idles 82 = .ok (.iconst 4, 1) := dk_7 (dk_at dksX10_idles_3 11 rfl rfl)
theorem dX10_idles_83 : decode cX10_idles 83 = .ok (.ireturn, 1) := dk_172 (dk_at dksX10_idles_3 12 rfl rfl)
abbrev cX10_logs : ByteArray := prog_22_method_71_code
def yX10_logs : MethodName := ⟨RX10, "logs", "([IIII)V"⟩
def dkwX10_logs_2 : List UInt8 := [3, 46, 79, 42, 16, 16, 92, 46, 4, 96, 79, 177]
abbrev dktX10_logs_2 : List UInt8 := dkwX10_logs_2 ++ []
def dkwX10_logs_1 : List UInt8 := [21, 4, 27, 79, 42, 21, 4, 4, 96, 28, 79, 42, 21, 4, 5, 96, 29, 79, 42, 21, 4, 6, 96, 42]
abbrev dktX10_logs_1 : List UInt8 := dkwX10_logs_1 ++ dktX10_logs_2
def dkwX10_logs_0 : List UInt8 := [42, 16, 16, 46, 16, 100, 160, 0, 4, 177, 17, 0, 227, 7, 42, 16, 16, 46, 104, 96, 54, 4, 42]
abbrev dktX10_logs_0 : List UInt8 := dkwX10_logs_0 ++ dktX10_logs_1
theorem dksX10_logs_0 : cX10_logs.data.toList.drop 0 = dktX10_logs_0 := by decide +kernel
theorem dksX10_logs_1 : cX10_logs.data.toList.drop 23 = dktX10_logs_1 := dk_seg dksX10_logs_0 23 rfl rfl
theorem dksX10_logs_2 : cX10_logs.data.toList.drop 47 = dktX10_logs_2 := dk_seg dksX10_logs_1 24 rfl rfl
theorem dX10_logs_0 : decode cX10_logs 0 = .ok (.aload_n 0, 1) := dk_42 (dk_at dksX10_logs_0 0 rfl rfl)
theorem dX10_logs_1 : decode cX10_logs 1 = .ok (.bipush 16, 2) := dk_16 16 (dk_at dksX10_logs_0 1 rfl rfl)
theorem dX10_logs_3 : decode cX10_logs 3 = .ok (.iaload, 1) := dk_46 (dk_at dksX10_logs_0 3 rfl rfl)
theorem dX10_logs_4 : decode cX10_logs 4 = .ok (.bipush 100, 2) := dk_16 100 (dk_at dksX10_logs_0 4 rfl rfl)
theorem dX10_logs_6 : decode cX10_logs 6 = .ok (.if_icmp .ne 4, 3) := dk_160 0 4 (dk_at dksX10_logs_0 6 rfl rfl)
theorem dX10_logs_9 : decode cX10_logs 9 = .ok (.return_, 1) := dk_177 (dk_at dksX10_logs_0 9 rfl rfl)
theorem dX10_logs_10 : decode cX10_logs 10 = .ok (.sipush 227, 3) := dk_17 0 227 (dk_at dksX10_logs_0 10 rfl rfl)
theorem dX10_logs_13 : decode cX10_logs 13 = .ok (.iconst 4, 1) := dk_7 (dk_at dksX10_logs_0 13 rfl rfl)
theorem dX10_logs_14 : decode cX10_logs 14 = .ok (.aload_n 0, 1) := dk_42 (dk_at dksX10_logs_0 14 rfl rfl)
theorem dX10_logs_15 : decode cX10_logs 15 = .ok (.bipush 16, 2) := dk_16 16 (dk_at dksX10_logs_0 15 rfl rfl)
theorem dX10_logs_17 : decode cX10_logs 17 = .ok (.iaload, 1) := dk_46 (dk_at dksX10_logs_0 17 rfl rfl)
theorem dX10_logs_18 : decode cX10_logs 18 = .ok (.imul, 1) := dk_104 (dk_at dksX10_logs_0 18 rfl rfl)
theorem dX10_logs_19 : decode cX10_logs 19 = .ok (.iadd, 1) := dk_96 (dk_at dksX10_logs_0 19 rfl rfl)
theorem dX10_logs_20 : decode cX10_logs 20 = .ok (.istore 4, 2) := dk_54 4 (dk_at dksX10_logs_0 20 rfl rfl)
theorem dX10_logs_22 : decode cX10_logs 22 = .ok (.aload_n 0, 1) := dk_42 (dk_at dksX10_logs_0 22 rfl rfl)
theorem dX10_logs_23 : decode cX10_logs 23 = .ok (.iload 4, 2) := dk_21 4 (dk_at dksX10_logs_1 0 rfl rfl)
theorem dX10_logs_25 : decode cX10_logs 25 = .ok (.iload_n 1, 1) := dk_27 (dk_at dksX10_logs_1 2 rfl rfl)
theorem dX10_logs_26 : decode cX10_logs 26 = .ok (.iastore, 1) := dk_79 (dk_at dksX10_logs_1 3 rfl rfl)
theorem dX10_logs_27 : decode cX10_logs 27 = .ok (.aload_n 0, 1) := dk_42 (dk_at dksX10_logs_1 4 rfl rfl)
theorem dX10_logs_28 : decode cX10_logs 28 = .ok (.iload 4, 2) := dk_21 4 (dk_at dksX10_logs_1 5 rfl rfl)
theorem dX10_logs_30 : decode cX10_logs 30 = .ok (.iconst 1, 1) := dk_4 (dk_at dksX10_logs_1 7 rfl rfl)
theorem dX10_logs_31 : decode cX10_logs 31 = .ok (.iadd, 1) := dk_96 (dk_at dksX10_logs_1 8 rfl rfl)
theorem dX10_logs_32 : decode cX10_logs 32 = .ok (.iload_n 2, 1) := dk_28 (dk_at dksX10_logs_1 9 rfl rfl)
theorem dX10_logs_33 : decode cX10_logs 33 = .ok (.iastore, 1) := dk_79 (dk_at dksX10_logs_1 10 rfl rfl)
theorem dX10_logs_34 : decode cX10_logs 34 = .ok (.aload_n 0, 1) := dk_42 (dk_at dksX10_logs_1 11 rfl rfl)
theorem dX10_logs_35 : decode cX10_logs 35 = .ok (.iload 4, 2) := dk_21 4 (dk_at dksX10_logs_1 12 rfl rfl)
theorem dX10_logs_37 : decode cX10_logs 37 = .ok (.iconst 2, 1) := dk_5 (dk_at dksX10_logs_1 14 rfl rfl)
theorem dX10_logs_38 : decode cX10_logs 38 = .ok (.iadd, 1) := dk_96 (dk_at dksX10_logs_1 15 rfl rfl)
theorem dX10_logs_39 : decode cX10_logs 39 = .ok (.iload_n 3, 1) := dk_29 (dk_at dksX10_logs_1 16 rfl rfl)
theorem dX10_logs_40 : decode cX10_logs 40 = .ok (.iastore, 1) := dk_79 (dk_at dksX10_logs_1 17 rfl rfl)
theorem dX10_logs_41 : decode cX10_logs 41 = .ok (.aload_n 0, 1) := dk_42 (dk_at dksX10_logs_1 18 rfl rfl)
theorem dX10_logs_42 : decode cX10_logs 42 = .ok (.iload 4, 2) := dk_21 4 (dk_at dksX10_logs_1 19 rfl rfl)
theorem dX10_logs_44 : decode cX10_logs 44 = .ok (.iconst 3, 1) := dk_6 (dk_at dksX10_logs_1 21 rfl rfl)
theorem dX10_logs_45 : decode cX10_logs 45 = .ok (.iadd, 1) := dk_96 (dk_at dksX10_logs_1 22 rfl rfl)
theorem dX10_logs_46 : decode cX10_logs 46 = .ok (.aload_n 0, 1) := dk_42 (dk_at dksX10_logs_1 23 rfl rfl)
theorem dX10_logs_47 : decode cX10_logs 47 = .ok (.iconst 0, 1) := dk_3 (dk_at dksX10_logs_2 0 rfl rfl)
theorem dX10_logs_48 : decode cX10_logs 48 = .ok (.iaload, 1) := dk_46 (dk_at dksX10_logs_2 1 rfl rfl)
theorem dX10_logs_49 : decode cX10_logs 49 = .ok (.iastore, 1) := dk_79 (dk_at dksX10_logs_2 2 rfl rfl)
theorem dX10_logs_50 : decode cX10_logs 50 = .ok (.aload_n 0, 1) := dk_42 (dk_at dksX10_logs_2 3 rfl rfl)
theorem dX10_logs_51 : decode cX10_logs 51 = .ok (.bipush 16, 2) := dk_16 16 (dk_at dksX10_logs_2 4 rfl rfl)
theorem dX10_logs_53 : decode cX10_logs 53 = .ok (.dup2, 1) := dk_92 (dk_at dksX10_logs_2 6 rfl rfl)
theorem dX10_logs_54 : decode cX10_logs 54 = .ok (.iaload, 1) := dk_46 (dk_at dksX10_logs_2 7 rfl rfl)
theorem dX10_logs_55 : decode cX10_logs 55 = .ok (.iconst 1, 1) := dk_4 (dk_at dksX10_logs_2 8 rfl rfl)
theorem dX10_logs_56 : decode cX10_logs 56 = .ok (.iadd, 1) := dk_96 (dk_at dksX10_logs_2 9 rfl rfl)
theorem dX10_logs_57 : decode cX10_logs 57 = .ok (.iastore, 1) := dk_79 (dk_at dksX10_logs_2 10 rfl rfl)
theorem dX10_logs_58 : decode cX10_logs 58 = .ok (.return_, 1) := dk_177 (dk_at dksX10_logs_2 11 rfl rfl)
abbrev cX10_interrupting : ByteArray := prog_22_method_114_code
def yX10_interrupting : MethodName := ⟨RX10, "interrupting", "(I)I"⟩
def dkwX10_interrupting_3 : List UInt8 := [180, 0, 29, 27, 182, 1, 57, 61, 28, 2, 160, 0, 7, 2, 167, 0, 7, 28, 16, 20, 100, 172]
abbrev dktX10_interrupting_3 : List UInt8 := dkwX10_interrupting_3 ++ []
def dkwX10_interrupting_2 : List UInt8 := [180, 0, 23, 3, 42, 180, 0, 29, 3, 184, 0, 189, 42, 42, 180, 0, 29, 27, 182, 1, 53, 42, 42]
abbrev dktX10_interrupting_2 : List UInt8 := dkwX10_interrupting_2 ++ dktX10_interrupting_3
def dkwX10_interrupting_1 : List UInt8 := [180, 0, 23, 27, 182, 1, 19, 154, 0, 7, 4, 167, 0, 4, 3, 182, 1, 105, 154, 0, 5, 3, 172, 42]
abbrev dktX10_interrupting_1 : List UInt8 := dkwX10_interrupting_1 ++ dktX10_interrupting_2
def dkwX10_interrupting_0 : List UInt8 := [42, 42, 27, 182, 1, 116, 42, 180, 0, 193, 153, 0, 27, 42, 27, 182, 1, 116, 153, 0, 19, 42, 42]
abbrev dktX10_interrupting_0 : List UInt8 := dkwX10_interrupting_0 ++ dktX10_interrupting_1
theorem dksX10_interrupting_0 : cX10_interrupting.data.toList.drop 0 = dktX10_interrupting_0 := by decide +kernel
theorem dksX10_interrupting_1 : cX10_interrupting.data.toList.drop 23 = dktX10_interrupting_1 := dk_seg dksX10_interrupting_0 23 rfl rfl
theorem dksX10_interrupting_2 : cX10_interrupting.data.toList.drop 47 = dktX10_interrupting_2 := dk_seg dksX10_interrupting_1 24 rfl rfl
theorem dksX10_interrupting_3 : cX10_interrupting.data.toList.drop 70 = dktX10_interrupting_3 := dk_seg dksX10_interrupting_2 23 rfl rfl
theorem dX10_interrupting_0 : decode cX10_interrupting 0 = .ok (.aload_n 0, 1) := dk_42 (dk_at dksX10_interrupting_0 0 rfl rfl)
theorem dX10_interrupting_1 : decode cX10_interrupting 1 = .ok (.aload_n 0, 1) := dk_42 (dk_at dksX10_interrupting_0 1 rfl rfl)
theorem dX10_interrupting_2 : decode cX10_interrupting 2 = .ok (.iload_n 1, 1) := dk_27 (dk_at dksX10_interrupting_0 2 rfl rfl)
theorem dX10_interrupting_3 : decode cX10_interrupting 3 = .ok (.invokevirtual 372, 3) := dk_182 1 116 (dk_at dksX10_interrupting_0 3 rfl rfl)
theorem dX10_interrupting_6 : decode cX10_interrupting 6 = .ok (.aload_n 0, 1) := dk_42 (dk_at dksX10_interrupting_0 6 rfl rfl)
theorem dX10_interrupting_7 : decode cX10_interrupting 7 = .ok (.getfield 193, 3) := dk_180 0 193 (dk_at dksX10_interrupting_0 7 rfl rfl)
theorem dX10_interrupting_10 : decode cX10_interrupting 10 = .ok (.ifCond .eq 27, 3) := dk_153 0 27 (dk_at dksX10_interrupting_0 10 rfl rfl)
theorem dX10_interrupting_13 : decode cX10_interrupting 13 = .ok (.aload_n 0, 1) := dk_42 (dk_at dksX10_interrupting_0 13 rfl rfl)
theorem dX10_interrupting_14 : decode cX10_interrupting 14 = .ok (.iload_n 1, 1) := dk_27 (dk_at dksX10_interrupting_0 14 rfl rfl)
theorem dX10_interrupting_15 : decode cX10_interrupting 15 = .ok (.invokevirtual 372, 3) := dk_182 1 116 (dk_at dksX10_interrupting_0 15 rfl rfl)
theorem dX10_interrupting_18 : decode cX10_interrupting 18 = .ok (.ifCond .eq 19, 3) := dk_153 0 19 (dk_at dksX10_interrupting_0 18 rfl rfl)
theorem dX10_interrupting_21 : decode cX10_interrupting 21 = .ok (.aload_n 0, 1) := dk_42 (dk_at dksX10_interrupting_0 21 rfl rfl)
theorem dX10_interrupting_22 : decode cX10_interrupting 22 = .ok (.aload_n 0, 1) := dk_42 (dk_at dksX10_interrupting_0 22 rfl rfl)
theorem dX10_interrupting_23 : decode cX10_interrupting 23 = .ok (.getfield 23, 3) := dk_180 0 23 (dk_at dksX10_interrupting_1 0 rfl rfl)
theorem dX10_interrupting_26 : decode cX10_interrupting 26 = .ok (.iload_n 1, 1) := dk_27 (dk_at dksX10_interrupting_1 3 rfl rfl)
theorem dX10_interrupting_27 : decode cX10_interrupting 27 = .ok (.invokevirtual 275, 3) := dk_182 1 19 (dk_at dksX10_interrupting_1 4 rfl rfl)
theorem dX10_interrupting_30 : decode cX10_interrupting 30 = .ok (.ifCond .ne 7, 3) := dk_154 0 7 (dk_at dksX10_interrupting_1 7 rfl rfl)
theorem dX10_interrupting_33 : decode cX10_interrupting 33 = .ok (.iconst 1, 1) := dk_4 (dk_at dksX10_interrupting_1 10 rfl rfl)
theorem dX10_interrupting_34 : decode cX10_interrupting 34 = .ok (.goto 4, 3) := dk_167 0 4 (dk_at dksX10_interrupting_1 11 rfl rfl)
theorem dX10_interrupting_37 : decode cX10_interrupting 37 = .ok (.iconst 0, 1) := dk_3 (dk_at dksX10_interrupting_1 14 rfl rfl)
theorem dX10_interrupting_38 : decode cX10_interrupting 38 = .ok (.invokevirtual 361, 3) := dk_182 1 105 (dk_at dksX10_interrupting_1 15 rfl rfl)
theorem dX10_interrupting_41 : decode cX10_interrupting 41 = .ok (.ifCond .ne 5, 3) := dk_154 0 5 (dk_at dksX10_interrupting_1 18 rfl rfl)
theorem dX10_interrupting_44 : decode cX10_interrupting 44 = .ok (.iconst 0, 1) := dk_3 (dk_at dksX10_interrupting_1 21 rfl rfl)
theorem dX10_interrupting_45 : decode cX10_interrupting 45 = .ok (.ireturn, 1) := dk_172 (dk_at dksX10_interrupting_1 22 rfl rfl)
theorem dX10_interrupting_46 : decode cX10_interrupting 46 = .ok (.aload_n 0, 1) := dk_42 (dk_at dksX10_interrupting_1 23 rfl rfl)
theorem dX10_interrupting_47 : decode cX10_interrupting 47 = .ok (.getfield 23, 3) := dk_180 0 23 (dk_at dksX10_interrupting_2 0 rfl rfl)
theorem dX10_interrupting_50 : decode cX10_interrupting 50 = .ok (.iconst 0, 1) := dk_3 (dk_at dksX10_interrupting_2 3 rfl rfl)
theorem dX10_interrupting_51 : decode cX10_interrupting 51 = .ok (.aload_n 0, 1) := dk_42 (dk_at dksX10_interrupting_2 4 rfl rfl)
theorem dX10_interrupting_52 : decode cX10_interrupting 52 = .ok (.getfield 29, 3) := dk_180 0 29 (dk_at dksX10_interrupting_2 5 rfl rfl)
theorem dX10_interrupting_55 : decode cX10_interrupting 55 = .ok (.iconst 0, 1) := dk_3 (dk_at dksX10_interrupting_2 8 rfl rfl)
theorem dX10_interrupting_56 : decode cX10_interrupting 56 = .ok (.invokestatic 189, 3) := dk_184 0 189 (dk_at dksX10_interrupting_2 9 rfl rfl)
theorem dX10_interrupting_59 : decode cX10_interrupting 59 = .ok (.aload_n 0, 1) := dk_42 (dk_at dksX10_interrupting_2 12 rfl rfl)
theorem dX10_interrupting_60 : decode cX10_interrupting 60 = .ok (.aload_n 0, 1) := dk_42 (dk_at dksX10_interrupting_2 13 rfl rfl)
theorem dX10_interrupting_61 : decode cX10_interrupting 61 = .ok (.getfield 29, 3) := dk_180 0 29 (dk_at dksX10_interrupting_2 14 rfl rfl)
theorem dX10_interrupting_64 : decode cX10_interrupting 64 = .ok (.iload_n 1, 1) := dk_27 (dk_at dksX10_interrupting_2 17 rfl rfl)
theorem dX10_interrupting_65 : decode cX10_interrupting 65 = .ok (.invokevirtual 309, 3) := dk_182 1 53 (dk_at dksX10_interrupting_2 18 rfl rfl)
theorem dX10_interrupting_68 : decode cX10_interrupting 68 = .ok (.aload_n 0, 1) := dk_42 (dk_at dksX10_interrupting_2 21 rfl rfl)
theorem dX10_interrupting_69 : decode cX10_interrupting 69 = .ok (.aload_n 0, 1) := dk_42 (dk_at dksX10_interrupting_2 22 rfl rfl)
theorem dX10_interrupting_70 : decode cX10_interrupting 70 = .ok (.getfield 29, 3) := dk_180 0 29 (dk_at dksX10_interrupting_3 0 rfl rfl)
theorem dX10_interrupting_73 : decode cX10_interrupting 73 = .ok (.iload_n 1, 1) := dk_27 (dk_at dksX10_interrupting_3 3 rfl rfl)
theorem dX10_interrupting_74 : decode cX10_interrupting 74 = .ok (.invokevirtual 313, 3) := dk_182 1 57 (dk_at dksX10_interrupting_3 4 rfl rfl)
theorem dX10_interrupting_77 : decode cX10_interrupting 77 = .ok (.istore_n 2, 1) := dk_61 (dk_at dksX10_interrupting_3 7 rfl rfl)
theorem dX10_interrupting_78 : decode cX10_interrupting 78 = .ok (.iload_n 2, 1) := dk_28 (dk_at dksX10_interrupting_3 8 rfl rfl)
theorem dX10_interrupting_79 : decode cX10_interrupting 79 = .ok (.iconst (-1), 1) := dk_2 (dk_at dksX10_interrupting_3 9 rfl rfl)
theorem dX10_interrupting_80 : decode cX10_interrupting 80 = .ok (.if_icmp .ne 7, 3) := dk_160 0 7 (dk_at dksX10_interrupting_3 10 rfl rfl)
theorem dX10_interrupting_83 : decode cX10_interrupting 83 = .ok (.iconst (-1), 1) := dk_2 (dk_at dksX10_interrupting_3 13 rfl rfl)
theorem dX10_interrupting_84 : decode cX10_interrupting 84 = .ok (.goto 7, 3) := dk_167 0 7 (dk_at dksX10_interrupting_3 14 rfl rfl)
theorem dX10_interrupting_87 : decode cX10_interrupting 87 = .ok (.iload_n 2, 1) := dk_28 (dk_at dksX10_interrupting_3 17 rfl rfl)
theorem dX10_interrupting_88 : decode cX10_interrupting 88 = .ok (.bipush 20, 2) := dk_16 20 (dk_at dksX10_interrupting_3 18 rfl rfl)
theorem dX10_interrupting_90 : decode cX10_interrupting 90 = .ok (.isub, 1) := dk_100 (dk_at dksX10_interrupting_3 20 rfl rfl)
theorem dX10_interrupting_91 : decode cX10_interrupting 91 = .ok (.ireturn, 1) := dk_172 (dk_at dksX10_interrupting_3 21 rfl rfl)
abbrev cX10_alertReason : ByteArray := prog_22_method_115_code
def yX10_alertReason : MethodName := ⟨RX10, "alertReason", "(I)I"⟩
def dkwX10_alertReason_1 : List UInt8 := [3, 46, 164, 0, 8, 16, 8, 167, 0, 15, 42, 42, 180, 0, 23, 16, 20, 27, 96, 182, 1, 19, 172]
abbrev dktX10_alertReason_1 : List UInt8 := dkwX10_alertReason_1 ++ []
def dkwX10_alertReason_0 : List UInt8 := [42, 42, 27, 182, 1, 119, 182, 1, 112, 154, 0, 5, 3, 172, 42, 27, 4, 182, 1, 122, 42, 180, 0, 23]
abbrev dktX10_alertReason_0 : List UInt8 := dkwX10_alertReason_0 ++ dktX10_alertReason_1
theorem dksX10_alertReason_0 : cX10_alertReason.data.toList.drop 0 = dktX10_alertReason_0 := by decide +kernel
theorem dksX10_alertReason_1 : cX10_alertReason.data.toList.drop 24 = dktX10_alertReason_1 := dk_seg dksX10_alertReason_0 24 rfl rfl
theorem dX10_alertReason_0 : decode cX10_alertReason 0 = .ok (.aload_n 0, 1) := dk_42 (dk_at dksX10_alertReason_0 0 rfl rfl)
theorem dX10_alertReason_1 : decode cX10_alertReason 1 = .ok (.aload_n 0, 1) := dk_42 (dk_at dksX10_alertReason_0 1 rfl rfl)
theorem dX10_alertReason_2 : decode cX10_alertReason 2 = .ok (.iload_n 1, 1) := dk_27 (dk_at dksX10_alertReason_0 2 rfl rfl)
theorem dX10_alertReason_3 : decode cX10_alertReason 3 = .ok (.invokevirtual 375, 3) := dk_182 1 119 (dk_at dksX10_alertReason_0 3 rfl rfl)
theorem dX10_alertReason_6 : decode cX10_alertReason 6 = .ok (.invokevirtual 368, 3) := dk_182 1 112 (dk_at dksX10_alertReason_0 6 rfl rfl)
theorem dX10_alertReason_9 : decode cX10_alertReason 9 = .ok (.ifCond .ne 5, 3) := dk_154 0 5 (dk_at dksX10_alertReason_0 9 rfl rfl)
theorem dX10_alertReason_12 : decode cX10_alertReason 12 = .ok (.iconst 0, 1) := dk_3 (dk_at dksX10_alertReason_0 12 rfl rfl)
theorem dX10_alertReason_13 : decode cX10_alertReason 13 = .ok (.ireturn, 1) := dk_172 (dk_at dksX10_alertReason_0 13 rfl rfl)
theorem dX10_alertReason_14 : decode cX10_alertReason 14 = .ok (.aload_n 0, 1) := dk_42 (dk_at dksX10_alertReason_0 14 rfl rfl)
theorem dX10_alertReason_15 : decode cX10_alertReason 15 = .ok (.iload_n 1, 1) := dk_27 (dk_at dksX10_alertReason_0 15 rfl rfl)
theorem dX10_alertReason_16 : decode cX10_alertReason 16 = .ok (.iconst 1, 1) := dk_4 (dk_at dksX10_alertReason_0 16 rfl rfl)
theorem dX10_alertReason_17 : decode cX10_alertReason 17 = .ok (.invokevirtual 378, 3) := dk_182 1 122 (dk_at dksX10_alertReason_0 17 rfl rfl)
theorem dX10_alertReason_20 : decode cX10_alertReason 20 = .ok (.aload_n 0, 1) := dk_42 (dk_at dksX10_alertReason_0 20 rfl rfl)
theorem dX10_alertReason_21 : decode cX10_alertReason 21 = .ok (.getfield 23, 3) := dk_180 0 23 (dk_at dksX10_alertReason_0 21 rfl rfl)
theorem dX10_alertReason_24 : decode cX10_alertReason 24 = .ok (.iconst 0, 1) := dk_3 (dk_at dksX10_alertReason_1 0 rfl rfl)
theorem dX10_alertReason_25 : decode cX10_alertReason 25 = .ok (.iaload, 1) := dk_46 (dk_at dksX10_alertReason_1 1 rfl rfl)
theorem dX10_alertReason_26 : decode cX10_alertReason 26 = .ok (.if_icmp .le 8, 3) := dk_164 0 8 (dk_at dksX10_alertReason_1 2 rfl rfl)
theorem dX10_alertReason_29 : decode cX10_alertReason 29 = .ok (.bipush 8, 2) := dk_16 8 (dk_at dksX10_alertReason_1 5 rfl rfl)
theorem dX10_alertReason_31 : decode cX10_alertReason 31 = .ok (.goto 15, 3) := dk_167 0 15 (dk_at dksX10_alertReason_1 7 rfl rfl)
theorem dX10_alertReason_34 : decode cX10_alertReason 34 = .ok (.aload_n 0, 1) := dk_42 (dk_at dksX10_alertReason_1 10 rfl rfl)
theorem dX10_alertReason_35 : decode cX10_alertReason 35 = .ok (.aload_n 0, 1) := dk_42 (dk_at dksX10_alertReason_1 11 rfl rfl)
theorem dX10_alertReason_36 : decode cX10_alertReason 36 = .ok (.getfield 23, 3) := dk_180 0 23 (dk_at dksX10_alertReason_1 12 rfl rfl)
theorem dX10_alertReason_39 : decode cX10_alertReason 39 = .ok (.bipush 20, 2) := dk_16 20 (dk_at dksX10_alertReason_1 15 rfl rfl)
theorem dX10_alertReason_41 : decode cX10_alertReason 41 = .ok (.iload_n 1, 1) := dk_27 (dk_at dksX10_alertReason_1 17 rfl rfl)
theorem dX10_alertReason_42 : decode cX10_alertReason 42 = .ok (.iadd, 1) := dk_96 (dk_at dksX10_alertReason_1 18 rfl rfl)
theorem dX10_alertReason_43 : decode cX10_alertReason 43 = .ok (.invokevirtual 275, 3) := dk_182 1 19 (dk_at dksX10_alertReason_1 19 rfl rfl)
theorem dX10_alertReason_46 : decode cX10_alertReason 46 = .ok (.ireturn, 1) := dk_172 (dk_at dksX10_alertReason_1 22 rfl rfl)
abbrev cX10_latestBegin : ByteArray := prog_22_method_116_code
def yX10_latestBegin : MethodName := ⟨RX10, "latestBegin", "(I)I"⟩
def dkwX10_latestBegin_3 : List UInt8 := [3, 46, 172, 42, 180, 0, 29, 3, 92, 46, 4, 100, 79, 167, 255, 212, 2, 172]
abbrev dktX10_latestBegin_3 : List UInt8 := dkwX10_latestBegin_3 ++ []
def dkwX10_latestBegin_2 : List UInt8 := [180, 0, 23, 3, 46, 161, 0, 35, 42, 42, 180, 0, 29, 27, 182, 1, 19, 154, 0, 10, 42, 180, 0, 29]
abbrev dktX10_latestBegin_2 : List UInt8 := dkwX10_latestBegin_2 ++ dktX10_latestBegin_3
def dkwX10_latestBegin_1 : List UInt8 := [184, 0, 189, 42, 180, 0, 29, 3, 42, 180, 0, 17, 3, 46, 79, 42, 180, 0, 29, 3, 46, 42]
abbrev dktX10_latestBegin_1 : List UInt8 := dkwX10_latestBegin_1 ++ dktX10_latestBegin_2
def dkwX10_latestBegin_0 : List UInt8 := [42, 42, 27, 182, 1, 116, 182, 1, 112, 154, 0, 5, 3, 172, 42, 180, 0, 23, 3, 42, 180, 0, 29, 3]
abbrev dktX10_latestBegin_0 : List UInt8 := dkwX10_latestBegin_0 ++ dktX10_latestBegin_1
theorem dksX10_latestBegin_0 : cX10_latestBegin.data.toList.drop 0 = dktX10_latestBegin_0 := by decide +kernel
theorem dksX10_latestBegin_1 : cX10_latestBegin.data.toList.drop 24 = dktX10_latestBegin_1 := dk_seg dksX10_latestBegin_0 24 rfl rfl
theorem dksX10_latestBegin_2 : cX10_latestBegin.data.toList.drop 46 = dktX10_latestBegin_2 := dk_seg dksX10_latestBegin_1 22 rfl rfl
theorem dksX10_latestBegin_3 : cX10_latestBegin.data.toList.drop 70 = dktX10_latestBegin_3 := dk_seg dksX10_latestBegin_2 24 rfl rfl
theorem dX10_latestBegin_0 : decode cX10_latestBegin 0 = .ok (.aload_n 0, 1) := dk_42 (dk_at dksX10_latestBegin_0 0 rfl rfl)
theorem dX10_latestBegin_1 : decode cX10_latestBegin 1 = .ok (.aload_n 0, 1) := dk_42 (dk_at dksX10_latestBegin_0 1 rfl rfl)
theorem dX10_latestBegin_2 : decode cX10_latestBegin 2 = .ok (.iload_n 1, 1) := dk_27 (dk_at dksX10_latestBegin_0 2 rfl rfl)
theorem dX10_latestBegin_3 : decode cX10_latestBegin 3 = .ok (.invokevirtual 372, 3) := dk_182 1 116 (dk_at dksX10_latestBegin_0 3 rfl rfl)
theorem dX10_latestBegin_6 : decode cX10_latestBegin 6 = .ok (.invokevirtual 368, 3) := dk_182 1 112 (dk_at dksX10_latestBegin_0 6 rfl rfl)
theorem dX10_latestBegin_9 : decode cX10_latestBegin 9 = .ok (.ifCond .ne 5, 3) := dk_154 0 5 (dk_at dksX10_latestBegin_0 9 rfl rfl)
theorem dX10_latestBegin_12 : decode cX10_latestBegin 12 = .ok (.iconst 0, 1) := dk_3 (dk_at dksX10_latestBegin_0 12 rfl rfl)
theorem dX10_latestBegin_13 : decode cX10_latestBegin 13 = .ok (.ireturn, 1) := dk_172 (dk_at dksX10_latestBegin_0 13 rfl rfl)
theorem dX10_latestBegin_14 : decode cX10_latestBegin 14 = .ok (.aload_n 0, 1) := dk_42 (dk_at dksX10_latestBegin_0 14 rfl rfl)
theorem dX10_latestBegin_15 : decode cX10_latestBegin 15 = .ok (.getfield 23, 3) := dk_180 0 23 (dk_at dksX10_latestBegin_0 15 rfl rfl)
theorem dX10_latestBegin_18 : decode cX10_latestBegin 18 = .ok (.iconst 0, 1) := dk_3 (dk_at dksX10_latestBegin_0 18 rfl rfl)
theorem dX10_latestBegin_19 : decode cX10_latestBegin 19 = .ok (.aload_n 0, 1) := dk_42 (dk_at dksX10_latestBegin_0 19 rfl rfl)
theorem dX10_latestBegin_20 : decode cX10_latestBegin 20 = .ok (.getfield 29, 3) := dk_180 0 29 (dk_at dksX10_latestBegin_0 20 rfl rfl)
theorem dX10_latestBegin_23 : decode cX10_latestBegin 23 = .ok (.iconst 0, 1) := dk_3 (dk_at dksX10_latestBegin_0 23 rfl rfl)
theorem dX10_latestBegin_24 : decode cX10_latestBegin 24 = .ok (.invokestatic 189, 3) := dk_184 0 189 (dk_at dksX10_latestBegin_1 0 rfl rfl)
theorem dX10_latestBegin_27 : decode cX10_latestBegin 27 = .ok (.aload_n 0, 1) := dk_42 (dk_at dksX10_latestBegin_1 3 rfl rfl)
theorem dX10_latestBegin_28 : decode cX10_latestBegin 28 = .ok (.getfield 29, 3) := dk_180 0 29 (dk_at dksX10_latestBegin_1 4 rfl rfl)
theorem dX10_latestBegin_31 : decode cX10_latestBegin 31 = .ok (.iconst 0, 1) := dk_3 (dk_at dksX10_latestBegin_1 7 rfl rfl)
theorem dX10_latestBegin_32 : decode cX10_latestBegin 32 = .ok (.aload_n 0, 1) := dk_42 (dk_at dksX10_latestBegin_1 8 rfl rfl)
theorem dX10_latestBegin_33 : decode cX10_latestBegin 33 = .ok (.getfield 17, 3) := dk_180 0 17 (dk_at dksX10_latestBegin_1 9 rfl rfl)
theorem dX10_latestBegin_36 : decode cX10_latestBegin 36 = .ok (.iconst 0, 1) := dk_3 (dk_at dksX10_latestBegin_1 12 rfl rfl)
theorem dX10_latestBegin_37 : decode cX10_latestBegin 37 = .ok (.iaload, 1) := dk_46 (dk_at dksX10_latestBegin_1 13 rfl rfl)
theorem dX10_latestBegin_38 : decode cX10_latestBegin 38 = .ok (.iastore, 1) := dk_79 (dk_at dksX10_latestBegin_1 14 rfl rfl)
theorem dX10_latestBegin_39 : decode cX10_latestBegin 39 = .ok (.aload_n 0, 1) := dk_42 (dk_at dksX10_latestBegin_1 15 rfl rfl)
theorem dX10_latestBegin_40 : decode cX10_latestBegin 40 = .ok (.getfield 29, 3) := dk_180 0 29 (dk_at dksX10_latestBegin_1 16 rfl rfl)
theorem dX10_latestBegin_43 : decode cX10_latestBegin 43 = .ok (.iconst 0, 1) := dk_3 (dk_at dksX10_latestBegin_1 19 rfl rfl)
theorem dX10_latestBegin_44 : decode cX10_latestBegin 44 = .ok (.iaload, 1) := dk_46 (dk_at dksX10_latestBegin_1 20 rfl rfl)
theorem dX10_latestBegin_45 : decode cX10_latestBegin 45 = .ok (.aload_n 0, 1) := dk_42 (dk_at dksX10_latestBegin_1 21 rfl rfl)
theorem dX10_latestBegin_46 : decode cX10_latestBegin 46 = .ok (.getfield 23, 3) := dk_180 0 23 (dk_at dksX10_latestBegin_2 0 rfl rfl)
theorem dX10_latestBegin_49 : decode cX10_latestBegin 49 = .ok (.iconst 0, 1) := dk_3 (dk_at dksX10_latestBegin_2 3 rfl rfl)
theorem dX10_latestBegin_50 : decode cX10_latestBegin 50 = .ok (.iaload, 1) := dk_46 (dk_at dksX10_latestBegin_2 4 rfl rfl)
theorem dX10_latestBegin_51 : decode cX10_latestBegin 51 = .ok (.if_icmp .lt 35, 3) := dk_161 0 35 (dk_at dksX10_latestBegin_2 5 rfl rfl)
theorem dX10_latestBegin_54 : decode cX10_latestBegin 54 = .ok (.aload_n 0, 1) := dk_42 (dk_at dksX10_latestBegin_2 8 rfl rfl)
theorem dX10_latestBegin_55 : decode cX10_latestBegin 55 = .ok (.aload_n 0, 1) := dk_42 (dk_at dksX10_latestBegin_2 9 rfl rfl)
theorem dX10_latestBegin_56 : decode cX10_latestBegin 56 = .ok (.getfield 29, 3) := dk_180 0 29 (dk_at dksX10_latestBegin_2 10 rfl rfl)
theorem dX10_latestBegin_59 : decode cX10_latestBegin 59 = .ok (.iload_n 1, 1) := dk_27 (dk_at dksX10_latestBegin_2 13 rfl rfl)
theorem dX10_latestBegin_60 : decode cX10_latestBegin 60 = .ok (.invokevirtual 275, 3) := dk_182 1 19 (dk_at dksX10_latestBegin_2 14 rfl rfl)
theorem dX10_latestBegin_63 : decode cX10_latestBegin 63 = .ok (.ifCond .ne 10, 3) := dk_154 0 10 (dk_at dksX10_latestBegin_2 17 rfl rfl)
theorem dX10_latestBegin_66 : decode cX10_latestBegin 66 = .ok (.aload_n 0, 1) := dk_42 (dk_at dksX10_latestBegin_2 20 rfl rfl)
theorem dX10_latestBegin_67 : decode cX10_latestBegin 67 = .ok (.getfield 29, 3) := dk_180 0 29 (dk_at dksX10_latestBegin_2 21 rfl rfl)
theorem dX10_latestBegin_70 : decode cX10_latestBegin 70 = .ok (.iconst 0, 1) := dk_3 (dk_at dksX10_latestBegin_3 0 rfl rfl)
theorem dX10_latestBegin_71 : decode cX10_latestBegin 71 = .ok (.iaload, 1) := dk_46 (dk_at dksX10_latestBegin_3 1 rfl rfl)
theorem dX10_latestBegin_72 : decode cX10_latestBegin 72 = .ok (.ireturn, 1) := dk_172 (dk_at dksX10_latestBegin_3 2 rfl rfl)
theorem dX10_latestBegin_73 : decode cX10_latestBegin 73 = .ok (.aload_n 0, 1) := dk_42 (dk_at dksX10_latestBegin_3 3 rfl rfl)
theorem dX10_latestBegin_74 : decode cX10_latestBegin 74 = .ok (.getfield 29, 3) := dk_180 0 29 (dk_at dksX10_latestBegin_3 4 rfl rfl)
theorem dX10_latestBegin_77 : decode cX10_latestBegin 77 = .ok (.iconst 0, 1) := dk_3 (dk_at dksX10_latestBegin_3 7 rfl rfl)
theorem dX10_latestBegin_78 : decode cX10_latestBegin 78 = .ok (.dup2, 1) := dk_92 (dk_at dksX10_latestBegin_3 8 rfl rfl)
theorem dX10_latestBegin_79 : decode cX10_latestBegin 79 = .ok (.iaload, 1) := dk_46 (dk_at dksX10_latestBegin_3 9 rfl rfl)
theorem dX10_latestBegin_80 : decode cX10_latestBegin 80 = .ok (.iconst 1, 1) := dk_4 (dk_at dksX10_latestBegin_3 10 rfl rfl)
theorem dX10_latestBegin_81 : decode cX10_latestBegin 81 = .ok (.isub, 1) := dk_100 (dk_at dksX10_latestBegin_3 11 rfl rfl)
theorem dX10_latestBegin_82 : decode cX10_latestBegin 82 = .ok (.iastore, 1) := dk_79 (dk_at dksX10_latestBegin_3 12 rfl rfl)
theorem dX10_latestBegin_83 : decode cX10_latestBegin 83 = .ok (.goto (-44), 3) := dk_167 255 212 (dk_at dksX10_latestBegin_3 13 rfl rfl)
theorem dX10_latestBegin_86 : decode cX10_latestBegin 86 = .ok (.iconst (-1), 1) := dk_2 (dk_at dksX10_latestBegin_3 16 rfl rfl)
theorem dX10_latestBegin_87 : decode cX10_latestBegin 87 = .ok (.ireturn, 1) := dk_172 (dk_at dksX10_latestBegin_3 17 rfl rfl)
abbrev cX10_longest : ByteArray := prog_22_method_117_code
def yX10_longest : MethodName := ⟨RX10, "longest", "(I)I"⟩
def dkwX10_longest_4 : List UInt8 := [132, 4, 1, 167, 255, 179, 28, 172]
abbrev dktX10_longest_4 : List UInt8 := dkwX10_longest_4 ++ []
def dkwX10_longest_3 : List UInt8 := [27, 160, 0, 23, 28, 2, 159, 0, 12, 21, 6, 29, 163, 0, 6, 167, 0, 9, 21, 4, 61, 21, 6, 62]
abbrev dktX10_longest_3 : List UInt8 := dkwX10_longest_3 ++ dktX10_longest_4
def dkwX10_longest_2 : List UInt8 := [21, 5, 6, 96, 46, 42, 180, 0, 23, 21, 5, 5, 96, 46, 100, 54, 6, 42, 180, 0, 23, 21, 5, 46]
abbrev dktX10_longest_2 : List UInt8 := dkwX10_longest_2 ++ dktX10_longest_3
def dkwX10_longest_1 : List UInt8 := [42, 180, 0, 23, 16, 16, 46, 162, 0, 71, 17, 0, 227, 7, 21, 4, 104, 96, 54, 5, 42, 180, 0, 23]
abbrev dktX10_longest_1 : List UInt8 := dkwX10_longest_1 ++ dktX10_longest_2
def dkwX10_longest_0 : List UInt8 := [42, 27, 3, 7, 184, 0, 74, 182, 1, 112, 154, 0, 5, 3, 172, 2, 61, 3, 62, 3, 54, 4, 21, 4]
abbrev dktX10_longest_0 : List UInt8 := dkwX10_longest_0 ++ dktX10_longest_1
theorem dksX10_longest_0 : cX10_longest.data.toList.drop 0 = dktX10_longest_0 := by decide +kernel
theorem dksX10_longest_1 : cX10_longest.data.toList.drop 24 = dktX10_longest_1 := dk_seg dksX10_longest_0 24 rfl rfl
theorem dksX10_longest_2 : cX10_longest.data.toList.drop 48 = dktX10_longest_2 := dk_seg dksX10_longest_1 24 rfl rfl
theorem dksX10_longest_3 : cX10_longest.data.toList.drop 72 = dktX10_longest_3 := dk_seg dksX10_longest_2 24 rfl rfl
theorem dksX10_longest_4 : cX10_longest.data.toList.drop 96 = dktX10_longest_4 := dk_seg dksX10_longest_3 24 rfl rfl
theorem dX10_longest_0 : decode cX10_longest 0 = .ok (.aload_n 0, 1) := dk_42 (dk_at dksX10_longest_0 0 rfl rfl)
theorem dX10_longest_1 : decode cX10_longest 1 = .ok (.iload_n 1, 1) := dk_27 (dk_at dksX10_longest_0 1 rfl rfl)
theorem dX10_longest_2 : decode cX10_longest 2 = .ok (.iconst 0, 1) := dk_3 (dk_at dksX10_longest_0 2 rfl rfl)
theorem dX10_longest_3 : decode cX10_longest 3 = .ok (.iconst 4, 1) := dk_7 (dk_at dksX10_longest_0 3 rfl rfl)
theorem dX10_longest_4 : decode cX10_longest 4 = .ok (.invokestatic 74, 3) := dk_184 0 74 (dk_at dksX10_longest_0 4 rfl rfl)
theorem dX10_longest_7 : decode cX10_longest 7 = .ok (.invokevirtual 368, 3) := dk_182 1 112 (dk_at dksX10_longest_0 7 rfl rfl)
theorem dX10_longest_10 : decode cX10_longest 10 = .ok (.ifCond .ne 5, 3) := dk_154 0 5 (dk_at dksX10_longest_0 10 rfl rfl)
theorem dX10_longest_13 : decode cX10_longest 13 = .ok (.iconst 0, 1) := dk_3 (dk_at dksX10_longest_0 13 rfl rfl)
theorem dX10_longest_14 : decode cX10_longest 14 = .ok (.ireturn, 1) := dk_172 (dk_at dksX10_longest_0 14 rfl rfl)
theorem dX10_longest_15 : decode cX10_longest 15 = .ok (.iconst (-1), 1) := dk_2 (dk_at dksX10_longest_0 15 rfl rfl)
theorem dX10_longest_16 : decode cX10_longest 16 = .ok (.istore_n 2, 1) := dk_61 (dk_at dksX10_longest_0 16 rfl rfl)
theorem dX10_longest_17 : decode cX10_longest 17 = .ok (.iconst 0, 1) := dk_3 (dk_at dksX10_longest_0 17 rfl rfl)
theorem dX10_longest_18 : decode cX10_longest 18 = .ok (.istore_n 3, 1) := dk_62 (dk_at dksX10_longest_0 18 rfl rfl)
theorem dX10_longest_19 : decode cX10_longest 19 = .ok (.iconst 0, 1) := dk_3 (dk_at dksX10_longest_0 19 rfl rfl)
theorem dX10_longest_20 : decode cX10_longest 20 = .ok (.istore 4, 2) := dk_54 4 (dk_at dksX10_longest_0 20 rfl rfl)
theorem dX10_longest_22 : decode cX10_longest 22 = .ok (.iload 4, 2) := dk_21 4 (dk_at dksX10_longest_0 22 rfl rfl)
theorem dX10_longest_24 : decode cX10_longest 24 = .ok (.aload_n 0, 1) := dk_42 (dk_at dksX10_longest_1 0 rfl rfl)
theorem dX10_longest_25 : decode cX10_longest 25 = .ok (.getfield 23, 3) := dk_180 0 23 (dk_at dksX10_longest_1 1 rfl rfl)
theorem dX10_longest_28 : decode cX10_longest 28 = .ok (.bipush 16, 2) := dk_16 16 (dk_at dksX10_longest_1 4 rfl rfl)
theorem dX10_longest_30 : decode cX10_longest 30 = .ok (.iaload, 1) := dk_46 (dk_at dksX10_longest_1 6 rfl rfl)
theorem dX10_longest_31 : decode cX10_longest 31 = .ok (.if_icmp .ge 71, 3) := dk_162 0 71 (dk_at dksX10_longest_1 7 rfl rfl)
theorem dX10_longest_34 : decode cX10_longest 34 = .ok (.sipush 227, 3) := dk_17 0 227 (dk_at dksX10_longest_1 10 rfl rfl)
theorem dX10_longest_37 : decode cX10_longest 37 = .ok (.iconst 4, 1) := dk_7 (dk_at dksX10_longest_1 13 rfl rfl)
theorem dX10_longest_38 : decode cX10_longest 38 = .ok (.iload 4, 2) := dk_21 4 (dk_at dksX10_longest_1 14 rfl rfl)
theorem dX10_longest_40 : decode cX10_longest 40 = .ok (.imul, 1) := dk_104 (dk_at dksX10_longest_1 16 rfl rfl)
theorem dX10_longest_41 : decode cX10_longest 41 = .ok (.iadd, 1) := dk_96 (dk_at dksX10_longest_1 17 rfl rfl)
theorem dX10_longest_42 : decode cX10_longest 42 = .ok (.istore 5, 2) := dk_54 5 (dk_at dksX10_longest_1 18 rfl rfl)
theorem dX10_longest_44 : decode cX10_longest 44 = .ok (.aload_n 0, 1) := dk_42 (dk_at dksX10_longest_1 20 rfl rfl)
theorem dX10_longest_45 : decode cX10_longest 45 = .ok (.getfield 23, 3) := dk_180 0 23 (dk_at dksX10_longest_1 21 rfl rfl)
theorem dX10_longest_48 : decode cX10_longest 48 = .ok (.iload 5, 2) := dk_21 5 (dk_at dksX10_longest_2 0 rfl rfl)
theorem dX10_longest_50 : decode cX10_longest 50 = .ok (.iconst 3, 1) := dk_6 (dk_at dksX10_longest_2 2 rfl rfl)
theorem dX10_longest_51 : decode cX10_longest 51 = .ok (.iadd, 1) := dk_96 (dk_at dksX10_longest_2 3 rfl rfl)
theorem dX10_longest_52 : decode cX10_longest 52 = .ok (.iaload, 1) := dk_46 (dk_at dksX10_longest_2 4 rfl rfl)
theorem dX10_longest_53 : decode cX10_longest 53 = .ok (.aload_n 0, 1) := dk_42 (dk_at dksX10_longest_2 5 rfl rfl)
theorem dX10_longest_54 : decode cX10_longest 54 = .ok (.getfield 23, 3) := dk_180 0 23 (dk_at dksX10_longest_2 6 rfl rfl)
theorem dX10_longest_57 : decode cX10_longest 57 = .ok (.iload 5, 2) := dk_21 5 (dk_at dksX10_longest_2 9 rfl rfl)
theorem dX10_longest_59 : decode cX10_longest 59 = .ok (.iconst 2, 1) := dk_5 (dk_at dksX10_longest_2 11 rfl rfl)
theorem dX10_longest_60 : decode cX10_longest 60 = .ok (.iadd, 1) := dk_96 (dk_at dksX10_longest_2 12 rfl rfl)
theorem dX10_longest_61 : decode cX10_longest 61 = .ok (.iaload, 1) := dk_46 (dk_at dksX10_longest_2 13 rfl rfl)
theorem dX10_longest_62 : decode cX10_longest 62 = .ok (.isub, 1) := dk_100 (dk_at dksX10_longest_2 14 rfl rfl)
theorem dX10_longest_63 : decode cX10_longest 63 = .ok (.istore 6, 2) := dk_54 6 (dk_at dksX10_longest_2 15 rfl rfl)
theorem dX10_longest_65 : decode cX10_longest 65 = .ok (.aload_n 0, 1) := dk_42 (dk_at dksX10_longest_2 17 rfl rfl)
theorem dX10_longest_66 : decode cX10_longest 66 = .ok (.getfield 23, 3) := dk_180 0 23 (dk_at dksX10_longest_2 18 rfl rfl)
theorem dX10_longest_69 : decode cX10_longest 69 = .ok (.iload 5, 2) := dk_21 5 (dk_at dksX10_longest_2 21 rfl rfl)
theorem dX10_longest_71 : decode cX10_longest 71 = .ok (.iaload, 1) := dk_46 (dk_at dksX10_longest_2 23 rfl rfl)
theorem dX10_longest_72 : decode cX10_longest 72 = .ok (.iload_n 1, 1) := dk_27 (dk_at dksX10_longest_3 0 rfl rfl)
theorem dX10_longest_73 : decode cX10_longest 73 = .ok (.if_icmp .ne 23, 3) := dk_160 0 23 (dk_at dksX10_longest_3 1 rfl rfl)
theorem dX10_longest_76 : decode cX10_longest 76 = .ok (.iload_n 2, 1) := dk_28 (dk_at dksX10_longest_3 4 rfl rfl)
theorem dX10_longest_77 : decode cX10_longest 77 = .ok (.iconst (-1), 1) := dk_2 (dk_at dksX10_longest_3 5 rfl rfl)
theorem dX10_longest_78 : decode cX10_longest 78 = .ok (.if_icmp .eq 12, 3) := dk_159 0 12 (dk_at dksX10_longest_3 6 rfl rfl)
theorem dX10_longest_81 : decode cX10_longest 81 = .ok (.iload 6, 2) := dk_21 6 (dk_at dksX10_longest_3 9 rfl rfl)
theorem dX10_longest_83 : decode cX10_longest 83 = .ok (.iload_n 3, 1) := dk_29 (dk_at dksX10_longest_3 11 rfl rfl)
theorem dX10_longest_84 : decode cX10_longest 84 = .ok (.if_icmp .gt 6, 3) := dk_163 0 6 (dk_at dksX10_longest_3 12 rfl rfl)
theorem dX10_longest_87 : decode cX10_longest 87 = .ok (.goto 9, 3) := dk_167 0 9 (dk_at dksX10_longest_3 15 rfl rfl)
theorem dX10_longest_90 : decode cX10_longest 90 = .ok (.iload 4, 2) := dk_21 4 (dk_at dksX10_longest_3 18 rfl rfl)
theorem dX10_longest_92 : decode cX10_longest 92 = .ok (.istore_n 2, 1) := dk_61 (dk_at dksX10_longest_3 20 rfl rfl)
theorem dX10_longest_93 : decode cX10_longest 93 = .ok (.iload 6, 2) := dk_21 6 (dk_at dksX10_longest_3 21 rfl rfl)
theorem dX10_longest_95 : decode cX10_longest 95 = .ok (.istore_n 3, 1) := dk_62 (dk_at dksX10_longest_3 23 rfl rfl)
theorem dX10_longest_96 : decode cX10_longest 96 = .ok (.iinc 4 1, 3) := dk_132 4 1 (dk_at dksX10_longest_4 0 rfl rfl)
theorem dX10_longest_99 : decode cX10_longest 99 = .ok (.goto (-77), 3) := dk_167 255 179 (dk_at dksX10_longest_4 3 rfl rfl)
theorem dX10_longest_102 : decode cX10_longest 102 = .ok (.iload_n 2, 1) := dk_28 (dk_at dksX10_longest_4 6 rfl rfl)
theorem dX10_longest_103 : decode cX10_longest 103 = .ok (.ireturn, 1) := dk_172 (dk_at dksX10_longest_4 7 rfl rfl)
abbrev cX10_total : ByteArray := prog_22_method_118_code
def yX10_total : MethodName := ⟨RX10, "total", "(I)I"⟩
def dkwX10_total_1 : List UInt8 := [167, 0, 4, 3, 172]
abbrev dktX10_total_1 : List UInt8 := dkwX10_total_1 ++ []
def dkwX10_total_0 : List UInt8 := [42, 27, 3, 16, 7, 184, 0, 74, 182, 1, 112, 153, 0, 15, 42, 180, 0, 23, 16, 6, 27, 96, 46]
abbrev dktX10_total_0 : List UInt8 := dkwX10_total_0 ++ dktX10_total_1
theorem dksX10_total_0 : cX10_total.data.toList.drop 0 = dktX10_total_0 := by decide +kernel
theorem dksX10_total_1 : cX10_total.data.toList.drop 23 = dktX10_total_1 := dk_seg dksX10_total_0 23 rfl rfl
theorem dX10_total_0 : decode cX10_total 0 = .ok (.aload_n 0, 1) := dk_42 (dk_at dksX10_total_0 0 rfl rfl)
theorem dX10_total_1 : decode cX10_total 1 = .ok (.iload_n 1, 1) := dk_27 (dk_at dksX10_total_0 1 rfl rfl)
theorem dX10_total_2 : decode cX10_total 2 = .ok (.iconst 0, 1) := dk_3 (dk_at dksX10_total_0 2 rfl rfl)
theorem dX10_total_3 : decode cX10_total 3 = .ok (.bipush 7, 2) := dk_16 7 (dk_at dksX10_total_0 3 rfl rfl)
theorem dX10_total_5 : decode cX10_total 5 = .ok (.invokestatic 74, 3) := dk_184 0 74 (dk_at dksX10_total_0 5 rfl rfl)
theorem dX10_total_8 : decode cX10_total 8 = .ok (.invokevirtual 368, 3) := dk_182 1 112 (dk_at dksX10_total_0 8 rfl rfl)
theorem dX10_total_11 : decode cX10_total 11 = .ok (.ifCond .eq 15, 3) := dk_153 0 15 (dk_at dksX10_total_0 11 rfl rfl)
theorem dX10_total_14 : decode cX10_total 14 = .ok (.aload_n 0, 1) := dk_42 (dk_at dksX10_total_0 14 rfl rfl)
theorem dX10_total_15 : decode cX10_total 15 = .ok (.getfield 23, 3) := dk_180 0 23 (dk_at dksX10_total_0 15 rfl rfl)
theorem dX10_total_18 : decode cX10_total 18 = .ok (.bipush 6, 2) := dk_16 6 (dk_at dksX10_total_0 18 rfl rfl)
theorem dX10_total_20 : decode cX10_total 20 = .ok (.iload_n 1, 1) := dk_27 (dk_at dksX10_total_0 20 rfl rfl)
theorem dX10_total_21 : decode cX10_total 21 = .ok (.iadd, 1) := dk_96 (dk_at dksX10_total_0 21 rfl rfl)
theorem dX10_total_22 : decode cX10_total 22 = .ok (.iaload, 1) := dk_46 (dk_at dksX10_total_0 22 rfl rfl)
theorem dX10_total_23 : decode cX10_total 23 = .ok (.goto 4, 3) := dk_167 0 4 (dk_at dksX10_total_1 0 rfl rfl)
theorem dX10_total_26 : decode cX10_total 26 = .ok (.iconst 0, 1) := dk_3 (dk_at dksX10_total_1 3 rfl rfl)
theorem dX10_total_27 : decode cX10_total 27 = .ok (.ireturn, 1) := dk_172 (dk_at dksX10_total_1 4 rfl rfl)
abbrev cX10_share : ByteArray := prog_22_method_120_code
def yX10_share : MethodName := ⟨RX10, "share", "(I)F"⟩
def dkwX10_share_0 : List UInt8 := [42, 42, 27, 182, 1, 102, 182, 1, 112, 153, 0, 11, 42, 27, 182, 1, 131, 167, 0, 4, 11, 174]
abbrev dktX10_share_0 : List UInt8 := dkwX10_share_0 ++ []
theorem dksX10_share_0 : cX10_share.data.toList.drop 0 = dktX10_share_0 := by decide +kernel
theorem dX10_share_0 : decode cX10_share 0 = .ok (.aload_n 0, 1) := dk_42 (dk_at dksX10_share_0 0 rfl rfl)
theorem dX10_share_1 : decode cX10_share 1 = .ok (.aload_n 0, 1) := dk_42 (dk_at dksX10_share_0 1 rfl rfl)
theorem dX10_share_2 : decode cX10_share 2 = .ok (.iload_n 1, 1) := dk_27 (dk_at dksX10_share_0 2 rfl rfl)
theorem dX10_share_3 : decode cX10_share 3 = .ok (.invokevirtual 358, 3) := dk_182 1 102 (dk_at dksX10_share_0 3 rfl rfl)
theorem dX10_share_6 : decode cX10_share 6 = .ok (.invokevirtual 368, 3) := dk_182 1 112 (dk_at dksX10_share_0 6 rfl rfl)
theorem dX10_share_9 : decode cX10_share 9 = .ok (.ifCond .eq 11, 3) := dk_153 0 11 (dk_at dksX10_share_0 9 rfl rfl)
theorem dX10_share_12 : decode cX10_share 12 = .ok (.aload_n 0, 1) := dk_42 (dk_at dksX10_share_0 12 rfl rfl)
theorem dX10_share_13 : decode cX10_share 13 = .ok (.iload_n 1, 1) := dk_27 (dk_at dksX10_share_0 13 rfl rfl)
theorem dX10_share_14 : decode cX10_share 14 = .ok (.invokevirtual 387, 3) := dk_182 1 131 (dk_at dksX10_share_0 14 rfl rfl)
theorem dX10_share_17 : decode cX10_share 17 = .ok (.goto 4, 3) := dk_167 0 4 (dk_at dksX10_share_0 17 rfl rfl)
theorem dX10_share_20 : decode cX10_share 20 = .ok (.fconst 0, 1) := dk_11 (dk_at dksX10_share_0 20 rfl rfl)
theorem dX10_share_21 : decode cX10_share 21 = .ok (.freturn, 1) := dk_174 (dk_at dksX10_share_0 21 rfl rfl)
abbrev cX10_shareOf : ByteArray := prog_22_method_119_code
def yX10_shareOf : MethodName := ⟨RX10, "shareOf", "(I)F"⟩
def dkwX10_shareOf_1 : List UInt8 := [46, 134, 42, 180, 0, 23, 16, 17, 27, 96, 46, 134, 110, 174]
abbrev dktX10_shareOf_1 : List UInt8 := dkwX10_shareOf_1 ++ []
def dkwX10_shareOf_0 : List UInt8 := [42, 180, 0, 23, 16, 17, 27, 96, 46, 154, 0, 7, 11, 167, 0, 24, 42, 180, 0, 23, 16, 23, 27, 96]
abbrev dktX10_shareOf_0 : List UInt8 := dkwX10_shareOf_0 ++ dktX10_shareOf_1
theorem dksX10_shareOf_0 : cX10_shareOf.data.toList.drop 0 = dktX10_shareOf_0 := by decide +kernel
theorem dksX10_shareOf_1 : cX10_shareOf.data.toList.drop 24 = dktX10_shareOf_1 := dk_seg dksX10_shareOf_0 24 rfl rfl
theorem dX10_shareOf_0 : decode cX10_shareOf 0 = .ok (.aload_n 0, 1) := dk_42 (dk_at dksX10_shareOf_0 0 rfl rfl)
theorem dX10_shareOf_1 : decode cX10_shareOf 1 = .ok (.getfield 23, 3) := dk_180 0 23 (dk_at dksX10_shareOf_0 1 rfl rfl)
theorem dX10_shareOf_4 : decode cX10_shareOf 4 = .ok (.bipush 17, 2) := dk_16 17 (dk_at dksX10_shareOf_0 4 rfl rfl)
theorem dX10_shareOf_6 : decode cX10_shareOf 6 = .ok (.iload_n 1, 1) := dk_27 (dk_at dksX10_shareOf_0 6 rfl rfl)
theorem dX10_shareOf_7 : decode cX10_shareOf 7 = .ok (.iadd, 1) := dk_96 (dk_at dksX10_shareOf_0 7 rfl rfl)
theorem dX10_shareOf_8 : decode cX10_shareOf 8 = .ok (.iaload, 1) := dk_46 (dk_at dksX10_shareOf_0 8 rfl rfl)
theorem dX10_shareOf_9 : decode cX10_shareOf 9 = .ok (.ifCond .ne 7, 3) := dk_154 0 7 (dk_at dksX10_shareOf_0 9 rfl rfl)
theorem dX10_shareOf_12 : decode cX10_shareOf 12 = .ok (.fconst 0, 1) := dk_11 (dk_at dksX10_shareOf_0 12 rfl rfl)
theorem dX10_shareOf_13 : decode cX10_shareOf 13 = .ok (.goto 24, 3) := dk_167 0 24 (dk_at dksX10_shareOf_0 13 rfl rfl)
theorem dX10_shareOf_16 : decode cX10_shareOf 16 = .ok (.aload_n 0, 1) := dk_42 (dk_at dksX10_shareOf_0 16 rfl rfl)
theorem dX10_shareOf_17 : decode cX10_shareOf 17 = .ok (.getfield 23, 3) := dk_180 0 23 (dk_at dksX10_shareOf_0 17 rfl rfl)
theorem dX10_shareOf_20 : decode cX10_shareOf 20 = .ok (.bipush 23, 2) := dk_16 23 (dk_at dksX10_shareOf_0 20 rfl rfl)
theorem dX10_shareOf_22 : decode cX10_shareOf 22 = .ok (.iload_n 1, 1) := dk_27 (dk_at dksX10_shareOf_0 22 rfl rfl)
theorem dX10_shareOf_23 : decode cX10_shareOf 23 = .ok (.iadd, 1) := dk_96 (dk_at dksX10_shareOf_0 23 rfl rfl)
theorem dX10_shareOf_24 : decode cX10_shareOf 24 = .ok (.iaload, 1) := dk_46 (dk_at dksX10_shareOf_1 0 rfl rfl)
theorem dX10_shareOf_25 : decode cX10_shareOf 25 = .ok (.i2f, 1) := dk_134 (dk_at dksX10_shareOf_1 1 rfl rfl)
theorem dX10_shareOf_26 : decode cX10_shareOf 26 = .ok (.aload_n 0, 1) := dk_42 (dk_at dksX10_shareOf_1 2 rfl rfl)
theorem dX10_shareOf_27 : decode cX10_shareOf 27 = .ok (.getfield 23, 3) := dk_180 0 23 (dk_at dksX10_shareOf_1 3 rfl rfl)
theorem dX10_shareOf_30 : decode cX10_shareOf 30 = .ok (.bipush 17, 2) := dk_16 17 (dk_at dksX10_shareOf_1 6 rfl rfl)
theorem dX10_shareOf_32 : decode cX10_shareOf 32 = .ok (.iload_n 1, 1) := dk_27 (dk_at dksX10_shareOf_1 8 rfl rfl)
theorem dX10_shareOf_33 : decode cX10_shareOf 33 = .ok (.iadd, 1) := dk_96 (dk_at dksX10_shareOf_1 9 rfl rfl)
theorem dX10_shareOf_34 : decode cX10_shareOf 34 = .ok (.iaload, 1) := dk_46 (dk_at dksX10_shareOf_1 10 rfl rfl)
theorem dX10_shareOf_35 : decode cX10_shareOf 35 = .ok (.i2f, 1) := dk_134 (dk_at dksX10_shareOf_1 11 rfl rfl)
theorem dX10_shareOf_36 : decode cX10_shareOf 36 = .ok (.fdiv, 1) := dk_110 (dk_at dksX10_shareOf_1 12 rfl rfl)
theorem dX10_shareOf_37 : decode cX10_shareOf 37 = .ok (.freturn, 1) := dk_174 (dk_at dksX10_shareOf_1 13 rfl rfl)
abbrev cX10_spread : ByteArray := prog_22_method_121_code
def yX10_spread : MethodName := ⟨RX10, "spread", "()F"⟩
def dkwX10_spread_3 : List UInt8 := [167, 255, 207, 36, 35, 102, 174]
abbrev dktX10_spread_3 : List UInt8 := dkwX10_spread_3 ++ []
def dkwX10_spread_2 : List UInt8 := [23, 4, 167, 0, 4, 35, 68, 23, 4, 36, 149, 158, 0, 8, 23, 4, 167, 0, 4, 36, 69, 132, 3, 1]
abbrev dktX10_spread_2 : List UInt8 := dkwX10_spread_2 ++ dktX10_spread_3
def dkwX10_spread_1 : List UInt8 := [180, 0, 17, 16, 10, 46, 162, 0, 44, 42, 29, 182, 1, 131, 56, 4, 23, 4, 35, 150, 156, 0, 8]
abbrev dktX10_spread_1 : List UInt8 := dkwX10_spread_1 ++ dktX10_spread_2
def dkwX10_spread_0 : List UInt8 := [42, 4, 182, 1, 112, 154, 0, 5, 11, 174, 42, 3, 182, 1, 131, 68, 35, 69, 4, 62, 29, 42]
abbrev dktX10_spread_0 : List UInt8 := dkwX10_spread_0 ++ dktX10_spread_1
theorem dksX10_spread_0 : cX10_spread.data.toList.drop 0 = dktX10_spread_0 := by decide +kernel
theorem dksX10_spread_1 : cX10_spread.data.toList.drop 22 = dktX10_spread_1 := dk_seg dksX10_spread_0 22 rfl rfl
theorem dksX10_spread_2 : cX10_spread.data.toList.drop 45 = dktX10_spread_2 := dk_seg dksX10_spread_1 23 rfl rfl
theorem dksX10_spread_3 : cX10_spread.data.toList.drop 69 = dktX10_spread_3 := dk_seg dksX10_spread_2 24 rfl rfl
theorem dX10_spread_0 : decode cX10_spread 0 = .ok (.aload_n 0, 1) := dk_42 (dk_at dksX10_spread_0 0 rfl rfl)
theorem dX10_spread_1 : decode cX10_spread 1 = .ok (.iconst 1, 1) := dk_4 (dk_at dksX10_spread_0 1 rfl rfl)
theorem dX10_spread_2 : decode cX10_spread 2 = .ok (.invokevirtual 368, 3) := dk_182 1 112 (dk_at dksX10_spread_0 2 rfl rfl)
theorem dX10_spread_5 : decode cX10_spread 5 = .ok (.ifCond .ne 5, 3) := dk_154 0 5 (dk_at dksX10_spread_0 5 rfl rfl)
theorem dX10_spread_8 : decode cX10_spread 8 = .ok (.fconst 0, 1) := dk_11 (dk_at dksX10_spread_0 8 rfl rfl)
theorem dX10_spread_9 : decode cX10_spread 9 = .ok (.freturn, 1) := dk_174 (dk_at dksX10_spread_0 9 rfl rfl)
theorem dX10_spread_10 : decode cX10_spread 10 = .ok (.aload_n 0, 1) := dk_42 (dk_at dksX10_spread_0 10 rfl rfl)
theorem dX10_spread_11 : decode cX10_spread 11 = .ok (.iconst 0, 1) := dk_3 (dk_at dksX10_spread_0 11 rfl rfl)
theorem dX10_spread_12 : decode cX10_spread 12 = .ok (.invokevirtual 387, 3) := dk_182 1 131 (dk_at dksX10_spread_0 12 rfl rfl)
theorem dX10_spread_15 : decode cX10_spread 15 = .ok (.fstore_n 1, 1) := dk_68 (dk_at dksX10_spread_0 15 rfl rfl)
theorem dX10_spread_16 : decode cX10_spread 16 = .ok (.fload_n 1, 1) := dk_35 (dk_at dksX10_spread_0 16 rfl rfl)
theorem dX10_spread_17 : decode cX10_spread 17 = .ok (.fstore_n 2, 1) := dk_69 (dk_at dksX10_spread_0 17 rfl rfl)
theorem dX10_spread_18 : decode cX10_spread 18 = .ok (.iconst 1, 1) := dk_4 (dk_at dksX10_spread_0 18 rfl rfl)
theorem dX10_spread_19 : decode cX10_spread 19 = .ok (.istore_n 3, 1) := dk_62 (dk_at dksX10_spread_0 19 rfl rfl)
theorem dX10_spread_20 : decode cX10_spread 20 = .ok (.iload_n 3, 1) := dk_29 (dk_at dksX10_spread_0 20 rfl rfl)
theorem dX10_spread_21 : decode cX10_spread 21 = .ok (.aload_n 0, 1) := dk_42 (dk_at dksX10_spread_0 21 rfl rfl)
theorem dX10_spread_22 : decode cX10_spread 22 = .ok (.getfield 17, 3) := dk_180 0 17 (dk_at dksX10_spread_1 0 rfl rfl)
theorem dX10_spread_25 : decode cX10_spread 25 = .ok (.bipush 10, 2) := dk_16 10 (dk_at dksX10_spread_1 3 rfl rfl)
theorem dX10_spread_27 : decode cX10_spread 27 = .ok (.iaload, 1) := dk_46 (dk_at dksX10_spread_1 5 rfl rfl)
theorem dX10_spread_28 : decode cX10_spread 28 = .ok (.if_icmp .ge 44, 3) := dk_162 0 44 (dk_at dksX10_spread_1 6 rfl rfl)
theorem dX10_spread_31 : decode cX10_spread 31 = .ok (.aload_n 0, 1) := dk_42 (dk_at dksX10_spread_1 9 rfl rfl)
theorem dX10_spread_32 : decode cX10_spread 32 = .ok (.iload_n 3, 1) := dk_29 (dk_at dksX10_spread_1 10 rfl rfl)
theorem dX10_spread_33 : decode cX10_spread 33 = .ok (.invokevirtual 387, 3) := dk_182 1 131 (dk_at dksX10_spread_1 11 rfl rfl)
theorem dX10_spread_36 : decode cX10_spread 36 = .ok (.fstore 4, 2) := dk_56 4 (dk_at dksX10_spread_1 14 rfl rfl)
theorem dX10_spread_38 : decode cX10_spread 38 = .ok (.fload 4, 2) := dk_23 4 (dk_at dksX10_spread_1 16 rfl rfl)
theorem dX10_spread_40 : decode cX10_spread 40 = .ok (.fload_n 1, 1) := dk_35 (dk_at dksX10_spread_1 18 rfl rfl)
theorem dX10_spread_41 : decode cX10_spread 41 = .ok (.fcmp .g, 1) := dk_150 (dk_at dksX10_spread_1 19 rfl rfl)
theorem dX10_spread_42 : decode cX10_spread 42 = .ok (.ifCond .ge 8, 3) := dk_156 0 8 (dk_at dksX10_spread_1 20 rfl rfl)
theorem dX10_spread_45 : decode cX10_spread 45 = .ok (.fload 4, 2) := dk_23 4 (dk_at dksX10_spread_2 0 rfl rfl)
theorem dX10_spread_47 : decode cX10_spread 47 = .ok (.goto 4, 3) := dk_167 0 4 (dk_at dksX10_spread_2 2 rfl rfl)
theorem dX10_spread_50 : decode cX10_spread 50 = .ok (.fload_n 1, 1) := dk_35 (dk_at dksX10_spread_2 5 rfl rfl)
theorem dX10_spread_51 : decode cX10_spread 51 = .ok (.fstore_n 1, 1) := dk_68 (dk_at dksX10_spread_2 6 rfl rfl)
theorem dX10_spread_52 : decode cX10_spread 52 = .ok (.fload 4, 2) := dk_23 4 (dk_at dksX10_spread_2 7 rfl rfl)
theorem dX10_spread_54 : decode cX10_spread 54 = .ok (.fload_n 2, 1) := dk_36 (dk_at dksX10_spread_2 9 rfl rfl)
theorem dX10_spread_55 : decode cX10_spread 55 = .ok (.fcmp .l, 1) := dk_149 (dk_at dksX10_spread_2 10 rfl rfl)
theorem dX10_spread_56 : decode cX10_spread 56 = .ok (.ifCond .le 8, 3) := dk_158 0 8 (dk_at dksX10_spread_2 11 rfl rfl)
theorem dX10_spread_59 : decode cX10_spread 59 = .ok (.fload 4, 2) := dk_23 4 (dk_at dksX10_spread_2 14 rfl rfl)
theorem dX10_spread_61 : decode cX10_spread 61 = .ok (.goto 4, 3) := dk_167 0 4 (dk_at dksX10_spread_2 16 rfl rfl)
theorem dX10_spread_64 : decode cX10_spread 64 = .ok (.fload_n 2, 1) := dk_36 (dk_at dksX10_spread_2 19 rfl rfl)
theorem dX10_spread_65 : decode cX10_spread 65 = .ok (.fstore_n 2, 1) := dk_69 (dk_at dksX10_spread_2 20 rfl rfl)
theorem dX10_spread_66 : decode cX10_spread 66 = .ok (.iinc 3 1, 3) := dk_132 3 1 (dk_at dksX10_spread_2 21 rfl rfl)
theorem dX10_spread_69 : decode cX10_spread 69 = .ok (.goto (-49), 3) := dk_167 255 207 (dk_at dksX10_spread_3 0 rfl rfl)
theorem dX10_spread_72 : decode cX10_spread 72 = .ok (.fload_n 2, 1) := dk_36 (dk_at dksX10_spread_3 3 rfl rfl)
theorem dX10_spread_73 : decode cX10_spread 73 = .ok (.fload_n 1, 1) := dk_35 (dk_at dksX10_spread_3 4 rfl rfl)
theorem dX10_spread_74 : decode cX10_spread 74 = .ok (.fsub, 1) := dk_102 (dk_at dksX10_spread_3 5 rfl rfl)
theorem dX10_spread_75 : decode cX10_spread 75 = .ok (.freturn, 1) := dk_174 (dk_at dksX10_spread_3 6 rfl rfl)
abbrev cX10_entries : ByteArray := prog_22_method_122_code
def yX10_entries : MethodName := ⟨RX10, "entries", "()I"⟩
def dkwX10_entries_0 : List UInt8 := [42, 42, 180, 0, 23, 16, 16, 46, 182, 1, 99, 172]
abbrev dktX10_entries_0 : List UInt8 := dkwX10_entries_0 ++ []
theorem dksX10_entries_0 : cX10_entries.data.toList.drop 0 = dktX10_entries_0 := by decide +kernel
theorem dX10_entries_0 : decode cX10_entries 0 = .ok (.aload_n 0, 1) := dk_42 (dk_at dksX10_entries_0 0 rfl rfl)
theorem dX10_entries_1 : decode cX10_entries 1 = .ok (.aload_n 0, 1) := dk_42 (dk_at dksX10_entries_0 1 rfl rfl)
theorem dX10_entries_2 : decode cX10_entries 2 = .ok (.getfield 23, 3) := dk_180 0 23 (dk_at dksX10_entries_0 2 rfl rfl)
theorem dX10_entries_5 : decode cX10_entries 5 = .ok (.bipush 16, 2) := dk_16 16 (dk_at dksX10_entries_0 5 rfl rfl)
theorem dX10_entries_7 : decode cX10_entries 7 = .ok (.iaload, 1) := dk_46 (dk_at dksX10_entries_0 7 rfl rfl)
theorem dX10_entries_8 : decode cX10_entries 8 = .ok (.invokevirtual 355, 3) := dk_182 1 99 (dk_at dksX10_entries_0 8 rfl rfl)
theorem dX10_entries_11 : decode cX10_entries 11 = .ok (.ireturn, 1) := dk_172 (dk_at dksX10_entries_0 11 rfl rfl)
abbrev cX10_entry : ByteArray := prog_22_method_124_code
def yX10_entry : MethodName := ⟨RX10, "entry", "(II)I"⟩
def dkwX10_entry_1 : List UInt8 := [17, 0, 227, 7, 27, 104, 96, 28, 96, 46, 167, 0, 4, 3, 172]
abbrev dktX10_entry_1 : List UInt8 := dkwX10_entry_1 ++ []
def dkwX10_entry_0 : List UInt8 := [42, 42, 27, 182, 1, 135, 28, 3, 6, 184, 0, 74, 182, 1, 105, 153, 0, 20, 42, 180, 0, 23]
abbrev dktX10_entry_0 : List UInt8 := dkwX10_entry_0 ++ dktX10_entry_1
theorem dksX10_entry_0 : cX10_entry.data.toList.drop 0 = dktX10_entry_0 := by decide +kernel
theorem dksX10_entry_1 : cX10_entry.data.toList.drop 22 = dktX10_entry_1 := dk_seg dksX10_entry_0 22 rfl rfl
theorem dX10_entry_0 : decode cX10_entry 0 = .ok (.aload_n 0, 1) := dk_42 (dk_at dksX10_entry_0 0 rfl rfl)
theorem dX10_entry_1 : decode cX10_entry 1 = .ok (.aload_n 0, 1) := dk_42 (dk_at dksX10_entry_0 1 rfl rfl)
theorem dX10_entry_2 : decode cX10_entry 2 = .ok (.iload_n 1, 1) := dk_27 (dk_at dksX10_entry_0 2 rfl rfl)
theorem dX10_entry_3 : decode cX10_entry 3 = .ok (.invokevirtual 391, 3) := dk_182 1 135 (dk_at dksX10_entry_0 3 rfl rfl)
theorem dX10_entry_6 : decode cX10_entry 6 = .ok (.iload_n 2, 1) := dk_28 (dk_at dksX10_entry_0 6 rfl rfl)
theorem dX10_entry_7 : decode cX10_entry 7 = .ok (.iconst 0, 1) := dk_3 (dk_at dksX10_entry_0 7 rfl rfl)
theorem dX10_entry_8 : decode cX10_entry 8 = .ok (.iconst 3, 1) := dk_6 (dk_at dksX10_entry_0 8 rfl rfl)
theorem dX10_entry_9 : decode cX10_entry 9 = .ok (.invokestatic 74, 3) := dk_184 0 74 (dk_at dksX10_entry_0 9 rfl rfl)
theorem dX10_entry_12 : decode cX10_entry 12 = .ok (.invokevirtual 361, 3) := dk_182 1 105 (dk_at dksX10_entry_0 12 rfl rfl)
theorem dX10_entry_15 : decode cX10_entry 15 = .ok (.ifCond .eq 20, 3) := dk_153 0 20 (dk_at dksX10_entry_0 15 rfl rfl)
theorem dX10_entry_18 : decode cX10_entry 18 = .ok (.aload_n 0, 1) := dk_42 (dk_at dksX10_entry_0 18 rfl rfl)
theorem dX10_entry_19 : decode cX10_entry 19 = .ok (.getfield 23, 3) := dk_180 0 23 (dk_at dksX10_entry_0 19 rfl rfl)
theorem dX10_entry_22 : decode cX10_entry 22 = .ok (.sipush 227, 3) := dk_17 0 227 (dk_at dksX10_entry_1 0 rfl rfl)
theorem dX10_entry_25 : decode cX10_entry 25 = .ok (.iconst 4, 1) := dk_7 (dk_at dksX10_entry_1 3 rfl rfl)
theorem dX10_entry_26 : decode cX10_entry 26 = .ok (.iload_n 1, 1) := dk_27 (dk_at dksX10_entry_1 4 rfl rfl)
theorem dX10_entry_27 : decode cX10_entry 27 = .ok (.imul, 1) := dk_104 (dk_at dksX10_entry_1 5 rfl rfl)
theorem dX10_entry_28 : decode cX10_entry 28 = .ok (.iadd, 1) := dk_96 (dk_at dksX10_entry_1 6 rfl rfl)
theorem dX10_entry_29 : decode cX10_entry 29 = .ok (.iload_n 2, 1) := dk_28 (dk_at dksX10_entry_1 7 rfl rfl)
theorem dX10_entry_30 : decode cX10_entry 30 = .ok (.iadd, 1) := dk_96 (dk_at dksX10_entry_1 8 rfl rfl)
theorem dX10_entry_31 : decode cX10_entry 31 = .ok (.iaload, 1) := dk_46 (dk_at dksX10_entry_1 9 rfl rfl)
theorem dX10_entry_32 : decode cX10_entry 32 = .ok (.goto 4, 3) := dk_167 0 4 (dk_at dksX10_entry_1 10 rfl rfl)
theorem dX10_entry_35 : decode cX10_entry 35 = .ok (.iconst 0, 1) := dk_3 (dk_at dksX10_entry_1 13 rfl rfl)
theorem dX10_entry_36 : decode cX10_entry 36 = .ok (.ireturn, 1) := dk_172 (dk_at dksX10_entry_1 14 rfl rfl)
abbrev cX10_isEntry : ByteArray := prog_22_method_123_code
def yX10_isEntry : MethodName := ⟨RX10, "isEntry", "(I)Z"⟩
def dkwX10_isEntry_0 : List UInt8 := [27, 3, 42, 180, 0, 23, 16, 16, 46, 4, 100, 184, 0, 74, 172]
abbrev dktX10_isEntry_0 : List UInt8 := dkwX10_isEntry_0 ++ []
theorem dksX10_isEntry_0 : cX10_isEntry.data.toList.drop 0 = dktX10_isEntry_0 := by decide +kernel
theorem dX10_isEntry_0 : decode cX10_isEntry 0 = .ok (.iload_n 1, 1) := dk_27 (dk_at dksX10_isEntry_0 0 rfl rfl)
theorem dX10_isEntry_1 : decode cX10_isEntry 1 = .ok (.iconst 0, 1) := dk_3 (dk_at dksX10_isEntry_0 1 rfl rfl)
theorem dX10_isEntry_2 : decode cX10_isEntry 2 = .ok (.aload_n 0, 1) := dk_42 (dk_at dksX10_isEntry_0 2 rfl rfl)
theorem dX10_isEntry_3 : decode cX10_isEntry 3 = .ok (.getfield 23, 3) := dk_180 0 23 (dk_at dksX10_isEntry_0 3 rfl rfl)
theorem dX10_isEntry_6 : decode cX10_isEntry 6 = .ok (.bipush 16, 2) := dk_16 16 (dk_at dksX10_isEntry_0 6 rfl rfl)
theorem dX10_isEntry_8 : decode cX10_isEntry 8 = .ok (.iaload, 1) := dk_46 (dk_at dksX10_isEntry_0 8 rfl rfl)
theorem dX10_isEntry_9 : decode cX10_isEntry 9 = .ok (.iconst 1, 1) := dk_4 (dk_at dksX10_isEntry_0 9 rfl rfl)
theorem dX10_isEntry_10 : decode cX10_isEntry 10 = .ok (.isub, 1) := dk_100 (dk_at dksX10_isEntry_0 10 rfl rfl)
theorem dX10_isEntry_11 : decode cX10_isEntry 11 = .ok (.invokestatic 74, 3) := dk_184 0 74 (dk_at dksX10_isEntry_0 11 rfl rfl)
theorem dX10_isEntry_14 : decode cX10_isEntry 14 = .ok (.ireturn, 1) := dk_172 (dk_at dksX10_isEntry_0 14 rfl rfl)
abbrev cX10_usedIn : ByteArray := prog_22_method_125_code
def yX10_usedIn : MethodName := ⟨RX10, "usedIn", "(I)I"⟩
def dkwX10_usedIn_2 : List UInt8 := [42, 180, 0, 23, 16, 6, 46, 100, 172]
abbrev dktX10_usedIn_2 : List UInt8 := dkwX10_usedIn_2 ++ []
def dkwX10_usedIn_1 : List UInt8 := [180, 0, 29, 3, 184, 0, 189, 42, 42, 180, 0, 29, 27, 182, 1, 96, 61, 42, 180, 0, 29, 16, 6, 46]
abbrev dktX10_usedIn_1 : List UInt8 := dkwX10_usedIn_1 ++ dktX10_usedIn_2
def dkwX10_usedIn_0 : List UInt8 := [42, 27, 4, 17, 1, 44, 184, 0, 74, 182, 1, 112, 154, 0, 5, 3, 172, 42, 180, 0, 23, 3, 42]
abbrev dktX10_usedIn_0 : List UInt8 := dkwX10_usedIn_0 ++ dktX10_usedIn_1
theorem dksX10_usedIn_0 : cX10_usedIn.data.toList.drop 0 = dktX10_usedIn_0 := by decide +kernel
theorem dksX10_usedIn_1 : cX10_usedIn.data.toList.drop 23 = dktX10_usedIn_1 := dk_seg dksX10_usedIn_0 23 rfl rfl
theorem dksX10_usedIn_2 : cX10_usedIn.data.toList.drop 47 = dktX10_usedIn_2 := dk_seg dksX10_usedIn_1 24 rfl rfl
theorem dX10_usedIn_0 : decode cX10_usedIn 0 = .ok (.aload_n 0, 1) := dk_42 (dk_at dksX10_usedIn_0 0 rfl rfl)
theorem dX10_usedIn_1 : decode cX10_usedIn 1 = .ok (.iload_n 1, 1) := dk_27 (dk_at dksX10_usedIn_0 1 rfl rfl)
theorem dX10_usedIn_2 : decode cX10_usedIn 2 = .ok (.iconst 1, 1) := dk_4 (dk_at dksX10_usedIn_0 2 rfl rfl)
theorem dX10_usedIn_3 : decode cX10_usedIn 3 = .ok (.sipush 300, 3) := dk_17 1 44 (dk_at dksX10_usedIn_0 3 rfl rfl)
theorem dX10_usedIn_6 : decode cX10_usedIn 6 = .ok (.invokestatic 74, 3) := dk_184 0 74 (dk_at dksX10_usedIn_0 6 rfl rfl)
theorem dX10_usedIn_9 : decode cX10_usedIn 9 = .ok (.invokevirtual 368, 3) := dk_182 1 112 (dk_at dksX10_usedIn_0 9 rfl rfl)
theorem dX10_usedIn_12 : decode cX10_usedIn 12 = .ok (.ifCond .ne 5, 3) := dk_154 0 5 (dk_at dksX10_usedIn_0 12 rfl rfl)
theorem dX10_usedIn_15 : decode cX10_usedIn 15 = .ok (.iconst 0, 1) := dk_3 (dk_at dksX10_usedIn_0 15 rfl rfl)
theorem dX10_usedIn_16 : decode cX10_usedIn 16 = .ok (.ireturn, 1) := dk_172 (dk_at dksX10_usedIn_0 16 rfl rfl)
theorem dX10_usedIn_17 : decode cX10_usedIn 17 = .ok (.aload_n 0, 1) := dk_42 (dk_at dksX10_usedIn_0 17 rfl rfl)
theorem dX10_usedIn_18 : decode cX10_usedIn 18 = .ok (.getfield 23, 3) := dk_180 0 23 (dk_at dksX10_usedIn_0 18 rfl rfl)
theorem dX10_usedIn_21 : decode cX10_usedIn 21 = .ok (.iconst 0, 1) := dk_3 (dk_at dksX10_usedIn_0 21 rfl rfl)
theorem dX10_usedIn_22 : decode cX10_usedIn 22 = .ok (.aload_n 0, 1) := dk_42 (dk_at dksX10_usedIn_0 22 rfl rfl)
theorem dX10_usedIn_23 : decode cX10_usedIn 23 = .ok (.getfield 29, 3) := dk_180 0 29 (dk_at dksX10_usedIn_1 0 rfl rfl)
theorem dX10_usedIn_26 : decode cX10_usedIn 26 = .ok (.iconst 0, 1) := dk_3 (dk_at dksX10_usedIn_1 3 rfl rfl)
theorem dX10_usedIn_27 : decode cX10_usedIn 27 = .ok (.invokestatic 189, 3) := dk_184 0 189 (dk_at dksX10_usedIn_1 4 rfl rfl)
theorem dX10_usedIn_30 : decode cX10_usedIn 30 = .ok (.aload_n 0, 1) := dk_42 (dk_at dksX10_usedIn_1 7 rfl rfl)
theorem dX10_usedIn_31 : decode cX10_usedIn 31 = .ok (.aload_n 0, 1) := dk_42 (dk_at dksX10_usedIn_1 8 rfl rfl)
theorem dX10_usedIn_32 : decode cX10_usedIn 32 = .ok (.getfield 29, 3) := dk_180 0 29 (dk_at dksX10_usedIn_1 9 rfl rfl)
theorem dX10_usedIn_35 : decode cX10_usedIn 35 = .ok (.iload_n 1, 1) := dk_27 (dk_at dksX10_usedIn_1 12 rfl rfl)
theorem dX10_usedIn_36 : decode cX10_usedIn 36 = .ok (.invokevirtual 352, 3) := dk_182 1 96 (dk_at dksX10_usedIn_1 13 rfl rfl)
theorem dX10_usedIn_39 : decode cX10_usedIn 39 = .ok (.istore_n 2, 1) := dk_61 (dk_at dksX10_usedIn_1 16 rfl rfl)
theorem dX10_usedIn_40 : decode cX10_usedIn 40 = .ok (.aload_n 0, 1) := dk_42 (dk_at dksX10_usedIn_1 17 rfl rfl)
theorem dX10_usedIn_41 : decode cX10_usedIn 41 = .ok (.getfield 29, 3) := dk_180 0 29 (dk_at dksX10_usedIn_1 18 rfl rfl)
theorem dX10_usedIn_44 : decode cX10_usedIn 44 = .ok (.bipush 6, 2) := dk_16 6 (dk_at dksX10_usedIn_1 21 rfl rfl)
theorem dX10_usedIn_46 : decode cX10_usedIn 46 = .ok (.iaload, 1) := dk_46 (dk_at dksX10_usedIn_1 23 rfl rfl)
theorem dX10_usedIn_47 : decode cX10_usedIn 47 = .ok (.aload_n 0, 1) := dk_42 (dk_at dksX10_usedIn_2 0 rfl rfl)
theorem dX10_usedIn_48 : decode cX10_usedIn 48 = .ok (.getfield 23, 3) := dk_180 0 23 (dk_at dksX10_usedIn_2 1 rfl rfl)
theorem dX10_usedIn_51 : decode cX10_usedIn 51 = .ok (.bipush 6, 2) := dk_16 6 (dk_at dksX10_usedIn_2 4 rfl rfl)
theorem dX10_usedIn_53 : decode cX10_usedIn 53 = .ok (.iaload, 1) := dk_46 (dk_at dksX10_usedIn_2 6 rfl rfl)
theorem dX10_usedIn_54 : decode cX10_usedIn 54 = .ok (.isub, 1) := dk_100 (dk_at dksX10_usedIn_2 7 rfl rfl)
theorem dX10_usedIn_55 : decode cX10_usedIn 55 = .ok (.ireturn, 1) := dk_172 (dk_at dksX10_usedIn_2 8 rfl rfl)
abbrev cX10_stepsMany : ByteArray := prog_22_method_73_code
def yX10_stepsMany : MethodName := ⟨RX10, "stepsMany", "([II)I"⟩
def dkwX10_stepsMany_1 : List UInt8 := [54, 4, 132, 3, 1, 167, 255, 229, 29, 172]
abbrev dktX10_stepsMany_1 : List UInt8 := dkwX10_stepsMany_1 ++ []
def dkwX10_stepsMany_0 : List UInt8 := [3, 62, 29, 28, 162, 0, 28, 43, 3, 46, 42, 180, 0, 17, 3, 46, 162, 0, 16, 42, 43, 182, 1, 93]
abbrev dktX10_stepsMany_0 : List UInt8 := dkwX10_stepsMany_0 ++ dktX10_stepsMany_1
theorem dksX10_stepsMany_0 : cX10_stepsMany.data.toList.drop 0 = dktX10_stepsMany_0 := by decide +kernel
theorem dksX10_stepsMany_1 : cX10_stepsMany.data.toList.drop 24 = dktX10_stepsMany_1 := dk_seg dksX10_stepsMany_0 24 rfl rfl
theorem dX10_stepsMany_0 : decode cX10_stepsMany 0 = .ok (.iconst 0, 1) := dk_3 (dk_at dksX10_stepsMany_0 0 rfl rfl)
theorem dX10_stepsMany_1 : decode cX10_stepsMany 1 = .ok (.istore_n 3, 1) := dk_62 (dk_at dksX10_stepsMany_0 1 rfl rfl)
theorem dX10_stepsMany_2 : decode cX10_stepsMany 2 = .ok (.iload_n 3, 1) := dk_29 (dk_at dksX10_stepsMany_0 2 rfl rfl)
theorem dX10_stepsMany_3 : decode cX10_stepsMany 3 = .ok (.iload_n 2, 1) := dk_28 (dk_at dksX10_stepsMany_0 3 rfl rfl)
theorem dX10_stepsMany_4 : decode cX10_stepsMany 4 = .ok (.if_icmp .ge 28, 3) := dk_162 0 28 (dk_at dksX10_stepsMany_0 4 rfl rfl)
theorem dX10_stepsMany_7 : decode cX10_stepsMany 7 = .ok (.aload_n 1, 1) := dk_43 (dk_at dksX10_stepsMany_0 7 rfl rfl)
theorem dX10_stepsMany_8 : decode cX10_stepsMany 8 = .ok (.iconst 0, 1) := dk_3 (dk_at dksX10_stepsMany_0 8 rfl rfl)
theorem dX10_stepsMany_9 : decode cX10_stepsMany 9 = .ok (.iaload, 1) := dk_46 (dk_at dksX10_stepsMany_0 9 rfl rfl)
theorem dX10_stepsMany_10 : decode cX10_stepsMany 10 = .ok (.aload_n 0, 1) := dk_42 (dk_at dksX10_stepsMany_0 10 rfl rfl)
theorem dX10_stepsMany_11 : decode cX10_stepsMany 11 = .ok (.getfield 17, 3) := dk_180 0 17 (dk_at dksX10_stepsMany_0 11 rfl rfl)
theorem dX10_stepsMany_14 : decode cX10_stepsMany 14 = .ok (.iconst 0, 1) := dk_3 (dk_at dksX10_stepsMany_0 14 rfl rfl)
theorem dX10_stepsMany_15 : decode cX10_stepsMany 15 = .ok (.iaload, 1) := dk_46 (dk_at dksX10_stepsMany_0 15 rfl rfl)
theorem dX10_stepsMany_16 : decode cX10_stepsMany 16 = .ok (.if_icmp .ge 16, 3) := dk_162 0 16 (dk_at dksX10_stepsMany_0 16 rfl rfl)
theorem dX10_stepsMany_19 : decode cX10_stepsMany 19 = .ok (.aload_n 0, 1) := dk_42 (dk_at dksX10_stepsMany_0 19 rfl rfl)
theorem dX10_stepsMany_20 : decode cX10_stepsMany 20 = .ok (.aload_n 1, 1) := dk_43 (dk_at dksX10_stepsMany_0 20 rfl rfl)
theorem dX10_stepsMany_21 : decode cX10_stepsMany 21 = .ok (.invokevirtual 349, 3) := dk_182 1 93 (dk_at dksX10_stepsMany_0 21 rfl rfl)
theorem dX10_stepsMany_24 : decode cX10_stepsMany 24 = .ok (.istore 4, 2) := dk_54 4 (dk_at dksX10_stepsMany_1 0 rfl rfl)
theorem dX10_stepsMany_26 : decode cX10_stepsMany 26 = .ok (.iinc 3 1, 3) := dk_132 3 1 (dk_at dksX10_stepsMany_1 2 rfl rfl)
theorem dX10_stepsMany_29 : decode cX10_stepsMany 29 = .ok (.goto (-27), 3) := dk_167 255 229 (dk_at dksX10_stepsMany_1 5 rfl rfl)
theorem dX10_stepsMany_32 : decode cX10_stepsMany 32 = .ok (.iload_n 3, 1) := dk_29 (dk_at dksX10_stepsMany_1 8 rfl rfl)
theorem dX10_stepsMany_33 : decode cX10_stepsMany 33 = .ok (.ireturn, 1) := dk_172 (dk_at dksX10_stepsMany_1 9 rfl rfl)
abbrev cX10_doneBy : ByteArray := prog_22_method_126_code
def yX10_doneBy : MethodName := ⟨RX10, "doneBy", "(I)I"⟩
def dkwX10_doneBy_2 : List UInt8 := [16, 47, 29, 96, 46, 4, 160, 0, 7, 4, 167, 0, 4, 3, 96, 61, 132, 3, 1, 167, 255, 221, 28, 172]
abbrev dktX10_doneBy_2 : List UInt8 := dkwX10_doneBy_2 ++ []
def dkwX10_doneBy_1 : List UInt8 := [182, 1, 138, 3, 61, 3, 62, 29, 42, 180, 0, 17, 16, 65, 46, 162, 0, 30, 28, 42, 180, 0, 29]
abbrev dktX10_doneBy_1 : List UInt8 := dkwX10_doneBy_1 ++ dktX10_doneBy_2
def dkwX10_doneBy_0 : List UInt8 := [42, 27, 3, 6, 184, 0, 74, 182, 1, 112, 154, 0, 5, 3, 172, 42, 27, 42, 180, 0, 23, 16, 15, 46]
abbrev dktX10_doneBy_0 : List UInt8 := dkwX10_doneBy_0 ++ dktX10_doneBy_1
theorem dksX10_doneBy_0 : cX10_doneBy.data.toList.drop 0 = dktX10_doneBy_0 := by decide +kernel
theorem dksX10_doneBy_1 : cX10_doneBy.data.toList.drop 24 = dktX10_doneBy_1 := dk_seg dksX10_doneBy_0 24 rfl rfl
theorem dksX10_doneBy_2 : cX10_doneBy.data.toList.drop 47 = dktX10_doneBy_2 := dk_seg dksX10_doneBy_1 23 rfl rfl
theorem dX10_doneBy_0 : decode cX10_doneBy 0 = .ok (.aload_n 0, 1) := dk_42 (dk_at dksX10_doneBy_0 0 rfl rfl)
theorem dX10_doneBy_1 : decode cX10_doneBy 1 = .ok (.iload_n 1, 1) := dk_27 (dk_at dksX10_doneBy_0 1 rfl rfl)
theorem dX10_doneBy_2 : decode cX10_doneBy 2 = .ok (.iconst 0, 1) := dk_3 (dk_at dksX10_doneBy_0 2 rfl rfl)
theorem dX10_doneBy_3 : decode cX10_doneBy 3 = .ok (.iconst 3, 1) := dk_6 (dk_at dksX10_doneBy_0 3 rfl rfl)
theorem dX10_doneBy_4 : decode cX10_doneBy 4 = .ok (.invokestatic 74, 3) := dk_184 0 74 (dk_at dksX10_doneBy_0 4 rfl rfl)
theorem dX10_doneBy_7 : decode cX10_doneBy 7 = .ok (.invokevirtual 368, 3) := dk_182 1 112 (dk_at dksX10_doneBy_0 7 rfl rfl)
theorem dX10_doneBy_10 : decode cX10_doneBy 10 = .ok (.ifCond .ne 5, 3) := dk_154 0 5 (dk_at dksX10_doneBy_0 10 rfl rfl)
theorem dX10_doneBy_13 : decode cX10_doneBy 13 = .ok (.iconst 0, 1) := dk_3 (dk_at dksX10_doneBy_0 13 rfl rfl)
theorem dX10_doneBy_14 : decode cX10_doneBy 14 = .ok (.ireturn, 1) := dk_172 (dk_at dksX10_doneBy_0 14 rfl rfl)
theorem dX10_doneBy_15 : decode cX10_doneBy 15 = .ok (.aload_n 0, 1) := dk_42 (dk_at dksX10_doneBy_0 15 rfl rfl)
theorem dX10_doneBy_16 : decode cX10_doneBy 16 = .ok (.iload_n 1, 1) := dk_27 (dk_at dksX10_doneBy_0 16 rfl rfl)
theorem dX10_doneBy_17 : decode cX10_doneBy 17 = .ok (.aload_n 0, 1) := dk_42 (dk_at dksX10_doneBy_0 17 rfl rfl)
theorem dX10_doneBy_18 : decode cX10_doneBy 18 = .ok (.getfield 23, 3) := dk_180 0 23 (dk_at dksX10_doneBy_0 18 rfl rfl)
theorem dX10_doneBy_21 : decode cX10_doneBy 21 = .ok (.bipush 15, 2) := dk_16 15 (dk_at dksX10_doneBy_0 21 rfl rfl)
theorem dX10_doneBy_23 : decode cX10_doneBy 23 = .ok (.iaload, 1) := dk_46 (dk_at dksX10_doneBy_0 23 rfl rfl)
theorem dX10_doneBy_24 : decode cX10_doneBy 24 = .ok (.invokevirtual 394, 3) := dk_182 1 138 (dk_at dksX10_doneBy_1 0 rfl rfl)
theorem dX10_doneBy_27 : decode cX10_doneBy 27 = .ok (.iconst 0, 1) := dk_3 (dk_at dksX10_doneBy_1 3 rfl rfl)
theorem dX10_doneBy_28 : decode cX10_doneBy 28 = .ok (.istore_n 2, 1) := dk_61 (dk_at dksX10_doneBy_1 4 rfl rfl)
theorem dX10_doneBy_29 : decode cX10_doneBy 29 = .ok (.iconst 0, 1) := dk_3 (dk_at dksX10_doneBy_1 5 rfl rfl)
theorem dX10_doneBy_30 : decode cX10_doneBy 30 = .ok (.istore_n 3, 1) := dk_62 (dk_at dksX10_doneBy_1 6 rfl rfl)
theorem dX10_doneBy_31 : decode cX10_doneBy 31 = .ok (.iload_n 3, 1) := dk_29 (dk_at dksX10_doneBy_1 7 rfl rfl)
theorem dX10_doneBy_32 : decode cX10_doneBy 32 = .ok (.aload_n 0, 1) := dk_42 (dk_at dksX10_doneBy_1 8 rfl rfl)
theorem dX10_doneBy_33 : decode cX10_doneBy 33 = .ok (.getfield 17, 3) := dk_180 0 17 (dk_at dksX10_doneBy_1 9 rfl rfl)
theorem dX10_doneBy_36 : decode cX10_doneBy 36 = .ok (.bipush 65, 2) := dk_16 65 (dk_at dksX10_doneBy_1 12 rfl rfl)
theorem dX10_doneBy_38 : decode cX10_doneBy 38 = .ok (.iaload, 1) := dk_46 (dk_at dksX10_doneBy_1 14 rfl rfl)
theorem dX10_doneBy_39 : decode cX10_doneBy 39 = .ok (.if_icmp .ge 30, 3) := dk_162 0 30 (dk_at dksX10_doneBy_1 15 rfl rfl)
theorem dX10_doneBy_42 : decode cX10_doneBy 42 = .ok (.iload_n 2, 1) := dk_28 (dk_at dksX10_doneBy_1 18 rfl rfl)
theorem dX10_doneBy_43 : decode cX10_doneBy 43 = .ok (.aload_n 0, 1) := dk_42 (dk_at dksX10_doneBy_1 19 rfl rfl)
theorem dX10_doneBy_44 : decode cX10_doneBy 44 = .ok (.getfield 29, 3) := dk_180 0 29 (dk_at dksX10_doneBy_1 20 rfl rfl)
theorem dX10_doneBy_47 : decode cX10_doneBy 47 = .ok (.bipush 47, 2) := dk_16 47 (dk_at dksX10_doneBy_2 0 rfl rfl)
theorem dX10_doneBy_49 : decode cX10_doneBy 49 = .ok (.iload_n 3, 1) := dk_29 (dk_at dksX10_doneBy_2 2 rfl rfl)
theorem dX10_doneBy_50 : decode cX10_doneBy 50 = .ok (.iadd, 1) := dk_96 (dk_at dksX10_doneBy_2 3 rfl rfl)
theorem dX10_doneBy_51 : decode cX10_doneBy 51 = .ok (.iaload, 1) := dk_46 (dk_at dksX10_doneBy_2 4 rfl rfl)
theorem dX10_doneBy_52 : decode cX10_doneBy 52 = .ok (.iconst 1, 1) := dk_4 (dk_at dksX10_doneBy_2 5 rfl rfl)
theorem dX10_doneBy_53 : decode cX10_doneBy 53 = .ok (.if_icmp .ne 7, 3) := dk_160 0 7 (dk_at dksX10_doneBy_2 6 rfl rfl)
theorem dX10_doneBy_56 : decode cX10_doneBy 56 = .ok (.iconst 1, 1) := dk_4 (dk_at dksX10_doneBy_2 9 rfl rfl)
theorem dX10_doneBy_57 : decode cX10_doneBy 57 = .ok (.goto 4, 3) := dk_167 0 4 (dk_at dksX10_doneBy_2 10 rfl rfl)
theorem dX10_doneBy_60 : decode cX10_doneBy 60 = .ok (.iconst 0, 1) := dk_3 (dk_at dksX10_doneBy_2 13 rfl rfl)
theorem dX10_doneBy_61 : decode cX10_doneBy 61 = .ok (.iadd, 1) := dk_96 (dk_at dksX10_doneBy_2 14 rfl rfl)
theorem dX10_doneBy_62 : decode cX10_doneBy 62 = .ok (.istore_n 2, 1) := dk_61 (dk_at dksX10_doneBy_2 15 rfl rfl)
theorem dX10_doneBy_63 : decode cX10_doneBy 63 = .ok (.iinc 3 1, 3) := dk_132 3 1 (dk_at dksX10_doneBy_2 16 rfl rfl)
theorem dX10_doneBy_66 : decode cX10_doneBy 66 = .ok (.goto (-35), 3) := dk_167 255 221 (dk_at dksX10_doneBy_2 19 rfl rfl)
theorem dX10_doneBy_69 : decode cX10_doneBy 69 = .ok (.iload_n 2, 1) := dk_28 (dk_at dksX10_doneBy_2 22 rfl rfl)
theorem dX10_doneBy_70 : decode cX10_doneBy 70 = .ok (.ireturn, 1) := dk_172 (dk_at dksX10_doneBy_2 23 rfl rfl)
abbrev cX10_toEnd : ByteArray := prog_22_method_74_code
def yX10_toEnd : MethodName := ⟨RX10, "toEnd", "(II)V"⟩
def dkwX10_toEnd_1 : List UInt8 := [16, 15, 28, 79, 42, 42, 180, 0, 29, 17, 15, 160, 182, 1, 96, 62, 177]
abbrev dktX10_toEnd_1 : List UInt8 := dkwX10_toEnd_1 ++ []
def dkwX10_toEnd_0 : List UInt8 := [42, 180, 0, 23, 3, 42, 180, 0, 29, 3, 184, 0, 189, 42, 180, 0, 29, 8, 27, 79, 42, 180, 0, 29]
abbrev dktX10_toEnd_0 : List UInt8 := dkwX10_toEnd_0 ++ dktX10_toEnd_1
theorem dksX10_toEnd_0 : cX10_toEnd.data.toList.drop 0 = dktX10_toEnd_0 := by decide +kernel
theorem dksX10_toEnd_1 : cX10_toEnd.data.toList.drop 24 = dktX10_toEnd_1 := dk_seg dksX10_toEnd_0 24 rfl rfl
theorem dX10_toEnd_0 : decode cX10_toEnd 0 = .ok (.aload_n 0, 1) := dk_42 (dk_at dksX10_toEnd_0 0 rfl rfl)
theorem dX10_toEnd_1 : decode cX10_toEnd 1 = .ok (.getfield 23, 3) := dk_180 0 23 (dk_at dksX10_toEnd_0 1 rfl rfl)
theorem dX10_toEnd_4 : decode cX10_toEnd 4 = .ok (.iconst 0, 1) := dk_3 (dk_at dksX10_toEnd_0 4 rfl rfl)
theorem dX10_toEnd_5 : decode cX10_toEnd 5 = .ok (.aload_n 0, 1) := dk_42 (dk_at dksX10_toEnd_0 5 rfl rfl)
theorem dX10_toEnd_6 : decode cX10_toEnd 6 = .ok (.getfield 29, 3) := dk_180 0 29 (dk_at dksX10_toEnd_0 6 rfl rfl)
theorem dX10_toEnd_9 : decode cX10_toEnd 9 = .ok (.iconst 0, 1) := dk_3 (dk_at dksX10_toEnd_0 9 rfl rfl)
theorem dX10_toEnd_10 : decode cX10_toEnd 10 = .ok (.invokestatic 189, 3) := dk_184 0 189 (dk_at dksX10_toEnd_0 10 rfl rfl)
theorem dX10_toEnd_13 : decode cX10_toEnd 13 = .ok (.aload_n 0, 1) := dk_42 (dk_at dksX10_toEnd_0 13 rfl rfl)
theorem dX10_toEnd_14 : decode cX10_toEnd 14 = .ok (.getfield 29, 3) := dk_180 0 29 (dk_at dksX10_toEnd_0 14 rfl rfl)
theorem dX10_toEnd_17 : decode cX10_toEnd 17 = .ok (.iconst 5, 1) := dk_8 (dk_at dksX10_toEnd_0 17 rfl rfl)
theorem dX10_toEnd_18 : decode cX10_toEnd 18 = .ok (.iload_n 1, 1) := dk_27 (dk_at dksX10_toEnd_0 18 rfl rfl)
theorem dX10_toEnd_19 : decode cX10_toEnd 19 = .ok (.iastore, 1) := dk_79 (dk_at dksX10_toEnd_0 19 rfl rfl)
theorem dX10_toEnd_20 : decode cX10_toEnd 20 = .ok (.aload_n 0, 1) := dk_42 (dk_at dksX10_toEnd_0 20 rfl rfl)
theorem dX10_toEnd_21 : decode cX10_toEnd 21 = .ok (.getfield 29, 3) := dk_180 0 29 (dk_at dksX10_toEnd_0 21 rfl rfl)
theorem dX10_toEnd_24 : decode cX10_toEnd 24 = .ok (.bipush 15, 2) := dk_16 15 (dk_at dksX10_toEnd_1 0 rfl rfl)
theorem dX10_toEnd_26 : decode cX10_toEnd 26 = .ok (.iload_n 2, 1) := dk_28 (dk_at dksX10_toEnd_1 2 rfl rfl)
theorem dX10_toEnd_27 : decode cX10_toEnd 27 = .ok (.iastore, 1) := dk_79 (dk_at dksX10_toEnd_1 3 rfl rfl)
theorem dX10_toEnd_28 : decode cX10_toEnd 28 = .ok (.aload_n 0, 1) := dk_42 (dk_at dksX10_toEnd_1 4 rfl rfl)
theorem dX10_toEnd_29 : decode cX10_toEnd 29 = .ok (.aload_n 0, 1) := dk_42 (dk_at dksX10_toEnd_1 5 rfl rfl)
theorem dX10_toEnd_30 : decode cX10_toEnd 30 = .ok (.getfield 29, 3) := dk_180 0 29 (dk_at dksX10_toEnd_1 6 rfl rfl)
theorem dX10_toEnd_33 : decode cX10_toEnd 33 = .ok (.sipush 4000, 3) := dk_17 15 160 (dk_at dksX10_toEnd_1 9 rfl rfl)
theorem dX10_toEnd_36 : decode cX10_toEnd 36 = .ok (.invokevirtual 352, 3) := dk_182 1 96 (dk_at dksX10_toEnd_1 12 rfl rfl)
theorem dX10_toEnd_39 : decode cX10_toEnd 39 = .ok (.istore_n 3, 1) := dk_62 (dk_at dksX10_toEnd_1 15 rfl rfl)
theorem dX10_toEnd_40 : decode cX10_toEnd 40 = .ok (.return_, 1) := dk_177 (dk_at dksX10_toEnd_1 16 rfl rfl)
abbrev cX10_bestPolicy : ByteArray := prog_22_method_127_code
def yX10_bestPolicy : MethodName := ⟨RX10, "bestPolicy", "()I"⟩
def dkwX10_bestPolicy_2 : List UInt8 := [60, 42, 180, 0, 29, 16, 6, 46, 61, 132, 3, 1, 167, 255, 212, 27, 172]
abbrev dktX10_bestPolicy_2 : List UInt8 := dkwX10_bestPolicy_2 ++ []
def dkwX10_bestPolicy_1 : List UInt8 := [180, 0, 23, 16, 15, 46, 182, 1, 138, 42, 180, 0, 29, 16, 6, 46, 28, 163, 0, 6, 167, 0, 13, 29]
abbrev dktX10_bestPolicy_1 : List UInt8 := dkwX10_bestPolicy_1 ++ dktX10_bestPolicy_2
def dkwX10_bestPolicy_0 : List UInt8 := [42, 4, 182, 1, 112, 154, 0, 5, 3, 172, 3, 60, 2, 61, 3, 62, 29, 7, 162, 0, 45, 42, 29, 42]
abbrev dktX10_bestPolicy_0 : List UInt8 := dkwX10_bestPolicy_0 ++ dktX10_bestPolicy_1
theorem dksX10_bestPolicy_0 : cX10_bestPolicy.data.toList.drop 0 = dktX10_bestPolicy_0 := by decide +kernel
theorem dksX10_bestPolicy_1 : cX10_bestPolicy.data.toList.drop 24 = dktX10_bestPolicy_1 := dk_seg dksX10_bestPolicy_0 24 rfl rfl
theorem dksX10_bestPolicy_2 : cX10_bestPolicy.data.toList.drop 48 = dktX10_bestPolicy_2 := dk_seg dksX10_bestPolicy_1 24 rfl rfl
theorem dX10_bestPolicy_0 : decode cX10_bestPolicy 0 = .ok (.aload_n 0, 1) := dk_42 (dk_at dksX10_bestPolicy_0 0 rfl rfl)
theorem dX10_bestPolicy_1 : decode cX10_bestPolicy 1 = .ok (.iconst 1, 1) := dk_4 (dk_at dksX10_bestPolicy_0 1 rfl rfl)
theorem dX10_bestPolicy_2 : decode cX10_bestPolicy 2 = .ok (.invokevirtual 368, 3) := dk_182 1 112 (dk_at dksX10_bestPolicy_0 2 rfl rfl)
theorem dX10_bestPolicy_5 : decode cX10_bestPolicy 5 = .ok (.ifCond .ne 5, 3) := dk_154 0 5 (dk_at dksX10_bestPolicy_0 5 rfl rfl)
theorem dX10_bestPolicy_8 : decode cX10_bestPolicy 8 = .ok (.iconst 0, 1) := dk_3 (dk_at dksX10_bestPolicy_0 8 rfl rfl)
theorem dX10_bestPolicy_9 : decode cX10_bestPolicy 9 = .ok (.ireturn, 1) := dk_172 (dk_at dksX10_bestPolicy_0 9 rfl rfl)
theorem dX10_bestPolicy_10 : decode cX10_bestPolicy 10 = .ok (.iconst 0, 1) := dk_3 (dk_at dksX10_bestPolicy_0 10 rfl rfl)
theorem dX10_bestPolicy_11 : decode cX10_bestPolicy 11 = .ok (.istore_n 1, 1) := dk_60 (dk_at dksX10_bestPolicy_0 11 rfl rfl)
theorem dX10_bestPolicy_12 : decode cX10_bestPolicy 12 = .ok (.iconst (-1), 1) := dk_2 (dk_at dksX10_bestPolicy_0 12 rfl rfl)
theorem dX10_bestPolicy_13 : decode cX10_bestPolicy 13 = .ok (.istore_n 2, 1) := dk_61 (dk_at dksX10_bestPolicy_0 13 rfl rfl)
theorem dX10_bestPolicy_14 : decode cX10_bestPolicy 14 = .ok (.iconst 0, 1) := dk_3 (dk_at dksX10_bestPolicy_0 14 rfl rfl)
theorem dX10_bestPolicy_15 : decode cX10_bestPolicy 15 = .ok (.istore_n 3, 1) := dk_62 (dk_at dksX10_bestPolicy_0 15 rfl rfl)
theorem dX10_bestPolicy_16 : decode cX10_bestPolicy 16 = .ok (.iload_n 3, 1) := dk_29 (dk_at dksX10_bestPolicy_0 16 rfl rfl)
theorem dX10_bestPolicy_17 : decode cX10_bestPolicy 17 = .ok (.iconst 4, 1) := dk_7 (dk_at dksX10_bestPolicy_0 17 rfl rfl)
theorem dX10_bestPolicy_18 : decode cX10_bestPolicy 18 = .ok (.if_icmp .ge 45, 3) := dk_162 0 45 (dk_at dksX10_bestPolicy_0 18 rfl rfl)
theorem dX10_bestPolicy_21 : decode cX10_bestPolicy 21 = .ok (.aload_n 0, 1) := dk_42 (dk_at dksX10_bestPolicy_0 21 rfl rfl)
theorem dX10_bestPolicy_22 : decode cX10_bestPolicy 22 = .ok (.iload_n 3, 1) := dk_29 (dk_at dksX10_bestPolicy_0 22 rfl rfl)
theorem dX10_bestPolicy_23 : decode cX10_bestPolicy 23 = .ok (.aload_n 0, 1) := dk_42 (dk_at dksX10_bestPolicy_0 23 rfl rfl)
theorem dX10_bestPolicy_24 : decode cX10_bestPolicy 24 = .ok (.getfield 23, 3) := dk_180 0 23 (dk_at dksX10_bestPolicy_1 0 rfl rfl)
theorem dX10_bestPolicy_27 : decode cX10_bestPolicy 27 = .ok (.bipush 15, 2) := dk_16 15 (dk_at dksX10_bestPolicy_1 3 rfl rfl)
theorem dX10_bestPolicy_29 : decode cX10_bestPolicy 29 = .ok (.iaload, 1) := dk_46 (dk_at dksX10_bestPolicy_1 5 rfl rfl)
theorem dX10_bestPolicy_30 : decode cX10_bestPolicy 30 = .ok (.invokevirtual 394, 3) := dk_182 1 138 (dk_at dksX10_bestPolicy_1 6 rfl rfl)
theorem dX10_bestPolicy_33 : decode cX10_bestPolicy 33 = .ok (.aload_n 0, 1) := dk_42 (dk_at dksX10_bestPolicy_1 9 rfl rfl)
theorem dX10_bestPolicy_34 : decode cX10_bestPolicy 34 = .ok (.getfield 29, 3) := dk_180 0 29 (dk_at dksX10_bestPolicy_1 10 rfl rfl)
theorem dX10_bestPolicy_37 : decode cX10_bestPolicy 37 = .ok (.bipush 6, 2) := dk_16 6 (dk_at dksX10_bestPolicy_1 13 rfl rfl)
theorem dX10_bestPolicy_39 : decode cX10_bestPolicy 39 = .ok (.iaload, 1) := dk_46 (dk_at dksX10_bestPolicy_1 15 rfl rfl)
theorem dX10_bestPolicy_40 : decode cX10_bestPolicy 40 = .ok (.iload_n 2, 1) := dk_28 (dk_at dksX10_bestPolicy_1 16 rfl rfl)
theorem dX10_bestPolicy_41 : decode cX10_bestPolicy 41 = .ok (.if_icmp .gt 6, 3) := dk_163 0 6 (dk_at dksX10_bestPolicy_1 17 rfl rfl)
theorem dX10_bestPolicy_44 : decode cX10_bestPolicy 44 = .ok (.goto 13, 3) := dk_167 0 13 (dk_at dksX10_bestPolicy_1 20 rfl rfl)
theorem dX10_bestPolicy_47 : decode cX10_bestPolicy 47 = .ok (.iload_n 3, 1) := dk_29 (dk_at dksX10_bestPolicy_1 23 rfl rfl)
theorem dX10_bestPolicy_48 : decode cX10_bestPolicy 48 = .ok (.istore_n 1, 1) := dk_60 (dk_at dksX10_bestPolicy_2 0 rfl rfl)
theorem dX10_bestPolicy_49 : decode cX10_bestPolicy 49 = .ok (.aload_n 0, 1) := dk_42 (dk_at dksX10_bestPolicy_2 1 rfl rfl)
theorem dX10_bestPolicy_50 : decode cX10_bestPolicy 50 = .ok (.getfield 29, 3) := dk_180 0 29 (dk_at dksX10_bestPolicy_2 2 rfl rfl)
theorem dX10_bestPolicy_53 : decode cX10_bestPolicy 53 = .ok (.bipush 6, 2) := dk_16 6 (dk_at dksX10_bestPolicy_2 5 rfl rfl)
theorem dX10_bestPolicy_55 : decode cX10_bestPolicy 55 = .ok (.iaload, 1) := dk_46 (dk_at dksX10_bestPolicy_2 7 rfl rfl)
theorem dX10_bestPolicy_56 : decode cX10_bestPolicy 56 = .ok (.istore_n 2, 1) := dk_61 (dk_at dksX10_bestPolicy_2 8 rfl rfl)
theorem dX10_bestPolicy_57 : decode cX10_bestPolicy 57 = .ok (.iinc 3 1, 3) := dk_132 3 1 (dk_at dksX10_bestPolicy_2 9 rfl rfl)
theorem dX10_bestPolicy_60 : decode cX10_bestPolicy 60 = .ok (.goto (-44), 3) := dk_167 255 212 (dk_at dksX10_bestPolicy_2 12 rfl rfl)
theorem dX10_bestPolicy_63 : decode cX10_bestPolicy 63 = .ok (.iload_n 1, 1) := dk_27 (dk_at dksX10_bestPolicy_2 15 rfl rfl)
theorem dX10_bestPolicy_64 : decode cX10_bestPolicy 64 = .ok (.ireturn, 1) := dk_172 (dk_at dksX10_bestPolicy_2 16 rfl rfl)
abbrev cX10_usedWith : ByteArray := prog_22_method_128_code
def yX10_usedWith : MethodName := ⟨RX10, "usedWith", "(I)I"⟩
def dkwX10_usedWith_1 : List UInt8 := [46, 27, 182, 1, 138, 42, 180, 0, 29, 16, 6, 46, 172]
abbrev dktX10_usedWith_1 : List UInt8 := dkwX10_usedWith_1 ++ []
def dkwX10_usedWith_0 : List UInt8 := [42, 27, 16, 10, 17, 7, 208, 184, 0, 74, 182, 1, 112, 154, 0, 5, 3, 172, 42, 42, 180, 0, 23, 8]
abbrev dktX10_usedWith_0 : List UInt8 := dkwX10_usedWith_0 ++ dktX10_usedWith_1
theorem dksX10_usedWith_0 : cX10_usedWith.data.toList.drop 0 = dktX10_usedWith_0 := by decide +kernel
theorem dksX10_usedWith_1 : cX10_usedWith.data.toList.drop 24 = dktX10_usedWith_1 := dk_seg dksX10_usedWith_0 24 rfl rfl
theorem dX10_usedWith_0 : decode cX10_usedWith 0 = .ok (.aload_n 0, 1) := dk_42 (dk_at dksX10_usedWith_0 0 rfl rfl)
theorem dX10_usedWith_1 : decode cX10_usedWith 1 = .ok (.iload_n 1, 1) := dk_27 (dk_at dksX10_usedWith_0 1 rfl rfl)
theorem dX10_usedWith_2 : decode cX10_usedWith 2 = .ok (.bipush 10, 2) := dk_16 10 (dk_at dksX10_usedWith_0 2 rfl rfl)
theorem dX10_usedWith_4 : decode cX10_usedWith 4 = .ok (.sipush 2000, 3) := dk_17 7 208 (dk_at dksX10_usedWith_0 4 rfl rfl)
theorem dX10_usedWith_7 : decode cX10_usedWith 7 = .ok (.invokestatic 74, 3) := dk_184 0 74 (dk_at dksX10_usedWith_0 7 rfl rfl)
theorem dX10_usedWith_10 : decode cX10_usedWith 10 = .ok (.invokevirtual 368, 3) := dk_182 1 112 (dk_at dksX10_usedWith_0 10 rfl rfl)
theorem dX10_usedWith_13 : decode cX10_usedWith 13 = .ok (.ifCond .ne 5, 3) := dk_154 0 5 (dk_at dksX10_usedWith_0 13 rfl rfl)
theorem dX10_usedWith_16 : decode cX10_usedWith 16 = .ok (.iconst 0, 1) := dk_3 (dk_at dksX10_usedWith_0 16 rfl rfl)
theorem dX10_usedWith_17 : decode cX10_usedWith 17 = .ok (.ireturn, 1) := dk_172 (dk_at dksX10_usedWith_0 17 rfl rfl)
theorem dX10_usedWith_18 : decode cX10_usedWith 18 = .ok (.aload_n 0, 1) := dk_42 (dk_at dksX10_usedWith_0 18 rfl rfl)
theorem dX10_usedWith_19 : decode cX10_usedWith 19 = .ok (.aload_n 0, 1) := dk_42 (dk_at dksX10_usedWith_0 19 rfl rfl)
theorem dX10_usedWith_20 : decode cX10_usedWith 20 = .ok (.getfield 23, 3) := dk_180 0 23 (dk_at dksX10_usedWith_0 20 rfl rfl)
theorem dX10_usedWith_23 : decode cX10_usedWith 23 = .ok (.iconst 5, 1) := dk_8 (dk_at dksX10_usedWith_0 23 rfl rfl)
theorem dX10_usedWith_24 : decode cX10_usedWith 24 = .ok (.iaload, 1) := dk_46 (dk_at dksX10_usedWith_1 0 rfl rfl)
theorem dX10_usedWith_25 : decode cX10_usedWith 25 = .ok (.iload_n 1, 1) := dk_27 (dk_at dksX10_usedWith_1 1 rfl rfl)
theorem dX10_usedWith_26 : decode cX10_usedWith 26 = .ok (.invokevirtual 394, 3) := dk_182 1 138 (dk_at dksX10_usedWith_1 2 rfl rfl)
theorem dX10_usedWith_29 : decode cX10_usedWith 29 = .ok (.aload_n 0, 1) := dk_42 (dk_at dksX10_usedWith_1 5 rfl rfl)
theorem dX10_usedWith_30 : decode cX10_usedWith 30 = .ok (.getfield 29, 3) := dk_180 0 29 (dk_at dksX10_usedWith_1 6 rfl rfl)
theorem dX10_usedWith_33 : decode cX10_usedWith 33 = .ok (.bipush 6, 2) := dk_16 6 (dk_at dksX10_usedWith_1 9 rfl rfl)
theorem dX10_usedWith_35 : decode cX10_usedWith 35 = .ok (.iaload, 1) := dk_46 (dk_at dksX10_usedWith_1 11 rfl rfl)
theorem dX10_usedWith_36 : decode cX10_usedWith 36 = .ok (.ireturn, 1) := dk_172 (dk_at dksX10_usedWith_1 12 rfl rfl)
abbrev cX10_shortfall : ByteArray := prog_22_method_129_code
def yX10_shortfall : MethodName := ⟨RX10, "shortfall", "(I)I"⟩
def dkwX10_shortfall_1 : List UInt8 := [180, 0, 23, 16, 15, 46, 182, 1, 138, 42, 180, 0, 29, 27, 184, 1, 3, 172]
abbrev dktX10_shortfall_1 : List UInt8 := dkwX10_shortfall_1 ++ []
def dkwX10_shortfall_0 : List UInt8 := [42, 42, 27, 182, 1, 102, 182, 1, 112, 154, 0, 5, 3, 172, 42, 42, 180, 0, 23, 8, 46, 42]
abbrev dktX10_shortfall_0 : List UInt8 := dkwX10_shortfall_0 ++ dktX10_shortfall_1
theorem dksX10_shortfall_0 : cX10_shortfall.data.toList.drop 0 = dktX10_shortfall_0 := by decide +kernel
theorem dksX10_shortfall_1 : cX10_shortfall.data.toList.drop 22 = dktX10_shortfall_1 := dk_seg dksX10_shortfall_0 22 rfl rfl
theorem dX10_shortfall_0 : decode cX10_shortfall 0 = .ok (.aload_n 0, 1) := dk_42 (dk_at dksX10_shortfall_0 0 rfl rfl)
theorem dX10_shortfall_1 : decode cX10_shortfall 1 = .ok (.aload_n 0, 1) := dk_42 (dk_at dksX10_shortfall_0 1 rfl rfl)
theorem dX10_shortfall_2 : decode cX10_shortfall 2 = .ok (.iload_n 1, 1) := dk_27 (dk_at dksX10_shortfall_0 2 rfl rfl)
theorem dX10_shortfall_3 : decode cX10_shortfall 3 = .ok (.invokevirtual 358, 3) := dk_182 1 102 (dk_at dksX10_shortfall_0 3 rfl rfl)
theorem dX10_shortfall_6 : decode cX10_shortfall 6 = .ok (.invokevirtual 368, 3) := dk_182 1 112 (dk_at dksX10_shortfall_0 6 rfl rfl)
theorem dX10_shortfall_9 : decode cX10_shortfall 9 = .ok (.ifCond .ne 5, 3) := dk_154 0 5 (dk_at dksX10_shortfall_0 9 rfl rfl)
theorem dX10_shortfall_12 : decode cX10_shortfall 12 = .ok (.iconst 0, 1) := dk_3 (dk_at dksX10_shortfall_0 12 rfl rfl)
theorem dX10_shortfall_13 : decode cX10_shortfall 13 = .ok (.ireturn, 1) := dk_172 (dk_at dksX10_shortfall_0 13 rfl rfl)
theorem dX10_shortfall_14 : decode cX10_shortfall 14 = .ok (.aload_n 0, 1) := dk_42 (dk_at dksX10_shortfall_0 14 rfl rfl)
theorem dX10_shortfall_15 : decode cX10_shortfall 15 = .ok (.aload_n 0, 1) := dk_42 (dk_at dksX10_shortfall_0 15 rfl rfl)
theorem dX10_shortfall_16 : decode cX10_shortfall 16 = .ok (.getfield 23, 3) := dk_180 0 23 (dk_at dksX10_shortfall_0 16 rfl rfl)
theorem dX10_shortfall_19 : decode cX10_shortfall 19 = .ok (.iconst 5, 1) := dk_8 (dk_at dksX10_shortfall_0 19 rfl rfl)
theorem dX10_shortfall_20 : decode cX10_shortfall 20 = .ok (.iaload, 1) := dk_46 (dk_at dksX10_shortfall_0 20 rfl rfl)
theorem dX10_shortfall_21 : decode cX10_shortfall 21 = .ok (.aload_n 0, 1) := dk_42 (dk_at dksX10_shortfall_0 21 rfl rfl)
theorem dX10_shortfall_22 : decode cX10_shortfall 22 = .ok (.getfield 23, 3) := dk_180 0 23 (dk_at dksX10_shortfall_1 0 rfl rfl)
theorem dX10_shortfall_25 : decode cX10_shortfall 25 = .ok (.bipush 15, 2) := dk_16 15 (dk_at dksX10_shortfall_1 3 rfl rfl)
theorem dX10_shortfall_27 : decode cX10_shortfall 27 = .ok (.iaload, 1) := dk_46 (dk_at dksX10_shortfall_1 5 rfl rfl)
theorem dX10_shortfall_28 : decode cX10_shortfall 28 = .ok (.invokevirtual 394, 3) := dk_182 1 138 (dk_at dksX10_shortfall_1 6 rfl rfl)
theorem dX10_shortfall_31 : decode cX10_shortfall 31 = .ok (.aload_n 0, 1) := dk_42 (dk_at dksX10_shortfall_1 9 rfl rfl)
theorem dX10_shortfall_32 : decode cX10_shortfall 32 = .ok (.getfield 29, 3) := dk_180 0 29 (dk_at dksX10_shortfall_1 10 rfl rfl)
theorem dX10_shortfall_35 : decode cX10_shortfall 35 = .ok (.iload_n 1, 1) := dk_27 (dk_at dksX10_shortfall_1 13 rfl rfl)
theorem dX10_shortfall_36 : decode cX10_shortfall 36 = .ok (.invokestatic 259, 3) := dk_184 1 3 (dk_at dksX10_shortfall_1 14 rfl rfl)
theorem dX10_shortfall_39 : decode cX10_shortfall 39 = .ok (.ireturn, 1) := dk_172 (dk_at dksX10_shortfall_1 17 rfl rfl)
abbrev cX10_writeEntry : ByteArray := prog_22_method_133_code
def yX10_writeEntry : MethodName := ⟨RX10, "writeEntry", "(I)I"⟩
def dkwX10_writeEntry_7 : List UInt8 := [180, 1, 142, 172]
abbrev dktX10_writeEntry_7 : List UInt8 := dkwX10_writeEntry_7 ++ []
def dkwX10_writeEntry_6 : List UInt8 := [42, 180, 1, 142, 172, 42, 16, 32, 182, 1, 145, 42, 42, 180, 0, 23, 28, 4, 96, 46, 182, 1, 148, 42]
abbrev dktX10_writeEntry_6 : List UInt8 := dkwX10_writeEntry_6 ++ dktX10_writeEntry_7
def dkwX10_writeEntry_5 : List UInt8 := [160, 0, 8, 18, 137, 167, 0, 6, 19, 1, 153, 182, 1, 155, 42, 180, 0, 23, 28, 46, 5, 164, 0, 8]
abbrev dktX10_writeEntry_5 : List UInt8 := dkwX10_writeEntry_5 ++ dktX10_writeEntry_6
def dkwX10_writeEntry_4 : List UInt8 := [42, 180, 0, 23, 28, 46, 5, 160, 0, 8, 18, 167, 167, 0, 21, 42, 180, 0, 23, 28, 46, 6]
abbrev dktX10_writeEntry_4 : List UInt8 := dkwX10_writeEntry_4 ++ dktX10_writeEntry_5
def dkwX10_writeEntry_3 : List UInt8 := [154, 0, 8, 18, 162, 167, 0, 52, 42, 180, 0, 23, 28, 46, 4, 160, 0, 9, 19, 1, 151, 167, 0, 36]
abbrev dktX10_writeEntry_3 : List UInt8 := dkwX10_writeEntry_3 ++ dktX10_writeEntry_4
def dkwX10_writeEntry_2 : List UInt8 := [180, 0, 23, 28, 6, 96, 46, 182, 1, 148, 42, 16, 32, 182, 1, 145, 42, 42, 180, 0, 23, 28, 46]
abbrev dktX10_writeEntry_2 : List UInt8 := dkwX10_writeEntry_2 ++ dktX10_writeEntry_3
def dkwX10_writeEntry_1 : List UInt8 := [181, 1, 142, 42, 42, 180, 0, 23, 28, 5, 96, 46, 182, 1, 148, 42, 16, 45, 182, 1, 145, 42, 42]
abbrev dktX10_writeEntry_1 : List UInt8 := dkwX10_writeEntry_1 ++ dktX10_writeEntry_2
def dkwX10_writeEntry_0 : List UInt8 := [42, 42, 27, 182, 1, 135, 182, 1, 112, 154, 0, 5, 3, 172, 17, 0, 227, 7, 27, 104, 96, 61, 42, 3]
abbrev dktX10_writeEntry_0 : List UInt8 := dkwX10_writeEntry_0 ++ dktX10_writeEntry_1
theorem dksX10_writeEntry_0 : cX10_writeEntry.data.toList.drop 0 = dktX10_writeEntry_0 := by decide +kernel
theorem dksX10_writeEntry_1 : cX10_writeEntry.data.toList.drop 24 = dktX10_writeEntry_1 := dk_seg dksX10_writeEntry_0 24 rfl rfl
theorem dksX10_writeEntry_2 : cX10_writeEntry.data.toList.drop 47 = dktX10_writeEntry_2 := dk_seg dksX10_writeEntry_1 23 rfl rfl
theorem dksX10_writeEntry_3 : cX10_writeEntry.data.toList.drop 70 = dktX10_writeEntry_3 := dk_seg dksX10_writeEntry_2 23 rfl rfl
theorem dksX10_writeEntry_4 : cX10_writeEntry.data.toList.drop 94 = dktX10_writeEntry_4 := dk_seg dksX10_writeEntry_3 24 rfl rfl
theorem dksX10_writeEntry_5 : cX10_writeEntry.data.toList.drop 116 = dktX10_writeEntry_5 := dk_seg dksX10_writeEntry_4 22 rfl rfl
theorem dksX10_writeEntry_6 : cX10_writeEntry.data.toList.drop 140 = dktX10_writeEntry_6 := dk_seg dksX10_writeEntry_5 24 rfl rfl
theorem dksX10_writeEntry_7 : cX10_writeEntry.data.toList.drop 164 = dktX10_writeEntry_7 := dk_seg dksX10_writeEntry_6 24 rfl rfl
theorem dX10_writeEntry_0 : decode cX10_writeEntry 0 = .ok (.aload_n 0, 1) := dk_42 (dk_at dksX10_writeEntry_0 0 rfl rfl)
theorem dX10_writeEntry_1 : decode cX10_writeEntry 1 = .ok (.aload_n 0, 1) := dk_42 (dk_at dksX10_writeEntry_0 1 rfl rfl)
theorem dX10_writeEntry_2 : decode cX10_writeEntry 2 = .ok (.iload_n 1, 1) := dk_27 (dk_at dksX10_writeEntry_0 2 rfl rfl)
theorem dX10_writeEntry_3 : decode cX10_writeEntry 3 = .ok (.invokevirtual 391, 3) := dk_182 1 135 (dk_at dksX10_writeEntry_0 3 rfl rfl)
theorem dX10_writeEntry_6 : decode cX10_writeEntry 6 = .ok (.invokevirtual 368, 3) := dk_182 1 112 (dk_at dksX10_writeEntry_0 6 rfl rfl)
theorem dX10_writeEntry_9 : decode cX10_writeEntry 9 = .ok (.ifCond .ne 5, 3) := dk_154 0 5 (dk_at dksX10_writeEntry_0 9 rfl rfl)
theorem dX10_writeEntry_12 : decode cX10_writeEntry 12 = .ok (.iconst 0, 1) := dk_3 (dk_at dksX10_writeEntry_0 12 rfl rfl)
theorem dX10_writeEntry_13 : decode cX10_writeEntry 13 = .ok (.ireturn, 1) := dk_172 (dk_at dksX10_writeEntry_0 13 rfl rfl)
theorem dX10_writeEntry_14 : decode cX10_writeEntry 14 = .ok (.sipush 227, 3) := dk_17 0 227 (dk_at dksX10_writeEntry_0 14 rfl rfl)
theorem dX10_writeEntry_17 : decode cX10_writeEntry 17 = .ok (.iconst 4, 1) := dk_7 (dk_at dksX10_writeEntry_0 17 rfl rfl)
theorem dX10_writeEntry_18 : decode cX10_writeEntry 18 = .ok (.iload_n 1, 1) := dk_27 (dk_at dksX10_writeEntry_0 18 rfl rfl)
theorem dX10_writeEntry_19 : decode cX10_writeEntry 19 = .ok (.imul, 1) := dk_104 (dk_at dksX10_writeEntry_0 19 rfl rfl)
theorem dX10_writeEntry_20 : decode cX10_writeEntry 20 = .ok (.iadd, 1) := dk_96 (dk_at dksX10_writeEntry_0 20 rfl rfl)
theorem dX10_writeEntry_21 : decode cX10_writeEntry 21 = .ok (.istore_n 2, 1) := dk_61 (dk_at dksX10_writeEntry_0 21 rfl rfl)
theorem dX10_writeEntry_22 : decode cX10_writeEntry 22 = .ok (.aload_n 0, 1) := dk_42 (dk_at dksX10_writeEntry_0 22 rfl rfl)
theorem dX10_writeEntry_23 : decode cX10_writeEntry 23 = .ok (.iconst 0, 1) := dk_3 (dk_at dksX10_writeEntry_0 23 rfl rfl)
theorem dX10_writeEntry_24 : decode cX10_writeEntry 24 = .ok (.putfield 398, 3) := dk_181 1 142 (dk_at dksX10_writeEntry_1 0 rfl rfl)
theorem dX10_writeEntry_27 : decode cX10_writeEntry 27 = .ok (.aload_n 0, 1) := dk_42 (dk_at dksX10_writeEntry_1 3 rfl rfl)
theorem dX10_writeEntry_28 : decode cX10_writeEntry 28 = .ok (.aload_n 0, 1) := dk_42 (dk_at dksX10_writeEntry_1 4 rfl rfl)
theorem dX10_writeEntry_29 : decode cX10_writeEntry 29 = .ok (.getfield 23, 3) := dk_180 0 23 (dk_at dksX10_writeEntry_1 5 rfl rfl)
theorem dX10_writeEntry_32 : decode cX10_writeEntry 32 = .ok (.iload_n 2, 1) := dk_28 (dk_at dksX10_writeEntry_1 8 rfl rfl)
theorem dX10_writeEntry_33 : decode cX10_writeEntry 33 = .ok (.iconst 2, 1) := dk_5 (dk_at dksX10_writeEntry_1 9 rfl rfl)
theorem dX10_writeEntry_34 : decode cX10_writeEntry 34 = .ok (.iadd, 1) := dk_96 (dk_at dksX10_writeEntry_1 10 rfl rfl)
theorem dX10_writeEntry_35 : decode cX10_writeEntry 35 = .ok (.iaload, 1) := dk_46 (dk_at dksX10_writeEntry_1 11 rfl rfl)
theorem dX10_writeEntry_36 : decode cX10_writeEntry 36 = .ok (.invokevirtual 404, 3) := dk_182 1 148 (dk_at dksX10_writeEntry_1 12 rfl rfl)
theorem dX10_writeEntry_39 : decode cX10_writeEntry 39 = .ok (.aload_n 0, 1) := dk_42 (dk_at dksX10_writeEntry_1 15 rfl rfl)
theorem dX10_writeEntry_40 : decode cX10_writeEntry 40 = .ok (.bipush 45, 2) := dk_16 45 (dk_at dksX10_writeEntry_1 16 rfl rfl)
theorem dX10_writeEntry_42 : decode cX10_writeEntry 42 = .ok (.invokevirtual 401, 3) := dk_182 1 145 (dk_at dksX10_writeEntry_1 18 rfl rfl)
theorem dX10_writeEntry_45 : decode cX10_writeEntry 45 = .ok (.aload_n 0, 1) := dk_42 (dk_at dksX10_writeEntry_1 21 rfl rfl)
theorem dX10_writeEntry_46 : decode cX10_writeEntry 46 = .ok (.aload_n 0, 1) := dk_42 (dk_at dksX10_writeEntry_1 22 rfl rfl)
theorem dX10_writeEntry_47 : decode cX10_writeEntry 47 = .ok (.getfield 23, 3) := dk_180 0 23 (dk_at dksX10_writeEntry_2 0 rfl rfl)
theorem dX10_writeEntry_50 : decode cX10_writeEntry 50 = .ok (.iload_n 2, 1) := dk_28 (dk_at dksX10_writeEntry_2 3 rfl rfl)
theorem dX10_writeEntry_51 : decode cX10_writeEntry 51 = .ok (.iconst 3, 1) := dk_6 (dk_at dksX10_writeEntry_2 4 rfl rfl)
theorem dX10_writeEntry_52 : decode cX10_writeEntry 52 = .ok (.iadd, 1) := dk_96 (dk_at dksX10_writeEntry_2 5 rfl rfl)
theorem dX10_writeEntry_53 : decode cX10_writeEntry 53 = .ok (.iaload, 1) := dk_46 (dk_at dksX10_writeEntry_2 6 rfl rfl)
theorem dX10_writeEntry_54 : decode cX10_writeEntry 54 = .ok (.invokevirtual 404, 3) := dk_182 1 148 (dk_at dksX10_writeEntry_2 7 rfl rfl)
theorem dX10_writeEntry_57 : decode cX10_writeEntry 57 = .ok (.aload_n 0, 1) := dk_42 (dk_at dksX10_writeEntry_2 10 rfl rfl)
theorem dX10_writeEntry_58 : decode cX10_writeEntry 58 = .ok (.bipush 32, 2) := dk_16 32 (dk_at dksX10_writeEntry_2 11 rfl rfl)
theorem dX10_writeEntry_60 : decode cX10_writeEntry 60 = .ok (.invokevirtual 401, 3) := dk_182 1 145 (dk_at dksX10_writeEntry_2 13 rfl rfl)
theorem dX10_writeEntry_63 : decode cX10_writeEntry 63 = .ok (.aload_n 0, 1) := dk_42 (dk_at dksX10_writeEntry_2 16 rfl rfl)
theorem dX10_writeEntry_64 : decode cX10_writeEntry 64 = .ok (.aload_n 0, 1) := dk_42 (dk_at dksX10_writeEntry_2 17 rfl rfl)
theorem dX10_writeEntry_65 : decode cX10_writeEntry 65 = .ok (.getfield 23, 3) := dk_180 0 23 (dk_at dksX10_writeEntry_2 18 rfl rfl)
theorem dX10_writeEntry_68 : decode cX10_writeEntry 68 = .ok (.iload_n 2, 1) := dk_28 (dk_at dksX10_writeEntry_2 21 rfl rfl)
theorem dX10_writeEntry_69 : decode cX10_writeEntry 69 = .ok (.iaload, 1) := dk_46 (dk_at dksX10_writeEntry_2 22 rfl rfl)
theorem dX10_writeEntry_70 : decode cX10_writeEntry 70 = .ok (.ifCond .ne 8, 3) := dk_154 0 8 (dk_at dksX10_writeEntry_3 0 rfl rfl)
theorem dX10_writeEntry_73 : decode cX10_writeEntry 73 = .ok (.ldc 162, 2) := dk_18 162 (dk_at dksX10_writeEntry_3 3 rfl rfl)
theorem dX10_writeEntry_75 : decode cX10_writeEntry 75 = .ok (.goto 52, 3) := dk_167 0 52 (dk_at dksX10_writeEntry_3 5 rfl rfl)
theorem dX10_writeEntry_78 : decode cX10_writeEntry 78 = .ok (.aload_n 0, 1) := dk_42 (dk_at dksX10_writeEntry_3 8 rfl rfl)
theorem dX10_writeEntry_79 : decode cX10_writeEntry 79 = .ok (.getfield 23, 3) := dk_180 0 23 (dk_at dksX10_writeEntry_3 9 rfl rfl)
theorem dX10_writeEntry_82 : decode cX10_writeEntry 82 = .ok (.iload_n 2, 1) := dk_28 (dk_at dksX10_writeEntry_3 12 rfl rfl)
theorem dX10_writeEntry_83 : decode cX10_writeEntry 83 = .ok (.iaload, 1) := dk_46 (dk_at dksX10_writeEntry_3 13 rfl rfl)
theorem dX10_writeEntry_84 : decode cX10_writeEntry 84 = .ok (.iconst 1, 1) := dk_4 (dk_at dksX10_writeEntry_3 14 rfl rfl)
theorem dX10_writeEntry_85 : decode cX10_writeEntry 85 = .ok (.if_icmp .ne 9, 3) := dk_160 0 9 (dk_at dksX10_writeEntry_3 15 rfl rfl)
theorem dX10_writeEntry_88 : decode cX10_writeEntry 88 = .ok (.ldc_w 407, 3) := dk_19 1 151 (dk_at dksX10_writeEntry_3 18 rfl rfl)
theorem dX10_writeEntry_91 : decode cX10_writeEntry 91 = .ok (.goto 36, 3) := dk_167 0 36 (dk_at dksX10_writeEntry_3 21 rfl rfl)
theorem dX10_writeEntry_94 : decode cX10_writeEntry 94 = .ok (.aload_n 0, 1) := dk_42 (dk_at dksX10_writeEntry_4 0 rfl rfl)
theorem dX10_writeEntry_95 : decode cX10_writeEntry 95 = .ok (.getfield 23, 3) := dk_180 0 23 (dk_at dksX10_writeEntry_4 1 rfl rfl)
theorem dX10_writeEntry_98 : decode cX10_writeEntry 98 = .ok (.iload_n 2, 1) := dk_28 (dk_at dksX10_writeEntry_4 4 rfl rfl)
theorem dX10_writeEntry_99 : decode cX10_writeEntry 99 = .ok (.iaload, 1) := dk_46 (dk_at dksX10_writeEntry_4 5 rfl rfl)
theorem dX10_writeEntry_100 : decode cX10_writeEntry 100 = .ok (.iconst 2, 1) := dk_5 (dk_at dksX10_writeEntry_4 6 rfl rfl)
theorem dX10_writeEntry_101 : decode cX10_writeEntry 101 = .ok (.if_icmp .ne 8, 3) := dk_160 0 8 (dk_at dksX10_writeEntry_4 7 rfl rfl)
theorem dX10_writeEntry_104 : decode cX10_writeEntry 104 = .ok (.ldc 167, 2) := dk_18 167 (dk_at dksX10_writeEntry_4 10 rfl rfl)
theorem dX10_writeEntry_106 : decode cX10_writeEntry 106 = .ok (.goto 21, 3) := dk_167 0 21 (dk_at dksX10_writeEntry_4 12 rfl rfl)
theorem dX10_writeEntry_109 : decode cX10_writeEntry 109 = .ok (.aload_n 0, 1) := dk_42 (dk_at dksX10_writeEntry_4 15 rfl rfl)
theorem dX10_writeEntry_110 : decode cX10_writeEntry 110 = .ok (.getfield 23, 3) := dk_180 0 23 (dk_at dksX10_writeEntry_4 16 rfl rfl)
theorem dX10_writeEntry_113 : decode cX10_writeEntry 113 = .ok (.iload_n 2, 1) := dk_28 (dk_at dksX10_writeEntry_4 19 rfl rfl)
theorem dX10_writeEntry_114 : decode cX10_writeEntry 114 = .ok (.iaload, 1) := dk_46 (dk_at dksX10_writeEntry_4 20 rfl rfl)
theorem dX10_writeEntry_115 : decode cX10_writeEntry 115 = .ok (.iconst 3, 1) := dk_6 (dk_at dksX10_writeEntry_4 21 rfl rfl)
theorem dX10_writeEntry_116 : decode cX10_writeEntry 116 = .ok (.if_icmp .ne 8, 3) := dk_160 0 8 (dk_at dksX10_writeEntry_5 0 rfl rfl)
theorem dX10_writeEntry_119 : decode cX10_writeEntry 119 = .ok (.ldc 137, 2) := dk_18 137 (dk_at dksX10_writeEntry_5 3 rfl rfl)
theorem dX10_writeEntry_121 : decode cX10_writeEntry 121 = .ok (.goto 6, 3) := dk_167 0 6 (dk_at dksX10_writeEntry_5 5 rfl rfl)
theorem dX10_writeEntry_124 : decode cX10_writeEntry 124 = .ok (.ldc_w 409, 3) := dk_19 1 153 (dk_at dksX10_writeEntry_5 8 rfl rfl)
theorem dX10_writeEntry_127 : decode cX10_writeEntry 127 = .ok (.invokevirtual 411, 3) := dk_182 1 155 (dk_at dksX10_writeEntry_5 11 rfl rfl)
theorem dX10_writeEntry_130 : decode cX10_writeEntry 130 = .ok (.aload_n 0, 1) := dk_42 (dk_at dksX10_writeEntry_5 14 rfl rfl)
theorem dX10_writeEntry_131 : decode cX10_writeEntry 131 = .ok (.getfield 23, 3) := dk_180 0 23 (dk_at dksX10_writeEntry_5 15 rfl rfl)
theorem dX10_writeEntry_134 : decode cX10_writeEntry 134 = .ok (.iload_n 2, 1) := dk_28 (dk_at dksX10_writeEntry_5 18 rfl rfl)
theorem dX10_writeEntry_135 : decode cX10_writeEntry 135 = .ok (.iaload, 1) := dk_46 (dk_at dksX10_writeEntry_5 19 rfl rfl)
theorem dX10_writeEntry_136 : decode cX10_writeEntry 136 = .ok (.iconst 2, 1) := dk_5 (dk_at dksX10_writeEntry_5 20 rfl rfl)
theorem dX10_writeEntry_137 : decode cX10_writeEntry 137 = .ok (.if_icmp .le 8, 3) := dk_164 0 8 (dk_at dksX10_writeEntry_5 21 rfl rfl)
theorem dX10_writeEntry_140 : decode cX10_writeEntry 140 = .ok (.aload_n 0, 1) := dk_42 (dk_at dksX10_writeEntry_6 0 rfl rfl)
theorem dX10_writeEntry_141 : decode cX10_writeEntry 141 = .ok (.getfield 398, 3) := dk_180 1 142 (dk_at dksX10_writeEntry_6 1 rfl rfl)
theorem dX10_writeEntry_144 : decode cX10_writeEntry 144 = .ok (.ireturn, 1) := dk_172 (dk_at dksX10_writeEntry_6 4 rfl rfl)
theorem dX10_writeEntry_145 : decode cX10_writeEntry 145 = .ok (.aload_n 0, 1) := dk_42 (dk_at dksX10_writeEntry_6 5 rfl rfl)
theorem dX10_writeEntry_146 : decode cX10_writeEntry 146 = .ok (.bipush 32, 2) := dk_16 32 (dk_at dksX10_writeEntry_6 6 rfl rfl)
theorem dX10_writeEntry_148 : decode cX10_writeEntry 148 = .ok (.invokevirtual 401, 3) := dk_182 1 145 (dk_at dksX10_writeEntry_6 8 rfl rfl)
theorem dX10_writeEntry_151 : decode cX10_writeEntry 151 = .ok (.aload_n 0, 1) := dk_42 (dk_at dksX10_writeEntry_6 11 rfl rfl)
theorem dX10_writeEntry_152 : decode cX10_writeEntry 152 = .ok (.aload_n 0, 1) := dk_42 (dk_at dksX10_writeEntry_6 12 rfl rfl)
theorem dX10_writeEntry_153 : decode cX10_writeEntry 153 = .ok (.getfield 23, 3) := dk_180 0 23 (dk_at dksX10_writeEntry_6 13 rfl rfl)
theorem dX10_writeEntry_156 : decode cX10_writeEntry 156 = .ok (.iload_n 2, 1) := dk_28 (dk_at dksX10_writeEntry_6 16 rfl rfl)
theorem dX10_writeEntry_157 : decode cX10_writeEntry 157 = .ok (.iconst 1, 1) := dk_4 (dk_at dksX10_writeEntry_6 17 rfl rfl)
theorem dX10_writeEntry_158 : decode cX10_writeEntry 158 = .ok (.iadd, 1) := dk_96 (dk_at dksX10_writeEntry_6 18 rfl rfl)
theorem dX10_writeEntry_159 : decode cX10_writeEntry 159 = .ok (.iaload, 1) := dk_46 (dk_at dksX10_writeEntry_6 19 rfl rfl)
theorem dX10_writeEntry_160 : decode cX10_writeEntry 160 = .ok (.invokevirtual 404, 3) := dk_182 1 148 (dk_at dksX10_writeEntry_6 20 rfl rfl)
theorem dX10_writeEntry_163 : decode cX10_writeEntry 163 = .ok (.aload_n 0, 1) := dk_42 (dk_at dksX10_writeEntry_6 23 rfl rfl)
theorem dX10_writeEntry_164 : decode cX10_writeEntry 164 = .ok (.getfield 398, 3) := dk_180 1 142 (dk_at dksX10_writeEntry_7 0 rfl rfl)
theorem dX10_writeEntry_167 : decode cX10_writeEntry 167 = .ok (.ireturn, 1) := dk_172 (dk_at dksX10_writeEntry_7 3 rfl rfl)
abbrev cX10_writesNumber : ByteArray := prog_22_method_132_code
def yX10_writesNumber : MethodName := ⟨RX10, "writesNumber", "(I)V"⟩
def dkwX10_writesNumber_2 : List UInt8 := [96, 182, 1, 145, 29, 16, 10, 108, 62, 167, 255, 234, 177]
abbrev dktX10_writesNumber_2 : List UInt8 := dkwX10_writesNumber_2 ++ []
def dkwX10_writesNumber_1 : List UInt8 := [161, 0, 11, 29, 16, 10, 104, 62, 167, 255, 243, 29, 158, 0, 24, 42, 16, 48, 28, 29, 108, 16, 10, 112]
abbrev dktX10_writesNumber_1 : List UInt8 := dkwX10_writesNumber_1 ++ dktX10_writesNumber_2
def dkwX10_writesNumber_0 : List UInt8 := [27, 184, 0, 200, 61, 27, 156, 0, 9, 42, 16, 45, 182, 1, 145, 4, 62, 28, 29, 108, 16, 10]
abbrev dktX10_writesNumber_0 : List UInt8 := dkwX10_writesNumber_0 ++ dktX10_writesNumber_1
theorem dksX10_writesNumber_0 : cX10_writesNumber.data.toList.drop 0 = dktX10_writesNumber_0 := by decide +kernel
theorem dksX10_writesNumber_1 : cX10_writesNumber.data.toList.drop 22 = dktX10_writesNumber_1 := dk_seg dksX10_writesNumber_0 22 rfl rfl
theorem dksX10_writesNumber_2 : cX10_writesNumber.data.toList.drop 46 = dktX10_writesNumber_2 := dk_seg dksX10_writesNumber_1 24 rfl rfl
theorem dX10_writesNumber_0 : decode cX10_writesNumber 0 = .ok (.iload_n 1, 1) := dk_27 (dk_at dksX10_writesNumber_0 0 rfl rfl)
theorem dX10_writesNumber_1 : decode cX10_writesNumber 1 = .ok (.invokestatic 200, 3) := dk_184 0 200 (dk_at dksX10_writesNumber_0 1 rfl rfl)
theorem dX10_writesNumber_4 : decode cX10_writesNumber 4 = .ok (.istore_n 2, 1) := dk_61 (dk_at dksX10_writesNumber_0 4 rfl rfl)
theorem dX10_writesNumber_5 : decode cX10_writesNumber 5 = .ok (.iload_n 1, 1) := dk_27 (dk_at dksX10_writesNumber_0 5 rfl rfl)
theorem dX10_writesNumber_6 : decode cX10_writesNumber 6 = .ok (.ifCond .ge 9, 3) := dk_156 0 9 (dk_at dksX10_writesNumber_0 6 rfl rfl)
theorem dX10_writesNumber_9 : decode cX10_writesNumber 9 = .ok (.aload_n 0, 1) := dk_42 (dk_at dksX10_writesNumber_0 9 rfl rfl)
theorem dX10_writesNumber_10 : decode cX10_writesNumber 10 = .ok (.bipush 45, 2) := dk_16 45 (dk_at dksX10_writesNumber_0 10 rfl rfl)
theorem dX10_writesNumber_12 : decode cX10_writesNumber 12 = .ok (.invokevirtual 401, 3) := dk_182 1 145 (dk_at dksX10_writesNumber_0 12 rfl rfl)
theorem dX10_writesNumber_15 : decode cX10_writesNumber 15 = .ok (.iconst 1, 1) := dk_4 (dk_at dksX10_writesNumber_0 15 rfl rfl)
theorem dX10_writesNumber_16 : decode cX10_writesNumber 16 = .ok (.istore_n 3, 1) := dk_62 (dk_at dksX10_writesNumber_0 16 rfl rfl)
theorem dX10_writesNumber_17 : decode cX10_writesNumber 17 = .ok (.iload_n 2, 1) := dk_28 (dk_at dksX10_writesNumber_0 17 rfl rfl)
theorem dX10_writesNumber_18 : decode cX10_writesNumber 18 = .ok (.iload_n 3, 1) := dk_29 (dk_at dksX10_writesNumber_0 18 rfl rfl)
theorem dX10_writesNumber_19 : decode cX10_writesNumber 19 = .ok (.idiv, 1) := dk_108 (dk_at dksX10_writesNumber_0 19 rfl rfl)
theorem dX10_writesNumber_20 : decode cX10_writesNumber 20 = .ok (.bipush 10, 2) := dk_16 10 (dk_at dksX10_writesNumber_0 20 rfl rfl)
theorem dX10_writesNumber_22 : decode cX10_writesNumber 22 = .ok (.if_icmp .lt 11, 3) := dk_161 0 11 (dk_at dksX10_writesNumber_1 0 rfl rfl)
theorem dX10_writesNumber_25 : decode cX10_writesNumber 25 = .ok (.iload_n 3, 1) := dk_29 (dk_at dksX10_writesNumber_1 3 rfl rfl)
theorem dX10_writesNumber_26 : decode cX10_writesNumber 26 = .ok (.bipush 10, 2) := dk_16 10 (dk_at dksX10_writesNumber_1 4 rfl rfl)
theorem dX10_writesNumber_28 : decode cX10_writesNumber 28 = .ok (.imul, 1) := dk_104 (dk_at dksX10_writesNumber_1 6 rfl rfl)
theorem dX10_writesNumber_29 : decode cX10_writesNumber 29 = .ok (.istore_n 3, 1) := dk_62 (dk_at dksX10_writesNumber_1 7 rfl rfl)
theorem dX10_writesNumber_30 : decode cX10_writesNumber 30 = .ok (.goto (-13), 3) := dk_167 255 243 (dk_at dksX10_writesNumber_1 8 rfl rfl)
theorem dX10_writesNumber_33 : decode cX10_writesNumber 33 = .ok (.iload_n 3, 1) := dk_29 (dk_at dksX10_writesNumber_1 11 rfl rfl)
theorem dX10_writesNumber_34 : decode cX10_writesNumber 34 = .ok (.ifCond .le 24, 3) := dk_158 0 24 (dk_at dksX10_writesNumber_1 12 rfl rfl)
theorem dX10_writesNumber_37 : decode cX10_writesNumber 37 = .ok (.aload_n 0, 1) := dk_42 (dk_at dksX10_writesNumber_1 15 rfl rfl)
theorem dX10_writesNumber_38 : decode cX10_writesNumber 38 = .ok (.bipush 48, 2) := dk_16 48 (dk_at dksX10_writesNumber_1 16 rfl rfl)
theorem dX10_writesNumber_40 : decode cX10_writesNumber 40 = .ok (.iload_n 2, 1) := dk_28 (dk_at dksX10_writesNumber_1 18 rfl rfl)
theorem dX10_writesNumber_41 : decode cX10_writesNumber 41 = .ok (.iload_n 3, 1) := dk_29 (dk_at dksX10_writesNumber_1 19 rfl rfl)
theorem dX10_writesNumber_42 : decode cX10_writesNumber 42 = .ok (.idiv, 1) := dk_108 (dk_at dksX10_writesNumber_1 20 rfl rfl)
theorem dX10_writesNumber_43 : decode cX10_writesNumber 43 = .ok (.bipush 10, 2) := dk_16 10 (dk_at dksX10_writesNumber_1 21 rfl rfl)
theorem dX10_writesNumber_45 : decode cX10_writesNumber 45 = .ok (.irem, 1) := dk_112 (dk_at dksX10_writesNumber_1 23 rfl rfl)
theorem dX10_writesNumber_46 : decode cX10_writesNumber 46 = .ok (.iadd, 1) := dk_96 (dk_at dksX10_writesNumber_2 0 rfl rfl)
theorem dX10_writesNumber_47 : decode cX10_writesNumber 47 = .ok (.invokevirtual 401, 3) := dk_182 1 145 (dk_at dksX10_writesNumber_2 1 rfl rfl)
theorem dX10_writesNumber_50 : decode cX10_writesNumber 50 = .ok (.iload_n 3, 1) := dk_29 (dk_at dksX10_writesNumber_2 4 rfl rfl)
theorem dX10_writesNumber_51 : decode cX10_writesNumber 51 = .ok (.bipush 10, 2) := dk_16 10 (dk_at dksX10_writesNumber_2 5 rfl rfl)
theorem dX10_writesNumber_53 : decode cX10_writesNumber 53 = .ok (.idiv, 1) := dk_108 (dk_at dksX10_writesNumber_2 7 rfl rfl)
theorem dX10_writesNumber_54 : decode cX10_writesNumber 54 = .ok (.istore_n 3, 1) := dk_62 (dk_at dksX10_writesNumber_2 8 rfl rfl)
theorem dX10_writesNumber_55 : decode cX10_writesNumber 55 = .ok (.goto (-22), 3) := dk_167 255 234 (dk_at dksX10_writesNumber_2 9 rfl rfl)
theorem dX10_writesNumber_58 : decode cX10_writesNumber 58 = .ok (.return_, 1) := dk_177 (dk_at dksX10_writesNumber_2 12 rfl rfl)
abbrev cX10_writesByte : ByteArray := prog_22_method_130_code
def yX10_writesByte : MethodName := ⟨RX10, "writesByte", "(I)V"⟩
def dkwX10_writesByte_0 : List UInt8 := [42, 180, 0, 42, 42, 180, 1, 142, 27, 79, 42, 89, 180, 1, 142, 4, 96, 181, 1, 142, 177]
abbrev dktX10_writesByte_0 : List UInt8 := dkwX10_writesByte_0 ++ []
theorem dksX10_writesByte_0 : cX10_writesByte.data.toList.drop 0 = dktX10_writesByte_0 := by decide +kernel
theorem dX10_writesByte_0 : decode cX10_writesByte 0 = .ok (.aload_n 0, 1) := dk_42 (dk_at dksX10_writesByte_0 0 rfl rfl)
theorem dX10_writesByte_1 : decode cX10_writesByte 1 = .ok (.getfield 42, 3) := dk_180 0 42 (dk_at dksX10_writesByte_0 1 rfl rfl)
theorem dX10_writesByte_4 : decode cX10_writesByte 4 = .ok (.aload_n 0, 1) := dk_42 (dk_at dksX10_writesByte_0 4 rfl rfl)
theorem dX10_writesByte_5 : decode cX10_writesByte 5 = .ok (.getfield 398, 3) := dk_180 1 142 (dk_at dksX10_writesByte_0 5 rfl rfl)
theorem dX10_writesByte_8 : decode cX10_writesByte 8 = .ok (.iload_n 1, 1) := dk_27 (dk_at dksX10_writesByte_0 8 rfl rfl)
theorem dX10_writesByte_9 : decode cX10_writesByte 9 = .ok (.iastore, 1) := dk_79 (dk_at dksX10_writesByte_0 9 rfl rfl)
theorem dX10_writesByte_10 : decode cX10_writesByte 10 = .ok (.aload_n 0, 1) := dk_42 (dk_at dksX10_writesByte_0 10 rfl rfl)
theorem dX10_writesByte_11 : decode cX10_writesByte 11 = .ok (.dup, 1) := dk_89 (dk_at dksX10_writesByte_0 11 rfl rfl)
theorem dX10_writesByte_12 : decode cX10_writesByte 12 = .ok (.getfield 398, 3) := dk_180 1 142 (dk_at dksX10_writesByte_0 12 rfl rfl)
theorem dX10_writesByte_15 : decode cX10_writesByte 15 = .ok (.iconst 1, 1) := dk_4 (dk_at dksX10_writesByte_0 15 rfl rfl)
theorem dX10_writesByte_16 : decode cX10_writesByte 16 = .ok (.iadd, 1) := dk_96 (dk_at dksX10_writesByte_0 16 rfl rfl)
theorem dX10_writesByte_17 : decode cX10_writesByte 17 = .ok (.putfield 398, 3) := dk_181 1 142 (dk_at dksX10_writesByte_0 17 rfl rfl)
theorem dX10_writesByte_20 : decode cX10_writesByte 20 = .ok (.return_, 1) := dk_177 (dk_at dksX10_writesByte_0 20 rfl rfl)
abbrev cX10_writesWord : ByteArray := prog_22_method_131_code
def yX10_writesWord : MethodName := ⟨RX10, "writesWord", "(Ljava/lang/String;)V"⟩
def dkwX10_writesWord_1 : List UInt8 := [167, 255, 236, 177]
abbrev dktX10_writesWord_1 : List UInt8 := dkwX10_writesWord_1 ++ []
def dkwX10_writesWord_0 : List UInt8 := [3, 61, 28, 43, 182, 0, 85, 162, 0, 18, 42, 43, 28, 182, 0, 91, 182, 1, 145, 132, 2, 1]
abbrev dktX10_writesWord_0 : List UInt8 := dkwX10_writesWord_0 ++ dktX10_writesWord_1
theorem dksX10_writesWord_0 : cX10_writesWord.data.toList.drop 0 = dktX10_writesWord_0 := by decide +kernel
theorem dksX10_writesWord_1 : cX10_writesWord.data.toList.drop 22 = dktX10_writesWord_1 := dk_seg dksX10_writesWord_0 22 rfl rfl
theorem dX10_writesWord_0 : decode cX10_writesWord 0 = .ok (.iconst 0, 1) := dk_3 (dk_at dksX10_writesWord_0 0 rfl rfl)
theorem dX10_writesWord_1 : decode cX10_writesWord 1 = .ok (.istore_n 2, 1) := dk_61 (dk_at dksX10_writesWord_0 1 rfl rfl)
theorem dX10_writesWord_2 : decode cX10_writesWord 2 = .ok (.iload_n 2, 1) := dk_28 (dk_at dksX10_writesWord_0 2 rfl rfl)
theorem dX10_writesWord_3 : decode cX10_writesWord 3 = .ok (.aload_n 1, 1) := dk_43 (dk_at dksX10_writesWord_0 3 rfl rfl)
theorem dX10_writesWord_4 : decode cX10_writesWord 4 = .ok (.invokevirtual 85, 3) := dk_182 0 85 (dk_at dksX10_writesWord_0 4 rfl rfl)
theorem dX10_writesWord_7 : decode cX10_writesWord 7 = .ok (.if_icmp .ge 18, 3) := dk_162 0 18 (dk_at dksX10_writesWord_0 7 rfl rfl)
theorem dX10_writesWord_10 : decode cX10_writesWord 10 = .ok (.aload_n 0, 1) := dk_42 (dk_at dksX10_writesWord_0 10 rfl rfl)
theorem dX10_writesWord_11 : decode cX10_writesWord 11 = .ok (.aload_n 1, 1) := dk_43 (dk_at dksX10_writesWord_0 11 rfl rfl)
theorem dX10_writesWord_12 : decode cX10_writesWord 12 = .ok (.iload_n 2, 1) := dk_28 (dk_at dksX10_writesWord_0 12 rfl rfl)
theorem dX10_writesWord_13 : decode cX10_writesWord 13 = .ok (.invokevirtual 91, 3) := dk_182 0 91 (dk_at dksX10_writesWord_0 13 rfl rfl)
theorem dX10_writesWord_16 : decode cX10_writesWord 16 = .ok (.invokevirtual 401, 3) := dk_182 1 145 (dk_at dksX10_writesWord_0 16 rfl rfl)
theorem dX10_writesWord_19 : decode cX10_writesWord 19 = .ok (.iinc 2 1, 3) := dk_132 2 1 (dk_at dksX10_writesWord_0 19 rfl rfl)
theorem dX10_writesWord_22 : decode cX10_writesWord 22 = .ok (.goto (-20), 3) := dk_167 255 236 (dk_at dksX10_writesWord_1 0 rfl rfl)
theorem dX10_writesWord_25 : decode cX10_writesWord 25 = .ok (.return_, 1) := dk_177 (dk_at dksX10_writesWord_1 3 rfl rfl)
abbrev cX10_writeAccount : ByteArray := prog_22_method_134_code
def yX10_writeAccount : MethodName := ⟨RX10, "writeAccount", "(I)I"⟩
def dkwX10_writeAccount_5 : List UInt8 := [16, 43, 182, 1, 145, 42, 42, 180, 0, 23, 27, 184, 1, 3, 182, 1, 148, 42, 180, 1, 142, 172]
abbrev dktX10_writeAccount_5 : List UInt8 := dkwX10_writeAccount_5 ++ []
def dkwX10_writeAccount_4 : List UInt8 := [182, 1, 148, 42, 16, 43, 182, 1, 145, 42, 42, 180, 0, 23, 16, 29, 27, 96, 46, 182, 1, 148, 42]
abbrev dktX10_writeAccount_4 : List UInt8 := dkwX10_writeAccount_4 ++ dktX10_writeAccount_5
def dkwX10_writeAccount_3 : List UInt8 := [27, 96, 46, 182, 1, 148, 42, 16, 61, 182, 1, 145, 42, 42, 180, 0, 23, 16, 23, 27, 96, 46]
abbrev dktX10_writeAccount_3 : List UInt8 := dkwX10_writeAccount_3 ++ dktX10_writeAccount_4
def dkwX10_writeAccount_2 : List UInt8 := [96, 46, 182, 1, 145, 132, 2, 1, 167, 255, 222, 42, 16, 58, 182, 1, 145, 42, 42, 180, 0, 23, 16, 17]
abbrev dktX10_writeAccount_2 : List UInt8 := dkwX10_writeAccount_2 ++ dktX10_writeAccount_3
def dkwX10_writeAccount_1 : List UInt8 := [180, 0, 17, 16, 11, 27, 96, 46, 162, 0, 27, 42, 42, 180, 0, 17, 16, 17, 16, 8, 27, 104, 96, 28]
abbrev dktX10_writeAccount_1 : List UInt8 := dkwX10_writeAccount_1 ++ dktX10_writeAccount_2
def dkwX10_writeAccount_0 : List UInt8 := [42, 42, 27, 182, 1, 102, 182, 1, 112, 154, 0, 5, 3, 172, 42, 3, 181, 1, 142, 3, 61, 28, 42]
abbrev dktX10_writeAccount_0 : List UInt8 := dkwX10_writeAccount_0 ++ dktX10_writeAccount_1
theorem dksX10_writeAccount_0 : cX10_writeAccount.data.toList.drop 0 = dktX10_writeAccount_0 := by decide +kernel
theorem dksX10_writeAccount_1 : cX10_writeAccount.data.toList.drop 23 = dktX10_writeAccount_1 := dk_seg dksX10_writeAccount_0 23 rfl rfl
theorem dksX10_writeAccount_2 : cX10_writeAccount.data.toList.drop 47 = dktX10_writeAccount_2 := dk_seg dksX10_writeAccount_1 24 rfl rfl
theorem dksX10_writeAccount_3 : cX10_writeAccount.data.toList.drop 71 = dktX10_writeAccount_3 := dk_seg dksX10_writeAccount_2 24 rfl rfl
theorem dksX10_writeAccount_4 : cX10_writeAccount.data.toList.drop 93 = dktX10_writeAccount_4 := dk_seg dksX10_writeAccount_3 22 rfl rfl
theorem dksX10_writeAccount_5 : cX10_writeAccount.data.toList.drop 116 = dktX10_writeAccount_5 := dk_seg dksX10_writeAccount_4 23 rfl rfl
theorem dX10_writeAccount_0 : decode cX10_writeAccount 0 = .ok (.aload_n 0, 1) := dk_42 (dk_at dksX10_writeAccount_0 0 rfl rfl)
theorem dX10_writeAccount_1 : decode cX10_writeAccount 1 = .ok (.aload_n 0, 1) := dk_42 (dk_at dksX10_writeAccount_0 1 rfl rfl)
theorem dX10_writeAccount_2 : decode cX10_writeAccount 2 = .ok (.iload_n 1, 1) := dk_27 (dk_at dksX10_writeAccount_0 2 rfl rfl)
theorem dX10_writeAccount_3 : decode cX10_writeAccount 3 = .ok (.invokevirtual 358, 3) := dk_182 1 102 (dk_at dksX10_writeAccount_0 3 rfl rfl)
theorem dX10_writeAccount_6 : decode cX10_writeAccount 6 = .ok (.invokevirtual 368, 3) := dk_182 1 112 (dk_at dksX10_writeAccount_0 6 rfl rfl)
theorem dX10_writeAccount_9 : decode cX10_writeAccount 9 = .ok (.ifCond .ne 5, 3) := dk_154 0 5 (dk_at dksX10_writeAccount_0 9 rfl rfl)
theorem dX10_writeAccount_12 : decode cX10_writeAccount 12 = .ok (.iconst 0, 1) := dk_3 (dk_at dksX10_writeAccount_0 12 rfl rfl)
theorem dX10_writeAccount_13 : decode cX10_writeAccount 13 = .ok (.ireturn, 1) := dk_172 (dk_at dksX10_writeAccount_0 13 rfl rfl)
theorem dX10_writeAccount_14 : decode cX10_writeAccount 14 = .ok (.aload_n 0, 1) := dk_42 (dk_at dksX10_writeAccount_0 14 rfl rfl)
theorem dX10_writeAccount_15 : decode cX10_writeAccount 15 = .ok (.iconst 0, 1) := dk_3 (dk_at dksX10_writeAccount_0 15 rfl rfl)
theorem dX10_writeAccount_16 : decode cX10_writeAccount 16 = .ok (.putfield 398, 3) := dk_181 1 142 (dk_at dksX10_writeAccount_0 16 rfl rfl)
theorem dX10_writeAccount_19 : decode cX10_writeAccount 19 = .ok (.iconst 0, 1) := dk_3 (dk_at dksX10_writeAccount_0 19 rfl rfl)
theorem dX10_writeAccount_20 : decode cX10_writeAccount 20 = .ok (.istore_n 2, 1) := dk_61 (dk_at dksX10_writeAccount_0 20 rfl rfl)
theorem dX10_writeAccount_21 : decode cX10_writeAccount 21 = .ok (.iload_n 2, 1) := dk_28 (dk_at dksX10_writeAccount_0 21 rfl rfl)
theorem dX10_writeAccount_22 : decode cX10_writeAccount 22 = .ok (.aload_n 0, 1) := dk_42 (dk_at dksX10_writeAccount_0 22 rfl rfl)
theorem dX10_writeAccount_23 : decode cX10_writeAccount 23 = .ok (.getfield 17, 3) := dk_180 0 17 (dk_at dksX10_writeAccount_1 0 rfl rfl)
theorem dX10_writeAccount_26 : decode cX10_writeAccount 26 = .ok (.bipush 11, 2) := dk_16 11 (dk_at dksX10_writeAccount_1 3 rfl rfl)
theorem dX10_writeAccount_28 : decode cX10_writeAccount 28 = .ok (.iload_n 1, 1) := dk_27 (dk_at dksX10_writeAccount_1 5 rfl rfl)
theorem dX10_writeAccount_29 : decode cX10_writeAccount 29 = .ok (.iadd, 1) := dk_96 (dk_at dksX10_writeAccount_1 6 rfl rfl)
theorem dX10_writeAccount_30 : decode cX10_writeAccount 30 = .ok (.iaload, 1) := dk_46 (dk_at dksX10_writeAccount_1 7 rfl rfl)
theorem dX10_writeAccount_31 : decode cX10_writeAccount 31 = .ok (.if_icmp .ge 27, 3) := dk_162 0 27 (dk_at dksX10_writeAccount_1 8 rfl rfl)
theorem dX10_writeAccount_34 : decode cX10_writeAccount 34 = .ok (.aload_n 0, 1) := dk_42 (dk_at dksX10_writeAccount_1 11 rfl rfl)
theorem dX10_writeAccount_35 : decode cX10_writeAccount 35 = .ok (.aload_n 0, 1) := dk_42 (dk_at dksX10_writeAccount_1 12 rfl rfl)
theorem dX10_writeAccount_36 : decode cX10_writeAccount 36 = .ok (.getfield 17, 3) := dk_180 0 17 (dk_at dksX10_writeAccount_1 13 rfl rfl)
theorem dX10_writeAccount_39 : decode cX10_writeAccount 39 = .ok (.bipush 17, 2) := dk_16 17 (dk_at dksX10_writeAccount_1 16 rfl rfl)
theorem dX10_writeAccount_41 : decode cX10_writeAccount 41 = .ok (.bipush 8, 2) := dk_16 8 (dk_at dksX10_writeAccount_1 18 rfl rfl)
theorem dX10_writeAccount_43 : decode cX10_writeAccount 43 = .ok (.iload_n 1, 1) := dk_27 (dk_at dksX10_writeAccount_1 20 rfl rfl)
theorem dX10_writeAccount_44 : decode cX10_writeAccount 44 = .ok (.imul, 1) := dk_104 (dk_at dksX10_writeAccount_1 21 rfl rfl)
theorem dX10_writeAccount_45 : decode cX10_writeAccount 45 = .ok (.iadd, 1) := dk_96 (dk_at dksX10_writeAccount_1 22 rfl rfl)
theorem dX10_writeAccount_46 : decode cX10_writeAccount 46 = .ok (.iload_n 2, 1) := dk_28 (dk_at dksX10_writeAccount_1 23 rfl rfl)
theorem dX10_writeAccount_47 : decode cX10_writeAccount 47 = .ok (.iadd, 1) := dk_96 (dk_at dksX10_writeAccount_2 0 rfl rfl)
theorem dX10_writeAccount_48 : decode cX10_writeAccount 48 = .ok (.iaload, 1) := dk_46 (dk_at dksX10_writeAccount_2 1 rfl rfl)
theorem dX10_writeAccount_49 : decode cX10_writeAccount 49 = .ok (.invokevirtual 401, 3) := dk_182 1 145 (dk_at dksX10_writeAccount_2 2 rfl rfl)
theorem dX10_writeAccount_52 : decode cX10_writeAccount 52 = .ok (.iinc 2 1, 3) := dk_132 2 1 (dk_at dksX10_writeAccount_2 5 rfl rfl)
theorem dX10_writeAccount_55 : decode cX10_writeAccount 55 = .ok (.goto (-34), 3) := dk_167 255 222 (dk_at dksX10_writeAccount_2 8 rfl rfl)
theorem dX10_writeAccount_58 : decode cX10_writeAccount 58 = .ok (.aload_n 0, 1) := dk_42 (dk_at dksX10_writeAccount_2 11 rfl rfl)
theorem dX10_writeAccount_59 : decode cX10_writeAccount 59 = .ok (.bipush 58, 2) := dk_16 58 (dk_at dksX10_writeAccount_2 12 rfl rfl)
theorem dX10_writeAccount_61 : decode cX10_writeAccount 61 = .ok (.invokevirtual 401, 3) := dk_182 1 145 (dk_at dksX10_writeAccount_2 14 rfl rfl)
theorem dX10_writeAccount_64 : decode cX10_writeAccount 64 = .ok (.aload_n 0, 1) := dk_42 (dk_at dksX10_writeAccount_2 17 rfl rfl)
theorem dX10_writeAccount_65 : decode cX10_writeAccount 65 = .ok (.aload_n 0, 1) := dk_42 (dk_at dksX10_writeAccount_2 18 rfl rfl)
theorem dX10_writeAccount_66 : decode cX10_writeAccount 66 = .ok (.getfield 23, 3) := dk_180 0 23 (dk_at dksX10_writeAccount_2 19 rfl rfl)
theorem dX10_writeAccount_69 : decode cX10_writeAccount 69 = .ok (.bipush 17, 2) := dk_16 17 (dk_at dksX10_writeAccount_2 22 rfl rfl)
theorem dX10_writeAccount_71 : decode cX10_writeAccount 71 = .ok (.iload_n 1, 1) := dk_27 (dk_at dksX10_writeAccount_3 0 rfl rfl)
theorem dX10_writeAccount_72 : decode cX10_writeAccount 72 = .ok (.iadd, 1) := dk_96 (dk_at dksX10_writeAccount_3 1 rfl rfl)
theorem dX10_writeAccount_73 : decode cX10_writeAccount 73 = .ok (.iaload, 1) := dk_46 (dk_at dksX10_writeAccount_3 2 rfl rfl)
theorem dX10_writeAccount_74 : decode cX10_writeAccount 74 = .ok (.invokevirtual 404, 3) := dk_182 1 148 (dk_at dksX10_writeAccount_3 3 rfl rfl)
theorem dX10_writeAccount_77 : decode cX10_writeAccount 77 = .ok (.aload_n 0, 1) := dk_42 (dk_at dksX10_writeAccount_3 6 rfl rfl)
theorem dX10_writeAccount_78 : decode cX10_writeAccount 78 = .ok (.bipush 61, 2) := dk_16 61 (dk_at dksX10_writeAccount_3 7 rfl rfl)
theorem dX10_writeAccount_80 : decode cX10_writeAccount 80 = .ok (.invokevirtual 401, 3) := dk_182 1 145 (dk_at dksX10_writeAccount_3 9 rfl rfl)
theorem dX10_writeAccount_83 : decode cX10_writeAccount 83 = .ok (.aload_n 0, 1) := dk_42 (dk_at dksX10_writeAccount_3 12 rfl rfl)
theorem dX10_writeAccount_84 : decode cX10_writeAccount 84 = .ok (.aload_n 0, 1) := dk_42 (dk_at dksX10_writeAccount_3 13 rfl rfl)
theorem dX10_writeAccount_85 : decode cX10_writeAccount 85 = .ok (.getfield 23, 3) := dk_180 0 23 (dk_at dksX10_writeAccount_3 14 rfl rfl)
theorem dX10_writeAccount_88 : decode cX10_writeAccount 88 = .ok (.bipush 23, 2) := dk_16 23 (dk_at dksX10_writeAccount_3 17 rfl rfl)
theorem dX10_writeAccount_90 : decode cX10_writeAccount 90 = .ok (.iload_n 1, 1) := dk_27 (dk_at dksX10_writeAccount_3 19 rfl rfl)
theorem dX10_writeAccount_91 : decode cX10_writeAccount 91 = .ok (.iadd, 1) := dk_96 (dk_at dksX10_writeAccount_3 20 rfl rfl)
theorem dX10_writeAccount_92 : decode cX10_writeAccount 92 = .ok (.iaload, 1) := dk_46 (dk_at dksX10_writeAccount_3 21 rfl rfl)
theorem dX10_writeAccount_93 : decode cX10_writeAccount 93 = .ok (.invokevirtual 404, 3) := dk_182 1 148 (dk_at dksX10_writeAccount_4 0 rfl rfl)
theorem dX10_writeAccount_96 : decode cX10_writeAccount 96 = .ok (.aload_n 0, 1) := dk_42 (dk_at dksX10_writeAccount_4 3 rfl rfl)
theorem dX10_writeAccount_97 : decode cX10_writeAccount 97 = .ok (.bipush 43, 2) := dk_16 43 (dk_at dksX10_writeAccount_4 4 rfl rfl)
theorem dX10_writeAccount_99 : decode cX10_writeAccount 99 = .ok (.invokevirtual 401, 3) := dk_182 1 145 (dk_at dksX10_writeAccount_4 6 rfl rfl)
theorem dX10_writeAccount_102 : decode cX10_writeAccount 102 = .ok (.aload_n 0, 1) := dk_42 (dk_at dksX10_writeAccount_4 9 rfl rfl)
theorem dX10_writeAccount_103 : decode cX10_writeAccount 103 = .ok (.aload_n 0, 1) := dk_42 (dk_at dksX10_writeAccount_4 10 rfl rfl)
theorem dX10_writeAccount_104 : decode cX10_writeAccount 104 = .ok (.getfield 23, 3) := dk_180 0 23 (dk_at dksX10_writeAccount_4 11 rfl rfl)
theorem dX10_writeAccount_107 : decode cX10_writeAccount 107 = .ok (.bipush 29, 2) := dk_16 29 (dk_at dksX10_writeAccount_4 14 rfl rfl)
theorem dX10_writeAccount_109 : decode cX10_writeAccount 109 = .ok (.iload_n 1, 1) := dk_27 (dk_at dksX10_writeAccount_4 16 rfl rfl)
theorem dX10_writeAccount_110 : decode cX10_writeAccount 110 = .ok (.iadd, 1) := dk_96 (dk_at dksX10_writeAccount_4 17 rfl rfl)
theorem dX10_writeAccount_111 : decode cX10_writeAccount 111 = .ok (.iaload, 1) := dk_46 (dk_at dksX10_writeAccount_4 18 rfl rfl)
theorem dX10_writeAccount_112 : decode cX10_writeAccount 112 = .ok (.invokevirtual 404, 3) := dk_182 1 148 (dk_at dksX10_writeAccount_4 19 rfl rfl)
theorem dX10_writeAccount_115 : decode cX10_writeAccount 115 = .ok (.aload_n 0, 1) := dk_42 (dk_at dksX10_writeAccount_4 22 rfl rfl)
theorem dX10_writeAccount_116 : decode cX10_writeAccount 116 = .ok (.bipush 43, 2) := dk_16 43 (dk_at dksX10_writeAccount_5 0 rfl rfl)
theorem dX10_writeAccount_118 : decode cX10_writeAccount 118 = .ok (.invokevirtual 401, 3) := dk_182 1 145 (dk_at dksX10_writeAccount_5 2 rfl rfl)
theorem dX10_writeAccount_121 : decode cX10_writeAccount 121 = .ok (.aload_n 0, 1) := dk_42 (dk_at dksX10_writeAccount_5 5 rfl rfl)
theorem dX10_writeAccount_122 : decode cX10_writeAccount 122 = .ok (.aload_n 0, 1) := dk_42 (dk_at dksX10_writeAccount_5 6 rfl rfl)
theorem dX10_writeAccount_123 : decode cX10_writeAccount 123 = .ok (.getfield 23, 3) := dk_180 0 23 (dk_at dksX10_writeAccount_5 7 rfl rfl)
theorem dX10_writeAccount_126 : decode cX10_writeAccount 126 = .ok (.iload_n 1, 1) := dk_27 (dk_at dksX10_writeAccount_5 10 rfl rfl)
theorem dX10_writeAccount_127 : decode cX10_writeAccount 127 = .ok (.invokestatic 259, 3) := dk_184 1 3 (dk_at dksX10_writeAccount_5 11 rfl rfl)
theorem dX10_writeAccount_130 : decode cX10_writeAccount 130 = .ok (.invokevirtual 404, 3) := dk_182 1 148 (dk_at dksX10_writeAccount_5 14 rfl rfl)
theorem dX10_writeAccount_133 : decode cX10_writeAccount 133 = .ok (.aload_n 0, 1) := dk_42 (dk_at dksX10_writeAccount_5 17 rfl rfl)
theorem dX10_writeAccount_134 : decode cX10_writeAccount 134 = .ok (.getfield 398, 3) := dk_180 1 142 (dk_at dksX10_writeAccount_5 18 rfl rfl)
theorem dX10_writeAccount_137 : decode cX10_writeAccount 137 = .ok (.ireturn, 1) := dk_172 (dk_at dksX10_writeAccount_5 21 rfl rfl)
abbrev cX10_textByte : ByteArray := prog_22_method_135_code
def yX10_textByte : MethodName := ⟨RX10, "textByte", "(I)I"⟩
def dkwX10_textByte_1 : List UInt8 := [180, 0, 45, 154, 0, 12, 42, 180, 0, 42, 27, 46, 167, 0, 4, 3, 172]
abbrev dktX10_textByte_1 : List UInt8 := dkwX10_textByte_1 ++ []
def dkwX10_textByte_0 : List UInt8 := [42, 27, 3, 42, 180, 1, 142, 4, 100, 184, 0, 74, 153, 0, 7, 3, 167, 0, 4, 4, 181, 0, 45, 42]
abbrev dktX10_textByte_0 : List UInt8 := dkwX10_textByte_0 ++ dktX10_textByte_1
theorem dksX10_textByte_0 : cX10_textByte.data.toList.drop 0 = dktX10_textByte_0 := by decide +kernel
theorem dksX10_textByte_1 : cX10_textByte.data.toList.drop 24 = dktX10_textByte_1 := dk_seg dksX10_textByte_0 24 rfl rfl
theorem dX10_textByte_0 : decode cX10_textByte 0 = .ok (.aload_n 0, 1) := dk_42 (dk_at dksX10_textByte_0 0 rfl rfl)
theorem dX10_textByte_1 : decode cX10_textByte 1 = .ok (.iload_n 1, 1) := dk_27 (dk_at dksX10_textByte_0 1 rfl rfl)
theorem dX10_textByte_2 : decode cX10_textByte 2 = .ok (.iconst 0, 1) := dk_3 (dk_at dksX10_textByte_0 2 rfl rfl)
theorem dX10_textByte_3 : decode cX10_textByte 3 = .ok (.aload_n 0, 1) := dk_42 (dk_at dksX10_textByte_0 3 rfl rfl)
theorem dX10_textByte_4 : decode cX10_textByte 4 = .ok (.getfield 398, 3) := dk_180 1 142 (dk_at dksX10_textByte_0 4 rfl rfl)
theorem dX10_textByte_7 : decode cX10_textByte 7 = .ok (.iconst 1, 1) := dk_4 (dk_at dksX10_textByte_0 7 rfl rfl)
theorem dX10_textByte_8 : decode cX10_textByte 8 = .ok (.isub, 1) := dk_100 (dk_at dksX10_textByte_0 8 rfl rfl)
theorem dX10_textByte_9 : decode cX10_textByte 9 = .ok (.invokestatic 74, 3) := dk_184 0 74 (dk_at dksX10_textByte_0 9 rfl rfl)
theorem dX10_textByte_12 : decode cX10_textByte 12 = .ok (.ifCond .eq 7, 3) := dk_153 0 7 (dk_at dksX10_textByte_0 12 rfl rfl)
theorem dX10_textByte_15 : decode cX10_textByte 15 = .ok (.iconst 0, 1) := dk_3 (dk_at dksX10_textByte_0 15 rfl rfl)
theorem dX10_textByte_16 : decode cX10_textByte 16 = .ok (.goto 4, 3) := dk_167 0 4 (dk_at dksX10_textByte_0 16 rfl rfl)
theorem dX10_textByte_19 : decode cX10_textByte 19 = .ok (.iconst 1, 1) := dk_4 (dk_at dksX10_textByte_0 19 rfl rfl)
theorem dX10_textByte_20 : decode cX10_textByte 20 = .ok (.putfield 45, 3) := dk_181 0 45 (dk_at dksX10_textByte_0 20 rfl rfl)
theorem dX10_textByte_23 : decode cX10_textByte 23 = .ok (.aload_n 0, 1) := dk_42 (dk_at dksX10_textByte_0 23 rfl rfl)
theorem dX10_textByte_24 : decode cX10_textByte 24 = .ok (.getfield 45, 3) := dk_180 0 45 (dk_at dksX10_textByte_1 0 rfl rfl)
theorem dX10_textByte_27 : decode cX10_textByte 27 = .ok (.ifCond .ne 12, 3) := dk_154 0 12 (dk_at dksX10_textByte_1 3 rfl rfl)
theorem dX10_textByte_30 : decode cX10_textByte 30 = .ok (.aload_n 0, 1) := dk_42 (dk_at dksX10_textByte_1 6 rfl rfl)
theorem dX10_textByte_31 : decode cX10_textByte 31 = .ok (.getfield 42, 3) := dk_180 0 42 (dk_at dksX10_textByte_1 7 rfl rfl)
theorem dX10_textByte_34 : decode cX10_textByte 34 = .ok (.iload_n 1, 1) := dk_27 (dk_at dksX10_textByte_1 10 rfl rfl)
theorem dX10_textByte_35 : decode cX10_textByte 35 = .ok (.iaload, 1) := dk_46 (dk_at dksX10_textByte_1 11 rfl rfl)
theorem dX10_textByte_36 : decode cX10_textByte 36 = .ok (.goto 4, 3) := dk_167 0 4 (dk_at dksX10_textByte_1 12 rfl rfl)
theorem dX10_textByte_39 : decode cX10_textByte 39 = .ok (.iconst 0, 1) := dk_3 (dk_at dksX10_textByte_1 15 rfl rfl)
theorem dX10_textByte_40 : decode cX10_textByte 40 = .ok (.ireturn, 1) := dk_172 (dk_at dksX10_textByte_1 16 rfl rfl)
abbrev cX10_run : ByteArray := prog_22_method_136_code
def yX10_run : MethodName := ⟨RX10, "run", "(I)I"⟩
def dkwX10_run_1 : List UInt8 := [180, 0, 23, 27, 182, 1, 96, 172]
abbrev dktX10_run_1 : List UInt8 := dkwX10_run_1 ++ []
def dkwX10_run_0 : List UInt8 := [42, 27, 4, 17, 1, 44, 184, 0, 74, 182, 1, 112, 154, 0, 5, 3, 172, 42, 182, 1, 158, 42, 42]
abbrev dktX10_run_0 : List UInt8 := dkwX10_run_0 ++ dktX10_run_1
theorem dksX10_run_0 : cX10_run.data.toList.drop 0 = dktX10_run_0 := by decide +kernel
theorem dksX10_run_1 : cX10_run.data.toList.drop 23 = dktX10_run_1 := dk_seg dksX10_run_0 23 rfl rfl
theorem dX10_run_0 : decode cX10_run 0 = .ok (.aload_n 0, 1) := dk_42 (dk_at dksX10_run_0 0 rfl rfl)
theorem dX10_run_1 : decode cX10_run 1 = .ok (.iload_n 1, 1) := dk_27 (dk_at dksX10_run_0 1 rfl rfl)
theorem dX10_run_2 : decode cX10_run 2 = .ok (.iconst 1, 1) := dk_4 (dk_at dksX10_run_0 2 rfl rfl)
theorem dX10_run_3 : decode cX10_run 3 = .ok (.sipush 300, 3) := dk_17 1 44 (dk_at dksX10_run_0 3 rfl rfl)
theorem dX10_run_6 : decode cX10_run 6 = .ok (.invokestatic 74, 3) := dk_184 0 74 (dk_at dksX10_run_0 6 rfl rfl)
theorem dX10_run_9 : decode cX10_run 9 = .ok (.invokevirtual 368, 3) := dk_182 1 112 (dk_at dksX10_run_0 9 rfl rfl)
theorem dX10_run_12 : decode cX10_run 12 = .ok (.ifCond .ne 5, 3) := dk_154 0 5 (dk_at dksX10_run_0 12 rfl rfl)
theorem dX10_run_15 : decode cX10_run 15 = .ok (.iconst 0, 1) := dk_3 (dk_at dksX10_run_0 15 rfl rfl)
theorem dX10_run_16 : decode cX10_run 16 = .ok (.ireturn, 1) := dk_172 (dk_at dksX10_run_0 16 rfl rfl)
theorem dX10_run_17 : decode cX10_run 17 = .ok (.aload_n 0, 1) := dk_42 (dk_at dksX10_run_0 17 rfl rfl)
theorem dX10_run_18 : decode cX10_run 18 = .ok (.invokevirtual 414, 3) := dk_182 1 158 (dk_at dksX10_run_0 18 rfl rfl)
theorem dX10_run_21 : decode cX10_run 21 = .ok (.aload_n 0, 1) := dk_42 (dk_at dksX10_run_0 21 rfl rfl)
theorem dX10_run_22 : decode cX10_run 22 = .ok (.aload_n 0, 1) := dk_42 (dk_at dksX10_run_0 22 rfl rfl)
theorem dX10_run_23 : decode cX10_run 23 = .ok (.getfield 23, 3) := dk_180 0 23 (dk_at dksX10_run_1 0 rfl rfl)
theorem dX10_run_26 : decode cX10_run 26 = .ok (.iload_n 1, 1) := dk_27 (dk_at dksX10_run_1 3 rfl rfl)
theorem dX10_run_27 : decode cX10_run 27 = .ok (.invokevirtual 352, 3) := dk_182 1 96 (dk_at dksX10_run_1 4 rfl rfl)
theorem dX10_run_30 : decode cX10_run 30 = .ok (.ireturn, 1) := dk_172 (dk_at dksX10_run_1 7 rfl rfl)
abbrev cX10_remember : ByteArray := prog_22_method_33_code
def yX10_remember : MethodName := ⟨RX10, "remember", "()V"⟩
def dkwX10_remember_3 : List UInt8 := [104, 184, 0, 189, 42, 89, 180, 0, 197, 4, 96, 181, 0, 197, 177]
abbrev dktX10_remember_3 : List UInt8 := dkwX10_remember_3 ++ []
def dkwX10_remember_2 : List UInt8 := [180, 0, 197, 4, 100, 181, 0, 197, 42, 180, 0, 23, 3, 42, 180, 0, 32, 17, 2, 115, 42, 180, 0, 197]
abbrev dktX10_remember_2 : List UInt8 := dkwX10_remember_2 ++ dktX10_remember_3
def dkwX10_remember_1 : List UInt8 := [180, 0, 32, 27, 17, 2, 115, 100, 42, 180, 0, 32, 27, 46, 79, 132, 1, 1, 167, 255, 228, 42, 89]
abbrev dktX10_remember_1 : List UInt8 := dkwX10_remember_1 ++ dktX10_remember_2
def dkwX10_remember_0 : List UInt8 := [42, 180, 0, 197, 16, 8, 160, 0, 48, 17, 2, 115, 60, 27, 42, 180, 0, 32, 190, 162, 0, 25, 42]
abbrev dktX10_remember_0 : List UInt8 := dkwX10_remember_0 ++ dktX10_remember_1
theorem dksX10_remember_0 : cX10_remember.data.toList.drop 0 = dktX10_remember_0 := by decide +kernel
theorem dksX10_remember_1 : cX10_remember.data.toList.drop 23 = dktX10_remember_1 := dk_seg dksX10_remember_0 23 rfl rfl
theorem dksX10_remember_2 : cX10_remember.data.toList.drop 46 = dktX10_remember_2 := dk_seg dksX10_remember_1 23 rfl rfl
theorem dksX10_remember_3 : cX10_remember.data.toList.drop 70 = dktX10_remember_3 := dk_seg dksX10_remember_2 24 rfl rfl
theorem dX10_remember_0 : decode cX10_remember 0 = .ok (.aload_n 0, 1) := dk_42 (dk_at dksX10_remember_0 0 rfl rfl)
theorem dX10_remember_1 : decode cX10_remember 1 = .ok (.getfield 197, 3) := dk_180 0 197 (dk_at dksX10_remember_0 1 rfl rfl)
theorem dX10_remember_4 : decode cX10_remember 4 = .ok (.bipush 8, 2) := dk_16 8 (dk_at dksX10_remember_0 4 rfl rfl)
theorem dX10_remember_6 : decode cX10_remember 6 = .ok (.if_icmp .ne 48, 3) := dk_160 0 48 (dk_at dksX10_remember_0 6 rfl rfl)
theorem dX10_remember_9 : decode cX10_remember 9 = .ok (.sipush 627, 3) := dk_17 2 115 (dk_at dksX10_remember_0 9 rfl rfl)
theorem dX10_remember_12 : decode cX10_remember 12 = .ok (.istore_n 1, 1) := dk_60 (dk_at dksX10_remember_0 12 rfl rfl)
theorem dX10_remember_13 : decode cX10_remember 13 = .ok (.iload_n 1, 1) := dk_27 (dk_at dksX10_remember_0 13 rfl rfl)
theorem dX10_remember_14 : decode cX10_remember 14 = .ok (.aload_n 0, 1) := dk_42 (dk_at dksX10_remember_0 14 rfl rfl)
theorem dX10_remember_15 : decode cX10_remember 15 = .ok (.getfield 32, 3) := dk_180 0 32 (dk_at dksX10_remember_0 15 rfl rfl)
theorem dX10_remember_18 : decode cX10_remember 18 = .ok (.arraylength, 1) := dk_190 (dk_at dksX10_remember_0 18 rfl rfl)
theorem dX10_remember_19 : decode cX10_remember 19 = .ok (.if_icmp .ge 25, 3) := dk_162 0 25 (dk_at dksX10_remember_0 19 rfl rfl)
theorem dX10_remember_22 : decode cX10_remember 22 = .ok (.aload_n 0, 1) := dk_42 (dk_at dksX10_remember_0 22 rfl rfl)
theorem dX10_remember_23 : decode cX10_remember 23 = .ok (.getfield 32, 3) := dk_180 0 32 (dk_at dksX10_remember_1 0 rfl rfl)
theorem dX10_remember_26 : decode cX10_remember 26 = .ok (.iload_n 1, 1) := dk_27 (dk_at dksX10_remember_1 3 rfl rfl)
theorem dX10_remember_27 : decode cX10_remember 27 = .ok (.sipush 627, 3) := dk_17 2 115 (dk_at dksX10_remember_1 4 rfl rfl)
theorem dX10_remember_30 : decode cX10_remember 30 = .ok (.isub, 1) := dk_100 (dk_at dksX10_remember_1 7 rfl rfl)
theorem dX10_remember_31 : decode cX10_remember 31 = .ok (.aload_n 0, 1) := dk_42 (dk_at dksX10_remember_1 8 rfl rfl)
theorem dX10_remember_32 : decode cX10_remember 32 = .ok (.getfield 32, 3) := dk_180 0 32 (dk_at dksX10_remember_1 9 rfl rfl)
theorem dX10_remember_35 : decode cX10_remember 35 = .ok (.iload_n 1, 1) := dk_27 (dk_at dksX10_remember_1 12 rfl rfl)
theorem dX10_remember_36 : decode cX10_remember 36 = .ok (.iaload, 1) := dk_46 (dk_at dksX10_remember_1 13 rfl rfl)
theorem dX10_remember_37 : decode cX10_remember 37 = .ok (.iastore, 1) := dk_79 (dk_at dksX10_remember_1 14 rfl rfl)
theorem dX10_remember_38 : decode cX10_remember 38 = .ok (.iinc 1 1, 3) := dk_132 1 1 (dk_at dksX10_remember_1 15 rfl rfl)
theorem dX10_remember_41 : decode cX10_remember 41 = .ok (.goto (-28), 3) := dk_167 255 228 (dk_at dksX10_remember_1 18 rfl rfl)
theorem dX10_remember_44 : decode cX10_remember 44 = .ok (.aload_n 0, 1) := dk_42 (dk_at dksX10_remember_1 21 rfl rfl)
theorem dX10_remember_45 : decode cX10_remember 45 = .ok (.dup, 1) := dk_89 (dk_at dksX10_remember_1 22 rfl rfl)
theorem dX10_remember_46 : decode cX10_remember 46 = .ok (.getfield 197, 3) := dk_180 0 197 (dk_at dksX10_remember_2 0 rfl rfl)
theorem dX10_remember_49 : decode cX10_remember 49 = .ok (.iconst 1, 1) := dk_4 (dk_at dksX10_remember_2 3 rfl rfl)
theorem dX10_remember_50 : decode cX10_remember 50 = .ok (.isub, 1) := dk_100 (dk_at dksX10_remember_2 4 rfl rfl)
theorem dX10_remember_51 : decode cX10_remember 51 = .ok (.putfield 197, 3) := dk_181 0 197 (dk_at dksX10_remember_2 5 rfl rfl)
theorem dX10_remember_54 : decode cX10_remember 54 = .ok (.aload_n 0, 1) := dk_42 (dk_at dksX10_remember_2 8 rfl rfl)
theorem dX10_remember_55 : decode cX10_remember 55 = .ok (.getfield 23, 3) := dk_180 0 23 (dk_at dksX10_remember_2 9 rfl rfl)
theorem dX10_remember_58 : decode cX10_remember 58 = .ok (.iconst 0, 1) := dk_3 (dk_at dksX10_remember_2 12 rfl rfl)
theorem dX10_remember_59 : decode cX10_remember 59 = .ok (.aload_n 0, 1) := dk_42 (dk_at dksX10_remember_2 13 rfl rfl)
theorem dX10_remember_60 : decode cX10_remember 60 = .ok (.getfield 32, 3) := dk_180 0 32 (dk_at dksX10_remember_2 14 rfl rfl)
theorem dX10_remember_63 : decode cX10_remember 63 = .ok (.sipush 627, 3) := dk_17 2 115 (dk_at dksX10_remember_2 17 rfl rfl)
theorem dX10_remember_66 : decode cX10_remember 66 = .ok (.aload_n 0, 1) := dk_42 (dk_at dksX10_remember_2 20 rfl rfl)
theorem dX10_remember_67 : decode cX10_remember 67 = .ok (.getfield 197, 3) := dk_180 0 197 (dk_at dksX10_remember_2 21 rfl rfl)
theorem dX10_remember_70 : decode cX10_remember 70 = .ok (.imul, 1) := dk_104 (dk_at dksX10_remember_3 0 rfl rfl)
theorem dX10_remember_71 : decode cX10_remember 71 = .ok (.invokestatic 189, 3) := dk_184 0 189 (dk_at dksX10_remember_3 1 rfl rfl)
theorem dX10_remember_74 : decode cX10_remember 74 = .ok (.aload_n 0, 1) := dk_42 (dk_at dksX10_remember_3 4 rfl rfl)
theorem dX10_remember_75 : decode cX10_remember 75 = .ok (.dup, 1) := dk_89 (dk_at dksX10_remember_3 5 rfl rfl)
theorem dX10_remember_76 : decode cX10_remember 76 = .ok (.getfield 197, 3) := dk_180 0 197 (dk_at dksX10_remember_3 6 rfl rfl)
theorem dX10_remember_79 : decode cX10_remember 79 = .ok (.iconst 1, 1) := dk_4 (dk_at dksX10_remember_3 9 rfl rfl)
theorem dX10_remember_80 : decode cX10_remember 80 = .ok (.iadd, 1) := dk_96 (dk_at dksX10_remember_3 10 rfl rfl)
theorem dX10_remember_81 : decode cX10_remember 81 = .ok (.putfield 197, 3) := dk_181 0 197 (dk_at dksX10_remember_3 11 rfl rfl)
theorem dX10_remember_84 : decode cX10_remember 84 = .ok (.return_, 1) := dk_177 (dk_at dksX10_remember_3 14 rfl rfl)
abbrev cX10_setPolicy : ByteArray := prog_22_method_138_code
def yX10_setPolicy : MethodName := ⟨RX10, "setPolicy", "(I)I"⟩
def dkwX10_setPolicy_0 : List UInt8 := [42, 27, 3, 6, 184, 0, 74, 182, 1, 112, 153, 0, 12, 42, 8, 27, 182, 1, 161, 167, 0, 4, 3, 172]
abbrev dktX10_setPolicy_0 : List UInt8 := dkwX10_setPolicy_0 ++ []
theorem dksX10_setPolicy_0 : cX10_setPolicy.data.toList.drop 0 = dktX10_setPolicy_0 := by decide +kernel
theorem dX10_setPolicy_0 : decode cX10_setPolicy 0 = .ok (.aload_n 0, 1) := dk_42 (dk_at dksX10_setPolicy_0 0 rfl rfl)
theorem dX10_setPolicy_1 : decode cX10_setPolicy 1 = .ok (.iload_n 1, 1) := dk_27 (dk_at dksX10_setPolicy_0 1 rfl rfl)
theorem dX10_setPolicy_2 : decode cX10_setPolicy 2 = .ok (.iconst 0, 1) := dk_3 (dk_at dksX10_setPolicy_0 2 rfl rfl)
theorem dX10_setPolicy_3 : decode cX10_setPolicy 3 = .ok (.iconst 3, 1) := dk_6 (dk_at dksX10_setPolicy_0 3 rfl rfl)
theorem dX10_setPolicy_4 : decode cX10_setPolicy 4 = .ok (.invokestatic 74, 3) := dk_184 0 74 (dk_at dksX10_setPolicy_0 4 rfl rfl)
theorem dX10_setPolicy_7 : decode cX10_setPolicy 7 = .ok (.invokevirtual 368, 3) := dk_182 1 112 (dk_at dksX10_setPolicy_0 7 rfl rfl)
theorem dX10_setPolicy_10 : decode cX10_setPolicy 10 = .ok (.ifCond .eq 12, 3) := dk_153 0 12 (dk_at dksX10_setPolicy_0 10 rfl rfl)
theorem dX10_setPolicy_13 : decode cX10_setPolicy 13 = .ok (.aload_n 0, 1) := dk_42 (dk_at dksX10_setPolicy_0 13 rfl rfl)
theorem dX10_setPolicy_14 : decode cX10_setPolicy 14 = .ok (.iconst 5, 1) := dk_8 (dk_at dksX10_setPolicy_0 14 rfl rfl)
theorem dX10_setPolicy_15 : decode cX10_setPolicy 15 = .ok (.iload_n 1, 1) := dk_27 (dk_at dksX10_setPolicy_0 15 rfl rfl)
theorem dX10_setPolicy_16 : decode cX10_setPolicy 16 = .ok (.invokevirtual 417, 3) := dk_182 1 161 (dk_at dksX10_setPolicy_0 16 rfl rfl)
theorem dX10_setPolicy_19 : decode cX10_setPolicy 19 = .ok (.goto 4, 3) := dk_167 0 4 (dk_at dksX10_setPolicy_0 19 rfl rfl)
theorem dX10_setPolicy_22 : decode cX10_setPolicy 22 = .ok (.iconst 0, 1) := dk_3 (dk_at dksX10_setPolicy_0 22 rfl rfl)
theorem dX10_setPolicy_23 : decode cX10_setPolicy 23 = .ok (.ireturn, 1) := dk_172 (dk_at dksX10_setPolicy_0 23 rfl rfl)
abbrev cX10_sets : ByteArray := prog_22_method_137_code
def yX10_sets : MethodName := ⟨RX10, "sets", "(II)I"⟩
def dkwX10_sets_0 : List UInt8 := [42, 182, 1, 158, 42, 180, 0, 23, 27, 46, 62, 42, 180, 0, 23, 27, 28, 79, 29, 172]
abbrev dktX10_sets_0 : List UInt8 := dkwX10_sets_0 ++ []
theorem dksX10_sets_0 : cX10_sets.data.toList.drop 0 = dktX10_sets_0 := by decide +kernel
theorem dX10_sets_0 : decode cX10_sets 0 = .ok (.aload_n 0, 1) := dk_42 (dk_at dksX10_sets_0 0 rfl rfl)
theorem dX10_sets_1 : decode cX10_sets 1 = .ok (.invokevirtual 414, 3) := dk_182 1 158 (dk_at dksX10_sets_0 1 rfl rfl)
theorem dX10_sets_4 : decode cX10_sets 4 = .ok (.aload_n 0, 1) := dk_42 (dk_at dksX10_sets_0 4 rfl rfl)
theorem dX10_sets_5 : decode cX10_sets 5 = .ok (.getfield 23, 3) := dk_180 0 23 (dk_at dksX10_sets_0 5 rfl rfl)
theorem dX10_sets_8 : decode cX10_sets 8 = .ok (.iload_n 1, 1) := dk_27 (dk_at dksX10_sets_0 8 rfl rfl)
theorem dX10_sets_9 : decode cX10_sets 9 = .ok (.iaload, 1) := dk_46 (dk_at dksX10_sets_0 9 rfl rfl)
theorem dX10_sets_10 : decode cX10_sets 10 = .ok (.istore_n 3, 1) := dk_62 (dk_at dksX10_sets_0 10 rfl rfl)
theorem dX10_sets_11 : decode cX10_sets 11 = .ok (.aload_n 0, 1) := dk_42 (dk_at dksX10_sets_0 11 rfl rfl)
theorem dX10_sets_12 : decode cX10_sets 12 = .ok (.getfield 23, 3) := dk_180 0 23 (dk_at dksX10_sets_0 12 rfl rfl)
theorem dX10_sets_15 : decode cX10_sets 15 = .ok (.iload_n 1, 1) := dk_27 (dk_at dksX10_sets_0 15 rfl rfl)
theorem dX10_sets_16 : decode cX10_sets 16 = .ok (.iload_n 2, 1) := dk_28 (dk_at dksX10_sets_0 16 rfl rfl)
theorem dX10_sets_17 : decode cX10_sets 17 = .ok (.iastore, 1) := dk_79 (dk_at dksX10_sets_0 17 rfl rfl)
theorem dX10_sets_18 : decode cX10_sets 18 = .ok (.iload_n 3, 1) := dk_29 (dk_at dksX10_sets_0 18 rfl rfl)
theorem dX10_sets_19 : decode cX10_sets 19 = .ok (.ireturn, 1) := dk_172 (dk_at dksX10_sets_0 19 rfl rfl)
abbrev cX10_cancel : ByteArray := prog_22_method_140_code
def yX10_cancel : MethodName := ⟨RX10, "cancel", "(I)Z"⟩
def dkwX10_cancel_0 : List UInt8 := [42, 27, 3, 5, 182, 1, 164, 172]
abbrev dktX10_cancel_0 : List UInt8 := dkwX10_cancel_0 ++ []
theorem dksX10_cancel_0 : cX10_cancel.data.toList.drop 0 = dktX10_cancel_0 := by decide +kernel
theorem dX10_cancel_0 : decode cX10_cancel 0 = .ok (.aload_n 0, 1) := dk_42 (dk_at dksX10_cancel_0 0 rfl rfl)
theorem dX10_cancel_1 : decode cX10_cancel 1 = .ok (.iload_n 1, 1) := dk_27 (dk_at dksX10_cancel_0 1 rfl rfl)
theorem dX10_cancel_2 : decode cX10_cancel 2 = .ok (.iconst 0, 1) := dk_3 (dk_at dksX10_cancel_0 2 rfl rfl)
theorem dX10_cancel_3 : decode cX10_cancel 3 = .ok (.iconst 2, 1) := dk_5 (dk_at dksX10_cancel_0 3 rfl rfl)
theorem dX10_cancel_4 : decode cX10_cancel 4 = .ok (.invokevirtual 420, 3) := dk_182 1 164 (dk_at dksX10_cancel_0 4 rfl rfl)
theorem dX10_cancel_7 : decode cX10_cancel 7 = .ok (.ireturn, 1) := dk_172 (dk_at dksX10_cancel_0 7 rfl rfl)
abbrev cX10_turns : ByteArray := prog_22_method_139_code
def yX10_turns : MethodName := ⟨RX10, "turns", "(III)Z"⟩
def dkwX10_turns_1 : List UInt8 := [160, 0, 20, 42, 16, 47, 27, 96, 29, 182, 1, 161, 28, 160, 0, 7, 4, 167, 0, 4, 3, 172]
abbrev dktX10_turns_1 : List UInt8 := dkwX10_turns_1 ++ []
def dkwX10_turns_0 : List UInt8 := [42, 42, 27, 182, 1, 116, 182, 1, 112, 153, 0, 33, 42, 180, 0, 23, 16, 47, 27, 96, 46, 28]
abbrev dktX10_turns_0 : List UInt8 := dkwX10_turns_0 ++ dktX10_turns_1
theorem dksX10_turns_0 : cX10_turns.data.toList.drop 0 = dktX10_turns_0 := by decide +kernel
theorem dksX10_turns_1 : cX10_turns.data.toList.drop 22 = dktX10_turns_1 := dk_seg dksX10_turns_0 22 rfl rfl
theorem dX10_turns_0 : decode cX10_turns 0 = .ok (.aload_n 0, 1) := dk_42 (dk_at dksX10_turns_0 0 rfl rfl)
theorem dX10_turns_1 : decode cX10_turns 1 = .ok (.aload_n 0, 1) := dk_42 (dk_at dksX10_turns_0 1 rfl rfl)
theorem dX10_turns_2 : decode cX10_turns 2 = .ok (.iload_n 1, 1) := dk_27 (dk_at dksX10_turns_0 2 rfl rfl)
theorem dX10_turns_3 : decode cX10_turns 3 = .ok (.invokevirtual 372, 3) := dk_182 1 116 (dk_at dksX10_turns_0 3 rfl rfl)
theorem dX10_turns_6 : decode cX10_turns 6 = .ok (.invokevirtual 368, 3) := dk_182 1 112 (dk_at dksX10_turns_0 6 rfl rfl)
theorem dX10_turns_9 : decode cX10_turns 9 = .ok (.ifCond .eq 33, 3) := dk_153 0 33 (dk_at dksX10_turns_0 9 rfl rfl)
theorem dX10_turns_12 : decode cX10_turns 12 = .ok (.aload_n 0, 1) := dk_42 (dk_at dksX10_turns_0 12 rfl rfl)
theorem dX10_turns_13 : decode cX10_turns 13 = .ok (.getfield 23, 3) := dk_180 0 23 (dk_at dksX10_turns_0 13 rfl rfl)
theorem dX10_turns_16 : decode cX10_turns 16 = .ok (.bipush 47, 2) := dk_16 47 (dk_at dksX10_turns_0 16 rfl rfl)
theorem dX10_turns_18 : decode cX10_turns 18 = .ok (.iload_n 1, 1) := dk_27 (dk_at dksX10_turns_0 18 rfl rfl)
theorem dX10_turns_19 : decode cX10_turns 19 = .ok (.iadd, 1) := dk_96 (dk_at dksX10_turns_0 19 rfl rfl)
theorem dX10_turns_20 : decode cX10_turns 20 = .ok (.iaload, 1) := dk_46 (dk_at dksX10_turns_0 20 rfl rfl)
theorem dX10_turns_21 : decode cX10_turns 21 = .ok (.iload_n 2, 1) := dk_28 (dk_at dksX10_turns_0 21 rfl rfl)
theorem dX10_turns_22 : decode cX10_turns 22 = .ok (.if_icmp .ne 20, 3) := dk_160 0 20 (dk_at dksX10_turns_1 0 rfl rfl)
theorem dX10_turns_25 : decode cX10_turns 25 = .ok (.aload_n 0, 1) := dk_42 (dk_at dksX10_turns_1 3 rfl rfl)
theorem dX10_turns_26 : decode cX10_turns 26 = .ok (.bipush 47, 2) := dk_16 47 (dk_at dksX10_turns_1 4 rfl rfl)
theorem dX10_turns_28 : decode cX10_turns 28 = .ok (.iload_n 1, 1) := dk_27 (dk_at dksX10_turns_1 6 rfl rfl)
theorem dX10_turns_29 : decode cX10_turns 29 = .ok (.iadd, 1) := dk_96 (dk_at dksX10_turns_1 7 rfl rfl)
theorem dX10_turns_30 : decode cX10_turns 30 = .ok (.iload_n 3, 1) := dk_29 (dk_at dksX10_turns_1 8 rfl rfl)
theorem dX10_turns_31 : decode cX10_turns 31 = .ok (.invokevirtual 417, 3) := dk_182 1 161 (dk_at dksX10_turns_1 9 rfl rfl)
theorem dX10_turns_34 : decode cX10_turns 34 = .ok (.iload_n 2, 1) := dk_28 (dk_at dksX10_turns_1 12 rfl rfl)
theorem dX10_turns_35 : decode cX10_turns 35 = .ok (.if_icmp .ne 7, 3) := dk_160 0 7 (dk_at dksX10_turns_1 13 rfl rfl)
theorem dX10_turns_38 : decode cX10_turns 38 = .ok (.iconst 1, 1) := dk_4 (dk_at dksX10_turns_1 16 rfl rfl)
theorem dX10_turns_39 : decode cX10_turns 39 = .ok (.goto 4, 3) := dk_167 0 4 (dk_at dksX10_turns_1 17 rfl rfl)
theorem dX10_turns_42 : decode cX10_turns 42 = .ok (.iconst 0, 1) := dk_3 (dk_at dksX10_turns_1 20 rfl rfl)
theorem dX10_turns_43 : decode cX10_turns 43 = .ok (.ireturn, 1) := dk_172 (dk_at dksX10_turns_1 21 rfl rfl)
abbrev cX10_requeue : ByteArray := prog_22_method_141_code
def yX10_requeue : MethodName := ⟨RX10, "requeue", "(I)Z"⟩
def dkwX10_requeue_0 : List UInt8 := [42, 27, 5, 3, 182, 1, 164, 172]
abbrev dktX10_requeue_0 : List UInt8 := dkwX10_requeue_0 ++ []
theorem dksX10_requeue_0 : cX10_requeue.data.toList.drop 0 = dktX10_requeue_0 := by decide +kernel
theorem dX10_requeue_0 : decode cX10_requeue 0 = .ok (.aload_n 0, 1) := dk_42 (dk_at dksX10_requeue_0 0 rfl rfl)
theorem dX10_requeue_1 : decode cX10_requeue 1 = .ok (.iload_n 1, 1) := dk_27 (dk_at dksX10_requeue_0 1 rfl rfl)
theorem dX10_requeue_2 : decode cX10_requeue 2 = .ok (.iconst 2, 1) := dk_5 (dk_at dksX10_requeue_0 2 rfl rfl)
theorem dX10_requeue_3 : decode cX10_requeue 3 = .ok (.iconst 0, 1) := dk_3 (dk_at dksX10_requeue_0 3 rfl rfl)
theorem dX10_requeue_4 : decode cX10_requeue 4 = .ok (.invokevirtual 420, 3) := dk_182 1 164 (dk_at dksX10_requeue_0 4 rfl rfl)
theorem dX10_requeue_7 : decode cX10_requeue 7 = .ok (.ireturn, 1) := dk_172 (dk_at dksX10_requeue_0 7 rfl rfl)
abbrev cX10_setPriority : ByteArray := prog_22_method_142_code
def yX10_setPriority : MethodName := ⟨RX10, "setPriority", "(II)I"⟩
def dkwX10_setPriority_1 : List UInt8 := [28, 182, 1, 161, 167, 0, 4, 3, 172]
abbrev dktX10_setPriority_1 : List UInt8 := dkwX10_setPriority_1 ++ []
def dkwX10_setPriority_0 : List UInt8 := [42, 42, 27, 182, 1, 116, 28, 4, 16, 9, 184, 0, 74, 182, 1, 105, 153, 0, 15, 42, 16, 107, 27, 96]
abbrev dktX10_setPriority_0 : List UInt8 := dkwX10_setPriority_0 ++ dktX10_setPriority_1
theorem dksX10_setPriority_0 : cX10_setPriority.data.toList.drop 0 = dktX10_setPriority_0 := by decide +kernel
theorem dksX10_setPriority_1 : cX10_setPriority.data.toList.drop 24 = dktX10_setPriority_1 := dk_seg dksX10_setPriority_0 24 rfl rfl
theorem dX10_setPriority_0 : decode cX10_setPriority 0 = .ok (.aload_n 0, 1) := dk_42 (dk_at dksX10_setPriority_0 0 rfl rfl)
theorem dX10_setPriority_1 : decode cX10_setPriority 1 = .ok (.aload_n 0, 1) := dk_42 (dk_at dksX10_setPriority_0 1 rfl rfl)
theorem dX10_setPriority_2 : decode cX10_setPriority 2 = .ok (.iload_n 1, 1) := dk_27 (dk_at dksX10_setPriority_0 2 rfl rfl)
theorem dX10_setPriority_3 : decode cX10_setPriority 3 = .ok (.invokevirtual 372, 3) := dk_182 1 116 (dk_at dksX10_setPriority_0 3 rfl rfl)
theorem dX10_setPriority_6 : decode cX10_setPriority 6 = .ok (.iload_n 2, 1) := dk_28 (dk_at dksX10_setPriority_0 6 rfl rfl)
theorem dX10_setPriority_7 : decode cX10_setPriority 7 = .ok (.iconst 1, 1) := dk_4 (dk_at dksX10_setPriority_0 7 rfl rfl)
theorem dX10_setPriority_8 : decode cX10_setPriority 8 = .ok (.bipush 9, 2) := dk_16 9 (dk_at dksX10_setPriority_0 8 rfl rfl)
theorem dX10_setPriority_10 : decode cX10_setPriority 10 = .ok (.invokestatic 74, 3) := dk_184 0 74 (dk_at dksX10_setPriority_0 10 rfl rfl)
theorem dX10_setPriority_13 : decode cX10_setPriority 13 = .ok (.invokevirtual 361, 3) := dk_182 1 105 (dk_at dksX10_setPriority_0 13 rfl rfl)
theorem dX10_setPriority_16 : decode cX10_setPriority 16 = .ok (.ifCond .eq 15, 3) := dk_153 0 15 (dk_at dksX10_setPriority_0 16 rfl rfl)
theorem dX10_setPriority_19 : decode cX10_setPriority 19 = .ok (.aload_n 0, 1) := dk_42 (dk_at dksX10_setPriority_0 19 rfl rfl)
theorem dX10_setPriority_20 : decode cX10_setPriority 20 = .ok (.bipush 107, 2) := dk_16 107 (dk_at dksX10_setPriority_0 20 rfl rfl)
theorem dX10_setPriority_22 : decode cX10_setPriority 22 = .ok (.iload_n 1, 1) := dk_27 (dk_at dksX10_setPriority_0 22 rfl rfl)
theorem dX10_setPriority_23 : decode cX10_setPriority 23 = .ok (.iadd, 1) := dk_96 (dk_at dksX10_setPriority_0 23 rfl rfl)
theorem dX10_setPriority_24 : decode cX10_setPriority 24 = .ok (.iload_n 2, 1) := dk_28 (dk_at dksX10_setPriority_1 0 rfl rfl)
theorem dX10_setPriority_25 : decode cX10_setPriority 25 = .ok (.invokevirtual 417, 3) := dk_182 1 161 (dk_at dksX10_setPriority_1 1 rfl rfl)
theorem dX10_setPriority_28 : decode cX10_setPriority 28 = .ok (.goto 4, 3) := dk_167 0 4 (dk_at dksX10_setPriority_1 4 rfl rfl)
theorem dX10_setPriority_31 : decode cX10_setPriority 31 = .ok (.iconst 0, 1) := dk_3 (dk_at dksX10_setPriority_1 7 rfl rfl)
theorem dX10_setPriority_32 : decode cX10_setPriority 32 = .ok (.ireturn, 1) := dk_172 (dk_at dksX10_setPriority_1 8 rfl rfl)
abbrev cX10_grant : ByteArray := prog_22_method_143_code
def yX10_grant : MethodName := ⟨RX10, "grant", "(II)I"⟩
def dkwX10_grant_4 : List UInt8 := [180, 0, 23, 16, 17, 27, 96, 46, 28, 96, 182, 1, 161, 54, 5, 42, 180, 0, 23, 27, 184, 1, 3, 172]
abbrev dktX10_grant_4 : List UInt8 := dkwX10_grant_4 ++ []
def dkwX10_grant_3 : List UInt8 := [167, 0, 4, 3, 54, 4, 42, 29, 21, 4, 182, 1, 105, 154, 0, 5, 3, 172, 42, 16, 17, 27, 96, 42]
abbrev dktX10_grant_3 : List UInt8 := dkwX10_grant_3 ++ dktX10_grant_4
def dkwX10_grant_2 : List UInt8 := [28, 96, 155, 0, 24, 42, 180, 0, 23, 16, 17, 27, 96, 46, 28, 96, 17, 39, 15, 163, 0, 7, 4]
abbrev dktX10_grant_2 : List UInt8 := dkwX10_grant_2 ++ dktX10_grant_3
def dkwX10_grant_1 : List UInt8 := [153, 0, 50, 28, 17, 248, 48, 17, 7, 208, 184, 0, 74, 153, 0, 37, 42, 180, 0, 23, 27, 184, 1, 3]
abbrev dktX10_grant_1 : List UInt8 := dkwX10_grant_1 ++ dktX10_grant_2
def dkwX10_grant_0 : List UInt8 := [42, 180, 0, 193, 153, 0, 15, 42, 27, 182, 1, 102, 153, 0, 7, 4, 167, 0, 4, 3, 62, 29]
abbrev dktX10_grant_0 : List UInt8 := dkwX10_grant_0 ++ dktX10_grant_1
theorem dksX10_grant_0 : cX10_grant.data.toList.drop 0 = dktX10_grant_0 := by decide +kernel
theorem dksX10_grant_1 : cX10_grant.data.toList.drop 22 = dktX10_grant_1 := dk_seg dksX10_grant_0 22 rfl rfl
theorem dksX10_grant_2 : cX10_grant.data.toList.drop 46 = dktX10_grant_2 := dk_seg dksX10_grant_1 24 rfl rfl
theorem dksX10_grant_3 : cX10_grant.data.toList.drop 69 = dktX10_grant_3 := dk_seg dksX10_grant_2 23 rfl rfl
theorem dksX10_grant_4 : cX10_grant.data.toList.drop 93 = dktX10_grant_4 := dk_seg dksX10_grant_3 24 rfl rfl
theorem dX10_grant_0 : decode cX10_grant 0 = .ok (.aload_n 0, 1) := dk_42 (dk_at dksX10_grant_0 0 rfl rfl)
theorem dX10_grant_1 : decode cX10_grant 1 = .ok (.getfield 193, 3) := dk_180 0 193 (dk_at dksX10_grant_0 1 rfl rfl)
theorem dX10_grant_4 : decode cX10_grant 4 = .ok (.ifCond .eq 15, 3) := dk_153 0 15 (dk_at dksX10_grant_0 4 rfl rfl)
theorem dX10_grant_7 : decode cX10_grant 7 = .ok (.aload_n 0, 1) := dk_42 (dk_at dksX10_grant_0 7 rfl rfl)
theorem dX10_grant_8 : decode cX10_grant 8 = .ok (.iload_n 1, 1) := dk_27 (dk_at dksX10_grant_0 8 rfl rfl)
theorem dX10_grant_9 : decode cX10_grant 9 = .ok (.invokevirtual 358, 3) := dk_182 1 102 (dk_at dksX10_grant_0 9 rfl rfl)
theorem dX10_grant_12 : decode cX10_grant 12 = .ok (.ifCond .eq 7, 3) := dk_153 0 7 (dk_at dksX10_grant_0 12 rfl rfl)
theorem dX10_grant_15 : decode cX10_grant 15 = .ok (.iconst 1, 1) := dk_4 (dk_at dksX10_grant_0 15 rfl rfl)
theorem dX10_grant_16 : decode cX10_grant 16 = .ok (.goto 4, 3) := dk_167 0 4 (dk_at dksX10_grant_0 16 rfl rfl)
theorem dX10_grant_19 : decode cX10_grant 19 = .ok (.iconst 0, 1) := dk_3 (dk_at dksX10_grant_0 19 rfl rfl)
theorem dX10_grant_20 : decode cX10_grant 20 = .ok (.istore_n 3, 1) := dk_62 (dk_at dksX10_grant_0 20 rfl rfl)
theorem dX10_grant_21 : decode cX10_grant 21 = .ok (.iload_n 3, 1) := dk_29 (dk_at dksX10_grant_0 21 rfl rfl)
theorem dX10_grant_22 : decode cX10_grant 22 = .ok (.ifCond .eq 50, 3) := dk_153 0 50 (dk_at dksX10_grant_1 0 rfl rfl)
theorem dX10_grant_25 : decode cX10_grant 25 = .ok (.iload_n 2, 1) := dk_28 (dk_at dksX10_grant_1 3 rfl rfl)
theorem dX10_grant_26 : decode cX10_grant 26 = .ok (.sipush (-2000), 3) := dk_17 248 48 (dk_at dksX10_grant_1 4 rfl rfl)
theorem dX10_grant_29 : decode cX10_grant 29 = .ok (.sipush 2000, 3) := dk_17 7 208 (dk_at dksX10_grant_1 7 rfl rfl)
theorem dX10_grant_32 : decode cX10_grant 32 = .ok (.invokestatic 74, 3) := dk_184 0 74 (dk_at dksX10_grant_1 10 rfl rfl)
theorem dX10_grant_35 : decode cX10_grant 35 = .ok (.ifCond .eq 37, 3) := dk_153 0 37 (dk_at dksX10_grant_1 13 rfl rfl)
theorem dX10_grant_38 : decode cX10_grant 38 = .ok (.aload_n 0, 1) := dk_42 (dk_at dksX10_grant_1 16 rfl rfl)
theorem dX10_grant_39 : decode cX10_grant 39 = .ok (.getfield 23, 3) := dk_180 0 23 (dk_at dksX10_grant_1 17 rfl rfl)
theorem dX10_grant_42 : decode cX10_grant 42 = .ok (.iload_n 1, 1) := dk_27 (dk_at dksX10_grant_1 20 rfl rfl)
theorem dX10_grant_43 : decode cX10_grant 43 = .ok (.invokestatic 259, 3) := dk_184 1 3 (dk_at dksX10_grant_1 21 rfl rfl)
theorem dX10_grant_46 : decode cX10_grant 46 = .ok (.iload_n 2, 1) := dk_28 (dk_at dksX10_grant_2 0 rfl rfl)
theorem dX10_grant_47 : decode cX10_grant 47 = .ok (.iadd, 1) := dk_96 (dk_at dksX10_grant_2 1 rfl rfl)
theorem dX10_grant_48 : decode cX10_grant 48 = .ok (.ifCond .lt 24, 3) := dk_155 0 24 (dk_at dksX10_grant_2 2 rfl rfl)
theorem dX10_grant_51 : decode cX10_grant 51 = .ok (.aload_n 0, 1) := dk_42 (dk_at dksX10_grant_2 5 rfl rfl)
theorem dX10_grant_52 : decode cX10_grant 52 = .ok (.getfield 23, 3) := dk_180 0 23 (dk_at dksX10_grant_2 6 rfl rfl)
theorem dX10_grant_55 : decode cX10_grant 55 = .ok (.bipush 17, 2) := dk_16 17 (dk_at dksX10_grant_2 9 rfl rfl)
theorem dX10_grant_57 : decode cX10_grant 57 = .ok (.iload_n 1, 1) := dk_27 (dk_at dksX10_grant_2 11 rfl rfl)
theorem dX10_grant_58 : decode cX10_grant 58 = .ok (.iadd, 1) := dk_96 (dk_at dksX10_grant_2 12 rfl rfl)
theorem dX10_grant_59 : decode cX10_grant 59 = .ok (.iaload, 1) := dk_46 (dk_at dksX10_grant_2 13 rfl rfl)
theorem dX10_grant_60 : decode cX10_grant 60 = .ok (.iload_n 2, 1) := dk_28 (dk_at dksX10_grant_2 14 rfl rfl)
theorem dX10_grant_61 : decode cX10_grant 61 = .ok (.iadd, 1) := dk_96 (dk_at dksX10_grant_2 15 rfl rfl)
theorem dX10_grant_62 : decode cX10_grant 62 = .ok (.sipush 9999, 3) := dk_17 39 15 (dk_at dksX10_grant_2 16 rfl rfl)
theorem dX10_grant_65 : decode cX10_grant 65 = .ok (.if_icmp .gt 7, 3) := dk_163 0 7 (dk_at dksX10_grant_2 19 rfl rfl)
theorem dX10_grant_68 : decode cX10_grant 68 = .ok (.iconst 1, 1) := dk_4 (dk_at dksX10_grant_2 22 rfl rfl)
theorem dX10_grant_69 : decode cX10_grant 69 = .ok (.goto 4, 3) := dk_167 0 4 (dk_at dksX10_grant_3 0 rfl rfl)
theorem dX10_grant_72 : decode cX10_grant 72 = .ok (.iconst 0, 1) := dk_3 (dk_at dksX10_grant_3 3 rfl rfl)
theorem dX10_grant_73 : decode cX10_grant 73 = .ok (.istore 4, 2) := dk_54 4 (dk_at dksX10_grant_3 4 rfl rfl)
theorem dX10_grant_75 : decode cX10_grant 75 = .ok (.aload_n 0, 1) := dk_42 (dk_at dksX10_grant_3 6 rfl rfl)
theorem dX10_grant_76 : decode cX10_grant 76 = .ok (.iload_n 3, 1) := dk_29 (dk_at dksX10_grant_3 7 rfl rfl)
theorem dX10_grant_77 : decode cX10_grant 77 = .ok (.iload 4, 2) := dk_21 4 (dk_at dksX10_grant_3 8 rfl rfl)
theorem dX10_grant_79 : decode cX10_grant 79 = .ok (.invokevirtual 361, 3) := dk_182 1 105 (dk_at dksX10_grant_3 10 rfl rfl)
theorem dX10_grant_82 : decode cX10_grant 82 = .ok (.ifCond .ne 5, 3) := dk_154 0 5 (dk_at dksX10_grant_3 13 rfl rfl)
theorem dX10_grant_85 : decode cX10_grant 85 = .ok (.iconst 0, 1) := dk_3 (dk_at dksX10_grant_3 16 rfl rfl)
theorem dX10_grant_86 : decode cX10_grant 86 = .ok (.ireturn, 1) := dk_172 (dk_at dksX10_grant_3 17 rfl rfl)
theorem dX10_grant_87 : decode cX10_grant 87 = .ok (.aload_n 0, 1) := dk_42 (dk_at dksX10_grant_3 18 rfl rfl)
theorem dX10_grant_88 : decode cX10_grant 88 = .ok (.bipush 17, 2) := dk_16 17 (dk_at dksX10_grant_3 19 rfl rfl)
theorem dX10_grant_90 : decode cX10_grant 90 = .ok (.iload_n 1, 1) := dk_27 (dk_at dksX10_grant_3 21 rfl rfl)
theorem dX10_grant_91 : decode cX10_grant 91 = .ok (.iadd, 1) := dk_96 (dk_at dksX10_grant_3 22 rfl rfl)
theorem dX10_grant_92 : decode cX10_grant 92 = .ok (.aload_n 0, 1) := dk_42 (dk_at dksX10_grant_3 23 rfl rfl)
theorem dX10_grant_93 : decode cX10_grant 93 = .ok (.getfield 23, 3) := dk_180 0 23 (dk_at dksX10_grant_4 0 rfl rfl)
theorem dX10_grant_96 : decode cX10_grant 96 = .ok (.bipush 17, 2) := dk_16 17 (dk_at dksX10_grant_4 3 rfl rfl)
theorem dX10_grant_98 : decode cX10_grant 98 = .ok (.iload_n 1, 1) := dk_27 (dk_at dksX10_grant_4 5 rfl rfl)
theorem dX10_grant_99 : decode cX10_grant 99 = .ok (.iadd, 1) := dk_96 (dk_at dksX10_grant_4 6 rfl rfl)
theorem dX10_grant_100 : decode cX10_grant 100 = .ok (.iaload, 1) := dk_46 (dk_at dksX10_grant_4 7 rfl rfl)
theorem dX10_grant_101 : decode cX10_grant 101 = .ok (.iload_n 2, 1) := dk_28 (dk_at dksX10_grant_4 8 rfl rfl)
theorem dX10_grant_102 : decode cX10_grant 102 = .ok (.iadd, 1) := dk_96 (dk_at dksX10_grant_4 9 rfl rfl)
theorem dX10_grant_103 : decode cX10_grant 103 = .ok (.invokevirtual 417, 3) := dk_182 1 161 (dk_at dksX10_grant_4 10 rfl rfl)
theorem dX10_grant_106 : decode cX10_grant 106 = .ok (.istore 5, 2) := dk_54 5 (dk_at dksX10_grant_4 13 rfl rfl)
theorem dX10_grant_108 : decode cX10_grant 108 = .ok (.aload_n 0, 1) := dk_42 (dk_at dksX10_grant_4 15 rfl rfl)
theorem dX10_grant_109 : decode cX10_grant 109 = .ok (.getfield 23, 3) := dk_180 0 23 (dk_at dksX10_grant_4 16 rfl rfl)
theorem dX10_grant_112 : decode cX10_grant 112 = .ok (.iload_n 1, 1) := dk_27 (dk_at dksX10_grant_4 19 rfl rfl)
theorem dX10_grant_113 : decode cX10_grant 113 = .ok (.invokestatic 259, 3) := dk_184 1 3 (dk_at dksX10_grant_4 20 rfl rfl)
theorem dX10_grant_116 : decode cX10_grant 116 = .ok (.ireturn, 1) := dk_172 (dk_at dksX10_grant_4 23 rfl rfl)
abbrev cX10_dump : ByteArray := prog_22_method_144_code
def yX10_dump : MethodName := ⟨RX10, "dump", "()I"⟩
def dkwX10_dump_2 : List UInt8 := [42, 180, 0, 23, 182, 1, 30, 27, 172]
abbrev dktX10_dump_2 : List UInt8 := dkwX10_dump_2 ++ []
def dkwX10_dump_1 : List UInt8 := [167, 0, 4, 3, 182, 1, 112, 154, 0, 5, 3, 172, 42, 182, 1, 158, 42, 180, 0, 23, 6, 46, 60, 42]
abbrev dktX10_dump_1 : List UInt8 := dkwX10_dump_1 ++ dktX10_dump_2
def dkwX10_dump_0 : List UInt8 := [42, 42, 180, 0, 23, 3, 46, 42, 180, 0, 17, 7, 46, 96, 42, 180, 0, 17, 3, 46, 163, 0, 7, 4]
abbrev dktX10_dump_0 : List UInt8 := dkwX10_dump_0 ++ dktX10_dump_1
theorem dksX10_dump_0 : cX10_dump.data.toList.drop 0 = dktX10_dump_0 := by decide +kernel
theorem dksX10_dump_1 : cX10_dump.data.toList.drop 24 = dktX10_dump_1 := dk_seg dksX10_dump_0 24 rfl rfl
theorem dksX10_dump_2 : cX10_dump.data.toList.drop 48 = dktX10_dump_2 := dk_seg dksX10_dump_1 24 rfl rfl
theorem dX10_dump_0 : decode cX10_dump 0 = .ok (.aload_n 0, 1) := dk_42 (dk_at dksX10_dump_0 0 rfl rfl)
theorem dX10_dump_1 : decode cX10_dump 1 = .ok (.aload_n 0, 1) := dk_42 (dk_at dksX10_dump_0 1 rfl rfl)
theorem dX10_dump_2 : decode cX10_dump 2 = .ok (.getfield 23, 3) := dk_180 0 23 (dk_at dksX10_dump_0 2 rfl rfl)
theorem dX10_dump_5 : decode cX10_dump 5 = .ok (.iconst 0, 1) := dk_3 (dk_at dksX10_dump_0 5 rfl rfl)
theorem dX10_dump_6 : decode cX10_dump 6 = .ok (.iaload, 1) := dk_46 (dk_at dksX10_dump_0 6 rfl rfl)
theorem dX10_dump_7 : decode cX10_dump 7 = .ok (.aload_n 0, 1) := dk_42 (dk_at dksX10_dump_0 7 rfl rfl)
theorem dX10_dump_8 : decode cX10_dump 8 = .ok (.getfield 17, 3) := dk_180 0 17 (dk_at dksX10_dump_0 8 rfl rfl)
theorem dX10_dump_11 : decode cX10_dump 11 = .ok (.iconst 4, 1) := dk_7 (dk_at dksX10_dump_0 11 rfl rfl)
theorem dX10_dump_12 : decode cX10_dump 12 = .ok (.iaload, 1) := dk_46 (dk_at dksX10_dump_0 12 rfl rfl)
theorem dX10_dump_13 : decode cX10_dump 13 = .ok (.iadd, 1) := dk_96 (dk_at dksX10_dump_0 13 rfl rfl)
theorem dX10_dump_14 : decode cX10_dump 14 = .ok (.aload_n 0, 1) := dk_42 (dk_at dksX10_dump_0 14 rfl rfl)
theorem dX10_dump_15 : decode cX10_dump 15 = .ok (.getfield 17, 3) := dk_180 0 17 (dk_at dksX10_dump_0 15 rfl rfl)
theorem dX10_dump_18 : decode cX10_dump 18 = .ok (.iconst 0, 1) := dk_3 (dk_at dksX10_dump_0 18 rfl rfl)
theorem dX10_dump_19 : decode cX10_dump 19 = .ok (.iaload, 1) := dk_46 (dk_at dksX10_dump_0 19 rfl rfl)
theorem dX10_dump_20 : decode cX10_dump 20 = .ok (.if_icmp .gt 7, 3) := dk_163 0 7 (dk_at dksX10_dump_0 20 rfl rfl)
theorem dX10_dump_23 : decode cX10_dump 23 = .ok (.iconst 1, 1) := dk_4 (dk_at dksX10_dump_0 23 rfl rfl)
theorem dX10_dump_24 : decode cX10_dump 24 = .ok (.goto 4, 3) := dk_167 0 4 (dk_at dksX10_dump_1 0 rfl rfl)
theorem dX10_dump_27 : decode cX10_dump 27 = .ok (.iconst 0, 1) := dk_3 (dk_at dksX10_dump_1 3 rfl rfl)
theorem dX10_dump_28 : decode cX10_dump 28 = .ok (.invokevirtual 368, 3) := dk_182 1 112 (dk_at dksX10_dump_1 4 rfl rfl)
theorem dX10_dump_31 : decode cX10_dump 31 = .ok (.ifCond .ne 5, 3) := dk_154 0 5 (dk_at dksX10_dump_1 7 rfl rfl)
theorem dX10_dump_34 : decode cX10_dump 34 = .ok (.iconst 0, 1) := dk_3 (dk_at dksX10_dump_1 10 rfl rfl)
theorem dX10_dump_35 : decode cX10_dump 35 = .ok (.ireturn, 1) := dk_172 (dk_at dksX10_dump_1 11 rfl rfl)
theorem dX10_dump_36 : decode cX10_dump 36 = .ok (.aload_n 0, 1) := dk_42 (dk_at dksX10_dump_1 12 rfl rfl)
theorem dX10_dump_37 : decode cX10_dump 37 = .ok (.invokevirtual 414, 3) := dk_182 1 158 (dk_at dksX10_dump_1 13 rfl rfl)
theorem dX10_dump_40 : decode cX10_dump 40 = .ok (.aload_n 0, 1) := dk_42 (dk_at dksX10_dump_1 16 rfl rfl)
theorem dX10_dump_41 : decode cX10_dump 41 = .ok (.getfield 23, 3) := dk_180 0 23 (dk_at dksX10_dump_1 17 rfl rfl)
theorem dX10_dump_44 : decode cX10_dump 44 = .ok (.iconst 3, 1) := dk_6 (dk_at dksX10_dump_1 20 rfl rfl)
theorem dX10_dump_45 : decode cX10_dump 45 = .ok (.iaload, 1) := dk_46 (dk_at dksX10_dump_1 21 rfl rfl)
theorem dX10_dump_46 : decode cX10_dump 46 = .ok (.istore_n 1, 1) := dk_60 (dk_at dksX10_dump_1 22 rfl rfl)
theorem dX10_dump_47 : decode cX10_dump 47 = .ok (.aload_n 0, 1) := dk_42 (dk_at dksX10_dump_1 23 rfl rfl)
theorem dX10_dump_48 : decode cX10_dump 48 = .ok (.aload_n 0, 1) := dk_42 (dk_at dksX10_dump_2 0 rfl rfl)
theorem dX10_dump_49 : decode cX10_dump 49 = .ok (.getfield 23, 3) := dk_180 0 23 (dk_at dksX10_dump_2 1 rfl rfl)
theorem dX10_dump_52 : decode cX10_dump 52 = .ok (.invokevirtual 286, 3) := dk_182 1 30 (dk_at dksX10_dump_2 4 rfl rfl)
theorem dX10_dump_55 : decode cX10_dump 55 = .ok (.iload_n 1, 1) := dk_27 (dk_at dksX10_dump_2 7 rfl rfl)
theorem dX10_dump_56 : decode cX10_dump 56 = .ok (.ireturn, 1) := dk_172 (dk_at dksX10_dump_2 8 rfl rfl)
abbrev cX10_calibrate : ByteArray := prog_22_method_145_code
def yX10_calibrate : MethodName := ⟨RX10, "calibrate", "()I"⟩
def dkwX10_calibrate_2 : List UInt8 := [182, 1, 77, 42, 180, 0, 23, 3, 46, 172]
abbrev dktX10_calibrate_2 : List UInt8 := dkwX10_calibrate_2 ++ []
def dkwX10_calibrate_1 : List UInt8 := [4, 167, 0, 4, 3, 182, 1, 112, 154, 0, 5, 3, 172, 42, 182, 1, 158, 42, 42, 180, 0, 23]
abbrev dktX10_calibrate_1 : List UInt8 := dkwX10_calibrate_1 ++ dktX10_calibrate_2
def dkwX10_calibrate_0 : List UInt8 := [42, 42, 180, 0, 23, 3, 46, 42, 180, 0, 17, 16, 6, 46, 96, 42, 180, 0, 17, 3, 46, 163, 0, 7]
abbrev dktX10_calibrate_0 : List UInt8 := dkwX10_calibrate_0 ++ dktX10_calibrate_1
theorem dksX10_calibrate_0 : cX10_calibrate.data.toList.drop 0 = dktX10_calibrate_0 := by decide +kernel
theorem dksX10_calibrate_1 : cX10_calibrate.data.toList.drop 24 = dktX10_calibrate_1 := dk_seg dksX10_calibrate_0 24 rfl rfl
theorem dksX10_calibrate_2 : cX10_calibrate.data.toList.drop 46 = dktX10_calibrate_2 := dk_seg dksX10_calibrate_1 22 rfl rfl
theorem dX10_calibrate_0 : decode cX10_calibrate 0 = .ok (.aload_n 0, 1) := dk_42 (dk_at dksX10_calibrate_0 0 rfl rfl)
theorem dX10_calibrate_1 : decode cX10_calibrate 1 = .ok (.aload_n 0, 1) := dk_42 (dk_at dksX10_calibrate_0 1 rfl rfl)
theorem dX10_calibrate_2 : decode cX10_calibrate 2 = .ok (.getfield 23, 3) := dk_180 0 23 (dk_at dksX10_calibrate_0 2 rfl rfl)
theorem dX10_calibrate_5 : decode cX10_calibrate 5 = .ok (.iconst 0, 1) := dk_3 (dk_at dksX10_calibrate_0 5 rfl rfl)
theorem dX10_calibrate_6 : decode cX10_calibrate 6 = .ok (.iaload, 1) := dk_46 (dk_at dksX10_calibrate_0 6 rfl rfl)
theorem dX10_calibrate_7 : decode cX10_calibrate 7 = .ok (.aload_n 0, 1) := dk_42 (dk_at dksX10_calibrate_0 7 rfl rfl)
theorem dX10_calibrate_8 : decode cX10_calibrate 8 = .ok (.getfield 17, 3) := dk_180 0 17 (dk_at dksX10_calibrate_0 8 rfl rfl)
theorem dX10_calibrate_11 : decode cX10_calibrate 11 = .ok (.bipush 6, 2) := dk_16 6 (dk_at dksX10_calibrate_0 11 rfl rfl)
theorem dX10_calibrate_13 : decode cX10_calibrate 13 = .ok (.iaload, 1) := dk_46 (dk_at dksX10_calibrate_0 13 rfl rfl)
theorem dX10_calibrate_14 : decode cX10_calibrate 14 = .ok (.iadd, 1) := dk_96 (dk_at dksX10_calibrate_0 14 rfl rfl)
theorem dX10_calibrate_15 : decode cX10_calibrate 15 = .ok (.aload_n 0, 1) := dk_42 (dk_at dksX10_calibrate_0 15 rfl rfl)
theorem dX10_calibrate_16 : decode cX10_calibrate 16 = .ok (.getfield 17, 3) := dk_180 0 17 (dk_at dksX10_calibrate_0 16 rfl rfl)
theorem dX10_calibrate_19 : decode cX10_calibrate 19 = .ok (.iconst 0, 1) := dk_3 (dk_at dksX10_calibrate_0 19 rfl rfl)
theorem dX10_calibrate_20 : decode cX10_calibrate 20 = .ok (.iaload, 1) := dk_46 (dk_at dksX10_calibrate_0 20 rfl rfl)
theorem dX10_calibrate_21 : decode cX10_calibrate 21 = .ok (.if_icmp .gt 7, 3) := dk_163 0 7 (dk_at dksX10_calibrate_0 21 rfl rfl)
theorem dX10_calibrate_24 : decode cX10_calibrate 24 = .ok (.iconst 1, 1) := dk_4 (dk_at dksX10_calibrate_1 0 rfl rfl)
theorem dX10_calibrate_25 : decode cX10_calibrate 25 = .ok (.goto 4, 3) := dk_167 0 4 (dk_at dksX10_calibrate_1 1 rfl rfl)
theorem dX10_calibrate_28 : decode cX10_calibrate 28 = .ok (.iconst 0, 1) := dk_3 (dk_at dksX10_calibrate_1 4 rfl rfl)
theorem dX10_calibrate_29 : decode cX10_calibrate 29 = .ok (.invokevirtual 368, 3) := dk_182 1 112 (dk_at dksX10_calibrate_1 5 rfl rfl)
theorem dX10_calibrate_32 : decode cX10_calibrate 32 = .ok (.ifCond .ne 5, 3) := dk_154 0 5 (dk_at dksX10_calibrate_1 8 rfl rfl)
theorem dX10_calibrate_35 : decode cX10_calibrate 35 = .ok (.iconst 0, 1) := dk_3 (dk_at dksX10_calibrate_1 11 rfl rfl)
theorem dX10_calibrate_36 : decode cX10_calibrate 36 = .ok (.ireturn, 1) := dk_172 (dk_at dksX10_calibrate_1 12 rfl rfl)
theorem dX10_calibrate_37 : decode cX10_calibrate 37 = .ok (.aload_n 0, 1) := dk_42 (dk_at dksX10_calibrate_1 13 rfl rfl)
theorem dX10_calibrate_38 : decode cX10_calibrate 38 = .ok (.invokevirtual 414, 3) := dk_182 1 158 (dk_at dksX10_calibrate_1 14 rfl rfl)
theorem dX10_calibrate_41 : decode cX10_calibrate 41 = .ok (.aload_n 0, 1) := dk_42 (dk_at dksX10_calibrate_1 17 rfl rfl)
theorem dX10_calibrate_42 : decode cX10_calibrate 42 = .ok (.aload_n 0, 1) := dk_42 (dk_at dksX10_calibrate_1 18 rfl rfl)
theorem dX10_calibrate_43 : decode cX10_calibrate 43 = .ok (.getfield 23, 3) := dk_180 0 23 (dk_at dksX10_calibrate_1 19 rfl rfl)
theorem dX10_calibrate_46 : decode cX10_calibrate 46 = .ok (.invokevirtual 333, 3) := dk_182 1 77 (dk_at dksX10_calibrate_2 0 rfl rfl)
theorem dX10_calibrate_49 : decode cX10_calibrate 49 = .ok (.aload_n 0, 1) := dk_42 (dk_at dksX10_calibrate_2 3 rfl rfl)
theorem dX10_calibrate_50 : decode cX10_calibrate 50 = .ok (.getfield 23, 3) := dk_180 0 23 (dk_at dksX10_calibrate_2 4 rfl rfl)
theorem dX10_calibrate_53 : decode cX10_calibrate 53 = .ok (.iconst 0, 1) := dk_3 (dk_at dksX10_calibrate_2 7 rfl rfl)
theorem dX10_calibrate_54 : decode cX10_calibrate 54 = .ok (.iaload, 1) := dk_46 (dk_at dksX10_calibrate_2 8 rfl rfl)
theorem dX10_calibrate_55 : decode cX10_calibrate 55 = .ok (.ireturn, 1) := dk_172 (dk_at dksX10_calibrate_2 9 rfl rfl)
abbrev cX10_addAlert : ByteArray := prog_22_method_146_code
def yX10_addAlert : MethodName := ⟨RX10, "addAlert", "(IIIIII)I"⟩
def dkwX10_addAlert_9 : List UInt8 := [180, 0, 23, 16, 14, 92, 46, 4, 96, 79, 21, 8, 172]
abbrev dktX10_addAlert_9 : List UInt8 := dkwX10_addAlert_9 ++ []
def dkwX10_addAlert_8 : List UInt8 := [180, 0, 23, 21, 9, 16, 7, 96, 3, 79, 42, 180, 0, 23, 21, 9, 16, 8, 96, 2, 79, 42]
abbrev dktX10_addAlert_8 : List UInt8 := dkwX10_addAlert_8 ++ dktX10_addAlert_9
def dkwX10_addAlert_7 : List UInt8 := [180, 0, 23, 21, 9, 8, 96, 21, 5, 79, 42, 180, 0, 23, 21, 9, 16, 6, 96, 21, 6, 79, 42]
abbrev dktX10_addAlert_7 : List UInt8 := dkwX10_addAlert_7 ++ dktX10_addAlert_8
def dkwX10_addAlert_6 : List UInt8 := [42, 180, 0, 23, 21, 9, 6, 96, 29, 79, 42, 180, 0, 23, 21, 9, 7, 96, 21, 4, 79, 42]
abbrev dktX10_addAlert_6 : List UInt8 := dkwX10_addAlert_6 ++ dktX10_addAlert_7
def dkwX10_addAlert_5 : List UInt8 := [180, 0, 23, 21, 9, 4, 96, 42, 180, 0, 23, 3, 46, 79, 42, 180, 0, 23, 21, 9, 5, 96, 28, 79]
abbrev dktX10_addAlert_5 : List UInt8 := dkwX10_addAlert_5 ++ dktX10_addAlert_6
def dkwX10_addAlert_4 : List UInt8 := [46, 54, 8, 16, 127, 16, 10, 21, 8, 104, 96, 54, 9, 42, 180, 0, 23, 21, 9, 3, 96, 27, 79, 42]
abbrev dktX10_addAlert_4 : List UInt8 := dkwX10_addAlert_4 ++ dktX10_addAlert_5
def dkwX10_addAlert_3 : List UInt8 := [27, 182, 1, 102, 21, 7, 182, 1, 105, 154, 0, 5, 3, 172, 42, 182, 1, 158, 42, 180, 0, 23, 16, 14]
abbrev dktX10_addAlert_3 : List UInt8 := dkwX10_addAlert_3 ++ dktX10_addAlert_4
def dkwX10_addAlert_2 : List UInt8 := [153, 0, 19, 42, 180, 0, 23, 16, 14, 46, 16, 10, 162, 0, 7, 4, 167, 0, 4, 3, 54, 7, 42, 42]
abbrev dktX10_addAlert_2 : List UInt8 := dkwX10_addAlert_2 ++ dktX10_addAlert_3
def dkwX10_addAlert_1 : List UInt8 := [153, 0, 42, 21, 5, 3, 16, 99, 184, 0, 74, 153, 0, 31, 21, 6, 3, 17, 3, 231, 184, 0, 74]
abbrev dktX10_addAlert_1 : List UInt8 := dkwX10_addAlert_1 ++ dktX10_addAlert_2
def dkwX10_addAlert_0 : List UInt8 := [28, 184, 1, 125, 153, 0, 61, 29, 184, 1, 128, 153, 0, 54, 21, 4, 4, 17, 1, 44, 184, 0, 74]
abbrev dktX10_addAlert_0 : List UInt8 := dkwX10_addAlert_0 ++ dktX10_addAlert_1
theorem dksX10_addAlert_0 : cX10_addAlert.data.toList.drop 0 = dktX10_addAlert_0 := by decide +kernel
theorem dksX10_addAlert_1 : cX10_addAlert.data.toList.drop 23 = dktX10_addAlert_1 := dk_seg dksX10_addAlert_0 23 rfl rfl
theorem dksX10_addAlert_2 : cX10_addAlert.data.toList.drop 46 = dktX10_addAlert_2 := dk_seg dksX10_addAlert_1 23 rfl rfl
theorem dksX10_addAlert_3 : cX10_addAlert.data.toList.drop 70 = dktX10_addAlert_3 := dk_seg dksX10_addAlert_2 24 rfl rfl
theorem dksX10_addAlert_4 : cX10_addAlert.data.toList.drop 94 = dktX10_addAlert_4 := dk_seg dksX10_addAlert_3 24 rfl rfl
theorem dksX10_addAlert_5 : cX10_addAlert.data.toList.drop 118 = dktX10_addAlert_5 := dk_seg dksX10_addAlert_4 24 rfl rfl
theorem dksX10_addAlert_6 : cX10_addAlert.data.toList.drop 142 = dktX10_addAlert_6 := dk_seg dksX10_addAlert_5 24 rfl rfl
theorem dksX10_addAlert_7 : cX10_addAlert.data.toList.drop 164 = dktX10_addAlert_7 := dk_seg dksX10_addAlert_6 22 rfl rfl
theorem dksX10_addAlert_8 : cX10_addAlert.data.toList.drop 187 = dktX10_addAlert_8 := dk_seg dksX10_addAlert_7 23 rfl rfl
theorem dksX10_addAlert_9 : cX10_addAlert.data.toList.drop 209 = dktX10_addAlert_9 := dk_seg dksX10_addAlert_8 22 rfl rfl
theorem dX10_addAlert_0 : decode cX10_addAlert 0 = .ok (.iload_n 2, 1) := dk_28 (dk_at dksX10_addAlert_0 0 rfl rfl)
theorem dX10_addAlert_1 : decode cX10_addAlert 1 = .ok (.invokestatic 381, 3) := dk_184 1 125 (dk_at dksX10_addAlert_0 1 rfl rfl)
theorem dX10_addAlert_4 : decode cX10_addAlert 4 = .ok (.ifCond .eq 61, 3) := dk_153 0 61 (dk_at dksX10_addAlert_0 4 rfl rfl)
theorem dX10_addAlert_7 : decode cX10_addAlert 7 = .ok (.iload_n 3, 1) := dk_29 (dk_at dksX10_addAlert_0 7 rfl rfl)
theorem dX10_addAlert_8 : decode cX10_addAlert 8 = .ok (.invokestatic 384, 3) := dk_184 1 128 (dk_at dksX10_addAlert_0 8 rfl rfl)
theorem dX10_addAlert_11 : decode cX10_addAlert 11 = .ok (.ifCond .eq 54, 3) := dk_153 0 54 (dk_at dksX10_addAlert_0 11 rfl rfl)
theorem dX10_addAlert_14 : decode cX10_addAlert 14 = .ok (.iload 4, 2) := dk_21 4 (dk_at dksX10_addAlert_0 14 rfl rfl)
theorem dX10_addAlert_16 : decode cX10_addAlert 16 = .ok (.iconst 1, 1) := dk_4 (dk_at dksX10_addAlert_0 16 rfl rfl)
theorem dX10_addAlert_17 : decode cX10_addAlert 17 = .ok (.sipush 300, 3) := dk_17 1 44 (dk_at dksX10_addAlert_0 17 rfl rfl)
theorem dX10_addAlert_20 : decode cX10_addAlert 20 = .ok (.invokestatic 74, 3) := dk_184 0 74 (dk_at dksX10_addAlert_0 20 rfl rfl)
theorem dX10_addAlert_23 : decode cX10_addAlert 23 = .ok (.ifCond .eq 42, 3) := dk_153 0 42 (dk_at dksX10_addAlert_1 0 rfl rfl)
theorem dX10_addAlert_26 : decode cX10_addAlert 26 = .ok (.iload 5, 2) := dk_21 5 (dk_at dksX10_addAlert_1 3 rfl rfl)
theorem dX10_addAlert_28 : decode cX10_addAlert 28 = .ok (.iconst 0, 1) := dk_3 (dk_at dksX10_addAlert_1 5 rfl rfl)
theorem dX10_addAlert_29 : decode cX10_addAlert 29 = .ok (.bipush 99, 2) := dk_16 99 (dk_at dksX10_addAlert_1 6 rfl rfl)
theorem dX10_addAlert_31 : decode cX10_addAlert 31 = .ok (.invokestatic 74, 3) := dk_184 0 74 (dk_at dksX10_addAlert_1 8 rfl rfl)
theorem dX10_addAlert_34 : decode cX10_addAlert 34 = .ok (.ifCond .eq 31, 3) := dk_153 0 31 (dk_at dksX10_addAlert_1 11 rfl rfl)
theorem dX10_addAlert_37 : decode cX10_addAlert 37 = .ok (.iload 6, 2) := dk_21 6 (dk_at dksX10_addAlert_1 14 rfl rfl)
theorem dX10_addAlert_39 : decode cX10_addAlert 39 = .ok (.iconst 0, 1) := dk_3 (dk_at dksX10_addAlert_1 16 rfl rfl)
theorem dX10_addAlert_40 : decode cX10_addAlert 40 = .ok (.sipush 999, 3) := dk_17 3 231 (dk_at dksX10_addAlert_1 17 rfl rfl)
theorem dX10_addAlert_43 : decode cX10_addAlert 43 = .ok (.invokestatic 74, 3) := dk_184 0 74 (dk_at dksX10_addAlert_1 20 rfl rfl)
theorem dX10_addAlert_46 : decode cX10_addAlert 46 = .ok (.ifCond .eq 19, 3) := dk_153 0 19 (dk_at dksX10_addAlert_2 0 rfl rfl)
theorem dX10_addAlert_49 : decode cX10_addAlert 49 = .ok (.aload_n 0, 1) := dk_42 (dk_at dksX10_addAlert_2 3 rfl rfl)
theorem dX10_addAlert_50 : decode cX10_addAlert 50 = .ok (.getfield 23, 3) := dk_180 0 23 (dk_at dksX10_addAlert_2 4 rfl rfl)
theorem dX10_addAlert_53 : decode cX10_addAlert 53 = .ok (.bipush 14, 2) := dk_16 14 (dk_at dksX10_addAlert_2 7 rfl rfl)
theorem dX10_addAlert_55 : decode cX10_addAlert 55 = .ok (.iaload, 1) := dk_46 (dk_at dksX10_addAlert_2 9 rfl rfl)
theorem dX10_addAlert_56 : decode cX10_addAlert 56 = .ok (.bipush 10, 2) := dk_16 10 (dk_at dksX10_addAlert_2 10 rfl rfl)
theorem dX10_addAlert_58 : decode cX10_addAlert 58 = .ok (.if_icmp .ge 7, 3) := dk_162 0 7 (dk_at dksX10_addAlert_2 12 rfl rfl)
theorem dX10_addAlert_61 : decode cX10_addAlert 61 = .ok (.iconst 1, 1) := dk_4 (dk_at dksX10_addAlert_2 15 rfl rfl)
theorem dX10_addAlert_62 : decode cX10_addAlert 62 = .ok (.goto 4, 3) := dk_167 0 4 (dk_at dksX10_addAlert_2 16 rfl rfl)
theorem dX10_addAlert_65 : decode cX10_addAlert 65 = .ok (.iconst 0, 1) := dk_3 (dk_at dksX10_addAlert_2 19 rfl rfl)
theorem dX10_addAlert_66 : decode cX10_addAlert 66 = .ok (.istore 7, 2) := dk_54 7 (dk_at dksX10_addAlert_2 20 rfl rfl)
theorem dX10_addAlert_68 : decode cX10_addAlert 68 = .ok (.aload_n 0, 1) := dk_42 (dk_at dksX10_addAlert_2 22 rfl rfl)
theorem dX10_addAlert_69 : decode cX10_addAlert 69 = .ok (.aload_n 0, 1) := dk_42 (dk_at dksX10_addAlert_2 23 rfl rfl)
theorem dX10_addAlert_70 : decode cX10_addAlert 70 = .ok (.iload_n 1, 1) := dk_27 (dk_at dksX10_addAlert_3 0 rfl rfl)
theorem dX10_addAlert_71 : decode cX10_addAlert 71 = .ok (.invokevirtual 358, 3) := dk_182 1 102 (dk_at dksX10_addAlert_3 1 rfl rfl)
theorem dX10_addAlert_74 : decode cX10_addAlert 74 = .ok (.iload 7, 2) := dk_21 7 (dk_at dksX10_addAlert_3 4 rfl rfl)
theorem dX10_addAlert_76 : decode cX10_addAlert 76 = .ok (.invokevirtual 361, 3) := dk_182 1 105 (dk_at dksX10_addAlert_3 6 rfl rfl)
theorem dX10_addAlert_79 : decode cX10_addAlert 79 = .ok (.ifCond .ne 5, 3) := dk_154 0 5 (dk_at dksX10_addAlert_3 9 rfl rfl)
theorem dX10_addAlert_82 : decode cX10_addAlert 82 = .ok (.iconst 0, 1) := dk_3 (dk_at dksX10_addAlert_3 12 rfl rfl)
theorem dX10_addAlert_83 : decode cX10_addAlert 83 = .ok (.ireturn, 1) := dk_172 (dk_at dksX10_addAlert_3 13 rfl rfl)
theorem dX10_addAlert_84 : decode cX10_addAlert 84 = .ok (.aload_n 0, 1) := dk_42 (dk_at dksX10_addAlert_3 14 rfl rfl)
theorem dX10_addAlert_85 : decode cX10_addAlert 85 = .ok (.invokevirtual 414, 3) := dk_182 1 158 (dk_at dksX10_addAlert_3 15 rfl rfl)
theorem dX10_addAlert_88 : decode cX10_addAlert 88 = .ok (.aload_n 0, 1) := dk_42 (dk_at dksX10_addAlert_3 18 rfl rfl)
theorem dX10_addAlert_89 : decode cX10_addAlert 89 = .ok (.getfield 23, 3) := dk_180 0 23 (dk_at dksX10_addAlert_3 19 rfl rfl)
theorem dX10_addAlert_92 : decode cX10_addAlert 92 = .ok (.bipush 14, 2) := dk_16 14 (dk_at dksX10_addAlert_3 22 rfl rfl)
theorem dX10_addAlert_94 : decode cX10_addAlert 94 = .ok (.iaload, 1) := dk_46 (dk_at dksX10_addAlert_4 0 rfl rfl)
theorem dX10_addAlert_95 : decode cX10_addAlert 95 = .ok (.istore 8, 2) := dk_54 8 (dk_at dksX10_addAlert_4 1 rfl rfl)
theorem dX10_addAlert_97 : decode cX10_addAlert 97 = .ok (.bipush 127, 2) := dk_16 127 (dk_at dksX10_addAlert_4 3 rfl rfl)
theorem dX10_addAlert_99 : decode cX10_addAlert 99 = .ok (.bipush 10, 2) := dk_16 10 (dk_at dksX10_addAlert_4 5 rfl rfl)
theorem dX10_addAlert_101 : decode cX10_addAlert 101 = .ok (.iload 8, 2) := dk_21 8 (dk_at dksX10_addAlert_4 7 rfl rfl)
theorem dX10_addAlert_103 : decode cX10_addAlert 103 = .ok (.imul, 1) := dk_104 (dk_at dksX10_addAlert_4 9 rfl rfl)
theorem dX10_addAlert_104 : decode cX10_addAlert 104 = .ok (.iadd, 1) := dk_96 (dk_at dksX10_addAlert_4 10 rfl rfl)
theorem dX10_addAlert_105 : decode cX10_addAlert 105 = .ok (.istore 9, 2) := dk_54 9 (dk_at dksX10_addAlert_4 11 rfl rfl)
theorem dX10_addAlert_107 : decode cX10_addAlert 107 = .ok (.aload_n 0, 1) := dk_42 (dk_at dksX10_addAlert_4 13 rfl rfl)
theorem dX10_addAlert_108 : decode cX10_addAlert 108 = .ok (.getfield 23, 3) := dk_180 0 23 (dk_at dksX10_addAlert_4 14 rfl rfl)
theorem dX10_addAlert_111 : decode cX10_addAlert 111 = .ok (.iload 9, 2) := dk_21 9 (dk_at dksX10_addAlert_4 17 rfl rfl)
theorem dX10_addAlert_113 : decode cX10_addAlert 113 = .ok (.iconst 0, 1) := dk_3 (dk_at dksX10_addAlert_4 19 rfl rfl)
theorem dX10_addAlert_114 : decode cX10_addAlert 114 = .ok (.iadd, 1) := dk_96 (dk_at dksX10_addAlert_4 20 rfl rfl)
theorem dX10_addAlert_115 : decode cX10_addAlert 115 = .ok (.iload_n 1, 1) := dk_27 (dk_at dksX10_addAlert_4 21 rfl rfl)
theorem dX10_addAlert_116 : decode cX10_addAlert 116 = .ok (.iastore, 1) := dk_79 (dk_at dksX10_addAlert_4 22 rfl rfl)
theorem dX10_addAlert_117 : decode cX10_addAlert 117 = .ok (.aload_n 0, 1) := dk_42 (dk_at dksX10_addAlert_4 23 rfl rfl)
theorem dX10_addAlert_118 : decode cX10_addAlert 118 = .ok (.getfield 23, 3) := dk_180 0 23 (dk_at dksX10_addAlert_5 0 rfl rfl)
theorem dX10_addAlert_121 : decode cX10_addAlert 121 = .ok (.iload 9, 2) := dk_21 9 (dk_at dksX10_addAlert_5 3 rfl rfl)
theorem dX10_addAlert_123 : decode cX10_addAlert 123 = .ok (.iconst 1, 1) := dk_4 (dk_at dksX10_addAlert_5 5 rfl rfl)
theorem dX10_addAlert_124 : decode cX10_addAlert 124 = .ok (.iadd, 1) := dk_96 (dk_at dksX10_addAlert_5 6 rfl rfl)
theorem dX10_addAlert_125 : decode cX10_addAlert 125 = .ok (.aload_n 0, 1) := dk_42 (dk_at dksX10_addAlert_5 7 rfl rfl)
theorem dX10_addAlert_126 : decode cX10_addAlert 126 = .ok (.getfield 23, 3) := dk_180 0 23 (dk_at dksX10_addAlert_5 8 rfl rfl)
theorem dX10_addAlert_129 : decode cX10_addAlert 129 = .ok (.iconst 0, 1) := dk_3 (dk_at dksX10_addAlert_5 11 rfl rfl)
theorem dX10_addAlert_130 : decode cX10_addAlert 130 = .ok (.iaload, 1) := dk_46 (dk_at dksX10_addAlert_5 12 rfl rfl)
theorem dX10_addAlert_131 : decode cX10_addAlert 131 = .ok (.iastore, 1) := dk_79 (dk_at dksX10_addAlert_5 13 rfl rfl)
theorem dX10_addAlert_132 : decode cX10_addAlert 132 = .ok (.aload_n 0, 1) := dk_42 (dk_at dksX10_addAlert_5 14 rfl rfl)
theorem dX10_addAlert_133 : decode cX10_addAlert 133 = .ok (.getfield 23, 3) := dk_180 0 23 (dk_at dksX10_addAlert_5 15 rfl rfl)
theorem dX10_addAlert_136 : decode cX10_addAlert 136 = .ok (.iload 9, 2) := dk_21 9 (dk_at dksX10_addAlert_5 18 rfl rfl)
theorem dX10_addAlert_138 : decode cX10_addAlert 138 = .ok (.iconst 2, 1) := dk_5 (dk_at dksX10_addAlert_5 20 rfl rfl)
theorem dX10_addAlert_139 : decode cX10_addAlert 139 = .ok (.iadd, 1) := dk_96 (dk_at dksX10_addAlert_5 21 rfl rfl)
theorem dX10_addAlert_140 : decode cX10_addAlert 140 = .ok (.iload_n 2, 1) := dk_28 (dk_at dksX10_addAlert_5 22 rfl rfl)
theorem dX10_addAlert_141 : decode cX10_addAlert 141 = .ok (.iastore, 1) := dk_79 (dk_at dksX10_addAlert_5 23 rfl rfl)
theorem dX10_addAlert_142 : decode cX10_addAlert 142 = .ok (.aload_n 0, 1) := dk_42 (dk_at dksX10_addAlert_6 0 rfl rfl)
theorem dX10_addAlert_143 : decode cX10_addAlert 143 = .ok (.getfield 23, 3) := dk_180 0 23 (dk_at dksX10_addAlert_6 1 rfl rfl)
theorem dX10_addAlert_146 : decode cX10_addAlert 146 = .ok (.iload 9, 2) := dk_21 9 (dk_at dksX10_addAlert_6 4 rfl rfl)
theorem dX10_addAlert_148 : decode cX10_addAlert 148 = .ok (.iconst 3, 1) := dk_6 (dk_at dksX10_addAlert_6 6 rfl rfl)
theorem dX10_addAlert_149 : decode cX10_addAlert 149 = .ok (.iadd, 1) := dk_96 (dk_at dksX10_addAlert_6 7 rfl rfl)
theorem dX10_addAlert_150 : decode cX10_addAlert 150 = .ok (.iload_n 3, 1) := dk_29 (dk_at dksX10_addAlert_6 8 rfl rfl)
theorem dX10_addAlert_151 : decode cX10_addAlert 151 = .ok (.iastore, 1) := dk_79 (dk_at dksX10_addAlert_6 9 rfl rfl)
theorem dX10_addAlert_152 : decode cX10_addAlert 152 = .ok (.aload_n 0, 1) := dk_42 (dk_at dksX10_addAlert_6 10 rfl rfl)
theorem dX10_addAlert_153 : decode cX10_addAlert 153 = .ok (.getfield 23, 3) := dk_180 0 23 (dk_at dksX10_addAlert_6 11 rfl rfl)
theorem dX10_addAlert_156 : decode cX10_addAlert 156 = .ok (.iload 9, 2) := dk_21 9 (dk_at dksX10_addAlert_6 14 rfl rfl)
theorem dX10_addAlert_158 : decode cX10_addAlert 158 = .ok (.iconst 4, 1) := dk_7 (dk_at dksX10_addAlert_6 16 rfl rfl)
theorem dX10_addAlert_159 : decode cX10_addAlert 159 = .ok (.iadd, 1) := dk_96 (dk_at dksX10_addAlert_6 17 rfl rfl)
theorem dX10_addAlert_160 : decode cX10_addAlert 160 = .ok (.iload 4, 2) := dk_21 4 (dk_at dksX10_addAlert_6 18 rfl rfl)
theorem dX10_addAlert_162 : decode cX10_addAlert 162 = .ok (.iastore, 1) := dk_79 (dk_at dksX10_addAlert_6 20 rfl rfl)
theorem dX10_addAlert_163 : decode cX10_addAlert 163 = .ok (.aload_n 0, 1) := dk_42 (dk_at dksX10_addAlert_6 21 rfl rfl)
theorem dX10_addAlert_164 : decode cX10_addAlert 164 = .ok (.getfield 23, 3) := dk_180 0 23 (dk_at dksX10_addAlert_7 0 rfl rfl)
theorem dX10_addAlert_167 : decode cX10_addAlert 167 = .ok (.iload 9, 2) := dk_21 9 (dk_at dksX10_addAlert_7 3 rfl rfl)
theorem dX10_addAlert_169 : decode cX10_addAlert 169 = .ok (.iconst 5, 1) := dk_8 (dk_at dksX10_addAlert_7 5 rfl rfl)
theorem dX10_addAlert_170 : decode cX10_addAlert 170 = .ok (.iadd, 1) := dk_96 (dk_at dksX10_addAlert_7 6 rfl rfl)
theorem dX10_addAlert_171 : decode cX10_addAlert 171 = .ok (.iload 5, 2) := dk_21 5 (dk_at dksX10_addAlert_7 7 rfl rfl)
theorem dX10_addAlert_173 : decode cX10_addAlert 173 = .ok (.iastore, 1) := dk_79 (dk_at dksX10_addAlert_7 9 rfl rfl)
theorem dX10_addAlert_174 : decode cX10_addAlert 174 = .ok (.aload_n 0, 1) := dk_42 (dk_at dksX10_addAlert_7 10 rfl rfl)
theorem dX10_addAlert_175 : decode cX10_addAlert 175 = .ok (.getfield 23, 3) := dk_180 0 23 (dk_at dksX10_addAlert_7 11 rfl rfl)
theorem dX10_addAlert_178 : decode cX10_addAlert 178 = .ok (.iload 9, 2) := dk_21 9 (dk_at dksX10_addAlert_7 14 rfl rfl)
theorem dX10_addAlert_180 : decode cX10_addAlert 180 = .ok (.bipush 6, 2) := dk_16 6 (dk_at dksX10_addAlert_7 16 rfl rfl)
theorem dX10_addAlert_182 : decode cX10_addAlert 182 = .ok (.iadd, 1) := dk_96 (dk_at dksX10_addAlert_7 18 rfl rfl)
theorem dX10_addAlert_183 : decode cX10_addAlert 183 = .ok (.iload 6, 2) := dk_21 6 (dk_at dksX10_addAlert_7 19 rfl rfl)
theorem dX10_addAlert_185 : decode cX10_addAlert 185 = .ok (.iastore, 1) := dk_79 (dk_at dksX10_addAlert_7 21 rfl rfl)
theorem dX10_addAlert_186 : decode cX10_addAlert 186 = .ok (.aload_n 0, 1) := dk_42 (dk_at dksX10_addAlert_7 22 rfl rfl)
theorem dX10_addAlert_187 : decode cX10_addAlert 187 = .ok (.getfield 23, 3) := dk_180 0 23 (dk_at dksX10_addAlert_8 0 rfl rfl)
theorem dX10_addAlert_190 : decode cX10_addAlert 190 = .ok (.iload 9, 2) := dk_21 9 (dk_at dksX10_addAlert_8 3 rfl rfl)
theorem dX10_addAlert_192 : decode cX10_addAlert 192 = .ok (.bipush 7, 2) := dk_16 7 (dk_at dksX10_addAlert_8 5 rfl rfl)
theorem dX10_addAlert_194 : decode cX10_addAlert 194 = .ok (.iadd, 1) := dk_96 (dk_at dksX10_addAlert_8 7 rfl rfl)
theorem dX10_addAlert_195 : decode cX10_addAlert 195 = .ok (.iconst 0, 1) := dk_3 (dk_at dksX10_addAlert_8 8 rfl rfl)
theorem dX10_addAlert_196 : decode cX10_addAlert 196 = .ok (.iastore, 1) := dk_79 (dk_at dksX10_addAlert_8 9 rfl rfl)
theorem dX10_addAlert_197 : decode cX10_addAlert 197 = .ok (.aload_n 0, 1) := dk_42 (dk_at dksX10_addAlert_8 10 rfl rfl)
theorem dX10_addAlert_198 : decode cX10_addAlert 198 = .ok (.getfield 23, 3) := dk_180 0 23 (dk_at dksX10_addAlert_8 11 rfl rfl)
theorem dX10_addAlert_201 : decode cX10_addAlert 201 = .ok (.iload 9, 2) := dk_21 9 (dk_at dksX10_addAlert_8 14 rfl rfl)
theorem dX10_addAlert_203 : decode cX10_addAlert 203 = .ok (.bipush 8, 2) := dk_16 8 (dk_at dksX10_addAlert_8 16 rfl rfl)
theorem dX10_addAlert_205 : decode cX10_addAlert 205 = .ok (.iadd, 1) := dk_96 (dk_at dksX10_addAlert_8 18 rfl rfl)
theorem dX10_addAlert_206 : decode cX10_addAlert 206 = .ok (.iconst (-1), 1) := dk_2 (dk_at dksX10_addAlert_8 19 rfl rfl)
theorem dX10_addAlert_207 : decode cX10_addAlert 207 = .ok (.iastore, 1) := dk_79 (dk_at dksX10_addAlert_8 20 rfl rfl)
theorem dX10_addAlert_208 : decode cX10_addAlert 208 = .ok (.aload_n 0, 1) := dk_42 (dk_at dksX10_addAlert_8 21 rfl rfl)
theorem dX10_addAlert_209 : decode cX10_addAlert 209 = .ok (.getfield 23, 3) := dk_180 0 23 (dk_at dksX10_addAlert_9 0 rfl rfl)
theorem dX10_addAlert_212 : decode cX10_addAlert 212 = .ok (.bipush 14, 2) := dk_16 14 (dk_at dksX10_addAlert_9 3 rfl rfl)
theorem dX10_addAlert_214 : decode cX10_addAlert 214 = .ok (.dup2, 1) := dk_92 (dk_at dksX10_addAlert_9 5 rfl rfl)
theorem dX10_addAlert_215 : decode cX10_addAlert 215 = .ok (.iaload, 1) := dk_46 (dk_at dksX10_addAlert_9 6 rfl rfl)
theorem dX10_addAlert_216 : decode cX10_addAlert 216 = .ok (.iconst 1, 1) := dk_4 (dk_at dksX10_addAlert_9 7 rfl rfl)
theorem dX10_addAlert_217 : decode cX10_addAlert 217 = .ok (.iadd, 1) := dk_96 (dk_at dksX10_addAlert_9 8 rfl rfl)
theorem dX10_addAlert_218 : decode cX10_addAlert 218 = .ok (.iastore, 1) := dk_79 (dk_at dksX10_addAlert_9 9 rfl rfl)
theorem dX10_addAlert_219 : decode cX10_addAlert 219 = .ok (.iload 8, 2) := dk_21 8 (dk_at dksX10_addAlert_9 10 rfl rfl)
theorem dX10_addAlert_221 : decode cX10_addAlert 221 = .ok (.ireturn, 1) := dk_172 (dk_at dksX10_addAlert_9 12 rfl rfl)
abbrev cX10_undo : ByteArray := prog_22_method_147_code
def yX10_undo : MethodName := ⟨RX10, "undo", "()I"⟩
def dkwX10_undo_2 : List UInt8 := [180, 0, 23, 3, 184, 0, 189, 42, 180, 0, 197, 172]
abbrev dktX10_undo_2 : List UInt8 := dkwX10_undo_2 ++ []
def dkwX10_undo_1 : List UInt8 := [172, 42, 89, 180, 0, 197, 4, 100, 181, 0, 197, 42, 180, 0, 32, 17, 2, 115, 42, 180, 0, 197, 104, 42]
abbrev dktX10_undo_1 : List UInt8 := dkwX10_undo_1 ++ dktX10_undo_2
def dkwX10_undo_0 : List UInt8 := [42, 42, 180, 0, 197, 154, 0, 7, 4, 167, 0, 4, 3, 181, 0, 45, 42, 180, 0, 45, 158, 0, 5, 3]
abbrev dktX10_undo_0 : List UInt8 := dkwX10_undo_0 ++ dktX10_undo_1
theorem dksX10_undo_0 : cX10_undo.data.toList.drop 0 = dktX10_undo_0 := by decide +kernel
theorem dksX10_undo_1 : cX10_undo.data.toList.drop 24 = dktX10_undo_1 := dk_seg dksX10_undo_0 24 rfl rfl
theorem dksX10_undo_2 : cX10_undo.data.toList.drop 48 = dktX10_undo_2 := dk_seg dksX10_undo_1 24 rfl rfl
theorem dX10_undo_0 : decode cX10_undo 0 = .ok (.aload_n 0, 1) := dk_42 (dk_at dksX10_undo_0 0 rfl rfl)
theorem dX10_undo_1 : decode cX10_undo 1 = .ok (.aload_n 0, 1) := dk_42 (dk_at dksX10_undo_0 1 rfl rfl)
theorem dX10_undo_2 : decode cX10_undo 2 = .ok (.getfield 197, 3) := dk_180 0 197 (dk_at dksX10_undo_0 2 rfl rfl)
theorem dX10_undo_5 : decode cX10_undo 5 = .ok (.ifCond .ne 7, 3) := dk_154 0 7 (dk_at dksX10_undo_0 5 rfl rfl)
theorem dX10_undo_8 : decode cX10_undo 8 = .ok (.iconst 1, 1) := dk_4 (dk_at dksX10_undo_0 8 rfl rfl)
theorem dX10_undo_9 : decode cX10_undo 9 = .ok (.goto 4, 3) := dk_167 0 4 (dk_at dksX10_undo_0 9 rfl rfl)
theorem dX10_undo_12 : decode cX10_undo 12 = .ok (.iconst 0, 1) := dk_3 (dk_at dksX10_undo_0 12 rfl rfl)
theorem dX10_undo_13 : decode cX10_undo 13 = .ok (.putfield 45, 3) := dk_181 0 45 (dk_at dksX10_undo_0 13 rfl rfl)
theorem dX10_undo_16 : decode cX10_undo 16 = .ok (.aload_n 0, 1) := dk_42 (dk_at dksX10_undo_0 16 rfl rfl)
theorem dX10_undo_17 : decode cX10_undo 17 = .ok (.getfield 45, 3) := dk_180 0 45 (dk_at dksX10_undo_0 17 rfl rfl)
theorem dX10_undo_20 : decode cX10_undo 20 = .ok (.ifCond .le 5, 3) := dk_158 0 5 (dk_at dksX10_undo_0 20 rfl rfl)
theorem dX10_undo_23 : decode cX10_undo 23 = .ok (.iconst 0, 1) := dk_3 (dk_at dksX10_undo_0 23 rfl rfl)
theorem dX10_undo_24 : decode cX10_undo 24 = .ok (.ireturn, 1) := dk_172 (dk_at dksX10_undo_1 0 rfl rfl)
theorem dX10_undo_25 : decode cX10_undo 25 = .ok (.aload_n 0, 1) := dk_42 (dk_at dksX10_undo_1 1 rfl rfl)
theorem dX10_undo_26 : decode cX10_undo 26 = .ok (.dup, 1) := dk_89 (dk_at dksX10_undo_1 2 rfl rfl)
theorem dX10_undo_27 : decode cX10_undo 27 = .ok (.getfield 197, 3) := dk_180 0 197 (dk_at dksX10_undo_1 3 rfl rfl)
theorem dX10_undo_30 : decode cX10_undo 30 = .ok (.iconst 1, 1) := dk_4 (dk_at dksX10_undo_1 6 rfl rfl)
theorem dX10_undo_31 : decode cX10_undo 31 = .ok (.isub, 1) := dk_100 (dk_at dksX10_undo_1 7 rfl rfl)
theorem dX10_undo_32 : decode cX10_undo 32 = .ok (.putfield 197, 3) := dk_181 0 197 (dk_at dksX10_undo_1 8 rfl rfl)
theorem dX10_undo_35 : decode cX10_undo 35 = .ok (.aload_n 0, 1) := dk_42 (dk_at dksX10_undo_1 11 rfl rfl)
theorem dX10_undo_36 : decode cX10_undo 36 = .ok (.getfield 32, 3) := dk_180 0 32 (dk_at dksX10_undo_1 12 rfl rfl)
theorem dX10_undo_39 : decode cX10_undo 39 = .ok (.sipush 627, 3) := dk_17 2 115 (dk_at dksX10_undo_1 15 rfl rfl)
theorem dX10_undo_42 : decode cX10_undo 42 = .ok (.aload_n 0, 1) := dk_42 (dk_at dksX10_undo_1 18 rfl rfl)
theorem dX10_undo_43 : decode cX10_undo 43 = .ok (.getfield 197, 3) := dk_180 0 197 (dk_at dksX10_undo_1 19 rfl rfl)
theorem dX10_undo_46 : decode cX10_undo 46 = .ok (.imul, 1) := dk_104 (dk_at dksX10_undo_1 22 rfl rfl)
theorem dX10_undo_47 : decode cX10_undo 47 = .ok (.aload_n 0, 1) := dk_42 (dk_at dksX10_undo_1 23 rfl rfl)
theorem dX10_undo_48 : decode cX10_undo 48 = .ok (.getfield 23, 3) := dk_180 0 23 (dk_at dksX10_undo_2 0 rfl rfl)
theorem dX10_undo_51 : decode cX10_undo 51 = .ok (.iconst 0, 1) := dk_3 (dk_at dksX10_undo_2 3 rfl rfl)
theorem dX10_undo_52 : decode cX10_undo 52 = .ok (.invokestatic 189, 3) := dk_184 0 189 (dk_at dksX10_undo_2 4 rfl rfl)
theorem dX10_undo_55 : decode cX10_undo 55 = .ok (.aload_n 0, 1) := dk_42 (dk_at dksX10_undo_2 7 rfl rfl)
theorem dX10_undo_56 : decode cX10_undo 56 = .ok (.getfield 197, 3) := dk_180 0 197 (dk_at dksX10_undo_2 8 rfl rfl)
theorem dX10_undo_59 : decode cX10_undo 59 = .ok (.ireturn, 1) := dk_172 (dk_at dksX10_undo_2 11 rfl rfl)
abbrev cX10_undoable : ByteArray := prog_22_method_148_code
def yX10_undoable : MethodName := ⟨RX10, "undoable", "()I"⟩
def dkwX10_undoable_0 : List UInt8 := [42, 3, 181, 0, 45, 42, 180, 0, 197, 172]
abbrev dktX10_undoable_0 : List UInt8 := dkwX10_undoable_0 ++ []
theorem dksX10_undoable_0 : cX10_undoable.data.toList.drop 0 = dktX10_undoable_0 := by decide +kernel
theorem dX10_undoable_0 : decode cX10_undoable 0 = .ok (.aload_n 0, 1) := dk_42 (dk_at dksX10_undoable_0 0 rfl rfl)
theorem dX10_undoable_1 : decode cX10_undoable 1 = .ok (.iconst 0, 1) := dk_3 (dk_at dksX10_undoable_0 1 rfl rfl)
theorem dX10_undoable_2 : decode cX10_undoable 2 = .ok (.putfield 45, 3) := dk_181 0 45 (dk_at dksX10_undoable_0 2 rfl rfl)
theorem dX10_undoable_5 : decode cX10_undoable 5 = .ok (.aload_n 0, 1) := dk_42 (dk_at dksX10_undoable_0 5 rfl rfl)
theorem dX10_undoable_6 : decode cX10_undoable 6 = .ok (.getfield 197, 3) := dk_180 0 197 (dk_at dksX10_undoable_0 6 rfl rfl)
theorem dX10_undoable_9 : decode cX10_undoable 9 = .ok (.ireturn, 1) := dk_172 (dk_at dksX10_undoable_0 9 rfl rfl)
abbrev cX10_save : ByteArray := prog_22_method_149_code
def yX10_save : MethodName := ⟨RX10, "save", "(I)I"⟩
def dkwX10_save_1 : List UInt8 := [17, 2, 115, 27, 104, 184, 0, 189, 42, 180, 0, 38, 27, 4, 84, 42, 180, 0, 23, 3, 46, 172]
abbrev dktX10_save_1 : List UInt8 := dkwX10_save_1 ++ []
def dkwX10_save_0 : List UInt8 := [42, 27, 3, 4, 184, 0, 74, 182, 1, 112, 154, 0, 5, 3, 172, 42, 180, 0, 23, 3, 42, 180, 0, 35]
abbrev dktX10_save_0 : List UInt8 := dkwX10_save_0 ++ dktX10_save_1
theorem dksX10_save_0 : cX10_save.data.toList.drop 0 = dktX10_save_0 := by decide +kernel
theorem dksX10_save_1 : cX10_save.data.toList.drop 24 = dktX10_save_1 := dk_seg dksX10_save_0 24 rfl rfl
theorem dX10_save_0 : decode cX10_save 0 = .ok (.aload_n 0, 1) := dk_42 (dk_at dksX10_save_0 0 rfl rfl)
theorem dX10_save_1 : decode cX10_save 1 = .ok (.iload_n 1, 1) := dk_27 (dk_at dksX10_save_0 1 rfl rfl)
theorem dX10_save_2 : decode cX10_save 2 = .ok (.iconst 0, 1) := dk_3 (dk_at dksX10_save_0 2 rfl rfl)
theorem dX10_save_3 : decode cX10_save 3 = .ok (.iconst 1, 1) := dk_4 (dk_at dksX10_save_0 3 rfl rfl)
theorem dX10_save_4 : decode cX10_save 4 = .ok (.invokestatic 74, 3) := dk_184 0 74 (dk_at dksX10_save_0 4 rfl rfl)
theorem dX10_save_7 : decode cX10_save 7 = .ok (.invokevirtual 368, 3) := dk_182 1 112 (dk_at dksX10_save_0 7 rfl rfl)
theorem dX10_save_10 : decode cX10_save 10 = .ok (.ifCond .ne 5, 3) := dk_154 0 5 (dk_at dksX10_save_0 10 rfl rfl)
theorem dX10_save_13 : decode cX10_save 13 = .ok (.iconst 0, 1) := dk_3 (dk_at dksX10_save_0 13 rfl rfl)
theorem dX10_save_14 : decode cX10_save 14 = .ok (.ireturn, 1) := dk_172 (dk_at dksX10_save_0 14 rfl rfl)
theorem dX10_save_15 : decode cX10_save 15 = .ok (.aload_n 0, 1) := dk_42 (dk_at dksX10_save_0 15 rfl rfl)
theorem dX10_save_16 : decode cX10_save 16 = .ok (.getfield 23, 3) := dk_180 0 23 (dk_at dksX10_save_0 16 rfl rfl)
theorem dX10_save_19 : decode cX10_save 19 = .ok (.iconst 0, 1) := dk_3 (dk_at dksX10_save_0 19 rfl rfl)
theorem dX10_save_20 : decode cX10_save 20 = .ok (.aload_n 0, 1) := dk_42 (dk_at dksX10_save_0 20 rfl rfl)
theorem dX10_save_21 : decode cX10_save 21 = .ok (.getfield 35, 3) := dk_180 0 35 (dk_at dksX10_save_0 21 rfl rfl)
theorem dX10_save_24 : decode cX10_save 24 = .ok (.sipush 627, 3) := dk_17 2 115 (dk_at dksX10_save_1 0 rfl rfl)
theorem dX10_save_27 : decode cX10_save 27 = .ok (.iload_n 1, 1) := dk_27 (dk_at dksX10_save_1 3 rfl rfl)
theorem dX10_save_28 : decode cX10_save 28 = .ok (.imul, 1) := dk_104 (dk_at dksX10_save_1 4 rfl rfl)
theorem dX10_save_29 : decode cX10_save 29 = .ok (.invokestatic 189, 3) := dk_184 0 189 (dk_at dksX10_save_1 5 rfl rfl)
theorem dX10_save_32 : decode cX10_save 32 = .ok (.aload_n 0, 1) := dk_42 (dk_at dksX10_save_1 8 rfl rfl)
theorem dX10_save_33 : decode cX10_save 33 = .ok (.getfield 38, 3) := dk_180 0 38 (dk_at dksX10_save_1 9 rfl rfl)
theorem dX10_save_36 : decode cX10_save 36 = .ok (.iload_n 1, 1) := dk_27 (dk_at dksX10_save_1 12 rfl rfl)
theorem dX10_save_37 : decode cX10_save 37 = .ok (.iconst 1, 1) := dk_4 (dk_at dksX10_save_1 13 rfl rfl)
theorem dX10_save_38 : decode cX10_save 38 = .ok (.bastore, 1) := dk_84 (dk_at dksX10_save_1 14 rfl rfl)
theorem dX10_save_39 : decode cX10_save 39 = .ok (.aload_n 0, 1) := dk_42 (dk_at dksX10_save_1 15 rfl rfl)
theorem dX10_save_40 : decode cX10_save 40 = .ok (.getfield 23, 3) := dk_180 0 23 (dk_at dksX10_save_1 16 rfl rfl)
theorem dX10_save_43 : decode cX10_save 43 = .ok (.iconst 0, 1) := dk_3 (dk_at dksX10_save_1 19 rfl rfl)
theorem dX10_save_44 : decode cX10_save 44 = .ok (.iaload, 1) := dk_46 (dk_at dksX10_save_1 20 rfl rfl)
theorem dX10_save_45 : decode cX10_save 45 = .ok (.ireturn, 1) := dk_172 (dk_at dksX10_save_1 21 rfl rfl)
abbrev cX10_restore : ByteArray := prog_22_method_150_code
def yX10_restore : MethodName := ⟨RX10, "restore", "(I)I"⟩
def dkwX10_restore_2 : List UInt8 := [104, 42, 180, 0, 23, 3, 184, 0, 189, 42, 3, 181, 0, 197, 42, 180, 0, 23, 3, 46, 172]
abbrev dktX10_restore_2 : List UInt8 := dkwX10_restore_2 ++ []
def dkwX10_restore_1 : List UInt8 := [167, 0, 4, 5, 181, 0, 45, 42, 180, 0, 45, 158, 0, 5, 3, 172, 42, 180, 0, 35, 17, 2, 115, 27]
abbrev dktX10_restore_1 : List UInt8 := dkwX10_restore_1 ++ dktX10_restore_2
def dkwX10_restore_0 : List UInt8 := [42, 27, 3, 4, 184, 0, 74, 154, 0, 7, 4, 167, 0, 17, 42, 180, 0, 38, 27, 51, 153, 0, 7, 3]
abbrev dktX10_restore_0 : List UInt8 := dkwX10_restore_0 ++ dktX10_restore_1
theorem dksX10_restore_0 : cX10_restore.data.toList.drop 0 = dktX10_restore_0 := by decide +kernel
theorem dksX10_restore_1 : cX10_restore.data.toList.drop 24 = dktX10_restore_1 := dk_seg dksX10_restore_0 24 rfl rfl
theorem dksX10_restore_2 : cX10_restore.data.toList.drop 48 = dktX10_restore_2 := dk_seg dksX10_restore_1 24 rfl rfl
theorem dX10_restore_0 : decode cX10_restore 0 = .ok (.aload_n 0, 1) := dk_42 (dk_at dksX10_restore_0 0 rfl rfl)
theorem dX10_restore_1 : decode cX10_restore 1 = .ok (.iload_n 1, 1) := dk_27 (dk_at dksX10_restore_0 1 rfl rfl)
theorem dX10_restore_2 : decode cX10_restore 2 = .ok (.iconst 0, 1) := dk_3 (dk_at dksX10_restore_0 2 rfl rfl)
theorem dX10_restore_3 : decode cX10_restore 3 = .ok (.iconst 1, 1) := dk_4 (dk_at dksX10_restore_0 3 rfl rfl)
theorem dX10_restore_4 : decode cX10_restore 4 = .ok (.invokestatic 74, 3) := dk_184 0 74 (dk_at dksX10_restore_0 4 rfl rfl)
theorem dX10_restore_7 : decode cX10_restore 7 = .ok (.ifCond .ne 7, 3) := dk_154 0 7 (dk_at dksX10_restore_0 7 rfl rfl)
theorem dX10_restore_10 : decode cX10_restore 10 = .ok (.iconst 1, 1) := dk_4 (dk_at dksX10_restore_0 10 rfl rfl)
theorem dX10_restore_11 : decode cX10_restore 11 = .ok (.goto 17, 3) := dk_167 0 17 (dk_at dksX10_restore_0 11 rfl rfl)
theorem dX10_restore_14 : decode cX10_restore 14 = .ok (.aload_n 0, 1) := dk_42 (dk_at dksX10_restore_0 14 rfl rfl)
theorem dX10_restore_15 : decode cX10_restore 15 = .ok (.getfield 38, 3) := dk_180 0 38 (dk_at dksX10_restore_0 15 rfl rfl)
theorem dX10_restore_18 : decode cX10_restore 18 = .ok (.iload_n 1, 1) := dk_27 (dk_at dksX10_restore_0 18 rfl rfl)
theorem dX10_restore_19 : decode cX10_restore 19 = .ok (.baload, 1) := dk_51 (dk_at dksX10_restore_0 19 rfl rfl)
theorem dX10_restore_20 : decode cX10_restore 20 = .ok (.ifCond .eq 7, 3) := dk_153 0 7 (dk_at dksX10_restore_0 20 rfl rfl)
theorem dX10_restore_23 : decode cX10_restore 23 = .ok (.iconst 0, 1) := dk_3 (dk_at dksX10_restore_0 23 rfl rfl)
theorem dX10_restore_24 : decode cX10_restore 24 = .ok (.goto 4, 3) := dk_167 0 4 (dk_at dksX10_restore_1 0 rfl rfl)
theorem dX10_restore_27 : decode cX10_restore 27 = .ok (.iconst 2, 1) := dk_5 (dk_at dksX10_restore_1 3 rfl rfl)
theorem dX10_restore_28 : decode cX10_restore 28 = .ok (.putfield 45, 3) := dk_181 0 45 (dk_at dksX10_restore_1 4 rfl rfl)
theorem dX10_restore_31 : decode cX10_restore 31 = .ok (.aload_n 0, 1) := dk_42 (dk_at dksX10_restore_1 7 rfl rfl)
theorem dX10_restore_32 : decode cX10_restore 32 = .ok (.getfield 45, 3) := dk_180 0 45 (dk_at dksX10_restore_1 8 rfl rfl)
theorem dX10_restore_35 : decode cX10_restore 35 = .ok (.ifCond .le 5, 3) := dk_158 0 5 (dk_at dksX10_restore_1 11 rfl rfl)
theorem dX10_restore_38 : decode cX10_restore 38 = .ok (.iconst 0, 1) := dk_3 (dk_at dksX10_restore_1 14 rfl rfl)
theorem dX10_restore_39 : decode cX10_restore 39 = .ok (.ireturn, 1) := dk_172 (dk_at dksX10_restore_1 15 rfl rfl)
theorem dX10_restore_40 : decode cX10_restore 40 = .ok (.aload_n 0, 1) := dk_42 (dk_at dksX10_restore_1 16 rfl rfl)
theorem dX10_restore_41 : decode cX10_restore 41 = .ok (.getfield 35, 3) := dk_180 0 35 (dk_at dksX10_restore_1 17 rfl rfl)
theorem dX10_restore_44 : decode cX10_restore 44 = .ok (.sipush 627, 3) := dk_17 2 115 (dk_at dksX10_restore_1 20 rfl rfl)
theorem dX10_restore_47 : decode cX10_restore 47 = .ok (.iload_n 1, 1) := dk_27 (dk_at dksX10_restore_1 23 rfl rfl)
theorem dX10_restore_48 : decode cX10_restore 48 = .ok (.imul, 1) := dk_104 (dk_at dksX10_restore_2 0 rfl rfl)
theorem dX10_restore_49 : decode cX10_restore 49 = .ok (.aload_n 0, 1) := dk_42 (dk_at dksX10_restore_2 1 rfl rfl)
theorem dX10_restore_50 : decode cX10_restore 50 = .ok (.getfield 23, 3) := dk_180 0 23 (dk_at dksX10_restore_2 2 rfl rfl)
theorem dX10_restore_53 : decode cX10_restore 53 = .ok (.iconst 0, 1) := dk_3 (dk_at dksX10_restore_2 5 rfl rfl)
theorem dX10_restore_54 : decode cX10_restore 54 = .ok (.invokestatic 189, 3) := dk_184 0 189 (dk_at dksX10_restore_2 6 rfl rfl)
theorem dX10_restore_57 : decode cX10_restore 57 = .ok (.aload_n 0, 1) := dk_42 (dk_at dksX10_restore_2 9 rfl rfl)
theorem dX10_restore_58 : decode cX10_restore 58 = .ok (.iconst 0, 1) := dk_3 (dk_at dksX10_restore_2 10 rfl rfl)
theorem dX10_restore_59 : decode cX10_restore 59 = .ok (.putfield 197, 3) := dk_181 0 197 (dk_at dksX10_restore_2 11 rfl rfl)
theorem dX10_restore_62 : decode cX10_restore 62 = .ok (.aload_n 0, 1) := dk_42 (dk_at dksX10_restore_2 14 rfl rfl)
theorem dX10_restore_63 : decode cX10_restore 63 = .ok (.getfield 23, 3) := dk_180 0 23 (dk_at dksX10_restore_2 15 rfl rfl)
theorem dX10_restore_66 : decode cX10_restore 66 = .ok (.iconst 0, 1) := dk_3 (dk_at dksX10_restore_2 18 rfl rfl)
theorem dX10_restore_67 : decode cX10_restore 67 = .ok (.iaload, 1) := dk_46 (dk_at dksX10_restore_2 19 rfl rfl)
theorem dX10_restore_68 : decode cX10_restore 68 = .ok (.ireturn, 1) := dk_172 (dk_at dksX10_restore_2 20 rfl rfl)
theorem q142 : (Jvm.Cond.initialized "TelescopeQueueModel") ∈ lw_all := lw_g (lw_at lw_m1 30 rfl) rfl
theorem q1280 : (Jvm.Cond.selects "TelescopeQueueModel" ({ cls := "java/lang/Object", name := "getClass", desc := "()Ljava/lang/Class;" } : Jvm.MethodName) ({ cls := "java/lang/Object", name := "getClass", desc := "()Ljava/lang/Class;" } : Jvm.MethodName)) ∈ lw_all := lw_g (lw_at lw_m5 208 rfl) rfl
theorem q2550 : (Jvm.Cond.instantiable "TelescopeQueueModel" (25 : Nat)) ∈ lw_all := lw_g (lw_at lw_m11 38 rfl) rfl
theorem q2552 : (Jvm.Cond.instanceMethod ({ cls := "TelescopeQueueModel", name := "<init>", desc := "()V" } : Jvm.MethodName)) ∈ lw_all := lw_g (lw_at lw_m11 40 rfl) rfl
theorem q2553 : (Jvm.Cond.code ({ cls := "TelescopeQueueModel", name := "<init>", desc := "()V" } : Jvm.MethodName) prog_22_method_1_code (1 : Nat) (Option.none : Option Jvm.ClassFile.FieldType)) ∈ lw_all := lw_g (lw_at lw_m11 41 rfl) rfl
theorem q2554 : (Jvm.Cond.methodLink "TelescopeQueueModel" (1 : Nat) ({ cls := "java/lang/Object", name := "<init>", desc := "()V" } : Jvm.MethodName)) ∈ lw_all := lw_g (lw_at lw_m11 42 rfl) rfl
theorem q2555 : (Jvm.Cond.fieldLink "TelescopeQueueModel" (45 : Nat) "TelescopeQueueModel" "thrown" "I") ∈ lw_all := lw_g (lw_at lw_m11 43 rfl) rfl
theorem q2556 : (Jvm.Cond.fieldLink "TelescopeQueueModel" (9 : Nat) "TelescopeQueueModel" "buffer" "[I") ∈ lw_all := lw_g (lw_at lw_m11 44 rfl) rfl
theorem q2557 : (Jvm.Cond.fieldLink "TelescopeQueueModel" (48 : Nat) "TelescopeQueueModel" "buffered" "I") ∈ lw_all := lw_g (lw_at lw_m11 45 rfl) rfl
theorem q2558 : (Jvm.Cond.fieldLink "TelescopeQueueModel" (58 : Nat) "TelescopeQueueModel" "end" "I") ∈ lw_all := lw_g (lw_at lw_m11 46 rfl) rfl
theorem q2559 : (Jvm.Cond.fieldLink "TelescopeQueueModel" (64 : Nat) "TelescopeQueueModel" "next" "I") ∈ lw_all := lw_g (lw_at lw_m11 47 rfl) rfl
theorem q2560 : (Jvm.Cond.fieldLink "TelescopeQueueModel" (55 : Nat) "TelescopeQueueModel" "parseCode" "I") ∈ lw_all := lw_g (lw_at lw_m11 48 rfl) rfl
theorem q2561 : (Jvm.Cond.fieldLink "TelescopeQueueModel" (13 : Nat) "TelescopeQueueModel" "parsePlace" "I") ∈ lw_all := lw_g (lw_at lw_m11 49 rfl) rfl
theorem q2562 : (Jvm.Cond.fieldLink "TelescopeQueueModel" (71 : Nat) "TelescopeQueueModel" "token" "I") ∈ lw_all := lw_g (lw_at lw_m11 50 rfl) rfl
theorem q2563 : (Jvm.Cond.fieldLink "TelescopeQueueModel" (61 : Nat) "TelescopeQueueModel" "start" "I") ∈ lw_all := lw_g (lw_at lw_m11 51 rfl) rfl
theorem q2564 : (Jvm.Cond.fieldLink "TelescopeQueueModel" (78 : Nat) "TelescopeQueueModel" "value" "I") ∈ lw_all := lw_g (lw_at lw_m11 52 rfl) rfl
theorem q2565 : (Jvm.Cond.fieldLink "TelescopeQueueModel" (17 : Nat) "TelescopeQueueModel" "plan" "[I") ∈ lw_all := lw_g (lw_at lw_m11 53 rfl) rfl
theorem q2566 : (Jvm.Cond.fieldLink "TelescopeQueueModel" (20 : Nat) "TelescopeQueueModel" "newPlan" "[I") ∈ lw_all := lw_g (lw_at lw_m11 54 rfl) rfl
theorem q2567 : (Jvm.Cond.fieldLink "TelescopeQueueModel" (23 : Nat) "TelescopeQueueModel" "now" "[I") ∈ lw_all := lw_g (lw_at lw_m11 55 rfl) rfl
theorem q2568 : (Jvm.Cond.fieldLink "TelescopeQueueModel" (26 : Nat) "TelescopeQueueModel" "draft" "[I") ∈ lw_all := lw_g (lw_at lw_m11 56 rfl) rfl
theorem q2569 : (Jvm.Cond.fieldLink "TelescopeQueueModel" (29 : Nat) "TelescopeQueueModel" "work" "[I") ∈ lw_all := lw_g (lw_at lw_m11 57 rfl) rfl
theorem q2570 : (Jvm.Cond.fieldLink "TelescopeQueueModel" (32 : Nat) "TelescopeQueueModel" "history" "[I") ∈ lw_all := lw_g (lw_at lw_m11 58 rfl) rfl
theorem q2571 : (Jvm.Cond.fieldLink "TelescopeQueueModel" (35 : Nat) "TelescopeQueueModel" "stored" "[I") ∈ lw_all := lw_g (lw_at lw_m11 59 rfl) rfl
theorem q2572 : (Jvm.Cond.fieldLink "TelescopeQueueModel" (38 : Nat) "TelescopeQueueModel" "isStored" "[Z") ∈ lw_all := lw_g (lw_at lw_m11 60 rfl) rfl
theorem q2573 : (Jvm.Cond.fieldLink "TelescopeQueueModel" (197 : Nat) "TelescopeQueueModel" "undos" "I") ∈ lw_all := lw_g (lw_at lw_m11 61 rfl) rfl
theorem q2574 : (Jvm.Cond.fieldLink "TelescopeQueueModel" (193 : Nat) "TelescopeQueueModel" "hasScope" "Z") ∈ lw_all := lw_g (lw_at lw_m11 62 rfl) rfl
theorem q2575 : (Jvm.Cond.fieldLink "TelescopeQueueModel" (290 : Nat) "TelescopeQueueModel" "asideTime" "I") ∈ lw_all := lw_g (lw_at lw_m11 63 rfl) rfl
theorem q2576 : (Jvm.Cond.fieldLink "TelescopeQueueModel" (293 : Nat) "TelescopeQueueModel" "asideMomentum" "I") ∈ lw_all := lw_g (lw_at lw_m11 64 rfl) rfl
theorem q2577 : (Jvm.Cond.fieldLink "TelescopeQueueModel" (296 : Nat) "TelescopeQueueModel" "asideLost" "I") ∈ lw_all := lw_g (lw_at lw_m11 65 rfl) rfl
theorem q2578 : (Jvm.Cond.fieldLink "TelescopeQueueModel" (42 : Nat) "TelescopeQueueModel" "page" "[I") ∈ lw_all := lw_g (lw_at lw_m11 66 rfl) rfl
theorem q2579 : (Jvm.Cond.fieldLink "TelescopeQueueModel" (398 : Nat) "TelescopeQueueModel" "pageSize" "I") ∈ lw_all := lw_g (lw_at lw_m11 67 rfl) rfl
theorem q2580 : (Jvm.Cond.lays "TelescopeQueueModel" "TelescopeQueueModel" "thrown" "I") ∈ lw_all := lw_g (lw_at lw_m11 68 rfl) rfl
theorem q2581 : (Jvm.Cond.soleField "TelescopeQueueModel" "thrown") ∈ lw_all := lw_g (lw_at lw_m11 69 rfl) rfl
theorem q2582 : (Jvm.Cond.laysFinal "TelescopeQueueModel" "TelescopeQueueModel" "buffer" "[I") ∈ lw_all := lw_g (lw_at lw_m11 70 rfl) rfl
theorem q2583 : (Jvm.Cond.soleField "TelescopeQueueModel" "buffer") ∈ lw_all := lw_g (lw_at lw_m11 71 rfl) rfl
theorem q2584 : (Jvm.Cond.lays "TelescopeQueueModel" "TelescopeQueueModel" "buffered" "I") ∈ lw_all := lw_g (lw_at lw_m11 72 rfl) rfl
theorem q2585 : (Jvm.Cond.soleField "TelescopeQueueModel" "buffered") ∈ lw_all := lw_g (lw_at lw_m11 73 rfl) rfl
theorem q2586 : (Jvm.Cond.lays "TelescopeQueueModel" "TelescopeQueueModel" "end" "I") ∈ lw_all := lw_g (lw_at lw_m11 74 rfl) rfl
theorem q2587 : (Jvm.Cond.soleField "TelescopeQueueModel" "end") ∈ lw_all := lw_g (lw_at lw_m11 75 rfl) rfl
theorem q2588 : (Jvm.Cond.lays "TelescopeQueueModel" "TelescopeQueueModel" "next" "I") ∈ lw_all := lw_g (lw_at lw_m11 76 rfl) rfl
theorem q2589 : (Jvm.Cond.soleField "TelescopeQueueModel" "next") ∈ lw_all := lw_g (lw_at lw_m11 77 rfl) rfl
theorem q2590 : (Jvm.Cond.lays "TelescopeQueueModel" "TelescopeQueueModel" "parseCode" "I") ∈ lw_all := lw_g (lw_at lw_m11 78 rfl) rfl
theorem q2591 : (Jvm.Cond.soleField "TelescopeQueueModel" "parseCode") ∈ lw_all := lw_g (lw_at lw_m11 79 rfl) rfl
theorem q2592 : (Jvm.Cond.lays "TelescopeQueueModel" "TelescopeQueueModel" "parsePlace" "I") ∈ lw_all := lw_g (lw_at lw_m11 80 rfl) rfl
theorem q2593 : (Jvm.Cond.soleField "TelescopeQueueModel" "parsePlace") ∈ lw_all := lw_g (lw_at lw_m11 81 rfl) rfl
theorem q2594 : (Jvm.Cond.lays "TelescopeQueueModel" "TelescopeQueueModel" "token" "I") ∈ lw_all := lw_g (lw_at lw_m11 82 rfl) rfl
theorem q2595 : (Jvm.Cond.soleField "TelescopeQueueModel" "token") ∈ lw_all := lw_g (lw_at lw_m11 83 rfl) rfl
theorem q2596 : (Jvm.Cond.lays "TelescopeQueueModel" "TelescopeQueueModel" "start" "I") ∈ lw_all := lw_g (lw_at lw_m11 84 rfl) rfl
theorem q2597 : (Jvm.Cond.soleField "TelescopeQueueModel" "start") ∈ lw_all := lw_g (lw_at lw_m11 85 rfl) rfl
theorem q2598 : (Jvm.Cond.lays "TelescopeQueueModel" "TelescopeQueueModel" "value" "I") ∈ lw_all := lw_g (lw_at lw_m11 86 rfl) rfl
theorem q2599 : (Jvm.Cond.soleField "TelescopeQueueModel" "value") ∈ lw_all := lw_g (lw_at lw_m11 87 rfl) rfl
theorem q2600 : (Jvm.Cond.laysFinal "TelescopeQueueModel" "TelescopeQueueModel" "plan" "[I") ∈ lw_all := lw_g (lw_at lw_m11 88 rfl) rfl
theorem q2601 : (Jvm.Cond.soleField "TelescopeQueueModel" "plan") ∈ lw_all := lw_g (lw_at lw_m11 89 rfl) rfl
theorem q2602 : (Jvm.Cond.laysFinal "TelescopeQueueModel" "TelescopeQueueModel" "newPlan" "[I") ∈ lw_all := lw_g (lw_at lw_m11 90 rfl) rfl
theorem q2603 : (Jvm.Cond.soleField "TelescopeQueueModel" "newPlan") ∈ lw_all := lw_g (lw_at lw_m11 91 rfl) rfl
theorem q2604 : (Jvm.Cond.laysFinal "TelescopeQueueModel" "TelescopeQueueModel" "now" "[I") ∈ lw_all := lw_g (lw_at lw_m11 92 rfl) rfl
theorem q2605 : (Jvm.Cond.soleField "TelescopeQueueModel" "now") ∈ lw_all := lw_g (lw_at lw_m11 93 rfl) rfl
theorem q2606 : (Jvm.Cond.laysFinal "TelescopeQueueModel" "TelescopeQueueModel" "draft" "[I") ∈ lw_all := lw_g (lw_at lw_m11 94 rfl) rfl
theorem q2607 : (Jvm.Cond.soleField "TelescopeQueueModel" "draft") ∈ lw_all := lw_g (lw_at lw_m11 95 rfl) rfl
theorem q2608 : (Jvm.Cond.laysFinal "TelescopeQueueModel" "TelescopeQueueModel" "work" "[I") ∈ lw_all := lw_g (lw_at lw_m11 96 rfl) rfl
theorem q2609 : (Jvm.Cond.soleField "TelescopeQueueModel" "work") ∈ lw_all := lw_g (lw_at lw_m11 97 rfl) rfl
theorem q2610 : (Jvm.Cond.laysFinal "TelescopeQueueModel" "TelescopeQueueModel" "history" "[I") ∈ lw_all := lw_g (lw_at lw_m11 98 rfl) rfl
theorem q2611 : (Jvm.Cond.soleField "TelescopeQueueModel" "history") ∈ lw_all := lw_g (lw_at lw_m11 99 rfl) rfl
theorem q2612 : (Jvm.Cond.laysFinal "TelescopeQueueModel" "TelescopeQueueModel" "stored" "[I") ∈ lw_all := lw_g (lw_at lw_m11 100 rfl) rfl
theorem q2613 : (Jvm.Cond.soleField "TelescopeQueueModel" "stored") ∈ lw_all := lw_g (lw_at lw_m11 101 rfl) rfl
theorem q2614 : (Jvm.Cond.laysFinal "TelescopeQueueModel" "TelescopeQueueModel" "isStored" "[Z") ∈ lw_all := lw_g (lw_at lw_m11 102 rfl) rfl
theorem q2615 : (Jvm.Cond.soleField "TelescopeQueueModel" "isStored") ∈ lw_all := lw_g (lw_at lw_m11 103 rfl) rfl
theorem q2616 : (Jvm.Cond.lays "TelescopeQueueModel" "TelescopeQueueModel" "undos" "I") ∈ lw_all := lw_g (lw_at lw_m11 104 rfl) rfl
theorem q2617 : (Jvm.Cond.soleField "TelescopeQueueModel" "undos") ∈ lw_all := lw_g (lw_at lw_m11 105 rfl) rfl
theorem q2618 : (Jvm.Cond.lays "TelescopeQueueModel" "TelescopeQueueModel" "hasScope" "Z") ∈ lw_all := lw_g (lw_at lw_m11 106 rfl) rfl
theorem q2619 : (Jvm.Cond.soleField "TelescopeQueueModel" "hasScope") ∈ lw_all := lw_g (lw_at lw_m11 107 rfl) rfl
theorem q2620 : (Jvm.Cond.lays "TelescopeQueueModel" "TelescopeQueueModel" "asideTime" "I") ∈ lw_all := lw_g (lw_at lw_m11 108 rfl) rfl
theorem q2621 : (Jvm.Cond.soleField "TelescopeQueueModel" "asideTime") ∈ lw_all := lw_g (lw_at lw_m11 109 rfl) rfl
theorem q2622 : (Jvm.Cond.lays "TelescopeQueueModel" "TelescopeQueueModel" "asideMomentum" "I") ∈ lw_all := lw_g (lw_at lw_m11 110 rfl) rfl
theorem q2623 : (Jvm.Cond.soleField "TelescopeQueueModel" "asideMomentum") ∈ lw_all := lw_g (lw_at lw_m11 111 rfl) rfl
theorem q2624 : (Jvm.Cond.lays "TelescopeQueueModel" "TelescopeQueueModel" "asideLost" "I") ∈ lw_all := lw_g (lw_at lw_m11 112 rfl) rfl
theorem q2625 : (Jvm.Cond.soleField "TelescopeQueueModel" "asideLost") ∈ lw_all := lw_g (lw_at lw_m11 113 rfl) rfl
theorem q2626 : (Jvm.Cond.laysFinal "TelescopeQueueModel" "TelescopeQueueModel" "page" "[I") ∈ lw_all := lw_g (lw_at lw_m11 114 rfl) rfl
theorem q2627 : (Jvm.Cond.soleField "TelescopeQueueModel" "page") ∈ lw_all := lw_g (lw_at lw_m11 115 rfl) rfl
theorem q2628 : (Jvm.Cond.lays "TelescopeQueueModel" "TelescopeQueueModel" "pageSize" "I") ∈ lw_all := lw_g (lw_at lw_m11 116 rfl) rfl
theorem q2629 : (Jvm.Cond.soleField "TelescopeQueueModel" "pageSize") ∈ lw_all := lw_g (lw_at lw_m11 117 rfl) rfl
theorem q2630 : (Jvm.Cond.superclass "TelescopeQueueModel" "java/lang/Object") ∈ lw_all := lw_g (lw_at lw_m11 118 rfl) rfl
theorem q2633 : (Jvm.Cond.instanceMethod ({ cls := "TelescopeQueueModel", name := "thrown", desc := "()I" } : Jvm.MethodName)) ∈ lw_all := lw_g (lw_at lw_m11 121 rfl) rfl
theorem q2634 : (Jvm.Cond.selects "TelescopeQueueModel" ({ cls := "TelescopeQueueModel", name := "thrown", desc := "()I" } : Jvm.MethodName) ({ cls := "TelescopeQueueModel", name := "thrown", desc := "()I" } : Jvm.MethodName)) ∈ lw_all := lw_g (lw_at lw_m11 122 rfl) rfl
theorem q2635 : (Jvm.Cond.code ({ cls := "TelescopeQueueModel", name := "thrown", desc := "()I" } : Jvm.MethodName) prog_22_method_2_code (1 : Nat) (Option.some Jvm.ClassFile.FieldType.int)) ∈ lw_all := lw_g (lw_at lw_m11 123 rfl) rfl
theorem q2637 : (Jvm.Cond.instanceMethod ({ cls := "TelescopeQueueModel", name := "append", desc := "(IIIII)I" } : Jvm.MethodName)) ∈ lw_all := lw_g (lw_at lw_m11 125 rfl) rfl
theorem q2638 : (Jvm.Cond.selects "TelescopeQueueModel" ({ cls := "TelescopeQueueModel", name := "append", desc := "(IIIII)I" } : Jvm.MethodName) ({ cls := "TelescopeQueueModel", name := "append", desc := "(IIIII)I" } : Jvm.MethodName)) ∈ lw_all := lw_g (lw_at lw_m11 126 rfl) rfl
theorem q2639 : (Jvm.Cond.code ({ cls := "TelescopeQueueModel", name := "append", desc := "(IIIII)I" } : Jvm.MethodName) prog_22_method_6_code (6 : Nat) (Option.some Jvm.ClassFile.FieldType.int)) ∈ lw_all := lw_g (lw_at lw_m11 127 rfl) rfl
theorem q2640 : (Jvm.Cond.methodLink "TelescopeQueueModel" (51 : Nat) ({ cls := "TelescopeQueueModel", name := "four", desc := "(I)V" } : Jvm.MethodName)) ∈ lw_all := lw_g (lw_at lw_m11 128 rfl) rfl
theorem q2641 : (Jvm.Cond.privateMethod ({ cls := "TelescopeQueueModel", name := "four", desc := "(I)V" } : Jvm.MethodName)) ∈ lw_tbl := lw_at lw_m11 129 rfl
theorem q2642 : (Jvm.Cond.instanceMethod ({ cls := "TelescopeQueueModel", name := "four", desc := "(I)V" } : Jvm.MethodName)) ∈ lw_all := lw_g (lw_at lw_m11 130 rfl) rfl
theorem q2643 : (Jvm.Cond.code ({ cls := "TelescopeQueueModel", name := "four", desc := "(I)V" } : Jvm.MethodName) prog_22_method_5_code (3 : Nat) (Option.none : Option Jvm.ClassFile.FieldType)) ∈ lw_all := lw_g (lw_at lw_m11 131 rfl) rfl
theorem q2645 : (Jvm.Cond.instanceMethod ({ cls := "TelescopeQueueModel", name := "buffered", desc := "()I" } : Jvm.MethodName)) ∈ lw_all := lw_g (lw_at lw_m11 133 rfl) rfl
theorem q2646 : (Jvm.Cond.selects "TelescopeQueueModel" ({ cls := "TelescopeQueueModel", name := "buffered", desc := "()I" } : Jvm.MethodName) ({ cls := "TelescopeQueueModel", name := "buffered", desc := "()I" } : Jvm.MethodName)) ∈ lw_all := lw_g (lw_at lw_m11 134 rfl) rfl
theorem q2647 : (Jvm.Cond.code ({ cls := "TelescopeQueueModel", name := "buffered", desc := "()I" } : Jvm.MethodName) prog_22_method_7_code (1 : Nat) (Option.some Jvm.ClassFile.FieldType.int)) ∈ lw_all := lw_g (lw_at lw_m11 135 rfl) rfl
theorem q2649 : (Jvm.Cond.instanceMethod ({ cls := "TelescopeQueueModel", name := "parseError", desc := "()I" } : Jvm.MethodName)) ∈ lw_all := lw_g (lw_at lw_m11 137 rfl) rfl
theorem q2650 : (Jvm.Cond.selects "TelescopeQueueModel" ({ cls := "TelescopeQueueModel", name := "parseError", desc := "()I" } : Jvm.MethodName) ({ cls := "TelescopeQueueModel", name := "parseError", desc := "()I" } : Jvm.MethodName)) ∈ lw_all := lw_g (lw_at lw_m11 138 rfl) rfl
theorem q2651 : (Jvm.Cond.code ({ cls := "TelescopeQueueModel", name := "parseError", desc := "()I" } : Jvm.MethodName) prog_22_method_8_code (1 : Nat) (Option.some Jvm.ClassFile.FieldType.int)) ∈ lw_all := lw_g (lw_at lw_m11 139 rfl) rfl
theorem q2653 : (Jvm.Cond.instanceMethod ({ cls := "TelescopeQueueModel", name := "errorPosition", desc := "()I" } : Jvm.MethodName)) ∈ lw_all := lw_g (lw_at lw_m11 141 rfl) rfl
theorem q2654 : (Jvm.Cond.selects "TelescopeQueueModel" ({ cls := "TelescopeQueueModel", name := "errorPosition", desc := "()I" } : Jvm.MethodName) ({ cls := "TelescopeQueueModel", name := "errorPosition", desc := "()I" } : Jvm.MethodName)) ∈ lw_all := lw_g (lw_at lw_m11 142 rfl) rfl
theorem q2655 : (Jvm.Cond.code ({ cls := "TelescopeQueueModel", name := "errorPosition", desc := "()I" } : Jvm.MethodName) prog_22_method_9_code (1 : Nat) (Option.some Jvm.ClassFile.FieldType.int)) ∈ lw_all := lw_g (lw_at lw_m11 143 rfl) rfl
theorem q2657 : (Jvm.Cond.instanceMethod ({ cls := "TelescopeQueueModel", name := "load", desc := "(I)I" } : Jvm.MethodName)) ∈ lw_all := lw_g (lw_at lw_m11 145 rfl) rfl
theorem q2658 : (Jvm.Cond.selects "TelescopeQueueModel" ({ cls := "TelescopeQueueModel", name := "load", desc := "(I)I" } : Jvm.MethodName) ({ cls := "TelescopeQueueModel", name := "load", desc := "(I)I" } : Jvm.MethodName)) ∈ lw_all := lw_g (lw_at lw_m11 146 rfl) rfl
theorem q2659 : (Jvm.Cond.code ({ cls := "TelescopeQueueModel", name := "load", desc := "(I)I" } : Jvm.MethodName) prog_22_method_31_code (3 : Nat) (Option.some Jvm.ClassFile.FieldType.int)) ∈ lw_all := lw_g (lw_at lw_m11 147 rfl) rfl
theorem q2660 : (Jvm.Cond.methodLink "TelescopeQueueModel" (74 : Nat) ({ cls := "TelescopeQueueModel", name := "in", desc := "(III)Z" } : Jvm.MethodName)) ∈ lw_all := lw_g (lw_at lw_m11 148 rfl) rfl
theorem q2661 : (Jvm.Cond.static ({ cls := "TelescopeQueueModel", name := "in", desc := "(III)Z" } : Jvm.MethodName)) ∈ lw_all := lw_g (lw_at lw_m11 149 rfl) rfl
theorem q2662 : (Jvm.Cond.code ({ cls := "TelescopeQueueModel", name := "in", desc := "(III)Z" } : Jvm.MethodName) prog_22_method_3_code (3 : Nat) (Option.some Jvm.ClassFile.FieldType.boolean)) ∈ lw_all := lw_g (lw_at lw_m11 150 rfl) rfl
theorem q2663 : (Jvm.Cond.methodLink "TelescopeQueueModel" (183 : Nat) ({ cls := "TelescopeQueueModel", name := "throwsAt", desc := "(I)I" } : Jvm.MethodName)) ∈ lw_all := lw_g (lw_at lw_m11 151 rfl) rfl
theorem q2664 : (Jvm.Cond.privateMethod ({ cls := "TelescopeQueueModel", name := "throwsAt", desc := "(I)I" } : Jvm.MethodName)) ∈ lw_tbl := lw_at lw_m11 152 rfl
theorem q2665 : (Jvm.Cond.instanceMethod ({ cls := "TelescopeQueueModel", name := "throwsAt", desc := "(I)I" } : Jvm.MethodName)) ∈ lw_all := lw_g (lw_at lw_m11 153 rfl) rfl
theorem q2666 : (Jvm.Cond.code ({ cls := "TelescopeQueueModel", name := "throwsAt", desc := "(I)I" } : Jvm.MethodName) prog_22_method_4_code (2 : Nat) (Option.some Jvm.ClassFile.FieldType.int)) ∈ lw_all := lw_g (lw_at lw_m11 154 rfl) rfl
theorem q2667 : (Jvm.Cond.methodLink "TelescopeQueueModel" (186 : Nat) ({ cls := "TelescopeQueueModel", name := "readText", desc := "()V" } : Jvm.MethodName)) ∈ lw_all := lw_g (lw_at lw_m11 155 rfl) rfl
theorem q2668 : (Jvm.Cond.privateMethod ({ cls := "TelescopeQueueModel", name := "readText", desc := "()V" } : Jvm.MethodName)) ∈ lw_tbl := lw_at lw_m11 156 rfl
theorem q2669 : (Jvm.Cond.instanceMethod ({ cls := "TelescopeQueueModel", name := "readText", desc := "()V" } : Jvm.MethodName)) ∈ lw_all := lw_g (lw_at lw_m11 157 rfl) rfl
theorem q2670 : (Jvm.Cond.code ({ cls := "TelescopeQueueModel", name := "readText", desc := "()V" } : Jvm.MethodName) prog_22_method_30_code (2 : Nat) (Option.none : Option Jvm.ClassFile.FieldType)) ∈ lw_all := lw_g (lw_at lw_m11 158 rfl) rfl
theorem q2671 : (Jvm.Cond.methodLink "TelescopeQueueModel" (99 : Nat) ({ cls := "TelescopeQueueModel", name := "nextToken", desc := "()V" } : Jvm.MethodName)) ∈ lw_all := lw_g (lw_at lw_m11 159 rfl) rfl
theorem q2672 : (Jvm.Cond.privateMethod ({ cls := "TelescopeQueueModel", name := "nextToken", desc := "()V" } : Jvm.MethodName)) ∈ lw_tbl := lw_at lw_m11 160 rfl
theorem q2673 : (Jvm.Cond.instanceMethod ({ cls := "TelescopeQueueModel", name := "nextToken", desc := "()V" } : Jvm.MethodName)) ∈ lw_all := lw_g (lw_at lw_m11 161 rfl) rfl
theorem q2674 : (Jvm.Cond.code ({ cls := "TelescopeQueueModel", name := "nextToken", desc := "()V" } : Jvm.MethodName) prog_22_method_13_code (1 : Nat) (Option.none : Option Jvm.ClassFile.FieldType)) ∈ lw_all := lw_g (lw_at lw_m11 162 rfl) rfl
theorem q2675 : (Jvm.Cond.methodLink "TelescopeQueueModel" (67 : Nat) ({ cls := "TelescopeQueueModel", name := "byteAt", desc := "(I)I" } : Jvm.MethodName)) ∈ lw_all := lw_g (lw_at lw_m11 163 rfl) rfl
theorem q2676 : (Jvm.Cond.privateMethod ({ cls := "TelescopeQueueModel", name := "byteAt", desc := "(I)I" } : Jvm.MethodName)) ∈ lw_tbl := lw_at lw_m11 164 rfl
theorem q2677 : (Jvm.Cond.instanceMethod ({ cls := "TelescopeQueueModel", name := "byteAt", desc := "(I)I" } : Jvm.MethodName)) ∈ lw_all := lw_g (lw_at lw_m11 165 rfl) rfl
theorem q2678 : (Jvm.Cond.code ({ cls := "TelescopeQueueModel", name := "byteAt", desc := "(I)I" } : Jvm.MethodName) prog_22_method_10_code (2 : Nat) (Option.some Jvm.ClassFile.FieldType.int)) ∈ lw_all := lw_g (lw_at lw_m11 166 rfl) rfl
theorem q2679 : (Jvm.Cond.methodLink "TelescopeQueueModel" (81 : Nat) ({ cls := "TelescopeQueueModel", name := "isSign", desc := "(I)Z" } : Jvm.MethodName)) ∈ lw_all := lw_g (lw_at lw_m11 167 rfl) rfl
theorem q2680 : (Jvm.Cond.static ({ cls := "TelescopeQueueModel", name := "isSign", desc := "(I)Z" } : Jvm.MethodName)) ∈ lw_all := lw_g (lw_at lw_m11 168 rfl) rfl
theorem q2681 : (Jvm.Cond.code ({ cls := "TelescopeQueueModel", name := "isSign", desc := "(I)Z" } : Jvm.MethodName) prog_22_method_12_code (1 : Nat) (Option.some Jvm.ClassFile.FieldType.boolean)) ∈ lw_all := lw_g (lw_at lw_m11 169 rfl) rfl
theorem q2682 : (Jvm.Cond.methodLink "TelescopeQueueModel" (177 : Nat) ({ cls := "TelescopeQueueModel", name := "readFirst", desc := "()V" } : Jvm.MethodName)) ∈ lw_all := lw_g (lw_at lw_m11 170 rfl) rfl
theorem q2683 : (Jvm.Cond.privateMethod ({ cls := "TelescopeQueueModel", name := "readFirst", desc := "()V" } : Jvm.MethodName)) ∈ lw_tbl := lw_at lw_m11 171 rfl
theorem q2684 : (Jvm.Cond.instanceMethod ({ cls := "TelescopeQueueModel", name := "readFirst", desc := "()V" } : Jvm.MethodName)) ∈ lw_all := lw_g (lw_at lw_m11 172 rfl) rfl
theorem q2685 : (Jvm.Cond.code ({ cls := "TelescopeQueueModel", name := "readFirst", desc := "()V" } : Jvm.MethodName) prog_22_method_21_code (1 : Nat) (Option.none : Option Jvm.ClassFile.FieldType)) ∈ lw_all := lw_g (lw_at lw_m11 173 rfl) rfl
theorem q2686 : (Jvm.Cond.stringRef "TelescopeQueueModel" (119 : Nat) "scope") ∈ lw_tbl := lw_at lw_m11 174 rfl
theorem q2687 : (Jvm.Cond.methodLink "TelescopeQueueModel" (112 : Nat) ({ cls := "TelescopeQueueModel", name := "keyword", desc := "(Ljava/lang/String;)V" } : Jvm.MethodName)) ∈ lw_all := lw_g (lw_at lw_m11 175 rfl) rfl
theorem q2688 : (Jvm.Cond.privateMethod ({ cls := "TelescopeQueueModel", name := "keyword", desc := "(Ljava/lang/String;)V" } : Jvm.MethodName)) ∈ lw_tbl := lw_at lw_m11 176 rfl
theorem q2689 : (Jvm.Cond.instanceMethod ({ cls := "TelescopeQueueModel", name := "keyword", desc := "(Ljava/lang/String;)V" } : Jvm.MethodName)) ∈ lw_all := lw_g (lw_at lw_m11 177 rfl) rfl
theorem q2690 : (Jvm.Cond.code ({ cls := "TelescopeQueueModel", name := "keyword", desc := "(Ljava/lang/String;)V" } : Jvm.MethodName) prog_22_method_17_code (2 : Nat) (Option.none : Option Jvm.ClassFile.FieldType)) ∈ lw_all := lw_g (lw_at lw_m11 178 rfl) rfl
theorem q2691 : (Jvm.Cond.methodLink "TelescopeQueueModel" (102 : Nat) ({ cls := "TelescopeQueueModel", name := "takes", desc := "(Ljava/lang/String;)Z" } : Jvm.MethodName)) ∈ lw_all := lw_g (lw_at lw_m11 179 rfl) rfl
theorem q2692 : (Jvm.Cond.privateMethod ({ cls := "TelescopeQueueModel", name := "takes", desc := "(Ljava/lang/String;)Z" } : Jvm.MethodName)) ∈ lw_tbl := lw_at lw_m11 180 rfl
theorem q2693 : (Jvm.Cond.instanceMethod ({ cls := "TelescopeQueueModel", name := "takes", desc := "(Ljava/lang/String;)Z" } : Jvm.MethodName)) ∈ lw_all := lw_g (lw_at lw_m11 181 rfl) rfl
theorem q2694 : (Jvm.Cond.code ({ cls := "TelescopeQueueModel", name := "takes", desc := "(Ljava/lang/String;)Z" } : Jvm.MethodName) prog_22_method_16_code (3 : Nat) (Option.some Jvm.ClassFile.FieldType.boolean)) ∈ lw_all := lw_g (lw_at lw_m11 182 rfl) rfl
theorem q2695 : (Jvm.Cond.methodLink "TelescopeQueueModel" (95 : Nat) ({ cls := "TelescopeQueueModel", name := "isWord", desc := "(Ljava/lang/String;)Z" } : Jvm.MethodName)) ∈ lw_all := lw_g (lw_at lw_m11 183 rfl) rfl
theorem q2696 : (Jvm.Cond.privateMethod ({ cls := "TelescopeQueueModel", name := "isWord", desc := "(Ljava/lang/String;)Z" } : Jvm.MethodName)) ∈ lw_tbl := lw_at lw_m11 184 rfl
theorem q2697 : (Jvm.Cond.instanceMethod ({ cls := "TelescopeQueueModel", name := "isWord", desc := "(Ljava/lang/String;)Z" } : Jvm.MethodName)) ∈ lw_all := lw_g (lw_at lw_m11 185 rfl) rfl
theorem q2698 : (Jvm.Cond.code ({ cls := "TelescopeQueueModel", name := "isWord", desc := "(Ljava/lang/String;)Z" } : Jvm.MethodName) prog_22_method_15_code (3 : Nat) (Option.some Jvm.ClassFile.FieldType.boolean)) ∈ lw_all := lw_g (lw_at lw_m11 186 rfl) rfl
theorem q2699 : (Jvm.Cond.methodLink "TelescopeQueueModel" (85 : Nat) ({ cls := "java/lang/String", name := "length", desc := "()I" } : Jvm.MethodName)) ∈ lw_all := lw_g (lw_at lw_m11 187 rfl) rfl
theorem q2700 : (Jvm.Cond.methodLink "TelescopeQueueModel" (91 : Nat) ({ cls := "java/lang/String", name := "charAt", desc := "(I)C" } : Jvm.MethodName)) ∈ lw_all := lw_g (lw_at lw_m11 188 rfl) rfl
theorem q2701 : (Jvm.Cond.methodLink "TelescopeQueueModel" (105 : Nat) ({ cls := "TelescopeQueueModel", name := "faults", desc := "(I)V" } : Jvm.MethodName)) ∈ lw_all := lw_g (lw_at lw_m11 189 rfl) rfl
theorem q2702 : (Jvm.Cond.privateMethod ({ cls := "TelescopeQueueModel", name := "faults", desc := "(I)V" } : Jvm.MethodName)) ∈ lw_tbl := lw_at lw_m11 190 rfl
theorem q2703 : (Jvm.Cond.instanceMethod ({ cls := "TelescopeQueueModel", name := "faults", desc := "(I)V" } : Jvm.MethodName)) ∈ lw_all := lw_g (lw_at lw_m11 191 rfl) rfl
theorem q2704 : (Jvm.Cond.code ({ cls := "TelescopeQueueModel", name := "faults", desc := "(I)V" } : Jvm.MethodName) prog_22_method_11_code (2 : Nat) (Option.none : Option Jvm.ClassFile.FieldType)) ∈ lw_all := lw_g (lw_at lw_m11 192 rfl) rfl
theorem q2705 : (Jvm.Cond.stringRef "TelescopeQueueModel" (121 : Nat) "horizon") ∈ lw_tbl := lw_at lw_m11 193 rfl
theorem q2706 : (Jvm.Cond.methodLink "TelescopeQueueModel" (123 : Nat) ({ cls := "TelescopeQueueModel", name := "gauge", desc := "(Ljava/lang/String;II)I" } : Jvm.MethodName)) ∈ lw_all := lw_g (lw_at lw_m11 194 rfl) rfl
theorem q2707 : (Jvm.Cond.privateMethod ({ cls := "TelescopeQueueModel", name := "gauge", desc := "(Ljava/lang/String;II)I" } : Jvm.MethodName)) ∈ lw_tbl := lw_at lw_m11 195 rfl
theorem q2708 : (Jvm.Cond.instanceMethod ({ cls := "TelescopeQueueModel", name := "gauge", desc := "(Ljava/lang/String;II)I" } : Jvm.MethodName)) ∈ lw_all := lw_g (lw_at lw_m11 196 rfl) rfl
theorem q2709 : (Jvm.Cond.code ({ cls := "TelescopeQueueModel", name := "gauge", desc := "(Ljava/lang/String;II)I" } : Jvm.MethodName) prog_22_method_20_code (4 : Nat) (Option.some Jvm.ClassFile.FieldType.int)) ∈ lw_all := lw_g (lw_at lw_m11 197 rfl) rfl
theorem q2710 : (Jvm.Cond.methodLink "TelescopeQueueModel" (116 : Nat) ({ cls := "TelescopeQueueModel", name := "number", desc := "(II)I" } : Jvm.MethodName)) ∈ lw_all := lw_g (lw_at lw_m11 198 rfl) rfl
theorem q2711 : (Jvm.Cond.privateMethod ({ cls := "TelescopeQueueModel", name := "number", desc := "(II)I" } : Jvm.MethodName)) ∈ lw_tbl := lw_at lw_m11 199 rfl
theorem q2712 : (Jvm.Cond.instanceMethod ({ cls := "TelescopeQueueModel", name := "number", desc := "(II)I" } : Jvm.MethodName)) ∈ lw_all := lw_g (lw_at lw_m11 200 rfl) rfl
theorem q2713 : (Jvm.Cond.code ({ cls := "TelescopeQueueModel", name := "number", desc := "(II)I" } : Jvm.MethodName) prog_22_method_19_code (4 : Nat) (Option.some Jvm.ClassFile.FieldType.int)) ∈ lw_all := lw_g (lw_at lw_m11 201 rfl) rfl
theorem q2714 : (Jvm.Cond.methodLink "TelescopeQueueModel" (108 : Nat) ({ cls := "TelescopeQueueModel", name := "look", desc := "(II)I" } : Jvm.MethodName)) ∈ lw_all := lw_g (lw_at lw_m11 202 rfl) rfl
theorem q2715 : (Jvm.Cond.privateMethod ({ cls := "TelescopeQueueModel", name := "look", desc := "(II)I" } : Jvm.MethodName)) ∈ lw_tbl := lw_at lw_m11 203 rfl
theorem q2716 : (Jvm.Cond.instanceMethod ({ cls := "TelescopeQueueModel", name := "look", desc := "(II)I" } : Jvm.MethodName)) ∈ lw_all := lw_g (lw_at lw_m11 204 rfl) rfl
theorem q2717 : (Jvm.Cond.code ({ cls := "TelescopeQueueModel", name := "look", desc := "(II)I" } : Jvm.MethodName) prog_22_method_18_code (3 : Nat) (Option.some Jvm.ClassFile.FieldType.int)) ∈ lw_all := lw_g (lw_at lw_m11 205 rfl) rfl
theorem q2718 : (Jvm.Cond.stringRef "TelescopeQueueModel" (127 : Nat) "settle") ∈ lw_tbl := lw_at lw_m11 206 rfl
theorem q2719 : (Jvm.Cond.stringRef "TelescopeQueueModel" (129 : Nat) "speed") ∈ lw_tbl := lw_at lw_m11 207 rfl
theorem q2720 : (Jvm.Cond.stringRef "TelescopeQueueModel" (131 : Nat) "cap") ∈ lw_tbl := lw_at lw_m11 208 rfl
theorem q2721 : (Jvm.Cond.stringRef "TelescopeQueueModel" (133 : Nat) "dump") ∈ lw_tbl := lw_at lw_m11 209 rfl
theorem q2722 : (Jvm.Cond.stringRef "TelescopeQueueModel" (135 : Nat) "cadence") ∈ lw_tbl := lw_at lw_m11 210 rfl
theorem q2723 : (Jvm.Cond.stringRef "TelescopeQueueModel" (137 : Nat) "cal") ∈ lw_tbl := lw_at lw_m11 211 rfl
theorem q2724 : (Jvm.Cond.stringRef "TelescopeQueueModel" (139 : Nat) "sun") ∈ lw_tbl := lw_at lw_m11 212 rfl
theorem q2725 : (Jvm.Cond.stringRef "TelescopeQueueModel" (141 : Nat) "drift") ∈ lw_tbl := lw_at lw_m11 213 rfl
theorem q2726 : (Jvm.Cond.stringRef "TelescopeQueueModel" (143 : Nat) "avoid") ∈ lw_tbl := lw_at lw_m11 214 rfl
theorem q2727 : (Jvm.Cond.methodLink "TelescopeQueueModel" (148 : Nat) ({ cls := "TelescopeQueueModel", name := "isSignHere", desc := "(I)Z" } : Jvm.MethodName)) ∈ lw_all := lw_g (lw_at lw_m11 215 rfl) rfl
theorem q2728 : (Jvm.Cond.privateMethod ({ cls := "TelescopeQueueModel", name := "isSignHere", desc := "(I)Z" } : Jvm.MethodName)) ∈ lw_tbl := lw_at lw_m11 216 rfl
theorem q2729 : (Jvm.Cond.instanceMethod ({ cls := "TelescopeQueueModel", name := "isSignHere", desc := "(I)Z" } : Jvm.MethodName)) ∈ lw_all := lw_g (lw_at lw_m11 217 rfl) rfl
theorem q2730 : (Jvm.Cond.code ({ cls := "TelescopeQueueModel", name := "isSignHere", desc := "(I)Z" } : Jvm.MethodName) prog_22_method_14_code (2 : Nat) (Option.some Jvm.ClassFile.FieldType.boolean)) ∈ lw_all := lw_g (lw_at lw_m11 218 rfl) rfl
theorem q2731 : (Jvm.Cond.methodLink "TelescopeQueueModel" (180 : Nat) ({ cls := "TelescopeQueueModel", name := "readLine", desc := "()V" } : Jvm.MethodName)) ∈ lw_all := lw_g (lw_at lw_m11 219 rfl) rfl
theorem q2732 : (Jvm.Cond.privateMethod ({ cls := "TelescopeQueueModel", name := "readLine", desc := "()V" } : Jvm.MethodName)) ∈ lw_tbl := lw_at lw_m11 220 rfl
theorem q2733 : (Jvm.Cond.instanceMethod ({ cls := "TelescopeQueueModel", name := "readLine", desc := "()V" } : Jvm.MethodName)) ∈ lw_all := lw_g (lw_at lw_m11 221 rfl) rfl
theorem q2734 : (Jvm.Cond.code ({ cls := "TelescopeQueueModel", name := "readLine", desc := "()V" } : Jvm.MethodName) prog_22_method_29_code (1 : Nat) (Option.none : Option Jvm.ClassFile.FieldType)) ∈ lw_all := lw_g (lw_at lw_m11 222 rfl) rfl
theorem q2735 : (Jvm.Cond.stringRef "TelescopeQueueModel" (157 : Nat) "proposal") ∈ lw_tbl := lw_at lw_m11 223 rfl
theorem q2736 : (Jvm.Cond.methodLink "TelescopeQueueModel" (159 : Nat) ({ cls := "TelescopeQueueModel", name := "readProposal", desc := "()V" } : Jvm.MethodName)) ∈ lw_all := lw_g (lw_at lw_m11 224 rfl) rfl
theorem q2737 : (Jvm.Cond.privateMethod ({ cls := "TelescopeQueueModel", name := "readProposal", desc := "()V" } : Jvm.MethodName)) ∈ lw_tbl := lw_at lw_m11 225 rfl
theorem q2738 : (Jvm.Cond.instanceMethod ({ cls := "TelescopeQueueModel", name := "readProposal", desc := "()V" } : Jvm.MethodName)) ∈ lw_all := lw_g (lw_at lw_m11 226 rfl) rfl
theorem q2739 : (Jvm.Cond.code ({ cls := "TelescopeQueueModel", name := "readProposal", desc := "()V" } : Jvm.MethodName) prog_22_method_23_code (3 : Nat) (Option.none : Option Jvm.ClassFile.FieldType)) ∈ lw_all := lw_g (lw_at lw_m11 227 rfl) rfl
theorem q2740 : (Jvm.Cond.methodLink "TelescopeQueueModel" (145 : Nat) ({ cls := "TelescopeQueueModel", name := "named", desc := "()I" } : Jvm.MethodName)) ∈ lw_all := lw_g (lw_at lw_m11 228 rfl) rfl
theorem q2741 : (Jvm.Cond.privateMethod ({ cls := "TelescopeQueueModel", name := "named", desc := "()I" } : Jvm.MethodName)) ∈ lw_tbl := lw_at lw_m11 229 rfl
theorem q2742 : (Jvm.Cond.instanceMethod ({ cls := "TelescopeQueueModel", name := "named", desc := "()I" } : Jvm.MethodName)) ∈ lw_all := lw_g (lw_at lw_m11 230 rfl) rfl
theorem q2743 : (Jvm.Cond.code ({ cls := "TelescopeQueueModel", name := "named", desc := "()I" } : Jvm.MethodName) prog_22_method_22_code (4 : Nat) (Option.some Jvm.ClassFile.FieldType.int)) ∈ lw_all := lw_g (lw_at lw_m11 231 rfl) rfl
theorem q2744 : (Jvm.Cond.stringRef "TelescopeQueueModel" (162 : Nat) "visit") ∈ lw_tbl := lw_at lw_m11 232 rfl
theorem q2745 : (Jvm.Cond.methodLink "TelescopeQueueModel" (164 : Nat) ({ cls := "TelescopeQueueModel", name := "readVisit", desc := "()V" } : Jvm.MethodName)) ∈ lw_all := lw_g (lw_at lw_m11 233 rfl) rfl
theorem q2746 : (Jvm.Cond.privateMethod ({ cls := "TelescopeQueueModel", name := "readVisit", desc := "()V" } : Jvm.MethodName)) ∈ lw_tbl := lw_at lw_m11 234 rfl
theorem q2747 : (Jvm.Cond.instanceMethod ({ cls := "TelescopeQueueModel", name := "readVisit", desc := "()V" } : Jvm.MethodName)) ∈ lw_all := lw_g (lw_at lw_m11 235 rfl) rfl
theorem q2748 : (Jvm.Cond.code ({ cls := "TelescopeQueueModel", name := "readVisit", desc := "()V" } : Jvm.MethodName) prog_22_method_26_code (3 : Nat) (Option.none : Option Jvm.ClassFile.FieldType)) ∈ lw_all := lw_g (lw_at lw_m11 236 rfl) rfl
theorem q2749 : (Jvm.Cond.methodLink "TelescopeQueueModel" (151 : Nat) ({ cls := "TelescopeQueueModel", name := "proposalRead", desc := "()I" } : Jvm.MethodName)) ∈ lw_all := lw_g (lw_at lw_m11 237 rfl) rfl
theorem q2750 : (Jvm.Cond.privateMethod ({ cls := "TelescopeQueueModel", name := "proposalRead", desc := "()I" } : Jvm.MethodName)) ∈ lw_tbl := lw_at lw_m11 238 rfl
theorem q2751 : (Jvm.Cond.instanceMethod ({ cls := "TelescopeQueueModel", name := "proposalRead", desc := "()I" } : Jvm.MethodName)) ∈ lw_all := lw_g (lw_at lw_m11 239 rfl) rfl
theorem q2752 : (Jvm.Cond.code ({ cls := "TelescopeQueueModel", name := "proposalRead", desc := "()I" } : Jvm.MethodName) prog_22_method_24_code (2 : Nat) (Option.some Jvm.ClassFile.FieldType.int)) ∈ lw_all := lw_g (lw_at lw_m12 0 rfl) rfl
theorem q2753 : (Jvm.Cond.methodLink "TelescopeQueueModel" (154 : Nat) ({ cls := "TelescopeQueueModel", name := "latitude", desc := "()I" } : Jvm.MethodName)) ∈ lw_all := lw_g (lw_at lw_m12 1 rfl) rfl
theorem q2754 : (Jvm.Cond.privateMethod ({ cls := "TelescopeQueueModel", name := "latitude", desc := "()I" } : Jvm.MethodName)) ∈ lw_tbl := lw_at lw_m12 2 rfl
theorem q2755 : (Jvm.Cond.instanceMethod ({ cls := "TelescopeQueueModel", name := "latitude", desc := "()I" } : Jvm.MethodName)) ∈ lw_all := lw_g (lw_at lw_m12 3 rfl) rfl
theorem q2756 : (Jvm.Cond.code ({ cls := "TelescopeQueueModel", name := "latitude", desc := "()I" } : Jvm.MethodName) prog_22_method_25_code (3 : Nat) (Option.some Jvm.ClassFile.FieldType.int)) ∈ lw_all := lw_g (lw_at lw_m12 4 rfl) rfl
theorem q2757 : (Jvm.Cond.stringRef "TelescopeQueueModel" (167 : Nat) "alert") ∈ lw_tbl := lw_at lw_m12 5 rfl
theorem q2758 : (Jvm.Cond.methodLink "TelescopeQueueModel" (169 : Nat) ({ cls := "TelescopeQueueModel", name := "readAlert", desc := "()V" } : Jvm.MethodName)) ∈ lw_all := lw_g (lw_at lw_m12 6 rfl) rfl
theorem q2759 : (Jvm.Cond.privateMethod ({ cls := "TelescopeQueueModel", name := "readAlert", desc := "()V" } : Jvm.MethodName)) ∈ lw_tbl := lw_at lw_m12 7 rfl
theorem q2760 : (Jvm.Cond.instanceMethod ({ cls := "TelescopeQueueModel", name := "readAlert", desc := "()V" } : Jvm.MethodName)) ∈ lw_all := lw_g (lw_at lw_m12 8 rfl) rfl
theorem q2761 : (Jvm.Cond.code ({ cls := "TelescopeQueueModel", name := "readAlert", desc := "()V" } : Jvm.MethodName) prog_22_method_27_code (3 : Nat) (Option.none : Option Jvm.ClassFile.FieldType)) ∈ lw_all := lw_g (lw_at lw_m12 9 rfl) rfl
theorem q2762 : (Jvm.Cond.stringRef "TelescopeQueueModel" (172 : Nat) "outage") ∈ lw_tbl := lw_at lw_m12 10 rfl
theorem q2763 : (Jvm.Cond.methodLink "TelescopeQueueModel" (174 : Nat) ({ cls := "TelescopeQueueModel", name := "readOutage", desc := "()V" } : Jvm.MethodName)) ∈ lw_all := lw_g (lw_at lw_m12 11 rfl) rfl
theorem q2764 : (Jvm.Cond.privateMethod ({ cls := "TelescopeQueueModel", name := "readOutage", desc := "()V" } : Jvm.MethodName)) ∈ lw_tbl := lw_at lw_m12 12 rfl
theorem q2765 : (Jvm.Cond.instanceMethod ({ cls := "TelescopeQueueModel", name := "readOutage", desc := "()V" } : Jvm.MethodName)) ∈ lw_all := lw_g (lw_at lw_m12 13 rfl) rfl
theorem q2766 : (Jvm.Cond.code ({ cls := "TelescopeQueueModel", name := "readOutage", desc := "()V" } : Jvm.MethodName) prog_22_method_28_code (2 : Nat) (Option.none : Option Jvm.ClassFile.FieldType)) ∈ lw_all := lw_g (lw_at lw_m12 14 rfl) rfl
theorem q2767 : (Jvm.Cond.methodLink "TelescopeQueueModel" (189 : Nat) ({ cls := "TelescopeQueueModel", name := "copy", desc := "([II[II)V" } : Jvm.MethodName)) ∈ lw_all := lw_g (lw_at lw_m12 15 rfl) rfl
theorem q2768 : (Jvm.Cond.static ({ cls := "TelescopeQueueModel", name := "copy", desc := "([II[II)V" } : Jvm.MethodName)) ∈ lw_all := lw_g (lw_at lw_m12 16 rfl) rfl
theorem q2769 : (Jvm.Cond.code ({ cls := "TelescopeQueueModel", name := "copy", desc := "([II[II)V" } : Jvm.MethodName) prog_22_method_32_code (5 : Nat) (Option.none : Option Jvm.ClassFile.FieldType)) ∈ lw_all := lw_g (lw_at lw_m12 17 rfl) rfl
theorem q2771 : (Jvm.Cond.instanceMethod ({ cls := "TelescopeQueueModel", name := "proposals", desc := "()I" } : Jvm.MethodName)) ∈ lw_all := lw_g (lw_at lw_m12 19 rfl) rfl
theorem q2772 : (Jvm.Cond.selects "TelescopeQueueModel" ({ cls := "TelescopeQueueModel", name := "proposals", desc := "()I" } : Jvm.MethodName) ({ cls := "TelescopeQueueModel", name := "proposals", desc := "()I" } : Jvm.MethodName)) ∈ lw_all := lw_g (lw_at lw_m12 20 rfl) rfl
theorem q2773 : (Jvm.Cond.code ({ cls := "TelescopeQueueModel", name := "proposals", desc := "()I" } : Jvm.MethodName) prog_22_method_81_code (1 : Nat) (Option.some Jvm.ClassFile.FieldType.int)) ∈ lw_all := lw_g (lw_at lw_m12 21 rfl) rfl
theorem q2774 : (Jvm.Cond.methodLink "TelescopeQueueModel" (355 : Nat) ({ cls := "TelescopeQueueModel", name := "told", desc := "(I)I" } : Jvm.MethodName)) ∈ lw_all := lw_g (lw_at lw_m12 22 rfl) rfl
theorem q2775 : (Jvm.Cond.privateMethod ({ cls := "TelescopeQueueModel", name := "told", desc := "(I)I" } : Jvm.MethodName)) ∈ lw_tbl := lw_at lw_m12 23 rfl
theorem q2776 : (Jvm.Cond.instanceMethod ({ cls := "TelescopeQueueModel", name := "told", desc := "(I)I" } : Jvm.MethodName)) ∈ lw_all := lw_g (lw_at lw_m12 24 rfl) rfl
theorem q2777 : (Jvm.Cond.code ({ cls := "TelescopeQueueModel", name := "told", desc := "(I)I" } : Jvm.MethodName) prog_22_method_77_code (2 : Nat) (Option.some Jvm.ClassFile.FieldType.int)) ∈ lw_all := lw_g (lw_at lw_m12 25 rfl) rfl
theorem q2779 : (Jvm.Cond.instanceMethod ({ cls := "TelescopeQueueModel", name := "proposal", desc := "(II)I" } : Jvm.MethodName)) ∈ lw_all := lw_g (lw_at lw_m12 27 rfl) rfl
theorem q2780 : (Jvm.Cond.selects "TelescopeQueueModel" ({ cls := "TelescopeQueueModel", name := "proposal", desc := "(II)I" } : Jvm.MethodName) ({ cls := "TelescopeQueueModel", name := "proposal", desc := "(II)I" } : Jvm.MethodName)) ∈ lw_all := lw_g (lw_at lw_m12 28 rfl) rfl
theorem q2781 : (Jvm.Cond.code ({ cls := "TelescopeQueueModel", name := "proposal", desc := "(II)I" } : Jvm.MethodName) prog_22_method_83_code (3 : Nat) (Option.some Jvm.ClassFile.FieldType.int)) ∈ lw_all := lw_g (lw_at lw_m12 29 rfl) rfl
theorem q2782 : (Jvm.Cond.methodLink "TelescopeQueueModel" (358 : Nat) ({ cls := "TelescopeQueueModel", name := "isProposal", desc := "(I)Z" } : Jvm.MethodName)) ∈ lw_all := lw_g (lw_at lw_m12 30 rfl) rfl
theorem q2783 : (Jvm.Cond.privateMethod ({ cls := "TelescopeQueueModel", name := "isProposal", desc := "(I)Z" } : Jvm.MethodName)) ∈ lw_tbl := lw_at lw_m12 31 rfl
theorem q2784 : (Jvm.Cond.instanceMethod ({ cls := "TelescopeQueueModel", name := "isProposal", desc := "(I)Z" } : Jvm.MethodName)) ∈ lw_all := lw_g (lw_at lw_m12 32 rfl) rfl
theorem q2785 : (Jvm.Cond.code ({ cls := "TelescopeQueueModel", name := "isProposal", desc := "(I)Z" } : Jvm.MethodName) prog_22_method_78_code (2 : Nat) (Option.some Jvm.ClassFile.FieldType.boolean)) ∈ lw_all := lw_g (lw_at lw_m12 33 rfl) rfl
theorem q2786 : (Jvm.Cond.methodLink "TelescopeQueueModel" (361 : Nat) ({ cls := "TelescopeQueueModel", name := "mayAskFor", desc := "(ZZ)Z" } : Jvm.MethodName)) ∈ lw_all := lw_g (lw_at lw_m12 34 rfl) rfl
theorem q2787 : (Jvm.Cond.privateMethod ({ cls := "TelescopeQueueModel", name := "mayAskFor", desc := "(ZZ)Z" } : Jvm.MethodName)) ∈ lw_tbl := lw_at lw_m12 35 rfl
theorem q2788 : (Jvm.Cond.instanceMethod ({ cls := "TelescopeQueueModel", name := "mayAskFor", desc := "(ZZ)Z" } : Jvm.MethodName)) ∈ lw_all := lw_g (lw_at lw_m12 36 rfl) rfl
theorem q2789 : (Jvm.Cond.code ({ cls := "TelescopeQueueModel", name := "mayAskFor", desc := "(ZZ)Z" } : Jvm.MethodName) prog_22_method_76_code (3 : Nat) (Option.some Jvm.ClassFile.FieldType.boolean)) ∈ lw_all := lw_g (lw_at lw_m12 37 rfl) rfl
theorem q2790 : (Jvm.Cond.methodLink "TelescopeQueueModel" (259 : Nat) ({ cls := "TelescopeQueueModel", name := "leftTo", desc := "([II)I" } : Jvm.MethodName)) ∈ lw_all := lw_g (lw_at lw_m12 38 rfl) rfl
theorem q2791 : (Jvm.Cond.static ({ cls := "TelescopeQueueModel", name := "leftTo", desc := "([II)I" } : Jvm.MethodName)) ∈ lw_all := lw_g (lw_at lw_m12 39 rfl) rfl
theorem q2792 : (Jvm.Cond.code ({ cls := "TelescopeQueueModel", name := "leftTo", desc := "([II)I" } : Jvm.MethodName) prog_22_method_51_code (2 : Nat) (Option.some Jvm.ClassFile.FieldType.int)) ∈ lw_all := lw_g (lw_at lw_m12 40 rfl) rfl
theorem q2793 : (Jvm.Cond.methodLink "TelescopeQueueModel" (365 : Nat) ({ cls := "TelescopeQueueModel", name := "queuedOf", desc := "(I)I" } : Jvm.MethodName)) ∈ lw_all := lw_g (lw_at lw_m12 41 rfl) rfl
theorem q2794 : (Jvm.Cond.privateMethod ({ cls := "TelescopeQueueModel", name := "queuedOf", desc := "(I)I" } : Jvm.MethodName)) ∈ lw_tbl := lw_at lw_m12 42 rfl
theorem q2795 : (Jvm.Cond.instanceMethod ({ cls := "TelescopeQueueModel", name := "queuedOf", desc := "(I)I" } : Jvm.MethodName)) ∈ lw_all := lw_g (lw_at lw_m12 43 rfl) rfl
theorem q2796 : (Jvm.Cond.code ({ cls := "TelescopeQueueModel", name := "queuedOf", desc := "(I)I" } : Jvm.MethodName) prog_22_method_82_code (4 : Nat) (Option.some Jvm.ClassFile.FieldType.int)) ∈ lw_all := lw_g (lw_at lw_m12 44 rfl) rfl
theorem q2797 : (Jvm.Cond.methodLink "TelescopeQueueModel" (256 : Nat) ({ cls := "TelescopeQueueModel", name := "itsProposal", desc := "([II)I" } : Jvm.MethodName)) ∈ lw_all := lw_g (lw_at lw_m12 45 rfl) rfl
theorem q2798 : (Jvm.Cond.privateMethod ({ cls := "TelescopeQueueModel", name := "itsProposal", desc := "([II)I" } : Jvm.MethodName)) ∈ lw_tbl := lw_at lw_m12 46 rfl
theorem q2799 : (Jvm.Cond.instanceMethod ({ cls := "TelescopeQueueModel", name := "itsProposal", desc := "([II)I" } : Jvm.MethodName)) ∈ lw_all := lw_g (lw_at lw_m12 47 rfl) rfl
theorem q2800 : (Jvm.Cond.code ({ cls := "TelescopeQueueModel", name := "itsProposal", desc := "([II)I" } : Jvm.MethodName) prog_22_method_40_code (3 : Nat) (Option.some Jvm.ClassFile.FieldType.int)) ∈ lw_all := lw_g (lw_at lw_m12 48 rfl) rfl
theorem q2801 : (Jvm.Cond.methodLink "TelescopeQueueModel" (223 : Nat) ({ cls := "TelescopeQueueModel", name := "of", desc := "([IIII)I" } : Jvm.MethodName)) ∈ lw_all := lw_g (lw_at lw_m12 49 rfl) rfl
theorem q2802 : (Jvm.Cond.privateMethod ({ cls := "TelescopeQueueModel", name := "of", desc := "([IIII)I" } : Jvm.MethodName)) ∈ lw_tbl := lw_at lw_m12 50 rfl
theorem q2803 : (Jvm.Cond.instanceMethod ({ cls := "TelescopeQueueModel", name := "of", desc := "([IIII)I" } : Jvm.MethodName)) ∈ lw_all := lw_g (lw_at lw_m12 51 rfl) rfl
theorem q2804 : (Jvm.Cond.code ({ cls := "TelescopeQueueModel", name := "of", desc := "([IIII)I" } : Jvm.MethodName) prog_22_method_39_code (5 : Nat) (Option.some Jvm.ClassFile.FieldType.int)) ∈ lw_all := lw_g (lw_at lw_m12 52 rfl) rfl
theorem q2806 : (Jvm.Cond.instanceMethod ({ cls := "TelescopeQueueModel", name := "letter", desc := "(II)I" } : Jvm.MethodName)) ∈ lw_all := lw_g (lw_at lw_m12 54 rfl) rfl
theorem q2807 : (Jvm.Cond.selects "TelescopeQueueModel" ({ cls := "TelescopeQueueModel", name := "letter", desc := "(II)I" } : Jvm.MethodName) ({ cls := "TelescopeQueueModel", name := "letter", desc := "(II)I" } : Jvm.MethodName)) ∈ lw_all := lw_g (lw_at lw_m12 55 rfl) rfl
theorem q2808 : (Jvm.Cond.code ({ cls := "TelescopeQueueModel", name := "letter", desc := "(II)I" } : Jvm.MethodName) prog_22_method_84_code (3 : Nat) (Option.some Jvm.ClassFile.FieldType.int)) ∈ lw_all := lw_g (lw_at lw_m12 56 rfl) rfl
theorem q2809 : (Jvm.Cond.methodLink "TelescopeQueueModel" (368 : Nat) ({ cls := "TelescopeQueueModel", name := "mayAsk", desc := "(Z)Z" } : Jvm.MethodName)) ∈ lw_all := lw_g (lw_at lw_m12 57 rfl) rfl
theorem q2810 : (Jvm.Cond.privateMethod ({ cls := "TelescopeQueueModel", name := "mayAsk", desc := "(Z)Z" } : Jvm.MethodName)) ∈ lw_tbl := lw_at lw_m12 58 rfl
theorem q2811 : (Jvm.Cond.instanceMethod ({ cls := "TelescopeQueueModel", name := "mayAsk", desc := "(Z)Z" } : Jvm.MethodName)) ∈ lw_all := lw_g (lw_at lw_m12 59 rfl) rfl
theorem q2812 : (Jvm.Cond.code ({ cls := "TelescopeQueueModel", name := "mayAsk", desc := "(Z)Z" } : Jvm.MethodName) prog_22_method_75_code (2 : Nat) (Option.some Jvm.ClassFile.FieldType.boolean)) ∈ lw_all := lw_g (lw_at lw_m12 60 rfl) rfl
theorem q2814 : (Jvm.Cond.instanceMethod ({ cls := "TelescopeQueueModel", name := "visits", desc := "()I" } : Jvm.MethodName)) ∈ lw_all := lw_g (lw_at lw_m12 62 rfl) rfl
theorem q2815 : (Jvm.Cond.selects "TelescopeQueueModel" ({ cls := "TelescopeQueueModel", name := "visits", desc := "()I" } : Jvm.MethodName) ({ cls := "TelescopeQueueModel", name := "visits", desc := "()I" } : Jvm.MethodName)) ∈ lw_all := lw_g (lw_at lw_m12 63 rfl) rfl
theorem q2816 : (Jvm.Cond.code ({ cls := "TelescopeQueueModel", name := "visits", desc := "()I" } : Jvm.MethodName) prog_22_method_85_code (1 : Nat) (Option.some Jvm.ClassFile.FieldType.int)) ∈ lw_all := lw_g (lw_at lw_m12 64 rfl) rfl
theorem q2818 : (Jvm.Cond.instanceMethod ({ cls := "TelescopeQueueModel", name := "visit", desc := "(II)I" } : Jvm.MethodName)) ∈ lw_all := lw_g (lw_at lw_m12 66 rfl) rfl
theorem q2819 : (Jvm.Cond.selects "TelescopeQueueModel" ({ cls := "TelescopeQueueModel", name := "visit", desc := "(II)I" } : Jvm.MethodName) ({ cls := "TelescopeQueueModel", name := "visit", desc := "(II)I" } : Jvm.MethodName)) ∈ lw_all := lw_g (lw_at lw_m12 67 rfl) rfl
theorem q2820 : (Jvm.Cond.code ({ cls := "TelescopeQueueModel", name := "visit", desc := "(II)I" } : Jvm.MethodName) prog_22_method_86_code (3 : Nat) (Option.some Jvm.ClassFile.FieldType.int)) ∈ lw_all := lw_g (lw_at lw_m12 68 rfl) rfl
theorem q2821 : (Jvm.Cond.methodLink "TelescopeQueueModel" (372 : Nat) ({ cls := "TelescopeQueueModel", name := "isVisit", desc := "(I)Z" } : Jvm.MethodName)) ∈ lw_all := lw_g (lw_at lw_m12 69 rfl) rfl
theorem q2822 : (Jvm.Cond.privateMethod ({ cls := "TelescopeQueueModel", name := "isVisit", desc := "(I)Z" } : Jvm.MethodName)) ∈ lw_tbl := lw_at lw_m12 70 rfl
theorem q2823 : (Jvm.Cond.instanceMethod ({ cls := "TelescopeQueueModel", name := "isVisit", desc := "(I)Z" } : Jvm.MethodName)) ∈ lw_all := lw_g (lw_at lw_m12 71 rfl) rfl
theorem q2824 : (Jvm.Cond.code ({ cls := "TelescopeQueueModel", name := "isVisit", desc := "(I)Z" } : Jvm.MethodName) prog_22_method_79_code (2 : Nat) (Option.some Jvm.ClassFile.FieldType.boolean)) ∈ lw_all := lw_g (lw_at lw_m12 72 rfl) rfl
theorem q2826 : (Jvm.Cond.instanceMethod ({ cls := "TelescopeQueueModel", name := "stateOf", desc := "(I)I" } : Jvm.MethodName)) ∈ lw_all := lw_g (lw_at lw_m12 74 rfl) rfl
theorem q2827 : (Jvm.Cond.selects "TelescopeQueueModel" ({ cls := "TelescopeQueueModel", name := "stateOf", desc := "(I)I" } : Jvm.MethodName) ({ cls := "TelescopeQueueModel", name := "stateOf", desc := "(I)I" } : Jvm.MethodName)) ∈ lw_all := lw_g (lw_at lw_m12 75 rfl) rfl
theorem q2828 : (Jvm.Cond.code ({ cls := "TelescopeQueueModel", name := "stateOf", desc := "(I)I" } : Jvm.MethodName) prog_22_method_87_code (2 : Nat) (Option.some Jvm.ClassFile.FieldType.int)) ∈ lw_all := lw_g (lw_at lw_m12 76 rfl) rfl
theorem q2830 : (Jvm.Cond.instanceMethod ({ cls := "TelescopeQueueModel", name := "aborts", desc := "(I)I" } : Jvm.MethodName)) ∈ lw_all := lw_g (lw_at lw_m12 78 rfl) rfl
theorem q2831 : (Jvm.Cond.selects "TelescopeQueueModel" ({ cls := "TelescopeQueueModel", name := "aborts", desc := "(I)I" } : Jvm.MethodName) ({ cls := "TelescopeQueueModel", name := "aborts", desc := "(I)I" } : Jvm.MethodName)) ∈ lw_all := lw_g (lw_at lw_m12 79 rfl) rfl
theorem q2832 : (Jvm.Cond.code ({ cls := "TelescopeQueueModel", name := "aborts", desc := "(I)I" } : Jvm.MethodName) prog_22_method_88_code (2 : Nat) (Option.some Jvm.ClassFile.FieldType.int)) ∈ lw_all := lw_g (lw_at lw_m12 80 rfl) rfl
theorem q2834 : (Jvm.Cond.instanceMethod ({ cls := "TelescopeQueueModel", name := "startOf", desc := "(I)I" } : Jvm.MethodName)) ∈ lw_all := lw_g (lw_at lw_m12 82 rfl) rfl
theorem q2835 : (Jvm.Cond.selects "TelescopeQueueModel" ({ cls := "TelescopeQueueModel", name := "startOf", desc := "(I)I" } : Jvm.MethodName) ({ cls := "TelescopeQueueModel", name := "startOf", desc := "(I)I" } : Jvm.MethodName)) ∈ lw_all := lw_g (lw_at lw_m12 83 rfl) rfl
theorem q2836 : (Jvm.Cond.code ({ cls := "TelescopeQueueModel", name := "startOf", desc := "(I)I" } : Jvm.MethodName) prog_22_method_89_code (2 : Nat) (Option.some Jvm.ClassFile.FieldType.int)) ∈ lw_all := lw_g (lw_at lw_m12 84 rfl) rfl
theorem q2838 : (Jvm.Cond.instanceMethod ({ cls := "TelescopeQueueModel", name := "alerts", desc := "()I" } : Jvm.MethodName)) ∈ lw_all := lw_g (lw_at lw_m12 86 rfl) rfl
theorem q2839 : (Jvm.Cond.selects "TelescopeQueueModel" ({ cls := "TelescopeQueueModel", name := "alerts", desc := "()I" } : Jvm.MethodName) ({ cls := "TelescopeQueueModel", name := "alerts", desc := "()I" } : Jvm.MethodName)) ∈ lw_all := lw_g (lw_at lw_m12 87 rfl) rfl
theorem q2840 : (Jvm.Cond.code ({ cls := "TelescopeQueueModel", name := "alerts", desc := "()I" } : Jvm.MethodName) prog_22_method_90_code (1 : Nat) (Option.some Jvm.ClassFile.FieldType.int)) ∈ lw_all := lw_g (lw_at lw_m12 88 rfl) rfl
theorem q2842 : (Jvm.Cond.instanceMethod ({ cls := "TelescopeQueueModel", name := "alert", desc := "(II)I" } : Jvm.MethodName)) ∈ lw_all := lw_g (lw_at lw_m12 90 rfl) rfl
theorem q2843 : (Jvm.Cond.selects "TelescopeQueueModel" ({ cls := "TelescopeQueueModel", name := "alert", desc := "(II)I" } : Jvm.MethodName) ({ cls := "TelescopeQueueModel", name := "alert", desc := "(II)I" } : Jvm.MethodName)) ∈ lw_all := lw_g (lw_at lw_m12 91 rfl) rfl
theorem q2844 : (Jvm.Cond.code ({ cls := "TelescopeQueueModel", name := "alert", desc := "(II)I" } : Jvm.MethodName) prog_22_method_92_code (3 : Nat) (Option.some Jvm.ClassFile.FieldType.int)) ∈ lw_all := lw_g (lw_at lw_m12 92 rfl) rfl
theorem q2845 : (Jvm.Cond.methodLink "TelescopeQueueModel" (375 : Nat) ({ cls := "TelescopeQueueModel", name := "isAlert", desc := "(I)Z" } : Jvm.MethodName)) ∈ lw_all := lw_g (lw_at lw_m12 93 rfl) rfl
theorem q2846 : (Jvm.Cond.privateMethod ({ cls := "TelescopeQueueModel", name := "isAlert", desc := "(I)Z" } : Jvm.MethodName)) ∈ lw_tbl := lw_at lw_m12 94 rfl
theorem q2847 : (Jvm.Cond.instanceMethod ({ cls := "TelescopeQueueModel", name := "isAlert", desc := "(I)Z" } : Jvm.MethodName)) ∈ lw_all := lw_g (lw_at lw_m12 95 rfl) rfl
theorem q2848 : (Jvm.Cond.code ({ cls := "TelescopeQueueModel", name := "isAlert", desc := "(I)Z" } : Jvm.MethodName) prog_22_method_80_code (2 : Nat) (Option.some Jvm.ClassFile.FieldType.boolean)) ∈ lw_all := lw_g (lw_at lw_m12 96 rfl) rfl
theorem q2849 : (Jvm.Cond.methodLink "TelescopeQueueModel" (378 : Nat) ({ cls := "TelescopeQueueModel", name := "ofAlert", desc := "(II)I" } : Jvm.MethodName)) ∈ lw_all := lw_g (lw_at lw_m12 97 rfl) rfl
theorem q2850 : (Jvm.Cond.privateMethod ({ cls := "TelescopeQueueModel", name := "ofAlert", desc := "(II)I" } : Jvm.MethodName)) ∈ lw_tbl := lw_at lw_m12 98 rfl
theorem q2851 : (Jvm.Cond.instanceMethod ({ cls := "TelescopeQueueModel", name := "ofAlert", desc := "(II)I" } : Jvm.MethodName)) ∈ lw_all := lw_g (lw_at lw_m12 99 rfl) rfl
theorem q2852 : (Jvm.Cond.code ({ cls := "TelescopeQueueModel", name := "ofAlert", desc := "(II)I" } : Jvm.MethodName) prog_22_method_91_code (3 : Nat) (Option.some Jvm.ClassFile.FieldType.int)) ∈ lw_all := lw_g (lw_at lw_m12 100 rfl) rfl
theorem q2854 : (Jvm.Cond.instanceMethod ({ cls := "TelescopeQueueModel", name := "alertState", desc := "(I)I" } : Jvm.MethodName)) ∈ lw_all := lw_g (lw_at lw_m12 102 rfl) rfl
theorem q2855 : (Jvm.Cond.selects "TelescopeQueueModel" ({ cls := "TelescopeQueueModel", name := "alertState", desc := "(I)I" } : Jvm.MethodName) ({ cls := "TelescopeQueueModel", name := "alertState", desc := "(I)I" } : Jvm.MethodName)) ∈ lw_all := lw_g (lw_at lw_m12 103 rfl) rfl
theorem q2856 : (Jvm.Cond.code ({ cls := "TelescopeQueueModel", name := "alertState", desc := "(I)I" } : Jvm.MethodName) prog_22_method_93_code (2 : Nat) (Option.some Jvm.ClassFile.FieldType.int)) ∈ lw_all := lw_g (lw_at lw_m12 104 rfl) rfl
theorem q2858 : (Jvm.Cond.instanceMethod ({ cls := "TelescopeQueueModel", name := "alertDelay", desc := "(I)I" } : Jvm.MethodName)) ∈ lw_all := lw_g (lw_at lw_m12 106 rfl) rfl
theorem q2859 : (Jvm.Cond.selects "TelescopeQueueModel" ({ cls := "TelescopeQueueModel", name := "alertDelay", desc := "(I)I" } : Jvm.MethodName) ({ cls := "TelescopeQueueModel", name := "alertDelay", desc := "(I)I" } : Jvm.MethodName)) ∈ lw_all := lw_g (lw_at lw_m12 107 rfl) rfl
theorem q2860 : (Jvm.Cond.code ({ cls := "TelescopeQueueModel", name := "alertDelay", desc := "(I)I" } : Jvm.MethodName) prog_22_method_94_code (2 : Nat) (Option.some Jvm.ClassFile.FieldType.int)) ∈ lw_all := lw_g (lw_at lw_m12 108 rfl) rfl
theorem q2862 : (Jvm.Cond.instanceMethod ({ cls := "TelescopeQueueModel", name := "waiting", desc := "()I" } : Jvm.MethodName)) ∈ lw_all := lw_g (lw_at lw_m12 110 rfl) rfl
theorem q2863 : (Jvm.Cond.selects "TelescopeQueueModel" ({ cls := "TelescopeQueueModel", name := "waiting", desc := "()I" } : Jvm.MethodName) ({ cls := "TelescopeQueueModel", name := "waiting", desc := "()I" } : Jvm.MethodName)) ∈ lw_all := lw_g (lw_at lw_m12 111 rfl) rfl
theorem q2864 : (Jvm.Cond.code ({ cls := "TelescopeQueueModel", name := "waiting", desc := "()I" } : Jvm.MethodName) prog_22_method_95_code (3 : Nat) (Option.some Jvm.ClassFile.FieldType.int)) ∈ lw_all := lw_g (lw_at lw_m12 112 rfl) rfl
theorem q2866 : (Jvm.Cond.instanceMethod ({ cls := "TelescopeQueueModel", name := "now", desc := "()I" } : Jvm.MethodName)) ∈ lw_all := lw_g (lw_at lw_m12 114 rfl) rfl
theorem q2867 : (Jvm.Cond.selects "TelescopeQueueModel" ({ cls := "TelescopeQueueModel", name := "now", desc := "()I" } : Jvm.MethodName) ({ cls := "TelescopeQueueModel", name := "now", desc := "()I" } : Jvm.MethodName)) ∈ lw_all := lw_g (lw_at lw_m12 115 rfl) rfl
theorem q2868 : (Jvm.Cond.code ({ cls := "TelescopeQueueModel", name := "now", desc := "()I" } : Jvm.MethodName) prog_22_method_96_code (1 : Nat) (Option.some Jvm.ClassFile.FieldType.int)) ∈ lw_all := lw_g (lw_at lw_m12 116 rfl) rfl
theorem q2870 : (Jvm.Cond.instanceMethod ({ cls := "TelescopeQueueModel", name := "pointing", desc := "(I)I" } : Jvm.MethodName)) ∈ lw_all := lw_g (lw_at lw_m12 118 rfl) rfl
theorem q2871 : (Jvm.Cond.selects "TelescopeQueueModel" ({ cls := "TelescopeQueueModel", name := "pointing", desc := "(I)I" } : Jvm.MethodName) ({ cls := "TelescopeQueueModel", name := "pointing", desc := "(I)I" } : Jvm.MethodName)) ∈ lw_all := lw_g (lw_at lw_m12 119 rfl) rfl
theorem q2872 : (Jvm.Cond.code ({ cls := "TelescopeQueueModel", name := "pointing", desc := "(I)I" } : Jvm.MethodName) prog_22_method_97_code (2 : Nat) (Option.some Jvm.ClassFile.FieldType.int)) ∈ lw_all := lw_g (lw_at lw_m12 120 rfl) rfl
theorem q2874 : (Jvm.Cond.instanceMethod ({ cls := "TelescopeQueueModel", name := "momentum", desc := "()I" } : Jvm.MethodName)) ∈ lw_all := lw_g (lw_at lw_m12 122 rfl) rfl
theorem q2875 : (Jvm.Cond.selects "TelescopeQueueModel" ({ cls := "TelescopeQueueModel", name := "momentum", desc := "()I" } : Jvm.MethodName) ({ cls := "TelescopeQueueModel", name := "momentum", desc := "()I" } : Jvm.MethodName)) ∈ lw_all := lw_g (lw_at lw_m12 123 rfl) rfl
theorem q2876 : (Jvm.Cond.code ({ cls := "TelescopeQueueModel", name := "momentum", desc := "()I" } : Jvm.MethodName) prog_22_method_98_code (1 : Nat) (Option.some Jvm.ClassFile.FieldType.int)) ∈ lw_all := lw_g (lw_at lw_m12 124 rfl) rfl
theorem q2878 : (Jvm.Cond.instanceMethod ({ cls := "TelescopeQueueModel", name := "sinceCalibration", desc := "()I" } : Jvm.MethodName)) ∈ lw_all := lw_g (lw_at lw_m12 126 rfl) rfl
theorem q2879 : (Jvm.Cond.selects "TelescopeQueueModel" ({ cls := "TelescopeQueueModel", name := "sinceCalibration", desc := "()I" } : Jvm.MethodName) ({ cls := "TelescopeQueueModel", name := "sinceCalibration", desc := "()I" } : Jvm.MethodName)) ∈ lw_all := lw_g (lw_at lw_m12 127 rfl) rfl
theorem q2880 : (Jvm.Cond.code ({ cls := "TelescopeQueueModel", name := "sinceCalibration", desc := "()I" } : Jvm.MethodName) prog_22_method_99_code (1 : Nat) (Option.some Jvm.ClassFile.FieldType.int)) ∈ lw_all := lw_g (lw_at lw_m12 128 rfl) rfl
theorem q2882 : (Jvm.Cond.instanceMethod ({ cls := "TelescopeQueueModel", name := "setting", desc := "(I)I" } : Jvm.MethodName)) ∈ lw_all := lw_g (lw_at lw_m12 130 rfl) rfl
theorem q2883 : (Jvm.Cond.selects "TelescopeQueueModel" ({ cls := "TelescopeQueueModel", name := "setting", desc := "(I)I" } : Jvm.MethodName) ({ cls := "TelescopeQueueModel", name := "setting", desc := "(I)I" } : Jvm.MethodName)) ∈ lw_all := lw_g (lw_at lw_m12 131 rfl) rfl
theorem q2884 : (Jvm.Cond.code ({ cls := "TelescopeQueueModel", name := "setting", desc := "(I)I" } : Jvm.MethodName) prog_22_method_100_code (2 : Nat) (Option.some Jvm.ClassFile.FieldType.int)) ∈ lw_all := lw_g (lw_at lw_m12 132 rfl) rfl
theorem q2886 : (Jvm.Cond.instanceMethod ({ cls := "TelescopeQueueModel", name := "sun", desc := "(I)I" } : Jvm.MethodName)) ∈ lw_all := lw_g (lw_at lw_m12 134 rfl) rfl
theorem q2887 : (Jvm.Cond.selects "TelescopeQueueModel" ({ cls := "TelescopeQueueModel", name := "sun", desc := "(I)I" } : Jvm.MethodName) ({ cls := "TelescopeQueueModel", name := "sun", desc := "(I)I" } : Jvm.MethodName)) ∈ lw_all := lw_g (lw_at lw_m12 135 rfl) rfl
theorem q2888 : (Jvm.Cond.code ({ cls := "TelescopeQueueModel", name := "sun", desc := "(I)I" } : Jvm.MethodName) prog_22_method_101_code (2 : Nat) (Option.some Jvm.ClassFile.FieldType.int)) ∈ lw_all := lw_g (lw_at lw_m12 136 rfl) rfl
theorem q2889 : (Jvm.Cond.methodLink "TelescopeQueueModel" (220 : Nat) ({ cls := "TelescopeQueueModel", name := "sunAt", desc := "(I)I" } : Jvm.MethodName)) ∈ lw_all := lw_g (lw_at lw_m12 137 rfl) rfl
theorem q2890 : (Jvm.Cond.privateMethod ({ cls := "TelescopeQueueModel", name := "sunAt", desc := "(I)I" } : Jvm.MethodName)) ∈ lw_tbl := lw_at lw_m12 138 rfl
theorem q2891 : (Jvm.Cond.instanceMethod ({ cls := "TelescopeQueueModel", name := "sunAt", desc := "(I)I" } : Jvm.MethodName)) ∈ lw_all := lw_g (lw_at lw_m12 139 rfl) rfl
theorem q2892 : (Jvm.Cond.code ({ cls := "TelescopeQueueModel", name := "sunAt", desc := "(I)I" } : Jvm.MethodName) prog_22_method_37_code (2 : Nat) (Option.some Jvm.ClassFile.FieldType.int)) ∈ lw_all := lw_g (lw_at lw_m12 140 rfl) rfl
theorem q2893 : (Jvm.Cond.constantLong "TelescopeQueueModel" (218 : Nat) (360 : Int64)) ∈ lw_all := lw_g (lw_at lw_m12 141 rfl) rfl
theorem q2895 : (Jvm.Cond.instanceMethod ({ cls := "TelescopeQueueModel", name := "angleTo", desc := "(II)I" } : Jvm.MethodName)) ∈ lw_all := lw_g (lw_at lw_m12 143 rfl) rfl
theorem q2896 : (Jvm.Cond.selects "TelescopeQueueModel" ({ cls := "TelescopeQueueModel", name := "angleTo", desc := "(II)I" } : Jvm.MethodName) ({ cls := "TelescopeQueueModel", name := "angleTo", desc := "(II)I" } : Jvm.MethodName)) ∈ lw_all := lw_g (lw_at lw_m12 144 rfl) rfl
theorem q2897 : (Jvm.Cond.code ({ cls := "TelescopeQueueModel", name := "angleTo", desc := "(II)I" } : Jvm.MethodName) prog_22_method_104_code (3 : Nat) (Option.some Jvm.ClassFile.FieldType.int)) ∈ lw_all := lw_g (lw_at lw_m12 145 rfl) rfl
theorem q2898 : (Jvm.Cond.methodLink "TelescopeQueueModel" (381 : Nat) ({ cls := "TelescopeQueueModel", name := "isLon", desc := "(I)Z" } : Jvm.MethodName)) ∈ lw_all := lw_g (lw_at lw_m12 146 rfl) rfl
theorem q2899 : (Jvm.Cond.static ({ cls := "TelescopeQueueModel", name := "isLon", desc := "(I)Z" } : Jvm.MethodName)) ∈ lw_all := lw_g (lw_at lw_m12 147 rfl) rfl
theorem q2900 : (Jvm.Cond.code ({ cls := "TelescopeQueueModel", name := "isLon", desc := "(I)Z" } : Jvm.MethodName) prog_22_method_102_code (1 : Nat) (Option.some Jvm.ClassFile.FieldType.boolean)) ∈ lw_all := lw_g (lw_at lw_m12 148 rfl) rfl
theorem q2901 : (Jvm.Cond.methodLink "TelescopeQueueModel" (384 : Nat) ({ cls := "TelescopeQueueModel", name := "isLat", desc := "(I)Z" } : Jvm.MethodName)) ∈ lw_all := lw_g (lw_at lw_m12 149 rfl) rfl
theorem q2902 : (Jvm.Cond.static ({ cls := "TelescopeQueueModel", name := "isLat", desc := "(I)Z" } : Jvm.MethodName)) ∈ lw_all := lw_g (lw_at lw_m12 150 rfl) rfl
theorem q2903 : (Jvm.Cond.code ({ cls := "TelescopeQueueModel", name := "isLat", desc := "(I)Z" } : Jvm.MethodName) prog_22_method_103_code (1 : Nat) (Option.some Jvm.ClassFile.FieldType.boolean)) ∈ lw_all := lw_g (lw_at lw_m12 151 rfl) rfl
theorem q2904 : (Jvm.Cond.methodLink "TelescopeQueueModel" (208 : Nat) ({ cls := "TelescopeQueueModel", name := "angle", desc := "([III)I" } : Jvm.MethodName)) ∈ lw_all := lw_g (lw_at lw_m12 152 rfl) rfl
theorem q2905 : (Jvm.Cond.static ({ cls := "TelescopeQueueModel", name := "angle", desc := "([III)I" } : Jvm.MethodName)) ∈ lw_all := lw_g (lw_at lw_m12 153 rfl) rfl
theorem q2906 : (Jvm.Cond.code ({ cls := "TelescopeQueueModel", name := "angle", desc := "([III)I" } : Jvm.MethodName) prog_22_method_36_code (3 : Nat) (Option.some Jvm.ClassFile.FieldType.int)) ∈ lw_all := lw_g (lw_at lw_m12 154 rfl) rfl
theorem q2907 : (Jvm.Cond.methodLink "TelescopeQueueModel" (212 : Nat) ({ cls := "TelescopeQueueModel", name := "apart", desc := "(II)I" } : Jvm.MethodName)) ∈ lw_all := lw_g (lw_at lw_m12 155 rfl) rfl
theorem q2908 : (Jvm.Cond.static ({ cls := "TelescopeQueueModel", name := "apart", desc := "(II)I" } : Jvm.MethodName)) ∈ lw_all := lw_g (lw_at lw_m12 156 rfl) rfl
theorem q2909 : (Jvm.Cond.code ({ cls := "TelescopeQueueModel", name := "apart", desc := "(II)I" } : Jvm.MethodName) prog_22_method_34_code (3 : Nat) (Option.some Jvm.ClassFile.FieldType.int)) ∈ lw_all := lw_g (lw_at lw_m12 157 rfl) rfl
theorem q2910 : (Jvm.Cond.methodLink "TelescopeQueueModel" (200 : Nat) ({ cls := "java/lang/Math", name := "abs", desc := "(I)I" } : Jvm.MethodName)) ∈ lw_all := lw_g (lw_at lw_m12 158 rfl) rfl
theorem q2911 : (Jvm.Cond.methodLink "TelescopeQueueModel" (205 : Nat) ({ cls := "java/lang/Math", name := "min", desc := "(II)I" } : Jvm.MethodName)) ∈ lw_all := lw_g (lw_at lw_m12 159 rfl) rfl
theorem q2912 : (Jvm.Cond.methodLink "TelescopeQueueModel" (215 : Nat) ({ cls := "java/lang/Math", name := "max", desc := "(II)I" } : Jvm.MethodName)) ∈ lw_all := lw_g (lw_at lw_m12 160 rfl) rfl
theorem q2914 : (Jvm.Cond.instanceMethod ({ cls := "TelescopeQueueModel", name := "slewTo", desc := "(II)I" } : Jvm.MethodName)) ∈ lw_all := lw_g (lw_at lw_m12 162 rfl) rfl
theorem q2915 : (Jvm.Cond.selects "TelescopeQueueModel" ({ cls := "TelescopeQueueModel", name := "slewTo", desc := "(II)I" } : Jvm.MethodName) ({ cls := "TelescopeQueueModel", name := "slewTo", desc := "(II)I" } : Jvm.MethodName)) ∈ lw_all := lw_g (lw_at lw_m12 163 rfl) rfl
theorem q2916 : (Jvm.Cond.code ({ cls := "TelescopeQueueModel", name := "slewTo", desc := "(II)I" } : Jvm.MethodName) prog_22_method_105_code (3 : Nat) (Option.some Jvm.ClassFile.FieldType.int)) ∈ lw_all := lw_g (lw_at lw_m12 164 rfl) rfl
theorem q2917 : (Jvm.Cond.methodLink "TelescopeQueueModel" (247 : Nat) ({ cls := "TelescopeQueueModel", name := "minutes", desc := "([III)I" } : Jvm.MethodName)) ∈ lw_all := lw_g (lw_at lw_m12 165 rfl) rfl
theorem q2918 : (Jvm.Cond.privateMethod ({ cls := "TelescopeQueueModel", name := "minutes", desc := "([III)I" } : Jvm.MethodName)) ∈ lw_tbl := lw_at lw_m12 166 rfl
theorem q2919 : (Jvm.Cond.instanceMethod ({ cls := "TelescopeQueueModel", name := "minutes", desc := "([III)I" } : Jvm.MethodName)) ∈ lw_all := lw_g (lw_at lw_m12 167 rfl) rfl
theorem q2920 : (Jvm.Cond.code ({ cls := "TelescopeQueueModel", name := "minutes", desc := "([III)I" } : Jvm.MethodName) prog_22_method_35_code (5 : Nat) (Option.some Jvm.ClassFile.FieldType.int)) ∈ lw_all := lw_g (lw_at lw_m12 168 rfl) rfl
theorem q2922 : (Jvm.Cond.instanceMethod ({ cls := "TelescopeQueueModel", name := "isVisible", desc := "(II)Z" } : Jvm.MethodName)) ∈ lw_all := lw_g (lw_at lw_m12 170 rfl) rfl
theorem q2923 : (Jvm.Cond.selects "TelescopeQueueModel" ({ cls := "TelescopeQueueModel", name := "isVisible", desc := "(II)Z" } : Jvm.MethodName) ({ cls := "TelescopeQueueModel", name := "isVisible", desc := "(II)Z" } : Jvm.MethodName)) ∈ lw_all := lw_g (lw_at lw_m12 171 rfl) rfl
theorem q2924 : (Jvm.Cond.code ({ cls := "TelescopeQueueModel", name := "isVisible", desc := "(II)Z" } : Jvm.MethodName) prog_22_method_106_code (3 : Nat) (Option.some Jvm.ClassFile.FieldType.boolean)) ∈ lw_all := lw_g (lw_at lw_m12 172 rfl) rfl
theorem q2925 : (Jvm.Cond.methodLink "TelescopeQueueModel" (265 : Nat) ({ cls := "TelescopeQueueModel", name := "isSeen", desc := "(II)Z" } : Jvm.MethodName)) ∈ lw_all := lw_g (lw_at lw_m12 173 rfl) rfl
theorem q2926 : (Jvm.Cond.privateMethod ({ cls := "TelescopeQueueModel", name := "isSeen", desc := "(II)Z" } : Jvm.MethodName)) ∈ lw_tbl := lw_at lw_m12 174 rfl
theorem q2927 : (Jvm.Cond.instanceMethod ({ cls := "TelescopeQueueModel", name := "isSeen", desc := "(II)Z" } : Jvm.MethodName)) ∈ lw_all := lw_g (lw_at lw_m12 175 rfl) rfl
theorem q2928 : (Jvm.Cond.code ({ cls := "TelescopeQueueModel", name := "isSeen", desc := "(II)Z" } : Jvm.MethodName) prog_22_method_38_code (3 : Nat) (Option.some Jvm.ClassFile.FieldType.boolean)) ∈ lw_all := lw_g (lw_at lw_m12 176 rfl) rfl
theorem q2930 : (Jvm.Cond.instanceMethod ({ cls := "TelescopeQueueModel", name := "nextVisible", desc := "(II)I" } : Jvm.MethodName)) ∈ lw_all := lw_g (lw_at lw_m12 178 rfl) rfl
theorem q2931 : (Jvm.Cond.selects "TelescopeQueueModel" ({ cls := "TelescopeQueueModel", name := "nextVisible", desc := "(II)I" } : Jvm.MethodName) ({ cls := "TelescopeQueueModel", name := "nextVisible", desc := "(II)I" } : Jvm.MethodName)) ∈ lw_all := lw_g (lw_at lw_m12 179 rfl) rfl
theorem q2932 : (Jvm.Cond.code ({ cls := "TelescopeQueueModel", name := "nextVisible", desc := "(II)I" } : Jvm.MethodName) prog_22_method_107_code (4 : Nat) (Option.some Jvm.ClassFile.FieldType.int)) ∈ lw_all := lw_g (lw_at lw_m12 180 rfl) rfl
theorem q2934 : (Jvm.Cond.instanceMethod ({ cls := "TelescopeQueueModel", name := "growth", desc := "(I)I" } : Jvm.MethodName)) ∈ lw_all := lw_g (lw_at lw_m12 182 rfl) rfl
theorem q2935 : (Jvm.Cond.selects "TelescopeQueueModel" ({ cls := "TelescopeQueueModel", name := "growth", desc := "(I)I" } : Jvm.MethodName) ({ cls := "TelescopeQueueModel", name := "growth", desc := "(I)I" } : Jvm.MethodName)) ∈ lw_all := lw_g (lw_at lw_m12 183 rfl) rfl
theorem q2936 : (Jvm.Cond.code ({ cls := "TelescopeQueueModel", name := "growth", desc := "(I)I" } : Jvm.MethodName) prog_22_method_108_code (2 : Nat) (Option.some Jvm.ClassFile.FieldType.int)) ∈ lw_all := lw_g (lw_at lw_m12 184 rfl) rfl
theorem q2937 : (Jvm.Cond.methodLink "TelescopeQueueModel" (231 : Nat) ({ cls := "TelescopeQueueModel", name := "itsDuration", desc := "([II)I" } : Jvm.MethodName)) ∈ lw_all := lw_g (lw_at lw_m12 185 rfl) rfl
theorem q2938 : (Jvm.Cond.privateMethod ({ cls := "TelescopeQueueModel", name := "itsDuration", desc := "([II)I" } : Jvm.MethodName)) ∈ lw_tbl := lw_at lw_m12 186 rfl
theorem q2939 : (Jvm.Cond.instanceMethod ({ cls := "TelescopeQueueModel", name := "itsDuration", desc := "([II)I" } : Jvm.MethodName)) ∈ lw_all := lw_g (lw_at lw_m12 187 rfl) rfl
theorem q2940 : (Jvm.Cond.code ({ cls := "TelescopeQueueModel", name := "itsDuration", desc := "([II)I" } : Jvm.MethodName) prog_22_method_43_code (3 : Nat) (Option.some Jvm.ClassFile.FieldType.int)) ∈ lw_all := lw_g (lw_at lw_m12 188 rfl) rfl
theorem q2941 : (Jvm.Cond.methodLink "TelescopeQueueModel" (234 : Nat) ({ cls := "TelescopeQueueModel", name := "grows", desc := "([III)I" } : Jvm.MethodName)) ∈ lw_all := lw_g (lw_at lw_m12 189 rfl) rfl
theorem q2942 : (Jvm.Cond.privateMethod ({ cls := "TelescopeQueueModel", name := "grows", desc := "([III)I" } : Jvm.MethodName)) ∈ lw_tbl := lw_at lw_m12 190 rfl
theorem q2943 : (Jvm.Cond.instanceMethod ({ cls := "TelescopeQueueModel", name := "grows", desc := "([III)I" } : Jvm.MethodName)) ∈ lw_all := lw_g (lw_at lw_m12 191 rfl) rfl
theorem q2944 : (Jvm.Cond.code ({ cls := "TelescopeQueueModel", name := "grows", desc := "([III)I" } : Jvm.MethodName) prog_22_method_48_code (4 : Nat) (Option.some Jvm.ClassFile.FieldType.int)) ∈ lw_all := lw_g (lw_at lw_m12 192 rfl) rfl
theorem q2946 : (Jvm.Cond.instanceMethod ({ cls := "TelescopeQueueModel", name := "needsDump", desc := "(I)Z" } : Jvm.MethodName)) ∈ lw_all := lw_g (lw_at lw_m12 194 rfl) rfl
theorem q2947 : (Jvm.Cond.selects "TelescopeQueueModel" ({ cls := "TelescopeQueueModel", name := "needsDump", desc := "(I)Z" } : Jvm.MethodName) ({ cls := "TelescopeQueueModel", name := "needsDump", desc := "(I)Z" } : Jvm.MethodName)) ∈ lw_all := lw_g (lw_at lw_m12 195 rfl) rfl
theorem q2948 : (Jvm.Cond.code ({ cls := "TelescopeQueueModel", name := "needsDump", desc := "(I)Z" } : Jvm.MethodName) prog_22_method_109_code (2 : Nat) (Option.some Jvm.ClassFile.FieldType.boolean)) ∈ lw_all := lw_g (lw_at lw_m12 196 rfl) rfl
theorem q2949 : (Jvm.Cond.methodLink "TelescopeQueueModel" (237 : Nat) ({ cls := "TelescopeQueueModel", name := "dumpsFor", desc := "([II)Z" } : Jvm.MethodName)) ∈ lw_all := lw_g (lw_at lw_m12 197 rfl) rfl
theorem q2950 : (Jvm.Cond.privateMethod ({ cls := "TelescopeQueueModel", name := "dumpsFor", desc := "([II)Z" } : Jvm.MethodName)) ∈ lw_tbl := lw_at lw_m12 198 rfl
theorem q2951 : (Jvm.Cond.instanceMethod ({ cls := "TelescopeQueueModel", name := "dumpsFor", desc := "([II)Z" } : Jvm.MethodName)) ∈ lw_all := lw_g (lw_at lw_m12 199 rfl) rfl
theorem q2952 : (Jvm.Cond.code ({ cls := "TelescopeQueueModel", name := "dumpsFor", desc := "([II)Z" } : Jvm.MethodName) prog_22_method_49_code (3 : Nat) (Option.some Jvm.ClassFile.FieldType.boolean)) ∈ lw_all := lw_g (lw_at lw_m12 200 rfl) rfl
theorem q2954 : (Jvm.Cond.instanceMethod ({ cls := "TelescopeQueueModel", name := "startIf", desc := "(I)I" } : Jvm.MethodName)) ∈ lw_all := lw_g (lw_at lw_m12 202 rfl) rfl
theorem q2955 : (Jvm.Cond.selects "TelescopeQueueModel" ({ cls := "TelescopeQueueModel", name := "startIf", desc := "(I)I" } : Jvm.MethodName) ({ cls := "TelescopeQueueModel", name := "startIf", desc := "(I)I" } : Jvm.MethodName)) ∈ lw_all := lw_g (lw_at lw_m12 203 rfl) rfl
theorem q2956 : (Jvm.Cond.code ({ cls := "TelescopeQueueModel", name := "startIf", desc := "(I)I" } : Jvm.MethodName) prog_22_method_110_code (2 : Nat) (Option.some Jvm.ClassFile.FieldType.int)) ∈ lw_all := lw_g (lw_at lw_m12 204 rfl) rfl
theorem q2957 : (Jvm.Cond.methodLink "TelescopeQueueModel" (250 : Nat) ({ cls := "TelescopeQueueModel", name := "startFor", desc := "([II)I" } : Jvm.MethodName)) ∈ lw_all := lw_g (lw_at lw_m12 205 rfl) rfl
theorem q2958 : (Jvm.Cond.privateMethod ({ cls := "TelescopeQueueModel", name := "startFor", desc := "([II)I" } : Jvm.MethodName)) ∈ lw_tbl := lw_at lw_m12 206 rfl
theorem q2959 : (Jvm.Cond.instanceMethod ({ cls := "TelescopeQueueModel", name := "startFor", desc := "([II)I" } : Jvm.MethodName)) ∈ lw_all := lw_g (lw_at lw_m12 207 rfl) rfl
theorem q2960 : (Jvm.Cond.code ({ cls := "TelescopeQueueModel", name := "startFor", desc := "([II)I" } : Jvm.MethodName) prog_22_method_50_code (3 : Nat) (Option.some Jvm.ClassFile.FieldType.int)) ∈ lw_all := lw_g (lw_at lw_m12 208 rfl) rfl
theorem q2961 : (Jvm.Cond.methodLink "TelescopeQueueModel" (241 : Nat) ({ cls := "TelescopeQueueModel", name := "itsLon", desc := "([II)I" } : Jvm.MethodName)) ∈ lw_all := lw_g (lw_at lw_m12 209 rfl) rfl
theorem q2962 : (Jvm.Cond.privateMethod ({ cls := "TelescopeQueueModel", name := "itsLon", desc := "([II)I" } : Jvm.MethodName)) ∈ lw_tbl := lw_at lw_m12 210 rfl
theorem q2963 : (Jvm.Cond.instanceMethod ({ cls := "TelescopeQueueModel", name := "itsLon", desc := "([II)I" } : Jvm.MethodName)) ∈ lw_all := lw_g (lw_at lw_m12 211 rfl) rfl
theorem q2964 : (Jvm.Cond.code ({ cls := "TelescopeQueueModel", name := "itsLon", desc := "([II)I" } : Jvm.MethodName) prog_22_method_41_code (3 : Nat) (Option.some Jvm.ClassFile.FieldType.int)) ∈ lw_all := lw_g (lw_at lw_m12 212 rfl) rfl
theorem q2965 : (Jvm.Cond.methodLink "TelescopeQueueModel" (244 : Nat) ({ cls := "TelescopeQueueModel", name := "itsLat", desc := "([II)I" } : Jvm.MethodName)) ∈ lw_all := lw_g (lw_at lw_m12 213 rfl) rfl
theorem q2966 : (Jvm.Cond.privateMethod ({ cls := "TelescopeQueueModel", name := "itsLat", desc := "([II)I" } : Jvm.MethodName)) ∈ lw_tbl := lw_at lw_m12 214 rfl
theorem q2967 : (Jvm.Cond.instanceMethod ({ cls := "TelescopeQueueModel", name := "itsLat", desc := "([II)I" } : Jvm.MethodName)) ∈ lw_all := lw_g (lw_at lw_m12 215 rfl) rfl
theorem q2968 : (Jvm.Cond.code ({ cls := "TelescopeQueueModel", name := "itsLat", desc := "([II)I" } : Jvm.MethodName) prog_22_method_42_code (3 : Nat) (Option.some Jvm.ClassFile.FieldType.int)) ∈ lw_all := lw_g (lw_at lw_m12 216 rfl) rfl
theorem q2970 : (Jvm.Cond.instanceMethod ({ cls := "TelescopeQueueModel", name := "reason", desc := "(I)I" } : Jvm.MethodName)) ∈ lw_all := lw_g (lw_at lw_m12 218 rfl) rfl
theorem q2971 : (Jvm.Cond.selects "TelescopeQueueModel" ({ cls := "TelescopeQueueModel", name := "reason", desc := "(I)I" } : Jvm.MethodName) ({ cls := "TelescopeQueueModel", name := "reason", desc := "(I)I" } : Jvm.MethodName)) ∈ lw_all := lw_g (lw_at lw_m12 219 rfl) rfl
theorem q2972 : (Jvm.Cond.code ({ cls := "TelescopeQueueModel", name := "reason", desc := "(I)I" } : Jvm.MethodName) prog_22_method_111_code (2 : Nat) (Option.some Jvm.ClassFile.FieldType.int)) ∈ lw_all := lw_g (lw_at lw_m12 220 rfl) rfl
theorem q2973 : (Jvm.Cond.methodLink "TelescopeQueueModel" (275 : Nat) ({ cls := "TelescopeQueueModel", name := "reasonFor", desc := "([II)I" } : Jvm.MethodName)) ∈ lw_all := lw_g (lw_at lw_m12 221 rfl) rfl
theorem q2974 : (Jvm.Cond.privateMethod ({ cls := "TelescopeQueueModel", name := "reasonFor", desc := "([II)I" } : Jvm.MethodName)) ∈ lw_tbl := lw_at lw_m12 222 rfl
theorem q2975 : (Jvm.Cond.instanceMethod ({ cls := "TelescopeQueueModel", name := "reasonFor", desc := "([II)I" } : Jvm.MethodName)) ∈ lw_all := lw_g (lw_at lw_m12 223 rfl) rfl
theorem q2976 : (Jvm.Cond.code ({ cls := "TelescopeQueueModel", name := "reasonFor", desc := "([II)I" } : Jvm.MethodName) prog_22_method_53_code (6 : Nat) (Option.some Jvm.ClassFile.FieldType.int)) ∈ lw_all := lw_g (lw_at lw_m12 224 rfl) rfl
theorem q2977 : (Jvm.Cond.methodLink "TelescopeQueueModel" (253 : Nat) ({ cls := "TelescopeQueueModel", name := "stateAt", desc := "(I)I" } : Jvm.MethodName)) ∈ lw_all := lw_g (lw_at lw_m12 225 rfl) rfl
theorem q2978 : (Jvm.Cond.static ({ cls := "TelescopeQueueModel", name := "stateAt", desc := "(I)I" } : Jvm.MethodName)) ∈ lw_all := lw_g (lw_at lw_m12 226 rfl) rfl
theorem q2979 : (Jvm.Cond.code ({ cls := "TelescopeQueueModel", name := "stateAt", desc := "(I)I" } : Jvm.MethodName) prog_22_method_46_code (1 : Nat) (Option.some Jvm.ClassFile.FieldType.int)) ∈ lw_all := lw_g (lw_at lw_m12 227 rfl) rfl
theorem q2980 : (Jvm.Cond.methodLink "TelescopeQueueModel" (227 : Nat) ({ cls := "TelescopeQueueModel", name := "itsFrom", desc := "([II)I" } : Jvm.MethodName)) ∈ lw_all := lw_g (lw_at lw_m12 228 rfl) rfl
theorem q2981 : (Jvm.Cond.privateMethod ({ cls := "TelescopeQueueModel", name := "itsFrom", desc := "([II)I" } : Jvm.MethodName)) ∈ lw_tbl := lw_at lw_m12 229 rfl
theorem q2982 : (Jvm.Cond.instanceMethod ({ cls := "TelescopeQueueModel", name := "itsFrom", desc := "([II)I" } : Jvm.MethodName)) ∈ lw_all := lw_g (lw_at lw_m12 230 rfl) rfl
theorem q2983 : (Jvm.Cond.code ({ cls := "TelescopeQueueModel", name := "itsFrom", desc := "([II)I" } : Jvm.MethodName) prog_22_method_44_code (3 : Nat) (Option.some Jvm.ClassFile.FieldType.int)) ∈ lw_all := lw_g (lw_at lw_m12 231 rfl) rfl
theorem q2984 : (Jvm.Cond.methodLink "TelescopeQueueModel" (262 : Nat) ({ cls := "TelescopeQueueModel", name := "itsTo", desc := "([II)I" } : Jvm.MethodName)) ∈ lw_all := lw_g (lw_at lw_m12 232 rfl) rfl
theorem q2985 : (Jvm.Cond.privateMethod ({ cls := "TelescopeQueueModel", name := "itsTo", desc := "([II)I" } : Jvm.MethodName)) ∈ lw_tbl := lw_at lw_m12 233 rfl
theorem q2986 : (Jvm.Cond.instanceMethod ({ cls := "TelescopeQueueModel", name := "itsTo", desc := "([II)I" } : Jvm.MethodName)) ∈ lw_all := lw_g (lw_at lw_m12 234 rfl) rfl
theorem q2987 : (Jvm.Cond.code ({ cls := "TelescopeQueueModel", name := "itsTo", desc := "([II)I" } : Jvm.MethodName) prog_22_method_45_code (3 : Nat) (Option.some Jvm.ClassFile.FieldType.int)) ∈ lw_all := lw_g (lw_at lw_m12 235 rfl) rfl
theorem q2988 : (Jvm.Cond.methodLink "TelescopeQueueModel" (269 : Nat) ({ cls := "TelescopeQueueModel", name := "isOut", desc := "(II)Z" } : Jvm.MethodName)) ∈ lw_all := lw_g (lw_at lw_m12 236 rfl) rfl
theorem q2989 : (Jvm.Cond.privateMethod ({ cls := "TelescopeQueueModel", name := "isOut", desc := "(II)Z" } : Jvm.MethodName)) ∈ lw_tbl := lw_at lw_m12 237 rfl
theorem q2990 : (Jvm.Cond.instanceMethod ({ cls := "TelescopeQueueModel", name := "isOut", desc := "(II)Z" } : Jvm.MethodName)) ∈ lw_all := lw_g (lw_at lw_m12 238 rfl) rfl
theorem q2991 : (Jvm.Cond.code ({ cls := "TelescopeQueueModel", name := "isOut", desc := "(II)Z" } : Jvm.MethodName) prog_22_method_52_code (5 : Nat) (Option.some Jvm.ClassFile.FieldType.boolean)) ∈ lw_all := lw_g (lw_at lw_m12 239 rfl) rfl
theorem q2993 : (Jvm.Cond.instanceMethod ({ cls := "TelescopeQueueModel", name := "chosen", desc := "()I" } : Jvm.MethodName)) ∈ lw_all := lw_g (lw_at lw_m13 1 rfl) rfl
theorem q2994 : (Jvm.Cond.selects "TelescopeQueueModel" ({ cls := "TelescopeQueueModel", name := "chosen", desc := "()I" } : Jvm.MethodName) ({ cls := "TelescopeQueueModel", name := "chosen", desc := "()I" } : Jvm.MethodName)) ∈ lw_all := lw_g (lw_at lw_m13 2 rfl) rfl
theorem q2995 : (Jvm.Cond.code ({ cls := "TelescopeQueueModel", name := "chosen", desc := "()I" } : Jvm.MethodName) prog_22_method_112_code (1 : Nat) (Option.some Jvm.ClassFile.FieldType.int)) ∈ lw_all := lw_g (lw_at lw_m13 3 rfl) rfl
theorem q2996 : (Jvm.Cond.methodLink "TelescopeQueueModel" (336 : Nat) ({ cls := "TelescopeQueueModel", name := "chosenOf", desc := "([I)I" } : Jvm.MethodName)) ∈ lw_all := lw_g (lw_at lw_m13 4 rfl) rfl
theorem q2997 : (Jvm.Cond.privateMethod ({ cls := "TelescopeQueueModel", name := "chosenOf", desc := "([I)I" } : Jvm.MethodName)) ∈ lw_tbl := lw_at lw_m13 5 rfl
theorem q2998 : (Jvm.Cond.instanceMethod ({ cls := "TelescopeQueueModel", name := "chosenOf", desc := "([I)I" } : Jvm.MethodName)) ∈ lw_all := lw_g (lw_at lw_m13 6 rfl) rfl
theorem q2999 : (Jvm.Cond.code ({ cls := "TelescopeQueueModel", name := "chosenOf", desc := "([I)I" } : Jvm.MethodName) prog_22_method_56_code (4 : Nat) (Option.some Jvm.ClassFile.FieldType.int)) ∈ lw_all := lw_g (lw_at lw_m13 7 rfl) rfl
theorem q3000 : (Jvm.Cond.methodLink "TelescopeQueueModel" (278 : Nat) ({ cls := "TelescopeQueueModel", name := "isAhead", desc := "([III)Z" } : Jvm.MethodName)) ∈ lw_all := lw_g (lw_at lw_m13 8 rfl) rfl
theorem q3001 : (Jvm.Cond.privateMethod ({ cls := "TelescopeQueueModel", name := "isAhead", desc := "([III)Z" } : Jvm.MethodName)) ∈ lw_tbl := lw_at lw_m13 9 rfl
theorem q3002 : (Jvm.Cond.instanceMethod ({ cls := "TelescopeQueueModel", name := "isAhead", desc := "([III)Z" } : Jvm.MethodName)) ∈ lw_all := lw_g (lw_at lw_m13 10 rfl) rfl
theorem q3003 : (Jvm.Cond.code ({ cls := "TelescopeQueueModel", name := "isAhead", desc := "([III)Z" } : Jvm.MethodName) prog_22_method_54_code (6 : Nat) (Option.some Jvm.ClassFile.FieldType.boolean)) ∈ lw_all := lw_g (lw_at lw_m13 11 rfl) rfl
theorem q3004 : (Jvm.Cond.methodLink "TelescopeQueueModel" (272 : Nat) ({ cls := "TelescopeQueueModel", name := "sharesBy", desc := "([III)I" } : Jvm.MethodName)) ∈ lw_all := lw_g (lw_at lw_m13 12 rfl) rfl
theorem q3005 : (Jvm.Cond.static ({ cls := "TelescopeQueueModel", name := "sharesBy", desc := "([III)I" } : Jvm.MethodName)) ∈ lw_all := lw_g (lw_at lw_m13 13 rfl) rfl
theorem q3006 : (Jvm.Cond.code ({ cls := "TelescopeQueueModel", name := "sharesBy", desc := "([III)I" } : Jvm.MethodName) prog_22_method_55_code (7 : Nat) (Option.some Jvm.ClassFile.FieldType.int)) ∈ lw_all := lw_g (lw_at lw_m13 14 rfl) rfl
theorem q3008 : (Jvm.Cond.instanceMethod ({ cls := "TelescopeQueueModel", name := "nextKind", desc := "()I" } : Jvm.MethodName)) ∈ lw_all := lw_g (lw_at lw_m13 16 rfl) rfl
theorem q3009 : (Jvm.Cond.selects "TelescopeQueueModel" ({ cls := "TelescopeQueueModel", name := "nextKind", desc := "()I" } : Jvm.MethodName) ({ cls := "TelescopeQueueModel", name := "nextKind", desc := "()I" } : Jvm.MethodName)) ∈ lw_all := lw_g (lw_at lw_m13 17 rfl) rfl
theorem q3010 : (Jvm.Cond.code ({ cls := "TelescopeQueueModel", name := "nextKind", desc := "()I" } : Jvm.MethodName) prog_22_method_113_code (1 : Nat) (Option.some Jvm.ClassFile.FieldType.int)) ∈ lw_all := lw_g (lw_at lw_m13 18 rfl) rfl
theorem q3011 : (Jvm.Cond.methodLink "TelescopeQueueModel" (349 : Nat) ({ cls := "TelescopeQueueModel", name := "steps", desc := "([I)I" } : Jvm.MethodName)) ∈ lw_all := lw_g (lw_at lw_m13 19 rfl) rfl
theorem q3012 : (Jvm.Cond.privateMethod ({ cls := "TelescopeQueueModel", name := "steps", desc := "([I)I" } : Jvm.MethodName)) ∈ lw_tbl := lw_at lw_m13 20 rfl
theorem q3013 : (Jvm.Cond.instanceMethod ({ cls := "TelescopeQueueModel", name := "steps", desc := "([I)I" } : Jvm.MethodName)) ∈ lw_all := lw_g (lw_at lw_m13 21 rfl) rfl
theorem q3014 : (Jvm.Cond.code ({ cls := "TelescopeQueueModel", name := "steps", desc := "([I)I" } : Jvm.MethodName) prog_22_method_72_code (6 : Nat) (Option.some Jvm.ClassFile.FieldType.int)) ∈ lw_all := lw_g (lw_at lw_m13 22 rfl) rfl
theorem q3015 : (Jvm.Cond.methodLink "TelescopeQueueModel" (319 : Nat) ({ cls := "TelescopeQueueModel", name := "expires", desc := "([I)V" } : Jvm.MethodName)) ∈ lw_all := lw_g (lw_at lw_m13 23 rfl) rfl
theorem q3016 : (Jvm.Cond.privateMethod ({ cls := "TelescopeQueueModel", name := "expires", desc := "([I)V" } : Jvm.MethodName)) ∈ lw_tbl := lw_at lw_m13 24 rfl
theorem q3017 : (Jvm.Cond.instanceMethod ({ cls := "TelescopeQueueModel", name := "expires", desc := "([I)V" } : Jvm.MethodName)) ∈ lw_all := lw_g (lw_at lw_m13 25 rfl) rfl
theorem q3018 : (Jvm.Cond.code ({ cls := "TelescopeQueueModel", name := "expires", desc := "([I)V" } : Jvm.MethodName) prog_22_method_69_code (3 : Nat) (Option.none : Option Jvm.ClassFile.FieldType)) ∈ lw_all := lw_g (lw_at lw_m13 26 rfl) rfl
theorem q3019 : (Jvm.Cond.methodLink "TelescopeQueueModel" (322 : Nat) ({ cls := "TelescopeQueueModel", name := "alertFor", desc := "([I)I" } : Jvm.MethodName)) ∈ lw_all := lw_g (lw_at lw_m13 27 rfl) rfl
theorem q3020 : (Jvm.Cond.privateMethod ({ cls := "TelescopeQueueModel", name := "alertFor", desc := "([I)I" } : Jvm.MethodName)) ∈ lw_tbl := lw_at lw_m13 28 rfl
theorem q3021 : (Jvm.Cond.instanceMethod ({ cls := "TelescopeQueueModel", name := "alertFor", desc := "([I)I" } : Jvm.MethodName)) ∈ lw_all := lw_g (lw_at lw_m13 29 rfl) rfl
theorem q3022 : (Jvm.Cond.code ({ cls := "TelescopeQueueModel", name := "alertFor", desc := "([I)I" } : Jvm.MethodName) prog_22_method_57_code (4 : Nat) (Option.some Jvm.ClassFile.FieldType.int)) ∈ lw_all := lw_g (lw_at lw_m13 30 rfl) rfl
theorem q3023 : (Jvm.Cond.methodLink "TelescopeQueueModel" (326 : Nat) ({ cls := "TelescopeQueueModel", name := "makesAlert", desc := "([II)I" } : Jvm.MethodName)) ∈ lw_all := lw_g (lw_at lw_m13 31 rfl) rfl
theorem q3024 : (Jvm.Cond.privateMethod ({ cls := "TelescopeQueueModel", name := "makesAlert", desc := "([II)I" } : Jvm.MethodName)) ∈ lw_tbl := lw_at lw_m13 32 rfl
theorem q3025 : (Jvm.Cond.instanceMethod ({ cls := "TelescopeQueueModel", name := "makesAlert", desc := "([II)I" } : Jvm.MethodName)) ∈ lw_all := lw_g (lw_at lw_m13 33 rfl) rfl
theorem q3026 : (Jvm.Cond.code ({ cls := "TelescopeQueueModel", name := "makesAlert", desc := "([II)I" } : Jvm.MethodName) prog_22_method_67_code (3 : Nat) (Option.some Jvm.ClassFile.FieldType.int)) ∈ lw_all := lw_g (lw_at lw_m13 34 rfl) rfl
theorem q3027 : (Jvm.Cond.methodLink "TelescopeQueueModel" (309 : Nat) ({ cls := "TelescopeQueueModel", name := "comesTo", desc := "([II)V" } : Jvm.MethodName)) ∈ lw_all := lw_g (lw_at lw_m13 35 rfl) rfl
theorem q3028 : (Jvm.Cond.privateMethod ({ cls := "TelescopeQueueModel", name := "comesTo", desc := "([II)V" } : Jvm.MethodName)) ∈ lw_tbl := lw_at lw_m13 36 rfl
theorem q3029 : (Jvm.Cond.instanceMethod ({ cls := "TelescopeQueueModel", name := "comesTo", desc := "([II)V" } : Jvm.MethodName)) ∈ lw_all := lw_g (lw_at lw_m13 37 rfl) rfl
theorem q3030 : (Jvm.Cond.code ({ cls := "TelescopeQueueModel", name := "comesTo", desc := "([II)V" } : Jvm.MethodName) prog_22_method_61_code (4 : Nat) (Option.none : Option Jvm.ClassFile.FieldType)) ∈ lw_all := lw_g (lw_at lw_m13 38 rfl) rfl
theorem q3031 : (Jvm.Cond.methodLink "TelescopeQueueModel" (286 : Nat) ({ cls := "TelescopeQueueModel", name := "dumps", desc := "([I)V" } : Jvm.MethodName)) ∈ lw_all := lw_g (lw_at lw_m13 39 rfl) rfl
theorem q3032 : (Jvm.Cond.privateMethod ({ cls := "TelescopeQueueModel", name := "dumps", desc := "([I)V" } : Jvm.MethodName)) ∈ lw_tbl := lw_at lw_m13 40 rfl
theorem q3033 : (Jvm.Cond.instanceMethod ({ cls := "TelescopeQueueModel", name := "dumps", desc := "([I)V" } : Jvm.MethodName)) ∈ lw_all := lw_g (lw_at lw_m13 41 rfl) rfl
theorem q3034 : (Jvm.Cond.code ({ cls := "TelescopeQueueModel", name := "dumps", desc := "([I)V" } : Jvm.MethodName) prog_22_method_59_code (2 : Nat) (Option.none : Option Jvm.ClassFile.FieldType)) ∈ lw_all := lw_g (lw_at lw_m13 42 rfl) rfl
theorem q3035 : (Jvm.Cond.methodLink "TelescopeQueueModel" (282 : Nat) ({ cls := "TelescopeQueueModel", name := "adds", desc := "([III)V" } : Jvm.MethodName)) ∈ lw_all := lw_g (lw_at lw_m13 43 rfl) rfl
theorem q3036 : (Jvm.Cond.static ({ cls := "TelescopeQueueModel", name := "adds", desc := "([III)V" } : Jvm.MethodName)) ∈ lw_all := lw_g (lw_at lw_m13 44 rfl) rfl
theorem q3037 : (Jvm.Cond.code ({ cls := "TelescopeQueueModel", name := "adds", desc := "([III)V" } : Jvm.MethodName) prog_22_method_58_code (3 : Nat) (Option.none : Option Jvm.ClassFile.FieldType)) ∈ lw_all := lw_g (lw_at lw_m13 45 rfl) rfl
theorem q3038 : (Jvm.Cond.methodLink "TelescopeQueueModel" (316 : Nat) ({ cls := "TelescopeQueueModel", name := "finishes", desc := "([II)V" } : Jvm.MethodName)) ∈ lw_all := lw_g (lw_at lw_m13 46 rfl) rfl
theorem q3039 : (Jvm.Cond.privateMethod ({ cls := "TelescopeQueueModel", name := "finishes", desc := "([II)V" } : Jvm.MethodName)) ∈ lw_tbl := lw_at lw_m13 47 rfl
theorem q3040 : (Jvm.Cond.instanceMethod ({ cls := "TelescopeQueueModel", name := "finishes", desc := "([II)V" } : Jvm.MethodName)) ∈ lw_all := lw_g (lw_at lw_m13 48 rfl) rfl
theorem q3041 : (Jvm.Cond.code ({ cls := "TelescopeQueueModel", name := "finishes", desc := "([II)V" } : Jvm.MethodName) prog_22_method_65_code (3 : Nat) (Option.none : Option Jvm.ClassFile.FieldType)) ∈ lw_all := lw_g (lw_at lw_m13 49 rfl) rfl
theorem q3042 : (Jvm.Cond.methodLink "TelescopeQueueModel" (302 : Nat) ({ cls := "TelescopeQueueModel", name := "startAt", desc := "(I)I" } : Jvm.MethodName)) ∈ lw_all := lw_g (lw_at lw_m13 50 rfl) rfl
theorem q3043 : (Jvm.Cond.static ({ cls := "TelescopeQueueModel", name := "startAt", desc := "(I)I" } : Jvm.MethodName)) ∈ lw_all := lw_g (lw_at lw_m13 51 rfl) rfl
theorem q3044 : (Jvm.Cond.code ({ cls := "TelescopeQueueModel", name := "startAt", desc := "(I)I" } : Jvm.MethodName) prog_22_method_47_code (1 : Nat) (Option.some Jvm.ClassFile.FieldType.int)) ∈ lw_all := lw_g (lw_at lw_m13 52 rfl) rfl
theorem q3045 : (Jvm.Cond.methodLink "TelescopeQueueModel" (305 : Nat) ({ cls := "TelescopeQueueModel", name := "passes", desc := "([IIIZ)V" } : Jvm.MethodName)) ∈ lw_all := lw_g (lw_at lw_m13 53 rfl) rfl
theorem q3046 : (Jvm.Cond.privateMethod ({ cls := "TelescopeQueueModel", name := "passes", desc := "([IIIZ)V" } : Jvm.MethodName)) ∈ lw_tbl := lw_at lw_m13 54 rfl
theorem q3047 : (Jvm.Cond.instanceMethod ({ cls := "TelescopeQueueModel", name := "passes", desc := "([IIIZ)V" } : Jvm.MethodName)) ∈ lw_all := lw_g (lw_at lw_m13 55 rfl) rfl
theorem q3048 : (Jvm.Cond.code ({ cls := "TelescopeQueueModel", name := "passes", desc := "([IIIZ)V" } : Jvm.MethodName) prog_22_method_62_code (5 : Nat) (Option.none : Option Jvm.ClassFile.FieldType)) ∈ lw_all := lw_g (lw_at lw_m13 56 rfl) rfl
theorem q3049 : (Jvm.Cond.methodLink "TelescopeQueueModel" (329 : Nat) ({ cls := "TelescopeQueueModel", name := "isCalibrationDue", desc := "([I)Z" } : Jvm.MethodName)) ∈ lw_all := lw_g (lw_at lw_m13 57 rfl) rfl
theorem q3050 : (Jvm.Cond.privateMethod ({ cls := "TelescopeQueueModel", name := "isCalibrationDue", desc := "([I)Z" } : Jvm.MethodName)) ∈ lw_tbl := lw_at lw_m13 58 rfl
theorem q3051 : (Jvm.Cond.instanceMethod ({ cls := "TelescopeQueueModel", name := "isCalibrationDue", desc := "([I)Z" } : Jvm.MethodName)) ∈ lw_all := lw_g (lw_at lw_m13 59 rfl) rfl
theorem q3052 : (Jvm.Cond.code ({ cls := "TelescopeQueueModel", name := "isCalibrationDue", desc := "([I)Z" } : Jvm.MethodName) prog_22_method_70_code (3 : Nat) (Option.some Jvm.ClassFile.FieldType.boolean)) ∈ lw_all := lw_g (lw_at lw_m13 60 rfl) rfl
theorem q3053 : (Jvm.Cond.methodLink "TelescopeQueueModel" (333 : Nat) ({ cls := "TelescopeQueueModel", name := "calibrates", desc := "([I)V" } : Jvm.MethodName)) ∈ lw_all := lw_g (lw_at lw_m13 61 rfl) rfl
theorem q3054 : (Jvm.Cond.privateMethod ({ cls := "TelescopeQueueModel", name := "calibrates", desc := "([I)V" } : Jvm.MethodName)) ∈ lw_tbl := lw_at lw_m13 62 rfl
theorem q3055 : (Jvm.Cond.instanceMethod ({ cls := "TelescopeQueueModel", name := "calibrates", desc := "([I)V" } : Jvm.MethodName)) ∈ lw_all := lw_g (lw_at lw_m13 63 rfl) rfl
theorem q3056 : (Jvm.Cond.code ({ cls := "TelescopeQueueModel", name := "calibrates", desc := "([I)V" } : Jvm.MethodName) prog_22_method_60_code (2 : Nat) (Option.none : Option Jvm.ClassFile.FieldType)) ∈ lw_all := lw_g (lw_at lw_m13 64 rfl) rfl
theorem q3057 : (Jvm.Cond.methodLink "TelescopeQueueModel" (339 : Nat) ({ cls := "TelescopeQueueModel", name := "makesVisit", desc := "([II)I" } : Jvm.MethodName)) ∈ lw_all := lw_g (lw_at lw_m13 65 rfl) rfl
theorem q3058 : (Jvm.Cond.privateMethod ({ cls := "TelescopeQueueModel", name := "makesVisit", desc := "([II)I" } : Jvm.MethodName)) ∈ lw_tbl := lw_at lw_m13 66 rfl
theorem q3059 : (Jvm.Cond.instanceMethod ({ cls := "TelescopeQueueModel", name := "makesVisit", desc := "([II)I" } : Jvm.MethodName)) ∈ lw_all := lw_g (lw_at lw_m13 67 rfl) rfl
theorem q3060 : (Jvm.Cond.code ({ cls := "TelescopeQueueModel", name := "makesVisit", desc := "([II)I" } : Jvm.MethodName) prog_22_method_66_code (4 : Nat) (Option.some Jvm.ClassFile.FieldType.int)) ∈ lw_all := lw_g (lw_at lw_m13 68 rfl) rfl
theorem q3061 : (Jvm.Cond.methodLink "TelescopeQueueModel" (313 : Nat) ({ cls := "TelescopeQueueModel", name := "breaking", desc := "([II)I" } : Jvm.MethodName)) ∈ lw_all := lw_g (lw_at lw_m13 69 rfl) rfl
theorem q3062 : (Jvm.Cond.privateMethod ({ cls := "TelescopeQueueModel", name := "breaking", desc := "([II)I" } : Jvm.MethodName)) ∈ lw_tbl := lw_at lw_m13 70 rfl
theorem q3063 : (Jvm.Cond.instanceMethod ({ cls := "TelescopeQueueModel", name := "breaking", desc := "([II)I" } : Jvm.MethodName)) ∈ lw_all := lw_g (lw_at lw_m13 71 rfl) rfl
theorem q3064 : (Jvm.Cond.code ({ cls := "TelescopeQueueModel", name := "breaking", desc := "([II)I" } : Jvm.MethodName) prog_22_method_64_code (5 : Nat) (Option.some Jvm.ClassFile.FieldType.int)) ∈ lw_all := lw_g (lw_at lw_m13 72 rfl) rfl
theorem q3065 : (Jvm.Cond.methodLink "TelescopeQueueModel" (299 : Nat) ({ cls := "TelescopeQueueModel", name := "breaks", desc := "([III)Z" } : Jvm.MethodName)) ∈ lw_all := lw_g (lw_at lw_m13 73 rfl) rfl
theorem q3066 : (Jvm.Cond.privateMethod ({ cls := "TelescopeQueueModel", name := "breaks", desc := "([III)Z" } : Jvm.MethodName)) ∈ lw_tbl := lw_at lw_m13 74 rfl
theorem q3067 : (Jvm.Cond.instanceMethod ({ cls := "TelescopeQueueModel", name := "breaks", desc := "([III)Z" } : Jvm.MethodName)) ∈ lw_all := lw_g (lw_at lw_m13 75 rfl) rfl
theorem q3068 : (Jvm.Cond.code ({ cls := "TelescopeQueueModel", name := "breaks", desc := "([III)Z" } : Jvm.MethodName) prog_22_method_63_code (8 : Nat) (Option.some Jvm.ClassFile.FieldType.boolean)) ∈ lw_all := lw_g (lw_at lw_m13 76 rfl) rfl
theorem q3069 : (Jvm.Cond.methodLink "TelescopeQueueModel" (342 : Nat) ({ cls := "TelescopeQueueModel", name := "idles", desc := "([I)I" } : Jvm.MethodName)) ∈ lw_all := lw_g (lw_at lw_m13 77 rfl) rfl
theorem q3070 : (Jvm.Cond.privateMethod ({ cls := "TelescopeQueueModel", name := "idles", desc := "([I)I" } : Jvm.MethodName)) ∈ lw_tbl := lw_at lw_m13 78 rfl
theorem q3071 : (Jvm.Cond.instanceMethod ({ cls := "TelescopeQueueModel", name := "idles", desc := "([I)I" } : Jvm.MethodName)) ∈ lw_all := lw_g (lw_at lw_m13 79 rfl) rfl
theorem q3072 : (Jvm.Cond.code ({ cls := "TelescopeQueueModel", name := "idles", desc := "([I)I" } : Jvm.MethodName) prog_22_method_68_code (4 : Nat) (Option.some Jvm.ClassFile.FieldType.int)) ∈ lw_all := lw_g (lw_at lw_m13 80 rfl) rfl
theorem q3073 : (Jvm.Cond.methodLink "TelescopeQueueModel" (345 : Nat) ({ cls := "TelescopeQueueModel", name := "logs", desc := "([IIII)V" } : Jvm.MethodName)) ∈ lw_all := lw_g (lw_at lw_m13 81 rfl) rfl
theorem q3074 : (Jvm.Cond.static ({ cls := "TelescopeQueueModel", name := "logs", desc := "([IIII)V" } : Jvm.MethodName)) ∈ lw_all := lw_g (lw_at lw_m13 82 rfl) rfl
theorem q3075 : (Jvm.Cond.code ({ cls := "TelescopeQueueModel", name := "logs", desc := "([IIII)V" } : Jvm.MethodName) prog_22_method_71_code (5 : Nat) (Option.none : Option Jvm.ClassFile.FieldType)) ∈ lw_all := lw_g (lw_at lw_m13 83 rfl) rfl
theorem q3077 : (Jvm.Cond.instanceMethod ({ cls := "TelescopeQueueModel", name := "interrupting", desc := "(I)I" } : Jvm.MethodName)) ∈ lw_all := lw_g (lw_at lw_m13 85 rfl) rfl
theorem q3078 : (Jvm.Cond.selects "TelescopeQueueModel" ({ cls := "TelescopeQueueModel", name := "interrupting", desc := "(I)I" } : Jvm.MethodName) ({ cls := "TelescopeQueueModel", name := "interrupting", desc := "(I)I" } : Jvm.MethodName)) ∈ lw_all := lw_g (lw_at lw_m13 86 rfl) rfl
theorem q3079 : (Jvm.Cond.code ({ cls := "TelescopeQueueModel", name := "interrupting", desc := "(I)I" } : Jvm.MethodName) prog_22_method_114_code (3 : Nat) (Option.some Jvm.ClassFile.FieldType.int)) ∈ lw_all := lw_g (lw_at lw_m13 87 rfl) rfl
theorem q3081 : (Jvm.Cond.instanceMethod ({ cls := "TelescopeQueueModel", name := "alertReason", desc := "(I)I" } : Jvm.MethodName)) ∈ lw_all := lw_g (lw_at lw_m13 89 rfl) rfl
theorem q3082 : (Jvm.Cond.selects "TelescopeQueueModel" ({ cls := "TelescopeQueueModel", name := "alertReason", desc := "(I)I" } : Jvm.MethodName) ({ cls := "TelescopeQueueModel", name := "alertReason", desc := "(I)I" } : Jvm.MethodName)) ∈ lw_all := lw_g (lw_at lw_m13 90 rfl) rfl
theorem q3083 : (Jvm.Cond.code ({ cls := "TelescopeQueueModel", name := "alertReason", desc := "(I)I" } : Jvm.MethodName) prog_22_method_115_code (2 : Nat) (Option.some Jvm.ClassFile.FieldType.int)) ∈ lw_all := lw_g (lw_at lw_m13 91 rfl) rfl
theorem q3085 : (Jvm.Cond.instanceMethod ({ cls := "TelescopeQueueModel", name := "latestBegin", desc := "(I)I" } : Jvm.MethodName)) ∈ lw_all := lw_g (lw_at lw_m13 93 rfl) rfl
theorem q3086 : (Jvm.Cond.selects "TelescopeQueueModel" ({ cls := "TelescopeQueueModel", name := "latestBegin", desc := "(I)I" } : Jvm.MethodName) ({ cls := "TelescopeQueueModel", name := "latestBegin", desc := "(I)I" } : Jvm.MethodName)) ∈ lw_all := lw_g (lw_at lw_m13 94 rfl) rfl
theorem q3087 : (Jvm.Cond.code ({ cls := "TelescopeQueueModel", name := "latestBegin", desc := "(I)I" } : Jvm.MethodName) prog_22_method_116_code (2 : Nat) (Option.some Jvm.ClassFile.FieldType.int)) ∈ lw_all := lw_g (lw_at lw_m13 95 rfl) rfl
theorem q3089 : (Jvm.Cond.instanceMethod ({ cls := "TelescopeQueueModel", name := "longest", desc := "(I)I" } : Jvm.MethodName)) ∈ lw_all := lw_g (lw_at lw_m13 97 rfl) rfl
theorem q3090 : (Jvm.Cond.selects "TelescopeQueueModel" ({ cls := "TelescopeQueueModel", name := "longest", desc := "(I)I" } : Jvm.MethodName) ({ cls := "TelescopeQueueModel", name := "longest", desc := "(I)I" } : Jvm.MethodName)) ∈ lw_all := lw_g (lw_at lw_m13 98 rfl) rfl
theorem q3091 : (Jvm.Cond.code ({ cls := "TelescopeQueueModel", name := "longest", desc := "(I)I" } : Jvm.MethodName) prog_22_method_117_code (7 : Nat) (Option.some Jvm.ClassFile.FieldType.int)) ∈ lw_all := lw_g (lw_at lw_m13 99 rfl) rfl
theorem q3093 : (Jvm.Cond.instanceMethod ({ cls := "TelescopeQueueModel", name := "total", desc := "(I)I" } : Jvm.MethodName)) ∈ lw_all := lw_g (lw_at lw_m13 101 rfl) rfl
theorem q3094 : (Jvm.Cond.selects "TelescopeQueueModel" ({ cls := "TelescopeQueueModel", name := "total", desc := "(I)I" } : Jvm.MethodName) ({ cls := "TelescopeQueueModel", name := "total", desc := "(I)I" } : Jvm.MethodName)) ∈ lw_all := lw_g (lw_at lw_m13 102 rfl) rfl
theorem q3095 : (Jvm.Cond.code ({ cls := "TelescopeQueueModel", name := "total", desc := "(I)I" } : Jvm.MethodName) prog_22_method_118_code (2 : Nat) (Option.some Jvm.ClassFile.FieldType.int)) ∈ lw_all := lw_g (lw_at lw_m13 103 rfl) rfl
theorem q3097 : (Jvm.Cond.instanceMethod ({ cls := "TelescopeQueueModel", name := "share", desc := "(I)F" } : Jvm.MethodName)) ∈ lw_all := lw_g (lw_at lw_m13 105 rfl) rfl
theorem q3098 : (Jvm.Cond.selects "TelescopeQueueModel" ({ cls := "TelescopeQueueModel", name := "share", desc := "(I)F" } : Jvm.MethodName) ({ cls := "TelescopeQueueModel", name := "share", desc := "(I)F" } : Jvm.MethodName)) ∈ lw_all := lw_g (lw_at lw_m13 106 rfl) rfl
theorem q3099 : (Jvm.Cond.code ({ cls := "TelescopeQueueModel", name := "share", desc := "(I)F" } : Jvm.MethodName) prog_22_method_120_code (2 : Nat) (Option.some Jvm.ClassFile.FieldType.float)) ∈ lw_all := lw_g (lw_at lw_m13 107 rfl) rfl
theorem q3100 : (Jvm.Cond.methodLink "TelescopeQueueModel" (387 : Nat) ({ cls := "TelescopeQueueModel", name := "shareOf", desc := "(I)F" } : Jvm.MethodName)) ∈ lw_all := lw_g (lw_at lw_m13 108 rfl) rfl
theorem q3101 : (Jvm.Cond.privateMethod ({ cls := "TelescopeQueueModel", name := "shareOf", desc := "(I)F" } : Jvm.MethodName)) ∈ lw_tbl := lw_at lw_m13 109 rfl
theorem q3102 : (Jvm.Cond.instanceMethod ({ cls := "TelescopeQueueModel", name := "shareOf", desc := "(I)F" } : Jvm.MethodName)) ∈ lw_all := lw_g (lw_at lw_m13 110 rfl) rfl
theorem q3103 : (Jvm.Cond.code ({ cls := "TelescopeQueueModel", name := "shareOf", desc := "(I)F" } : Jvm.MethodName) prog_22_method_119_code (2 : Nat) (Option.some Jvm.ClassFile.FieldType.float)) ∈ lw_all := lw_g (lw_at lw_m13 111 rfl) rfl
theorem q3105 : (Jvm.Cond.instanceMethod ({ cls := "TelescopeQueueModel", name := "spread", desc := "()F" } : Jvm.MethodName)) ∈ lw_all := lw_g (lw_at lw_m13 113 rfl) rfl
theorem q3106 : (Jvm.Cond.selects "TelescopeQueueModel" ({ cls := "TelescopeQueueModel", name := "spread", desc := "()F" } : Jvm.MethodName) ({ cls := "TelescopeQueueModel", name := "spread", desc := "()F" } : Jvm.MethodName)) ∈ lw_all := lw_g (lw_at lw_m13 114 rfl) rfl
theorem q3107 : (Jvm.Cond.code ({ cls := "TelescopeQueueModel", name := "spread", desc := "()F" } : Jvm.MethodName) prog_22_method_121_code (5 : Nat) (Option.some Jvm.ClassFile.FieldType.float)) ∈ lw_all := lw_g (lw_at lw_m13 115 rfl) rfl
theorem q3109 : (Jvm.Cond.instanceMethod ({ cls := "TelescopeQueueModel", name := "entries", desc := "()I" } : Jvm.MethodName)) ∈ lw_all := lw_g (lw_at lw_m13 117 rfl) rfl
theorem q3110 : (Jvm.Cond.selects "TelescopeQueueModel" ({ cls := "TelescopeQueueModel", name := "entries", desc := "()I" } : Jvm.MethodName) ({ cls := "TelescopeQueueModel", name := "entries", desc := "()I" } : Jvm.MethodName)) ∈ lw_all := lw_g (lw_at lw_m13 118 rfl) rfl
theorem q3111 : (Jvm.Cond.code ({ cls := "TelescopeQueueModel", name := "entries", desc := "()I" } : Jvm.MethodName) prog_22_method_122_code (1 : Nat) (Option.some Jvm.ClassFile.FieldType.int)) ∈ lw_all := lw_g (lw_at lw_m13 119 rfl) rfl
theorem q3113 : (Jvm.Cond.instanceMethod ({ cls := "TelescopeQueueModel", name := "entry", desc := "(II)I" } : Jvm.MethodName)) ∈ lw_all := lw_g (lw_at lw_m13 121 rfl) rfl
theorem q3114 : (Jvm.Cond.selects "TelescopeQueueModel" ({ cls := "TelescopeQueueModel", name := "entry", desc := "(II)I" } : Jvm.MethodName) ({ cls := "TelescopeQueueModel", name := "entry", desc := "(II)I" } : Jvm.MethodName)) ∈ lw_all := lw_g (lw_at lw_m13 122 rfl) rfl
theorem q3115 : (Jvm.Cond.code ({ cls := "TelescopeQueueModel", name := "entry", desc := "(II)I" } : Jvm.MethodName) prog_22_method_124_code (3 : Nat) (Option.some Jvm.ClassFile.FieldType.int)) ∈ lw_all := lw_g (lw_at lw_m13 123 rfl) rfl
theorem q3116 : (Jvm.Cond.methodLink "TelescopeQueueModel" (391 : Nat) ({ cls := "TelescopeQueueModel", name := "isEntry", desc := "(I)Z" } : Jvm.MethodName)) ∈ lw_all := lw_g (lw_at lw_m13 124 rfl) rfl
theorem q3117 : (Jvm.Cond.privateMethod ({ cls := "TelescopeQueueModel", name := "isEntry", desc := "(I)Z" } : Jvm.MethodName)) ∈ lw_tbl := lw_at lw_m13 125 rfl
theorem q3118 : (Jvm.Cond.instanceMethod ({ cls := "TelescopeQueueModel", name := "isEntry", desc := "(I)Z" } : Jvm.MethodName)) ∈ lw_all := lw_g (lw_at lw_m13 126 rfl) rfl
theorem q3119 : (Jvm.Cond.code ({ cls := "TelescopeQueueModel", name := "isEntry", desc := "(I)Z" } : Jvm.MethodName) prog_22_method_123_code (2 : Nat) (Option.some Jvm.ClassFile.FieldType.boolean)) ∈ lw_all := lw_g (lw_at lw_m13 127 rfl) rfl
theorem q3121 : (Jvm.Cond.instanceMethod ({ cls := "TelescopeQueueModel", name := "usedIn", desc := "(I)I" } : Jvm.MethodName)) ∈ lw_all := lw_g (lw_at lw_m13 129 rfl) rfl
theorem q3122 : (Jvm.Cond.selects "TelescopeQueueModel" ({ cls := "TelescopeQueueModel", name := "usedIn", desc := "(I)I" } : Jvm.MethodName) ({ cls := "TelescopeQueueModel", name := "usedIn", desc := "(I)I" } : Jvm.MethodName)) ∈ lw_all := lw_g (lw_at lw_m13 130 rfl) rfl
theorem q3123 : (Jvm.Cond.code ({ cls := "TelescopeQueueModel", name := "usedIn", desc := "(I)I" } : Jvm.MethodName) prog_22_method_125_code (3 : Nat) (Option.some Jvm.ClassFile.FieldType.int)) ∈ lw_all := lw_g (lw_at lw_m13 131 rfl) rfl
theorem q3124 : (Jvm.Cond.methodLink "TelescopeQueueModel" (352 : Nat) ({ cls := "TelescopeQueueModel", name := "stepsMany", desc := "([II)I" } : Jvm.MethodName)) ∈ lw_all := lw_g (lw_at lw_m13 132 rfl) rfl
theorem q3125 : (Jvm.Cond.privateMethod ({ cls := "TelescopeQueueModel", name := "stepsMany", desc := "([II)I" } : Jvm.MethodName)) ∈ lw_tbl := lw_at lw_m13 133 rfl
theorem q3126 : (Jvm.Cond.instanceMethod ({ cls := "TelescopeQueueModel", name := "stepsMany", desc := "([II)I" } : Jvm.MethodName)) ∈ lw_all := lw_g (lw_at lw_m13 134 rfl) rfl
theorem q3127 : (Jvm.Cond.code ({ cls := "TelescopeQueueModel", name := "stepsMany", desc := "([II)I" } : Jvm.MethodName) prog_22_method_73_code (5 : Nat) (Option.some Jvm.ClassFile.FieldType.int)) ∈ lw_all := lw_g (lw_at lw_m13 135 rfl) rfl
theorem q3129 : (Jvm.Cond.instanceMethod ({ cls := "TelescopeQueueModel", name := "doneBy", desc := "(I)I" } : Jvm.MethodName)) ∈ lw_all := lw_g (lw_at lw_m13 137 rfl) rfl
theorem q3130 : (Jvm.Cond.selects "TelescopeQueueModel" ({ cls := "TelescopeQueueModel", name := "doneBy", desc := "(I)I" } : Jvm.MethodName) ({ cls := "TelescopeQueueModel", name := "doneBy", desc := "(I)I" } : Jvm.MethodName)) ∈ lw_all := lw_g (lw_at lw_m13 138 rfl) rfl
theorem q3131 : (Jvm.Cond.code ({ cls := "TelescopeQueueModel", name := "doneBy", desc := "(I)I" } : Jvm.MethodName) prog_22_method_126_code (4 : Nat) (Option.some Jvm.ClassFile.FieldType.int)) ∈ lw_all := lw_g (lw_at lw_m13 139 rfl) rfl
theorem q3132 : (Jvm.Cond.methodLink "TelescopeQueueModel" (394 : Nat) ({ cls := "TelescopeQueueModel", name := "toEnd", desc := "(II)V" } : Jvm.MethodName)) ∈ lw_all := lw_g (lw_at lw_m13 140 rfl) rfl
theorem q3133 : (Jvm.Cond.privateMethod ({ cls := "TelescopeQueueModel", name := "toEnd", desc := "(II)V" } : Jvm.MethodName)) ∈ lw_tbl := lw_at lw_m13 141 rfl
theorem q3134 : (Jvm.Cond.instanceMethod ({ cls := "TelescopeQueueModel", name := "toEnd", desc := "(II)V" } : Jvm.MethodName)) ∈ lw_all := lw_g (lw_at lw_m13 142 rfl) rfl
theorem q3135 : (Jvm.Cond.code ({ cls := "TelescopeQueueModel", name := "toEnd", desc := "(II)V" } : Jvm.MethodName) prog_22_method_74_code (4 : Nat) (Option.none : Option Jvm.ClassFile.FieldType)) ∈ lw_all := lw_g (lw_at lw_m13 143 rfl) rfl
theorem q3137 : (Jvm.Cond.instanceMethod ({ cls := "TelescopeQueueModel", name := "bestPolicy", desc := "()I" } : Jvm.MethodName)) ∈ lw_all := lw_g (lw_at lw_m13 145 rfl) rfl
theorem q3138 : (Jvm.Cond.selects "TelescopeQueueModel" ({ cls := "TelescopeQueueModel", name := "bestPolicy", desc := "()I" } : Jvm.MethodName) ({ cls := "TelescopeQueueModel", name := "bestPolicy", desc := "()I" } : Jvm.MethodName)) ∈ lw_all := lw_g (lw_at lw_m13 146 rfl) rfl
theorem q3139 : (Jvm.Cond.code ({ cls := "TelescopeQueueModel", name := "bestPolicy", desc := "()I" } : Jvm.MethodName) prog_22_method_127_code (4 : Nat) (Option.some Jvm.ClassFile.FieldType.int)) ∈ lw_all := lw_g (lw_at lw_m13 147 rfl) rfl
theorem q3141 : (Jvm.Cond.instanceMethod ({ cls := "TelescopeQueueModel", name := "usedWith", desc := "(I)I" } : Jvm.MethodName)) ∈ lw_all := lw_g (lw_at lw_m13 149 rfl) rfl
theorem q3142 : (Jvm.Cond.selects "TelescopeQueueModel" ({ cls := "TelescopeQueueModel", name := "usedWith", desc := "(I)I" } : Jvm.MethodName) ({ cls := "TelescopeQueueModel", name := "usedWith", desc := "(I)I" } : Jvm.MethodName)) ∈ lw_all := lw_g (lw_at lw_m13 150 rfl) rfl
theorem q3143 : (Jvm.Cond.code ({ cls := "TelescopeQueueModel", name := "usedWith", desc := "(I)I" } : Jvm.MethodName) prog_22_method_128_code (2 : Nat) (Option.some Jvm.ClassFile.FieldType.int)) ∈ lw_all := lw_g (lw_at lw_m13 151 rfl) rfl
theorem q3145 : (Jvm.Cond.instanceMethod ({ cls := "TelescopeQueueModel", name := "shortfall", desc := "(I)I" } : Jvm.MethodName)) ∈ lw_all := lw_g (lw_at lw_m13 153 rfl) rfl
theorem q3146 : (Jvm.Cond.selects "TelescopeQueueModel" ({ cls := "TelescopeQueueModel", name := "shortfall", desc := "(I)I" } : Jvm.MethodName) ({ cls := "TelescopeQueueModel", name := "shortfall", desc := "(I)I" } : Jvm.MethodName)) ∈ lw_all := lw_g (lw_at lw_m13 154 rfl) rfl
theorem q3147 : (Jvm.Cond.code ({ cls := "TelescopeQueueModel", name := "shortfall", desc := "(I)I" } : Jvm.MethodName) prog_22_method_129_code (2 : Nat) (Option.some Jvm.ClassFile.FieldType.int)) ∈ lw_all := lw_g (lw_at lw_m13 155 rfl) rfl
theorem q3149 : (Jvm.Cond.instanceMethod ({ cls := "TelescopeQueueModel", name := "writeEntry", desc := "(I)I" } : Jvm.MethodName)) ∈ lw_all := lw_g (lw_at lw_m13 157 rfl) rfl
theorem q3150 : (Jvm.Cond.selects "TelescopeQueueModel" ({ cls := "TelescopeQueueModel", name := "writeEntry", desc := "(I)I" } : Jvm.MethodName) ({ cls := "TelescopeQueueModel", name := "writeEntry", desc := "(I)I" } : Jvm.MethodName)) ∈ lw_all := lw_g (lw_at lw_m13 158 rfl) rfl
theorem q3151 : (Jvm.Cond.code ({ cls := "TelescopeQueueModel", name := "writeEntry", desc := "(I)I" } : Jvm.MethodName) prog_22_method_133_code (3 : Nat) (Option.some Jvm.ClassFile.FieldType.int)) ∈ lw_all := lw_g (lw_at lw_m13 159 rfl) rfl
theorem q3152 : (Jvm.Cond.methodLink "TelescopeQueueModel" (404 : Nat) ({ cls := "TelescopeQueueModel", name := "writesNumber", desc := "(I)V" } : Jvm.MethodName)) ∈ lw_all := lw_g (lw_at lw_m13 160 rfl) rfl
theorem q3153 : (Jvm.Cond.privateMethod ({ cls := "TelescopeQueueModel", name := "writesNumber", desc := "(I)V" } : Jvm.MethodName)) ∈ lw_tbl := lw_at lw_m13 161 rfl
theorem q3154 : (Jvm.Cond.instanceMethod ({ cls := "TelescopeQueueModel", name := "writesNumber", desc := "(I)V" } : Jvm.MethodName)) ∈ lw_all := lw_g (lw_at lw_m13 162 rfl) rfl
theorem q3155 : (Jvm.Cond.code ({ cls := "TelescopeQueueModel", name := "writesNumber", desc := "(I)V" } : Jvm.MethodName) prog_22_method_132_code (4 : Nat) (Option.none : Option Jvm.ClassFile.FieldType)) ∈ lw_all := lw_g (lw_at lw_m13 163 rfl) rfl
theorem q3156 : (Jvm.Cond.methodLink "TelescopeQueueModel" (401 : Nat) ({ cls := "TelescopeQueueModel", name := "writesByte", desc := "(I)V" } : Jvm.MethodName)) ∈ lw_all := lw_g (lw_at lw_m13 164 rfl) rfl
theorem q3157 : (Jvm.Cond.privateMethod ({ cls := "TelescopeQueueModel", name := "writesByte", desc := "(I)V" } : Jvm.MethodName)) ∈ lw_tbl := lw_at lw_m13 165 rfl
theorem q3158 : (Jvm.Cond.instanceMethod ({ cls := "TelescopeQueueModel", name := "writesByte", desc := "(I)V" } : Jvm.MethodName)) ∈ lw_all := lw_g (lw_at lw_m13 166 rfl) rfl
theorem q3159 : (Jvm.Cond.code ({ cls := "TelescopeQueueModel", name := "writesByte", desc := "(I)V" } : Jvm.MethodName) prog_22_method_130_code (2 : Nat) (Option.none : Option Jvm.ClassFile.FieldType)) ∈ lw_all := lw_g (lw_at lw_m13 167 rfl) rfl
theorem q3160 : (Jvm.Cond.stringRef "TelescopeQueueModel" (407 : Nat) "broken") ∈ lw_tbl := lw_at lw_m13 168 rfl
theorem q3161 : (Jvm.Cond.stringRef "TelescopeQueueModel" (409 : Nat) "idle") ∈ lw_tbl := lw_at lw_m13 169 rfl
theorem q3162 : (Jvm.Cond.methodLink "TelescopeQueueModel" (411 : Nat) ({ cls := "TelescopeQueueModel", name := "writesWord", desc := "(Ljava/lang/String;)V" } : Jvm.MethodName)) ∈ lw_all := lw_g (lw_at lw_m13 170 rfl) rfl
theorem q3163 : (Jvm.Cond.privateMethod ({ cls := "TelescopeQueueModel", name := "writesWord", desc := "(Ljava/lang/String;)V" } : Jvm.MethodName)) ∈ lw_tbl := lw_at lw_m13 171 rfl
theorem q3164 : (Jvm.Cond.instanceMethod ({ cls := "TelescopeQueueModel", name := "writesWord", desc := "(Ljava/lang/String;)V" } : Jvm.MethodName)) ∈ lw_all := lw_g (lw_at lw_m13 172 rfl) rfl
theorem q3165 : (Jvm.Cond.code ({ cls := "TelescopeQueueModel", name := "writesWord", desc := "(Ljava/lang/String;)V" } : Jvm.MethodName) prog_22_method_131_code (3 : Nat) (Option.none : Option Jvm.ClassFile.FieldType)) ∈ lw_all := lw_g (lw_at lw_m13 173 rfl) rfl
theorem q3167 : (Jvm.Cond.instanceMethod ({ cls := "TelescopeQueueModel", name := "writeAccount", desc := "(I)I" } : Jvm.MethodName)) ∈ lw_all := lw_g (lw_at lw_m13 175 rfl) rfl
theorem q3168 : (Jvm.Cond.selects "TelescopeQueueModel" ({ cls := "TelescopeQueueModel", name := "writeAccount", desc := "(I)I" } : Jvm.MethodName) ({ cls := "TelescopeQueueModel", name := "writeAccount", desc := "(I)I" } : Jvm.MethodName)) ∈ lw_all := lw_g (lw_at lw_m13 176 rfl) rfl
theorem q3169 : (Jvm.Cond.code ({ cls := "TelescopeQueueModel", name := "writeAccount", desc := "(I)I" } : Jvm.MethodName) prog_22_method_134_code (3 : Nat) (Option.some Jvm.ClassFile.FieldType.int)) ∈ lw_all := lw_g (lw_at lw_m13 177 rfl) rfl
theorem q3171 : (Jvm.Cond.instanceMethod ({ cls := "TelescopeQueueModel", name := "textByte", desc := "(I)I" } : Jvm.MethodName)) ∈ lw_all := lw_g (lw_at lw_m13 179 rfl) rfl
theorem q3172 : (Jvm.Cond.selects "TelescopeQueueModel" ({ cls := "TelescopeQueueModel", name := "textByte", desc := "(I)I" } : Jvm.MethodName) ({ cls := "TelescopeQueueModel", name := "textByte", desc := "(I)I" } : Jvm.MethodName)) ∈ lw_all := lw_g (lw_at lw_m13 180 rfl) rfl
theorem q3173 : (Jvm.Cond.code ({ cls := "TelescopeQueueModel", name := "textByte", desc := "(I)I" } : Jvm.MethodName) prog_22_method_135_code (2 : Nat) (Option.some Jvm.ClassFile.FieldType.int)) ∈ lw_all := lw_g (lw_at lw_m13 181 rfl) rfl
theorem q3175 : (Jvm.Cond.instanceMethod ({ cls := "TelescopeQueueModel", name := "run", desc := "(I)I" } : Jvm.MethodName)) ∈ lw_all := lw_g (lw_at lw_m13 183 rfl) rfl
theorem q3176 : (Jvm.Cond.selects "TelescopeQueueModel" ({ cls := "TelescopeQueueModel", name := "run", desc := "(I)I" } : Jvm.MethodName) ({ cls := "TelescopeQueueModel", name := "run", desc := "(I)I" } : Jvm.MethodName)) ∈ lw_all := lw_g (lw_at lw_m13 184 rfl) rfl
theorem q3177 : (Jvm.Cond.code ({ cls := "TelescopeQueueModel", name := "run", desc := "(I)I" } : Jvm.MethodName) prog_22_method_136_code (2 : Nat) (Option.some Jvm.ClassFile.FieldType.int)) ∈ lw_all := lw_g (lw_at lw_m13 185 rfl) rfl
theorem q3178 : (Jvm.Cond.methodLink "TelescopeQueueModel" (414 : Nat) ({ cls := "TelescopeQueueModel", name := "remember", desc := "()V" } : Jvm.MethodName)) ∈ lw_all := lw_g (lw_at lw_m13 186 rfl) rfl
theorem q3179 : (Jvm.Cond.privateMethod ({ cls := "TelescopeQueueModel", name := "remember", desc := "()V" } : Jvm.MethodName)) ∈ lw_tbl := lw_at lw_m13 187 rfl
theorem q3180 : (Jvm.Cond.instanceMethod ({ cls := "TelescopeQueueModel", name := "remember", desc := "()V" } : Jvm.MethodName)) ∈ lw_all := lw_g (lw_at lw_m13 188 rfl) rfl
theorem q3181 : (Jvm.Cond.code ({ cls := "TelescopeQueueModel", name := "remember", desc := "()V" } : Jvm.MethodName) prog_22_method_33_code (2 : Nat) (Option.none : Option Jvm.ClassFile.FieldType)) ∈ lw_all := lw_g (lw_at lw_m13 189 rfl) rfl
theorem q3183 : (Jvm.Cond.instanceMethod ({ cls := "TelescopeQueueModel", name := "setPolicy", desc := "(I)I" } : Jvm.MethodName)) ∈ lw_all := lw_g (lw_at lw_m13 191 rfl) rfl
theorem q3184 : (Jvm.Cond.selects "TelescopeQueueModel" ({ cls := "TelescopeQueueModel", name := "setPolicy", desc := "(I)I" } : Jvm.MethodName) ({ cls := "TelescopeQueueModel", name := "setPolicy", desc := "(I)I" } : Jvm.MethodName)) ∈ lw_all := lw_g (lw_at lw_m13 192 rfl) rfl
theorem q3185 : (Jvm.Cond.code ({ cls := "TelescopeQueueModel", name := "setPolicy", desc := "(I)I" } : Jvm.MethodName) prog_22_method_138_code (2 : Nat) (Option.some Jvm.ClassFile.FieldType.int)) ∈ lw_all := lw_g (lw_at lw_m13 193 rfl) rfl
theorem q3186 : (Jvm.Cond.methodLink "TelescopeQueueModel" (417 : Nat) ({ cls := "TelescopeQueueModel", name := "sets", desc := "(II)I" } : Jvm.MethodName)) ∈ lw_all := lw_g (lw_at lw_m13 194 rfl) rfl
theorem q3187 : (Jvm.Cond.privateMethod ({ cls := "TelescopeQueueModel", name := "sets", desc := "(II)I" } : Jvm.MethodName)) ∈ lw_tbl := lw_at lw_m13 195 rfl
theorem q3188 : (Jvm.Cond.instanceMethod ({ cls := "TelescopeQueueModel", name := "sets", desc := "(II)I" } : Jvm.MethodName)) ∈ lw_all := lw_g (lw_at lw_m13 196 rfl) rfl
theorem q3189 : (Jvm.Cond.code ({ cls := "TelescopeQueueModel", name := "sets", desc := "(II)I" } : Jvm.MethodName) prog_22_method_137_code (4 : Nat) (Option.some Jvm.ClassFile.FieldType.int)) ∈ lw_all := lw_g (lw_at lw_m13 197 rfl) rfl
theorem q3191 : (Jvm.Cond.instanceMethod ({ cls := "TelescopeQueueModel", name := "cancel", desc := "(I)Z" } : Jvm.MethodName)) ∈ lw_all := lw_g (lw_at lw_m13 199 rfl) rfl
theorem q3192 : (Jvm.Cond.selects "TelescopeQueueModel" ({ cls := "TelescopeQueueModel", name := "cancel", desc := "(I)Z" } : Jvm.MethodName) ({ cls := "TelescopeQueueModel", name := "cancel", desc := "(I)Z" } : Jvm.MethodName)) ∈ lw_all := lw_g (lw_at lw_m13 200 rfl) rfl
theorem q3193 : (Jvm.Cond.code ({ cls := "TelescopeQueueModel", name := "cancel", desc := "(I)Z" } : Jvm.MethodName) prog_22_method_140_code (2 : Nat) (Option.some Jvm.ClassFile.FieldType.boolean)) ∈ lw_all := lw_g (lw_at lw_m13 201 rfl) rfl
theorem q3194 : (Jvm.Cond.methodLink "TelescopeQueueModel" (420 : Nat) ({ cls := "TelescopeQueueModel", name := "turns", desc := "(III)Z" } : Jvm.MethodName)) ∈ lw_all := lw_g (lw_at lw_m13 202 rfl) rfl
theorem q3195 : (Jvm.Cond.privateMethod ({ cls := "TelescopeQueueModel", name := "turns", desc := "(III)Z" } : Jvm.MethodName)) ∈ lw_tbl := lw_at lw_m13 203 rfl
theorem q3196 : (Jvm.Cond.instanceMethod ({ cls := "TelescopeQueueModel", name := "turns", desc := "(III)Z" } : Jvm.MethodName)) ∈ lw_all := lw_g (lw_at lw_m13 204 rfl) rfl
theorem q3197 : (Jvm.Cond.code ({ cls := "TelescopeQueueModel", name := "turns", desc := "(III)Z" } : Jvm.MethodName) prog_22_method_139_code (4 : Nat) (Option.some Jvm.ClassFile.FieldType.boolean)) ∈ lw_all := lw_g (lw_at lw_m13 205 rfl) rfl
theorem q3199 : (Jvm.Cond.instanceMethod ({ cls := "TelescopeQueueModel", name := "requeue", desc := "(I)Z" } : Jvm.MethodName)) ∈ lw_all := lw_g (lw_at lw_m13 207 rfl) rfl
theorem q3200 : (Jvm.Cond.selects "TelescopeQueueModel" ({ cls := "TelescopeQueueModel", name := "requeue", desc := "(I)Z" } : Jvm.MethodName) ({ cls := "TelescopeQueueModel", name := "requeue", desc := "(I)Z" } : Jvm.MethodName)) ∈ lw_all := lw_g (lw_at lw_m13 208 rfl) rfl
theorem q3201 : (Jvm.Cond.code ({ cls := "TelescopeQueueModel", name := "requeue", desc := "(I)Z" } : Jvm.MethodName) prog_22_method_141_code (2 : Nat) (Option.some Jvm.ClassFile.FieldType.boolean)) ∈ lw_all := lw_g (lw_at lw_m13 209 rfl) rfl
theorem q3203 : (Jvm.Cond.instanceMethod ({ cls := "TelescopeQueueModel", name := "setPriority", desc := "(II)I" } : Jvm.MethodName)) ∈ lw_all := lw_g (lw_at lw_m13 211 rfl) rfl
theorem q3204 : (Jvm.Cond.selects "TelescopeQueueModel" ({ cls := "TelescopeQueueModel", name := "setPriority", desc := "(II)I" } : Jvm.MethodName) ({ cls := "TelescopeQueueModel", name := "setPriority", desc := "(II)I" } : Jvm.MethodName)) ∈ lw_all := lw_g (lw_at lw_m13 212 rfl) rfl
theorem q3205 : (Jvm.Cond.code ({ cls := "TelescopeQueueModel", name := "setPriority", desc := "(II)I" } : Jvm.MethodName) prog_22_method_142_code (3 : Nat) (Option.some Jvm.ClassFile.FieldType.int)) ∈ lw_all := lw_g (lw_at lw_m13 213 rfl) rfl
theorem q3207 : (Jvm.Cond.instanceMethod ({ cls := "TelescopeQueueModel", name := "grant", desc := "(II)I" } : Jvm.MethodName)) ∈ lw_all := lw_g (lw_at lw_m13 215 rfl) rfl
theorem q3208 : (Jvm.Cond.selects "TelescopeQueueModel" ({ cls := "TelescopeQueueModel", name := "grant", desc := "(II)I" } : Jvm.MethodName) ({ cls := "TelescopeQueueModel", name := "grant", desc := "(II)I" } : Jvm.MethodName)) ∈ lw_all := lw_g (lw_at lw_m13 216 rfl) rfl
theorem q3209 : (Jvm.Cond.code ({ cls := "TelescopeQueueModel", name := "grant", desc := "(II)I" } : Jvm.MethodName) prog_22_method_143_code (6 : Nat) (Option.some Jvm.ClassFile.FieldType.int)) ∈ lw_all := lw_g (lw_at lw_m13 217 rfl) rfl
theorem q3211 : (Jvm.Cond.instanceMethod ({ cls := "TelescopeQueueModel", name := "dump", desc := "()I" } : Jvm.MethodName)) ∈ lw_all := lw_g (lw_at lw_m13 219 rfl) rfl
theorem q3212 : (Jvm.Cond.selects "TelescopeQueueModel" ({ cls := "TelescopeQueueModel", name := "dump", desc := "()I" } : Jvm.MethodName) ({ cls := "TelescopeQueueModel", name := "dump", desc := "()I" } : Jvm.MethodName)) ∈ lw_all := lw_g (lw_at lw_m13 220 rfl) rfl
theorem q3213 : (Jvm.Cond.code ({ cls := "TelescopeQueueModel", name := "dump", desc := "()I" } : Jvm.MethodName) prog_22_method_144_code (2 : Nat) (Option.some Jvm.ClassFile.FieldType.int)) ∈ lw_all := lw_g (lw_at lw_m13 221 rfl) rfl
theorem q3215 : (Jvm.Cond.instanceMethod ({ cls := "TelescopeQueueModel", name := "calibrate", desc := "()I" } : Jvm.MethodName)) ∈ lw_all := lw_g (lw_at lw_m13 223 rfl) rfl
theorem q3216 : (Jvm.Cond.selects "TelescopeQueueModel" ({ cls := "TelescopeQueueModel", name := "calibrate", desc := "()I" } : Jvm.MethodName) ({ cls := "TelescopeQueueModel", name := "calibrate", desc := "()I" } : Jvm.MethodName)) ∈ lw_all := lw_g (lw_at lw_m13 224 rfl) rfl
theorem q3217 : (Jvm.Cond.code ({ cls := "TelescopeQueueModel", name := "calibrate", desc := "()I" } : Jvm.MethodName) prog_22_method_145_code (1 : Nat) (Option.some Jvm.ClassFile.FieldType.int)) ∈ lw_all := lw_g (lw_at lw_m13 225 rfl) rfl
theorem q3219 : (Jvm.Cond.instanceMethod ({ cls := "TelescopeQueueModel", name := "addAlert", desc := "(IIIIII)I" } : Jvm.MethodName)) ∈ lw_all := lw_g (lw_at lw_m13 227 rfl) rfl
theorem q3220 : (Jvm.Cond.selects "TelescopeQueueModel" ({ cls := "TelescopeQueueModel", name := "addAlert", desc := "(IIIIII)I" } : Jvm.MethodName) ({ cls := "TelescopeQueueModel", name := "addAlert", desc := "(IIIIII)I" } : Jvm.MethodName)) ∈ lw_all := lw_g (lw_at lw_m13 228 rfl) rfl
theorem q3221 : (Jvm.Cond.code ({ cls := "TelescopeQueueModel", name := "addAlert", desc := "(IIIIII)I" } : Jvm.MethodName) prog_22_method_146_code (10 : Nat) (Option.some Jvm.ClassFile.FieldType.int)) ∈ lw_all := lw_g (lw_at lw_m13 229 rfl) rfl
theorem q3223 : (Jvm.Cond.instanceMethod ({ cls := "TelescopeQueueModel", name := "undo", desc := "()I" } : Jvm.MethodName)) ∈ lw_all := lw_g (lw_at lw_m13 231 rfl) rfl
theorem q3224 : (Jvm.Cond.selects "TelescopeQueueModel" ({ cls := "TelescopeQueueModel", name := "undo", desc := "()I" } : Jvm.MethodName) ({ cls := "TelescopeQueueModel", name := "undo", desc := "()I" } : Jvm.MethodName)) ∈ lw_all := lw_g (lw_at lw_m13 232 rfl) rfl
theorem q3225 : (Jvm.Cond.code ({ cls := "TelescopeQueueModel", name := "undo", desc := "()I" } : Jvm.MethodName) prog_22_method_147_code (1 : Nat) (Option.some Jvm.ClassFile.FieldType.int)) ∈ lw_all := lw_g (lw_at lw_m13 233 rfl) rfl
theorem q3227 : (Jvm.Cond.instanceMethod ({ cls := "TelescopeQueueModel", name := "undoable", desc := "()I" } : Jvm.MethodName)) ∈ lw_all := lw_g (lw_at lw_m13 235 rfl) rfl
theorem q3228 : (Jvm.Cond.selects "TelescopeQueueModel" ({ cls := "TelescopeQueueModel", name := "undoable", desc := "()I" } : Jvm.MethodName) ({ cls := "TelescopeQueueModel", name := "undoable", desc := "()I" } : Jvm.MethodName)) ∈ lw_all := lw_g (lw_at lw_m13 236 rfl) rfl
theorem q3229 : (Jvm.Cond.code ({ cls := "TelescopeQueueModel", name := "undoable", desc := "()I" } : Jvm.MethodName) prog_22_method_148_code (1 : Nat) (Option.some Jvm.ClassFile.FieldType.int)) ∈ lw_all := lw_g (lw_at lw_m13 237 rfl) rfl
theorem q3231 : (Jvm.Cond.instanceMethod ({ cls := "TelescopeQueueModel", name := "save", desc := "(I)I" } : Jvm.MethodName)) ∈ lw_all := lw_g (lw_at lw_m13 239 rfl) rfl
theorem q3232 : (Jvm.Cond.selects "TelescopeQueueModel" ({ cls := "TelescopeQueueModel", name := "save", desc := "(I)I" } : Jvm.MethodName) ({ cls := "TelescopeQueueModel", name := "save", desc := "(I)I" } : Jvm.MethodName)) ∈ lw_all := lw_g (lw_at lw_m14 0 rfl) rfl
theorem q3233 : (Jvm.Cond.code ({ cls := "TelescopeQueueModel", name := "save", desc := "(I)I" } : Jvm.MethodName) prog_22_method_149_code (2 : Nat) (Option.some Jvm.ClassFile.FieldType.int)) ∈ lw_all := lw_g (lw_at lw_m14 1 rfl) rfl
theorem q3235 : (Jvm.Cond.instanceMethod ({ cls := "TelescopeQueueModel", name := "restore", desc := "(I)I" } : Jvm.MethodName)) ∈ lw_all := lw_g (lw_at lw_m14 3 rfl) rfl
theorem q3236 : (Jvm.Cond.selects "TelescopeQueueModel" ({ cls := "TelescopeQueueModel", name := "restore", desc := "(I)I" } : Jvm.MethodName) ({ cls := "TelescopeQueueModel", name := "restore", desc := "(I)I" } : Jvm.MethodName)) ∈ lw_all := lw_g (lw_at lw_m14 4 rfl) rfl
theorem q3237 : (Jvm.Cond.code ({ cls := "TelescopeQueueModel", name := "restore", desc := "(I)I" } : Jvm.MethodName) prog_22_method_150_code (2 : Nat) (Option.some Jvm.ClassFile.FieldType.int)) ∈ lw_all := lw_g (lw_at lw_m14 5 rfl) rfl
theorem q3277 : (Jvm.Cond.castable "TelescopeQueueModel" "java/lang/Object") ∈ lw_tbl := lw_at lw_m14 45 rfl
theorem in_X10 : ∀ w ∈ wsX100, w ∈ lw_all := lw_in wsX100 [2580, 2582, 2584, 2586, 2588, 2590, 2592, 2594, 2596, 2598, 2600, 2602, 2604, 2606, 2608, 2610, 2612, 2614, 2616, 2618, 2620, 2622, 2624, 2626, 2628] (by decide +kernel) (by decide +kernel)

